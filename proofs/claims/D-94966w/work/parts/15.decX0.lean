set_option maxRecDepth 100000
def dkwX0_init_6 : List UInt8 := [183, 0, 92, 181, 0, 93, 177]
abbrev dktX0_init_6 : List UInt8 := dkwX0_init_6 ++ []
def dkwX0_init_5 : List UInt8 := [42, 183, 0, 78, 181, 0, 79, 42, 187, 0, 83, 89, 183, 0, 85, 181, 0, 86, 42, 187, 0, 90, 89]
abbrev dktX0_init_5 : List UInt8 := dkwX0_init_5 ++ dktX0_init_6
def dkwX0_init_4 : List UInt8 := [42, 183, 0, 64, 181, 0, 65, 42, 187, 0, 69, 89, 42, 183, 0, 71, 181, 0, 72, 42, 187, 0, 76, 89]
abbrev dktX0_init_4 : List UInt8 := dkwX0_init_4 ++ dktX0_init_5
def dkwX0_init_3 : List UInt8 := [42, 183, 0, 50, 181, 0, 51, 42, 187, 0, 55, 89, 42, 183, 0, 57, 181, 0, 58, 42, 187, 0, 62, 89]
abbrev dktX0_init_3 : List UInt8 := dkwX0_init_3 ++ dktX0_init_4
def dkwX0_init_2 : List UInt8 := [89, 183, 0, 34, 181, 0, 35, 42, 187, 0, 39, 89, 42, 183, 0, 41, 181, 0, 44, 42, 187, 0, 48, 89]
abbrev dktX0_init_2 : List UInt8 := dkwX0_init_2 ++ dktX0_init_3
def dkwX0_init_1 : List UInt8 := [187, 0, 17, 89, 183, 0, 19, 181, 0, 20, 42, 2, 181, 0, 24, 42, 10, 181, 0, 28, 42, 187, 0, 32]
abbrev dktX0_init_1 : List UInt8 := dkwX0_init_1 ++ dktX0_init_2
def dkwX0_init_0 : List UInt8 := [42, 183, 0, 1, 42, 17, 6, 64, 188, 5, 181, 0, 9, 42, 16, 6, 188, 10, 181, 0, 13, 42]
abbrev dktX0_init_0 : List UInt8 := dkwX0_init_0 ++ dktX0_init_1
theorem dksX0_init_0 : cX0_init.data.toList.drop 0 = dktX0_init_0 := by decide +kernel
theorem dksX0_init_1 : cX0_init.data.toList.drop 22 = dktX0_init_1 := dk_seg dksX0_init_0 22 rfl rfl
theorem dksX0_init_2 : cX0_init.data.toList.drop 46 = dktX0_init_2 := dk_seg dksX0_init_1 24 rfl rfl
theorem dksX0_init_3 : cX0_init.data.toList.drop 70 = dktX0_init_3 := dk_seg dksX0_init_2 24 rfl rfl
theorem dksX0_init_4 : cX0_init.data.toList.drop 94 = dktX0_init_4 := dk_seg dksX0_init_3 24 rfl rfl
theorem dksX0_init_5 : cX0_init.data.toList.drop 118 = dktX0_init_5 := dk_seg dksX0_init_4 24 rfl rfl
theorem dksX0_init_6 : cX0_init.data.toList.drop 141 = dktX0_init_6 := dk_seg dksX0_init_5 23 rfl rfl
theorem dX0_init_0 : decode cX0_init 0 = .ok (.aload_n 0, 1) := dk_42 (dk_at dksX0_init_0 0 rfl rfl)
theorem dX0_init_1 : decode cX0_init 1 = .ok (.invokespecial 1, 3) := dk_183 0 1 (dk_at dksX0_init_0 1 rfl rfl)
theorem dX0_init_4 : decode cX0_init 4 = .ok (.aload_n 0, 1) := dk_42 (dk_at dksX0_init_0 4 rfl rfl)
theorem dX0_init_5 : decode cX0_init 5 = .ok (.sipush 1600, 3) := dk_17 6 64 (dk_at dksX0_init_0 5 rfl rfl)
theorem dX0_init_8 : decode cX0_init 8 = .ok (.newarray .char, 2) := dk_188_5 (dk_at dksX0_init_0 8 rfl rfl)
theorem dX0_init_10 : decode cX0_init 10 = .ok (.putfield 9, 3) := dk_181 0 9 (dk_at dksX0_init_0 10 rfl rfl)
theorem dX0_init_13 : decode cX0_init 13 = .ok (.aload_n 0, 1) := dk_42 (dk_at dksX0_init_0 13 rfl rfl)
theorem dX0_init_14 : decode cX0_init 14 = .ok (.bipush 6, 2) := dk_16 6 (dk_at dksX0_init_0 14 rfl rfl)
theorem dX0_init_16 : decode cX0_init 16 = .ok (.newarray .int, 2) := dk_188_10 (dk_at dksX0_init_0 16 rfl rfl)
theorem dX0_init_18 : decode cX0_init 18 = .ok (.putfield 13, 3) := dk_181 0 13 (dk_at dksX0_init_0 18 rfl rfl)
theorem dX0_init_21 : decode cX0_init 21 = .ok (.aload_n 0, 1) := dk_42 (dk_at dksX0_init_0 21 rfl rfl)
theorem dX0_init_22 : decode cX0_init 22 = .ok (.new 17, 3) := dk_187 0 17 (dk_at dksX0_init_1 0 rfl rfl)
theorem dX0_init_25 : decode cX0_init 25 = .ok (.dup, 1) := dk_89 (dk_at dksX0_init_1 3 rfl rfl)
theorem dX0_init_26 : decode cX0_init 26 = .ok (.invokespecial 19, 3) := dk_183 0 19 (dk_at dksX0_init_1 4 rfl rfl)
theorem dX0_init_29 : decode cX0_init 29 = .ok (.putfield 20, 3) := dk_181 0 20 (dk_at dksX0_init_1 7 rfl rfl)
theorem dX0_init_32 : decode cX0_init 32 = .ok (.aload_n 0, 1) := dk_42 (dk_at dksX0_init_1 10 rfl rfl)
theorem dX0_init_33 : decode cX0_init 33 = .ok (.iconst (-1), 1) := dk_2 (dk_at dksX0_init_1 11 rfl rfl)
theorem dX0_init_34 : decode cX0_init 34 = .ok (.putfield 24, 3) := dk_181 0 24 (dk_at dksX0_init_1 12 rfl rfl)
theorem dX0_init_37 : decode cX0_init 37 = .ok (.aload_n 0, 1) := dk_42 (dk_at dksX0_init_1 15 rfl rfl)
theorem dX0_init_38 : decode cX0_init 38 = .ok (.lconst 1, 1) := dk_10 (dk_at dksX0_init_1 16 rfl rfl)
theorem dX0_init_39 : decode cX0_init 39 = .ok (.putfield 28, 3) := dk_181 0 28 (dk_at dksX0_init_1 17 rfl rfl)
theorem dX0_init_42 : decode cX0_init 42 = .ok (.aload_n 0, 1) := dk_42 (dk_at dksX0_init_1 20 rfl rfl)
theorem dX0_init_43 : decode cX0_init 43 = .ok (.new 32, 3) := dk_187 0 32 (dk_at dksX0_init_1 21 rfl rfl)
theorem dX0_init_46 : decode cX0_init 46 = .ok (.dup, 1) := dk_89 (dk_at dksX0_init_2 0 rfl rfl)
theorem dX0_init_47 : decode cX0_init 47 = .ok (.invokespecial 34, 3) := dk_183 0 34 (dk_at dksX0_init_2 1 rfl rfl)
theorem dX0_init_50 : decode cX0_init 50 = .ok (.putfield 35, 3) := dk_181 0 35 (dk_at dksX0_init_2 4 rfl rfl)
theorem dX0_init_53 : decode cX0_init 53 = .ok (.aload_n 0, 1) := dk_42 (dk_at dksX0_init_2 7 rfl rfl)
theorem dX0_init_54 : decode cX0_init 54 = .ok (.new 39, 3) := dk_187 0 39 (dk_at dksX0_init_2 8 rfl rfl)
theorem dX0_init_57 : decode cX0_init 57 = .ok (.dup, 1) := dk_89 (dk_at dksX0_init_2 11 rfl rfl)
theorem dX0_init_58 : decode cX0_init 58 = .ok (.aload_n 0, 1) := dk_42 (dk_at dksX0_init_2 12 rfl rfl)
theorem dX0_init_59 : decode cX0_init 59 = .ok (.invokespecial 41, 3) := dk_183 0 41 (dk_at dksX0_init_2 13 rfl rfl)
theorem dX0_init_62 : decode cX0_init 62 = .ok (.putfield 44, 3) := dk_181 0 44 (dk_at dksX0_init_2 16 rfl rfl)
theorem dX0_init_65 : decode cX0_init 65 = .ok (.aload_n 0, 1) := dk_42 (dk_at dksX0_init_2 19 rfl rfl)
theorem dX0_init_66 : decode cX0_init 66 = .ok (.new 48, 3) := dk_187 0 48 (dk_at dksX0_init_2 20 rfl rfl)
theorem dX0_init_69 : decode cX0_init 69 = .ok (.dup, 1) := dk_89 (dk_at dksX0_init_2 23 rfl rfl)
theorem dX0_init_70 : decode cX0_init 70 = .ok (.aload_n 0, 1) := dk_42 (dk_at dksX0_init_3 0 rfl rfl)
theorem dX0_init_71 : decode cX0_init 71 = .ok (.invokespecial 50, 3) := dk_183 0 50 (dk_at dksX0_init_3 1 rfl rfl)
theorem dX0_init_74 : decode cX0_init 74 = .ok (.putfield 51, 3) := dk_181 0 51 (dk_at dksX0_init_3 4 rfl rfl)
theorem dX0_init_77 : decode cX0_init 77 = .ok (.aload_n 0, 1) := dk_42 (dk_at dksX0_init_3 7 rfl rfl)
theorem dX0_init_78 : decode cX0_init 78 = .ok (.new 55, 3) := dk_187 0 55 (dk_at dksX0_init_3 8 rfl rfl)
theorem dX0_init_81 : decode cX0_init 81 = .ok (.dup, 1) := dk_89 (dk_at dksX0_init_3 11 rfl rfl)
theorem dX0_init_82 : decode cX0_init 82 = .ok (.aload_n 0, 1) := dk_42 (dk_at dksX0_init_3 12 rfl rfl)
theorem dX0_init_83 : decode cX0_init 83 = .ok (.invokespecial 57, 3) := dk_183 0 57 (dk_at dksX0_init_3 13 rfl rfl)
theorem dX0_init_86 : decode cX0_init 86 = .ok (.putfield 58, 3) := dk_181 0 58 (dk_at dksX0_init_3 16 rfl rfl)
theorem dX0_init_89 : decode cX0_init 89 = .ok (.aload_n 0, 1) := dk_42 (dk_at dksX0_init_3 19 rfl rfl)
theorem dX0_init_90 : decode cX0_init 90 = .ok (.new 62, 3) := dk_187 0 62 (dk_at dksX0_init_3 20 rfl rfl)
theorem dX0_init_93 : decode cX0_init 93 = .ok (.dup, 1) := dk_89 (dk_at dksX0_init_3 23 rfl rfl)
theorem dX0_init_94 : decode cX0_init 94 = .ok (.aload_n 0, 1) := dk_42 (dk_at dksX0_init_4 0 rfl rfl)
theorem dX0_init_95 : decode cX0_init 95 = .ok (.invokespecial 64, 3) := dk_183 0 64 (dk_at dksX0_init_4 1 rfl rfl)
theorem dX0_init_98 : decode cX0_init 98 = .ok (.putfield 65, 3) := dk_181 0 65 (dk_at dksX0_init_4 4 rfl rfl)
theorem dX0_init_101 : decode cX0_init 101 = .ok (.aload_n 0, 1) := dk_42 (dk_at dksX0_init_4 7 rfl rfl)
theorem dX0_init_102 : decode cX0_init 102 = .ok (.new 69, 3) := dk_187 0 69 (dk_at dksX0_init_4 8 rfl rfl)
theorem dX0_init_105 : decode cX0_init 105 = .ok (.dup, 1) := dk_89 (dk_at dksX0_init_4 11 rfl rfl)
theorem dX0_init_106 : decode cX0_init 106 = .ok (.aload_n 0, 1) := dk_42 (dk_at dksX0_init_4 12 rfl rfl)
theorem dX0_init_107 : decode cX0_init 107 = .ok (.invokespecial 71, 3) := dk_183 0 71 (dk_at dksX0_init_4 13 rfl rfl)
theorem dX0_init_110 : decode cX0_init 110 = .ok (.putfield 72, 3) := dk_181 0 72 (dk_at dksX0_init_4 16 rfl rfl)
theorem dX0_init_113 : decode cX0_init 113 = .ok (.aload_n 0, 1) := dk_42 (dk_at dksX0_init_4 19 rfl rfl)
theorem dX0_init_114 : decode cX0_init 114 = .ok (.new 76, 3) := dk_187 0 76 (dk_at dksX0_init_4 20 rfl rfl)
theorem dX0_init_117 : decode cX0_init 117 = .ok (.dup, 1) := dk_89 (dk_at dksX0_init_4 23 rfl rfl)
theorem dX0_init_118 : decode cX0_init 118 = .ok (.aload_n 0, 1) := dk_42 (dk_at dksX0_init_5 0 rfl rfl)
theorem dX0_init_119 : decode cX0_init 119 = .ok (.invokespecial 78, 3) := dk_183 0 78 (dk_at dksX0_init_5 1 rfl rfl)
theorem dX0_init_122 : decode cX0_init 122 = .ok (.putfield 79, 3) := dk_181 0 79 (dk_at dksX0_init_5 4 rfl rfl)
theorem dX0_init_125 : decode cX0_init 125 = .ok (.aload_n 0, 1) := dk_42 (dk_at dksX0_init_5 7 rfl rfl)
theorem dX0_init_126 : decode cX0_init 126 = .ok (.new 83, 3) := dk_187 0 83 (dk_at dksX0_init_5 8 rfl rfl)
theorem dX0_init_129 : decode cX0_init 129 = .ok (.dup, 1) := dk_89 (dk_at dksX0_init_5 11 rfl rfl)
theorem dX0_init_130 : decode cX0_init 130 = .ok (.invokespecial 85, 3) := dk_183 0 85 (dk_at dksX0_init_5 12 rfl rfl)
theorem dX0_init_133 : decode cX0_init 133 = .ok (.putfield 86, 3) := dk_181 0 86 (dk_at dksX0_init_5 15 rfl rfl)
theorem dX0_init_136 : decode cX0_init 136 = .ok (.aload_n 0, 1) := dk_42 (dk_at dksX0_init_5 18 rfl rfl)
theorem dX0_init_137 : decode cX0_init 137 = .ok (.new 90, 3) := dk_187 0 90 (dk_at dksX0_init_5 19 rfl rfl)
theorem dX0_init_140 : decode cX0_init 140 = .ok (.dup, 1) := dk_89 (dk_at dksX0_init_5 22 rfl rfl)
theorem dX0_init_141 : decode cX0_init 141 = .ok (.invokespecial 92, 3) := dk_183 0 92 (dk_at dksX0_init_6 0 rfl rfl)
theorem dX0_init_144 : decode cX0_init 144 = .ok (.putfield 93, 3) := dk_181 0 93 (dk_at dksX0_init_6 3 rfl rfl)
theorem dX0_init_147 : decode cX0_init 147 = .ok (.return_, 1) := dk_177 (dk_at dksX0_init_6 6 rfl rfl)
def dkwX0_feed_2 : List UInt8 := [180, 0, 111, 172]
abbrev dktX0_feed_2 : List UInt8 := dkwX0_feed_2 ++ []
def dkwX0_feed_1 : List UInt8 := [42, 28, 182, 0, 114, 42, 29, 182, 0, 114, 42, 21, 4, 182, 0, 114, 42, 21, 5, 182, 0, 114, 42]
abbrev dktX0_feed_1 : List UInt8 := dkwX0_feed_1 ++ dktX0_feed_2
def dkwX0_feed_0 : List UInt8 := [42, 180, 0, 111, 16, 20, 96, 17, 6, 64, 164, 0, 9, 42, 3, 182, 0, 107, 172, 42, 27, 182, 0, 114]
abbrev dktX0_feed_0 : List UInt8 := dkwX0_feed_0 ++ dktX0_feed_1
theorem dksX0_feed_0 : cX0_feed.data.toList.drop 0 = dktX0_feed_0 := by decide +kernel
theorem dksX0_feed_1 : cX0_feed.data.toList.drop 24 = dktX0_feed_1 := dk_seg dksX0_feed_0 24 rfl rfl
theorem dksX0_feed_2 : cX0_feed.data.toList.drop 47 = dktX0_feed_2 := dk_seg dksX0_feed_1 23 rfl rfl
theorem dX0_feed_0 : decode cX0_feed 0 = .ok (.aload_n 0, 1) := dk_42 (dk_at dksX0_feed_0 0 rfl rfl)
theorem dX0_feed_1 : decode cX0_feed 1 = .ok (.getfield 111, 3) := dk_180 0 111 (dk_at dksX0_feed_0 1 rfl rfl)
theorem dX0_feed_4 : decode cX0_feed 4 = .ok (.bipush 20, 2) := dk_16 20 (dk_at dksX0_feed_0 4 rfl rfl)
theorem dX0_feed_6 : decode cX0_feed 6 = .ok (.iadd, 1) := dk_96 (dk_at dksX0_feed_0 6 rfl rfl)
theorem dX0_feed_7 : decode cX0_feed 7 = .ok (.sipush 1600, 3) := dk_17 6 64 (dk_at dksX0_feed_0 7 rfl rfl)
theorem dX0_feed_10 : decode cX0_feed 10 = .ok (.if_icmp .le 9, 3) := dk_164 0 9 (dk_at dksX0_feed_0 10 rfl rfl)
theorem dX0_feed_13 : decode cX0_feed 13 = .ok (.aload_n 0, 1) := dk_42 (dk_at dksX0_feed_0 13 rfl rfl)
theorem dX0_feed_14 : decode cX0_feed 14 = .ok (.iconst 0, 1) := dk_3 (dk_at dksX0_feed_0 14 rfl rfl)
theorem dX0_feed_15 : decode cX0_feed 15 = .ok (.invokevirtual 107, 3) := dk_182 0 107 (dk_at dksX0_feed_0 15 rfl rfl)
theorem dX0_feed_18 : decode cX0_feed 18 = .ok (.ireturn, 1) := dk_172 (dk_at dksX0_feed_0 18 rfl rfl)
theorem dX0_feed_19 : decode cX0_feed 19 = .ok (.aload_n 0, 1) := dk_42 (dk_at dksX0_feed_0 19 rfl rfl)
theorem dX0_feed_20 : decode cX0_feed 20 = .ok (.iload_n 1, 1) := dk_27 (dk_at dksX0_feed_0 20 rfl rfl)
theorem dX0_feed_21 : decode cX0_feed 21 = .ok (.invokevirtual 114, 3) := dk_182 0 114 (dk_at dksX0_feed_0 21 rfl rfl)
theorem dX0_feed_24 : decode cX0_feed 24 = .ok (.aload_n 0, 1) := dk_42 (dk_at dksX0_feed_1 0 rfl rfl)
theorem dX0_feed_25 : decode cX0_feed 25 = .ok (.iload_n 2, 1) := dk_28 (dk_at dksX0_feed_1 1 rfl rfl)
theorem dX0_feed_26 : decode cX0_feed 26 = .ok (.invokevirtual 114, 3) := dk_182 0 114 (dk_at dksX0_feed_1 2 rfl rfl)
theorem dX0_feed_29 : decode cX0_feed 29 = .ok (.aload_n 0, 1) := dk_42 (dk_at dksX0_feed_1 5 rfl rfl)
theorem dX0_feed_30 : decode cX0_feed 30 = .ok (.iload_n 3, 1) := dk_29 (dk_at dksX0_feed_1 6 rfl rfl)
theorem dX0_feed_31 : decode cX0_feed 31 = .ok (.invokevirtual 114, 3) := dk_182 0 114 (dk_at dksX0_feed_1 7 rfl rfl)
theorem dX0_feed_34 : decode cX0_feed 34 = .ok (.aload_n 0, 1) := dk_42 (dk_at dksX0_feed_1 10 rfl rfl)
theorem dX0_feed_35 : decode cX0_feed 35 = .ok (.iload 4, 2) := dk_21 4 (dk_at dksX0_feed_1 11 rfl rfl)
theorem dX0_feed_37 : decode cX0_feed 37 = .ok (.invokevirtual 114, 3) := dk_182 0 114 (dk_at dksX0_feed_1 13 rfl rfl)
theorem dX0_feed_40 : decode cX0_feed 40 = .ok (.aload_n 0, 1) := dk_42 (dk_at dksX0_feed_1 16 rfl rfl)
theorem dX0_feed_41 : decode cX0_feed 41 = .ok (.iload 5, 2) := dk_21 5 (dk_at dksX0_feed_1 17 rfl rfl)
theorem dX0_feed_43 : decode cX0_feed 43 = .ok (.invokevirtual 114, 3) := dk_182 0 114 (dk_at dksX0_feed_1 19 rfl rfl)
theorem dX0_feed_46 : decode cX0_feed 46 = .ok (.aload_n 0, 1) := dk_42 (dk_at dksX0_feed_1 22 rfl rfl)
theorem dX0_feed_47 : decode cX0_feed 47 = .ok (.getfield 111, 3) := dk_180 0 111 (dk_at dksX0_feed_2 0 rfl rfl)
theorem dX0_feed_50 : decode cX0_feed 50 = .ok (.ireturn, 1) := dk_172 (dk_at dksX0_feed_2 3 rfl rfl)
def dkwX0_refused_0 : List UInt8 := [42, 180, 0, 13, 27, 92, 46, 4, 96, 79, 2, 172]
abbrev dktX0_refused_0 : List UInt8 := dkwX0_refused_0 ++ []
theorem dksX0_refused_0 : cX0_refused.data.toList.drop 0 = dktX0_refused_0 := by decide +kernel
theorem dX0_refused_0 : decode cX0_refused 0 = .ok (.aload_n 0, 1) := dk_42 (dk_at dksX0_refused_0 0 rfl rfl)
theorem dX0_refused_1 : decode cX0_refused 1 = .ok (.getfield 13, 3) := dk_180 0 13 (dk_at dksX0_refused_0 1 rfl rfl)
theorem dX0_refused_4 : decode cX0_refused 4 = .ok (.iload_n 1, 1) := dk_27 (dk_at dksX0_refused_0 4 rfl rfl)
theorem dX0_refused_5 : decode cX0_refused 5 = .ok (.dup2, 1) := dk_92 (dk_at dksX0_refused_0 5 rfl rfl)
theorem dX0_refused_6 : decode cX0_refused 6 = .ok (.iaload, 1) := dk_46 (dk_at dksX0_refused_0 6 rfl rfl)
theorem dX0_refused_7 : decode cX0_refused 7 = .ok (.iconst 1, 1) := dk_4 (dk_at dksX0_refused_0 7 rfl rfl)
theorem dX0_refused_8 : decode cX0_refused 8 = .ok (.iadd, 1) := dk_96 (dk_at dksX0_refused_0 8 rfl rfl)
theorem dX0_refused_9 : decode cX0_refused 9 = .ok (.iastore, 1) := dk_79 (dk_at dksX0_refused_0 9 rfl rfl)
theorem dX0_refused_10 : decode cX0_refused 10 = .ok (.iconst (-1), 1) := dk_2 (dk_at dksX0_refused_0 10 rfl rfl)
theorem dX0_refused_11 : decode cX0_refused 11 = .ok (.ireturn, 1) := dk_172 (dk_at dksX0_refused_0 11 rfl rfl)
def dkwX0_lays_1 : List UInt8 := [42, 89, 180, 0, 111, 4, 96, 181, 0, 111, 132, 2, 248, 167, 255, 222, 177]
abbrev dktX0_lays_1 : List UInt8 := dkwX0_lays_1 ++ []
def dkwX0_lays_0 : List UInt8 := [16, 24, 61, 28, 155, 0, 36, 42, 180, 0, 9, 42, 180, 0, 111, 27, 28, 122, 17, 0, 255, 126, 146, 85]
abbrev dktX0_lays_0 : List UInt8 := dkwX0_lays_0 ++ dktX0_lays_1
theorem dksX0_lays_0 : cX0_lays.data.toList.drop 0 = dktX0_lays_0 := by decide +kernel
theorem dksX0_lays_1 : cX0_lays.data.toList.drop 24 = dktX0_lays_1 := dk_seg dksX0_lays_0 24 rfl rfl
theorem dX0_lays_0 : decode cX0_lays 0 = .ok (.bipush 24, 2) := dk_16 24 (dk_at dksX0_lays_0 0 rfl rfl)
theorem dX0_lays_2 : decode cX0_lays 2 = .ok (.istore_n 2, 1) := dk_61 (dk_at dksX0_lays_0 2 rfl rfl)
theorem dX0_lays_3 : decode cX0_lays 3 = .ok (.iload_n 2, 1) := dk_28 (dk_at dksX0_lays_0 3 rfl rfl)
theorem dX0_lays_4 : decode cX0_lays 4 = .ok (.ifCond .lt 36, 3) := dk_155 0 36 (dk_at dksX0_lays_0 4 rfl rfl)
theorem dX0_lays_7 : decode cX0_lays 7 = .ok (.aload_n 0, 1) := dk_42 (dk_at dksX0_lays_0 7 rfl rfl)
theorem dX0_lays_8 : decode cX0_lays 8 = .ok (.getfield 9, 3) := dk_180 0 9 (dk_at dksX0_lays_0 8 rfl rfl)
theorem dX0_lays_11 : decode cX0_lays 11 = .ok (.aload_n 0, 1) := dk_42 (dk_at dksX0_lays_0 11 rfl rfl)
theorem dX0_lays_12 : decode cX0_lays 12 = .ok (.getfield 111, 3) := dk_180 0 111 (dk_at dksX0_lays_0 12 rfl rfl)
theorem dX0_lays_15 : decode cX0_lays 15 = .ok (.iload_n 1, 1) := dk_27 (dk_at dksX0_lays_0 15 rfl rfl)
theorem dX0_lays_16 : decode cX0_lays 16 = .ok (.iload_n 2, 1) := dk_28 (dk_at dksX0_lays_0 16 rfl rfl)
theorem dX0_lays_17 : decode cX0_lays 17 = .ok (.ishr, 1) := dk_122 (dk_at dksX0_lays_0 17 rfl rfl)
theorem dX0_lays_18 : decode cX0_lays 18 = .ok (.sipush 255, 3) := dk_17 0 255 (dk_at dksX0_lays_0 18 rfl rfl)
theorem dX0_lays_21 : decode cX0_lays 21 = .ok (.iand, 1) := dk_126 (dk_at dksX0_lays_0 21 rfl rfl)
theorem dX0_lays_22 : decode cX0_lays 22 = .ok (.i2c, 1) := dk_146 (dk_at dksX0_lays_0 22 rfl rfl)
theorem dX0_lays_23 : decode cX0_lays 23 = .ok (.castore, 1) := dk_85 (dk_at dksX0_lays_0 23 rfl rfl)
theorem dX0_lays_24 : decode cX0_lays 24 = .ok (.aload_n 0, 1) := dk_42 (dk_at dksX0_lays_1 0 rfl rfl)
theorem dX0_lays_25 : decode cX0_lays 25 = .ok (.dup, 1) := dk_89 (dk_at dksX0_lays_1 1 rfl rfl)
theorem dX0_lays_26 : decode cX0_lays 26 = .ok (.getfield 111, 3) := dk_180 0 111 (dk_at dksX0_lays_1 2 rfl rfl)
theorem dX0_lays_29 : decode cX0_lays 29 = .ok (.iconst 1, 1) := dk_4 (dk_at dksX0_lays_1 5 rfl rfl)
theorem dX0_lays_30 : decode cX0_lays 30 = .ok (.iadd, 1) := dk_96 (dk_at dksX0_lays_1 6 rfl rfl)
theorem dX0_lays_31 : decode cX0_lays 31 = .ok (.putfield 111, 3) := dk_181 0 111 (dk_at dksX0_lays_1 7 rfl rfl)
theorem dX0_lays_34 : decode cX0_lays 34 = .ok (.iinc 2 (-8), 3) := dk_132 2 248 (dk_at dksX0_lays_1 10 rfl rfl)
theorem dX0_lays_37 : decode cX0_lays 37 = .ok (.goto (-34), 3) := dk_167 255 222 (dk_at dksX0_lays_1 13 rfl rfl)
theorem dX0_lays_40 : decode cX0_lays 40 = .ok (.return_, 1) := dk_177 (dk_at dksX0_lays_1 16 rfl rfl)
def dkwX0_end_1 : List UInt8 := [172]
abbrev dktX0_end_1 : List UInt8 := dkwX0_end_1 ++ []
def dkwX0_end_0 : List UInt8 := [27, 155, 0, 11, 27, 42, 180, 0, 111, 164, 0, 9, 42, 3, 182, 0, 118, 172, 42, 27, 181, 0, 111, 4]
abbrev dktX0_end_0 : List UInt8 := dkwX0_end_0 ++ dktX0_end_1
theorem dksX0_end_0 : cX0_end.data.toList.drop 0 = dktX0_end_0 := by decide +kernel
theorem dksX0_end_1 : cX0_end.data.toList.drop 24 = dktX0_end_1 := dk_seg dksX0_end_0 24 rfl rfl
theorem dX0_end_0 : decode cX0_end 0 = .ok (.iload_n 1, 1) := dk_27 (dk_at dksX0_end_0 0 rfl rfl)
theorem dX0_end_1 : decode cX0_end 1 = .ok (.ifCond .lt 11, 3) := dk_155 0 11 (dk_at dksX0_end_0 1 rfl rfl)
theorem dX0_end_4 : decode cX0_end 4 = .ok (.iload_n 1, 1) := dk_27 (dk_at dksX0_end_0 4 rfl rfl)
theorem dX0_end_5 : decode cX0_end 5 = .ok (.aload_n 0, 1) := dk_42 (dk_at dksX0_end_0 5 rfl rfl)
theorem dX0_end_6 : decode cX0_end 6 = .ok (.getfield 111, 3) := dk_180 0 111 (dk_at dksX0_end_0 6 rfl rfl)
theorem dX0_end_9 : decode cX0_end 9 = .ok (.if_icmp .le 9, 3) := dk_164 0 9 (dk_at dksX0_end_0 9 rfl rfl)
theorem dX0_end_12 : decode cX0_end 12 = .ok (.aload_n 0, 1) := dk_42 (dk_at dksX0_end_0 12 rfl rfl)
theorem dX0_end_13 : decode cX0_end 13 = .ok (.iconst 0, 1) := dk_3 (dk_at dksX0_end_0 13 rfl rfl)
theorem dX0_end_14 : decode cX0_end 14 = .ok (.invokevirtual 118, 3) := dk_182 0 118 (dk_at dksX0_end_0 14 rfl rfl)
theorem dX0_end_17 : decode cX0_end 17 = .ok (.ireturn, 1) := dk_172 (dk_at dksX0_end_0 17 rfl rfl)
theorem dX0_end_18 : decode cX0_end 18 = .ok (.aload_n 0, 1) := dk_42 (dk_at dksX0_end_0 18 rfl rfl)
theorem dX0_end_19 : decode cX0_end 19 = .ok (.iload_n 1, 1) := dk_27 (dk_at dksX0_end_0 19 rfl rfl)
theorem dX0_end_20 : decode cX0_end 20 = .ok (.putfield 111, 3) := dk_181 0 111 (dk_at dksX0_end_0 20 rfl rfl)
theorem dX0_end_23 : decode cX0_end 23 = .ok (.iconst 1, 1) := dk_4 (dk_at dksX0_end_0 23 rfl rfl)
theorem dX0_end_24 : decode cX0_end 24 = .ok (.ireturn, 1) := dk_172 (dk_at dksX0_end_1 0 rfl rfl)
def dkwX0_refuses_0 : List UInt8 := [42, 27, 182, 0, 107, 2, 159, 0, 7, 4, 167, 0, 4, 3, 172]
abbrev dktX0_refuses_0 : List UInt8 := dkwX0_refuses_0 ++ []
theorem dksX0_refuses_0 : cX0_refuses.data.toList.drop 0 = dktX0_refuses_0 := by decide +kernel
theorem dX0_refuses_0 : decode cX0_refuses 0 = .ok (.aload_n 0, 1) := dk_42 (dk_at dksX0_refuses_0 0 rfl rfl)
theorem dX0_refuses_1 : decode cX0_refuses 1 = .ok (.iload_n 1, 1) := dk_27 (dk_at dksX0_refuses_0 1 rfl rfl)
theorem dX0_refuses_2 : decode cX0_refuses 2 = .ok (.invokevirtual 107, 3) := dk_182 0 107 (dk_at dksX0_refuses_0 2 rfl rfl)
theorem dX0_refuses_5 : decode cX0_refuses 5 = .ok (.iconst (-1), 1) := dk_2 (dk_at dksX0_refuses_0 5 rfl rfl)
theorem dX0_refuses_6 : decode cX0_refuses 6 = .ok (.if_icmp .eq 7, 3) := dk_159 0 7 (dk_at dksX0_refuses_0 6 rfl rfl)
theorem dX0_refuses_9 : decode cX0_refuses 9 = .ok (.iconst 1, 1) := dk_4 (dk_at dksX0_refuses_0 9 rfl rfl)
theorem dX0_refuses_10 : decode cX0_refuses 10 = .ok (.goto 4, 3) := dk_167 0 4 (dk_at dksX0_refuses_0 10 rfl rfl)
theorem dX0_refuses_13 : decode cX0_refuses 13 = .ok (.iconst 0, 1) := dk_3 (dk_at dksX0_refuses_0 13 rfl rfl)
theorem dX0_refuses_14 : decode cX0_refuses 14 = .ok (.ireturn, 1) := dk_172 (dk_at dksX0_refuses_0 14 rfl rfl)
def dkwX0_status_0 : List UInt8 := [27, 133, 9, 20, 0, 122, 184, 0, 124, 153, 0, 12, 42, 180, 0, 13, 27, 46, 167, 0, 4, 2, 172]
abbrev dktX0_status_0 : List UInt8 := dkwX0_status_0 ++ []
theorem dksX0_status_0 : cX0_status.data.toList.drop 0 = dktX0_status_0 := by decide +kernel
theorem dX0_status_0 : decode cX0_status 0 = .ok (.iload_n 1, 1) := dk_27 (dk_at dksX0_status_0 0 rfl rfl)
theorem dX0_status_1 : decode cX0_status 1 = .ok (.i2l, 1) := dk_133 (dk_at dksX0_status_0 1 rfl rfl)
theorem dX0_status_2 : decode cX0_status 2 = .ok (.lconst 0, 1) := dk_9 (dk_at dksX0_status_0 2 rfl rfl)
theorem dX0_status_3 : decode cX0_status 3 = .ok (.ldc2_w 122, 3) := dk_20 0 122 (dk_at dksX0_status_0 3 rfl rfl)
theorem dX0_status_6 : decode cX0_status 6 = .ok (.invokestatic 124, 3) := dk_184 0 124 (dk_at dksX0_status_0 6 rfl rfl)
theorem dX0_status_9 : decode cX0_status 9 = .ok (.ifCond .eq 12, 3) := dk_153 0 12 (dk_at dksX0_status_0 9 rfl rfl)
theorem dX0_status_12 : decode cX0_status 12 = .ok (.aload_n 0, 1) := dk_42 (dk_at dksX0_status_0 12 rfl rfl)
theorem dX0_status_13 : decode cX0_status 13 = .ok (.getfield 13, 3) := dk_180 0 13 (dk_at dksX0_status_0 13 rfl rfl)
theorem dX0_status_16 : decode cX0_status 16 = .ok (.iload_n 1, 1) := dk_27 (dk_at dksX0_status_0 16 rfl rfl)
theorem dX0_status_17 : decode cX0_status 17 = .ok (.iaload, 1) := dk_46 (dk_at dksX0_status_0 17 rfl rfl)
theorem dX0_status_18 : decode cX0_status 18 = .ok (.goto 4, 3) := dk_167 0 4 (dk_at dksX0_status_0 18 rfl rfl)
theorem dX0_status_21 : decode cX0_status 21 = .ok (.iconst (-1), 1) := dk_2 (dk_at dksX0_status_0 21 rfl rfl)
theorem dX0_status_22 : decode cX0_status 22 = .ok (.ireturn, 1) := dk_172 (dk_at dksX0_status_0 22 rfl rfl)
def dkwX0_isIn_0 : List UInt8 := [30, 32, 148, 155, 0, 14, 30, 22, 4, 148, 157, 0, 7, 4, 167, 0, 4, 3, 172]
abbrev dktX0_isIn_0 : List UInt8 := dkwX0_isIn_0 ++ []
theorem dksX0_isIn_0 : cX0_isIn.data.toList.drop 0 = dktX0_isIn_0 := by decide +kernel
theorem dX0_isIn_0 : decode cX0_isIn 0 = .ok (.lload_n 0, 1) := dk_30 (dk_at dksX0_isIn_0 0 rfl rfl)
theorem dX0_isIn_1 : decode cX0_isIn 1 = .ok (.lload_n 2, 1) := dk_32 (dk_at dksX0_isIn_0 1 rfl rfl)
theorem dX0_isIn_2 : decode cX0_isIn 2 = .ok (.lcmp, 1) := dk_148 (dk_at dksX0_isIn_0 2 rfl rfl)
theorem dX0_isIn_3 : decode cX0_isIn 3 = .ok (.ifCond .lt 14, 3) := dk_155 0 14 (dk_at dksX0_isIn_0 3 rfl rfl)
theorem dX0_isIn_6 : decode cX0_isIn 6 = .ok (.lload_n 0, 1) := dk_30 (dk_at dksX0_isIn_0 6 rfl rfl)
theorem dX0_isIn_7 : decode cX0_isIn 7 = .ok (.lload 4, 2) := dk_22 4 (dk_at dksX0_isIn_0 7 rfl rfl)
theorem dX0_isIn_9 : decode cX0_isIn 9 = .ok (.lcmp, 1) := dk_148 (dk_at dksX0_isIn_0 9 rfl rfl)
theorem dX0_isIn_10 : decode cX0_isIn 10 = .ok (.ifCond .gt 7, 3) := dk_157 0 7 (dk_at dksX0_isIn_0 10 rfl rfl)
theorem dX0_isIn_13 : decode cX0_isIn 13 = .ok (.iconst 1, 1) := dk_4 (dk_at dksX0_isIn_0 13 rfl rfl)
theorem dX0_isIn_14 : decode cX0_isIn 14 = .ok (.goto 4, 3) := dk_167 0 4 (dk_at dksX0_isIn_0 14 rfl rfl)
theorem dX0_isIn_17 : decode cX0_isIn 17 = .ok (.iconst 0, 1) := dk_3 (dk_at dksX0_isIn_0 17 rfl rfl)
theorem dX0_isIn_18 : decode cX0_isIn 18 = .ok (.ireturn, 1) := dk_172 (dk_at dksX0_isIn_0 18 rfl rfl)
def dkwX0_town_2 : List UInt8 := [42, 180, 0, 35, 182, 0, 175, 42, 180, 0, 20, 180, 0, 178, 172]
abbrev dktX0_town_2 : List UInt8 := dkwX0_town_2 ++ []
def dkwX0_town_1 : List UInt8 := [183, 0, 162, 182, 0, 165, 181, 0, 20, 167, 0, 11, 77, 42, 44, 4, 182, 0, 168, 172, 42, 182, 0, 172]
abbrev dktX0_town_1 : List UInt8 := dkwX0_town_1 ++ dktX0_town_2
def dkwX0_town_0 : List UInt8 := [42, 180, 0, 111, 60, 42, 3, 181, 0, 111, 42, 187, 0, 160, 89, 42, 27, 187, 0, 17, 89, 183, 0, 19]
abbrev dktX0_town_0 : List UInt8 := dkwX0_town_0 ++ dktX0_town_1
theorem dksX0_town_0 : cX0_town.data.toList.drop 0 = dktX0_town_0 := by decide +kernel
theorem dksX0_town_1 : cX0_town.data.toList.drop 24 = dktX0_town_1 := dk_seg dksX0_town_0 24 rfl rfl
theorem dksX0_town_2 : cX0_town.data.toList.drop 48 = dktX0_town_2 := dk_seg dksX0_town_1 24 rfl rfl
theorem dX0_town_0 : decode cX0_town 0 = .ok (.aload_n 0, 1) := dk_42 (dk_at dksX0_town_0 0 rfl rfl)
theorem dX0_town_1 : decode cX0_town 1 = .ok (.getfield 111, 3) := dk_180 0 111 (dk_at dksX0_town_0 1 rfl rfl)
theorem dX0_town_4 : decode cX0_town 4 = .ok (.istore_n 1, 1) := dk_60 (dk_at dksX0_town_0 4 rfl rfl)
theorem dX0_town_5 : decode cX0_town 5 = .ok (.aload_n 0, 1) := dk_42 (dk_at dksX0_town_0 5 rfl rfl)
theorem dX0_town_6 : decode cX0_town 6 = .ok (.iconst 0, 1) := dk_3 (dk_at dksX0_town_0 6 rfl rfl)
theorem dX0_town_7 : decode cX0_town 7 = .ok (.putfield 111, 3) := dk_181 0 111 (dk_at dksX0_town_0 7 rfl rfl)
theorem dX0_town_10 : decode cX0_town 10 = .ok (.aload_n 0, 1) := dk_42 (dk_at dksX0_town_0 10 rfl rfl)
theorem dX0_town_11 : decode cX0_town 11 = .ok (.new 160, 3) := dk_187 0 160 (dk_at dksX0_town_0 11 rfl rfl)
theorem dX0_town_14 : decode cX0_town 14 = .ok (.dup, 1) := dk_89 (dk_at dksX0_town_0 14 rfl rfl)
theorem dX0_town_15 : decode cX0_town 15 = .ok (.aload_n 0, 1) := dk_42 (dk_at dksX0_town_0 15 rfl rfl)
theorem dX0_town_16 : decode cX0_town 16 = .ok (.iload_n 1, 1) := dk_27 (dk_at dksX0_town_0 16 rfl rfl)
theorem dX0_town_17 : decode cX0_town 17 = .ok (.new 17, 3) := dk_187 0 17 (dk_at dksX0_town_0 17 rfl rfl)
theorem dX0_town_20 : decode cX0_town 20 = .ok (.dup, 1) := dk_89 (dk_at dksX0_town_0 20 rfl rfl)
theorem dX0_town_21 : decode cX0_town 21 = .ok (.invokespecial 19, 3) := dk_183 0 19 (dk_at dksX0_town_0 21 rfl rfl)
theorem dX0_town_24 : decode cX0_town 24 = .ok (.invokespecial 162, 3) := dk_183 0 162 (dk_at dksX0_town_1 0 rfl rfl)
theorem dX0_town_27 : decode cX0_town 27 = .ok (.invokevirtual 165, 3) := dk_182 0 165 (dk_at dksX0_town_1 3 rfl rfl)
theorem dX0_town_30 : decode cX0_town 30 = .ok (.putfield 20, 3) := dk_181 0 20 (dk_at dksX0_town_1 6 rfl rfl)
theorem dX0_town_33 : decode cX0_town 33 = .ok (.goto 11, 3) := dk_167 0 11 (dk_at dksX0_town_1 9 rfl rfl)
theorem dX0_town_36 : decode cX0_town 36 = .ok (.astore_n 2, 1) := dk_77 (dk_at dksX0_town_1 12 rfl rfl)
theorem dX0_town_37 : decode cX0_town 37 = .ok (.aload_n 0, 1) := dk_42 (dk_at dksX0_town_1 13 rfl rfl)
theorem dX0_town_38 : decode cX0_town 38 = .ok (.aload_n 2, 1) := dk_44 (dk_at dksX0_town_1 14 rfl rfl)
theorem dX0_town_39 : decode cX0_town 39 = .ok (.iconst 1, 1) := dk_4 (dk_at dksX0_town_1 15 rfl rfl)
theorem dX0_town_40 : decode cX0_town 40 = .ok (.invokevirtual 168, 3) := dk_182 0 168 (dk_at dksX0_town_1 16 rfl rfl)
theorem dX0_town_43 : decode cX0_town 43 = .ok (.ireturn, 1) := dk_172 (dk_at dksX0_town_1 19 rfl rfl)
theorem dX0_town_44 : decode cX0_town 44 = .ok (.aload_n 0, 1) := dk_42 (dk_at dksX0_town_1 20 rfl rfl)
theorem dX0_town_45 : decode cX0_town 45 = .ok (.invokevirtual 172, 3) := dk_182 0 172 (dk_at dksX0_town_1 21 rfl rfl)
theorem dX0_town_48 : decode cX0_town 48 = .ok (.aload_n 0, 1) := dk_42 (dk_at dksX0_town_2 0 rfl rfl)
theorem dX0_town_49 : decode cX0_town 49 = .ok (.getfield 35, 3) := dk_180 0 35 (dk_at dksX0_town_2 1 rfl rfl)
theorem dX0_town_52 : decode cX0_town 52 = .ok (.invokevirtual 175, 3) := dk_182 0 175 (dk_at dksX0_town_2 4 rfl rfl)
theorem dX0_town_55 : decode cX0_town 55 = .ok (.aload_n 0, 1) := dk_42 (dk_at dksX0_town_2 7 rfl rfl)
theorem dX0_town_56 : decode cX0_town 56 = .ok (.getfield 20, 3) := dk_180 0 20 (dk_at dksX0_town_2 8 rfl rfl)
theorem dX0_town_59 : decode cX0_town 59 = .ok (.getfield 178, 3) := dk_180 0 178 (dk_at dksX0_town_2 11 rfl rfl)
theorem dX0_town_62 : decode cX0_town 62 = .ok (.ireturn, 1) := dk_172 (dk_at dksX0_town_2 14 rfl rfl)
def dkwX0_digitsOf_1 : List UInt8 := [100, 60, 132, 2, 1, 167, 255, 231, 27, 172]
abbrev dktX0_digitsOf_1 : List UInt8 := dkwX0_digitsOf_1 ++ []
def dkwX0_digitsOf_0 : List UInt8 := [3, 60, 3, 61, 28, 42, 182, 0, 142, 162, 0, 23, 16, 10, 27, 104, 42, 28, 182, 0, 145, 96, 16, 48]
abbrev dktX0_digitsOf_0 : List UInt8 := dkwX0_digitsOf_0 ++ dktX0_digitsOf_1
theorem dksX0_digitsOf_0 : cX0_digitsOf.data.toList.drop 0 = dktX0_digitsOf_0 := by decide +kernel
theorem dksX0_digitsOf_1 : cX0_digitsOf.data.toList.drop 24 = dktX0_digitsOf_1 := dk_seg dksX0_digitsOf_0 24 rfl rfl
theorem dX0_digitsOf_0 : decode cX0_digitsOf 0 = .ok (.iconst 0, 1) := dk_3 (dk_at dksX0_digitsOf_0 0 rfl rfl)
theorem dX0_digitsOf_1 : decode cX0_digitsOf 1 = .ok (.istore_n 1, 1) := dk_60 (dk_at dksX0_digitsOf_0 1 rfl rfl)
theorem dX0_digitsOf_2 : decode cX0_digitsOf 2 = .ok (.iconst 0, 1) := dk_3 (dk_at dksX0_digitsOf_0 2 rfl rfl)
theorem dX0_digitsOf_3 : decode cX0_digitsOf 3 = .ok (.istore_n 2, 1) := dk_61 (dk_at dksX0_digitsOf_0 3 rfl rfl)
theorem dX0_digitsOf_4 : decode cX0_digitsOf 4 = .ok (.iload_n 2, 1) := dk_28 (dk_at dksX0_digitsOf_0 4 rfl rfl)
theorem dX0_digitsOf_5 : decode cX0_digitsOf 5 = .ok (.aload_n 0, 1) := dk_42 (dk_at dksX0_digitsOf_0 5 rfl rfl)
theorem dX0_digitsOf_6 : decode cX0_digitsOf 6 = .ok (.invokevirtual 142, 3) := dk_182 0 142 (dk_at dksX0_digitsOf_0 6 rfl rfl)
theorem dX0_digitsOf_9 : decode cX0_digitsOf 9 = .ok (.if_icmp .ge 23, 3) := dk_162 0 23 (dk_at dksX0_digitsOf_0 9 rfl rfl)
theorem dX0_digitsOf_12 : decode cX0_digitsOf 12 = .ok (.bipush 10, 2) := dk_16 10 (dk_at dksX0_digitsOf_0 12 rfl rfl)
theorem dX0_digitsOf_14 : decode cX0_digitsOf 14 = .ok (.iload_n 1, 1) := dk_27 (dk_at dksX0_digitsOf_0 14 rfl rfl)
theorem dX0_digitsOf_15 : decode cX0_digitsOf 15 = .ok (.imul, 1) := dk_104 (dk_at dksX0_digitsOf_0 15 rfl rfl)
theorem dX0_digitsOf_16 : decode cX0_digitsOf 16 = .ok (.aload_n 0, 1) := dk_42 (dk_at dksX0_digitsOf_0 16 rfl rfl)
theorem dX0_digitsOf_17 : decode cX0_digitsOf 17 = .ok (.iload_n 2, 1) := dk_28 (dk_at dksX0_digitsOf_0 17 rfl rfl)
theorem dX0_digitsOf_18 : decode cX0_digitsOf 18 = .ok (.invokevirtual 145, 3) := dk_182 0 145 (dk_at dksX0_digitsOf_0 18 rfl rfl)
theorem dX0_digitsOf_21 : decode cX0_digitsOf 21 = .ok (.iadd, 1) := dk_96 (dk_at dksX0_digitsOf_0 21 rfl rfl)
theorem dX0_digitsOf_22 : decode cX0_digitsOf 22 = .ok (.bipush 48, 2) := dk_16 48 (dk_at dksX0_digitsOf_0 22 rfl rfl)
theorem dX0_digitsOf_24 : decode cX0_digitsOf 24 = .ok (.isub, 1) := dk_100 (dk_at dksX0_digitsOf_1 0 rfl rfl)
theorem dX0_digitsOf_25 : decode cX0_digitsOf 25 = .ok (.istore_n 1, 1) := dk_60 (dk_at dksX0_digitsOf_1 1 rfl rfl)
theorem dX0_digitsOf_26 : decode cX0_digitsOf 26 = .ok (.iinc 2 1, 3) := dk_132 2 1 (dk_at dksX0_digitsOf_1 2 rfl rfl)
theorem dX0_digitsOf_29 : decode cX0_digitsOf 29 = .ok (.goto (-25), 3) := dk_167 255 231 (dk_at dksX0_digitsOf_1 5 rfl rfl)
theorem dX0_digitsOf_32 : decode cX0_digitsOf 32 = .ok (.iload_n 1, 1) := dk_27 (dk_at dksX0_digitsOf_1 8 rfl rfl)
theorem dX0_digitsOf_33 : decode cX0_digitsOf 33 = .ok (.ireturn, 1) := dk_172 (dk_at dksX0_digitsOf_1 9 rfl rfl)
def dkwX0_isOwn_1 : List UInt8 := [132, 1, 1, 167, 255, 231, 3, 172]
abbrev dktX0_isOwn_1 : List UInt8 := dkwX0_isOwn_1 ++ []
def dkwX0_isOwn_0 : List UInt8 := [3, 60, 27, 178, 0, 97, 190, 162, 0, 23, 178, 0, 97, 27, 50, 42, 182, 0, 101, 153, 0, 5, 4, 172]
abbrev dktX0_isOwn_0 : List UInt8 := dkwX0_isOwn_0 ++ dktX0_isOwn_1
theorem dksX0_isOwn_0 : cX0_isOwn.data.toList.drop 0 = dktX0_isOwn_0 := by decide +kernel
theorem dksX0_isOwn_1 : cX0_isOwn.data.toList.drop 24 = dktX0_isOwn_1 := dk_seg dksX0_isOwn_0 24 rfl rfl
theorem dX0_isOwn_0 : decode cX0_isOwn 0 = .ok (.iconst 0, 1) := dk_3 (dk_at dksX0_isOwn_0 0 rfl rfl)
theorem dX0_isOwn_1 : decode cX0_isOwn 1 = .ok (.istore_n 1, 1) := dk_60 (dk_at dksX0_isOwn_0 1 rfl rfl)
theorem dX0_isOwn_2 : decode cX0_isOwn 2 = .ok (.iload_n 1, 1) := dk_27 (dk_at dksX0_isOwn_0 2 rfl rfl)
theorem dX0_isOwn_3 : decode cX0_isOwn 3 = .ok (.getstatic 97, 3) := dk_178 0 97 (dk_at dksX0_isOwn_0 3 rfl rfl)
theorem dX0_isOwn_6 : decode cX0_isOwn 6 = .ok (.arraylength, 1) := dk_190 (dk_at dksX0_isOwn_0 6 rfl rfl)
theorem dX0_isOwn_7 : decode cX0_isOwn 7 = .ok (.if_icmp .ge 23, 3) := dk_162 0 23 (dk_at dksX0_isOwn_0 7 rfl rfl)
theorem dX0_isOwn_10 : decode cX0_isOwn 10 = .ok (.getstatic 97, 3) := dk_178 0 97 (dk_at dksX0_isOwn_0 10 rfl rfl)
theorem dX0_isOwn_13 : decode cX0_isOwn 13 = .ok (.iload_n 1, 1) := dk_27 (dk_at dksX0_isOwn_0 13 rfl rfl)
theorem dX0_isOwn_14 : decode cX0_isOwn 14 = .ok (.aaload, 1) := dk_50 (dk_at dksX0_isOwn_0 14 rfl rfl)
theorem dX0_isOwn_15 : decode cX0_isOwn 15 = .ok (.aload_n 0, 1) := dk_42 (dk_at dksX0_isOwn_0 15 rfl rfl)
theorem dX0_isOwn_16 : decode cX0_isOwn 16 = .ok (.invokevirtual 101, 3) := dk_182 0 101 (dk_at dksX0_isOwn_0 16 rfl rfl)
theorem dX0_isOwn_19 : decode cX0_isOwn 19 = .ok (.ifCond .eq 5, 3) := dk_153 0 5 (dk_at dksX0_isOwn_0 19 rfl rfl)
theorem dX0_isOwn_22 : decode cX0_isOwn 22 = .ok (.iconst 1, 1) := dk_4 (dk_at dksX0_isOwn_0 22 rfl rfl)
theorem dX0_isOwn_23 : decode cX0_isOwn 23 = .ok (.ireturn, 1) := dk_172 (dk_at dksX0_isOwn_0 23 rfl rfl)
theorem dX0_isOwn_24 : decode cX0_isOwn 24 = .ok (.iinc 1 1, 3) := dk_132 1 1 (dk_at dksX0_isOwn_1 0 rfl rfl)
theorem dX0_isOwn_27 : decode cX0_isOwn 27 = .ok (.goto (-25), 3) := dk_167 255 231 (dk_at dksX0_isOwn_1 3 rfl rfl)
theorem dX0_isOwn_30 : decode cX0_isOwn 30 = .ok (.iconst 0, 1) := dk_3 (dk_at dksX0_isOwn_1 6 rfl rfl)
theorem dX0_isOwn_31 : decode cX0_isOwn 31 = .ok (.ireturn, 1) := dk_172 (dk_at dksX0_isOwn_1 7 rfl rfl)
def dkwX0_named_1 : List UInt8 := [182, 0, 101, 153, 0, 12, 42, 28, 182, 0, 132, 192, 0, 136, 176, 132, 2, 1, 167, 255, 218, 1, 176]
abbrev dktX0_named_1 : List UInt8 := dkwX0_named_1 ++ []
def dkwX0_named_0 : List UInt8 := [3, 61, 28, 42, 182, 0, 128, 162, 0, 36, 42, 28, 182, 0, 132, 192, 0, 136, 180, 0, 138, 43]
abbrev dktX0_named_0 : List UInt8 := dkwX0_named_0 ++ dktX0_named_1
theorem dksX0_named_0 : cX0_named.data.toList.drop 0 = dktX0_named_0 := by decide +kernel
theorem dksX0_named_1 : cX0_named.data.toList.drop 22 = dktX0_named_1 := dk_seg dksX0_named_0 22 rfl rfl
theorem dX0_named_0 : decode cX0_named 0 = .ok (.iconst 0, 1) := dk_3 (dk_at dksX0_named_0 0 rfl rfl)
theorem dX0_named_1 : decode cX0_named 1 = .ok (.istore_n 2, 1) := dk_61 (dk_at dksX0_named_0 1 rfl rfl)
theorem dX0_named_2 : decode cX0_named 2 = .ok (.iload_n 2, 1) := dk_28 (dk_at dksX0_named_0 2 rfl rfl)
theorem dX0_named_3 : decode cX0_named 3 = .ok (.aload_n 0, 1) := dk_42 (dk_at dksX0_named_0 3 rfl rfl)
theorem dX0_named_4 : decode cX0_named 4 = .ok (.invokevirtual 128, 3) := dk_182 0 128 (dk_at dksX0_named_0 4 rfl rfl)
theorem dX0_named_7 : decode cX0_named 7 = .ok (.if_icmp .ge 36, 3) := dk_162 0 36 (dk_at dksX0_named_0 7 rfl rfl)
theorem dX0_named_10 : decode cX0_named 10 = .ok (.aload_n 0, 1) := dk_42 (dk_at dksX0_named_0 10 rfl rfl)
theorem dX0_named_11 : decode cX0_named 11 = .ok (.iload_n 2, 1) := dk_28 (dk_at dksX0_named_0 11 rfl rfl)
theorem dX0_named_12 : decode cX0_named 12 = .ok (.invokevirtual 132, 3) := dk_182 0 132 (dk_at dksX0_named_0 12 rfl rfl)
theorem dX0_named_15 : decode cX0_named 15 = .ok (.checkcast 136, 3) := dk_192 0 136 (dk_at dksX0_named_0 15 rfl rfl)
theorem dX0_named_18 : decode cX0_named 18 = .ok (.getfield 138, 3) := dk_180 0 138 (dk_at dksX0_named_0 18 rfl rfl)
theorem dX0_named_21 : decode cX0_named 21 = .ok (.aload_n 1, 1) := dk_43 (dk_at dksX0_named_0 21 rfl rfl)
theorem dX0_named_22 : decode cX0_named 22 = .ok (.invokevirtual 101, 3) := dk_182 0 101 (dk_at dksX0_named_1 0 rfl rfl)
theorem dX0_named_25 : decode cX0_named 25 = .ok (.ifCond .eq 12, 3) := dk_153 0 12 (dk_at dksX0_named_1 3 rfl rfl)
theorem dX0_named_28 : decode cX0_named 28 = .ok (.aload_n 0, 1) := dk_42 (dk_at dksX0_named_1 6 rfl rfl)
theorem dX0_named_29 : decode cX0_named 29 = .ok (.iload_n 2, 1) := dk_28 (dk_at dksX0_named_1 7 rfl rfl)
theorem dX0_named_30 : decode cX0_named 30 = .ok (.invokevirtual 132, 3) := dk_182 0 132 (dk_at dksX0_named_1 8 rfl rfl)
theorem dX0_named_33 : decode cX0_named 33 = .ok (.checkcast 136, 3) := dk_192 0 136 (dk_at dksX0_named_1 11 rfl rfl)
theorem dX0_named_36 : decode cX0_named 36 = .ok (.areturn, 1) := dk_176 (dk_at dksX0_named_1 14 rfl rfl)
theorem dX0_named_37 : decode cX0_named 37 = .ok (.iinc 2 1, 3) := dk_132 2 1 (dk_at dksX0_named_1 15 rfl rfl)
theorem dX0_named_40 : decode cX0_named 40 = .ok (.goto (-38), 3) := dk_167 255 218 (dk_at dksX0_named_1 18 rfl rfl)
theorem dX0_named_43 : decode cX0_named 43 = .ok (.aconst_null, 1) := dk_1 (dk_at dksX0_named_1 21 rfl rfl)
theorem dX0_named_44 : decode cX0_named 44 = .ok (.areturn, 1) := dk_176 (dk_at dksX0_named_1 22 rfl rfl)
def dkwX0_wrong_0 : List UInt8 := [42, 43, 180, 0, 149, 181, 0, 154, 42, 43, 180, 0, 157, 181, 0, 24, 42, 28, 182, 0, 107, 172]
abbrev dktX0_wrong_0 : List UInt8 := dkwX0_wrong_0 ++ []
theorem dksX0_wrong_0 : cX0_wrong.data.toList.drop 0 = dktX0_wrong_0 := by decide +kernel
theorem dX0_wrong_0 : decode cX0_wrong 0 = .ok (.aload_n 0, 1) := dk_42 (dk_at dksX0_wrong_0 0 rfl rfl)
theorem dX0_wrong_1 : decode cX0_wrong 1 = .ok (.aload_n 1, 1) := dk_43 (dk_at dksX0_wrong_0 1 rfl rfl)
theorem dX0_wrong_2 : decode cX0_wrong 2 = .ok (.getfield 149, 3) := dk_180 0 149 (dk_at dksX0_wrong_0 2 rfl rfl)
theorem dX0_wrong_5 : decode cX0_wrong 5 = .ok (.putfield 154, 3) := dk_181 0 154 (dk_at dksX0_wrong_0 5 rfl rfl)
theorem dX0_wrong_8 : decode cX0_wrong 8 = .ok (.aload_n 0, 1) := dk_42 (dk_at dksX0_wrong_0 8 rfl rfl)
theorem dX0_wrong_9 : decode cX0_wrong 9 = .ok (.aload_n 1, 1) := dk_43 (dk_at dksX0_wrong_0 9 rfl rfl)
theorem dX0_wrong_10 : decode cX0_wrong 10 = .ok (.getfield 157, 3) := dk_180 0 157 (dk_at dksX0_wrong_0 10 rfl rfl)
theorem dX0_wrong_13 : decode cX0_wrong 13 = .ok (.putfield 24, 3) := dk_181 0 24 (dk_at dksX0_wrong_0 13 rfl rfl)
theorem dX0_wrong_16 : decode cX0_wrong 16 = .ok (.aload_n 0, 1) := dk_42 (dk_at dksX0_wrong_0 16 rfl rfl)
theorem dX0_wrong_17 : decode cX0_wrong 17 = .ok (.iload_n 2, 1) := dk_28 (dk_at dksX0_wrong_0 17 rfl rfl)
theorem dX0_wrong_18 : decode cX0_wrong 18 = .ok (.invokevirtual 107, 3) := dk_182 0 107 (dk_at dksX0_wrong_0 18 rfl rfl)
theorem dX0_wrong_21 : decode cX0_wrong 21 = .ok (.ireturn, 1) := dk_172 (dk_at dksX0_wrong_0 21 rfl rfl)
def dkwX0_isRight_0 : List UInt8 := [42, 3, 181, 0, 154, 42, 2, 181, 0, 24, 177]
abbrev dktX0_isRight_0 : List UInt8 := dkwX0_isRight_0 ++ []
theorem dksX0_isRight_0 : cX0_isRight.data.toList.drop 0 = dktX0_isRight_0 := by decide +kernel
theorem dX0_isRight_0 : decode cX0_isRight 0 = .ok (.aload_n 0, 1) := dk_42 (dk_at dksX0_isRight_0 0 rfl rfl)
theorem dX0_isRight_1 : decode cX0_isRight 1 = .ok (.iconst 0, 1) := dk_3 (dk_at dksX0_isRight_0 1 rfl rfl)
theorem dX0_isRight_2 : decode cX0_isRight 2 = .ok (.putfield 154, 3) := dk_181 0 154 (dk_at dksX0_isRight_0 2 rfl rfl)
theorem dX0_isRight_5 : decode cX0_isRight 5 = .ok (.aload_n 0, 1) := dk_42 (dk_at dksX0_isRight_0 5 rfl rfl)
theorem dX0_isRight_6 : decode cX0_isRight 6 = .ok (.iconst (-1), 1) := dk_2 (dk_at dksX0_isRight_0 6 rfl rfl)
theorem dX0_isRight_7 : decode cX0_isRight 7 = .ok (.putfield 24, 3) := dk_181 0 24 (dk_at dksX0_isRight_0 7 rfl rfl)
theorem dX0_isRight_10 : decode cX0_isRight 10 = .ok (.return_, 1) := dk_177 (dk_at dksX0_isRight_0 10 rfl rfl)
def dkwX0_fault_1 : List UInt8 := [172]
abbrev dktX0_fault_1 : List UInt8 := dkwX0_fault_1 ++ []
def dkwX0_fault_0 : List UInt8 := [27, 154, 0, 10, 42, 180, 0, 154, 167, 0, 16, 27, 4, 160, 0, 10, 42, 180, 0, 24, 167, 0, 4, 2]
abbrev dktX0_fault_0 : List UInt8 := dkwX0_fault_0 ++ dktX0_fault_1
theorem dksX0_fault_0 : cX0_fault.data.toList.drop 0 = dktX0_fault_0 := by decide +kernel
theorem dksX0_fault_1 : cX0_fault.data.toList.drop 24 = dktX0_fault_1 := dk_seg dksX0_fault_0 24 rfl rfl
theorem dX0_fault_0 : decode cX0_fault 0 = .ok (.iload_n 1, 1) := dk_27 (dk_at dksX0_fault_0 0 rfl rfl)
theorem dX0_fault_1 : decode cX0_fault 1 = .ok (.ifCond .ne 10, 3) := dk_154 0 10 (dk_at dksX0_fault_0 1 rfl rfl)
theorem dX0_fault_4 : decode cX0_fault 4 = .ok (.aload_n 0, 1) := dk_42 (dk_at dksX0_fault_0 4 rfl rfl)
theorem dX0_fault_5 : decode cX0_fault 5 = .ok (.getfield 154, 3) := dk_180 0 154 (dk_at dksX0_fault_0 5 rfl rfl)
theorem dX0_fault_8 : decode cX0_fault 8 = .ok (.goto 16, 3) := dk_167 0 16 (dk_at dksX0_fault_0 8 rfl rfl)
theorem dX0_fault_11 : decode cX0_fault 11 = .ok (.iload_n 1, 1) := dk_27 (dk_at dksX0_fault_0 11 rfl rfl)
theorem dX0_fault_12 : decode cX0_fault 12 = .ok (.iconst 1, 1) := dk_4 (dk_at dksX0_fault_0 12 rfl rfl)
theorem dX0_fault_13 : decode cX0_fault 13 = .ok (.if_icmp .ne 10, 3) := dk_160 0 10 (dk_at dksX0_fault_0 13 rfl rfl)
theorem dX0_fault_16 : decode cX0_fault 16 = .ok (.aload_n 0, 1) := dk_42 (dk_at dksX0_fault_0 16 rfl rfl)
theorem dX0_fault_17 : decode cX0_fault 17 = .ok (.getfield 24, 3) := dk_180 0 24 (dk_at dksX0_fault_0 17 rfl rfl)
theorem dX0_fault_20 : decode cX0_fault 20 = .ok (.goto 4, 3) := dk_167 0 4 (dk_at dksX0_fault_0 20 rfl rfl)
theorem dX0_fault_23 : decode cX0_fault 23 = .ok (.iconst (-1), 1) := dk_2 (dk_at dksX0_fault_0 23 rfl rfl)
theorem dX0_fault_24 : decode cX0_fault 24 = .ok (.ireturn, 1) := dk_172 (dk_at dksX0_fault_1 0 rfl rfl)
def dkwX0_undo_1 : List UInt8 := [182, 0, 128, 4, 100, 182, 0, 181, 192, 0, 184, 182, 0, 194, 4, 172]
abbrev dktX0_undo_1 : List UInt8 := dkwX0_undo_1 ++ []
def dkwX0_undo_0 : List UInt8 := [42, 180, 0, 35, 182, 0, 190, 153, 0, 9, 42, 7, 182, 0, 118, 172, 42, 180, 0, 35, 42, 180, 0, 35]
abbrev dktX0_undo_0 : List UInt8 := dkwX0_undo_0 ++ dktX0_undo_1
theorem dksX0_undo_0 : cX0_undo.data.toList.drop 0 = dktX0_undo_0 := by decide +kernel
theorem dksX0_undo_1 : cX0_undo.data.toList.drop 24 = dktX0_undo_1 := dk_seg dksX0_undo_0 24 rfl rfl
theorem dX0_undo_0 : decode cX0_undo 0 = .ok (.aload_n 0, 1) := dk_42 (dk_at dksX0_undo_0 0 rfl rfl)
theorem dX0_undo_1 : decode cX0_undo 1 = .ok (.getfield 35, 3) := dk_180 0 35 (dk_at dksX0_undo_0 1 rfl rfl)
theorem dX0_undo_4 : decode cX0_undo 4 = .ok (.invokevirtual 190, 3) := dk_182 0 190 (dk_at dksX0_undo_0 4 rfl rfl)
theorem dX0_undo_7 : decode cX0_undo 7 = .ok (.ifCond .eq 9, 3) := dk_153 0 9 (dk_at dksX0_undo_0 7 rfl rfl)
theorem dX0_undo_10 : decode cX0_undo 10 = .ok (.aload_n 0, 1) := dk_42 (dk_at dksX0_undo_0 10 rfl rfl)
theorem dX0_undo_11 : decode cX0_undo 11 = .ok (.iconst 4, 1) := dk_7 (dk_at dksX0_undo_0 11 rfl rfl)
theorem dX0_undo_12 : decode cX0_undo 12 = .ok (.invokevirtual 118, 3) := dk_182 0 118 (dk_at dksX0_undo_0 12 rfl rfl)
theorem dX0_undo_15 : decode cX0_undo 15 = .ok (.ireturn, 1) := dk_172 (dk_at dksX0_undo_0 15 rfl rfl)
theorem dX0_undo_16 : decode cX0_undo 16 = .ok (.aload_n 0, 1) := dk_42 (dk_at dksX0_undo_0 16 rfl rfl)
theorem dX0_undo_17 : decode cX0_undo 17 = .ok (.getfield 35, 3) := dk_180 0 35 (dk_at dksX0_undo_0 17 rfl rfl)
theorem dX0_undo_20 : decode cX0_undo 20 = .ok (.aload_n 0, 1) := dk_42 (dk_at dksX0_undo_0 20 rfl rfl)
theorem dX0_undo_21 : decode cX0_undo 21 = .ok (.getfield 35, 3) := dk_180 0 35 (dk_at dksX0_undo_0 21 rfl rfl)
theorem dX0_undo_24 : decode cX0_undo 24 = .ok (.invokevirtual 128, 3) := dk_182 0 128 (dk_at dksX0_undo_1 0 rfl rfl)
theorem dX0_undo_27 : decode cX0_undo 27 = .ok (.iconst 1, 1) := dk_4 (dk_at dksX0_undo_1 3 rfl rfl)
theorem dX0_undo_28 : decode cX0_undo 28 = .ok (.isub, 1) := dk_100 (dk_at dksX0_undo_1 4 rfl rfl)
theorem dX0_undo_29 : decode cX0_undo 29 = .ok (.invokevirtual 181, 3) := dk_182 0 181 (dk_at dksX0_undo_1 5 rfl rfl)
theorem dX0_undo_32 : decode cX0_undo 32 = .ok (.checkcast 184, 3) := dk_192 0 184 (dk_at dksX0_undo_1 8 rfl rfl)
theorem dX0_undo_35 : decode cX0_undo 35 = .ok (.invokevirtual 194, 3) := dk_182 0 194 (dk_at dksX0_undo_1 11 rfl rfl)
theorem dX0_undo_38 : decode cX0_undo 38 = .ok (.iconst 1, 1) := dk_4 (dk_at dksX0_undo_1 14 rfl rfl)
theorem dX0_undo_39 : decode cX0_undo 39 = .ok (.ireturn, 1) := dk_172 (dk_at dksX0_undo_1 15 rfl rfl)
def dkwX0_has_6 : List UInt8 := [182, 0, 128, 172, 42, 180, 0, 35, 182, 0, 128, 172, 42, 180, 0, 28, 136, 172, 2, 172]
abbrev dktX0_has_6 : List UInt8 := dkwX0_has_6 ++ []
def dkwX0_has_5 : List UInt8 := [180, 0, 20, 180, 0, 218, 172, 42, 180, 0, 20, 180, 0, 221, 172, 42, 180, 0, 20, 180, 0, 224]
abbrev dktX0_has_5 : List UInt8 := dkwX0_has_5 ++ dktX0_has_6
def dkwX0_has_4 : List UInt8 := [180, 0, 20, 182, 0, 209, 172, 42, 180, 0, 20, 180, 0, 212, 172, 42, 180, 0, 20, 180, 0, 215, 172, 42]
abbrev dktX0_has_4 : List UInt8 := dkwX0_has_4 ++ dktX0_has_5
def dkwX0_has_3 : List UInt8 := [180, 0, 20, 180, 0, 203, 182, 0, 128, 172, 42, 180, 0, 20, 180, 0, 206, 182, 0, 128, 172, 42]
abbrev dktX0_has_3 : List UInt8 := dkwX0_has_3 ++ dktX0_has_4
def dkwX0_has_2 : List UInt8 := [42, 180, 0, 20, 180, 0, 197, 182, 0, 128, 172, 42, 180, 0, 20, 180, 0, 200, 182, 0, 128, 172, 42]
abbrev dktX0_has_2 : List UInt8 := dkwX0_has_2 ++ dktX0_has_3
def dkwX0_has_1 : List UInt8 := [170, 0, 0, 0, 0, 0, 172, 0, 0, 0, 0, 0, 0, 0, 11, 0, 0, 0, 63, 0, 0, 0, 74, 0, 0, 0, 85, 0, 0, 0, 96, 0, 0, 0, 107, 0, 0, 0, 115, 0, 0, 0, 123, 0, 0, 0, 131, 0, 0, 0, 139, 0, 0, 0, 147, 0, 0, 0, 158, 0, 0, 0, 166]
abbrev dktX0_has_1 : List UInt8 := dkwX0_has_1 ++ dktX0_has_2
def dkwX0_has_0 : List UInt8 := [27]
abbrev dktX0_has_0 : List UInt8 := dkwX0_has_0 ++ dktX0_has_1
theorem dksX0_has_0 : cX0_has.data.toList.drop 0 = dktX0_has_0 := by decide +kernel
theorem dksX0_has_1 : cX0_has.data.toList.drop 1 = dktX0_has_1 := dk_seg dksX0_has_0 1 rfl rfl
theorem dksX0_has_2 : cX0_has.data.toList.drop 64 = dktX0_has_2 := dk_seg dksX0_has_1 63 rfl rfl
theorem dksX0_has_3 : cX0_has.data.toList.drop 87 = dktX0_has_3 := dk_seg dksX0_has_2 23 rfl rfl
theorem dksX0_has_4 : cX0_has.data.toList.drop 109 = dktX0_has_4 := dk_seg dksX0_has_3 22 rfl rfl
theorem dksX0_has_5 : cX0_has.data.toList.drop 133 = dktX0_has_5 := dk_seg dksX0_has_4 24 rfl rfl
theorem dksX0_has_6 : cX0_has.data.toList.drop 155 = dktX0_has_6 := dk_seg dksX0_has_5 22 rfl rfl
theorem dX0_has_0 : decode cX0_has 0 = .ok (.iload_n 1, 1) := dk_27 (dk_at dksX0_has_0 0 rfl rfl)
theorem dX0_has_1 : decode cX0_has 1 = .ok (.tableswitch 172 0 11 #[63, 74, 85, 96, 107, 115, 123, 131, 139, 147, 158, 166], 63) := by decide +kernel
theorem dX0_has_64 : decode cX0_has 64 = .ok (.aload_n 0, 1) := dk_42 (dk_at dksX0_has_2 0 rfl rfl)
theorem dX0_has_65 : decode cX0_has 65 = .ok (.getfield 20, 3) := dk_180 0 20 (dk_at dksX0_has_2 1 rfl rfl)
theorem dX0_has_68 : decode cX0_has 68 = .ok (.getfield 197, 3) := dk_180 0 197 (dk_at dksX0_has_2 4 rfl rfl)
theorem dX0_has_71 : decode cX0_has 71 = .ok (.invokevirtual 128, 3) := dk_182 0 128 (dk_at dksX0_has_2 7 rfl rfl)
theorem dX0_has_74 : decode cX0_has 74 = .ok (.ireturn, 1) := dk_172 (dk_at dksX0_has_2 10 rfl rfl)
theorem dX0_has_75 : decode cX0_has 75 = .ok (.aload_n 0, 1) := dk_42 (dk_at dksX0_has_2 11 rfl rfl)
theorem dX0_has_76 : decode cX0_has 76 = .ok (.getfield 20, 3) := dk_180 0 20 (dk_at dksX0_has_2 12 rfl rfl)
theorem dX0_has_79 : decode cX0_has 79 = .ok (.getfield 200, 3) := dk_180 0 200 (dk_at dksX0_has_2 15 rfl rfl)
theorem dX0_has_82 : decode cX0_has 82 = .ok (.invokevirtual 128, 3) := dk_182 0 128 (dk_at dksX0_has_2 18 rfl rfl)
theorem dX0_has_85 : decode cX0_has 85 = .ok (.ireturn, 1) := dk_172 (dk_at dksX0_has_2 21 rfl rfl)
theorem dX0_has_86 : decode cX0_has 86 = .ok (.aload_n 0, 1) := dk_42 (dk_at dksX0_has_2 22 rfl rfl)
theorem dX0_has_87 : decode cX0_has 87 = .ok (.getfield 20, 3) := dk_180 0 20 (dk_at dksX0_has_3 0 rfl rfl)
theorem dX0_has_90 : decode cX0_has 90 = .ok (.getfield 203, 3) := dk_180 0 203 (dk_at dksX0_has_3 3 rfl rfl)
theorem dX0_has_93 : decode cX0_has 93 = .ok (.invokevirtual 128, 3) := dk_182 0 128 (dk_at dksX0_has_3 6 rfl rfl)
theorem dX0_has_96 : decode cX0_has 96 = .ok (.ireturn, 1) := dk_172 (dk_at dksX0_has_3 9 rfl rfl)
theorem dX0_has_97 : decode cX0_has 97 = .ok (.aload_n 0, 1) := dk_42 (dk_at dksX0_has_3 10 rfl rfl)
theorem dX0_has_98 : decode cX0_has 98 = .ok (.getfield 20, 3) := dk_180 0 20 (dk_at dksX0_has_3 11 rfl rfl)
theorem dX0_has_101 : decode cX0_has 101 = .ok (.getfield 206, 3) := dk_180 0 206 (dk_at dksX0_has_3 14 rfl rfl)
theorem dX0_has_104 : decode cX0_has 104 = .ok (.invokevirtual 128, 3) := dk_182 0 128 (dk_at dksX0_has_3 17 rfl rfl)
theorem dX0_has_107 : decode cX0_has 107 = .ok (.ireturn, 1) := dk_172 (dk_at dksX0_has_3 20 rfl rfl)
theorem dX0_has_108 : decode cX0_has 108 = .ok (.aload_n 0, 1) := dk_42 (dk_at dksX0_has_3 21 rfl rfl)
theorem dX0_has_109 : decode cX0_has 109 = .ok (.getfield 20, 3) := dk_180 0 20 (dk_at dksX0_has_4 0 rfl rfl)
theorem dX0_has_112 : decode cX0_has 112 = .ok (.invokevirtual 209, 3) := dk_182 0 209 (dk_at dksX0_has_4 3 rfl rfl)
theorem dX0_has_115 : decode cX0_has 115 = .ok (.ireturn, 1) := dk_172 (dk_at dksX0_has_4 6 rfl rfl)
theorem dX0_has_116 : decode cX0_has 116 = .ok (.aload_n 0, 1) := dk_42 (dk_at dksX0_has_4 7 rfl rfl)
theorem dX0_has_117 : decode cX0_has 117 = .ok (.getfield 20, 3) := dk_180 0 20 (dk_at dksX0_has_4 8 rfl rfl)
theorem dX0_has_120 : decode cX0_has 120 = .ok (.getfield 212, 3) := dk_180 0 212 (dk_at dksX0_has_4 11 rfl rfl)
theorem dX0_has_123 : decode cX0_has 123 = .ok (.ireturn, 1) := dk_172 (dk_at dksX0_has_4 14 rfl rfl)
theorem dX0_has_124 : decode cX0_has 124 = .ok (.aload_n 0, 1) := dk_42 (dk_at dksX0_has_4 15 rfl rfl)
theorem dX0_has_125 : decode cX0_has 125 = .ok (.getfield 20, 3) := dk_180 0 20 (dk_at dksX0_has_4 16 rfl rfl)
theorem dX0_has_128 : decode cX0_has 128 = .ok (.getfield 215, 3) := dk_180 0 215 (dk_at dksX0_has_4 19 rfl rfl)
theorem dX0_has_131 : decode cX0_has 131 = .ok (.ireturn, 1) := dk_172 (dk_at dksX0_has_4 22 rfl rfl)
theorem dX0_has_132 : decode cX0_has 132 = .ok (.aload_n 0, 1) := dk_42 (dk_at dksX0_has_4 23 rfl rfl)
theorem dX0_has_133 : decode cX0_has 133 = .ok (.getfield 20, 3) := dk_180 0 20 (dk_at dksX0_has_5 0 rfl rfl)
theorem dX0_has_136 : decode cX0_has 136 = .ok (.getfield 218, 3) := dk_180 0 218 (dk_at dksX0_has_5 3 rfl rfl)
theorem dX0_has_139 : decode cX0_has 139 = .ok (.ireturn, 1) := dk_172 (dk_at dksX0_has_5 6 rfl rfl)
theorem dX0_has_140 : decode cX0_has 140 = .ok (.aload_n 0, 1) := dk_42 (dk_at dksX0_has_5 7 rfl rfl)
theorem dX0_has_141 : decode cX0_has 141 = .ok (.getfield 20, 3) := dk_180 0 20 (dk_at dksX0_has_5 8 rfl rfl)
theorem dX0_has_144 : decode cX0_has 144 = .ok (.getfield 221, 3) := dk_180 0 221 (dk_at dksX0_has_5 11 rfl rfl)
theorem dX0_has_147 : decode cX0_has 147 = .ok (.ireturn, 1) := dk_172 (dk_at dksX0_has_5 14 rfl rfl)
theorem dX0_has_148 : decode cX0_has 148 = .ok (.aload_n 0, 1) := dk_42 (dk_at dksX0_has_5 15 rfl rfl)
theorem dX0_has_149 : decode cX0_has 149 = .ok (.getfield 20, 3) := dk_180 0 20 (dk_at dksX0_has_5 16 rfl rfl)
theorem dX0_has_152 : decode cX0_has 152 = .ok (.getfield 224, 3) := dk_180 0 224 (dk_at dksX0_has_5 19 rfl rfl)
theorem dX0_has_155 : decode cX0_has 155 = .ok (.invokevirtual 128, 3) := dk_182 0 128 (dk_at dksX0_has_6 0 rfl rfl)
theorem dX0_has_158 : decode cX0_has 158 = .ok (.ireturn, 1) := dk_172 (dk_at dksX0_has_6 3 rfl rfl)
theorem dX0_has_159 : decode cX0_has 159 = .ok (.aload_n 0, 1) := dk_42 (dk_at dksX0_has_6 4 rfl rfl)
theorem dX0_has_160 : decode cX0_has 160 = .ok (.getfield 35, 3) := dk_180 0 35 (dk_at dksX0_has_6 5 rfl rfl)
theorem dX0_has_163 : decode cX0_has 163 = .ok (.invokevirtual 128, 3) := dk_182 0 128 (dk_at dksX0_has_6 8 rfl rfl)
theorem dX0_has_166 : decode cX0_has 166 = .ok (.ireturn, 1) := dk_172 (dk_at dksX0_has_6 11 rfl rfl)
theorem dX0_has_167 : decode cX0_has 167 = .ok (.aload_n 0, 1) := dk_42 (dk_at dksX0_has_6 12 rfl rfl)
theorem dX0_has_168 : decode cX0_has 168 = .ok (.getfield 28, 3) := dk_180 0 28 (dk_at dksX0_has_6 13 rfl rfl)
theorem dX0_has_171 : decode cX0_has 171 = .ok (.l2i, 1) := dk_136 (dk_at dksX0_has_6 16 rfl rfl)
theorem dX0_has_172 : decode cX0_has 172 = .ok (.ireturn, 1) := dk_172 (dk_at dksX0_has_6 17 rfl rfl)
theorem dX0_has_173 : decode cX0_has 173 = .ok (.iconst (-1), 1) := dk_2 (dk_at dksX0_has_6 18 rfl rfl)
theorem dX0_has_174 : decode cX0_has 174 = .ok (.ireturn, 1) := dk_172 (dk_at dksX0_has_6 19 rfl rfl)
def dkwX0_letter_3 : List UInt8 := [25, 4, 29, 182, 0, 145, 16, 97, 100, 4, 96, 167, 0, 4, 3, 172]
abbrev dktX0_letter_3 : List UInt8 := dkwX0_letter_3 ++ []
def dkwX0_letter_2 : List UInt8 := [182, 0, 229, 28, 182, 0, 132, 192, 0, 136, 180, 0, 138, 58, 4, 29, 25, 4, 182, 0, 142, 162, 0, 17]
abbrev dktX0_letter_2 : List UInt8 := dkwX0_letter_2 ++ dktX0_letter_3
def dkwX0_letter_1 : List UInt8 := [28, 133, 9, 42, 27, 182, 0, 229, 182, 0, 128, 4, 100, 133, 184, 0, 124, 154, 0, 5, 2, 172, 42, 27]
abbrev dktX0_letter_1 : List UInt8 := dkwX0_letter_1 ++ dktX0_letter_2
def dkwX0_letter_0 : List UInt8 := [27, 133, 9, 20, 0, 227, 184, 0, 124, 153, 0, 35, 29, 133, 9, 20, 0, 122, 184, 0, 124, 153, 0, 23]
abbrev dktX0_letter_0 : List UInt8 := dkwX0_letter_0 ++ dktX0_letter_1
theorem dksX0_letter_0 : cX0_letter.data.toList.drop 0 = dktX0_letter_0 := by decide +kernel
theorem dksX0_letter_1 : cX0_letter.data.toList.drop 24 = dktX0_letter_1 := dk_seg dksX0_letter_0 24 rfl rfl
theorem dksX0_letter_2 : cX0_letter.data.toList.drop 48 = dktX0_letter_2 := dk_seg dksX0_letter_1 24 rfl rfl
theorem dksX0_letter_3 : cX0_letter.data.toList.drop 72 = dktX0_letter_3 := dk_seg dksX0_letter_2 24 rfl rfl
theorem dX0_letter_0 : decode cX0_letter 0 = .ok (.iload_n 1, 1) := dk_27 (dk_at dksX0_letter_0 0 rfl rfl)
theorem dX0_letter_1 : decode cX0_letter 1 = .ok (.i2l, 1) := dk_133 (dk_at dksX0_letter_0 1 rfl rfl)
theorem dX0_letter_2 : decode cX0_letter 2 = .ok (.lconst 0, 1) := dk_9 (dk_at dksX0_letter_0 2 rfl rfl)
theorem dX0_letter_3 : decode cX0_letter 3 = .ok (.ldc2_w 227, 3) := dk_20 0 227 (dk_at dksX0_letter_0 3 rfl rfl)
theorem dX0_letter_6 : decode cX0_letter 6 = .ok (.invokestatic 124, 3) := dk_184 0 124 (dk_at dksX0_letter_0 6 rfl rfl)
theorem dX0_letter_9 : decode cX0_letter 9 = .ok (.ifCond .eq 35, 3) := dk_153 0 35 (dk_at dksX0_letter_0 9 rfl rfl)
theorem dX0_letter_12 : decode cX0_letter 12 = .ok (.iload_n 3, 1) := dk_29 (dk_at dksX0_letter_0 12 rfl rfl)
theorem dX0_letter_13 : decode cX0_letter 13 = .ok (.i2l, 1) := dk_133 (dk_at dksX0_letter_0 13 rfl rfl)
theorem dX0_letter_14 : decode cX0_letter 14 = .ok (.lconst 0, 1) := dk_9 (dk_at dksX0_letter_0 14 rfl rfl)
theorem dX0_letter_15 : decode cX0_letter 15 = .ok (.ldc2_w 122, 3) := dk_20 0 122 (dk_at dksX0_letter_0 15 rfl rfl)
theorem dX0_letter_18 : decode cX0_letter 18 = .ok (.invokestatic 124, 3) := dk_184 0 124 (dk_at dksX0_letter_0 18 rfl rfl)
theorem dX0_letter_21 : decode cX0_letter 21 = .ok (.ifCond .eq 23, 3) := dk_153 0 23 (dk_at dksX0_letter_0 21 rfl rfl)
theorem dX0_letter_24 : decode cX0_letter 24 = .ok (.iload_n 2, 1) := dk_28 (dk_at dksX0_letter_1 0 rfl rfl)
theorem dX0_letter_25 : decode cX0_letter 25 = .ok (.i2l, 1) := dk_133 (dk_at dksX0_letter_1 1 rfl rfl)
theorem dX0_letter_26 : decode cX0_letter 26 = .ok (.lconst 0, 1) := dk_9 (dk_at dksX0_letter_1 2 rfl rfl)
theorem dX0_letter_27 : decode cX0_letter 27 = .ok (.aload_n 0, 1) := dk_42 (dk_at dksX0_letter_1 3 rfl rfl)
theorem dX0_letter_28 : decode cX0_letter 28 = .ok (.iload_n 1, 1) := dk_27 (dk_at dksX0_letter_1 4 rfl rfl)
theorem dX0_letter_29 : decode cX0_letter 29 = .ok (.invokevirtual 229, 3) := dk_182 0 229 (dk_at dksX0_letter_1 5 rfl rfl)
theorem dX0_letter_32 : decode cX0_letter 32 = .ok (.invokevirtual 128, 3) := dk_182 0 128 (dk_at dksX0_letter_1 8 rfl rfl)
theorem dX0_letter_35 : decode cX0_letter 35 = .ok (.iconst 1, 1) := dk_4 (dk_at dksX0_letter_1 11 rfl rfl)
theorem dX0_letter_36 : decode cX0_letter 36 = .ok (.isub, 1) := dk_100 (dk_at dksX0_letter_1 12 rfl rfl)
theorem dX0_letter_37 : decode cX0_letter 37 = .ok (.i2l, 1) := dk_133 (dk_at dksX0_letter_1 13 rfl rfl)
theorem dX0_letter_38 : decode cX0_letter 38 = .ok (.invokestatic 124, 3) := dk_184 0 124 (dk_at dksX0_letter_1 14 rfl rfl)
theorem dX0_letter_41 : decode cX0_letter 41 = .ok (.ifCond .ne 5, 3) := dk_154 0 5 (dk_at dksX0_letter_1 17 rfl rfl)
theorem dX0_letter_44 : decode cX0_letter 44 = .ok (.iconst (-1), 1) := dk_2 (dk_at dksX0_letter_1 20 rfl rfl)
theorem dX0_letter_45 : decode cX0_letter 45 = .ok (.ireturn, 1) := dk_172 (dk_at dksX0_letter_1 21 rfl rfl)
theorem dX0_letter_46 : decode cX0_letter 46 = .ok (.aload_n 0, 1) := dk_42 (dk_at dksX0_letter_1 22 rfl rfl)
theorem dX0_letter_47 : decode cX0_letter 47 = .ok (.iload_n 1, 1) := dk_27 (dk_at dksX0_letter_1 23 rfl rfl)
theorem dX0_letter_48 : decode cX0_letter 48 = .ok (.invokevirtual 229, 3) := dk_182 0 229 (dk_at dksX0_letter_2 0 rfl rfl)
theorem dX0_letter_51 : decode cX0_letter 51 = .ok (.iload_n 2, 1) := dk_28 (dk_at dksX0_letter_2 3 rfl rfl)
theorem dX0_letter_52 : decode cX0_letter 52 = .ok (.invokevirtual 132, 3) := dk_182 0 132 (dk_at dksX0_letter_2 4 rfl rfl)
theorem dX0_letter_55 : decode cX0_letter 55 = .ok (.checkcast 136, 3) := dk_192 0 136 (dk_at dksX0_letter_2 7 rfl rfl)
theorem dX0_letter_58 : decode cX0_letter 58 = .ok (.getfield 138, 3) := dk_180 0 138 (dk_at dksX0_letter_2 10 rfl rfl)
theorem dX0_letter_61 : decode cX0_letter 61 = .ok (.astore 4, 2) := dk_58 4 (dk_at dksX0_letter_2 13 rfl rfl)
theorem dX0_letter_63 : decode cX0_letter 63 = .ok (.iload_n 3, 1) := dk_29 (dk_at dksX0_letter_2 15 rfl rfl)
theorem dX0_letter_64 : decode cX0_letter 64 = .ok (.aload 4, 2) := dk_25 4 (dk_at dksX0_letter_2 16 rfl rfl)
theorem dX0_letter_66 : decode cX0_letter 66 = .ok (.invokevirtual 142, 3) := dk_182 0 142 (dk_at dksX0_letter_2 18 rfl rfl)
theorem dX0_letter_69 : decode cX0_letter 69 = .ok (.if_icmp .ge 17, 3) := dk_162 0 17 (dk_at dksX0_letter_2 21 rfl rfl)
theorem dX0_letter_72 : decode cX0_letter 72 = .ok (.aload 4, 2) := dk_25 4 (dk_at dksX0_letter_3 0 rfl rfl)
theorem dX0_letter_74 : decode cX0_letter 74 = .ok (.iload_n 3, 1) := dk_29 (dk_at dksX0_letter_3 2 rfl rfl)
theorem dX0_letter_75 : decode cX0_letter 75 = .ok (.invokevirtual 145, 3) := dk_182 0 145 (dk_at dksX0_letter_3 3 rfl rfl)
theorem dX0_letter_78 : decode cX0_letter 78 = .ok (.bipush 97, 2) := dk_16 97 (dk_at dksX0_letter_3 6 rfl rfl)
theorem dX0_letter_80 : decode cX0_letter 80 = .ok (.isub, 1) := dk_100 (dk_at dksX0_letter_3 8 rfl rfl)
theorem dX0_letter_81 : decode cX0_letter 81 = .ok (.iconst 1, 1) := dk_4 (dk_at dksX0_letter_3 9 rfl rfl)
theorem dX0_letter_82 : decode cX0_letter 82 = .ok (.iadd, 1) := dk_96 (dk_at dksX0_letter_3 10 rfl rfl)
theorem dX0_letter_83 : decode cX0_letter 83 = .ok (.goto 4, 3) := dk_167 0 4 (dk_at dksX0_letter_3 11 rfl rfl)
theorem dX0_letter_86 : decode cX0_letter 86 = .ok (.iconst 0, 1) := dk_3 (dk_at dksX0_letter_3 14 rfl rfl)
theorem dX0_letter_87 : decode cX0_letter 87 = .ok (.ireturn, 1) := dk_172 (dk_at dksX0_letter_3 15 rfl rfl)
def dkwX0_names_2 : List UInt8 := [180, 0, 20, 180, 0, 206, 176]
abbrev dktX0_names_2 : List UInt8 := dkwX0_names_2 ++ []
def dkwX0_names_1 : List UInt8 := [180, 0, 200, 167, 0, 25, 27, 5, 160, 0, 13, 42, 180, 0, 20, 180, 0, 203, 167, 0, 10, 42]
abbrev dktX0_names_1 : List UInt8 := dkwX0_names_1 ++ dktX0_names_2
def dkwX0_names_0 : List UInt8 := [27, 154, 0, 13, 42, 180, 0, 20, 180, 0, 197, 167, 0, 40, 27, 4, 160, 0, 13, 42, 180, 0, 20]
abbrev dktX0_names_0 : List UInt8 := dkwX0_names_0 ++ dktX0_names_1
theorem dksX0_names_0 : cX0_names.data.toList.drop 0 = dktX0_names_0 := by decide +kernel
theorem dksX0_names_1 : cX0_names.data.toList.drop 23 = dktX0_names_1 := dk_seg dksX0_names_0 23 rfl rfl
theorem dksX0_names_2 : cX0_names.data.toList.drop 45 = dktX0_names_2 := dk_seg dksX0_names_1 22 rfl rfl
theorem dX0_names_0 : decode cX0_names 0 = .ok (.iload_n 1, 1) := dk_27 (dk_at dksX0_names_0 0 rfl rfl)
theorem dX0_names_1 : decode cX0_names 1 = .ok (.ifCond .ne 13, 3) := dk_154 0 13 (dk_at dksX0_names_0 1 rfl rfl)
theorem dX0_names_4 : decode cX0_names 4 = .ok (.aload_n 0, 1) := dk_42 (dk_at dksX0_names_0 4 rfl rfl)
theorem dX0_names_5 : decode cX0_names 5 = .ok (.getfield 20, 3) := dk_180 0 20 (dk_at dksX0_names_0 5 rfl rfl)
theorem dX0_names_8 : decode cX0_names 8 = .ok (.getfield 197, 3) := dk_180 0 197 (dk_at dksX0_names_0 8 rfl rfl)
theorem dX0_names_11 : decode cX0_names 11 = .ok (.goto 40, 3) := dk_167 0 40 (dk_at dksX0_names_0 11 rfl rfl)
theorem dX0_names_14 : decode cX0_names 14 = .ok (.iload_n 1, 1) := dk_27 (dk_at dksX0_names_0 14 rfl rfl)
theorem dX0_names_15 : decode cX0_names 15 = .ok (.iconst 1, 1) := dk_4 (dk_at dksX0_names_0 15 rfl rfl)
theorem dX0_names_16 : decode cX0_names 16 = .ok (.if_icmp .ne 13, 3) := dk_160 0 13 (dk_at dksX0_names_0 16 rfl rfl)
theorem dX0_names_19 : decode cX0_names 19 = .ok (.aload_n 0, 1) := dk_42 (dk_at dksX0_names_0 19 rfl rfl)
theorem dX0_names_20 : decode cX0_names 20 = .ok (.getfield 20, 3) := dk_180 0 20 (dk_at dksX0_names_0 20 rfl rfl)
theorem dX0_names_23 : decode cX0_names 23 = .ok (.getfield 200, 3) := dk_180 0 200 (dk_at dksX0_names_1 0 rfl rfl)
theorem dX0_names_26 : decode cX0_names 26 = .ok (.goto 25, 3) := dk_167 0 25 (dk_at dksX0_names_1 3 rfl rfl)
theorem dX0_names_29 : decode cX0_names 29 = .ok (.iload_n 1, 1) := dk_27 (dk_at dksX0_names_1 6 rfl rfl)
theorem dX0_names_30 : decode cX0_names 30 = .ok (.iconst 2, 1) := dk_5 (dk_at dksX0_names_1 7 rfl rfl)
theorem dX0_names_31 : decode cX0_names 31 = .ok (.if_icmp .ne 13, 3) := dk_160 0 13 (dk_at dksX0_names_1 8 rfl rfl)
theorem dX0_names_34 : decode cX0_names 34 = .ok (.aload_n 0, 1) := dk_42 (dk_at dksX0_names_1 11 rfl rfl)
theorem dX0_names_35 : decode cX0_names 35 = .ok (.getfield 20, 3) := dk_180 0 20 (dk_at dksX0_names_1 12 rfl rfl)
theorem dX0_names_38 : decode cX0_names 38 = .ok (.getfield 203, 3) := dk_180 0 203 (dk_at dksX0_names_1 15 rfl rfl)
theorem dX0_names_41 : decode cX0_names 41 = .ok (.goto 10, 3) := dk_167 0 10 (dk_at dksX0_names_1 18 rfl rfl)
theorem dX0_names_44 : decode cX0_names 44 = .ok (.aload_n 0, 1) := dk_42 (dk_at dksX0_names_1 21 rfl rfl)
theorem dX0_names_45 : decode cX0_names 45 = .ok (.getfield 20, 3) := dk_180 0 20 (dk_at dksX0_names_2 0 rfl rfl)
theorem dX0_names_48 : decode cX0_names 48 = .ok (.getfield 206, 3) := dk_180 0 206 (dk_at dksX0_names_2 3 rfl rfl)
theorem dX0_names_51 : decode cX0_names 51 = .ok (.areturn, 1) := dk_176 (dk_at dksX0_names_2 6 rfl rfl)
def dkwX0_word_5 : List UInt8 := [153, 0, 7, 4, 167, 0, 4, 3, 172, 21, 4, 172, 2, 172]
abbrev dktX0_word_5 : List UInt8 := dkwX0_word_5 ++ []
def dkwX0_word_4 : List UInt8 := [45, 180, 1, 1, 172, 45, 180, 1, 4, 172, 45, 180, 1, 7, 172, 45, 180, 1, 10, 172, 45, 180, 1, 13]
abbrev dktX0_word_4 : List UInt8 := dkwX0_word_4 ++ dktX0_word_5
def dkwX0_word_3 : List UInt8 := [170, 0, 0, 0, 0, 0, 0, 76, 0, 0, 0, 0, 0, 0, 0, 5, 0, 0, 0, 40, 0, 0, 0, 45, 0, 0, 0, 50, 0, 0, 0, 55, 0, 0, 0, 60, 0, 0, 0, 73]
abbrev dktX0_word_3 : List UInt8 := dkwX0_word_3 ++ dktX0_word_4
def dkwX0_word_2 : List UInt8 := [180, 0, 243, 45, 182, 0, 253, 153, 0, 6, 132, 4, 1, 132, 5, 1, 167, 255, 210, 28]
abbrev dktX0_word_2 : List UInt8 := dkwX0_word_2 ++ dktX0_word_3
def dkwX0_word_1 : List UInt8 := [180, 0, 206, 182, 0, 128, 162, 0, 37, 42, 180, 0, 20, 180, 0, 206, 21, 5, 182, 0, 132, 192, 0, 237]
abbrev dktX0_word_1 : List UInt8 := dkwX0_word_1 ++ dktX0_word_2
def dkwX0_word_0 : List UInt8 := [42, 27, 182, 0, 249, 78, 45, 199, 0, 5, 2, 172, 3, 54, 4, 3, 54, 5, 21, 5, 42, 180, 0, 20]
abbrev dktX0_word_0 : List UInt8 := dkwX0_word_0 ++ dktX0_word_1
theorem dksX0_word_0 : cX0_word.data.toList.drop 0 = dktX0_word_0 := by decide +kernel
theorem dksX0_word_1 : cX0_word.data.toList.drop 24 = dktX0_word_1 := dk_seg dksX0_word_0 24 rfl rfl
theorem dksX0_word_2 : cX0_word.data.toList.drop 48 = dktX0_word_2 := dk_seg dksX0_word_1 24 rfl rfl
theorem dksX0_word_3 : cX0_word.data.toList.drop 68 = dktX0_word_3 := dk_seg dksX0_word_2 20 rfl rfl
theorem dksX0_word_4 : cX0_word.data.toList.drop 108 = dktX0_word_4 := dk_seg dksX0_word_3 40 rfl rfl
theorem dksX0_word_5 : cX0_word.data.toList.drop 132 = dktX0_word_5 := dk_seg dksX0_word_4 24 rfl rfl
theorem dX0_word_0 : decode cX0_word 0 = .ok (.aload_n 0, 1) := dk_42 (dk_at dksX0_word_0 0 rfl rfl)
theorem dX0_word_1 : decode cX0_word 1 = .ok (.iload_n 1, 1) := dk_27 (dk_at dksX0_word_0 1 rfl rfl)
theorem dX0_word_2 : decode cX0_word 2 = .ok (.invokevirtual 249, 3) := dk_182 0 249 (dk_at dksX0_word_0 2 rfl rfl)
theorem dX0_word_5 : decode cX0_word 5 = .ok (.astore_n 3, 1) := dk_78 (dk_at dksX0_word_0 5 rfl rfl)
theorem dX0_word_6 : decode cX0_word 6 = .ok (.aload_n 3, 1) := dk_45 (dk_at dksX0_word_0 6 rfl rfl)
theorem dX0_word_7 : decode cX0_word 7 = .ok (.ifnonnull 5, 3) := dk_199 0 5 (dk_at dksX0_word_0 7 rfl rfl)
theorem dX0_word_10 : decode cX0_word 10 = .ok (.iconst (-1), 1) := dk_2 (dk_at dksX0_word_0 10 rfl rfl)
theorem dX0_word_11 : decode cX0_word 11 = .ok (.ireturn, 1) := dk_172 (dk_at dksX0_word_0 11 rfl rfl)
theorem dX0_word_12 : decode cX0_word 12 = .ok (.iconst 0, 1) := dk_3 (dk_at dksX0_word_0 12 rfl rfl)
theorem dX0_word_13 : decode cX0_word 13 = .ok (.istore 4, 2) := dk_54 4 (dk_at dksX0_word_0 13 rfl rfl)
theorem dX0_word_15 : decode cX0_word 15 = .ok (.iconst 0, 1) := dk_3 (dk_at dksX0_word_0 15 rfl rfl)
theorem dX0_word_16 : decode cX0_word 16 = .ok (.istore 5, 2) := dk_54 5 (dk_at dksX0_word_0 16 rfl rfl)
theorem dX0_word_18 : decode cX0_word 18 = .ok (.iload 5, 2) := dk_21 5 (dk_at dksX0_word_0 18 rfl rfl)
theorem dX0_word_20 : decode cX0_word 20 = .ok (.aload_n 0, 1) := dk_42 (dk_at dksX0_word_0 20 rfl rfl)
theorem dX0_word_21 : decode cX0_word 21 = .ok (.getfield 20, 3) := dk_180 0 20 (dk_at dksX0_word_0 21 rfl rfl)
theorem dX0_word_24 : decode cX0_word 24 = .ok (.getfield 206, 3) := dk_180 0 206 (dk_at dksX0_word_1 0 rfl rfl)
theorem dX0_word_27 : decode cX0_word 27 = .ok (.invokevirtual 128, 3) := dk_182 0 128 (dk_at dksX0_word_1 3 rfl rfl)
theorem dX0_word_30 : decode cX0_word 30 = .ok (.if_icmp .ge 37, 3) := dk_162 0 37 (dk_at dksX0_word_1 6 rfl rfl)
theorem dX0_word_33 : decode cX0_word 33 = .ok (.aload_n 0, 1) := dk_42 (dk_at dksX0_word_1 9 rfl rfl)
theorem dX0_word_34 : decode cX0_word 34 = .ok (.getfield 20, 3) := dk_180 0 20 (dk_at dksX0_word_1 10 rfl rfl)
theorem dX0_word_37 : decode cX0_word 37 = .ok (.getfield 206, 3) := dk_180 0 206 (dk_at dksX0_word_1 13 rfl rfl)
theorem dX0_word_40 : decode cX0_word 40 = .ok (.iload 5, 2) := dk_21 5 (dk_at dksX0_word_1 16 rfl rfl)
theorem dX0_word_42 : decode cX0_word 42 = .ok (.invokevirtual 132, 3) := dk_182 0 132 (dk_at dksX0_word_1 18 rfl rfl)
theorem dX0_word_45 : decode cX0_word 45 = .ok (.checkcast 237, 3) := dk_192 0 237 (dk_at dksX0_word_1 21 rfl rfl)
theorem dX0_word_48 : decode cX0_word 48 = .ok (.getfield 243, 3) := dk_180 0 243 (dk_at dksX0_word_2 0 rfl rfl)
theorem dX0_word_51 : decode cX0_word 51 = .ok (.aload_n 3, 1) := dk_45 (dk_at dksX0_word_2 3 rfl rfl)
theorem dX0_word_52 : decode cX0_word 52 = .ok (.invokevirtual 253, 3) := dk_182 0 253 (dk_at dksX0_word_2 4 rfl rfl)
theorem dX0_word_55 : decode cX0_word 55 = .ok (.ifCond .eq 6, 3) := dk_153 0 6 (dk_at dksX0_word_2 7 rfl rfl)
theorem dX0_word_58 : decode cX0_word 58 = .ok (.iinc 4 1, 3) := dk_132 4 1 (dk_at dksX0_word_2 10 rfl rfl)
theorem dX0_word_61 : decode cX0_word 61 = .ok (.iinc 5 1, 3) := dk_132 5 1 (dk_at dksX0_word_2 13 rfl rfl)
theorem dX0_word_64 : decode cX0_word 64 = .ok (.goto (-46), 3) := dk_167 255 210 (dk_at dksX0_word_2 16 rfl rfl)
theorem dX0_word_67 : decode cX0_word 67 = .ok (.iload_n 2, 1) := dk_28 (dk_at dksX0_word_2 19 rfl rfl)
theorem dX0_word_68 : decode cX0_word 68 = .ok (.tableswitch 76 0 5 #[40, 45, 50, 55, 60, 73], 40) := by decide +kernel
theorem dX0_word_108 : decode cX0_word 108 = .ok (.aload_n 3, 1) := dk_45 (dk_at dksX0_word_4 0 rfl rfl)
theorem dX0_word_109 : decode cX0_word 109 = .ok (.getfield 257, 3) := dk_180 1 1 (dk_at dksX0_word_4 1 rfl rfl)
theorem dX0_word_112 : decode cX0_word 112 = .ok (.ireturn, 1) := dk_172 (dk_at dksX0_word_4 4 rfl rfl)
theorem dX0_word_113 : decode cX0_word 113 = .ok (.aload_n 3, 1) := dk_45 (dk_at dksX0_word_4 5 rfl rfl)
theorem dX0_word_114 : decode cX0_word 114 = .ok (.getfield 260, 3) := dk_180 1 4 (dk_at dksX0_word_4 6 rfl rfl)
theorem dX0_word_117 : decode cX0_word 117 = .ok (.ireturn, 1) := dk_172 (dk_at dksX0_word_4 9 rfl rfl)
theorem dX0_word_118 : decode cX0_word 118 = .ok (.aload_n 3, 1) := dk_45 (dk_at dksX0_word_4 10 rfl rfl)
theorem dX0_word_119 : decode cX0_word 119 = .ok (.getfield 263, 3) := dk_180 1 7 (dk_at dksX0_word_4 11 rfl rfl)
theorem dX0_word_122 : decode cX0_word 122 = .ok (.ireturn, 1) := dk_172 (dk_at dksX0_word_4 14 rfl rfl)
theorem dX0_word_123 : decode cX0_word 123 = .ok (.aload_n 3, 1) := dk_45 (dk_at dksX0_word_4 15 rfl rfl)
theorem dX0_word_124 : decode cX0_word 124 = .ok (.getfield 266, 3) := dk_180 1 10 (dk_at dksX0_word_4 16 rfl rfl)
theorem dX0_word_127 : decode cX0_word 127 = .ok (.ireturn, 1) := dk_172 (dk_at dksX0_word_4 19 rfl rfl)
theorem dX0_word_128 : decode cX0_word 128 = .ok (.aload_n 3, 1) := dk_45 (dk_at dksX0_word_4 20 rfl rfl)
theorem dX0_word_129 : decode cX0_word 129 = .ok (.getfield 269, 3) := dk_180 1 13 (dk_at dksX0_word_4 21 rfl rfl)
theorem dX0_word_132 : decode cX0_word 132 = .ok (.ifCond .eq 7, 3) := dk_153 0 7 (dk_at dksX0_word_5 0 rfl rfl)
theorem dX0_word_135 : decode cX0_word 135 = .ok (.iconst 1, 1) := dk_4 (dk_at dksX0_word_5 3 rfl rfl)
theorem dX0_word_136 : decode cX0_word 136 = .ok (.goto 4, 3) := dk_167 0 4 (dk_at dksX0_word_5 4 rfl rfl)
theorem dX0_word_139 : decode cX0_word 139 = .ok (.iconst 0, 1) := dk_3 (dk_at dksX0_word_5 7 rfl rfl)
theorem dX0_word_140 : decode cX0_word 140 = .ok (.ireturn, 1) := dk_172 (dk_at dksX0_word_5 8 rfl rfl)
theorem dX0_word_141 : decode cX0_word 141 = .ok (.iload 4, 2) := dk_21 4 (dk_at dksX0_word_5 9 rfl rfl)
theorem dX0_word_143 : decode cX0_word 143 = .ok (.ireturn, 1) := dk_172 (dk_at dksX0_word_5 11 rfl rfl)
theorem dX0_word_144 : decode cX0_word 144 = .ok (.iconst (-1), 1) := dk_2 (dk_at dksX0_word_5 12 rfl rfl)
theorem dX0_word_145 : decode cX0_word 145 = .ok (.ireturn, 1) := dk_172 (dk_at dksX0_word_5 13 rfl rfl)
def dkwX0_wordOf_1 : List UInt8 := [180, 0, 20, 180, 0, 197, 27, 182, 0, 132, 192, 0, 233, 167, 0, 4, 1, 176]
abbrev dktX0_wordOf_1 : List UInt8 := dkwX0_wordOf_1 ++ []
def dkwX0_wordOf_0 : List UInt8 := [27, 133, 9, 42, 180, 0, 20, 180, 0, 197, 182, 0, 128, 4, 100, 133, 184, 0, 124, 153, 0, 20, 42]
abbrev dktX0_wordOf_0 : List UInt8 := dkwX0_wordOf_0 ++ dktX0_wordOf_1
theorem dksX0_wordOf_0 : cX0_wordOf.data.toList.drop 0 = dktX0_wordOf_0 := by decide +kernel
theorem dksX0_wordOf_1 : cX0_wordOf.data.toList.drop 23 = dktX0_wordOf_1 := dk_seg dksX0_wordOf_0 23 rfl rfl
theorem dX0_wordOf_0 : decode cX0_wordOf 0 = .ok (.iload_n 1, 1) := dk_27 (dk_at dksX0_wordOf_0 0 rfl rfl)
theorem dX0_wordOf_1 : decode cX0_wordOf 1 = .ok (.i2l, 1) := dk_133 (dk_at dksX0_wordOf_0 1 rfl rfl)
theorem dX0_wordOf_2 : decode cX0_wordOf 2 = .ok (.lconst 0, 1) := dk_9 (dk_at dksX0_wordOf_0 2 rfl rfl)
theorem dX0_wordOf_3 : decode cX0_wordOf 3 = .ok (.aload_n 0, 1) := dk_42 (dk_at dksX0_wordOf_0 3 rfl rfl)
theorem dX0_wordOf_4 : decode cX0_wordOf 4 = .ok (.getfield 20, 3) := dk_180 0 20 (dk_at dksX0_wordOf_0 4 rfl rfl)
theorem dX0_wordOf_7 : decode cX0_wordOf 7 = .ok (.getfield 197, 3) := dk_180 0 197 (dk_at dksX0_wordOf_0 7 rfl rfl)
theorem dX0_wordOf_10 : decode cX0_wordOf 10 = .ok (.invokevirtual 128, 3) := dk_182 0 128 (dk_at dksX0_wordOf_0 10 rfl rfl)
theorem dX0_wordOf_13 : decode cX0_wordOf 13 = .ok (.iconst 1, 1) := dk_4 (dk_at dksX0_wordOf_0 13 rfl rfl)
theorem dX0_wordOf_14 : decode cX0_wordOf 14 = .ok (.isub, 1) := dk_100 (dk_at dksX0_wordOf_0 14 rfl rfl)
theorem dX0_wordOf_15 : decode cX0_wordOf 15 = .ok (.i2l, 1) := dk_133 (dk_at dksX0_wordOf_0 15 rfl rfl)
theorem dX0_wordOf_16 : decode cX0_wordOf 16 = .ok (.invokestatic 124, 3) := dk_184 0 124 (dk_at dksX0_wordOf_0 16 rfl rfl)
theorem dX0_wordOf_19 : decode cX0_wordOf 19 = .ok (.ifCond .eq 20, 3) := dk_153 0 20 (dk_at dksX0_wordOf_0 19 rfl rfl)
theorem dX0_wordOf_22 : decode cX0_wordOf 22 = .ok (.aload_n 0, 1) := dk_42 (dk_at dksX0_wordOf_0 22 rfl rfl)
theorem dX0_wordOf_23 : decode cX0_wordOf 23 = .ok (.getfield 20, 3) := dk_180 0 20 (dk_at dksX0_wordOf_1 0 rfl rfl)
theorem dX0_wordOf_26 : decode cX0_wordOf 26 = .ok (.getfield 197, 3) := dk_180 0 197 (dk_at dksX0_wordOf_1 3 rfl rfl)
theorem dX0_wordOf_29 : decode cX0_wordOf 29 = .ok (.iload_n 1, 1) := dk_27 (dk_at dksX0_wordOf_1 6 rfl rfl)
theorem dX0_wordOf_30 : decode cX0_wordOf 30 = .ok (.invokevirtual 132, 3) := dk_182 0 132 (dk_at dksX0_wordOf_1 7 rfl rfl)
theorem dX0_wordOf_33 : decode cX0_wordOf 33 = .ok (.checkcast 233, 3) := dk_192 0 233 (dk_at dksX0_wordOf_1 10 rfl rfl)
theorem dX0_wordOf_36 : decode cX0_wordOf 36 = .ok (.goto 4, 3) := dk_167 0 4 (dk_at dksX0_wordOf_1 13 rfl rfl)
theorem dX0_wordOf_39 : decode cX0_wordOf 39 = .ok (.aconst_null, 1) := dk_1 (dk_at dksX0_wordOf_1 16 rfl rfl)
theorem dX0_wordOf_40 : decode cX0_wordOf 40 = .ok (.areturn, 1) := dk_176 (dk_at dksX0_wordOf_1 17 rfl rfl)
def dkwX0_child_4 : List UInt8 := [45, 180, 1, 25, 180, 1, 29, 172, 45, 180, 1, 34, 172, 45, 180, 1, 37, 172, 21, 4, 172, 2, 172]
abbrev dktX0_child_4 : List UInt8 := dkwX0_child_4 ++ []
def dkwX0_child_3 : List UInt8 := [170, 0, 0, 0, 0, 51, 0, 0, 0, 0, 0, 0, 0, 3, 0, 0, 0, 30, 0, 0, 0, 38, 0, 0, 0, 43, 0, 0, 0, 48]
abbrev dktX0_child_3 : List UInt8 := dkwX0_child_3 ++ dktX0_child_4
def dkwX0_child_2 : List UInt8 := [192, 0, 237, 45, 182, 1, 21, 153, 0, 6, 132, 4, 1, 132, 5, 1, 167, 255, 212, 28]
abbrev dktX0_child_2 : List UInt8 := dkwX0_child_2 ++ dktX0_child_3
def dkwX0_child_1 : List UInt8 := [180, 0, 206, 182, 0, 128, 162, 0, 35, 42, 42, 180, 0, 20, 180, 0, 206, 21, 5, 182, 0, 132]
abbrev dktX0_child_1 : List UInt8 := dkwX0_child_1 ++ dktX0_child_2
def dkwX0_child_0 : List UInt8 := [42, 27, 182, 1, 17, 78, 45, 199, 0, 5, 2, 172, 3, 54, 4, 3, 54, 5, 21, 5, 42, 180, 0, 20]
abbrev dktX0_child_0 : List UInt8 := dkwX0_child_0 ++ dktX0_child_1
theorem dksX0_child_0 : cX0_child.data.toList.drop 0 = dktX0_child_0 := by decide +kernel
theorem dksX0_child_1 : cX0_child.data.toList.drop 24 = dktX0_child_1 := dk_seg dksX0_child_0 24 rfl rfl
theorem dksX0_child_2 : cX0_child.data.toList.drop 46 = dktX0_child_2 := dk_seg dksX0_child_1 22 rfl rfl
theorem dksX0_child_3 : cX0_child.data.toList.drop 66 = dktX0_child_3 := dk_seg dksX0_child_2 20 rfl rfl
theorem dksX0_child_4 : cX0_child.data.toList.drop 96 = dktX0_child_4 := dk_seg dksX0_child_3 30 rfl rfl
theorem dX0_child_0 : decode cX0_child 0 = .ok (.aload_n 0, 1) := dk_42 (dk_at dksX0_child_0 0 rfl rfl)
theorem dX0_child_1 : decode cX0_child 1 = .ok (.iload_n 1, 1) := dk_27 (dk_at dksX0_child_0 1 rfl rfl)
theorem dX0_child_2 : decode cX0_child 2 = .ok (.invokevirtual 273, 3) := dk_182 1 17 (dk_at dksX0_child_0 2 rfl rfl)
theorem dX0_child_5 : decode cX0_child 5 = .ok (.astore_n 3, 1) := dk_78 (dk_at dksX0_child_0 5 rfl rfl)
theorem dX0_child_6 : decode cX0_child 6 = .ok (.aload_n 3, 1) := dk_45 (dk_at dksX0_child_0 6 rfl rfl)
theorem dX0_child_7 : decode cX0_child 7 = .ok (.ifnonnull 5, 3) := dk_199 0 5 (dk_at dksX0_child_0 7 rfl rfl)
theorem dX0_child_10 : decode cX0_child 10 = .ok (.iconst (-1), 1) := dk_2 (dk_at dksX0_child_0 10 rfl rfl)
theorem dX0_child_11 : decode cX0_child 11 = .ok (.ireturn, 1) := dk_172 (dk_at dksX0_child_0 11 rfl rfl)
theorem dX0_child_12 : decode cX0_child 12 = .ok (.iconst 0, 1) := dk_3 (dk_at dksX0_child_0 12 rfl rfl)
theorem dX0_child_13 : decode cX0_child 13 = .ok (.istore 4, 2) := dk_54 4 (dk_at dksX0_child_0 13 rfl rfl)
theorem dX0_child_15 : decode cX0_child 15 = .ok (.iconst 0, 1) := dk_3 (dk_at dksX0_child_0 15 rfl rfl)
theorem dX0_child_16 : decode cX0_child 16 = .ok (.istore 5, 2) := dk_54 5 (dk_at dksX0_child_0 16 rfl rfl)
theorem dX0_child_18 : decode cX0_child 18 = .ok (.iload 5, 2) := dk_21 5 (dk_at dksX0_child_0 18 rfl rfl)
theorem dX0_child_20 : decode cX0_child 20 = .ok (.aload_n 0, 1) := dk_42 (dk_at dksX0_child_0 20 rfl rfl)
theorem dX0_child_21 : decode cX0_child 21 = .ok (.getfield 20, 3) := dk_180 0 20 (dk_at dksX0_child_0 21 rfl rfl)
theorem dX0_child_24 : decode cX0_child 24 = .ok (.getfield 206, 3) := dk_180 0 206 (dk_at dksX0_child_1 0 rfl rfl)
theorem dX0_child_27 : decode cX0_child 27 = .ok (.invokevirtual 128, 3) := dk_182 0 128 (dk_at dksX0_child_1 3 rfl rfl)
theorem dX0_child_30 : decode cX0_child 30 = .ok (.if_icmp .ge 35, 3) := dk_162 0 35 (dk_at dksX0_child_1 6 rfl rfl)
theorem dX0_child_33 : decode cX0_child 33 = .ok (.aload_n 0, 1) := dk_42 (dk_at dksX0_child_1 9 rfl rfl)
theorem dX0_child_34 : decode cX0_child 34 = .ok (.aload_n 0, 1) := dk_42 (dk_at dksX0_child_1 10 rfl rfl)
theorem dX0_child_35 : decode cX0_child 35 = .ok (.getfield 20, 3) := dk_180 0 20 (dk_at dksX0_child_1 11 rfl rfl)
theorem dX0_child_38 : decode cX0_child 38 = .ok (.getfield 206, 3) := dk_180 0 206 (dk_at dksX0_child_1 14 rfl rfl)
theorem dX0_child_41 : decode cX0_child 41 = .ok (.iload 5, 2) := dk_21 5 (dk_at dksX0_child_1 17 rfl rfl)
theorem dX0_child_43 : decode cX0_child 43 = .ok (.invokevirtual 132, 3) := dk_182 0 132 (dk_at dksX0_child_1 19 rfl rfl)
theorem dX0_child_46 : decode cX0_child 46 = .ok (.checkcast 237, 3) := dk_192 0 237 (dk_at dksX0_child_2 0 rfl rfl)
theorem dX0_child_49 : decode cX0_child 49 = .ok (.aload_n 3, 1) := dk_45 (dk_at dksX0_child_2 3 rfl rfl)
theorem dX0_child_50 : decode cX0_child 50 = .ok (.invokevirtual 277, 3) := dk_182 1 21 (dk_at dksX0_child_2 4 rfl rfl)
theorem dX0_child_53 : decode cX0_child 53 = .ok (.ifCond .eq 6, 3) := dk_153 0 6 (dk_at dksX0_child_2 7 rfl rfl)
theorem dX0_child_56 : decode cX0_child 56 = .ok (.iinc 4 1, 3) := dk_132 4 1 (dk_at dksX0_child_2 10 rfl rfl)
theorem dX0_child_59 : decode cX0_child 59 = .ok (.iinc 5 1, 3) := dk_132 5 1 (dk_at dksX0_child_2 13 rfl rfl)
theorem dX0_child_62 : decode cX0_child 62 = .ok (.goto (-44), 3) := dk_167 255 212 (dk_at dksX0_child_2 16 rfl rfl)
theorem dX0_child_65 : decode cX0_child 65 = .ok (.iload_n 2, 1) := dk_28 (dk_at dksX0_child_2 19 rfl rfl)
theorem dX0_child_66 : decode cX0_child 66 = .ok (.tableswitch 51 0 3 #[30, 38, 43, 48], 30) := by decide +kernel
theorem dX0_child_96 : decode cX0_child 96 = .ok (.aload_n 3, 1) := dk_45 (dk_at dksX0_child_4 0 rfl rfl)
theorem dX0_child_97 : decode cX0_child 97 = .ok (.getfield 281, 3) := dk_180 1 25 (dk_at dksX0_child_4 1 rfl rfl)
theorem dX0_child_100 : decode cX0_child 100 = .ok (.getfield 285, 3) := dk_180 1 29 (dk_at dksX0_child_4 4 rfl rfl)
theorem dX0_child_103 : decode cX0_child 103 = .ok (.ireturn, 1) := dk_172 (dk_at dksX0_child_4 7 rfl rfl)
theorem dX0_child_104 : decode cX0_child 104 = .ok (.aload_n 3, 1) := dk_45 (dk_at dksX0_child_4 8 rfl rfl)
theorem dX0_child_105 : decode cX0_child 105 = .ok (.getfield 290, 3) := dk_180 1 34 (dk_at dksX0_child_4 9 rfl rfl)
theorem dX0_child_108 : decode cX0_child 108 = .ok (.ireturn, 1) := dk_172 (dk_at dksX0_child_4 12 rfl rfl)
theorem dX0_child_109 : decode cX0_child 109 = .ok (.aload_n 3, 1) := dk_45 (dk_at dksX0_child_4 13 rfl rfl)
theorem dX0_child_110 : decode cX0_child 110 = .ok (.getfield 293, 3) := dk_180 1 37 (dk_at dksX0_child_4 14 rfl rfl)
theorem dX0_child_113 : decode cX0_child 113 = .ok (.ireturn, 1) := dk_172 (dk_at dksX0_child_4 17 rfl rfl)
theorem dX0_child_114 : decode cX0_child 114 = .ok (.iload 4, 2) := dk_21 4 (dk_at dksX0_child_4 18 rfl rfl)
theorem dX0_child_116 : decode cX0_child 116 = .ok (.ireturn, 1) := dk_172 (dk_at dksX0_child_4 20 rfl rfl)
theorem dX0_child_117 : decode cX0_child 117 = .ok (.iconst (-1), 1) := dk_2 (dk_at dksX0_child_4 21 rfl rfl)
theorem dX0_child_118 : decode cX0_child 118 = .ok (.ireturn, 1) := dk_172 (dk_at dksX0_child_4 22 rfl rfl)
def dkwX0_childOf_1 : List UInt8 := [180, 0, 20, 180, 0, 203, 27, 182, 0, 132, 192, 0, 235, 167, 0, 4, 1, 176]
abbrev dktX0_childOf_1 : List UInt8 := dkwX0_childOf_1 ++ []
def dkwX0_childOf_0 : List UInt8 := [27, 133, 9, 42, 180, 0, 20, 180, 0, 203, 182, 0, 128, 4, 100, 133, 184, 0, 124, 153, 0, 20, 42]
abbrev dktX0_childOf_0 : List UInt8 := dkwX0_childOf_0 ++ dktX0_childOf_1
theorem dksX0_childOf_0 : cX0_childOf.data.toList.drop 0 = dktX0_childOf_0 := by decide +kernel
theorem dksX0_childOf_1 : cX0_childOf.data.toList.drop 23 = dktX0_childOf_1 := dk_seg dksX0_childOf_0 23 rfl rfl
theorem dX0_childOf_0 : decode cX0_childOf 0 = .ok (.iload_n 1, 1) := dk_27 (dk_at dksX0_childOf_0 0 rfl rfl)
theorem dX0_childOf_1 : decode cX0_childOf 1 = .ok (.i2l, 1) := dk_133 (dk_at dksX0_childOf_0 1 rfl rfl)
theorem dX0_childOf_2 : decode cX0_childOf 2 = .ok (.lconst 0, 1) := dk_9 (dk_at dksX0_childOf_0 2 rfl rfl)
theorem dX0_childOf_3 : decode cX0_childOf 3 = .ok (.aload_n 0, 1) := dk_42 (dk_at dksX0_childOf_0 3 rfl rfl)
theorem dX0_childOf_4 : decode cX0_childOf 4 = .ok (.getfield 20, 3) := dk_180 0 20 (dk_at dksX0_childOf_0 4 rfl rfl)
theorem dX0_childOf_7 : decode cX0_childOf 7 = .ok (.getfield 203, 3) := dk_180 0 203 (dk_at dksX0_childOf_0 7 rfl rfl)
theorem dX0_childOf_10 : decode cX0_childOf 10 = .ok (.invokevirtual 128, 3) := dk_182 0 128 (dk_at dksX0_childOf_0 10 rfl rfl)
theorem dX0_childOf_13 : decode cX0_childOf 13 = .ok (.iconst 1, 1) := dk_4 (dk_at dksX0_childOf_0 13 rfl rfl)
theorem dX0_childOf_14 : decode cX0_childOf 14 = .ok (.isub, 1) := dk_100 (dk_at dksX0_childOf_0 14 rfl rfl)
theorem dX0_childOf_15 : decode cX0_childOf 15 = .ok (.i2l, 1) := dk_133 (dk_at dksX0_childOf_0 15 rfl rfl)
theorem dX0_childOf_16 : decode cX0_childOf 16 = .ok (.invokestatic 124, 3) := dk_184 0 124 (dk_at dksX0_childOf_0 16 rfl rfl)
theorem dX0_childOf_19 : decode cX0_childOf 19 = .ok (.ifCond .eq 20, 3) := dk_153 0 20 (dk_at dksX0_childOf_0 19 rfl rfl)
theorem dX0_childOf_22 : decode cX0_childOf 22 = .ok (.aload_n 0, 1) := dk_42 (dk_at dksX0_childOf_0 22 rfl rfl)
theorem dX0_childOf_23 : decode cX0_childOf 23 = .ok (.getfield 20, 3) := dk_180 0 20 (dk_at dksX0_childOf_1 0 rfl rfl)
theorem dX0_childOf_26 : decode cX0_childOf 26 = .ok (.getfield 203, 3) := dk_180 0 203 (dk_at dksX0_childOf_1 3 rfl rfl)
theorem dX0_childOf_29 : decode cX0_childOf 29 = .ok (.iload_n 1, 1) := dk_27 (dk_at dksX0_childOf_1 6 rfl rfl)
theorem dX0_childOf_30 : decode cX0_childOf 30 = .ok (.invokevirtual 132, 3) := dk_182 0 132 (dk_at dksX0_childOf_1 7 rfl rfl)
theorem dX0_childOf_33 : decode cX0_childOf 33 = .ok (.checkcast 235, 3) := dk_192 0 235 (dk_at dksX0_childOf_1 10 rfl rfl)
theorem dX0_childOf_36 : decode cX0_childOf 36 = .ok (.goto 4, 3) := dk_167 0 4 (dk_at dksX0_childOf_1 13 rfl rfl)
theorem dX0_childOf_39 : decode cX0_childOf 39 = .ok (.aconst_null, 1) := dk_1 (dk_at dksX0_childOf_1 16 rfl rfl)
theorem dX0_childOf_40 : decode cX0_childOf 40 = .ok (.areturn, 1) := dk_176 (dk_at dksX0_childOf_1 17 rfl rfl)
def dkwX0_stands_1 : List UInt8 := [154, 0, 7, 4, 167, 0, 4, 3, 172]
abbrev dktX0_stands_1 : List UInt8 := dkwX0_stands_1 ++ []
def dkwX0_stands_0 : List UInt8 := [43, 180, 0, 243, 182, 0, 246, 153, 0, 22, 42, 180, 0, 44, 44, 43, 182, 1, 83, 180, 1, 87]
abbrev dktX0_stands_0 : List UInt8 := dkwX0_stands_0 ++ dktX0_stands_1
theorem dksX0_stands_0 : cX0_stands.data.toList.drop 0 = dktX0_stands_0 := by decide +kernel
theorem dksX0_stands_1 : cX0_stands.data.toList.drop 22 = dktX0_stands_1 := dk_seg dksX0_stands_0 22 rfl rfl
theorem dX0_stands_0 : decode cX0_stands 0 = .ok (.aload_n 1, 1) := dk_43 (dk_at dksX0_stands_0 0 rfl rfl)
theorem dX0_stands_1 : decode cX0_stands 1 = .ok (.getfield 243, 3) := dk_180 0 243 (dk_at dksX0_stands_0 1 rfl rfl)
theorem dX0_stands_4 : decode cX0_stands 4 = .ok (.invokevirtual 246, 3) := dk_182 0 246 (dk_at dksX0_stands_0 4 rfl rfl)
theorem dX0_stands_7 : decode cX0_stands 7 = .ok (.ifCond .eq 22, 3) := dk_153 0 22 (dk_at dksX0_stands_0 7 rfl rfl)
theorem dX0_stands_10 : decode cX0_stands 10 = .ok (.aload_n 0, 1) := dk_42 (dk_at dksX0_stands_0 10 rfl rfl)
theorem dX0_stands_11 : decode cX0_stands 11 = .ok (.getfield 44, 3) := dk_180 0 44 (dk_at dksX0_stands_0 11 rfl rfl)
theorem dX0_stands_14 : decode cX0_stands 14 = .ok (.aload_n 2, 1) := dk_44 (dk_at dksX0_stands_0 14 rfl rfl)
theorem dX0_stands_15 : decode cX0_stands 15 = .ok (.aload_n 1, 1) := dk_43 (dk_at dksX0_stands_0 15 rfl rfl)
theorem dX0_stands_16 : decode cX0_stands 16 = .ok (.invokevirtual 339, 3) := dk_182 1 83 (dk_at dksX0_stands_0 16 rfl rfl)
theorem dX0_stands_19 : decode cX0_stands 19 = .ok (.getfield 343, 3) := dk_180 1 87 (dk_at dksX0_stands_0 19 rfl rfl)
theorem dX0_stands_22 : decode cX0_stands 22 = .ok (.ifCond .ne 7, 3) := dk_154 0 7 (dk_at dksX0_stands_1 0 rfl rfl)
theorem dX0_stands_25 : decode cX0_stands 25 = .ok (.iconst 1, 1) := dk_4 (dk_at dksX0_stands_1 3 rfl rfl)
theorem dX0_stands_26 : decode cX0_stands 26 = .ok (.goto 4, 3) := dk_167 0 4 (dk_at dksX0_stands_1 4 rfl rfl)
theorem dX0_stands_29 : decode cX0_stands 29 = .ok (.iconst 0, 1) := dk_3 (dk_at dksX0_stands_1 7 rfl rfl)
theorem dX0_stands_30 : decode cX0_stands 30 = .ok (.ireturn, 1) := dk_172 (dk_at dksX0_stands_1 8 rfl rfl)
def dkwX0_law_6 : List UInt8 := [180, 1, 67, 167, 0, 4, 2, 172]
abbrev dktX0_law_6 : List UInt8 := dkwX0_law_6 ++ []
def dkwX0_law_5 : List UInt8 := [182, 1, 62, 4, 100, 133, 184, 0, 124, 153, 0, 21, 45, 180, 0, 243, 180, 1, 63, 28, 16, 10, 100, 50]
abbrev dktX0_law_5 : List UInt8 := dkwX0_law_5 ++ dktX0_law_6
def dkwX0_law_4 : List UInt8 := [172, 42, 45, 180, 0, 243, 45, 180, 1, 46, 182, 1, 58, 172, 28, 16, 10, 100, 133, 9, 45, 180, 0, 243]
abbrev dktX0_law_4 : List UInt8 := dkwX0_law_4 ++ dktX0_law_5
def dkwX0_law_3 : List UInt8 := [167, 0, 4, 3, 172, 42, 180, 0, 20, 180, 1, 49, 45, 182, 1, 52, 172, 45, 180, 0, 243, 182, 1, 56]
abbrev dktX0_law_3 : List UInt8 := dkwX0_law_3 ++ dktX0_law_4
def dkwX0_law_2 : List UInt8 := [45, 180, 0, 243, 180, 1, 40, 172, 45, 180, 0, 243, 180, 1, 43, 172, 45, 180, 1, 46, 153, 0, 7, 4]
abbrev dktX0_law_2 : List UInt8 := dkwX0_law_2 ++ dktX0_law_3
def dkwX0_law_1 : List UInt8 := [170, 0, 0, 0, 0, 0, 101, 0, 0, 0, 0, 0, 0, 0, 5, 0, 0, 0, 39, 0, 0, 0, 47, 0, 0, 0, 55, 0, 0, 0, 68, 0, 0, 0, 80, 0, 0, 0, 88]
abbrev dktX0_law_1 : List UInt8 := dkwX0_law_1 ++ dktX0_law_2
def dkwX0_law_0 : List UInt8 := [42, 27, 182, 0, 239, 78, 45, 199, 0, 5, 2, 172, 28]
abbrev dktX0_law_0 : List UInt8 := dkwX0_law_0 ++ dktX0_law_1
theorem dksX0_law_0 : cX0_law.data.toList.drop 0 = dktX0_law_0 := by decide +kernel
theorem dksX0_law_1 : cX0_law.data.toList.drop 13 = dktX0_law_1 := dk_seg dksX0_law_0 13 rfl rfl
theorem dksX0_law_2 : cX0_law.data.toList.drop 52 = dktX0_law_2 := dk_seg dksX0_law_1 39 rfl rfl
theorem dksX0_law_3 : cX0_law.data.toList.drop 76 = dktX0_law_3 := dk_seg dksX0_law_2 24 rfl rfl
theorem dksX0_law_4 : cX0_law.data.toList.drop 100 = dktX0_law_4 := dk_seg dksX0_law_3 24 rfl rfl
theorem dksX0_law_5 : cX0_law.data.toList.drop 124 = dktX0_law_5 := dk_seg dksX0_law_4 24 rfl rfl
theorem dksX0_law_6 : cX0_law.data.toList.drop 148 = dktX0_law_6 := dk_seg dksX0_law_5 24 rfl rfl
theorem dX0_law_0 : decode cX0_law 0 = .ok (.aload_n 0, 1) := dk_42 (dk_at dksX0_law_0 0 rfl rfl)
theorem dX0_law_1 : decode cX0_law 1 = .ok (.iload_n 1, 1) := dk_27 (dk_at dksX0_law_0 1 rfl rfl)
theorem dX0_law_2 : decode cX0_law 2 = .ok (.invokevirtual 239, 3) := dk_182 0 239 (dk_at dksX0_law_0 2 rfl rfl)
theorem dX0_law_5 : decode cX0_law 5 = .ok (.astore_n 3, 1) := dk_78 (dk_at dksX0_law_0 5 rfl rfl)
theorem dX0_law_6 : decode cX0_law 6 = .ok (.aload_n 3, 1) := dk_45 (dk_at dksX0_law_0 6 rfl rfl)
theorem dX0_law_7 : decode cX0_law 7 = .ok (.ifnonnull 5, 3) := dk_199 0 5 (dk_at dksX0_law_0 7 rfl rfl)
theorem dX0_law_10 : decode cX0_law 10 = .ok (.iconst (-1), 1) := dk_2 (dk_at dksX0_law_0 10 rfl rfl)
theorem dX0_law_11 : decode cX0_law 11 = .ok (.ireturn, 1) := dk_172 (dk_at dksX0_law_0 11 rfl rfl)
theorem dX0_law_12 : decode cX0_law 12 = .ok (.iload_n 2, 1) := dk_28 (dk_at dksX0_law_0 12 rfl rfl)
theorem dX0_law_13 : decode cX0_law 13 = .ok (.tableswitch 101 0 5 #[39, 47, 55, 68, 80, 88], 39) := by decide +kernel
theorem dX0_law_52 : decode cX0_law 52 = .ok (.aload_n 3, 1) := dk_45 (dk_at dksX0_law_2 0 rfl rfl)
theorem dX0_law_53 : decode cX0_law 53 = .ok (.getfield 243, 3) := dk_180 0 243 (dk_at dksX0_law_2 1 rfl rfl)
theorem dX0_law_56 : decode cX0_law 56 = .ok (.getfield 296, 3) := dk_180 1 40 (dk_at dksX0_law_2 4 rfl rfl)
theorem dX0_law_59 : decode cX0_law 59 = .ok (.ireturn, 1) := dk_172 (dk_at dksX0_law_2 7 rfl rfl)
theorem dX0_law_60 : decode cX0_law 60 = .ok (.aload_n 3, 1) := dk_45 (dk_at dksX0_law_2 8 rfl rfl)
theorem dX0_law_61 : decode cX0_law 61 = .ok (.getfield 243, 3) := dk_180 0 243 (dk_at dksX0_law_2 9 rfl rfl)
theorem dX0_law_64 : decode cX0_law 64 = .ok (.getfield 299, 3) := dk_180 1 43 (dk_at dksX0_law_2 12 rfl rfl)
theorem dX0_law_67 : decode cX0_law 67 = .ok (.ireturn, 1) := dk_172 (dk_at dksX0_law_2 15 rfl rfl)
theorem dX0_law_68 : decode cX0_law 68 = .ok (.aload_n 3, 1) := dk_45 (dk_at dksX0_law_2 16 rfl rfl)
theorem dX0_law_69 : decode cX0_law 69 = .ok (.getfield 302, 3) := dk_180 1 46 (dk_at dksX0_law_2 17 rfl rfl)
theorem dX0_law_72 : decode cX0_law 72 = .ok (.ifCond .eq 7, 3) := dk_153 0 7 (dk_at dksX0_law_2 20 rfl rfl)
theorem dX0_law_75 : decode cX0_law 75 = .ok (.iconst 1, 1) := dk_4 (dk_at dksX0_law_2 23 rfl rfl)
theorem dX0_law_76 : decode cX0_law 76 = .ok (.goto 4, 3) := dk_167 0 4 (dk_at dksX0_law_3 0 rfl rfl)
theorem dX0_law_79 : decode cX0_law 79 = .ok (.iconst 0, 1) := dk_3 (dk_at dksX0_law_3 3 rfl rfl)
theorem dX0_law_80 : decode cX0_law 80 = .ok (.ireturn, 1) := dk_172 (dk_at dksX0_law_3 4 rfl rfl)
theorem dX0_law_81 : decode cX0_law 81 = .ok (.aload_n 0, 1) := dk_42 (dk_at dksX0_law_3 5 rfl rfl)
theorem dX0_law_82 : decode cX0_law 82 = .ok (.getfield 20, 3) := dk_180 0 20 (dk_at dksX0_law_3 6 rfl rfl)
theorem dX0_law_85 : decode cX0_law 85 = .ok (.getfield 305, 3) := dk_180 1 49 (dk_at dksX0_law_3 9 rfl rfl)
theorem dX0_law_88 : decode cX0_law 88 = .ok (.aload_n 3, 1) := dk_45 (dk_at dksX0_law_3 12 rfl rfl)
theorem dX0_law_89 : decode cX0_law 89 = .ok (.invokevirtual 308, 3) := dk_182 1 52 (dk_at dksX0_law_3 13 rfl rfl)
theorem dX0_law_92 : decode cX0_law 92 = .ok (.ireturn, 1) := dk_172 (dk_at dksX0_law_3 16 rfl rfl)
theorem dX0_law_93 : decode cX0_law 93 = .ok (.aload_n 3, 1) := dk_45 (dk_at dksX0_law_3 17 rfl rfl)
theorem dX0_law_94 : decode cX0_law 94 = .ok (.getfield 243, 3) := dk_180 0 243 (dk_at dksX0_law_3 18 rfl rfl)
theorem dX0_law_97 : decode cX0_law 97 = .ok (.invokevirtual 312, 3) := dk_182 1 56 (dk_at dksX0_law_3 21 rfl rfl)
theorem dX0_law_100 : decode cX0_law 100 = .ok (.ireturn, 1) := dk_172 (dk_at dksX0_law_4 0 rfl rfl)
theorem dX0_law_101 : decode cX0_law 101 = .ok (.aload_n 0, 1) := dk_42 (dk_at dksX0_law_4 1 rfl rfl)
theorem dX0_law_102 : decode cX0_law 102 = .ok (.aload_n 3, 1) := dk_45 (dk_at dksX0_law_4 2 rfl rfl)
theorem dX0_law_103 : decode cX0_law 103 = .ok (.getfield 243, 3) := dk_180 0 243 (dk_at dksX0_law_4 3 rfl rfl)
theorem dX0_law_106 : decode cX0_law 106 = .ok (.aload_n 3, 1) := dk_45 (dk_at dksX0_law_4 6 rfl rfl)
theorem dX0_law_107 : decode cX0_law 107 = .ok (.getfield 302, 3) := dk_180 1 46 (dk_at dksX0_law_4 7 rfl rfl)
theorem dX0_law_110 : decode cX0_law 110 = .ok (.invokevirtual 314, 3) := dk_182 1 58 (dk_at dksX0_law_4 10 rfl rfl)
theorem dX0_law_113 : decode cX0_law 113 = .ok (.ireturn, 1) := dk_172 (dk_at dksX0_law_4 13 rfl rfl)
theorem dX0_law_114 : decode cX0_law 114 = .ok (.iload_n 2, 1) := dk_28 (dk_at dksX0_law_4 14 rfl rfl)
theorem dX0_law_115 : decode cX0_law 115 = .ok (.bipush 10, 2) := dk_16 10 (dk_at dksX0_law_4 15 rfl rfl)
theorem dX0_law_117 : decode cX0_law 117 = .ok (.isub, 1) := dk_100 (dk_at dksX0_law_4 17 rfl rfl)
theorem dX0_law_118 : decode cX0_law 118 = .ok (.i2l, 1) := dk_133 (dk_at dksX0_law_4 18 rfl rfl)
theorem dX0_law_119 : decode cX0_law 119 = .ok (.lconst 0, 1) := dk_9 (dk_at dksX0_law_4 19 rfl rfl)
theorem dX0_law_120 : decode cX0_law 120 = .ok (.aload_n 3, 1) := dk_45 (dk_at dksX0_law_4 20 rfl rfl)
theorem dX0_law_121 : decode cX0_law 121 = .ok (.getfield 243, 3) := dk_180 0 243 (dk_at dksX0_law_4 21 rfl rfl)
theorem dX0_law_124 : decode cX0_law 124 = .ok (.invokevirtual 318, 3) := dk_182 1 62 (dk_at dksX0_law_5 0 rfl rfl)
theorem dX0_law_127 : decode cX0_law 127 = .ok (.iconst 1, 1) := dk_4 (dk_at dksX0_law_5 3 rfl rfl)
theorem dX0_law_128 : decode cX0_law 128 = .ok (.isub, 1) := dk_100 (dk_at dksX0_law_5 4 rfl rfl)
theorem dX0_law_129 : decode cX0_law 129 = .ok (.i2l, 1) := dk_133 (dk_at dksX0_law_5 5 rfl rfl)
theorem dX0_law_130 : decode cX0_law 130 = .ok (.invokestatic 124, 3) := dk_184 0 124 (dk_at dksX0_law_5 6 rfl rfl)
theorem dX0_law_133 : decode cX0_law 133 = .ok (.ifCond .eq 21, 3) := dk_153 0 21 (dk_at dksX0_law_5 9 rfl rfl)
theorem dX0_law_136 : decode cX0_law 136 = .ok (.aload_n 3, 1) := dk_45 (dk_at dksX0_law_5 12 rfl rfl)
theorem dX0_law_137 : decode cX0_law 137 = .ok (.getfield 243, 3) := dk_180 0 243 (dk_at dksX0_law_5 13 rfl rfl)
theorem dX0_law_140 : decode cX0_law 140 = .ok (.getfield 319, 3) := dk_180 1 63 (dk_at dksX0_law_5 16 rfl rfl)
theorem dX0_law_143 : decode cX0_law 143 = .ok (.iload_n 2, 1) := dk_28 (dk_at dksX0_law_5 19 rfl rfl)
theorem dX0_law_144 : decode cX0_law 144 = .ok (.bipush 10, 2) := dk_16 10 (dk_at dksX0_law_5 20 rfl rfl)
theorem dX0_law_146 : decode cX0_law 146 = .ok (.isub, 1) := dk_100 (dk_at dksX0_law_5 22 rfl rfl)
theorem dX0_law_147 : decode cX0_law 147 = .ok (.aaload, 1) := dk_50 (dk_at dksX0_law_5 23 rfl rfl)
theorem dX0_law_148 : decode cX0_law 148 = .ok (.getfield 323, 3) := dk_180 1 67 (dk_at dksX0_law_6 0 rfl rfl)
theorem dX0_law_151 : decode cX0_law 151 = .ok (.goto 4, 3) := dk_167 0 4 (dk_at dksX0_law_6 3 rfl rfl)
theorem dX0_law_154 : decode cX0_law 154 = .ok (.iconst (-1), 1) := dk_2 (dk_at dksX0_law_6 6 rfl rfl)
theorem dX0_law_155 : decode cX0_law 155 = .ok (.ireturn, 1) := dk_172 (dk_at dksX0_law_6 7 rfl rfl)
def dkwX0_lawOf_1 : List UInt8 := [180, 0, 20, 180, 0, 206, 27, 182, 0, 132, 192, 0, 237, 167, 0, 4, 1, 176]
abbrev dktX0_lawOf_1 : List UInt8 := dkwX0_lawOf_1 ++ []
def dkwX0_lawOf_0 : List UInt8 := [27, 133, 9, 42, 180, 0, 20, 180, 0, 206, 182, 0, 128, 4, 100, 133, 184, 0, 124, 153, 0, 20, 42]
abbrev dktX0_lawOf_0 : List UInt8 := dkwX0_lawOf_0 ++ dktX0_lawOf_1
theorem dksX0_lawOf_0 : cX0_lawOf.data.toList.drop 0 = dktX0_lawOf_0 := by decide +kernel
theorem dksX0_lawOf_1 : cX0_lawOf.data.toList.drop 23 = dktX0_lawOf_1 := dk_seg dksX0_lawOf_0 23 rfl rfl
theorem dX0_lawOf_0 : decode cX0_lawOf 0 = .ok (.iload_n 1, 1) := dk_27 (dk_at dksX0_lawOf_0 0 rfl rfl)
theorem dX0_lawOf_1 : decode cX0_lawOf 1 = .ok (.i2l, 1) := dk_133 (dk_at dksX0_lawOf_0 1 rfl rfl)
theorem dX0_lawOf_2 : decode cX0_lawOf 2 = .ok (.lconst 0, 1) := dk_9 (dk_at dksX0_lawOf_0 2 rfl rfl)
theorem dX0_lawOf_3 : decode cX0_lawOf 3 = .ok (.aload_n 0, 1) := dk_42 (dk_at dksX0_lawOf_0 3 rfl rfl)
theorem dX0_lawOf_4 : decode cX0_lawOf 4 = .ok (.getfield 20, 3) := dk_180 0 20 (dk_at dksX0_lawOf_0 4 rfl rfl)
theorem dX0_lawOf_7 : decode cX0_lawOf 7 = .ok (.getfield 206, 3) := dk_180 0 206 (dk_at dksX0_lawOf_0 7 rfl rfl)
theorem dX0_lawOf_10 : decode cX0_lawOf 10 = .ok (.invokevirtual 128, 3) := dk_182 0 128 (dk_at dksX0_lawOf_0 10 rfl rfl)
theorem dX0_lawOf_13 : decode cX0_lawOf 13 = .ok (.iconst 1, 1) := dk_4 (dk_at dksX0_lawOf_0 13 rfl rfl)
theorem dX0_lawOf_14 : decode cX0_lawOf 14 = .ok (.isub, 1) := dk_100 (dk_at dksX0_lawOf_0 14 rfl rfl)
theorem dX0_lawOf_15 : decode cX0_lawOf 15 = .ok (.i2l, 1) := dk_133 (dk_at dksX0_lawOf_0 15 rfl rfl)
theorem dX0_lawOf_16 : decode cX0_lawOf 16 = .ok (.invokestatic 124, 3) := dk_184 0 124 (dk_at dksX0_lawOf_0 16 rfl rfl)
theorem dX0_lawOf_19 : decode cX0_lawOf 19 = .ok (.ifCond .eq 20, 3) := dk_153 0 20 (dk_at dksX0_lawOf_0 19 rfl rfl)
theorem dX0_lawOf_22 : decode cX0_lawOf 22 = .ok (.aload_n 0, 1) := dk_42 (dk_at dksX0_lawOf_0 22 rfl rfl)
theorem dX0_lawOf_23 : decode cX0_lawOf 23 = .ok (.getfield 20, 3) := dk_180 0 20 (dk_at dksX0_lawOf_1 0 rfl rfl)
theorem dX0_lawOf_26 : decode cX0_lawOf 26 = .ok (.getfield 206, 3) := dk_180 0 206 (dk_at dksX0_lawOf_1 3 rfl rfl)
theorem dX0_lawOf_29 : decode cX0_lawOf 29 = .ok (.iload_n 1, 1) := dk_27 (dk_at dksX0_lawOf_1 6 rfl rfl)
theorem dX0_lawOf_30 : decode cX0_lawOf 30 = .ok (.invokevirtual 132, 3) := dk_182 0 132 (dk_at dksX0_lawOf_1 7 rfl rfl)
theorem dX0_lawOf_33 : decode cX0_lawOf 33 = .ok (.checkcast 237, 3) := dk_192 0 237 (dk_at dksX0_lawOf_1 10 rfl rfl)
theorem dX0_lawOf_36 : decode cX0_lawOf 36 = .ok (.goto 4, 3) := dk_167 0 4 (dk_at dksX0_lawOf_1 13 rfl rfl)
theorem dX0_lawOf_39 : decode cX0_lawOf 39 = .ok (.aconst_null, 1) := dk_1 (dk_at dksX0_lawOf_1 16 rfl rfl)
theorem dX0_lawOf_40 : decode cX0_lawOf 40 = .ok (.areturn, 1) := dk_176 (dk_at dksX0_lawOf_1 17 rfl rfl)
def dkwX0_byMany_3 : List UInt8 := [167, 255, 189, 29, 172]
abbrev dktX0_byMany_3 : List UInt8 := dkwX0_byMany_3 ++ []
def dkwX0_byMany_2 : List UInt8 := [25, 5, 43, 28, 25, 5, 180, 1, 34, 182, 1, 88, 180, 1, 87, 154, 0, 6, 132, 3, 1, 132, 4, 1]
abbrev dktX0_byMany_2 : List UInt8 := dkwX0_byMany_2 ++ dktX0_byMany_3
def dkwX0_byMany_1 : List UInt8 := [153, 0, 51, 42, 180, 0, 20, 180, 0, 203, 21, 4, 182, 0, 132, 192, 0, 235, 58, 5, 42, 180, 0, 44]
abbrev dktX0_byMany_1 : List UInt8 := dkwX0_byMany_1 ++ dktX0_byMany_2
def dkwX0_byMany_0 : List UInt8 := [3, 62, 3, 54, 4, 21, 4, 42, 180, 0, 20, 180, 0, 203, 182, 0, 128, 162, 0, 58, 43, 182, 0, 246]
abbrev dktX0_byMany_0 : List UInt8 := dkwX0_byMany_0 ++ dktX0_byMany_1
theorem dksX0_byMany_0 : cX0_byMany.data.toList.drop 0 = dktX0_byMany_0 := by decide +kernel
theorem dksX0_byMany_1 : cX0_byMany.data.toList.drop 24 = dktX0_byMany_1 := dk_seg dksX0_byMany_0 24 rfl rfl
theorem dksX0_byMany_2 : cX0_byMany.data.toList.drop 48 = dktX0_byMany_2 := dk_seg dksX0_byMany_1 24 rfl rfl
theorem dksX0_byMany_3 : cX0_byMany.data.toList.drop 72 = dktX0_byMany_3 := dk_seg dksX0_byMany_2 24 rfl rfl
theorem dX0_byMany_0 : decode cX0_byMany 0 = .ok (.iconst 0, 1) := dk_3 (dk_at dksX0_byMany_0 0 rfl rfl)
theorem dX0_byMany_1 : decode cX0_byMany 1 = .ok (.istore_n 3, 1) := dk_62 (dk_at dksX0_byMany_0 1 rfl rfl)
theorem dX0_byMany_2 : decode cX0_byMany 2 = .ok (.iconst 0, 1) := dk_3 (dk_at dksX0_byMany_0 2 rfl rfl)
theorem dX0_byMany_3 : decode cX0_byMany 3 = .ok (.istore 4, 2) := dk_54 4 (dk_at dksX0_byMany_0 3 rfl rfl)
theorem dX0_byMany_5 : decode cX0_byMany 5 = .ok (.iload 4, 2) := dk_21 4 (dk_at dksX0_byMany_0 5 rfl rfl)
theorem dX0_byMany_7 : decode cX0_byMany 7 = .ok (.aload_n 0, 1) := dk_42 (dk_at dksX0_byMany_0 7 rfl rfl)
theorem dX0_byMany_8 : decode cX0_byMany 8 = .ok (.getfield 20, 3) := dk_180 0 20 (dk_at dksX0_byMany_0 8 rfl rfl)
theorem dX0_byMany_11 : decode cX0_byMany 11 = .ok (.getfield 203, 3) := dk_180 0 203 (dk_at dksX0_byMany_0 11 rfl rfl)
theorem dX0_byMany_14 : decode cX0_byMany 14 = .ok (.invokevirtual 128, 3) := dk_182 0 128 (dk_at dksX0_byMany_0 14 rfl rfl)
theorem dX0_byMany_17 : decode cX0_byMany 17 = .ok (.if_icmp .ge 58, 3) := dk_162 0 58 (dk_at dksX0_byMany_0 17 rfl rfl)
theorem dX0_byMany_20 : decode cX0_byMany 20 = .ok (.aload_n 1, 1) := dk_43 (dk_at dksX0_byMany_0 20 rfl rfl)
theorem dX0_byMany_21 : decode cX0_byMany 21 = .ok (.invokevirtual 246, 3) := dk_182 0 246 (dk_at dksX0_byMany_0 21 rfl rfl)
theorem dX0_byMany_24 : decode cX0_byMany 24 = .ok (.ifCond .eq 51, 3) := dk_153 0 51 (dk_at dksX0_byMany_1 0 rfl rfl)
theorem dX0_byMany_27 : decode cX0_byMany 27 = .ok (.aload_n 0, 1) := dk_42 (dk_at dksX0_byMany_1 3 rfl rfl)
theorem dX0_byMany_28 : decode cX0_byMany 28 = .ok (.getfield 20, 3) := dk_180 0 20 (dk_at dksX0_byMany_1 4 rfl rfl)
theorem dX0_byMany_31 : decode cX0_byMany 31 = .ok (.getfield 203, 3) := dk_180 0 203 (dk_at dksX0_byMany_1 7 rfl rfl)
theorem dX0_byMany_34 : decode cX0_byMany 34 = .ok (.iload 4, 2) := dk_21 4 (dk_at dksX0_byMany_1 10 rfl rfl)
theorem dX0_byMany_36 : decode cX0_byMany 36 = .ok (.invokevirtual 132, 3) := dk_182 0 132 (dk_at dksX0_byMany_1 12 rfl rfl)
theorem dX0_byMany_39 : decode cX0_byMany 39 = .ok (.checkcast 235, 3) := dk_192 0 235 (dk_at dksX0_byMany_1 15 rfl rfl)
theorem dX0_byMany_42 : decode cX0_byMany 42 = .ok (.astore 5, 2) := dk_58 5 (dk_at dksX0_byMany_1 18 rfl rfl)
theorem dX0_byMany_44 : decode cX0_byMany 44 = .ok (.aload_n 0, 1) := dk_42 (dk_at dksX0_byMany_1 20 rfl rfl)
theorem dX0_byMany_45 : decode cX0_byMany 45 = .ok (.getfield 44, 3) := dk_180 0 44 (dk_at dksX0_byMany_1 21 rfl rfl)
theorem dX0_byMany_48 : decode cX0_byMany 48 = .ok (.aload 5, 2) := dk_25 5 (dk_at dksX0_byMany_2 0 rfl rfl)
theorem dX0_byMany_50 : decode cX0_byMany 50 = .ok (.aload_n 1, 1) := dk_43 (dk_at dksX0_byMany_2 2 rfl rfl)
theorem dX0_byMany_51 : decode cX0_byMany 51 = .ok (.iload_n 2, 1) := dk_28 (dk_at dksX0_byMany_2 3 rfl rfl)
theorem dX0_byMany_52 : decode cX0_byMany 52 = .ok (.aload 5, 2) := dk_25 5 (dk_at dksX0_byMany_2 4 rfl rfl)
theorem dX0_byMany_54 : decode cX0_byMany 54 = .ok (.getfield 290, 3) := dk_180 1 34 (dk_at dksX0_byMany_2 6 rfl rfl)
theorem dX0_byMany_57 : decode cX0_byMany 57 = .ok (.invokevirtual 344, 3) := dk_182 1 88 (dk_at dksX0_byMany_2 9 rfl rfl)
theorem dX0_byMany_60 : decode cX0_byMany 60 = .ok (.getfield 343, 3) := dk_180 1 87 (dk_at dksX0_byMany_2 12 rfl rfl)
theorem dX0_byMany_63 : decode cX0_byMany 63 = .ok (.ifCond .ne 6, 3) := dk_154 0 6 (dk_at dksX0_byMany_2 15 rfl rfl)
theorem dX0_byMany_66 : decode cX0_byMany 66 = .ok (.iinc 3 1, 3) := dk_132 3 1 (dk_at dksX0_byMany_2 18 rfl rfl)
theorem dX0_byMany_69 : decode cX0_byMany 69 = .ok (.iinc 4 1, 3) := dk_132 4 1 (dk_at dksX0_byMany_2 21 rfl rfl)
theorem dX0_byMany_72 : decode cX0_byMany 72 = .ok (.goto (-67), 3) := dk_167 255 189 (dk_at dksX0_byMany_3 0 rfl rfl)
theorem dX0_byMany_75 : decode cX0_byMany 75 = .ok (.iload_n 3, 1) := dk_29 (dk_at dksX0_byMany_3 3 rfl rfl)
theorem dX0_byMany_76 : decode cX0_byMany 76 = .ok (.ireturn, 1) := dk_172 (dk_at dksX0_byMany_3 4 rfl rfl)
def dkwX0_order_1 : List UInt8 := [180, 1, 71, 167, 0, 4, 2, 172]
abbrev dktX0_order_1 : List UInt8 := dkwX0_order_1 ++ []
def dkwX0_order_0 : List UInt8 := [42, 27, 182, 1, 68, 153, 0, 23, 42, 180, 0, 20, 180, 1, 49, 27, 182, 0, 132, 192, 0, 237]
abbrev dktX0_order_0 : List UInt8 := dkwX0_order_0 ++ dktX0_order_1
theorem dksX0_order_0 : cX0_order.data.toList.drop 0 = dktX0_order_0 := by decide +kernel
theorem dksX0_order_1 : cX0_order.data.toList.drop 22 = dktX0_order_1 := dk_seg dksX0_order_0 22 rfl rfl
theorem dX0_order_0 : decode cX0_order 0 = .ok (.aload_n 0, 1) := dk_42 (dk_at dksX0_order_0 0 rfl rfl)
theorem dX0_order_1 : decode cX0_order 1 = .ok (.iload_n 1, 1) := dk_27 (dk_at dksX0_order_0 1 rfl rfl)
theorem dX0_order_2 : decode cX0_order 2 = .ok (.invokevirtual 324, 3) := dk_182 1 68 (dk_at dksX0_order_0 2 rfl rfl)
theorem dX0_order_5 : decode cX0_order 5 = .ok (.ifCond .eq 23, 3) := dk_153 0 23 (dk_at dksX0_order_0 5 rfl rfl)
theorem dX0_order_8 : decode cX0_order 8 = .ok (.aload_n 0, 1) := dk_42 (dk_at dksX0_order_0 8 rfl rfl)
theorem dX0_order_9 : decode cX0_order 9 = .ok (.getfield 20, 3) := dk_180 0 20 (dk_at dksX0_order_0 9 rfl rfl)
theorem dX0_order_12 : decode cX0_order 12 = .ok (.getfield 305, 3) := dk_180 1 49 (dk_at dksX0_order_0 12 rfl rfl)
theorem dX0_order_15 : decode cX0_order 15 = .ok (.iload_n 1, 1) := dk_27 (dk_at dksX0_order_0 15 rfl rfl)
theorem dX0_order_16 : decode cX0_order 16 = .ok (.invokevirtual 132, 3) := dk_182 0 132 (dk_at dksX0_order_0 16 rfl rfl)
theorem dX0_order_19 : decode cX0_order 19 = .ok (.checkcast 237, 3) := dk_192 0 237 (dk_at dksX0_order_0 19 rfl rfl)
theorem dX0_order_22 : decode cX0_order 22 = .ok (.getfield 327, 3) := dk_180 1 71 (dk_at dksX0_order_1 0 rfl rfl)
theorem dX0_order_25 : decode cX0_order 25 = .ok (.goto 4, 3) := dk_167 0 4 (dk_at dksX0_order_1 3 rfl rfl)
theorem dX0_order_28 : decode cX0_order 28 = .ok (.iconst (-1), 1) := dk_2 (dk_at dksX0_order_1 6 rfl rfl)
theorem dX0_order_29 : decode cX0_order 29 = .ok (.ireturn, 1) := dk_172 (dk_at dksX0_order_1 7 rfl rfl)
def dkwX0_isPlace_0 : List UInt8 := [27, 133, 9, 42, 180, 0, 20, 180, 1, 49, 182, 0, 128, 4, 100, 133, 184, 0, 124, 172]
abbrev dktX0_isPlace_0 : List UInt8 := dkwX0_isPlace_0 ++ []
theorem dksX0_isPlace_0 : cX0_isPlace.data.toList.drop 0 = dktX0_isPlace_0 := by decide +kernel
theorem dX0_isPlace_0 : decode cX0_isPlace 0 = .ok (.iload_n 1, 1) := dk_27 (dk_at dksX0_isPlace_0 0 rfl rfl)
theorem dX0_isPlace_1 : decode cX0_isPlace 1 = .ok (.i2l, 1) := dk_133 (dk_at dksX0_isPlace_0 1 rfl rfl)
theorem dX0_isPlace_2 : decode cX0_isPlace 2 = .ok (.lconst 0, 1) := dk_9 (dk_at dksX0_isPlace_0 2 rfl rfl)
theorem dX0_isPlace_3 : decode cX0_isPlace 3 = .ok (.aload_n 0, 1) := dk_42 (dk_at dksX0_isPlace_0 3 rfl rfl)
theorem dX0_isPlace_4 : decode cX0_isPlace 4 = .ok (.getfield 20, 3) := dk_180 0 20 (dk_at dksX0_isPlace_0 4 rfl rfl)
theorem dX0_isPlace_7 : decode cX0_isPlace 7 = .ok (.getfield 305, 3) := dk_180 1 49 (dk_at dksX0_isPlace_0 7 rfl rfl)
theorem dX0_isPlace_10 : decode cX0_isPlace 10 = .ok (.invokevirtual 128, 3) := dk_182 0 128 (dk_at dksX0_isPlace_0 10 rfl rfl)
theorem dX0_isPlace_13 : decode cX0_isPlace 13 = .ok (.iconst 1, 1) := dk_4 (dk_at dksX0_isPlace_0 13 rfl rfl)
theorem dX0_isPlace_14 : decode cX0_isPlace 14 = .ok (.isub, 1) := dk_100 (dk_at dksX0_isPlace_0 14 rfl rfl)
theorem dX0_isPlace_15 : decode cX0_isPlace 15 = .ok (.i2l, 1) := dk_133 (dk_at dksX0_isPlace_0 15 rfl rfl)
theorem dX0_isPlace_16 : decode cX0_isPlace 16 = .ok (.invokestatic 124, 3) := dk_184 0 124 (dk_at dksX0_isPlace_0 16 rfl rfl)
theorem dX0_isPlace_19 : decode cX0_isPlace 19 = .ok (.ireturn, 1) := dk_172 (dk_at dksX0_isPlace_0 19 rfl rfl)
def dkwX0_alike_1 : List UInt8 := [167, 0, 9, 45, 25, 4, 182, 1, 72, 172]
abbrev dktX0_alike_1 : List UInt8 := dkwX0_alike_1 ++ []
def dkwX0_alike_0 : List UInt8 := [42, 27, 182, 0, 249, 78, 42, 28, 182, 0, 249, 58, 4, 45, 198, 0, 8, 25, 4, 199, 0, 7, 2]
abbrev dktX0_alike_0 : List UInt8 := dkwX0_alike_0 ++ dktX0_alike_1
theorem dksX0_alike_0 : cX0_alike.data.toList.drop 0 = dktX0_alike_0 := by decide +kernel
theorem dksX0_alike_1 : cX0_alike.data.toList.drop 23 = dktX0_alike_1 := dk_seg dksX0_alike_0 23 rfl rfl
theorem dX0_alike_0 : decode cX0_alike 0 = .ok (.aload_n 0, 1) := dk_42 (dk_at dksX0_alike_0 0 rfl rfl)
theorem dX0_alike_1 : decode cX0_alike 1 = .ok (.iload_n 1, 1) := dk_27 (dk_at dksX0_alike_0 1 rfl rfl)
theorem dX0_alike_2 : decode cX0_alike 2 = .ok (.invokevirtual 249, 3) := dk_182 0 249 (dk_at dksX0_alike_0 2 rfl rfl)
theorem dX0_alike_5 : decode cX0_alike 5 = .ok (.astore_n 3, 1) := dk_78 (dk_at dksX0_alike_0 5 rfl rfl)
theorem dX0_alike_6 : decode cX0_alike 6 = .ok (.aload_n 0, 1) := dk_42 (dk_at dksX0_alike_0 6 rfl rfl)
theorem dX0_alike_7 : decode cX0_alike 7 = .ok (.iload_n 2, 1) := dk_28 (dk_at dksX0_alike_0 7 rfl rfl)
theorem dX0_alike_8 : decode cX0_alike 8 = .ok (.invokevirtual 249, 3) := dk_182 0 249 (dk_at dksX0_alike_0 8 rfl rfl)
theorem dX0_alike_11 : decode cX0_alike 11 = .ok (.astore 4, 2) := dk_58 4 (dk_at dksX0_alike_0 11 rfl rfl)
theorem dX0_alike_13 : decode cX0_alike 13 = .ok (.aload_n 3, 1) := dk_45 (dk_at dksX0_alike_0 13 rfl rfl)
theorem dX0_alike_14 : decode cX0_alike 14 = .ok (.ifnull 8, 3) := dk_198 0 8 (dk_at dksX0_alike_0 14 rfl rfl)
theorem dX0_alike_17 : decode cX0_alike 17 = .ok (.aload 4, 2) := dk_25 4 (dk_at dksX0_alike_0 17 rfl rfl)
theorem dX0_alike_19 : decode cX0_alike 19 = .ok (.ifnonnull 7, 3) := dk_199 0 7 (dk_at dksX0_alike_0 19 rfl rfl)
theorem dX0_alike_22 : decode cX0_alike 22 = .ok (.iconst (-1), 1) := dk_2 (dk_at dksX0_alike_0 22 rfl rfl)
theorem dX0_alike_23 : decode cX0_alike 23 = .ok (.goto 9, 3) := dk_167 0 9 (dk_at dksX0_alike_1 0 rfl rfl)
theorem dX0_alike_26 : decode cX0_alike 26 = .ok (.aload_n 3, 1) := dk_45 (dk_at dksX0_alike_1 3 rfl rfl)
theorem dX0_alike_27 : decode cX0_alike 27 = .ok (.aload 4, 2) := dk_25 4 (dk_at dksX0_alike_1 4 rfl rfl)
theorem dX0_alike_29 : decode cX0_alike 29 = .ok (.invokevirtual 328, 3) := dk_182 1 72 (dk_at dksX0_alike_1 6 rfl rfl)
theorem dX0_alike_32 : decode cX0_alike 32 = .ok (.ireturn, 1) := dk_172 (dk_at dksX0_alike_1 9 rfl rfl)
def dkwX0_hears_2 : List UInt8 := [182, 1, 79, 180, 1, 67, 172]
abbrev dktX0_hears_2 : List UInt8 := dkwX0_hears_2 ++ []
def dkwX0_hears_1 : List UInt8 := [2, 172, 29, 153, 0, 13, 25, 4, 180, 1, 76, 28, 50, 167, 0, 13, 25, 4, 180, 1, 25, 25, 5]
abbrev dktX0_hears_1 : List UInt8 := dkwX0_hears_1 ++ dktX0_hears_2
def dkwX0_hears_0 : List UInt8 := [42, 27, 182, 1, 17, 58, 4, 42, 28, 182, 0, 249, 58, 5, 25, 4, 198, 0, 8, 25, 5, 199, 0, 5]
abbrev dktX0_hears_0 : List UInt8 := dkwX0_hears_0 ++ dktX0_hears_1
theorem dksX0_hears_0 : cX0_hears.data.toList.drop 0 = dktX0_hears_0 := by decide +kernel
theorem dksX0_hears_1 : cX0_hears.data.toList.drop 24 = dktX0_hears_1 := dk_seg dksX0_hears_0 24 rfl rfl
theorem dksX0_hears_2 : cX0_hears.data.toList.drop 47 = dktX0_hears_2 := dk_seg dksX0_hears_1 23 rfl rfl
theorem dX0_hears_0 : decode cX0_hears 0 = .ok (.aload_n 0, 1) := dk_42 (dk_at dksX0_hears_0 0 rfl rfl)
theorem dX0_hears_1 : decode cX0_hears 1 = .ok (.iload_n 1, 1) := dk_27 (dk_at dksX0_hears_0 1 rfl rfl)
theorem dX0_hears_2 : decode cX0_hears 2 = .ok (.invokevirtual 273, 3) := dk_182 1 17 (dk_at dksX0_hears_0 2 rfl rfl)
theorem dX0_hears_5 : decode cX0_hears 5 = .ok (.astore 4, 2) := dk_58 4 (dk_at dksX0_hears_0 5 rfl rfl)
theorem dX0_hears_7 : decode cX0_hears 7 = .ok (.aload_n 0, 1) := dk_42 (dk_at dksX0_hears_0 7 rfl rfl)
theorem dX0_hears_8 : decode cX0_hears 8 = .ok (.iload_n 2, 1) := dk_28 (dk_at dksX0_hears_0 8 rfl rfl)
theorem dX0_hears_9 : decode cX0_hears 9 = .ok (.invokevirtual 249, 3) := dk_182 0 249 (dk_at dksX0_hears_0 9 rfl rfl)
theorem dX0_hears_12 : decode cX0_hears 12 = .ok (.astore 5, 2) := dk_58 5 (dk_at dksX0_hears_0 12 rfl rfl)
theorem dX0_hears_14 : decode cX0_hears 14 = .ok (.aload 4, 2) := dk_25 4 (dk_at dksX0_hears_0 14 rfl rfl)
theorem dX0_hears_16 : decode cX0_hears 16 = .ok (.ifnull 8, 3) := dk_198 0 8 (dk_at dksX0_hears_0 16 rfl rfl)
theorem dX0_hears_19 : decode cX0_hears 19 = .ok (.aload 5, 2) := dk_25 5 (dk_at dksX0_hears_0 19 rfl rfl)
theorem dX0_hears_21 : decode cX0_hears 21 = .ok (.ifnonnull 5, 3) := dk_199 0 5 (dk_at dksX0_hears_0 21 rfl rfl)
theorem dX0_hears_24 : decode cX0_hears 24 = .ok (.iconst (-1), 1) := dk_2 (dk_at dksX0_hears_1 0 rfl rfl)
theorem dX0_hears_25 : decode cX0_hears 25 = .ok (.ireturn, 1) := dk_172 (dk_at dksX0_hears_1 1 rfl rfl)
theorem dX0_hears_26 : decode cX0_hears 26 = .ok (.iload_n 3, 1) := dk_29 (dk_at dksX0_hears_1 2 rfl rfl)
theorem dX0_hears_27 : decode cX0_hears 27 = .ok (.ifCond .eq 13, 3) := dk_153 0 13 (dk_at dksX0_hears_1 3 rfl rfl)
theorem dX0_hears_30 : decode cX0_hears 30 = .ok (.aload 4, 2) := dk_25 4 (dk_at dksX0_hears_1 6 rfl rfl)
theorem dX0_hears_32 : decode cX0_hears 32 = .ok (.getfield 332, 3) := dk_180 1 76 (dk_at dksX0_hears_1 8 rfl rfl)
theorem dX0_hears_35 : decode cX0_hears 35 = .ok (.iload_n 2, 1) := dk_28 (dk_at dksX0_hears_1 11 rfl rfl)
theorem dX0_hears_36 : decode cX0_hears 36 = .ok (.aaload, 1) := dk_50 (dk_at dksX0_hears_1 12 rfl rfl)
theorem dX0_hears_37 : decode cX0_hears 37 = .ok (.goto 13, 3) := dk_167 0 13 (dk_at dksX0_hears_1 13 rfl rfl)
theorem dX0_hears_40 : decode cX0_hears 40 = .ok (.aload 4, 2) := dk_25 4 (dk_at dksX0_hears_1 16 rfl rfl)
theorem dX0_hears_42 : decode cX0_hears 42 = .ok (.getfield 281, 3) := dk_180 1 25 (dk_at dksX0_hears_1 18 rfl rfl)
theorem dX0_hears_45 : decode cX0_hears 45 = .ok (.aload 5, 2) := dk_25 5 (dk_at dksX0_hears_1 21 rfl rfl)
theorem dX0_hears_47 : decode cX0_hears 47 = .ok (.invokevirtual 335, 3) := dk_182 1 79 (dk_at dksX0_hears_2 0 rfl rfl)
theorem dX0_hears_50 : decode cX0_hears 50 = .ok (.getfield 323, 3) := dk_180 1 67 (dk_at dksX0_hears_2 3 rfl rfl)
theorem dX0_hears_53 : decode cX0_hears 53 = .ok (.ireturn, 1) := dk_172 (dk_at dksX0_hears_2 6 rfl rfl)
def dkwX0_says_1 : List UInt8 := [2, 167, 0, 18, 42, 180, 0, 44, 25, 4, 25, 5, 182, 1, 83, 29, 182, 1, 94, 172]
abbrev dktX0_says_1 : List UInt8 := dkwX0_says_1 ++ []
def dkwX0_says_0 : List UInt8 := [42, 27, 182, 1, 17, 58, 4, 42, 28, 182, 1, 91, 58, 5, 25, 4, 198, 0, 8, 25, 5, 199, 0, 7]
abbrev dktX0_says_0 : List UInt8 := dkwX0_says_0 ++ dktX0_says_1
theorem dksX0_says_0 : cX0_says.data.toList.drop 0 = dktX0_says_0 := by decide +kernel
theorem dksX0_says_1 : cX0_says.data.toList.drop 24 = dktX0_says_1 := dk_seg dksX0_says_0 24 rfl rfl
theorem dX0_says_0 : decode cX0_says 0 = .ok (.aload_n 0, 1) := dk_42 (dk_at dksX0_says_0 0 rfl rfl)
theorem dX0_says_1 : decode cX0_says 1 = .ok (.iload_n 1, 1) := dk_27 (dk_at dksX0_says_0 1 rfl rfl)
theorem dX0_says_2 : decode cX0_says 2 = .ok (.invokevirtual 273, 3) := dk_182 1 17 (dk_at dksX0_says_0 2 rfl rfl)
theorem dX0_says_5 : decode cX0_says 5 = .ok (.astore 4, 2) := dk_58 4 (dk_at dksX0_says_0 5 rfl rfl)
theorem dX0_says_7 : decode cX0_says 7 = .ok (.aload_n 0, 1) := dk_42 (dk_at dksX0_says_0 7 rfl rfl)
theorem dX0_says_8 : decode cX0_says 8 = .ok (.iload_n 2, 1) := dk_28 (dk_at dksX0_says_0 8 rfl rfl)
theorem dX0_says_9 : decode cX0_says 9 = .ok (.invokevirtual 347, 3) := dk_182 1 91 (dk_at dksX0_says_0 9 rfl rfl)
theorem dX0_says_12 : decode cX0_says 12 = .ok (.astore 5, 2) := dk_58 5 (dk_at dksX0_says_0 12 rfl rfl)
theorem dX0_says_14 : decode cX0_says 14 = .ok (.aload 4, 2) := dk_25 4 (dk_at dksX0_says_0 14 rfl rfl)
theorem dX0_says_16 : decode cX0_says 16 = .ok (.ifnull 8, 3) := dk_198 0 8 (dk_at dksX0_says_0 16 rfl rfl)
theorem dX0_says_19 : decode cX0_says 19 = .ok (.aload 5, 2) := dk_25 5 (dk_at dksX0_says_0 19 rfl rfl)
theorem dX0_says_21 : decode cX0_says 21 = .ok (.ifnonnull 7, 3) := dk_199 0 7 (dk_at dksX0_says_0 21 rfl rfl)
theorem dX0_says_24 : decode cX0_says 24 = .ok (.iconst (-1), 1) := dk_2 (dk_at dksX0_says_1 0 rfl rfl)
theorem dX0_says_25 : decode cX0_says 25 = .ok (.goto 18, 3) := dk_167 0 18 (dk_at dksX0_says_1 1 rfl rfl)
theorem dX0_says_28 : decode cX0_says 28 = .ok (.aload_n 0, 1) := dk_42 (dk_at dksX0_says_1 4 rfl rfl)
theorem dX0_says_29 : decode cX0_says 29 = .ok (.getfield 44, 3) := dk_180 0 44 (dk_at dksX0_says_1 5 rfl rfl)
theorem dX0_says_32 : decode cX0_says 32 = .ok (.aload 4, 2) := dk_25 4 (dk_at dksX0_says_1 8 rfl rfl)
theorem dX0_says_34 : decode cX0_says 34 = .ok (.aload 5, 2) := dk_25 5 (dk_at dksX0_says_1 10 rfl rfl)
theorem dX0_says_36 : decode cX0_says 36 = .ok (.invokevirtual 339, 3) := dk_182 1 83 (dk_at dksX0_says_1 12 rfl rfl)
theorem dX0_says_39 : decode cX0_says 39 = .ok (.iload_n 3, 1) := dk_29 (dk_at dksX0_says_1 15 rfl rfl)
theorem dX0_says_40 : decode cX0_says 40 = .ok (.invokevirtual 350, 3) := dk_182 1 94 (dk_at dksX0_says_1 16 rfl rfl)
theorem dX0_says_43 : decode cX0_says 43 = .ok (.ireturn, 1) := dk_172 (dk_at dksX0_says_1 19 rfl rfl)
def dkwX0_standingOf_1 : List UInt8 := [44, 176]
abbrev dktX0_standingOf_1 : List UInt8 := dkwX0_standingOf_1 ++ []
def dkwX0_standingOf_0 : List UInt8 := [42, 27, 182, 0, 239, 77, 44, 198, 0, 13, 44, 180, 0, 243, 182, 0, 246, 154, 0, 7, 1, 167, 0, 4]
abbrev dktX0_standingOf_0 : List UInt8 := dkwX0_standingOf_0 ++ dktX0_standingOf_1
theorem dksX0_standingOf_0 : cX0_standingOf.data.toList.drop 0 = dktX0_standingOf_0 := by decide +kernel
theorem dksX0_standingOf_1 : cX0_standingOf.data.toList.drop 24 = dktX0_standingOf_1 := dk_seg dksX0_standingOf_0 24 rfl rfl
theorem dX0_standingOf_0 : decode cX0_standingOf 0 = .ok (.aload_n 0, 1) := dk_42 (dk_at dksX0_standingOf_0 0 rfl rfl)
theorem dX0_standingOf_1 : decode cX0_standingOf 1 = .ok (.iload_n 1, 1) := dk_27 (dk_at dksX0_standingOf_0 1 rfl rfl)
theorem dX0_standingOf_2 : decode cX0_standingOf 2 = .ok (.invokevirtual 239, 3) := dk_182 0 239 (dk_at dksX0_standingOf_0 2 rfl rfl)
theorem dX0_standingOf_5 : decode cX0_standingOf 5 = .ok (.astore_n 2, 1) := dk_77 (dk_at dksX0_standingOf_0 5 rfl rfl)
theorem dX0_standingOf_6 : decode cX0_standingOf 6 = .ok (.aload_n 2, 1) := dk_44 (dk_at dksX0_standingOf_0 6 rfl rfl)
theorem dX0_standingOf_7 : decode cX0_standingOf 7 = .ok (.ifnull 13, 3) := dk_198 0 13 (dk_at dksX0_standingOf_0 7 rfl rfl)
theorem dX0_standingOf_10 : decode cX0_standingOf 10 = .ok (.aload_n 2, 1) := dk_44 (dk_at dksX0_standingOf_0 10 rfl rfl)
theorem dX0_standingOf_11 : decode cX0_standingOf 11 = .ok (.getfield 243, 3) := dk_180 0 243 (dk_at dksX0_standingOf_0 11 rfl rfl)
theorem dX0_standingOf_14 : decode cX0_standingOf 14 = .ok (.invokevirtual 246, 3) := dk_182 0 246 (dk_at dksX0_standingOf_0 14 rfl rfl)
theorem dX0_standingOf_17 : decode cX0_standingOf 17 = .ok (.ifCond .ne 7, 3) := dk_154 0 7 (dk_at dksX0_standingOf_0 17 rfl rfl)
theorem dX0_standingOf_20 : decode cX0_standingOf 20 = .ok (.aconst_null, 1) := dk_1 (dk_at dksX0_standingOf_0 20 rfl rfl)
theorem dX0_standingOf_21 : decode cX0_standingOf 21 = .ok (.goto 4, 3) := dk_167 0 4 (dk_at dksX0_standingOf_0 21 rfl rfl)
theorem dX0_standingOf_24 : decode cX0_standingOf 24 = .ok (.aload_n 2, 1) := dk_44 (dk_at dksX0_standingOf_1 0 rfl rfl)
theorem dX0_standingOf_25 : decode cX0_standingOf 25 = .ok (.areturn, 1) := dk_176 (dk_at dksX0_standingOf_1 1 rfl rfl)
def dkwX0_sits_2 : List UInt8 := [182, 1, 94, 172]
abbrev dktX0_sits_2 : List UInt8 := dkwX0_sits_2 ++ []
def dkwX0_sits_1 : List UInt8 := [2, 167, 0, 24, 42, 180, 0, 51, 182, 1, 97, 25, 4, 182, 1, 101, 25, 5, 182, 1, 105, 29]
abbrev dktX0_sits_1 : List UInt8 := dkwX0_sits_1 ++ dktX0_sits_2
def dkwX0_sits_0 : List UInt8 := [42, 27, 182, 1, 17, 58, 4, 42, 28, 182, 1, 91, 58, 5, 25, 4, 198, 0, 8, 25, 5, 199, 0, 7]
abbrev dktX0_sits_0 : List UInt8 := dkwX0_sits_0 ++ dktX0_sits_1
theorem dksX0_sits_0 : cX0_sits.data.toList.drop 0 = dktX0_sits_0 := by decide +kernel
theorem dksX0_sits_1 : cX0_sits.data.toList.drop 24 = dktX0_sits_1 := dk_seg dksX0_sits_0 24 rfl rfl
theorem dksX0_sits_2 : cX0_sits.data.toList.drop 46 = dktX0_sits_2 := dk_seg dksX0_sits_1 22 rfl rfl
theorem dX0_sits_0 : decode cX0_sits 0 = .ok (.aload_n 0, 1) := dk_42 (dk_at dksX0_sits_0 0 rfl rfl)
theorem dX0_sits_1 : decode cX0_sits 1 = .ok (.iload_n 1, 1) := dk_27 (dk_at dksX0_sits_0 1 rfl rfl)
theorem dX0_sits_2 : decode cX0_sits 2 = .ok (.invokevirtual 273, 3) := dk_182 1 17 (dk_at dksX0_sits_0 2 rfl rfl)
theorem dX0_sits_5 : decode cX0_sits 5 = .ok (.astore 4, 2) := dk_58 4 (dk_at dksX0_sits_0 5 rfl rfl)
theorem dX0_sits_7 : decode cX0_sits 7 = .ok (.aload_n 0, 1) := dk_42 (dk_at dksX0_sits_0 7 rfl rfl)
theorem dX0_sits_8 : decode cX0_sits 8 = .ok (.iload_n 2, 1) := dk_28 (dk_at dksX0_sits_0 8 rfl rfl)
theorem dX0_sits_9 : decode cX0_sits 9 = .ok (.invokevirtual 347, 3) := dk_182 1 91 (dk_at dksX0_sits_0 9 rfl rfl)
theorem dX0_sits_12 : decode cX0_sits 12 = .ok (.astore 5, 2) := dk_58 5 (dk_at dksX0_sits_0 12 rfl rfl)
theorem dX0_sits_14 : decode cX0_sits 14 = .ok (.aload 4, 2) := dk_25 4 (dk_at dksX0_sits_0 14 rfl rfl)
theorem dX0_sits_16 : decode cX0_sits 16 = .ok (.ifnull 8, 3) := dk_198 0 8 (dk_at dksX0_sits_0 16 rfl rfl)
theorem dX0_sits_19 : decode cX0_sits 19 = .ok (.aload 5, 2) := dk_25 5 (dk_at dksX0_sits_0 19 rfl rfl)
theorem dX0_sits_21 : decode cX0_sits 21 = .ok (.ifnonnull 7, 3) := dk_199 0 7 (dk_at dksX0_sits_0 21 rfl rfl)
theorem dX0_sits_24 : decode cX0_sits 24 = .ok (.iconst (-1), 1) := dk_2 (dk_at dksX0_sits_1 0 rfl rfl)
theorem dX0_sits_25 : decode cX0_sits 25 = .ok (.goto 24, 3) := dk_167 0 24 (dk_at dksX0_sits_1 1 rfl rfl)
theorem dX0_sits_28 : decode cX0_sits 28 = .ok (.aload_n 0, 1) := dk_42 (dk_at dksX0_sits_1 4 rfl rfl)
theorem dX0_sits_29 : decode cX0_sits 29 = .ok (.getfield 51, 3) := dk_180 0 51 (dk_at dksX0_sits_1 5 rfl rfl)
theorem dX0_sits_32 : decode cX0_sits 32 = .ok (.invokevirtual 353, 3) := dk_182 1 97 (dk_at dksX0_sits_1 8 rfl rfl)
theorem dX0_sits_35 : decode cX0_sits 35 = .ok (.aload 4, 2) := dk_25 4 (dk_at dksX0_sits_1 11 rfl rfl)
theorem dX0_sits_37 : decode cX0_sits 37 = .ok (.invokevirtual 357, 3) := dk_182 1 101 (dk_at dksX0_sits_1 13 rfl rfl)
theorem dX0_sits_40 : decode cX0_sits 40 = .ok (.aload 5, 2) := dk_25 5 (dk_at dksX0_sits_1 16 rfl rfl)
theorem dX0_sits_42 : decode cX0_sits 42 = .ok (.invokevirtual 361, 3) := dk_182 1 105 (dk_at dksX0_sits_1 18 rfl rfl)
theorem dX0_sits_45 : decode cX0_sits 45 = .ok (.iload_n 3, 1) := dk_29 (dk_at dksX0_sits_1 21 rfl rfl)
theorem dX0_sits_46 : decode cX0_sits 46 = .ok (.invokevirtual 350, 3) := dk_182 1 94 (dk_at dksX0_sits_2 0 rfl rfl)
theorem dX0_sits_49 : decode cX0_sits 49 = .ok (.ireturn, 1) := dk_172 (dk_at dksX0_sits_2 3 rfl rfl)
def dkwX0_sitting_1 : List UInt8 := [167, 0, 18, 42, 180, 0, 51, 182, 1, 97, 45, 182, 1, 101, 28, 182, 1, 110, 172]
abbrev dktX0_sitting_1 : List UInt8 := dkwX0_sitting_1 ++ []
def dkwX0_sitting_0 : List UInt8 := [42, 27, 182, 1, 17, 78, 45, 198, 0, 15, 28, 133, 9, 20, 1, 108, 184, 0, 124, 154, 0, 7, 2]
abbrev dktX0_sitting_0 : List UInt8 := dkwX0_sitting_0 ++ dktX0_sitting_1
theorem dksX0_sitting_0 : cX0_sitting.data.toList.drop 0 = dktX0_sitting_0 := by decide +kernel
theorem dksX0_sitting_1 : cX0_sitting.data.toList.drop 23 = dktX0_sitting_1 := dk_seg dksX0_sitting_0 23 rfl rfl
theorem dX0_sitting_0 : decode cX0_sitting 0 = .ok (.aload_n 0, 1) := dk_42 (dk_at dksX0_sitting_0 0 rfl rfl)
theorem dX0_sitting_1 : decode cX0_sitting 1 = .ok (.iload_n 1, 1) := dk_27 (dk_at dksX0_sitting_0 1 rfl rfl)
theorem dX0_sitting_2 : decode cX0_sitting 2 = .ok (.invokevirtual 273, 3) := dk_182 1 17 (dk_at dksX0_sitting_0 2 rfl rfl)
theorem dX0_sitting_5 : decode cX0_sitting 5 = .ok (.astore_n 3, 1) := dk_78 (dk_at dksX0_sitting_0 5 rfl rfl)
theorem dX0_sitting_6 : decode cX0_sitting 6 = .ok (.aload_n 3, 1) := dk_45 (dk_at dksX0_sitting_0 6 rfl rfl)
theorem dX0_sitting_7 : decode cX0_sitting 7 = .ok (.ifnull 15, 3) := dk_198 0 15 (dk_at dksX0_sitting_0 7 rfl rfl)
theorem dX0_sitting_10 : decode cX0_sitting 10 = .ok (.iload_n 2, 1) := dk_28 (dk_at dksX0_sitting_0 10 rfl rfl)
theorem dX0_sitting_11 : decode cX0_sitting 11 = .ok (.i2l, 1) := dk_133 (dk_at dksX0_sitting_0 11 rfl rfl)
theorem dX0_sitting_12 : decode cX0_sitting 12 = .ok (.lconst 0, 1) := dk_9 (dk_at dksX0_sitting_0 12 rfl rfl)
theorem dX0_sitting_13 : decode cX0_sitting 13 = .ok (.ldc2_w 364, 3) := dk_20 1 108 (dk_at dksX0_sitting_0 13 rfl rfl)
theorem dX0_sitting_16 : decode cX0_sitting 16 = .ok (.invokestatic 124, 3) := dk_184 0 124 (dk_at dksX0_sitting_0 16 rfl rfl)
theorem dX0_sitting_19 : decode cX0_sitting 19 = .ok (.ifCond .ne 7, 3) := dk_154 0 7 (dk_at dksX0_sitting_0 19 rfl rfl)
theorem dX0_sitting_22 : decode cX0_sitting 22 = .ok (.iconst (-1), 1) := dk_2 (dk_at dksX0_sitting_0 22 rfl rfl)
theorem dX0_sitting_23 : decode cX0_sitting 23 = .ok (.goto 18, 3) := dk_167 0 18 (dk_at dksX0_sitting_1 0 rfl rfl)
theorem dX0_sitting_26 : decode cX0_sitting 26 = .ok (.aload_n 0, 1) := dk_42 (dk_at dksX0_sitting_1 3 rfl rfl)
theorem dX0_sitting_27 : decode cX0_sitting 27 = .ok (.getfield 51, 3) := dk_180 0 51 (dk_at dksX0_sitting_1 4 rfl rfl)
theorem dX0_sitting_30 : decode cX0_sitting 30 = .ok (.invokevirtual 353, 3) := dk_182 1 97 (dk_at dksX0_sitting_1 7 rfl rfl)
theorem dX0_sitting_33 : decode cX0_sitting 33 = .ok (.aload_n 3, 1) := dk_45 (dk_at dksX0_sitting_1 10 rfl rfl)
theorem dX0_sitting_34 : decode cX0_sitting 34 = .ok (.invokevirtual 357, 3) := dk_182 1 101 (dk_at dksX0_sitting_1 11 rfl rfl)
theorem dX0_sitting_37 : decode cX0_sitting 37 = .ok (.iload_n 2, 1) := dk_28 (dk_at dksX0_sitting_1 14 rfl rfl)
theorem dX0_sitting_38 : decode cX0_sitting 38 = .ok (.invokevirtual 366, 3) := dk_182 1 110 (dk_at dksX0_sitting_1 15 rfl rfl)
theorem dX0_sitting_41 : decode cX0_sitting 41 = .ok (.ireturn, 1) := dk_172 (dk_at dksX0_sitting_1 18 rfl rfl)
def dkwX0_tell_2 : List UInt8 := [182, 1, 137, 42, 180, 0, 44, 180, 1, 87, 172]
abbrev dktX0_tell_2 : List UInt8 := dkwX0_tell_2 ++ []
def dkwX0_tell_1 : List UInt8 := [182, 0, 107, 172, 42, 182, 1, 141, 42, 25, 4, 42, 180, 0, 44, 45, 25, 4, 182, 1, 83, 45]
abbrev dktX0_tell_1 : List UInt8 := dkwX0_tell_1 ++ dktX0_tell_2
def dkwX0_tell_0 : List UInt8 := [42, 28, 182, 1, 17, 78, 42, 27, 182, 1, 91, 58, 4, 45, 198, 0, 8, 25, 4, 199, 0, 9, 42, 5]
abbrev dktX0_tell_0 : List UInt8 := dkwX0_tell_0 ++ dktX0_tell_1
theorem dksX0_tell_0 : cX0_tell.data.toList.drop 0 = dktX0_tell_0 := by decide +kernel
theorem dksX0_tell_1 : cX0_tell.data.toList.drop 24 = dktX0_tell_1 := dk_seg dksX0_tell_0 24 rfl rfl
theorem dksX0_tell_2 : cX0_tell.data.toList.drop 46 = dktX0_tell_2 := dk_seg dksX0_tell_1 22 rfl rfl
theorem dX0_tell_0 : decode cX0_tell 0 = .ok (.aload_n 0, 1) := dk_42 (dk_at dksX0_tell_0 0 rfl rfl)
theorem dX0_tell_1 : decode cX0_tell 1 = .ok (.iload_n 2, 1) := dk_28 (dk_at dksX0_tell_0 1 rfl rfl)
theorem dX0_tell_2 : decode cX0_tell 2 = .ok (.invokevirtual 273, 3) := dk_182 1 17 (dk_at dksX0_tell_0 2 rfl rfl)
theorem dX0_tell_5 : decode cX0_tell 5 = .ok (.astore_n 3, 1) := dk_78 (dk_at dksX0_tell_0 5 rfl rfl)
theorem dX0_tell_6 : decode cX0_tell 6 = .ok (.aload_n 0, 1) := dk_42 (dk_at dksX0_tell_0 6 rfl rfl)
theorem dX0_tell_7 : decode cX0_tell 7 = .ok (.iload_n 1, 1) := dk_27 (dk_at dksX0_tell_0 7 rfl rfl)
theorem dX0_tell_8 : decode cX0_tell 8 = .ok (.invokevirtual 347, 3) := dk_182 1 91 (dk_at dksX0_tell_0 8 rfl rfl)
theorem dX0_tell_11 : decode cX0_tell 11 = .ok (.astore 4, 2) := dk_58 4 (dk_at dksX0_tell_0 11 rfl rfl)
theorem dX0_tell_13 : decode cX0_tell 13 = .ok (.aload_n 3, 1) := dk_45 (dk_at dksX0_tell_0 13 rfl rfl)
theorem dX0_tell_14 : decode cX0_tell 14 = .ok (.ifnull 8, 3) := dk_198 0 8 (dk_at dksX0_tell_0 14 rfl rfl)
theorem dX0_tell_17 : decode cX0_tell 17 = .ok (.aload 4, 2) := dk_25 4 (dk_at dksX0_tell_0 17 rfl rfl)
theorem dX0_tell_19 : decode cX0_tell 19 = .ok (.ifnonnull 9, 3) := dk_199 0 9 (dk_at dksX0_tell_0 19 rfl rfl)
theorem dX0_tell_22 : decode cX0_tell 22 = .ok (.aload_n 0, 1) := dk_42 (dk_at dksX0_tell_0 22 rfl rfl)
theorem dX0_tell_23 : decode cX0_tell 23 = .ok (.iconst 2, 1) := dk_5 (dk_at dksX0_tell_0 23 rfl rfl)
theorem dX0_tell_24 : decode cX0_tell 24 = .ok (.invokevirtual 107, 3) := dk_182 0 107 (dk_at dksX0_tell_1 0 rfl rfl)
theorem dX0_tell_27 : decode cX0_tell 27 = .ok (.ireturn, 1) := dk_172 (dk_at dksX0_tell_1 3 rfl rfl)
theorem dX0_tell_28 : decode cX0_tell 28 = .ok (.aload_n 0, 1) := dk_42 (dk_at dksX0_tell_1 4 rfl rfl)
theorem dX0_tell_29 : decode cX0_tell 29 = .ok (.invokevirtual 397, 3) := dk_182 1 141 (dk_at dksX0_tell_1 5 rfl rfl)
theorem dX0_tell_32 : decode cX0_tell 32 = .ok (.aload_n 0, 1) := dk_42 (dk_at dksX0_tell_1 8 rfl rfl)
theorem dX0_tell_33 : decode cX0_tell 33 = .ok (.aload 4, 2) := dk_25 4 (dk_at dksX0_tell_1 9 rfl rfl)
theorem dX0_tell_35 : decode cX0_tell 35 = .ok (.aload_n 0, 1) := dk_42 (dk_at dksX0_tell_1 11 rfl rfl)
theorem dX0_tell_36 : decode cX0_tell 36 = .ok (.getfield 44, 3) := dk_180 0 44 (dk_at dksX0_tell_1 12 rfl rfl)
theorem dX0_tell_39 : decode cX0_tell 39 = .ok (.aload_n 3, 1) := dk_45 (dk_at dksX0_tell_1 15 rfl rfl)
theorem dX0_tell_40 : decode cX0_tell 40 = .ok (.aload 4, 2) := dk_25 4 (dk_at dksX0_tell_1 16 rfl rfl)
theorem dX0_tell_42 : decode cX0_tell 42 = .ok (.invokevirtual 339, 3) := dk_182 1 83 (dk_at dksX0_tell_1 18 rfl rfl)
theorem dX0_tell_45 : decode cX0_tell 45 = .ok (.aload_n 3, 1) := dk_45 (dk_at dksX0_tell_1 21 rfl rfl)
theorem dX0_tell_46 : decode cX0_tell 46 = .ok (.invokevirtual 393, 3) := dk_182 1 137 (dk_at dksX0_tell_2 0 rfl rfl)
theorem dX0_tell_49 : decode cX0_tell 49 = .ok (.aload_n 0, 1) := dk_42 (dk_at dksX0_tell_2 3 rfl rfl)
theorem dX0_tell_50 : decode cX0_tell 50 = .ok (.getfield 44, 3) := dk_180 0 44 (dk_at dksX0_tell_2 4 rfl rfl)
theorem dX0_tell_53 : decode cX0_tell 53 = .ok (.getfield 343, 3) := dk_180 1 87 (dk_at dksX0_tell_2 7 rfl rfl)
theorem dX0_tell_56 : decode cX0_tell 56 = .ok (.ireturn, 1) := dk_172 (dk_at dksX0_tell_2 10 rfl rfl)
def dkwX0_keeps_1 : List UInt8 := [180, 0, 35, 187, 0, 184, 89, 42, 183, 0, 186, 182, 0, 187, 87, 177]
abbrev dktX0_keeps_1 : List UInt8 := dkwX0_keeps_1 ++ []
def dkwX0_keeps_0 : List UInt8 := [42, 180, 0, 35, 182, 0, 128, 16, 20, 160, 0, 12, 42, 180, 0, 35, 3, 182, 0, 181, 87, 42]
abbrev dktX0_keeps_0 : List UInt8 := dkwX0_keeps_0 ++ dktX0_keeps_1
theorem dksX0_keeps_0 : cX0_keeps.data.toList.drop 0 = dktX0_keeps_0 := by decide +kernel
theorem dksX0_keeps_1 : cX0_keeps.data.toList.drop 22 = dktX0_keeps_1 := dk_seg dksX0_keeps_0 22 rfl rfl
theorem dX0_keeps_0 : decode cX0_keeps 0 = .ok (.aload_n 0, 1) := dk_42 (dk_at dksX0_keeps_0 0 rfl rfl)
theorem dX0_keeps_1 : decode cX0_keeps 1 = .ok (.getfield 35, 3) := dk_180 0 35 (dk_at dksX0_keeps_0 1 rfl rfl)
theorem dX0_keeps_4 : decode cX0_keeps 4 = .ok (.invokevirtual 128, 3) := dk_182 0 128 (dk_at dksX0_keeps_0 4 rfl rfl)
theorem dX0_keeps_7 : decode cX0_keeps 7 = .ok (.bipush 20, 2) := dk_16 20 (dk_at dksX0_keeps_0 7 rfl rfl)
theorem dX0_keeps_9 : decode cX0_keeps 9 = .ok (.if_icmp .ne 12, 3) := dk_160 0 12 (dk_at dksX0_keeps_0 9 rfl rfl)
theorem dX0_keeps_12 : decode cX0_keeps 12 = .ok (.aload_n 0, 1) := dk_42 (dk_at dksX0_keeps_0 12 rfl rfl)
theorem dX0_keeps_13 : decode cX0_keeps 13 = .ok (.getfield 35, 3) := dk_180 0 35 (dk_at dksX0_keeps_0 13 rfl rfl)
theorem dX0_keeps_16 : decode cX0_keeps 16 = .ok (.iconst 0, 1) := dk_3 (dk_at dksX0_keeps_0 16 rfl rfl)
theorem dX0_keeps_17 : decode cX0_keeps 17 = .ok (.invokevirtual 181, 3) := dk_182 0 181 (dk_at dksX0_keeps_0 17 rfl rfl)
theorem dX0_keeps_20 : decode cX0_keeps 20 = .ok (.pop, 1) := dk_87 (dk_at dksX0_keeps_0 20 rfl rfl)
theorem dX0_keeps_21 : decode cX0_keeps 21 = .ok (.aload_n 0, 1) := dk_42 (dk_at dksX0_keeps_0 21 rfl rfl)
theorem dX0_keeps_22 : decode cX0_keeps 22 = .ok (.getfield 35, 3) := dk_180 0 35 (dk_at dksX0_keeps_1 0 rfl rfl)
theorem dX0_keeps_25 : decode cX0_keeps 25 = .ok (.new 184, 3) := dk_187 0 184 (dk_at dksX0_keeps_1 3 rfl rfl)
theorem dX0_keeps_28 : decode cX0_keeps 28 = .ok (.dup, 1) := dk_89 (dk_at dksX0_keeps_1 6 rfl rfl)
theorem dX0_keeps_29 : decode cX0_keeps 29 = .ok (.aload_n 0, 1) := dk_42 (dk_at dksX0_keeps_1 7 rfl rfl)
theorem dX0_keeps_30 : decode cX0_keeps 30 = .ok (.invokespecial 186, 3) := dk_183 0 186 (dk_at dksX0_keeps_1 8 rfl rfl)
theorem dX0_keeps_33 : decode cX0_keeps 33 = .ok (.invokevirtual 187, 3) := dk_182 0 187 (dk_at dksX0_keeps_1 11 rfl rfl)
theorem dX0_keeps_36 : decode cX0_keeps 36 = .ok (.pop, 1) := dk_87 (dk_at dksX0_keeps_1 14 rfl rfl)
theorem dX0_keeps_37 : decode cX0_keeps 37 = .ok (.return_, 1) := dk_177 (dk_at dksX0_keeps_1 15 rfl rfl)
def dkwX0_becomes_4 : List UInt8 := [183, 1, 128, 182, 0, 187, 87, 177]
abbrev dktX0_becomes_4 : List UInt8 := dkwX0_becomes_4 ++ []
def dkwX0_becomes_3 : List UInt8 := [187, 1, 125, 89, 42, 180, 0, 20, 180, 0, 221, 43, 180, 1, 71, 45, 180, 1, 127, 44, 180, 1, 87]
abbrev dktX0_becomes_3 : List UInt8 := dkwX0_becomes_3 ++ dktX0_becomes_4
def dkwX0_becomes_2 : List UInt8 := [160, 0, 15, 42, 180, 0, 20, 180, 0, 224, 3, 182, 0, 181, 87, 42, 180, 0, 20, 180, 0, 224]
abbrev dktX0_becomes_2 : List UInt8 := dkwX0_becomes_2 ++ dktX0_becomes_3
def dkwX0_becomes_1 : List UInt8 := [182, 1, 118, 87, 42, 180, 1, 122, 153, 0, 4, 177, 42, 180, 0, 20, 180, 0, 224, 182, 0, 128, 16, 100]
abbrev dktX0_becomes_1 : List UInt8 := dkwX0_becomes_1 ++ dktX0_becomes_2
def dkwX0_becomes_0 : List UInt8 := [43, 180, 0, 243, 44, 180, 1, 113, 182, 1, 114, 153, 0, 4, 177, 43, 180, 0, 243, 44, 180, 1, 113]
abbrev dktX0_becomes_0 : List UInt8 := dkwX0_becomes_0 ++ dktX0_becomes_1
theorem dksX0_becomes_0 : cX0_becomes.data.toList.drop 0 = dktX0_becomes_0 := by decide +kernel
theorem dksX0_becomes_1 : cX0_becomes.data.toList.drop 23 = dktX0_becomes_1 := dk_seg dksX0_becomes_0 23 rfl rfl
theorem dksX0_becomes_2 : cX0_becomes.data.toList.drop 47 = dktX0_becomes_2 := dk_seg dksX0_becomes_1 24 rfl rfl
theorem dksX0_becomes_3 : cX0_becomes.data.toList.drop 69 = dktX0_becomes_3 := dk_seg dksX0_becomes_2 22 rfl rfl
theorem dksX0_becomes_4 : cX0_becomes.data.toList.drop 92 = dktX0_becomes_4 := dk_seg dksX0_becomes_3 23 rfl rfl
theorem dX0_becomes_0 : decode cX0_becomes 0 = .ok (.aload_n 1, 1) := dk_43 (dk_at dksX0_becomes_0 0 rfl rfl)
theorem dX0_becomes_1 : decode cX0_becomes 1 = .ok (.getfield 243, 3) := dk_180 0 243 (dk_at dksX0_becomes_0 1 rfl rfl)
theorem dX0_becomes_4 : decode cX0_becomes 4 = .ok (.aload_n 2, 1) := dk_44 (dk_at dksX0_becomes_0 4 rfl rfl)
theorem dX0_becomes_5 : decode cX0_becomes 5 = .ok (.getfield 369, 3) := dk_180 1 113 (dk_at dksX0_becomes_0 5 rfl rfl)
theorem dX0_becomes_8 : decode cX0_becomes 8 = .ok (.invokevirtual 370, 3) := dk_182 1 114 (dk_at dksX0_becomes_0 8 rfl rfl)
theorem dX0_becomes_11 : decode cX0_becomes 11 = .ok (.ifCond .eq 4, 3) := dk_153 0 4 (dk_at dksX0_becomes_0 11 rfl rfl)
theorem dX0_becomes_14 : decode cX0_becomes 14 = .ok (.return_, 1) := dk_177 (dk_at dksX0_becomes_0 14 rfl rfl)
theorem dX0_becomes_15 : decode cX0_becomes 15 = .ok (.aload_n 1, 1) := dk_43 (dk_at dksX0_becomes_0 15 rfl rfl)
theorem dX0_becomes_16 : decode cX0_becomes 16 = .ok (.getfield 243, 3) := dk_180 0 243 (dk_at dksX0_becomes_0 16 rfl rfl)
theorem dX0_becomes_19 : decode cX0_becomes 19 = .ok (.aload_n 2, 1) := dk_44 (dk_at dksX0_becomes_0 19 rfl rfl)
theorem dX0_becomes_20 : decode cX0_becomes 20 = .ok (.getfield 369, 3) := dk_180 1 113 (dk_at dksX0_becomes_0 20 rfl rfl)
theorem dX0_becomes_23 : decode cX0_becomes 23 = .ok (.invokevirtual 374, 3) := dk_182 1 118 (dk_at dksX0_becomes_1 0 rfl rfl)
theorem dX0_becomes_26 : decode cX0_becomes 26 = .ok (.pop, 1) := dk_87 (dk_at dksX0_becomes_1 3 rfl rfl)
theorem dX0_becomes_27 : decode cX0_becomes 27 = .ok (.aload_n 0, 1) := dk_42 (dk_at dksX0_becomes_1 4 rfl rfl)
theorem dX0_becomes_28 : decode cX0_becomes 28 = .ok (.getfield 378, 3) := dk_180 1 122 (dk_at dksX0_becomes_1 5 rfl rfl)
theorem dX0_becomes_31 : decode cX0_becomes 31 = .ok (.ifCond .eq 4, 3) := dk_153 0 4 (dk_at dksX0_becomes_1 8 rfl rfl)
theorem dX0_becomes_34 : decode cX0_becomes 34 = .ok (.return_, 1) := dk_177 (dk_at dksX0_becomes_1 11 rfl rfl)
theorem dX0_becomes_35 : decode cX0_becomes 35 = .ok (.aload_n 0, 1) := dk_42 (dk_at dksX0_becomes_1 12 rfl rfl)
theorem dX0_becomes_36 : decode cX0_becomes 36 = .ok (.getfield 20, 3) := dk_180 0 20 (dk_at dksX0_becomes_1 13 rfl rfl)
theorem dX0_becomes_39 : decode cX0_becomes 39 = .ok (.getfield 224, 3) := dk_180 0 224 (dk_at dksX0_becomes_1 16 rfl rfl)
theorem dX0_becomes_42 : decode cX0_becomes 42 = .ok (.invokevirtual 128, 3) := dk_182 0 128 (dk_at dksX0_becomes_1 19 rfl rfl)
theorem dX0_becomes_45 : decode cX0_becomes 45 = .ok (.bipush 100, 2) := dk_16 100 (dk_at dksX0_becomes_1 22 rfl rfl)
theorem dX0_becomes_47 : decode cX0_becomes 47 = .ok (.if_icmp .ne 15, 3) := dk_160 0 15 (dk_at dksX0_becomes_2 0 rfl rfl)
theorem dX0_becomes_50 : decode cX0_becomes 50 = .ok (.aload_n 0, 1) := dk_42 (dk_at dksX0_becomes_2 3 rfl rfl)
theorem dX0_becomes_51 : decode cX0_becomes 51 = .ok (.getfield 20, 3) := dk_180 0 20 (dk_at dksX0_becomes_2 4 rfl rfl)
theorem dX0_becomes_54 : decode cX0_becomes 54 = .ok (.getfield 224, 3) := dk_180 0 224 (dk_at dksX0_becomes_2 7 rfl rfl)
theorem dX0_becomes_57 : decode cX0_becomes 57 = .ok (.iconst 0, 1) := dk_3 (dk_at dksX0_becomes_2 10 rfl rfl)
theorem dX0_becomes_58 : decode cX0_becomes 58 = .ok (.invokevirtual 181, 3) := dk_182 0 181 (dk_at dksX0_becomes_2 11 rfl rfl)
theorem dX0_becomes_61 : decode cX0_becomes 61 = .ok (.pop, 1) := dk_87 (dk_at dksX0_becomes_2 14 rfl rfl)
theorem dX0_becomes_62 : decode cX0_becomes 62 = .ok (.aload_n 0, 1) := dk_42 (dk_at dksX0_becomes_2 15 rfl rfl)
theorem dX0_becomes_63 : decode cX0_becomes 63 = .ok (.getfield 20, 3) := dk_180 0 20 (dk_at dksX0_becomes_2 16 rfl rfl)
theorem dX0_becomes_66 : decode cX0_becomes 66 = .ok (.getfield 224, 3) := dk_180 0 224 (dk_at dksX0_becomes_2 19 rfl rfl)
theorem dX0_becomes_69 : decode cX0_becomes 69 = .ok (.new 381, 3) := dk_187 1 125 (dk_at dksX0_becomes_3 0 rfl rfl)
theorem dX0_becomes_72 : decode cX0_becomes 72 = .ok (.dup, 1) := dk_89 (dk_at dksX0_becomes_3 3 rfl rfl)
theorem dX0_becomes_73 : decode cX0_becomes 73 = .ok (.aload_n 0, 1) := dk_42 (dk_at dksX0_becomes_3 4 rfl rfl)
theorem dX0_becomes_74 : decode cX0_becomes 74 = .ok (.getfield 20, 3) := dk_180 0 20 (dk_at dksX0_becomes_3 5 rfl rfl)
theorem dX0_becomes_77 : decode cX0_becomes 77 = .ok (.getfield 221, 3) := dk_180 0 221 (dk_at dksX0_becomes_3 8 rfl rfl)
theorem dX0_becomes_80 : decode cX0_becomes 80 = .ok (.aload_n 1, 1) := dk_43 (dk_at dksX0_becomes_3 11 rfl rfl)
theorem dX0_becomes_81 : decode cX0_becomes 81 = .ok (.getfield 327, 3) := dk_180 1 71 (dk_at dksX0_becomes_3 12 rfl rfl)
theorem dX0_becomes_84 : decode cX0_becomes 84 = .ok (.aload_n 3, 1) := dk_45 (dk_at dksX0_becomes_3 15 rfl rfl)
theorem dX0_becomes_85 : decode cX0_becomes 85 = .ok (.getfield 383, 3) := dk_180 1 127 (dk_at dksX0_becomes_3 16 rfl rfl)
theorem dX0_becomes_88 : decode cX0_becomes 88 = .ok (.aload_n 2, 1) := dk_44 (dk_at dksX0_becomes_3 19 rfl rfl)
theorem dX0_becomes_89 : decode cX0_becomes 89 = .ok (.getfield 343, 3) := dk_180 1 87 (dk_at dksX0_becomes_3 20 rfl rfl)
theorem dX0_becomes_92 : decode cX0_becomes 92 = .ok (.invokespecial 384, 3) := dk_183 1 128 (dk_at dksX0_becomes_4 0 rfl rfl)
theorem dX0_becomes_95 : decode cX0_becomes 95 = .ok (.invokevirtual 187, 3) := dk_182 0 187 (dk_at dksX0_becomes_4 3 rfl rfl)
theorem dX0_becomes_98 : decode cX0_becomes 98 = .ok (.pop, 1) := dk_87 (dk_at dksX0_becomes_4 6 rfl rfl)
theorem dX0_becomes_99 : decode cX0_becomes 99 = .ok (.return_, 1) := dk_177 (dk_at dksX0_becomes_4 7 rfl rfl)
def dkwX0_anew_1 : List UInt8 := [182, 1, 144, 42, 180, 0, 20, 182, 0, 209, 172]
abbrev dktX0_anew_1 : List UInt8 := dkwX0_anew_1 ++ []
def dkwX0_anew_0 : List UInt8 := [42, 27, 182, 1, 17, 77, 44, 199, 0, 9, 42, 5, 182, 0, 107, 172, 42, 182, 1, 141, 42, 44]
abbrev dktX0_anew_0 : List UInt8 := dkwX0_anew_0 ++ dktX0_anew_1
theorem dksX0_anew_0 : cX0_anew.data.toList.drop 0 = dktX0_anew_0 := by decide +kernel
theorem dksX0_anew_1 : cX0_anew.data.toList.drop 22 = dktX0_anew_1 := dk_seg dksX0_anew_0 22 rfl rfl
theorem dX0_anew_0 : decode cX0_anew 0 = .ok (.aload_n 0, 1) := dk_42 (dk_at dksX0_anew_0 0 rfl rfl)
theorem dX0_anew_1 : decode cX0_anew 1 = .ok (.iload_n 1, 1) := dk_27 (dk_at dksX0_anew_0 1 rfl rfl)
theorem dX0_anew_2 : decode cX0_anew 2 = .ok (.invokevirtual 273, 3) := dk_182 1 17 (dk_at dksX0_anew_0 2 rfl rfl)
theorem dX0_anew_5 : decode cX0_anew 5 = .ok (.astore_n 2, 1) := dk_77 (dk_at dksX0_anew_0 5 rfl rfl)
theorem dX0_anew_6 : decode cX0_anew 6 = .ok (.aload_n 2, 1) := dk_44 (dk_at dksX0_anew_0 6 rfl rfl)
theorem dX0_anew_7 : decode cX0_anew 7 = .ok (.ifnonnull 9, 3) := dk_199 0 9 (dk_at dksX0_anew_0 7 rfl rfl)
theorem dX0_anew_10 : decode cX0_anew 10 = .ok (.aload_n 0, 1) := dk_42 (dk_at dksX0_anew_0 10 rfl rfl)
theorem dX0_anew_11 : decode cX0_anew 11 = .ok (.iconst 2, 1) := dk_5 (dk_at dksX0_anew_0 11 rfl rfl)
theorem dX0_anew_12 : decode cX0_anew 12 = .ok (.invokevirtual 107, 3) := dk_182 0 107 (dk_at dksX0_anew_0 12 rfl rfl)
theorem dX0_anew_15 : decode cX0_anew 15 = .ok (.ireturn, 1) := dk_172 (dk_at dksX0_anew_0 15 rfl rfl)
theorem dX0_anew_16 : decode cX0_anew 16 = .ok (.aload_n 0, 1) := dk_42 (dk_at dksX0_anew_0 16 rfl rfl)
theorem dX0_anew_17 : decode cX0_anew 17 = .ok (.invokevirtual 397, 3) := dk_182 1 141 (dk_at dksX0_anew_0 17 rfl rfl)
theorem dX0_anew_20 : decode cX0_anew 20 = .ok (.aload_n 0, 1) := dk_42 (dk_at dksX0_anew_0 20 rfl rfl)
theorem dX0_anew_21 : decode cX0_anew 21 = .ok (.aload_n 2, 1) := dk_44 (dk_at dksX0_anew_0 21 rfl rfl)
theorem dX0_anew_22 : decode cX0_anew 22 = .ok (.invokevirtual 400, 3) := dk_182 1 144 (dk_at dksX0_anew_1 0 rfl rfl)
theorem dX0_anew_25 : decode cX0_anew 25 = .ok (.aload_n 0, 1) := dk_42 (dk_at dksX0_anew_1 3 rfl rfl)
theorem dX0_anew_26 : decode cX0_anew 26 = .ok (.getfield 20, 3) := dk_180 0 20 (dk_at dksX0_anew_1 4 rfl rfl)
theorem dX0_anew_29 : decode cX0_anew 29 = .ok (.invokevirtual 209, 3) := dk_182 0 209 (dk_at dksX0_anew_1 7 rfl rfl)
theorem dX0_anew_32 : decode cX0_anew 32 = .ok (.ireturn, 1) := dk_172 (dk_at dksX0_anew_1 10 rfl rfl)
def dkwX0_allAnew_2 : List UInt8 := [28, 50, 182, 1, 105, 43, 182, 1, 137, 132, 2, 1, 167, 255, 212, 177]
abbrev dktX0_allAnew_2 : List UInt8 := dkwX0_allAnew_2 ++ []
def dkwX0_allAnew_1 : List UInt8 := [162, 0, 39, 42, 42, 180, 0, 51, 180, 1, 134, 28, 50, 42, 180, 0, 51, 42, 180, 0, 51, 180, 1, 134]
abbrev dktX0_allAnew_1 : List UInt8 := dkwX0_allAnew_1 ++ dktX0_allAnew_2
def dkwX0_allAnew_0 : List UInt8 := [42, 180, 0, 51, 182, 1, 97, 43, 182, 1, 101, 87, 3, 61, 28, 42, 180, 0, 51, 180, 1, 131]
abbrev dktX0_allAnew_0 : List UInt8 := dkwX0_allAnew_0 ++ dktX0_allAnew_1
theorem dksX0_allAnew_0 : cX0_allAnew.data.toList.drop 0 = dktX0_allAnew_0 := by decide +kernel
theorem dksX0_allAnew_1 : cX0_allAnew.data.toList.drop 22 = dktX0_allAnew_1 := dk_seg dksX0_allAnew_0 22 rfl rfl
theorem dksX0_allAnew_2 : cX0_allAnew.data.toList.drop 46 = dktX0_allAnew_2 := dk_seg dksX0_allAnew_1 24 rfl rfl
theorem dX0_allAnew_0 : decode cX0_allAnew 0 = .ok (.aload_n 0, 1) := dk_42 (dk_at dksX0_allAnew_0 0 rfl rfl)
theorem dX0_allAnew_1 : decode cX0_allAnew 1 = .ok (.getfield 51, 3) := dk_180 0 51 (dk_at dksX0_allAnew_0 1 rfl rfl)
theorem dX0_allAnew_4 : decode cX0_allAnew 4 = .ok (.invokevirtual 353, 3) := dk_182 1 97 (dk_at dksX0_allAnew_0 4 rfl rfl)
theorem dX0_allAnew_7 : decode cX0_allAnew 7 = .ok (.aload_n 1, 1) := dk_43 (dk_at dksX0_allAnew_0 7 rfl rfl)
theorem dX0_allAnew_8 : decode cX0_allAnew 8 = .ok (.invokevirtual 357, 3) := dk_182 1 101 (dk_at dksX0_allAnew_0 8 rfl rfl)
theorem dX0_allAnew_11 : decode cX0_allAnew 11 = .ok (.pop, 1) := dk_87 (dk_at dksX0_allAnew_0 11 rfl rfl)
theorem dX0_allAnew_12 : decode cX0_allAnew 12 = .ok (.iconst 0, 1) := dk_3 (dk_at dksX0_allAnew_0 12 rfl rfl)
theorem dX0_allAnew_13 : decode cX0_allAnew 13 = .ok (.istore_n 2, 1) := dk_61 (dk_at dksX0_allAnew_0 13 rfl rfl)
theorem dX0_allAnew_14 : decode cX0_allAnew 14 = .ok (.iload_n 2, 1) := dk_28 (dk_at dksX0_allAnew_0 14 rfl rfl)
theorem dX0_allAnew_15 : decode cX0_allAnew 15 = .ok (.aload_n 0, 1) := dk_42 (dk_at dksX0_allAnew_0 15 rfl rfl)
theorem dX0_allAnew_16 : decode cX0_allAnew 16 = .ok (.getfield 51, 3) := dk_180 0 51 (dk_at dksX0_allAnew_0 16 rfl rfl)
theorem dX0_allAnew_19 : decode cX0_allAnew 19 = .ok (.getfield 387, 3) := dk_180 1 131 (dk_at dksX0_allAnew_0 19 rfl rfl)
theorem dX0_allAnew_22 : decode cX0_allAnew 22 = .ok (.if_icmp .ge 39, 3) := dk_162 0 39 (dk_at dksX0_allAnew_1 0 rfl rfl)
theorem dX0_allAnew_25 : decode cX0_allAnew 25 = .ok (.aload_n 0, 1) := dk_42 (dk_at dksX0_allAnew_1 3 rfl rfl)
theorem dX0_allAnew_26 : decode cX0_allAnew 26 = .ok (.aload_n 0, 1) := dk_42 (dk_at dksX0_allAnew_1 4 rfl rfl)
theorem dX0_allAnew_27 : decode cX0_allAnew 27 = .ok (.getfield 51, 3) := dk_180 0 51 (dk_at dksX0_allAnew_1 5 rfl rfl)
theorem dX0_allAnew_30 : decode cX0_allAnew 30 = .ok (.getfield 390, 3) := dk_180 1 134 (dk_at dksX0_allAnew_1 8 rfl rfl)
theorem dX0_allAnew_33 : decode cX0_allAnew 33 = .ok (.iload_n 2, 1) := dk_28 (dk_at dksX0_allAnew_1 11 rfl rfl)
theorem dX0_allAnew_34 : decode cX0_allAnew 34 = .ok (.aaload, 1) := dk_50 (dk_at dksX0_allAnew_1 12 rfl rfl)
theorem dX0_allAnew_35 : decode cX0_allAnew 35 = .ok (.aload_n 0, 1) := dk_42 (dk_at dksX0_allAnew_1 13 rfl rfl)
theorem dX0_allAnew_36 : decode cX0_allAnew 36 = .ok (.getfield 51, 3) := dk_180 0 51 (dk_at dksX0_allAnew_1 14 rfl rfl)
theorem dX0_allAnew_39 : decode cX0_allAnew 39 = .ok (.aload_n 0, 1) := dk_42 (dk_at dksX0_allAnew_1 17 rfl rfl)
theorem dX0_allAnew_40 : decode cX0_allAnew 40 = .ok (.getfield 51, 3) := dk_180 0 51 (dk_at dksX0_allAnew_1 18 rfl rfl)
theorem dX0_allAnew_43 : decode cX0_allAnew 43 = .ok (.getfield 390, 3) := dk_180 1 134 (dk_at dksX0_allAnew_1 21 rfl rfl)
theorem dX0_allAnew_46 : decode cX0_allAnew 46 = .ok (.iload_n 2, 1) := dk_28 (dk_at dksX0_allAnew_2 0 rfl rfl)
theorem dX0_allAnew_47 : decode cX0_allAnew 47 = .ok (.aaload, 1) := dk_50 (dk_at dksX0_allAnew_2 1 rfl rfl)
theorem dX0_allAnew_48 : decode cX0_allAnew 48 = .ok (.invokevirtual 361, 3) := dk_182 1 105 (dk_at dksX0_allAnew_2 2 rfl rfl)
theorem dX0_allAnew_51 : decode cX0_allAnew 51 = .ok (.aload_n 1, 1) := dk_43 (dk_at dksX0_allAnew_2 5 rfl rfl)
theorem dX0_allAnew_52 : decode cX0_allAnew 52 = .ok (.invokevirtual 393, 3) := dk_182 1 137 (dk_at dksX0_allAnew_2 6 rfl rfl)
theorem dX0_allAnew_55 : decode cX0_allAnew 55 = .ok (.iinc 2 1, 3) := dk_132 2 1 (dk_at dksX0_allAnew_2 9 rfl rfl)
theorem dX0_allAnew_58 : decode cX0_allAnew 58 = .ok (.goto (-44), 3) := dk_167 255 212 (dk_at dksX0_allAnew_2 12 rfl rfl)
theorem dX0_allAnew_61 : decode cX0_allAnew 61 = .ok (.return_, 1) := dk_177 (dk_at dksX0_allAnew_2 15 rfl rfl)
def dkwX0_council_3 : List UInt8 := [182, 0, 172, 42, 182, 1, 141, 45, 180, 0, 243, 25, 4, 182, 1, 118, 87, 25, 4, 182, 1, 62, 172]
abbrev dktX0_council_3 : List UInt8 := dkwX0_council_3 ++ []
def dkwX0_council_2 : List UInt8 := [183, 0, 162, 25, 4, 182, 1, 148, 87, 167, 0, 13, 58, 5, 42, 25, 5, 5, 182, 0, 168, 172, 42]
abbrev dktX0_council_2 : List UInt8 := dkwX0_council_2 ++ dktX0_council_3
def dkwX0_council_1 : List UInt8 := [182, 0, 107, 172, 187, 0, 83, 89, 183, 0, 85, 58, 4, 187, 0, 160, 89, 42, 28, 42, 180, 0, 20]
abbrev dktX0_council_1 : List UInt8 := dkwX0_council_1 ++ dktX0_council_2
def dkwX0_council_0 : List UInt8 := [42, 180, 0, 111, 61, 42, 27, 182, 0, 239, 78, 42, 3, 181, 0, 111, 45, 199, 0, 9, 42, 5]
abbrev dktX0_council_0 : List UInt8 := dkwX0_council_0 ++ dktX0_council_1
theorem dksX0_council_0 : cX0_council.data.toList.drop 0 = dktX0_council_0 := by decide +kernel
theorem dksX0_council_1 : cX0_council.data.toList.drop 22 = dktX0_council_1 := dk_seg dksX0_council_0 22 rfl rfl
theorem dksX0_council_2 : cX0_council.data.toList.drop 45 = dktX0_council_2 := dk_seg dksX0_council_1 23 rfl rfl
theorem dksX0_council_3 : cX0_council.data.toList.drop 68 = dktX0_council_3 := dk_seg dksX0_council_2 23 rfl rfl
theorem dX0_council_0 : decode cX0_council 0 = .ok (.aload_n 0, 1) := dk_42 (dk_at dksX0_council_0 0 rfl rfl)
theorem dX0_council_1 : decode cX0_council 1 = .ok (.getfield 111, 3) := dk_180 0 111 (dk_at dksX0_council_0 1 rfl rfl)
theorem dX0_council_4 : decode cX0_council 4 = .ok (.istore_n 2, 1) := dk_61 (dk_at dksX0_council_0 4 rfl rfl)
theorem dX0_council_5 : decode cX0_council 5 = .ok (.aload_n 0, 1) := dk_42 (dk_at dksX0_council_0 5 rfl rfl)
theorem dX0_council_6 : decode cX0_council 6 = .ok (.iload_n 1, 1) := dk_27 (dk_at dksX0_council_0 6 rfl rfl)
theorem dX0_council_7 : decode cX0_council 7 = .ok (.invokevirtual 239, 3) := dk_182 0 239 (dk_at dksX0_council_0 7 rfl rfl)
theorem dX0_council_10 : decode cX0_council 10 = .ok (.astore_n 3, 1) := dk_78 (dk_at dksX0_council_0 10 rfl rfl)
theorem dX0_council_11 : decode cX0_council 11 = .ok (.aload_n 0, 1) := dk_42 (dk_at dksX0_council_0 11 rfl rfl)
theorem dX0_council_12 : decode cX0_council 12 = .ok (.iconst 0, 1) := dk_3 (dk_at dksX0_council_0 12 rfl rfl)
theorem dX0_council_13 : decode cX0_council 13 = .ok (.putfield 111, 3) := dk_181 0 111 (dk_at dksX0_council_0 13 rfl rfl)
theorem dX0_council_16 : decode cX0_council 16 = .ok (.aload_n 3, 1) := dk_45 (dk_at dksX0_council_0 16 rfl rfl)
theorem dX0_council_17 : decode cX0_council 17 = .ok (.ifnonnull 9, 3) := dk_199 0 9 (dk_at dksX0_council_0 17 rfl rfl)
theorem dX0_council_20 : decode cX0_council 20 = .ok (.aload_n 0, 1) := dk_42 (dk_at dksX0_council_0 20 rfl rfl)
theorem dX0_council_21 : decode cX0_council 21 = .ok (.iconst 2, 1) := dk_5 (dk_at dksX0_council_0 21 rfl rfl)
theorem dX0_council_22 : decode cX0_council 22 = .ok (.invokevirtual 107, 3) := dk_182 0 107 (dk_at dksX0_council_1 0 rfl rfl)
theorem dX0_council_25 : decode cX0_council 25 = .ok (.ireturn, 1) := dk_172 (dk_at dksX0_council_1 3 rfl rfl)
theorem dX0_council_26 : decode cX0_council 26 = .ok (.new 83, 3) := dk_187 0 83 (dk_at dksX0_council_1 4 rfl rfl)
theorem dX0_council_29 : decode cX0_council 29 = .ok (.dup, 1) := dk_89 (dk_at dksX0_council_1 7 rfl rfl)
theorem dX0_council_30 : decode cX0_council 30 = .ok (.invokespecial 85, 3) := dk_183 0 85 (dk_at dksX0_council_1 8 rfl rfl)
theorem dX0_council_33 : decode cX0_council 33 = .ok (.astore 4, 2) := dk_58 4 (dk_at dksX0_council_1 11 rfl rfl)
theorem dX0_council_35 : decode cX0_council 35 = .ok (.new 160, 3) := dk_187 0 160 (dk_at dksX0_council_1 13 rfl rfl)
theorem dX0_council_38 : decode cX0_council 38 = .ok (.dup, 1) := dk_89 (dk_at dksX0_council_1 16 rfl rfl)
theorem dX0_council_39 : decode cX0_council 39 = .ok (.aload_n 0, 1) := dk_42 (dk_at dksX0_council_1 17 rfl rfl)
theorem dX0_council_40 : decode cX0_council 40 = .ok (.iload_n 2, 1) := dk_28 (dk_at dksX0_council_1 18 rfl rfl)
theorem dX0_council_41 : decode cX0_council 41 = .ok (.aload_n 0, 1) := dk_42 (dk_at dksX0_council_1 19 rfl rfl)
theorem dX0_council_42 : decode cX0_council 42 = .ok (.getfield 20, 3) := dk_180 0 20 (dk_at dksX0_council_1 20 rfl rfl)
theorem dX0_council_45 : decode cX0_council 45 = .ok (.invokespecial 162, 3) := dk_183 0 162 (dk_at dksX0_council_2 0 rfl rfl)
theorem dX0_council_48 : decode cX0_council 48 = .ok (.aload 4, 2) := dk_25 4 (dk_at dksX0_council_2 3 rfl rfl)
theorem dX0_council_50 : decode cX0_council 50 = .ok (.invokevirtual 404, 3) := dk_182 1 148 (dk_at dksX0_council_2 5 rfl rfl)
theorem dX0_council_53 : decode cX0_council 53 = .ok (.pop, 1) := dk_87 (dk_at dksX0_council_2 8 rfl rfl)
theorem dX0_council_54 : decode cX0_council 54 = .ok (.goto 13, 3) := dk_167 0 13 (dk_at dksX0_council_2 9 rfl rfl)
theorem dX0_council_57 : decode cX0_council 57 = .ok (.astore 5, 2) := dk_58 5 (dk_at dksX0_council_2 12 rfl rfl)
theorem dX0_council_59 : decode cX0_council 59 = .ok (.aload_n 0, 1) := dk_42 (dk_at dksX0_council_2 14 rfl rfl)
theorem dX0_council_60 : decode cX0_council 60 = .ok (.aload 5, 2) := dk_25 5 (dk_at dksX0_council_2 15 rfl rfl)
theorem dX0_council_62 : decode cX0_council 62 = .ok (.iconst 2, 1) := dk_5 (dk_at dksX0_council_2 17 rfl rfl)
theorem dX0_council_63 : decode cX0_council 63 = .ok (.invokevirtual 168, 3) := dk_182 0 168 (dk_at dksX0_council_2 18 rfl rfl)
theorem dX0_council_66 : decode cX0_council 66 = .ok (.ireturn, 1) := dk_172 (dk_at dksX0_council_2 21 rfl rfl)
theorem dX0_council_67 : decode cX0_council 67 = .ok (.aload_n 0, 1) := dk_42 (dk_at dksX0_council_2 22 rfl rfl)
theorem dX0_council_68 : decode cX0_council 68 = .ok (.invokevirtual 172, 3) := dk_182 0 172 (dk_at dksX0_council_3 0 rfl rfl)
theorem dX0_council_71 : decode cX0_council 71 = .ok (.aload_n 0, 1) := dk_42 (dk_at dksX0_council_3 3 rfl rfl)
theorem dX0_council_72 : decode cX0_council 72 = .ok (.invokevirtual 397, 3) := dk_182 1 141 (dk_at dksX0_council_3 4 rfl rfl)
theorem dX0_council_75 : decode cX0_council 75 = .ok (.aload_n 3, 1) := dk_45 (dk_at dksX0_council_3 7 rfl rfl)
theorem dX0_council_76 : decode cX0_council 76 = .ok (.getfield 243, 3) := dk_180 0 243 (dk_at dksX0_council_3 8 rfl rfl)
theorem dX0_council_79 : decode cX0_council 79 = .ok (.aload 4, 2) := dk_25 4 (dk_at dksX0_council_3 11 rfl rfl)
theorem dX0_council_81 : decode cX0_council 81 = .ok (.invokevirtual 374, 3) := dk_182 1 118 (dk_at dksX0_council_3 13 rfl rfl)
theorem dX0_council_84 : decode cX0_council 84 = .ok (.pop, 1) := dk_87 (dk_at dksX0_council_3 16 rfl rfl)
theorem dX0_council_85 : decode cX0_council 85 = .ok (.aload 4, 2) := dk_25 4 (dk_at dksX0_council_3 17 rfl rfl)
theorem dX0_council_87 : decode cX0_council 87 = .ok (.invokevirtual 318, 3) := dk_182 1 62 (dk_at dksX0_council_3 19 rfl rfl)
theorem dX0_council_90 : decode cX0_council 90 = .ok (.ireturn, 1) := dk_172 (dk_at dksX0_council_3 22 rfl rfl)
def dkwX0_sing_1 : List UInt8 := [42, 182, 1, 141, 45, 28, 181, 1, 46, 4, 172]
abbrev dktX0_sing_1 : List UInt8 := dkwX0_sing_1 ++ []
def dkwX0_sing_0 : List UInt8 := [42, 27, 182, 0, 239, 78, 45, 198, 0, 11, 45, 180, 1, 46, 28, 160, 0, 9, 42, 5, 182, 0, 118, 172]
abbrev dktX0_sing_0 : List UInt8 := dkwX0_sing_0 ++ dktX0_sing_1
theorem dksX0_sing_0 : cX0_sing.data.toList.drop 0 = dktX0_sing_0 := by decide +kernel
theorem dksX0_sing_1 : cX0_sing.data.toList.drop 24 = dktX0_sing_1 := dk_seg dksX0_sing_0 24 rfl rfl
theorem dX0_sing_0 : decode cX0_sing 0 = .ok (.aload_n 0, 1) := dk_42 (dk_at dksX0_sing_0 0 rfl rfl)
theorem dX0_sing_1 : decode cX0_sing 1 = .ok (.iload_n 1, 1) := dk_27 (dk_at dksX0_sing_0 1 rfl rfl)
theorem dX0_sing_2 : decode cX0_sing 2 = .ok (.invokevirtual 239, 3) := dk_182 0 239 (dk_at dksX0_sing_0 2 rfl rfl)
theorem dX0_sing_5 : decode cX0_sing 5 = .ok (.astore_n 3, 1) := dk_78 (dk_at dksX0_sing_0 5 rfl rfl)
theorem dX0_sing_6 : decode cX0_sing 6 = .ok (.aload_n 3, 1) := dk_45 (dk_at dksX0_sing_0 6 rfl rfl)
theorem dX0_sing_7 : decode cX0_sing 7 = .ok (.ifnull 11, 3) := dk_198 0 11 (dk_at dksX0_sing_0 7 rfl rfl)
theorem dX0_sing_10 : decode cX0_sing 10 = .ok (.aload_n 3, 1) := dk_45 (dk_at dksX0_sing_0 10 rfl rfl)
theorem dX0_sing_11 : decode cX0_sing 11 = .ok (.getfield 302, 3) := dk_180 1 46 (dk_at dksX0_sing_0 11 rfl rfl)
theorem dX0_sing_14 : decode cX0_sing 14 = .ok (.iload_n 2, 1) := dk_28 (dk_at dksX0_sing_0 14 rfl rfl)
theorem dX0_sing_15 : decode cX0_sing 15 = .ok (.if_icmp .ne 9, 3) := dk_160 0 9 (dk_at dksX0_sing_0 15 rfl rfl)
theorem dX0_sing_18 : decode cX0_sing 18 = .ok (.aload_n 0, 1) := dk_42 (dk_at dksX0_sing_0 18 rfl rfl)
theorem dX0_sing_19 : decode cX0_sing 19 = .ok (.iconst 2, 1) := dk_5 (dk_at dksX0_sing_0 19 rfl rfl)
theorem dX0_sing_20 : decode cX0_sing 20 = .ok (.invokevirtual 118, 3) := dk_182 0 118 (dk_at dksX0_sing_0 20 rfl rfl)
theorem dX0_sing_23 : decode cX0_sing 23 = .ok (.ireturn, 1) := dk_172 (dk_at dksX0_sing_0 23 rfl rfl)
theorem dX0_sing_24 : decode cX0_sing 24 = .ok (.aload_n 0, 1) := dk_42 (dk_at dksX0_sing_1 0 rfl rfl)
theorem dX0_sing_25 : decode cX0_sing 25 = .ok (.invokevirtual 397, 3) := dk_182 1 141 (dk_at dksX0_sing_1 1 rfl rfl)
theorem dX0_sing_28 : decode cX0_sing 28 = .ok (.aload_n 3, 1) := dk_45 (dk_at dksX0_sing_1 4 rfl rfl)
theorem dX0_sing_29 : decode cX0_sing 29 = .ok (.iload_n 2, 1) := dk_28 (dk_at dksX0_sing_1 5 rfl rfl)
theorem dX0_sing_30 : decode cX0_sing 30 = .ok (.putfield 302, 3) := dk_181 1 46 (dk_at dksX0_sing_1 6 rfl rfl)
theorem dX0_sing_33 : decode cX0_sing 33 = .ok (.iconst 1, 1) := dk_4 (dk_at dksX0_sing_1 9 rfl rfl)
theorem dX0_sing_34 : decode cX0_sing 34 = .ok (.ireturn, 1) := dk_172 (dk_at dksX0_sing_1 10 rfl rfl)
def dkwX0_swap_3 : List UInt8 := [87, 42, 180, 0, 20, 180, 1, 49, 28, 45, 182, 1, 151, 87, 4, 172]
abbrev dktX0_swap_3 : List UInt8 := dkwX0_swap_3 ++ []
def dkwX0_swap_2 : List UInt8 := [180, 0, 20, 180, 1, 49, 27, 42, 180, 0, 20, 180, 1, 49, 28, 182, 0, 132, 192, 0, 237, 182, 1, 151]
abbrev dktX0_swap_2 : List UInt8 := dkwX0_swap_2 ++ dktX0_swap_3
def dkwX0_swap_1 : List UInt8 := [182, 0, 118, 172, 42, 182, 1, 141, 42, 180, 0, 20, 180, 1, 49, 27, 182, 0, 132, 192, 0, 237, 78, 42]
abbrev dktX0_swap_1 : List UInt8 := dkwX0_swap_1 ++ dktX0_swap_2
def dkwX0_swap_0 : List UInt8 := [42, 27, 182, 1, 68, 153, 0, 16, 42, 28, 182, 1, 68, 153, 0, 8, 27, 28, 160, 0, 9, 42, 6]
abbrev dktX0_swap_0 : List UInt8 := dkwX0_swap_0 ++ dktX0_swap_1
theorem dksX0_swap_0 : cX0_swap.data.toList.drop 0 = dktX0_swap_0 := by decide +kernel
theorem dksX0_swap_1 : cX0_swap.data.toList.drop 23 = dktX0_swap_1 := dk_seg dksX0_swap_0 23 rfl rfl
theorem dksX0_swap_2 : cX0_swap.data.toList.drop 47 = dktX0_swap_2 := dk_seg dksX0_swap_1 24 rfl rfl
theorem dksX0_swap_3 : cX0_swap.data.toList.drop 71 = dktX0_swap_3 := dk_seg dksX0_swap_2 24 rfl rfl
theorem dX0_swap_0 : decode cX0_swap 0 = .ok (.aload_n 0, 1) := dk_42 (dk_at dksX0_swap_0 0 rfl rfl)
theorem dX0_swap_1 : decode cX0_swap 1 = .ok (.iload_n 1, 1) := dk_27 (dk_at dksX0_swap_0 1 rfl rfl)
theorem dX0_swap_2 : decode cX0_swap 2 = .ok (.invokevirtual 324, 3) := dk_182 1 68 (dk_at dksX0_swap_0 2 rfl rfl)
theorem dX0_swap_5 : decode cX0_swap 5 = .ok (.ifCond .eq 16, 3) := dk_153 0 16 (dk_at dksX0_swap_0 5 rfl rfl)
theorem dX0_swap_8 : decode cX0_swap 8 = .ok (.aload_n 0, 1) := dk_42 (dk_at dksX0_swap_0 8 rfl rfl)
theorem dX0_swap_9 : decode cX0_swap 9 = .ok (.iload_n 2, 1) := dk_28 (dk_at dksX0_swap_0 9 rfl rfl)
theorem dX0_swap_10 : decode cX0_swap 10 = .ok (.invokevirtual 324, 3) := dk_182 1 68 (dk_at dksX0_swap_0 10 rfl rfl)
theorem dX0_swap_13 : decode cX0_swap 13 = .ok (.ifCond .eq 8, 3) := dk_153 0 8 (dk_at dksX0_swap_0 13 rfl rfl)
theorem dX0_swap_16 : decode cX0_swap 16 = .ok (.iload_n 1, 1) := dk_27 (dk_at dksX0_swap_0 16 rfl rfl)
theorem dX0_swap_17 : decode cX0_swap 17 = .ok (.iload_n 2, 1) := dk_28 (dk_at dksX0_swap_0 17 rfl rfl)
theorem dX0_swap_18 : decode cX0_swap 18 = .ok (.if_icmp .ne 9, 3) := dk_160 0 9 (dk_at dksX0_swap_0 18 rfl rfl)
theorem dX0_swap_21 : decode cX0_swap 21 = .ok (.aload_n 0, 1) := dk_42 (dk_at dksX0_swap_0 21 rfl rfl)
theorem dX0_swap_22 : decode cX0_swap 22 = .ok (.iconst 3, 1) := dk_6 (dk_at dksX0_swap_0 22 rfl rfl)
theorem dX0_swap_23 : decode cX0_swap 23 = .ok (.invokevirtual 118, 3) := dk_182 0 118 (dk_at dksX0_swap_1 0 rfl rfl)
theorem dX0_swap_26 : decode cX0_swap 26 = .ok (.ireturn, 1) := dk_172 (dk_at dksX0_swap_1 3 rfl rfl)
theorem dX0_swap_27 : decode cX0_swap 27 = .ok (.aload_n 0, 1) := dk_42 (dk_at dksX0_swap_1 4 rfl rfl)
theorem dX0_swap_28 : decode cX0_swap 28 = .ok (.invokevirtual 397, 3) := dk_182 1 141 (dk_at dksX0_swap_1 5 rfl rfl)
theorem dX0_swap_31 : decode cX0_swap 31 = .ok (.aload_n 0, 1) := dk_42 (dk_at dksX0_swap_1 8 rfl rfl)
theorem dX0_swap_32 : decode cX0_swap 32 = .ok (.getfield 20, 3) := dk_180 0 20 (dk_at dksX0_swap_1 9 rfl rfl)
theorem dX0_swap_35 : decode cX0_swap 35 = .ok (.getfield 305, 3) := dk_180 1 49 (dk_at dksX0_swap_1 12 rfl rfl)
theorem dX0_swap_38 : decode cX0_swap 38 = .ok (.iload_n 1, 1) := dk_27 (dk_at dksX0_swap_1 15 rfl rfl)
theorem dX0_swap_39 : decode cX0_swap 39 = .ok (.invokevirtual 132, 3) := dk_182 0 132 (dk_at dksX0_swap_1 16 rfl rfl)
theorem dX0_swap_42 : decode cX0_swap 42 = .ok (.checkcast 237, 3) := dk_192 0 237 (dk_at dksX0_swap_1 19 rfl rfl)
theorem dX0_swap_45 : decode cX0_swap 45 = .ok (.astore_n 3, 1) := dk_78 (dk_at dksX0_swap_1 22 rfl rfl)
theorem dX0_swap_46 : decode cX0_swap 46 = .ok (.aload_n 0, 1) := dk_42 (dk_at dksX0_swap_1 23 rfl rfl)
theorem dX0_swap_47 : decode cX0_swap 47 = .ok (.getfield 20, 3) := dk_180 0 20 (dk_at dksX0_swap_2 0 rfl rfl)
theorem dX0_swap_50 : decode cX0_swap 50 = .ok (.getfield 305, 3) := dk_180 1 49 (dk_at dksX0_swap_2 3 rfl rfl)
theorem dX0_swap_53 : decode cX0_swap 53 = .ok (.iload_n 1, 1) := dk_27 (dk_at dksX0_swap_2 6 rfl rfl)
theorem dX0_swap_54 : decode cX0_swap 54 = .ok (.aload_n 0, 1) := dk_42 (dk_at dksX0_swap_2 7 rfl rfl)
theorem dX0_swap_55 : decode cX0_swap 55 = .ok (.getfield 20, 3) := dk_180 0 20 (dk_at dksX0_swap_2 8 rfl rfl)
theorem dX0_swap_58 : decode cX0_swap 58 = .ok (.getfield 305, 3) := dk_180 1 49 (dk_at dksX0_swap_2 11 rfl rfl)
theorem dX0_swap_61 : decode cX0_swap 61 = .ok (.iload_n 2, 1) := dk_28 (dk_at dksX0_swap_2 14 rfl rfl)
theorem dX0_swap_62 : decode cX0_swap 62 = .ok (.invokevirtual 132, 3) := dk_182 0 132 (dk_at dksX0_swap_2 15 rfl rfl)
theorem dX0_swap_65 : decode cX0_swap 65 = .ok (.checkcast 237, 3) := dk_192 0 237 (dk_at dksX0_swap_2 18 rfl rfl)
theorem dX0_swap_68 : decode cX0_swap 68 = .ok (.invokevirtual 407, 3) := dk_182 1 151 (dk_at dksX0_swap_2 21 rfl rfl)
theorem dX0_swap_71 : decode cX0_swap 71 = .ok (.pop, 1) := dk_87 (dk_at dksX0_swap_3 0 rfl rfl)
theorem dX0_swap_72 : decode cX0_swap 72 = .ok (.aload_n 0, 1) := dk_42 (dk_at dksX0_swap_3 1 rfl rfl)
theorem dX0_swap_73 : decode cX0_swap 73 = .ok (.getfield 20, 3) := dk_180 0 20 (dk_at dksX0_swap_3 2 rfl rfl)
theorem dX0_swap_76 : decode cX0_swap 76 = .ok (.getfield 305, 3) := dk_180 1 49 (dk_at dksX0_swap_3 5 rfl rfl)
theorem dX0_swap_79 : decode cX0_swap 79 = .ok (.iload_n 2, 1) := dk_28 (dk_at dksX0_swap_3 8 rfl rfl)
theorem dX0_swap_80 : decode cX0_swap 80 = .ok (.aload_n 3, 1) := dk_45 (dk_at dksX0_swap_3 9 rfl rfl)
theorem dX0_swap_81 : decode cX0_swap 81 = .ok (.invokevirtual 407, 3) := dk_182 1 151 (dk_at dksX0_swap_3 10 rfl rfl)
theorem dX0_swap_84 : decode cX0_swap 84 = .ok (.pop, 1) := dk_87 (dk_at dksX0_swap_3 13 rfl rfl)
theorem dX0_swap_85 : decode cX0_swap 85 = .ok (.iconst 1, 1) := dk_4 (dk_at dksX0_swap_3 14 rfl rfl)
theorem dX0_swap_86 : decode cX0_swap 86 = .ok (.ireturn, 1) := dk_172 (dk_at dksX0_swap_3 15 rfl rfl)
def dkwX0_years_2 : List UInt8 := [132, 2, 1, 167, 255, 244, 42, 180, 0, 20, 182, 0, 209, 172]
abbrev dktX0_years_2 : List UInt8 := dkwX0_years_2 ++ []
def dkwX0_years_1 : List UInt8 := [164, 0, 9, 42, 6, 182, 0, 107, 172, 42, 182, 1, 141, 3, 61, 28, 27, 162, 0, 13, 42, 182, 1, 168]
abbrev dktX0_years_1 : List UInt8 := dkwX0_years_1 ++ dktX0_years_2
def dkwX0_years_0 : List UInt8 := [27, 133, 10, 20, 1, 166, 184, 0, 124, 153, 0, 18, 42, 180, 0, 20, 180, 0, 221, 27, 96, 17, 39, 15]
abbrev dktX0_years_0 : List UInt8 := dkwX0_years_0 ++ dktX0_years_1
theorem dksX0_years_0 : cX0_years.data.toList.drop 0 = dktX0_years_0 := by decide +kernel
theorem dksX0_years_1 : cX0_years.data.toList.drop 24 = dktX0_years_1 := dk_seg dksX0_years_0 24 rfl rfl
theorem dksX0_years_2 : cX0_years.data.toList.drop 48 = dktX0_years_2 := dk_seg dksX0_years_1 24 rfl rfl
theorem dX0_years_0 : decode cX0_years 0 = .ok (.iload_n 1, 1) := dk_27 (dk_at dksX0_years_0 0 rfl rfl)
theorem dX0_years_1 : decode cX0_years 1 = .ok (.i2l, 1) := dk_133 (dk_at dksX0_years_0 1 rfl rfl)
theorem dX0_years_2 : decode cX0_years 2 = .ok (.lconst 1, 1) := dk_10 (dk_at dksX0_years_0 2 rfl rfl)
theorem dX0_years_3 : decode cX0_years 3 = .ok (.ldc2_w 422, 3) := dk_20 1 166 (dk_at dksX0_years_0 3 rfl rfl)
theorem dX0_years_6 : decode cX0_years 6 = .ok (.invokestatic 124, 3) := dk_184 0 124 (dk_at dksX0_years_0 6 rfl rfl)
theorem dX0_years_9 : decode cX0_years 9 = .ok (.ifCond .eq 18, 3) := dk_153 0 18 (dk_at dksX0_years_0 9 rfl rfl)
theorem dX0_years_12 : decode cX0_years 12 = .ok (.aload_n 0, 1) := dk_42 (dk_at dksX0_years_0 12 rfl rfl)
theorem dX0_years_13 : decode cX0_years 13 = .ok (.getfield 20, 3) := dk_180 0 20 (dk_at dksX0_years_0 13 rfl rfl)
theorem dX0_years_16 : decode cX0_years 16 = .ok (.getfield 221, 3) := dk_180 0 221 (dk_at dksX0_years_0 16 rfl rfl)
theorem dX0_years_19 : decode cX0_years 19 = .ok (.iload_n 1, 1) := dk_27 (dk_at dksX0_years_0 19 rfl rfl)
theorem dX0_years_20 : decode cX0_years 20 = .ok (.iadd, 1) := dk_96 (dk_at dksX0_years_0 20 rfl rfl)
theorem dX0_years_21 : decode cX0_years 21 = .ok (.sipush 9999, 3) := dk_17 39 15 (dk_at dksX0_years_0 21 rfl rfl)
theorem dX0_years_24 : decode cX0_years 24 = .ok (.if_icmp .le 9, 3) := dk_164 0 9 (dk_at dksX0_years_1 0 rfl rfl)
theorem dX0_years_27 : decode cX0_years 27 = .ok (.aload_n 0, 1) := dk_42 (dk_at dksX0_years_1 3 rfl rfl)
theorem dX0_years_28 : decode cX0_years 28 = .ok (.iconst 3, 1) := dk_6 (dk_at dksX0_years_1 4 rfl rfl)
theorem dX0_years_29 : decode cX0_years 29 = .ok (.invokevirtual 107, 3) := dk_182 0 107 (dk_at dksX0_years_1 5 rfl rfl)
theorem dX0_years_32 : decode cX0_years 32 = .ok (.ireturn, 1) := dk_172 (dk_at dksX0_years_1 8 rfl rfl)
theorem dX0_years_33 : decode cX0_years 33 = .ok (.aload_n 0, 1) := dk_42 (dk_at dksX0_years_1 9 rfl rfl)
theorem dX0_years_34 : decode cX0_years 34 = .ok (.invokevirtual 397, 3) := dk_182 1 141 (dk_at dksX0_years_1 10 rfl rfl)
theorem dX0_years_37 : decode cX0_years 37 = .ok (.iconst 0, 1) := dk_3 (dk_at dksX0_years_1 13 rfl rfl)
theorem dX0_years_38 : decode cX0_years 38 = .ok (.istore_n 2, 1) := dk_61 (dk_at dksX0_years_1 14 rfl rfl)
theorem dX0_years_39 : decode cX0_years 39 = .ok (.iload_n 2, 1) := dk_28 (dk_at dksX0_years_1 15 rfl rfl)
theorem dX0_years_40 : decode cX0_years 40 = .ok (.iload_n 1, 1) := dk_27 (dk_at dksX0_years_1 16 rfl rfl)
theorem dX0_years_41 : decode cX0_years 41 = .ok (.if_icmp .ge 13, 3) := dk_162 0 13 (dk_at dksX0_years_1 17 rfl rfl)
theorem dX0_years_44 : decode cX0_years 44 = .ok (.aload_n 0, 1) := dk_42 (dk_at dksX0_years_1 20 rfl rfl)
theorem dX0_years_45 : decode cX0_years 45 = .ok (.invokevirtual 424, 3) := dk_182 1 168 (dk_at dksX0_years_1 21 rfl rfl)
theorem dX0_years_48 : decode cX0_years 48 = .ok (.iinc 2 1, 3) := dk_132 2 1 (dk_at dksX0_years_2 0 rfl rfl)
theorem dX0_years_51 : decode cX0_years 51 = .ok (.goto (-12), 3) := dk_167 255 244 (dk_at dksX0_years_2 3 rfl rfl)
theorem dX0_years_54 : decode cX0_years 54 = .ok (.aload_n 0, 1) := dk_42 (dk_at dksX0_years_2 6 rfl rfl)
theorem dX0_years_55 : decode cX0_years 55 = .ok (.getfield 20, 3) := dk_180 0 20 (dk_at dksX0_years_2 7 rfl rfl)
theorem dX0_years_58 : decode cX0_years 58 = .ok (.invokevirtual 209, 3) := dk_182 0 209 (dk_at dksX0_years_2 10 rfl rfl)
theorem dX0_years_61 : decode cX0_years 61 = .ok (.ireturn, 1) := dk_172 (dk_at dksX0_years_2 13 rfl rfl)
def dkwX0_year_2 : List UInt8 := [42, 42, 180, 0, 20, 180, 0, 203, 182, 0, 128, 182, 1, 163, 182, 0, 132, 192, 0, 235, 182, 1, 144, 177]
abbrev dktX0_year_2 : List UInt8 := dkwX0_year_2 ++ []
def dkwX0_year_1 : List UInt8 := [154, 0, 47, 42, 180, 0, 20, 180, 0, 203, 182, 0, 190, 154, 0, 34, 42, 42, 180, 0, 20, 180, 0, 203]
abbrev dktX0_year_1 : List UInt8 := dkwX0_year_1 ++ dktX0_year_2
def dkwX0_year_0 : List UInt8 := [42, 180, 0, 20, 89, 180, 0, 221, 4, 96, 181, 0, 221, 42, 180, 0, 20, 180, 0, 221, 16, 9, 112]
abbrev dktX0_year_0 : List UInt8 := dkwX0_year_0 ++ dktX0_year_1
theorem dksX0_year_0 : cX0_year.data.toList.drop 0 = dktX0_year_0 := by decide +kernel
theorem dksX0_year_1 : cX0_year.data.toList.drop 23 = dktX0_year_1 := dk_seg dksX0_year_0 23 rfl rfl
theorem dksX0_year_2 : cX0_year.data.toList.drop 47 = dktX0_year_2 := dk_seg dksX0_year_1 24 rfl rfl
theorem dX0_year_0 : decode cX0_year 0 = .ok (.aload_n 0, 1) := dk_42 (dk_at dksX0_year_0 0 rfl rfl)
theorem dX0_year_1 : decode cX0_year 1 = .ok (.getfield 20, 3) := dk_180 0 20 (dk_at dksX0_year_0 1 rfl rfl)
theorem dX0_year_4 : decode cX0_year 4 = .ok (.dup, 1) := dk_89 (dk_at dksX0_year_0 4 rfl rfl)
theorem dX0_year_5 : decode cX0_year 5 = .ok (.getfield 221, 3) := dk_180 0 221 (dk_at dksX0_year_0 5 rfl rfl)
theorem dX0_year_8 : decode cX0_year 8 = .ok (.iconst 1, 1) := dk_4 (dk_at dksX0_year_0 8 rfl rfl)
theorem dX0_year_9 : decode cX0_year 9 = .ok (.iadd, 1) := dk_96 (dk_at dksX0_year_0 9 rfl rfl)
theorem dX0_year_10 : decode cX0_year 10 = .ok (.putfield 221, 3) := dk_181 0 221 (dk_at dksX0_year_0 10 rfl rfl)
theorem dX0_year_13 : decode cX0_year 13 = .ok (.aload_n 0, 1) := dk_42 (dk_at dksX0_year_0 13 rfl rfl)
theorem dX0_year_14 : decode cX0_year 14 = .ok (.getfield 20, 3) := dk_180 0 20 (dk_at dksX0_year_0 14 rfl rfl)
theorem dX0_year_17 : decode cX0_year 17 = .ok (.getfield 221, 3) := dk_180 0 221 (dk_at dksX0_year_0 17 rfl rfl)
theorem dX0_year_20 : decode cX0_year 20 = .ok (.bipush 9, 2) := dk_16 9 (dk_at dksX0_year_0 20 rfl rfl)
theorem dX0_year_22 : decode cX0_year 22 = .ok (.irem, 1) := dk_112 (dk_at dksX0_year_0 22 rfl rfl)
theorem dX0_year_23 : decode cX0_year 23 = .ok (.ifCond .ne 47, 3) := dk_154 0 47 (dk_at dksX0_year_1 0 rfl rfl)
theorem dX0_year_26 : decode cX0_year 26 = .ok (.aload_n 0, 1) := dk_42 (dk_at dksX0_year_1 3 rfl rfl)
theorem dX0_year_27 : decode cX0_year 27 = .ok (.getfield 20, 3) := dk_180 0 20 (dk_at dksX0_year_1 4 rfl rfl)
theorem dX0_year_30 : decode cX0_year 30 = .ok (.getfield 203, 3) := dk_180 0 203 (dk_at dksX0_year_1 7 rfl rfl)
theorem dX0_year_33 : decode cX0_year 33 = .ok (.invokevirtual 190, 3) := dk_182 0 190 (dk_at dksX0_year_1 10 rfl rfl)
theorem dX0_year_36 : decode cX0_year 36 = .ok (.ifCond .ne 34, 3) := dk_154 0 34 (dk_at dksX0_year_1 13 rfl rfl)
theorem dX0_year_39 : decode cX0_year 39 = .ok (.aload_n 0, 1) := dk_42 (dk_at dksX0_year_1 16 rfl rfl)
theorem dX0_year_40 : decode cX0_year 40 = .ok (.aload_n 0, 1) := dk_42 (dk_at dksX0_year_1 17 rfl rfl)
theorem dX0_year_41 : decode cX0_year 41 = .ok (.getfield 20, 3) := dk_180 0 20 (dk_at dksX0_year_1 18 rfl rfl)
theorem dX0_year_44 : decode cX0_year 44 = .ok (.getfield 203, 3) := dk_180 0 203 (dk_at dksX0_year_1 21 rfl rfl)
theorem dX0_year_47 : decode cX0_year 47 = .ok (.aload_n 0, 1) := dk_42 (dk_at dksX0_year_2 0 rfl rfl)
theorem dX0_year_48 : decode cX0_year 48 = .ok (.aload_n 0, 1) := dk_42 (dk_at dksX0_year_2 1 rfl rfl)
theorem dX0_year_49 : decode cX0_year 49 = .ok (.getfield 20, 3) := dk_180 0 20 (dk_at dksX0_year_2 2 rfl rfl)
theorem dX0_year_52 : decode cX0_year 52 = .ok (.getfield 203, 3) := dk_180 0 203 (dk_at dksX0_year_2 5 rfl rfl)
theorem dX0_year_55 : decode cX0_year 55 = .ok (.invokevirtual 128, 3) := dk_182 0 128 (dk_at dksX0_year_2 8 rfl rfl)
theorem dX0_year_58 : decode cX0_year 58 = .ok (.invokevirtual 419, 3) := dk_182 1 163 (dk_at dksX0_year_2 11 rfl rfl)
theorem dX0_year_61 : decode cX0_year 61 = .ok (.invokevirtual 132, 3) := dk_182 0 132 (dk_at dksX0_year_2 14 rfl rfl)
theorem dX0_year_64 : decode cX0_year 64 = .ok (.checkcast 235, 3) := dk_192 0 235 (dk_at dksX0_year_2 17 rfl rfl)
theorem dX0_year_67 : decode cX0_year 67 = .ok (.invokevirtual 400, 3) := dk_182 1 144 (dk_at dksX0_year_2 20 rfl rfl)
theorem dX0_year_70 : decode cX0_year 70 = .ok (.return_, 1) := dk_177 (dk_at dksX0_year_2 23 rfl rfl)
def dkwX0_drawn_1 : List UInt8 := [20, 1, 161, 109, 27, 133, 113, 136, 172]
abbrev dktX0_drawn_1 : List UInt8 := dkwX0_drawn_1 ++ []
def dkwX0_drawn_0 : List UInt8 := [42, 20, 1, 155, 42, 180, 0, 28, 105, 20, 1, 157, 97, 20, 1, 159, 127, 181, 0, 28, 42, 180, 0, 28]
abbrev dktX0_drawn_0 : List UInt8 := dkwX0_drawn_0 ++ dktX0_drawn_1
theorem dksX0_drawn_0 : cX0_drawn.data.toList.drop 0 = dktX0_drawn_0 := by decide +kernel
theorem dksX0_drawn_1 : cX0_drawn.data.toList.drop 24 = dktX0_drawn_1 := dk_seg dksX0_drawn_0 24 rfl rfl
theorem dX0_drawn_0 : decode cX0_drawn 0 = .ok (.aload_n 0, 1) := dk_42 (dk_at dksX0_drawn_0 0 rfl rfl)
theorem dX0_drawn_1 : decode cX0_drawn 1 = .ok (.ldc2_w 411, 3) := dk_20 1 155 (dk_at dksX0_drawn_0 1 rfl rfl)
theorem dX0_drawn_4 : decode cX0_drawn 4 = .ok (.aload_n 0, 1) := dk_42 (dk_at dksX0_drawn_0 4 rfl rfl)
theorem dX0_drawn_5 : decode cX0_drawn 5 = .ok (.getfield 28, 3) := dk_180 0 28 (dk_at dksX0_drawn_0 5 rfl rfl)
theorem dX0_drawn_8 : decode cX0_drawn 8 = .ok (.lmul, 1) := dk_105 (dk_at dksX0_drawn_0 8 rfl rfl)
theorem dX0_drawn_9 : decode cX0_drawn 9 = .ok (.ldc2_w 413, 3) := dk_20 1 157 (dk_at dksX0_drawn_0 9 rfl rfl)
theorem dX0_drawn_12 : decode cX0_drawn 12 = .ok (.ladd, 1) := dk_97 (dk_at dksX0_drawn_0 12 rfl rfl)
theorem dX0_drawn_13 : decode cX0_drawn 13 = .ok (.ldc2_w 415, 3) := dk_20 1 159 (dk_at dksX0_drawn_0 13 rfl rfl)
theorem dX0_drawn_16 : decode cX0_drawn 16 = .ok (.land, 1) := dk_127 (dk_at dksX0_drawn_0 16 rfl rfl)
theorem dX0_drawn_17 : decode cX0_drawn 17 = .ok (.putfield 28, 3) := dk_181 0 28 (dk_at dksX0_drawn_0 17 rfl rfl)
theorem dX0_drawn_20 : decode cX0_drawn 20 = .ok (.aload_n 0, 1) := dk_42 (dk_at dksX0_drawn_0 20 rfl rfl)
theorem dX0_drawn_21 : decode cX0_drawn 21 = .ok (.getfield 28, 3) := dk_180 0 28 (dk_at dksX0_drawn_0 21 rfl rfl)
theorem dX0_drawn_24 : decode cX0_drawn 24 = .ok (.ldc2_w 417, 3) := dk_20 1 161 (dk_at dksX0_drawn_1 0 rfl rfl)
theorem dX0_drawn_27 : decode cX0_drawn 27 = .ok (.ldiv, 1) := dk_109 (dk_at dksX0_drawn_1 3 rfl rfl)
theorem dX0_drawn_28 : decode cX0_drawn 28 = .ok (.iload_n 1, 1) := dk_27 (dk_at dksX0_drawn_1 4 rfl rfl)
theorem dX0_drawn_29 : decode cX0_drawn 29 = .ok (.i2l, 1) := dk_133 (dk_at dksX0_drawn_1 5 rfl rfl)
theorem dX0_drawn_30 : decode cX0_drawn 30 = .ok (.lrem, 1) := dk_113 (dk_at dksX0_drawn_1 6 rfl rfl)
theorem dX0_drawn_31 : decode cX0_drawn 31 = .ok (.l2i, 1) := dk_136 (dk_at dksX0_drawn_1 7 rfl rfl)
theorem dX0_drawn_32 : decode cX0_drawn 32 = .ok (.ireturn, 1) := dk_172 (dk_at dksX0_drawn_1 8 rfl rfl)
def dkwX0_seed_0 : List UInt8 := [27, 156, 0, 9, 42, 8, 182, 0, 118, 172, 42, 27, 133, 181, 0, 28, 4, 172]
abbrev dktX0_seed_0 : List UInt8 := dkwX0_seed_0 ++ []
theorem dksX0_seed_0 : cX0_seed.data.toList.drop 0 = dktX0_seed_0 := by decide +kernel
theorem dX0_seed_0 : decode cX0_seed 0 = .ok (.iload_n 1, 1) := dk_27 (dk_at dksX0_seed_0 0 rfl rfl)
theorem dX0_seed_1 : decode cX0_seed 1 = .ok (.ifCond .ge 9, 3) := dk_156 0 9 (dk_at dksX0_seed_0 1 rfl rfl)
theorem dX0_seed_4 : decode cX0_seed 4 = .ok (.aload_n 0, 1) := dk_42 (dk_at dksX0_seed_0 4 rfl rfl)
theorem dX0_seed_5 : decode cX0_seed 5 = .ok (.iconst 5, 1) := dk_8 (dk_at dksX0_seed_0 5 rfl rfl)
theorem dX0_seed_6 : decode cX0_seed 6 = .ok (.invokevirtual 118, 3) := dk_182 0 118 (dk_at dksX0_seed_0 6 rfl rfl)
theorem dX0_seed_9 : decode cX0_seed 9 = .ok (.ireturn, 1) := dk_172 (dk_at dksX0_seed_0 9 rfl rfl)
theorem dX0_seed_10 : decode cX0_seed 10 = .ok (.aload_n 0, 1) := dk_42 (dk_at dksX0_seed_0 10 rfl rfl)
theorem dX0_seed_11 : decode cX0_seed 11 = .ok (.iload_n 1, 1) := dk_27 (dk_at dksX0_seed_0 11 rfl rfl)
theorem dX0_seed_12 : decode cX0_seed 12 = .ok (.i2l, 1) := dk_133 (dk_at dksX0_seed_0 12 rfl rfl)
theorem dX0_seed_13 : decode cX0_seed 13 = .ok (.putfield 28, 3) := dk_181 0 28 (dk_at dksX0_seed_0 13 rfl rfl)
theorem dX0_seed_16 : decode cX0_seed 16 = .ok (.iconst 1, 1) := dk_4 (dk_at dksX0_seed_0 16 rfl rfl)
theorem dX0_seed_17 : decode cX0_seed 17 = .ok (.ireturn, 1) := dk_172 (dk_at dksX0_seed_0 17 rfl rfl)
def dkwX0_book_3 : List UInt8 := [45, 180, 1, 170, 172, 45, 180, 1, 171, 172, 45, 180, 1, 174, 172, 45, 180, 1, 177, 172, 2, 172]
abbrev dktX0_book_3 : List UInt8 := dkwX0_book_3 ++ []
def dkwX0_book_2 : List UInt8 := [170, 0, 0, 0, 0, 0, 0, 52, 0, 0, 0, 0, 0, 0, 0, 3, 0, 0, 0, 32, 0, 0, 0, 37, 0, 0, 0, 42, 0, 0, 0, 47]
abbrev dktX0_book_2 : List UInt8 := dkwX0_book_2 ++ dktX0_book_3
def dkwX0_book_1 : List UInt8 := [42, 180, 0, 20, 180, 0, 224, 27, 182, 0, 132, 192, 1, 125, 78, 28]
abbrev dktX0_book_1 : List UInt8 := dkwX0_book_1 ++ dktX0_book_2
def dkwX0_book_0 : List UInt8 := [27, 133, 9, 42, 180, 0, 20, 180, 0, 224, 182, 0, 128, 4, 100, 133, 184, 0, 124, 154, 0, 5, 2, 172]
abbrev dktX0_book_0 : List UInt8 := dkwX0_book_0 ++ dktX0_book_1
theorem dksX0_book_0 : cX0_book.data.toList.drop 0 = dktX0_book_0 := by decide +kernel
theorem dksX0_book_1 : cX0_book.data.toList.drop 24 = dktX0_book_1 := dk_seg dksX0_book_0 24 rfl rfl
theorem dksX0_book_2 : cX0_book.data.toList.drop 40 = dktX0_book_2 := dk_seg dksX0_book_1 16 rfl rfl
theorem dksX0_book_3 : cX0_book.data.toList.drop 72 = dktX0_book_3 := dk_seg dksX0_book_2 32 rfl rfl
theorem dX0_book_0 : decode cX0_book 0 = .ok (.iload_n 1, 1) := dk_27 (dk_at dksX0_book_0 0 rfl rfl)
theorem dX0_book_1 : decode cX0_book 1 = .ok (.i2l, 1) := dk_133 (dk_at dksX0_book_0 1 rfl rfl)
theorem dX0_book_2 : decode cX0_book 2 = .ok (.lconst 0, 1) := dk_9 (dk_at dksX0_book_0 2 rfl rfl)
theorem dX0_book_3 : decode cX0_book 3 = .ok (.aload_n 0, 1) := dk_42 (dk_at dksX0_book_0 3 rfl rfl)
theorem dX0_book_4 : decode cX0_book 4 = .ok (.getfield 20, 3) := dk_180 0 20 (dk_at dksX0_book_0 4 rfl rfl)
theorem dX0_book_7 : decode cX0_book 7 = .ok (.getfield 224, 3) := dk_180 0 224 (dk_at dksX0_book_0 7 rfl rfl)
theorem dX0_book_10 : decode cX0_book 10 = .ok (.invokevirtual 128, 3) := dk_182 0 128 (dk_at dksX0_book_0 10 rfl rfl)
theorem dX0_book_13 : decode cX0_book 13 = .ok (.iconst 1, 1) := dk_4 (dk_at dksX0_book_0 13 rfl rfl)
theorem dX0_book_14 : decode cX0_book 14 = .ok (.isub, 1) := dk_100 (dk_at dksX0_book_0 14 rfl rfl)
theorem dX0_book_15 : decode cX0_book 15 = .ok (.i2l, 1) := dk_133 (dk_at dksX0_book_0 15 rfl rfl)
theorem dX0_book_16 : decode cX0_book 16 = .ok (.invokestatic 124, 3) := dk_184 0 124 (dk_at dksX0_book_0 16 rfl rfl)
theorem dX0_book_19 : decode cX0_book 19 = .ok (.ifCond .ne 5, 3) := dk_154 0 5 (dk_at dksX0_book_0 19 rfl rfl)
theorem dX0_book_22 : decode cX0_book 22 = .ok (.iconst (-1), 1) := dk_2 (dk_at dksX0_book_0 22 rfl rfl)
theorem dX0_book_23 : decode cX0_book 23 = .ok (.ireturn, 1) := dk_172 (dk_at dksX0_book_0 23 rfl rfl)
theorem dX0_book_24 : decode cX0_book 24 = .ok (.aload_n 0, 1) := dk_42 (dk_at dksX0_book_1 0 rfl rfl)
theorem dX0_book_25 : decode cX0_book 25 = .ok (.getfield 20, 3) := dk_180 0 20 (dk_at dksX0_book_1 1 rfl rfl)
theorem dX0_book_28 : decode cX0_book 28 = .ok (.getfield 224, 3) := dk_180 0 224 (dk_at dksX0_book_1 4 rfl rfl)
theorem dX0_book_31 : decode cX0_book 31 = .ok (.iload_n 1, 1) := dk_27 (dk_at dksX0_book_1 7 rfl rfl)
theorem dX0_book_32 : decode cX0_book 32 = .ok (.invokevirtual 132, 3) := dk_182 0 132 (dk_at dksX0_book_1 8 rfl rfl)
theorem dX0_book_35 : decode cX0_book 35 = .ok (.checkcast 381, 3) := dk_192 1 125 (dk_at dksX0_book_1 11 rfl rfl)
theorem dX0_book_38 : decode cX0_book 38 = .ok (.astore_n 3, 1) := dk_78 (dk_at dksX0_book_1 14 rfl rfl)
theorem dX0_book_39 : decode cX0_book 39 = .ok (.iload_n 2, 1) := dk_28 (dk_at dksX0_book_1 15 rfl rfl)
theorem dX0_book_40 : decode cX0_book 40 = .ok (.tableswitch 52 0 3 #[32, 37, 42, 47], 32) := by decide +kernel
theorem dX0_book_72 : decode cX0_book 72 = .ok (.aload_n 3, 1) := dk_45 (dk_at dksX0_book_3 0 rfl rfl)
theorem dX0_book_73 : decode cX0_book 73 = .ok (.getfield 426, 3) := dk_180 1 170 (dk_at dksX0_book_3 1 rfl rfl)
theorem dX0_book_76 : decode cX0_book 76 = .ok (.ireturn, 1) := dk_172 (dk_at dksX0_book_3 4 rfl rfl)
theorem dX0_book_77 : decode cX0_book 77 = .ok (.aload_n 3, 1) := dk_45 (dk_at dksX0_book_3 5 rfl rfl)
theorem dX0_book_78 : decode cX0_book 78 = .ok (.getfield 427, 3) := dk_180 1 171 (dk_at dksX0_book_3 6 rfl rfl)
theorem dX0_book_81 : decode cX0_book 81 = .ok (.ireturn, 1) := dk_172 (dk_at dksX0_book_3 9 rfl rfl)
theorem dX0_book_82 : decode cX0_book 82 = .ok (.aload_n 3, 1) := dk_45 (dk_at dksX0_book_3 10 rfl rfl)
theorem dX0_book_83 : decode cX0_book 83 = .ok (.getfield 430, 3) := dk_180 1 174 (dk_at dksX0_book_3 11 rfl rfl)
theorem dX0_book_86 : decode cX0_book 86 = .ok (.ireturn, 1) := dk_172 (dk_at dksX0_book_3 14 rfl rfl)
theorem dX0_book_87 : decode cX0_book 87 = .ok (.aload_n 3, 1) := dk_45 (dk_at dksX0_book_3 15 rfl rfl)
theorem dX0_book_88 : decode cX0_book 88 = .ok (.getfield 433, 3) := dk_180 1 177 (dk_at dksX0_book_3 16 rfl rfl)
theorem dX0_book_91 : decode cX0_book 91 = .ok (.ireturn, 1) := dk_172 (dk_at dksX0_book_3 19 rfl rfl)
theorem dX0_book_92 : decode cX0_book 92 = .ok (.iconst (-1), 1) := dk_2 (dk_at dksX0_book_3 20 rfl rfl)
theorem dX0_book_93 : decode cX0_book 93 = .ok (.ireturn, 1) := dk_172 (dk_at dksX0_book_3 21 rfl rfl)
def dkwX0_odds_2 : List UInt8 := [180, 0, 203, 182, 0, 128, 108, 172]
abbrev dktX0_odds_2 : List UInt8 := dkwX0_odds_2 ++ []
def dkwX0_odds_1 : List UInt8 := [167, 0, 30, 17, 3, 232, 42, 44, 180, 0, 243, 44, 180, 1, 46, 182, 1, 58, 104, 42, 180, 0, 20]
abbrev dktX0_odds_1 : List UInt8 := dkwX0_odds_1 ++ dktX0_odds_2
def dkwX0_odds_0 : List UInt8 := [42, 27, 182, 1, 91, 77, 44, 198, 0, 16, 42, 180, 0, 20, 180, 0, 203, 182, 0, 190, 153, 0, 7, 2]
abbrev dktX0_odds_0 : List UInt8 := dkwX0_odds_0 ++ dktX0_odds_1
theorem dksX0_odds_0 : cX0_odds.data.toList.drop 0 = dktX0_odds_0 := by decide +kernel
theorem dksX0_odds_1 : cX0_odds.data.toList.drop 24 = dktX0_odds_1 := dk_seg dksX0_odds_0 24 rfl rfl
theorem dksX0_odds_2 : cX0_odds.data.toList.drop 47 = dktX0_odds_2 := dk_seg dksX0_odds_1 23 rfl rfl
theorem dX0_odds_0 : decode cX0_odds 0 = .ok (.aload_n 0, 1) := dk_42 (dk_at dksX0_odds_0 0 rfl rfl)
theorem dX0_odds_1 : decode cX0_odds 1 = .ok (.iload_n 1, 1) := dk_27 (dk_at dksX0_odds_0 1 rfl rfl)
theorem dX0_odds_2 : decode cX0_odds 2 = .ok (.invokevirtual 347, 3) := dk_182 1 91 (dk_at dksX0_odds_0 2 rfl rfl)
theorem dX0_odds_5 : decode cX0_odds 5 = .ok (.astore_n 2, 1) := dk_77 (dk_at dksX0_odds_0 5 rfl rfl)
theorem dX0_odds_6 : decode cX0_odds 6 = .ok (.aload_n 2, 1) := dk_44 (dk_at dksX0_odds_0 6 rfl rfl)
theorem dX0_odds_7 : decode cX0_odds 7 = .ok (.ifnull 16, 3) := dk_198 0 16 (dk_at dksX0_odds_0 7 rfl rfl)
theorem dX0_odds_10 : decode cX0_odds 10 = .ok (.aload_n 0, 1) := dk_42 (dk_at dksX0_odds_0 10 rfl rfl)
theorem dX0_odds_11 : decode cX0_odds 11 = .ok (.getfield 20, 3) := dk_180 0 20 (dk_at dksX0_odds_0 11 rfl rfl)
theorem dX0_odds_14 : decode cX0_odds 14 = .ok (.getfield 203, 3) := dk_180 0 203 (dk_at dksX0_odds_0 14 rfl rfl)
theorem dX0_odds_17 : decode cX0_odds 17 = .ok (.invokevirtual 190, 3) := dk_182 0 190 (dk_at dksX0_odds_0 17 rfl rfl)
theorem dX0_odds_20 : decode cX0_odds 20 = .ok (.ifCond .eq 7, 3) := dk_153 0 7 (dk_at dksX0_odds_0 20 rfl rfl)
theorem dX0_odds_23 : decode cX0_odds 23 = .ok (.iconst (-1), 1) := dk_2 (dk_at dksX0_odds_0 23 rfl rfl)
theorem dX0_odds_24 : decode cX0_odds 24 = .ok (.goto 30, 3) := dk_167 0 30 (dk_at dksX0_odds_1 0 rfl rfl)
theorem dX0_odds_27 : decode cX0_odds 27 = .ok (.sipush 1000, 3) := dk_17 3 232 (dk_at dksX0_odds_1 3 rfl rfl)
theorem dX0_odds_30 : decode cX0_odds 30 = .ok (.aload_n 0, 1) := dk_42 (dk_at dksX0_odds_1 6 rfl rfl)
theorem dX0_odds_31 : decode cX0_odds 31 = .ok (.aload_n 2, 1) := dk_44 (dk_at dksX0_odds_1 7 rfl rfl)
theorem dX0_odds_32 : decode cX0_odds 32 = .ok (.getfield 243, 3) := dk_180 0 243 (dk_at dksX0_odds_1 8 rfl rfl)
theorem dX0_odds_35 : decode cX0_odds 35 = .ok (.aload_n 2, 1) := dk_44 (dk_at dksX0_odds_1 11 rfl rfl)
theorem dX0_odds_36 : decode cX0_odds 36 = .ok (.getfield 302, 3) := dk_180 1 46 (dk_at dksX0_odds_1 12 rfl rfl)
theorem dX0_odds_39 : decode cX0_odds 39 = .ok (.invokevirtual 314, 3) := dk_182 1 58 (dk_at dksX0_odds_1 15 rfl rfl)
theorem dX0_odds_42 : decode cX0_odds 42 = .ok (.imul, 1) := dk_104 (dk_at dksX0_odds_1 18 rfl rfl)
theorem dX0_odds_43 : decode cX0_odds 43 = .ok (.aload_n 0, 1) := dk_42 (dk_at dksX0_odds_1 19 rfl rfl)
theorem dX0_odds_44 : decode cX0_odds 44 = .ok (.getfield 20, 3) := dk_180 0 20 (dk_at dksX0_odds_1 20 rfl rfl)
theorem dX0_odds_47 : decode cX0_odds 47 = .ok (.getfield 203, 3) := dk_180 0 203 (dk_at dksX0_odds_2 0 rfl rfl)
theorem dX0_odds_50 : decode cX0_odds 50 = .ok (.invokevirtual 128, 3) := dk_182 0 128 (dk_at dksX0_odds_2 3 rfl rfl)
theorem dX0_odds_53 : decode cX0_odds 53 = .ok (.idiv, 1) := dk_108 (dk_at dksX0_odds_2 6 rfl rfl)
theorem dX0_odds_54 : decode cX0_odds 54 = .ok (.ireturn, 1) := dk_172 (dk_at dksX0_odds_2 7 rfl rfl)
def dkwX0_becomes_2_4 : List UInt8 := [180, 1, 187, 28, 46, 172]
abbrev dktX0_becomes_2_4 : List UInt8 := dkwX0_becomes_2_4 ++ []
def dkwX0_becomes_2_3 : List UInt8 := [167, 0, 28, 29, 153, 0, 15, 42, 180, 0, 58, 180, 1, 184, 28, 46, 167, 0, 12, 42, 180, 0, 58]
abbrev dktX0_becomes_2_3 : List UInt8 := dkwX0_becomes_2_3 ++ dktX0_becomes_2_4
def dkwX0_becomes_2_2 : List UInt8 := [180, 1, 181, 172, 28, 133, 9, 42, 180, 0, 58, 180, 1, 181, 4, 100, 133, 184, 0, 124, 154, 0, 7, 2]
abbrev dktX0_becomes_2_2 : List UInt8 := dkwX0_becomes_2_2 ++ dktX0_becomes_2_3
def dkwX0_becomes_2_1 : List UInt8 := [153, 0, 5, 2, 172, 42, 180, 0, 58, 25, 4, 182, 1, 178, 87, 28, 2, 160, 0, 11, 42, 180, 0, 58]
abbrev dktX0_becomes_2_1 : List UInt8 := dkwX0_becomes_2_1 ++ dktX0_becomes_2_2
def dkwX0_becomes_2_0 : List UInt8 := [42, 27, 182, 1, 91, 58, 4, 25, 4, 198, 0, 16, 42, 180, 0, 20, 180, 0, 203, 182, 0, 190]
abbrev dktX0_becomes_2_0 : List UInt8 := dkwX0_becomes_2_0 ++ dktX0_becomes_2_1
theorem dksX0_becomes_2_0 : cX0_becomes_2.data.toList.drop 0 = dktX0_becomes_2_0 := by decide +kernel
theorem dksX0_becomes_2_1 : cX0_becomes_2.data.toList.drop 22 = dktX0_becomes_2_1 := dk_seg dksX0_becomes_2_0 22 rfl rfl
theorem dksX0_becomes_2_2 : cX0_becomes_2.data.toList.drop 46 = dktX0_becomes_2_2 := dk_seg dksX0_becomes_2_1 24 rfl rfl
theorem dksX0_becomes_2_3 : cX0_becomes_2.data.toList.drop 70 = dktX0_becomes_2_3 := dk_seg dksX0_becomes_2_2 24 rfl rfl
theorem dksX0_becomes_2_4 : cX0_becomes_2.data.toList.drop 93 = dktX0_becomes_2_4 := dk_seg dksX0_becomes_2_3 23 rfl rfl
theorem dX0_becomes_2_0 : decode cX0_becomes_2 0 = .ok (.aload_n 0, 1) := dk_42 (dk_at dksX0_becomes_2_0 0 rfl rfl)
theorem dX0_becomes_2_1 : decode cX0_becomes_2 1 = .ok (.iload_n 1, 1) := dk_27 (dk_at dksX0_becomes_2_0 1 rfl rfl)
theorem dX0_becomes_2_2 : decode cX0_becomes_2 2 = .ok (.invokevirtual 347, 3) := dk_182 1 91 (dk_at dksX0_becomes_2_0 2 rfl rfl)
theorem dX0_becomes_2_5 : decode cX0_becomes_2 5 = .ok (.astore 4, 2) := dk_58 4 (dk_at dksX0_becomes_2_0 5 rfl rfl)
theorem dX0_becomes_2_7 : decode cX0_becomes_2 7 = .ok (.aload 4, 2) := dk_25 4 (dk_at dksX0_becomes_2_0 7 rfl rfl)
theorem dX0_becomes_2_9 : decode cX0_becomes_2 9 = .ok (.ifnull 16, 3) := dk_198 0 16 (dk_at dksX0_becomes_2_0 9 rfl rfl)
theorem dX0_becomes_2_12 : decode cX0_becomes_2 12 = .ok (.aload_n 0, 1) := dk_42 (dk_at dksX0_becomes_2_0 12 rfl rfl)
theorem dX0_becomes_2_13 : decode cX0_becomes_2 13 = .ok (.getfield 20, 3) := dk_180 0 20 (dk_at dksX0_becomes_2_0 13 rfl rfl)
theorem dX0_becomes_2_16 : decode cX0_becomes_2 16 = .ok (.getfield 203, 3) := dk_180 0 203 (dk_at dksX0_becomes_2_0 16 rfl rfl)
theorem dX0_becomes_2_19 : decode cX0_becomes_2 19 = .ok (.invokevirtual 190, 3) := dk_182 0 190 (dk_at dksX0_becomes_2_0 19 rfl rfl)
theorem dX0_becomes_2_22 : decode cX0_becomes_2 22 = .ok (.ifCond .eq 5, 3) := dk_153 0 5 (dk_at dksX0_becomes_2_1 0 rfl rfl)
theorem dX0_becomes_2_25 : decode cX0_becomes_2 25 = .ok (.iconst (-1), 1) := dk_2 (dk_at dksX0_becomes_2_1 3 rfl rfl)
theorem dX0_becomes_2_26 : decode cX0_becomes_2 26 = .ok (.ireturn, 1) := dk_172 (dk_at dksX0_becomes_2_1 4 rfl rfl)
theorem dX0_becomes_2_27 : decode cX0_becomes_2 27 = .ok (.aload_n 0, 1) := dk_42 (dk_at dksX0_becomes_2_1 5 rfl rfl)
theorem dX0_becomes_2_28 : decode cX0_becomes_2 28 = .ok (.getfield 58, 3) := dk_180 0 58 (dk_at dksX0_becomes_2_1 6 rfl rfl)
theorem dX0_becomes_2_31 : decode cX0_becomes_2 31 = .ok (.aload 4, 2) := dk_25 4 (dk_at dksX0_becomes_2_1 9 rfl rfl)
theorem dX0_becomes_2_33 : decode cX0_becomes_2 33 = .ok (.invokevirtual 434, 3) := dk_182 1 178 (dk_at dksX0_becomes_2_1 11 rfl rfl)
theorem dX0_becomes_2_36 : decode cX0_becomes_2 36 = .ok (.pop, 1) := dk_87 (dk_at dksX0_becomes_2_1 14 rfl rfl)
theorem dX0_becomes_2_37 : decode cX0_becomes_2 37 = .ok (.iload_n 2, 1) := dk_28 (dk_at dksX0_becomes_2_1 15 rfl rfl)
theorem dX0_becomes_2_38 : decode cX0_becomes_2 38 = .ok (.iconst (-1), 1) := dk_2 (dk_at dksX0_becomes_2_1 16 rfl rfl)
theorem dX0_becomes_2_39 : decode cX0_becomes_2 39 = .ok (.if_icmp .ne 11, 3) := dk_160 0 11 (dk_at dksX0_becomes_2_1 17 rfl rfl)
theorem dX0_becomes_2_42 : decode cX0_becomes_2 42 = .ok (.aload_n 0, 1) := dk_42 (dk_at dksX0_becomes_2_1 20 rfl rfl)
theorem dX0_becomes_2_43 : decode cX0_becomes_2 43 = .ok (.getfield 58, 3) := dk_180 0 58 (dk_at dksX0_becomes_2_1 21 rfl rfl)
theorem dX0_becomes_2_46 : decode cX0_becomes_2 46 = .ok (.getfield 437, 3) := dk_180 1 181 (dk_at dksX0_becomes_2_2 0 rfl rfl)
theorem dX0_becomes_2_49 : decode cX0_becomes_2 49 = .ok (.ireturn, 1) := dk_172 (dk_at dksX0_becomes_2_2 3 rfl rfl)
theorem dX0_becomes_2_50 : decode cX0_becomes_2 50 = .ok (.iload_n 2, 1) := dk_28 (dk_at dksX0_becomes_2_2 4 rfl rfl)
theorem dX0_becomes_2_51 : decode cX0_becomes_2 51 = .ok (.i2l, 1) := dk_133 (dk_at dksX0_becomes_2_2 5 rfl rfl)
theorem dX0_becomes_2_52 : decode cX0_becomes_2 52 = .ok (.lconst 0, 1) := dk_9 (dk_at dksX0_becomes_2_2 6 rfl rfl)
theorem dX0_becomes_2_53 : decode cX0_becomes_2 53 = .ok (.aload_n 0, 1) := dk_42 (dk_at dksX0_becomes_2_2 7 rfl rfl)
theorem dX0_becomes_2_54 : decode cX0_becomes_2 54 = .ok (.getfield 58, 3) := dk_180 0 58 (dk_at dksX0_becomes_2_2 8 rfl rfl)
theorem dX0_becomes_2_57 : decode cX0_becomes_2 57 = .ok (.getfield 437, 3) := dk_180 1 181 (dk_at dksX0_becomes_2_2 11 rfl rfl)
theorem dX0_becomes_2_60 : decode cX0_becomes_2 60 = .ok (.iconst 1, 1) := dk_4 (dk_at dksX0_becomes_2_2 14 rfl rfl)
theorem dX0_becomes_2_61 : decode cX0_becomes_2 61 = .ok (.isub, 1) := dk_100 (dk_at dksX0_becomes_2_2 15 rfl rfl)
theorem dX0_becomes_2_62 : decode cX0_becomes_2 62 = .ok (.i2l, 1) := dk_133 (dk_at dksX0_becomes_2_2 16 rfl rfl)
theorem dX0_becomes_2_63 : decode cX0_becomes_2 63 = .ok (.invokestatic 124, 3) := dk_184 0 124 (dk_at dksX0_becomes_2_2 17 rfl rfl)
theorem dX0_becomes_2_66 : decode cX0_becomes_2 66 = .ok (.ifCond .ne 7, 3) := dk_154 0 7 (dk_at dksX0_becomes_2_2 20 rfl rfl)
theorem dX0_becomes_2_69 : decode cX0_becomes_2 69 = .ok (.iconst (-1), 1) := dk_2 (dk_at dksX0_becomes_2_2 23 rfl rfl)
theorem dX0_becomes_2_70 : decode cX0_becomes_2 70 = .ok (.goto 28, 3) := dk_167 0 28 (dk_at dksX0_becomes_2_3 0 rfl rfl)
theorem dX0_becomes_2_73 : decode cX0_becomes_2 73 = .ok (.iload_n 3, 1) := dk_29 (dk_at dksX0_becomes_2_3 3 rfl rfl)
theorem dX0_becomes_2_74 : decode cX0_becomes_2 74 = .ok (.ifCond .eq 15, 3) := dk_153 0 15 (dk_at dksX0_becomes_2_3 4 rfl rfl)
theorem dX0_becomes_2_77 : decode cX0_becomes_2 77 = .ok (.aload_n 0, 1) := dk_42 (dk_at dksX0_becomes_2_3 7 rfl rfl)
theorem dX0_becomes_2_78 : decode cX0_becomes_2 78 = .ok (.getfield 58, 3) := dk_180 0 58 (dk_at dksX0_becomes_2_3 8 rfl rfl)
theorem dX0_becomes_2_81 : decode cX0_becomes_2 81 = .ok (.getfield 440, 3) := dk_180 1 184 (dk_at dksX0_becomes_2_3 11 rfl rfl)
theorem dX0_becomes_2_84 : decode cX0_becomes_2 84 = .ok (.iload_n 2, 1) := dk_28 (dk_at dksX0_becomes_2_3 14 rfl rfl)
theorem dX0_becomes_2_85 : decode cX0_becomes_2 85 = .ok (.iaload, 1) := dk_46 (dk_at dksX0_becomes_2_3 15 rfl rfl)
theorem dX0_becomes_2_86 : decode cX0_becomes_2 86 = .ok (.goto 12, 3) := dk_167 0 12 (dk_at dksX0_becomes_2_3 16 rfl rfl)
theorem dX0_becomes_2_89 : decode cX0_becomes_2 89 = .ok (.aload_n 0, 1) := dk_42 (dk_at dksX0_becomes_2_3 19 rfl rfl)
theorem dX0_becomes_2_90 : decode cX0_becomes_2 90 = .ok (.getfield 58, 3) := dk_180 0 58 (dk_at dksX0_becomes_2_3 20 rfl rfl)
theorem dX0_becomes_2_93 : decode cX0_becomes_2 93 = .ok (.getfield 443, 3) := dk_180 1 187 (dk_at dksX0_becomes_2_4 0 rfl rfl)
theorem dX0_becomes_2_96 : decode cX0_becomes_2 96 = .ok (.iload_n 2, 1) := dk_28 (dk_at dksX0_becomes_2_4 3 rfl rfl)
theorem dX0_becomes_2_97 : decode cX0_becomes_2 97 = .ok (.iaload, 1) := dk_46 (dk_at dksX0_becomes_2_4 4 rfl rfl)
theorem dX0_becomes_2_98 : decode cX0_becomes_2 98 = .ok (.ireturn, 1) := dk_172 (dk_at dksX0_becomes_2_4 5 rfl rfl)
def dkwX0_round_3 : List UInt8 := [180, 0, 65, 180, 1, 197, 167, 0, 10, 42, 180, 0, 65, 180, 1, 200, 172]
abbrev dktX0_round_3 : List UInt8 := dkwX0_round_3 ++ []
def dkwX0_round_2 : List UInt8 := [182, 1, 191, 87, 29, 154, 0, 13, 42, 180, 0, 65, 180, 1, 194, 167, 0, 25, 29, 4, 160, 0, 13, 42]
abbrev dktX0_round_2 : List UInt8 := dkwX0_round_2 ++ dktX0_round_3
def dkwX0_round_1 : List UInt8 := [29, 133, 9, 20, 1, 189, 184, 0, 124, 154, 0, 5, 2, 172, 42, 180, 0, 65, 25, 4, 25, 5]
abbrev dktX0_round_1 : List UInt8 := dkwX0_round_1 ++ dktX0_round_2
def dkwX0_round_0 : List UInt8 := [42, 28, 182, 1, 17, 58, 4, 42, 27, 182, 1, 91, 58, 5, 25, 4, 198, 0, 20, 25, 5, 198, 0, 15]
abbrev dktX0_round_0 : List UInt8 := dkwX0_round_0 ++ dktX0_round_1
theorem dksX0_round_0 : cX0_round.data.toList.drop 0 = dktX0_round_0 := by decide +kernel
theorem dksX0_round_1 : cX0_round.data.toList.drop 24 = dktX0_round_1 := dk_seg dksX0_round_0 24 rfl rfl
theorem dksX0_round_2 : cX0_round.data.toList.drop 46 = dktX0_round_2 := dk_seg dksX0_round_1 22 rfl rfl
theorem dksX0_round_3 : cX0_round.data.toList.drop 70 = dktX0_round_3 := dk_seg dksX0_round_2 24 rfl rfl
theorem dX0_round_0 : decode cX0_round 0 = .ok (.aload_n 0, 1) := dk_42 (dk_at dksX0_round_0 0 rfl rfl)
theorem dX0_round_1 : decode cX0_round 1 = .ok (.iload_n 2, 1) := dk_28 (dk_at dksX0_round_0 1 rfl rfl)
theorem dX0_round_2 : decode cX0_round 2 = .ok (.invokevirtual 273, 3) := dk_182 1 17 (dk_at dksX0_round_0 2 rfl rfl)
theorem dX0_round_5 : decode cX0_round 5 = .ok (.astore 4, 2) := dk_58 4 (dk_at dksX0_round_0 5 rfl rfl)
theorem dX0_round_7 : decode cX0_round 7 = .ok (.aload_n 0, 1) := dk_42 (dk_at dksX0_round_0 7 rfl rfl)
theorem dX0_round_8 : decode cX0_round 8 = .ok (.iload_n 1, 1) := dk_27 (dk_at dksX0_round_0 8 rfl rfl)
theorem dX0_round_9 : decode cX0_round 9 = .ok (.invokevirtual 347, 3) := dk_182 1 91 (dk_at dksX0_round_0 9 rfl rfl)
theorem dX0_round_12 : decode cX0_round 12 = .ok (.astore 5, 2) := dk_58 5 (dk_at dksX0_round_0 12 rfl rfl)
theorem dX0_round_14 : decode cX0_round 14 = .ok (.aload 4, 2) := dk_25 4 (dk_at dksX0_round_0 14 rfl rfl)
theorem dX0_round_16 : decode cX0_round 16 = .ok (.ifnull 20, 3) := dk_198 0 20 (dk_at dksX0_round_0 16 rfl rfl)
theorem dX0_round_19 : decode cX0_round 19 = .ok (.aload 5, 2) := dk_25 5 (dk_at dksX0_round_0 19 rfl rfl)
theorem dX0_round_21 : decode cX0_round 21 = .ok (.ifnull 15, 3) := dk_198 0 15 (dk_at dksX0_round_0 21 rfl rfl)
theorem dX0_round_24 : decode cX0_round 24 = .ok (.iload_n 3, 1) := dk_29 (dk_at dksX0_round_1 0 rfl rfl)
theorem dX0_round_25 : decode cX0_round 25 = .ok (.i2l, 1) := dk_133 (dk_at dksX0_round_1 1 rfl rfl)
theorem dX0_round_26 : decode cX0_round 26 = .ok (.lconst 0, 1) := dk_9 (dk_at dksX0_round_1 2 rfl rfl)
theorem dX0_round_27 : decode cX0_round 27 = .ok (.ldc2_w 445, 3) := dk_20 1 189 (dk_at dksX0_round_1 3 rfl rfl)
theorem dX0_round_30 : decode cX0_round 30 = .ok (.invokestatic 124, 3) := dk_184 0 124 (dk_at dksX0_round_1 6 rfl rfl)
theorem dX0_round_33 : decode cX0_round 33 = .ok (.ifCond .ne 5, 3) := dk_154 0 5 (dk_at dksX0_round_1 9 rfl rfl)
theorem dX0_round_36 : decode cX0_round 36 = .ok (.iconst (-1), 1) := dk_2 (dk_at dksX0_round_1 12 rfl rfl)
theorem dX0_round_37 : decode cX0_round 37 = .ok (.ireturn, 1) := dk_172 (dk_at dksX0_round_1 13 rfl rfl)
theorem dX0_round_38 : decode cX0_round 38 = .ok (.aload_n 0, 1) := dk_42 (dk_at dksX0_round_1 14 rfl rfl)
theorem dX0_round_39 : decode cX0_round 39 = .ok (.getfield 65, 3) := dk_180 0 65 (dk_at dksX0_round_1 15 rfl rfl)
theorem dX0_round_42 : decode cX0_round 42 = .ok (.aload 4, 2) := dk_25 4 (dk_at dksX0_round_1 18 rfl rfl)
theorem dX0_round_44 : decode cX0_round 44 = .ok (.aload 5, 2) := dk_25 5 (dk_at dksX0_round_1 20 rfl rfl)
theorem dX0_round_46 : decode cX0_round 46 = .ok (.invokevirtual 447, 3) := dk_182 1 191 (dk_at dksX0_round_2 0 rfl rfl)
theorem dX0_round_49 : decode cX0_round 49 = .ok (.pop, 1) := dk_87 (dk_at dksX0_round_2 3 rfl rfl)
theorem dX0_round_50 : decode cX0_round 50 = .ok (.iload_n 3, 1) := dk_29 (dk_at dksX0_round_2 4 rfl rfl)
theorem dX0_round_51 : decode cX0_round 51 = .ok (.ifCond .ne 13, 3) := dk_154 0 13 (dk_at dksX0_round_2 5 rfl rfl)
theorem dX0_round_54 : decode cX0_round 54 = .ok (.aload_n 0, 1) := dk_42 (dk_at dksX0_round_2 8 rfl rfl)
theorem dX0_round_55 : decode cX0_round 55 = .ok (.getfield 65, 3) := dk_180 0 65 (dk_at dksX0_round_2 9 rfl rfl)
theorem dX0_round_58 : decode cX0_round 58 = .ok (.getfield 450, 3) := dk_180 1 194 (dk_at dksX0_round_2 12 rfl rfl)
theorem dX0_round_61 : decode cX0_round 61 = .ok (.goto 25, 3) := dk_167 0 25 (dk_at dksX0_round_2 15 rfl rfl)
theorem dX0_round_64 : decode cX0_round 64 = .ok (.iload_n 3, 1) := dk_29 (dk_at dksX0_round_2 18 rfl rfl)
theorem dX0_round_65 : decode cX0_round 65 = .ok (.iconst 1, 1) := dk_4 (dk_at dksX0_round_2 19 rfl rfl)
theorem dX0_round_66 : decode cX0_round 66 = .ok (.if_icmp .ne 13, 3) := dk_160 0 13 (dk_at dksX0_round_2 20 rfl rfl)
theorem dX0_round_69 : decode cX0_round 69 = .ok (.aload_n 0, 1) := dk_42 (dk_at dksX0_round_2 23 rfl rfl)
theorem dX0_round_70 : decode cX0_round 70 = .ok (.getfield 65, 3) := dk_180 0 65 (dk_at dksX0_round_3 0 rfl rfl)
theorem dX0_round_73 : decode cX0_round 73 = .ok (.getfield 453, 3) := dk_180 1 197 (dk_at dksX0_round_3 3 rfl rfl)
theorem dX0_round_76 : decode cX0_round 76 = .ok (.goto 10, 3) := dk_167 0 10 (dk_at dksX0_round_3 6 rfl rfl)
theorem dX0_round_79 : decode cX0_round 79 = .ok (.aload_n 0, 1) := dk_42 (dk_at dksX0_round_3 9 rfl rfl)
theorem dX0_round_80 : decode cX0_round 80 = .ok (.getfield 65, 3) := dk_180 0 65 (dk_at dksX0_round_3 10 rfl rfl)
theorem dX0_round_83 : decode cX0_round 83 = .ok (.getfield 456, 3) := dk_180 1 200 (dk_at dksX0_round_3 13 rfl rfl)
theorem dX0_round_86 : decode cX0_round 86 = .ok (.ireturn, 1) := dk_172 (dk_at dksX0_round_3 16 rfl rfl)
def dkwX0_best_1 : List UInt8 := [167, 0, 20, 42, 180, 0, 72, 45, 182, 1, 202, 3, 3, 182, 1, 205, 28, 182, 1, 209, 172]
abbrev dktX0_best_1 : List UInt8 := dkwX0_best_1 ++ []
def dkwX0_best_0 : List UInt8 := [42, 27, 182, 1, 91, 78, 45, 198, 0, 15, 45, 180, 0, 243, 180, 1, 40, 16, 6, 164, 0, 7, 2]
abbrev dktX0_best_0 : List UInt8 := dkwX0_best_0 ++ dktX0_best_1
theorem dksX0_best_0 : cX0_best.data.toList.drop 0 = dktX0_best_0 := by decide +kernel
theorem dksX0_best_1 : cX0_best.data.toList.drop 23 = dktX0_best_1 := dk_seg dksX0_best_0 23 rfl rfl
theorem dX0_best_0 : decode cX0_best 0 = .ok (.aload_n 0, 1) := dk_42 (dk_at dksX0_best_0 0 rfl rfl)
theorem dX0_best_1 : decode cX0_best 1 = .ok (.iload_n 1, 1) := dk_27 (dk_at dksX0_best_0 1 rfl rfl)
theorem dX0_best_2 : decode cX0_best 2 = .ok (.invokevirtual 347, 3) := dk_182 1 91 (dk_at dksX0_best_0 2 rfl rfl)
theorem dX0_best_5 : decode cX0_best 5 = .ok (.astore_n 3, 1) := dk_78 (dk_at dksX0_best_0 5 rfl rfl)
theorem dX0_best_6 : decode cX0_best 6 = .ok (.aload_n 3, 1) := dk_45 (dk_at dksX0_best_0 6 rfl rfl)
theorem dX0_best_7 : decode cX0_best 7 = .ok (.ifnull 15, 3) := dk_198 0 15 (dk_at dksX0_best_0 7 rfl rfl)
theorem dX0_best_10 : decode cX0_best 10 = .ok (.aload_n 3, 1) := dk_45 (dk_at dksX0_best_0 10 rfl rfl)
theorem dX0_best_11 : decode cX0_best 11 = .ok (.getfield 243, 3) := dk_180 0 243 (dk_at dksX0_best_0 11 rfl rfl)
theorem dX0_best_14 : decode cX0_best 14 = .ok (.getfield 296, 3) := dk_180 1 40 (dk_at dksX0_best_0 14 rfl rfl)
theorem dX0_best_17 : decode cX0_best 17 = .ok (.bipush 6, 2) := dk_16 6 (dk_at dksX0_best_0 17 rfl rfl)
theorem dX0_best_19 : decode cX0_best 19 = .ok (.if_icmp .le 7, 3) := dk_164 0 7 (dk_at dksX0_best_0 19 rfl rfl)
theorem dX0_best_22 : decode cX0_best 22 = .ok (.iconst (-1), 1) := dk_2 (dk_at dksX0_best_0 22 rfl rfl)
theorem dX0_best_23 : decode cX0_best 23 = .ok (.goto 20, 3) := dk_167 0 20 (dk_at dksX0_best_1 0 rfl rfl)
theorem dX0_best_26 : decode cX0_best 26 = .ok (.aload_n 0, 1) := dk_42 (dk_at dksX0_best_1 3 rfl rfl)
theorem dX0_best_27 : decode cX0_best 27 = .ok (.getfield 72, 3) := dk_180 0 72 (dk_at dksX0_best_1 4 rfl rfl)
theorem dX0_best_30 : decode cX0_best 30 = .ok (.aload_n 3, 1) := dk_45 (dk_at dksX0_best_1 7 rfl rfl)
theorem dX0_best_31 : decode cX0_best 31 = .ok (.invokevirtual 458, 3) := dk_182 1 202 (dk_at dksX0_best_1 8 rfl rfl)
theorem dX0_best_34 : decode cX0_best 34 = .ok (.iconst 0, 1) := dk_3 (dk_at dksX0_best_1 11 rfl rfl)
theorem dX0_best_35 : decode cX0_best 35 = .ok (.iconst 0, 1) := dk_3 (dk_at dksX0_best_1 12 rfl rfl)
theorem dX0_best_36 : decode cX0_best 36 = .ok (.invokevirtual 461, 3) := dk_182 1 205 (dk_at dksX0_best_1 13 rfl rfl)
theorem dX0_best_39 : decode cX0_best 39 = .ok (.iload_n 2, 1) := dk_28 (dk_at dksX0_best_1 16 rfl rfl)
theorem dX0_best_40 : decode cX0_best 40 = .ok (.invokevirtual 465, 3) := dk_182 1 209 (dk_at dksX0_best_1 17 rfl rfl)
theorem dX0_best_43 : decode cX0_best 43 = .ok (.ireturn, 1) := dk_172 (dk_at dksX0_best_1 20 rfl rfl)
def dkwX0_mended_2 : List UInt8 := [172]
abbrev dktX0_mended_2 : List UInt8 := dkwX0_mended_2 ++ []
def dkwX0_mended_1 : List UInt8 := [28, 16, 20, 160, 0, 13, 42, 180, 0, 72, 180, 1, 214, 167, 0, 11, 42, 180, 0, 72, 28, 182, 1, 209]
abbrev dktX0_mended_1 : List UInt8 := dkwX0_mended_1 ++ dktX0_mended_2
def dkwX0_mended_0 : List UInt8 := [42, 27, 182, 1, 91, 78, 45, 199, 0, 5, 2, 172, 42, 180, 0, 72, 45, 182, 1, 202, 182, 1, 210, 87]
abbrev dktX0_mended_0 : List UInt8 := dkwX0_mended_0 ++ dktX0_mended_1
theorem dksX0_mended_0 : cX0_mended.data.toList.drop 0 = dktX0_mended_0 := by decide +kernel
theorem dksX0_mended_1 : cX0_mended.data.toList.drop 24 = dktX0_mended_1 := dk_seg dksX0_mended_0 24 rfl rfl
theorem dksX0_mended_2 : cX0_mended.data.toList.drop 48 = dktX0_mended_2 := dk_seg dksX0_mended_1 24 rfl rfl
theorem dX0_mended_0 : decode cX0_mended 0 = .ok (.aload_n 0, 1) := dk_42 (dk_at dksX0_mended_0 0 rfl rfl)
theorem dX0_mended_1 : decode cX0_mended 1 = .ok (.iload_n 1, 1) := dk_27 (dk_at dksX0_mended_0 1 rfl rfl)
theorem dX0_mended_2 : decode cX0_mended 2 = .ok (.invokevirtual 347, 3) := dk_182 1 91 (dk_at dksX0_mended_0 2 rfl rfl)
theorem dX0_mended_5 : decode cX0_mended 5 = .ok (.astore_n 3, 1) := dk_78 (dk_at dksX0_mended_0 5 rfl rfl)
theorem dX0_mended_6 : decode cX0_mended 6 = .ok (.aload_n 3, 1) := dk_45 (dk_at dksX0_mended_0 6 rfl rfl)
theorem dX0_mended_7 : decode cX0_mended 7 = .ok (.ifnonnull 5, 3) := dk_199 0 5 (dk_at dksX0_mended_0 7 rfl rfl)
theorem dX0_mended_10 : decode cX0_mended 10 = .ok (.iconst (-1), 1) := dk_2 (dk_at dksX0_mended_0 10 rfl rfl)
theorem dX0_mended_11 : decode cX0_mended 11 = .ok (.ireturn, 1) := dk_172 (dk_at dksX0_mended_0 11 rfl rfl)
theorem dX0_mended_12 : decode cX0_mended 12 = .ok (.aload_n 0, 1) := dk_42 (dk_at dksX0_mended_0 12 rfl rfl)
theorem dX0_mended_13 : decode cX0_mended 13 = .ok (.getfield 72, 3) := dk_180 0 72 (dk_at dksX0_mended_0 13 rfl rfl)
theorem dX0_mended_16 : decode cX0_mended 16 = .ok (.aload_n 3, 1) := dk_45 (dk_at dksX0_mended_0 16 rfl rfl)
theorem dX0_mended_17 : decode cX0_mended 17 = .ok (.invokevirtual 458, 3) := dk_182 1 202 (dk_at dksX0_mended_0 17 rfl rfl)
theorem dX0_mended_20 : decode cX0_mended 20 = .ok (.invokevirtual 466, 3) := dk_182 1 210 (dk_at dksX0_mended_0 20 rfl rfl)
theorem dX0_mended_23 : decode cX0_mended 23 = .ok (.pop, 1) := dk_87 (dk_at dksX0_mended_0 23 rfl rfl)
theorem dX0_mended_24 : decode cX0_mended 24 = .ok (.iload_n 2, 1) := dk_28 (dk_at dksX0_mended_1 0 rfl rfl)
theorem dX0_mended_25 : decode cX0_mended 25 = .ok (.bipush 20, 2) := dk_16 20 (dk_at dksX0_mended_1 1 rfl rfl)
theorem dX0_mended_27 : decode cX0_mended 27 = .ok (.if_icmp .ne 13, 3) := dk_160 0 13 (dk_at dksX0_mended_1 3 rfl rfl)
theorem dX0_mended_30 : decode cX0_mended 30 = .ok (.aload_n 0, 1) := dk_42 (dk_at dksX0_mended_1 6 rfl rfl)
theorem dX0_mended_31 : decode cX0_mended 31 = .ok (.getfield 72, 3) := dk_180 0 72 (dk_at dksX0_mended_1 7 rfl rfl)
theorem dX0_mended_34 : decode cX0_mended 34 = .ok (.getfield 470, 3) := dk_180 1 214 (dk_at dksX0_mended_1 10 rfl rfl)
theorem dX0_mended_37 : decode cX0_mended 37 = .ok (.goto 11, 3) := dk_167 0 11 (dk_at dksX0_mended_1 13 rfl rfl)
theorem dX0_mended_40 : decode cX0_mended 40 = .ok (.aload_n 0, 1) := dk_42 (dk_at dksX0_mended_1 16 rfl rfl)
theorem dX0_mended_41 : decode cX0_mended 41 = .ok (.getfield 72, 3) := dk_180 0 72 (dk_at dksX0_mended_1 17 rfl rfl)
theorem dX0_mended_44 : decode cX0_mended 44 = .ok (.iload_n 2, 1) := dk_28 (dk_at dksX0_mended_1 20 rfl rfl)
theorem dX0_mended_45 : decode cX0_mended 45 = .ok (.invokevirtual 465, 3) := dk_182 1 209 (dk_at dksX0_mended_1 21 rfl rfl)
theorem dX0_mended_48 : decode cX0_mended 48 = .ok (.ireturn, 1) := dk_172 (dk_at dksX0_mended_2 0 rfl rfl)
def dkwX0_forty_1 : List UInt8 := [184, 0, 124, 154, 0, 7, 2, 167, 0, 15, 42, 180, 0, 79, 45, 182, 1, 219, 28, 182, 1, 223, 172]
abbrev dktX0_forty_1 : List UInt8 := dkwX0_forty_1 ++ []
def dkwX0_forty_0 : List UInt8 := [42, 27, 182, 1, 17, 78, 45, 198, 0, 21, 42, 180, 0, 20, 182, 0, 209, 133, 10, 20, 1, 217]
abbrev dktX0_forty_0 : List UInt8 := dkwX0_forty_0 ++ dktX0_forty_1
theorem dksX0_forty_0 : cX0_forty.data.toList.drop 0 = dktX0_forty_0 := by decide +kernel
theorem dksX0_forty_1 : cX0_forty.data.toList.drop 22 = dktX0_forty_1 := dk_seg dksX0_forty_0 22 rfl rfl
theorem dX0_forty_0 : decode cX0_forty 0 = .ok (.aload_n 0, 1) := dk_42 (dk_at dksX0_forty_0 0 rfl rfl)
theorem dX0_forty_1 : decode cX0_forty 1 = .ok (.iload_n 1, 1) := dk_27 (dk_at dksX0_forty_0 1 rfl rfl)
theorem dX0_forty_2 : decode cX0_forty 2 = .ok (.invokevirtual 273, 3) := dk_182 1 17 (dk_at dksX0_forty_0 2 rfl rfl)
theorem dX0_forty_5 : decode cX0_forty 5 = .ok (.astore_n 3, 1) := dk_78 (dk_at dksX0_forty_0 5 rfl rfl)
theorem dX0_forty_6 : decode cX0_forty 6 = .ok (.aload_n 3, 1) := dk_45 (dk_at dksX0_forty_0 6 rfl rfl)
theorem dX0_forty_7 : decode cX0_forty 7 = .ok (.ifnull 21, 3) := dk_198 0 21 (dk_at dksX0_forty_0 7 rfl rfl)
theorem dX0_forty_10 : decode cX0_forty 10 = .ok (.aload_n 0, 1) := dk_42 (dk_at dksX0_forty_0 10 rfl rfl)
theorem dX0_forty_11 : decode cX0_forty 11 = .ok (.getfield 20, 3) := dk_180 0 20 (dk_at dksX0_forty_0 11 rfl rfl)
theorem dX0_forty_14 : decode cX0_forty 14 = .ok (.invokevirtual 209, 3) := dk_182 0 209 (dk_at dksX0_forty_0 14 rfl rfl)
theorem dX0_forty_17 : decode cX0_forty 17 = .ok (.i2l, 1) := dk_133 (dk_at dksX0_forty_0 17 rfl rfl)
theorem dX0_forty_18 : decode cX0_forty 18 = .ok (.lconst 1, 1) := dk_10 (dk_at dksX0_forty_0 18 rfl rfl)
theorem dX0_forty_19 : decode cX0_forty 19 = .ok (.ldc2_w 473, 3) := dk_20 1 217 (dk_at dksX0_forty_0 19 rfl rfl)
theorem dX0_forty_22 : decode cX0_forty 22 = .ok (.invokestatic 124, 3) := dk_184 0 124 (dk_at dksX0_forty_1 0 rfl rfl)
theorem dX0_forty_25 : decode cX0_forty 25 = .ok (.ifCond .ne 7, 3) := dk_154 0 7 (dk_at dksX0_forty_1 3 rfl rfl)
theorem dX0_forty_28 : decode cX0_forty 28 = .ok (.iconst (-1), 1) := dk_2 (dk_at dksX0_forty_1 6 rfl rfl)
theorem dX0_forty_29 : decode cX0_forty 29 = .ok (.goto 15, 3) := dk_167 0 15 (dk_at dksX0_forty_1 7 rfl rfl)
theorem dX0_forty_32 : decode cX0_forty 32 = .ok (.aload_n 0, 1) := dk_42 (dk_at dksX0_forty_1 10 rfl rfl)
theorem dX0_forty_33 : decode cX0_forty 33 = .ok (.getfield 79, 3) := dk_180 0 79 (dk_at dksX0_forty_1 11 rfl rfl)
theorem dX0_forty_36 : decode cX0_forty 36 = .ok (.aload_n 3, 1) := dk_45 (dk_at dksX0_forty_1 14 rfl rfl)
theorem dX0_forty_37 : decode cX0_forty 37 = .ok (.invokevirtual 475, 3) := dk_182 1 219 (dk_at dksX0_forty_1 15 rfl rfl)
theorem dX0_forty_40 : decode cX0_forty 40 = .ok (.iload_n 2, 1) := dk_28 (dk_at dksX0_forty_1 18 rfl rfl)
theorem dX0_forty_41 : decode cX0_forty 41 = .ok (.invokevirtual 479, 3) := dk_182 1 223 (dk_at dksX0_forty_1 19 rfl rfl)
theorem dX0_forty_44 : decode cX0_forty 44 = .ok (.ireturn, 1) := dk_172 (dk_at dksX0_forty_1 22 rfl rfl)
def dkwX0_sorted_2 : List UInt8 := [42, 180, 0, 79, 28, 182, 1, 223, 172]
abbrev dktX0_sorted_2 : List UInt8 := dkwX0_sorted_2 ++ []
def dkwX0_sorted_1 : List UInt8 := [180, 0, 79, 45, 182, 1, 224, 87, 28, 16, 20, 160, 0, 13, 42, 180, 0, 79, 180, 1, 227, 167, 0, 11]
abbrev dktX0_sorted_1 : List UInt8 := dkwX0_sorted_1 ++ dktX0_sorted_2
def dkwX0_sorted_0 : List UInt8 := [42, 27, 182, 1, 17, 78, 45, 198, 0, 13, 42, 180, 0, 20, 182, 0, 209, 154, 0, 5, 2, 172, 42]
abbrev dktX0_sorted_0 : List UInt8 := dkwX0_sorted_0 ++ dktX0_sorted_1
theorem dksX0_sorted_0 : cX0_sorted.data.toList.drop 0 = dktX0_sorted_0 := by decide +kernel
theorem dksX0_sorted_1 : cX0_sorted.data.toList.drop 23 = dktX0_sorted_1 := dk_seg dksX0_sorted_0 23 rfl rfl
theorem dksX0_sorted_2 : cX0_sorted.data.toList.drop 47 = dktX0_sorted_2 := dk_seg dksX0_sorted_1 24 rfl rfl
theorem dX0_sorted_0 : decode cX0_sorted 0 = .ok (.aload_n 0, 1) := dk_42 (dk_at dksX0_sorted_0 0 rfl rfl)
theorem dX0_sorted_1 : decode cX0_sorted 1 = .ok (.iload_n 1, 1) := dk_27 (dk_at dksX0_sorted_0 1 rfl rfl)
theorem dX0_sorted_2 : decode cX0_sorted 2 = .ok (.invokevirtual 273, 3) := dk_182 1 17 (dk_at dksX0_sorted_0 2 rfl rfl)
theorem dX0_sorted_5 : decode cX0_sorted 5 = .ok (.astore_n 3, 1) := dk_78 (dk_at dksX0_sorted_0 5 rfl rfl)
theorem dX0_sorted_6 : decode cX0_sorted 6 = .ok (.aload_n 3, 1) := dk_45 (dk_at dksX0_sorted_0 6 rfl rfl)
theorem dX0_sorted_7 : decode cX0_sorted 7 = .ok (.ifnull 13, 3) := dk_198 0 13 (dk_at dksX0_sorted_0 7 rfl rfl)
theorem dX0_sorted_10 : decode cX0_sorted 10 = .ok (.aload_n 0, 1) := dk_42 (dk_at dksX0_sorted_0 10 rfl rfl)
theorem dX0_sorted_11 : decode cX0_sorted 11 = .ok (.getfield 20, 3) := dk_180 0 20 (dk_at dksX0_sorted_0 11 rfl rfl)
theorem dX0_sorted_14 : decode cX0_sorted 14 = .ok (.invokevirtual 209, 3) := dk_182 0 209 (dk_at dksX0_sorted_0 14 rfl rfl)
theorem dX0_sorted_17 : decode cX0_sorted 17 = .ok (.ifCond .ne 5, 3) := dk_154 0 5 (dk_at dksX0_sorted_0 17 rfl rfl)
theorem dX0_sorted_20 : decode cX0_sorted 20 = .ok (.iconst (-1), 1) := dk_2 (dk_at dksX0_sorted_0 20 rfl rfl)
theorem dX0_sorted_21 : decode cX0_sorted 21 = .ok (.ireturn, 1) := dk_172 (dk_at dksX0_sorted_0 21 rfl rfl)
theorem dX0_sorted_22 : decode cX0_sorted 22 = .ok (.aload_n 0, 1) := dk_42 (dk_at dksX0_sorted_0 22 rfl rfl)
theorem dX0_sorted_23 : decode cX0_sorted 23 = .ok (.getfield 79, 3) := dk_180 0 79 (dk_at dksX0_sorted_1 0 rfl rfl)
theorem dX0_sorted_26 : decode cX0_sorted 26 = .ok (.aload_n 3, 1) := dk_45 (dk_at dksX0_sorted_1 3 rfl rfl)
theorem dX0_sorted_27 : decode cX0_sorted 27 = .ok (.invokevirtual 480, 3) := dk_182 1 224 (dk_at dksX0_sorted_1 4 rfl rfl)
theorem dX0_sorted_30 : decode cX0_sorted 30 = .ok (.pop, 1) := dk_87 (dk_at dksX0_sorted_1 7 rfl rfl)
theorem dX0_sorted_31 : decode cX0_sorted 31 = .ok (.iload_n 2, 1) := dk_28 (dk_at dksX0_sorted_1 8 rfl rfl)
theorem dX0_sorted_32 : decode cX0_sorted 32 = .ok (.bipush 20, 2) := dk_16 20 (dk_at dksX0_sorted_1 9 rfl rfl)
theorem dX0_sorted_34 : decode cX0_sorted 34 = .ok (.if_icmp .ne 13, 3) := dk_160 0 13 (dk_at dksX0_sorted_1 11 rfl rfl)
theorem dX0_sorted_37 : decode cX0_sorted 37 = .ok (.aload_n 0, 1) := dk_42 (dk_at dksX0_sorted_1 14 rfl rfl)
theorem dX0_sorted_38 : decode cX0_sorted 38 = .ok (.getfield 79, 3) := dk_180 0 79 (dk_at dksX0_sorted_1 15 rfl rfl)
theorem dX0_sorted_41 : decode cX0_sorted 41 = .ok (.getfield 483, 3) := dk_180 1 227 (dk_at dksX0_sorted_1 18 rfl rfl)
theorem dX0_sorted_44 : decode cX0_sorted 44 = .ok (.goto 11, 3) := dk_167 0 11 (dk_at dksX0_sorted_1 21 rfl rfl)
theorem dX0_sorted_47 : decode cX0_sorted 47 = .ok (.aload_n 0, 1) := dk_42 (dk_at dksX0_sorted_2 0 rfl rfl)
theorem dX0_sorted_48 : decode cX0_sorted 48 = .ok (.getfield 79, 3) := dk_180 0 79 (dk_at dksX0_sorted_2 1 rfl rfl)
theorem dX0_sorted_51 : decode cX0_sorted 51 = .ok (.iload_n 2, 1) := dk_28 (dk_at dksX0_sorted_2 4 rfl rfl)
theorem dX0_sorted_52 : decode cX0_sorted 52 = .ok (.invokevirtual 479, 3) := dk_182 1 223 (dk_at dksX0_sorted_2 5 rfl rfl)
theorem dX0_sorted_55 : decode cX0_sorted 55 = .ok (.ireturn, 1) := dk_172 (dk_at dksX0_sorted_2 8 rfl rfl)
def dkwX0_apart_0 : List UInt8 := [42, 27, 186, 1, 234, 0, 0, 182, 1, 237, 172]
abbrev dktX0_apart_0 : List UInt8 := dkwX0_apart_0 ++ []
theorem dksX0_apart_0 : cX0_apart.data.toList.drop 0 = dktX0_apart_0 := by decide +kernel
theorem dX0_apart_0 : decode cX0_apart 0 = .ok (.aload_n 0, 1) := dk_42 (dk_at dksX0_apart_0 0 rfl rfl)
theorem dX0_apart_1 : decode cX0_apart 1 = .ok (.iload_n 1, 1) := dk_27 (dk_at dksX0_apart_0 1 rfl rfl)
theorem dX0_apart_2 : decode cX0_apart 2 = .ok (.invokedynamic 490, 5) := by decide +kernel
theorem dX0_apart_7 : decode cX0_apart 7 = .ok (.invokevirtual 493, 3) := dk_182 1 237 (dk_at dksX0_apart_0 7 rfl rfl)
theorem dX0_apart_10 : decode cX0_apart 10 = .ok (.ireturn, 1) := dk_172 (dk_at dksX0_apart_0 10 rfl rfl)
def dkwX0_lambda_apart_0_0 : List UInt8 := [42, 43, 182, 2, 37, 172]
abbrev dktX0_lambda_apart_0_0 : List UInt8 := dkwX0_lambda_apart_0_0 ++ []
theorem dksX0_lambda_apart_0_0 : cX0_lambda_apart_0.data.toList.drop 0 = dktX0_lambda_apart_0_0 := by decide +kernel
theorem dX0_lambda_apart_0_0 : decode cX0_lambda_apart_0 0 = .ok (.aload_n 0, 1) := dk_42 (dk_at dksX0_lambda_apart_0_0 0 rfl rfl)
theorem dX0_lambda_apart_0_1 : decode cX0_lambda_apart_0 1 = .ok (.aload_n 1, 1) := dk_43 (dk_at dksX0_lambda_apart_0_0 1 rfl rfl)
theorem dX0_lambda_apart_0_2 : decode cX0_lambda_apart_0 2 = .ok (.invokevirtual 549, 3) := dk_182 2 37 (dk_at dksX0_lambda_apart_0_0 2 rfl rfl)
theorem dX0_lambda_apart_0_5 : decode cX0_lambda_apart_0 5 = .ok (.ireturn, 1) := dk_172 (dk_at dksX0_lambda_apart_0_0 5 rfl rfl)
def dkwX0_twos_6 : List UInt8 := [2, 172]
abbrev dktX0_twos_6 : List UInt8 := dkwX0_twos_6 ++ []
def dkwX0_twos_5 : List UInt8 := [16, 100, 21, 4, 104, 21, 5, 96, 172, 132, 3, 1, 132, 5, 1, 167, 255, 149, 132, 4, 1, 167, 255, 122]
abbrev dktX0_twos_5 : List UInt8 := dkwX0_twos_5 ++ dktX0_twos_6
def dkwX0_twos_4 : List UInt8 := [153, 0, 36, 44, 25, 6, 25, 7, 185, 1, 228, 3, 0, 154, 0, 6, 167, 0, 20, 29, 27, 160, 0, 12]
abbrev dktX0_twos_4 : List UInt8 := dkwX0_twos_4 ++ dktX0_twos_5
def dkwX0_twos_3 : List UInt8 := [182, 0, 132, 192, 0, 237, 180, 0, 243, 58, 7, 25, 6, 182, 0, 246, 153, 0, 44, 25, 7, 182, 0, 246]
abbrev dktX0_twos_3 : List UInt8 := dkwX0_twos_3 ++ dktX0_twos_4
def dkwX0_twos_2 : List UInt8 := [21, 4, 182, 0, 132, 192, 0, 237, 180, 0, 243, 58, 6, 42, 180, 0, 20, 180, 0, 206, 21, 5]
abbrev dktX0_twos_2 : List UInt8 := dkwX0_twos_2 ++ dktX0_twos_3
def dkwX0_twos_1 : List UInt8 := [54, 5, 21, 5, 42, 180, 0, 20, 180, 0, 206, 182, 0, 128, 162, 0, 98, 42, 180, 0, 20, 180, 0, 206]
abbrev dktX0_twos_1 : List UInt8 := dkwX0_twos_1 ++ dktX0_twos_2
def dkwX0_twos_0 : List UInt8 := [3, 62, 3, 54, 4, 21, 4, 42, 180, 0, 20, 180, 0, 206, 182, 0, 128, 162, 0, 125, 21, 4, 4, 96]
abbrev dktX0_twos_0 : List UInt8 := dkwX0_twos_0 ++ dktX0_twos_1
theorem dksX0_twos_0 : cX0_twos.data.toList.drop 0 = dktX0_twos_0 := by decide +kernel
theorem dksX0_twos_1 : cX0_twos.data.toList.drop 24 = dktX0_twos_1 := dk_seg dksX0_twos_0 24 rfl rfl
theorem dksX0_twos_2 : cX0_twos.data.toList.drop 48 = dktX0_twos_2 := dk_seg dksX0_twos_1 24 rfl rfl
theorem dksX0_twos_3 : cX0_twos.data.toList.drop 70 = dktX0_twos_3 := dk_seg dksX0_twos_2 22 rfl rfl
theorem dksX0_twos_4 : cX0_twos.data.toList.drop 94 = dktX0_twos_4 := dk_seg dksX0_twos_3 24 rfl rfl
theorem dksX0_twos_5 : cX0_twos.data.toList.drop 118 = dktX0_twos_5 := dk_seg dksX0_twos_4 24 rfl rfl
theorem dksX0_twos_6 : cX0_twos.data.toList.drop 142 = dktX0_twos_6 := dk_seg dksX0_twos_5 24 rfl rfl
theorem dX0_twos_0 : decode cX0_twos 0 = .ok (.iconst 0, 1) := dk_3 (dk_at dksX0_twos_0 0 rfl rfl)
theorem dX0_twos_1 : decode cX0_twos 1 = .ok (.istore_n 3, 1) := dk_62 (dk_at dksX0_twos_0 1 rfl rfl)
theorem dX0_twos_2 : decode cX0_twos 2 = .ok (.iconst 0, 1) := dk_3 (dk_at dksX0_twos_0 2 rfl rfl)
theorem dX0_twos_3 : decode cX0_twos 3 = .ok (.istore 4, 2) := dk_54 4 (dk_at dksX0_twos_0 3 rfl rfl)
theorem dX0_twos_5 : decode cX0_twos 5 = .ok (.iload 4, 2) := dk_21 4 (dk_at dksX0_twos_0 5 rfl rfl)
theorem dX0_twos_7 : decode cX0_twos 7 = .ok (.aload_n 0, 1) := dk_42 (dk_at dksX0_twos_0 7 rfl rfl)
theorem dX0_twos_8 : decode cX0_twos 8 = .ok (.getfield 20, 3) := dk_180 0 20 (dk_at dksX0_twos_0 8 rfl rfl)
theorem dX0_twos_11 : decode cX0_twos 11 = .ok (.getfield 206, 3) := dk_180 0 206 (dk_at dksX0_twos_0 11 rfl rfl)
theorem dX0_twos_14 : decode cX0_twos 14 = .ok (.invokevirtual 128, 3) := dk_182 0 128 (dk_at dksX0_twos_0 14 rfl rfl)
theorem dX0_twos_17 : decode cX0_twos 17 = .ok (.if_icmp .ge 125, 3) := dk_162 0 125 (dk_at dksX0_twos_0 17 rfl rfl)
theorem dX0_twos_20 : decode cX0_twos 20 = .ok (.iload 4, 2) := dk_21 4 (dk_at dksX0_twos_0 20 rfl rfl)
theorem dX0_twos_22 : decode cX0_twos 22 = .ok (.iconst 1, 1) := dk_4 (dk_at dksX0_twos_0 22 rfl rfl)
theorem dX0_twos_23 : decode cX0_twos 23 = .ok (.iadd, 1) := dk_96 (dk_at dksX0_twos_0 23 rfl rfl)
theorem dX0_twos_24 : decode cX0_twos 24 = .ok (.istore 5, 2) := dk_54 5 (dk_at dksX0_twos_1 0 rfl rfl)
theorem dX0_twos_26 : decode cX0_twos 26 = .ok (.iload 5, 2) := dk_21 5 (dk_at dksX0_twos_1 2 rfl rfl)
theorem dX0_twos_28 : decode cX0_twos 28 = .ok (.aload_n 0, 1) := dk_42 (dk_at dksX0_twos_1 4 rfl rfl)
theorem dX0_twos_29 : decode cX0_twos 29 = .ok (.getfield 20, 3) := dk_180 0 20 (dk_at dksX0_twos_1 5 rfl rfl)
theorem dX0_twos_32 : decode cX0_twos 32 = .ok (.getfield 206, 3) := dk_180 0 206 (dk_at dksX0_twos_1 8 rfl rfl)
theorem dX0_twos_35 : decode cX0_twos 35 = .ok (.invokevirtual 128, 3) := dk_182 0 128 (dk_at dksX0_twos_1 11 rfl rfl)
theorem dX0_twos_38 : decode cX0_twos 38 = .ok (.if_icmp .ge 98, 3) := dk_162 0 98 (dk_at dksX0_twos_1 14 rfl rfl)
theorem dX0_twos_41 : decode cX0_twos 41 = .ok (.aload_n 0, 1) := dk_42 (dk_at dksX0_twos_1 17 rfl rfl)
theorem dX0_twos_42 : decode cX0_twos 42 = .ok (.getfield 20, 3) := dk_180 0 20 (dk_at dksX0_twos_1 18 rfl rfl)
theorem dX0_twos_45 : decode cX0_twos 45 = .ok (.getfield 206, 3) := dk_180 0 206 (dk_at dksX0_twos_1 21 rfl rfl)
theorem dX0_twos_48 : decode cX0_twos 48 = .ok (.iload 4, 2) := dk_21 4 (dk_at dksX0_twos_2 0 rfl rfl)
theorem dX0_twos_50 : decode cX0_twos 50 = .ok (.invokevirtual 132, 3) := dk_182 0 132 (dk_at dksX0_twos_2 2 rfl rfl)
theorem dX0_twos_53 : decode cX0_twos 53 = .ok (.checkcast 237, 3) := dk_192 0 237 (dk_at dksX0_twos_2 5 rfl rfl)
theorem dX0_twos_56 : decode cX0_twos 56 = .ok (.getfield 243, 3) := dk_180 0 243 (dk_at dksX0_twos_2 8 rfl rfl)
theorem dX0_twos_59 : decode cX0_twos 59 = .ok (.astore 6, 2) := dk_58 6 (dk_at dksX0_twos_2 11 rfl rfl)
theorem dX0_twos_61 : decode cX0_twos 61 = .ok (.aload_n 0, 1) := dk_42 (dk_at dksX0_twos_2 13 rfl rfl)
theorem dX0_twos_62 : decode cX0_twos 62 = .ok (.getfield 20, 3) := dk_180 0 20 (dk_at dksX0_twos_2 14 rfl rfl)
theorem dX0_twos_65 : decode cX0_twos 65 = .ok (.getfield 206, 3) := dk_180 0 206 (dk_at dksX0_twos_2 17 rfl rfl)
theorem dX0_twos_68 : decode cX0_twos 68 = .ok (.iload 5, 2) := dk_21 5 (dk_at dksX0_twos_2 20 rfl rfl)
theorem dX0_twos_70 : decode cX0_twos 70 = .ok (.invokevirtual 132, 3) := dk_182 0 132 (dk_at dksX0_twos_3 0 rfl rfl)
theorem dX0_twos_73 : decode cX0_twos 73 = .ok (.checkcast 237, 3) := dk_192 0 237 (dk_at dksX0_twos_3 3 rfl rfl)
theorem dX0_twos_76 : decode cX0_twos 76 = .ok (.getfield 243, 3) := dk_180 0 243 (dk_at dksX0_twos_3 6 rfl rfl)
theorem dX0_twos_79 : decode cX0_twos 79 = .ok (.astore 7, 2) := dk_58 7 (dk_at dksX0_twos_3 9 rfl rfl)
theorem dX0_twos_81 : decode cX0_twos 81 = .ok (.aload 6, 2) := dk_25 6 (dk_at dksX0_twos_3 11 rfl rfl)
theorem dX0_twos_83 : decode cX0_twos 83 = .ok (.invokevirtual 246, 3) := dk_182 0 246 (dk_at dksX0_twos_3 13 rfl rfl)
theorem dX0_twos_86 : decode cX0_twos 86 = .ok (.ifCond .eq 44, 3) := dk_153 0 44 (dk_at dksX0_twos_3 16 rfl rfl)
theorem dX0_twos_89 : decode cX0_twos 89 = .ok (.aload 7, 2) := dk_25 7 (dk_at dksX0_twos_3 19 rfl rfl)
theorem dX0_twos_91 : decode cX0_twos 91 = .ok (.invokevirtual 246, 3) := dk_182 0 246 (dk_at dksX0_twos_3 21 rfl rfl)
theorem dX0_twos_94 : decode cX0_twos 94 = .ok (.ifCond .eq 36, 3) := dk_153 0 36 (dk_at dksX0_twos_4 0 rfl rfl)
theorem dX0_twos_97 : decode cX0_twos 97 = .ok (.aload_n 2, 1) := dk_44 (dk_at dksX0_twos_4 3 rfl rfl)
theorem dX0_twos_98 : decode cX0_twos 98 = .ok (.aload 6, 2) := dk_25 6 (dk_at dksX0_twos_4 4 rfl rfl)
theorem dX0_twos_100 : decode cX0_twos 100 = .ok (.aload 7, 2) := dk_25 7 (dk_at dksX0_twos_4 6 rfl rfl)
theorem dX0_twos_102 : decode cX0_twos 102 = .ok (.invokeinterface 484 3, 5) := by decide +kernel
theorem dX0_twos_107 : decode cX0_twos 107 = .ok (.ifCond .ne 6, 3) := dk_154 0 6 (dk_at dksX0_twos_4 13 rfl rfl)
theorem dX0_twos_110 : decode cX0_twos 110 = .ok (.goto 20, 3) := dk_167 0 20 (dk_at dksX0_twos_4 16 rfl rfl)
theorem dX0_twos_113 : decode cX0_twos 113 = .ok (.iload_n 3, 1) := dk_29 (dk_at dksX0_twos_4 19 rfl rfl)
theorem dX0_twos_114 : decode cX0_twos 114 = .ok (.iload_n 1, 1) := dk_27 (dk_at dksX0_twos_4 20 rfl rfl)
theorem dX0_twos_115 : decode cX0_twos 115 = .ok (.if_icmp .ne 12, 3) := dk_160 0 12 (dk_at dksX0_twos_4 21 rfl rfl)
theorem dX0_twos_118 : decode cX0_twos 118 = .ok (.bipush 100, 2) := dk_16 100 (dk_at dksX0_twos_5 0 rfl rfl)
theorem dX0_twos_120 : decode cX0_twos 120 = .ok (.iload 4, 2) := dk_21 4 (dk_at dksX0_twos_5 2 rfl rfl)
theorem dX0_twos_122 : decode cX0_twos 122 = .ok (.imul, 1) := dk_104 (dk_at dksX0_twos_5 4 rfl rfl)
theorem dX0_twos_123 : decode cX0_twos 123 = .ok (.iload 5, 2) := dk_21 5 (dk_at dksX0_twos_5 5 rfl rfl)
theorem dX0_twos_125 : decode cX0_twos 125 = .ok (.iadd, 1) := dk_96 (dk_at dksX0_twos_5 7 rfl rfl)
theorem dX0_twos_126 : decode cX0_twos 126 = .ok (.ireturn, 1) := dk_172 (dk_at dksX0_twos_5 8 rfl rfl)
theorem dX0_twos_127 : decode cX0_twos 127 = .ok (.iinc 3 1, 3) := dk_132 3 1 (dk_at dksX0_twos_5 9 rfl rfl)
theorem dX0_twos_130 : decode cX0_twos 130 = .ok (.iinc 5 1, 3) := dk_132 5 1 (dk_at dksX0_twos_5 12 rfl rfl)
theorem dX0_twos_133 : decode cX0_twos 133 = .ok (.goto (-107), 3) := dk_167 255 149 (dk_at dksX0_twos_5 15 rfl rfl)
theorem dX0_twos_136 : decode cX0_twos 136 = .ok (.iinc 4 1, 3) := dk_132 4 1 (dk_at dksX0_twos_5 18 rfl rfl)
theorem dX0_twos_139 : decode cX0_twos 139 = .ok (.goto (-134), 3) := dk_167 255 122 (dk_at dksX0_twos_5 21 rfl rfl)
theorem dX0_twos_142 : decode cX0_twos 142 = .ok (.iconst (-1), 1) := dk_2 (dk_at dksX0_twos_6 0 rfl rfl)
theorem dX0_twos_143 : decode cX0_twos 143 = .ok (.ireturn, 1) := dk_172 (dk_at dksX0_twos_6 1 rfl rfl)
def dkwX0_against_0 : List UInt8 := [42, 27, 186, 1, 241, 0, 0, 182, 1, 237, 172]
abbrev dktX0_against_0 : List UInt8 := dkwX0_against_0 ++ []
theorem dksX0_against_0 : cX0_against.data.toList.drop 0 = dktX0_against_0 := by decide +kernel
theorem dX0_against_0 : decode cX0_against 0 = .ok (.aload_n 0, 1) := dk_42 (dk_at dksX0_against_0 0 rfl rfl)
theorem dX0_against_1 : decode cX0_against 1 = .ok (.iload_n 1, 1) := dk_27 (dk_at dksX0_against_0 1 rfl rfl)
theorem dX0_against_2 : decode cX0_against 2 = .ok (.invokedynamic 497, 5) := by decide +kernel
theorem dX0_against_7 : decode cX0_against 7 = .ok (.invokevirtual 493, 3) := dk_182 1 237 (dk_at dksX0_against_0 7 rfl rfl)
theorem dX0_against_10 : decode cX0_against 10 = .ok (.ireturn, 1) := dk_172 (dk_at dksX0_against_0 10 rfl rfl)
def dkwX0_lambda_against_1_0 : List UInt8 := [42, 43, 182, 2, 34, 172]
abbrev dktX0_lambda_against_1_0 : List UInt8 := dkwX0_lambda_against_1_0 ++ []
theorem dksX0_lambda_against_1_0 : cX0_lambda_against_1.data.toList.drop 0 = dktX0_lambda_against_1_0 := by decide +kernel
theorem dX0_lambda_against_1_0 : decode cX0_lambda_against_1 0 = .ok (.aload_n 0, 1) := dk_42 (dk_at dksX0_lambda_against_1_0 0 rfl rfl)
theorem dX0_lambda_against_1_1 : decode cX0_lambda_against_1 1 = .ok (.aload_n 1, 1) := dk_43 (dk_at dksX0_lambda_against_1_0 1 rfl rfl)
theorem dX0_lambda_against_1_2 : decode cX0_lambda_against_1 2 = .ok (.invokevirtual 546, 3) := dk_182 2 34 (dk_at dksX0_lambda_against_1_0 2 rfl rfl)
theorem dX0_lambda_against_1_5 : decode cX0_lambda_against_1 5 = .ok (.ireturn, 1) := dk_172 (dk_at dksX0_lambda_against_1_0 5 rfl rfl)
def dkwX0_once_3 : List UInt8 := [2, 172, 42, 25, 5, 25, 6, 3, 29, 21, 4, 182, 1, 246, 172]
abbrev dktX0_once_3 : List UInt8 := dkwX0_once_3 ++ []
def dkwX0_once_2 : List UInt8 := [180, 0, 243, 180, 1, 40, 4, 100, 133, 184, 0, 124, 153, 0, 12, 42, 21, 4, 182, 0, 249, 199, 0, 5]
abbrev dktX0_once_2 : List UInt8 := dkwX0_once_2 ++ dktX0_once_3
def dkwX0_once_1 : List UInt8 := [25, 6, 180, 0, 243, 180, 1, 40, 6, 163, 0, 37, 29, 2, 159, 0, 34, 29, 133, 9, 25, 6]
abbrev dktX0_once_1 : List UInt8 := dkwX0_once_1 ++ dktX0_once_2
def dkwX0_once_0 : List UInt8 := [42, 28, 182, 1, 17, 58, 5, 42, 27, 182, 1, 91, 58, 6, 25, 5, 198, 0, 54, 25, 6, 198, 0, 49]
abbrev dktX0_once_0 : List UInt8 := dkwX0_once_0 ++ dktX0_once_1
theorem dksX0_once_0 : cX0_once.data.toList.drop 0 = dktX0_once_0 := by decide +kernel
theorem dksX0_once_1 : cX0_once.data.toList.drop 24 = dktX0_once_1 := dk_seg dksX0_once_0 24 rfl rfl
theorem dksX0_once_2 : cX0_once.data.toList.drop 46 = dktX0_once_2 := dk_seg dksX0_once_1 22 rfl rfl
theorem dksX0_once_3 : cX0_once.data.toList.drop 70 = dktX0_once_3 := dk_seg dksX0_once_2 24 rfl rfl
theorem dX0_once_0 : decode cX0_once 0 = .ok (.aload_n 0, 1) := dk_42 (dk_at dksX0_once_0 0 rfl rfl)
theorem dX0_once_1 : decode cX0_once 1 = .ok (.iload_n 2, 1) := dk_28 (dk_at dksX0_once_0 1 rfl rfl)
theorem dX0_once_2 : decode cX0_once 2 = .ok (.invokevirtual 273, 3) := dk_182 1 17 (dk_at dksX0_once_0 2 rfl rfl)
theorem dX0_once_5 : decode cX0_once 5 = .ok (.astore 5, 2) := dk_58 5 (dk_at dksX0_once_0 5 rfl rfl)
theorem dX0_once_7 : decode cX0_once 7 = .ok (.aload_n 0, 1) := dk_42 (dk_at dksX0_once_0 7 rfl rfl)
theorem dX0_once_8 : decode cX0_once 8 = .ok (.iload_n 1, 1) := dk_27 (dk_at dksX0_once_0 8 rfl rfl)
theorem dX0_once_9 : decode cX0_once 9 = .ok (.invokevirtual 347, 3) := dk_182 1 91 (dk_at dksX0_once_0 9 rfl rfl)
theorem dX0_once_12 : decode cX0_once 12 = .ok (.astore 6, 2) := dk_58 6 (dk_at dksX0_once_0 12 rfl rfl)
theorem dX0_once_14 : decode cX0_once 14 = .ok (.aload 5, 2) := dk_25 5 (dk_at dksX0_once_0 14 rfl rfl)
theorem dX0_once_16 : decode cX0_once 16 = .ok (.ifnull 54, 3) := dk_198 0 54 (dk_at dksX0_once_0 16 rfl rfl)
theorem dX0_once_19 : decode cX0_once 19 = .ok (.aload 6, 2) := dk_25 6 (dk_at dksX0_once_0 19 rfl rfl)
theorem dX0_once_21 : decode cX0_once 21 = .ok (.ifnull 49, 3) := dk_198 0 49 (dk_at dksX0_once_0 21 rfl rfl)
theorem dX0_once_24 : decode cX0_once 24 = .ok (.aload 6, 2) := dk_25 6 (dk_at dksX0_once_1 0 rfl rfl)
theorem dX0_once_26 : decode cX0_once 26 = .ok (.getfield 243, 3) := dk_180 0 243 (dk_at dksX0_once_1 2 rfl rfl)
theorem dX0_once_29 : decode cX0_once 29 = .ok (.getfield 296, 3) := dk_180 1 40 (dk_at dksX0_once_1 5 rfl rfl)
theorem dX0_once_32 : decode cX0_once 32 = .ok (.iconst 3, 1) := dk_6 (dk_at dksX0_once_1 8 rfl rfl)
theorem dX0_once_33 : decode cX0_once 33 = .ok (.if_icmp .gt 37, 3) := dk_163 0 37 (dk_at dksX0_once_1 9 rfl rfl)
theorem dX0_once_36 : decode cX0_once 36 = .ok (.iload_n 3, 1) := dk_29 (dk_at dksX0_once_1 12 rfl rfl)
theorem dX0_once_37 : decode cX0_once 37 = .ok (.iconst (-1), 1) := dk_2 (dk_at dksX0_once_1 13 rfl rfl)
theorem dX0_once_38 : decode cX0_once 38 = .ok (.if_icmp .eq 34, 3) := dk_159 0 34 (dk_at dksX0_once_1 14 rfl rfl)
theorem dX0_once_41 : decode cX0_once 41 = .ok (.iload_n 3, 1) := dk_29 (dk_at dksX0_once_1 17 rfl rfl)
theorem dX0_once_42 : decode cX0_once 42 = .ok (.i2l, 1) := dk_133 (dk_at dksX0_once_1 18 rfl rfl)
theorem dX0_once_43 : decode cX0_once 43 = .ok (.lconst 0, 1) := dk_9 (dk_at dksX0_once_1 19 rfl rfl)
theorem dX0_once_44 : decode cX0_once 44 = .ok (.aload 6, 2) := dk_25 6 (dk_at dksX0_once_1 20 rfl rfl)
theorem dX0_once_46 : decode cX0_once 46 = .ok (.getfield 243, 3) := dk_180 0 243 (dk_at dksX0_once_2 0 rfl rfl)
theorem dX0_once_49 : decode cX0_once 49 = .ok (.getfield 296, 3) := dk_180 1 40 (dk_at dksX0_once_2 3 rfl rfl)
theorem dX0_once_52 : decode cX0_once 52 = .ok (.iconst 1, 1) := dk_4 (dk_at dksX0_once_2 6 rfl rfl)
theorem dX0_once_53 : decode cX0_once 53 = .ok (.isub, 1) := dk_100 (dk_at dksX0_once_2 7 rfl rfl)
theorem dX0_once_54 : decode cX0_once 54 = .ok (.i2l, 1) := dk_133 (dk_at dksX0_once_2 8 rfl rfl)
theorem dX0_once_55 : decode cX0_once 55 = .ok (.invokestatic 124, 3) := dk_184 0 124 (dk_at dksX0_once_2 9 rfl rfl)
theorem dX0_once_58 : decode cX0_once 58 = .ok (.ifCond .eq 12, 3) := dk_153 0 12 (dk_at dksX0_once_2 12 rfl rfl)
theorem dX0_once_61 : decode cX0_once 61 = .ok (.aload_n 0, 1) := dk_42 (dk_at dksX0_once_2 15 rfl rfl)
theorem dX0_once_62 : decode cX0_once 62 = .ok (.iload 4, 2) := dk_21 4 (dk_at dksX0_once_2 16 rfl rfl)
theorem dX0_once_64 : decode cX0_once 64 = .ok (.invokevirtual 249, 3) := dk_182 0 249 (dk_at dksX0_once_2 18 rfl rfl)
theorem dX0_once_67 : decode cX0_once 67 = .ok (.ifnonnull 5, 3) := dk_199 0 5 (dk_at dksX0_once_2 21 rfl rfl)
theorem dX0_once_70 : decode cX0_once 70 = .ok (.iconst (-1), 1) := dk_2 (dk_at dksX0_once_3 0 rfl rfl)
theorem dX0_once_71 : decode cX0_once 71 = .ok (.ireturn, 1) := dk_172 (dk_at dksX0_once_3 1 rfl rfl)
theorem dX0_once_72 : decode cX0_once 72 = .ok (.aload_n 0, 1) := dk_42 (dk_at dksX0_once_3 2 rfl rfl)
theorem dX0_once_73 : decode cX0_once 73 = .ok (.aload 5, 2) := dk_25 5 (dk_at dksX0_once_3 3 rfl rfl)
theorem dX0_once_75 : decode cX0_once 75 = .ok (.aload 6, 2) := dk_25 6 (dk_at dksX0_once_3 5 rfl rfl)
theorem dX0_once_77 : decode cX0_once 77 = .ok (.iconst 0, 1) := dk_3 (dk_at dksX0_once_3 7 rfl rfl)
theorem dX0_once_78 : decode cX0_once 78 = .ok (.iload_n 3, 1) := dk_29 (dk_at dksX0_once_3 8 rfl rfl)
theorem dX0_once_79 : decode cX0_once 79 = .ok (.iload 4, 2) := dk_21 4 (dk_at dksX0_once_3 9 rfl rfl)
theorem dX0_once_81 : decode cX0_once 81 = .ok (.invokevirtual 502, 3) := dk_182 1 246 (dk_at dksX0_once_3 11 rfl rfl)
theorem dX0_once_84 : decode cX0_once 84 = .ok (.ireturn, 1) := dk_172 (dk_at dksX0_once_3 14 rfl rfl)
def dkwX0_rows_5 : List UInt8 := [182, 1, 246, 96, 54, 6, 132, 7, 1, 167, 255, 161, 21, 6, 172]
abbrev dktX0_rows_5 : List UInt8 := dkwX0_rows_5 ++ []
def dkwX0_rows_4 : List UInt8 := [180, 0, 197, 21, 7, 182, 0, 132, 192, 0, 233, 83, 21, 6, 42, 43, 44, 29, 4, 96, 21, 4, 21, 5]
abbrev dktX0_rows_4 : List UInt8 := dkwX0_rows_4 ++ dktX0_rows_5
def dkwX0_rows_3 : List UInt8 := [180, 1, 63, 29, 50, 165, 0, 6, 167, 0, 45, 42, 180, 0, 86, 180, 1, 63, 29, 42, 180, 0, 20]
abbrev dktX0_rows_3 : List UInt8 := dkwX0_rows_3 ++ dktX0_rows_4
def dkwX0_rows_2 : List UInt8 := [21, 4, 160, 0, 10, 21, 7, 21, 5, 160, 0, 67, 43, 180, 1, 76, 21, 7, 50, 44, 180, 0, 243]
abbrev dktX0_rows_2 : List UInt8 := dkwX0_rows_2 ++ dktX0_rows_3
def dkwX0_rows_1 : List UInt8 := [3, 172, 3, 54, 6, 3, 54, 7, 21, 7, 42, 180, 0, 20, 180, 0, 197, 182, 0, 128, 162, 0, 86, 29]
abbrev dktX0_rows_1 : List UInt8 := dkwX0_rows_1 ++ dktX0_rows_2
def dkwX0_rows_0 : List UInt8 := [29, 44, 180, 0, 243, 180, 1, 40, 160, 0, 18, 42, 43, 44, 182, 1, 242, 153, 0, 7, 4, 167, 0, 4]
abbrev dktX0_rows_0 : List UInt8 := dkwX0_rows_0 ++ dktX0_rows_1
theorem dksX0_rows_0 : cX0_rows.data.toList.drop 0 = dktX0_rows_0 := by decide +kernel
theorem dksX0_rows_1 : cX0_rows.data.toList.drop 24 = dktX0_rows_1 := dk_seg dksX0_rows_0 24 rfl rfl
theorem dksX0_rows_2 : cX0_rows.data.toList.drop 48 = dktX0_rows_2 := dk_seg dksX0_rows_1 24 rfl rfl
theorem dksX0_rows_3 : cX0_rows.data.toList.drop 71 = dktX0_rows_3 := dk_seg dksX0_rows_2 23 rfl rfl
theorem dksX0_rows_4 : cX0_rows.data.toList.drop 94 = dktX0_rows_4 := dk_seg dksX0_rows_3 23 rfl rfl
theorem dksX0_rows_5 : cX0_rows.data.toList.drop 118 = dktX0_rows_5 := dk_seg dksX0_rows_4 24 rfl rfl
theorem dX0_rows_0 : decode cX0_rows 0 = .ok (.iload_n 3, 1) := dk_29 (dk_at dksX0_rows_0 0 rfl rfl)
theorem dX0_rows_1 : decode cX0_rows 1 = .ok (.aload_n 2, 1) := dk_44 (dk_at dksX0_rows_0 1 rfl rfl)
theorem dX0_rows_2 : decode cX0_rows 2 = .ok (.getfield 243, 3) := dk_180 0 243 (dk_at dksX0_rows_0 2 rfl rfl)
theorem dX0_rows_5 : decode cX0_rows 5 = .ok (.getfield 296, 3) := dk_180 1 40 (dk_at dksX0_rows_0 5 rfl rfl)
theorem dX0_rows_8 : decode cX0_rows 8 = .ok (.if_icmp .ne 18, 3) := dk_160 0 18 (dk_at dksX0_rows_0 8 rfl rfl)
theorem dX0_rows_11 : decode cX0_rows 11 = .ok (.aload_n 0, 1) := dk_42 (dk_at dksX0_rows_0 11 rfl rfl)
theorem dX0_rows_12 : decode cX0_rows 12 = .ok (.aload_n 1, 1) := dk_43 (dk_at dksX0_rows_0 12 rfl rfl)
theorem dX0_rows_13 : decode cX0_rows 13 = .ok (.aload_n 2, 1) := dk_44 (dk_at dksX0_rows_0 13 rfl rfl)
theorem dX0_rows_14 : decode cX0_rows 14 = .ok (.invokevirtual 498, 3) := dk_182 1 242 (dk_at dksX0_rows_0 14 rfl rfl)
theorem dX0_rows_17 : decode cX0_rows 17 = .ok (.ifCond .eq 7, 3) := dk_153 0 7 (dk_at dksX0_rows_0 17 rfl rfl)
theorem dX0_rows_20 : decode cX0_rows 20 = .ok (.iconst 1, 1) := dk_4 (dk_at dksX0_rows_0 20 rfl rfl)
theorem dX0_rows_21 : decode cX0_rows 21 = .ok (.goto 4, 3) := dk_167 0 4 (dk_at dksX0_rows_0 21 rfl rfl)
theorem dX0_rows_24 : decode cX0_rows 24 = .ok (.iconst 0, 1) := dk_3 (dk_at dksX0_rows_1 0 rfl rfl)
theorem dX0_rows_25 : decode cX0_rows 25 = .ok (.ireturn, 1) := dk_172 (dk_at dksX0_rows_1 1 rfl rfl)
theorem dX0_rows_26 : decode cX0_rows 26 = .ok (.iconst 0, 1) := dk_3 (dk_at dksX0_rows_1 2 rfl rfl)
theorem dX0_rows_27 : decode cX0_rows 27 = .ok (.istore 6, 2) := dk_54 6 (dk_at dksX0_rows_1 3 rfl rfl)
theorem dX0_rows_29 : decode cX0_rows 29 = .ok (.iconst 0, 1) := dk_3 (dk_at dksX0_rows_1 5 rfl rfl)
theorem dX0_rows_30 : decode cX0_rows 30 = .ok (.istore 7, 2) := dk_54 7 (dk_at dksX0_rows_1 6 rfl rfl)
theorem dX0_rows_32 : decode cX0_rows 32 = .ok (.iload 7, 2) := dk_21 7 (dk_at dksX0_rows_1 8 rfl rfl)
theorem dX0_rows_34 : decode cX0_rows 34 = .ok (.aload_n 0, 1) := dk_42 (dk_at dksX0_rows_1 10 rfl rfl)
theorem dX0_rows_35 : decode cX0_rows 35 = .ok (.getfield 20, 3) := dk_180 0 20 (dk_at dksX0_rows_1 11 rfl rfl)
theorem dX0_rows_38 : decode cX0_rows 38 = .ok (.getfield 197, 3) := dk_180 0 197 (dk_at dksX0_rows_1 14 rfl rfl)
theorem dX0_rows_41 : decode cX0_rows 41 = .ok (.invokevirtual 128, 3) := dk_182 0 128 (dk_at dksX0_rows_1 17 rfl rfl)
theorem dX0_rows_44 : decode cX0_rows 44 = .ok (.if_icmp .ge 86, 3) := dk_162 0 86 (dk_at dksX0_rows_1 20 rfl rfl)
theorem dX0_rows_47 : decode cX0_rows 47 = .ok (.iload_n 3, 1) := dk_29 (dk_at dksX0_rows_1 23 rfl rfl)
theorem dX0_rows_48 : decode cX0_rows 48 = .ok (.iload 4, 2) := dk_21 4 (dk_at dksX0_rows_2 0 rfl rfl)
theorem dX0_rows_50 : decode cX0_rows 50 = .ok (.if_icmp .ne 10, 3) := dk_160 0 10 (dk_at dksX0_rows_2 2 rfl rfl)
theorem dX0_rows_53 : decode cX0_rows 53 = .ok (.iload 7, 2) := dk_21 7 (dk_at dksX0_rows_2 5 rfl rfl)
theorem dX0_rows_55 : decode cX0_rows 55 = .ok (.iload 5, 2) := dk_21 5 (dk_at dksX0_rows_2 7 rfl rfl)
theorem dX0_rows_57 : decode cX0_rows 57 = .ok (.if_icmp .ne 67, 3) := dk_160 0 67 (dk_at dksX0_rows_2 9 rfl rfl)
theorem dX0_rows_60 : decode cX0_rows 60 = .ok (.aload_n 1, 1) := dk_43 (dk_at dksX0_rows_2 12 rfl rfl)
theorem dX0_rows_61 : decode cX0_rows 61 = .ok (.getfield 332, 3) := dk_180 1 76 (dk_at dksX0_rows_2 13 rfl rfl)
theorem dX0_rows_64 : decode cX0_rows 64 = .ok (.iload 7, 2) := dk_21 7 (dk_at dksX0_rows_2 16 rfl rfl)
theorem dX0_rows_66 : decode cX0_rows 66 = .ok (.aaload, 1) := dk_50 (dk_at dksX0_rows_2 18 rfl rfl)
theorem dX0_rows_67 : decode cX0_rows 67 = .ok (.aload_n 2, 1) := dk_44 (dk_at dksX0_rows_2 19 rfl rfl)
theorem dX0_rows_68 : decode cX0_rows 68 = .ok (.getfield 243, 3) := dk_180 0 243 (dk_at dksX0_rows_2 20 rfl rfl)
theorem dX0_rows_71 : decode cX0_rows 71 = .ok (.getfield 319, 3) := dk_180 1 63 (dk_at dksX0_rows_3 0 rfl rfl)
theorem dX0_rows_74 : decode cX0_rows 74 = .ok (.iload_n 3, 1) := dk_29 (dk_at dksX0_rows_3 3 rfl rfl)
theorem dX0_rows_75 : decode cX0_rows 75 = .ok (.aaload, 1) := dk_50 (dk_at dksX0_rows_3 4 rfl rfl)
theorem dX0_rows_76 : decode cX0_rows 76 = .ok (.if_acmp .eq 6, 3) := dk_165 0 6 (dk_at dksX0_rows_3 5 rfl rfl)
theorem dX0_rows_79 : decode cX0_rows 79 = .ok (.goto 45, 3) := dk_167 0 45 (dk_at dksX0_rows_3 8 rfl rfl)
theorem dX0_rows_82 : decode cX0_rows 82 = .ok (.aload_n 0, 1) := dk_42 (dk_at dksX0_rows_3 11 rfl rfl)
theorem dX0_rows_83 : decode cX0_rows 83 = .ok (.getfield 86, 3) := dk_180 0 86 (dk_at dksX0_rows_3 12 rfl rfl)
theorem dX0_rows_86 : decode cX0_rows 86 = .ok (.getfield 319, 3) := dk_180 1 63 (dk_at dksX0_rows_3 15 rfl rfl)
theorem dX0_rows_89 : decode cX0_rows 89 = .ok (.iload_n 3, 1) := dk_29 (dk_at dksX0_rows_3 18 rfl rfl)
theorem dX0_rows_90 : decode cX0_rows 90 = .ok (.aload_n 0, 1) := dk_42 (dk_at dksX0_rows_3 19 rfl rfl)
theorem dX0_rows_91 : decode cX0_rows 91 = .ok (.getfield 20, 3) := dk_180 0 20 (dk_at dksX0_rows_3 20 rfl rfl)
theorem dX0_rows_94 : decode cX0_rows 94 = .ok (.getfield 197, 3) := dk_180 0 197 (dk_at dksX0_rows_4 0 rfl rfl)
theorem dX0_rows_97 : decode cX0_rows 97 = .ok (.iload 7, 2) := dk_21 7 (dk_at dksX0_rows_4 3 rfl rfl)
theorem dX0_rows_99 : decode cX0_rows 99 = .ok (.invokevirtual 132, 3) := dk_182 0 132 (dk_at dksX0_rows_4 5 rfl rfl)
theorem dX0_rows_102 : decode cX0_rows 102 = .ok (.checkcast 233, 3) := dk_192 0 233 (dk_at dksX0_rows_4 8 rfl rfl)
theorem dX0_rows_105 : decode cX0_rows 105 = .ok (.aastore, 1) := dk_83 (dk_at dksX0_rows_4 11 rfl rfl)
theorem dX0_rows_106 : decode cX0_rows 106 = .ok (.iload 6, 2) := dk_21 6 (dk_at dksX0_rows_4 12 rfl rfl)
theorem dX0_rows_108 : decode cX0_rows 108 = .ok (.aload_n 0, 1) := dk_42 (dk_at dksX0_rows_4 14 rfl rfl)
theorem dX0_rows_109 : decode cX0_rows 109 = .ok (.aload_n 1, 1) := dk_43 (dk_at dksX0_rows_4 15 rfl rfl)
theorem dX0_rows_110 : decode cX0_rows 110 = .ok (.aload_n 2, 1) := dk_44 (dk_at dksX0_rows_4 16 rfl rfl)
theorem dX0_rows_111 : decode cX0_rows 111 = .ok (.iload_n 3, 1) := dk_29 (dk_at dksX0_rows_4 17 rfl rfl)
theorem dX0_rows_112 : decode cX0_rows 112 = .ok (.iconst 1, 1) := dk_4 (dk_at dksX0_rows_4 18 rfl rfl)
theorem dX0_rows_113 : decode cX0_rows 113 = .ok (.iadd, 1) := dk_96 (dk_at dksX0_rows_4 19 rfl rfl)
theorem dX0_rows_114 : decode cX0_rows 114 = .ok (.iload 4, 2) := dk_21 4 (dk_at dksX0_rows_4 20 rfl rfl)
theorem dX0_rows_116 : decode cX0_rows 116 = .ok (.iload 5, 2) := dk_21 5 (dk_at dksX0_rows_4 22 rfl rfl)
theorem dX0_rows_118 : decode cX0_rows 118 = .ok (.invokevirtual 502, 3) := dk_182 1 246 (dk_at dksX0_rows_5 0 rfl rfl)
theorem dX0_rows_121 : decode cX0_rows 121 = .ok (.iadd, 1) := dk_96 (dk_at dksX0_rows_5 3 rfl rfl)
theorem dX0_rows_122 : decode cX0_rows 122 = .ok (.istore 6, 2) := dk_54 6 (dk_at dksX0_rows_5 4 rfl rfl)
theorem dX0_rows_124 : decode cX0_rows 124 = .ok (.iinc 7 1, 3) := dk_132 7 1 (dk_at dksX0_rows_5 6 rfl rfl)
theorem dX0_rows_127 : decode cX0_rows 127 = .ok (.goto (-95), 3) := dk_167 255 161 (dk_at dksX0_rows_5 9 rfl rfl)
theorem dX0_rows_130 : decode cX0_rows 130 = .ok (.iload 6, 2) := dk_21 6 (dk_at dksX0_rows_5 12 rfl rfl)
theorem dX0_rows_132 : decode cX0_rows 132 = .ok (.ireturn, 1) := dk_172 (dk_at dksX0_rows_5 14 rfl rfl)
def dkwX0_isSaidSo_2 : List UInt8 := [167, 0, 4, 3, 172]
abbrev dktX0_isSaidSo_2 : List UInt8 := dkwX0_isSaidSo_2 ++ []
def dkwX0_isSaidSo_1 : List UInt8 := [180, 0, 44, 43, 42, 180, 0, 86, 3, 43, 180, 1, 34, 182, 1, 88, 180, 1, 87, 6, 159, 0, 7, 4]
abbrev dktX0_isSaidSo_1 : List UInt8 := dkwX0_isSaidSo_1 ++ dktX0_isSaidSo_2
def dkwX0_isSaidSo_0 : List UInt8 := [42, 180, 0, 86, 44, 180, 0, 243, 180, 1, 40, 181, 1, 40, 42, 180, 0, 86, 3, 181, 1, 43, 42]
abbrev dktX0_isSaidSo_0 : List UInt8 := dkwX0_isSaidSo_0 ++ dktX0_isSaidSo_1
theorem dksX0_isSaidSo_0 : cX0_isSaidSo.data.toList.drop 0 = dktX0_isSaidSo_0 := by decide +kernel
theorem dksX0_isSaidSo_1 : cX0_isSaidSo.data.toList.drop 23 = dktX0_isSaidSo_1 := dk_seg dksX0_isSaidSo_0 23 rfl rfl
theorem dksX0_isSaidSo_2 : cX0_isSaidSo.data.toList.drop 47 = dktX0_isSaidSo_2 := dk_seg dksX0_isSaidSo_1 24 rfl rfl
theorem dX0_isSaidSo_0 : decode cX0_isSaidSo 0 = .ok (.aload_n 0, 1) := dk_42 (dk_at dksX0_isSaidSo_0 0 rfl rfl)
theorem dX0_isSaidSo_1 : decode cX0_isSaidSo 1 = .ok (.getfield 86, 3) := dk_180 0 86 (dk_at dksX0_isSaidSo_0 1 rfl rfl)
theorem dX0_isSaidSo_4 : decode cX0_isSaidSo 4 = .ok (.aload_n 2, 1) := dk_44 (dk_at dksX0_isSaidSo_0 4 rfl rfl)
theorem dX0_isSaidSo_5 : decode cX0_isSaidSo 5 = .ok (.getfield 243, 3) := dk_180 0 243 (dk_at dksX0_isSaidSo_0 5 rfl rfl)
theorem dX0_isSaidSo_8 : decode cX0_isSaidSo 8 = .ok (.getfield 296, 3) := dk_180 1 40 (dk_at dksX0_isSaidSo_0 8 rfl rfl)
theorem dX0_isSaidSo_11 : decode cX0_isSaidSo 11 = .ok (.putfield 296, 3) := dk_181 1 40 (dk_at dksX0_isSaidSo_0 11 rfl rfl)
theorem dX0_isSaidSo_14 : decode cX0_isSaidSo 14 = .ok (.aload_n 0, 1) := dk_42 (dk_at dksX0_isSaidSo_0 14 rfl rfl)
theorem dX0_isSaidSo_15 : decode cX0_isSaidSo 15 = .ok (.getfield 86, 3) := dk_180 0 86 (dk_at dksX0_isSaidSo_0 15 rfl rfl)
theorem dX0_isSaidSo_18 : decode cX0_isSaidSo 18 = .ok (.iconst 0, 1) := dk_3 (dk_at dksX0_isSaidSo_0 18 rfl rfl)
theorem dX0_isSaidSo_19 : decode cX0_isSaidSo 19 = .ok (.putfield 299, 3) := dk_181 1 43 (dk_at dksX0_isSaidSo_0 19 rfl rfl)
theorem dX0_isSaidSo_22 : decode cX0_isSaidSo 22 = .ok (.aload_n 0, 1) := dk_42 (dk_at dksX0_isSaidSo_0 22 rfl rfl)
theorem dX0_isSaidSo_23 : decode cX0_isSaidSo 23 = .ok (.getfield 44, 3) := dk_180 0 44 (dk_at dksX0_isSaidSo_1 0 rfl rfl)
theorem dX0_isSaidSo_26 : decode cX0_isSaidSo 26 = .ok (.aload_n 1, 1) := dk_43 (dk_at dksX0_isSaidSo_1 3 rfl rfl)
theorem dX0_isSaidSo_27 : decode cX0_isSaidSo 27 = .ok (.aload_n 0, 1) := dk_42 (dk_at dksX0_isSaidSo_1 4 rfl rfl)
theorem dX0_isSaidSo_28 : decode cX0_isSaidSo 28 = .ok (.getfield 86, 3) := dk_180 0 86 (dk_at dksX0_isSaidSo_1 5 rfl rfl)
theorem dX0_isSaidSo_31 : decode cX0_isSaidSo 31 = .ok (.iconst 0, 1) := dk_3 (dk_at dksX0_isSaidSo_1 8 rfl rfl)
theorem dX0_isSaidSo_32 : decode cX0_isSaidSo 32 = .ok (.aload_n 1, 1) := dk_43 (dk_at dksX0_isSaidSo_1 9 rfl rfl)
theorem dX0_isSaidSo_33 : decode cX0_isSaidSo 33 = .ok (.getfield 290, 3) := dk_180 1 34 (dk_at dksX0_isSaidSo_1 10 rfl rfl)
theorem dX0_isSaidSo_36 : decode cX0_isSaidSo 36 = .ok (.invokevirtual 344, 3) := dk_182 1 88 (dk_at dksX0_isSaidSo_1 13 rfl rfl)
theorem dX0_isSaidSo_39 : decode cX0_isSaidSo 39 = .ok (.getfield 343, 3) := dk_180 1 87 (dk_at dksX0_isSaidSo_1 16 rfl rfl)
theorem dX0_isSaidSo_42 : decode cX0_isSaidSo 42 = .ok (.iconst 3, 1) := dk_6 (dk_at dksX0_isSaidSo_1 19 rfl rfl)
theorem dX0_isSaidSo_43 : decode cX0_isSaidSo 43 = .ok (.if_icmp .eq 7, 3) := dk_159 0 7 (dk_at dksX0_isSaidSo_1 20 rfl rfl)
theorem dX0_isSaidSo_46 : decode cX0_isSaidSo 46 = .ok (.iconst 1, 1) := dk_4 (dk_at dksX0_isSaidSo_1 23 rfl rfl)
theorem dX0_isSaidSo_47 : decode cX0_isSaidSo 47 = .ok (.goto 4, 3) := dk_167 0 4 (dk_at dksX0_isSaidSo_2 0 rfl rfl)
theorem dX0_isSaidSo_50 : decode cX0_isSaidSo 50 = .ok (.iconst 0, 1) := dk_3 (dk_at dksX0_isSaidSo_2 3 rfl rfl)
theorem dX0_isSaidSo_51 : decode cX0_isSaidSo 51 = .ok (.ireturn, 1) := dk_172 (dk_at dksX0_isSaidSo_2 4 rfl rfl)
def dkwX0_meaning_0 : List UInt8 := [42, 27, 182, 0, 239, 77, 44, 199, 0, 9, 19, 1, 250, 167, 0, 10, 44, 180, 0, 243, 182, 1, 251, 172]
abbrev dktX0_meaning_0 : List UInt8 := dkwX0_meaning_0 ++ []
theorem dksX0_meaning_0 : cX0_meaning.data.toList.drop 0 = dktX0_meaning_0 := by decide +kernel
theorem dX0_meaning_0 : decode cX0_meaning 0 = .ok (.aload_n 0, 1) := dk_42 (dk_at dksX0_meaning_0 0 rfl rfl)
theorem dX0_meaning_1 : decode cX0_meaning 1 = .ok (.iload_n 1, 1) := dk_27 (dk_at dksX0_meaning_0 1 rfl rfl)
theorem dX0_meaning_2 : decode cX0_meaning 2 = .ok (.invokevirtual 239, 3) := dk_182 0 239 (dk_at dksX0_meaning_0 2 rfl rfl)
theorem dX0_meaning_5 : decode cX0_meaning 5 = .ok (.astore_n 2, 1) := dk_77 (dk_at dksX0_meaning_0 5 rfl rfl)
theorem dX0_meaning_6 : decode cX0_meaning 6 = .ok (.aload_n 2, 1) := dk_44 (dk_at dksX0_meaning_0 6 rfl rfl)
theorem dX0_meaning_7 : decode cX0_meaning 7 = .ok (.ifnonnull 9, 3) := dk_199 0 9 (dk_at dksX0_meaning_0 7 rfl rfl)
theorem dX0_meaning_10 : decode cX0_meaning 10 = .ok (.ldc_w 506, 3) := dk_19 1 250 (dk_at dksX0_meaning_0 10 rfl rfl)
theorem dX0_meaning_13 : decode cX0_meaning 13 = .ok (.goto 10, 3) := dk_167 0 10 (dk_at dksX0_meaning_0 13 rfl rfl)
theorem dX0_meaning_16 : decode cX0_meaning 16 = .ok (.aload_n 2, 1) := dk_44 (dk_at dksX0_meaning_0 16 rfl rfl)
theorem dX0_meaning_17 : decode cX0_meaning 17 = .ok (.getfield 243, 3) := dk_180 0 243 (dk_at dksX0_meaning_0 17 rfl rfl)
theorem dX0_meaning_20 : decode cX0_meaning 20 = .ok (.invokevirtual 507, 3) := dk_182 1 251 (dk_at dksX0_meaning_0 20 rfl rfl)
theorem dX0_meaning_23 : decode cX0_meaning 23 = .ok (.ireturn, 1) := dk_172 (dk_at dksX0_meaning_0 23 rfl rfl)
def dkwX0_harm_4 : List UInt8 := [29, 172]
abbrev dktX0_harm_4 : List UInt8 := dkwX0_harm_4 ++ []
def dkwX0_harm_3 : List UInt8 := [21, 4, 50, 182, 1, 105, 180, 1, 113, 182, 1, 251, 100, 184, 1, 254, 96, 62, 132, 4, 1, 167, 255, 195]
abbrev dktX0_harm_3 : List UInt8 := dkwX0_harm_3 ++ dktX0_harm_4
def dkwX0_harm_2 : List UInt8 := [180, 1, 134, 21, 4, 50, 180, 0, 243, 182, 1, 251, 42, 180, 0, 51, 42, 180, 0, 51, 180, 1, 134]
abbrev dktX0_harm_2 : List UInt8 := dkwX0_harm_2 ++ dktX0_harm_3
def dkwX0_harm_1 : List UInt8 := [3, 62, 3, 54, 4, 21, 4, 42, 180, 0, 51, 180, 1, 131, 162, 0, 55, 29, 42, 180, 0, 51]
abbrev dktX0_harm_1 : List UInt8 := dkwX0_harm_1 ++ dktX0_harm_2
def dkwX0_harm_0 : List UInt8 := [42, 27, 182, 1, 17, 77, 44, 199, 0, 5, 2, 172, 42, 180, 0, 51, 182, 1, 97, 44, 182, 1, 101, 87]
abbrev dktX0_harm_0 : List UInt8 := dkwX0_harm_0 ++ dktX0_harm_1
theorem dksX0_harm_0 : cX0_harm.data.toList.drop 0 = dktX0_harm_0 := by decide +kernel
theorem dksX0_harm_1 : cX0_harm.data.toList.drop 24 = dktX0_harm_1 := dk_seg dksX0_harm_0 24 rfl rfl
theorem dksX0_harm_2 : cX0_harm.data.toList.drop 46 = dktX0_harm_2 := dk_seg dksX0_harm_1 22 rfl rfl
theorem dksX0_harm_3 : cX0_harm.data.toList.drop 69 = dktX0_harm_3 := dk_seg dksX0_harm_2 23 rfl rfl
theorem dksX0_harm_4 : cX0_harm.data.toList.drop 93 = dktX0_harm_4 := dk_seg dksX0_harm_3 24 rfl rfl
theorem dX0_harm_0 : decode cX0_harm 0 = .ok (.aload_n 0, 1) := dk_42 (dk_at dksX0_harm_0 0 rfl rfl)
theorem dX0_harm_1 : decode cX0_harm 1 = .ok (.iload_n 1, 1) := dk_27 (dk_at dksX0_harm_0 1 rfl rfl)
theorem dX0_harm_2 : decode cX0_harm 2 = .ok (.invokevirtual 273, 3) := dk_182 1 17 (dk_at dksX0_harm_0 2 rfl rfl)
theorem dX0_harm_5 : decode cX0_harm 5 = .ok (.astore_n 2, 1) := dk_77 (dk_at dksX0_harm_0 5 rfl rfl)
theorem dX0_harm_6 : decode cX0_harm 6 = .ok (.aload_n 2, 1) := dk_44 (dk_at dksX0_harm_0 6 rfl rfl)
theorem dX0_harm_7 : decode cX0_harm 7 = .ok (.ifnonnull 5, 3) := dk_199 0 5 (dk_at dksX0_harm_0 7 rfl rfl)
theorem dX0_harm_10 : decode cX0_harm 10 = .ok (.iconst (-1), 1) := dk_2 (dk_at dksX0_harm_0 10 rfl rfl)
theorem dX0_harm_11 : decode cX0_harm 11 = .ok (.ireturn, 1) := dk_172 (dk_at dksX0_harm_0 11 rfl rfl)
theorem dX0_harm_12 : decode cX0_harm 12 = .ok (.aload_n 0, 1) := dk_42 (dk_at dksX0_harm_0 12 rfl rfl)
theorem dX0_harm_13 : decode cX0_harm 13 = .ok (.getfield 51, 3) := dk_180 0 51 (dk_at dksX0_harm_0 13 rfl rfl)
theorem dX0_harm_16 : decode cX0_harm 16 = .ok (.invokevirtual 353, 3) := dk_182 1 97 (dk_at dksX0_harm_0 16 rfl rfl)
theorem dX0_harm_19 : decode cX0_harm 19 = .ok (.aload_n 2, 1) := dk_44 (dk_at dksX0_harm_0 19 rfl rfl)
theorem dX0_harm_20 : decode cX0_harm 20 = .ok (.invokevirtual 357, 3) := dk_182 1 101 (dk_at dksX0_harm_0 20 rfl rfl)
theorem dX0_harm_23 : decode cX0_harm 23 = .ok (.pop, 1) := dk_87 (dk_at dksX0_harm_0 23 rfl rfl)
theorem dX0_harm_24 : decode cX0_harm 24 = .ok (.iconst 0, 1) := dk_3 (dk_at dksX0_harm_1 0 rfl rfl)
theorem dX0_harm_25 : decode cX0_harm 25 = .ok (.istore_n 3, 1) := dk_62 (dk_at dksX0_harm_1 1 rfl rfl)
theorem dX0_harm_26 : decode cX0_harm 26 = .ok (.iconst 0, 1) := dk_3 (dk_at dksX0_harm_1 2 rfl rfl)
theorem dX0_harm_27 : decode cX0_harm 27 = .ok (.istore 4, 2) := dk_54 4 (dk_at dksX0_harm_1 3 rfl rfl)
theorem dX0_harm_29 : decode cX0_harm 29 = .ok (.iload 4, 2) := dk_21 4 (dk_at dksX0_harm_1 5 rfl rfl)
theorem dX0_harm_31 : decode cX0_harm 31 = .ok (.aload_n 0, 1) := dk_42 (dk_at dksX0_harm_1 7 rfl rfl)
theorem dX0_harm_32 : decode cX0_harm 32 = .ok (.getfield 51, 3) := dk_180 0 51 (dk_at dksX0_harm_1 8 rfl rfl)
theorem dX0_harm_35 : decode cX0_harm 35 = .ok (.getfield 387, 3) := dk_180 1 131 (dk_at dksX0_harm_1 11 rfl rfl)
theorem dX0_harm_38 : decode cX0_harm 38 = .ok (.if_icmp .ge 55, 3) := dk_162 0 55 (dk_at dksX0_harm_1 14 rfl rfl)
theorem dX0_harm_41 : decode cX0_harm 41 = .ok (.iload_n 3, 1) := dk_29 (dk_at dksX0_harm_1 17 rfl rfl)
theorem dX0_harm_42 : decode cX0_harm 42 = .ok (.aload_n 0, 1) := dk_42 (dk_at dksX0_harm_1 18 rfl rfl)
theorem dX0_harm_43 : decode cX0_harm 43 = .ok (.getfield 51, 3) := dk_180 0 51 (dk_at dksX0_harm_1 19 rfl rfl)
theorem dX0_harm_46 : decode cX0_harm 46 = .ok (.getfield 390, 3) := dk_180 1 134 (dk_at dksX0_harm_2 0 rfl rfl)
theorem dX0_harm_49 : decode cX0_harm 49 = .ok (.iload 4, 2) := dk_21 4 (dk_at dksX0_harm_2 3 rfl rfl)
theorem dX0_harm_51 : decode cX0_harm 51 = .ok (.aaload, 1) := dk_50 (dk_at dksX0_harm_2 5 rfl rfl)
theorem dX0_harm_52 : decode cX0_harm 52 = .ok (.getfield 243, 3) := dk_180 0 243 (dk_at dksX0_harm_2 6 rfl rfl)
theorem dX0_harm_55 : decode cX0_harm 55 = .ok (.invokevirtual 507, 3) := dk_182 1 251 (dk_at dksX0_harm_2 9 rfl rfl)
theorem dX0_harm_58 : decode cX0_harm 58 = .ok (.aload_n 0, 1) := dk_42 (dk_at dksX0_harm_2 12 rfl rfl)
theorem dX0_harm_59 : decode cX0_harm 59 = .ok (.getfield 51, 3) := dk_180 0 51 (dk_at dksX0_harm_2 13 rfl rfl)
theorem dX0_harm_62 : decode cX0_harm 62 = .ok (.aload_n 0, 1) := dk_42 (dk_at dksX0_harm_2 16 rfl rfl)
theorem dX0_harm_63 : decode cX0_harm 63 = .ok (.getfield 51, 3) := dk_180 0 51 (dk_at dksX0_harm_2 17 rfl rfl)
theorem dX0_harm_66 : decode cX0_harm 66 = .ok (.getfield 390, 3) := dk_180 1 134 (dk_at dksX0_harm_2 20 rfl rfl)
theorem dX0_harm_69 : decode cX0_harm 69 = .ok (.iload 4, 2) := dk_21 4 (dk_at dksX0_harm_3 0 rfl rfl)
theorem dX0_harm_71 : decode cX0_harm 71 = .ok (.aaload, 1) := dk_50 (dk_at dksX0_harm_3 2 rfl rfl)
theorem dX0_harm_72 : decode cX0_harm 72 = .ok (.invokevirtual 361, 3) := dk_182 1 105 (dk_at dksX0_harm_3 3 rfl rfl)
theorem dX0_harm_75 : decode cX0_harm 75 = .ok (.getfield 369, 3) := dk_180 1 113 (dk_at dksX0_harm_3 6 rfl rfl)
theorem dX0_harm_78 : decode cX0_harm 78 = .ok (.invokevirtual 507, 3) := dk_182 1 251 (dk_at dksX0_harm_3 9 rfl rfl)
theorem dX0_harm_81 : decode cX0_harm 81 = .ok (.isub, 1) := dk_100 (dk_at dksX0_harm_3 12 rfl rfl)
theorem dX0_harm_82 : decode cX0_harm 82 = .ok (.invokestatic 510, 3) := dk_184 1 254 (dk_at dksX0_harm_3 13 rfl rfl)
theorem dX0_harm_85 : decode cX0_harm 85 = .ok (.iadd, 1) := dk_96 (dk_at dksX0_harm_3 16 rfl rfl)
theorem dX0_harm_86 : decode cX0_harm 86 = .ok (.istore_n 3, 1) := dk_62 (dk_at dksX0_harm_3 17 rfl rfl)
theorem dX0_harm_87 : decode cX0_harm 87 = .ok (.iinc 4 1, 3) := dk_132 4 1 (dk_at dksX0_harm_3 18 rfl rfl)
theorem dX0_harm_90 : decode cX0_harm 90 = .ok (.goto (-61), 3) := dk_167 255 195 (dk_at dksX0_harm_3 21 rfl rfl)
theorem dX0_harm_93 : decode cX0_harm 93 = .ok (.iload_n 3, 1) := dk_29 (dk_at dksX0_harm_4 0 rfl rfl)
theorem dX0_harm_94 : decode cX0_harm 94 = .ok (.ireturn, 1) := dk_172 (dk_at dksX0_harm_4 1 rfl rfl)
def dkwX0_needs_3 : List UInt8 := [172]
abbrev dktX0_needs_3 : List UInt8 := dkwX0_needs_3 ++ []
def dkwX0_needs_2 : List UInt8 := [180, 1, 46, 21, 5, 182, 1, 88, 180, 1, 87, 154, 0, 6, 21, 5, 172, 132, 5, 1, 167, 255, 217, 2]
abbrev dktX0_needs_2 : List UInt8 := dkwX0_needs_2 ++ dktX0_needs_3
def dkwX0_needs_1 : List UInt8 := [4, 54, 5, 21, 5, 16, 60, 163, 0, 38, 42, 180, 0, 44, 45, 25, 4, 180, 0, 243, 25, 4]
abbrev dktX0_needs_1 : List UInt8 := dkwX0_needs_1 ++ dktX0_needs_2
def dkwX0_needs_0 : List UInt8 := [42, 28, 182, 1, 17, 78, 42, 27, 182, 1, 91, 58, 4, 45, 198, 0, 8, 25, 4, 199, 0, 5, 2, 172]
abbrev dktX0_needs_0 : List UInt8 := dkwX0_needs_0 ++ dktX0_needs_1
theorem dksX0_needs_0 : cX0_needs.data.toList.drop 0 = dktX0_needs_0 := by decide +kernel
theorem dksX0_needs_1 : cX0_needs.data.toList.drop 24 = dktX0_needs_1 := dk_seg dksX0_needs_0 24 rfl rfl
theorem dksX0_needs_2 : cX0_needs.data.toList.drop 46 = dktX0_needs_2 := dk_seg dksX0_needs_1 22 rfl rfl
theorem dksX0_needs_3 : cX0_needs.data.toList.drop 70 = dktX0_needs_3 := dk_seg dksX0_needs_2 24 rfl rfl
theorem dX0_needs_0 : decode cX0_needs 0 = .ok (.aload_n 0, 1) := dk_42 (dk_at dksX0_needs_0 0 rfl rfl)
theorem dX0_needs_1 : decode cX0_needs 1 = .ok (.iload_n 2, 1) := dk_28 (dk_at dksX0_needs_0 1 rfl rfl)
theorem dX0_needs_2 : decode cX0_needs 2 = .ok (.invokevirtual 273, 3) := dk_182 1 17 (dk_at dksX0_needs_0 2 rfl rfl)
theorem dX0_needs_5 : decode cX0_needs 5 = .ok (.astore_n 3, 1) := dk_78 (dk_at dksX0_needs_0 5 rfl rfl)
theorem dX0_needs_6 : decode cX0_needs 6 = .ok (.aload_n 0, 1) := dk_42 (dk_at dksX0_needs_0 6 rfl rfl)
theorem dX0_needs_7 : decode cX0_needs 7 = .ok (.iload_n 1, 1) := dk_27 (dk_at dksX0_needs_0 7 rfl rfl)
theorem dX0_needs_8 : decode cX0_needs 8 = .ok (.invokevirtual 347, 3) := dk_182 1 91 (dk_at dksX0_needs_0 8 rfl rfl)
theorem dX0_needs_11 : decode cX0_needs 11 = .ok (.astore 4, 2) := dk_58 4 (dk_at dksX0_needs_0 11 rfl rfl)
theorem dX0_needs_13 : decode cX0_needs 13 = .ok (.aload_n 3, 1) := dk_45 (dk_at dksX0_needs_0 13 rfl rfl)
theorem dX0_needs_14 : decode cX0_needs 14 = .ok (.ifnull 8, 3) := dk_198 0 8 (dk_at dksX0_needs_0 14 rfl rfl)
theorem dX0_needs_17 : decode cX0_needs 17 = .ok (.aload 4, 2) := dk_25 4 (dk_at dksX0_needs_0 17 rfl rfl)
theorem dX0_needs_19 : decode cX0_needs 19 = .ok (.ifnonnull 5, 3) := dk_199 0 5 (dk_at dksX0_needs_0 19 rfl rfl)
theorem dX0_needs_22 : decode cX0_needs 22 = .ok (.iconst (-1), 1) := dk_2 (dk_at dksX0_needs_0 22 rfl rfl)
theorem dX0_needs_23 : decode cX0_needs 23 = .ok (.ireturn, 1) := dk_172 (dk_at dksX0_needs_0 23 rfl rfl)
theorem dX0_needs_24 : decode cX0_needs 24 = .ok (.iconst 1, 1) := dk_4 (dk_at dksX0_needs_1 0 rfl rfl)
theorem dX0_needs_25 : decode cX0_needs 25 = .ok (.istore 5, 2) := dk_54 5 (dk_at dksX0_needs_1 1 rfl rfl)
theorem dX0_needs_27 : decode cX0_needs 27 = .ok (.iload 5, 2) := dk_21 5 (dk_at dksX0_needs_1 3 rfl rfl)
theorem dX0_needs_29 : decode cX0_needs 29 = .ok (.bipush 60, 2) := dk_16 60 (dk_at dksX0_needs_1 5 rfl rfl)
theorem dX0_needs_31 : decode cX0_needs 31 = .ok (.if_icmp .gt 38, 3) := dk_163 0 38 (dk_at dksX0_needs_1 7 rfl rfl)
theorem dX0_needs_34 : decode cX0_needs 34 = .ok (.aload_n 0, 1) := dk_42 (dk_at dksX0_needs_1 10 rfl rfl)
theorem dX0_needs_35 : decode cX0_needs 35 = .ok (.getfield 44, 3) := dk_180 0 44 (dk_at dksX0_needs_1 11 rfl rfl)
theorem dX0_needs_38 : decode cX0_needs 38 = .ok (.aload_n 3, 1) := dk_45 (dk_at dksX0_needs_1 14 rfl rfl)
theorem dX0_needs_39 : decode cX0_needs 39 = .ok (.aload 4, 2) := dk_25 4 (dk_at dksX0_needs_1 15 rfl rfl)
theorem dX0_needs_41 : decode cX0_needs 41 = .ok (.getfield 243, 3) := dk_180 0 243 (dk_at dksX0_needs_1 17 rfl rfl)
theorem dX0_needs_44 : decode cX0_needs 44 = .ok (.aload 4, 2) := dk_25 4 (dk_at dksX0_needs_1 20 rfl rfl)
theorem dX0_needs_46 : decode cX0_needs 46 = .ok (.getfield 302, 3) := dk_180 1 46 (dk_at dksX0_needs_2 0 rfl rfl)
theorem dX0_needs_49 : decode cX0_needs 49 = .ok (.iload 5, 2) := dk_21 5 (dk_at dksX0_needs_2 3 rfl rfl)
theorem dX0_needs_51 : decode cX0_needs 51 = .ok (.invokevirtual 344, 3) := dk_182 1 88 (dk_at dksX0_needs_2 5 rfl rfl)
theorem dX0_needs_54 : decode cX0_needs 54 = .ok (.getfield 343, 3) := dk_180 1 87 (dk_at dksX0_needs_2 8 rfl rfl)
theorem dX0_needs_57 : decode cX0_needs 57 = .ok (.ifCond .ne 6, 3) := dk_154 0 6 (dk_at dksX0_needs_2 11 rfl rfl)
theorem dX0_needs_60 : decode cX0_needs 60 = .ok (.iload 5, 2) := dk_21 5 (dk_at dksX0_needs_2 14 rfl rfl)
theorem dX0_needs_62 : decode cX0_needs 62 = .ok (.ireturn, 1) := dk_172 (dk_at dksX0_needs_2 16 rfl rfl)
theorem dX0_needs_63 : decode cX0_needs 63 = .ok (.iinc 5 1, 3) := dk_132 5 1 (dk_at dksX0_needs_2 17 rfl rfl)
theorem dX0_needs_66 : decode cX0_needs 66 = .ok (.goto (-39), 3) := dk_167 255 217 (dk_at dksX0_needs_2 20 rfl rfl)
theorem dX0_needs_69 : decode cX0_needs 69 = .ok (.iconst (-1), 1) := dk_2 (dk_at dksX0_needs_2 23 rfl rfl)
theorem dX0_needs_70 : decode cX0_needs 70 = .ok (.ireturn, 1) := dk_172 (dk_at dksX0_needs_3 0 rfl rfl)
def dkwX0_runs_8 : List UInt8 := [154, 0, 8, 21, 7, 167, 0, 15, 29, 4, 160, 0, 8, 21, 8, 167, 0, 5, 21, 9, 172]
abbrev dktX0_runs_8 : List UInt8 := dkwX0_runs_8 ++ []
def dkwX0_runs_7 : List UInt8 := [154, 0, 6, 132, 8, 1, 25, 6, 182, 0, 194, 132, 10, 1, 167, 255, 163, 42, 3, 181, 1, 122, 29]
abbrev dktX0_runs_7 : List UInt8 := dkwX0_runs_7 ++ dktX0_runs_8
def dkwX0_runs_6 : List UInt8 := [180, 0, 243, 25, 5, 182, 1, 114, 153, 0, 6, 132, 7, 1, 25, 4, 180, 0, 243, 182, 0, 246]
abbrev dktX0_runs_6 : List UInt8 := dkwX0_runs_6 ++ dktX0_runs_7
def dkwX0_runs_5 : List UInt8 := [180, 0, 243, 25, 5, 182, 1, 114, 153, 0, 6, 132, 9, 1, 132, 11, 1, 167, 255, 213, 25, 4]
abbrev dktX0_runs_5 : List UInt8 := dkwX0_runs_5 ++ dktX0_runs_6
def dkwX0_runs_4 : List UInt8 := [162, 0, 42, 42, 180, 0, 20, 180, 0, 221, 17, 39, 15, 162, 0, 29, 42, 182, 1, 168, 25, 4]
abbrev dktX0_runs_4 : List UInt8 := dkwX0_runs_4 ++ dktX0_runs_5
def dkwX0_runs_3 : List UInt8 := [3, 54, 9, 42, 4, 181, 1, 122, 3, 54, 10, 21, 10, 27, 162, 0, 93, 3, 54, 11, 21, 11, 16, 45]
abbrev dktX0_runs_3 : List UInt8 := dkwX0_runs_3 ++ dktX0_runs_4
def dkwX0_runs_2 : List UInt8 := [180, 0, 243, 182, 1, 118, 58, 5, 187, 0, 184, 89, 42, 183, 0, 186, 58, 6, 3, 54, 7, 3, 54, 8]
abbrev dktX0_runs_2 : List UInt8 := dkwX0_runs_2 ++ dktX0_runs_3
def dkwX0_runs_1 : List UInt8 := [29, 133, 9, 20, 1, 189, 184, 0, 124, 154, 0, 5, 2, 172, 187, 0, 83, 89, 183, 0, 85, 25, 4]
abbrev dktX0_runs_1 : List UInt8 := dkwX0_runs_1 ++ dktX0_runs_2
def dkwX0_runs_0 : List UInt8 := [42, 28, 182, 1, 91, 58, 4, 25, 4, 198, 0, 27, 27, 133, 10, 20, 2, 3, 184, 0, 124, 153, 0, 15]
abbrev dktX0_runs_0 : List UInt8 := dkwX0_runs_0 ++ dktX0_runs_1
theorem dksX0_runs_0 : cX0_runs.data.toList.drop 0 = dktX0_runs_0 := by decide +kernel
theorem dksX0_runs_1 : cX0_runs.data.toList.drop 24 = dktX0_runs_1 := dk_seg dksX0_runs_0 24 rfl rfl
theorem dksX0_runs_2 : cX0_runs.data.toList.drop 47 = dktX0_runs_2 := dk_seg dksX0_runs_1 23 rfl rfl
theorem dksX0_runs_3 : cX0_runs.data.toList.drop 71 = dktX0_runs_3 := dk_seg dksX0_runs_2 24 rfl rfl
theorem dksX0_runs_4 : cX0_runs.data.toList.drop 95 = dktX0_runs_4 := dk_seg dksX0_runs_3 24 rfl rfl
theorem dksX0_runs_5 : cX0_runs.data.toList.drop 117 = dktX0_runs_5 := dk_seg dksX0_runs_4 22 rfl rfl
theorem dksX0_runs_6 : cX0_runs.data.toList.drop 139 = dktX0_runs_6 := dk_seg dksX0_runs_5 22 rfl rfl
theorem dksX0_runs_7 : cX0_runs.data.toList.drop 161 = dktX0_runs_7 := dk_seg dksX0_runs_6 22 rfl rfl
theorem dksX0_runs_8 : cX0_runs.data.toList.drop 184 = dktX0_runs_8 := dk_seg dksX0_runs_7 23 rfl rfl
theorem dX0_runs_0 : decode cX0_runs 0 = .ok (.aload_n 0, 1) := dk_42 (dk_at dksX0_runs_0 0 rfl rfl)
theorem dX0_runs_1 : decode cX0_runs 1 = .ok (.iload_n 2, 1) := dk_28 (dk_at dksX0_runs_0 1 rfl rfl)
theorem dX0_runs_2 : decode cX0_runs 2 = .ok (.invokevirtual 347, 3) := dk_182 1 91 (dk_at dksX0_runs_0 2 rfl rfl)
theorem dX0_runs_5 : decode cX0_runs 5 = .ok (.astore 4, 2) := dk_58 4 (dk_at dksX0_runs_0 5 rfl rfl)
theorem dX0_runs_7 : decode cX0_runs 7 = .ok (.aload 4, 2) := dk_25 4 (dk_at dksX0_runs_0 7 rfl rfl)
theorem dX0_runs_9 : decode cX0_runs 9 = .ok (.ifnull 27, 3) := dk_198 0 27 (dk_at dksX0_runs_0 9 rfl rfl)
theorem dX0_runs_12 : decode cX0_runs 12 = .ok (.iload_n 1, 1) := dk_27 (dk_at dksX0_runs_0 12 rfl rfl)
theorem dX0_runs_13 : decode cX0_runs 13 = .ok (.i2l, 1) := dk_133 (dk_at dksX0_runs_0 13 rfl rfl)
theorem dX0_runs_14 : decode cX0_runs 14 = .ok (.lconst 1, 1) := dk_10 (dk_at dksX0_runs_0 14 rfl rfl)
theorem dX0_runs_15 : decode cX0_runs 15 = .ok (.ldc2_w 515, 3) := dk_20 2 3 (dk_at dksX0_runs_0 15 rfl rfl)
theorem dX0_runs_18 : decode cX0_runs 18 = .ok (.invokestatic 124, 3) := dk_184 0 124 (dk_at dksX0_runs_0 18 rfl rfl)
theorem dX0_runs_21 : decode cX0_runs 21 = .ok (.ifCond .eq 15, 3) := dk_153 0 15 (dk_at dksX0_runs_0 21 rfl rfl)
theorem dX0_runs_24 : decode cX0_runs 24 = .ok (.iload_n 3, 1) := dk_29 (dk_at dksX0_runs_1 0 rfl rfl)
theorem dX0_runs_25 : decode cX0_runs 25 = .ok (.i2l, 1) := dk_133 (dk_at dksX0_runs_1 1 rfl rfl)
theorem dX0_runs_26 : decode cX0_runs 26 = .ok (.lconst 0, 1) := dk_9 (dk_at dksX0_runs_1 2 rfl rfl)
theorem dX0_runs_27 : decode cX0_runs 27 = .ok (.ldc2_w 445, 3) := dk_20 1 189 (dk_at dksX0_runs_1 3 rfl rfl)
theorem dX0_runs_30 : decode cX0_runs 30 = .ok (.invokestatic 124, 3) := dk_184 0 124 (dk_at dksX0_runs_1 6 rfl rfl)
theorem dX0_runs_33 : decode cX0_runs 33 = .ok (.ifCond .ne 5, 3) := dk_154 0 5 (dk_at dksX0_runs_1 9 rfl rfl)
theorem dX0_runs_36 : decode cX0_runs 36 = .ok (.iconst (-1), 1) := dk_2 (dk_at dksX0_runs_1 12 rfl rfl)
theorem dX0_runs_37 : decode cX0_runs 37 = .ok (.ireturn, 1) := dk_172 (dk_at dksX0_runs_1 13 rfl rfl)
theorem dX0_runs_38 : decode cX0_runs 38 = .ok (.new 83, 3) := dk_187 0 83 (dk_at dksX0_runs_1 14 rfl rfl)
theorem dX0_runs_41 : decode cX0_runs 41 = .ok (.dup, 1) := dk_89 (dk_at dksX0_runs_1 17 rfl rfl)
theorem dX0_runs_42 : decode cX0_runs 42 = .ok (.invokespecial 85, 3) := dk_183 0 85 (dk_at dksX0_runs_1 18 rfl rfl)
theorem dX0_runs_45 : decode cX0_runs 45 = .ok (.aload 4, 2) := dk_25 4 (dk_at dksX0_runs_1 21 rfl rfl)
theorem dX0_runs_47 : decode cX0_runs 47 = .ok (.getfield 243, 3) := dk_180 0 243 (dk_at dksX0_runs_2 0 rfl rfl)
theorem dX0_runs_50 : decode cX0_runs 50 = .ok (.invokevirtual 374, 3) := dk_182 1 118 (dk_at dksX0_runs_2 3 rfl rfl)
theorem dX0_runs_53 : decode cX0_runs 53 = .ok (.astore 5, 2) := dk_58 5 (dk_at dksX0_runs_2 6 rfl rfl)
theorem dX0_runs_55 : decode cX0_runs 55 = .ok (.new 184, 3) := dk_187 0 184 (dk_at dksX0_runs_2 8 rfl rfl)
theorem dX0_runs_58 : decode cX0_runs 58 = .ok (.dup, 1) := dk_89 (dk_at dksX0_runs_2 11 rfl rfl)
theorem dX0_runs_59 : decode cX0_runs 59 = .ok (.aload_n 0, 1) := dk_42 (dk_at dksX0_runs_2 12 rfl rfl)
theorem dX0_runs_60 : decode cX0_runs 60 = .ok (.invokespecial 186, 3) := dk_183 0 186 (dk_at dksX0_runs_2 13 rfl rfl)
theorem dX0_runs_63 : decode cX0_runs 63 = .ok (.astore 6, 2) := dk_58 6 (dk_at dksX0_runs_2 16 rfl rfl)
theorem dX0_runs_65 : decode cX0_runs 65 = .ok (.iconst 0, 1) := dk_3 (dk_at dksX0_runs_2 18 rfl rfl)
theorem dX0_runs_66 : decode cX0_runs 66 = .ok (.istore 7, 2) := dk_54 7 (dk_at dksX0_runs_2 19 rfl rfl)
theorem dX0_runs_68 : decode cX0_runs 68 = .ok (.iconst 0, 1) := dk_3 (dk_at dksX0_runs_2 21 rfl rfl)
theorem dX0_runs_69 : decode cX0_runs 69 = .ok (.istore 8, 2) := dk_54 8 (dk_at dksX0_runs_2 22 rfl rfl)
theorem dX0_runs_71 : decode cX0_runs 71 = .ok (.iconst 0, 1) := dk_3 (dk_at dksX0_runs_3 0 rfl rfl)
theorem dX0_runs_72 : decode cX0_runs 72 = .ok (.istore 9, 2) := dk_54 9 (dk_at dksX0_runs_3 1 rfl rfl)
theorem dX0_runs_74 : decode cX0_runs 74 = .ok (.aload_n 0, 1) := dk_42 (dk_at dksX0_runs_3 3 rfl rfl)
theorem dX0_runs_75 : decode cX0_runs 75 = .ok (.iconst 1, 1) := dk_4 (dk_at dksX0_runs_3 4 rfl rfl)
theorem dX0_runs_76 : decode cX0_runs 76 = .ok (.putfield 378, 3) := dk_181 1 122 (dk_at dksX0_runs_3 5 rfl rfl)
theorem dX0_runs_79 : decode cX0_runs 79 = .ok (.iconst 0, 1) := dk_3 (dk_at dksX0_runs_3 8 rfl rfl)
theorem dX0_runs_80 : decode cX0_runs 80 = .ok (.istore 10, 2) := dk_54 10 (dk_at dksX0_runs_3 9 rfl rfl)
theorem dX0_runs_82 : decode cX0_runs 82 = .ok (.iload 10, 2) := dk_21 10 (dk_at dksX0_runs_3 11 rfl rfl)
theorem dX0_runs_84 : decode cX0_runs 84 = .ok (.iload_n 1, 1) := dk_27 (dk_at dksX0_runs_3 13 rfl rfl)
theorem dX0_runs_85 : decode cX0_runs 85 = .ok (.if_icmp .ge 93, 3) := dk_162 0 93 (dk_at dksX0_runs_3 14 rfl rfl)
theorem dX0_runs_88 : decode cX0_runs 88 = .ok (.iconst 0, 1) := dk_3 (dk_at dksX0_runs_3 17 rfl rfl)
theorem dX0_runs_89 : decode cX0_runs 89 = .ok (.istore 11, 2) := dk_54 11 (dk_at dksX0_runs_3 18 rfl rfl)
theorem dX0_runs_91 : decode cX0_runs 91 = .ok (.iload 11, 2) := dk_21 11 (dk_at dksX0_runs_3 20 rfl rfl)
theorem dX0_runs_93 : decode cX0_runs 93 = .ok (.bipush 45, 2) := dk_16 45 (dk_at dksX0_runs_3 22 rfl rfl)
theorem dX0_runs_95 : decode cX0_runs 95 = .ok (.if_icmp .ge 42, 3) := dk_162 0 42 (dk_at dksX0_runs_4 0 rfl rfl)
theorem dX0_runs_98 : decode cX0_runs 98 = .ok (.aload_n 0, 1) := dk_42 (dk_at dksX0_runs_4 3 rfl rfl)
theorem dX0_runs_99 : decode cX0_runs 99 = .ok (.getfield 20, 3) := dk_180 0 20 (dk_at dksX0_runs_4 4 rfl rfl)
theorem dX0_runs_102 : decode cX0_runs 102 = .ok (.getfield 221, 3) := dk_180 0 221 (dk_at dksX0_runs_4 7 rfl rfl)
theorem dX0_runs_105 : decode cX0_runs 105 = .ok (.sipush 9999, 3) := dk_17 39 15 (dk_at dksX0_runs_4 10 rfl rfl)
theorem dX0_runs_108 : decode cX0_runs 108 = .ok (.if_icmp .ge 29, 3) := dk_162 0 29 (dk_at dksX0_runs_4 13 rfl rfl)
theorem dX0_runs_111 : decode cX0_runs 111 = .ok (.aload_n 0, 1) := dk_42 (dk_at dksX0_runs_4 16 rfl rfl)
theorem dX0_runs_112 : decode cX0_runs 112 = .ok (.invokevirtual 424, 3) := dk_182 1 168 (dk_at dksX0_runs_4 17 rfl rfl)
theorem dX0_runs_115 : decode cX0_runs 115 = .ok (.aload 4, 2) := dk_25 4 (dk_at dksX0_runs_4 20 rfl rfl)
theorem dX0_runs_117 : decode cX0_runs 117 = .ok (.getfield 243, 3) := dk_180 0 243 (dk_at dksX0_runs_5 0 rfl rfl)
theorem dX0_runs_120 : decode cX0_runs 120 = .ok (.aload 5, 2) := dk_25 5 (dk_at dksX0_runs_5 3 rfl rfl)
theorem dX0_runs_122 : decode cX0_runs 122 = .ok (.invokevirtual 370, 3) := dk_182 1 114 (dk_at dksX0_runs_5 5 rfl rfl)
theorem dX0_runs_125 : decode cX0_runs 125 = .ok (.ifCond .eq 6, 3) := dk_153 0 6 (dk_at dksX0_runs_5 8 rfl rfl)
theorem dX0_runs_128 : decode cX0_runs 128 = .ok (.iinc 9 1, 3) := dk_132 9 1 (dk_at dksX0_runs_5 11 rfl rfl)
theorem dX0_runs_131 : decode cX0_runs 131 = .ok (.iinc 11 1, 3) := dk_132 11 1 (dk_at dksX0_runs_5 14 rfl rfl)
theorem dX0_runs_134 : decode cX0_runs 134 = .ok (.goto (-43), 3) := dk_167 255 213 (dk_at dksX0_runs_5 17 rfl rfl)
theorem dX0_runs_137 : decode cX0_runs 137 = .ok (.aload 4, 2) := dk_25 4 (dk_at dksX0_runs_5 20 rfl rfl)
theorem dX0_runs_139 : decode cX0_runs 139 = .ok (.getfield 243, 3) := dk_180 0 243 (dk_at dksX0_runs_6 0 rfl rfl)
theorem dX0_runs_142 : decode cX0_runs 142 = .ok (.aload 5, 2) := dk_25 5 (dk_at dksX0_runs_6 3 rfl rfl)
theorem dX0_runs_144 : decode cX0_runs 144 = .ok (.invokevirtual 370, 3) := dk_182 1 114 (dk_at dksX0_runs_6 5 rfl rfl)
theorem dX0_runs_147 : decode cX0_runs 147 = .ok (.ifCond .eq 6, 3) := dk_153 0 6 (dk_at dksX0_runs_6 8 rfl rfl)
theorem dX0_runs_150 : decode cX0_runs 150 = .ok (.iinc 7 1, 3) := dk_132 7 1 (dk_at dksX0_runs_6 11 rfl rfl)
theorem dX0_runs_153 : decode cX0_runs 153 = .ok (.aload 4, 2) := dk_25 4 (dk_at dksX0_runs_6 14 rfl rfl)
theorem dX0_runs_155 : decode cX0_runs 155 = .ok (.getfield 243, 3) := dk_180 0 243 (dk_at dksX0_runs_6 16 rfl rfl)
theorem dX0_runs_158 : decode cX0_runs 158 = .ok (.invokevirtual 246, 3) := dk_182 0 246 (dk_at dksX0_runs_6 19 rfl rfl)
theorem dX0_runs_161 : decode cX0_runs 161 = .ok (.ifCond .ne 6, 3) := dk_154 0 6 (dk_at dksX0_runs_7 0 rfl rfl)
theorem dX0_runs_164 : decode cX0_runs 164 = .ok (.iinc 8 1, 3) := dk_132 8 1 (dk_at dksX0_runs_7 3 rfl rfl)
theorem dX0_runs_167 : decode cX0_runs 167 = .ok (.aload 6, 2) := dk_25 6 (dk_at dksX0_runs_7 6 rfl rfl)
theorem dX0_runs_169 : decode cX0_runs 169 = .ok (.invokevirtual 194, 3) := dk_182 0 194 (dk_at dksX0_runs_7 8 rfl rfl)
theorem dX0_runs_172 : decode cX0_runs 172 = .ok (.iinc 10 1, 3) := dk_132 10 1 (dk_at dksX0_runs_7 11 rfl rfl)
theorem dX0_runs_175 : decode cX0_runs 175 = .ok (.goto (-93), 3) := dk_167 255 163 (dk_at dksX0_runs_7 14 rfl rfl)
theorem dX0_runs_178 : decode cX0_runs 178 = .ok (.aload_n 0, 1) := dk_42 (dk_at dksX0_runs_7 17 rfl rfl)
theorem dX0_runs_179 : decode cX0_runs 179 = .ok (.iconst 0, 1) := dk_3 (dk_at dksX0_runs_7 18 rfl rfl)
theorem dX0_runs_180 : decode cX0_runs 180 = .ok (.putfield 378, 3) := dk_181 1 122 (dk_at dksX0_runs_7 19 rfl rfl)
theorem dX0_runs_183 : decode cX0_runs 183 = .ok (.iload_n 3, 1) := dk_29 (dk_at dksX0_runs_7 22 rfl rfl)
theorem dX0_runs_184 : decode cX0_runs 184 = .ok (.ifCond .ne 8, 3) := dk_154 0 8 (dk_at dksX0_runs_8 0 rfl rfl)
theorem dX0_runs_187 : decode cX0_runs 187 = .ok (.iload 7, 2) := dk_21 7 (dk_at dksX0_runs_8 3 rfl rfl)
theorem dX0_runs_189 : decode cX0_runs 189 = .ok (.goto 15, 3) := dk_167 0 15 (dk_at dksX0_runs_8 5 rfl rfl)
theorem dX0_runs_192 : decode cX0_runs 192 = .ok (.iload_n 3, 1) := dk_29 (dk_at dksX0_runs_8 8 rfl rfl)
theorem dX0_runs_193 : decode cX0_runs 193 = .ok (.iconst 1, 1) := dk_4 (dk_at dksX0_runs_8 9 rfl rfl)
theorem dX0_runs_194 : decode cX0_runs 194 = .ok (.if_icmp .ne 8, 3) := dk_160 0 8 (dk_at dksX0_runs_8 10 rfl rfl)
theorem dX0_runs_197 : decode cX0_runs 197 = .ok (.iload 8, 2) := dk_21 8 (dk_at dksX0_runs_8 13 rfl rfl)
theorem dX0_runs_199 : decode cX0_runs 199 = .ok (.goto 5, 3) := dk_167 0 5 (dk_at dksX0_runs_8 15 rfl rfl)
theorem dX0_runs_202 : decode cX0_runs 202 = .ok (.iload 9, 2) := dk_21 9 (dk_at dksX0_runs_8 18 rfl rfl)
theorem dX0_runs_204 : decode cX0_runs 204 = .ok (.ireturn, 1) := dk_172 (dk_at dksX0_runs_8 20 rfl rfl)
def dkwX0_image_9 : List UInt8 := [180, 0, 93, 42, 180, 0, 93, 182, 2, 18, 184, 2, 19, 182, 2, 15, 42, 180, 0, 93, 182, 2, 18, 172]
abbrev dktX0_image_9 : List UInt8 := dkwX0_image_9 ++ []
def dkwX0_image_8 : List UInt8 := [29, 50, 180, 1, 67, 182, 2, 15, 132, 3, 1, 167, 255, 226, 132, 1, 1, 167, 255, 151, 42, 42]
abbrev dktX0_image_8 : List UInt8 := dkwX0_image_8 ++ dktX0_image_9
def dkwX0_image_7 : List UInt8 := [182, 2, 15, 3, 62, 29, 44, 180, 0, 243, 182, 1, 62, 162, 0, 25, 42, 44, 180, 0, 243, 180, 1, 63]
abbrev dktX0_image_7 : List UInt8 := dkwX0_image_7 ++ dktX0_image_8
def dkwX0_image_6 : List UInt8 := [182, 2, 15, 42, 44, 180, 0, 243, 180, 1, 40, 182, 2, 15, 42, 44, 180, 0, 243, 180, 1, 43]
abbrev dktX0_image_6 : List UInt8 := dkwX0_image_6 ++ dktX0_image_7
def dkwX0_image_5 : List UInt8 := [180, 0, 206, 27, 182, 0, 132, 192, 0, 237, 77, 42, 44, 180, 1, 46, 153, 0, 7, 4, 167, 0, 4, 3]
abbrev dktX0_image_5 : List UInt8 := dkwX0_image_5 ++ dktX0_image_6
def dkwX0_image_4 : List UInt8 := [167, 255, 218, 3, 60, 27, 42, 180, 0, 20, 180, 0, 206, 182, 0, 128, 162, 0, 97, 42, 180, 0, 20]
abbrev dktX0_image_4 : List UInt8 := dkwX0_image_4 ++ dktX0_image_5
def dkwX0_image_3 : List UInt8 := [180, 0, 20, 180, 1, 49, 27, 182, 0, 132, 192, 0, 237, 180, 1, 71, 182, 2, 15, 132, 1, 1]
abbrev dktX0_image_3 : List UInt8 := dkwX0_image_3 ++ dktX0_image_4
def dkwX0_image_2 : List UInt8 := [182, 0, 128, 182, 2, 15, 3, 60, 27, 42, 180, 0, 20, 180, 1, 49, 182, 0, 128, 162, 0, 30, 42, 42]
abbrev dktX0_image_2 : List UInt8 := dkwX0_image_2 ++ dktX0_image_3
def dkwX0_image_1 : List UInt8 := [42, 180, 0, 20, 180, 0, 221, 17, 1, 0, 112, 182, 2, 15, 42, 42, 180, 0, 20, 180, 0, 206]
abbrev dktX0_image_1 : List UInt8 := dkwX0_image_1 ++ dktX0_image_2
def dkwX0_image_0 : List UInt8 := [42, 180, 0, 93, 3, 182, 2, 12, 42, 42, 180, 0, 20, 180, 0, 221, 17, 1, 0, 108, 182, 2, 15, 42]
abbrev dktX0_image_0 : List UInt8 := dkwX0_image_0 ++ dktX0_image_1
theorem dksX0_image_0 : cX0_image.data.toList.drop 0 = dktX0_image_0 := by decide +kernel
theorem dksX0_image_1 : cX0_image.data.toList.drop 24 = dktX0_image_1 := dk_seg dksX0_image_0 24 rfl rfl
theorem dksX0_image_2 : cX0_image.data.toList.drop 46 = dktX0_image_2 := dk_seg dksX0_image_1 22 rfl rfl
theorem dksX0_image_3 : cX0_image.data.toList.drop 70 = dktX0_image_3 := dk_seg dksX0_image_2 24 rfl rfl
theorem dksX0_image_4 : cX0_image.data.toList.drop 92 = dktX0_image_4 := dk_seg dksX0_image_3 22 rfl rfl
theorem dksX0_image_5 : cX0_image.data.toList.drop 115 = dktX0_image_5 := dk_seg dksX0_image_4 23 rfl rfl
theorem dksX0_image_6 : cX0_image.data.toList.drop 139 = dktX0_image_6 := dk_seg dksX0_image_5 24 rfl rfl
theorem dksX0_image_7 : cX0_image.data.toList.drop 161 = dktX0_image_7 := dk_seg dksX0_image_6 22 rfl rfl
theorem dksX0_image_8 : cX0_image.data.toList.drop 185 = dktX0_image_8 := dk_seg dksX0_image_7 24 rfl rfl
theorem dksX0_image_9 : cX0_image.data.toList.drop 207 = dktX0_image_9 := dk_seg dksX0_image_8 22 rfl rfl
theorem dX0_image_0 : decode cX0_image 0 = .ok (.aload_n 0, 1) := dk_42 (dk_at dksX0_image_0 0 rfl rfl)
theorem dX0_image_1 : decode cX0_image 1 = .ok (.getfield 93, 3) := dk_180 0 93 (dk_at dksX0_image_0 1 rfl rfl)
theorem dX0_image_4 : decode cX0_image 4 = .ok (.iconst 0, 1) := dk_3 (dk_at dksX0_image_0 4 rfl rfl)
theorem dX0_image_5 : decode cX0_image 5 = .ok (.invokevirtual 524, 3) := dk_182 2 12 (dk_at dksX0_image_0 5 rfl rfl)
theorem dX0_image_8 : decode cX0_image 8 = .ok (.aload_n 0, 1) := dk_42 (dk_at dksX0_image_0 8 rfl rfl)
theorem dX0_image_9 : decode cX0_image 9 = .ok (.aload_n 0, 1) := dk_42 (dk_at dksX0_image_0 9 rfl rfl)
theorem dX0_image_10 : decode cX0_image 10 = .ok (.getfield 20, 3) := dk_180 0 20 (dk_at dksX0_image_0 10 rfl rfl)
theorem dX0_image_13 : decode cX0_image 13 = .ok (.getfield 221, 3) := dk_180 0 221 (dk_at dksX0_image_0 13 rfl rfl)
theorem dX0_image_16 : decode cX0_image 16 = .ok (.sipush 256, 3) := dk_17 1 0 (dk_at dksX0_image_0 16 rfl rfl)
theorem dX0_image_19 : decode cX0_image 19 = .ok (.idiv, 1) := dk_108 (dk_at dksX0_image_0 19 rfl rfl)
theorem dX0_image_20 : decode cX0_image 20 = .ok (.invokevirtual 527, 3) := dk_182 2 15 (dk_at dksX0_image_0 20 rfl rfl)
theorem dX0_image_23 : decode cX0_image 23 = .ok (.aload_n 0, 1) := dk_42 (dk_at dksX0_image_0 23 rfl rfl)
theorem dX0_image_24 : decode cX0_image 24 = .ok (.aload_n 0, 1) := dk_42 (dk_at dksX0_image_1 0 rfl rfl)
theorem dX0_image_25 : decode cX0_image 25 = .ok (.getfield 20, 3) := dk_180 0 20 (dk_at dksX0_image_1 1 rfl rfl)
theorem dX0_image_28 : decode cX0_image 28 = .ok (.getfield 221, 3) := dk_180 0 221 (dk_at dksX0_image_1 4 rfl rfl)
theorem dX0_image_31 : decode cX0_image 31 = .ok (.sipush 256, 3) := dk_17 1 0 (dk_at dksX0_image_1 7 rfl rfl)
theorem dX0_image_34 : decode cX0_image 34 = .ok (.irem, 1) := dk_112 (dk_at dksX0_image_1 10 rfl rfl)
theorem dX0_image_35 : decode cX0_image 35 = .ok (.invokevirtual 527, 3) := dk_182 2 15 (dk_at dksX0_image_1 11 rfl rfl)
theorem dX0_image_38 : decode cX0_image 38 = .ok (.aload_n 0, 1) := dk_42 (dk_at dksX0_image_1 14 rfl rfl)
theorem dX0_image_39 : decode cX0_image 39 = .ok (.aload_n 0, 1) := dk_42 (dk_at dksX0_image_1 15 rfl rfl)
theorem dX0_image_40 : decode cX0_image 40 = .ok (.getfield 20, 3) := dk_180 0 20 (dk_at dksX0_image_1 16 rfl rfl)
theorem dX0_image_43 : decode cX0_image 43 = .ok (.getfield 206, 3) := dk_180 0 206 (dk_at dksX0_image_1 19 rfl rfl)
theorem dX0_image_46 : decode cX0_image 46 = .ok (.invokevirtual 128, 3) := dk_182 0 128 (dk_at dksX0_image_2 0 rfl rfl)
theorem dX0_image_49 : decode cX0_image 49 = .ok (.invokevirtual 527, 3) := dk_182 2 15 (dk_at dksX0_image_2 3 rfl rfl)
theorem dX0_image_52 : decode cX0_image 52 = .ok (.iconst 0, 1) := dk_3 (dk_at dksX0_image_2 6 rfl rfl)
theorem dX0_image_53 : decode cX0_image 53 = .ok (.istore_n 1, 1) := dk_60 (dk_at dksX0_image_2 7 rfl rfl)
theorem dX0_image_54 : decode cX0_image 54 = .ok (.iload_n 1, 1) := dk_27 (dk_at dksX0_image_2 8 rfl rfl)
theorem dX0_image_55 : decode cX0_image 55 = .ok (.aload_n 0, 1) := dk_42 (dk_at dksX0_image_2 9 rfl rfl)
theorem dX0_image_56 : decode cX0_image 56 = .ok (.getfield 20, 3) := dk_180 0 20 (dk_at dksX0_image_2 10 rfl rfl)
theorem dX0_image_59 : decode cX0_image 59 = .ok (.getfield 305, 3) := dk_180 1 49 (dk_at dksX0_image_2 13 rfl rfl)
theorem dX0_image_62 : decode cX0_image 62 = .ok (.invokevirtual 128, 3) := dk_182 0 128 (dk_at dksX0_image_2 16 rfl rfl)
theorem dX0_image_65 : decode cX0_image 65 = .ok (.if_icmp .ge 30, 3) := dk_162 0 30 (dk_at dksX0_image_2 19 rfl rfl)
theorem dX0_image_68 : decode cX0_image 68 = .ok (.aload_n 0, 1) := dk_42 (dk_at dksX0_image_2 22 rfl rfl)
theorem dX0_image_69 : decode cX0_image 69 = .ok (.aload_n 0, 1) := dk_42 (dk_at dksX0_image_2 23 rfl rfl)
theorem dX0_image_70 : decode cX0_image 70 = .ok (.getfield 20, 3) := dk_180 0 20 (dk_at dksX0_image_3 0 rfl rfl)
theorem dX0_image_73 : decode cX0_image 73 = .ok (.getfield 305, 3) := dk_180 1 49 (dk_at dksX0_image_3 3 rfl rfl)
theorem dX0_image_76 : decode cX0_image 76 = .ok (.iload_n 1, 1) := dk_27 (dk_at dksX0_image_3 6 rfl rfl)
theorem dX0_image_77 : decode cX0_image 77 = .ok (.invokevirtual 132, 3) := dk_182 0 132 (dk_at dksX0_image_3 7 rfl rfl)
theorem dX0_image_80 : decode cX0_image 80 = .ok (.checkcast 237, 3) := dk_192 0 237 (dk_at dksX0_image_3 10 rfl rfl)
theorem dX0_image_83 : decode cX0_image 83 = .ok (.getfield 327, 3) := dk_180 1 71 (dk_at dksX0_image_3 13 rfl rfl)
theorem dX0_image_86 : decode cX0_image 86 = .ok (.invokevirtual 527, 3) := dk_182 2 15 (dk_at dksX0_image_3 16 rfl rfl)
theorem dX0_image_89 : decode cX0_image 89 = .ok (.iinc 1 1, 3) := dk_132 1 1 (dk_at dksX0_image_3 19 rfl rfl)
theorem dX0_image_92 : decode cX0_image 92 = .ok (.goto (-38), 3) := dk_167 255 218 (dk_at dksX0_image_4 0 rfl rfl)
theorem dX0_image_95 : decode cX0_image 95 = .ok (.iconst 0, 1) := dk_3 (dk_at dksX0_image_4 3 rfl rfl)
theorem dX0_image_96 : decode cX0_image 96 = .ok (.istore_n 1, 1) := dk_60 (dk_at dksX0_image_4 4 rfl rfl)
theorem dX0_image_97 : decode cX0_image 97 = .ok (.iload_n 1, 1) := dk_27 (dk_at dksX0_image_4 5 rfl rfl)
theorem dX0_image_98 : decode cX0_image 98 = .ok (.aload_n 0, 1) := dk_42 (dk_at dksX0_image_4 6 rfl rfl)
theorem dX0_image_99 : decode cX0_image 99 = .ok (.getfield 20, 3) := dk_180 0 20 (dk_at dksX0_image_4 7 rfl rfl)
theorem dX0_image_102 : decode cX0_image 102 = .ok (.getfield 206, 3) := dk_180 0 206 (dk_at dksX0_image_4 10 rfl rfl)
theorem dX0_image_105 : decode cX0_image 105 = .ok (.invokevirtual 128, 3) := dk_182 0 128 (dk_at dksX0_image_4 13 rfl rfl)
theorem dX0_image_108 : decode cX0_image 108 = .ok (.if_icmp .ge 97, 3) := dk_162 0 97 (dk_at dksX0_image_4 16 rfl rfl)
theorem dX0_image_111 : decode cX0_image 111 = .ok (.aload_n 0, 1) := dk_42 (dk_at dksX0_image_4 19 rfl rfl)
theorem dX0_image_112 : decode cX0_image 112 = .ok (.getfield 20, 3) := dk_180 0 20 (dk_at dksX0_image_4 20 rfl rfl)
theorem dX0_image_115 : decode cX0_image 115 = .ok (.getfield 206, 3) := dk_180 0 206 (dk_at dksX0_image_5 0 rfl rfl)
theorem dX0_image_118 : decode cX0_image 118 = .ok (.iload_n 1, 1) := dk_27 (dk_at dksX0_image_5 3 rfl rfl)
theorem dX0_image_119 : decode cX0_image 119 = .ok (.invokevirtual 132, 3) := dk_182 0 132 (dk_at dksX0_image_5 4 rfl rfl)
theorem dX0_image_122 : decode cX0_image 122 = .ok (.checkcast 237, 3) := dk_192 0 237 (dk_at dksX0_image_5 7 rfl rfl)
theorem dX0_image_125 : decode cX0_image 125 = .ok (.astore_n 2, 1) := dk_77 (dk_at dksX0_image_5 10 rfl rfl)
theorem dX0_image_126 : decode cX0_image 126 = .ok (.aload_n 0, 1) := dk_42 (dk_at dksX0_image_5 11 rfl rfl)
theorem dX0_image_127 : decode cX0_image 127 = .ok (.aload_n 2, 1) := dk_44 (dk_at dksX0_image_5 12 rfl rfl)
theorem dX0_image_128 : decode cX0_image 128 = .ok (.getfield 302, 3) := dk_180 1 46 (dk_at dksX0_image_5 13 rfl rfl)
theorem dX0_image_131 : decode cX0_image 131 = .ok (.ifCond .eq 7, 3) := dk_153 0 7 (dk_at dksX0_image_5 16 rfl rfl)
theorem dX0_image_134 : decode cX0_image 134 = .ok (.iconst 1, 1) := dk_4 (dk_at dksX0_image_5 19 rfl rfl)
theorem dX0_image_135 : decode cX0_image 135 = .ok (.goto 4, 3) := dk_167 0 4 (dk_at dksX0_image_5 20 rfl rfl)
theorem dX0_image_138 : decode cX0_image 138 = .ok (.iconst 0, 1) := dk_3 (dk_at dksX0_image_5 23 rfl rfl)
theorem dX0_image_139 : decode cX0_image 139 = .ok (.invokevirtual 527, 3) := dk_182 2 15 (dk_at dksX0_image_6 0 rfl rfl)
theorem dX0_image_142 : decode cX0_image 142 = .ok (.aload_n 0, 1) := dk_42 (dk_at dksX0_image_6 3 rfl rfl)
theorem dX0_image_143 : decode cX0_image 143 = .ok (.aload_n 2, 1) := dk_44 (dk_at dksX0_image_6 4 rfl rfl)
theorem dX0_image_144 : decode cX0_image 144 = .ok (.getfield 243, 3) := dk_180 0 243 (dk_at dksX0_image_6 5 rfl rfl)
theorem dX0_image_147 : decode cX0_image 147 = .ok (.getfield 296, 3) := dk_180 1 40 (dk_at dksX0_image_6 8 rfl rfl)
theorem dX0_image_150 : decode cX0_image 150 = .ok (.invokevirtual 527, 3) := dk_182 2 15 (dk_at dksX0_image_6 11 rfl rfl)
theorem dX0_image_153 : decode cX0_image 153 = .ok (.aload_n 0, 1) := dk_42 (dk_at dksX0_image_6 14 rfl rfl)
theorem dX0_image_154 : decode cX0_image 154 = .ok (.aload_n 2, 1) := dk_44 (dk_at dksX0_image_6 15 rfl rfl)
theorem dX0_image_155 : decode cX0_image 155 = .ok (.getfield 243, 3) := dk_180 0 243 (dk_at dksX0_image_6 16 rfl rfl)
theorem dX0_image_158 : decode cX0_image 158 = .ok (.getfield 299, 3) := dk_180 1 43 (dk_at dksX0_image_6 19 rfl rfl)
theorem dX0_image_161 : decode cX0_image 161 = .ok (.invokevirtual 527, 3) := dk_182 2 15 (dk_at dksX0_image_7 0 rfl rfl)
theorem dX0_image_164 : decode cX0_image 164 = .ok (.iconst 0, 1) := dk_3 (dk_at dksX0_image_7 3 rfl rfl)
theorem dX0_image_165 : decode cX0_image 165 = .ok (.istore_n 3, 1) := dk_62 (dk_at dksX0_image_7 4 rfl rfl)
theorem dX0_image_166 : decode cX0_image 166 = .ok (.iload_n 3, 1) := dk_29 (dk_at dksX0_image_7 5 rfl rfl)
theorem dX0_image_167 : decode cX0_image 167 = .ok (.aload_n 2, 1) := dk_44 (dk_at dksX0_image_7 6 rfl rfl)
theorem dX0_image_168 : decode cX0_image 168 = .ok (.getfield 243, 3) := dk_180 0 243 (dk_at dksX0_image_7 7 rfl rfl)
theorem dX0_image_171 : decode cX0_image 171 = .ok (.invokevirtual 318, 3) := dk_182 1 62 (dk_at dksX0_image_7 10 rfl rfl)
theorem dX0_image_174 : decode cX0_image 174 = .ok (.if_icmp .ge 25, 3) := dk_162 0 25 (dk_at dksX0_image_7 13 rfl rfl)
theorem dX0_image_177 : decode cX0_image 177 = .ok (.aload_n 0, 1) := dk_42 (dk_at dksX0_image_7 16 rfl rfl)
theorem dX0_image_178 : decode cX0_image 178 = .ok (.aload_n 2, 1) := dk_44 (dk_at dksX0_image_7 17 rfl rfl)
theorem dX0_image_179 : decode cX0_image 179 = .ok (.getfield 243, 3) := dk_180 0 243 (dk_at dksX0_image_7 18 rfl rfl)
theorem dX0_image_182 : decode cX0_image 182 = .ok (.getfield 319, 3) := dk_180 1 63 (dk_at dksX0_image_7 21 rfl rfl)
theorem dX0_image_185 : decode cX0_image 185 = .ok (.iload_n 3, 1) := dk_29 (dk_at dksX0_image_8 0 rfl rfl)
theorem dX0_image_186 : decode cX0_image 186 = .ok (.aaload, 1) := dk_50 (dk_at dksX0_image_8 1 rfl rfl)
theorem dX0_image_187 : decode cX0_image 187 = .ok (.getfield 323, 3) := dk_180 1 67 (dk_at dksX0_image_8 2 rfl rfl)
theorem dX0_image_190 : decode cX0_image 190 = .ok (.invokevirtual 527, 3) := dk_182 2 15 (dk_at dksX0_image_8 5 rfl rfl)
theorem dX0_image_193 : decode cX0_image 193 = .ok (.iinc 3 1, 3) := dk_132 3 1 (dk_at dksX0_image_8 8 rfl rfl)
theorem dX0_image_196 : decode cX0_image 196 = .ok (.goto (-30), 3) := dk_167 255 226 (dk_at dksX0_image_8 11 rfl rfl)
theorem dX0_image_199 : decode cX0_image 199 = .ok (.iinc 1 1, 3) := dk_132 1 1 (dk_at dksX0_image_8 14 rfl rfl)
theorem dX0_image_202 : decode cX0_image 202 = .ok (.goto (-105), 3) := dk_167 255 151 (dk_at dksX0_image_8 17 rfl rfl)
theorem dX0_image_205 : decode cX0_image 205 = .ok (.aload_n 0, 1) := dk_42 (dk_at dksX0_image_8 20 rfl rfl)
theorem dX0_image_206 : decode cX0_image 206 = .ok (.aload_n 0, 1) := dk_42 (dk_at dksX0_image_8 21 rfl rfl)
theorem dX0_image_207 : decode cX0_image 207 = .ok (.getfield 93, 3) := dk_180 0 93 (dk_at dksX0_image_9 0 rfl rfl)
theorem dX0_image_210 : decode cX0_image 210 = .ok (.aload_n 0, 1) := dk_42 (dk_at dksX0_image_9 3 rfl rfl)
theorem dX0_image_211 : decode cX0_image 211 = .ok (.getfield 93, 3) := dk_180 0 93 (dk_at dksX0_image_9 4 rfl rfl)
theorem dX0_image_214 : decode cX0_image 214 = .ok (.invokevirtual 530, 3) := dk_182 2 18 (dk_at dksX0_image_9 7 rfl rfl)
theorem dX0_image_217 : decode cX0_image 217 = .ok (.invokestatic 531, 3) := dk_184 2 19 (dk_at dksX0_image_9 10 rfl rfl)
theorem dX0_image_220 : decode cX0_image 220 = .ok (.invokevirtual 527, 3) := dk_182 2 15 (dk_at dksX0_image_9 13 rfl rfl)
theorem dX0_image_223 : decode cX0_image 223 = .ok (.aload_n 0, 1) := dk_42 (dk_at dksX0_image_9 16 rfl rfl)
theorem dX0_image_224 : decode cX0_image 224 = .ok (.getfield 93, 3) := dk_180 0 93 (dk_at dksX0_image_9 17 rfl rfl)
theorem dX0_image_227 : decode cX0_image 227 = .ok (.invokevirtual 530, 3) := dk_182 2 18 (dk_at dksX0_image_9 20 rfl rfl)
theorem dX0_image_230 : decode cX0_image 230 = .ok (.ireturn, 1) := dk_172 (dk_at dksX0_image_9 23 rfl rfl)
def dkwX0_writes_0 : List UInt8 := [42, 180, 0, 93, 27, 146, 182, 2, 5, 87, 177]
abbrev dktX0_writes_0 : List UInt8 := dkwX0_writes_0 ++ []
theorem dksX0_writes_0 : cX0_writes.data.toList.drop 0 = dktX0_writes_0 := by decide +kernel
theorem dX0_writes_0 : decode cX0_writes 0 = .ok (.aload_n 0, 1) := dk_42 (dk_at dksX0_writes_0 0 rfl rfl)
theorem dX0_writes_1 : decode cX0_writes 1 = .ok (.getfield 93, 3) := dk_180 0 93 (dk_at dksX0_writes_0 1 rfl rfl)
theorem dX0_writes_4 : decode cX0_writes 4 = .ok (.iload_n 1, 1) := dk_27 (dk_at dksX0_writes_0 4 rfl rfl)
theorem dX0_writes_5 : decode cX0_writes 5 = .ok (.i2c, 1) := dk_146 (dk_at dksX0_writes_0 5 rfl rfl)
theorem dX0_writes_6 : decode cX0_writes 6 = .ok (.invokevirtual 517, 3) := dk_182 2 5 (dk_at dksX0_writes_0 6 rfl rfl)
theorem dX0_writes_9 : decode cX0_writes 9 = .ok (.pop, 1) := dk_87 (dk_at dksX0_writes_0 9 rfl rfl)
theorem dX0_writes_10 : decode cX0_writes 10 = .ok (.return_, 1) := dk_177 (dk_at dksX0_writes_0 10 rfl rfl)
def dkwX0_checked_1 : List UInt8 := [112, 61, 132, 3, 1, 167, 255, 232, 28, 172]
abbrev dktX0_checked_1 : List UInt8 := dkwX0_checked_1 ++ []
def dkwX0_checked_0 : List UInt8 := [16, 71, 61, 3, 62, 29, 27, 162, 0, 25, 6, 28, 104, 42, 29, 185, 2, 9, 2, 0, 96, 17, 0, 253]
abbrev dktX0_checked_0 : List UInt8 := dkwX0_checked_0 ++ dktX0_checked_1
theorem dksX0_checked_0 : cX0_checked.data.toList.drop 0 = dktX0_checked_0 := by decide +kernel
theorem dksX0_checked_1 : cX0_checked.data.toList.drop 24 = dktX0_checked_1 := dk_seg dksX0_checked_0 24 rfl rfl
theorem dX0_checked_0 : decode cX0_checked 0 = .ok (.bipush 71, 2) := dk_16 71 (dk_at dksX0_checked_0 0 rfl rfl)
theorem dX0_checked_2 : decode cX0_checked 2 = .ok (.istore_n 2, 1) := dk_61 (dk_at dksX0_checked_0 2 rfl rfl)
theorem dX0_checked_3 : decode cX0_checked 3 = .ok (.iconst 0, 1) := dk_3 (dk_at dksX0_checked_0 3 rfl rfl)
theorem dX0_checked_4 : decode cX0_checked 4 = .ok (.istore_n 3, 1) := dk_62 (dk_at dksX0_checked_0 4 rfl rfl)
theorem dX0_checked_5 : decode cX0_checked 5 = .ok (.iload_n 3, 1) := dk_29 (dk_at dksX0_checked_0 5 rfl rfl)
theorem dX0_checked_6 : decode cX0_checked 6 = .ok (.iload_n 1, 1) := dk_27 (dk_at dksX0_checked_0 6 rfl rfl)
theorem dX0_checked_7 : decode cX0_checked 7 = .ok (.if_icmp .ge 25, 3) := dk_162 0 25 (dk_at dksX0_checked_0 7 rfl rfl)
theorem dX0_checked_10 : decode cX0_checked 10 = .ok (.iconst 3, 1) := dk_6 (dk_at dksX0_checked_0 10 rfl rfl)
theorem dX0_checked_11 : decode cX0_checked 11 = .ok (.iload_n 2, 1) := dk_28 (dk_at dksX0_checked_0 11 rfl rfl)
theorem dX0_checked_12 : decode cX0_checked 12 = .ok (.imul, 1) := dk_104 (dk_at dksX0_checked_0 12 rfl rfl)
theorem dX0_checked_13 : decode cX0_checked 13 = .ok (.aload_n 0, 1) := dk_42 (dk_at dksX0_checked_0 13 rfl rfl)
theorem dX0_checked_14 : decode cX0_checked 14 = .ok (.iload_n 3, 1) := dk_29 (dk_at dksX0_checked_0 14 rfl rfl)
theorem dX0_checked_15 : decode cX0_checked 15 = .ok (.invokeinterface 521 2, 5) := by decide +kernel
theorem dX0_checked_20 : decode cX0_checked 20 = .ok (.iadd, 1) := dk_96 (dk_at dksX0_checked_0 20 rfl rfl)
theorem dX0_checked_21 : decode cX0_checked 21 = .ok (.sipush 253, 3) := dk_17 0 253 (dk_at dksX0_checked_0 21 rfl rfl)
theorem dX0_checked_24 : decode cX0_checked 24 = .ok (.irem, 1) := dk_112 (dk_at dksX0_checked_1 0 rfl rfl)
theorem dX0_checked_25 : decode cX0_checked 25 = .ok (.istore_n 2, 1) := dk_61 (dk_at dksX0_checked_1 1 rfl rfl)
theorem dX0_checked_26 : decode cX0_checked 26 = .ok (.iinc 3 1, 3) := dk_132 3 1 (dk_at dksX0_checked_1 2 rfl rfl)
theorem dX0_checked_29 : decode cX0_checked 29 = .ok (.goto (-24), 3) := dk_167 255 232 (dk_at dksX0_checked_1 5 rfl rfl)
theorem dX0_checked_32 : decode cX0_checked 32 = .ok (.iload_n 2, 1) := dk_28 (dk_at dksX0_checked_1 8 rfl rfl)
theorem dX0_checked_33 : decode cX0_checked 33 = .ok (.ireturn, 1) := dk_172 (dk_at dksX0_checked_1 9 rfl rfl)
def dkwX0_octet_1 : List UInt8 := [182, 2, 23, 167, 0, 4, 2, 172]
abbrev dktX0_octet_1 : List UInt8 := dkwX0_octet_1 ++ []
def dkwX0_octet_0 : List UInt8 := [27, 133, 9, 42, 180, 0, 93, 182, 2, 18, 4, 100, 133, 184, 0, 124, 153, 0, 14, 42, 180, 0, 93, 27]
abbrev dktX0_octet_0 : List UInt8 := dkwX0_octet_0 ++ dktX0_octet_1
theorem dksX0_octet_0 : cX0_octet.data.toList.drop 0 = dktX0_octet_0 := by decide +kernel
theorem dksX0_octet_1 : cX0_octet.data.toList.drop 24 = dktX0_octet_1 := dk_seg dksX0_octet_0 24 rfl rfl
theorem dX0_octet_0 : decode cX0_octet 0 = .ok (.iload_n 1, 1) := dk_27 (dk_at dksX0_octet_0 0 rfl rfl)
theorem dX0_octet_1 : decode cX0_octet 1 = .ok (.i2l, 1) := dk_133 (dk_at dksX0_octet_0 1 rfl rfl)
theorem dX0_octet_2 : decode cX0_octet 2 = .ok (.lconst 0, 1) := dk_9 (dk_at dksX0_octet_0 2 rfl rfl)
theorem dX0_octet_3 : decode cX0_octet 3 = .ok (.aload_n 0, 1) := dk_42 (dk_at dksX0_octet_0 3 rfl rfl)
theorem dX0_octet_4 : decode cX0_octet 4 = .ok (.getfield 93, 3) := dk_180 0 93 (dk_at dksX0_octet_0 4 rfl rfl)
theorem dX0_octet_7 : decode cX0_octet 7 = .ok (.invokevirtual 530, 3) := dk_182 2 18 (dk_at dksX0_octet_0 7 rfl rfl)
theorem dX0_octet_10 : decode cX0_octet 10 = .ok (.iconst 1, 1) := dk_4 (dk_at dksX0_octet_0 10 rfl rfl)
theorem dX0_octet_11 : decode cX0_octet 11 = .ok (.isub, 1) := dk_100 (dk_at dksX0_octet_0 11 rfl rfl)
theorem dX0_octet_12 : decode cX0_octet 12 = .ok (.i2l, 1) := dk_133 (dk_at dksX0_octet_0 12 rfl rfl)
theorem dX0_octet_13 : decode cX0_octet 13 = .ok (.invokestatic 124, 3) := dk_184 0 124 (dk_at dksX0_octet_0 13 rfl rfl)
theorem dX0_octet_16 : decode cX0_octet 16 = .ok (.ifCond .eq 14, 3) := dk_153 0 14 (dk_at dksX0_octet_0 16 rfl rfl)
theorem dX0_octet_19 : decode cX0_octet 19 = .ok (.aload_n 0, 1) := dk_42 (dk_at dksX0_octet_0 19 rfl rfl)
theorem dX0_octet_20 : decode cX0_octet 20 = .ok (.getfield 93, 3) := dk_180 0 93 (dk_at dksX0_octet_0 20 rfl rfl)
theorem dX0_octet_23 : decode cX0_octet 23 = .ok (.iload_n 1, 1) := dk_27 (dk_at dksX0_octet_0 23 rfl rfl)
theorem dX0_octet_24 : decode cX0_octet 24 = .ok (.invokevirtual 535, 3) := dk_182 2 23 (dk_at dksX0_octet_1 0 rfl rfl)
theorem dX0_octet_27 : decode cX0_octet 27 = .ok (.goto 4, 3) := dk_167 0 4 (dk_at dksX0_octet_1 3 rfl rfl)
theorem dX0_octet_30 : decode cX0_octet 30 = .ok (.iconst (-1), 1) := dk_2 (dk_at dksX0_octet_1 6 rfl rfl)
theorem dX0_octet_31 : decode cX0_octet 31 = .ok (.ireturn, 1) := dk_172 (dk_at dksX0_octet_1 7 rfl rfl)
def dkwX0_on_12 : List UInt8 := [182, 0, 175, 42, 180, 0, 35, 182, 0, 175, 4, 172]
abbrev dktX0_on_12 : List UInt8 := dkwX0_on_12 ++ []
def dkwX0_on_11 : List UInt8 := [180, 0, 243, 182, 1, 62, 96, 96, 62, 132, 4, 1, 167, 255, 112, 42, 180, 0, 20, 180, 0, 224]
abbrev dktX0_on_11 : List UInt8 := dkwX0_on_11 ++ dktX0_on_12
def dkwX0_on_10 : List UInt8 := [21, 6, 96, 182, 0, 145, 182, 0, 132, 192, 0, 233, 83, 132, 6, 1, 167, 255, 206, 29, 6, 25, 5]
abbrev dktX0_on_10 : List UInt8 := dkwX0_on_10 ++ dktX0_on_11
def dkwX0_on_9 : List UInt8 := [162, 0, 43, 25, 5, 180, 0, 243, 180, 1, 63, 21, 6, 42, 180, 0, 20, 180, 0, 197, 43, 29, 6, 96]
abbrev dktX0_on_9 : List UInt8 := dkwX0_on_9 ++ dktX0_on_10
def dkwX0_on_8 : List UInt8 := [29, 5, 96, 182, 0, 145, 181, 1, 43, 3, 54, 6, 21, 6, 25, 5, 180, 0, 243, 182, 1, 62]
abbrev dktX0_on_8 : List UInt8 := dkwX0_on_8 ++ dktX0_on_9
def dkwX0_on_7 : List UInt8 := [181, 1, 46, 25, 5, 180, 0, 243, 43, 29, 4, 96, 182, 0, 145, 181, 1, 40, 25, 5, 180, 0, 243, 43]
abbrev dktX0_on_7 : List UInt8 := dkwX0_on_7 ++ dktX0_on_8
def dkwX0_on_6 : List UInt8 := [182, 0, 132, 192, 0, 237, 58, 5, 25, 5, 43, 29, 182, 0, 145, 4, 160, 0, 7, 4, 167, 0, 4, 3]
abbrev dktX0_on_6 : List UInt8 := dkwX0_on_6 ++ dktX0_on_7
def dkwX0_on_5 : List UInt8 := [132, 4, 1, 167, 255, 213, 3, 54, 4, 21, 4, 28, 162, 0, 144, 42, 180, 0, 20, 180, 0, 206, 21, 4]
abbrev dktX0_on_5 : List UInt8 := dkwX0_on_5 ++ dktX0_on_6
def dkwX0_on_4 : List UInt8 := [180, 0, 20, 180, 0, 206, 43, 6, 21, 4, 96, 182, 0, 145, 182, 0, 132, 192, 0, 237, 182, 1, 151, 87]
abbrev dktX0_on_4 : List UInt8 := dkwX0_on_4 ++ dktX0_on_5
def dkwX0_on_3 : List UInt8 := [181, 0, 221, 3, 54, 4, 21, 4, 28, 162, 0, 43, 42, 180, 0, 20, 180, 1, 49, 21, 4, 42]
abbrev dktX0_on_3 : List UInt8 := dkwX0_on_3 ++ dktX0_on_4
def dkwX0_on_2 : List UInt8 := [28, 96, 62, 42, 180, 0, 20, 17, 1, 0, 43, 3, 182, 0, 145, 104, 43, 4, 182, 0, 145, 96]
abbrev dktX0_on_2 : List UInt8 := dkwX0_on_2 ++ dktX0_on_3
def dkwX0_on_1 : List UInt8 := [182, 2, 30, 154, 0, 9, 42, 8, 182, 0, 118, 172, 42, 180, 0, 20, 180, 0, 206, 182, 0, 128, 61, 6]
abbrev dktX0_on_1 : List UInt8 := dkwX0_on_1 ++ dktX0_on_2
def dkwX0_on_0 : List UInt8 := [187, 0, 102, 89, 42, 180, 0, 9, 3, 42, 180, 0, 111, 183, 2, 27, 76, 42, 3, 181, 0, 111, 42, 43]
abbrev dktX0_on_0 : List UInt8 := dkwX0_on_0 ++ dktX0_on_1
theorem dksX0_on_0 : cX0_on.data.toList.drop 0 = dktX0_on_0 := by decide +kernel
theorem dksX0_on_1 : cX0_on.data.toList.drop 24 = dktX0_on_1 := dk_seg dksX0_on_0 24 rfl rfl
theorem dksX0_on_2 : cX0_on.data.toList.drop 48 = dktX0_on_2 := dk_seg dksX0_on_1 24 rfl rfl
theorem dksX0_on_3 : cX0_on.data.toList.drop 70 = dktX0_on_3 := dk_seg dksX0_on_2 22 rfl rfl
theorem dksX0_on_4 : cX0_on.data.toList.drop 92 = dktX0_on_4 := dk_seg dksX0_on_3 22 rfl rfl
theorem dksX0_on_5 : cX0_on.data.toList.drop 116 = dktX0_on_5 := dk_seg dksX0_on_4 24 rfl rfl
theorem dksX0_on_6 : cX0_on.data.toList.drop 140 = dktX0_on_6 := dk_seg dksX0_on_5 24 rfl rfl
theorem dksX0_on_7 : cX0_on.data.toList.drop 164 = dktX0_on_7 := dk_seg dksX0_on_6 24 rfl rfl
theorem dksX0_on_8 : cX0_on.data.toList.drop 188 = dktX0_on_8 := dk_seg dksX0_on_7 24 rfl rfl
theorem dksX0_on_9 : cX0_on.data.toList.drop 210 = dktX0_on_9 := dk_seg dksX0_on_8 22 rfl rfl
theorem dksX0_on_10 : cX0_on.data.toList.drop 234 = dktX0_on_10 := dk_seg dksX0_on_9 24 rfl rfl
theorem dksX0_on_11 : cX0_on.data.toList.drop 257 = dktX0_on_11 := dk_seg dksX0_on_10 23 rfl rfl
theorem dksX0_on_12 : cX0_on.data.toList.drop 279 = dktX0_on_12 := dk_seg dksX0_on_11 22 rfl rfl
theorem dX0_on_0 : decode cX0_on 0 = .ok (.new 102, 3) := dk_187 0 102 (dk_at dksX0_on_0 0 rfl rfl)
theorem dX0_on_3 : decode cX0_on 3 = .ok (.dup, 1) := dk_89 (dk_at dksX0_on_0 3 rfl rfl)
theorem dX0_on_4 : decode cX0_on 4 = .ok (.aload_n 0, 1) := dk_42 (dk_at dksX0_on_0 4 rfl rfl)
theorem dX0_on_5 : decode cX0_on 5 = .ok (.getfield 9, 3) := dk_180 0 9 (dk_at dksX0_on_0 5 rfl rfl)
theorem dX0_on_8 : decode cX0_on 8 = .ok (.iconst 0, 1) := dk_3 (dk_at dksX0_on_0 8 rfl rfl)
theorem dX0_on_9 : decode cX0_on 9 = .ok (.aload_n 0, 1) := dk_42 (dk_at dksX0_on_0 9 rfl rfl)
theorem dX0_on_10 : decode cX0_on 10 = .ok (.getfield 111, 3) := dk_180 0 111 (dk_at dksX0_on_0 10 rfl rfl)
theorem dX0_on_13 : decode cX0_on 13 = .ok (.invokespecial 539, 3) := dk_183 2 27 (dk_at dksX0_on_0 13 rfl rfl)
theorem dX0_on_16 : decode cX0_on 16 = .ok (.astore_n 1, 1) := dk_76 (dk_at dksX0_on_0 16 rfl rfl)
theorem dX0_on_17 : decode cX0_on 17 = .ok (.aload_n 0, 1) := dk_42 (dk_at dksX0_on_0 17 rfl rfl)
theorem dX0_on_18 : decode cX0_on 18 = .ok (.iconst 0, 1) := dk_3 (dk_at dksX0_on_0 18 rfl rfl)
theorem dX0_on_19 : decode cX0_on 19 = .ok (.putfield 111, 3) := dk_181 0 111 (dk_at dksX0_on_0 19 rfl rfl)
theorem dX0_on_22 : decode cX0_on 22 = .ok (.aload_n 0, 1) := dk_42 (dk_at dksX0_on_0 22 rfl rfl)
theorem dX0_on_23 : decode cX0_on 23 = .ok (.aload_n 1, 1) := dk_43 (dk_at dksX0_on_0 23 rfl rfl)
theorem dX0_on_24 : decode cX0_on 24 = .ok (.invokevirtual 542, 3) := dk_182 2 30 (dk_at dksX0_on_1 0 rfl rfl)
theorem dX0_on_27 : decode cX0_on 27 = .ok (.ifCond .ne 9, 3) := dk_154 0 9 (dk_at dksX0_on_1 3 rfl rfl)
theorem dX0_on_30 : decode cX0_on 30 = .ok (.aload_n 0, 1) := dk_42 (dk_at dksX0_on_1 6 rfl rfl)
theorem dX0_on_31 : decode cX0_on 31 = .ok (.iconst 5, 1) := dk_8 (dk_at dksX0_on_1 7 rfl rfl)
theorem dX0_on_32 : decode cX0_on 32 = .ok (.invokevirtual 118, 3) := dk_182 0 118 (dk_at dksX0_on_1 8 rfl rfl)
theorem dX0_on_35 : decode cX0_on 35 = .ok (.ireturn, 1) := dk_172 (dk_at dksX0_on_1 11 rfl rfl)
theorem dX0_on_36 : decode cX0_on 36 = .ok (.aload_n 0, 1) := dk_42 (dk_at dksX0_on_1 12 rfl rfl)
theorem dX0_on_37 : decode cX0_on 37 = .ok (.getfield 20, 3) := dk_180 0 20 (dk_at dksX0_on_1 13 rfl rfl)
theorem dX0_on_40 : decode cX0_on 40 = .ok (.getfield 206, 3) := dk_180 0 206 (dk_at dksX0_on_1 16 rfl rfl)
theorem dX0_on_43 : decode cX0_on 43 = .ok (.invokevirtual 128, 3) := dk_182 0 128 (dk_at dksX0_on_1 19 rfl rfl)
theorem dX0_on_46 : decode cX0_on 46 = .ok (.istore_n 2, 1) := dk_61 (dk_at dksX0_on_1 22 rfl rfl)
theorem dX0_on_47 : decode cX0_on 47 = .ok (.iconst 3, 1) := dk_6 (dk_at dksX0_on_1 23 rfl rfl)
theorem dX0_on_48 : decode cX0_on 48 = .ok (.iload_n 2, 1) := dk_28 (dk_at dksX0_on_2 0 rfl rfl)
theorem dX0_on_49 : decode cX0_on 49 = .ok (.iadd, 1) := dk_96 (dk_at dksX0_on_2 1 rfl rfl)
theorem dX0_on_50 : decode cX0_on 50 = .ok (.istore_n 3, 1) := dk_62 (dk_at dksX0_on_2 2 rfl rfl)
theorem dX0_on_51 : decode cX0_on 51 = .ok (.aload_n 0, 1) := dk_42 (dk_at dksX0_on_2 3 rfl rfl)
theorem dX0_on_52 : decode cX0_on 52 = .ok (.getfield 20, 3) := dk_180 0 20 (dk_at dksX0_on_2 4 rfl rfl)
theorem dX0_on_55 : decode cX0_on 55 = .ok (.sipush 256, 3) := dk_17 1 0 (dk_at dksX0_on_2 7 rfl rfl)
theorem dX0_on_58 : decode cX0_on 58 = .ok (.aload_n 1, 1) := dk_43 (dk_at dksX0_on_2 10 rfl rfl)
theorem dX0_on_59 : decode cX0_on 59 = .ok (.iconst 0, 1) := dk_3 (dk_at dksX0_on_2 11 rfl rfl)
theorem dX0_on_60 : decode cX0_on 60 = .ok (.invokevirtual 145, 3) := dk_182 0 145 (dk_at dksX0_on_2 12 rfl rfl)
theorem dX0_on_63 : decode cX0_on 63 = .ok (.imul, 1) := dk_104 (dk_at dksX0_on_2 15 rfl rfl)
theorem dX0_on_64 : decode cX0_on 64 = .ok (.aload_n 1, 1) := dk_43 (dk_at dksX0_on_2 16 rfl rfl)
theorem dX0_on_65 : decode cX0_on 65 = .ok (.iconst 1, 1) := dk_4 (dk_at dksX0_on_2 17 rfl rfl)
theorem dX0_on_66 : decode cX0_on 66 = .ok (.invokevirtual 145, 3) := dk_182 0 145 (dk_at dksX0_on_2 18 rfl rfl)
theorem dX0_on_69 : decode cX0_on 69 = .ok (.iadd, 1) := dk_96 (dk_at dksX0_on_2 21 rfl rfl)
theorem dX0_on_70 : decode cX0_on 70 = .ok (.putfield 221, 3) := dk_181 0 221 (dk_at dksX0_on_3 0 rfl rfl)
theorem dX0_on_73 : decode cX0_on 73 = .ok (.iconst 0, 1) := dk_3 (dk_at dksX0_on_3 3 rfl rfl)
theorem dX0_on_74 : decode cX0_on 74 = .ok (.istore 4, 2) := dk_54 4 (dk_at dksX0_on_3 4 rfl rfl)
theorem dX0_on_76 : decode cX0_on 76 = .ok (.iload 4, 2) := dk_21 4 (dk_at dksX0_on_3 6 rfl rfl)
theorem dX0_on_78 : decode cX0_on 78 = .ok (.iload_n 2, 1) := dk_28 (dk_at dksX0_on_3 8 rfl rfl)
theorem dX0_on_79 : decode cX0_on 79 = .ok (.if_icmp .ge 43, 3) := dk_162 0 43 (dk_at dksX0_on_3 9 rfl rfl)
theorem dX0_on_82 : decode cX0_on 82 = .ok (.aload_n 0, 1) := dk_42 (dk_at dksX0_on_3 12 rfl rfl)
theorem dX0_on_83 : decode cX0_on 83 = .ok (.getfield 20, 3) := dk_180 0 20 (dk_at dksX0_on_3 13 rfl rfl)
theorem dX0_on_86 : decode cX0_on 86 = .ok (.getfield 305, 3) := dk_180 1 49 (dk_at dksX0_on_3 16 rfl rfl)
theorem dX0_on_89 : decode cX0_on 89 = .ok (.iload 4, 2) := dk_21 4 (dk_at dksX0_on_3 19 rfl rfl)
theorem dX0_on_91 : decode cX0_on 91 = .ok (.aload_n 0, 1) := dk_42 (dk_at dksX0_on_3 21 rfl rfl)
theorem dX0_on_92 : decode cX0_on 92 = .ok (.getfield 20, 3) := dk_180 0 20 (dk_at dksX0_on_4 0 rfl rfl)
theorem dX0_on_95 : decode cX0_on 95 = .ok (.getfield 206, 3) := dk_180 0 206 (dk_at dksX0_on_4 3 rfl rfl)
theorem dX0_on_98 : decode cX0_on 98 = .ok (.aload_n 1, 1) := dk_43 (dk_at dksX0_on_4 6 rfl rfl)
theorem dX0_on_99 : decode cX0_on 99 = .ok (.iconst 3, 1) := dk_6 (dk_at dksX0_on_4 7 rfl rfl)
theorem dX0_on_100 : decode cX0_on 100 = .ok (.iload 4, 2) := dk_21 4 (dk_at dksX0_on_4 8 rfl rfl)
theorem dX0_on_102 : decode cX0_on 102 = .ok (.iadd, 1) := dk_96 (dk_at dksX0_on_4 10 rfl rfl)
theorem dX0_on_103 : decode cX0_on 103 = .ok (.invokevirtual 145, 3) := dk_182 0 145 (dk_at dksX0_on_4 11 rfl rfl)
theorem dX0_on_106 : decode cX0_on 106 = .ok (.invokevirtual 132, 3) := dk_182 0 132 (dk_at dksX0_on_4 14 rfl rfl)
theorem dX0_on_109 : decode cX0_on 109 = .ok (.checkcast 237, 3) := dk_192 0 237 (dk_at dksX0_on_4 17 rfl rfl)
theorem dX0_on_112 : decode cX0_on 112 = .ok (.invokevirtual 407, 3) := dk_182 1 151 (dk_at dksX0_on_4 20 rfl rfl)
theorem dX0_on_115 : decode cX0_on 115 = .ok (.pop, 1) := dk_87 (dk_at dksX0_on_4 23 rfl rfl)
theorem dX0_on_116 : decode cX0_on 116 = .ok (.iinc 4 1, 3) := dk_132 4 1 (dk_at dksX0_on_5 0 rfl rfl)
theorem dX0_on_119 : decode cX0_on 119 = .ok (.goto (-43), 3) := dk_167 255 213 (dk_at dksX0_on_5 3 rfl rfl)
theorem dX0_on_122 : decode cX0_on 122 = .ok (.iconst 0, 1) := dk_3 (dk_at dksX0_on_5 6 rfl rfl)
theorem dX0_on_123 : decode cX0_on 123 = .ok (.istore 4, 2) := dk_54 4 (dk_at dksX0_on_5 7 rfl rfl)
theorem dX0_on_125 : decode cX0_on 125 = .ok (.iload 4, 2) := dk_21 4 (dk_at dksX0_on_5 9 rfl rfl)
theorem dX0_on_127 : decode cX0_on 127 = .ok (.iload_n 2, 1) := dk_28 (dk_at dksX0_on_5 11 rfl rfl)
theorem dX0_on_128 : decode cX0_on 128 = .ok (.if_icmp .ge 144, 3) := dk_162 0 144 (dk_at dksX0_on_5 12 rfl rfl)
theorem dX0_on_131 : decode cX0_on 131 = .ok (.aload_n 0, 1) := dk_42 (dk_at dksX0_on_5 15 rfl rfl)
theorem dX0_on_132 : decode cX0_on 132 = .ok (.getfield 20, 3) := dk_180 0 20 (dk_at dksX0_on_5 16 rfl rfl)
theorem dX0_on_135 : decode cX0_on 135 = .ok (.getfield 206, 3) := dk_180 0 206 (dk_at dksX0_on_5 19 rfl rfl)
theorem dX0_on_138 : decode cX0_on 138 = .ok (.iload 4, 2) := dk_21 4 (dk_at dksX0_on_5 22 rfl rfl)
theorem dX0_on_140 : decode cX0_on 140 = .ok (.invokevirtual 132, 3) := dk_182 0 132 (dk_at dksX0_on_6 0 rfl rfl)
theorem dX0_on_143 : decode cX0_on 143 = .ok (.checkcast 237, 3) := dk_192 0 237 (dk_at dksX0_on_6 3 rfl rfl)
theorem dX0_on_146 : decode cX0_on 146 = .ok (.astore 5, 2) := dk_58 5 (dk_at dksX0_on_6 6 rfl rfl)
theorem dX0_on_148 : decode cX0_on 148 = .ok (.aload 5, 2) := dk_25 5 (dk_at dksX0_on_6 8 rfl rfl)
theorem dX0_on_150 : decode cX0_on 150 = .ok (.aload_n 1, 1) := dk_43 (dk_at dksX0_on_6 10 rfl rfl)
theorem dX0_on_151 : decode cX0_on 151 = .ok (.iload_n 3, 1) := dk_29 (dk_at dksX0_on_6 11 rfl rfl)
theorem dX0_on_152 : decode cX0_on 152 = .ok (.invokevirtual 145, 3) := dk_182 0 145 (dk_at dksX0_on_6 12 rfl rfl)
theorem dX0_on_155 : decode cX0_on 155 = .ok (.iconst 1, 1) := dk_4 (dk_at dksX0_on_6 15 rfl rfl)
theorem dX0_on_156 : decode cX0_on 156 = .ok (.if_icmp .ne 7, 3) := dk_160 0 7 (dk_at dksX0_on_6 16 rfl rfl)
theorem dX0_on_159 : decode cX0_on 159 = .ok (.iconst 1, 1) := dk_4 (dk_at dksX0_on_6 19 rfl rfl)
theorem dX0_on_160 : decode cX0_on 160 = .ok (.goto 4, 3) := dk_167 0 4 (dk_at dksX0_on_6 20 rfl rfl)
theorem dX0_on_163 : decode cX0_on 163 = .ok (.iconst 0, 1) := dk_3 (dk_at dksX0_on_6 23 rfl rfl)
theorem dX0_on_164 : decode cX0_on 164 = .ok (.putfield 302, 3) := dk_181 1 46 (dk_at dksX0_on_7 0 rfl rfl)
theorem dX0_on_167 : decode cX0_on 167 = .ok (.aload 5, 2) := dk_25 5 (dk_at dksX0_on_7 3 rfl rfl)
theorem dX0_on_169 : decode cX0_on 169 = .ok (.getfield 243, 3) := dk_180 0 243 (dk_at dksX0_on_7 5 rfl rfl)
theorem dX0_on_172 : decode cX0_on 172 = .ok (.aload_n 1, 1) := dk_43 (dk_at dksX0_on_7 8 rfl rfl)
theorem dX0_on_173 : decode cX0_on 173 = .ok (.iload_n 3, 1) := dk_29 (dk_at dksX0_on_7 9 rfl rfl)
theorem dX0_on_174 : decode cX0_on 174 = .ok (.iconst 1, 1) := dk_4 (dk_at dksX0_on_7 10 rfl rfl)
theorem dX0_on_175 : decode cX0_on 175 = .ok (.iadd, 1) := dk_96 (dk_at dksX0_on_7 11 rfl rfl)
theorem dX0_on_176 : decode cX0_on 176 = .ok (.invokevirtual 145, 3) := dk_182 0 145 (dk_at dksX0_on_7 12 rfl rfl)
theorem dX0_on_179 : decode cX0_on 179 = .ok (.putfield 296, 3) := dk_181 1 40 (dk_at dksX0_on_7 15 rfl rfl)
theorem dX0_on_182 : decode cX0_on 182 = .ok (.aload 5, 2) := dk_25 5 (dk_at dksX0_on_7 18 rfl rfl)
theorem dX0_on_184 : decode cX0_on 184 = .ok (.getfield 243, 3) := dk_180 0 243 (dk_at dksX0_on_7 20 rfl rfl)
theorem dX0_on_187 : decode cX0_on 187 = .ok (.aload_n 1, 1) := dk_43 (dk_at dksX0_on_7 23 rfl rfl)
theorem dX0_on_188 : decode cX0_on 188 = .ok (.iload_n 3, 1) := dk_29 (dk_at dksX0_on_8 0 rfl rfl)
theorem dX0_on_189 : decode cX0_on 189 = .ok (.iconst 2, 1) := dk_5 (dk_at dksX0_on_8 1 rfl rfl)
theorem dX0_on_190 : decode cX0_on 190 = .ok (.iadd, 1) := dk_96 (dk_at dksX0_on_8 2 rfl rfl)
theorem dX0_on_191 : decode cX0_on 191 = .ok (.invokevirtual 145, 3) := dk_182 0 145 (dk_at dksX0_on_8 3 rfl rfl)
theorem dX0_on_194 : decode cX0_on 194 = .ok (.putfield 299, 3) := dk_181 1 43 (dk_at dksX0_on_8 6 rfl rfl)
theorem dX0_on_197 : decode cX0_on 197 = .ok (.iconst 0, 1) := dk_3 (dk_at dksX0_on_8 9 rfl rfl)
theorem dX0_on_198 : decode cX0_on 198 = .ok (.istore 6, 2) := dk_54 6 (dk_at dksX0_on_8 10 rfl rfl)
theorem dX0_on_200 : decode cX0_on 200 = .ok (.iload 6, 2) := dk_21 6 (dk_at dksX0_on_8 12 rfl rfl)
theorem dX0_on_202 : decode cX0_on 202 = .ok (.aload 5, 2) := dk_25 5 (dk_at dksX0_on_8 14 rfl rfl)
theorem dX0_on_204 : decode cX0_on 204 = .ok (.getfield 243, 3) := dk_180 0 243 (dk_at dksX0_on_8 16 rfl rfl)
theorem dX0_on_207 : decode cX0_on 207 = .ok (.invokevirtual 318, 3) := dk_182 1 62 (dk_at dksX0_on_8 19 rfl rfl)
theorem dX0_on_210 : decode cX0_on 210 = .ok (.if_icmp .ge 43, 3) := dk_162 0 43 (dk_at dksX0_on_9 0 rfl rfl)
theorem dX0_on_213 : decode cX0_on 213 = .ok (.aload 5, 2) := dk_25 5 (dk_at dksX0_on_9 3 rfl rfl)
theorem dX0_on_215 : decode cX0_on 215 = .ok (.getfield 243, 3) := dk_180 0 243 (dk_at dksX0_on_9 5 rfl rfl)
theorem dX0_on_218 : decode cX0_on 218 = .ok (.getfield 319, 3) := dk_180 1 63 (dk_at dksX0_on_9 8 rfl rfl)
theorem dX0_on_221 : decode cX0_on 221 = .ok (.iload 6, 2) := dk_21 6 (dk_at dksX0_on_9 11 rfl rfl)
theorem dX0_on_223 : decode cX0_on 223 = .ok (.aload_n 0, 1) := dk_42 (dk_at dksX0_on_9 13 rfl rfl)
theorem dX0_on_224 : decode cX0_on 224 = .ok (.getfield 20, 3) := dk_180 0 20 (dk_at dksX0_on_9 14 rfl rfl)
theorem dX0_on_227 : decode cX0_on 227 = .ok (.getfield 197, 3) := dk_180 0 197 (dk_at dksX0_on_9 17 rfl rfl)
theorem dX0_on_230 : decode cX0_on 230 = .ok (.aload_n 1, 1) := dk_43 (dk_at dksX0_on_9 20 rfl rfl)
theorem dX0_on_231 : decode cX0_on 231 = .ok (.iload_n 3, 1) := dk_29 (dk_at dksX0_on_9 21 rfl rfl)
theorem dX0_on_232 : decode cX0_on 232 = .ok (.iconst 3, 1) := dk_6 (dk_at dksX0_on_9 22 rfl rfl)
theorem dX0_on_233 : decode cX0_on 233 = .ok (.iadd, 1) := dk_96 (dk_at dksX0_on_9 23 rfl rfl)
theorem dX0_on_234 : decode cX0_on 234 = .ok (.iload 6, 2) := dk_21 6 (dk_at dksX0_on_10 0 rfl rfl)
theorem dX0_on_236 : decode cX0_on 236 = .ok (.iadd, 1) := dk_96 (dk_at dksX0_on_10 2 rfl rfl)
theorem dX0_on_237 : decode cX0_on 237 = .ok (.invokevirtual 145, 3) := dk_182 0 145 (dk_at dksX0_on_10 3 rfl rfl)
theorem dX0_on_240 : decode cX0_on 240 = .ok (.invokevirtual 132, 3) := dk_182 0 132 (dk_at dksX0_on_10 6 rfl rfl)
theorem dX0_on_243 : decode cX0_on 243 = .ok (.checkcast 233, 3) := dk_192 0 233 (dk_at dksX0_on_10 9 rfl rfl)
theorem dX0_on_246 : decode cX0_on 246 = .ok (.aastore, 1) := dk_83 (dk_at dksX0_on_10 12 rfl rfl)
theorem dX0_on_247 : decode cX0_on 247 = .ok (.iinc 6 1, 3) := dk_132 6 1 (dk_at dksX0_on_10 13 rfl rfl)
theorem dX0_on_250 : decode cX0_on 250 = .ok (.goto (-50), 3) := dk_167 255 206 (dk_at dksX0_on_10 16 rfl rfl)
theorem dX0_on_253 : decode cX0_on 253 = .ok (.iload_n 3, 1) := dk_29 (dk_at dksX0_on_10 19 rfl rfl)
theorem dX0_on_254 : decode cX0_on 254 = .ok (.iconst 3, 1) := dk_6 (dk_at dksX0_on_10 20 rfl rfl)
theorem dX0_on_255 : decode cX0_on 255 = .ok (.aload 5, 2) := dk_25 5 (dk_at dksX0_on_10 21 rfl rfl)
theorem dX0_on_257 : decode cX0_on 257 = .ok (.getfield 243, 3) := dk_180 0 243 (dk_at dksX0_on_11 0 rfl rfl)
theorem dX0_on_260 : decode cX0_on 260 = .ok (.invokevirtual 318, 3) := dk_182 1 62 (dk_at dksX0_on_11 3 rfl rfl)
theorem dX0_on_263 : decode cX0_on 263 = .ok (.iadd, 1) := dk_96 (dk_at dksX0_on_11 6 rfl rfl)
theorem dX0_on_264 : decode cX0_on 264 = .ok (.iadd, 1) := dk_96 (dk_at dksX0_on_11 7 rfl rfl)
theorem dX0_on_265 : decode cX0_on 265 = .ok (.istore_n 3, 1) := dk_62 (dk_at dksX0_on_11 8 rfl rfl)
theorem dX0_on_266 : decode cX0_on 266 = .ok (.iinc 4 1, 3) := dk_132 4 1 (dk_at dksX0_on_11 9 rfl rfl)
theorem dX0_on_269 : decode cX0_on 269 = .ok (.goto (-144), 3) := dk_167 255 112 (dk_at dksX0_on_11 12 rfl rfl)
theorem dX0_on_272 : decode cX0_on 272 = .ok (.aload_n 0, 1) := dk_42 (dk_at dksX0_on_11 15 rfl rfl)
theorem dX0_on_273 : decode cX0_on 273 = .ok (.getfield 20, 3) := dk_180 0 20 (dk_at dksX0_on_11 16 rfl rfl)
theorem dX0_on_276 : decode cX0_on 276 = .ok (.getfield 224, 3) := dk_180 0 224 (dk_at dksX0_on_11 19 rfl rfl)
theorem dX0_on_279 : decode cX0_on 279 = .ok (.invokevirtual 175, 3) := dk_182 0 175 (dk_at dksX0_on_12 0 rfl rfl)
theorem dX0_on_282 : decode cX0_on 282 = .ok (.aload_n 0, 1) := dk_42 (dk_at dksX0_on_12 3 rfl rfl)
theorem dX0_on_283 : decode cX0_on 283 = .ok (.getfield 35, 3) := dk_180 0 35 (dk_at dksX0_on_12 4 rfl rfl)
theorem dX0_on_286 : decode cX0_on 286 = .ok (.invokevirtual 175, 3) := dk_182 0 175 (dk_at dksX0_on_12 7 rfl rfl)
theorem dX0_on_289 : decode cX0_on 289 = .ok (.iconst 1, 1) := dk_4 (dk_at dksX0_on_12 10 rfl rfl)
theorem dX0_on_290 : decode cX0_on 290 = .ok (.ireturn, 1) := dk_172 (dk_at dksX0_on_12 11 rfl rfl)
def dkwX0_isTold_7 : List UInt8 := [160, 0, 7, 4, 167, 0, 4, 3, 172]
abbrev dktX0_isTold_7 : List UInt8 := dkwX0_isTold_7 ++ []
def dkwX0_isTold_6 : List UInt8 := [159, 0, 19, 42, 43, 21, 4, 29, 182, 2, 24, 54, 4, 132, 6, 1, 167, 255, 231, 21, 4, 29]
abbrev dktX0_isTold_6 : List UInt8 := dkwX0_isTold_6 ++ dktX0_isTold_7
def dkwX0_isTold_5 : List UInt8 := [21, 5, 4, 28, 120, 4, 100, 159, 0, 5, 3, 172, 3, 54, 6, 21, 6, 28, 162, 0, 25, 21, 4, 2]
abbrev dktX0_isTold_5 : List UInt8 := dkwX0_isTold_5 ++ dktX0_isTold_6
def dkwX0_isTold_4 : List UInt8 := [162, 0, 18, 21, 5, 4, 43, 6, 21, 6, 96, 182, 0, 145, 120, 128, 54, 5, 132, 6, 1, 167, 255, 220]
abbrev dktX0_isTold_4 : List UInt8 := dkwX0_isTold_4 ++ dktX0_isTold_5
def dkwX0_isTold_3 : List UInt8 := [159, 0, 5, 3, 172, 3, 54, 6, 21, 6, 28, 162, 0, 36, 43, 6, 21, 6, 96, 182, 0, 145, 28]
abbrev dktX0_isTold_3 : List UInt8 := dkwX0_isTold_3 ++ dktX0_isTold_4
def dkwX0_isTold_2 : List UInt8 := [43, 3, 182, 0, 145, 104, 43, 4, 182, 0, 145, 96, 17, 39, 15, 163, 0, 12, 43, 5, 182, 0, 145, 28]
abbrev dktX0_isTold_2 : List UInt8 := dkwX0_isTold_2 ++ dktX0_isTold_3
def dkwX0_isTold_1 : List UInt8 := [54, 5, 29, 21, 4, 161, 0, 46, 43, 29, 182, 0, 145, 43, 29, 184, 2, 19, 160, 0, 33, 17, 1, 0]
abbrev dktX0_isTold_1 : List UInt8 := dkwX0_isTold_1 ++ dktX0_isTold_2
def dkwX0_isTold_0 : List UInt8 := [42, 180, 0, 20, 180, 0, 206, 182, 0, 128, 61, 43, 182, 0, 142, 4, 100, 62, 6, 28, 96, 54, 4, 3]
abbrev dktX0_isTold_0 : List UInt8 := dkwX0_isTold_0 ++ dktX0_isTold_1
theorem dksX0_isTold_0 : cX0_isTold.data.toList.drop 0 = dktX0_isTold_0 := by decide +kernel
theorem dksX0_isTold_1 : cX0_isTold.data.toList.drop 24 = dktX0_isTold_1 := dk_seg dksX0_isTold_0 24 rfl rfl
theorem dksX0_isTold_2 : cX0_isTold.data.toList.drop 48 = dktX0_isTold_2 := dk_seg dksX0_isTold_1 24 rfl rfl
theorem dksX0_isTold_3 : cX0_isTold.data.toList.drop 72 = dktX0_isTold_3 := dk_seg dksX0_isTold_2 24 rfl rfl
theorem dksX0_isTold_4 : cX0_isTold.data.toList.drop 95 = dktX0_isTold_4 := dk_seg dksX0_isTold_3 23 rfl rfl
theorem dksX0_isTold_5 : cX0_isTold.data.toList.drop 119 = dktX0_isTold_5 := dk_seg dksX0_isTold_4 24 rfl rfl
theorem dksX0_isTold_6 : cX0_isTold.data.toList.drop 143 = dktX0_isTold_6 := dk_seg dksX0_isTold_5 24 rfl rfl
theorem dksX0_isTold_7 : cX0_isTold.data.toList.drop 165 = dktX0_isTold_7 := dk_seg dksX0_isTold_6 22 rfl rfl
theorem dX0_isTold_0 : decode cX0_isTold 0 = .ok (.aload_n 0, 1) := dk_42 (dk_at dksX0_isTold_0 0 rfl rfl)
theorem dX0_isTold_1 : decode cX0_isTold 1 = .ok (.getfield 20, 3) := dk_180 0 20 (dk_at dksX0_isTold_0 1 rfl rfl)
theorem dX0_isTold_4 : decode cX0_isTold 4 = .ok (.getfield 206, 3) := dk_180 0 206 (dk_at dksX0_isTold_0 4 rfl rfl)
theorem dX0_isTold_7 : decode cX0_isTold 7 = .ok (.invokevirtual 128, 3) := dk_182 0 128 (dk_at dksX0_isTold_0 7 rfl rfl)
theorem dX0_isTold_10 : decode cX0_isTold 10 = .ok (.istore_n 2, 1) := dk_61 (dk_at dksX0_isTold_0 10 rfl rfl)
theorem dX0_isTold_11 : decode cX0_isTold 11 = .ok (.aload_n 1, 1) := dk_43 (dk_at dksX0_isTold_0 11 rfl rfl)
theorem dX0_isTold_12 : decode cX0_isTold 12 = .ok (.invokevirtual 142, 3) := dk_182 0 142 (dk_at dksX0_isTold_0 12 rfl rfl)
theorem dX0_isTold_15 : decode cX0_isTold 15 = .ok (.iconst 1, 1) := dk_4 (dk_at dksX0_isTold_0 15 rfl rfl)
theorem dX0_isTold_16 : decode cX0_isTold 16 = .ok (.isub, 1) := dk_100 (dk_at dksX0_isTold_0 16 rfl rfl)
theorem dX0_isTold_17 : decode cX0_isTold 17 = .ok (.istore_n 3, 1) := dk_62 (dk_at dksX0_isTold_0 17 rfl rfl)
theorem dX0_isTold_18 : decode cX0_isTold 18 = .ok (.iconst 3, 1) := dk_6 (dk_at dksX0_isTold_0 18 rfl rfl)
theorem dX0_isTold_19 : decode cX0_isTold 19 = .ok (.iload_n 2, 1) := dk_28 (dk_at dksX0_isTold_0 19 rfl rfl)
theorem dX0_isTold_20 : decode cX0_isTold 20 = .ok (.iadd, 1) := dk_96 (dk_at dksX0_isTold_0 20 rfl rfl)
theorem dX0_isTold_21 : decode cX0_isTold 21 = .ok (.istore 4, 2) := dk_54 4 (dk_at dksX0_isTold_0 21 rfl rfl)
theorem dX0_isTold_23 : decode cX0_isTold 23 = .ok (.iconst 0, 1) := dk_3 (dk_at dksX0_isTold_0 23 rfl rfl)
theorem dX0_isTold_24 : decode cX0_isTold 24 = .ok (.istore 5, 2) := dk_54 5 (dk_at dksX0_isTold_1 0 rfl rfl)
theorem dX0_isTold_26 : decode cX0_isTold 26 = .ok (.iload_n 3, 1) := dk_29 (dk_at dksX0_isTold_1 2 rfl rfl)
theorem dX0_isTold_27 : decode cX0_isTold 27 = .ok (.iload 4, 2) := dk_21 4 (dk_at dksX0_isTold_1 3 rfl rfl)
theorem dX0_isTold_29 : decode cX0_isTold 29 = .ok (.if_icmp .lt 46, 3) := dk_161 0 46 (dk_at dksX0_isTold_1 5 rfl rfl)
theorem dX0_isTold_32 : decode cX0_isTold 32 = .ok (.aload_n 1, 1) := dk_43 (dk_at dksX0_isTold_1 8 rfl rfl)
theorem dX0_isTold_33 : decode cX0_isTold 33 = .ok (.iload_n 3, 1) := dk_29 (dk_at dksX0_isTold_1 9 rfl rfl)
theorem dX0_isTold_34 : decode cX0_isTold 34 = .ok (.invokevirtual 145, 3) := dk_182 0 145 (dk_at dksX0_isTold_1 10 rfl rfl)
theorem dX0_isTold_37 : decode cX0_isTold 37 = .ok (.aload_n 1, 1) := dk_43 (dk_at dksX0_isTold_1 13 rfl rfl)
theorem dX0_isTold_38 : decode cX0_isTold 38 = .ok (.iload_n 3, 1) := dk_29 (dk_at dksX0_isTold_1 14 rfl rfl)
theorem dX0_isTold_39 : decode cX0_isTold 39 = .ok (.invokestatic 531, 3) := dk_184 2 19 (dk_at dksX0_isTold_1 15 rfl rfl)
theorem dX0_isTold_42 : decode cX0_isTold 42 = .ok (.if_icmp .ne 33, 3) := dk_160 0 33 (dk_at dksX0_isTold_1 18 rfl rfl)
theorem dX0_isTold_45 : decode cX0_isTold 45 = .ok (.sipush 256, 3) := dk_17 1 0 (dk_at dksX0_isTold_1 21 rfl rfl)
theorem dX0_isTold_48 : decode cX0_isTold 48 = .ok (.aload_n 1, 1) := dk_43 (dk_at dksX0_isTold_2 0 rfl rfl)
theorem dX0_isTold_49 : decode cX0_isTold 49 = .ok (.iconst 0, 1) := dk_3 (dk_at dksX0_isTold_2 1 rfl rfl)
theorem dX0_isTold_50 : decode cX0_isTold 50 = .ok (.invokevirtual 145, 3) := dk_182 0 145 (dk_at dksX0_isTold_2 2 rfl rfl)
theorem dX0_isTold_53 : decode cX0_isTold 53 = .ok (.imul, 1) := dk_104 (dk_at dksX0_isTold_2 5 rfl rfl)
theorem dX0_isTold_54 : decode cX0_isTold 54 = .ok (.aload_n 1, 1) := dk_43 (dk_at dksX0_isTold_2 6 rfl rfl)
theorem dX0_isTold_55 : decode cX0_isTold 55 = .ok (.iconst 1, 1) := dk_4 (dk_at dksX0_isTold_2 7 rfl rfl)
theorem dX0_isTold_56 : decode cX0_isTold 56 = .ok (.invokevirtual 145, 3) := dk_182 0 145 (dk_at dksX0_isTold_2 8 rfl rfl)
theorem dX0_isTold_59 : decode cX0_isTold 59 = .ok (.iadd, 1) := dk_96 (dk_at dksX0_isTold_2 11 rfl rfl)
theorem dX0_isTold_60 : decode cX0_isTold 60 = .ok (.sipush 9999, 3) := dk_17 39 15 (dk_at dksX0_isTold_2 12 rfl rfl)
theorem dX0_isTold_63 : decode cX0_isTold 63 = .ok (.if_icmp .gt 12, 3) := dk_163 0 12 (dk_at dksX0_isTold_2 15 rfl rfl)
theorem dX0_isTold_66 : decode cX0_isTold 66 = .ok (.aload_n 1, 1) := dk_43 (dk_at dksX0_isTold_2 18 rfl rfl)
theorem dX0_isTold_67 : decode cX0_isTold 67 = .ok (.iconst 2, 1) := dk_5 (dk_at dksX0_isTold_2 19 rfl rfl)
theorem dX0_isTold_68 : decode cX0_isTold 68 = .ok (.invokevirtual 145, 3) := dk_182 0 145 (dk_at dksX0_isTold_2 20 rfl rfl)
theorem dX0_isTold_71 : decode cX0_isTold 71 = .ok (.iload_n 2, 1) := dk_28 (dk_at dksX0_isTold_2 23 rfl rfl)
theorem dX0_isTold_72 : decode cX0_isTold 72 = .ok (.if_icmp .eq 5, 3) := dk_159 0 5 (dk_at dksX0_isTold_3 0 rfl rfl)
theorem dX0_isTold_75 : decode cX0_isTold 75 = .ok (.iconst 0, 1) := dk_3 (dk_at dksX0_isTold_3 3 rfl rfl)
theorem dX0_isTold_76 : decode cX0_isTold 76 = .ok (.ireturn, 1) := dk_172 (dk_at dksX0_isTold_3 4 rfl rfl)
theorem dX0_isTold_77 : decode cX0_isTold 77 = .ok (.iconst 0, 1) := dk_3 (dk_at dksX0_isTold_3 5 rfl rfl)
theorem dX0_isTold_78 : decode cX0_isTold 78 = .ok (.istore 6, 2) := dk_54 6 (dk_at dksX0_isTold_3 6 rfl rfl)
theorem dX0_isTold_80 : decode cX0_isTold 80 = .ok (.iload 6, 2) := dk_21 6 (dk_at dksX0_isTold_3 8 rfl rfl)
theorem dX0_isTold_82 : decode cX0_isTold 82 = .ok (.iload_n 2, 1) := dk_28 (dk_at dksX0_isTold_3 10 rfl rfl)
theorem dX0_isTold_83 : decode cX0_isTold 83 = .ok (.if_icmp .ge 36, 3) := dk_162 0 36 (dk_at dksX0_isTold_3 11 rfl rfl)
theorem dX0_isTold_86 : decode cX0_isTold 86 = .ok (.aload_n 1, 1) := dk_43 (dk_at dksX0_isTold_3 14 rfl rfl)
theorem dX0_isTold_87 : decode cX0_isTold 87 = .ok (.iconst 3, 1) := dk_6 (dk_at dksX0_isTold_3 15 rfl rfl)
theorem dX0_isTold_88 : decode cX0_isTold 88 = .ok (.iload 6, 2) := dk_21 6 (dk_at dksX0_isTold_3 16 rfl rfl)
theorem dX0_isTold_90 : decode cX0_isTold 90 = .ok (.iadd, 1) := dk_96 (dk_at dksX0_isTold_3 18 rfl rfl)
theorem dX0_isTold_91 : decode cX0_isTold 91 = .ok (.invokevirtual 145, 3) := dk_182 0 145 (dk_at dksX0_isTold_3 19 rfl rfl)
theorem dX0_isTold_94 : decode cX0_isTold 94 = .ok (.iload_n 2, 1) := dk_28 (dk_at dksX0_isTold_3 22 rfl rfl)
theorem dX0_isTold_95 : decode cX0_isTold 95 = .ok (.if_icmp .ge 18, 3) := dk_162 0 18 (dk_at dksX0_isTold_4 0 rfl rfl)
theorem dX0_isTold_98 : decode cX0_isTold 98 = .ok (.iload 5, 2) := dk_21 5 (dk_at dksX0_isTold_4 3 rfl rfl)
theorem dX0_isTold_100 : decode cX0_isTold 100 = .ok (.iconst 1, 1) := dk_4 (dk_at dksX0_isTold_4 5 rfl rfl)
theorem dX0_isTold_101 : decode cX0_isTold 101 = .ok (.aload_n 1, 1) := dk_43 (dk_at dksX0_isTold_4 6 rfl rfl)
theorem dX0_isTold_102 : decode cX0_isTold 102 = .ok (.iconst 3, 1) := dk_6 (dk_at dksX0_isTold_4 7 rfl rfl)
theorem dX0_isTold_103 : decode cX0_isTold 103 = .ok (.iload 6, 2) := dk_21 6 (dk_at dksX0_isTold_4 8 rfl rfl)
theorem dX0_isTold_105 : decode cX0_isTold 105 = .ok (.iadd, 1) := dk_96 (dk_at dksX0_isTold_4 10 rfl rfl)
theorem dX0_isTold_106 : decode cX0_isTold 106 = .ok (.invokevirtual 145, 3) := dk_182 0 145 (dk_at dksX0_isTold_4 11 rfl rfl)
theorem dX0_isTold_109 : decode cX0_isTold 109 = .ok (.ishl, 1) := dk_120 (dk_at dksX0_isTold_4 14 rfl rfl)
theorem dX0_isTold_110 : decode cX0_isTold 110 = .ok (.ior, 1) := dk_128 (dk_at dksX0_isTold_4 15 rfl rfl)
theorem dX0_isTold_111 : decode cX0_isTold 111 = .ok (.istore 5, 2) := dk_54 5 (dk_at dksX0_isTold_4 16 rfl rfl)
theorem dX0_isTold_113 : decode cX0_isTold 113 = .ok (.iinc 6 1, 3) := dk_132 6 1 (dk_at dksX0_isTold_4 18 rfl rfl)
theorem dX0_isTold_116 : decode cX0_isTold 116 = .ok (.goto (-36), 3) := dk_167 255 220 (dk_at dksX0_isTold_4 21 rfl rfl)
theorem dX0_isTold_119 : decode cX0_isTold 119 = .ok (.iload 5, 2) := dk_21 5 (dk_at dksX0_isTold_5 0 rfl rfl)
theorem dX0_isTold_121 : decode cX0_isTold 121 = .ok (.iconst 1, 1) := dk_4 (dk_at dksX0_isTold_5 2 rfl rfl)
theorem dX0_isTold_122 : decode cX0_isTold 122 = .ok (.iload_n 2, 1) := dk_28 (dk_at dksX0_isTold_5 3 rfl rfl)
theorem dX0_isTold_123 : decode cX0_isTold 123 = .ok (.ishl, 1) := dk_120 (dk_at dksX0_isTold_5 4 rfl rfl)
theorem dX0_isTold_124 : decode cX0_isTold 124 = .ok (.iconst 1, 1) := dk_4 (dk_at dksX0_isTold_5 5 rfl rfl)
theorem dX0_isTold_125 : decode cX0_isTold 125 = .ok (.isub, 1) := dk_100 (dk_at dksX0_isTold_5 6 rfl rfl)
theorem dX0_isTold_126 : decode cX0_isTold 126 = .ok (.if_icmp .eq 5, 3) := dk_159 0 5 (dk_at dksX0_isTold_5 7 rfl rfl)
theorem dX0_isTold_129 : decode cX0_isTold 129 = .ok (.iconst 0, 1) := dk_3 (dk_at dksX0_isTold_5 10 rfl rfl)
theorem dX0_isTold_130 : decode cX0_isTold 130 = .ok (.ireturn, 1) := dk_172 (dk_at dksX0_isTold_5 11 rfl rfl)
theorem dX0_isTold_131 : decode cX0_isTold 131 = .ok (.iconst 0, 1) := dk_3 (dk_at dksX0_isTold_5 12 rfl rfl)
theorem dX0_isTold_132 : decode cX0_isTold 132 = .ok (.istore 6, 2) := dk_54 6 (dk_at dksX0_isTold_5 13 rfl rfl)
theorem dX0_isTold_134 : decode cX0_isTold 134 = .ok (.iload 6, 2) := dk_21 6 (dk_at dksX0_isTold_5 15 rfl rfl)
theorem dX0_isTold_136 : decode cX0_isTold 136 = .ok (.iload_n 2, 1) := dk_28 (dk_at dksX0_isTold_5 17 rfl rfl)
theorem dX0_isTold_137 : decode cX0_isTold 137 = .ok (.if_icmp .ge 25, 3) := dk_162 0 25 (dk_at dksX0_isTold_5 18 rfl rfl)
theorem dX0_isTold_140 : decode cX0_isTold 140 = .ok (.iload 4, 2) := dk_21 4 (dk_at dksX0_isTold_5 21 rfl rfl)
theorem dX0_isTold_142 : decode cX0_isTold 142 = .ok (.iconst (-1), 1) := dk_2 (dk_at dksX0_isTold_5 23 rfl rfl)
theorem dX0_isTold_143 : decode cX0_isTold 143 = .ok (.if_icmp .eq 19, 3) := dk_159 0 19 (dk_at dksX0_isTold_6 0 rfl rfl)
theorem dX0_isTold_146 : decode cX0_isTold 146 = .ok (.aload_n 0, 1) := dk_42 (dk_at dksX0_isTold_6 3 rfl rfl)
theorem dX0_isTold_147 : decode cX0_isTold 147 = .ok (.aload_n 1, 1) := dk_43 (dk_at dksX0_isTold_6 4 rfl rfl)
theorem dX0_isTold_148 : decode cX0_isTold 148 = .ok (.iload 4, 2) := dk_21 4 (dk_at dksX0_isTold_6 5 rfl rfl)
theorem dX0_isTold_150 : decode cX0_isTold 150 = .ok (.iload_n 3, 1) := dk_29 (dk_at dksX0_isTold_6 7 rfl rfl)
theorem dX0_isTold_151 : decode cX0_isTold 151 = .ok (.invokevirtual 536, 3) := dk_182 2 24 (dk_at dksX0_isTold_6 8 rfl rfl)
theorem dX0_isTold_154 : decode cX0_isTold 154 = .ok (.istore 4, 2) := dk_54 4 (dk_at dksX0_isTold_6 11 rfl rfl)
theorem dX0_isTold_156 : decode cX0_isTold 156 = .ok (.iinc 6 1, 3) := dk_132 6 1 (dk_at dksX0_isTold_6 13 rfl rfl)
theorem dX0_isTold_159 : decode cX0_isTold 159 = .ok (.goto (-25), 3) := dk_167 255 231 (dk_at dksX0_isTold_6 16 rfl rfl)
theorem dX0_isTold_162 : decode cX0_isTold 162 = .ok (.iload 4, 2) := dk_21 4 (dk_at dksX0_isTold_6 19 rfl rfl)
theorem dX0_isTold_164 : decode cX0_isTold 164 = .ok (.iload_n 3, 1) := dk_29 (dk_at dksX0_isTold_6 21 rfl rfl)
theorem dX0_isTold_165 : decode cX0_isTold 165 = .ok (.if_icmp .ne 7, 3) := dk_160 0 7 (dk_at dksX0_isTold_7 0 rfl rfl)
theorem dX0_isTold_168 : decode cX0_isTold 168 = .ok (.iconst 1, 1) := dk_4 (dk_at dksX0_isTold_7 3 rfl rfl)
theorem dX0_isTold_169 : decode cX0_isTold 169 = .ok (.goto 4, 3) := dk_167 0 4 (dk_at dksX0_isTold_7 4 rfl rfl)
theorem dX0_isTold_172 : decode cX0_isTold 172 = .ok (.iconst 0, 1) := dk_3 (dk_at dksX0_isTold_7 7 rfl rfl)
theorem dX0_isTold_173 : decode cX0_isTold 173 = .ok (.ireturn, 1) := dk_172 (dk_at dksX0_isTold_7 8 rfl rfl)
def dkwX0_behind_5 : List UInt8 := [167, 255, 225, 21, 6, 172]
abbrev dktX0_behind_5 : List UInt8 := dkwX0_behind_5 ++ []
def dkwX0_behind_4 : List UInt8 := [21, 7, 182, 0, 145, 42, 180, 0, 20, 180, 0, 197, 182, 0, 128, 161, 0, 5, 2, 172, 132, 7, 1]
abbrev dktX0_behind_4 : List UInt8 := dkwX0_behind_4 ++ dktX0_behind_5
def dkwX0_behind_3 : List UInt8 := [157, 0, 9, 21, 6, 29, 164, 0, 5, 2, 172, 28, 6, 96, 54, 7, 21, 7, 21, 6, 162, 0, 30, 43]
abbrev dktX0_behind_3 : List UInt8 := dkwX0_behind_3 ++ dktX0_behind_4
def dkwX0_behind_2 : List UInt8 := [163, 0, 32, 21, 4, 16, 8, 163, 0, 25, 21, 5, 7, 163, 0, 19, 21, 4, 154, 0, 8, 21, 5]
abbrev dktX0_behind_2 : List UInt8 := dkwX0_behind_2 ++ dktX0_behind_3
def dkwX0_behind_1 : List UInt8 := [182, 0, 145, 54, 5, 28, 6, 96, 21, 4, 96, 21, 5, 96, 54, 6, 43, 28, 182, 0, 145, 4]
abbrev dktX0_behind_1 : List UInt8 := dkwX0_behind_1 ++ dktX0_behind_2
def dkwX0_behind_0 : List UInt8 := [28, 6, 96, 29, 164, 0, 5, 2, 172, 43, 28, 4, 96, 182, 0, 145, 54, 4, 43, 28, 5, 96]
abbrev dktX0_behind_0 : List UInt8 := dkwX0_behind_0 ++ dktX0_behind_1
theorem dksX0_behind_0 : cX0_behind.data.toList.drop 0 = dktX0_behind_0 := by decide +kernel
theorem dksX0_behind_1 : cX0_behind.data.toList.drop 22 = dktX0_behind_1 := dk_seg dksX0_behind_0 22 rfl rfl
theorem dksX0_behind_2 : cX0_behind.data.toList.drop 44 = dktX0_behind_2 := dk_seg dksX0_behind_1 22 rfl rfl
theorem dksX0_behind_3 : cX0_behind.data.toList.drop 67 = dktX0_behind_3 := dk_seg dksX0_behind_2 23 rfl rfl
theorem dksX0_behind_4 : cX0_behind.data.toList.drop 91 = dktX0_behind_4 := dk_seg dksX0_behind_3 24 rfl rfl
theorem dksX0_behind_5 : cX0_behind.data.toList.drop 114 = dktX0_behind_5 := dk_seg dksX0_behind_4 23 rfl rfl
theorem dX0_behind_0 : decode cX0_behind 0 = .ok (.iload_n 2, 1) := dk_28 (dk_at dksX0_behind_0 0 rfl rfl)
theorem dX0_behind_1 : decode cX0_behind 1 = .ok (.iconst 3, 1) := dk_6 (dk_at dksX0_behind_0 1 rfl rfl)
theorem dX0_behind_2 : decode cX0_behind 2 = .ok (.iadd, 1) := dk_96 (dk_at dksX0_behind_0 2 rfl rfl)
theorem dX0_behind_3 : decode cX0_behind 3 = .ok (.iload_n 3, 1) := dk_29 (dk_at dksX0_behind_0 3 rfl rfl)
theorem dX0_behind_4 : decode cX0_behind 4 = .ok (.if_icmp .le 5, 3) := dk_164 0 5 (dk_at dksX0_behind_0 4 rfl rfl)
theorem dX0_behind_7 : decode cX0_behind 7 = .ok (.iconst (-1), 1) := dk_2 (dk_at dksX0_behind_0 7 rfl rfl)
theorem dX0_behind_8 : decode cX0_behind 8 = .ok (.ireturn, 1) := dk_172 (dk_at dksX0_behind_0 8 rfl rfl)
theorem dX0_behind_9 : decode cX0_behind 9 = .ok (.aload_n 1, 1) := dk_43 (dk_at dksX0_behind_0 9 rfl rfl)
theorem dX0_behind_10 : decode cX0_behind 10 = .ok (.iload_n 2, 1) := dk_28 (dk_at dksX0_behind_0 10 rfl rfl)
theorem dX0_behind_11 : decode cX0_behind 11 = .ok (.iconst 1, 1) := dk_4 (dk_at dksX0_behind_0 11 rfl rfl)
theorem dX0_behind_12 : decode cX0_behind 12 = .ok (.iadd, 1) := dk_96 (dk_at dksX0_behind_0 12 rfl rfl)
theorem dX0_behind_13 : decode cX0_behind 13 = .ok (.invokevirtual 145, 3) := dk_182 0 145 (dk_at dksX0_behind_0 13 rfl rfl)
theorem dX0_behind_16 : decode cX0_behind 16 = .ok (.istore 4, 2) := dk_54 4 (dk_at dksX0_behind_0 16 rfl rfl)
theorem dX0_behind_18 : decode cX0_behind 18 = .ok (.aload_n 1, 1) := dk_43 (dk_at dksX0_behind_0 18 rfl rfl)
theorem dX0_behind_19 : decode cX0_behind 19 = .ok (.iload_n 2, 1) := dk_28 (dk_at dksX0_behind_0 19 rfl rfl)
theorem dX0_behind_20 : decode cX0_behind 20 = .ok (.iconst 2, 1) := dk_5 (dk_at dksX0_behind_0 20 rfl rfl)
theorem dX0_behind_21 : decode cX0_behind 21 = .ok (.iadd, 1) := dk_96 (dk_at dksX0_behind_0 21 rfl rfl)
theorem dX0_behind_22 : decode cX0_behind 22 = .ok (.invokevirtual 145, 3) := dk_182 0 145 (dk_at dksX0_behind_1 0 rfl rfl)
theorem dX0_behind_25 : decode cX0_behind 25 = .ok (.istore 5, 2) := dk_54 5 (dk_at dksX0_behind_1 3 rfl rfl)
theorem dX0_behind_27 : decode cX0_behind 27 = .ok (.iload_n 2, 1) := dk_28 (dk_at dksX0_behind_1 5 rfl rfl)
theorem dX0_behind_28 : decode cX0_behind 28 = .ok (.iconst 3, 1) := dk_6 (dk_at dksX0_behind_1 6 rfl rfl)
theorem dX0_behind_29 : decode cX0_behind 29 = .ok (.iadd, 1) := dk_96 (dk_at dksX0_behind_1 7 rfl rfl)
theorem dX0_behind_30 : decode cX0_behind 30 = .ok (.iload 4, 2) := dk_21 4 (dk_at dksX0_behind_1 8 rfl rfl)
theorem dX0_behind_32 : decode cX0_behind 32 = .ok (.iadd, 1) := dk_96 (dk_at dksX0_behind_1 10 rfl rfl)
theorem dX0_behind_33 : decode cX0_behind 33 = .ok (.iload 5, 2) := dk_21 5 (dk_at dksX0_behind_1 11 rfl rfl)
theorem dX0_behind_35 : decode cX0_behind 35 = .ok (.iadd, 1) := dk_96 (dk_at dksX0_behind_1 13 rfl rfl)
theorem dX0_behind_36 : decode cX0_behind 36 = .ok (.istore 6, 2) := dk_54 6 (dk_at dksX0_behind_1 14 rfl rfl)
theorem dX0_behind_38 : decode cX0_behind 38 = .ok (.aload_n 1, 1) := dk_43 (dk_at dksX0_behind_1 16 rfl rfl)
theorem dX0_behind_39 : decode cX0_behind 39 = .ok (.iload_n 2, 1) := dk_28 (dk_at dksX0_behind_1 17 rfl rfl)
theorem dX0_behind_40 : decode cX0_behind 40 = .ok (.invokevirtual 145, 3) := dk_182 0 145 (dk_at dksX0_behind_1 18 rfl rfl)
theorem dX0_behind_43 : decode cX0_behind 43 = .ok (.iconst 1, 1) := dk_4 (dk_at dksX0_behind_1 21 rfl rfl)
theorem dX0_behind_44 : decode cX0_behind 44 = .ok (.if_icmp .gt 32, 3) := dk_163 0 32 (dk_at dksX0_behind_2 0 rfl rfl)
theorem dX0_behind_47 : decode cX0_behind 47 = .ok (.iload 4, 2) := dk_21 4 (dk_at dksX0_behind_2 3 rfl rfl)
theorem dX0_behind_49 : decode cX0_behind 49 = .ok (.bipush 8, 2) := dk_16 8 (dk_at dksX0_behind_2 5 rfl rfl)
theorem dX0_behind_51 : decode cX0_behind 51 = .ok (.if_icmp .gt 25, 3) := dk_163 0 25 (dk_at dksX0_behind_2 7 rfl rfl)
theorem dX0_behind_54 : decode cX0_behind 54 = .ok (.iload 5, 2) := dk_21 5 (dk_at dksX0_behind_2 10 rfl rfl)
theorem dX0_behind_56 : decode cX0_behind 56 = .ok (.iconst 4, 1) := dk_7 (dk_at dksX0_behind_2 12 rfl rfl)
theorem dX0_behind_57 : decode cX0_behind 57 = .ok (.if_icmp .gt 19, 3) := dk_163 0 19 (dk_at dksX0_behind_2 13 rfl rfl)
theorem dX0_behind_60 : decode cX0_behind 60 = .ok (.iload 4, 2) := dk_21 4 (dk_at dksX0_behind_2 16 rfl rfl)
theorem dX0_behind_62 : decode cX0_behind 62 = .ok (.ifCond .ne 8, 3) := dk_154 0 8 (dk_at dksX0_behind_2 18 rfl rfl)
theorem dX0_behind_65 : decode cX0_behind 65 = .ok (.iload 5, 2) := dk_21 5 (dk_at dksX0_behind_2 21 rfl rfl)
theorem dX0_behind_67 : decode cX0_behind 67 = .ok (.ifCond .gt 9, 3) := dk_157 0 9 (dk_at dksX0_behind_3 0 rfl rfl)
theorem dX0_behind_70 : decode cX0_behind 70 = .ok (.iload 6, 2) := dk_21 6 (dk_at dksX0_behind_3 3 rfl rfl)
theorem dX0_behind_72 : decode cX0_behind 72 = .ok (.iload_n 3, 1) := dk_29 (dk_at dksX0_behind_3 5 rfl rfl)
theorem dX0_behind_73 : decode cX0_behind 73 = .ok (.if_icmp .le 5, 3) := dk_164 0 5 (dk_at dksX0_behind_3 6 rfl rfl)
theorem dX0_behind_76 : decode cX0_behind 76 = .ok (.iconst (-1), 1) := dk_2 (dk_at dksX0_behind_3 9 rfl rfl)
theorem dX0_behind_77 : decode cX0_behind 77 = .ok (.ireturn, 1) := dk_172 (dk_at dksX0_behind_3 10 rfl rfl)
theorem dX0_behind_78 : decode cX0_behind 78 = .ok (.iload_n 2, 1) := dk_28 (dk_at dksX0_behind_3 11 rfl rfl)
theorem dX0_behind_79 : decode cX0_behind 79 = .ok (.iconst 3, 1) := dk_6 (dk_at dksX0_behind_3 12 rfl rfl)
theorem dX0_behind_80 : decode cX0_behind 80 = .ok (.iadd, 1) := dk_96 (dk_at dksX0_behind_3 13 rfl rfl)
theorem dX0_behind_81 : decode cX0_behind 81 = .ok (.istore 7, 2) := dk_54 7 (dk_at dksX0_behind_3 14 rfl rfl)
theorem dX0_behind_83 : decode cX0_behind 83 = .ok (.iload 7, 2) := dk_21 7 (dk_at dksX0_behind_3 16 rfl rfl)
theorem dX0_behind_85 : decode cX0_behind 85 = .ok (.iload 6, 2) := dk_21 6 (dk_at dksX0_behind_3 18 rfl rfl)
theorem dX0_behind_87 : decode cX0_behind 87 = .ok (.if_icmp .ge 30, 3) := dk_162 0 30 (dk_at dksX0_behind_3 20 rfl rfl)
theorem dX0_behind_90 : decode cX0_behind 90 = .ok (.aload_n 1, 1) := dk_43 (dk_at dksX0_behind_3 23 rfl rfl)
theorem dX0_behind_91 : decode cX0_behind 91 = .ok (.iload 7, 2) := dk_21 7 (dk_at dksX0_behind_4 0 rfl rfl)
theorem dX0_behind_93 : decode cX0_behind 93 = .ok (.invokevirtual 145, 3) := dk_182 0 145 (dk_at dksX0_behind_4 2 rfl rfl)
theorem dX0_behind_96 : decode cX0_behind 96 = .ok (.aload_n 0, 1) := dk_42 (dk_at dksX0_behind_4 5 rfl rfl)
theorem dX0_behind_97 : decode cX0_behind 97 = .ok (.getfield 20, 3) := dk_180 0 20 (dk_at dksX0_behind_4 6 rfl rfl)
theorem dX0_behind_100 : decode cX0_behind 100 = .ok (.getfield 197, 3) := dk_180 0 197 (dk_at dksX0_behind_4 9 rfl rfl)
theorem dX0_behind_103 : decode cX0_behind 103 = .ok (.invokevirtual 128, 3) := dk_182 0 128 (dk_at dksX0_behind_4 12 rfl rfl)
theorem dX0_behind_106 : decode cX0_behind 106 = .ok (.if_icmp .lt 5, 3) := dk_161 0 5 (dk_at dksX0_behind_4 15 rfl rfl)
theorem dX0_behind_109 : decode cX0_behind 109 = .ok (.iconst (-1), 1) := dk_2 (dk_at dksX0_behind_4 18 rfl rfl)
theorem dX0_behind_110 : decode cX0_behind 110 = .ok (.ireturn, 1) := dk_172 (dk_at dksX0_behind_4 19 rfl rfl)
theorem dX0_behind_111 : decode cX0_behind 111 = .ok (.iinc 7 1, 3) := dk_132 7 1 (dk_at dksX0_behind_4 20 rfl rfl)
theorem dX0_behind_114 : decode cX0_behind 114 = .ok (.goto (-31), 3) := dk_167 255 225 (dk_at dksX0_behind_5 0 rfl rfl)
theorem dX0_behind_117 : decode cX0_behind 117 = .ok (.iload 6, 2) := dk_21 6 (dk_at dksX0_behind_5 3 rfl rfl)
theorem dX0_behind_119 : decode cX0_behind 119 = .ok (.ireturn, 1) := dk_172 (dk_at dksX0_behind_5 5 rfl rfl)
