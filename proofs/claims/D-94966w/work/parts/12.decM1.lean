set_option maxRecDepth 100000
def dkwX9_init_24 : List UInt8 := [180, 0, 121, 3, 5, 79, 177]
abbrev dktX9_init_24 : List UInt8 := dkwX9_init_24 ++ []
def dkwX9_init_23 : List UInt8 := [17, 0, 210, 188, 10, 181, 0, 248, 42, 3, 181, 0, 251, 42, 180, 0, 118, 3, 16, 12, 79, 42]
abbrev dktX9_init_23 : List UInt8 := dkwX9_init_23 ++ dktX9_init_24
def dkwX9_init_22 : List UInt8 := [181, 0, 233, 42, 3, 181, 0, 236, 42, 3, 181, 0, 239, 42, 3, 181, 0, 242, 42, 3, 181, 0, 245, 42]
abbrev dktX9_init_22 : List UInt8 := dkwX9_init_22 ++ dktX9_init_23
def dkwX9_init_21 : List UInt8 := [181, 0, 224, 42, 16, 10, 188, 10, 181, 0, 227, 42, 16, 12, 188, 10, 181, 0, 230, 42, 16, 12, 188, 10]
abbrev dktX9_init_21 : List UInt8 := dkwX9_init_21 ++ dktX9_init_22
def dkwX9_init_20 : List UInt8 := [17, 0, 144, 188, 10, 181, 0, 218, 42, 17, 114, 216, 188, 10, 181, 0, 221, 42, 16, 10, 188, 10]
abbrev dktX9_init_20 : List UInt8 := dkwX9_init_20 ++ dktX9_init_21
def dkwX9_init_19 : List UInt8 := [188, 10, 181, 0, 209, 42, 16, 12, 188, 10, 181, 0, 212, 42, 16, 12, 188, 10, 181, 0, 215, 42]
abbrev dktX9_init_19 : List UInt8 := dkwX9_init_19 ++ dktX9_init_20
def dkwX9_init_18 : List UInt8 := [181, 0, 197, 42, 2, 181, 0, 200, 42, 16, 12, 188, 10, 181, 0, 203, 42, 3, 181, 0, 206, 42, 16, 12]
abbrev dktX9_init_18 : List UInt8 := dkwX9_init_18 ++ dktX9_init_19
def dkwX9_init_17 : List UInt8 := [181, 0, 184, 42, 16, 12, 188, 10, 181, 0, 188, 42, 3, 181, 0, 191, 42, 3, 181, 0, 194, 42, 3]
abbrev dktX9_init_17 : List UInt8 := dkwX9_init_17 ++ dktX9_init_18
def dkwX9_init_16 : List UInt8 := [181, 0, 172, 42, 16, 12, 188, 10, 181, 0, 175, 42, 3, 181, 0, 178, 42, 3, 181, 0, 181, 42, 3]
abbrev dktX9_init_16 : List UInt8 := dkwX9_init_16 ++ dktX9_init_17
def dkwX9_init_15 : List UInt8 := [181, 0, 160, 42, 17, 34, 96, 188, 10, 181, 0, 163, 42, 3, 181, 0, 166, 42, 3, 181, 0, 169, 42, 10]
abbrev dktX9_init_15 : List UInt8 := dkwX9_init_15 ++ dktX9_init_16
def dkwX9_init_14 : List UInt8 := [17, 1, 8, 188, 10, 181, 0, 154, 42, 17, 12, 96, 188, 10, 181, 0, 157, 42, 16, 22, 188, 10]
abbrev dktX9_init_14 : List UInt8 := dkwX9_init_14 ++ dktX9_init_15
def dkwX9_init_13 : List UInt8 := [188, 10, 181, 0, 145, 42, 17, 1, 8, 188, 10, 181, 0, 148, 42, 17, 1, 8, 188, 10, 181, 0, 151, 42]
abbrev dktX9_init_13 : List UInt8 := dkwX9_init_13 ++ dktX9_init_14
def dkwX9_init_12 : List UInt8 := [3, 181, 0, 136, 42, 16, 6, 188, 10, 181, 0, 139, 42, 16, 22, 188, 10, 181, 0, 142, 42, 17, 1, 8]
abbrev dktX9_init_12 : List UInt8 := dkwX9_init_12 ++ dktX9_init_13
def dkwX9_init_11 : List UInt8 := [188, 10, 181, 0, 124, 42, 4, 181, 0, 127, 42, 16, 12, 188, 10, 181, 0, 130, 42, 3, 181, 0, 133, 42]
abbrev dktX9_init_11 : List UInt8 := dkwX9_init_11 ++ dktX9_init_12
def dkwX9_init_10 : List UInt8 := [17, 1, 32, 188, 10, 181, 0, 115, 42, 5, 188, 10, 181, 0, 118, 42, 5, 188, 10, 181, 0, 121, 42, 5]
abbrev dktX9_init_10 : List UInt8 := dkwX9_init_10 ++ dktX9_init_11
def dkwX9_init_9 : List UInt8 := [16, 24, 188, 10, 181, 0, 106, 42, 16, 24, 188, 10, 181, 0, 109, 42, 16, 24, 188, 10, 181, 0, 112, 42]
abbrev dktX9_init_9 : List UInt8 := dkwX9_init_9 ++ dktX9_init_10
def dkwX9_init_8 : List UInt8 := [17, 1, 224, 188, 10, 181, 0, 97, 42, 5, 188, 10, 181, 0, 100, 42, 16, 24, 188, 11, 181, 0, 103, 42]
abbrev dktX9_init_8 : List UInt8 := dkwX9_init_8 ++ dktX9_init_9
def dkwX9_init_7 : List UInt8 := [16, 20, 188, 11, 181, 0, 88, 42, 16, 20, 188, 10, 181, 0, 91, 42, 16, 20, 188, 10, 181, 0, 94, 42]
abbrev dktX9_init_7 : List UInt8 := dkwX9_init_7 ++ dktX9_init_8
def dkwX9_init_6 : List UInt8 := [16, 12, 188, 11, 181, 0, 79, 42, 17, 1, 32, 188, 10, 181, 0, 82, 42, 5, 188, 10, 181, 0, 85, 42]
abbrev dktX9_init_6 : List UInt8 := dkwX9_init_6 ++ dktX9_init_7
def dkwX9_init_5 : List UInt8 := [16, 48, 188, 10, 181, 0, 70, 42, 16, 48, 188, 10, 181, 0, 73, 42, 5, 188, 10, 181, 0, 76, 42]
abbrev dktX9_init_5 : List UInt8 := dkwX9_init_5 ++ dktX9_init_6
def dkwX9_init_4 : List UInt8 := [16, 48, 188, 10, 181, 0, 61, 42, 16, 48, 188, 10, 181, 0, 64, 42, 16, 48, 188, 10, 181, 0, 67, 42]
abbrev dktX9_init_4 : List UInt8 := dkwX9_init_4 ++ dktX9_init_5
def dkwX9_init_3 : List UInt8 := [181, 0, 48, 42, 3, 181, 0, 51, 42, 5, 188, 10, 181, 0, 54, 42, 16, 48, 188, 11, 181, 0, 57, 42]
abbrev dktX9_init_3 : List UInt8 := dkwX9_init_3 ++ dktX9_init_4
def dkwX9_init_2 : List UInt8 := [42, 3, 181, 0, 36, 42, 2, 181, 0, 39, 42, 3, 181, 0, 42, 42, 2, 181, 0, 45, 42, 2]
abbrev dktX9_init_2 : List UInt8 := dkwX9_init_2 ++ dktX9_init_3
def dkwX9_init_1 : List UInt8 := [3, 181, 0, 20, 42, 3, 181, 0, 23, 42, 3, 181, 0, 26, 42, 3, 181, 0, 29, 42, 9, 181, 0, 32]
abbrev dktX9_init_1 : List UInt8 := dkwX9_init_1 ++ dktX9_init_2
def dkwX9_init_0 : List UInt8 := [42, 183, 0, 1, 42, 17, 7, 8, 188, 10, 181, 0, 7, 42, 3, 181, 0, 13, 42, 3, 181, 0, 17, 42]
abbrev dktX9_init_0 : List UInt8 := dkwX9_init_0 ++ dktX9_init_1
theorem dksX9_init_0 : cX9_init.data.toList.drop 0 = dktX9_init_0 := by decide +kernel
theorem dksX9_init_1 : cX9_init.data.toList.drop 24 = dktX9_init_1 := dk_seg dksX9_init_0 24 rfl rfl
theorem dksX9_init_2 : cX9_init.data.toList.drop 48 = dktX9_init_2 := dk_seg dksX9_init_1 24 rfl rfl
theorem dksX9_init_3 : cX9_init.data.toList.drop 70 = dktX9_init_3 := dk_seg dksX9_init_2 22 rfl rfl
theorem dksX9_init_4 : cX9_init.data.toList.drop 94 = dktX9_init_4 := dk_seg dksX9_init_3 24 rfl rfl
theorem dksX9_init_5 : cX9_init.data.toList.drop 118 = dktX9_init_5 := dk_seg dksX9_init_4 24 rfl rfl
theorem dksX9_init_6 : cX9_init.data.toList.drop 141 = dktX9_init_6 := dk_seg dksX9_init_5 23 rfl rfl
theorem dksX9_init_7 : cX9_init.data.toList.drop 165 = dktX9_init_7 := dk_seg dksX9_init_6 24 rfl rfl
theorem dksX9_init_8 : cX9_init.data.toList.drop 189 = dktX9_init_8 := dk_seg dksX9_init_7 24 rfl rfl
theorem dksX9_init_9 : cX9_init.data.toList.drop 213 = dktX9_init_9 := dk_seg dksX9_init_8 24 rfl rfl
theorem dksX9_init_10 : cX9_init.data.toList.drop 237 = dktX9_init_10 := dk_seg dksX9_init_9 24 rfl rfl
theorem dksX9_init_11 : cX9_init.data.toList.drop 261 = dktX9_init_11 := dk_seg dksX9_init_10 24 rfl rfl
theorem dksX9_init_12 : cX9_init.data.toList.drop 285 = dktX9_init_12 := dk_seg dksX9_init_11 24 rfl rfl
theorem dksX9_init_13 : cX9_init.data.toList.drop 309 = dktX9_init_13 := dk_seg dksX9_init_12 24 rfl rfl
theorem dksX9_init_14 : cX9_init.data.toList.drop 333 = dktX9_init_14 := dk_seg dksX9_init_13 24 rfl rfl
theorem dksX9_init_15 : cX9_init.data.toList.drop 355 = dktX9_init_15 := dk_seg dksX9_init_14 22 rfl rfl
theorem dksX9_init_16 : cX9_init.data.toList.drop 379 = dktX9_init_16 := dk_seg dksX9_init_15 24 rfl rfl
theorem dksX9_init_17 : cX9_init.data.toList.drop 402 = dktX9_init_17 := dk_seg dksX9_init_16 23 rfl rfl
theorem dksX9_init_18 : cX9_init.data.toList.drop 425 = dktX9_init_18 := dk_seg dksX9_init_17 23 rfl rfl
theorem dksX9_init_19 : cX9_init.data.toList.drop 449 = dktX9_init_19 := dk_seg dksX9_init_18 24 rfl rfl
theorem dksX9_init_20 : cX9_init.data.toList.drop 471 = dktX9_init_20 := dk_seg dksX9_init_19 22 rfl rfl
theorem dksX9_init_21 : cX9_init.data.toList.drop 493 = dktX9_init_21 := dk_seg dksX9_init_20 22 rfl rfl
theorem dksX9_init_22 : cX9_init.data.toList.drop 517 = dktX9_init_22 := dk_seg dksX9_init_21 24 rfl rfl
theorem dksX9_init_23 : cX9_init.data.toList.drop 541 = dktX9_init_23 := dk_seg dksX9_init_22 24 rfl rfl
theorem dksX9_init_24 : cX9_init.data.toList.drop 563 = dktX9_init_24 := dk_seg dksX9_init_23 22 rfl rfl
theorem dX9_init_0 : decode cX9_init 0 = .ok (.aload_n 0, 1) := dk_42 (dk_at dksX9_init_0 0 rfl rfl)
theorem dX9_init_1 : decode cX9_init 1 = .ok (.invokespecial 1, 3) := dk_183 0 1 (dk_at dksX9_init_0 1 rfl rfl)
theorem dX9_init_4 : decode cX9_init 4 = .ok (.aload_n 0, 1) := dk_42 (dk_at dksX9_init_0 4 rfl rfl)
theorem dX9_init_5 : decode cX9_init 5 = .ok (.sipush 1800, 3) := dk_17 7 8 (dk_at dksX9_init_0 5 rfl rfl)
theorem dX9_init_8 : decode cX9_init 8 = .ok (.newarray .int, 2) := dk_188_10 (dk_at dksX9_init_0 8 rfl rfl)
theorem dX9_init_10 : decode cX9_init 10 = .ok (.putfield 7, 3) := dk_181 0 7 (dk_at dksX9_init_0 10 rfl rfl)
theorem dX9_init_13 : decode cX9_init 13 = .ok (.aload_n 0, 1) := dk_42 (dk_at dksX9_init_0 13 rfl rfl)
theorem dX9_init_14 : decode cX9_init 14 = .ok (.iconst 0, 1) := dk_3 (dk_at dksX9_init_0 14 rfl rfl)
theorem dX9_init_15 : decode cX9_init 15 = .ok (.putfield 13, 3) := dk_181 0 13 (dk_at dksX9_init_0 15 rfl rfl)
theorem dX9_init_18 : decode cX9_init 18 = .ok (.aload_n 0, 1) := dk_42 (dk_at dksX9_init_0 18 rfl rfl)
theorem dX9_init_19 : decode cX9_init 19 = .ok (.iconst 0, 1) := dk_3 (dk_at dksX9_init_0 19 rfl rfl)
theorem dX9_init_20 : decode cX9_init 20 = .ok (.putfield 17, 3) := dk_181 0 17 (dk_at dksX9_init_0 20 rfl rfl)
theorem dX9_init_23 : decode cX9_init 23 = .ok (.aload_n 0, 1) := dk_42 (dk_at dksX9_init_0 23 rfl rfl)
theorem dX9_init_24 : decode cX9_init 24 = .ok (.iconst 0, 1) := dk_3 (dk_at dksX9_init_1 0 rfl rfl)
theorem dX9_init_25 : decode cX9_init 25 = .ok (.putfield 20, 3) := dk_181 0 20 (dk_at dksX9_init_1 1 rfl rfl)
theorem dX9_init_28 : decode cX9_init 28 = .ok (.aload_n 0, 1) := dk_42 (dk_at dksX9_init_1 4 rfl rfl)
theorem dX9_init_29 : decode cX9_init 29 = .ok (.iconst 0, 1) := dk_3 (dk_at dksX9_init_1 5 rfl rfl)
theorem dX9_init_30 : decode cX9_init 30 = .ok (.putfield 23, 3) := dk_181 0 23 (dk_at dksX9_init_1 6 rfl rfl)
theorem dX9_init_33 : decode cX9_init 33 = .ok (.aload_n 0, 1) := dk_42 (dk_at dksX9_init_1 9 rfl rfl)
theorem dX9_init_34 : decode cX9_init 34 = .ok (.iconst 0, 1) := dk_3 (dk_at dksX9_init_1 10 rfl rfl)
theorem dX9_init_35 : decode cX9_init 35 = .ok (.putfield 26, 3) := dk_181 0 26 (dk_at dksX9_init_1 11 rfl rfl)
theorem dX9_init_38 : decode cX9_init 38 = .ok (.aload_n 0, 1) := dk_42 (dk_at dksX9_init_1 14 rfl rfl)
theorem dX9_init_39 : decode cX9_init 39 = .ok (.iconst 0, 1) := dk_3 (dk_at dksX9_init_1 15 rfl rfl)
theorem dX9_init_40 : decode cX9_init 40 = .ok (.putfield 29, 3) := dk_181 0 29 (dk_at dksX9_init_1 16 rfl rfl)
theorem dX9_init_43 : decode cX9_init 43 = .ok (.aload_n 0, 1) := dk_42 (dk_at dksX9_init_1 19 rfl rfl)
theorem dX9_init_44 : decode cX9_init 44 = .ok (.lconst 0, 1) := dk_9 (dk_at dksX9_init_1 20 rfl rfl)
theorem dX9_init_45 : decode cX9_init 45 = .ok (.putfield 32, 3) := dk_181 0 32 (dk_at dksX9_init_1 21 rfl rfl)
theorem dX9_init_48 : decode cX9_init 48 = .ok (.aload_n 0, 1) := dk_42 (dk_at dksX9_init_2 0 rfl rfl)
theorem dX9_init_49 : decode cX9_init 49 = .ok (.iconst 0, 1) := dk_3 (dk_at dksX9_init_2 1 rfl rfl)
theorem dX9_init_50 : decode cX9_init 50 = .ok (.putfield 36, 3) := dk_181 0 36 (dk_at dksX9_init_2 2 rfl rfl)
theorem dX9_init_53 : decode cX9_init 53 = .ok (.aload_n 0, 1) := dk_42 (dk_at dksX9_init_2 5 rfl rfl)
theorem dX9_init_54 : decode cX9_init 54 = .ok (.iconst (-1), 1) := dk_2 (dk_at dksX9_init_2 6 rfl rfl)
theorem dX9_init_55 : decode cX9_init 55 = .ok (.putfield 39, 3) := dk_181 0 39 (dk_at dksX9_init_2 7 rfl rfl)
theorem dX9_init_58 : decode cX9_init 58 = .ok (.aload_n 0, 1) := dk_42 (dk_at dksX9_init_2 10 rfl rfl)
theorem dX9_init_59 : decode cX9_init 59 = .ok (.iconst 0, 1) := dk_3 (dk_at dksX9_init_2 11 rfl rfl)
theorem dX9_init_60 : decode cX9_init 60 = .ok (.putfield 42, 3) := dk_181 0 42 (dk_at dksX9_init_2 12 rfl rfl)
theorem dX9_init_63 : decode cX9_init 63 = .ok (.aload_n 0, 1) := dk_42 (dk_at dksX9_init_2 15 rfl rfl)
theorem dX9_init_64 : decode cX9_init 64 = .ok (.iconst (-1), 1) := dk_2 (dk_at dksX9_init_2 16 rfl rfl)
theorem dX9_init_65 : decode cX9_init 65 = .ok (.putfield 45, 3) := dk_181 0 45 (dk_at dksX9_init_2 17 rfl rfl)
theorem dX9_init_68 : decode cX9_init 68 = .ok (.aload_n 0, 1) := dk_42 (dk_at dksX9_init_2 20 rfl rfl)
theorem dX9_init_69 : decode cX9_init 69 = .ok (.iconst (-1), 1) := dk_2 (dk_at dksX9_init_2 21 rfl rfl)
theorem dX9_init_70 : decode cX9_init 70 = .ok (.putfield 48, 3) := dk_181 0 48 (dk_at dksX9_init_3 0 rfl rfl)
theorem dX9_init_73 : decode cX9_init 73 = .ok (.aload_n 0, 1) := dk_42 (dk_at dksX9_init_3 3 rfl rfl)
theorem dX9_init_74 : decode cX9_init 74 = .ok (.iconst 0, 1) := dk_3 (dk_at dksX9_init_3 4 rfl rfl)
theorem dX9_init_75 : decode cX9_init 75 = .ok (.putfield 51, 3) := dk_181 0 51 (dk_at dksX9_init_3 5 rfl rfl)
theorem dX9_init_78 : decode cX9_init 78 = .ok (.aload_n 0, 1) := dk_42 (dk_at dksX9_init_3 8 rfl rfl)
theorem dX9_init_79 : decode cX9_init 79 = .ok (.iconst 2, 1) := dk_5 (dk_at dksX9_init_3 9 rfl rfl)
theorem dX9_init_80 : decode cX9_init 80 = .ok (.newarray .int, 2) := dk_188_10 (dk_at dksX9_init_3 10 rfl rfl)
theorem dX9_init_82 : decode cX9_init 82 = .ok (.putfield 54, 3) := dk_181 0 54 (dk_at dksX9_init_3 12 rfl rfl)
theorem dX9_init_85 : decode cX9_init 85 = .ok (.aload_n 0, 1) := dk_42 (dk_at dksX9_init_3 15 rfl rfl)
theorem dX9_init_86 : decode cX9_init 86 = .ok (.bipush 48, 2) := dk_16 48 (dk_at dksX9_init_3 16 rfl rfl)
theorem dX9_init_88 : decode cX9_init 88 = .ok (.newarray .long, 2) := dk_188_11 (dk_at dksX9_init_3 18 rfl rfl)
theorem dX9_init_90 : decode cX9_init 90 = .ok (.putfield 57, 3) := dk_181 0 57 (dk_at dksX9_init_3 20 rfl rfl)
theorem dX9_init_93 : decode cX9_init 93 = .ok (.aload_n 0, 1) := dk_42 (dk_at dksX9_init_3 23 rfl rfl)
theorem dX9_init_94 : decode cX9_init 94 = .ok (.bipush 48, 2) := dk_16 48 (dk_at dksX9_init_4 0 rfl rfl)
theorem dX9_init_96 : decode cX9_init 96 = .ok (.newarray .int, 2) := dk_188_10 (dk_at dksX9_init_4 2 rfl rfl)
theorem dX9_init_98 : decode cX9_init 98 = .ok (.putfield 61, 3) := dk_181 0 61 (dk_at dksX9_init_4 4 rfl rfl)
theorem dX9_init_101 : decode cX9_init 101 = .ok (.aload_n 0, 1) := dk_42 (dk_at dksX9_init_4 7 rfl rfl)
theorem dX9_init_102 : decode cX9_init 102 = .ok (.bipush 48, 2) := dk_16 48 (dk_at dksX9_init_4 8 rfl rfl)
theorem dX9_init_104 : decode cX9_init 104 = .ok (.newarray .int, 2) := dk_188_10 (dk_at dksX9_init_4 10 rfl rfl)
theorem dX9_init_106 : decode cX9_init 106 = .ok (.putfield 64, 3) := dk_181 0 64 (dk_at dksX9_init_4 12 rfl rfl)
theorem dX9_init_109 : decode cX9_init 109 = .ok (.aload_n 0, 1) := dk_42 (dk_at dksX9_init_4 15 rfl rfl)
theorem dX9_init_110 : decode cX9_init 110 = .ok (.bipush 48, 2) := dk_16 48 (dk_at dksX9_init_4 16 rfl rfl)
theorem dX9_init_112 : decode cX9_init 112 = .ok (.newarray .int, 2) := dk_188_10 (dk_at dksX9_init_4 18 rfl rfl)
theorem dX9_init_114 : decode cX9_init 114 = .ok (.putfield 67, 3) := dk_181 0 67 (dk_at dksX9_init_4 20 rfl rfl)
theorem dX9_init_117 : decode cX9_init 117 = .ok (.aload_n 0, 1) := dk_42 (dk_at dksX9_init_4 23 rfl rfl)
theorem dX9_init_118 : decode cX9_init 118 = .ok (.bipush 48, 2) := dk_16 48 (dk_at dksX9_init_5 0 rfl rfl)
theorem dX9_init_120 : decode cX9_init 120 = .ok (.newarray .int, 2) := dk_188_10 (dk_at dksX9_init_5 2 rfl rfl)
theorem dX9_init_122 : decode cX9_init 122 = .ok (.putfield 70, 3) := dk_181 0 70 (dk_at dksX9_init_5 4 rfl rfl)
theorem dX9_init_125 : decode cX9_init 125 = .ok (.aload_n 0, 1) := dk_42 (dk_at dksX9_init_5 7 rfl rfl)
theorem dX9_init_126 : decode cX9_init 126 = .ok (.bipush 48, 2) := dk_16 48 (dk_at dksX9_init_5 8 rfl rfl)
theorem dX9_init_128 : decode cX9_init 128 = .ok (.newarray .int, 2) := dk_188_10 (dk_at dksX9_init_5 10 rfl rfl)
theorem dX9_init_130 : decode cX9_init 130 = .ok (.putfield 73, 3) := dk_181 0 73 (dk_at dksX9_init_5 12 rfl rfl)
theorem dX9_init_133 : decode cX9_init 133 = .ok (.aload_n 0, 1) := dk_42 (dk_at dksX9_init_5 15 rfl rfl)
theorem dX9_init_134 : decode cX9_init 134 = .ok (.iconst 2, 1) := dk_5 (dk_at dksX9_init_5 16 rfl rfl)
theorem dX9_init_135 : decode cX9_init 135 = .ok (.newarray .int, 2) := dk_188_10 (dk_at dksX9_init_5 17 rfl rfl)
theorem dX9_init_137 : decode cX9_init 137 = .ok (.putfield 76, 3) := dk_181 0 76 (dk_at dksX9_init_5 19 rfl rfl)
theorem dX9_init_140 : decode cX9_init 140 = .ok (.aload_n 0, 1) := dk_42 (dk_at dksX9_init_5 22 rfl rfl)
theorem dX9_init_141 : decode cX9_init 141 = .ok (.bipush 12, 2) := dk_16 12 (dk_at dksX9_init_6 0 rfl rfl)
theorem dX9_init_143 : decode cX9_init 143 = .ok (.newarray .long, 2) := dk_188_11 (dk_at dksX9_init_6 2 rfl rfl)
theorem dX9_init_145 : decode cX9_init 145 = .ok (.putfield 79, 3) := dk_181 0 79 (dk_at dksX9_init_6 4 rfl rfl)
theorem dX9_init_148 : decode cX9_init 148 = .ok (.aload_n 0, 1) := dk_42 (dk_at dksX9_init_6 7 rfl rfl)
theorem dX9_init_149 : decode cX9_init 149 = .ok (.sipush 288, 3) := dk_17 1 32 (dk_at dksX9_init_6 8 rfl rfl)
theorem dX9_init_152 : decode cX9_init 152 = .ok (.newarray .int, 2) := dk_188_10 (dk_at dksX9_init_6 11 rfl rfl)
theorem dX9_init_154 : decode cX9_init 154 = .ok (.putfield 82, 3) := dk_181 0 82 (dk_at dksX9_init_6 13 rfl rfl)
theorem dX9_init_157 : decode cX9_init 157 = .ok (.aload_n 0, 1) := dk_42 (dk_at dksX9_init_6 16 rfl rfl)
theorem dX9_init_158 : decode cX9_init 158 = .ok (.iconst 2, 1) := dk_5 (dk_at dksX9_init_6 17 rfl rfl)
theorem dX9_init_159 : decode cX9_init 159 = .ok (.newarray .int, 2) := dk_188_10 (dk_at dksX9_init_6 18 rfl rfl)
theorem dX9_init_161 : decode cX9_init 161 = .ok (.putfield 85, 3) := dk_181 0 85 (dk_at dksX9_init_6 20 rfl rfl)
theorem dX9_init_164 : decode cX9_init 164 = .ok (.aload_n 0, 1) := dk_42 (dk_at dksX9_init_6 23 rfl rfl)
theorem dX9_init_165 : decode cX9_init 165 = .ok (.bipush 20, 2) := dk_16 20 (dk_at dksX9_init_7 0 rfl rfl)
theorem dX9_init_167 : decode cX9_init 167 = .ok (.newarray .long, 2) := dk_188_11 (dk_at dksX9_init_7 2 rfl rfl)
theorem dX9_init_169 : decode cX9_init 169 = .ok (.putfield 88, 3) := dk_181 0 88 (dk_at dksX9_init_7 4 rfl rfl)
theorem dX9_init_172 : decode cX9_init 172 = .ok (.aload_n 0, 1) := dk_42 (dk_at dksX9_init_7 7 rfl rfl)
theorem dX9_init_173 : decode cX9_init 173 = .ok (.bipush 20, 2) := dk_16 20 (dk_at dksX9_init_7 8 rfl rfl)
theorem dX9_init_175 : decode cX9_init 175 = .ok (.newarray .int, 2) := dk_188_10 (dk_at dksX9_init_7 10 rfl rfl)
theorem dX9_init_177 : decode cX9_init 177 = .ok (.putfield 91, 3) := dk_181 0 91 (dk_at dksX9_init_7 12 rfl rfl)
theorem dX9_init_180 : decode cX9_init 180 = .ok (.aload_n 0, 1) := dk_42 (dk_at dksX9_init_7 15 rfl rfl)
theorem dX9_init_181 : decode cX9_init 181 = .ok (.bipush 20, 2) := dk_16 20 (dk_at dksX9_init_7 16 rfl rfl)
theorem dX9_init_183 : decode cX9_init 183 = .ok (.newarray .int, 2) := dk_188_10 (dk_at dksX9_init_7 18 rfl rfl)
theorem dX9_init_185 : decode cX9_init 185 = .ok (.putfield 94, 3) := dk_181 0 94 (dk_at dksX9_init_7 20 rfl rfl)
theorem dX9_init_188 : decode cX9_init 188 = .ok (.aload_n 0, 1) := dk_42 (dk_at dksX9_init_7 23 rfl rfl)
theorem dX9_init_189 : decode cX9_init 189 = .ok (.sipush 480, 3) := dk_17 1 224 (dk_at dksX9_init_8 0 rfl rfl)
theorem dX9_init_192 : decode cX9_init 192 = .ok (.newarray .int, 2) := dk_188_10 (dk_at dksX9_init_8 3 rfl rfl)
theorem dX9_init_194 : decode cX9_init 194 = .ok (.putfield 97, 3) := dk_181 0 97 (dk_at dksX9_init_8 5 rfl rfl)
theorem dX9_init_197 : decode cX9_init 197 = .ok (.aload_n 0, 1) := dk_42 (dk_at dksX9_init_8 8 rfl rfl)
theorem dX9_init_198 : decode cX9_init 198 = .ok (.iconst 2, 1) := dk_5 (dk_at dksX9_init_8 9 rfl rfl)
theorem dX9_init_199 : decode cX9_init 199 = .ok (.newarray .int, 2) := dk_188_10 (dk_at dksX9_init_8 10 rfl rfl)
theorem dX9_init_201 : decode cX9_init 201 = .ok (.putfield 100, 3) := dk_181 0 100 (dk_at dksX9_init_8 12 rfl rfl)
theorem dX9_init_204 : decode cX9_init 204 = .ok (.aload_n 0, 1) := dk_42 (dk_at dksX9_init_8 15 rfl rfl)
theorem dX9_init_205 : decode cX9_init 205 = .ok (.bipush 24, 2) := dk_16 24 (dk_at dksX9_init_8 16 rfl rfl)
theorem dX9_init_207 : decode cX9_init 207 = .ok (.newarray .long, 2) := dk_188_11 (dk_at dksX9_init_8 18 rfl rfl)
theorem dX9_init_209 : decode cX9_init 209 = .ok (.putfield 103, 3) := dk_181 0 103 (dk_at dksX9_init_8 20 rfl rfl)
theorem dX9_init_212 : decode cX9_init 212 = .ok (.aload_n 0, 1) := dk_42 (dk_at dksX9_init_8 23 rfl rfl)
theorem dX9_init_213 : decode cX9_init 213 = .ok (.bipush 24, 2) := dk_16 24 (dk_at dksX9_init_9 0 rfl rfl)
theorem dX9_init_215 : decode cX9_init 215 = .ok (.newarray .int, 2) := dk_188_10 (dk_at dksX9_init_9 2 rfl rfl)
theorem dX9_init_217 : decode cX9_init 217 = .ok (.putfield 106, 3) := dk_181 0 106 (dk_at dksX9_init_9 4 rfl rfl)
theorem dX9_init_220 : decode cX9_init 220 = .ok (.aload_n 0, 1) := dk_42 (dk_at dksX9_init_9 7 rfl rfl)
theorem dX9_init_221 : decode cX9_init 221 = .ok (.bipush 24, 2) := dk_16 24 (dk_at dksX9_init_9 8 rfl rfl)
theorem dX9_init_223 : decode cX9_init 223 = .ok (.newarray .int, 2) := dk_188_10 (dk_at dksX9_init_9 10 rfl rfl)
theorem dX9_init_225 : decode cX9_init 225 = .ok (.putfield 109, 3) := dk_181 0 109 (dk_at dksX9_init_9 12 rfl rfl)
theorem dX9_init_228 : decode cX9_init 228 = .ok (.aload_n 0, 1) := dk_42 (dk_at dksX9_init_9 15 rfl rfl)
theorem dX9_init_229 : decode cX9_init 229 = .ok (.bipush 24, 2) := dk_16 24 (dk_at dksX9_init_9 16 rfl rfl)
theorem dX9_init_231 : decode cX9_init 231 = .ok (.newarray .int, 2) := dk_188_10 (dk_at dksX9_init_9 18 rfl rfl)
theorem dX9_init_233 : decode cX9_init 233 = .ok (.putfield 112, 3) := dk_181 0 112 (dk_at dksX9_init_9 20 rfl rfl)
theorem dX9_init_236 : decode cX9_init 236 = .ok (.aload_n 0, 1) := dk_42 (dk_at dksX9_init_9 23 rfl rfl)
theorem dX9_init_237 : decode cX9_init 237 = .ok (.sipush 288, 3) := dk_17 1 32 (dk_at dksX9_init_10 0 rfl rfl)
theorem dX9_init_240 : decode cX9_init 240 = .ok (.newarray .int, 2) := dk_188_10 (dk_at dksX9_init_10 3 rfl rfl)
theorem dX9_init_242 : decode cX9_init 242 = .ok (.putfield 115, 3) := dk_181 0 115 (dk_at dksX9_init_10 5 rfl rfl)
theorem dX9_init_245 : decode cX9_init 245 = .ok (.aload_n 0, 1) := dk_42 (dk_at dksX9_init_10 8 rfl rfl)
theorem dX9_init_246 : decode cX9_init 246 = .ok (.iconst 2, 1) := dk_5 (dk_at dksX9_init_10 9 rfl rfl)
theorem dX9_init_247 : decode cX9_init 247 = .ok (.newarray .int, 2) := dk_188_10 (dk_at dksX9_init_10 10 rfl rfl)
theorem dX9_init_249 : decode cX9_init 249 = .ok (.putfield 118, 3) := dk_181 0 118 (dk_at dksX9_init_10 12 rfl rfl)
theorem dX9_init_252 : decode cX9_init 252 = .ok (.aload_n 0, 1) := dk_42 (dk_at dksX9_init_10 15 rfl rfl)
theorem dX9_init_253 : decode cX9_init 253 = .ok (.iconst 2, 1) := dk_5 (dk_at dksX9_init_10 16 rfl rfl)
theorem dX9_init_254 : decode cX9_init 254 = .ok (.newarray .int, 2) := dk_188_10 (dk_at dksX9_init_10 17 rfl rfl)
theorem dX9_init_256 : decode cX9_init 256 = .ok (.putfield 121, 3) := dk_181 0 121 (dk_at dksX9_init_10 19 rfl rfl)
theorem dX9_init_259 : decode cX9_init 259 = .ok (.aload_n 0, 1) := dk_42 (dk_at dksX9_init_10 22 rfl rfl)
theorem dX9_init_260 : decode cX9_init 260 = .ok (.iconst 2, 1) := dk_5 (dk_at dksX9_init_10 23 rfl rfl)
theorem dX9_init_261 : decode cX9_init 261 = .ok (.newarray .int, 2) := dk_188_10 (dk_at dksX9_init_11 0 rfl rfl)
theorem dX9_init_263 : decode cX9_init 263 = .ok (.putfield 124, 3) := dk_181 0 124 (dk_at dksX9_init_11 2 rfl rfl)
theorem dX9_init_266 : decode cX9_init 266 = .ok (.aload_n 0, 1) := dk_42 (dk_at dksX9_init_11 5 rfl rfl)
theorem dX9_init_267 : decode cX9_init 267 = .ok (.iconst 1, 1) := dk_4 (dk_at dksX9_init_11 6 rfl rfl)
theorem dX9_init_268 : decode cX9_init 268 = .ok (.putfield 127, 3) := dk_181 0 127 (dk_at dksX9_init_11 7 rfl rfl)
theorem dX9_init_271 : decode cX9_init 271 = .ok (.aload_n 0, 1) := dk_42 (dk_at dksX9_init_11 10 rfl rfl)
theorem dX9_init_272 : decode cX9_init 272 = .ok (.bipush 12, 2) := dk_16 12 (dk_at dksX9_init_11 11 rfl rfl)
theorem dX9_init_274 : decode cX9_init 274 = .ok (.newarray .int, 2) := dk_188_10 (dk_at dksX9_init_11 13 rfl rfl)
theorem dX9_init_276 : decode cX9_init 276 = .ok (.putfield 130, 3) := dk_181 0 130 (dk_at dksX9_init_11 15 rfl rfl)
theorem dX9_init_279 : decode cX9_init 279 = .ok (.aload_n 0, 1) := dk_42 (dk_at dksX9_init_11 18 rfl rfl)
theorem dX9_init_280 : decode cX9_init 280 = .ok (.iconst 0, 1) := dk_3 (dk_at dksX9_init_11 19 rfl rfl)
theorem dX9_init_281 : decode cX9_init 281 = .ok (.putfield 133, 3) := dk_181 0 133 (dk_at dksX9_init_11 20 rfl rfl)
theorem dX9_init_284 : decode cX9_init 284 = .ok (.aload_n 0, 1) := dk_42 (dk_at dksX9_init_11 23 rfl rfl)
theorem dX9_init_285 : decode cX9_init 285 = .ok (.iconst 0, 1) := dk_3 (dk_at dksX9_init_12 0 rfl rfl)
theorem dX9_init_286 : decode cX9_init 286 = .ok (.putfield 136, 3) := dk_181 0 136 (dk_at dksX9_init_12 1 rfl rfl)
theorem dX9_init_289 : decode cX9_init 289 = .ok (.aload_n 0, 1) := dk_42 (dk_at dksX9_init_12 4 rfl rfl)
theorem dX9_init_290 : decode cX9_init 290 = .ok (.bipush 6, 2) := dk_16 6 (dk_at dksX9_init_12 5 rfl rfl)
theorem dX9_init_292 : decode cX9_init 292 = .ok (.newarray .int, 2) := dk_188_10 (dk_at dksX9_init_12 7 rfl rfl)
theorem dX9_init_294 : decode cX9_init 294 = .ok (.putfield 139, 3) := dk_181 0 139 (dk_at dksX9_init_12 9 rfl rfl)
theorem dX9_init_297 : decode cX9_init 297 = .ok (.aload_n 0, 1) := dk_42 (dk_at dksX9_init_12 12 rfl rfl)
theorem dX9_init_298 : decode cX9_init 298 = .ok (.bipush 22, 2) := dk_16 22 (dk_at dksX9_init_12 13 rfl rfl)
theorem dX9_init_300 : decode cX9_init 300 = .ok (.newarray .int, 2) := dk_188_10 (dk_at dksX9_init_12 15 rfl rfl)
theorem dX9_init_302 : decode cX9_init 302 = .ok (.putfield 142, 3) := dk_181 0 142 (dk_at dksX9_init_12 17 rfl rfl)
theorem dX9_init_305 : decode cX9_init 305 = .ok (.aload_n 0, 1) := dk_42 (dk_at dksX9_init_12 20 rfl rfl)
theorem dX9_init_306 : decode cX9_init 306 = .ok (.sipush 264, 3) := dk_17 1 8 (dk_at dksX9_init_12 21 rfl rfl)
theorem dX9_init_309 : decode cX9_init 309 = .ok (.newarray .int, 2) := dk_188_10 (dk_at dksX9_init_13 0 rfl rfl)
theorem dX9_init_311 : decode cX9_init 311 = .ok (.putfield 145, 3) := dk_181 0 145 (dk_at dksX9_init_13 2 rfl rfl)
theorem dX9_init_314 : decode cX9_init 314 = .ok (.aload_n 0, 1) := dk_42 (dk_at dksX9_init_13 5 rfl rfl)
theorem dX9_init_315 : decode cX9_init 315 = .ok (.sipush 264, 3) := dk_17 1 8 (dk_at dksX9_init_13 6 rfl rfl)
theorem dX9_init_318 : decode cX9_init 318 = .ok (.newarray .int, 2) := dk_188_10 (dk_at dksX9_init_13 9 rfl rfl)
theorem dX9_init_320 : decode cX9_init 320 = .ok (.putfield 148, 3) := dk_181 0 148 (dk_at dksX9_init_13 11 rfl rfl)
theorem dX9_init_323 : decode cX9_init 323 = .ok (.aload_n 0, 1) := dk_42 (dk_at dksX9_init_13 14 rfl rfl)
theorem dX9_init_324 : decode cX9_init 324 = .ok (.sipush 264, 3) := dk_17 1 8 (dk_at dksX9_init_13 15 rfl rfl)
theorem dX9_init_327 : decode cX9_init 327 = .ok (.newarray .int, 2) := dk_188_10 (dk_at dksX9_init_13 18 rfl rfl)
theorem dX9_init_329 : decode cX9_init 329 = .ok (.putfield 151, 3) := dk_181 0 151 (dk_at dksX9_init_13 20 rfl rfl)
theorem dX9_init_332 : decode cX9_init 332 = .ok (.aload_n 0, 1) := dk_42 (dk_at dksX9_init_13 23 rfl rfl)
theorem dX9_init_333 : decode cX9_init 333 = .ok (.sipush 264, 3) := dk_17 1 8 (dk_at dksX9_init_14 0 rfl rfl)
theorem dX9_init_336 : decode cX9_init 336 = .ok (.newarray .int, 2) := dk_188_10 (dk_at dksX9_init_14 3 rfl rfl)
theorem dX9_init_338 : decode cX9_init 338 = .ok (.putfield 154, 3) := dk_181 0 154 (dk_at dksX9_init_14 5 rfl rfl)
theorem dX9_init_341 : decode cX9_init 341 = .ok (.aload_n 0, 1) := dk_42 (dk_at dksX9_init_14 8 rfl rfl)
theorem dX9_init_342 : decode cX9_init 342 = .ok (.sipush 3168, 3) := dk_17 12 96 (dk_at dksX9_init_14 9 rfl rfl)
theorem dX9_init_345 : decode cX9_init 345 = .ok (.newarray .int, 2) := dk_188_10 (dk_at dksX9_init_14 12 rfl rfl)
theorem dX9_init_347 : decode cX9_init 347 = .ok (.putfield 157, 3) := dk_181 0 157 (dk_at dksX9_init_14 14 rfl rfl)
theorem dX9_init_350 : decode cX9_init 350 = .ok (.aload_n 0, 1) := dk_42 (dk_at dksX9_init_14 17 rfl rfl)
theorem dX9_init_351 : decode cX9_init 351 = .ok (.bipush 22, 2) := dk_16 22 (dk_at dksX9_init_14 18 rfl rfl)
theorem dX9_init_353 : decode cX9_init 353 = .ok (.newarray .int, 2) := dk_188_10 (dk_at dksX9_init_14 20 rfl rfl)
theorem dX9_init_355 : decode cX9_init 355 = .ok (.putfield 160, 3) := dk_181 0 160 (dk_at dksX9_init_15 0 rfl rfl)
theorem dX9_init_358 : decode cX9_init 358 = .ok (.aload_n 0, 1) := dk_42 (dk_at dksX9_init_15 3 rfl rfl)
theorem dX9_init_359 : decode cX9_init 359 = .ok (.sipush 8800, 3) := dk_17 34 96 (dk_at dksX9_init_15 4 rfl rfl)
theorem dX9_init_362 : decode cX9_init 362 = .ok (.newarray .int, 2) := dk_188_10 (dk_at dksX9_init_15 7 rfl rfl)
theorem dX9_init_364 : decode cX9_init 364 = .ok (.putfield 163, 3) := dk_181 0 163 (dk_at dksX9_init_15 9 rfl rfl)
theorem dX9_init_367 : decode cX9_init 367 = .ok (.aload_n 0, 1) := dk_42 (dk_at dksX9_init_15 12 rfl rfl)
theorem dX9_init_368 : decode cX9_init 368 = .ok (.iconst 0, 1) := dk_3 (dk_at dksX9_init_15 13 rfl rfl)
theorem dX9_init_369 : decode cX9_init 369 = .ok (.putfield 166, 3) := dk_181 0 166 (dk_at dksX9_init_15 14 rfl rfl)
theorem dX9_init_372 : decode cX9_init 372 = .ok (.aload_n 0, 1) := dk_42 (dk_at dksX9_init_15 17 rfl rfl)
theorem dX9_init_373 : decode cX9_init 373 = .ok (.iconst 0, 1) := dk_3 (dk_at dksX9_init_15 18 rfl rfl)
theorem dX9_init_374 : decode cX9_init 374 = .ok (.putfield 169, 3) := dk_181 0 169 (dk_at dksX9_init_15 19 rfl rfl)
theorem dX9_init_377 : decode cX9_init 377 = .ok (.aload_n 0, 1) := dk_42 (dk_at dksX9_init_15 22 rfl rfl)
theorem dX9_init_378 : decode cX9_init 378 = .ok (.lconst 1, 1) := dk_10 (dk_at dksX9_init_15 23 rfl rfl)
theorem dX9_init_379 : decode cX9_init 379 = .ok (.putfield 172, 3) := dk_181 0 172 (dk_at dksX9_init_16 0 rfl rfl)
theorem dX9_init_382 : decode cX9_init 382 = .ok (.aload_n 0, 1) := dk_42 (dk_at dksX9_init_16 3 rfl rfl)
theorem dX9_init_383 : decode cX9_init 383 = .ok (.bipush 12, 2) := dk_16 12 (dk_at dksX9_init_16 4 rfl rfl)
theorem dX9_init_385 : decode cX9_init 385 = .ok (.newarray .int, 2) := dk_188_10 (dk_at dksX9_init_16 6 rfl rfl)
theorem dX9_init_387 : decode cX9_init 387 = .ok (.putfield 175, 3) := dk_181 0 175 (dk_at dksX9_init_16 8 rfl rfl)
theorem dX9_init_390 : decode cX9_init 390 = .ok (.aload_n 0, 1) := dk_42 (dk_at dksX9_init_16 11 rfl rfl)
theorem dX9_init_391 : decode cX9_init 391 = .ok (.iconst 0, 1) := dk_3 (dk_at dksX9_init_16 12 rfl rfl)
theorem dX9_init_392 : decode cX9_init 392 = .ok (.putfield 178, 3) := dk_181 0 178 (dk_at dksX9_init_16 13 rfl rfl)
theorem dX9_init_395 : decode cX9_init 395 = .ok (.aload_n 0, 1) := dk_42 (dk_at dksX9_init_16 16 rfl rfl)
theorem dX9_init_396 : decode cX9_init 396 = .ok (.iconst 0, 1) := dk_3 (dk_at dksX9_init_16 17 rfl rfl)
theorem dX9_init_397 : decode cX9_init 397 = .ok (.putfield 181, 3) := dk_181 0 181 (dk_at dksX9_init_16 18 rfl rfl)
theorem dX9_init_400 : decode cX9_init 400 = .ok (.aload_n 0, 1) := dk_42 (dk_at dksX9_init_16 21 rfl rfl)
theorem dX9_init_401 : decode cX9_init 401 = .ok (.iconst 0, 1) := dk_3 (dk_at dksX9_init_16 22 rfl rfl)
theorem dX9_init_402 : decode cX9_init 402 = .ok (.putfield 184, 3) := dk_181 0 184 (dk_at dksX9_init_17 0 rfl rfl)
theorem dX9_init_405 : decode cX9_init 405 = .ok (.aload_n 0, 1) := dk_42 (dk_at dksX9_init_17 3 rfl rfl)
theorem dX9_init_406 : decode cX9_init 406 = .ok (.bipush 12, 2) := dk_16 12 (dk_at dksX9_init_17 4 rfl rfl)
theorem dX9_init_408 : decode cX9_init 408 = .ok (.newarray .int, 2) := dk_188_10 (dk_at dksX9_init_17 6 rfl rfl)
theorem dX9_init_410 : decode cX9_init 410 = .ok (.putfield 188, 3) := dk_181 0 188 (dk_at dksX9_init_17 8 rfl rfl)
theorem dX9_init_413 : decode cX9_init 413 = .ok (.aload_n 0, 1) := dk_42 (dk_at dksX9_init_17 11 rfl rfl)
theorem dX9_init_414 : decode cX9_init 414 = .ok (.iconst 0, 1) := dk_3 (dk_at dksX9_init_17 12 rfl rfl)
theorem dX9_init_415 : decode cX9_init 415 = .ok (.putfield 191, 3) := dk_181 0 191 (dk_at dksX9_init_17 13 rfl rfl)
theorem dX9_init_418 : decode cX9_init 418 = .ok (.aload_n 0, 1) := dk_42 (dk_at dksX9_init_17 16 rfl rfl)
theorem dX9_init_419 : decode cX9_init 419 = .ok (.iconst 0, 1) := dk_3 (dk_at dksX9_init_17 17 rfl rfl)
theorem dX9_init_420 : decode cX9_init 420 = .ok (.putfield 194, 3) := dk_181 0 194 (dk_at dksX9_init_17 18 rfl rfl)
theorem dX9_init_423 : decode cX9_init 423 = .ok (.aload_n 0, 1) := dk_42 (dk_at dksX9_init_17 21 rfl rfl)
theorem dX9_init_424 : decode cX9_init 424 = .ok (.iconst 0, 1) := dk_3 (dk_at dksX9_init_17 22 rfl rfl)
theorem dX9_init_425 : decode cX9_init 425 = .ok (.putfield 197, 3) := dk_181 0 197 (dk_at dksX9_init_18 0 rfl rfl)
theorem dX9_init_428 : decode cX9_init 428 = .ok (.aload_n 0, 1) := dk_42 (dk_at dksX9_init_18 3 rfl rfl)
theorem dX9_init_429 : decode cX9_init 429 = .ok (.iconst (-1), 1) := dk_2 (dk_at dksX9_init_18 4 rfl rfl)
theorem dX9_init_430 : decode cX9_init 430 = .ok (.putfield 200, 3) := dk_181 0 200 (dk_at dksX9_init_18 5 rfl rfl)
theorem dX9_init_433 : decode cX9_init 433 = .ok (.aload_n 0, 1) := dk_42 (dk_at dksX9_init_18 8 rfl rfl)
theorem dX9_init_434 : decode cX9_init 434 = .ok (.bipush 12, 2) := dk_16 12 (dk_at dksX9_init_18 9 rfl rfl)
theorem dX9_init_436 : decode cX9_init 436 = .ok (.newarray .int, 2) := dk_188_10 (dk_at dksX9_init_18 11 rfl rfl)
theorem dX9_init_438 : decode cX9_init 438 = .ok (.putfield 203, 3) := dk_181 0 203 (dk_at dksX9_init_18 13 rfl rfl)
theorem dX9_init_441 : decode cX9_init 441 = .ok (.aload_n 0, 1) := dk_42 (dk_at dksX9_init_18 16 rfl rfl)
theorem dX9_init_442 : decode cX9_init 442 = .ok (.iconst 0, 1) := dk_3 (dk_at dksX9_init_18 17 rfl rfl)
theorem dX9_init_443 : decode cX9_init 443 = .ok (.putfield 206, 3) := dk_181 0 206 (dk_at dksX9_init_18 18 rfl rfl)
theorem dX9_init_446 : decode cX9_init 446 = .ok (.aload_n 0, 1) := dk_42 (dk_at dksX9_init_18 21 rfl rfl)
theorem dX9_init_447 : decode cX9_init 447 = .ok (.bipush 12, 2) := dk_16 12 (dk_at dksX9_init_18 22 rfl rfl)
theorem dX9_init_449 : decode cX9_init 449 = .ok (.newarray .int, 2) := dk_188_10 (dk_at dksX9_init_19 0 rfl rfl)
theorem dX9_init_451 : decode cX9_init 451 = .ok (.putfield 209, 3) := dk_181 0 209 (dk_at dksX9_init_19 2 rfl rfl)
theorem dX9_init_454 : decode cX9_init 454 = .ok (.aload_n 0, 1) := dk_42 (dk_at dksX9_init_19 5 rfl rfl)
theorem dX9_init_455 : decode cX9_init 455 = .ok (.bipush 12, 2) := dk_16 12 (dk_at dksX9_init_19 6 rfl rfl)
theorem dX9_init_457 : decode cX9_init 457 = .ok (.newarray .int, 2) := dk_188_10 (dk_at dksX9_init_19 8 rfl rfl)
theorem dX9_init_459 : decode cX9_init 459 = .ok (.putfield 212, 3) := dk_181 0 212 (dk_at dksX9_init_19 10 rfl rfl)
theorem dX9_init_462 : decode cX9_init 462 = .ok (.aload_n 0, 1) := dk_42 (dk_at dksX9_init_19 13 rfl rfl)
theorem dX9_init_463 : decode cX9_init 463 = .ok (.bipush 12, 2) := dk_16 12 (dk_at dksX9_init_19 14 rfl rfl)
theorem dX9_init_465 : decode cX9_init 465 = .ok (.newarray .int, 2) := dk_188_10 (dk_at dksX9_init_19 16 rfl rfl)
theorem dX9_init_467 : decode cX9_init 467 = .ok (.putfield 215, 3) := dk_181 0 215 (dk_at dksX9_init_19 18 rfl rfl)
theorem dX9_init_470 : decode cX9_init 470 = .ok (.aload_n 0, 1) := dk_42 (dk_at dksX9_init_19 21 rfl rfl)
theorem dX9_init_471 : decode cX9_init 471 = .ok (.sipush 144, 3) := dk_17 0 144 (dk_at dksX9_init_20 0 rfl rfl)
theorem dX9_init_474 : decode cX9_init 474 = .ok (.newarray .int, 2) := dk_188_10 (dk_at dksX9_init_20 3 rfl rfl)
theorem dX9_init_476 : decode cX9_init 476 = .ok (.putfield 218, 3) := dk_181 0 218 (dk_at dksX9_init_20 5 rfl rfl)
theorem dX9_init_479 : decode cX9_init 479 = .ok (.aload_n 0, 1) := dk_42 (dk_at dksX9_init_20 8 rfl rfl)
theorem dX9_init_480 : decode cX9_init 480 = .ok (.sipush 29400, 3) := dk_17 114 216 (dk_at dksX9_init_20 9 rfl rfl)
theorem dX9_init_483 : decode cX9_init 483 = .ok (.newarray .int, 2) := dk_188_10 (dk_at dksX9_init_20 12 rfl rfl)
theorem dX9_init_485 : decode cX9_init 485 = .ok (.putfield 221, 3) := dk_181 0 221 (dk_at dksX9_init_20 14 rfl rfl)
theorem dX9_init_488 : decode cX9_init 488 = .ok (.aload_n 0, 1) := dk_42 (dk_at dksX9_init_20 17 rfl rfl)
theorem dX9_init_489 : decode cX9_init 489 = .ok (.bipush 10, 2) := dk_16 10 (dk_at dksX9_init_20 18 rfl rfl)
theorem dX9_init_491 : decode cX9_init 491 = .ok (.newarray .int, 2) := dk_188_10 (dk_at dksX9_init_20 20 rfl rfl)
theorem dX9_init_493 : decode cX9_init 493 = .ok (.putfield 224, 3) := dk_181 0 224 (dk_at dksX9_init_21 0 rfl rfl)
theorem dX9_init_496 : decode cX9_init 496 = .ok (.aload_n 0, 1) := dk_42 (dk_at dksX9_init_21 3 rfl rfl)
theorem dX9_init_497 : decode cX9_init 497 = .ok (.bipush 10, 2) := dk_16 10 (dk_at dksX9_init_21 4 rfl rfl)
theorem dX9_init_499 : decode cX9_init 499 = .ok (.newarray .int, 2) := dk_188_10 (dk_at dksX9_init_21 6 rfl rfl)
theorem dX9_init_501 : decode cX9_init 501 = .ok (.putfield 227, 3) := dk_181 0 227 (dk_at dksX9_init_21 8 rfl rfl)
theorem dX9_init_504 : decode cX9_init 504 = .ok (.aload_n 0, 1) := dk_42 (dk_at dksX9_init_21 11 rfl rfl)
theorem dX9_init_505 : decode cX9_init 505 = .ok (.bipush 12, 2) := dk_16 12 (dk_at dksX9_init_21 12 rfl rfl)
theorem dX9_init_507 : decode cX9_init 507 = .ok (.newarray .int, 2) := dk_188_10 (dk_at dksX9_init_21 14 rfl rfl)
theorem dX9_init_509 : decode cX9_init 509 = .ok (.putfield 230, 3) := dk_181 0 230 (dk_at dksX9_init_21 16 rfl rfl)
theorem dX9_init_512 : decode cX9_init 512 = .ok (.aload_n 0, 1) := dk_42 (dk_at dksX9_init_21 19 rfl rfl)
theorem dX9_init_513 : decode cX9_init 513 = .ok (.bipush 12, 2) := dk_16 12 (dk_at dksX9_init_21 20 rfl rfl)
theorem dX9_init_515 : decode cX9_init 515 = .ok (.newarray .int, 2) := dk_188_10 (dk_at dksX9_init_21 22 rfl rfl)
theorem dX9_init_517 : decode cX9_init 517 = .ok (.putfield 233, 3) := dk_181 0 233 (dk_at dksX9_init_22 0 rfl rfl)
theorem dX9_init_520 : decode cX9_init 520 = .ok (.aload_n 0, 1) := dk_42 (dk_at dksX9_init_22 3 rfl rfl)
theorem dX9_init_521 : decode cX9_init 521 = .ok (.iconst 0, 1) := dk_3 (dk_at dksX9_init_22 4 rfl rfl)
theorem dX9_init_522 : decode cX9_init 522 = .ok (.putfield 236, 3) := dk_181 0 236 (dk_at dksX9_init_22 5 rfl rfl)
theorem dX9_init_525 : decode cX9_init 525 = .ok (.aload_n 0, 1) := dk_42 (dk_at dksX9_init_22 8 rfl rfl)
theorem dX9_init_526 : decode cX9_init 526 = .ok (.iconst 0, 1) := dk_3 (dk_at dksX9_init_22 9 rfl rfl)
theorem dX9_init_527 : decode cX9_init 527 = .ok (.putfield 239, 3) := dk_181 0 239 (dk_at dksX9_init_22 10 rfl rfl)
theorem dX9_init_530 : decode cX9_init 530 = .ok (.aload_n 0, 1) := dk_42 (dk_at dksX9_init_22 13 rfl rfl)
theorem dX9_init_531 : decode cX9_init 531 = .ok (.iconst 0, 1) := dk_3 (dk_at dksX9_init_22 14 rfl rfl)
theorem dX9_init_532 : decode cX9_init 532 = .ok (.putfield 242, 3) := dk_181 0 242 (dk_at dksX9_init_22 15 rfl rfl)
theorem dX9_init_535 : decode cX9_init 535 = .ok (.aload_n 0, 1) := dk_42 (dk_at dksX9_init_22 18 rfl rfl)
theorem dX9_init_536 : decode cX9_init 536 = .ok (.iconst 0, 1) := dk_3 (dk_at dksX9_init_22 19 rfl rfl)
theorem dX9_init_537 : decode cX9_init 537 = .ok (.putfield 245, 3) := dk_181 0 245 (dk_at dksX9_init_22 20 rfl rfl)
theorem dX9_init_540 : decode cX9_init 540 = .ok (.aload_n 0, 1) := dk_42 (dk_at dksX9_init_22 23 rfl rfl)
theorem dX9_init_541 : decode cX9_init 541 = .ok (.sipush 210, 3) := dk_17 0 210 (dk_at dksX9_init_23 0 rfl rfl)
theorem dX9_init_544 : decode cX9_init 544 = .ok (.newarray .int, 2) := dk_188_10 (dk_at dksX9_init_23 3 rfl rfl)
theorem dX9_init_546 : decode cX9_init 546 = .ok (.putfield 248, 3) := dk_181 0 248 (dk_at dksX9_init_23 5 rfl rfl)
theorem dX9_init_549 : decode cX9_init 549 = .ok (.aload_n 0, 1) := dk_42 (dk_at dksX9_init_23 8 rfl rfl)
theorem dX9_init_550 : decode cX9_init 550 = .ok (.iconst 0, 1) := dk_3 (dk_at dksX9_init_23 9 rfl rfl)
theorem dX9_init_551 : decode cX9_init 551 = .ok (.putfield 251, 3) := dk_181 0 251 (dk_at dksX9_init_23 10 rfl rfl)
theorem dX9_init_554 : decode cX9_init 554 = .ok (.aload_n 0, 1) := dk_42 (dk_at dksX9_init_23 13 rfl rfl)
theorem dX9_init_555 : decode cX9_init 555 = .ok (.getfield 118, 3) := dk_180 0 118 (dk_at dksX9_init_23 14 rfl rfl)
theorem dX9_init_558 : decode cX9_init 558 = .ok (.iconst 0, 1) := dk_3 (dk_at dksX9_init_23 17 rfl rfl)
theorem dX9_init_559 : decode cX9_init 559 = .ok (.bipush 12, 2) := dk_16 12 (dk_at dksX9_init_23 18 rfl rfl)
theorem dX9_init_561 : decode cX9_init 561 = .ok (.iastore, 1) := dk_79 (dk_at dksX9_init_23 20 rfl rfl)
theorem dX9_init_562 : decode cX9_init 562 = .ok (.aload_n 0, 1) := dk_42 (dk_at dksX9_init_23 21 rfl rfl)
theorem dX9_init_563 : decode cX9_init 563 = .ok (.getfield 121, 3) := dk_180 0 121 (dk_at dksX9_init_24 0 rfl rfl)
theorem dX9_init_566 : decode cX9_init 566 = .ok (.iconst 0, 1) := dk_3 (dk_at dksX9_init_24 3 rfl rfl)
theorem dX9_init_567 : decode cX9_init 567 = .ok (.iconst 2, 1) := dk_5 (dk_at dksX9_init_24 4 rfl rfl)
theorem dX9_init_568 : decode cX9_init 568 = .ok (.iastore, 1) := dk_79 (dk_at dksX9_init_24 5 rfl rfl)
theorem dX9_init_569 : decode cX9_init 569 = .ok (.return_, 1) := dk_177 (dk_at dksX9_init_24 6 rfl rfl)
def dkwX9_feed_2 : List UInt8 := [180, 0, 13, 172]
abbrev dktX9_feed_2 : List UInt8 := dkwX9_feed_2 ++ []
def dkwX9_feed_1 : List UInt8 := [42, 28, 182, 1, 2, 42, 29, 182, 1, 2, 42, 21, 4, 182, 1, 2, 42, 21, 5, 182, 1, 2, 42]
abbrev dktX9_feed_1 : List UInt8 := dkwX9_feed_1 ++ dktX9_feed_2
def dkwX9_feed_0 : List UInt8 := [42, 180, 0, 13, 16, 20, 96, 17, 6, 64, 164, 0, 9, 42, 3, 182, 0, 254, 172, 42, 27, 182, 1, 2]
abbrev dktX9_feed_0 : List UInt8 := dkwX9_feed_0 ++ dktX9_feed_1
theorem dksX9_feed_0 : cX9_feed.data.toList.drop 0 = dktX9_feed_0 := by decide +kernel
theorem dksX9_feed_1 : cX9_feed.data.toList.drop 24 = dktX9_feed_1 := dk_seg dksX9_feed_0 24 rfl rfl
theorem dksX9_feed_2 : cX9_feed.data.toList.drop 47 = dktX9_feed_2 := dk_seg dksX9_feed_1 23 rfl rfl
theorem dX9_feed_0 : decode cX9_feed 0 = .ok (.aload_n 0, 1) := dk_42 (dk_at dksX9_feed_0 0 rfl rfl)
theorem dX9_feed_1 : decode cX9_feed 1 = .ok (.getfield 13, 3) := dk_180 0 13 (dk_at dksX9_feed_0 1 rfl rfl)
theorem dX9_feed_4 : decode cX9_feed 4 = .ok (.bipush 20, 2) := dk_16 20 (dk_at dksX9_feed_0 4 rfl rfl)
theorem dX9_feed_6 : decode cX9_feed 6 = .ok (.iadd, 1) := dk_96 (dk_at dksX9_feed_0 6 rfl rfl)
theorem dX9_feed_7 : decode cX9_feed 7 = .ok (.sipush 1600, 3) := dk_17 6 64 (dk_at dksX9_feed_0 7 rfl rfl)
theorem dX9_feed_10 : decode cX9_feed 10 = .ok (.if_icmp .le 9, 3) := dk_164 0 9 (dk_at dksX9_feed_0 10 rfl rfl)
theorem dX9_feed_13 : decode cX9_feed 13 = .ok (.aload_n 0, 1) := dk_42 (dk_at dksX9_feed_0 13 rfl rfl)
theorem dX9_feed_14 : decode cX9_feed 14 = .ok (.iconst 0, 1) := dk_3 (dk_at dksX9_feed_0 14 rfl rfl)
theorem dX9_feed_15 : decode cX9_feed 15 = .ok (.invokevirtual 254, 3) := dk_182 0 254 (dk_at dksX9_feed_0 15 rfl rfl)
theorem dX9_feed_18 : decode cX9_feed 18 = .ok (.ireturn, 1) := dk_172 (dk_at dksX9_feed_0 18 rfl rfl)
theorem dX9_feed_19 : decode cX9_feed 19 = .ok (.aload_n 0, 1) := dk_42 (dk_at dksX9_feed_0 19 rfl rfl)
theorem dX9_feed_20 : decode cX9_feed 20 = .ok (.iload_n 1, 1) := dk_27 (dk_at dksX9_feed_0 20 rfl rfl)
theorem dX9_feed_21 : decode cX9_feed 21 = .ok (.invokevirtual 258, 3) := dk_182 1 2 (dk_at dksX9_feed_0 21 rfl rfl)
theorem dX9_feed_24 : decode cX9_feed 24 = .ok (.aload_n 0, 1) := dk_42 (dk_at dksX9_feed_1 0 rfl rfl)
theorem dX9_feed_25 : decode cX9_feed 25 = .ok (.iload_n 2, 1) := dk_28 (dk_at dksX9_feed_1 1 rfl rfl)
theorem dX9_feed_26 : decode cX9_feed 26 = .ok (.invokevirtual 258, 3) := dk_182 1 2 (dk_at dksX9_feed_1 2 rfl rfl)
theorem dX9_feed_29 : decode cX9_feed 29 = .ok (.aload_n 0, 1) := dk_42 (dk_at dksX9_feed_1 5 rfl rfl)
theorem dX9_feed_30 : decode cX9_feed 30 = .ok (.iload_n 3, 1) := dk_29 (dk_at dksX9_feed_1 6 rfl rfl)
theorem dX9_feed_31 : decode cX9_feed 31 = .ok (.invokevirtual 258, 3) := dk_182 1 2 (dk_at dksX9_feed_1 7 rfl rfl)
theorem dX9_feed_34 : decode cX9_feed 34 = .ok (.aload_n 0, 1) := dk_42 (dk_at dksX9_feed_1 10 rfl rfl)
theorem dX9_feed_35 : decode cX9_feed 35 = .ok (.iload 4, 2) := dk_21 4 (dk_at dksX9_feed_1 11 rfl rfl)
theorem dX9_feed_37 : decode cX9_feed 37 = .ok (.invokevirtual 258, 3) := dk_182 1 2 (dk_at dksX9_feed_1 13 rfl rfl)
theorem dX9_feed_40 : decode cX9_feed 40 = .ok (.aload_n 0, 1) := dk_42 (dk_at dksX9_feed_1 16 rfl rfl)
theorem dX9_feed_41 : decode cX9_feed 41 = .ok (.iload 5, 2) := dk_21 5 (dk_at dksX9_feed_1 17 rfl rfl)
theorem dX9_feed_43 : decode cX9_feed 43 = .ok (.invokevirtual 258, 3) := dk_182 1 2 (dk_at dksX9_feed_1 19 rfl rfl)
theorem dX9_feed_46 : decode cX9_feed 46 = .ok (.aload_n 0, 1) := dk_42 (dk_at dksX9_feed_1 22 rfl rfl)
theorem dX9_feed_47 : decode cX9_feed 47 = .ok (.getfield 13, 3) := dk_180 0 13 (dk_at dksX9_feed_2 0 rfl rfl)
theorem dX9_feed_50 : decode cX9_feed 50 = .ok (.ireturn, 1) := dk_172 (dk_at dksX9_feed_2 3 rfl rfl)
def dkwX9_refuses_0 : List UInt8 := [42, 180, 0, 139, 27, 92, 46, 4, 96, 79, 2, 172]
abbrev dktX9_refuses_0 : List UInt8 := dkwX9_refuses_0 ++ []
theorem dksX9_refuses_0 : cX9_refuses.data.toList.drop 0 = dktX9_refuses_0 := by decide +kernel
theorem dX9_refuses_0 : decode cX9_refuses 0 = .ok (.aload_n 0, 1) := dk_42 (dk_at dksX9_refuses_0 0 rfl rfl)
theorem dX9_refuses_1 : decode cX9_refuses 1 = .ok (.getfield 139, 3) := dk_180 0 139 (dk_at dksX9_refuses_0 1 rfl rfl)
theorem dX9_refuses_4 : decode cX9_refuses 4 = .ok (.iload_n 1, 1) := dk_27 (dk_at dksX9_refuses_0 4 rfl rfl)
theorem dX9_refuses_5 : decode cX9_refuses 5 = .ok (.dup2, 1) := dk_92 (dk_at dksX9_refuses_0 5 rfl rfl)
theorem dX9_refuses_6 : decode cX9_refuses 6 = .ok (.iaload, 1) := dk_46 (dk_at dksX9_refuses_0 6 rfl rfl)
theorem dX9_refuses_7 : decode cX9_refuses 7 = .ok (.iconst 1, 1) := dk_4 (dk_at dksX9_refuses_0 7 rfl rfl)
theorem dX9_refuses_8 : decode cX9_refuses 8 = .ok (.iadd, 1) := dk_96 (dk_at dksX9_refuses_0 8 rfl rfl)
theorem dX9_refuses_9 : decode cX9_refuses 9 = .ok (.iastore, 1) := dk_79 (dk_at dksX9_refuses_0 9 rfl rfl)
theorem dX9_refuses_10 : decode cX9_refuses 10 = .ok (.iconst (-1), 1) := dk_2 (dk_at dksX9_refuses_0 10 rfl rfl)
theorem dX9_refuses_11 : decode cX9_refuses 11 = .ok (.ireturn, 1) := dk_172 (dk_at dksX9_refuses_0 11 rfl rfl)
def dkwX9_put_1 : List UInt8 := [89, 180, 0, 13, 4, 96, 181, 0, 13, 132, 2, 248, 167, 255, 223, 177]
abbrev dktX9_put_1 : List UInt8 := dkwX9_put_1 ++ []
def dkwX9_put_0 : List UInt8 := [16, 24, 61, 28, 155, 0, 35, 42, 180, 0, 7, 42, 180, 0, 13, 27, 28, 122, 17, 0, 255, 126, 79, 42]
abbrev dktX9_put_0 : List UInt8 := dkwX9_put_0 ++ dktX9_put_1
theorem dksX9_put_0 : cX9_put.data.toList.drop 0 = dktX9_put_0 := by decide +kernel
theorem dksX9_put_1 : cX9_put.data.toList.drop 24 = dktX9_put_1 := dk_seg dksX9_put_0 24 rfl rfl
theorem dX9_put_0 : decode cX9_put 0 = .ok (.bipush 24, 2) := dk_16 24 (dk_at dksX9_put_0 0 rfl rfl)
theorem dX9_put_2 : decode cX9_put 2 = .ok (.istore_n 2, 1) := dk_61 (dk_at dksX9_put_0 2 rfl rfl)
theorem dX9_put_3 : decode cX9_put 3 = .ok (.iload_n 2, 1) := dk_28 (dk_at dksX9_put_0 3 rfl rfl)
theorem dX9_put_4 : decode cX9_put 4 = .ok (.ifCond .lt 35, 3) := dk_155 0 35 (dk_at dksX9_put_0 4 rfl rfl)
theorem dX9_put_7 : decode cX9_put 7 = .ok (.aload_n 0, 1) := dk_42 (dk_at dksX9_put_0 7 rfl rfl)
theorem dX9_put_8 : decode cX9_put 8 = .ok (.getfield 7, 3) := dk_180 0 7 (dk_at dksX9_put_0 8 rfl rfl)
theorem dX9_put_11 : decode cX9_put 11 = .ok (.aload_n 0, 1) := dk_42 (dk_at dksX9_put_0 11 rfl rfl)
theorem dX9_put_12 : decode cX9_put 12 = .ok (.getfield 13, 3) := dk_180 0 13 (dk_at dksX9_put_0 12 rfl rfl)
theorem dX9_put_15 : decode cX9_put 15 = .ok (.iload_n 1, 1) := dk_27 (dk_at dksX9_put_0 15 rfl rfl)
theorem dX9_put_16 : decode cX9_put 16 = .ok (.iload_n 2, 1) := dk_28 (dk_at dksX9_put_0 16 rfl rfl)
theorem dX9_put_17 : decode cX9_put 17 = .ok (.ishr, 1) := dk_122 (dk_at dksX9_put_0 17 rfl rfl)
theorem dX9_put_18 : decode cX9_put 18 = .ok (.sipush 255, 3) := dk_17 0 255 (dk_at dksX9_put_0 18 rfl rfl)
theorem dX9_put_21 : decode cX9_put 21 = .ok (.iand, 1) := dk_126 (dk_at dksX9_put_0 21 rfl rfl)
theorem dX9_put_22 : decode cX9_put 22 = .ok (.iastore, 1) := dk_79 (dk_at dksX9_put_0 22 rfl rfl)
theorem dX9_put_23 : decode cX9_put 23 = .ok (.aload_n 0, 1) := dk_42 (dk_at dksX9_put_0 23 rfl rfl)
theorem dX9_put_24 : decode cX9_put 24 = .ok (.dup, 1) := dk_89 (dk_at dksX9_put_1 0 rfl rfl)
theorem dX9_put_25 : decode cX9_put 25 = .ok (.getfield 13, 3) := dk_180 0 13 (dk_at dksX9_put_1 1 rfl rfl)
theorem dX9_put_28 : decode cX9_put 28 = .ok (.iconst 1, 1) := dk_4 (dk_at dksX9_put_1 4 rfl rfl)
theorem dX9_put_29 : decode cX9_put 29 = .ok (.iadd, 1) := dk_96 (dk_at dksX9_put_1 5 rfl rfl)
theorem dX9_put_30 : decode cX9_put 30 = .ok (.putfield 13, 3) := dk_181 0 13 (dk_at dksX9_put_1 6 rfl rfl)
theorem dX9_put_33 : decode cX9_put 33 = .ok (.iinc 2 (-8), 3) := dk_132 2 248 (dk_at dksX9_put_1 9 rfl rfl)
theorem dX9_put_36 : decode cX9_put 36 = .ok (.goto (-33), 3) := dk_167 255 223 (dk_at dksX9_put_1 12 rfl rfl)
theorem dX9_put_39 : decode cX9_put 39 = .ok (.return_, 1) := dk_177 (dk_at dksX9_put_1 15 rfl rfl)
def dkwX9_end_1 : List UInt8 := [3, 172, 42, 27, 181, 0, 13, 4, 172]
abbrev dktX9_end_1 : List UInt8 := dkwX9_end_1 ++ []
def dkwX9_end_0 : List UInt8 := [27, 155, 0, 11, 27, 42, 180, 0, 13, 164, 0, 17, 42, 3, 182, 0, 254, 155, 0, 7, 4, 167, 0, 4]
abbrev dktX9_end_0 : List UInt8 := dkwX9_end_0 ++ dktX9_end_1
theorem dksX9_end_0 : cX9_end.data.toList.drop 0 = dktX9_end_0 := by decide +kernel
theorem dksX9_end_1 : cX9_end.data.toList.drop 24 = dktX9_end_1 := dk_seg dksX9_end_0 24 rfl rfl
theorem dX9_end_0 : decode cX9_end 0 = .ok (.iload_n 1, 1) := dk_27 (dk_at dksX9_end_0 0 rfl rfl)
theorem dX9_end_1 : decode cX9_end 1 = .ok (.ifCond .lt 11, 3) := dk_155 0 11 (dk_at dksX9_end_0 1 rfl rfl)
theorem dX9_end_4 : decode cX9_end 4 = .ok (.iload_n 1, 1) := dk_27 (dk_at dksX9_end_0 4 rfl rfl)
theorem dX9_end_5 : decode cX9_end 5 = .ok (.aload_n 0, 1) := dk_42 (dk_at dksX9_end_0 5 rfl rfl)
theorem dX9_end_6 : decode cX9_end 6 = .ok (.getfield 13, 3) := dk_180 0 13 (dk_at dksX9_end_0 6 rfl rfl)
theorem dX9_end_9 : decode cX9_end 9 = .ok (.if_icmp .le 17, 3) := dk_164 0 17 (dk_at dksX9_end_0 9 rfl rfl)
theorem dX9_end_12 : decode cX9_end 12 = .ok (.aload_n 0, 1) := dk_42 (dk_at dksX9_end_0 12 rfl rfl)
theorem dX9_end_13 : decode cX9_end 13 = .ok (.iconst 0, 1) := dk_3 (dk_at dksX9_end_0 13 rfl rfl)
theorem dX9_end_14 : decode cX9_end 14 = .ok (.invokevirtual 254, 3) := dk_182 0 254 (dk_at dksX9_end_0 14 rfl rfl)
theorem dX9_end_17 : decode cX9_end 17 = .ok (.ifCond .lt 7, 3) := dk_155 0 7 (dk_at dksX9_end_0 17 rfl rfl)
theorem dX9_end_20 : decode cX9_end 20 = .ok (.iconst 1, 1) := dk_4 (dk_at dksX9_end_0 20 rfl rfl)
theorem dX9_end_21 : decode cX9_end 21 = .ok (.goto 4, 3) := dk_167 0 4 (dk_at dksX9_end_0 21 rfl rfl)
theorem dX9_end_24 : decode cX9_end 24 = .ok (.iconst 0, 1) := dk_3 (dk_at dksX9_end_1 0 rfl rfl)
theorem dX9_end_25 : decode cX9_end 25 = .ok (.ireturn, 1) := dk_172 (dk_at dksX9_end_1 1 rfl rfl)
theorem dX9_end_26 : decode cX9_end 26 = .ok (.aload_n 0, 1) := dk_42 (dk_at dksX9_end_1 2 rfl rfl)
theorem dX9_end_27 : decode cX9_end 27 = .ok (.iload_n 1, 1) := dk_27 (dk_at dksX9_end_1 3 rfl rfl)
theorem dX9_end_28 : decode cX9_end 28 = .ok (.putfield 13, 3) := dk_181 0 13 (dk_at dksX9_end_1 4 rfl rfl)
theorem dX9_end_31 : decode cX9_end 31 = .ok (.iconst 1, 1) := dk_4 (dk_at dksX9_end_1 7 rfl rfl)
theorem dX9_end_32 : decode cX9_end 32 = .ok (.ireturn, 1) := dk_172 (dk_at dksX9_end_1 8 rfl rfl)
def dkwX9_town_6 : List UInt8 := [182, 0, 254, 172, 42, 42, 180, 0, 127, 181, 0, 51, 42, 182, 1, 137, 27, 172]
abbrev dktX9_town_6 : List UInt8 := dkwX9_town_6 ++ []
def dkwX9_town_5 : List UInt8 := [180, 0, 36, 181, 0, 42, 42, 42, 180, 0, 39, 181, 0, 45, 42, 180, 0, 36, 158, 0, 9, 42, 4]
abbrev dktX9_town_5 : List UInt8 := dkwX9_town_5 ++ dktX9_town_6
def dkwX9_town_4 : List UInt8 := [180, 0, 20, 153, 0, 18, 42, 182, 1, 131, 132, 1, 1, 42, 27, 182, 1, 134, 167, 255, 230, 42, 42]
abbrev dktX9_town_4 : List UInt8 := dkwX9_town_4 ++ dktX9_town_5
def dkwX9_town_3 : List UInt8 := [180, 0, 124, 42, 180, 0, 127, 3, 79, 42, 182, 1, 128, 3, 60, 42, 180, 0, 36, 154, 0, 25, 42]
abbrev dktX9_town_3 : List UInt8 := dkwX9_town_3 ++ dktX9_town_4
def dkwX9_town_2 : List UInt8 := [3, 79, 42, 180, 0, 118, 42, 180, 0, 127, 16, 12, 79, 42, 180, 0, 121, 42, 180, 0, 127, 5, 79, 42]
abbrev dktX9_town_2 : List UInt8 := dkwX9_town_2 ++ dktX9_town_3
def dkwX9_town_1 : List UInt8 := [42, 180, 0, 127, 3, 79, 42, 180, 0, 85, 42, 180, 0, 127, 3, 79, 42, 180, 0, 100, 42, 180, 0, 127]
abbrev dktX9_town_1 : List UInt8 := dkwX9_town_1 ++ dktX9_town_2
def dkwX9_town_0 : List UInt8 := [42, 4, 42, 180, 0, 51, 100, 181, 0, 127, 42, 180, 0, 54, 42, 180, 0, 127, 3, 79, 42, 180, 0, 76]
abbrev dktX9_town_0 : List UInt8 := dkwX9_town_0 ++ dktX9_town_1
theorem dksX9_town_0 : cX9_town.data.toList.drop 0 = dktX9_town_0 := by decide +kernel
theorem dksX9_town_1 : cX9_town.data.toList.drop 24 = dktX9_town_1 := dk_seg dksX9_town_0 24 rfl rfl
theorem dksX9_town_2 : cX9_town.data.toList.drop 48 = dktX9_town_2 := dk_seg dksX9_town_1 24 rfl rfl
theorem dksX9_town_3 : cX9_town.data.toList.drop 72 = dktX9_town_3 := dk_seg dksX9_town_2 24 rfl rfl
theorem dksX9_town_4 : cX9_town.data.toList.drop 95 = dktX9_town_4 := dk_seg dksX9_town_3 23 rfl rfl
theorem dksX9_town_5 : cX9_town.data.toList.drop 118 = dktX9_town_5 := dk_seg dksX9_town_4 23 rfl rfl
theorem dksX9_town_6 : cX9_town.data.toList.drop 141 = dktX9_town_6 := dk_seg dksX9_town_5 23 rfl rfl
theorem dX9_town_0 : decode cX9_town 0 = .ok (.aload_n 0, 1) := dk_42 (dk_at dksX9_town_0 0 rfl rfl)
theorem dX9_town_1 : decode cX9_town 1 = .ok (.iconst 1, 1) := dk_4 (dk_at dksX9_town_0 1 rfl rfl)
theorem dX9_town_2 : decode cX9_town 2 = .ok (.aload_n 0, 1) := dk_42 (dk_at dksX9_town_0 2 rfl rfl)
theorem dX9_town_3 : decode cX9_town 3 = .ok (.getfield 51, 3) := dk_180 0 51 (dk_at dksX9_town_0 3 rfl rfl)
theorem dX9_town_6 : decode cX9_town 6 = .ok (.isub, 1) := dk_100 (dk_at dksX9_town_0 6 rfl rfl)
theorem dX9_town_7 : decode cX9_town 7 = .ok (.putfield 127, 3) := dk_181 0 127 (dk_at dksX9_town_0 7 rfl rfl)
theorem dX9_town_10 : decode cX9_town 10 = .ok (.aload_n 0, 1) := dk_42 (dk_at dksX9_town_0 10 rfl rfl)
theorem dX9_town_11 : decode cX9_town 11 = .ok (.getfield 54, 3) := dk_180 0 54 (dk_at dksX9_town_0 11 rfl rfl)
theorem dX9_town_14 : decode cX9_town 14 = .ok (.aload_n 0, 1) := dk_42 (dk_at dksX9_town_0 14 rfl rfl)
theorem dX9_town_15 : decode cX9_town 15 = .ok (.getfield 127, 3) := dk_180 0 127 (dk_at dksX9_town_0 15 rfl rfl)
theorem dX9_town_18 : decode cX9_town 18 = .ok (.iconst 0, 1) := dk_3 (dk_at dksX9_town_0 18 rfl rfl)
theorem dX9_town_19 : decode cX9_town 19 = .ok (.iastore, 1) := dk_79 (dk_at dksX9_town_0 19 rfl rfl)
theorem dX9_town_20 : decode cX9_town 20 = .ok (.aload_n 0, 1) := dk_42 (dk_at dksX9_town_0 20 rfl rfl)
theorem dX9_town_21 : decode cX9_town 21 = .ok (.getfield 76, 3) := dk_180 0 76 (dk_at dksX9_town_0 21 rfl rfl)
theorem dX9_town_24 : decode cX9_town 24 = .ok (.aload_n 0, 1) := dk_42 (dk_at dksX9_town_1 0 rfl rfl)
theorem dX9_town_25 : decode cX9_town 25 = .ok (.getfield 127, 3) := dk_180 0 127 (dk_at dksX9_town_1 1 rfl rfl)
theorem dX9_town_28 : decode cX9_town 28 = .ok (.iconst 0, 1) := dk_3 (dk_at dksX9_town_1 4 rfl rfl)
theorem dX9_town_29 : decode cX9_town 29 = .ok (.iastore, 1) := dk_79 (dk_at dksX9_town_1 5 rfl rfl)
theorem dX9_town_30 : decode cX9_town 30 = .ok (.aload_n 0, 1) := dk_42 (dk_at dksX9_town_1 6 rfl rfl)
theorem dX9_town_31 : decode cX9_town 31 = .ok (.getfield 85, 3) := dk_180 0 85 (dk_at dksX9_town_1 7 rfl rfl)
theorem dX9_town_34 : decode cX9_town 34 = .ok (.aload_n 0, 1) := dk_42 (dk_at dksX9_town_1 10 rfl rfl)
theorem dX9_town_35 : decode cX9_town 35 = .ok (.getfield 127, 3) := dk_180 0 127 (dk_at dksX9_town_1 11 rfl rfl)
theorem dX9_town_38 : decode cX9_town 38 = .ok (.iconst 0, 1) := dk_3 (dk_at dksX9_town_1 14 rfl rfl)
theorem dX9_town_39 : decode cX9_town 39 = .ok (.iastore, 1) := dk_79 (dk_at dksX9_town_1 15 rfl rfl)
theorem dX9_town_40 : decode cX9_town 40 = .ok (.aload_n 0, 1) := dk_42 (dk_at dksX9_town_1 16 rfl rfl)
theorem dX9_town_41 : decode cX9_town 41 = .ok (.getfield 100, 3) := dk_180 0 100 (dk_at dksX9_town_1 17 rfl rfl)
theorem dX9_town_44 : decode cX9_town 44 = .ok (.aload_n 0, 1) := dk_42 (dk_at dksX9_town_1 20 rfl rfl)
theorem dX9_town_45 : decode cX9_town 45 = .ok (.getfield 127, 3) := dk_180 0 127 (dk_at dksX9_town_1 21 rfl rfl)
theorem dX9_town_48 : decode cX9_town 48 = .ok (.iconst 0, 1) := dk_3 (dk_at dksX9_town_2 0 rfl rfl)
theorem dX9_town_49 : decode cX9_town 49 = .ok (.iastore, 1) := dk_79 (dk_at dksX9_town_2 1 rfl rfl)
theorem dX9_town_50 : decode cX9_town 50 = .ok (.aload_n 0, 1) := dk_42 (dk_at dksX9_town_2 2 rfl rfl)
theorem dX9_town_51 : decode cX9_town 51 = .ok (.getfield 118, 3) := dk_180 0 118 (dk_at dksX9_town_2 3 rfl rfl)
theorem dX9_town_54 : decode cX9_town 54 = .ok (.aload_n 0, 1) := dk_42 (dk_at dksX9_town_2 6 rfl rfl)
theorem dX9_town_55 : decode cX9_town 55 = .ok (.getfield 127, 3) := dk_180 0 127 (dk_at dksX9_town_2 7 rfl rfl)
theorem dX9_town_58 : decode cX9_town 58 = .ok (.bipush 12, 2) := dk_16 12 (dk_at dksX9_town_2 10 rfl rfl)
theorem dX9_town_60 : decode cX9_town 60 = .ok (.iastore, 1) := dk_79 (dk_at dksX9_town_2 12 rfl rfl)
theorem dX9_town_61 : decode cX9_town 61 = .ok (.aload_n 0, 1) := dk_42 (dk_at dksX9_town_2 13 rfl rfl)
theorem dX9_town_62 : decode cX9_town 62 = .ok (.getfield 121, 3) := dk_180 0 121 (dk_at dksX9_town_2 14 rfl rfl)
theorem dX9_town_65 : decode cX9_town 65 = .ok (.aload_n 0, 1) := dk_42 (dk_at dksX9_town_2 17 rfl rfl)
theorem dX9_town_66 : decode cX9_town 66 = .ok (.getfield 127, 3) := dk_180 0 127 (dk_at dksX9_town_2 18 rfl rfl)
theorem dX9_town_69 : decode cX9_town 69 = .ok (.iconst 2, 1) := dk_5 (dk_at dksX9_town_2 21 rfl rfl)
theorem dX9_town_70 : decode cX9_town 70 = .ok (.iastore, 1) := dk_79 (dk_at dksX9_town_2 22 rfl rfl)
theorem dX9_town_71 : decode cX9_town 71 = .ok (.aload_n 0, 1) := dk_42 (dk_at dksX9_town_2 23 rfl rfl)
theorem dX9_town_72 : decode cX9_town 72 = .ok (.getfield 124, 3) := dk_180 0 124 (dk_at dksX9_town_3 0 rfl rfl)
theorem dX9_town_75 : decode cX9_town 75 = .ok (.aload_n 0, 1) := dk_42 (dk_at dksX9_town_3 3 rfl rfl)
theorem dX9_town_76 : decode cX9_town 76 = .ok (.getfield 127, 3) := dk_180 0 127 (dk_at dksX9_town_3 4 rfl rfl)
theorem dX9_town_79 : decode cX9_town 79 = .ok (.iconst 0, 1) := dk_3 (dk_at dksX9_town_3 7 rfl rfl)
theorem dX9_town_80 : decode cX9_town 80 = .ok (.iastore, 1) := dk_79 (dk_at dksX9_town_3 8 rfl rfl)
theorem dX9_town_81 : decode cX9_town 81 = .ok (.aload_n 0, 1) := dk_42 (dk_at dksX9_town_3 9 rfl rfl)
theorem dX9_town_82 : decode cX9_town 82 = .ok (.invokevirtual 384, 3) := dk_182 1 128 (dk_at dksX9_town_3 10 rfl rfl)
theorem dX9_town_85 : decode cX9_town 85 = .ok (.iconst 0, 1) := dk_3 (dk_at dksX9_town_3 13 rfl rfl)
theorem dX9_town_86 : decode cX9_town 86 = .ok (.istore_n 1, 1) := dk_60 (dk_at dksX9_town_3 14 rfl rfl)
theorem dX9_town_87 : decode cX9_town 87 = .ok (.aload_n 0, 1) := dk_42 (dk_at dksX9_town_3 15 rfl rfl)
theorem dX9_town_88 : decode cX9_town 88 = .ok (.getfield 36, 3) := dk_180 0 36 (dk_at dksX9_town_3 16 rfl rfl)
theorem dX9_town_91 : decode cX9_town 91 = .ok (.ifCond .ne 25, 3) := dk_154 0 25 (dk_at dksX9_town_3 19 rfl rfl)
theorem dX9_town_94 : decode cX9_town 94 = .ok (.aload_n 0, 1) := dk_42 (dk_at dksX9_town_3 22 rfl rfl)
theorem dX9_town_95 : decode cX9_town 95 = .ok (.getfield 20, 3) := dk_180 0 20 (dk_at dksX9_town_4 0 rfl rfl)
theorem dX9_town_98 : decode cX9_town 98 = .ok (.ifCond .eq 18, 3) := dk_153 0 18 (dk_at dksX9_town_4 3 rfl rfl)
theorem dX9_town_101 : decode cX9_town 101 = .ok (.aload_n 0, 1) := dk_42 (dk_at dksX9_town_4 6 rfl rfl)
theorem dX9_town_102 : decode cX9_town 102 = .ok (.invokevirtual 387, 3) := dk_182 1 131 (dk_at dksX9_town_4 7 rfl rfl)
theorem dX9_town_105 : decode cX9_town 105 = .ok (.iinc 1 1, 3) := dk_132 1 1 (dk_at dksX9_town_4 10 rfl rfl)
theorem dX9_town_108 : decode cX9_town 108 = .ok (.aload_n 0, 1) := dk_42 (dk_at dksX9_town_4 13 rfl rfl)
theorem dX9_town_109 : decode cX9_town 109 = .ok (.iload_n 1, 1) := dk_27 (dk_at dksX9_town_4 14 rfl rfl)
theorem dX9_town_110 : decode cX9_town 110 = .ok (.invokevirtual 390, 3) := dk_182 1 134 (dk_at dksX9_town_4 15 rfl rfl)
theorem dX9_town_113 : decode cX9_town 113 = .ok (.goto (-26), 3) := dk_167 255 230 (dk_at dksX9_town_4 18 rfl rfl)
theorem dX9_town_116 : decode cX9_town 116 = .ok (.aload_n 0, 1) := dk_42 (dk_at dksX9_town_4 21 rfl rfl)
theorem dX9_town_117 : decode cX9_town 117 = .ok (.aload_n 0, 1) := dk_42 (dk_at dksX9_town_4 22 rfl rfl)
theorem dX9_town_118 : decode cX9_town 118 = .ok (.getfield 36, 3) := dk_180 0 36 (dk_at dksX9_town_5 0 rfl rfl)
theorem dX9_town_121 : decode cX9_town 121 = .ok (.putfield 42, 3) := dk_181 0 42 (dk_at dksX9_town_5 3 rfl rfl)
theorem dX9_town_124 : decode cX9_town 124 = .ok (.aload_n 0, 1) := dk_42 (dk_at dksX9_town_5 6 rfl rfl)
theorem dX9_town_125 : decode cX9_town 125 = .ok (.aload_n 0, 1) := dk_42 (dk_at dksX9_town_5 7 rfl rfl)
theorem dX9_town_126 : decode cX9_town 126 = .ok (.getfield 39, 3) := dk_180 0 39 (dk_at dksX9_town_5 8 rfl rfl)
theorem dX9_town_129 : decode cX9_town 129 = .ok (.putfield 45, 3) := dk_181 0 45 (dk_at dksX9_town_5 11 rfl rfl)
theorem dX9_town_132 : decode cX9_town 132 = .ok (.aload_n 0, 1) := dk_42 (dk_at dksX9_town_5 14 rfl rfl)
theorem dX9_town_133 : decode cX9_town 133 = .ok (.getfield 36, 3) := dk_180 0 36 (dk_at dksX9_town_5 15 rfl rfl)
theorem dX9_town_136 : decode cX9_town 136 = .ok (.ifCond .le 9, 3) := dk_158 0 9 (dk_at dksX9_town_5 18 rfl rfl)
theorem dX9_town_139 : decode cX9_town 139 = .ok (.aload_n 0, 1) := dk_42 (dk_at dksX9_town_5 21 rfl rfl)
theorem dX9_town_140 : decode cX9_town 140 = .ok (.iconst 1, 1) := dk_4 (dk_at dksX9_town_5 22 rfl rfl)
theorem dX9_town_141 : decode cX9_town 141 = .ok (.invokevirtual 254, 3) := dk_182 0 254 (dk_at dksX9_town_6 0 rfl rfl)
theorem dX9_town_144 : decode cX9_town 144 = .ok (.ireturn, 1) := dk_172 (dk_at dksX9_town_6 3 rfl rfl)
theorem dX9_town_145 : decode cX9_town 145 = .ok (.aload_n 0, 1) := dk_42 (dk_at dksX9_town_6 4 rfl rfl)
theorem dX9_town_146 : decode cX9_town 146 = .ok (.aload_n 0, 1) := dk_42 (dk_at dksX9_town_6 5 rfl rfl)
theorem dX9_town_147 : decode cX9_town 147 = .ok (.getfield 127, 3) := dk_180 0 127 (dk_at dksX9_town_6 6 rfl rfl)
theorem dX9_town_150 : decode cX9_town 150 = .ok (.putfield 51, 3) := dk_181 0 51 (dk_at dksX9_town_6 9 rfl rfl)
theorem dX9_town_153 : decode cX9_town 153 = .ok (.aload_n 0, 1) := dk_42 (dk_at dksX9_town_6 12 rfl rfl)
theorem dX9_town_154 : decode cX9_town 154 = .ok (.invokevirtual 393, 3) := dk_182 1 137 (dk_at dksX9_town_6 13 rfl rfl)
theorem dX9_town_157 : decode cX9_town 157 = .ok (.iload_n 1, 1) := dk_27 (dk_at dksX9_town_6 16 rfl rfl)
theorem dX9_town_158 : decode cX9_town 158 = .ok (.ireturn, 1) := dk_172 (dk_at dksX9_town_6 17 rfl rfl)
def dkwX9_takesTape_1 : List UInt8 := [2, 181, 0, 39, 42, 182, 1, 23, 177]
abbrev dktX9_takesTape_1 : List UInt8 := dkwX9_takesTape_1 ++ []
def dkwX9_takesTape_0 : List UInt8 := [42, 42, 180, 0, 13, 181, 0, 17, 42, 3, 181, 0, 13, 42, 3, 181, 0, 26, 42, 3, 181, 0, 36, 42]
abbrev dktX9_takesTape_0 : List UInt8 := dkwX9_takesTape_0 ++ dktX9_takesTape_1
theorem dksX9_takesTape_0 : cX9_takesTape.data.toList.drop 0 = dktX9_takesTape_0 := by decide +kernel
theorem dksX9_takesTape_1 : cX9_takesTape.data.toList.drop 24 = dktX9_takesTape_1 := dk_seg dksX9_takesTape_0 24 rfl rfl
theorem dX9_takesTape_0 : decode cX9_takesTape 0 = .ok (.aload_n 0, 1) := dk_42 (dk_at dksX9_takesTape_0 0 rfl rfl)
theorem dX9_takesTape_1 : decode cX9_takesTape 1 = .ok (.aload_n 0, 1) := dk_42 (dk_at dksX9_takesTape_0 1 rfl rfl)
theorem dX9_takesTape_2 : decode cX9_takesTape 2 = .ok (.getfield 13, 3) := dk_180 0 13 (dk_at dksX9_takesTape_0 2 rfl rfl)
theorem dX9_takesTape_5 : decode cX9_takesTape 5 = .ok (.putfield 17, 3) := dk_181 0 17 (dk_at dksX9_takesTape_0 5 rfl rfl)
theorem dX9_takesTape_8 : decode cX9_takesTape 8 = .ok (.aload_n 0, 1) := dk_42 (dk_at dksX9_takesTape_0 8 rfl rfl)
theorem dX9_takesTape_9 : decode cX9_takesTape 9 = .ok (.iconst 0, 1) := dk_3 (dk_at dksX9_takesTape_0 9 rfl rfl)
theorem dX9_takesTape_10 : decode cX9_takesTape 10 = .ok (.putfield 13, 3) := dk_181 0 13 (dk_at dksX9_takesTape_0 10 rfl rfl)
theorem dX9_takesTape_13 : decode cX9_takesTape 13 = .ok (.aload_n 0, 1) := dk_42 (dk_at dksX9_takesTape_0 13 rfl rfl)
theorem dX9_takesTape_14 : decode cX9_takesTape 14 = .ok (.iconst 0, 1) := dk_3 (dk_at dksX9_takesTape_0 14 rfl rfl)
theorem dX9_takesTape_15 : decode cX9_takesTape 15 = .ok (.putfield 26, 3) := dk_181 0 26 (dk_at dksX9_takesTape_0 15 rfl rfl)
theorem dX9_takesTape_18 : decode cX9_takesTape 18 = .ok (.aload_n 0, 1) := dk_42 (dk_at dksX9_takesTape_0 18 rfl rfl)
theorem dX9_takesTape_19 : decode cX9_takesTape 19 = .ok (.iconst 0, 1) := dk_3 (dk_at dksX9_takesTape_0 19 rfl rfl)
theorem dX9_takesTape_20 : decode cX9_takesTape 20 = .ok (.putfield 36, 3) := dk_181 0 36 (dk_at dksX9_takesTape_0 20 rfl rfl)
theorem dX9_takesTape_23 : decode cX9_takesTape 23 = .ok (.aload_n 0, 1) := dk_42 (dk_at dksX9_takesTape_0 23 rfl rfl)
theorem dX9_takesTape_24 : decode cX9_takesTape 24 = .ok (.iconst (-1), 1) := dk_2 (dk_at dksX9_takesTape_1 0 rfl rfl)
theorem dX9_takesTape_25 : decode cX9_takesTape 25 = .ok (.putfield 39, 3) := dk_181 0 39 (dk_at dksX9_takesTape_1 1 rfl rfl)
theorem dX9_takesTape_28 : decode cX9_takesTape 28 = .ok (.aload_n 0, 1) := dk_42 (dk_at dksX9_takesTape_1 4 rfl rfl)
theorem dX9_takesTape_29 : decode cX9_takesTape 29 = .ok (.invokevirtual 279, 3) := dk_182 1 23 (dk_at dksX9_takesTape_1 5 rfl rfl)
theorem dX9_takesTape_32 : decode cX9_takesTape 32 = .ok (.return_, 1) := dk_177 (dk_at dksX9_takesTape_1 8 rfl rfl)
def dkwX9_ahead_14 : List UInt8 := [167, 255, 129, 42, 27, 181, 0, 26, 177]
abbrev dktX9_ahead_14 : List UInt8 := dkwX9_ahead_14 ++ []
def dkwX9_ahead_13 : List UInt8 := [42, 180, 0, 29, 104, 42, 180, 0, 7, 27, 46, 96, 16, 48, 100, 181, 0, 29, 132, 5, 1, 132, 1, 1]
abbrev dktX9_ahead_13 : List UInt8 := dkwX9_ahead_13 ++ dktX9_ahead_14
def dkwX9_ahead_12 : List UInt8 := [180, 0, 7, 27, 46, 133, 129, 181, 0, 32, 21, 5, 21, 4, 162, 0, 28, 29, 153, 0, 24, 42, 16, 10]
abbrev dktX9_ahead_12 : List UInt8 := dkwX9_ahead_12 ++ dktX9_ahead_13
def dkwX9_ahead_11 : List UInt8 := [181, 0, 48, 21, 5, 21, 4, 162, 0, 26, 28, 153, 0, 22, 42, 42, 180, 0, 32, 16, 8, 121, 42]
abbrev dktX9_ahead_11 : List UInt8 := dkwX9_ahead_11 ++ dktX9_ahead_12
def dkwX9_ahead_10 : List UInt8 := [184, 1, 14, 153, 0, 94, 21, 5, 21, 4, 160, 0, 16, 42, 180, 0, 48, 2, 160, 0, 8, 42, 27]
abbrev dktX9_ahead_10 : List UInt8 := dkwX9_ahead_10 ++ dktX9_ahead_11
def dkwX9_ahead_9 : List UInt8 := [153, 0, 18, 42, 180, 0, 7, 27, 46, 184, 1, 10, 153, 0, 109, 167, 0, 15, 42, 180, 0, 7, 27, 46]
abbrev dktX9_ahead_9 : List UInt8 := dkwX9_ahead_9 ++ dktX9_ahead_10
def dkwX9_ahead_8 : List UInt8 := [28, 153, 0, 8, 16, 6, 167, 0, 4, 7, 54, 4, 3, 54, 5, 27, 42, 180, 0, 17, 162, 0, 125, 28]
abbrev dktX9_ahead_8 : List UInt8 := dkwX9_ahead_8 ++ dktX9_ahead_9
def dkwX9_ahead_7 : List UInt8 := [42, 42, 180, 0, 7, 27, 46, 181, 0, 29, 177, 42, 28, 153, 0, 7, 4, 167, 0, 4, 5, 181, 0, 20]
abbrev dktX9_ahead_7 : List UInt8 := dkwX9_ahead_7 ++ dktX9_ahead_8
def dkwX9_ahead_6 : List UInt8 := [9, 181, 0, 32, 42, 6, 181, 0, 20, 42, 27, 4, 96, 181, 0, 26, 28, 154, 0, 18, 29, 154, 0, 14]
abbrev dktX9_ahead_6 : List UInt8 := dkwX9_ahead_6 ++ dktX9_ahead_7
def dkwX9_ahead_5 : List UInt8 := [180, 0, 7, 27, 4, 100, 46, 184, 1, 14, 153, 0, 8, 42, 27, 181, 0, 48, 42, 3, 181, 0, 29, 42]
abbrev dktX9_ahead_5 : List UInt8 := dkwX9_ahead_5 ++ dktX9_ahead_6
def dkwX9_ahead_4 : List UInt8 := [153, 0, 40, 27, 158, 0, 36, 42, 180, 0, 7, 27, 4, 100, 46, 184, 1, 10, 154, 0, 17, 42]
abbrev dktX9_ahead_4 : List UInt8 := dkwX9_ahead_4 ++ dktX9_ahead_5
def dkwX9_ahead_3 : List UInt8 := [180, 0, 7, 27, 46, 184, 1, 10, 61, 42, 180, 0, 7, 27, 46, 184, 1, 14, 62, 28, 154, 0, 7, 29]
abbrev dktX9_ahead_3 : List UInt8 := dkwX9_ahead_3 ++ dktX9_ahead_4
def dkwX9_ahead_2 : List UInt8 := [181, 0, 26, 42, 3, 181, 0, 20, 42, 2, 181, 0, 48, 27, 42, 180, 0, 17, 161, 0, 4, 177, 42]
abbrev dktX9_ahead_2 : List UInt8 := dkwX9_ahead_2 ++ dktX9_ahead_3
def dkwX9_ahead_1 : List UInt8 := [42, 180, 0, 7, 27, 46, 16, 10, 160, 0, 9, 132, 1, 1, 167, 255, 223, 42, 27, 181, 0, 23, 42, 27]
abbrev dktX9_ahead_1 : List UInt8 := dkwX9_ahead_1 ++ dktX9_ahead_2
def dkwX9_ahead_0 : List UInt8 := [42, 180, 0, 26, 60, 27, 42, 180, 0, 17, 162, 0, 31, 42, 180, 0, 7, 27, 46, 16, 32, 159, 0, 14]
abbrev dktX9_ahead_0 : List UInt8 := dkwX9_ahead_0 ++ dktX9_ahead_1
theorem dksX9_ahead_0 : cX9_ahead.data.toList.drop 0 = dktX9_ahead_0 := by decide +kernel
theorem dksX9_ahead_1 : cX9_ahead.data.toList.drop 24 = dktX9_ahead_1 := dk_seg dksX9_ahead_0 24 rfl rfl
theorem dksX9_ahead_2 : cX9_ahead.data.toList.drop 48 = dktX9_ahead_2 := dk_seg dksX9_ahead_1 24 rfl rfl
theorem dksX9_ahead_3 : cX9_ahead.data.toList.drop 71 = dktX9_ahead_3 := dk_seg dksX9_ahead_2 23 rfl rfl
theorem dksX9_ahead_4 : cX9_ahead.data.toList.drop 95 = dktX9_ahead_4 := dk_seg dksX9_ahead_3 24 rfl rfl
theorem dksX9_ahead_5 : cX9_ahead.data.toList.drop 117 = dktX9_ahead_5 := dk_seg dksX9_ahead_4 22 rfl rfl
theorem dksX9_ahead_6 : cX9_ahead.data.toList.drop 141 = dktX9_ahead_6 := dk_seg dksX9_ahead_5 24 rfl rfl
theorem dksX9_ahead_7 : cX9_ahead.data.toList.drop 165 = dktX9_ahead_7 := dk_seg dksX9_ahead_6 24 rfl rfl
theorem dksX9_ahead_8 : cX9_ahead.data.toList.drop 189 = dktX9_ahead_8 := dk_seg dksX9_ahead_7 24 rfl rfl
theorem dksX9_ahead_9 : cX9_ahead.data.toList.drop 213 = dktX9_ahead_9 := dk_seg dksX9_ahead_8 24 rfl rfl
theorem dksX9_ahead_10 : cX9_ahead.data.toList.drop 237 = dktX9_ahead_10 := dk_seg dksX9_ahead_9 24 rfl rfl
theorem dksX9_ahead_11 : cX9_ahead.data.toList.drop 260 = dktX9_ahead_11 := dk_seg dksX9_ahead_10 23 rfl rfl
theorem dksX9_ahead_12 : cX9_ahead.data.toList.drop 283 = dktX9_ahead_12 := dk_seg dksX9_ahead_11 23 rfl rfl
theorem dksX9_ahead_13 : cX9_ahead.data.toList.drop 307 = dktX9_ahead_13 := dk_seg dksX9_ahead_12 24 rfl rfl
theorem dksX9_ahead_14 : cX9_ahead.data.toList.drop 331 = dktX9_ahead_14 := dk_seg dksX9_ahead_13 24 rfl rfl
theorem dX9_ahead_0 : decode cX9_ahead 0 = .ok (.aload_n 0, 1) := dk_42 (dk_at dksX9_ahead_0 0 rfl rfl)
theorem dX9_ahead_1 : decode cX9_ahead 1 = .ok (.getfield 26, 3) := dk_180 0 26 (dk_at dksX9_ahead_0 1 rfl rfl)
theorem dX9_ahead_4 : decode cX9_ahead 4 = .ok (.istore_n 1, 1) := dk_60 (dk_at dksX9_ahead_0 4 rfl rfl)
theorem dX9_ahead_5 : decode cX9_ahead 5 = .ok (.iload_n 1, 1) := dk_27 (dk_at dksX9_ahead_0 5 rfl rfl)
theorem dX9_ahead_6 : decode cX9_ahead 6 = .ok (.aload_n 0, 1) := dk_42 (dk_at dksX9_ahead_0 6 rfl rfl)
theorem dX9_ahead_7 : decode cX9_ahead 7 = .ok (.getfield 17, 3) := dk_180 0 17 (dk_at dksX9_ahead_0 7 rfl rfl)
theorem dX9_ahead_10 : decode cX9_ahead 10 = .ok (.if_icmp .ge 31, 3) := dk_162 0 31 (dk_at dksX9_ahead_0 10 rfl rfl)
theorem dX9_ahead_13 : decode cX9_ahead 13 = .ok (.aload_n 0, 1) := dk_42 (dk_at dksX9_ahead_0 13 rfl rfl)
theorem dX9_ahead_14 : decode cX9_ahead 14 = .ok (.getfield 7, 3) := dk_180 0 7 (dk_at dksX9_ahead_0 14 rfl rfl)
theorem dX9_ahead_17 : decode cX9_ahead 17 = .ok (.iload_n 1, 1) := dk_27 (dk_at dksX9_ahead_0 17 rfl rfl)
theorem dX9_ahead_18 : decode cX9_ahead 18 = .ok (.iaload, 1) := dk_46 (dk_at dksX9_ahead_0 18 rfl rfl)
theorem dX9_ahead_19 : decode cX9_ahead 19 = .ok (.bipush 32, 2) := dk_16 32 (dk_at dksX9_ahead_0 19 rfl rfl)
theorem dX9_ahead_21 : decode cX9_ahead 21 = .ok (.if_icmp .eq 14, 3) := dk_159 0 14 (dk_at dksX9_ahead_0 21 rfl rfl)
theorem dX9_ahead_24 : decode cX9_ahead 24 = .ok (.aload_n 0, 1) := dk_42 (dk_at dksX9_ahead_1 0 rfl rfl)
theorem dX9_ahead_25 : decode cX9_ahead 25 = .ok (.getfield 7, 3) := dk_180 0 7 (dk_at dksX9_ahead_1 1 rfl rfl)
theorem dX9_ahead_28 : decode cX9_ahead 28 = .ok (.iload_n 1, 1) := dk_27 (dk_at dksX9_ahead_1 4 rfl rfl)
theorem dX9_ahead_29 : decode cX9_ahead 29 = .ok (.iaload, 1) := dk_46 (dk_at dksX9_ahead_1 5 rfl rfl)
theorem dX9_ahead_30 : decode cX9_ahead 30 = .ok (.bipush 10, 2) := dk_16 10 (dk_at dksX9_ahead_1 6 rfl rfl)
theorem dX9_ahead_32 : decode cX9_ahead 32 = .ok (.if_icmp .ne 9, 3) := dk_160 0 9 (dk_at dksX9_ahead_1 8 rfl rfl)
theorem dX9_ahead_35 : decode cX9_ahead 35 = .ok (.iinc 1 1, 3) := dk_132 1 1 (dk_at dksX9_ahead_1 11 rfl rfl)
theorem dX9_ahead_38 : decode cX9_ahead 38 = .ok (.goto (-33), 3) := dk_167 255 223 (dk_at dksX9_ahead_1 14 rfl rfl)
theorem dX9_ahead_41 : decode cX9_ahead 41 = .ok (.aload_n 0, 1) := dk_42 (dk_at dksX9_ahead_1 17 rfl rfl)
theorem dX9_ahead_42 : decode cX9_ahead 42 = .ok (.iload_n 1, 1) := dk_27 (dk_at dksX9_ahead_1 18 rfl rfl)
theorem dX9_ahead_43 : decode cX9_ahead 43 = .ok (.putfield 23, 3) := dk_181 0 23 (dk_at dksX9_ahead_1 19 rfl rfl)
theorem dX9_ahead_46 : decode cX9_ahead 46 = .ok (.aload_n 0, 1) := dk_42 (dk_at dksX9_ahead_1 22 rfl rfl)
theorem dX9_ahead_47 : decode cX9_ahead 47 = .ok (.iload_n 1, 1) := dk_27 (dk_at dksX9_ahead_1 23 rfl rfl)
theorem dX9_ahead_48 : decode cX9_ahead 48 = .ok (.putfield 26, 3) := dk_181 0 26 (dk_at dksX9_ahead_2 0 rfl rfl)
theorem dX9_ahead_51 : decode cX9_ahead 51 = .ok (.aload_n 0, 1) := dk_42 (dk_at dksX9_ahead_2 3 rfl rfl)
theorem dX9_ahead_52 : decode cX9_ahead 52 = .ok (.iconst 0, 1) := dk_3 (dk_at dksX9_ahead_2 4 rfl rfl)
theorem dX9_ahead_53 : decode cX9_ahead 53 = .ok (.putfield 20, 3) := dk_181 0 20 (dk_at dksX9_ahead_2 5 rfl rfl)
theorem dX9_ahead_56 : decode cX9_ahead 56 = .ok (.aload_n 0, 1) := dk_42 (dk_at dksX9_ahead_2 8 rfl rfl)
theorem dX9_ahead_57 : decode cX9_ahead 57 = .ok (.iconst (-1), 1) := dk_2 (dk_at dksX9_ahead_2 9 rfl rfl)
theorem dX9_ahead_58 : decode cX9_ahead 58 = .ok (.putfield 48, 3) := dk_181 0 48 (dk_at dksX9_ahead_2 10 rfl rfl)
theorem dX9_ahead_61 : decode cX9_ahead 61 = .ok (.iload_n 1, 1) := dk_27 (dk_at dksX9_ahead_2 13 rfl rfl)
theorem dX9_ahead_62 : decode cX9_ahead 62 = .ok (.aload_n 0, 1) := dk_42 (dk_at dksX9_ahead_2 14 rfl rfl)
theorem dX9_ahead_63 : decode cX9_ahead 63 = .ok (.getfield 17, 3) := dk_180 0 17 (dk_at dksX9_ahead_2 15 rfl rfl)
theorem dX9_ahead_66 : decode cX9_ahead 66 = .ok (.if_icmp .lt 4, 3) := dk_161 0 4 (dk_at dksX9_ahead_2 18 rfl rfl)
theorem dX9_ahead_69 : decode cX9_ahead 69 = .ok (.return_, 1) := dk_177 (dk_at dksX9_ahead_2 21 rfl rfl)
theorem dX9_ahead_70 : decode cX9_ahead 70 = .ok (.aload_n 0, 1) := dk_42 (dk_at dksX9_ahead_2 22 rfl rfl)
theorem dX9_ahead_71 : decode cX9_ahead 71 = .ok (.getfield 7, 3) := dk_180 0 7 (dk_at dksX9_ahead_3 0 rfl rfl)
theorem dX9_ahead_74 : decode cX9_ahead 74 = .ok (.iload_n 1, 1) := dk_27 (dk_at dksX9_ahead_3 3 rfl rfl)
theorem dX9_ahead_75 : decode cX9_ahead 75 = .ok (.iaload, 1) := dk_46 (dk_at dksX9_ahead_3 4 rfl rfl)
theorem dX9_ahead_76 : decode cX9_ahead 76 = .ok (.invokestatic 266, 3) := dk_184 1 10 (dk_at dksX9_ahead_3 5 rfl rfl)
theorem dX9_ahead_79 : decode cX9_ahead 79 = .ok (.istore_n 2, 1) := dk_61 (dk_at dksX9_ahead_3 8 rfl rfl)
theorem dX9_ahead_80 : decode cX9_ahead 80 = .ok (.aload_n 0, 1) := dk_42 (dk_at dksX9_ahead_3 9 rfl rfl)
theorem dX9_ahead_81 : decode cX9_ahead 81 = .ok (.getfield 7, 3) := dk_180 0 7 (dk_at dksX9_ahead_3 10 rfl rfl)
theorem dX9_ahead_84 : decode cX9_ahead 84 = .ok (.iload_n 1, 1) := dk_27 (dk_at dksX9_ahead_3 13 rfl rfl)
theorem dX9_ahead_85 : decode cX9_ahead 85 = .ok (.iaload, 1) := dk_46 (dk_at dksX9_ahead_3 14 rfl rfl)
theorem dX9_ahead_86 : decode cX9_ahead 86 = .ok (.invokestatic 270, 3) := dk_184 1 14 (dk_at dksX9_ahead_3 15 rfl rfl)
theorem dX9_ahead_89 : decode cX9_ahead 89 = .ok (.istore_n 3, 1) := dk_62 (dk_at dksX9_ahead_3 18 rfl rfl)
theorem dX9_ahead_90 : decode cX9_ahead 90 = .ok (.iload_n 2, 1) := dk_28 (dk_at dksX9_ahead_3 19 rfl rfl)
theorem dX9_ahead_91 : decode cX9_ahead 91 = .ok (.ifCond .ne 7, 3) := dk_154 0 7 (dk_at dksX9_ahead_3 20 rfl rfl)
theorem dX9_ahead_94 : decode cX9_ahead 94 = .ok (.iload_n 3, 1) := dk_29 (dk_at dksX9_ahead_3 23 rfl rfl)
theorem dX9_ahead_95 : decode cX9_ahead 95 = .ok (.ifCond .eq 40, 3) := dk_153 0 40 (dk_at dksX9_ahead_4 0 rfl rfl)
theorem dX9_ahead_98 : decode cX9_ahead 98 = .ok (.iload_n 1, 1) := dk_27 (dk_at dksX9_ahead_4 3 rfl rfl)
theorem dX9_ahead_99 : decode cX9_ahead 99 = .ok (.ifCond .le 36, 3) := dk_158 0 36 (dk_at dksX9_ahead_4 4 rfl rfl)
theorem dX9_ahead_102 : decode cX9_ahead 102 = .ok (.aload_n 0, 1) := dk_42 (dk_at dksX9_ahead_4 7 rfl rfl)
theorem dX9_ahead_103 : decode cX9_ahead 103 = .ok (.getfield 7, 3) := dk_180 0 7 (dk_at dksX9_ahead_4 8 rfl rfl)
theorem dX9_ahead_106 : decode cX9_ahead 106 = .ok (.iload_n 1, 1) := dk_27 (dk_at dksX9_ahead_4 11 rfl rfl)
theorem dX9_ahead_107 : decode cX9_ahead 107 = .ok (.iconst 1, 1) := dk_4 (dk_at dksX9_ahead_4 12 rfl rfl)
theorem dX9_ahead_108 : decode cX9_ahead 108 = .ok (.isub, 1) := dk_100 (dk_at dksX9_ahead_4 13 rfl rfl)
theorem dX9_ahead_109 : decode cX9_ahead 109 = .ok (.iaload, 1) := dk_46 (dk_at dksX9_ahead_4 14 rfl rfl)
theorem dX9_ahead_110 : decode cX9_ahead 110 = .ok (.invokestatic 266, 3) := dk_184 1 10 (dk_at dksX9_ahead_4 15 rfl rfl)
theorem dX9_ahead_113 : decode cX9_ahead 113 = .ok (.ifCond .ne 17, 3) := dk_154 0 17 (dk_at dksX9_ahead_4 18 rfl rfl)
theorem dX9_ahead_116 : decode cX9_ahead 116 = .ok (.aload_n 0, 1) := dk_42 (dk_at dksX9_ahead_4 21 rfl rfl)
theorem dX9_ahead_117 : decode cX9_ahead 117 = .ok (.getfield 7, 3) := dk_180 0 7 (dk_at dksX9_ahead_5 0 rfl rfl)
theorem dX9_ahead_120 : decode cX9_ahead 120 = .ok (.iload_n 1, 1) := dk_27 (dk_at dksX9_ahead_5 3 rfl rfl)
theorem dX9_ahead_121 : decode cX9_ahead 121 = .ok (.iconst 1, 1) := dk_4 (dk_at dksX9_ahead_5 4 rfl rfl)
theorem dX9_ahead_122 : decode cX9_ahead 122 = .ok (.isub, 1) := dk_100 (dk_at dksX9_ahead_5 5 rfl rfl)
theorem dX9_ahead_123 : decode cX9_ahead 123 = .ok (.iaload, 1) := dk_46 (dk_at dksX9_ahead_5 6 rfl rfl)
theorem dX9_ahead_124 : decode cX9_ahead 124 = .ok (.invokestatic 270, 3) := dk_184 1 14 (dk_at dksX9_ahead_5 7 rfl rfl)
theorem dX9_ahead_127 : decode cX9_ahead 127 = .ok (.ifCond .eq 8, 3) := dk_153 0 8 (dk_at dksX9_ahead_5 10 rfl rfl)
theorem dX9_ahead_130 : decode cX9_ahead 130 = .ok (.aload_n 0, 1) := dk_42 (dk_at dksX9_ahead_5 13 rfl rfl)
theorem dX9_ahead_131 : decode cX9_ahead 131 = .ok (.iload_n 1, 1) := dk_27 (dk_at dksX9_ahead_5 14 rfl rfl)
theorem dX9_ahead_132 : decode cX9_ahead 132 = .ok (.putfield 48, 3) := dk_181 0 48 (dk_at dksX9_ahead_5 15 rfl rfl)
theorem dX9_ahead_135 : decode cX9_ahead 135 = .ok (.aload_n 0, 1) := dk_42 (dk_at dksX9_ahead_5 18 rfl rfl)
theorem dX9_ahead_136 : decode cX9_ahead 136 = .ok (.iconst 0, 1) := dk_3 (dk_at dksX9_ahead_5 19 rfl rfl)
theorem dX9_ahead_137 : decode cX9_ahead 137 = .ok (.putfield 29, 3) := dk_181 0 29 (dk_at dksX9_ahead_5 20 rfl rfl)
theorem dX9_ahead_140 : decode cX9_ahead 140 = .ok (.aload_n 0, 1) := dk_42 (dk_at dksX9_ahead_5 23 rfl rfl)
theorem dX9_ahead_141 : decode cX9_ahead 141 = .ok (.lconst 0, 1) := dk_9 (dk_at dksX9_ahead_6 0 rfl rfl)
theorem dX9_ahead_142 : decode cX9_ahead 142 = .ok (.putfield 32, 3) := dk_181 0 32 (dk_at dksX9_ahead_6 1 rfl rfl)
theorem dX9_ahead_145 : decode cX9_ahead 145 = .ok (.aload_n 0, 1) := dk_42 (dk_at dksX9_ahead_6 4 rfl rfl)
theorem dX9_ahead_146 : decode cX9_ahead 146 = .ok (.iconst 3, 1) := dk_6 (dk_at dksX9_ahead_6 5 rfl rfl)
theorem dX9_ahead_147 : decode cX9_ahead 147 = .ok (.putfield 20, 3) := dk_181 0 20 (dk_at dksX9_ahead_6 6 rfl rfl)
theorem dX9_ahead_150 : decode cX9_ahead 150 = .ok (.aload_n 0, 1) := dk_42 (dk_at dksX9_ahead_6 9 rfl rfl)
theorem dX9_ahead_151 : decode cX9_ahead 151 = .ok (.iload_n 1, 1) := dk_27 (dk_at dksX9_ahead_6 10 rfl rfl)
theorem dX9_ahead_152 : decode cX9_ahead 152 = .ok (.iconst 1, 1) := dk_4 (dk_at dksX9_ahead_6 11 rfl rfl)
theorem dX9_ahead_153 : decode cX9_ahead 153 = .ok (.iadd, 1) := dk_96 (dk_at dksX9_ahead_6 12 rfl rfl)
theorem dX9_ahead_154 : decode cX9_ahead 154 = .ok (.putfield 26, 3) := dk_181 0 26 (dk_at dksX9_ahead_6 13 rfl rfl)
theorem dX9_ahead_157 : decode cX9_ahead 157 = .ok (.iload_n 2, 1) := dk_28 (dk_at dksX9_ahead_6 16 rfl rfl)
theorem dX9_ahead_158 : decode cX9_ahead 158 = .ok (.ifCond .ne 18, 3) := dk_154 0 18 (dk_at dksX9_ahead_6 17 rfl rfl)
theorem dX9_ahead_161 : decode cX9_ahead 161 = .ok (.iload_n 3, 1) := dk_29 (dk_at dksX9_ahead_6 20 rfl rfl)
theorem dX9_ahead_162 : decode cX9_ahead 162 = .ok (.ifCond .ne 14, 3) := dk_154 0 14 (dk_at dksX9_ahead_6 21 rfl rfl)
theorem dX9_ahead_165 : decode cX9_ahead 165 = .ok (.aload_n 0, 1) := dk_42 (dk_at dksX9_ahead_7 0 rfl rfl)
theorem dX9_ahead_166 : decode cX9_ahead 166 = .ok (.aload_n 0, 1) := dk_42 (dk_at dksX9_ahead_7 1 rfl rfl)
theorem dX9_ahead_167 : decode cX9_ahead 167 = .ok (.getfield 7, 3) := dk_180 0 7 (dk_at dksX9_ahead_7 2 rfl rfl)
theorem dX9_ahead_170 : decode cX9_ahead 170 = .ok (.iload_n 1, 1) := dk_27 (dk_at dksX9_ahead_7 5 rfl rfl)
theorem dX9_ahead_171 : decode cX9_ahead 171 = .ok (.iaload, 1) := dk_46 (dk_at dksX9_ahead_7 6 rfl rfl)
theorem dX9_ahead_172 : decode cX9_ahead 172 = .ok (.putfield 29, 3) := dk_181 0 29 (dk_at dksX9_ahead_7 7 rfl rfl)
theorem dX9_ahead_175 : decode cX9_ahead 175 = .ok (.return_, 1) := dk_177 (dk_at dksX9_ahead_7 10 rfl rfl)
theorem dX9_ahead_176 : decode cX9_ahead 176 = .ok (.aload_n 0, 1) := dk_42 (dk_at dksX9_ahead_7 11 rfl rfl)
theorem dX9_ahead_177 : decode cX9_ahead 177 = .ok (.iload_n 2, 1) := dk_28 (dk_at dksX9_ahead_7 12 rfl rfl)
theorem dX9_ahead_178 : decode cX9_ahead 178 = .ok (.ifCond .eq 7, 3) := dk_153 0 7 (dk_at dksX9_ahead_7 13 rfl rfl)
theorem dX9_ahead_181 : decode cX9_ahead 181 = .ok (.iconst 1, 1) := dk_4 (dk_at dksX9_ahead_7 16 rfl rfl)
theorem dX9_ahead_182 : decode cX9_ahead 182 = .ok (.goto 4, 3) := dk_167 0 4 (dk_at dksX9_ahead_7 17 rfl rfl)
theorem dX9_ahead_185 : decode cX9_ahead 185 = .ok (.iconst 2, 1) := dk_5 (dk_at dksX9_ahead_7 20 rfl rfl)
theorem dX9_ahead_186 : decode cX9_ahead 186 = .ok (.putfield 20, 3) := dk_181 0 20 (dk_at dksX9_ahead_7 21 rfl rfl)
theorem dX9_ahead_189 : decode cX9_ahead 189 = .ok (.iload_n 2, 1) := dk_28 (dk_at dksX9_ahead_8 0 rfl rfl)
theorem dX9_ahead_190 : decode cX9_ahead 190 = .ok (.ifCond .eq 8, 3) := dk_153 0 8 (dk_at dksX9_ahead_8 1 rfl rfl)
theorem dX9_ahead_193 : decode cX9_ahead 193 = .ok (.bipush 6, 2) := dk_16 6 (dk_at dksX9_ahead_8 4 rfl rfl)
theorem dX9_ahead_195 : decode cX9_ahead 195 = .ok (.goto 4, 3) := dk_167 0 4 (dk_at dksX9_ahead_8 6 rfl rfl)
theorem dX9_ahead_198 : decode cX9_ahead 198 = .ok (.iconst 4, 1) := dk_7 (dk_at dksX9_ahead_8 9 rfl rfl)
theorem dX9_ahead_199 : decode cX9_ahead 199 = .ok (.istore 4, 2) := dk_54 4 (dk_at dksX9_ahead_8 10 rfl rfl)
theorem dX9_ahead_201 : decode cX9_ahead 201 = .ok (.iconst 0, 1) := dk_3 (dk_at dksX9_ahead_8 12 rfl rfl)
theorem dX9_ahead_202 : decode cX9_ahead 202 = .ok (.istore 5, 2) := dk_54 5 (dk_at dksX9_ahead_8 13 rfl rfl)
theorem dX9_ahead_204 : decode cX9_ahead 204 = .ok (.iload_n 1, 1) := dk_27 (dk_at dksX9_ahead_8 15 rfl rfl)
theorem dX9_ahead_205 : decode cX9_ahead 205 = .ok (.aload_n 0, 1) := dk_42 (dk_at dksX9_ahead_8 16 rfl rfl)
theorem dX9_ahead_206 : decode cX9_ahead 206 = .ok (.getfield 17, 3) := dk_180 0 17 (dk_at dksX9_ahead_8 17 rfl rfl)
theorem dX9_ahead_209 : decode cX9_ahead 209 = .ok (.if_icmp .ge 125, 3) := dk_162 0 125 (dk_at dksX9_ahead_8 20 rfl rfl)
theorem dX9_ahead_212 : decode cX9_ahead 212 = .ok (.iload_n 2, 1) := dk_28 (dk_at dksX9_ahead_8 23 rfl rfl)
theorem dX9_ahead_213 : decode cX9_ahead 213 = .ok (.ifCond .eq 18, 3) := dk_153 0 18 (dk_at dksX9_ahead_9 0 rfl rfl)
theorem dX9_ahead_216 : decode cX9_ahead 216 = .ok (.aload_n 0, 1) := dk_42 (dk_at dksX9_ahead_9 3 rfl rfl)
theorem dX9_ahead_217 : decode cX9_ahead 217 = .ok (.getfield 7, 3) := dk_180 0 7 (dk_at dksX9_ahead_9 4 rfl rfl)
theorem dX9_ahead_220 : decode cX9_ahead 220 = .ok (.iload_n 1, 1) := dk_27 (dk_at dksX9_ahead_9 7 rfl rfl)
theorem dX9_ahead_221 : decode cX9_ahead 221 = .ok (.iaload, 1) := dk_46 (dk_at dksX9_ahead_9 8 rfl rfl)
theorem dX9_ahead_222 : decode cX9_ahead 222 = .ok (.invokestatic 266, 3) := dk_184 1 10 (dk_at dksX9_ahead_9 9 rfl rfl)
theorem dX9_ahead_225 : decode cX9_ahead 225 = .ok (.ifCond .eq 109, 3) := dk_153 0 109 (dk_at dksX9_ahead_9 12 rfl rfl)
theorem dX9_ahead_228 : decode cX9_ahead 228 = .ok (.goto 15, 3) := dk_167 0 15 (dk_at dksX9_ahead_9 15 rfl rfl)
theorem dX9_ahead_231 : decode cX9_ahead 231 = .ok (.aload_n 0, 1) := dk_42 (dk_at dksX9_ahead_9 18 rfl rfl)
theorem dX9_ahead_232 : decode cX9_ahead 232 = .ok (.getfield 7, 3) := dk_180 0 7 (dk_at dksX9_ahead_9 19 rfl rfl)
theorem dX9_ahead_235 : decode cX9_ahead 235 = .ok (.iload_n 1, 1) := dk_27 (dk_at dksX9_ahead_9 22 rfl rfl)
theorem dX9_ahead_236 : decode cX9_ahead 236 = .ok (.iaload, 1) := dk_46 (dk_at dksX9_ahead_9 23 rfl rfl)
theorem dX9_ahead_237 : decode cX9_ahead 237 = .ok (.invokestatic 270, 3) := dk_184 1 14 (dk_at dksX9_ahead_10 0 rfl rfl)
theorem dX9_ahead_240 : decode cX9_ahead 240 = .ok (.ifCond .eq 94, 3) := dk_153 0 94 (dk_at dksX9_ahead_10 3 rfl rfl)
theorem dX9_ahead_243 : decode cX9_ahead 243 = .ok (.iload 5, 2) := dk_21 5 (dk_at dksX9_ahead_10 6 rfl rfl)
theorem dX9_ahead_245 : decode cX9_ahead 245 = .ok (.iload 4, 2) := dk_21 4 (dk_at dksX9_ahead_10 8 rfl rfl)
theorem dX9_ahead_247 : decode cX9_ahead 247 = .ok (.if_icmp .ne 16, 3) := dk_160 0 16 (dk_at dksX9_ahead_10 10 rfl rfl)
theorem dX9_ahead_250 : decode cX9_ahead 250 = .ok (.aload_n 0, 1) := dk_42 (dk_at dksX9_ahead_10 13 rfl rfl)
theorem dX9_ahead_251 : decode cX9_ahead 251 = .ok (.getfield 48, 3) := dk_180 0 48 (dk_at dksX9_ahead_10 14 rfl rfl)
theorem dX9_ahead_254 : decode cX9_ahead 254 = .ok (.iconst (-1), 1) := dk_2 (dk_at dksX9_ahead_10 17 rfl rfl)
theorem dX9_ahead_255 : decode cX9_ahead 255 = .ok (.if_icmp .ne 8, 3) := dk_160 0 8 (dk_at dksX9_ahead_10 18 rfl rfl)
theorem dX9_ahead_258 : decode cX9_ahead 258 = .ok (.aload_n 0, 1) := dk_42 (dk_at dksX9_ahead_10 21 rfl rfl)
theorem dX9_ahead_259 : decode cX9_ahead 259 = .ok (.iload_n 1, 1) := dk_27 (dk_at dksX9_ahead_10 22 rfl rfl)
theorem dX9_ahead_260 : decode cX9_ahead 260 = .ok (.putfield 48, 3) := dk_181 0 48 (dk_at dksX9_ahead_11 0 rfl rfl)
theorem dX9_ahead_263 : decode cX9_ahead 263 = .ok (.iload 5, 2) := dk_21 5 (dk_at dksX9_ahead_11 3 rfl rfl)
theorem dX9_ahead_265 : decode cX9_ahead 265 = .ok (.iload 4, 2) := dk_21 4 (dk_at dksX9_ahead_11 5 rfl rfl)
theorem dX9_ahead_267 : decode cX9_ahead 267 = .ok (.if_icmp .ge 26, 3) := dk_162 0 26 (dk_at dksX9_ahead_11 7 rfl rfl)
theorem dX9_ahead_270 : decode cX9_ahead 270 = .ok (.iload_n 2, 1) := dk_28 (dk_at dksX9_ahead_11 10 rfl rfl)
theorem dX9_ahead_271 : decode cX9_ahead 271 = .ok (.ifCond .eq 22, 3) := dk_153 0 22 (dk_at dksX9_ahead_11 11 rfl rfl)
theorem dX9_ahead_274 : decode cX9_ahead 274 = .ok (.aload_n 0, 1) := dk_42 (dk_at dksX9_ahead_11 14 rfl rfl)
theorem dX9_ahead_275 : decode cX9_ahead 275 = .ok (.aload_n 0, 1) := dk_42 (dk_at dksX9_ahead_11 15 rfl rfl)
theorem dX9_ahead_276 : decode cX9_ahead 276 = .ok (.getfield 32, 3) := dk_180 0 32 (dk_at dksX9_ahead_11 16 rfl rfl)
theorem dX9_ahead_279 : decode cX9_ahead 279 = .ok (.bipush 8, 2) := dk_16 8 (dk_at dksX9_ahead_11 19 rfl rfl)
theorem dX9_ahead_281 : decode cX9_ahead 281 = .ok (.lshl, 1) := dk_121 (dk_at dksX9_ahead_11 21 rfl rfl)
theorem dX9_ahead_282 : decode cX9_ahead 282 = .ok (.aload_n 0, 1) := dk_42 (dk_at dksX9_ahead_11 22 rfl rfl)
theorem dX9_ahead_283 : decode cX9_ahead 283 = .ok (.getfield 7, 3) := dk_180 0 7 (dk_at dksX9_ahead_12 0 rfl rfl)
theorem dX9_ahead_286 : decode cX9_ahead 286 = .ok (.iload_n 1, 1) := dk_27 (dk_at dksX9_ahead_12 3 rfl rfl)
theorem dX9_ahead_287 : decode cX9_ahead 287 = .ok (.iaload, 1) := dk_46 (dk_at dksX9_ahead_12 4 rfl rfl)
theorem dX9_ahead_288 : decode cX9_ahead 288 = .ok (.i2l, 1) := dk_133 (dk_at dksX9_ahead_12 5 rfl rfl)
theorem dX9_ahead_289 : decode cX9_ahead 289 = .ok (.lor, 1) := dk_129 (dk_at dksX9_ahead_12 6 rfl rfl)
theorem dX9_ahead_290 : decode cX9_ahead 290 = .ok (.putfield 32, 3) := dk_181 0 32 (dk_at dksX9_ahead_12 7 rfl rfl)
theorem dX9_ahead_293 : decode cX9_ahead 293 = .ok (.iload 5, 2) := dk_21 5 (dk_at dksX9_ahead_12 10 rfl rfl)
theorem dX9_ahead_295 : decode cX9_ahead 295 = .ok (.iload 4, 2) := dk_21 4 (dk_at dksX9_ahead_12 12 rfl rfl)
theorem dX9_ahead_297 : decode cX9_ahead 297 = .ok (.if_icmp .ge 28, 3) := dk_162 0 28 (dk_at dksX9_ahead_12 14 rfl rfl)
theorem dX9_ahead_300 : decode cX9_ahead 300 = .ok (.iload_n 3, 1) := dk_29 (dk_at dksX9_ahead_12 17 rfl rfl)
theorem dX9_ahead_301 : decode cX9_ahead 301 = .ok (.ifCond .eq 24, 3) := dk_153 0 24 (dk_at dksX9_ahead_12 18 rfl rfl)
theorem dX9_ahead_304 : decode cX9_ahead 304 = .ok (.aload_n 0, 1) := dk_42 (dk_at dksX9_ahead_12 21 rfl rfl)
theorem dX9_ahead_305 : decode cX9_ahead 305 = .ok (.bipush 10, 2) := dk_16 10 (dk_at dksX9_ahead_12 22 rfl rfl)
theorem dX9_ahead_307 : decode cX9_ahead 307 = .ok (.aload_n 0, 1) := dk_42 (dk_at dksX9_ahead_13 0 rfl rfl)
theorem dX9_ahead_308 : decode cX9_ahead 308 = .ok (.getfield 29, 3) := dk_180 0 29 (dk_at dksX9_ahead_13 1 rfl rfl)
theorem dX9_ahead_311 : decode cX9_ahead 311 = .ok (.imul, 1) := dk_104 (dk_at dksX9_ahead_13 4 rfl rfl)
theorem dX9_ahead_312 : decode cX9_ahead 312 = .ok (.aload_n 0, 1) := dk_42 (dk_at dksX9_ahead_13 5 rfl rfl)
theorem dX9_ahead_313 : decode cX9_ahead 313 = .ok (.getfield 7, 3) := dk_180 0 7 (dk_at dksX9_ahead_13 6 rfl rfl)
theorem dX9_ahead_316 : decode cX9_ahead 316 = .ok (.iload_n 1, 1) := dk_27 (dk_at dksX9_ahead_13 9 rfl rfl)
theorem dX9_ahead_317 : decode cX9_ahead 317 = .ok (.iaload, 1) := dk_46 (dk_at dksX9_ahead_13 10 rfl rfl)
theorem dX9_ahead_318 : decode cX9_ahead 318 = .ok (.iadd, 1) := dk_96 (dk_at dksX9_ahead_13 11 rfl rfl)
theorem dX9_ahead_319 : decode cX9_ahead 319 = .ok (.bipush 48, 2) := dk_16 48 (dk_at dksX9_ahead_13 12 rfl rfl)
theorem dX9_ahead_321 : decode cX9_ahead 321 = .ok (.isub, 1) := dk_100 (dk_at dksX9_ahead_13 14 rfl rfl)
theorem dX9_ahead_322 : decode cX9_ahead 322 = .ok (.putfield 29, 3) := dk_181 0 29 (dk_at dksX9_ahead_13 15 rfl rfl)
theorem dX9_ahead_325 : decode cX9_ahead 325 = .ok (.iinc 5 1, 3) := dk_132 5 1 (dk_at dksX9_ahead_13 18 rfl rfl)
theorem dX9_ahead_328 : decode cX9_ahead 328 = .ok (.iinc 1 1, 3) := dk_132 1 1 (dk_at dksX9_ahead_13 21 rfl rfl)
theorem dX9_ahead_331 : decode cX9_ahead 331 = .ok (.goto (-127), 3) := dk_167 255 129 (dk_at dksX9_ahead_14 0 rfl rfl)
theorem dX9_ahead_334 : decode cX9_ahead 334 = .ok (.aload_n 0, 1) := dk_42 (dk_at dksX9_ahead_14 3 rfl rfl)
theorem dX9_ahead_335 : decode cX9_ahead 335 = .ok (.iload_n 1, 1) := dk_27 (dk_at dksX9_ahead_14 4 rfl rfl)
theorem dX9_ahead_336 : decode cX9_ahead 336 = .ok (.putfield 26, 3) := dk_181 0 26 (dk_at dksX9_ahead_14 5 rfl rfl)
theorem dX9_ahead_339 : decode cX9_ahead 339 = .ok (.return_, 1) := dk_177 (dk_at dksX9_ahead_14 8 rfl rfl)
def dkwX9_isLetter_0 : List UInt8 := [26, 16, 97, 161, 0, 13, 26, 16, 122, 163, 0, 7, 4, 167, 0, 4, 3, 172]
abbrev dktX9_isLetter_0 : List UInt8 := dkwX9_isLetter_0 ++ []
theorem dksX9_isLetter_0 : cX9_isLetter.data.toList.drop 0 = dktX9_isLetter_0 := by decide +kernel
theorem dX9_isLetter_0 : decode cX9_isLetter 0 = .ok (.iload_n 0, 1) := dk_26 (dk_at dksX9_isLetter_0 0 rfl rfl)
theorem dX9_isLetter_1 : decode cX9_isLetter 1 = .ok (.bipush 97, 2) := dk_16 97 (dk_at dksX9_isLetter_0 1 rfl rfl)
theorem dX9_isLetter_3 : decode cX9_isLetter 3 = .ok (.if_icmp .lt 13, 3) := dk_161 0 13 (dk_at dksX9_isLetter_0 3 rfl rfl)
theorem dX9_isLetter_6 : decode cX9_isLetter 6 = .ok (.iload_n 0, 1) := dk_26 (dk_at dksX9_isLetter_0 6 rfl rfl)
theorem dX9_isLetter_7 : decode cX9_isLetter 7 = .ok (.bipush 122, 2) := dk_16 122 (dk_at dksX9_isLetter_0 7 rfl rfl)
theorem dX9_isLetter_9 : decode cX9_isLetter 9 = .ok (.if_icmp .gt 7, 3) := dk_163 0 7 (dk_at dksX9_isLetter_0 9 rfl rfl)
theorem dX9_isLetter_12 : decode cX9_isLetter 12 = .ok (.iconst 1, 1) := dk_4 (dk_at dksX9_isLetter_0 12 rfl rfl)
theorem dX9_isLetter_13 : decode cX9_isLetter 13 = .ok (.goto 4, 3) := dk_167 0 4 (dk_at dksX9_isLetter_0 13 rfl rfl)
theorem dX9_isLetter_16 : decode cX9_isLetter 16 = .ok (.iconst 0, 1) := dk_3 (dk_at dksX9_isLetter_0 16 rfl rfl)
theorem dX9_isLetter_17 : decode cX9_isLetter 17 = .ok (.ireturn, 1) := dk_172 (dk_at dksX9_isLetter_0 17 rfl rfl)
def dkwX9_isDigit_0 : List UInt8 := [26, 16, 48, 161, 0, 13, 26, 16, 57, 163, 0, 7, 4, 167, 0, 4, 3, 172]
abbrev dktX9_isDigit_0 : List UInt8 := dkwX9_isDigit_0 ++ []
theorem dksX9_isDigit_0 : cX9_isDigit.data.toList.drop 0 = dktX9_isDigit_0 := by decide +kernel
theorem dX9_isDigit_0 : decode cX9_isDigit 0 = .ok (.iload_n 0, 1) := dk_26 (dk_at dksX9_isDigit_0 0 rfl rfl)
theorem dX9_isDigit_1 : decode cX9_isDigit 1 = .ok (.bipush 48, 2) := dk_16 48 (dk_at dksX9_isDigit_0 1 rfl rfl)
theorem dX9_isDigit_3 : decode cX9_isDigit 3 = .ok (.if_icmp .lt 13, 3) := dk_161 0 13 (dk_at dksX9_isDigit_0 3 rfl rfl)
theorem dX9_isDigit_6 : decode cX9_isDigit 6 = .ok (.iload_n 0, 1) := dk_26 (dk_at dksX9_isDigit_0 6 rfl rfl)
theorem dX9_isDigit_7 : decode cX9_isDigit 7 = .ok (.bipush 57, 2) := dk_16 57 (dk_at dksX9_isDigit_0 7 rfl rfl)
theorem dX9_isDigit_9 : decode cX9_isDigit 9 = .ok (.if_icmp .gt 7, 3) := dk_163 0 7 (dk_at dksX9_isDigit_0 9 rfl rfl)
theorem dX9_isDigit_12 : decode cX9_isDigit 12 = .ok (.iconst 1, 1) := dk_4 (dk_at dksX9_isDigit_0 12 rfl rfl)
theorem dX9_isDigit_13 : decode cX9_isDigit 13 = .ok (.goto 4, 3) := dk_167 0 4 (dk_at dksX9_isDigit_0 13 rfl rfl)
theorem dX9_isDigit_16 : decode cX9_isDigit 16 = .ok (.iconst 0, 1) := dk_3 (dk_at dksX9_isDigit_0 16 rfl rfl)
theorem dX9_isDigit_17 : decode cX9_isDigit 17 = .ok (.ireturn, 1) := dk_172 (dk_at dksX9_isDigit_0 17 rfl rfl)
def dkwX9_statement_3 : List UInt8 := [153, 0, 10, 42, 182, 1, 120, 167, 0, 7, 42, 182, 1, 123, 177]
abbrev dktX9_statement_3 : List UInt8 := dkwX9_statement_3 ++ []
def dkwX9_statement_2 : List UInt8 := [20, 1, 40, 182, 1, 72, 153, 0, 10, 42, 182, 1, 117, 167, 0, 24, 42, 20, 1, 46, 182, 1, 72]
abbrev dktX9_statement_2 : List UInt8 := dkwX9_statement_2 ++ dktX9_statement_3
def dkwX9_statement_1 : List UInt8 := [182, 1, 111, 167, 0, 58, 42, 20, 1, 36, 182, 1, 72, 153, 0, 10, 42, 182, 1, 114, 167, 0, 41, 42]
abbrev dktX9_statement_1 : List UInt8 := dkwX9_statement_1 ++ dktX9_statement_2
def dkwX9_statement_0 : List UInt8 := [42, 182, 1, 17, 42, 180, 0, 36, 158, 0, 4, 177, 42, 20, 1, 26, 182, 1, 72, 153, 0, 10, 42]
abbrev dktX9_statement_0 : List UInt8 := dkwX9_statement_0 ++ dktX9_statement_1
theorem dksX9_statement_0 : cX9_statement.data.toList.drop 0 = dktX9_statement_0 := by decide +kernel
theorem dksX9_statement_1 : cX9_statement.data.toList.drop 23 = dktX9_statement_1 := dk_seg dksX9_statement_0 23 rfl rfl
theorem dksX9_statement_2 : cX9_statement.data.toList.drop 47 = dktX9_statement_2 := dk_seg dksX9_statement_1 24 rfl rfl
theorem dksX9_statement_3 : cX9_statement.data.toList.drop 70 = dktX9_statement_3 := dk_seg dksX9_statement_2 23 rfl rfl
theorem dX9_statement_0 : decode cX9_statement 0 = .ok (.aload_n 0, 1) := dk_42 (dk_at dksX9_statement_0 0 rfl rfl)
theorem dX9_statement_1 : decode cX9_statement 1 = .ok (.invokevirtual 273, 3) := dk_182 1 17 (dk_at dksX9_statement_0 1 rfl rfl)
theorem dX9_statement_4 : decode cX9_statement 4 = .ok (.aload_n 0, 1) := dk_42 (dk_at dksX9_statement_0 4 rfl rfl)
theorem dX9_statement_5 : decode cX9_statement 5 = .ok (.getfield 36, 3) := dk_180 0 36 (dk_at dksX9_statement_0 5 rfl rfl)
theorem dX9_statement_8 : decode cX9_statement 8 = .ok (.ifCond .le 4, 3) := dk_158 0 4 (dk_at dksX9_statement_0 8 rfl rfl)
theorem dX9_statement_11 : decode cX9_statement 11 = .ok (.return_, 1) := dk_177 (dk_at dksX9_statement_0 11 rfl rfl)
theorem dX9_statement_12 : decode cX9_statement 12 = .ok (.aload_n 0, 1) := dk_42 (dk_at dksX9_statement_0 12 rfl rfl)
theorem dX9_statement_13 : decode cX9_statement 13 = .ok (.ldc2_w 282, 3) := dk_20 1 26 (dk_at dksX9_statement_0 13 rfl rfl)
theorem dX9_statement_16 : decode cX9_statement 16 = .ok (.invokevirtual 328, 3) := dk_182 1 72 (dk_at dksX9_statement_0 16 rfl rfl)
theorem dX9_statement_19 : decode cX9_statement 19 = .ok (.ifCond .eq 10, 3) := dk_153 0 10 (dk_at dksX9_statement_0 19 rfl rfl)
theorem dX9_statement_22 : decode cX9_statement 22 = .ok (.aload_n 0, 1) := dk_42 (dk_at dksX9_statement_0 22 rfl rfl)
theorem dX9_statement_23 : decode cX9_statement 23 = .ok (.invokevirtual 367, 3) := dk_182 1 111 (dk_at dksX9_statement_1 0 rfl rfl)
theorem dX9_statement_26 : decode cX9_statement 26 = .ok (.goto 58, 3) := dk_167 0 58 (dk_at dksX9_statement_1 3 rfl rfl)
theorem dX9_statement_29 : decode cX9_statement 29 = .ok (.aload_n 0, 1) := dk_42 (dk_at dksX9_statement_1 6 rfl rfl)
theorem dX9_statement_30 : decode cX9_statement 30 = .ok (.ldc2_w 292, 3) := dk_20 1 36 (dk_at dksX9_statement_1 7 rfl rfl)
theorem dX9_statement_33 : decode cX9_statement 33 = .ok (.invokevirtual 328, 3) := dk_182 1 72 (dk_at dksX9_statement_1 10 rfl rfl)
theorem dX9_statement_36 : decode cX9_statement 36 = .ok (.ifCond .eq 10, 3) := dk_153 0 10 (dk_at dksX9_statement_1 13 rfl rfl)
theorem dX9_statement_39 : decode cX9_statement 39 = .ok (.aload_n 0, 1) := dk_42 (dk_at dksX9_statement_1 16 rfl rfl)
theorem dX9_statement_40 : decode cX9_statement 40 = .ok (.invokevirtual 370, 3) := dk_182 1 114 (dk_at dksX9_statement_1 17 rfl rfl)
theorem dX9_statement_43 : decode cX9_statement 43 = .ok (.goto 41, 3) := dk_167 0 41 (dk_at dksX9_statement_1 20 rfl rfl)
theorem dX9_statement_46 : decode cX9_statement 46 = .ok (.aload_n 0, 1) := dk_42 (dk_at dksX9_statement_1 23 rfl rfl)
theorem dX9_statement_47 : decode cX9_statement 47 = .ok (.ldc2_w 296, 3) := dk_20 1 40 (dk_at dksX9_statement_2 0 rfl rfl)
theorem dX9_statement_50 : decode cX9_statement 50 = .ok (.invokevirtual 328, 3) := dk_182 1 72 (dk_at dksX9_statement_2 3 rfl rfl)
theorem dX9_statement_53 : decode cX9_statement 53 = .ok (.ifCond .eq 10, 3) := dk_153 0 10 (dk_at dksX9_statement_2 6 rfl rfl)
theorem dX9_statement_56 : decode cX9_statement 56 = .ok (.aload_n 0, 1) := dk_42 (dk_at dksX9_statement_2 9 rfl rfl)
theorem dX9_statement_57 : decode cX9_statement 57 = .ok (.invokevirtual 373, 3) := dk_182 1 117 (dk_at dksX9_statement_2 10 rfl rfl)
theorem dX9_statement_60 : decode cX9_statement 60 = .ok (.goto 24, 3) := dk_167 0 24 (dk_at dksX9_statement_2 13 rfl rfl)
theorem dX9_statement_63 : decode cX9_statement 63 = .ok (.aload_n 0, 1) := dk_42 (dk_at dksX9_statement_2 16 rfl rfl)
theorem dX9_statement_64 : decode cX9_statement 64 = .ok (.ldc2_w 302, 3) := dk_20 1 46 (dk_at dksX9_statement_2 17 rfl rfl)
theorem dX9_statement_67 : decode cX9_statement 67 = .ok (.invokevirtual 328, 3) := dk_182 1 72 (dk_at dksX9_statement_2 20 rfl rfl)
theorem dX9_statement_70 : decode cX9_statement 70 = .ok (.ifCond .eq 10, 3) := dk_153 0 10 (dk_at dksX9_statement_3 0 rfl rfl)
theorem dX9_statement_73 : decode cX9_statement 73 = .ok (.aload_n 0, 1) := dk_42 (dk_at dksX9_statement_3 3 rfl rfl)
theorem dX9_statement_74 : decode cX9_statement 74 = .ok (.invokevirtual 376, 3) := dk_182 1 120 (dk_at dksX9_statement_3 4 rfl rfl)
theorem dX9_statement_77 : decode cX9_statement 77 = .ok (.goto 7, 3) := dk_167 0 7 (dk_at dksX9_statement_3 7 rfl rfl)
theorem dX9_statement_80 : decode cX9_statement 80 = .ok (.aload_n 0, 1) := dk_42 (dk_at dksX9_statement_3 10 rfl rfl)
theorem dX9_statement_81 : decode cX9_statement 81 = .ok (.invokevirtual 379, 3) := dk_182 1 123 (dk_at dksX9_statement_3 11 rfl rfl)
theorem dX9_statement_84 : decode cX9_statement 84 = .ok (.return_, 1) := dk_177 (dk_at dksX9_statement_3 14 rfl rfl)
def dkwX9_lex_0 : List UInt8 := [42, 180, 0, 48, 2, 159, 0, 12, 42, 4, 42, 180, 0, 48, 182, 1, 6, 177]
abbrev dktX9_lex_0 : List UInt8 := dkwX9_lex_0 ++ []
theorem dksX9_lex_0 : cX9_lex.data.toList.drop 0 = dktX9_lex_0 := by decide +kernel
theorem dX9_lex_0 : decode cX9_lex 0 = .ok (.aload_n 0, 1) := dk_42 (dk_at dksX9_lex_0 0 rfl rfl)
theorem dX9_lex_1 : decode cX9_lex 1 = .ok (.getfield 48, 3) := dk_180 0 48 (dk_at dksX9_lex_0 1 rfl rfl)
theorem dX9_lex_4 : decode cX9_lex 4 = .ok (.iconst (-1), 1) := dk_2 (dk_at dksX9_lex_0 4 rfl rfl)
theorem dX9_lex_5 : decode cX9_lex 5 = .ok (.if_icmp .eq 12, 3) := dk_159 0 12 (dk_at dksX9_lex_0 5 rfl rfl)
theorem dX9_lex_8 : decode cX9_lex 8 = .ok (.aload_n 0, 1) := dk_42 (dk_at dksX9_lex_0 8 rfl rfl)
theorem dX9_lex_9 : decode cX9_lex 9 = .ok (.iconst 1, 1) := dk_4 (dk_at dksX9_lex_0 9 rfl rfl)
theorem dX9_lex_10 : decode cX9_lex 10 = .ok (.aload_n 0, 1) := dk_42 (dk_at dksX9_lex_0 10 rfl rfl)
theorem dX9_lex_11 : decode cX9_lex 11 = .ok (.getfield 48, 3) := dk_180 0 48 (dk_at dksX9_lex_0 11 rfl rfl)
theorem dX9_lex_14 : decode cX9_lex 14 = .ok (.invokevirtual 262, 3) := dk_182 1 6 (dk_at dksX9_lex_0 14 rfl rfl)
theorem dX9_lex_17 : decode cX9_lex 17 = .ok (.return_, 1) := dk_177 (dk_at dksX9_lex_0 17 rfl rfl)
def dkwX9_blame_0 : List UInt8 := [42, 180, 0, 36, 158, 0, 4, 177, 42, 27, 181, 0, 36, 42, 28, 181, 0, 39, 177]
abbrev dktX9_blame_0 : List UInt8 := dkwX9_blame_0 ++ []
theorem dksX9_blame_0 : cX9_blame.data.toList.drop 0 = dktX9_blame_0 := by decide +kernel
theorem dX9_blame_0 : decode cX9_blame 0 = .ok (.aload_n 0, 1) := dk_42 (dk_at dksX9_blame_0 0 rfl rfl)
theorem dX9_blame_1 : decode cX9_blame 1 = .ok (.getfield 36, 3) := dk_180 0 36 (dk_at dksX9_blame_0 1 rfl rfl)
theorem dX9_blame_4 : decode cX9_blame 4 = .ok (.ifCond .le 4, 3) := dk_158 0 4 (dk_at dksX9_blame_0 4 rfl rfl)
theorem dX9_blame_7 : decode cX9_blame 7 = .ok (.return_, 1) := dk_177 (dk_at dksX9_blame_0 7 rfl rfl)
theorem dX9_blame_8 : decode cX9_blame 8 = .ok (.aload_n 0, 1) := dk_42 (dk_at dksX9_blame_0 8 rfl rfl)
theorem dX9_blame_9 : decode cX9_blame 9 = .ok (.iload_n 1, 1) := dk_27 (dk_at dksX9_blame_0 9 rfl rfl)
theorem dX9_blame_10 : decode cX9_blame 10 = .ok (.putfield 36, 3) := dk_181 0 36 (dk_at dksX9_blame_0 10 rfl rfl)
theorem dX9_blame_13 : decode cX9_blame 13 = .ok (.aload_n 0, 1) := dk_42 (dk_at dksX9_blame_0 13 rfl rfl)
theorem dX9_blame_14 : decode cX9_blame 14 = .ok (.iload_n 2, 1) := dk_28 (dk_at dksX9_blame_0 14 rfl rfl)
theorem dX9_blame_15 : decode cX9_blame 15 = .ok (.putfield 39, 3) := dk_181 0 39 (dk_at dksX9_blame_0 15 rfl rfl)
theorem dX9_blame_18 : decode cX9_blame 18 = .ok (.return_, 1) := dk_177 (dk_at dksX9_blame_0 18 rfl rfl)
def dkwX9_isWord_0 : List UInt8 := [42, 180, 0, 20, 4, 160, 0, 16, 42, 180, 0, 32, 31, 148, 154, 0, 7, 4, 167, 0, 4, 3, 172]
abbrev dktX9_isWord_0 : List UInt8 := dkwX9_isWord_0 ++ []
theorem dksX9_isWord_0 : cX9_isWord.data.toList.drop 0 = dktX9_isWord_0 := by decide +kernel
theorem dX9_isWord_0 : decode cX9_isWord 0 = .ok (.aload_n 0, 1) := dk_42 (dk_at dksX9_isWord_0 0 rfl rfl)
theorem dX9_isWord_1 : decode cX9_isWord 1 = .ok (.getfield 20, 3) := dk_180 0 20 (dk_at dksX9_isWord_0 1 rfl rfl)
theorem dX9_isWord_4 : decode cX9_isWord 4 = .ok (.iconst 1, 1) := dk_4 (dk_at dksX9_isWord_0 4 rfl rfl)
theorem dX9_isWord_5 : decode cX9_isWord 5 = .ok (.if_icmp .ne 16, 3) := dk_160 0 16 (dk_at dksX9_isWord_0 5 rfl rfl)
theorem dX9_isWord_8 : decode cX9_isWord 8 = .ok (.aload_n 0, 1) := dk_42 (dk_at dksX9_isWord_0 8 rfl rfl)
theorem dX9_isWord_9 : decode cX9_isWord 9 = .ok (.getfield 32, 3) := dk_180 0 32 (dk_at dksX9_isWord_0 9 rfl rfl)
theorem dX9_isWord_12 : decode cX9_isWord 12 = .ok (.lload_n 1, 1) := dk_31 (dk_at dksX9_isWord_0 12 rfl rfl)
theorem dX9_isWord_13 : decode cX9_isWord 13 = .ok (.lcmp, 1) := dk_148 (dk_at dksX9_isWord_0 13 rfl rfl)
theorem dX9_isWord_14 : decode cX9_isWord 14 = .ok (.ifCond .ne 7, 3) := dk_154 0 7 (dk_at dksX9_isWord_0 14 rfl rfl)
theorem dX9_isWord_17 : decode cX9_isWord 17 = .ok (.iconst 1, 1) := dk_4 (dk_at dksX9_isWord_0 17 rfl rfl)
theorem dX9_isWord_18 : decode cX9_isWord 18 = .ok (.goto 4, 3) := dk_167 0 4 (dk_at dksX9_isWord_0 18 rfl rfl)
theorem dX9_isWord_21 : decode cX9_isWord 21 = .ok (.iconst 0, 1) := dk_3 (dk_at dksX9_isWord_0 21 rfl rfl)
theorem dX9_isWord_22 : decode cX9_isWord 22 = .ok (.ireturn, 1) := dk_172 (dk_at dksX9_isWord_0 22 rfl rfl)
def dkwX9_wording_8 : List UInt8 := [180, 0, 127, 92, 46, 4, 96, 79, 177]
abbrev dktX9_wording_8 : List UInt8 := dkwX9_wording_8 ++ []
def dkwX9_wording_7 : List UInt8 := [180, 0, 73, 27, 4, 79, 42, 182, 1, 23, 42, 180, 0, 36, 154, 0, 16, 42, 180, 0, 54, 42]
abbrev dktX9_wording_7 : List UInt8 := dkwX9_wording_7 ++ dktX9_wording_8
def dkwX9_wording_6 : List UInt8 := [154, 0, 32, 42, 180, 0, 48, 2, 160, 0, 24, 42, 20, 1, 34, 182, 1, 72, 153, 0, 14, 42]
abbrev dktX9_wording_6 : List UInt8 := dkwX9_wording_6 ++ dktX9_wording_7
def dkwX9_wording_5 : List UInt8 := [42, 180, 0, 70, 27, 42, 3, 16, 99, 182, 1, 98, 79, 42, 180, 0, 73, 27, 3, 79, 42, 180, 0, 36]
abbrev dktX9_wording_5 : List UInt8 := dkwX9_wording_5 ++ dktX9_wording_6
def dkwX9_wording_4 : List UInt8 := [182, 1, 98, 79, 42, 180, 0, 67, 27, 42, 3, 16, 9, 182, 1, 98, 79, 42, 20, 1, 32, 182, 1, 94]
abbrev dktX9_wording_4 : List UInt8 := dkwX9_wording_4 ++ dktX9_wording_5
def dkwX9_wording_3 : List UInt8 := [16, 9, 182, 1, 98, 79, 42, 20, 1, 30, 182, 1, 94, 42, 180, 0, 64, 27, 42, 3, 16, 9]
abbrev dktX9_wording_3 : List UInt8 := dkwX9_wording_3 ++ dktX9_wording_4
def dkwX9_wording_2 : List UInt8 := [180, 0, 57, 27, 42, 182, 1, 90, 80, 42, 20, 1, 28, 182, 1, 94, 42, 180, 0, 61, 27, 42, 4]
abbrev dktX9_wording_2 : List UInt8 := dkwX9_wording_2 ++ dktX9_wording_3
def dkwX9_wording_1 : List UInt8 := [154, 0, 4, 177, 16, 24, 42, 180, 0, 127, 104, 42, 180, 0, 54, 42, 180, 0, 127, 46, 96, 60, 42]
abbrev dktX9_wording_1 : List UInt8 := dkwX9_wording_1 ++ dktX9_wording_2
def dkwX9_wording_0 : List UInt8 := [42, 42, 180, 0, 54, 42, 180, 0, 127, 46, 16, 24, 160, 0, 7, 4, 167, 0, 4, 3, 182, 1, 86]
abbrev dktX9_wording_0 : List UInt8 := dkwX9_wording_0 ++ dktX9_wording_1
theorem dksX9_wording_0 : cX9_wording.data.toList.drop 0 = dktX9_wording_0 := by decide +kernel
theorem dksX9_wording_1 : cX9_wording.data.toList.drop 23 = dktX9_wording_1 := dk_seg dksX9_wording_0 23 rfl rfl
theorem dksX9_wording_2 : cX9_wording.data.toList.drop 46 = dktX9_wording_2 := dk_seg dksX9_wording_1 23 rfl rfl
theorem dksX9_wording_3 : cX9_wording.data.toList.drop 69 = dktX9_wording_3 := dk_seg dksX9_wording_2 23 rfl rfl
theorem dksX9_wording_4 : cX9_wording.data.toList.drop 91 = dktX9_wording_4 := dk_seg dksX9_wording_3 22 rfl rfl
theorem dksX9_wording_5 : cX9_wording.data.toList.drop 115 = dktX9_wording_5 := dk_seg dksX9_wording_4 24 rfl rfl
theorem dksX9_wording_6 : cX9_wording.data.toList.drop 139 = dktX9_wording_6 := dk_seg dksX9_wording_5 24 rfl rfl
theorem dksX9_wording_7 : cX9_wording.data.toList.drop 161 = dktX9_wording_7 := dk_seg dksX9_wording_6 22 rfl rfl
theorem dksX9_wording_8 : cX9_wording.data.toList.drop 183 = dktX9_wording_8 := dk_seg dksX9_wording_7 22 rfl rfl
theorem dX9_wording_0 : decode cX9_wording 0 = .ok (.aload_n 0, 1) := dk_42 (dk_at dksX9_wording_0 0 rfl rfl)
theorem dX9_wording_1 : decode cX9_wording 1 = .ok (.aload_n 0, 1) := dk_42 (dk_at dksX9_wording_0 1 rfl rfl)
theorem dX9_wording_2 : decode cX9_wording 2 = .ok (.getfield 54, 3) := dk_180 0 54 (dk_at dksX9_wording_0 2 rfl rfl)
theorem dX9_wording_5 : decode cX9_wording 5 = .ok (.aload_n 0, 1) := dk_42 (dk_at dksX9_wording_0 5 rfl rfl)
theorem dX9_wording_6 : decode cX9_wording 6 = .ok (.getfield 127, 3) := dk_180 0 127 (dk_at dksX9_wording_0 6 rfl rfl)
theorem dX9_wording_9 : decode cX9_wording 9 = .ok (.iaload, 1) := dk_46 (dk_at dksX9_wording_0 9 rfl rfl)
theorem dX9_wording_10 : decode cX9_wording 10 = .ok (.bipush 24, 2) := dk_16 24 (dk_at dksX9_wording_0 10 rfl rfl)
theorem dX9_wording_12 : decode cX9_wording 12 = .ok (.if_icmp .ne 7, 3) := dk_160 0 7 (dk_at dksX9_wording_0 12 rfl rfl)
theorem dX9_wording_15 : decode cX9_wording 15 = .ok (.iconst 1, 1) := dk_4 (dk_at dksX9_wording_0 15 rfl rfl)
theorem dX9_wording_16 : decode cX9_wording 16 = .ok (.goto 4, 3) := dk_167 0 4 (dk_at dksX9_wording_0 16 rfl rfl)
theorem dX9_wording_19 : decode cX9_wording 19 = .ok (.iconst 0, 1) := dk_3 (dk_at dksX9_wording_0 19 rfl rfl)
theorem dX9_wording_20 : decode cX9_wording 20 = .ok (.invokevirtual 342, 3) := dk_182 1 86 (dk_at dksX9_wording_0 20 rfl rfl)
theorem dX9_wording_23 : decode cX9_wording 23 = .ok (.ifCond .ne 4, 3) := dk_154 0 4 (dk_at dksX9_wording_1 0 rfl rfl)
theorem dX9_wording_26 : decode cX9_wording 26 = .ok (.return_, 1) := dk_177 (dk_at dksX9_wording_1 3 rfl rfl)
theorem dX9_wording_27 : decode cX9_wording 27 = .ok (.bipush 24, 2) := dk_16 24 (dk_at dksX9_wording_1 4 rfl rfl)
theorem dX9_wording_29 : decode cX9_wording 29 = .ok (.aload_n 0, 1) := dk_42 (dk_at dksX9_wording_1 6 rfl rfl)
theorem dX9_wording_30 : decode cX9_wording 30 = .ok (.getfield 127, 3) := dk_180 0 127 (dk_at dksX9_wording_1 7 rfl rfl)
theorem dX9_wording_33 : decode cX9_wording 33 = .ok (.imul, 1) := dk_104 (dk_at dksX9_wording_1 10 rfl rfl)
theorem dX9_wording_34 : decode cX9_wording 34 = .ok (.aload_n 0, 1) := dk_42 (dk_at dksX9_wording_1 11 rfl rfl)
theorem dX9_wording_35 : decode cX9_wording 35 = .ok (.getfield 54, 3) := dk_180 0 54 (dk_at dksX9_wording_1 12 rfl rfl)
theorem dX9_wording_38 : decode cX9_wording 38 = .ok (.aload_n 0, 1) := dk_42 (dk_at dksX9_wording_1 15 rfl rfl)
theorem dX9_wording_39 : decode cX9_wording 39 = .ok (.getfield 127, 3) := dk_180 0 127 (dk_at dksX9_wording_1 16 rfl rfl)
theorem dX9_wording_42 : decode cX9_wording 42 = .ok (.iaload, 1) := dk_46 (dk_at dksX9_wording_1 19 rfl rfl)
theorem dX9_wording_43 : decode cX9_wording 43 = .ok (.iadd, 1) := dk_96 (dk_at dksX9_wording_1 20 rfl rfl)
theorem dX9_wording_44 : decode cX9_wording 44 = .ok (.istore_n 1, 1) := dk_60 (dk_at dksX9_wording_1 21 rfl rfl)
theorem dX9_wording_45 : decode cX9_wording 45 = .ok (.aload_n 0, 1) := dk_42 (dk_at dksX9_wording_1 22 rfl rfl)
theorem dX9_wording_46 : decode cX9_wording 46 = .ok (.getfield 57, 3) := dk_180 0 57 (dk_at dksX9_wording_2 0 rfl rfl)
theorem dX9_wording_49 : decode cX9_wording 49 = .ok (.iload_n 1, 1) := dk_27 (dk_at dksX9_wording_2 3 rfl rfl)
theorem dX9_wording_50 : decode cX9_wording 50 = .ok (.aload_n 0, 1) := dk_42 (dk_at dksX9_wording_2 4 rfl rfl)
theorem dX9_wording_51 : decode cX9_wording 51 = .ok (.invokevirtual 346, 3) := dk_182 1 90 (dk_at dksX9_wording_2 5 rfl rfl)
theorem dX9_wording_54 : decode cX9_wording 54 = .ok (.lastore, 1) := dk_80 (dk_at dksX9_wording_2 8 rfl rfl)
theorem dX9_wording_55 : decode cX9_wording 55 = .ok (.aload_n 0, 1) := dk_42 (dk_at dksX9_wording_2 9 rfl rfl)
theorem dX9_wording_56 : decode cX9_wording 56 = .ok (.ldc2_w 284, 3) := dk_20 1 28 (dk_at dksX9_wording_2 10 rfl rfl)
theorem dX9_wording_59 : decode cX9_wording 59 = .ok (.invokevirtual 350, 3) := dk_182 1 94 (dk_at dksX9_wording_2 13 rfl rfl)
theorem dX9_wording_62 : decode cX9_wording 62 = .ok (.aload_n 0, 1) := dk_42 (dk_at dksX9_wording_2 16 rfl rfl)
theorem dX9_wording_63 : decode cX9_wording 63 = .ok (.getfield 61, 3) := dk_180 0 61 (dk_at dksX9_wording_2 17 rfl rfl)
theorem dX9_wording_66 : decode cX9_wording 66 = .ok (.iload_n 1, 1) := dk_27 (dk_at dksX9_wording_2 20 rfl rfl)
theorem dX9_wording_67 : decode cX9_wording 67 = .ok (.aload_n 0, 1) := dk_42 (dk_at dksX9_wording_2 21 rfl rfl)
theorem dX9_wording_68 : decode cX9_wording 68 = .ok (.iconst 1, 1) := dk_4 (dk_at dksX9_wording_2 22 rfl rfl)
theorem dX9_wording_69 : decode cX9_wording 69 = .ok (.bipush 9, 2) := dk_16 9 (dk_at dksX9_wording_3 0 rfl rfl)
theorem dX9_wording_71 : decode cX9_wording 71 = .ok (.invokevirtual 354, 3) := dk_182 1 98 (dk_at dksX9_wording_3 2 rfl rfl)
theorem dX9_wording_74 : decode cX9_wording 74 = .ok (.iastore, 1) := dk_79 (dk_at dksX9_wording_3 5 rfl rfl)
theorem dX9_wording_75 : decode cX9_wording 75 = .ok (.aload_n 0, 1) := dk_42 (dk_at dksX9_wording_3 6 rfl rfl)
theorem dX9_wording_76 : decode cX9_wording 76 = .ok (.ldc2_w 286, 3) := dk_20 1 30 (dk_at dksX9_wording_3 7 rfl rfl)
theorem dX9_wording_79 : decode cX9_wording 79 = .ok (.invokevirtual 350, 3) := dk_182 1 94 (dk_at dksX9_wording_3 10 rfl rfl)
theorem dX9_wording_82 : decode cX9_wording 82 = .ok (.aload_n 0, 1) := dk_42 (dk_at dksX9_wording_3 13 rfl rfl)
theorem dX9_wording_83 : decode cX9_wording 83 = .ok (.getfield 64, 3) := dk_180 0 64 (dk_at dksX9_wording_3 14 rfl rfl)
theorem dX9_wording_86 : decode cX9_wording 86 = .ok (.iload_n 1, 1) := dk_27 (dk_at dksX9_wording_3 17 rfl rfl)
theorem dX9_wording_87 : decode cX9_wording 87 = .ok (.aload_n 0, 1) := dk_42 (dk_at dksX9_wording_3 18 rfl rfl)
theorem dX9_wording_88 : decode cX9_wording 88 = .ok (.iconst 0, 1) := dk_3 (dk_at dksX9_wording_3 19 rfl rfl)
theorem dX9_wording_89 : decode cX9_wording 89 = .ok (.bipush 9, 2) := dk_16 9 (dk_at dksX9_wording_3 20 rfl rfl)
theorem dX9_wording_91 : decode cX9_wording 91 = .ok (.invokevirtual 354, 3) := dk_182 1 98 (dk_at dksX9_wording_4 0 rfl rfl)
theorem dX9_wording_94 : decode cX9_wording 94 = .ok (.iastore, 1) := dk_79 (dk_at dksX9_wording_4 3 rfl rfl)
theorem dX9_wording_95 : decode cX9_wording 95 = .ok (.aload_n 0, 1) := dk_42 (dk_at dksX9_wording_4 4 rfl rfl)
theorem dX9_wording_96 : decode cX9_wording 96 = .ok (.getfield 67, 3) := dk_180 0 67 (dk_at dksX9_wording_4 5 rfl rfl)
theorem dX9_wording_99 : decode cX9_wording 99 = .ok (.iload_n 1, 1) := dk_27 (dk_at dksX9_wording_4 8 rfl rfl)
theorem dX9_wording_100 : decode cX9_wording 100 = .ok (.aload_n 0, 1) := dk_42 (dk_at dksX9_wording_4 9 rfl rfl)
theorem dX9_wording_101 : decode cX9_wording 101 = .ok (.iconst 0, 1) := dk_3 (dk_at dksX9_wording_4 10 rfl rfl)
theorem dX9_wording_102 : decode cX9_wording 102 = .ok (.bipush 9, 2) := dk_16 9 (dk_at dksX9_wording_4 11 rfl rfl)
theorem dX9_wording_104 : decode cX9_wording 104 = .ok (.invokevirtual 354, 3) := dk_182 1 98 (dk_at dksX9_wording_4 13 rfl rfl)
theorem dX9_wording_107 : decode cX9_wording 107 = .ok (.iastore, 1) := dk_79 (dk_at dksX9_wording_4 16 rfl rfl)
theorem dX9_wording_108 : decode cX9_wording 108 = .ok (.aload_n 0, 1) := dk_42 (dk_at dksX9_wording_4 17 rfl rfl)
theorem dX9_wording_109 : decode cX9_wording 109 = .ok (.ldc2_w 288, 3) := dk_20 1 32 (dk_at dksX9_wording_4 18 rfl rfl)
theorem dX9_wording_112 : decode cX9_wording 112 = .ok (.invokevirtual 350, 3) := dk_182 1 94 (dk_at dksX9_wording_4 21 rfl rfl)
theorem dX9_wording_115 : decode cX9_wording 115 = .ok (.aload_n 0, 1) := dk_42 (dk_at dksX9_wording_5 0 rfl rfl)
theorem dX9_wording_116 : decode cX9_wording 116 = .ok (.getfield 70, 3) := dk_180 0 70 (dk_at dksX9_wording_5 1 rfl rfl)
theorem dX9_wording_119 : decode cX9_wording 119 = .ok (.iload_n 1, 1) := dk_27 (dk_at dksX9_wording_5 4 rfl rfl)
theorem dX9_wording_120 : decode cX9_wording 120 = .ok (.aload_n 0, 1) := dk_42 (dk_at dksX9_wording_5 5 rfl rfl)
theorem dX9_wording_121 : decode cX9_wording 121 = .ok (.iconst 0, 1) := dk_3 (dk_at dksX9_wording_5 6 rfl rfl)
theorem dX9_wording_122 : decode cX9_wording 122 = .ok (.bipush 99, 2) := dk_16 99 (dk_at dksX9_wording_5 7 rfl rfl)
theorem dX9_wording_124 : decode cX9_wording 124 = .ok (.invokevirtual 354, 3) := dk_182 1 98 (dk_at dksX9_wording_5 9 rfl rfl)
theorem dX9_wording_127 : decode cX9_wording 127 = .ok (.iastore, 1) := dk_79 (dk_at dksX9_wording_5 12 rfl rfl)
theorem dX9_wording_128 : decode cX9_wording 128 = .ok (.aload_n 0, 1) := dk_42 (dk_at dksX9_wording_5 13 rfl rfl)
theorem dX9_wording_129 : decode cX9_wording 129 = .ok (.getfield 73, 3) := dk_180 0 73 (dk_at dksX9_wording_5 14 rfl rfl)
theorem dX9_wording_132 : decode cX9_wording 132 = .ok (.iload_n 1, 1) := dk_27 (dk_at dksX9_wording_5 17 rfl rfl)
theorem dX9_wording_133 : decode cX9_wording 133 = .ok (.iconst 0, 1) := dk_3 (dk_at dksX9_wording_5 18 rfl rfl)
theorem dX9_wording_134 : decode cX9_wording 134 = .ok (.iastore, 1) := dk_79 (dk_at dksX9_wording_5 19 rfl rfl)
theorem dX9_wording_135 : decode cX9_wording 135 = .ok (.aload_n 0, 1) := dk_42 (dk_at dksX9_wording_5 20 rfl rfl)
theorem dX9_wording_136 : decode cX9_wording 136 = .ok (.getfield 36, 3) := dk_180 0 36 (dk_at dksX9_wording_5 21 rfl rfl)
theorem dX9_wording_139 : decode cX9_wording 139 = .ok (.ifCond .ne 32, 3) := dk_154 0 32 (dk_at dksX9_wording_6 0 rfl rfl)
theorem dX9_wording_142 : decode cX9_wording 142 = .ok (.aload_n 0, 1) := dk_42 (dk_at dksX9_wording_6 3 rfl rfl)
theorem dX9_wording_143 : decode cX9_wording 143 = .ok (.getfield 48, 3) := dk_180 0 48 (dk_at dksX9_wording_6 4 rfl rfl)
theorem dX9_wording_146 : decode cX9_wording 146 = .ok (.iconst (-1), 1) := dk_2 (dk_at dksX9_wording_6 7 rfl rfl)
theorem dX9_wording_147 : decode cX9_wording 147 = .ok (.if_icmp .ne 24, 3) := dk_160 0 24 (dk_at dksX9_wording_6 8 rfl rfl)
theorem dX9_wording_150 : decode cX9_wording 150 = .ok (.aload_n 0, 1) := dk_42 (dk_at dksX9_wording_6 11 rfl rfl)
theorem dX9_wording_151 : decode cX9_wording 151 = .ok (.ldc2_w 290, 3) := dk_20 1 34 (dk_at dksX9_wording_6 12 rfl rfl)
theorem dX9_wording_154 : decode cX9_wording 154 = .ok (.invokevirtual 328, 3) := dk_182 1 72 (dk_at dksX9_wording_6 15 rfl rfl)
theorem dX9_wording_157 : decode cX9_wording 157 = .ok (.ifCond .eq 14, 3) := dk_153 0 14 (dk_at dksX9_wording_6 18 rfl rfl)
theorem dX9_wording_160 : decode cX9_wording 160 = .ok (.aload_n 0, 1) := dk_42 (dk_at dksX9_wording_6 21 rfl rfl)
theorem dX9_wording_161 : decode cX9_wording 161 = .ok (.getfield 73, 3) := dk_180 0 73 (dk_at dksX9_wording_7 0 rfl rfl)
theorem dX9_wording_164 : decode cX9_wording 164 = .ok (.iload_n 1, 1) := dk_27 (dk_at dksX9_wording_7 3 rfl rfl)
theorem dX9_wording_165 : decode cX9_wording 165 = .ok (.iconst 1, 1) := dk_4 (dk_at dksX9_wording_7 4 rfl rfl)
theorem dX9_wording_166 : decode cX9_wording 166 = .ok (.iastore, 1) := dk_79 (dk_at dksX9_wording_7 5 rfl rfl)
theorem dX9_wording_167 : decode cX9_wording 167 = .ok (.aload_n 0, 1) := dk_42 (dk_at dksX9_wording_7 6 rfl rfl)
theorem dX9_wording_168 : decode cX9_wording 168 = .ok (.invokevirtual 279, 3) := dk_182 1 23 (dk_at dksX9_wording_7 7 rfl rfl)
theorem dX9_wording_171 : decode cX9_wording 171 = .ok (.aload_n 0, 1) := dk_42 (dk_at dksX9_wording_7 10 rfl rfl)
theorem dX9_wording_172 : decode cX9_wording 172 = .ok (.getfield 36, 3) := dk_180 0 36 (dk_at dksX9_wording_7 11 rfl rfl)
theorem dX9_wording_175 : decode cX9_wording 175 = .ok (.ifCond .ne 16, 3) := dk_154 0 16 (dk_at dksX9_wording_7 14 rfl rfl)
theorem dX9_wording_178 : decode cX9_wording 178 = .ok (.aload_n 0, 1) := dk_42 (dk_at dksX9_wording_7 17 rfl rfl)
theorem dX9_wording_179 : decode cX9_wording 179 = .ok (.getfield 54, 3) := dk_180 0 54 (dk_at dksX9_wording_7 18 rfl rfl)
theorem dX9_wording_182 : decode cX9_wording 182 = .ok (.aload_n 0, 1) := dk_42 (dk_at dksX9_wording_7 21 rfl rfl)
theorem dX9_wording_183 : decode cX9_wording 183 = .ok (.getfield 127, 3) := dk_180 0 127 (dk_at dksX9_wording_8 0 rfl rfl)
theorem dX9_wording_186 : decode cX9_wording 186 = .ok (.dup2, 1) := dk_92 (dk_at dksX9_wording_8 3 rfl rfl)
theorem dX9_wording_187 : decode cX9_wording 187 = .ok (.iaload, 1) := dk_46 (dk_at dksX9_wording_8 4 rfl rfl)
theorem dX9_wording_188 : decode cX9_wording 188 = .ok (.iconst 1, 1) := dk_4 (dk_at dksX9_wording_8 5 rfl rfl)
theorem dX9_wording_189 : decode cX9_wording 189 = .ok (.iadd, 1) := dk_96 (dk_at dksX9_wording_8 6 rfl rfl)
theorem dX9_wording_190 : decode cX9_wording 190 = .ok (.iastore, 1) := dk_79 (dk_at dksX9_wording_8 7 rfl rfl)
theorem dX9_wording_191 : decode cX9_wording 191 = .ok (.return_, 1) := dk_177 (dk_at dksX9_wording_8 8 rfl rfl)
def dkwX9_counts_1 : List UInt8 := [154, 0, 7, 42, 182, 1, 23, 42, 180, 0, 36, 154, 0, 7, 4, 167, 0, 4, 3, 172]
abbrev dktX9_counts_1 : List UInt8 := dkwX9_counts_1 ++ []
def dkwX9_counts_0 : List UInt8 := [42, 180, 0, 36, 154, 0, 16, 27, 153, 0, 12, 42, 8, 42, 180, 0, 23, 182, 1, 6, 42, 180, 0, 36]
abbrev dktX9_counts_0 : List UInt8 := dkwX9_counts_0 ++ dktX9_counts_1
theorem dksX9_counts_0 : cX9_counts.data.toList.drop 0 = dktX9_counts_0 := by decide +kernel
theorem dksX9_counts_1 : cX9_counts.data.toList.drop 24 = dktX9_counts_1 := dk_seg dksX9_counts_0 24 rfl rfl
theorem dX9_counts_0 : decode cX9_counts 0 = .ok (.aload_n 0, 1) := dk_42 (dk_at dksX9_counts_0 0 rfl rfl)
theorem dX9_counts_1 : decode cX9_counts 1 = .ok (.getfield 36, 3) := dk_180 0 36 (dk_at dksX9_counts_0 1 rfl rfl)
theorem dX9_counts_4 : decode cX9_counts 4 = .ok (.ifCond .ne 16, 3) := dk_154 0 16 (dk_at dksX9_counts_0 4 rfl rfl)
theorem dX9_counts_7 : decode cX9_counts 7 = .ok (.iload_n 1, 1) := dk_27 (dk_at dksX9_counts_0 7 rfl rfl)
theorem dX9_counts_8 : decode cX9_counts 8 = .ok (.ifCond .eq 12, 3) := dk_153 0 12 (dk_at dksX9_counts_0 8 rfl rfl)
theorem dX9_counts_11 : decode cX9_counts 11 = .ok (.aload_n 0, 1) := dk_42 (dk_at dksX9_counts_0 11 rfl rfl)
theorem dX9_counts_12 : decode cX9_counts 12 = .ok (.iconst 5, 1) := dk_8 (dk_at dksX9_counts_0 12 rfl rfl)
theorem dX9_counts_13 : decode cX9_counts 13 = .ok (.aload_n 0, 1) := dk_42 (dk_at dksX9_counts_0 13 rfl rfl)
theorem dX9_counts_14 : decode cX9_counts 14 = .ok (.getfield 23, 3) := dk_180 0 23 (dk_at dksX9_counts_0 14 rfl rfl)
theorem dX9_counts_17 : decode cX9_counts 17 = .ok (.invokevirtual 262, 3) := dk_182 1 6 (dk_at dksX9_counts_0 17 rfl rfl)
theorem dX9_counts_20 : decode cX9_counts 20 = .ok (.aload_n 0, 1) := dk_42 (dk_at dksX9_counts_0 20 rfl rfl)
theorem dX9_counts_21 : decode cX9_counts 21 = .ok (.getfield 36, 3) := dk_180 0 36 (dk_at dksX9_counts_0 21 rfl rfl)
theorem dX9_counts_24 : decode cX9_counts 24 = .ok (.ifCond .ne 7, 3) := dk_154 0 7 (dk_at dksX9_counts_1 0 rfl rfl)
theorem dX9_counts_27 : decode cX9_counts 27 = .ok (.aload_n 0, 1) := dk_42 (dk_at dksX9_counts_1 3 rfl rfl)
theorem dX9_counts_28 : decode cX9_counts 28 = .ok (.invokevirtual 279, 3) := dk_182 1 23 (dk_at dksX9_counts_1 4 rfl rfl)
theorem dX9_counts_31 : decode cX9_counts 31 = .ok (.aload_n 0, 1) := dk_42 (dk_at dksX9_counts_1 7 rfl rfl)
theorem dX9_counts_32 : decode cX9_counts 32 = .ok (.getfield 36, 3) := dk_180 0 36 (dk_at dksX9_counts_1 8 rfl rfl)
theorem dX9_counts_35 : decode cX9_counts 35 = .ok (.ifCond .ne 7, 3) := dk_154 0 7 (dk_at dksX9_counts_1 11 rfl rfl)
theorem dX9_counts_38 : decode cX9_counts 38 = .ok (.iconst 1, 1) := dk_4 (dk_at dksX9_counts_1 14 rfl rfl)
theorem dX9_counts_39 : decode cX9_counts 39 = .ok (.goto 4, 3) := dk_167 0 4 (dk_at dksX9_counts_1 15 rfl rfl)
theorem dX9_counts_42 : decode cX9_counts 42 = .ok (.iconst 0, 1) := dk_3 (dk_at dksX9_counts_1 18 rfl rfl)
theorem dX9_counts_43 : decode cX9_counts 43 = .ok (.ireturn, 1) := dk_172 (dk_at dksX9_counts_1 19 rfl rfl)
def dkwX9_fresh_4 : List UInt8 := [154, 0, 7, 42, 182, 1, 23, 31, 173]
abbrev dktX9_fresh_4 : List UInt8 := dkwX9_fresh_4 ++ []
def dkwX9_fresh_3 : List UInt8 := [5, 42, 180, 0, 23, 182, 1, 6, 132, 1, 1, 167, 255, 219, 42, 180, 0, 32, 64, 42, 180, 0, 36]
abbrev dktX9_fresh_3 : List UInt8 := dkwX9_fresh_3 ++ dktX9_fresh_4
def dkwX9_fresh_2 : List UInt8 := [163, 0, 38, 42, 180, 0, 36, 154, 0, 31, 42, 27, 42, 180, 0, 32, 182, 1, 79, 2, 159, 0, 12, 42]
abbrev dktX9_fresh_2 : List UInt8 := dkwX9_fresh_2 ++ dktX9_fresh_3
def dkwX9_fresh_1 : List UInt8 := [180, 0, 32, 182, 1, 76, 153, 0, 12, 42, 4, 42, 180, 0, 23, 182, 1, 6, 3, 60, 27, 6]
abbrev dktX9_fresh_1 : List UInt8 := dkwX9_fresh_1 ++ dktX9_fresh_2
def dkwX9_fresh_0 : List UInt8 := [42, 182, 1, 17, 42, 180, 0, 36, 158, 0, 5, 9, 173, 42, 180, 0, 20, 4, 160, 0, 14, 42, 42]
abbrev dktX9_fresh_0 : List UInt8 := dkwX9_fresh_0 ++ dktX9_fresh_1
theorem dksX9_fresh_0 : cX9_fresh.data.toList.drop 0 = dktX9_fresh_0 := by decide +kernel
theorem dksX9_fresh_1 : cX9_fresh.data.toList.drop 23 = dktX9_fresh_1 := dk_seg dksX9_fresh_0 23 rfl rfl
theorem dksX9_fresh_2 : cX9_fresh.data.toList.drop 45 = dktX9_fresh_2 := dk_seg dksX9_fresh_1 22 rfl rfl
theorem dksX9_fresh_3 : cX9_fresh.data.toList.drop 69 = dktX9_fresh_3 := dk_seg dksX9_fresh_2 24 rfl rfl
theorem dksX9_fresh_4 : cX9_fresh.data.toList.drop 92 = dktX9_fresh_4 := dk_seg dksX9_fresh_3 23 rfl rfl
theorem dX9_fresh_0 : decode cX9_fresh 0 = .ok (.aload_n 0, 1) := dk_42 (dk_at dksX9_fresh_0 0 rfl rfl)
theorem dX9_fresh_1 : decode cX9_fresh 1 = .ok (.invokevirtual 273, 3) := dk_182 1 17 (dk_at dksX9_fresh_0 1 rfl rfl)
theorem dX9_fresh_4 : decode cX9_fresh 4 = .ok (.aload_n 0, 1) := dk_42 (dk_at dksX9_fresh_0 4 rfl rfl)
theorem dX9_fresh_5 : decode cX9_fresh 5 = .ok (.getfield 36, 3) := dk_180 0 36 (dk_at dksX9_fresh_0 5 rfl rfl)
theorem dX9_fresh_8 : decode cX9_fresh 8 = .ok (.ifCond .le 5, 3) := dk_158 0 5 (dk_at dksX9_fresh_0 8 rfl rfl)
theorem dX9_fresh_11 : decode cX9_fresh 11 = .ok (.lconst 0, 1) := dk_9 (dk_at dksX9_fresh_0 11 rfl rfl)
theorem dX9_fresh_12 : decode cX9_fresh 12 = .ok (.lreturn, 1) := dk_173 (dk_at dksX9_fresh_0 12 rfl rfl)
theorem dX9_fresh_13 : decode cX9_fresh 13 = .ok (.aload_n 0, 1) := dk_42 (dk_at dksX9_fresh_0 13 rfl rfl)
theorem dX9_fresh_14 : decode cX9_fresh 14 = .ok (.getfield 20, 3) := dk_180 0 20 (dk_at dksX9_fresh_0 14 rfl rfl)
theorem dX9_fresh_17 : decode cX9_fresh 17 = .ok (.iconst 1, 1) := dk_4 (dk_at dksX9_fresh_0 17 rfl rfl)
theorem dX9_fresh_18 : decode cX9_fresh 18 = .ok (.if_icmp .ne 14, 3) := dk_160 0 14 (dk_at dksX9_fresh_0 18 rfl rfl)
theorem dX9_fresh_21 : decode cX9_fresh 21 = .ok (.aload_n 0, 1) := dk_42 (dk_at dksX9_fresh_0 21 rfl rfl)
theorem dX9_fresh_22 : decode cX9_fresh 22 = .ok (.aload_n 0, 1) := dk_42 (dk_at dksX9_fresh_0 22 rfl rfl)
theorem dX9_fresh_23 : decode cX9_fresh 23 = .ok (.getfield 32, 3) := dk_180 0 32 (dk_at dksX9_fresh_1 0 rfl rfl)
theorem dX9_fresh_26 : decode cX9_fresh 26 = .ok (.invokevirtual 332, 3) := dk_182 1 76 (dk_at dksX9_fresh_1 3 rfl rfl)
theorem dX9_fresh_29 : decode cX9_fresh 29 = .ok (.ifCond .eq 12, 3) := dk_153 0 12 (dk_at dksX9_fresh_1 6 rfl rfl)
theorem dX9_fresh_32 : decode cX9_fresh 32 = .ok (.aload_n 0, 1) := dk_42 (dk_at dksX9_fresh_1 9 rfl rfl)
theorem dX9_fresh_33 : decode cX9_fresh 33 = .ok (.iconst 1, 1) := dk_4 (dk_at dksX9_fresh_1 10 rfl rfl)
theorem dX9_fresh_34 : decode cX9_fresh 34 = .ok (.aload_n 0, 1) := dk_42 (dk_at dksX9_fresh_1 11 rfl rfl)
theorem dX9_fresh_35 : decode cX9_fresh 35 = .ok (.getfield 23, 3) := dk_180 0 23 (dk_at dksX9_fresh_1 12 rfl rfl)
theorem dX9_fresh_38 : decode cX9_fresh 38 = .ok (.invokevirtual 262, 3) := dk_182 1 6 (dk_at dksX9_fresh_1 15 rfl rfl)
theorem dX9_fresh_41 : decode cX9_fresh 41 = .ok (.iconst 0, 1) := dk_3 (dk_at dksX9_fresh_1 18 rfl rfl)
theorem dX9_fresh_42 : decode cX9_fresh 42 = .ok (.istore_n 1, 1) := dk_60 (dk_at dksX9_fresh_1 19 rfl rfl)
theorem dX9_fresh_43 : decode cX9_fresh 43 = .ok (.iload_n 1, 1) := dk_27 (dk_at dksX9_fresh_1 20 rfl rfl)
theorem dX9_fresh_44 : decode cX9_fresh 44 = .ok (.iconst 3, 1) := dk_6 (dk_at dksX9_fresh_1 21 rfl rfl)
theorem dX9_fresh_45 : decode cX9_fresh 45 = .ok (.if_icmp .gt 38, 3) := dk_163 0 38 (dk_at dksX9_fresh_2 0 rfl rfl)
theorem dX9_fresh_48 : decode cX9_fresh 48 = .ok (.aload_n 0, 1) := dk_42 (dk_at dksX9_fresh_2 3 rfl rfl)
theorem dX9_fresh_49 : decode cX9_fresh 49 = .ok (.getfield 36, 3) := dk_180 0 36 (dk_at dksX9_fresh_2 4 rfl rfl)
theorem dX9_fresh_52 : decode cX9_fresh 52 = .ok (.ifCond .ne 31, 3) := dk_154 0 31 (dk_at dksX9_fresh_2 7 rfl rfl)
theorem dX9_fresh_55 : decode cX9_fresh 55 = .ok (.aload_n 0, 1) := dk_42 (dk_at dksX9_fresh_2 10 rfl rfl)
theorem dX9_fresh_56 : decode cX9_fresh 56 = .ok (.iload_n 1, 1) := dk_27 (dk_at dksX9_fresh_2 11 rfl rfl)
theorem dX9_fresh_57 : decode cX9_fresh 57 = .ok (.aload_n 0, 1) := dk_42 (dk_at dksX9_fresh_2 12 rfl rfl)
theorem dX9_fresh_58 : decode cX9_fresh 58 = .ok (.getfield 32, 3) := dk_180 0 32 (dk_at dksX9_fresh_2 13 rfl rfl)
theorem dX9_fresh_61 : decode cX9_fresh 61 = .ok (.invokevirtual 335, 3) := dk_182 1 79 (dk_at dksX9_fresh_2 16 rfl rfl)
theorem dX9_fresh_64 : decode cX9_fresh 64 = .ok (.iconst (-1), 1) := dk_2 (dk_at dksX9_fresh_2 19 rfl rfl)
theorem dX9_fresh_65 : decode cX9_fresh 65 = .ok (.if_icmp .eq 12, 3) := dk_159 0 12 (dk_at dksX9_fresh_2 20 rfl rfl)
theorem dX9_fresh_68 : decode cX9_fresh 68 = .ok (.aload_n 0, 1) := dk_42 (dk_at dksX9_fresh_2 23 rfl rfl)
theorem dX9_fresh_69 : decode cX9_fresh 69 = .ok (.iconst 2, 1) := dk_5 (dk_at dksX9_fresh_3 0 rfl rfl)
theorem dX9_fresh_70 : decode cX9_fresh 70 = .ok (.aload_n 0, 1) := dk_42 (dk_at dksX9_fresh_3 1 rfl rfl)
theorem dX9_fresh_71 : decode cX9_fresh 71 = .ok (.getfield 23, 3) := dk_180 0 23 (dk_at dksX9_fresh_3 2 rfl rfl)
theorem dX9_fresh_74 : decode cX9_fresh 74 = .ok (.invokevirtual 262, 3) := dk_182 1 6 (dk_at dksX9_fresh_3 5 rfl rfl)
theorem dX9_fresh_77 : decode cX9_fresh 77 = .ok (.iinc 1 1, 3) := dk_132 1 1 (dk_at dksX9_fresh_3 8 rfl rfl)
theorem dX9_fresh_80 : decode cX9_fresh 80 = .ok (.goto (-37), 3) := dk_167 255 219 (dk_at dksX9_fresh_3 11 rfl rfl)
theorem dX9_fresh_83 : decode cX9_fresh 83 = .ok (.aload_n 0, 1) := dk_42 (dk_at dksX9_fresh_3 14 rfl rfl)
theorem dX9_fresh_84 : decode cX9_fresh 84 = .ok (.getfield 32, 3) := dk_180 0 32 (dk_at dksX9_fresh_3 15 rfl rfl)
theorem dX9_fresh_87 : decode cX9_fresh 87 = .ok (.lstore_n 1, 1) := dk_64 (dk_at dksX9_fresh_3 18 rfl rfl)
theorem dX9_fresh_88 : decode cX9_fresh 88 = .ok (.aload_n 0, 1) := dk_42 (dk_at dksX9_fresh_3 19 rfl rfl)
theorem dX9_fresh_89 : decode cX9_fresh 89 = .ok (.getfield 36, 3) := dk_180 0 36 (dk_at dksX9_fresh_3 20 rfl rfl)
theorem dX9_fresh_92 : decode cX9_fresh 92 = .ok (.ifCond .ne 7, 3) := dk_154 0 7 (dk_at dksX9_fresh_4 0 rfl rfl)
theorem dX9_fresh_95 : decode cX9_fresh 95 = .ok (.aload_n 0, 1) := dk_42 (dk_at dksX9_fresh_4 3 rfl rfl)
theorem dX9_fresh_96 : decode cX9_fresh 96 = .ok (.invokevirtual 279, 3) := dk_182 1 23 (dk_at dksX9_fresh_4 4 rfl rfl)
theorem dX9_fresh_99 : decode cX9_fresh 99 = .ok (.lload_n 1, 1) := dk_31 (dk_at dksX9_fresh_4 7 rfl rfl)
theorem dX9_fresh_100 : decode cX9_fresh 100 = .ok (.lreturn, 1) := dk_173 (dk_at dksX9_fresh_4 8 rfl rfl)
def dkwX9_isOwn_6 : List UInt8 := [154, 0, 5, 4, 172, 3, 172]
abbrev dktX9_isOwn_6 : List UInt8 := dkwX9_isOwn_6 ++ []
def dkwX9_isOwn_5 : List UInt8 := [20, 1, 54, 148, 154, 0, 5, 4, 172, 31, 20, 1, 56, 148, 153, 0, 11, 31, 20, 1, 58, 148]
abbrev dktX9_isOwn_5 : List UInt8 := dkwX9_isOwn_5 ++ dktX9_isOwn_6
def dkwX9_isOwn_4 : List UInt8 := [20, 1, 48, 148, 153, 0, 27, 31, 20, 1, 50, 148, 153, 0, 19, 31, 20, 1, 52, 148, 153, 0, 11, 31]
abbrev dktX9_isOwn_4 : List UInt8 := dkwX9_isOwn_4 ++ dktX9_isOwn_5
def dkwX9_isOwn_3 : List UInt8 := [153, 0, 11, 31, 20, 1, 44, 148, 154, 0, 5, 4, 172, 31, 20, 1, 46, 148, 153, 0, 35, 31]
abbrev dktX9_isOwn_3 : List UInt8 := dkwX9_isOwn_3 ++ dktX9_isOwn_4
def dkwX9_isOwn_2 : List UInt8 := [153, 0, 35, 31, 20, 1, 38, 148, 153, 0, 27, 31, 20, 1, 40, 148, 153, 0, 19, 31, 20, 1, 42, 148]
abbrev dktX9_isOwn_2 : List UInt8 := dkwX9_isOwn_2 ++ dktX9_isOwn_3
def dkwX9_isOwn_1 : List UInt8 := [31, 20, 1, 32, 148, 153, 0, 11, 31, 20, 1, 34, 148, 154, 0, 5, 4, 172, 31, 20, 1, 36, 148]
abbrev dktX9_isOwn_1 : List UInt8 := dkwX9_isOwn_1 ++ dktX9_isOwn_2
def dkwX9_isOwn_0 : List UInt8 := [31, 20, 1, 26, 148, 153, 0, 35, 31, 20, 1, 28, 148, 153, 0, 27, 31, 20, 1, 30, 148, 153, 0, 19]
abbrev dktX9_isOwn_0 : List UInt8 := dkwX9_isOwn_0 ++ dktX9_isOwn_1
theorem dksX9_isOwn_0 : cX9_isOwn.data.toList.drop 0 = dktX9_isOwn_0 := by decide +kernel
theorem dksX9_isOwn_1 : cX9_isOwn.data.toList.drop 24 = dktX9_isOwn_1 := dk_seg dksX9_isOwn_0 24 rfl rfl
theorem dksX9_isOwn_2 : cX9_isOwn.data.toList.drop 47 = dktX9_isOwn_2 := dk_seg dksX9_isOwn_1 23 rfl rfl
theorem dksX9_isOwn_3 : cX9_isOwn.data.toList.drop 71 = dktX9_isOwn_3 := dk_seg dksX9_isOwn_2 24 rfl rfl
theorem dksX9_isOwn_4 : cX9_isOwn.data.toList.drop 93 = dktX9_isOwn_4 := dk_seg dksX9_isOwn_3 22 rfl rfl
theorem dksX9_isOwn_5 : cX9_isOwn.data.toList.drop 117 = dktX9_isOwn_5 := dk_seg dksX9_isOwn_4 24 rfl rfl
theorem dksX9_isOwn_6 : cX9_isOwn.data.toList.drop 139 = dktX9_isOwn_6 := dk_seg dksX9_isOwn_5 22 rfl rfl
theorem dX9_isOwn_0 : decode cX9_isOwn 0 = .ok (.lload_n 1, 1) := dk_31 (dk_at dksX9_isOwn_0 0 rfl rfl)
theorem dX9_isOwn_1 : decode cX9_isOwn 1 = .ok (.ldc2_w 282, 3) := dk_20 1 26 (dk_at dksX9_isOwn_0 1 rfl rfl)
theorem dX9_isOwn_4 : decode cX9_isOwn 4 = .ok (.lcmp, 1) := dk_148 (dk_at dksX9_isOwn_0 4 rfl rfl)
theorem dX9_isOwn_5 : decode cX9_isOwn 5 = .ok (.ifCond .eq 35, 3) := dk_153 0 35 (dk_at dksX9_isOwn_0 5 rfl rfl)
theorem dX9_isOwn_8 : decode cX9_isOwn 8 = .ok (.lload_n 1, 1) := dk_31 (dk_at dksX9_isOwn_0 8 rfl rfl)
theorem dX9_isOwn_9 : decode cX9_isOwn 9 = .ok (.ldc2_w 284, 3) := dk_20 1 28 (dk_at dksX9_isOwn_0 9 rfl rfl)
theorem dX9_isOwn_12 : decode cX9_isOwn 12 = .ok (.lcmp, 1) := dk_148 (dk_at dksX9_isOwn_0 12 rfl rfl)
theorem dX9_isOwn_13 : decode cX9_isOwn 13 = .ok (.ifCond .eq 27, 3) := dk_153 0 27 (dk_at dksX9_isOwn_0 13 rfl rfl)
theorem dX9_isOwn_16 : decode cX9_isOwn 16 = .ok (.lload_n 1, 1) := dk_31 (dk_at dksX9_isOwn_0 16 rfl rfl)
theorem dX9_isOwn_17 : decode cX9_isOwn 17 = .ok (.ldc2_w 286, 3) := dk_20 1 30 (dk_at dksX9_isOwn_0 17 rfl rfl)
theorem dX9_isOwn_20 : decode cX9_isOwn 20 = .ok (.lcmp, 1) := dk_148 (dk_at dksX9_isOwn_0 20 rfl rfl)
theorem dX9_isOwn_21 : decode cX9_isOwn 21 = .ok (.ifCond .eq 19, 3) := dk_153 0 19 (dk_at dksX9_isOwn_0 21 rfl rfl)
theorem dX9_isOwn_24 : decode cX9_isOwn 24 = .ok (.lload_n 1, 1) := dk_31 (dk_at dksX9_isOwn_1 0 rfl rfl)
theorem dX9_isOwn_25 : decode cX9_isOwn 25 = .ok (.ldc2_w 288, 3) := dk_20 1 32 (dk_at dksX9_isOwn_1 1 rfl rfl)
theorem dX9_isOwn_28 : decode cX9_isOwn 28 = .ok (.lcmp, 1) := dk_148 (dk_at dksX9_isOwn_1 4 rfl rfl)
theorem dX9_isOwn_29 : decode cX9_isOwn 29 = .ok (.ifCond .eq 11, 3) := dk_153 0 11 (dk_at dksX9_isOwn_1 5 rfl rfl)
theorem dX9_isOwn_32 : decode cX9_isOwn 32 = .ok (.lload_n 1, 1) := dk_31 (dk_at dksX9_isOwn_1 8 rfl rfl)
theorem dX9_isOwn_33 : decode cX9_isOwn 33 = .ok (.ldc2_w 290, 3) := dk_20 1 34 (dk_at dksX9_isOwn_1 9 rfl rfl)
theorem dX9_isOwn_36 : decode cX9_isOwn 36 = .ok (.lcmp, 1) := dk_148 (dk_at dksX9_isOwn_1 12 rfl rfl)
theorem dX9_isOwn_37 : decode cX9_isOwn 37 = .ok (.ifCond .ne 5, 3) := dk_154 0 5 (dk_at dksX9_isOwn_1 13 rfl rfl)
theorem dX9_isOwn_40 : decode cX9_isOwn 40 = .ok (.iconst 1, 1) := dk_4 (dk_at dksX9_isOwn_1 16 rfl rfl)
theorem dX9_isOwn_41 : decode cX9_isOwn 41 = .ok (.ireturn, 1) := dk_172 (dk_at dksX9_isOwn_1 17 rfl rfl)
theorem dX9_isOwn_42 : decode cX9_isOwn 42 = .ok (.lload_n 1, 1) := dk_31 (dk_at dksX9_isOwn_1 18 rfl rfl)
theorem dX9_isOwn_43 : decode cX9_isOwn 43 = .ok (.ldc2_w 292, 3) := dk_20 1 36 (dk_at dksX9_isOwn_1 19 rfl rfl)
theorem dX9_isOwn_46 : decode cX9_isOwn 46 = .ok (.lcmp, 1) := dk_148 (dk_at dksX9_isOwn_1 22 rfl rfl)
theorem dX9_isOwn_47 : decode cX9_isOwn 47 = .ok (.ifCond .eq 35, 3) := dk_153 0 35 (dk_at dksX9_isOwn_2 0 rfl rfl)
theorem dX9_isOwn_50 : decode cX9_isOwn 50 = .ok (.lload_n 1, 1) := dk_31 (dk_at dksX9_isOwn_2 3 rfl rfl)
theorem dX9_isOwn_51 : decode cX9_isOwn 51 = .ok (.ldc2_w 294, 3) := dk_20 1 38 (dk_at dksX9_isOwn_2 4 rfl rfl)
theorem dX9_isOwn_54 : decode cX9_isOwn 54 = .ok (.lcmp, 1) := dk_148 (dk_at dksX9_isOwn_2 7 rfl rfl)
theorem dX9_isOwn_55 : decode cX9_isOwn 55 = .ok (.ifCond .eq 27, 3) := dk_153 0 27 (dk_at dksX9_isOwn_2 8 rfl rfl)
theorem dX9_isOwn_58 : decode cX9_isOwn 58 = .ok (.lload_n 1, 1) := dk_31 (dk_at dksX9_isOwn_2 11 rfl rfl)
theorem dX9_isOwn_59 : decode cX9_isOwn 59 = .ok (.ldc2_w 296, 3) := dk_20 1 40 (dk_at dksX9_isOwn_2 12 rfl rfl)
theorem dX9_isOwn_62 : decode cX9_isOwn 62 = .ok (.lcmp, 1) := dk_148 (dk_at dksX9_isOwn_2 15 rfl rfl)
theorem dX9_isOwn_63 : decode cX9_isOwn 63 = .ok (.ifCond .eq 19, 3) := dk_153 0 19 (dk_at dksX9_isOwn_2 16 rfl rfl)
theorem dX9_isOwn_66 : decode cX9_isOwn 66 = .ok (.lload_n 1, 1) := dk_31 (dk_at dksX9_isOwn_2 19 rfl rfl)
theorem dX9_isOwn_67 : decode cX9_isOwn 67 = .ok (.ldc2_w 298, 3) := dk_20 1 42 (dk_at dksX9_isOwn_2 20 rfl rfl)
theorem dX9_isOwn_70 : decode cX9_isOwn 70 = .ok (.lcmp, 1) := dk_148 (dk_at dksX9_isOwn_2 23 rfl rfl)
theorem dX9_isOwn_71 : decode cX9_isOwn 71 = .ok (.ifCond .eq 11, 3) := dk_153 0 11 (dk_at dksX9_isOwn_3 0 rfl rfl)
theorem dX9_isOwn_74 : decode cX9_isOwn 74 = .ok (.lload_n 1, 1) := dk_31 (dk_at dksX9_isOwn_3 3 rfl rfl)
theorem dX9_isOwn_75 : decode cX9_isOwn 75 = .ok (.ldc2_w 300, 3) := dk_20 1 44 (dk_at dksX9_isOwn_3 4 rfl rfl)
theorem dX9_isOwn_78 : decode cX9_isOwn 78 = .ok (.lcmp, 1) := dk_148 (dk_at dksX9_isOwn_3 7 rfl rfl)
theorem dX9_isOwn_79 : decode cX9_isOwn 79 = .ok (.ifCond .ne 5, 3) := dk_154 0 5 (dk_at dksX9_isOwn_3 8 rfl rfl)
theorem dX9_isOwn_82 : decode cX9_isOwn 82 = .ok (.iconst 1, 1) := dk_4 (dk_at dksX9_isOwn_3 11 rfl rfl)
theorem dX9_isOwn_83 : decode cX9_isOwn 83 = .ok (.ireturn, 1) := dk_172 (dk_at dksX9_isOwn_3 12 rfl rfl)
theorem dX9_isOwn_84 : decode cX9_isOwn 84 = .ok (.lload_n 1, 1) := dk_31 (dk_at dksX9_isOwn_3 13 rfl rfl)
theorem dX9_isOwn_85 : decode cX9_isOwn 85 = .ok (.ldc2_w 302, 3) := dk_20 1 46 (dk_at dksX9_isOwn_3 14 rfl rfl)
theorem dX9_isOwn_88 : decode cX9_isOwn 88 = .ok (.lcmp, 1) := dk_148 (dk_at dksX9_isOwn_3 17 rfl rfl)
theorem dX9_isOwn_89 : decode cX9_isOwn 89 = .ok (.ifCond .eq 35, 3) := dk_153 0 35 (dk_at dksX9_isOwn_3 18 rfl rfl)
theorem dX9_isOwn_92 : decode cX9_isOwn 92 = .ok (.lload_n 1, 1) := dk_31 (dk_at dksX9_isOwn_3 21 rfl rfl)
theorem dX9_isOwn_93 : decode cX9_isOwn 93 = .ok (.ldc2_w 304, 3) := dk_20 1 48 (dk_at dksX9_isOwn_4 0 rfl rfl)
theorem dX9_isOwn_96 : decode cX9_isOwn 96 = .ok (.lcmp, 1) := dk_148 (dk_at dksX9_isOwn_4 3 rfl rfl)
theorem dX9_isOwn_97 : decode cX9_isOwn 97 = .ok (.ifCond .eq 27, 3) := dk_153 0 27 (dk_at dksX9_isOwn_4 4 rfl rfl)
theorem dX9_isOwn_100 : decode cX9_isOwn 100 = .ok (.lload_n 1, 1) := dk_31 (dk_at dksX9_isOwn_4 7 rfl rfl)
theorem dX9_isOwn_101 : decode cX9_isOwn 101 = .ok (.ldc2_w 306, 3) := dk_20 1 50 (dk_at dksX9_isOwn_4 8 rfl rfl)
theorem dX9_isOwn_104 : decode cX9_isOwn 104 = .ok (.lcmp, 1) := dk_148 (dk_at dksX9_isOwn_4 11 rfl rfl)
theorem dX9_isOwn_105 : decode cX9_isOwn 105 = .ok (.ifCond .eq 19, 3) := dk_153 0 19 (dk_at dksX9_isOwn_4 12 rfl rfl)
theorem dX9_isOwn_108 : decode cX9_isOwn 108 = .ok (.lload_n 1, 1) := dk_31 (dk_at dksX9_isOwn_4 15 rfl rfl)
theorem dX9_isOwn_109 : decode cX9_isOwn 109 = .ok (.ldc2_w 308, 3) := dk_20 1 52 (dk_at dksX9_isOwn_4 16 rfl rfl)
theorem dX9_isOwn_112 : decode cX9_isOwn 112 = .ok (.lcmp, 1) := dk_148 (dk_at dksX9_isOwn_4 19 rfl rfl)
theorem dX9_isOwn_113 : decode cX9_isOwn 113 = .ok (.ifCond .eq 11, 3) := dk_153 0 11 (dk_at dksX9_isOwn_4 20 rfl rfl)
theorem dX9_isOwn_116 : decode cX9_isOwn 116 = .ok (.lload_n 1, 1) := dk_31 (dk_at dksX9_isOwn_4 23 rfl rfl)
theorem dX9_isOwn_117 : decode cX9_isOwn 117 = .ok (.ldc2_w 310, 3) := dk_20 1 54 (dk_at dksX9_isOwn_5 0 rfl rfl)
theorem dX9_isOwn_120 : decode cX9_isOwn 120 = .ok (.lcmp, 1) := dk_148 (dk_at dksX9_isOwn_5 3 rfl rfl)
theorem dX9_isOwn_121 : decode cX9_isOwn 121 = .ok (.ifCond .ne 5, 3) := dk_154 0 5 (dk_at dksX9_isOwn_5 4 rfl rfl)
theorem dX9_isOwn_124 : decode cX9_isOwn 124 = .ok (.iconst 1, 1) := dk_4 (dk_at dksX9_isOwn_5 7 rfl rfl)
theorem dX9_isOwn_125 : decode cX9_isOwn 125 = .ok (.ireturn, 1) := dk_172 (dk_at dksX9_isOwn_5 8 rfl rfl)
theorem dX9_isOwn_126 : decode cX9_isOwn 126 = .ok (.lload_n 1, 1) := dk_31 (dk_at dksX9_isOwn_5 9 rfl rfl)
theorem dX9_isOwn_127 : decode cX9_isOwn 127 = .ok (.ldc2_w 312, 3) := dk_20 1 56 (dk_at dksX9_isOwn_5 10 rfl rfl)
theorem dX9_isOwn_130 : decode cX9_isOwn 130 = .ok (.lcmp, 1) := dk_148 (dk_at dksX9_isOwn_5 13 rfl rfl)
theorem dX9_isOwn_131 : decode cX9_isOwn 131 = .ok (.ifCond .eq 11, 3) := dk_153 0 11 (dk_at dksX9_isOwn_5 14 rfl rfl)
theorem dX9_isOwn_134 : decode cX9_isOwn 134 = .ok (.lload_n 1, 1) := dk_31 (dk_at dksX9_isOwn_5 17 rfl rfl)
theorem dX9_isOwn_135 : decode cX9_isOwn 135 = .ok (.ldc2_w 314, 3) := dk_20 1 58 (dk_at dksX9_isOwn_5 18 rfl rfl)
theorem dX9_isOwn_138 : decode cX9_isOwn 138 = .ok (.lcmp, 1) := dk_148 (dk_at dksX9_isOwn_5 21 rfl rfl)
theorem dX9_isOwn_139 : decode cX9_isOwn 139 = .ok (.ifCond .ne 5, 3) := dk_154 0 5 (dk_at dksX9_isOwn_6 0 rfl rfl)
theorem dX9_isOwn_142 : decode cX9_isOwn 142 = .ok (.iconst 1, 1) := dk_4 (dk_at dksX9_isOwn_6 3 rfl rfl)
theorem dX9_isOwn_143 : decode cX9_isOwn 143 = .ok (.ireturn, 1) := dk_172 (dk_at dksX9_isOwn_6 4 rfl rfl)
theorem dX9_isOwn_144 : decode cX9_isOwn 144 = .ok (.iconst 0, 1) := dk_3 (dk_at dksX9_isOwn_6 5 rfl rfl)
theorem dX9_isOwn_145 : decode cX9_isOwn 145 = .ok (.ireturn, 1) := dk_172 (dk_at dksX9_isOwn_6 6 rfl rfl)
def dkwX9_named_1 : List UInt8 := [21, 4, 182, 1, 64, 32, 148, 154, 0, 6, 21, 4, 172, 132, 4, 1, 167, 255, 220, 2, 172]
abbrev dktX9_named_1 : List UInt8 := dkwX9_named_1 ++ []
def dkwX9_named_0 : List UInt8 := [3, 54, 4, 21, 4, 42, 42, 180, 0, 127, 27, 182, 1, 60, 162, 0, 28, 42, 42, 180, 0, 127, 27]
abbrev dktX9_named_0 : List UInt8 := dkwX9_named_0 ++ dktX9_named_1
theorem dksX9_named_0 : cX9_named.data.toList.drop 0 = dktX9_named_0 := by decide +kernel
theorem dksX9_named_1 : cX9_named.data.toList.drop 23 = dktX9_named_1 := dk_seg dksX9_named_0 23 rfl rfl
theorem dX9_named_0 : decode cX9_named 0 = .ok (.iconst 0, 1) := dk_3 (dk_at dksX9_named_0 0 rfl rfl)
theorem dX9_named_1 : decode cX9_named 1 = .ok (.istore 4, 2) := dk_54 4 (dk_at dksX9_named_0 1 rfl rfl)
theorem dX9_named_3 : decode cX9_named 3 = .ok (.iload 4, 2) := dk_21 4 (dk_at dksX9_named_0 3 rfl rfl)
theorem dX9_named_5 : decode cX9_named 5 = .ok (.aload_n 0, 1) := dk_42 (dk_at dksX9_named_0 5 rfl rfl)
theorem dX9_named_6 : decode cX9_named 6 = .ok (.aload_n 0, 1) := dk_42 (dk_at dksX9_named_0 6 rfl rfl)
theorem dX9_named_7 : decode cX9_named 7 = .ok (.getfield 127, 3) := dk_180 0 127 (dk_at dksX9_named_0 7 rfl rfl)
theorem dX9_named_10 : decode cX9_named 10 = .ok (.iload_n 1, 1) := dk_27 (dk_at dksX9_named_0 10 rfl rfl)
theorem dX9_named_11 : decode cX9_named 11 = .ok (.invokevirtual 316, 3) := dk_182 1 60 (dk_at dksX9_named_0 11 rfl rfl)
theorem dX9_named_14 : decode cX9_named 14 = .ok (.if_icmp .ge 28, 3) := dk_162 0 28 (dk_at dksX9_named_0 14 rfl rfl)
theorem dX9_named_17 : decode cX9_named 17 = .ok (.aload_n 0, 1) := dk_42 (dk_at dksX9_named_0 17 rfl rfl)
theorem dX9_named_18 : decode cX9_named 18 = .ok (.aload_n 0, 1) := dk_42 (dk_at dksX9_named_0 18 rfl rfl)
theorem dX9_named_19 : decode cX9_named 19 = .ok (.getfield 127, 3) := dk_180 0 127 (dk_at dksX9_named_0 19 rfl rfl)
theorem dX9_named_22 : decode cX9_named 22 = .ok (.iload_n 1, 1) := dk_27 (dk_at dksX9_named_0 22 rfl rfl)
theorem dX9_named_23 : decode cX9_named 23 = .ok (.iload 4, 2) := dk_21 4 (dk_at dksX9_named_1 0 rfl rfl)
theorem dX9_named_25 : decode cX9_named 25 = .ok (.invokevirtual 320, 3) := dk_182 1 64 (dk_at dksX9_named_1 2 rfl rfl)
theorem dX9_named_28 : decode cX9_named 28 = .ok (.lload_n 2, 1) := dk_32 (dk_at dksX9_named_1 5 rfl rfl)
theorem dX9_named_29 : decode cX9_named 29 = .ok (.lcmp, 1) := dk_148 (dk_at dksX9_named_1 6 rfl rfl)
theorem dX9_named_30 : decode cX9_named 30 = .ok (.ifCond .ne 6, 3) := dk_154 0 6 (dk_at dksX9_named_1 7 rfl rfl)
theorem dX9_named_33 : decode cX9_named 33 = .ok (.iload 4, 2) := dk_21 4 (dk_at dksX9_named_1 10 rfl rfl)
theorem dX9_named_35 : decode cX9_named 35 = .ok (.ireturn, 1) := dk_172 (dk_at dksX9_named_1 12 rfl rfl)
theorem dX9_named_36 : decode cX9_named 36 = .ok (.iinc 4 1, 3) := dk_132 4 1 (dk_at dksX9_named_1 13 rfl rfl)
theorem dX9_named_39 : decode cX9_named 39 = .ok (.goto (-36), 3) := dk_167 255 220 (dk_at dksX9_named_1 16 rfl rfl)
theorem dX9_named_42 : decode cX9_named 42 = .ok (.iconst (-1), 1) := dk_2 (dk_at dksX9_named_1 19 rfl rfl)
theorem dX9_named_43 : decode cX9_named 43 = .ok (.ireturn, 1) := dk_172 (dk_at dksX9_named_1 20 rfl rfl)
def dkwX9_manyOf_1 : List UInt8 := [167, 0, 23, 28, 5, 160, 0, 12, 42, 180, 0, 85, 27, 46, 167, 0, 9, 42, 180, 0, 100, 27, 46, 172]
abbrev dktX9_manyOf_1 : List UInt8 := dkwX9_manyOf_1 ++ []
def dkwX9_manyOf_0 : List UInt8 := [28, 154, 0, 12, 42, 180, 0, 54, 27, 46, 167, 0, 37, 28, 4, 160, 0, 12, 42, 180, 0, 76, 27, 46]
abbrev dktX9_manyOf_0 : List UInt8 := dkwX9_manyOf_0 ++ dktX9_manyOf_1
theorem dksX9_manyOf_0 : cX9_manyOf.data.toList.drop 0 = dktX9_manyOf_0 := by decide +kernel
theorem dksX9_manyOf_1 : cX9_manyOf.data.toList.drop 24 = dktX9_manyOf_1 := dk_seg dksX9_manyOf_0 24 rfl rfl
theorem dX9_manyOf_0 : decode cX9_manyOf 0 = .ok (.iload_n 2, 1) := dk_28 (dk_at dksX9_manyOf_0 0 rfl rfl)
theorem dX9_manyOf_1 : decode cX9_manyOf 1 = .ok (.ifCond .ne 12, 3) := dk_154 0 12 (dk_at dksX9_manyOf_0 1 rfl rfl)
theorem dX9_manyOf_4 : decode cX9_manyOf 4 = .ok (.aload_n 0, 1) := dk_42 (dk_at dksX9_manyOf_0 4 rfl rfl)
theorem dX9_manyOf_5 : decode cX9_manyOf 5 = .ok (.getfield 54, 3) := dk_180 0 54 (dk_at dksX9_manyOf_0 5 rfl rfl)
theorem dX9_manyOf_8 : decode cX9_manyOf 8 = .ok (.iload_n 1, 1) := dk_27 (dk_at dksX9_manyOf_0 8 rfl rfl)
theorem dX9_manyOf_9 : decode cX9_manyOf 9 = .ok (.iaload, 1) := dk_46 (dk_at dksX9_manyOf_0 9 rfl rfl)
theorem dX9_manyOf_10 : decode cX9_manyOf 10 = .ok (.goto 37, 3) := dk_167 0 37 (dk_at dksX9_manyOf_0 10 rfl rfl)
theorem dX9_manyOf_13 : decode cX9_manyOf 13 = .ok (.iload_n 2, 1) := dk_28 (dk_at dksX9_manyOf_0 13 rfl rfl)
theorem dX9_manyOf_14 : decode cX9_manyOf 14 = .ok (.iconst 1, 1) := dk_4 (dk_at dksX9_manyOf_0 14 rfl rfl)
theorem dX9_manyOf_15 : decode cX9_manyOf 15 = .ok (.if_icmp .ne 12, 3) := dk_160 0 12 (dk_at dksX9_manyOf_0 15 rfl rfl)
theorem dX9_manyOf_18 : decode cX9_manyOf 18 = .ok (.aload_n 0, 1) := dk_42 (dk_at dksX9_manyOf_0 18 rfl rfl)
theorem dX9_manyOf_19 : decode cX9_manyOf 19 = .ok (.getfield 76, 3) := dk_180 0 76 (dk_at dksX9_manyOf_0 19 rfl rfl)
theorem dX9_manyOf_22 : decode cX9_manyOf 22 = .ok (.iload_n 1, 1) := dk_27 (dk_at dksX9_manyOf_0 22 rfl rfl)
theorem dX9_manyOf_23 : decode cX9_manyOf 23 = .ok (.iaload, 1) := dk_46 (dk_at dksX9_manyOf_0 23 rfl rfl)
theorem dX9_manyOf_24 : decode cX9_manyOf 24 = .ok (.goto 23, 3) := dk_167 0 23 (dk_at dksX9_manyOf_1 0 rfl rfl)
theorem dX9_manyOf_27 : decode cX9_manyOf 27 = .ok (.iload_n 2, 1) := dk_28 (dk_at dksX9_manyOf_1 3 rfl rfl)
theorem dX9_manyOf_28 : decode cX9_manyOf 28 = .ok (.iconst 2, 1) := dk_5 (dk_at dksX9_manyOf_1 4 rfl rfl)
theorem dX9_manyOf_29 : decode cX9_manyOf 29 = .ok (.if_icmp .ne 12, 3) := dk_160 0 12 (dk_at dksX9_manyOf_1 5 rfl rfl)
theorem dX9_manyOf_32 : decode cX9_manyOf 32 = .ok (.aload_n 0, 1) := dk_42 (dk_at dksX9_manyOf_1 8 rfl rfl)
theorem dX9_manyOf_33 : decode cX9_manyOf 33 = .ok (.getfield 85, 3) := dk_180 0 85 (dk_at dksX9_manyOf_1 9 rfl rfl)
theorem dX9_manyOf_36 : decode cX9_manyOf 36 = .ok (.iload_n 1, 1) := dk_27 (dk_at dksX9_manyOf_1 12 rfl rfl)
theorem dX9_manyOf_37 : decode cX9_manyOf 37 = .ok (.iaload, 1) := dk_46 (dk_at dksX9_manyOf_1 13 rfl rfl)
theorem dX9_manyOf_38 : decode cX9_manyOf 38 = .ok (.goto 9, 3) := dk_167 0 9 (dk_at dksX9_manyOf_1 14 rfl rfl)
theorem dX9_manyOf_41 : decode cX9_manyOf 41 = .ok (.aload_n 0, 1) := dk_42 (dk_at dksX9_manyOf_1 17 rfl rfl)
theorem dX9_manyOf_42 : decode cX9_manyOf 42 = .ok (.getfield 100, 3) := dk_180 0 100 (dk_at dksX9_manyOf_1 18 rfl rfl)
theorem dX9_manyOf_45 : decode cX9_manyOf 45 = .ok (.iload_n 1, 1) := dk_27 (dk_at dksX9_manyOf_1 21 rfl rfl)
theorem dX9_manyOf_46 : decode cX9_manyOf 46 = .ok (.iaload, 1) := dk_46 (dk_at dksX9_manyOf_1 22 rfl rfl)
theorem dX9_manyOf_47 : decode cX9_manyOf 47 = .ok (.ireturn, 1) := dk_172 (dk_at dksX9_manyOf_1 23 rfl rfl)
def dkwX9_nameOf_3 : List UInt8 := [42, 180, 0, 88, 16, 10, 27, 104, 29, 96, 47, 173, 42, 180, 0, 103, 16, 12, 27, 104, 29, 96, 47, 173]
abbrev dktX9_nameOf_3 : List UInt8 := dkwX9_nameOf_3 ++ []
def dkwX9_nameOf_2 : List UInt8 := [42, 180, 0, 57, 16, 24, 27, 104, 29, 96, 47, 173, 42, 180, 0, 79, 16, 6, 27, 104, 29, 96, 47, 173]
abbrev dktX9_nameOf_2 : List UInt8 := dkwX9_nameOf_2 ++ dktX9_nameOf_3
def dkwX9_nameOf_1 : List UInt8 := [170, 0, 0, 0, 0, 0, 63, 0, 0, 0, 0, 0, 0, 0, 2, 0, 0, 0, 27, 0, 0, 0, 39, 0, 0, 0, 51]
abbrev dktX9_nameOf_1 : List UInt8 := dkwX9_nameOf_1 ++ dktX9_nameOf_2
def dkwX9_nameOf_0 : List UInt8 := [28]
abbrev dktX9_nameOf_0 : List UInt8 := dkwX9_nameOf_0 ++ dktX9_nameOf_1
theorem dksX9_nameOf_0 : cX9_nameOf.data.toList.drop 0 = dktX9_nameOf_0 := by decide +kernel
theorem dksX9_nameOf_1 : cX9_nameOf.data.toList.drop 1 = dktX9_nameOf_1 := dk_seg dksX9_nameOf_0 1 rfl rfl
theorem dksX9_nameOf_2 : cX9_nameOf.data.toList.drop 28 = dktX9_nameOf_2 := dk_seg dksX9_nameOf_1 27 rfl rfl
theorem dksX9_nameOf_3 : cX9_nameOf.data.toList.drop 52 = dktX9_nameOf_3 := dk_seg dksX9_nameOf_2 24 rfl rfl
theorem dX9_nameOf_0 : decode cX9_nameOf 0 = .ok (.iload_n 2, 1) := dk_28 (dk_at dksX9_nameOf_0 0 rfl rfl)
theorem dX9_nameOf_1 : decode cX9_nameOf 1 = .ok (.tableswitch 63 0 2 #[27, 39, 51], 27) := by decide +kernel
theorem dX9_nameOf_28 : decode cX9_nameOf 28 = .ok (.aload_n 0, 1) := dk_42 (dk_at dksX9_nameOf_2 0 rfl rfl)
theorem dX9_nameOf_29 : decode cX9_nameOf 29 = .ok (.getfield 57, 3) := dk_180 0 57 (dk_at dksX9_nameOf_2 1 rfl rfl)
theorem dX9_nameOf_32 : decode cX9_nameOf 32 = .ok (.bipush 24, 2) := dk_16 24 (dk_at dksX9_nameOf_2 4 rfl rfl)
theorem dX9_nameOf_34 : decode cX9_nameOf 34 = .ok (.iload_n 1, 1) := dk_27 (dk_at dksX9_nameOf_2 6 rfl rfl)
theorem dX9_nameOf_35 : decode cX9_nameOf 35 = .ok (.imul, 1) := dk_104 (dk_at dksX9_nameOf_2 7 rfl rfl)
theorem dX9_nameOf_36 : decode cX9_nameOf 36 = .ok (.iload_n 3, 1) := dk_29 (dk_at dksX9_nameOf_2 8 rfl rfl)
theorem dX9_nameOf_37 : decode cX9_nameOf 37 = .ok (.iadd, 1) := dk_96 (dk_at dksX9_nameOf_2 9 rfl rfl)
theorem dX9_nameOf_38 : decode cX9_nameOf 38 = .ok (.laload, 1) := dk_47 (dk_at dksX9_nameOf_2 10 rfl rfl)
theorem dX9_nameOf_39 : decode cX9_nameOf 39 = .ok (.lreturn, 1) := dk_173 (dk_at dksX9_nameOf_2 11 rfl rfl)
theorem dX9_nameOf_40 : decode cX9_nameOf 40 = .ok (.aload_n 0, 1) := dk_42 (dk_at dksX9_nameOf_2 12 rfl rfl)
theorem dX9_nameOf_41 : decode cX9_nameOf 41 = .ok (.getfield 79, 3) := dk_180 0 79 (dk_at dksX9_nameOf_2 13 rfl rfl)
theorem dX9_nameOf_44 : decode cX9_nameOf 44 = .ok (.bipush 6, 2) := dk_16 6 (dk_at dksX9_nameOf_2 16 rfl rfl)
theorem dX9_nameOf_46 : decode cX9_nameOf 46 = .ok (.iload_n 1, 1) := dk_27 (dk_at dksX9_nameOf_2 18 rfl rfl)
theorem dX9_nameOf_47 : decode cX9_nameOf 47 = .ok (.imul, 1) := dk_104 (dk_at dksX9_nameOf_2 19 rfl rfl)
theorem dX9_nameOf_48 : decode cX9_nameOf 48 = .ok (.iload_n 3, 1) := dk_29 (dk_at dksX9_nameOf_2 20 rfl rfl)
theorem dX9_nameOf_49 : decode cX9_nameOf 49 = .ok (.iadd, 1) := dk_96 (dk_at dksX9_nameOf_2 21 rfl rfl)
theorem dX9_nameOf_50 : decode cX9_nameOf 50 = .ok (.laload, 1) := dk_47 (dk_at dksX9_nameOf_2 22 rfl rfl)
theorem dX9_nameOf_51 : decode cX9_nameOf 51 = .ok (.lreturn, 1) := dk_173 (dk_at dksX9_nameOf_2 23 rfl rfl)
theorem dX9_nameOf_52 : decode cX9_nameOf 52 = .ok (.aload_n 0, 1) := dk_42 (dk_at dksX9_nameOf_3 0 rfl rfl)
theorem dX9_nameOf_53 : decode cX9_nameOf 53 = .ok (.getfield 88, 3) := dk_180 0 88 (dk_at dksX9_nameOf_3 1 rfl rfl)
theorem dX9_nameOf_56 : decode cX9_nameOf 56 = .ok (.bipush 10, 2) := dk_16 10 (dk_at dksX9_nameOf_3 4 rfl rfl)
theorem dX9_nameOf_58 : decode cX9_nameOf 58 = .ok (.iload_n 1, 1) := dk_27 (dk_at dksX9_nameOf_3 6 rfl rfl)
theorem dX9_nameOf_59 : decode cX9_nameOf 59 = .ok (.imul, 1) := dk_104 (dk_at dksX9_nameOf_3 7 rfl rfl)
theorem dX9_nameOf_60 : decode cX9_nameOf 60 = .ok (.iload_n 3, 1) := dk_29 (dk_at dksX9_nameOf_3 8 rfl rfl)
theorem dX9_nameOf_61 : decode cX9_nameOf 61 = .ok (.iadd, 1) := dk_96 (dk_at dksX9_nameOf_3 9 rfl rfl)
theorem dX9_nameOf_62 : decode cX9_nameOf 62 = .ok (.laload, 1) := dk_47 (dk_at dksX9_nameOf_3 10 rfl rfl)
theorem dX9_nameOf_63 : decode cX9_nameOf 63 = .ok (.lreturn, 1) := dk_173 (dk_at dksX9_nameOf_3 11 rfl rfl)
theorem dX9_nameOf_64 : decode cX9_nameOf 64 = .ok (.aload_n 0, 1) := dk_42 (dk_at dksX9_nameOf_3 12 rfl rfl)
theorem dX9_nameOf_65 : decode cX9_nameOf 65 = .ok (.getfield 103, 3) := dk_180 0 103 (dk_at dksX9_nameOf_3 13 rfl rfl)
theorem dX9_nameOf_68 : decode cX9_nameOf 68 = .ok (.bipush 12, 2) := dk_16 12 (dk_at dksX9_nameOf_3 16 rfl rfl)
theorem dX9_nameOf_70 : decode cX9_nameOf 70 = .ok (.iload_n 1, 1) := dk_27 (dk_at dksX9_nameOf_3 18 rfl rfl)
theorem dX9_nameOf_71 : decode cX9_nameOf 71 = .ok (.imul, 1) := dk_104 (dk_at dksX9_nameOf_3 19 rfl rfl)
theorem dX9_nameOf_72 : decode cX9_nameOf 72 = .ok (.iload_n 3, 1) := dk_29 (dk_at dksX9_nameOf_3 20 rfl rfl)
theorem dX9_nameOf_73 : decode cX9_nameOf 73 = .ok (.iadd, 1) := dk_96 (dk_at dksX9_nameOf_3 21 rfl rfl)
theorem dX9_nameOf_74 : decode cX9_nameOf 74 = .ok (.laload, 1) := dk_47 (dk_at dksX9_nameOf_3 22 rfl rfl)
theorem dX9_nameOf_75 : decode cX9_nameOf 75 = .ok (.lreturn, 1) := dk_173 (dk_at dksX9_nameOf_3 23 rfl rfl)
def dkwX9_must_1 : List UInt8 := [180, 0, 23, 182, 1, 6, 42, 180, 0, 36, 154, 0, 7, 42, 182, 1, 23, 177]
abbrev dktX9_must_1 : List UInt8 := dkwX9_must_1 ++ []
def dkwX9_must_0 : List UInt8 := [42, 182, 1, 17, 42, 180, 0, 36, 158, 0, 4, 177, 42, 31, 182, 1, 72, 154, 0, 12, 42, 4, 42]
abbrev dktX9_must_0 : List UInt8 := dkwX9_must_0 ++ dktX9_must_1
theorem dksX9_must_0 : cX9_must.data.toList.drop 0 = dktX9_must_0 := by decide +kernel
theorem dksX9_must_1 : cX9_must.data.toList.drop 23 = dktX9_must_1 := dk_seg dksX9_must_0 23 rfl rfl
theorem dX9_must_0 : decode cX9_must 0 = .ok (.aload_n 0, 1) := dk_42 (dk_at dksX9_must_0 0 rfl rfl)
theorem dX9_must_1 : decode cX9_must 1 = .ok (.invokevirtual 273, 3) := dk_182 1 17 (dk_at dksX9_must_0 1 rfl rfl)
theorem dX9_must_4 : decode cX9_must 4 = .ok (.aload_n 0, 1) := dk_42 (dk_at dksX9_must_0 4 rfl rfl)
theorem dX9_must_5 : decode cX9_must 5 = .ok (.getfield 36, 3) := dk_180 0 36 (dk_at dksX9_must_0 5 rfl rfl)
theorem dX9_must_8 : decode cX9_must 8 = .ok (.ifCond .le 4, 3) := dk_158 0 4 (dk_at dksX9_must_0 8 rfl rfl)
theorem dX9_must_11 : decode cX9_must 11 = .ok (.return_, 1) := dk_177 (dk_at dksX9_must_0 11 rfl rfl)
theorem dX9_must_12 : decode cX9_must 12 = .ok (.aload_n 0, 1) := dk_42 (dk_at dksX9_must_0 12 rfl rfl)
theorem dX9_must_13 : decode cX9_must 13 = .ok (.lload_n 1, 1) := dk_31 (dk_at dksX9_must_0 13 rfl rfl)
theorem dX9_must_14 : decode cX9_must 14 = .ok (.invokevirtual 328, 3) := dk_182 1 72 (dk_at dksX9_must_0 14 rfl rfl)
theorem dX9_must_17 : decode cX9_must 17 = .ok (.ifCond .ne 12, 3) := dk_154 0 12 (dk_at dksX9_must_0 17 rfl rfl)
theorem dX9_must_20 : decode cX9_must 20 = .ok (.aload_n 0, 1) := dk_42 (dk_at dksX9_must_0 20 rfl rfl)
theorem dX9_must_21 : decode cX9_must 21 = .ok (.iconst 1, 1) := dk_4 (dk_at dksX9_must_0 21 rfl rfl)
theorem dX9_must_22 : decode cX9_must 22 = .ok (.aload_n 0, 1) := dk_42 (dk_at dksX9_must_0 22 rfl rfl)
theorem dX9_must_23 : decode cX9_must 23 = .ok (.getfield 23, 3) := dk_180 0 23 (dk_at dksX9_must_1 0 rfl rfl)
theorem dX9_must_26 : decode cX9_must 26 = .ok (.invokevirtual 262, 3) := dk_182 1 6 (dk_at dksX9_must_1 3 rfl rfl)
theorem dX9_must_29 : decode cX9_must 29 = .ok (.aload_n 0, 1) := dk_42 (dk_at dksX9_must_1 6 rfl rfl)
theorem dX9_must_30 : decode cX9_must 30 = .ok (.getfield 36, 3) := dk_180 0 36 (dk_at dksX9_must_1 7 rfl rfl)
theorem dX9_must_33 : decode cX9_must 33 = .ok (.ifCond .ne 7, 3) := dk_154 0 7 (dk_at dksX9_must_1 10 rfl rfl)
theorem dX9_must_36 : decode cX9_must 36 = .ok (.aload_n 0, 1) := dk_42 (dk_at dksX9_must_1 13 rfl rfl)
theorem dX9_must_37 : decode cX9_must 37 = .ok (.invokevirtual 279, 3) := dk_182 1 23 (dk_at dksX9_must_1 14 rfl rfl)
theorem dX9_must_40 : decode cX9_must 40 = .ok (.return_, 1) := dk_177 (dk_at dksX9_must_1 17 rfl rfl)
def dkwX9_number_3 : List UInt8 := [42, 182, 1, 23, 29, 172]
abbrev dktX9_number_3 : List UInt8 := dkwX9_number_3 ++ []
def dkwX9_number_2 : List UInt8 := [154, 0, 12, 42, 7, 42, 180, 0, 23, 182, 1, 6, 42, 180, 0, 29, 62, 42, 180, 0, 36, 154, 0, 7]
abbrev dktX9_number_2 : List UInt8 := dkwX9_number_2 ++ dktX9_number_3
def dkwX9_number_1 : List UInt8 := [180, 0, 23, 182, 1, 6, 42, 180, 0, 36, 154, 0, 24, 42, 180, 0, 29, 27, 28, 184, 1, 68]
abbrev dktX9_number_1 : List UInt8 := dkwX9_number_1 ++ dktX9_number_2
def dkwX9_number_0 : List UInt8 := [42, 182, 1, 17, 42, 180, 0, 36, 158, 0, 5, 3, 172, 42, 180, 0, 20, 5, 159, 0, 12, 42, 4, 42]
abbrev dktX9_number_0 : List UInt8 := dkwX9_number_0 ++ dktX9_number_1
theorem dksX9_number_0 : cX9_number.data.toList.drop 0 = dktX9_number_0 := by decide +kernel
theorem dksX9_number_1 : cX9_number.data.toList.drop 24 = dktX9_number_1 := dk_seg dksX9_number_0 24 rfl rfl
theorem dksX9_number_2 : cX9_number.data.toList.drop 46 = dktX9_number_2 := dk_seg dksX9_number_1 22 rfl rfl
theorem dksX9_number_3 : cX9_number.data.toList.drop 70 = dktX9_number_3 := dk_seg dksX9_number_2 24 rfl rfl
theorem dX9_number_0 : decode cX9_number 0 = .ok (.aload_n 0, 1) := dk_42 (dk_at dksX9_number_0 0 rfl rfl)
theorem dX9_number_1 : decode cX9_number 1 = .ok (.invokevirtual 273, 3) := dk_182 1 17 (dk_at dksX9_number_0 1 rfl rfl)
theorem dX9_number_4 : decode cX9_number 4 = .ok (.aload_n 0, 1) := dk_42 (dk_at dksX9_number_0 4 rfl rfl)
theorem dX9_number_5 : decode cX9_number 5 = .ok (.getfield 36, 3) := dk_180 0 36 (dk_at dksX9_number_0 5 rfl rfl)
theorem dX9_number_8 : decode cX9_number 8 = .ok (.ifCond .le 5, 3) := dk_158 0 5 (dk_at dksX9_number_0 8 rfl rfl)
theorem dX9_number_11 : decode cX9_number 11 = .ok (.iconst 0, 1) := dk_3 (dk_at dksX9_number_0 11 rfl rfl)
theorem dX9_number_12 : decode cX9_number 12 = .ok (.ireturn, 1) := dk_172 (dk_at dksX9_number_0 12 rfl rfl)
theorem dX9_number_13 : decode cX9_number 13 = .ok (.aload_n 0, 1) := dk_42 (dk_at dksX9_number_0 13 rfl rfl)
theorem dX9_number_14 : decode cX9_number 14 = .ok (.getfield 20, 3) := dk_180 0 20 (dk_at dksX9_number_0 14 rfl rfl)
theorem dX9_number_17 : decode cX9_number 17 = .ok (.iconst 2, 1) := dk_5 (dk_at dksX9_number_0 17 rfl rfl)
theorem dX9_number_18 : decode cX9_number 18 = .ok (.if_icmp .eq 12, 3) := dk_159 0 12 (dk_at dksX9_number_0 18 rfl rfl)
theorem dX9_number_21 : decode cX9_number 21 = .ok (.aload_n 0, 1) := dk_42 (dk_at dksX9_number_0 21 rfl rfl)
theorem dX9_number_22 : decode cX9_number 22 = .ok (.iconst 1, 1) := dk_4 (dk_at dksX9_number_0 22 rfl rfl)
theorem dX9_number_23 : decode cX9_number 23 = .ok (.aload_n 0, 1) := dk_42 (dk_at dksX9_number_0 23 rfl rfl)
theorem dX9_number_24 : decode cX9_number 24 = .ok (.getfield 23, 3) := dk_180 0 23 (dk_at dksX9_number_1 0 rfl rfl)
theorem dX9_number_27 : decode cX9_number 27 = .ok (.invokevirtual 262, 3) := dk_182 1 6 (dk_at dksX9_number_1 3 rfl rfl)
theorem dX9_number_30 : decode cX9_number 30 = .ok (.aload_n 0, 1) := dk_42 (dk_at dksX9_number_1 6 rfl rfl)
theorem dX9_number_31 : decode cX9_number 31 = .ok (.getfield 36, 3) := dk_180 0 36 (dk_at dksX9_number_1 7 rfl rfl)
theorem dX9_number_34 : decode cX9_number 34 = .ok (.ifCond .ne 24, 3) := dk_154 0 24 (dk_at dksX9_number_1 10 rfl rfl)
theorem dX9_number_37 : decode cX9_number 37 = .ok (.aload_n 0, 1) := dk_42 (dk_at dksX9_number_1 13 rfl rfl)
theorem dX9_number_38 : decode cX9_number 38 = .ok (.getfield 29, 3) := dk_180 0 29 (dk_at dksX9_number_1 14 rfl rfl)
theorem dX9_number_41 : decode cX9_number 41 = .ok (.iload_n 1, 1) := dk_27 (dk_at dksX9_number_1 17 rfl rfl)
theorem dX9_number_42 : decode cX9_number 42 = .ok (.iload_n 2, 1) := dk_28 (dk_at dksX9_number_1 18 rfl rfl)
theorem dX9_number_43 : decode cX9_number 43 = .ok (.invokestatic 324, 3) := dk_184 1 68 (dk_at dksX9_number_1 19 rfl rfl)
theorem dX9_number_46 : decode cX9_number 46 = .ok (.ifCond .ne 12, 3) := dk_154 0 12 (dk_at dksX9_number_2 0 rfl rfl)
theorem dX9_number_49 : decode cX9_number 49 = .ok (.aload_n 0, 1) := dk_42 (dk_at dksX9_number_2 3 rfl rfl)
theorem dX9_number_50 : decode cX9_number 50 = .ok (.iconst 4, 1) := dk_7 (dk_at dksX9_number_2 4 rfl rfl)
theorem dX9_number_51 : decode cX9_number 51 = .ok (.aload_n 0, 1) := dk_42 (dk_at dksX9_number_2 5 rfl rfl)
theorem dX9_number_52 : decode cX9_number 52 = .ok (.getfield 23, 3) := dk_180 0 23 (dk_at dksX9_number_2 6 rfl rfl)
theorem dX9_number_55 : decode cX9_number 55 = .ok (.invokevirtual 262, 3) := dk_182 1 6 (dk_at dksX9_number_2 9 rfl rfl)
theorem dX9_number_58 : decode cX9_number 58 = .ok (.aload_n 0, 1) := dk_42 (dk_at dksX9_number_2 12 rfl rfl)
theorem dX9_number_59 : decode cX9_number 59 = .ok (.getfield 29, 3) := dk_180 0 29 (dk_at dksX9_number_2 13 rfl rfl)
theorem dX9_number_62 : decode cX9_number 62 = .ok (.istore_n 3, 1) := dk_62 (dk_at dksX9_number_2 16 rfl rfl)
theorem dX9_number_63 : decode cX9_number 63 = .ok (.aload_n 0, 1) := dk_42 (dk_at dksX9_number_2 17 rfl rfl)
theorem dX9_number_64 : decode cX9_number 64 = .ok (.getfield 36, 3) := dk_180 0 36 (dk_at dksX9_number_2 18 rfl rfl)
theorem dX9_number_67 : decode cX9_number 67 = .ok (.ifCond .ne 7, 3) := dk_154 0 7 (dk_at dksX9_number_2 21 rfl rfl)
theorem dX9_number_70 : decode cX9_number 70 = .ok (.aload_n 0, 1) := dk_42 (dk_at dksX9_number_3 0 rfl rfl)
theorem dX9_number_71 : decode cX9_number 71 = .ok (.invokevirtual 279, 3) := dk_182 1 23 (dk_at dksX9_number_3 1 rfl rfl)
theorem dX9_number_74 : decode cX9_number 74 = .ok (.iload_n 3, 1) := dk_29 (dk_at dksX9_number_3 4 rfl rfl)
theorem dX9_number_75 : decode cX9_number 75 = .ok (.ireturn, 1) := dk_172 (dk_at dksX9_number_3 5 rfl rfl)
def dkwX9_is_0 : List UInt8 := [26, 27, 161, 0, 12, 26, 28, 163, 0, 7, 4, 167, 0, 4, 3, 172]
abbrev dktX9_is_0 : List UInt8 := dkwX9_is_0 ++ []
theorem dksX9_is_0 : cX9_is.data.toList.drop 0 = dktX9_is_0 := by decide +kernel
theorem dX9_is_0 : decode cX9_is 0 = .ok (.iload_n 0, 1) := dk_26 (dk_at dksX9_is_0 0 rfl rfl)
theorem dX9_is_1 : decode cX9_is 1 = .ok (.iload_n 1, 1) := dk_27 (dk_at dksX9_is_0 1 rfl rfl)
theorem dX9_is_2 : decode cX9_is 2 = .ok (.if_icmp .lt 12, 3) := dk_161 0 12 (dk_at dksX9_is_0 2 rfl rfl)
theorem dX9_is_5 : decode cX9_is 5 = .ok (.iload_n 0, 1) := dk_26 (dk_at dksX9_is_0 5 rfl rfl)
theorem dX9_is_6 : decode cX9_is 6 = .ok (.iload_n 2, 1) := dk_28 (dk_at dksX9_is_0 6 rfl rfl)
theorem dX9_is_7 : decode cX9_is 7 = .ok (.if_icmp .gt 7, 3) := dk_163 0 7 (dk_at dksX9_is_0 7 rfl rfl)
theorem dX9_is_10 : decode cX9_is 10 = .ok (.iconst 1, 1) := dk_4 (dk_at dksX9_is_0 10 rfl rfl)
theorem dX9_is_11 : decode cX9_is 11 = .ok (.goto 4, 3) := dk_167 0 4 (dk_at dksX9_is_0 11 rfl rfl)
theorem dX9_is_14 : decode cX9_is 14 = .ok (.iconst 0, 1) := dk_3 (dk_at dksX9_is_0 14 rfl rfl)
theorem dX9_is_15 : decode cX9_is 15 = .ok (.ireturn, 1) := dk_172 (dk_at dksX9_is_0 15 rfl rfl)
def dkwX9_streeting_8 : List UInt8 := [180, 0, 76, 42, 180, 0, 127, 92, 46, 4, 96, 79, 177]
abbrev dktX9_streeting_8 : List UInt8 := dkwX9_streeting_8 ++ []
def dkwX9_streeting_7 : List UInt8 := [180, 0, 82, 16, 24, 27, 104, 28, 96, 29, 79, 167, 255, 161, 42, 180, 0, 36, 154, 0, 16, 42]
abbrev dktX9_streeting_7 : List UInt8 := dkwX9_streeting_7 ++ dktX9_streeting_8
def dkwX9_streeting_6 : List UInt8 := [182, 1, 23, 42, 20, 1, 38, 182, 1, 94, 42, 3, 182, 1, 101, 62, 42, 180, 0, 36, 154, 0, 15, 42]
abbrev dktX9_streeting_6 : List UInt8 := dkwX9_streeting_6 ++ dktX9_streeting_7
def dkwX9_streeting_5 : List UInt8 := [28, 96, 46, 2, 159, 0, 12, 42, 6, 42, 180, 0, 23, 182, 1, 6, 42, 180, 0, 36, 154, 0, 7, 42]
abbrev dktX9_streeting_5 : List UInt8 := dkwX9_streeting_5 ++ dktX9_streeting_6
def dkwX9_streeting_4 : List UInt8 := [160, 0, 86, 42, 3, 182, 1, 83, 61, 42, 180, 0, 36, 154, 0, 27, 42, 180, 0, 82, 16, 24, 27, 104]
abbrev dktX9_streeting_4 : List UInt8 := dkwX9_streeting_4 ++ dktX9_streeting_5
def dkwX9_streeting_3 : List UInt8 := [104, 28, 96, 2, 79, 132, 2, 1, 167, 255, 235, 42, 180, 0, 36, 154, 0, 94, 42, 180, 0, 20, 4]
abbrev dktX9_streeting_3 : List UInt8 := dkwX9_streeting_3 ++ dktX9_streeting_4
def dkwX9_streeting_2 : List UInt8 := [180, 0, 79, 27, 42, 182, 1, 90, 80, 3, 61, 28, 16, 24, 162, 0, 21, 42, 180, 0, 82, 16, 24, 27]
abbrev dktX9_streeting_2 : List UInt8 := dkwX9_streeting_2 ++ dktX9_streeting_3
def dkwX9_streeting_1 : List UInt8 := [154, 0, 4, 177, 16, 6, 42, 180, 0, 127, 104, 42, 180, 0, 76, 42, 180, 0, 127, 46, 96, 60, 42]
abbrev dktX9_streeting_1 : List UInt8 := dkwX9_streeting_1 ++ dktX9_streeting_2
def dkwX9_streeting_0 : List UInt8 := [42, 42, 180, 0, 76, 42, 180, 0, 127, 46, 16, 6, 160, 0, 7, 4, 167, 0, 4, 3, 182, 1, 86]
abbrev dktX9_streeting_0 : List UInt8 := dkwX9_streeting_0 ++ dktX9_streeting_1
theorem dksX9_streeting_0 : cX9_streeting.data.toList.drop 0 = dktX9_streeting_0 := by decide +kernel
theorem dksX9_streeting_1 : cX9_streeting.data.toList.drop 23 = dktX9_streeting_1 := dk_seg dksX9_streeting_0 23 rfl rfl
theorem dksX9_streeting_2 : cX9_streeting.data.toList.drop 46 = dktX9_streeting_2 := dk_seg dksX9_streeting_1 23 rfl rfl
theorem dksX9_streeting_3 : cX9_streeting.data.toList.drop 70 = dktX9_streeting_3 := dk_seg dksX9_streeting_2 24 rfl rfl
theorem dksX9_streeting_4 : cX9_streeting.data.toList.drop 93 = dktX9_streeting_4 := dk_seg dksX9_streeting_3 23 rfl rfl
theorem dksX9_streeting_5 : cX9_streeting.data.toList.drop 117 = dktX9_streeting_5 := dk_seg dksX9_streeting_4 24 rfl rfl
theorem dksX9_streeting_6 : cX9_streeting.data.toList.drop 141 = dktX9_streeting_6 := dk_seg dksX9_streeting_5 24 rfl rfl
theorem dksX9_streeting_7 : cX9_streeting.data.toList.drop 165 = dktX9_streeting_7 := dk_seg dksX9_streeting_6 24 rfl rfl
theorem dksX9_streeting_8 : cX9_streeting.data.toList.drop 187 = dktX9_streeting_8 := dk_seg dksX9_streeting_7 22 rfl rfl
theorem dX9_streeting_0 : decode cX9_streeting 0 = .ok (.aload_n 0, 1) := dk_42 (dk_at dksX9_streeting_0 0 rfl rfl)
theorem dX9_streeting_1 : decode cX9_streeting 1 = .ok (.aload_n 0, 1) := dk_42 (dk_at dksX9_streeting_0 1 rfl rfl)
theorem dX9_streeting_2 : decode cX9_streeting 2 = .ok (.getfield 76, 3) := dk_180 0 76 (dk_at dksX9_streeting_0 2 rfl rfl)
theorem dX9_streeting_5 : decode cX9_streeting 5 = .ok (.aload_n 0, 1) := dk_42 (dk_at dksX9_streeting_0 5 rfl rfl)
theorem dX9_streeting_6 : decode cX9_streeting 6 = .ok (.getfield 127, 3) := dk_180 0 127 (dk_at dksX9_streeting_0 6 rfl rfl)
theorem dX9_streeting_9 : decode cX9_streeting 9 = .ok (.iaload, 1) := dk_46 (dk_at dksX9_streeting_0 9 rfl rfl)
theorem dX9_streeting_10 : decode cX9_streeting 10 = .ok (.bipush 6, 2) := dk_16 6 (dk_at dksX9_streeting_0 10 rfl rfl)
theorem dX9_streeting_12 : decode cX9_streeting 12 = .ok (.if_icmp .ne 7, 3) := dk_160 0 7 (dk_at dksX9_streeting_0 12 rfl rfl)
theorem dX9_streeting_15 : decode cX9_streeting 15 = .ok (.iconst 1, 1) := dk_4 (dk_at dksX9_streeting_0 15 rfl rfl)
theorem dX9_streeting_16 : decode cX9_streeting 16 = .ok (.goto 4, 3) := dk_167 0 4 (dk_at dksX9_streeting_0 16 rfl rfl)
theorem dX9_streeting_19 : decode cX9_streeting 19 = .ok (.iconst 0, 1) := dk_3 (dk_at dksX9_streeting_0 19 rfl rfl)
theorem dX9_streeting_20 : decode cX9_streeting 20 = .ok (.invokevirtual 342, 3) := dk_182 1 86 (dk_at dksX9_streeting_0 20 rfl rfl)
theorem dX9_streeting_23 : decode cX9_streeting 23 = .ok (.ifCond .ne 4, 3) := dk_154 0 4 (dk_at dksX9_streeting_1 0 rfl rfl)
theorem dX9_streeting_26 : decode cX9_streeting 26 = .ok (.return_, 1) := dk_177 (dk_at dksX9_streeting_1 3 rfl rfl)
theorem dX9_streeting_27 : decode cX9_streeting 27 = .ok (.bipush 6, 2) := dk_16 6 (dk_at dksX9_streeting_1 4 rfl rfl)
theorem dX9_streeting_29 : decode cX9_streeting 29 = .ok (.aload_n 0, 1) := dk_42 (dk_at dksX9_streeting_1 6 rfl rfl)
theorem dX9_streeting_30 : decode cX9_streeting 30 = .ok (.getfield 127, 3) := dk_180 0 127 (dk_at dksX9_streeting_1 7 rfl rfl)
theorem dX9_streeting_33 : decode cX9_streeting 33 = .ok (.imul, 1) := dk_104 (dk_at dksX9_streeting_1 10 rfl rfl)
theorem dX9_streeting_34 : decode cX9_streeting 34 = .ok (.aload_n 0, 1) := dk_42 (dk_at dksX9_streeting_1 11 rfl rfl)
theorem dX9_streeting_35 : decode cX9_streeting 35 = .ok (.getfield 76, 3) := dk_180 0 76 (dk_at dksX9_streeting_1 12 rfl rfl)
theorem dX9_streeting_38 : decode cX9_streeting 38 = .ok (.aload_n 0, 1) := dk_42 (dk_at dksX9_streeting_1 15 rfl rfl)
theorem dX9_streeting_39 : decode cX9_streeting 39 = .ok (.getfield 127, 3) := dk_180 0 127 (dk_at dksX9_streeting_1 16 rfl rfl)
theorem dX9_streeting_42 : decode cX9_streeting 42 = .ok (.iaload, 1) := dk_46 (dk_at dksX9_streeting_1 19 rfl rfl)
theorem dX9_streeting_43 : decode cX9_streeting 43 = .ok (.iadd, 1) := dk_96 (dk_at dksX9_streeting_1 20 rfl rfl)
theorem dX9_streeting_44 : decode cX9_streeting 44 = .ok (.istore_n 1, 1) := dk_60 (dk_at dksX9_streeting_1 21 rfl rfl)
theorem dX9_streeting_45 : decode cX9_streeting 45 = .ok (.aload_n 0, 1) := dk_42 (dk_at dksX9_streeting_1 22 rfl rfl)
theorem dX9_streeting_46 : decode cX9_streeting 46 = .ok (.getfield 79, 3) := dk_180 0 79 (dk_at dksX9_streeting_2 0 rfl rfl)
theorem dX9_streeting_49 : decode cX9_streeting 49 = .ok (.iload_n 1, 1) := dk_27 (dk_at dksX9_streeting_2 3 rfl rfl)
theorem dX9_streeting_50 : decode cX9_streeting 50 = .ok (.aload_n 0, 1) := dk_42 (dk_at dksX9_streeting_2 4 rfl rfl)
theorem dX9_streeting_51 : decode cX9_streeting 51 = .ok (.invokevirtual 346, 3) := dk_182 1 90 (dk_at dksX9_streeting_2 5 rfl rfl)
theorem dX9_streeting_54 : decode cX9_streeting 54 = .ok (.lastore, 1) := dk_80 (dk_at dksX9_streeting_2 8 rfl rfl)
theorem dX9_streeting_55 : decode cX9_streeting 55 = .ok (.iconst 0, 1) := dk_3 (dk_at dksX9_streeting_2 9 rfl rfl)
theorem dX9_streeting_56 : decode cX9_streeting 56 = .ok (.istore_n 2, 1) := dk_61 (dk_at dksX9_streeting_2 10 rfl rfl)
theorem dX9_streeting_57 : decode cX9_streeting 57 = .ok (.iload_n 2, 1) := dk_28 (dk_at dksX9_streeting_2 11 rfl rfl)
theorem dX9_streeting_58 : decode cX9_streeting 58 = .ok (.bipush 24, 2) := dk_16 24 (dk_at dksX9_streeting_2 12 rfl rfl)
theorem dX9_streeting_60 : decode cX9_streeting 60 = .ok (.if_icmp .ge 21, 3) := dk_162 0 21 (dk_at dksX9_streeting_2 14 rfl rfl)
theorem dX9_streeting_63 : decode cX9_streeting 63 = .ok (.aload_n 0, 1) := dk_42 (dk_at dksX9_streeting_2 17 rfl rfl)
theorem dX9_streeting_64 : decode cX9_streeting 64 = .ok (.getfield 82, 3) := dk_180 0 82 (dk_at dksX9_streeting_2 18 rfl rfl)
theorem dX9_streeting_67 : decode cX9_streeting 67 = .ok (.bipush 24, 2) := dk_16 24 (dk_at dksX9_streeting_2 21 rfl rfl)
theorem dX9_streeting_69 : decode cX9_streeting 69 = .ok (.iload_n 1, 1) := dk_27 (dk_at dksX9_streeting_2 23 rfl rfl)
theorem dX9_streeting_70 : decode cX9_streeting 70 = .ok (.imul, 1) := dk_104 (dk_at dksX9_streeting_3 0 rfl rfl)
theorem dX9_streeting_71 : decode cX9_streeting 71 = .ok (.iload_n 2, 1) := dk_28 (dk_at dksX9_streeting_3 1 rfl rfl)
theorem dX9_streeting_72 : decode cX9_streeting 72 = .ok (.iadd, 1) := dk_96 (dk_at dksX9_streeting_3 2 rfl rfl)
theorem dX9_streeting_73 : decode cX9_streeting 73 = .ok (.iconst (-1), 1) := dk_2 (dk_at dksX9_streeting_3 3 rfl rfl)
theorem dX9_streeting_74 : decode cX9_streeting 74 = .ok (.iastore, 1) := dk_79 (dk_at dksX9_streeting_3 4 rfl rfl)
theorem dX9_streeting_75 : decode cX9_streeting 75 = .ok (.iinc 2 1, 3) := dk_132 2 1 (dk_at dksX9_streeting_3 5 rfl rfl)
theorem dX9_streeting_78 : decode cX9_streeting 78 = .ok (.goto (-21), 3) := dk_167 255 235 (dk_at dksX9_streeting_3 8 rfl rfl)
theorem dX9_streeting_81 : decode cX9_streeting 81 = .ok (.aload_n 0, 1) := dk_42 (dk_at dksX9_streeting_3 11 rfl rfl)
theorem dX9_streeting_82 : decode cX9_streeting 82 = .ok (.getfield 36, 3) := dk_180 0 36 (dk_at dksX9_streeting_3 12 rfl rfl)
theorem dX9_streeting_85 : decode cX9_streeting 85 = .ok (.ifCond .ne 94, 3) := dk_154 0 94 (dk_at dksX9_streeting_3 15 rfl rfl)
theorem dX9_streeting_88 : decode cX9_streeting 88 = .ok (.aload_n 0, 1) := dk_42 (dk_at dksX9_streeting_3 18 rfl rfl)
theorem dX9_streeting_89 : decode cX9_streeting 89 = .ok (.getfield 20, 3) := dk_180 0 20 (dk_at dksX9_streeting_3 19 rfl rfl)
theorem dX9_streeting_92 : decode cX9_streeting 92 = .ok (.iconst 1, 1) := dk_4 (dk_at dksX9_streeting_3 22 rfl rfl)
theorem dX9_streeting_93 : decode cX9_streeting 93 = .ok (.if_icmp .ne 86, 3) := dk_160 0 86 (dk_at dksX9_streeting_4 0 rfl rfl)
theorem dX9_streeting_96 : decode cX9_streeting 96 = .ok (.aload_n 0, 1) := dk_42 (dk_at dksX9_streeting_4 3 rfl rfl)
theorem dX9_streeting_97 : decode cX9_streeting 97 = .ok (.iconst 0, 1) := dk_3 (dk_at dksX9_streeting_4 4 rfl rfl)
theorem dX9_streeting_98 : decode cX9_streeting 98 = .ok (.invokevirtual 339, 3) := dk_182 1 83 (dk_at dksX9_streeting_4 5 rfl rfl)
theorem dX9_streeting_101 : decode cX9_streeting 101 = .ok (.istore_n 2, 1) := dk_61 (dk_at dksX9_streeting_4 8 rfl rfl)
theorem dX9_streeting_102 : decode cX9_streeting 102 = .ok (.aload_n 0, 1) := dk_42 (dk_at dksX9_streeting_4 9 rfl rfl)
theorem dX9_streeting_103 : decode cX9_streeting 103 = .ok (.getfield 36, 3) := dk_180 0 36 (dk_at dksX9_streeting_4 10 rfl rfl)
theorem dX9_streeting_106 : decode cX9_streeting 106 = .ok (.ifCond .ne 27, 3) := dk_154 0 27 (dk_at dksX9_streeting_4 13 rfl rfl)
theorem dX9_streeting_109 : decode cX9_streeting 109 = .ok (.aload_n 0, 1) := dk_42 (dk_at dksX9_streeting_4 16 rfl rfl)
theorem dX9_streeting_110 : decode cX9_streeting 110 = .ok (.getfield 82, 3) := dk_180 0 82 (dk_at dksX9_streeting_4 17 rfl rfl)
theorem dX9_streeting_113 : decode cX9_streeting 113 = .ok (.bipush 24, 2) := dk_16 24 (dk_at dksX9_streeting_4 20 rfl rfl)
theorem dX9_streeting_115 : decode cX9_streeting 115 = .ok (.iload_n 1, 1) := dk_27 (dk_at dksX9_streeting_4 22 rfl rfl)
theorem dX9_streeting_116 : decode cX9_streeting 116 = .ok (.imul, 1) := dk_104 (dk_at dksX9_streeting_4 23 rfl rfl)
theorem dX9_streeting_117 : decode cX9_streeting 117 = .ok (.iload_n 2, 1) := dk_28 (dk_at dksX9_streeting_5 0 rfl rfl)
theorem dX9_streeting_118 : decode cX9_streeting 118 = .ok (.iadd, 1) := dk_96 (dk_at dksX9_streeting_5 1 rfl rfl)
theorem dX9_streeting_119 : decode cX9_streeting 119 = .ok (.iaload, 1) := dk_46 (dk_at dksX9_streeting_5 2 rfl rfl)
theorem dX9_streeting_120 : decode cX9_streeting 120 = .ok (.iconst (-1), 1) := dk_2 (dk_at dksX9_streeting_5 3 rfl rfl)
theorem dX9_streeting_121 : decode cX9_streeting 121 = .ok (.if_icmp .eq 12, 3) := dk_159 0 12 (dk_at dksX9_streeting_5 4 rfl rfl)
theorem dX9_streeting_124 : decode cX9_streeting 124 = .ok (.aload_n 0, 1) := dk_42 (dk_at dksX9_streeting_5 7 rfl rfl)
theorem dX9_streeting_125 : decode cX9_streeting 125 = .ok (.iconst 3, 1) := dk_6 (dk_at dksX9_streeting_5 8 rfl rfl)
theorem dX9_streeting_126 : decode cX9_streeting 126 = .ok (.aload_n 0, 1) := dk_42 (dk_at dksX9_streeting_5 9 rfl rfl)
theorem dX9_streeting_127 : decode cX9_streeting 127 = .ok (.getfield 23, 3) := dk_180 0 23 (dk_at dksX9_streeting_5 10 rfl rfl)
theorem dX9_streeting_130 : decode cX9_streeting 130 = .ok (.invokevirtual 262, 3) := dk_182 1 6 (dk_at dksX9_streeting_5 13 rfl rfl)
theorem dX9_streeting_133 : decode cX9_streeting 133 = .ok (.aload_n 0, 1) := dk_42 (dk_at dksX9_streeting_5 16 rfl rfl)
theorem dX9_streeting_134 : decode cX9_streeting 134 = .ok (.getfield 36, 3) := dk_180 0 36 (dk_at dksX9_streeting_5 17 rfl rfl)
theorem dX9_streeting_137 : decode cX9_streeting 137 = .ok (.ifCond .ne 7, 3) := dk_154 0 7 (dk_at dksX9_streeting_5 20 rfl rfl)
theorem dX9_streeting_140 : decode cX9_streeting 140 = .ok (.aload_n 0, 1) := dk_42 (dk_at dksX9_streeting_5 23 rfl rfl)
theorem dX9_streeting_141 : decode cX9_streeting 141 = .ok (.invokevirtual 279, 3) := dk_182 1 23 (dk_at dksX9_streeting_6 0 rfl rfl)
theorem dX9_streeting_144 : decode cX9_streeting 144 = .ok (.aload_n 0, 1) := dk_42 (dk_at dksX9_streeting_6 3 rfl rfl)
theorem dX9_streeting_145 : decode cX9_streeting 145 = .ok (.ldc2_w 294, 3) := dk_20 1 38 (dk_at dksX9_streeting_6 4 rfl rfl)
theorem dX9_streeting_148 : decode cX9_streeting 148 = .ok (.invokevirtual 350, 3) := dk_182 1 94 (dk_at dksX9_streeting_6 7 rfl rfl)
theorem dX9_streeting_151 : decode cX9_streeting 151 = .ok (.aload_n 0, 1) := dk_42 (dk_at dksX9_streeting_6 10 rfl rfl)
theorem dX9_streeting_152 : decode cX9_streeting 152 = .ok (.iconst 0, 1) := dk_3 (dk_at dksX9_streeting_6 11 rfl rfl)
theorem dX9_streeting_153 : decode cX9_streeting 153 = .ok (.invokevirtual 357, 3) := dk_182 1 101 (dk_at dksX9_streeting_6 12 rfl rfl)
theorem dX9_streeting_156 : decode cX9_streeting 156 = .ok (.istore_n 3, 1) := dk_62 (dk_at dksX9_streeting_6 15 rfl rfl)
theorem dX9_streeting_157 : decode cX9_streeting 157 = .ok (.aload_n 0, 1) := dk_42 (dk_at dksX9_streeting_6 16 rfl rfl)
theorem dX9_streeting_158 : decode cX9_streeting 158 = .ok (.getfield 36, 3) := dk_180 0 36 (dk_at dksX9_streeting_6 17 rfl rfl)
theorem dX9_streeting_161 : decode cX9_streeting 161 = .ok (.ifCond .ne 15, 3) := dk_154 0 15 (dk_at dksX9_streeting_6 20 rfl rfl)
theorem dX9_streeting_164 : decode cX9_streeting 164 = .ok (.aload_n 0, 1) := dk_42 (dk_at dksX9_streeting_6 23 rfl rfl)
theorem dX9_streeting_165 : decode cX9_streeting 165 = .ok (.getfield 82, 3) := dk_180 0 82 (dk_at dksX9_streeting_7 0 rfl rfl)
theorem dX9_streeting_168 : decode cX9_streeting 168 = .ok (.bipush 24, 2) := dk_16 24 (dk_at dksX9_streeting_7 3 rfl rfl)
theorem dX9_streeting_170 : decode cX9_streeting 170 = .ok (.iload_n 1, 1) := dk_27 (dk_at dksX9_streeting_7 5 rfl rfl)
theorem dX9_streeting_171 : decode cX9_streeting 171 = .ok (.imul, 1) := dk_104 (dk_at dksX9_streeting_7 6 rfl rfl)
theorem dX9_streeting_172 : decode cX9_streeting 172 = .ok (.iload_n 2, 1) := dk_28 (dk_at dksX9_streeting_7 7 rfl rfl)
theorem dX9_streeting_173 : decode cX9_streeting 173 = .ok (.iadd, 1) := dk_96 (dk_at dksX9_streeting_7 8 rfl rfl)
theorem dX9_streeting_174 : decode cX9_streeting 174 = .ok (.iload_n 3, 1) := dk_29 (dk_at dksX9_streeting_7 9 rfl rfl)
theorem dX9_streeting_175 : decode cX9_streeting 175 = .ok (.iastore, 1) := dk_79 (dk_at dksX9_streeting_7 10 rfl rfl)
theorem dX9_streeting_176 : decode cX9_streeting 176 = .ok (.goto (-95), 3) := dk_167 255 161 (dk_at dksX9_streeting_7 11 rfl rfl)
theorem dX9_streeting_179 : decode cX9_streeting 179 = .ok (.aload_n 0, 1) := dk_42 (dk_at dksX9_streeting_7 14 rfl rfl)
theorem dX9_streeting_180 : decode cX9_streeting 180 = .ok (.getfield 36, 3) := dk_180 0 36 (dk_at dksX9_streeting_7 15 rfl rfl)
theorem dX9_streeting_183 : decode cX9_streeting 183 = .ok (.ifCond .ne 16, 3) := dk_154 0 16 (dk_at dksX9_streeting_7 18 rfl rfl)
theorem dX9_streeting_186 : decode cX9_streeting 186 = .ok (.aload_n 0, 1) := dk_42 (dk_at dksX9_streeting_7 21 rfl rfl)
theorem dX9_streeting_187 : decode cX9_streeting 187 = .ok (.getfield 76, 3) := dk_180 0 76 (dk_at dksX9_streeting_8 0 rfl rfl)
theorem dX9_streeting_190 : decode cX9_streeting 190 = .ok (.aload_n 0, 1) := dk_42 (dk_at dksX9_streeting_8 3 rfl rfl)
theorem dX9_streeting_191 : decode cX9_streeting 191 = .ok (.getfield 127, 3) := dk_180 0 127 (dk_at dksX9_streeting_8 4 rfl rfl)
theorem dX9_streeting_194 : decode cX9_streeting 194 = .ok (.dup2, 1) := dk_92 (dk_at dksX9_streeting_8 7 rfl rfl)
theorem dX9_streeting_195 : decode cX9_streeting 195 = .ok (.iaload, 1) := dk_46 (dk_at dksX9_streeting_8 8 rfl rfl)
theorem dX9_streeting_196 : decode cX9_streeting 196 = .ok (.iconst 1, 1) := dk_4 (dk_at dksX9_streeting_8 9 rfl rfl)
theorem dX9_streeting_197 : decode cX9_streeting 197 = .ok (.iadd, 1) := dk_96 (dk_at dksX9_streeting_8 10 rfl rfl)
theorem dX9_streeting_198 : decode cX9_streeting 198 = .ok (.iastore, 1) := dk_79 (dk_at dksX9_streeting_8 11 rfl rfl)
theorem dX9_streeting_199 : decode cX9_streeting 199 = .ok (.return_, 1) := dk_177 (dk_at dksX9_streeting_8 12 rfl rfl)
def dkwX9_looked_4 : List UInt8 := [167, 0, 4, 28, 172]
abbrev dktX9_looked_4 : List UInt8 := dkwX9_looked_4 ++ []
def dkwX9_looked_3 : List UInt8 := [28, 2, 160, 0, 12, 42, 6, 42, 180, 0, 23, 182, 1, 6, 42, 180, 0, 36, 158, 0, 7, 3]
abbrev dktX9_looked_3 : List UInt8 := dkwX9_looked_3 ++ dktX9_looked_4
def dkwX9_looked_2 : List UInt8 := [158, 0, 7, 3, 167, 0, 12, 42, 27, 42, 180, 0, 32, 182, 1, 79, 61, 42, 180, 0, 36, 154, 0, 17]
abbrev dktX9_looked_2 : List UInt8 := dkwX9_looked_2 ++ dktX9_looked_3
def dkwX9_looked_1 : List UInt8 := [180, 0, 32, 182, 1, 76, 153, 0, 12, 42, 4, 42, 180, 0, 23, 182, 1, 6, 42, 180, 0, 36]
abbrev dktX9_looked_1 : List UInt8 := dkwX9_looked_1 ++ dktX9_looked_2
def dkwX9_looked_0 : List UInt8 := [42, 182, 1, 17, 42, 180, 0, 36, 158, 0, 5, 3, 172, 42, 180, 0, 20, 4, 160, 0, 14, 42, 42]
abbrev dktX9_looked_0 : List UInt8 := dkwX9_looked_0 ++ dktX9_looked_1
theorem dksX9_looked_0 : cX9_looked.data.toList.drop 0 = dktX9_looked_0 := by decide +kernel
theorem dksX9_looked_1 : cX9_looked.data.toList.drop 23 = dktX9_looked_1 := dk_seg dksX9_looked_0 23 rfl rfl
theorem dksX9_looked_2 : cX9_looked.data.toList.drop 45 = dktX9_looked_2 := dk_seg dksX9_looked_1 22 rfl rfl
theorem dksX9_looked_3 : cX9_looked.data.toList.drop 69 = dktX9_looked_3 := dk_seg dksX9_looked_2 24 rfl rfl
theorem dksX9_looked_4 : cX9_looked.data.toList.drop 91 = dktX9_looked_4 := dk_seg dksX9_looked_3 22 rfl rfl
theorem dX9_looked_0 : decode cX9_looked 0 = .ok (.aload_n 0, 1) := dk_42 (dk_at dksX9_looked_0 0 rfl rfl)
theorem dX9_looked_1 : decode cX9_looked 1 = .ok (.invokevirtual 273, 3) := dk_182 1 17 (dk_at dksX9_looked_0 1 rfl rfl)
theorem dX9_looked_4 : decode cX9_looked 4 = .ok (.aload_n 0, 1) := dk_42 (dk_at dksX9_looked_0 4 rfl rfl)
theorem dX9_looked_5 : decode cX9_looked 5 = .ok (.getfield 36, 3) := dk_180 0 36 (dk_at dksX9_looked_0 5 rfl rfl)
theorem dX9_looked_8 : decode cX9_looked 8 = .ok (.ifCond .le 5, 3) := dk_158 0 5 (dk_at dksX9_looked_0 8 rfl rfl)
theorem dX9_looked_11 : decode cX9_looked 11 = .ok (.iconst 0, 1) := dk_3 (dk_at dksX9_looked_0 11 rfl rfl)
theorem dX9_looked_12 : decode cX9_looked 12 = .ok (.ireturn, 1) := dk_172 (dk_at dksX9_looked_0 12 rfl rfl)
theorem dX9_looked_13 : decode cX9_looked 13 = .ok (.aload_n 0, 1) := dk_42 (dk_at dksX9_looked_0 13 rfl rfl)
theorem dX9_looked_14 : decode cX9_looked 14 = .ok (.getfield 20, 3) := dk_180 0 20 (dk_at dksX9_looked_0 14 rfl rfl)
theorem dX9_looked_17 : decode cX9_looked 17 = .ok (.iconst 1, 1) := dk_4 (dk_at dksX9_looked_0 17 rfl rfl)
theorem dX9_looked_18 : decode cX9_looked 18 = .ok (.if_icmp .ne 14, 3) := dk_160 0 14 (dk_at dksX9_looked_0 18 rfl rfl)
theorem dX9_looked_21 : decode cX9_looked 21 = .ok (.aload_n 0, 1) := dk_42 (dk_at dksX9_looked_0 21 rfl rfl)
theorem dX9_looked_22 : decode cX9_looked 22 = .ok (.aload_n 0, 1) := dk_42 (dk_at dksX9_looked_0 22 rfl rfl)
theorem dX9_looked_23 : decode cX9_looked 23 = .ok (.getfield 32, 3) := dk_180 0 32 (dk_at dksX9_looked_1 0 rfl rfl)
theorem dX9_looked_26 : decode cX9_looked 26 = .ok (.invokevirtual 332, 3) := dk_182 1 76 (dk_at dksX9_looked_1 3 rfl rfl)
theorem dX9_looked_29 : decode cX9_looked 29 = .ok (.ifCond .eq 12, 3) := dk_153 0 12 (dk_at dksX9_looked_1 6 rfl rfl)
theorem dX9_looked_32 : decode cX9_looked 32 = .ok (.aload_n 0, 1) := dk_42 (dk_at dksX9_looked_1 9 rfl rfl)
theorem dX9_looked_33 : decode cX9_looked 33 = .ok (.iconst 1, 1) := dk_4 (dk_at dksX9_looked_1 10 rfl rfl)
theorem dX9_looked_34 : decode cX9_looked 34 = .ok (.aload_n 0, 1) := dk_42 (dk_at dksX9_looked_1 11 rfl rfl)
theorem dX9_looked_35 : decode cX9_looked 35 = .ok (.getfield 23, 3) := dk_180 0 23 (dk_at dksX9_looked_1 12 rfl rfl)
theorem dX9_looked_38 : decode cX9_looked 38 = .ok (.invokevirtual 262, 3) := dk_182 1 6 (dk_at dksX9_looked_1 15 rfl rfl)
theorem dX9_looked_41 : decode cX9_looked 41 = .ok (.aload_n 0, 1) := dk_42 (dk_at dksX9_looked_1 18 rfl rfl)
theorem dX9_looked_42 : decode cX9_looked 42 = .ok (.getfield 36, 3) := dk_180 0 36 (dk_at dksX9_looked_1 19 rfl rfl)
theorem dX9_looked_45 : decode cX9_looked 45 = .ok (.ifCond .le 7, 3) := dk_158 0 7 (dk_at dksX9_looked_2 0 rfl rfl)
theorem dX9_looked_48 : decode cX9_looked 48 = .ok (.iconst 0, 1) := dk_3 (dk_at dksX9_looked_2 3 rfl rfl)
theorem dX9_looked_49 : decode cX9_looked 49 = .ok (.goto 12, 3) := dk_167 0 12 (dk_at dksX9_looked_2 4 rfl rfl)
theorem dX9_looked_52 : decode cX9_looked 52 = .ok (.aload_n 0, 1) := dk_42 (dk_at dksX9_looked_2 7 rfl rfl)
theorem dX9_looked_53 : decode cX9_looked 53 = .ok (.iload_n 1, 1) := dk_27 (dk_at dksX9_looked_2 8 rfl rfl)
theorem dX9_looked_54 : decode cX9_looked 54 = .ok (.aload_n 0, 1) := dk_42 (dk_at dksX9_looked_2 9 rfl rfl)
theorem dX9_looked_55 : decode cX9_looked 55 = .ok (.getfield 32, 3) := dk_180 0 32 (dk_at dksX9_looked_2 10 rfl rfl)
theorem dX9_looked_58 : decode cX9_looked 58 = .ok (.invokevirtual 335, 3) := dk_182 1 79 (dk_at dksX9_looked_2 13 rfl rfl)
theorem dX9_looked_61 : decode cX9_looked 61 = .ok (.istore_n 2, 1) := dk_61 (dk_at dksX9_looked_2 16 rfl rfl)
theorem dX9_looked_62 : decode cX9_looked 62 = .ok (.aload_n 0, 1) := dk_42 (dk_at dksX9_looked_2 17 rfl rfl)
theorem dX9_looked_63 : decode cX9_looked 63 = .ok (.getfield 36, 3) := dk_180 0 36 (dk_at dksX9_looked_2 18 rfl rfl)
theorem dX9_looked_66 : decode cX9_looked 66 = .ok (.ifCond .ne 17, 3) := dk_154 0 17 (dk_at dksX9_looked_2 21 rfl rfl)
theorem dX9_looked_69 : decode cX9_looked 69 = .ok (.iload_n 2, 1) := dk_28 (dk_at dksX9_looked_3 0 rfl rfl)
theorem dX9_looked_70 : decode cX9_looked 70 = .ok (.iconst (-1), 1) := dk_2 (dk_at dksX9_looked_3 1 rfl rfl)
theorem dX9_looked_71 : decode cX9_looked 71 = .ok (.if_icmp .ne 12, 3) := dk_160 0 12 (dk_at dksX9_looked_3 2 rfl rfl)
theorem dX9_looked_74 : decode cX9_looked 74 = .ok (.aload_n 0, 1) := dk_42 (dk_at dksX9_looked_3 5 rfl rfl)
theorem dX9_looked_75 : decode cX9_looked 75 = .ok (.iconst 3, 1) := dk_6 (dk_at dksX9_looked_3 6 rfl rfl)
theorem dX9_looked_76 : decode cX9_looked 76 = .ok (.aload_n 0, 1) := dk_42 (dk_at dksX9_looked_3 7 rfl rfl)
theorem dX9_looked_77 : decode cX9_looked 77 = .ok (.getfield 23, 3) := dk_180 0 23 (dk_at dksX9_looked_3 8 rfl rfl)
theorem dX9_looked_80 : decode cX9_looked 80 = .ok (.invokevirtual 262, 3) := dk_182 1 6 (dk_at dksX9_looked_3 11 rfl rfl)
theorem dX9_looked_83 : decode cX9_looked 83 = .ok (.aload_n 0, 1) := dk_42 (dk_at dksX9_looked_3 14 rfl rfl)
theorem dX9_looked_84 : decode cX9_looked 84 = .ok (.getfield 36, 3) := dk_180 0 36 (dk_at dksX9_looked_3 15 rfl rfl)
theorem dX9_looked_87 : decode cX9_looked 87 = .ok (.ifCond .le 7, 3) := dk_158 0 7 (dk_at dksX9_looked_3 18 rfl rfl)
theorem dX9_looked_90 : decode cX9_looked 90 = .ok (.iconst 0, 1) := dk_3 (dk_at dksX9_looked_3 21 rfl rfl)
theorem dX9_looked_91 : decode cX9_looked 91 = .ok (.goto 4, 3) := dk_167 0 4 (dk_at dksX9_looked_4 0 rfl rfl)
theorem dX9_looked_94 : decode cX9_looked 94 = .ok (.iload_n 2, 1) := dk_28 (dk_at dksX9_looked_4 3 rfl rfl)
theorem dX9_looked_95 : decode cX9_looked 95 = .ok (.ireturn, 1) := dk_172 (dk_at dksX9_looked_4 4 rfl rfl)
def dkwX9_asked_1 : List UInt8 := [3, 167, 0, 4, 28, 172]
abbrev dktX9_asked_1 : List UInt8 := dkwX9_asked_1 ++ []
def dkwX9_asked_0 : List UInt8 := [42, 27, 182, 1, 83, 61, 42, 180, 0, 36, 154, 0, 7, 42, 182, 1, 23, 42, 180, 0, 36, 158, 0, 7]
abbrev dktX9_asked_0 : List UInt8 := dkwX9_asked_0 ++ dktX9_asked_1
theorem dksX9_asked_0 : cX9_asked.data.toList.drop 0 = dktX9_asked_0 := by decide +kernel
theorem dksX9_asked_1 : cX9_asked.data.toList.drop 24 = dktX9_asked_1 := dk_seg dksX9_asked_0 24 rfl rfl
theorem dX9_asked_0 : decode cX9_asked 0 = .ok (.aload_n 0, 1) := dk_42 (dk_at dksX9_asked_0 0 rfl rfl)
theorem dX9_asked_1 : decode cX9_asked 1 = .ok (.iload_n 1, 1) := dk_27 (dk_at dksX9_asked_0 1 rfl rfl)
theorem dX9_asked_2 : decode cX9_asked 2 = .ok (.invokevirtual 339, 3) := dk_182 1 83 (dk_at dksX9_asked_0 2 rfl rfl)
theorem dX9_asked_5 : decode cX9_asked 5 = .ok (.istore_n 2, 1) := dk_61 (dk_at dksX9_asked_0 5 rfl rfl)
theorem dX9_asked_6 : decode cX9_asked 6 = .ok (.aload_n 0, 1) := dk_42 (dk_at dksX9_asked_0 6 rfl rfl)
theorem dX9_asked_7 : decode cX9_asked 7 = .ok (.getfield 36, 3) := dk_180 0 36 (dk_at dksX9_asked_0 7 rfl rfl)
theorem dX9_asked_10 : decode cX9_asked 10 = .ok (.ifCond .ne 7, 3) := dk_154 0 7 (dk_at dksX9_asked_0 10 rfl rfl)
theorem dX9_asked_13 : decode cX9_asked 13 = .ok (.aload_n 0, 1) := dk_42 (dk_at dksX9_asked_0 13 rfl rfl)
theorem dX9_asked_14 : decode cX9_asked 14 = .ok (.invokevirtual 279, 3) := dk_182 1 23 (dk_at dksX9_asked_0 14 rfl rfl)
theorem dX9_asked_17 : decode cX9_asked 17 = .ok (.aload_n 0, 1) := dk_42 (dk_at dksX9_asked_0 17 rfl rfl)
theorem dX9_asked_18 : decode cX9_asked 18 = .ok (.getfield 36, 3) := dk_180 0 36 (dk_at dksX9_asked_0 18 rfl rfl)
theorem dX9_asked_21 : decode cX9_asked 21 = .ok (.ifCond .le 7, 3) := dk_158 0 7 (dk_at dksX9_asked_0 21 rfl rfl)
theorem dX9_asked_24 : decode cX9_asked 24 = .ok (.iconst 0, 1) := dk_3 (dk_at dksX9_asked_1 0 rfl rfl)
theorem dX9_asked_25 : decode cX9_asked 25 = .ok (.goto 4, 3) := dk_167 0 4 (dk_at dksX9_asked_1 1 rfl rfl)
theorem dX9_asked_28 : decode cX9_asked 28 = .ok (.iload_n 2, 1) := dk_28 (dk_at dksX9_asked_1 4 rfl rfl)
theorem dX9_asked_29 : decode cX9_asked 29 = .ok (.ireturn, 1) := dk_172 (dk_at dksX9_asked_1 5 rfl rfl)
def dkwX9_childing_9 : List UInt8 := [154, 0, 16, 42, 180, 0, 85, 42, 180, 0, 127, 92, 46, 4, 96, 79, 177]
abbrev dktX9_childing_9 : List UInt8 := dkwX9_childing_9 ++ []
def dkwX9_childing_8 : List UInt8 := [154, 0, 15, 42, 180, 0, 97, 16, 24, 27, 104, 28, 96, 4, 79, 167, 255, 174, 42, 180, 0, 36]
abbrev dktX9_childing_8 : List UInt8 := dkwX9_childing_8 ++ dktX9_childing_9
def dkwX9_childing_7 : List UInt8 := [42, 180, 0, 23, 182, 1, 6, 42, 180, 0, 36, 154, 0, 7, 42, 182, 1, 23, 42, 180, 0, 36]
abbrev dktX9_childing_7 : List UInt8 := dkwX9_childing_7 ++ dktX9_childing_8
def dkwX9_childing_6 : List UInt8 := [42, 180, 0, 36, 154, 0, 27, 42, 180, 0, 97, 16, 24, 27, 104, 28, 96, 46, 4, 160, 0, 12, 42, 6]
abbrev dktX9_childing_6 : List UInt8 := dkwX9_childing_6 ++ dktX9_childing_7
def dkwX9_childing_5 : List UInt8 := [167, 255, 235, 42, 180, 0, 36, 154, 0, 81, 42, 180, 0, 20, 4, 160, 0, 73, 42, 3, 182, 1, 83, 61]
abbrev dktX9_childing_5 : List UInt8 := dkwX9_childing_5 ++ dktX9_childing_6
def dkwX9_childing_4 : List UInt8 := [3, 61, 28, 16, 24, 162, 0, 21, 42, 180, 0, 97, 16, 24, 27, 104, 28, 96, 3, 79, 132, 2, 1]
abbrev dktX9_childing_4 : List UInt8 := dkwX9_childing_4 ++ dktX9_childing_5
def dkwX9_childing_3 : List UInt8 := [182, 1, 101, 79, 42, 20, 1, 44, 182, 1, 94, 42, 180, 0, 94, 27, 42, 4, 16, 60, 182, 1, 98, 79]
abbrev dktX9_childing_3 : List UInt8 := dkwX9_childing_3 ++ dktX9_childing_4
def dkwX9_childing_2 : List UInt8 := [180, 0, 88, 27, 42, 182, 1, 90, 80, 42, 20, 1, 42, 182, 1, 94, 42, 180, 0, 91, 27, 42, 4]
abbrev dktX9_childing_2 : List UInt8 := dkwX9_childing_2 ++ dktX9_childing_3
def dkwX9_childing_1 : List UInt8 := [154, 0, 4, 177, 16, 10, 42, 180, 0, 127, 104, 42, 180, 0, 85, 42, 180, 0, 127, 46, 96, 60, 42]
abbrev dktX9_childing_1 : List UInt8 := dkwX9_childing_1 ++ dktX9_childing_2
def dkwX9_childing_0 : List UInt8 := [42, 42, 180, 0, 85, 42, 180, 0, 127, 46, 16, 10, 160, 0, 7, 4, 167, 0, 4, 3, 182, 1, 86]
abbrev dktX9_childing_0 : List UInt8 := dkwX9_childing_0 ++ dktX9_childing_1
theorem dksX9_childing_0 : cX9_childing.data.toList.drop 0 = dktX9_childing_0 := by decide +kernel
theorem dksX9_childing_1 : cX9_childing.data.toList.drop 23 = dktX9_childing_1 := dk_seg dksX9_childing_0 23 rfl rfl
theorem dksX9_childing_2 : cX9_childing.data.toList.drop 46 = dktX9_childing_2 := dk_seg dksX9_childing_1 23 rfl rfl
theorem dksX9_childing_3 : cX9_childing.data.toList.drop 69 = dktX9_childing_3 := dk_seg dksX9_childing_2 23 rfl rfl
theorem dksX9_childing_4 : cX9_childing.data.toList.drop 93 = dktX9_childing_4 := dk_seg dksX9_childing_3 24 rfl rfl
theorem dksX9_childing_5 : cX9_childing.data.toList.drop 116 = dktX9_childing_5 := dk_seg dksX9_childing_4 23 rfl rfl
theorem dksX9_childing_6 : cX9_childing.data.toList.drop 140 = dktX9_childing_6 := dk_seg dksX9_childing_5 24 rfl rfl
theorem dksX9_childing_7 : cX9_childing.data.toList.drop 164 = dktX9_childing_7 := dk_seg dksX9_childing_6 24 rfl rfl
theorem dksX9_childing_8 : cX9_childing.data.toList.drop 186 = dktX9_childing_8 := dk_seg dksX9_childing_7 22 rfl rfl
theorem dksX9_childing_9 : cX9_childing.data.toList.drop 208 = dktX9_childing_9 := dk_seg dksX9_childing_8 22 rfl rfl
theorem dX9_childing_0 : decode cX9_childing 0 = .ok (.aload_n 0, 1) := dk_42 (dk_at dksX9_childing_0 0 rfl rfl)
theorem dX9_childing_1 : decode cX9_childing 1 = .ok (.aload_n 0, 1) := dk_42 (dk_at dksX9_childing_0 1 rfl rfl)
theorem dX9_childing_2 : decode cX9_childing 2 = .ok (.getfield 85, 3) := dk_180 0 85 (dk_at dksX9_childing_0 2 rfl rfl)
theorem dX9_childing_5 : decode cX9_childing 5 = .ok (.aload_n 0, 1) := dk_42 (dk_at dksX9_childing_0 5 rfl rfl)
theorem dX9_childing_6 : decode cX9_childing 6 = .ok (.getfield 127, 3) := dk_180 0 127 (dk_at dksX9_childing_0 6 rfl rfl)
theorem dX9_childing_9 : decode cX9_childing 9 = .ok (.iaload, 1) := dk_46 (dk_at dksX9_childing_0 9 rfl rfl)
theorem dX9_childing_10 : decode cX9_childing 10 = .ok (.bipush 10, 2) := dk_16 10 (dk_at dksX9_childing_0 10 rfl rfl)
theorem dX9_childing_12 : decode cX9_childing 12 = .ok (.if_icmp .ne 7, 3) := dk_160 0 7 (dk_at dksX9_childing_0 12 rfl rfl)
theorem dX9_childing_15 : decode cX9_childing 15 = .ok (.iconst 1, 1) := dk_4 (dk_at dksX9_childing_0 15 rfl rfl)
theorem dX9_childing_16 : decode cX9_childing 16 = .ok (.goto 4, 3) := dk_167 0 4 (dk_at dksX9_childing_0 16 rfl rfl)
theorem dX9_childing_19 : decode cX9_childing 19 = .ok (.iconst 0, 1) := dk_3 (dk_at dksX9_childing_0 19 rfl rfl)
theorem dX9_childing_20 : decode cX9_childing 20 = .ok (.invokevirtual 342, 3) := dk_182 1 86 (dk_at dksX9_childing_0 20 rfl rfl)
theorem dX9_childing_23 : decode cX9_childing 23 = .ok (.ifCond .ne 4, 3) := dk_154 0 4 (dk_at dksX9_childing_1 0 rfl rfl)
theorem dX9_childing_26 : decode cX9_childing 26 = .ok (.return_, 1) := dk_177 (dk_at dksX9_childing_1 3 rfl rfl)
theorem dX9_childing_27 : decode cX9_childing 27 = .ok (.bipush 10, 2) := dk_16 10 (dk_at dksX9_childing_1 4 rfl rfl)
theorem dX9_childing_29 : decode cX9_childing 29 = .ok (.aload_n 0, 1) := dk_42 (dk_at dksX9_childing_1 6 rfl rfl)
theorem dX9_childing_30 : decode cX9_childing 30 = .ok (.getfield 127, 3) := dk_180 0 127 (dk_at dksX9_childing_1 7 rfl rfl)
theorem dX9_childing_33 : decode cX9_childing 33 = .ok (.imul, 1) := dk_104 (dk_at dksX9_childing_1 10 rfl rfl)
theorem dX9_childing_34 : decode cX9_childing 34 = .ok (.aload_n 0, 1) := dk_42 (dk_at dksX9_childing_1 11 rfl rfl)
theorem dX9_childing_35 : decode cX9_childing 35 = .ok (.getfield 85, 3) := dk_180 0 85 (dk_at dksX9_childing_1 12 rfl rfl)
theorem dX9_childing_38 : decode cX9_childing 38 = .ok (.aload_n 0, 1) := dk_42 (dk_at dksX9_childing_1 15 rfl rfl)
theorem dX9_childing_39 : decode cX9_childing 39 = .ok (.getfield 127, 3) := dk_180 0 127 (dk_at dksX9_childing_1 16 rfl rfl)
theorem dX9_childing_42 : decode cX9_childing 42 = .ok (.iaload, 1) := dk_46 (dk_at dksX9_childing_1 19 rfl rfl)
theorem dX9_childing_43 : decode cX9_childing 43 = .ok (.iadd, 1) := dk_96 (dk_at dksX9_childing_1 20 rfl rfl)
theorem dX9_childing_44 : decode cX9_childing 44 = .ok (.istore_n 1, 1) := dk_60 (dk_at dksX9_childing_1 21 rfl rfl)
theorem dX9_childing_45 : decode cX9_childing 45 = .ok (.aload_n 0, 1) := dk_42 (dk_at dksX9_childing_1 22 rfl rfl)
theorem dX9_childing_46 : decode cX9_childing 46 = .ok (.getfield 88, 3) := dk_180 0 88 (dk_at dksX9_childing_2 0 rfl rfl)
theorem dX9_childing_49 : decode cX9_childing 49 = .ok (.iload_n 1, 1) := dk_27 (dk_at dksX9_childing_2 3 rfl rfl)
theorem dX9_childing_50 : decode cX9_childing 50 = .ok (.aload_n 0, 1) := dk_42 (dk_at dksX9_childing_2 4 rfl rfl)
theorem dX9_childing_51 : decode cX9_childing 51 = .ok (.invokevirtual 346, 3) := dk_182 1 90 (dk_at dksX9_childing_2 5 rfl rfl)
theorem dX9_childing_54 : decode cX9_childing 54 = .ok (.lastore, 1) := dk_80 (dk_at dksX9_childing_2 8 rfl rfl)
theorem dX9_childing_55 : decode cX9_childing 55 = .ok (.aload_n 0, 1) := dk_42 (dk_at dksX9_childing_2 9 rfl rfl)
theorem dX9_childing_56 : decode cX9_childing 56 = .ok (.ldc2_w 298, 3) := dk_20 1 42 (dk_at dksX9_childing_2 10 rfl rfl)
theorem dX9_childing_59 : decode cX9_childing 59 = .ok (.invokevirtual 350, 3) := dk_182 1 94 (dk_at dksX9_childing_2 13 rfl rfl)
theorem dX9_childing_62 : decode cX9_childing 62 = .ok (.aload_n 0, 1) := dk_42 (dk_at dksX9_childing_2 16 rfl rfl)
theorem dX9_childing_63 : decode cX9_childing 63 = .ok (.getfield 91, 3) := dk_180 0 91 (dk_at dksX9_childing_2 17 rfl rfl)
theorem dX9_childing_66 : decode cX9_childing 66 = .ok (.iload_n 1, 1) := dk_27 (dk_at dksX9_childing_2 20 rfl rfl)
theorem dX9_childing_67 : decode cX9_childing 67 = .ok (.aload_n 0, 1) := dk_42 (dk_at dksX9_childing_2 21 rfl rfl)
theorem dX9_childing_68 : decode cX9_childing 68 = .ok (.iconst 1, 1) := dk_4 (dk_at dksX9_childing_2 22 rfl rfl)
theorem dX9_childing_69 : decode cX9_childing 69 = .ok (.invokevirtual 357, 3) := dk_182 1 101 (dk_at dksX9_childing_3 0 rfl rfl)
theorem dX9_childing_72 : decode cX9_childing 72 = .ok (.iastore, 1) := dk_79 (dk_at dksX9_childing_3 3 rfl rfl)
theorem dX9_childing_73 : decode cX9_childing 73 = .ok (.aload_n 0, 1) := dk_42 (dk_at dksX9_childing_3 4 rfl rfl)
theorem dX9_childing_74 : decode cX9_childing 74 = .ok (.ldc2_w 300, 3) := dk_20 1 44 (dk_at dksX9_childing_3 5 rfl rfl)
theorem dX9_childing_77 : decode cX9_childing 77 = .ok (.invokevirtual 350, 3) := dk_182 1 94 (dk_at dksX9_childing_3 8 rfl rfl)
theorem dX9_childing_80 : decode cX9_childing 80 = .ok (.aload_n 0, 1) := dk_42 (dk_at dksX9_childing_3 11 rfl rfl)
theorem dX9_childing_81 : decode cX9_childing 81 = .ok (.getfield 94, 3) := dk_180 0 94 (dk_at dksX9_childing_3 12 rfl rfl)
theorem dX9_childing_84 : decode cX9_childing 84 = .ok (.iload_n 1, 1) := dk_27 (dk_at dksX9_childing_3 15 rfl rfl)
theorem dX9_childing_85 : decode cX9_childing 85 = .ok (.aload_n 0, 1) := dk_42 (dk_at dksX9_childing_3 16 rfl rfl)
theorem dX9_childing_86 : decode cX9_childing 86 = .ok (.iconst 1, 1) := dk_4 (dk_at dksX9_childing_3 17 rfl rfl)
theorem dX9_childing_87 : decode cX9_childing 87 = .ok (.bipush 60, 2) := dk_16 60 (dk_at dksX9_childing_3 18 rfl rfl)
theorem dX9_childing_89 : decode cX9_childing 89 = .ok (.invokevirtual 354, 3) := dk_182 1 98 (dk_at dksX9_childing_3 20 rfl rfl)
theorem dX9_childing_92 : decode cX9_childing 92 = .ok (.iastore, 1) := dk_79 (dk_at dksX9_childing_3 23 rfl rfl)
theorem dX9_childing_93 : decode cX9_childing 93 = .ok (.iconst 0, 1) := dk_3 (dk_at dksX9_childing_4 0 rfl rfl)
theorem dX9_childing_94 : decode cX9_childing 94 = .ok (.istore_n 2, 1) := dk_61 (dk_at dksX9_childing_4 1 rfl rfl)
theorem dX9_childing_95 : decode cX9_childing 95 = .ok (.iload_n 2, 1) := dk_28 (dk_at dksX9_childing_4 2 rfl rfl)
theorem dX9_childing_96 : decode cX9_childing 96 = .ok (.bipush 24, 2) := dk_16 24 (dk_at dksX9_childing_4 3 rfl rfl)
theorem dX9_childing_98 : decode cX9_childing 98 = .ok (.if_icmp .ge 21, 3) := dk_162 0 21 (dk_at dksX9_childing_4 5 rfl rfl)
theorem dX9_childing_101 : decode cX9_childing 101 = .ok (.aload_n 0, 1) := dk_42 (dk_at dksX9_childing_4 8 rfl rfl)
theorem dX9_childing_102 : decode cX9_childing 102 = .ok (.getfield 97, 3) := dk_180 0 97 (dk_at dksX9_childing_4 9 rfl rfl)
theorem dX9_childing_105 : decode cX9_childing 105 = .ok (.bipush 24, 2) := dk_16 24 (dk_at dksX9_childing_4 12 rfl rfl)
theorem dX9_childing_107 : decode cX9_childing 107 = .ok (.iload_n 1, 1) := dk_27 (dk_at dksX9_childing_4 14 rfl rfl)
theorem dX9_childing_108 : decode cX9_childing 108 = .ok (.imul, 1) := dk_104 (dk_at dksX9_childing_4 15 rfl rfl)
theorem dX9_childing_109 : decode cX9_childing 109 = .ok (.iload_n 2, 1) := dk_28 (dk_at dksX9_childing_4 16 rfl rfl)
theorem dX9_childing_110 : decode cX9_childing 110 = .ok (.iadd, 1) := dk_96 (dk_at dksX9_childing_4 17 rfl rfl)
theorem dX9_childing_111 : decode cX9_childing 111 = .ok (.iconst 0, 1) := dk_3 (dk_at dksX9_childing_4 18 rfl rfl)
theorem dX9_childing_112 : decode cX9_childing 112 = .ok (.iastore, 1) := dk_79 (dk_at dksX9_childing_4 19 rfl rfl)
theorem dX9_childing_113 : decode cX9_childing 113 = .ok (.iinc 2 1, 3) := dk_132 2 1 (dk_at dksX9_childing_4 20 rfl rfl)
theorem dX9_childing_116 : decode cX9_childing 116 = .ok (.goto (-21), 3) := dk_167 255 235 (dk_at dksX9_childing_5 0 rfl rfl)
theorem dX9_childing_119 : decode cX9_childing 119 = .ok (.aload_n 0, 1) := dk_42 (dk_at dksX9_childing_5 3 rfl rfl)
theorem dX9_childing_120 : decode cX9_childing 120 = .ok (.getfield 36, 3) := dk_180 0 36 (dk_at dksX9_childing_5 4 rfl rfl)
theorem dX9_childing_123 : decode cX9_childing 123 = .ok (.ifCond .ne 81, 3) := dk_154 0 81 (dk_at dksX9_childing_5 7 rfl rfl)
theorem dX9_childing_126 : decode cX9_childing 126 = .ok (.aload_n 0, 1) := dk_42 (dk_at dksX9_childing_5 10 rfl rfl)
theorem dX9_childing_127 : decode cX9_childing 127 = .ok (.getfield 20, 3) := dk_180 0 20 (dk_at dksX9_childing_5 11 rfl rfl)
theorem dX9_childing_130 : decode cX9_childing 130 = .ok (.iconst 1, 1) := dk_4 (dk_at dksX9_childing_5 14 rfl rfl)
theorem dX9_childing_131 : decode cX9_childing 131 = .ok (.if_icmp .ne 73, 3) := dk_160 0 73 (dk_at dksX9_childing_5 15 rfl rfl)
theorem dX9_childing_134 : decode cX9_childing 134 = .ok (.aload_n 0, 1) := dk_42 (dk_at dksX9_childing_5 18 rfl rfl)
theorem dX9_childing_135 : decode cX9_childing 135 = .ok (.iconst 0, 1) := dk_3 (dk_at dksX9_childing_5 19 rfl rfl)
theorem dX9_childing_136 : decode cX9_childing 136 = .ok (.invokevirtual 339, 3) := dk_182 1 83 (dk_at dksX9_childing_5 20 rfl rfl)
theorem dX9_childing_139 : decode cX9_childing 139 = .ok (.istore_n 2, 1) := dk_61 (dk_at dksX9_childing_5 23 rfl rfl)
theorem dX9_childing_140 : decode cX9_childing 140 = .ok (.aload_n 0, 1) := dk_42 (dk_at dksX9_childing_6 0 rfl rfl)
theorem dX9_childing_141 : decode cX9_childing 141 = .ok (.getfield 36, 3) := dk_180 0 36 (dk_at dksX9_childing_6 1 rfl rfl)
theorem dX9_childing_144 : decode cX9_childing 144 = .ok (.ifCond .ne 27, 3) := dk_154 0 27 (dk_at dksX9_childing_6 4 rfl rfl)
theorem dX9_childing_147 : decode cX9_childing 147 = .ok (.aload_n 0, 1) := dk_42 (dk_at dksX9_childing_6 7 rfl rfl)
theorem dX9_childing_148 : decode cX9_childing 148 = .ok (.getfield 97, 3) := dk_180 0 97 (dk_at dksX9_childing_6 8 rfl rfl)
theorem dX9_childing_151 : decode cX9_childing 151 = .ok (.bipush 24, 2) := dk_16 24 (dk_at dksX9_childing_6 11 rfl rfl)
theorem dX9_childing_153 : decode cX9_childing 153 = .ok (.iload_n 1, 1) := dk_27 (dk_at dksX9_childing_6 13 rfl rfl)
theorem dX9_childing_154 : decode cX9_childing 154 = .ok (.imul, 1) := dk_104 (dk_at dksX9_childing_6 14 rfl rfl)
theorem dX9_childing_155 : decode cX9_childing 155 = .ok (.iload_n 2, 1) := dk_28 (dk_at dksX9_childing_6 15 rfl rfl)
theorem dX9_childing_156 : decode cX9_childing 156 = .ok (.iadd, 1) := dk_96 (dk_at dksX9_childing_6 16 rfl rfl)
theorem dX9_childing_157 : decode cX9_childing 157 = .ok (.iaload, 1) := dk_46 (dk_at dksX9_childing_6 17 rfl rfl)
theorem dX9_childing_158 : decode cX9_childing 158 = .ok (.iconst 1, 1) := dk_4 (dk_at dksX9_childing_6 18 rfl rfl)
theorem dX9_childing_159 : decode cX9_childing 159 = .ok (.if_icmp .ne 12, 3) := dk_160 0 12 (dk_at dksX9_childing_6 19 rfl rfl)
theorem dX9_childing_162 : decode cX9_childing 162 = .ok (.aload_n 0, 1) := dk_42 (dk_at dksX9_childing_6 22 rfl rfl)
theorem dX9_childing_163 : decode cX9_childing 163 = .ok (.iconst 3, 1) := dk_6 (dk_at dksX9_childing_6 23 rfl rfl)
theorem dX9_childing_164 : decode cX9_childing 164 = .ok (.aload_n 0, 1) := dk_42 (dk_at dksX9_childing_7 0 rfl rfl)
theorem dX9_childing_165 : decode cX9_childing 165 = .ok (.getfield 23, 3) := dk_180 0 23 (dk_at dksX9_childing_7 1 rfl rfl)
theorem dX9_childing_168 : decode cX9_childing 168 = .ok (.invokevirtual 262, 3) := dk_182 1 6 (dk_at dksX9_childing_7 4 rfl rfl)
theorem dX9_childing_171 : decode cX9_childing 171 = .ok (.aload_n 0, 1) := dk_42 (dk_at dksX9_childing_7 7 rfl rfl)
theorem dX9_childing_172 : decode cX9_childing 172 = .ok (.getfield 36, 3) := dk_180 0 36 (dk_at dksX9_childing_7 8 rfl rfl)
theorem dX9_childing_175 : decode cX9_childing 175 = .ok (.ifCond .ne 7, 3) := dk_154 0 7 (dk_at dksX9_childing_7 11 rfl rfl)
theorem dX9_childing_178 : decode cX9_childing 178 = .ok (.aload_n 0, 1) := dk_42 (dk_at dksX9_childing_7 14 rfl rfl)
theorem dX9_childing_179 : decode cX9_childing 179 = .ok (.invokevirtual 279, 3) := dk_182 1 23 (dk_at dksX9_childing_7 15 rfl rfl)
theorem dX9_childing_182 : decode cX9_childing 182 = .ok (.aload_n 0, 1) := dk_42 (dk_at dksX9_childing_7 18 rfl rfl)
theorem dX9_childing_183 : decode cX9_childing 183 = .ok (.getfield 36, 3) := dk_180 0 36 (dk_at dksX9_childing_7 19 rfl rfl)
theorem dX9_childing_186 : decode cX9_childing 186 = .ok (.ifCond .ne 15, 3) := dk_154 0 15 (dk_at dksX9_childing_8 0 rfl rfl)
theorem dX9_childing_189 : decode cX9_childing 189 = .ok (.aload_n 0, 1) := dk_42 (dk_at dksX9_childing_8 3 rfl rfl)
theorem dX9_childing_190 : decode cX9_childing 190 = .ok (.getfield 97, 3) := dk_180 0 97 (dk_at dksX9_childing_8 4 rfl rfl)
theorem dX9_childing_193 : decode cX9_childing 193 = .ok (.bipush 24, 2) := dk_16 24 (dk_at dksX9_childing_8 7 rfl rfl)
theorem dX9_childing_195 : decode cX9_childing 195 = .ok (.iload_n 1, 1) := dk_27 (dk_at dksX9_childing_8 9 rfl rfl)
theorem dX9_childing_196 : decode cX9_childing 196 = .ok (.imul, 1) := dk_104 (dk_at dksX9_childing_8 10 rfl rfl)
theorem dX9_childing_197 : decode cX9_childing 197 = .ok (.iload_n 2, 1) := dk_28 (dk_at dksX9_childing_8 11 rfl rfl)
theorem dX9_childing_198 : decode cX9_childing 198 = .ok (.iadd, 1) := dk_96 (dk_at dksX9_childing_8 12 rfl rfl)
theorem dX9_childing_199 : decode cX9_childing 199 = .ok (.iconst 1, 1) := dk_4 (dk_at dksX9_childing_8 13 rfl rfl)
theorem dX9_childing_200 : decode cX9_childing 200 = .ok (.iastore, 1) := dk_79 (dk_at dksX9_childing_8 14 rfl rfl)
theorem dX9_childing_201 : decode cX9_childing 201 = .ok (.goto (-82), 3) := dk_167 255 174 (dk_at dksX9_childing_8 15 rfl rfl)
theorem dX9_childing_204 : decode cX9_childing 204 = .ok (.aload_n 0, 1) := dk_42 (dk_at dksX9_childing_8 18 rfl rfl)
theorem dX9_childing_205 : decode cX9_childing 205 = .ok (.getfield 36, 3) := dk_180 0 36 (dk_at dksX9_childing_8 19 rfl rfl)
theorem dX9_childing_208 : decode cX9_childing 208 = .ok (.ifCond .ne 16, 3) := dk_154 0 16 (dk_at dksX9_childing_9 0 rfl rfl)
theorem dX9_childing_211 : decode cX9_childing 211 = .ok (.aload_n 0, 1) := dk_42 (dk_at dksX9_childing_9 3 rfl rfl)
theorem dX9_childing_212 : decode cX9_childing 212 = .ok (.getfield 85, 3) := dk_180 0 85 (dk_at dksX9_childing_9 4 rfl rfl)
theorem dX9_childing_215 : decode cX9_childing 215 = .ok (.aload_n 0, 1) := dk_42 (dk_at dksX9_childing_9 7 rfl rfl)
theorem dX9_childing_216 : decode cX9_childing 216 = .ok (.getfield 127, 3) := dk_180 0 127 (dk_at dksX9_childing_9 8 rfl rfl)
theorem dX9_childing_219 : decode cX9_childing 219 = .ok (.dup2, 1) := dk_92 (dk_at dksX9_childing_9 11 rfl rfl)
theorem dX9_childing_220 : decode cX9_childing 220 = .ok (.iaload, 1) := dk_46 (dk_at dksX9_childing_9 12 rfl rfl)
theorem dX9_childing_221 : decode cX9_childing 221 = .ok (.iconst 1, 1) := dk_4 (dk_at dksX9_childing_9 13 rfl rfl)
theorem dX9_childing_222 : decode cX9_childing 222 = .ok (.iadd, 1) := dk_96 (dk_at dksX9_childing_9 14 rfl rfl)
theorem dX9_childing_223 : decode cX9_childing 223 = .ok (.iastore, 1) := dk_79 (dk_at dksX9_childing_9 15 rfl rfl)
theorem dX9_childing_224 : decode cX9_childing 224 = .ok (.return_, 1) := dk_177 (dk_at dksX9_childing_9 16 rfl rfl)
def dkwX9_lawing_8 : List UInt8 := [180, 0, 127, 92, 46, 4, 96, 79, 177]
abbrev dktX9_lawing_8 : List UInt8 := dkwX9_lawing_8 ++ []
def dkwX9_lawing_7 : List UInt8 := [16, 12, 27, 104, 28, 96, 42, 180, 0, 130, 28, 46, 79, 132, 2, 1, 167, 255, 223, 42, 180, 0, 100, 42]
abbrev dktX9_lawing_7 : List UInt8 := dkwX9_lawing_7 ++ dktX9_lawing_8
def dkwX9_lawing_6 : List UInt8 := [180, 0, 136, 79, 3, 61, 28, 42, 180, 0, 133, 42, 180, 0, 136, 96, 162, 0, 26, 42, 180, 0, 115]
abbrev dktX9_lawing_6 : List UInt8 := dkwX9_lawing_6 ++ dktX9_lawing_7
def dkwX9_lawing_5 : List UInt8 := [180, 0, 36, 158, 0, 4, 177, 42, 180, 0, 109, 27, 42, 180, 0, 133, 79, 42, 180, 0, 112, 27, 42]
abbrev dktX9_lawing_5 : List UInt8 := dkwX9_lawing_5 ++ dktX9_lawing_6
def dkwX9_lawing_4 : List UInt8 := [42, 182, 1, 23, 42, 20, 1, 50, 182, 1, 94, 42, 180, 0, 36, 154, 0, 7, 42, 182, 1, 108, 42]
abbrev dktX9_lawing_4 : List UInt8 := dkwX9_lawing_4 ++ dktX9_lawing_5
def dkwX9_lawing_3 : List UInt8 := [180, 0, 48, 2, 160, 0, 24, 42, 20, 1, 48, 182, 1, 72, 153, 0, 14, 42, 180, 0, 106, 27, 4, 79]
abbrev dktX9_lawing_3 : List UInt8 := dkwX9_lawing_3 ++ dktX9_lawing_4
def dkwX9_lawing_2 : List UInt8 := [180, 0, 103, 27, 42, 182, 1, 90, 80, 42, 180, 0, 106, 27, 3, 79, 42, 180, 0, 36, 154, 0, 32, 42]
abbrev dktX9_lawing_2 : List UInt8 := dkwX9_lawing_2 ++ dktX9_lawing_3
def dkwX9_lawing_1 : List UInt8 := [154, 0, 4, 177, 16, 12, 42, 180, 0, 127, 104, 42, 180, 0, 100, 42, 180, 0, 127, 46, 96, 60, 42]
abbrev dktX9_lawing_1 : List UInt8 := dkwX9_lawing_1 ++ dktX9_lawing_2
def dkwX9_lawing_0 : List UInt8 := [42, 42, 180, 0, 100, 42, 180, 0, 127, 46, 16, 12, 160, 0, 7, 4, 167, 0, 4, 3, 182, 1, 86]
abbrev dktX9_lawing_0 : List UInt8 := dkwX9_lawing_0 ++ dktX9_lawing_1
theorem dksX9_lawing_0 : cX9_lawing.data.toList.drop 0 = dktX9_lawing_0 := by decide +kernel
theorem dksX9_lawing_1 : cX9_lawing.data.toList.drop 23 = dktX9_lawing_1 := dk_seg dksX9_lawing_0 23 rfl rfl
theorem dksX9_lawing_2 : cX9_lawing.data.toList.drop 46 = dktX9_lawing_2 := dk_seg dksX9_lawing_1 23 rfl rfl
theorem dksX9_lawing_3 : cX9_lawing.data.toList.drop 70 = dktX9_lawing_3 := dk_seg dksX9_lawing_2 24 rfl rfl
theorem dksX9_lawing_4 : cX9_lawing.data.toList.drop 94 = dktX9_lawing_4 := dk_seg dksX9_lawing_3 24 rfl rfl
theorem dksX9_lawing_5 : cX9_lawing.data.toList.drop 117 = dktX9_lawing_5 := dk_seg dksX9_lawing_4 23 rfl rfl
theorem dksX9_lawing_6 : cX9_lawing.data.toList.drop 140 = dktX9_lawing_6 := dk_seg dksX9_lawing_5 23 rfl rfl
theorem dksX9_lawing_7 : cX9_lawing.data.toList.drop 163 = dktX9_lawing_7 := dk_seg dksX9_lawing_6 23 rfl rfl
theorem dksX9_lawing_8 : cX9_lawing.data.toList.drop 187 = dktX9_lawing_8 := dk_seg dksX9_lawing_7 24 rfl rfl
theorem dX9_lawing_0 : decode cX9_lawing 0 = .ok (.aload_n 0, 1) := dk_42 (dk_at dksX9_lawing_0 0 rfl rfl)
theorem dX9_lawing_1 : decode cX9_lawing 1 = .ok (.aload_n 0, 1) := dk_42 (dk_at dksX9_lawing_0 1 rfl rfl)
theorem dX9_lawing_2 : decode cX9_lawing 2 = .ok (.getfield 100, 3) := dk_180 0 100 (dk_at dksX9_lawing_0 2 rfl rfl)
theorem dX9_lawing_5 : decode cX9_lawing 5 = .ok (.aload_n 0, 1) := dk_42 (dk_at dksX9_lawing_0 5 rfl rfl)
theorem dX9_lawing_6 : decode cX9_lawing 6 = .ok (.getfield 127, 3) := dk_180 0 127 (dk_at dksX9_lawing_0 6 rfl rfl)
theorem dX9_lawing_9 : decode cX9_lawing 9 = .ok (.iaload, 1) := dk_46 (dk_at dksX9_lawing_0 9 rfl rfl)
theorem dX9_lawing_10 : decode cX9_lawing 10 = .ok (.bipush 12, 2) := dk_16 12 (dk_at dksX9_lawing_0 10 rfl rfl)
theorem dX9_lawing_12 : decode cX9_lawing 12 = .ok (.if_icmp .ne 7, 3) := dk_160 0 7 (dk_at dksX9_lawing_0 12 rfl rfl)
theorem dX9_lawing_15 : decode cX9_lawing 15 = .ok (.iconst 1, 1) := dk_4 (dk_at dksX9_lawing_0 15 rfl rfl)
theorem dX9_lawing_16 : decode cX9_lawing 16 = .ok (.goto 4, 3) := dk_167 0 4 (dk_at dksX9_lawing_0 16 rfl rfl)
theorem dX9_lawing_19 : decode cX9_lawing 19 = .ok (.iconst 0, 1) := dk_3 (dk_at dksX9_lawing_0 19 rfl rfl)
theorem dX9_lawing_20 : decode cX9_lawing 20 = .ok (.invokevirtual 342, 3) := dk_182 1 86 (dk_at dksX9_lawing_0 20 rfl rfl)
theorem dX9_lawing_23 : decode cX9_lawing 23 = .ok (.ifCond .ne 4, 3) := dk_154 0 4 (dk_at dksX9_lawing_1 0 rfl rfl)
theorem dX9_lawing_26 : decode cX9_lawing 26 = .ok (.return_, 1) := dk_177 (dk_at dksX9_lawing_1 3 rfl rfl)
theorem dX9_lawing_27 : decode cX9_lawing 27 = .ok (.bipush 12, 2) := dk_16 12 (dk_at dksX9_lawing_1 4 rfl rfl)
theorem dX9_lawing_29 : decode cX9_lawing 29 = .ok (.aload_n 0, 1) := dk_42 (dk_at dksX9_lawing_1 6 rfl rfl)
theorem dX9_lawing_30 : decode cX9_lawing 30 = .ok (.getfield 127, 3) := dk_180 0 127 (dk_at dksX9_lawing_1 7 rfl rfl)
theorem dX9_lawing_33 : decode cX9_lawing 33 = .ok (.imul, 1) := dk_104 (dk_at dksX9_lawing_1 10 rfl rfl)
theorem dX9_lawing_34 : decode cX9_lawing 34 = .ok (.aload_n 0, 1) := dk_42 (dk_at dksX9_lawing_1 11 rfl rfl)
theorem dX9_lawing_35 : decode cX9_lawing 35 = .ok (.getfield 100, 3) := dk_180 0 100 (dk_at dksX9_lawing_1 12 rfl rfl)
theorem dX9_lawing_38 : decode cX9_lawing 38 = .ok (.aload_n 0, 1) := dk_42 (dk_at dksX9_lawing_1 15 rfl rfl)
theorem dX9_lawing_39 : decode cX9_lawing 39 = .ok (.getfield 127, 3) := dk_180 0 127 (dk_at dksX9_lawing_1 16 rfl rfl)
theorem dX9_lawing_42 : decode cX9_lawing 42 = .ok (.iaload, 1) := dk_46 (dk_at dksX9_lawing_1 19 rfl rfl)
theorem dX9_lawing_43 : decode cX9_lawing 43 = .ok (.iadd, 1) := dk_96 (dk_at dksX9_lawing_1 20 rfl rfl)
theorem dX9_lawing_44 : decode cX9_lawing 44 = .ok (.istore_n 1, 1) := dk_60 (dk_at dksX9_lawing_1 21 rfl rfl)
theorem dX9_lawing_45 : decode cX9_lawing 45 = .ok (.aload_n 0, 1) := dk_42 (dk_at dksX9_lawing_1 22 rfl rfl)
theorem dX9_lawing_46 : decode cX9_lawing 46 = .ok (.getfield 103, 3) := dk_180 0 103 (dk_at dksX9_lawing_2 0 rfl rfl)
theorem dX9_lawing_49 : decode cX9_lawing 49 = .ok (.iload_n 1, 1) := dk_27 (dk_at dksX9_lawing_2 3 rfl rfl)
theorem dX9_lawing_50 : decode cX9_lawing 50 = .ok (.aload_n 0, 1) := dk_42 (dk_at dksX9_lawing_2 4 rfl rfl)
theorem dX9_lawing_51 : decode cX9_lawing 51 = .ok (.invokevirtual 346, 3) := dk_182 1 90 (dk_at dksX9_lawing_2 5 rfl rfl)
theorem dX9_lawing_54 : decode cX9_lawing 54 = .ok (.lastore, 1) := dk_80 (dk_at dksX9_lawing_2 8 rfl rfl)
theorem dX9_lawing_55 : decode cX9_lawing 55 = .ok (.aload_n 0, 1) := dk_42 (dk_at dksX9_lawing_2 9 rfl rfl)
theorem dX9_lawing_56 : decode cX9_lawing 56 = .ok (.getfield 106, 3) := dk_180 0 106 (dk_at dksX9_lawing_2 10 rfl rfl)
theorem dX9_lawing_59 : decode cX9_lawing 59 = .ok (.iload_n 1, 1) := dk_27 (dk_at dksX9_lawing_2 13 rfl rfl)
theorem dX9_lawing_60 : decode cX9_lawing 60 = .ok (.iconst 0, 1) := dk_3 (dk_at dksX9_lawing_2 14 rfl rfl)
theorem dX9_lawing_61 : decode cX9_lawing 61 = .ok (.iastore, 1) := dk_79 (dk_at dksX9_lawing_2 15 rfl rfl)
theorem dX9_lawing_62 : decode cX9_lawing 62 = .ok (.aload_n 0, 1) := dk_42 (dk_at dksX9_lawing_2 16 rfl rfl)
theorem dX9_lawing_63 : decode cX9_lawing 63 = .ok (.getfield 36, 3) := dk_180 0 36 (dk_at dksX9_lawing_2 17 rfl rfl)
theorem dX9_lawing_66 : decode cX9_lawing 66 = .ok (.ifCond .ne 32, 3) := dk_154 0 32 (dk_at dksX9_lawing_2 20 rfl rfl)
theorem dX9_lawing_69 : decode cX9_lawing 69 = .ok (.aload_n 0, 1) := dk_42 (dk_at dksX9_lawing_2 23 rfl rfl)
theorem dX9_lawing_70 : decode cX9_lawing 70 = .ok (.getfield 48, 3) := dk_180 0 48 (dk_at dksX9_lawing_3 0 rfl rfl)
theorem dX9_lawing_73 : decode cX9_lawing 73 = .ok (.iconst (-1), 1) := dk_2 (dk_at dksX9_lawing_3 3 rfl rfl)
theorem dX9_lawing_74 : decode cX9_lawing 74 = .ok (.if_icmp .ne 24, 3) := dk_160 0 24 (dk_at dksX9_lawing_3 4 rfl rfl)
theorem dX9_lawing_77 : decode cX9_lawing 77 = .ok (.aload_n 0, 1) := dk_42 (dk_at dksX9_lawing_3 7 rfl rfl)
theorem dX9_lawing_78 : decode cX9_lawing 78 = .ok (.ldc2_w 304, 3) := dk_20 1 48 (dk_at dksX9_lawing_3 8 rfl rfl)
theorem dX9_lawing_81 : decode cX9_lawing 81 = .ok (.invokevirtual 328, 3) := dk_182 1 72 (dk_at dksX9_lawing_3 11 rfl rfl)
theorem dX9_lawing_84 : decode cX9_lawing 84 = .ok (.ifCond .eq 14, 3) := dk_153 0 14 (dk_at dksX9_lawing_3 14 rfl rfl)
theorem dX9_lawing_87 : decode cX9_lawing 87 = .ok (.aload_n 0, 1) := dk_42 (dk_at dksX9_lawing_3 17 rfl rfl)
theorem dX9_lawing_88 : decode cX9_lawing 88 = .ok (.getfield 106, 3) := dk_180 0 106 (dk_at dksX9_lawing_3 18 rfl rfl)
theorem dX9_lawing_91 : decode cX9_lawing 91 = .ok (.iload_n 1, 1) := dk_27 (dk_at dksX9_lawing_3 21 rfl rfl)
theorem dX9_lawing_92 : decode cX9_lawing 92 = .ok (.iconst 1, 1) := dk_4 (dk_at dksX9_lawing_3 22 rfl rfl)
theorem dX9_lawing_93 : decode cX9_lawing 93 = .ok (.iastore, 1) := dk_79 (dk_at dksX9_lawing_3 23 rfl rfl)
theorem dX9_lawing_94 : decode cX9_lawing 94 = .ok (.aload_n 0, 1) := dk_42 (dk_at dksX9_lawing_4 0 rfl rfl)
theorem dX9_lawing_95 : decode cX9_lawing 95 = .ok (.invokevirtual 279, 3) := dk_182 1 23 (dk_at dksX9_lawing_4 1 rfl rfl)
theorem dX9_lawing_98 : decode cX9_lawing 98 = .ok (.aload_n 0, 1) := dk_42 (dk_at dksX9_lawing_4 4 rfl rfl)
theorem dX9_lawing_99 : decode cX9_lawing 99 = .ok (.ldc2_w 306, 3) := dk_20 1 50 (dk_at dksX9_lawing_4 5 rfl rfl)
theorem dX9_lawing_102 : decode cX9_lawing 102 = .ok (.invokevirtual 350, 3) := dk_182 1 94 (dk_at dksX9_lawing_4 8 rfl rfl)
theorem dX9_lawing_105 : decode cX9_lawing 105 = .ok (.aload_n 0, 1) := dk_42 (dk_at dksX9_lawing_4 11 rfl rfl)
theorem dX9_lawing_106 : decode cX9_lawing 106 = .ok (.getfield 36, 3) := dk_180 0 36 (dk_at dksX9_lawing_4 12 rfl rfl)
theorem dX9_lawing_109 : decode cX9_lawing 109 = .ok (.ifCond .ne 7, 3) := dk_154 0 7 (dk_at dksX9_lawing_4 15 rfl rfl)
theorem dX9_lawing_112 : decode cX9_lawing 112 = .ok (.aload_n 0, 1) := dk_42 (dk_at dksX9_lawing_4 18 rfl rfl)
theorem dX9_lawing_113 : decode cX9_lawing 113 = .ok (.invokevirtual 364, 3) := dk_182 1 108 (dk_at dksX9_lawing_4 19 rfl rfl)
theorem dX9_lawing_116 : decode cX9_lawing 116 = .ok (.aload_n 0, 1) := dk_42 (dk_at dksX9_lawing_4 22 rfl rfl)
theorem dX9_lawing_117 : decode cX9_lawing 117 = .ok (.getfield 36, 3) := dk_180 0 36 (dk_at dksX9_lawing_5 0 rfl rfl)
theorem dX9_lawing_120 : decode cX9_lawing 120 = .ok (.ifCond .le 4, 3) := dk_158 0 4 (dk_at dksX9_lawing_5 3 rfl rfl)
theorem dX9_lawing_123 : decode cX9_lawing 123 = .ok (.return_, 1) := dk_177 (dk_at dksX9_lawing_5 6 rfl rfl)
theorem dX9_lawing_124 : decode cX9_lawing 124 = .ok (.aload_n 0, 1) := dk_42 (dk_at dksX9_lawing_5 7 rfl rfl)
theorem dX9_lawing_125 : decode cX9_lawing 125 = .ok (.getfield 109, 3) := dk_180 0 109 (dk_at dksX9_lawing_5 8 rfl rfl)
theorem dX9_lawing_128 : decode cX9_lawing 128 = .ok (.iload_n 1, 1) := dk_27 (dk_at dksX9_lawing_5 11 rfl rfl)
theorem dX9_lawing_129 : decode cX9_lawing 129 = .ok (.aload_n 0, 1) := dk_42 (dk_at dksX9_lawing_5 12 rfl rfl)
theorem dX9_lawing_130 : decode cX9_lawing 130 = .ok (.getfield 133, 3) := dk_180 0 133 (dk_at dksX9_lawing_5 13 rfl rfl)
theorem dX9_lawing_133 : decode cX9_lawing 133 = .ok (.iastore, 1) := dk_79 (dk_at dksX9_lawing_5 16 rfl rfl)
theorem dX9_lawing_134 : decode cX9_lawing 134 = .ok (.aload_n 0, 1) := dk_42 (dk_at dksX9_lawing_5 17 rfl rfl)
theorem dX9_lawing_135 : decode cX9_lawing 135 = .ok (.getfield 112, 3) := dk_180 0 112 (dk_at dksX9_lawing_5 18 rfl rfl)
theorem dX9_lawing_138 : decode cX9_lawing 138 = .ok (.iload_n 1, 1) := dk_27 (dk_at dksX9_lawing_5 21 rfl rfl)
theorem dX9_lawing_139 : decode cX9_lawing 139 = .ok (.aload_n 0, 1) := dk_42 (dk_at dksX9_lawing_5 22 rfl rfl)
theorem dX9_lawing_140 : decode cX9_lawing 140 = .ok (.getfield 136, 3) := dk_180 0 136 (dk_at dksX9_lawing_6 0 rfl rfl)
theorem dX9_lawing_143 : decode cX9_lawing 143 = .ok (.iastore, 1) := dk_79 (dk_at dksX9_lawing_6 3 rfl rfl)
theorem dX9_lawing_144 : decode cX9_lawing 144 = .ok (.iconst 0, 1) := dk_3 (dk_at dksX9_lawing_6 4 rfl rfl)
theorem dX9_lawing_145 : decode cX9_lawing 145 = .ok (.istore_n 2, 1) := dk_61 (dk_at dksX9_lawing_6 5 rfl rfl)
theorem dX9_lawing_146 : decode cX9_lawing 146 = .ok (.iload_n 2, 1) := dk_28 (dk_at dksX9_lawing_6 6 rfl rfl)
theorem dX9_lawing_147 : decode cX9_lawing 147 = .ok (.aload_n 0, 1) := dk_42 (dk_at dksX9_lawing_6 7 rfl rfl)
theorem dX9_lawing_148 : decode cX9_lawing 148 = .ok (.getfield 133, 3) := dk_180 0 133 (dk_at dksX9_lawing_6 8 rfl rfl)
theorem dX9_lawing_151 : decode cX9_lawing 151 = .ok (.aload_n 0, 1) := dk_42 (dk_at dksX9_lawing_6 11 rfl rfl)
theorem dX9_lawing_152 : decode cX9_lawing 152 = .ok (.getfield 136, 3) := dk_180 0 136 (dk_at dksX9_lawing_6 12 rfl rfl)
theorem dX9_lawing_155 : decode cX9_lawing 155 = .ok (.iadd, 1) := dk_96 (dk_at dksX9_lawing_6 15 rfl rfl)
theorem dX9_lawing_156 : decode cX9_lawing 156 = .ok (.if_icmp .ge 26, 3) := dk_162 0 26 (dk_at dksX9_lawing_6 16 rfl rfl)
theorem dX9_lawing_159 : decode cX9_lawing 159 = .ok (.aload_n 0, 1) := dk_42 (dk_at dksX9_lawing_6 19 rfl rfl)
theorem dX9_lawing_160 : decode cX9_lawing 160 = .ok (.getfield 115, 3) := dk_180 0 115 (dk_at dksX9_lawing_6 20 rfl rfl)
theorem dX9_lawing_163 : decode cX9_lawing 163 = .ok (.bipush 12, 2) := dk_16 12 (dk_at dksX9_lawing_7 0 rfl rfl)
theorem dX9_lawing_165 : decode cX9_lawing 165 = .ok (.iload_n 1, 1) := dk_27 (dk_at dksX9_lawing_7 2 rfl rfl)
theorem dX9_lawing_166 : decode cX9_lawing 166 = .ok (.imul, 1) := dk_104 (dk_at dksX9_lawing_7 3 rfl rfl)
theorem dX9_lawing_167 : decode cX9_lawing 167 = .ok (.iload_n 2, 1) := dk_28 (dk_at dksX9_lawing_7 4 rfl rfl)
theorem dX9_lawing_168 : decode cX9_lawing 168 = .ok (.iadd, 1) := dk_96 (dk_at dksX9_lawing_7 5 rfl rfl)
theorem dX9_lawing_169 : decode cX9_lawing 169 = .ok (.aload_n 0, 1) := dk_42 (dk_at dksX9_lawing_7 6 rfl rfl)
theorem dX9_lawing_170 : decode cX9_lawing 170 = .ok (.getfield 130, 3) := dk_180 0 130 (dk_at dksX9_lawing_7 7 rfl rfl)
theorem dX9_lawing_173 : decode cX9_lawing 173 = .ok (.iload_n 2, 1) := dk_28 (dk_at dksX9_lawing_7 10 rfl rfl)
theorem dX9_lawing_174 : decode cX9_lawing 174 = .ok (.iaload, 1) := dk_46 (dk_at dksX9_lawing_7 11 rfl rfl)
theorem dX9_lawing_175 : decode cX9_lawing 175 = .ok (.iastore, 1) := dk_79 (dk_at dksX9_lawing_7 12 rfl rfl)
theorem dX9_lawing_176 : decode cX9_lawing 176 = .ok (.iinc 2 1, 3) := dk_132 2 1 (dk_at dksX9_lawing_7 13 rfl rfl)
theorem dX9_lawing_179 : decode cX9_lawing 179 = .ok (.goto (-33), 3) := dk_167 255 223 (dk_at dksX9_lawing_7 16 rfl rfl)
theorem dX9_lawing_182 : decode cX9_lawing 182 = .ok (.aload_n 0, 1) := dk_42 (dk_at dksX9_lawing_7 19 rfl rfl)
theorem dX9_lawing_183 : decode cX9_lawing 183 = .ok (.getfield 100, 3) := dk_180 0 100 (dk_at dksX9_lawing_7 20 rfl rfl)
theorem dX9_lawing_186 : decode cX9_lawing 186 = .ok (.aload_n 0, 1) := dk_42 (dk_at dksX9_lawing_7 23 rfl rfl)
theorem dX9_lawing_187 : decode cX9_lawing 187 = .ok (.getfield 127, 3) := dk_180 0 127 (dk_at dksX9_lawing_8 0 rfl rfl)
theorem dX9_lawing_190 : decode cX9_lawing 190 = .ok (.dup2, 1) := dk_92 (dk_at dksX9_lawing_8 3 rfl rfl)
theorem dX9_lawing_191 : decode cX9_lawing 191 = .ok (.iaload, 1) := dk_46 (dk_at dksX9_lawing_8 4 rfl rfl)
theorem dX9_lawing_192 : decode cX9_lawing 192 = .ok (.iconst 1, 1) := dk_4 (dk_at dksX9_lawing_8 5 rfl rfl)
theorem dX9_lawing_193 : decode cX9_lawing 193 = .ok (.iadd, 1) := dk_96 (dk_at dksX9_lawing_8 6 rfl rfl)
theorem dX9_lawing_194 : decode cX9_lawing 194 = .ok (.iastore, 1) := dk_79 (dk_at dksX9_lawing_8 7 rfl rfl)
theorem dX9_lawing_195 : decode cX9_lawing 195 = .ok (.return_, 1) := dk_177 (dk_at dksX9_lawing_8 8 rfl rfl)
def dkwX9_rowing_7 : List UInt8 := [154, 0, 15, 42, 180, 0, 20, 4, 160, 0, 7, 4, 167, 0, 4, 3, 60, 167, 255, 193, 177]
abbrev dktX9_rowing_7 : List UInt8 := dkwX9_rowing_7 ++ []
def dkwX9_rowing_6 : List UInt8 := [180, 0, 136, 42, 180, 0, 36, 154, 0, 7, 4, 167, 0, 4, 3, 96, 181, 0, 136, 42, 180, 0, 36]
abbrev dktX9_rowing_6 : List UInt8 := dkwX9_rowing_6 ++ dktX9_rowing_7
def dkwX9_rowing_5 : List UInt8 := [60, 27, 153, 0, 65, 42, 42, 180, 0, 136, 7, 160, 0, 7, 4, 167, 0, 4, 3, 182, 1, 104, 42, 89]
abbrev dktX9_rowing_5 : List UInt8 := dkwX9_rowing_5 ++ dktX9_rowing_6
def dkwX9_rowing_4 : List UInt8 := [167, 255, 174, 42, 180, 0, 36, 157, 0, 11, 42, 180, 0, 20, 4, 159, 0, 4, 177, 42, 182, 1, 23, 4]
abbrev dktX9_rowing_4 : List UInt8 := dkwX9_rowing_4 ++ dktX9_rowing_5
def dkwX9_rowing_3 : List UInt8 := [180, 0, 48, 2, 160, 0, 13, 42, 20, 1, 52, 182, 1, 72, 154, 0, 7, 4, 167, 0, 4, 3, 60]
abbrev dktX9_rowing_3 : List UInt8 := dkwX9_rowing_3 ++ dktX9_rowing_4
def dkwX9_rowing_2 : List UInt8 := [167, 0, 4, 3, 96, 181, 0, 133, 42, 180, 0, 36, 154, 0, 33, 42, 180, 0, 20, 4, 160, 0, 25, 42]
abbrev dktX9_rowing_2 : List UInt8 := dkwX9_rowing_2 ++ dktX9_rowing_3
def dkwX9_rowing_1 : List UInt8 := [160, 0, 7, 4, 167, 0, 4, 3, 182, 1, 104, 42, 89, 180, 0, 133, 42, 180, 0, 36, 154, 0, 7, 4]
abbrev dktX9_rowing_1 : List UInt8 := dkwX9_rowing_1 ++ dktX9_rowing_2
def dkwX9_rowing_0 : List UInt8 := [42, 3, 181, 0, 133, 42, 3, 181, 0, 136, 4, 60, 27, 153, 0, 84, 42, 42, 180, 0, 133, 16, 8]
abbrev dktX9_rowing_0 : List UInt8 := dkwX9_rowing_0 ++ dktX9_rowing_1
theorem dksX9_rowing_0 : cX9_rowing.data.toList.drop 0 = dktX9_rowing_0 := by decide +kernel
theorem dksX9_rowing_1 : cX9_rowing.data.toList.drop 23 = dktX9_rowing_1 := dk_seg dksX9_rowing_0 23 rfl rfl
theorem dksX9_rowing_2 : cX9_rowing.data.toList.drop 47 = dktX9_rowing_2 := dk_seg dksX9_rowing_1 24 rfl rfl
theorem dksX9_rowing_3 : cX9_rowing.data.toList.drop 71 = dktX9_rowing_3 := dk_seg dksX9_rowing_2 24 rfl rfl
theorem dksX9_rowing_4 : cX9_rowing.data.toList.drop 94 = dktX9_rowing_4 := dk_seg dksX9_rowing_3 23 rfl rfl
theorem dksX9_rowing_5 : cX9_rowing.data.toList.drop 118 = dktX9_rowing_5 := dk_seg dksX9_rowing_4 24 rfl rfl
theorem dksX9_rowing_6 : cX9_rowing.data.toList.drop 142 = dktX9_rowing_6 := dk_seg dksX9_rowing_5 24 rfl rfl
theorem dksX9_rowing_7 : cX9_rowing.data.toList.drop 165 = dktX9_rowing_7 := dk_seg dksX9_rowing_6 23 rfl rfl
theorem dX9_rowing_0 : decode cX9_rowing 0 = .ok (.aload_n 0, 1) := dk_42 (dk_at dksX9_rowing_0 0 rfl rfl)
theorem dX9_rowing_1 : decode cX9_rowing 1 = .ok (.iconst 0, 1) := dk_3 (dk_at dksX9_rowing_0 1 rfl rfl)
theorem dX9_rowing_2 : decode cX9_rowing 2 = .ok (.putfield 133, 3) := dk_181 0 133 (dk_at dksX9_rowing_0 2 rfl rfl)
theorem dX9_rowing_5 : decode cX9_rowing 5 = .ok (.aload_n 0, 1) := dk_42 (dk_at dksX9_rowing_0 5 rfl rfl)
theorem dX9_rowing_6 : decode cX9_rowing 6 = .ok (.iconst 0, 1) := dk_3 (dk_at dksX9_rowing_0 6 rfl rfl)
theorem dX9_rowing_7 : decode cX9_rowing 7 = .ok (.putfield 136, 3) := dk_181 0 136 (dk_at dksX9_rowing_0 7 rfl rfl)
theorem dX9_rowing_10 : decode cX9_rowing 10 = .ok (.iconst 1, 1) := dk_4 (dk_at dksX9_rowing_0 10 rfl rfl)
theorem dX9_rowing_11 : decode cX9_rowing 11 = .ok (.istore_n 1, 1) := dk_60 (dk_at dksX9_rowing_0 11 rfl rfl)
theorem dX9_rowing_12 : decode cX9_rowing 12 = .ok (.iload_n 1, 1) := dk_27 (dk_at dksX9_rowing_0 12 rfl rfl)
theorem dX9_rowing_13 : decode cX9_rowing 13 = .ok (.ifCond .eq 84, 3) := dk_153 0 84 (dk_at dksX9_rowing_0 13 rfl rfl)
theorem dX9_rowing_16 : decode cX9_rowing 16 = .ok (.aload_n 0, 1) := dk_42 (dk_at dksX9_rowing_0 16 rfl rfl)
theorem dX9_rowing_17 : decode cX9_rowing 17 = .ok (.aload_n 0, 1) := dk_42 (dk_at dksX9_rowing_0 17 rfl rfl)
theorem dX9_rowing_18 : decode cX9_rowing 18 = .ok (.getfield 133, 3) := dk_180 0 133 (dk_at dksX9_rowing_0 18 rfl rfl)
theorem dX9_rowing_21 : decode cX9_rowing 21 = .ok (.bipush 8, 2) := dk_16 8 (dk_at dksX9_rowing_0 21 rfl rfl)
theorem dX9_rowing_23 : decode cX9_rowing 23 = .ok (.if_icmp .ne 7, 3) := dk_160 0 7 (dk_at dksX9_rowing_1 0 rfl rfl)
theorem dX9_rowing_26 : decode cX9_rowing 26 = .ok (.iconst 1, 1) := dk_4 (dk_at dksX9_rowing_1 3 rfl rfl)
theorem dX9_rowing_27 : decode cX9_rowing 27 = .ok (.goto 4, 3) := dk_167 0 4 (dk_at dksX9_rowing_1 4 rfl rfl)
theorem dX9_rowing_30 : decode cX9_rowing 30 = .ok (.iconst 0, 1) := dk_3 (dk_at dksX9_rowing_1 7 rfl rfl)
theorem dX9_rowing_31 : decode cX9_rowing 31 = .ok (.invokevirtual 360, 3) := dk_182 1 104 (dk_at dksX9_rowing_1 8 rfl rfl)
theorem dX9_rowing_34 : decode cX9_rowing 34 = .ok (.aload_n 0, 1) := dk_42 (dk_at dksX9_rowing_1 11 rfl rfl)
theorem dX9_rowing_35 : decode cX9_rowing 35 = .ok (.dup, 1) := dk_89 (dk_at dksX9_rowing_1 12 rfl rfl)
theorem dX9_rowing_36 : decode cX9_rowing 36 = .ok (.getfield 133, 3) := dk_180 0 133 (dk_at dksX9_rowing_1 13 rfl rfl)
theorem dX9_rowing_39 : decode cX9_rowing 39 = .ok (.aload_n 0, 1) := dk_42 (dk_at dksX9_rowing_1 16 rfl rfl)
theorem dX9_rowing_40 : decode cX9_rowing 40 = .ok (.getfield 36, 3) := dk_180 0 36 (dk_at dksX9_rowing_1 17 rfl rfl)
theorem dX9_rowing_43 : decode cX9_rowing 43 = .ok (.ifCond .ne 7, 3) := dk_154 0 7 (dk_at dksX9_rowing_1 20 rfl rfl)
theorem dX9_rowing_46 : decode cX9_rowing 46 = .ok (.iconst 1, 1) := dk_4 (dk_at dksX9_rowing_1 23 rfl rfl)
theorem dX9_rowing_47 : decode cX9_rowing 47 = .ok (.goto 4, 3) := dk_167 0 4 (dk_at dksX9_rowing_2 0 rfl rfl)
theorem dX9_rowing_50 : decode cX9_rowing 50 = .ok (.iconst 0, 1) := dk_3 (dk_at dksX9_rowing_2 3 rfl rfl)
theorem dX9_rowing_51 : decode cX9_rowing 51 = .ok (.iadd, 1) := dk_96 (dk_at dksX9_rowing_2 4 rfl rfl)
theorem dX9_rowing_52 : decode cX9_rowing 52 = .ok (.putfield 133, 3) := dk_181 0 133 (dk_at dksX9_rowing_2 5 rfl rfl)
theorem dX9_rowing_55 : decode cX9_rowing 55 = .ok (.aload_n 0, 1) := dk_42 (dk_at dksX9_rowing_2 8 rfl rfl)
theorem dX9_rowing_56 : decode cX9_rowing 56 = .ok (.getfield 36, 3) := dk_180 0 36 (dk_at dksX9_rowing_2 9 rfl rfl)
theorem dX9_rowing_59 : decode cX9_rowing 59 = .ok (.ifCond .ne 33, 3) := dk_154 0 33 (dk_at dksX9_rowing_2 12 rfl rfl)
theorem dX9_rowing_62 : decode cX9_rowing 62 = .ok (.aload_n 0, 1) := dk_42 (dk_at dksX9_rowing_2 15 rfl rfl)
theorem dX9_rowing_63 : decode cX9_rowing 63 = .ok (.getfield 20, 3) := dk_180 0 20 (dk_at dksX9_rowing_2 16 rfl rfl)
theorem dX9_rowing_66 : decode cX9_rowing 66 = .ok (.iconst 1, 1) := dk_4 (dk_at dksX9_rowing_2 19 rfl rfl)
theorem dX9_rowing_67 : decode cX9_rowing 67 = .ok (.if_icmp .ne 25, 3) := dk_160 0 25 (dk_at dksX9_rowing_2 20 rfl rfl)
theorem dX9_rowing_70 : decode cX9_rowing 70 = .ok (.aload_n 0, 1) := dk_42 (dk_at dksX9_rowing_2 23 rfl rfl)
theorem dX9_rowing_71 : decode cX9_rowing 71 = .ok (.getfield 48, 3) := dk_180 0 48 (dk_at dksX9_rowing_3 0 rfl rfl)
theorem dX9_rowing_74 : decode cX9_rowing 74 = .ok (.iconst (-1), 1) := dk_2 (dk_at dksX9_rowing_3 3 rfl rfl)
theorem dX9_rowing_75 : decode cX9_rowing 75 = .ok (.if_icmp .ne 13, 3) := dk_160 0 13 (dk_at dksX9_rowing_3 4 rfl rfl)
theorem dX9_rowing_78 : decode cX9_rowing 78 = .ok (.aload_n 0, 1) := dk_42 (dk_at dksX9_rowing_3 7 rfl rfl)
theorem dX9_rowing_79 : decode cX9_rowing 79 = .ok (.ldc2_w 308, 3) := dk_20 1 52 (dk_at dksX9_rowing_3 8 rfl rfl)
theorem dX9_rowing_82 : decode cX9_rowing 82 = .ok (.invokevirtual 328, 3) := dk_182 1 72 (dk_at dksX9_rowing_3 11 rfl rfl)
theorem dX9_rowing_85 : decode cX9_rowing 85 = .ok (.ifCond .ne 7, 3) := dk_154 0 7 (dk_at dksX9_rowing_3 14 rfl rfl)
theorem dX9_rowing_88 : decode cX9_rowing 88 = .ok (.iconst 1, 1) := dk_4 (dk_at dksX9_rowing_3 17 rfl rfl)
theorem dX9_rowing_89 : decode cX9_rowing 89 = .ok (.goto 4, 3) := dk_167 0 4 (dk_at dksX9_rowing_3 18 rfl rfl)
theorem dX9_rowing_92 : decode cX9_rowing 92 = .ok (.iconst 0, 1) := dk_3 (dk_at dksX9_rowing_3 21 rfl rfl)
theorem dX9_rowing_93 : decode cX9_rowing 93 = .ok (.istore_n 1, 1) := dk_60 (dk_at dksX9_rowing_3 22 rfl rfl)
theorem dX9_rowing_94 : decode cX9_rowing 94 = .ok (.goto (-82), 3) := dk_167 255 174 (dk_at dksX9_rowing_4 0 rfl rfl)
theorem dX9_rowing_97 : decode cX9_rowing 97 = .ok (.aload_n 0, 1) := dk_42 (dk_at dksX9_rowing_4 3 rfl rfl)
theorem dX9_rowing_98 : decode cX9_rowing 98 = .ok (.getfield 36, 3) := dk_180 0 36 (dk_at dksX9_rowing_4 4 rfl rfl)
theorem dX9_rowing_101 : decode cX9_rowing 101 = .ok (.ifCond .gt 11, 3) := dk_157 0 11 (dk_at dksX9_rowing_4 7 rfl rfl)
theorem dX9_rowing_104 : decode cX9_rowing 104 = .ok (.aload_n 0, 1) := dk_42 (dk_at dksX9_rowing_4 10 rfl rfl)
theorem dX9_rowing_105 : decode cX9_rowing 105 = .ok (.getfield 20, 3) := dk_180 0 20 (dk_at dksX9_rowing_4 11 rfl rfl)
theorem dX9_rowing_108 : decode cX9_rowing 108 = .ok (.iconst 1, 1) := dk_4 (dk_at dksX9_rowing_4 14 rfl rfl)
theorem dX9_rowing_109 : decode cX9_rowing 109 = .ok (.if_icmp .eq 4, 3) := dk_159 0 4 (dk_at dksX9_rowing_4 15 rfl rfl)
theorem dX9_rowing_112 : decode cX9_rowing 112 = .ok (.return_, 1) := dk_177 (dk_at dksX9_rowing_4 18 rfl rfl)
theorem dX9_rowing_113 : decode cX9_rowing 113 = .ok (.aload_n 0, 1) := dk_42 (dk_at dksX9_rowing_4 19 rfl rfl)
theorem dX9_rowing_114 : decode cX9_rowing 114 = .ok (.invokevirtual 279, 3) := dk_182 1 23 (dk_at dksX9_rowing_4 20 rfl rfl)
theorem dX9_rowing_117 : decode cX9_rowing 117 = .ok (.iconst 1, 1) := dk_4 (dk_at dksX9_rowing_4 23 rfl rfl)
theorem dX9_rowing_118 : decode cX9_rowing 118 = .ok (.istore_n 1, 1) := dk_60 (dk_at dksX9_rowing_5 0 rfl rfl)
theorem dX9_rowing_119 : decode cX9_rowing 119 = .ok (.iload_n 1, 1) := dk_27 (dk_at dksX9_rowing_5 1 rfl rfl)
theorem dX9_rowing_120 : decode cX9_rowing 120 = .ok (.ifCond .eq 65, 3) := dk_153 0 65 (dk_at dksX9_rowing_5 2 rfl rfl)
theorem dX9_rowing_123 : decode cX9_rowing 123 = .ok (.aload_n 0, 1) := dk_42 (dk_at dksX9_rowing_5 5 rfl rfl)
theorem dX9_rowing_124 : decode cX9_rowing 124 = .ok (.aload_n 0, 1) := dk_42 (dk_at dksX9_rowing_5 6 rfl rfl)
theorem dX9_rowing_125 : decode cX9_rowing 125 = .ok (.getfield 136, 3) := dk_180 0 136 (dk_at dksX9_rowing_5 7 rfl rfl)
theorem dX9_rowing_128 : decode cX9_rowing 128 = .ok (.iconst 4, 1) := dk_7 (dk_at dksX9_rowing_5 10 rfl rfl)
theorem dX9_rowing_129 : decode cX9_rowing 129 = .ok (.if_icmp .ne 7, 3) := dk_160 0 7 (dk_at dksX9_rowing_5 11 rfl rfl)
theorem dX9_rowing_132 : decode cX9_rowing 132 = .ok (.iconst 1, 1) := dk_4 (dk_at dksX9_rowing_5 14 rfl rfl)
theorem dX9_rowing_133 : decode cX9_rowing 133 = .ok (.goto 4, 3) := dk_167 0 4 (dk_at dksX9_rowing_5 15 rfl rfl)
theorem dX9_rowing_136 : decode cX9_rowing 136 = .ok (.iconst 0, 1) := dk_3 (dk_at dksX9_rowing_5 18 rfl rfl)
theorem dX9_rowing_137 : decode cX9_rowing 137 = .ok (.invokevirtual 360, 3) := dk_182 1 104 (dk_at dksX9_rowing_5 19 rfl rfl)
theorem dX9_rowing_140 : decode cX9_rowing 140 = .ok (.aload_n 0, 1) := dk_42 (dk_at dksX9_rowing_5 22 rfl rfl)
theorem dX9_rowing_141 : decode cX9_rowing 141 = .ok (.dup, 1) := dk_89 (dk_at dksX9_rowing_5 23 rfl rfl)
theorem dX9_rowing_142 : decode cX9_rowing 142 = .ok (.getfield 136, 3) := dk_180 0 136 (dk_at dksX9_rowing_6 0 rfl rfl)
theorem dX9_rowing_145 : decode cX9_rowing 145 = .ok (.aload_n 0, 1) := dk_42 (dk_at dksX9_rowing_6 3 rfl rfl)
theorem dX9_rowing_146 : decode cX9_rowing 146 = .ok (.getfield 36, 3) := dk_180 0 36 (dk_at dksX9_rowing_6 4 rfl rfl)
theorem dX9_rowing_149 : decode cX9_rowing 149 = .ok (.ifCond .ne 7, 3) := dk_154 0 7 (dk_at dksX9_rowing_6 7 rfl rfl)
theorem dX9_rowing_152 : decode cX9_rowing 152 = .ok (.iconst 1, 1) := dk_4 (dk_at dksX9_rowing_6 10 rfl rfl)
theorem dX9_rowing_153 : decode cX9_rowing 153 = .ok (.goto 4, 3) := dk_167 0 4 (dk_at dksX9_rowing_6 11 rfl rfl)
theorem dX9_rowing_156 : decode cX9_rowing 156 = .ok (.iconst 0, 1) := dk_3 (dk_at dksX9_rowing_6 14 rfl rfl)
theorem dX9_rowing_157 : decode cX9_rowing 157 = .ok (.iadd, 1) := dk_96 (dk_at dksX9_rowing_6 15 rfl rfl)
theorem dX9_rowing_158 : decode cX9_rowing 158 = .ok (.putfield 136, 3) := dk_181 0 136 (dk_at dksX9_rowing_6 16 rfl rfl)
theorem dX9_rowing_161 : decode cX9_rowing 161 = .ok (.aload_n 0, 1) := dk_42 (dk_at dksX9_rowing_6 19 rfl rfl)
theorem dX9_rowing_162 : decode cX9_rowing 162 = .ok (.getfield 36, 3) := dk_180 0 36 (dk_at dksX9_rowing_6 20 rfl rfl)
theorem dX9_rowing_165 : decode cX9_rowing 165 = .ok (.ifCond .ne 15, 3) := dk_154 0 15 (dk_at dksX9_rowing_7 0 rfl rfl)
theorem dX9_rowing_168 : decode cX9_rowing 168 = .ok (.aload_n 0, 1) := dk_42 (dk_at dksX9_rowing_7 3 rfl rfl)
theorem dX9_rowing_169 : decode cX9_rowing 169 = .ok (.getfield 20, 3) := dk_180 0 20 (dk_at dksX9_rowing_7 4 rfl rfl)
theorem dX9_rowing_172 : decode cX9_rowing 172 = .ok (.iconst 1, 1) := dk_4 (dk_at dksX9_rowing_7 7 rfl rfl)
theorem dX9_rowing_173 : decode cX9_rowing 173 = .ok (.if_icmp .ne 7, 3) := dk_160 0 7 (dk_at dksX9_rowing_7 8 rfl rfl)
theorem dX9_rowing_176 : decode cX9_rowing 176 = .ok (.iconst 1, 1) := dk_4 (dk_at dksX9_rowing_7 11 rfl rfl)
theorem dX9_rowing_177 : decode cX9_rowing 177 = .ok (.goto 4, 3) := dk_167 0 4 (dk_at dksX9_rowing_7 12 rfl rfl)
theorem dX9_rowing_180 : decode cX9_rowing 180 = .ok (.iconst 0, 1) := dk_3 (dk_at dksX9_rowing_7 15 rfl rfl)
theorem dX9_rowing_181 : decode cX9_rowing 181 = .ok (.istore_n 1, 1) := dk_60 (dk_at dksX9_rowing_7 16 rfl rfl)
theorem dX9_rowing_182 : decode cX9_rowing 182 = .ok (.goto (-63), 3) := dk_167 255 193 (dk_at dksX9_rowing_7 17 rfl rfl)
theorem dX9_rowing_185 : decode cX9_rowing 185 = .ok (.return_, 1) := dk_177 (dk_at dksX9_rowing_7 20 rfl rfl)
def dkwX9_onePut_3 : List UInt8 := [96, 28, 79, 177]
abbrev dktX9_onePut_3 : List UInt8 := dkwX9_onePut_3 ++ []
def dkwX9_onePut_2 : List UInt8 := [3, 182, 1, 101, 61, 42, 180, 0, 36, 154, 0, 18, 42, 180, 0, 130, 42, 180, 0, 133, 42, 180, 0, 136]
abbrev dktX9_onePut_2 : List UInt8 := dkwX9_onePut_2 ++ dktX9_onePut_3
def dkwX9_onePut_1 : List UInt8 := [160, 0, 14, 42, 42, 180, 0, 32, 182, 1, 76, 154, 0, 12, 42, 8, 42, 180, 0, 23, 182, 1, 6, 42]
abbrev dktX9_onePut_1 : List UInt8 := dkwX9_onePut_1 ++ dktX9_onePut_2
def dkwX9_onePut_0 : List UInt8 := [42, 180, 0, 36, 154, 0, 43, 27, 153, 0, 39, 42, 180, 0, 20, 4, 160, 0, 31, 42, 180, 0, 48, 2]
abbrev dktX9_onePut_0 : List UInt8 := dkwX9_onePut_0 ++ dktX9_onePut_1
theorem dksX9_onePut_0 : cX9_onePut.data.toList.drop 0 = dktX9_onePut_0 := by decide +kernel
theorem dksX9_onePut_1 : cX9_onePut.data.toList.drop 24 = dktX9_onePut_1 := dk_seg dksX9_onePut_0 24 rfl rfl
theorem dksX9_onePut_2 : cX9_onePut.data.toList.drop 48 = dktX9_onePut_2 := dk_seg dksX9_onePut_1 24 rfl rfl
theorem dksX9_onePut_3 : cX9_onePut.data.toList.drop 72 = dktX9_onePut_3 := dk_seg dksX9_onePut_2 24 rfl rfl
theorem dX9_onePut_0 : decode cX9_onePut 0 = .ok (.aload_n 0, 1) := dk_42 (dk_at dksX9_onePut_0 0 rfl rfl)
theorem dX9_onePut_1 : decode cX9_onePut 1 = .ok (.getfield 36, 3) := dk_180 0 36 (dk_at dksX9_onePut_0 1 rfl rfl)
theorem dX9_onePut_4 : decode cX9_onePut 4 = .ok (.ifCond .ne 43, 3) := dk_154 0 43 (dk_at dksX9_onePut_0 4 rfl rfl)
theorem dX9_onePut_7 : decode cX9_onePut 7 = .ok (.iload_n 1, 1) := dk_27 (dk_at dksX9_onePut_0 7 rfl rfl)
theorem dX9_onePut_8 : decode cX9_onePut 8 = .ok (.ifCond .eq 39, 3) := dk_153 0 39 (dk_at dksX9_onePut_0 8 rfl rfl)
theorem dX9_onePut_11 : decode cX9_onePut 11 = .ok (.aload_n 0, 1) := dk_42 (dk_at dksX9_onePut_0 11 rfl rfl)
theorem dX9_onePut_12 : decode cX9_onePut 12 = .ok (.getfield 20, 3) := dk_180 0 20 (dk_at dksX9_onePut_0 12 rfl rfl)
theorem dX9_onePut_15 : decode cX9_onePut 15 = .ok (.iconst 1, 1) := dk_4 (dk_at dksX9_onePut_0 15 rfl rfl)
theorem dX9_onePut_16 : decode cX9_onePut 16 = .ok (.if_icmp .ne 31, 3) := dk_160 0 31 (dk_at dksX9_onePut_0 16 rfl rfl)
theorem dX9_onePut_19 : decode cX9_onePut 19 = .ok (.aload_n 0, 1) := dk_42 (dk_at dksX9_onePut_0 19 rfl rfl)
theorem dX9_onePut_20 : decode cX9_onePut 20 = .ok (.getfield 48, 3) := dk_180 0 48 (dk_at dksX9_onePut_0 20 rfl rfl)
theorem dX9_onePut_23 : decode cX9_onePut 23 = .ok (.iconst (-1), 1) := dk_2 (dk_at dksX9_onePut_0 23 rfl rfl)
theorem dX9_onePut_24 : decode cX9_onePut 24 = .ok (.if_icmp .ne 14, 3) := dk_160 0 14 (dk_at dksX9_onePut_1 0 rfl rfl)
theorem dX9_onePut_27 : decode cX9_onePut 27 = .ok (.aload_n 0, 1) := dk_42 (dk_at dksX9_onePut_1 3 rfl rfl)
theorem dX9_onePut_28 : decode cX9_onePut 28 = .ok (.aload_n 0, 1) := dk_42 (dk_at dksX9_onePut_1 4 rfl rfl)
theorem dX9_onePut_29 : decode cX9_onePut 29 = .ok (.getfield 32, 3) := dk_180 0 32 (dk_at dksX9_onePut_1 5 rfl rfl)
theorem dX9_onePut_32 : decode cX9_onePut 32 = .ok (.invokevirtual 332, 3) := dk_182 1 76 (dk_at dksX9_onePut_1 8 rfl rfl)
theorem dX9_onePut_35 : decode cX9_onePut 35 = .ok (.ifCond .ne 12, 3) := dk_154 0 12 (dk_at dksX9_onePut_1 11 rfl rfl)
theorem dX9_onePut_38 : decode cX9_onePut 38 = .ok (.aload_n 0, 1) := dk_42 (dk_at dksX9_onePut_1 14 rfl rfl)
theorem dX9_onePut_39 : decode cX9_onePut 39 = .ok (.iconst 5, 1) := dk_8 (dk_at dksX9_onePut_1 15 rfl rfl)
theorem dX9_onePut_40 : decode cX9_onePut 40 = .ok (.aload_n 0, 1) := dk_42 (dk_at dksX9_onePut_1 16 rfl rfl)
theorem dX9_onePut_41 : decode cX9_onePut 41 = .ok (.getfield 23, 3) := dk_180 0 23 (dk_at dksX9_onePut_1 17 rfl rfl)
theorem dX9_onePut_44 : decode cX9_onePut 44 = .ok (.invokevirtual 262, 3) := dk_182 1 6 (dk_at dksX9_onePut_1 20 rfl rfl)
theorem dX9_onePut_47 : decode cX9_onePut 47 = .ok (.aload_n 0, 1) := dk_42 (dk_at dksX9_onePut_1 23 rfl rfl)
theorem dX9_onePut_48 : decode cX9_onePut 48 = .ok (.iconst 0, 1) := dk_3 (dk_at dksX9_onePut_2 0 rfl rfl)
theorem dX9_onePut_49 : decode cX9_onePut 49 = .ok (.invokevirtual 357, 3) := dk_182 1 101 (dk_at dksX9_onePut_2 1 rfl rfl)
theorem dX9_onePut_52 : decode cX9_onePut 52 = .ok (.istore_n 2, 1) := dk_61 (dk_at dksX9_onePut_2 4 rfl rfl)
theorem dX9_onePut_53 : decode cX9_onePut 53 = .ok (.aload_n 0, 1) := dk_42 (dk_at dksX9_onePut_2 5 rfl rfl)
theorem dX9_onePut_54 : decode cX9_onePut 54 = .ok (.getfield 36, 3) := dk_180 0 36 (dk_at dksX9_onePut_2 6 rfl rfl)
theorem dX9_onePut_57 : decode cX9_onePut 57 = .ok (.ifCond .ne 18, 3) := dk_154 0 18 (dk_at dksX9_onePut_2 9 rfl rfl)
theorem dX9_onePut_60 : decode cX9_onePut 60 = .ok (.aload_n 0, 1) := dk_42 (dk_at dksX9_onePut_2 12 rfl rfl)
theorem dX9_onePut_61 : decode cX9_onePut 61 = .ok (.getfield 130, 3) := dk_180 0 130 (dk_at dksX9_onePut_2 13 rfl rfl)
theorem dX9_onePut_64 : decode cX9_onePut 64 = .ok (.aload_n 0, 1) := dk_42 (dk_at dksX9_onePut_2 16 rfl rfl)
theorem dX9_onePut_65 : decode cX9_onePut 65 = .ok (.getfield 133, 3) := dk_180 0 133 (dk_at dksX9_onePut_2 17 rfl rfl)
theorem dX9_onePut_68 : decode cX9_onePut 68 = .ok (.aload_n 0, 1) := dk_42 (dk_at dksX9_onePut_2 20 rfl rfl)
theorem dX9_onePut_69 : decode cX9_onePut 69 = .ok (.getfield 136, 3) := dk_180 0 136 (dk_at dksX9_onePut_2 21 rfl rfl)
theorem dX9_onePut_72 : decode cX9_onePut 72 = .ok (.iadd, 1) := dk_96 (dk_at dksX9_onePut_3 0 rfl rfl)
theorem dX9_onePut_73 : decode cX9_onePut 73 = .ok (.iload_n 2, 1) := dk_28 (dk_at dksX9_onePut_3 1 rfl rfl)
theorem dX9_onePut_74 : decode cX9_onePut 74 = .ok (.iastore, 1) := dk_79 (dk_at dksX9_onePut_3 2 rfl rfl)
theorem dX9_onePut_75 : decode cX9_onePut 75 = .ok (.return_, 1) := dk_177 (dk_at dksX9_onePut_3 3 rfl rfl)
def dkwX9_sets_5 : List UInt8 := [42, 180, 0, 127, 29, 79, 167, 0, 13, 42, 180, 0, 124, 42, 180, 0, 127, 29, 79, 177]
abbrev dktX9_sets_5 : List UInt8 := dkwX9_sets_5 ++ []
def dkwX9_sets_4 : List UInt8 := [153, 0, 16, 42, 180, 0, 118, 42, 180, 0, 127, 29, 79, 167, 0, 30, 28, 153, 0, 16, 42, 180, 0, 121]
abbrev dktX9_sets_4 : List UInt8 := dkwX9_sets_4 ++ dktX9_sets_5
def dkwX9_sets_3 : List UInt8 := [7, 182, 1, 98, 167, 0, 10, 42, 3, 16, 20, 182, 1, 98, 62, 42, 180, 0, 36, 158, 0, 4, 177, 27]
abbrev dktX9_sets_3 : List UInt8 := dkwX9_sets_3 ++ dktX9_sets_4
def dkwX9_sets_2 : List UInt8 := [154, 0, 4, 177, 27, 153, 0, 13, 42, 4, 16, 12, 182, 1, 98, 167, 0, 23, 28, 153, 0, 12, 42, 4]
abbrev dktX9_sets_2 : List UInt8 := dkwX9_sets_2 ++ dktX9_sets_3
def dkwX9_sets_1 : List UInt8 := [42, 20, 1, 58, 182, 1, 72, 154, 0, 12, 42, 4, 42, 180, 0, 23, 182, 1, 6, 42, 3, 182, 1, 86]
abbrev dktX9_sets_1 : List UInt8 := dkwX9_sets_1 ++ dktX9_sets_2
def dkwX9_sets_0 : List UInt8 := [42, 20, 1, 54, 182, 1, 72, 60, 42, 20, 1, 56, 182, 1, 72, 61, 27, 154, 0, 26, 28, 154, 0, 22]
abbrev dktX9_sets_0 : List UInt8 := dkwX9_sets_0 ++ dktX9_sets_1
theorem dksX9_sets_0 : cX9_sets.data.toList.drop 0 = dktX9_sets_0 := by decide +kernel
theorem dksX9_sets_1 : cX9_sets.data.toList.drop 24 = dktX9_sets_1 := dk_seg dksX9_sets_0 24 rfl rfl
theorem dksX9_sets_2 : cX9_sets.data.toList.drop 48 = dktX9_sets_2 := dk_seg dksX9_sets_1 24 rfl rfl
theorem dksX9_sets_3 : cX9_sets.data.toList.drop 72 = dktX9_sets_3 := dk_seg dksX9_sets_2 24 rfl rfl
theorem dksX9_sets_4 : cX9_sets.data.toList.drop 96 = dktX9_sets_4 := dk_seg dksX9_sets_3 24 rfl rfl
theorem dksX9_sets_5 : cX9_sets.data.toList.drop 120 = dktX9_sets_5 := dk_seg dksX9_sets_4 24 rfl rfl
theorem dX9_sets_0 : decode cX9_sets 0 = .ok (.aload_n 0, 1) := dk_42 (dk_at dksX9_sets_0 0 rfl rfl)
theorem dX9_sets_1 : decode cX9_sets 1 = .ok (.ldc2_w 310, 3) := dk_20 1 54 (dk_at dksX9_sets_0 1 rfl rfl)
theorem dX9_sets_4 : decode cX9_sets 4 = .ok (.invokevirtual 328, 3) := dk_182 1 72 (dk_at dksX9_sets_0 4 rfl rfl)
theorem dX9_sets_7 : decode cX9_sets 7 = .ok (.istore_n 1, 1) := dk_60 (dk_at dksX9_sets_0 7 rfl rfl)
theorem dX9_sets_8 : decode cX9_sets 8 = .ok (.aload_n 0, 1) := dk_42 (dk_at dksX9_sets_0 8 rfl rfl)
theorem dX9_sets_9 : decode cX9_sets 9 = .ok (.ldc2_w 312, 3) := dk_20 1 56 (dk_at dksX9_sets_0 9 rfl rfl)
theorem dX9_sets_12 : decode cX9_sets 12 = .ok (.invokevirtual 328, 3) := dk_182 1 72 (dk_at dksX9_sets_0 12 rfl rfl)
theorem dX9_sets_15 : decode cX9_sets 15 = .ok (.istore_n 2, 1) := dk_61 (dk_at dksX9_sets_0 15 rfl rfl)
theorem dX9_sets_16 : decode cX9_sets 16 = .ok (.iload_n 1, 1) := dk_27 (dk_at dksX9_sets_0 16 rfl rfl)
theorem dX9_sets_17 : decode cX9_sets 17 = .ok (.ifCond .ne 26, 3) := dk_154 0 26 (dk_at dksX9_sets_0 17 rfl rfl)
theorem dX9_sets_20 : decode cX9_sets 20 = .ok (.iload_n 2, 1) := dk_28 (dk_at dksX9_sets_0 20 rfl rfl)
theorem dX9_sets_21 : decode cX9_sets 21 = .ok (.ifCond .ne 22, 3) := dk_154 0 22 (dk_at dksX9_sets_0 21 rfl rfl)
theorem dX9_sets_24 : decode cX9_sets 24 = .ok (.aload_n 0, 1) := dk_42 (dk_at dksX9_sets_1 0 rfl rfl)
theorem dX9_sets_25 : decode cX9_sets 25 = .ok (.ldc2_w 314, 3) := dk_20 1 58 (dk_at dksX9_sets_1 1 rfl rfl)
theorem dX9_sets_28 : decode cX9_sets 28 = .ok (.invokevirtual 328, 3) := dk_182 1 72 (dk_at dksX9_sets_1 4 rfl rfl)
theorem dX9_sets_31 : decode cX9_sets 31 = .ok (.ifCond .ne 12, 3) := dk_154 0 12 (dk_at dksX9_sets_1 7 rfl rfl)
theorem dX9_sets_34 : decode cX9_sets 34 = .ok (.aload_n 0, 1) := dk_42 (dk_at dksX9_sets_1 10 rfl rfl)
theorem dX9_sets_35 : decode cX9_sets 35 = .ok (.iconst 1, 1) := dk_4 (dk_at dksX9_sets_1 11 rfl rfl)
theorem dX9_sets_36 : decode cX9_sets 36 = .ok (.aload_n 0, 1) := dk_42 (dk_at dksX9_sets_1 12 rfl rfl)
theorem dX9_sets_37 : decode cX9_sets 37 = .ok (.getfield 23, 3) := dk_180 0 23 (dk_at dksX9_sets_1 13 rfl rfl)
theorem dX9_sets_40 : decode cX9_sets 40 = .ok (.invokevirtual 262, 3) := dk_182 1 6 (dk_at dksX9_sets_1 16 rfl rfl)
theorem dX9_sets_43 : decode cX9_sets 43 = .ok (.aload_n 0, 1) := dk_42 (dk_at dksX9_sets_1 19 rfl rfl)
theorem dX9_sets_44 : decode cX9_sets 44 = .ok (.iconst 0, 1) := dk_3 (dk_at dksX9_sets_1 20 rfl rfl)
theorem dX9_sets_45 : decode cX9_sets 45 = .ok (.invokevirtual 342, 3) := dk_182 1 86 (dk_at dksX9_sets_1 21 rfl rfl)
theorem dX9_sets_48 : decode cX9_sets 48 = .ok (.ifCond .ne 4, 3) := dk_154 0 4 (dk_at dksX9_sets_2 0 rfl rfl)
theorem dX9_sets_51 : decode cX9_sets 51 = .ok (.return_, 1) := dk_177 (dk_at dksX9_sets_2 3 rfl rfl)
theorem dX9_sets_52 : decode cX9_sets 52 = .ok (.iload_n 1, 1) := dk_27 (dk_at dksX9_sets_2 4 rfl rfl)
theorem dX9_sets_53 : decode cX9_sets 53 = .ok (.ifCond .eq 13, 3) := dk_153 0 13 (dk_at dksX9_sets_2 5 rfl rfl)
theorem dX9_sets_56 : decode cX9_sets 56 = .ok (.aload_n 0, 1) := dk_42 (dk_at dksX9_sets_2 8 rfl rfl)
theorem dX9_sets_57 : decode cX9_sets 57 = .ok (.iconst 1, 1) := dk_4 (dk_at dksX9_sets_2 9 rfl rfl)
theorem dX9_sets_58 : decode cX9_sets 58 = .ok (.bipush 12, 2) := dk_16 12 (dk_at dksX9_sets_2 10 rfl rfl)
theorem dX9_sets_60 : decode cX9_sets 60 = .ok (.invokevirtual 354, 3) := dk_182 1 98 (dk_at dksX9_sets_2 12 rfl rfl)
theorem dX9_sets_63 : decode cX9_sets 63 = .ok (.goto 23, 3) := dk_167 0 23 (dk_at dksX9_sets_2 15 rfl rfl)
theorem dX9_sets_66 : decode cX9_sets 66 = .ok (.iload_n 2, 1) := dk_28 (dk_at dksX9_sets_2 18 rfl rfl)
theorem dX9_sets_67 : decode cX9_sets 67 = .ok (.ifCond .eq 12, 3) := dk_153 0 12 (dk_at dksX9_sets_2 19 rfl rfl)
theorem dX9_sets_70 : decode cX9_sets 70 = .ok (.aload_n 0, 1) := dk_42 (dk_at dksX9_sets_2 22 rfl rfl)
theorem dX9_sets_71 : decode cX9_sets 71 = .ok (.iconst 1, 1) := dk_4 (dk_at dksX9_sets_2 23 rfl rfl)
theorem dX9_sets_72 : decode cX9_sets 72 = .ok (.iconst 4, 1) := dk_7 (dk_at dksX9_sets_3 0 rfl rfl)
theorem dX9_sets_73 : decode cX9_sets 73 = .ok (.invokevirtual 354, 3) := dk_182 1 98 (dk_at dksX9_sets_3 1 rfl rfl)
theorem dX9_sets_76 : decode cX9_sets 76 = .ok (.goto 10, 3) := dk_167 0 10 (dk_at dksX9_sets_3 4 rfl rfl)
theorem dX9_sets_79 : decode cX9_sets 79 = .ok (.aload_n 0, 1) := dk_42 (dk_at dksX9_sets_3 7 rfl rfl)
theorem dX9_sets_80 : decode cX9_sets 80 = .ok (.iconst 0, 1) := dk_3 (dk_at dksX9_sets_3 8 rfl rfl)
theorem dX9_sets_81 : decode cX9_sets 81 = .ok (.bipush 20, 2) := dk_16 20 (dk_at dksX9_sets_3 9 rfl rfl)
theorem dX9_sets_83 : decode cX9_sets 83 = .ok (.invokevirtual 354, 3) := dk_182 1 98 (dk_at dksX9_sets_3 11 rfl rfl)
theorem dX9_sets_86 : decode cX9_sets 86 = .ok (.istore_n 3, 1) := dk_62 (dk_at dksX9_sets_3 14 rfl rfl)
theorem dX9_sets_87 : decode cX9_sets 87 = .ok (.aload_n 0, 1) := dk_42 (dk_at dksX9_sets_3 15 rfl rfl)
theorem dX9_sets_88 : decode cX9_sets 88 = .ok (.getfield 36, 3) := dk_180 0 36 (dk_at dksX9_sets_3 16 rfl rfl)
theorem dX9_sets_91 : decode cX9_sets 91 = .ok (.ifCond .le 4, 3) := dk_158 0 4 (dk_at dksX9_sets_3 19 rfl rfl)
theorem dX9_sets_94 : decode cX9_sets 94 = .ok (.return_, 1) := dk_177 (dk_at dksX9_sets_3 22 rfl rfl)
theorem dX9_sets_95 : decode cX9_sets 95 = .ok (.iload_n 1, 1) := dk_27 (dk_at dksX9_sets_3 23 rfl rfl)
theorem dX9_sets_96 : decode cX9_sets 96 = .ok (.ifCond .eq 16, 3) := dk_153 0 16 (dk_at dksX9_sets_4 0 rfl rfl)
theorem dX9_sets_99 : decode cX9_sets 99 = .ok (.aload_n 0, 1) := dk_42 (dk_at dksX9_sets_4 3 rfl rfl)
theorem dX9_sets_100 : decode cX9_sets 100 = .ok (.getfield 118, 3) := dk_180 0 118 (dk_at dksX9_sets_4 4 rfl rfl)
theorem dX9_sets_103 : decode cX9_sets 103 = .ok (.aload_n 0, 1) := dk_42 (dk_at dksX9_sets_4 7 rfl rfl)
theorem dX9_sets_104 : decode cX9_sets 104 = .ok (.getfield 127, 3) := dk_180 0 127 (dk_at dksX9_sets_4 8 rfl rfl)
theorem dX9_sets_107 : decode cX9_sets 107 = .ok (.iload_n 3, 1) := dk_29 (dk_at dksX9_sets_4 11 rfl rfl)
theorem dX9_sets_108 : decode cX9_sets 108 = .ok (.iastore, 1) := dk_79 (dk_at dksX9_sets_4 12 rfl rfl)
theorem dX9_sets_109 : decode cX9_sets 109 = .ok (.goto 30, 3) := dk_167 0 30 (dk_at dksX9_sets_4 13 rfl rfl)
theorem dX9_sets_112 : decode cX9_sets 112 = .ok (.iload_n 2, 1) := dk_28 (dk_at dksX9_sets_4 16 rfl rfl)
theorem dX9_sets_113 : decode cX9_sets 113 = .ok (.ifCond .eq 16, 3) := dk_153 0 16 (dk_at dksX9_sets_4 17 rfl rfl)
theorem dX9_sets_116 : decode cX9_sets 116 = .ok (.aload_n 0, 1) := dk_42 (dk_at dksX9_sets_4 20 rfl rfl)
theorem dX9_sets_117 : decode cX9_sets 117 = .ok (.getfield 121, 3) := dk_180 0 121 (dk_at dksX9_sets_4 21 rfl rfl)
theorem dX9_sets_120 : decode cX9_sets 120 = .ok (.aload_n 0, 1) := dk_42 (dk_at dksX9_sets_5 0 rfl rfl)
theorem dX9_sets_121 : decode cX9_sets 121 = .ok (.getfield 127, 3) := dk_180 0 127 (dk_at dksX9_sets_5 1 rfl rfl)
theorem dX9_sets_124 : decode cX9_sets 124 = .ok (.iload_n 3, 1) := dk_29 (dk_at dksX9_sets_5 4 rfl rfl)
theorem dX9_sets_125 : decode cX9_sets 125 = .ok (.iastore, 1) := dk_79 (dk_at dksX9_sets_5 5 rfl rfl)
theorem dX9_sets_126 : decode cX9_sets 126 = .ok (.goto 13, 3) := dk_167 0 13 (dk_at dksX9_sets_5 6 rfl rfl)
theorem dX9_sets_129 : decode cX9_sets 129 = .ok (.aload_n 0, 1) := dk_42 (dk_at dksX9_sets_5 9 rfl rfl)
theorem dX9_sets_130 : decode cX9_sets 130 = .ok (.getfield 124, 3) := dk_180 0 124 (dk_at dksX9_sets_5 10 rfl rfl)
theorem dX9_sets_133 : decode cX9_sets 133 = .ok (.aload_n 0, 1) := dk_42 (dk_at dksX9_sets_5 13 rfl rfl)
theorem dX9_sets_134 : decode cX9_sets 134 = .ok (.getfield 127, 3) := dk_180 0 127 (dk_at dksX9_sets_5 14 rfl rfl)
theorem dX9_sets_137 : decode cX9_sets 137 = .ok (.iload_n 3, 1) := dk_29 (dk_at dksX9_sets_5 17 rfl rfl)
theorem dX9_sets_138 : decode cX9_sets 138 = .ok (.iastore, 1) := dk_79 (dk_at dksX9_sets_5 18 rfl rfl)
theorem dX9_sets_139 : decode cX9_sets 139 = .ok (.return_, 1) := dk_177 (dk_at dksX9_sets_5 19 rfl rfl)
def dkwX9_finishes_3 : List UInt8 := [28, 42, 180, 0, 17, 162, 0, 9, 42, 8, 28, 182, 1, 6, 42, 16, 59, 182, 1, 126, 177]
abbrev dktX9_finishes_3 : List UInt8 := dkwX9_finishes_3 ++ []
def dkwX9_finishes_2 : List UInt8 := [160, 0, 9, 132, 2, 1, 167, 255, 223, 42, 16, 59, 182, 1, 20, 153, 0, 23, 27, 16, 90, 160, 0, 17]
abbrev dktX9_finishes_2 : List UInt8 := dkwX9_finishes_2 ++ dktX9_finishes_3
def dkwX9_finishes_1 : List UInt8 := [162, 0, 31, 42, 180, 0, 7, 28, 46, 16, 32, 159, 0, 14, 42, 180, 0, 7, 28, 46, 16, 10]
abbrev dktX9_finishes_1 : List UInt8 := dkwX9_finishes_1 ++ dktX9_finishes_2
def dkwX9_finishes_0 : List UInt8 := [42, 182, 1, 17, 42, 180, 0, 36, 158, 0, 4, 177, 42, 180, 0, 26, 61, 28, 42, 180, 0, 17]
abbrev dktX9_finishes_0 : List UInt8 := dkwX9_finishes_0 ++ dktX9_finishes_1
theorem dksX9_finishes_0 : cX9_finishes.data.toList.drop 0 = dktX9_finishes_0 := by decide +kernel
theorem dksX9_finishes_1 : cX9_finishes.data.toList.drop 22 = dktX9_finishes_1 := dk_seg dksX9_finishes_0 22 rfl rfl
theorem dksX9_finishes_2 : cX9_finishes.data.toList.drop 44 = dktX9_finishes_2 := dk_seg dksX9_finishes_1 22 rfl rfl
theorem dksX9_finishes_3 : cX9_finishes.data.toList.drop 68 = dktX9_finishes_3 := dk_seg dksX9_finishes_2 24 rfl rfl
theorem dX9_finishes_0 : decode cX9_finishes 0 = .ok (.aload_n 0, 1) := dk_42 (dk_at dksX9_finishes_0 0 rfl rfl)
theorem dX9_finishes_1 : decode cX9_finishes 1 = .ok (.invokevirtual 273, 3) := dk_182 1 17 (dk_at dksX9_finishes_0 1 rfl rfl)
theorem dX9_finishes_4 : decode cX9_finishes 4 = .ok (.aload_n 0, 1) := dk_42 (dk_at dksX9_finishes_0 4 rfl rfl)
theorem dX9_finishes_5 : decode cX9_finishes 5 = .ok (.getfield 36, 3) := dk_180 0 36 (dk_at dksX9_finishes_0 5 rfl rfl)
theorem dX9_finishes_8 : decode cX9_finishes 8 = .ok (.ifCond .le 4, 3) := dk_158 0 4 (dk_at dksX9_finishes_0 8 rfl rfl)
theorem dX9_finishes_11 : decode cX9_finishes 11 = .ok (.return_, 1) := dk_177 (dk_at dksX9_finishes_0 11 rfl rfl)
theorem dX9_finishes_12 : decode cX9_finishes 12 = .ok (.aload_n 0, 1) := dk_42 (dk_at dksX9_finishes_0 12 rfl rfl)
theorem dX9_finishes_13 : decode cX9_finishes 13 = .ok (.getfield 26, 3) := dk_180 0 26 (dk_at dksX9_finishes_0 13 rfl rfl)
theorem dX9_finishes_16 : decode cX9_finishes 16 = .ok (.istore_n 2, 1) := dk_61 (dk_at dksX9_finishes_0 16 rfl rfl)
theorem dX9_finishes_17 : decode cX9_finishes 17 = .ok (.iload_n 2, 1) := dk_28 (dk_at dksX9_finishes_0 17 rfl rfl)
theorem dX9_finishes_18 : decode cX9_finishes 18 = .ok (.aload_n 0, 1) := dk_42 (dk_at dksX9_finishes_0 18 rfl rfl)
theorem dX9_finishes_19 : decode cX9_finishes 19 = .ok (.getfield 17, 3) := dk_180 0 17 (dk_at dksX9_finishes_0 19 rfl rfl)
theorem dX9_finishes_22 : decode cX9_finishes 22 = .ok (.if_icmp .ge 31, 3) := dk_162 0 31 (dk_at dksX9_finishes_1 0 rfl rfl)
theorem dX9_finishes_25 : decode cX9_finishes 25 = .ok (.aload_n 0, 1) := dk_42 (dk_at dksX9_finishes_1 3 rfl rfl)
theorem dX9_finishes_26 : decode cX9_finishes 26 = .ok (.getfield 7, 3) := dk_180 0 7 (dk_at dksX9_finishes_1 4 rfl rfl)
theorem dX9_finishes_29 : decode cX9_finishes 29 = .ok (.iload_n 2, 1) := dk_28 (dk_at dksX9_finishes_1 7 rfl rfl)
theorem dX9_finishes_30 : decode cX9_finishes 30 = .ok (.iaload, 1) := dk_46 (dk_at dksX9_finishes_1 8 rfl rfl)
theorem dX9_finishes_31 : decode cX9_finishes 31 = .ok (.bipush 32, 2) := dk_16 32 (dk_at dksX9_finishes_1 9 rfl rfl)
theorem dX9_finishes_33 : decode cX9_finishes 33 = .ok (.if_icmp .eq 14, 3) := dk_159 0 14 (dk_at dksX9_finishes_1 11 rfl rfl)
theorem dX9_finishes_36 : decode cX9_finishes 36 = .ok (.aload_n 0, 1) := dk_42 (dk_at dksX9_finishes_1 14 rfl rfl)
theorem dX9_finishes_37 : decode cX9_finishes 37 = .ok (.getfield 7, 3) := dk_180 0 7 (dk_at dksX9_finishes_1 15 rfl rfl)
theorem dX9_finishes_40 : decode cX9_finishes 40 = .ok (.iload_n 2, 1) := dk_28 (dk_at dksX9_finishes_1 18 rfl rfl)
theorem dX9_finishes_41 : decode cX9_finishes 41 = .ok (.iaload, 1) := dk_46 (dk_at dksX9_finishes_1 19 rfl rfl)
theorem dX9_finishes_42 : decode cX9_finishes 42 = .ok (.bipush 10, 2) := dk_16 10 (dk_at dksX9_finishes_1 20 rfl rfl)
theorem dX9_finishes_44 : decode cX9_finishes 44 = .ok (.if_icmp .ne 9, 3) := dk_160 0 9 (dk_at dksX9_finishes_2 0 rfl rfl)
theorem dX9_finishes_47 : decode cX9_finishes 47 = .ok (.iinc 2 1, 3) := dk_132 2 1 (dk_at dksX9_finishes_2 3 rfl rfl)
theorem dX9_finishes_50 : decode cX9_finishes 50 = .ok (.goto (-33), 3) := dk_167 255 223 (dk_at dksX9_finishes_2 6 rfl rfl)
theorem dX9_finishes_53 : decode cX9_finishes 53 = .ok (.aload_n 0, 1) := dk_42 (dk_at dksX9_finishes_2 9 rfl rfl)
theorem dX9_finishes_54 : decode cX9_finishes 54 = .ok (.bipush 59, 2) := dk_16 59 (dk_at dksX9_finishes_2 10 rfl rfl)
theorem dX9_finishes_56 : decode cX9_finishes 56 = .ok (.invokevirtual 276, 3) := dk_182 1 20 (dk_at dksX9_finishes_2 12 rfl rfl)
theorem dX9_finishes_59 : decode cX9_finishes 59 = .ok (.ifCond .eq 23, 3) := dk_153 0 23 (dk_at dksX9_finishes_2 15 rfl rfl)
theorem dX9_finishes_62 : decode cX9_finishes 62 = .ok (.iload_n 1, 1) := dk_27 (dk_at dksX9_finishes_2 18 rfl rfl)
theorem dX9_finishes_63 : decode cX9_finishes 63 = .ok (.bipush 90, 2) := dk_16 90 (dk_at dksX9_finishes_2 19 rfl rfl)
theorem dX9_finishes_65 : decode cX9_finishes 65 = .ok (.if_icmp .ne 17, 3) := dk_160 0 17 (dk_at dksX9_finishes_2 21 rfl rfl)
theorem dX9_finishes_68 : decode cX9_finishes 68 = .ok (.iload_n 2, 1) := dk_28 (dk_at dksX9_finishes_3 0 rfl rfl)
theorem dX9_finishes_69 : decode cX9_finishes 69 = .ok (.aload_n 0, 1) := dk_42 (dk_at dksX9_finishes_3 1 rfl rfl)
theorem dX9_finishes_70 : decode cX9_finishes 70 = .ok (.getfield 17, 3) := dk_180 0 17 (dk_at dksX9_finishes_3 2 rfl rfl)
theorem dX9_finishes_73 : decode cX9_finishes 73 = .ok (.if_icmp .ge 9, 3) := dk_162 0 9 (dk_at dksX9_finishes_3 5 rfl rfl)
theorem dX9_finishes_76 : decode cX9_finishes 76 = .ok (.aload_n 0, 1) := dk_42 (dk_at dksX9_finishes_3 8 rfl rfl)
theorem dX9_finishes_77 : decode cX9_finishes 77 = .ok (.iconst 5, 1) := dk_8 (dk_at dksX9_finishes_3 9 rfl rfl)
theorem dX9_finishes_78 : decode cX9_finishes 78 = .ok (.iload_n 2, 1) := dk_28 (dk_at dksX9_finishes_3 10 rfl rfl)
theorem dX9_finishes_79 : decode cX9_finishes 79 = .ok (.invokevirtual 262, 3) := dk_182 1 6 (dk_at dksX9_finishes_3 11 rfl rfl)
theorem dX9_finishes_82 : decode cX9_finishes 82 = .ok (.aload_n 0, 1) := dk_42 (dk_at dksX9_finishes_3 14 rfl rfl)
theorem dX9_finishes_83 : decode cX9_finishes 83 = .ok (.bipush 59, 2) := dk_16 59 (dk_at dksX9_finishes_3 15 rfl rfl)
theorem dX9_finishes_85 : decode cX9_finishes 85 = .ok (.invokevirtual 382, 3) := dk_182 1 126 (dk_at dksX9_finishes_3 17 rfl rfl)
theorem dX9_finishes_88 : decode cX9_finishes 88 = .ok (.return_, 1) := dk_177 (dk_at dksX9_finishes_3 20 rfl rfl)
def dkwX9_isSign_0 : List UInt8 := [42, 180, 0, 20, 6, 160, 0, 15, 42, 180, 0, 29, 27, 160, 0, 7, 4, 167, 0, 4, 3, 172]
abbrev dktX9_isSign_0 : List UInt8 := dkwX9_isSign_0 ++ []
theorem dksX9_isSign_0 : cX9_isSign.data.toList.drop 0 = dktX9_isSign_0 := by decide +kernel
theorem dX9_isSign_0 : decode cX9_isSign 0 = .ok (.aload_n 0, 1) := dk_42 (dk_at dksX9_isSign_0 0 rfl rfl)
theorem dX9_isSign_1 : decode cX9_isSign 1 = .ok (.getfield 20, 3) := dk_180 0 20 (dk_at dksX9_isSign_0 1 rfl rfl)
theorem dX9_isSign_4 : decode cX9_isSign 4 = .ok (.iconst 3, 1) := dk_6 (dk_at dksX9_isSign_0 4 rfl rfl)
theorem dX9_isSign_5 : decode cX9_isSign 5 = .ok (.if_icmp .ne 15, 3) := dk_160 0 15 (dk_at dksX9_isSign_0 5 rfl rfl)
theorem dX9_isSign_8 : decode cX9_isSign 8 = .ok (.aload_n 0, 1) := dk_42 (dk_at dksX9_isSign_0 8 rfl rfl)
theorem dX9_isSign_9 : decode cX9_isSign 9 = .ok (.getfield 29, 3) := dk_180 0 29 (dk_at dksX9_isSign_0 9 rfl rfl)
theorem dX9_isSign_12 : decode cX9_isSign 12 = .ok (.iload_n 1, 1) := dk_27 (dk_at dksX9_isSign_0 12 rfl rfl)
theorem dX9_isSign_13 : decode cX9_isSign 13 = .ok (.if_icmp .ne 7, 3) := dk_160 0 7 (dk_at dksX9_isSign_0 13 rfl rfl)
theorem dX9_isSign_16 : decode cX9_isSign 16 = .ok (.iconst 1, 1) := dk_4 (dk_at dksX9_isSign_0 16 rfl rfl)
theorem dX9_isSign_17 : decode cX9_isSign 17 = .ok (.goto 4, 3) := dk_167 0 4 (dk_at dksX9_isSign_0 17 rfl rfl)
theorem dX9_isSign_20 : decode cX9_isSign 20 = .ok (.iconst 0, 1) := dk_3 (dk_at dksX9_isSign_0 20 rfl rfl)
theorem dX9_isSign_21 : decode cX9_isSign 21 = .ok (.ireturn, 1) := dk_172 (dk_at dksX9_isSign_0 21 rfl rfl)
def dkwX9_must_2_1 : List UInt8 := [180, 0, 36, 154, 0, 7, 42, 182, 1, 23, 177]
abbrev dktX9_must_2_1 : List UInt8 := dkwX9_must_2_1 ++ []
def dkwX9_must_2_0 : List UInt8 := [42, 182, 1, 17, 42, 27, 182, 1, 20, 154, 0, 12, 42, 4, 42, 180, 0, 23, 182, 1, 6, 42]
abbrev dktX9_must_2_0 : List UInt8 := dkwX9_must_2_0 ++ dktX9_must_2_1
theorem dksX9_must_2_0 : cX9_must_2.data.toList.drop 0 = dktX9_must_2_0 := by decide +kernel
theorem dksX9_must_2_1 : cX9_must_2.data.toList.drop 22 = dktX9_must_2_1 := dk_seg dksX9_must_2_0 22 rfl rfl
theorem dX9_must_2_0 : decode cX9_must_2 0 = .ok (.aload_n 0, 1) := dk_42 (dk_at dksX9_must_2_0 0 rfl rfl)
theorem dX9_must_2_1 : decode cX9_must_2 1 = .ok (.invokevirtual 273, 3) := dk_182 1 17 (dk_at dksX9_must_2_0 1 rfl rfl)
theorem dX9_must_2_4 : decode cX9_must_2 4 = .ok (.aload_n 0, 1) := dk_42 (dk_at dksX9_must_2_0 4 rfl rfl)
theorem dX9_must_2_5 : decode cX9_must_2 5 = .ok (.iload_n 1, 1) := dk_27 (dk_at dksX9_must_2_0 5 rfl rfl)
theorem dX9_must_2_6 : decode cX9_must_2 6 = .ok (.invokevirtual 276, 3) := dk_182 1 20 (dk_at dksX9_must_2_0 6 rfl rfl)
theorem dX9_must_2_9 : decode cX9_must_2 9 = .ok (.ifCond .ne 12, 3) := dk_154 0 12 (dk_at dksX9_must_2_0 9 rfl rfl)
theorem dX9_must_2_12 : decode cX9_must_2 12 = .ok (.aload_n 0, 1) := dk_42 (dk_at dksX9_must_2_0 12 rfl rfl)
theorem dX9_must_2_13 : decode cX9_must_2 13 = .ok (.iconst 1, 1) := dk_4 (dk_at dksX9_must_2_0 13 rfl rfl)
theorem dX9_must_2_14 : decode cX9_must_2 14 = .ok (.aload_n 0, 1) := dk_42 (dk_at dksX9_must_2_0 14 rfl rfl)
theorem dX9_must_2_15 : decode cX9_must_2 15 = .ok (.getfield 23, 3) := dk_180 0 23 (dk_at dksX9_must_2_0 15 rfl rfl)
theorem dX9_must_2_18 : decode cX9_must_2 18 = .ok (.invokevirtual 262, 3) := dk_182 1 6 (dk_at dksX9_must_2_0 18 rfl rfl)
theorem dX9_must_2_21 : decode cX9_must_2 21 = .ok (.aload_n 0, 1) := dk_42 (dk_at dksX9_must_2_0 21 rfl rfl)
theorem dX9_must_2_22 : decode cX9_must_2 22 = .ok (.getfield 36, 3) := dk_180 0 36 (dk_at dksX9_must_2_1 0 rfl rfl)
theorem dX9_must_2_25 : decode cX9_must_2 25 = .ok (.ifCond .ne 7, 3) := dk_154 0 7 (dk_at dksX9_must_2_1 3 rfl rfl)
theorem dX9_must_2_28 : decode cX9_must_2 28 = .ok (.aload_n 0, 1) := dk_42 (dk_at dksX9_must_2_1 6 rfl rfl)
theorem dX9_must_2_29 : decode cX9_must_2 29 = .ok (.invokevirtual 279, 3) := dk_182 1 23 (dk_at dksX9_must_2_1 7 rfl rfl)
theorem dX9_must_2_32 : decode cX9_must_2 32 = .ok (.return_, 1) := dk_177 (dk_at dksX9_must_2_1 10 rfl rfl)
def dkwX9_begin_5 : List UInt8 := [79, 132, 3, 1, 167, 255, 225, 132, 1, 1, 167, 255, 151, 177]
abbrev dktX9_begin_5 : List UInt8 := dkwX9_begin_5 ++ []
def dkwX9_begin_4 : List UInt8 := [162, 0, 31, 42, 180, 0, 157, 16, 12, 27, 104, 29, 96, 42, 180, 0, 115, 16, 12, 28, 104, 29, 96, 46]
abbrev dktX9_begin_4 : List UInt8 := dkwX9_begin_4 ++ dktX9_begin_5
def dkwX9_begin_3 : List UInt8 := [180, 0, 112, 28, 46, 79, 42, 180, 0, 154, 27, 42, 180, 0, 106, 28, 46, 79, 3, 62, 29, 16, 12]
abbrev dktX9_begin_3 : List UInt8 := dkwX9_begin_3 ++ dktX9_begin_4
def dkwX9_begin_2 : List UInt8 := [180, 0, 145, 27, 27, 79, 42, 180, 0, 148, 27, 42, 180, 0, 109, 28, 46, 79, 42, 180, 0, 151, 27, 42]
abbrev dktX9_begin_2 : List UInt8 := dkwX9_begin_2 ++ dktX9_begin_3
def dkwX9_begin_1 : List UInt8 := [180, 0, 100, 42, 180, 0, 51, 46, 162, 0, 98, 16, 12, 42, 180, 0, 51, 104, 27, 96, 61, 42]
abbrev dktX9_begin_1 : List UInt8 := dkwX9_begin_1 ++ dktX9_begin_2
def dkwX9_begin_0 : List UInt8 := [42, 180, 0, 142, 3, 3, 79, 42, 180, 0, 160, 3, 3, 79, 42, 3, 181, 0, 169, 3, 60, 27, 42]
abbrev dktX9_begin_0 : List UInt8 := dkwX9_begin_0 ++ dktX9_begin_1
theorem dksX9_begin_0 : cX9_begin.data.toList.drop 0 = dktX9_begin_0 := by decide +kernel
theorem dksX9_begin_1 : cX9_begin.data.toList.drop 23 = dktX9_begin_1 := dk_seg dksX9_begin_0 23 rfl rfl
theorem dksX9_begin_2 : cX9_begin.data.toList.drop 45 = dktX9_begin_2 := dk_seg dksX9_begin_1 22 rfl rfl
theorem dksX9_begin_3 : cX9_begin.data.toList.drop 69 = dktX9_begin_3 := dk_seg dksX9_begin_2 24 rfl rfl
theorem dksX9_begin_4 : cX9_begin.data.toList.drop 92 = dktX9_begin_4 := dk_seg dksX9_begin_3 23 rfl rfl
theorem dksX9_begin_5 : cX9_begin.data.toList.drop 116 = dktX9_begin_5 := dk_seg dksX9_begin_4 24 rfl rfl
theorem dX9_begin_0 : decode cX9_begin 0 = .ok (.aload_n 0, 1) := dk_42 (dk_at dksX9_begin_0 0 rfl rfl)
theorem dX9_begin_1 : decode cX9_begin 1 = .ok (.getfield 142, 3) := dk_180 0 142 (dk_at dksX9_begin_0 1 rfl rfl)
theorem dX9_begin_4 : decode cX9_begin 4 = .ok (.iconst 0, 1) := dk_3 (dk_at dksX9_begin_0 4 rfl rfl)
theorem dX9_begin_5 : decode cX9_begin 5 = .ok (.iconst 0, 1) := dk_3 (dk_at dksX9_begin_0 5 rfl rfl)
theorem dX9_begin_6 : decode cX9_begin 6 = .ok (.iastore, 1) := dk_79 (dk_at dksX9_begin_0 6 rfl rfl)
theorem dX9_begin_7 : decode cX9_begin 7 = .ok (.aload_n 0, 1) := dk_42 (dk_at dksX9_begin_0 7 rfl rfl)
theorem dX9_begin_8 : decode cX9_begin 8 = .ok (.getfield 160, 3) := dk_180 0 160 (dk_at dksX9_begin_0 8 rfl rfl)
theorem dX9_begin_11 : decode cX9_begin 11 = .ok (.iconst 0, 1) := dk_3 (dk_at dksX9_begin_0 11 rfl rfl)
theorem dX9_begin_12 : decode cX9_begin 12 = .ok (.iconst 0, 1) := dk_3 (dk_at dksX9_begin_0 12 rfl rfl)
theorem dX9_begin_13 : decode cX9_begin 13 = .ok (.iastore, 1) := dk_79 (dk_at dksX9_begin_0 13 rfl rfl)
theorem dX9_begin_14 : decode cX9_begin 14 = .ok (.aload_n 0, 1) := dk_42 (dk_at dksX9_begin_0 14 rfl rfl)
theorem dX9_begin_15 : decode cX9_begin 15 = .ok (.iconst 0, 1) := dk_3 (dk_at dksX9_begin_0 15 rfl rfl)
theorem dX9_begin_16 : decode cX9_begin 16 = .ok (.putfield 169, 3) := dk_181 0 169 (dk_at dksX9_begin_0 16 rfl rfl)
theorem dX9_begin_19 : decode cX9_begin 19 = .ok (.iconst 0, 1) := dk_3 (dk_at dksX9_begin_0 19 rfl rfl)
theorem dX9_begin_20 : decode cX9_begin 20 = .ok (.istore_n 1, 1) := dk_60 (dk_at dksX9_begin_0 20 rfl rfl)
theorem dX9_begin_21 : decode cX9_begin 21 = .ok (.iload_n 1, 1) := dk_27 (dk_at dksX9_begin_0 21 rfl rfl)
theorem dX9_begin_22 : decode cX9_begin 22 = .ok (.aload_n 0, 1) := dk_42 (dk_at dksX9_begin_0 22 rfl rfl)
theorem dX9_begin_23 : decode cX9_begin 23 = .ok (.getfield 100, 3) := dk_180 0 100 (dk_at dksX9_begin_1 0 rfl rfl)
theorem dX9_begin_26 : decode cX9_begin 26 = .ok (.aload_n 0, 1) := dk_42 (dk_at dksX9_begin_1 3 rfl rfl)
theorem dX9_begin_27 : decode cX9_begin 27 = .ok (.getfield 51, 3) := dk_180 0 51 (dk_at dksX9_begin_1 4 rfl rfl)
theorem dX9_begin_30 : decode cX9_begin 30 = .ok (.iaload, 1) := dk_46 (dk_at dksX9_begin_1 7 rfl rfl)
theorem dX9_begin_31 : decode cX9_begin 31 = .ok (.if_icmp .ge 98, 3) := dk_162 0 98 (dk_at dksX9_begin_1 8 rfl rfl)
theorem dX9_begin_34 : decode cX9_begin 34 = .ok (.bipush 12, 2) := dk_16 12 (dk_at dksX9_begin_1 11 rfl rfl)
theorem dX9_begin_36 : decode cX9_begin 36 = .ok (.aload_n 0, 1) := dk_42 (dk_at dksX9_begin_1 13 rfl rfl)
theorem dX9_begin_37 : decode cX9_begin 37 = .ok (.getfield 51, 3) := dk_180 0 51 (dk_at dksX9_begin_1 14 rfl rfl)
theorem dX9_begin_40 : decode cX9_begin 40 = .ok (.imul, 1) := dk_104 (dk_at dksX9_begin_1 17 rfl rfl)
theorem dX9_begin_41 : decode cX9_begin 41 = .ok (.iload_n 1, 1) := dk_27 (dk_at dksX9_begin_1 18 rfl rfl)
theorem dX9_begin_42 : decode cX9_begin 42 = .ok (.iadd, 1) := dk_96 (dk_at dksX9_begin_1 19 rfl rfl)
theorem dX9_begin_43 : decode cX9_begin 43 = .ok (.istore_n 2, 1) := dk_61 (dk_at dksX9_begin_1 20 rfl rfl)
theorem dX9_begin_44 : decode cX9_begin 44 = .ok (.aload_n 0, 1) := dk_42 (dk_at dksX9_begin_1 21 rfl rfl)
theorem dX9_begin_45 : decode cX9_begin 45 = .ok (.getfield 145, 3) := dk_180 0 145 (dk_at dksX9_begin_2 0 rfl rfl)
theorem dX9_begin_48 : decode cX9_begin 48 = .ok (.iload_n 1, 1) := dk_27 (dk_at dksX9_begin_2 3 rfl rfl)
theorem dX9_begin_49 : decode cX9_begin 49 = .ok (.iload_n 1, 1) := dk_27 (dk_at dksX9_begin_2 4 rfl rfl)
theorem dX9_begin_50 : decode cX9_begin 50 = .ok (.iastore, 1) := dk_79 (dk_at dksX9_begin_2 5 rfl rfl)
theorem dX9_begin_51 : decode cX9_begin 51 = .ok (.aload_n 0, 1) := dk_42 (dk_at dksX9_begin_2 6 rfl rfl)
theorem dX9_begin_52 : decode cX9_begin 52 = .ok (.getfield 148, 3) := dk_180 0 148 (dk_at dksX9_begin_2 7 rfl rfl)
theorem dX9_begin_55 : decode cX9_begin 55 = .ok (.iload_n 1, 1) := dk_27 (dk_at dksX9_begin_2 10 rfl rfl)
theorem dX9_begin_56 : decode cX9_begin 56 = .ok (.aload_n 0, 1) := dk_42 (dk_at dksX9_begin_2 11 rfl rfl)
theorem dX9_begin_57 : decode cX9_begin 57 = .ok (.getfield 109, 3) := dk_180 0 109 (dk_at dksX9_begin_2 12 rfl rfl)
theorem dX9_begin_60 : decode cX9_begin 60 = .ok (.iload_n 2, 1) := dk_28 (dk_at dksX9_begin_2 15 rfl rfl)
theorem dX9_begin_61 : decode cX9_begin 61 = .ok (.iaload, 1) := dk_46 (dk_at dksX9_begin_2 16 rfl rfl)
theorem dX9_begin_62 : decode cX9_begin 62 = .ok (.iastore, 1) := dk_79 (dk_at dksX9_begin_2 17 rfl rfl)
theorem dX9_begin_63 : decode cX9_begin 63 = .ok (.aload_n 0, 1) := dk_42 (dk_at dksX9_begin_2 18 rfl rfl)
theorem dX9_begin_64 : decode cX9_begin 64 = .ok (.getfield 151, 3) := dk_180 0 151 (dk_at dksX9_begin_2 19 rfl rfl)
theorem dX9_begin_67 : decode cX9_begin 67 = .ok (.iload_n 1, 1) := dk_27 (dk_at dksX9_begin_2 22 rfl rfl)
theorem dX9_begin_68 : decode cX9_begin 68 = .ok (.aload_n 0, 1) := dk_42 (dk_at dksX9_begin_2 23 rfl rfl)
theorem dX9_begin_69 : decode cX9_begin 69 = .ok (.getfield 112, 3) := dk_180 0 112 (dk_at dksX9_begin_3 0 rfl rfl)
theorem dX9_begin_72 : decode cX9_begin 72 = .ok (.iload_n 2, 1) := dk_28 (dk_at dksX9_begin_3 3 rfl rfl)
theorem dX9_begin_73 : decode cX9_begin 73 = .ok (.iaload, 1) := dk_46 (dk_at dksX9_begin_3 4 rfl rfl)
theorem dX9_begin_74 : decode cX9_begin 74 = .ok (.iastore, 1) := dk_79 (dk_at dksX9_begin_3 5 rfl rfl)
theorem dX9_begin_75 : decode cX9_begin 75 = .ok (.aload_n 0, 1) := dk_42 (dk_at dksX9_begin_3 6 rfl rfl)
theorem dX9_begin_76 : decode cX9_begin 76 = .ok (.getfield 154, 3) := dk_180 0 154 (dk_at dksX9_begin_3 7 rfl rfl)
theorem dX9_begin_79 : decode cX9_begin 79 = .ok (.iload_n 1, 1) := dk_27 (dk_at dksX9_begin_3 10 rfl rfl)
theorem dX9_begin_80 : decode cX9_begin 80 = .ok (.aload_n 0, 1) := dk_42 (dk_at dksX9_begin_3 11 rfl rfl)
theorem dX9_begin_81 : decode cX9_begin 81 = .ok (.getfield 106, 3) := dk_180 0 106 (dk_at dksX9_begin_3 12 rfl rfl)
theorem dX9_begin_84 : decode cX9_begin 84 = .ok (.iload_n 2, 1) := dk_28 (dk_at dksX9_begin_3 15 rfl rfl)
theorem dX9_begin_85 : decode cX9_begin 85 = .ok (.iaload, 1) := dk_46 (dk_at dksX9_begin_3 16 rfl rfl)
theorem dX9_begin_86 : decode cX9_begin 86 = .ok (.iastore, 1) := dk_79 (dk_at dksX9_begin_3 17 rfl rfl)
theorem dX9_begin_87 : decode cX9_begin 87 = .ok (.iconst 0, 1) := dk_3 (dk_at dksX9_begin_3 18 rfl rfl)
theorem dX9_begin_88 : decode cX9_begin 88 = .ok (.istore_n 3, 1) := dk_62 (dk_at dksX9_begin_3 19 rfl rfl)
theorem dX9_begin_89 : decode cX9_begin 89 = .ok (.iload_n 3, 1) := dk_29 (dk_at dksX9_begin_3 20 rfl rfl)
theorem dX9_begin_90 : decode cX9_begin 90 = .ok (.bipush 12, 2) := dk_16 12 (dk_at dksX9_begin_3 21 rfl rfl)
theorem dX9_begin_92 : decode cX9_begin 92 = .ok (.if_icmp .ge 31, 3) := dk_162 0 31 (dk_at dksX9_begin_4 0 rfl rfl)
theorem dX9_begin_95 : decode cX9_begin 95 = .ok (.aload_n 0, 1) := dk_42 (dk_at dksX9_begin_4 3 rfl rfl)
theorem dX9_begin_96 : decode cX9_begin 96 = .ok (.getfield 157, 3) := dk_180 0 157 (dk_at dksX9_begin_4 4 rfl rfl)
theorem dX9_begin_99 : decode cX9_begin 99 = .ok (.bipush 12, 2) := dk_16 12 (dk_at dksX9_begin_4 7 rfl rfl)
theorem dX9_begin_101 : decode cX9_begin 101 = .ok (.iload_n 1, 1) := dk_27 (dk_at dksX9_begin_4 9 rfl rfl)
theorem dX9_begin_102 : decode cX9_begin 102 = .ok (.imul, 1) := dk_104 (dk_at dksX9_begin_4 10 rfl rfl)
theorem dX9_begin_103 : decode cX9_begin 103 = .ok (.iload_n 3, 1) := dk_29 (dk_at dksX9_begin_4 11 rfl rfl)
theorem dX9_begin_104 : decode cX9_begin 104 = .ok (.iadd, 1) := dk_96 (dk_at dksX9_begin_4 12 rfl rfl)
theorem dX9_begin_105 : decode cX9_begin 105 = .ok (.aload_n 0, 1) := dk_42 (dk_at dksX9_begin_4 13 rfl rfl)
theorem dX9_begin_106 : decode cX9_begin 106 = .ok (.getfield 115, 3) := dk_180 0 115 (dk_at dksX9_begin_4 14 rfl rfl)
theorem dX9_begin_109 : decode cX9_begin 109 = .ok (.bipush 12, 2) := dk_16 12 (dk_at dksX9_begin_4 17 rfl rfl)
theorem dX9_begin_111 : decode cX9_begin 111 = .ok (.iload_n 2, 1) := dk_28 (dk_at dksX9_begin_4 19 rfl rfl)
theorem dX9_begin_112 : decode cX9_begin 112 = .ok (.imul, 1) := dk_104 (dk_at dksX9_begin_4 20 rfl rfl)
theorem dX9_begin_113 : decode cX9_begin 113 = .ok (.iload_n 3, 1) := dk_29 (dk_at dksX9_begin_4 21 rfl rfl)
theorem dX9_begin_114 : decode cX9_begin 114 = .ok (.iadd, 1) := dk_96 (dk_at dksX9_begin_4 22 rfl rfl)
theorem dX9_begin_115 : decode cX9_begin 115 = .ok (.iaload, 1) := dk_46 (dk_at dksX9_begin_4 23 rfl rfl)
theorem dX9_begin_116 : decode cX9_begin 116 = .ok (.iastore, 1) := dk_79 (dk_at dksX9_begin_5 0 rfl rfl)
theorem dX9_begin_117 : decode cX9_begin 117 = .ok (.iinc 3 1, 3) := dk_132 3 1 (dk_at dksX9_begin_5 1 rfl rfl)
theorem dX9_begin_120 : decode cX9_begin 120 = .ok (.goto (-31), 3) := dk_167 255 225 (dk_at dksX9_begin_5 4 rfl rfl)
theorem dX9_begin_123 : decode cX9_begin 123 = .ok (.iinc 1 1, 3) := dk_132 1 1 (dk_at dksX9_begin_5 7 rfl rfl)
theorem dX9_begin_126 : decode cX9_begin 126 = .ok (.goto (-105), 3) := dk_167 255 151 (dk_at dksX9_begin_5 10 rfl rfl)
theorem dX9_begin_129 : decode cX9_begin 129 = .ok (.return_, 1) := dk_177 (dk_at dksX9_begin_5 13 rfl rfl)
def dkwX9_fault_1 : List UInt8 := [172]
abbrev dktX9_fault_1 : List UInt8 := dkwX9_fault_1 ++ []
def dkwX9_fault_0 : List UInt8 := [27, 154, 0, 10, 42, 180, 0, 42, 167, 0, 16, 27, 4, 160, 0, 10, 42, 180, 0, 45, 167, 0, 4, 2]
abbrev dktX9_fault_0 : List UInt8 := dkwX9_fault_0 ++ dktX9_fault_1
theorem dksX9_fault_0 : cX9_fault.data.toList.drop 0 = dktX9_fault_0 := by decide +kernel
theorem dksX9_fault_1 : cX9_fault.data.toList.drop 24 = dktX9_fault_1 := dk_seg dksX9_fault_0 24 rfl rfl
theorem dX9_fault_0 : decode cX9_fault 0 = .ok (.iload_n 1, 1) := dk_27 (dk_at dksX9_fault_0 0 rfl rfl)
theorem dX9_fault_1 : decode cX9_fault 1 = .ok (.ifCond .ne 10, 3) := dk_154 0 10 (dk_at dksX9_fault_0 1 rfl rfl)
theorem dX9_fault_4 : decode cX9_fault 4 = .ok (.aload_n 0, 1) := dk_42 (dk_at dksX9_fault_0 4 rfl rfl)
theorem dX9_fault_5 : decode cX9_fault 5 = .ok (.getfield 42, 3) := dk_180 0 42 (dk_at dksX9_fault_0 5 rfl rfl)
theorem dX9_fault_8 : decode cX9_fault 8 = .ok (.goto 16, 3) := dk_167 0 16 (dk_at dksX9_fault_0 8 rfl rfl)
theorem dX9_fault_11 : decode cX9_fault 11 = .ok (.iload_n 1, 1) := dk_27 (dk_at dksX9_fault_0 11 rfl rfl)
theorem dX9_fault_12 : decode cX9_fault 12 = .ok (.iconst 1, 1) := dk_4 (dk_at dksX9_fault_0 12 rfl rfl)
theorem dX9_fault_13 : decode cX9_fault 13 = .ok (.if_icmp .ne 10, 3) := dk_160 0 10 (dk_at dksX9_fault_0 13 rfl rfl)
theorem dX9_fault_16 : decode cX9_fault 16 = .ok (.aload_n 0, 1) := dk_42 (dk_at dksX9_fault_0 16 rfl rfl)
theorem dX9_fault_17 : decode cX9_fault 17 = .ok (.getfield 45, 3) := dk_180 0 45 (dk_at dksX9_fault_0 17 rfl rfl)
theorem dX9_fault_20 : decode cX9_fault 20 = .ok (.goto 4, 3) := dk_167 0 4 (dk_at dksX9_fault_0 20 rfl rfl)
theorem dX9_fault_23 : decode cX9_fault 23 = .ok (.iconst (-1), 1) := dk_2 (dk_at dksX9_fault_0 23 rfl rfl)
theorem dX9_fault_24 : decode cX9_fault 24 = .ok (.ireturn, 1) := dk_172 (dk_at dksX9_fault_1 0 rfl rfl)
def dkwX9_status_0 : List UInt8 := [27, 3, 8, 184, 1, 68, 153, 0, 12, 42, 180, 0, 139, 27, 46, 167, 0, 4, 2, 172]
abbrev dktX9_status_0 : List UInt8 := dkwX9_status_0 ++ []
theorem dksX9_status_0 : cX9_status.data.toList.drop 0 = dktX9_status_0 := by decide +kernel
theorem dX9_status_0 : decode cX9_status 0 = .ok (.iload_n 1, 1) := dk_27 (dk_at dksX9_status_0 0 rfl rfl)
theorem dX9_status_1 : decode cX9_status 1 = .ok (.iconst 0, 1) := dk_3 (dk_at dksX9_status_0 1 rfl rfl)
theorem dX9_status_2 : decode cX9_status 2 = .ok (.iconst 5, 1) := dk_8 (dk_at dksX9_status_0 2 rfl rfl)
theorem dX9_status_3 : decode cX9_status 3 = .ok (.invokestatic 324, 3) := dk_184 1 68 (dk_at dksX9_status_0 3 rfl rfl)
theorem dX9_status_6 : decode cX9_status 6 = .ok (.ifCond .eq 12, 3) := dk_153 0 12 (dk_at dksX9_status_0 6 rfl rfl)
theorem dX9_status_9 : decode cX9_status 9 = .ok (.aload_n 0, 1) := dk_42 (dk_at dksX9_status_0 9 rfl rfl)
theorem dX9_status_10 : decode cX9_status 10 = .ok (.getfield 139, 3) := dk_180 0 139 (dk_at dksX9_status_0 10 rfl rfl)
theorem dX9_status_13 : decode cX9_status 13 = .ok (.iload_n 1, 1) := dk_27 (dk_at dksX9_status_0 13 rfl rfl)
theorem dX9_status_14 : decode cX9_status 14 = .ok (.iaload, 1) := dk_46 (dk_at dksX9_status_0 14 rfl rfl)
theorem dX9_status_15 : decode cX9_status 15 = .ok (.goto 4, 3) := dk_167 0 4 (dk_at dksX9_status_0 15 rfl rfl)
theorem dX9_status_18 : decode cX9_status 18 = .ok (.iconst (-1), 1) := dk_2 (dk_at dksX9_status_0 18 rfl rfl)
theorem dX9_status_19 : decode cX9_status 19 = .ok (.ireturn, 1) := dk_172 (dk_at dksX9_status_0 19 rfl rfl)
def dkwX9_undo_1 : List UInt8 := [180, 0, 169, 4, 100, 181, 0, 169, 42, 3, 42, 42, 180, 0, 169, 182, 1, 147, 182, 1, 150, 4, 172]
abbrev dktX9_undo_1 : List UInt8 := dkwX9_undo_1 ++ []
def dkwX9_undo_0 : List UInt8 := [42, 180, 0, 169, 154, 0, 17, 42, 7, 182, 0, 254, 155, 0, 7, 4, 167, 0, 4, 3, 172, 42, 89]
abbrev dktX9_undo_0 : List UInt8 := dkwX9_undo_0 ++ dktX9_undo_1
theorem dksX9_undo_0 : cX9_undo.data.toList.drop 0 = dktX9_undo_0 := by decide +kernel
theorem dksX9_undo_1 : cX9_undo.data.toList.drop 23 = dktX9_undo_1 := dk_seg dksX9_undo_0 23 rfl rfl
theorem dX9_undo_0 : decode cX9_undo 0 = .ok (.aload_n 0, 1) := dk_42 (dk_at dksX9_undo_0 0 rfl rfl)
theorem dX9_undo_1 : decode cX9_undo 1 = .ok (.getfield 169, 3) := dk_180 0 169 (dk_at dksX9_undo_0 1 rfl rfl)
theorem dX9_undo_4 : decode cX9_undo 4 = .ok (.ifCond .ne 17, 3) := dk_154 0 17 (dk_at dksX9_undo_0 4 rfl rfl)
theorem dX9_undo_7 : decode cX9_undo 7 = .ok (.aload_n 0, 1) := dk_42 (dk_at dksX9_undo_0 7 rfl rfl)
theorem dX9_undo_8 : decode cX9_undo 8 = .ok (.iconst 4, 1) := dk_7 (dk_at dksX9_undo_0 8 rfl rfl)
theorem dX9_undo_9 : decode cX9_undo 9 = .ok (.invokevirtual 254, 3) := dk_182 0 254 (dk_at dksX9_undo_0 9 rfl rfl)
theorem dX9_undo_12 : decode cX9_undo 12 = .ok (.ifCond .lt 7, 3) := dk_155 0 7 (dk_at dksX9_undo_0 12 rfl rfl)
theorem dX9_undo_15 : decode cX9_undo 15 = .ok (.iconst 1, 1) := dk_4 (dk_at dksX9_undo_0 15 rfl rfl)
theorem dX9_undo_16 : decode cX9_undo 16 = .ok (.goto 4, 3) := dk_167 0 4 (dk_at dksX9_undo_0 16 rfl rfl)
theorem dX9_undo_19 : decode cX9_undo 19 = .ok (.iconst 0, 1) := dk_3 (dk_at dksX9_undo_0 19 rfl rfl)
theorem dX9_undo_20 : decode cX9_undo 20 = .ok (.ireturn, 1) := dk_172 (dk_at dksX9_undo_0 20 rfl rfl)
theorem dX9_undo_21 : decode cX9_undo 21 = .ok (.aload_n 0, 1) := dk_42 (dk_at dksX9_undo_0 21 rfl rfl)
theorem dX9_undo_22 : decode cX9_undo 22 = .ok (.dup, 1) := dk_89 (dk_at dksX9_undo_0 22 rfl rfl)
theorem dX9_undo_23 : decode cX9_undo 23 = .ok (.getfield 169, 3) := dk_180 0 169 (dk_at dksX9_undo_1 0 rfl rfl)
theorem dX9_undo_26 : decode cX9_undo 26 = .ok (.iconst 1, 1) := dk_4 (dk_at dksX9_undo_1 3 rfl rfl)
theorem dX9_undo_27 : decode cX9_undo 27 = .ok (.isub, 1) := dk_100 (dk_at dksX9_undo_1 4 rfl rfl)
theorem dX9_undo_28 : decode cX9_undo 28 = .ok (.putfield 169, 3) := dk_181 0 169 (dk_at dksX9_undo_1 5 rfl rfl)
theorem dX9_undo_31 : decode cX9_undo 31 = .ok (.aload_n 0, 1) := dk_42 (dk_at dksX9_undo_1 8 rfl rfl)
theorem dX9_undo_32 : decode cX9_undo 32 = .ok (.iconst 0, 1) := dk_3 (dk_at dksX9_undo_1 9 rfl rfl)
theorem dX9_undo_33 : decode cX9_undo 33 = .ok (.aload_n 0, 1) := dk_42 (dk_at dksX9_undo_1 10 rfl rfl)
theorem dX9_undo_34 : decode cX9_undo 34 = .ok (.aload_n 0, 1) := dk_42 (dk_at dksX9_undo_1 11 rfl rfl)
theorem dX9_undo_35 : decode cX9_undo 35 = .ok (.getfield 169, 3) := dk_180 0 169 (dk_at dksX9_undo_1 12 rfl rfl)
theorem dX9_undo_38 : decode cX9_undo 38 = .ok (.invokevirtual 403, 3) := dk_182 1 147 (dk_at dksX9_undo_1 15 rfl rfl)
theorem dX9_undo_41 : decode cX9_undo 41 = .ok (.invokevirtual 406, 3) := dk_182 1 150 (dk_at dksX9_undo_1 18 rfl rfl)
theorem dX9_undo_44 : decode cX9_undo 44 = .ok (.iconst 1, 1) := dk_4 (dk_at dksX9_undo_1 21 rfl rfl)
theorem dX9_undo_45 : decode cX9_undo 45 = .ok (.ireturn, 1) := dk_172 (dk_at dksX9_undo_1 22 rfl rfl)
def dkwX9_ring_0 : List UInt8 := [5, 42, 180, 0, 166, 27, 96, 16, 20, 112, 96, 172]
abbrev dktX9_ring_0 : List UInt8 := dkwX9_ring_0 ++ []
theorem dksX9_ring_0 : cX9_ring.data.toList.drop 0 = dktX9_ring_0 := by decide +kernel
theorem dX9_ring_0 : decode cX9_ring 0 = .ok (.iconst 2, 1) := dk_5 (dk_at dksX9_ring_0 0 rfl rfl)
theorem dX9_ring_1 : decode cX9_ring 1 = .ok (.aload_n 0, 1) := dk_42 (dk_at dksX9_ring_0 1 rfl rfl)
theorem dX9_ring_2 : decode cX9_ring 2 = .ok (.getfield 166, 3) := dk_180 0 166 (dk_at dksX9_ring_0 2 rfl rfl)
theorem dX9_ring_5 : decode cX9_ring 5 = .ok (.iload_n 1, 1) := dk_27 (dk_at dksX9_ring_0 5 rfl rfl)
theorem dX9_ring_6 : decode cX9_ring 6 = .ok (.iadd, 1) := dk_96 (dk_at dksX9_ring_0 6 rfl rfl)
theorem dX9_ring_7 : decode cX9_ring 7 = .ok (.bipush 20, 2) := dk_16 20 (dk_at dksX9_ring_0 7 rfl rfl)
theorem dX9_ring_9 : decode cX9_ring 9 = .ok (.irem, 1) := dk_112 (dk_at dksX9_ring_0 9 rfl rfl)
theorem dX9_ring_10 : decode cX9_ring 10 = .ok (.iadd, 1) := dk_96 (dk_at dksX9_ring_0 10 rfl rfl)
theorem dX9_ring_11 : decode cX9_ring 11 = .ok (.ireturn, 1) := dk_172 (dk_at dksX9_ring_0 11 rfl rfl)
def dkwX9_copies_8 : List UInt8 := [96, 46, 79, 132, 3, 1, 167, 255, 217, 177]
abbrev dktX9_copies_8 : List UInt8 := dkwX9_copies_8 ++ []
def dkwX9_copies_7 : List UInt8 := [162, 0, 33, 42, 180, 0, 163, 17, 1, 144, 27, 104, 29, 96, 42, 180, 0, 163, 17, 1, 144, 28, 104, 29]
abbrev dktX9_copies_7 : List UInt8 := dkwX9_copies_7 ++ dktX9_copies_8
def dkwX9_copies_6 : List UInt8 := [180, 0, 160, 27, 42, 180, 0, 160, 28, 46, 79, 3, 62, 29, 7, 42, 180, 0, 160, 28, 46, 104]
abbrev dktX9_copies_6 : List UInt8 := dkwX9_copies_6 ++ dktX9_copies_7
def dkwX9_copies_5 : List UInt8 := [16, 12, 21, 5, 104, 21, 6, 96, 46, 79, 132, 6, 1, 167, 255, 220, 132, 3, 1, 167, 255, 133, 42]
abbrev dktX9_copies_5 : List UInt8 := dkwX9_copies_5 ++ dktX9_copies_6
def dkwX9_copies_4 : List UInt8 := [21, 6, 16, 12, 162, 0, 35, 42, 180, 0, 157, 16, 12, 21, 4, 104, 21, 6, 96, 42, 180, 0, 157]
abbrev dktX9_copies_4 : List UInt8 := dkwX9_copies_4 ++ dktX9_copies_5
def dkwX9_copies_3 : List UInt8 := [180, 0, 151, 21, 5, 46, 79, 42, 180, 0, 154, 21, 4, 42, 180, 0, 154, 21, 5, 46, 79, 3, 54, 6]
abbrev dktX9_copies_3 : List UInt8 := dkwX9_copies_3 ++ dktX9_copies_4
def dkwX9_copies_2 : List UInt8 := [46, 79, 42, 180, 0, 148, 21, 4, 42, 180, 0, 148, 21, 5, 46, 79, 42, 180, 0, 151, 21, 4, 42]
abbrev dktX9_copies_2 : List UInt8 := dkwX9_copies_2 ++ dktX9_copies_3
def dkwX9_copies_1 : List UInt8 := [29, 96, 54, 4, 16, 12, 28, 104, 29, 96, 54, 5, 42, 180, 0, 145, 21, 4, 42, 180, 0, 145, 21, 5]
abbrev dktX9_copies_1 : List UInt8 := dkwX9_copies_1 ++ dktX9_copies_2
def dkwX9_copies_0 : List UInt8 := [42, 180, 0, 142, 27, 42, 180, 0, 142, 28, 46, 79, 3, 62, 29, 16, 12, 162, 0, 123, 16, 12, 27, 104]
abbrev dktX9_copies_0 : List UInt8 := dkwX9_copies_0 ++ dktX9_copies_1
theorem dksX9_copies_0 : cX9_copies.data.toList.drop 0 = dktX9_copies_0 := by decide +kernel
theorem dksX9_copies_1 : cX9_copies.data.toList.drop 24 = dktX9_copies_1 := dk_seg dksX9_copies_0 24 rfl rfl
theorem dksX9_copies_2 : cX9_copies.data.toList.drop 48 = dktX9_copies_2 := dk_seg dksX9_copies_1 24 rfl rfl
theorem dksX9_copies_3 : cX9_copies.data.toList.drop 71 = dktX9_copies_3 := dk_seg dksX9_copies_2 23 rfl rfl
theorem dksX9_copies_4 : cX9_copies.data.toList.drop 95 = dktX9_copies_4 := dk_seg dksX9_copies_3 24 rfl rfl
theorem dksX9_copies_5 : cX9_copies.data.toList.drop 118 = dktX9_copies_5 := dk_seg dksX9_copies_4 23 rfl rfl
theorem dksX9_copies_6 : cX9_copies.data.toList.drop 141 = dktX9_copies_6 := dk_seg dksX9_copies_5 23 rfl rfl
theorem dksX9_copies_7 : cX9_copies.data.toList.drop 163 = dktX9_copies_7 := dk_seg dksX9_copies_6 22 rfl rfl
theorem dksX9_copies_8 : cX9_copies.data.toList.drop 187 = dktX9_copies_8 := dk_seg dksX9_copies_7 24 rfl rfl
theorem dX9_copies_0 : decode cX9_copies 0 = .ok (.aload_n 0, 1) := dk_42 (dk_at dksX9_copies_0 0 rfl rfl)
theorem dX9_copies_1 : decode cX9_copies 1 = .ok (.getfield 142, 3) := dk_180 0 142 (dk_at dksX9_copies_0 1 rfl rfl)
theorem dX9_copies_4 : decode cX9_copies 4 = .ok (.iload_n 1, 1) := dk_27 (dk_at dksX9_copies_0 4 rfl rfl)
theorem dX9_copies_5 : decode cX9_copies 5 = .ok (.aload_n 0, 1) := dk_42 (dk_at dksX9_copies_0 5 rfl rfl)
theorem dX9_copies_6 : decode cX9_copies 6 = .ok (.getfield 142, 3) := dk_180 0 142 (dk_at dksX9_copies_0 6 rfl rfl)
theorem dX9_copies_9 : decode cX9_copies 9 = .ok (.iload_n 2, 1) := dk_28 (dk_at dksX9_copies_0 9 rfl rfl)
theorem dX9_copies_10 : decode cX9_copies 10 = .ok (.iaload, 1) := dk_46 (dk_at dksX9_copies_0 10 rfl rfl)
theorem dX9_copies_11 : decode cX9_copies 11 = .ok (.iastore, 1) := dk_79 (dk_at dksX9_copies_0 11 rfl rfl)
theorem dX9_copies_12 : decode cX9_copies 12 = .ok (.iconst 0, 1) := dk_3 (dk_at dksX9_copies_0 12 rfl rfl)
theorem dX9_copies_13 : decode cX9_copies 13 = .ok (.istore_n 3, 1) := dk_62 (dk_at dksX9_copies_0 13 rfl rfl)
theorem dX9_copies_14 : decode cX9_copies 14 = .ok (.iload_n 3, 1) := dk_29 (dk_at dksX9_copies_0 14 rfl rfl)
theorem dX9_copies_15 : decode cX9_copies 15 = .ok (.bipush 12, 2) := dk_16 12 (dk_at dksX9_copies_0 15 rfl rfl)
theorem dX9_copies_17 : decode cX9_copies 17 = .ok (.if_icmp .ge 123, 3) := dk_162 0 123 (dk_at dksX9_copies_0 17 rfl rfl)
theorem dX9_copies_20 : decode cX9_copies 20 = .ok (.bipush 12, 2) := dk_16 12 (dk_at dksX9_copies_0 20 rfl rfl)
theorem dX9_copies_22 : decode cX9_copies 22 = .ok (.iload_n 1, 1) := dk_27 (dk_at dksX9_copies_0 22 rfl rfl)
theorem dX9_copies_23 : decode cX9_copies 23 = .ok (.imul, 1) := dk_104 (dk_at dksX9_copies_0 23 rfl rfl)
theorem dX9_copies_24 : decode cX9_copies 24 = .ok (.iload_n 3, 1) := dk_29 (dk_at dksX9_copies_1 0 rfl rfl)
theorem dX9_copies_25 : decode cX9_copies 25 = .ok (.iadd, 1) := dk_96 (dk_at dksX9_copies_1 1 rfl rfl)
theorem dX9_copies_26 : decode cX9_copies 26 = .ok (.istore 4, 2) := dk_54 4 (dk_at dksX9_copies_1 2 rfl rfl)
theorem dX9_copies_28 : decode cX9_copies 28 = .ok (.bipush 12, 2) := dk_16 12 (dk_at dksX9_copies_1 4 rfl rfl)
theorem dX9_copies_30 : decode cX9_copies 30 = .ok (.iload_n 2, 1) := dk_28 (dk_at dksX9_copies_1 6 rfl rfl)
theorem dX9_copies_31 : decode cX9_copies 31 = .ok (.imul, 1) := dk_104 (dk_at dksX9_copies_1 7 rfl rfl)
theorem dX9_copies_32 : decode cX9_copies 32 = .ok (.iload_n 3, 1) := dk_29 (dk_at dksX9_copies_1 8 rfl rfl)
theorem dX9_copies_33 : decode cX9_copies 33 = .ok (.iadd, 1) := dk_96 (dk_at dksX9_copies_1 9 rfl rfl)
theorem dX9_copies_34 : decode cX9_copies 34 = .ok (.istore 5, 2) := dk_54 5 (dk_at dksX9_copies_1 10 rfl rfl)
theorem dX9_copies_36 : decode cX9_copies 36 = .ok (.aload_n 0, 1) := dk_42 (dk_at dksX9_copies_1 12 rfl rfl)
theorem dX9_copies_37 : decode cX9_copies 37 = .ok (.getfield 145, 3) := dk_180 0 145 (dk_at dksX9_copies_1 13 rfl rfl)
theorem dX9_copies_40 : decode cX9_copies 40 = .ok (.iload 4, 2) := dk_21 4 (dk_at dksX9_copies_1 16 rfl rfl)
theorem dX9_copies_42 : decode cX9_copies 42 = .ok (.aload_n 0, 1) := dk_42 (dk_at dksX9_copies_1 18 rfl rfl)
theorem dX9_copies_43 : decode cX9_copies 43 = .ok (.getfield 145, 3) := dk_180 0 145 (dk_at dksX9_copies_1 19 rfl rfl)
theorem dX9_copies_46 : decode cX9_copies 46 = .ok (.iload 5, 2) := dk_21 5 (dk_at dksX9_copies_1 22 rfl rfl)
theorem dX9_copies_48 : decode cX9_copies 48 = .ok (.iaload, 1) := dk_46 (dk_at dksX9_copies_2 0 rfl rfl)
theorem dX9_copies_49 : decode cX9_copies 49 = .ok (.iastore, 1) := dk_79 (dk_at dksX9_copies_2 1 rfl rfl)
theorem dX9_copies_50 : decode cX9_copies 50 = .ok (.aload_n 0, 1) := dk_42 (dk_at dksX9_copies_2 2 rfl rfl)
theorem dX9_copies_51 : decode cX9_copies 51 = .ok (.getfield 148, 3) := dk_180 0 148 (dk_at dksX9_copies_2 3 rfl rfl)
theorem dX9_copies_54 : decode cX9_copies 54 = .ok (.iload 4, 2) := dk_21 4 (dk_at dksX9_copies_2 6 rfl rfl)
theorem dX9_copies_56 : decode cX9_copies 56 = .ok (.aload_n 0, 1) := dk_42 (dk_at dksX9_copies_2 8 rfl rfl)
theorem dX9_copies_57 : decode cX9_copies 57 = .ok (.getfield 148, 3) := dk_180 0 148 (dk_at dksX9_copies_2 9 rfl rfl)
theorem dX9_copies_60 : decode cX9_copies 60 = .ok (.iload 5, 2) := dk_21 5 (dk_at dksX9_copies_2 12 rfl rfl)
theorem dX9_copies_62 : decode cX9_copies 62 = .ok (.iaload, 1) := dk_46 (dk_at dksX9_copies_2 14 rfl rfl)
theorem dX9_copies_63 : decode cX9_copies 63 = .ok (.iastore, 1) := dk_79 (dk_at dksX9_copies_2 15 rfl rfl)
theorem dX9_copies_64 : decode cX9_copies 64 = .ok (.aload_n 0, 1) := dk_42 (dk_at dksX9_copies_2 16 rfl rfl)
theorem dX9_copies_65 : decode cX9_copies 65 = .ok (.getfield 151, 3) := dk_180 0 151 (dk_at dksX9_copies_2 17 rfl rfl)
theorem dX9_copies_68 : decode cX9_copies 68 = .ok (.iload 4, 2) := dk_21 4 (dk_at dksX9_copies_2 20 rfl rfl)
theorem dX9_copies_70 : decode cX9_copies 70 = .ok (.aload_n 0, 1) := dk_42 (dk_at dksX9_copies_2 22 rfl rfl)
theorem dX9_copies_71 : decode cX9_copies 71 = .ok (.getfield 151, 3) := dk_180 0 151 (dk_at dksX9_copies_3 0 rfl rfl)
theorem dX9_copies_74 : decode cX9_copies 74 = .ok (.iload 5, 2) := dk_21 5 (dk_at dksX9_copies_3 3 rfl rfl)
theorem dX9_copies_76 : decode cX9_copies 76 = .ok (.iaload, 1) := dk_46 (dk_at dksX9_copies_3 5 rfl rfl)
theorem dX9_copies_77 : decode cX9_copies 77 = .ok (.iastore, 1) := dk_79 (dk_at dksX9_copies_3 6 rfl rfl)
theorem dX9_copies_78 : decode cX9_copies 78 = .ok (.aload_n 0, 1) := dk_42 (dk_at dksX9_copies_3 7 rfl rfl)
theorem dX9_copies_79 : decode cX9_copies 79 = .ok (.getfield 154, 3) := dk_180 0 154 (dk_at dksX9_copies_3 8 rfl rfl)
theorem dX9_copies_82 : decode cX9_copies 82 = .ok (.iload 4, 2) := dk_21 4 (dk_at dksX9_copies_3 11 rfl rfl)
theorem dX9_copies_84 : decode cX9_copies 84 = .ok (.aload_n 0, 1) := dk_42 (dk_at dksX9_copies_3 13 rfl rfl)
theorem dX9_copies_85 : decode cX9_copies 85 = .ok (.getfield 154, 3) := dk_180 0 154 (dk_at dksX9_copies_3 14 rfl rfl)
theorem dX9_copies_88 : decode cX9_copies 88 = .ok (.iload 5, 2) := dk_21 5 (dk_at dksX9_copies_3 17 rfl rfl)
theorem dX9_copies_90 : decode cX9_copies 90 = .ok (.iaload, 1) := dk_46 (dk_at dksX9_copies_3 19 rfl rfl)
theorem dX9_copies_91 : decode cX9_copies 91 = .ok (.iastore, 1) := dk_79 (dk_at dksX9_copies_3 20 rfl rfl)
theorem dX9_copies_92 : decode cX9_copies 92 = .ok (.iconst 0, 1) := dk_3 (dk_at dksX9_copies_3 21 rfl rfl)
theorem dX9_copies_93 : decode cX9_copies 93 = .ok (.istore 6, 2) := dk_54 6 (dk_at dksX9_copies_3 22 rfl rfl)
theorem dX9_copies_95 : decode cX9_copies 95 = .ok (.iload 6, 2) := dk_21 6 (dk_at dksX9_copies_4 0 rfl rfl)
theorem dX9_copies_97 : decode cX9_copies 97 = .ok (.bipush 12, 2) := dk_16 12 (dk_at dksX9_copies_4 2 rfl rfl)
theorem dX9_copies_99 : decode cX9_copies 99 = .ok (.if_icmp .ge 35, 3) := dk_162 0 35 (dk_at dksX9_copies_4 4 rfl rfl)
theorem dX9_copies_102 : decode cX9_copies 102 = .ok (.aload_n 0, 1) := dk_42 (dk_at dksX9_copies_4 7 rfl rfl)
theorem dX9_copies_103 : decode cX9_copies 103 = .ok (.getfield 157, 3) := dk_180 0 157 (dk_at dksX9_copies_4 8 rfl rfl)
theorem dX9_copies_106 : decode cX9_copies 106 = .ok (.bipush 12, 2) := dk_16 12 (dk_at dksX9_copies_4 11 rfl rfl)
theorem dX9_copies_108 : decode cX9_copies 108 = .ok (.iload 4, 2) := dk_21 4 (dk_at dksX9_copies_4 13 rfl rfl)
theorem dX9_copies_110 : decode cX9_copies 110 = .ok (.imul, 1) := dk_104 (dk_at dksX9_copies_4 15 rfl rfl)
theorem dX9_copies_111 : decode cX9_copies 111 = .ok (.iload 6, 2) := dk_21 6 (dk_at dksX9_copies_4 16 rfl rfl)
theorem dX9_copies_113 : decode cX9_copies 113 = .ok (.iadd, 1) := dk_96 (dk_at dksX9_copies_4 18 rfl rfl)
theorem dX9_copies_114 : decode cX9_copies 114 = .ok (.aload_n 0, 1) := dk_42 (dk_at dksX9_copies_4 19 rfl rfl)
theorem dX9_copies_115 : decode cX9_copies 115 = .ok (.getfield 157, 3) := dk_180 0 157 (dk_at dksX9_copies_4 20 rfl rfl)
theorem dX9_copies_118 : decode cX9_copies 118 = .ok (.bipush 12, 2) := dk_16 12 (dk_at dksX9_copies_5 0 rfl rfl)
theorem dX9_copies_120 : decode cX9_copies 120 = .ok (.iload 5, 2) := dk_21 5 (dk_at dksX9_copies_5 2 rfl rfl)
theorem dX9_copies_122 : decode cX9_copies 122 = .ok (.imul, 1) := dk_104 (dk_at dksX9_copies_5 4 rfl rfl)
theorem dX9_copies_123 : decode cX9_copies 123 = .ok (.iload 6, 2) := dk_21 6 (dk_at dksX9_copies_5 5 rfl rfl)
theorem dX9_copies_125 : decode cX9_copies 125 = .ok (.iadd, 1) := dk_96 (dk_at dksX9_copies_5 7 rfl rfl)
theorem dX9_copies_126 : decode cX9_copies 126 = .ok (.iaload, 1) := dk_46 (dk_at dksX9_copies_5 8 rfl rfl)
theorem dX9_copies_127 : decode cX9_copies 127 = .ok (.iastore, 1) := dk_79 (dk_at dksX9_copies_5 9 rfl rfl)
theorem dX9_copies_128 : decode cX9_copies 128 = .ok (.iinc 6 1, 3) := dk_132 6 1 (dk_at dksX9_copies_5 10 rfl rfl)
theorem dX9_copies_131 : decode cX9_copies 131 = .ok (.goto (-36), 3) := dk_167 255 220 (dk_at dksX9_copies_5 13 rfl rfl)
theorem dX9_copies_134 : decode cX9_copies 134 = .ok (.iinc 3 1, 3) := dk_132 3 1 (dk_at dksX9_copies_5 16 rfl rfl)
theorem dX9_copies_137 : decode cX9_copies 137 = .ok (.goto (-123), 3) := dk_167 255 133 (dk_at dksX9_copies_5 19 rfl rfl)
theorem dX9_copies_140 : decode cX9_copies 140 = .ok (.aload_n 0, 1) := dk_42 (dk_at dksX9_copies_5 22 rfl rfl)
theorem dX9_copies_141 : decode cX9_copies 141 = .ok (.getfield 160, 3) := dk_180 0 160 (dk_at dksX9_copies_6 0 rfl rfl)
theorem dX9_copies_144 : decode cX9_copies 144 = .ok (.iload_n 1, 1) := dk_27 (dk_at dksX9_copies_6 3 rfl rfl)
theorem dX9_copies_145 : decode cX9_copies 145 = .ok (.aload_n 0, 1) := dk_42 (dk_at dksX9_copies_6 4 rfl rfl)
theorem dX9_copies_146 : decode cX9_copies 146 = .ok (.getfield 160, 3) := dk_180 0 160 (dk_at dksX9_copies_6 5 rfl rfl)
theorem dX9_copies_149 : decode cX9_copies 149 = .ok (.iload_n 2, 1) := dk_28 (dk_at dksX9_copies_6 8 rfl rfl)
theorem dX9_copies_150 : decode cX9_copies 150 = .ok (.iaload, 1) := dk_46 (dk_at dksX9_copies_6 9 rfl rfl)
theorem dX9_copies_151 : decode cX9_copies 151 = .ok (.iastore, 1) := dk_79 (dk_at dksX9_copies_6 10 rfl rfl)
theorem dX9_copies_152 : decode cX9_copies 152 = .ok (.iconst 0, 1) := dk_3 (dk_at dksX9_copies_6 11 rfl rfl)
theorem dX9_copies_153 : decode cX9_copies 153 = .ok (.istore_n 3, 1) := dk_62 (dk_at dksX9_copies_6 12 rfl rfl)
theorem dX9_copies_154 : decode cX9_copies 154 = .ok (.iload_n 3, 1) := dk_29 (dk_at dksX9_copies_6 13 rfl rfl)
theorem dX9_copies_155 : decode cX9_copies 155 = .ok (.iconst 4, 1) := dk_7 (dk_at dksX9_copies_6 14 rfl rfl)
theorem dX9_copies_156 : decode cX9_copies 156 = .ok (.aload_n 0, 1) := dk_42 (dk_at dksX9_copies_6 15 rfl rfl)
theorem dX9_copies_157 : decode cX9_copies 157 = .ok (.getfield 160, 3) := dk_180 0 160 (dk_at dksX9_copies_6 16 rfl rfl)
theorem dX9_copies_160 : decode cX9_copies 160 = .ok (.iload_n 2, 1) := dk_28 (dk_at dksX9_copies_6 19 rfl rfl)
theorem dX9_copies_161 : decode cX9_copies 161 = .ok (.iaload, 1) := dk_46 (dk_at dksX9_copies_6 20 rfl rfl)
theorem dX9_copies_162 : decode cX9_copies 162 = .ok (.imul, 1) := dk_104 (dk_at dksX9_copies_6 21 rfl rfl)
theorem dX9_copies_163 : decode cX9_copies 163 = .ok (.if_icmp .ge 33, 3) := dk_162 0 33 (dk_at dksX9_copies_7 0 rfl rfl)
theorem dX9_copies_166 : decode cX9_copies 166 = .ok (.aload_n 0, 1) := dk_42 (dk_at dksX9_copies_7 3 rfl rfl)
theorem dX9_copies_167 : decode cX9_copies 167 = .ok (.getfield 163, 3) := dk_180 0 163 (dk_at dksX9_copies_7 4 rfl rfl)
theorem dX9_copies_170 : decode cX9_copies 170 = .ok (.sipush 400, 3) := dk_17 1 144 (dk_at dksX9_copies_7 7 rfl rfl)
theorem dX9_copies_173 : decode cX9_copies 173 = .ok (.iload_n 1, 1) := dk_27 (dk_at dksX9_copies_7 10 rfl rfl)
theorem dX9_copies_174 : decode cX9_copies 174 = .ok (.imul, 1) := dk_104 (dk_at dksX9_copies_7 11 rfl rfl)
theorem dX9_copies_175 : decode cX9_copies 175 = .ok (.iload_n 3, 1) := dk_29 (dk_at dksX9_copies_7 12 rfl rfl)
theorem dX9_copies_176 : decode cX9_copies 176 = .ok (.iadd, 1) := dk_96 (dk_at dksX9_copies_7 13 rfl rfl)
theorem dX9_copies_177 : decode cX9_copies 177 = .ok (.aload_n 0, 1) := dk_42 (dk_at dksX9_copies_7 14 rfl rfl)
theorem dX9_copies_178 : decode cX9_copies 178 = .ok (.getfield 163, 3) := dk_180 0 163 (dk_at dksX9_copies_7 15 rfl rfl)
theorem dX9_copies_181 : decode cX9_copies 181 = .ok (.sipush 400, 3) := dk_17 1 144 (dk_at dksX9_copies_7 18 rfl rfl)
theorem dX9_copies_184 : decode cX9_copies 184 = .ok (.iload_n 2, 1) := dk_28 (dk_at dksX9_copies_7 21 rfl rfl)
theorem dX9_copies_185 : decode cX9_copies 185 = .ok (.imul, 1) := dk_104 (dk_at dksX9_copies_7 22 rfl rfl)
theorem dX9_copies_186 : decode cX9_copies 186 = .ok (.iload_n 3, 1) := dk_29 (dk_at dksX9_copies_7 23 rfl rfl)
theorem dX9_copies_187 : decode cX9_copies 187 = .ok (.iadd, 1) := dk_96 (dk_at dksX9_copies_8 0 rfl rfl)
theorem dX9_copies_188 : decode cX9_copies 188 = .ok (.iaload, 1) := dk_46 (dk_at dksX9_copies_8 1 rfl rfl)
theorem dX9_copies_189 : decode cX9_copies 189 = .ok (.iastore, 1) := dk_79 (dk_at dksX9_copies_8 2 rfl rfl)
theorem dX9_copies_190 : decode cX9_copies 190 = .ok (.iinc 3 1, 3) := dk_132 3 1 (dk_at dksX9_copies_8 3 rfl rfl)
theorem dX9_copies_193 : decode cX9_copies 193 = .ok (.goto (-39), 3) := dk_167 255 217 (dk_at dksX9_copies_8 6 rfl rfl)
theorem dX9_copies_196 : decode cX9_copies 196 = .ok (.return_, 1) := dk_177 (dk_at dksX9_copies_8 9 rfl rfl)
def dkwX9_alike_1 : List UInt8 := [167, 0, 4, 2, 172]
abbrev dktX9_alike_1 : List UInt8 := dkwX9_alike_1 ++ []
def dkwX9_alike_0 : List UInt8 := [42, 27, 182, 1, 153, 153, 0, 20, 42, 28, 182, 1, 153, 153, 0, 12, 42, 27, 28, 182, 1, 156]
abbrev dktX9_alike_0 : List UInt8 := dkwX9_alike_0 ++ dktX9_alike_1
theorem dksX9_alike_0 : cX9_alike.data.toList.drop 0 = dktX9_alike_0 := by decide +kernel
theorem dksX9_alike_1 : cX9_alike.data.toList.drop 22 = dktX9_alike_1 := dk_seg dksX9_alike_0 22 rfl rfl
theorem dX9_alike_0 : decode cX9_alike 0 = .ok (.aload_n 0, 1) := dk_42 (dk_at dksX9_alike_0 0 rfl rfl)
theorem dX9_alike_1 : decode cX9_alike 1 = .ok (.iload_n 1, 1) := dk_27 (dk_at dksX9_alike_0 1 rfl rfl)
theorem dX9_alike_2 : decode cX9_alike 2 = .ok (.invokevirtual 409, 3) := dk_182 1 153 (dk_at dksX9_alike_0 2 rfl rfl)
theorem dX9_alike_5 : decode cX9_alike 5 = .ok (.ifCond .eq 20, 3) := dk_153 0 20 (dk_at dksX9_alike_0 5 rfl rfl)
theorem dX9_alike_8 : decode cX9_alike 8 = .ok (.aload_n 0, 1) := dk_42 (dk_at dksX9_alike_0 8 rfl rfl)
theorem dX9_alike_9 : decode cX9_alike 9 = .ok (.iload_n 2, 1) := dk_28 (dk_at dksX9_alike_0 9 rfl rfl)
theorem dX9_alike_10 : decode cX9_alike 10 = .ok (.invokevirtual 409, 3) := dk_182 1 153 (dk_at dksX9_alike_0 10 rfl rfl)
theorem dX9_alike_13 : decode cX9_alike 13 = .ok (.ifCond .eq 12, 3) := dk_153 0 12 (dk_at dksX9_alike_0 13 rfl rfl)
theorem dX9_alike_16 : decode cX9_alike 16 = .ok (.aload_n 0, 1) := dk_42 (dk_at dksX9_alike_0 16 rfl rfl)
theorem dX9_alike_17 : decode cX9_alike 17 = .ok (.iload_n 1, 1) := dk_27 (dk_at dksX9_alike_0 17 rfl rfl)
theorem dX9_alike_18 : decode cX9_alike 18 = .ok (.iload_n 2, 1) := dk_28 (dk_at dksX9_alike_0 18 rfl rfl)
theorem dX9_alike_19 : decode cX9_alike 19 = .ok (.invokevirtual 412, 3) := dk_182 1 156 (dk_at dksX9_alike_0 19 rfl rfl)
theorem dX9_alike_22 : decode cX9_alike 22 = .ok (.goto 4, 3) := dk_167 0 4 (dk_at dksX9_alike_1 0 rfl rfl)
theorem dX9_alike_25 : decode cX9_alike 25 = .ok (.iconst (-1), 1) := dk_2 (dk_at dksX9_alike_1 3 rfl rfl)
theorem dX9_alike_26 : decode cX9_alike 26 = .ok (.ireturn, 1) := dk_172 (dk_at dksX9_alike_1 4 rfl rfl)
