set_option maxRecDepth 100000
def dkwX0_init_3 : List UInt8 := [182, 0, 119, 42, 182, 0, 122, 42, 182, 0, 125, 177]
abbrev dktX0_init_3 : List UInt8 := dkwX0_init_3 ++ []
def dkwX0_init_2 : List UInt8 := [183, 0, 98, 181, 0, 110, 42, 187, 0, 96, 89, 183, 0, 98, 181, 0, 113, 42, 182, 0, 116, 42]
abbrev dktX0_init_2 : List UInt8 := dkwX0_init_2 ++ dktX0_init_3
def dkwX0_init_1 : List UInt8 := [42, 187, 0, 96, 89, 183, 0, 98, 181, 0, 103, 42, 16, 16, 188, 10, 181, 0, 106, 42, 187, 0, 96, 89]
abbrev dktX0_init_1 : List UInt8 := dkwX0_init_1 ++ dktX0_init_2
def dkwX0_init_0 : List UInt8 := [42, 183, 0, 89, 42, 16, 22, 189, 0, 94, 181, 0, 15, 42, 187, 0, 96, 89, 183, 0, 98, 181, 0, 99]
abbrev dktX0_init_0 : List UInt8 := dkwX0_init_0 ++ dktX0_init_1
theorem dksX0_init_0 : cX0_init.data.toList.drop 0 = dktX0_init_0 := by decide +kernel
theorem dksX0_init_1 : cX0_init.data.toList.drop 24 = dktX0_init_1 := dk_seg dksX0_init_0 24 rfl rfl
theorem dksX0_init_2 : cX0_init.data.toList.drop 48 = dktX0_init_2 := dk_seg dksX0_init_1 24 rfl rfl
theorem dksX0_init_3 : cX0_init.data.toList.drop 70 = dktX0_init_3 := dk_seg dksX0_init_2 22 rfl rfl
theorem dX0_init_0 : decode cX0_init 0 = .ok (.aload_n 0, 1) := dk_42 (dk_at dksX0_init_0 0 rfl rfl)
theorem dX0_init_1 : decode cX0_init 1 = .ok (.invokespecial 89, 3) := dk_183 0 89 (dk_at dksX0_init_0 1 rfl rfl)
theorem dX0_init_4 : decode cX0_init 4 = .ok (.aload_n 0, 1) := dk_42 (dk_at dksX0_init_0 4 rfl rfl)
theorem dX0_init_5 : decode cX0_init 5 = .ok (.bipush 22, 2) := dk_16 22 (dk_at dksX0_init_0 5 rfl rfl)
theorem dX0_init_7 : decode cX0_init 7 = .ok (.anewarray 94, 3) := dk_189 0 94 (dk_at dksX0_init_0 7 rfl rfl)
theorem dX0_init_10 : decode cX0_init 10 = .ok (.putfield 15, 3) := dk_181 0 15 (dk_at dksX0_init_0 10 rfl rfl)
theorem dX0_init_13 : decode cX0_init 13 = .ok (.aload_n 0, 1) := dk_42 (dk_at dksX0_init_0 13 rfl rfl)
theorem dX0_init_14 : decode cX0_init 14 = .ok (.new 96, 3) := dk_187 0 96 (dk_at dksX0_init_0 14 rfl rfl)
theorem dX0_init_17 : decode cX0_init 17 = .ok (.dup, 1) := dk_89 (dk_at dksX0_init_0 17 rfl rfl)
theorem dX0_init_18 : decode cX0_init 18 = .ok (.invokespecial 98, 3) := dk_183 0 98 (dk_at dksX0_init_0 18 rfl rfl)
theorem dX0_init_21 : decode cX0_init 21 = .ok (.putfield 99, 3) := dk_181 0 99 (dk_at dksX0_init_0 21 rfl rfl)
theorem dX0_init_24 : decode cX0_init 24 = .ok (.aload_n 0, 1) := dk_42 (dk_at dksX0_init_1 0 rfl rfl)
theorem dX0_init_25 : decode cX0_init 25 = .ok (.new 96, 3) := dk_187 0 96 (dk_at dksX0_init_1 1 rfl rfl)
theorem dX0_init_28 : decode cX0_init 28 = .ok (.dup, 1) := dk_89 (dk_at dksX0_init_1 4 rfl rfl)
theorem dX0_init_29 : decode cX0_init 29 = .ok (.invokespecial 98, 3) := dk_183 0 98 (dk_at dksX0_init_1 5 rfl rfl)
theorem dX0_init_32 : decode cX0_init 32 = .ok (.putfield 103, 3) := dk_181 0 103 (dk_at dksX0_init_1 8 rfl rfl)
theorem dX0_init_35 : decode cX0_init 35 = .ok (.aload_n 0, 1) := dk_42 (dk_at dksX0_init_1 11 rfl rfl)
theorem dX0_init_36 : decode cX0_init 36 = .ok (.bipush 16, 2) := dk_16 16 (dk_at dksX0_init_1 12 rfl rfl)
theorem dX0_init_38 : decode cX0_init 38 = .ok (.newarray .int, 2) := dk_188_10 (dk_at dksX0_init_1 14 rfl rfl)
theorem dX0_init_40 : decode cX0_init 40 = .ok (.putfield 106, 3) := dk_181 0 106 (dk_at dksX0_init_1 16 rfl rfl)
theorem dX0_init_43 : decode cX0_init 43 = .ok (.aload_n 0, 1) := dk_42 (dk_at dksX0_init_1 19 rfl rfl)
theorem dX0_init_44 : decode cX0_init 44 = .ok (.new 96, 3) := dk_187 0 96 (dk_at dksX0_init_1 20 rfl rfl)
theorem dX0_init_47 : decode cX0_init 47 = .ok (.dup, 1) := dk_89 (dk_at dksX0_init_1 23 rfl rfl)
theorem dX0_init_48 : decode cX0_init 48 = .ok (.invokespecial 98, 3) := dk_183 0 98 (dk_at dksX0_init_2 0 rfl rfl)
theorem dX0_init_51 : decode cX0_init 51 = .ok (.putfield 110, 3) := dk_181 0 110 (dk_at dksX0_init_2 3 rfl rfl)
theorem dX0_init_54 : decode cX0_init 54 = .ok (.aload_n 0, 1) := dk_42 (dk_at dksX0_init_2 6 rfl rfl)
theorem dX0_init_55 : decode cX0_init 55 = .ok (.new 96, 3) := dk_187 0 96 (dk_at dksX0_init_2 7 rfl rfl)
theorem dX0_init_58 : decode cX0_init 58 = .ok (.dup, 1) := dk_89 (dk_at dksX0_init_2 10 rfl rfl)
theorem dX0_init_59 : decode cX0_init 59 = .ok (.invokespecial 98, 3) := dk_183 0 98 (dk_at dksX0_init_2 11 rfl rfl)
theorem dX0_init_62 : decode cX0_init 62 = .ok (.putfield 113, 3) := dk_181 0 113 (dk_at dksX0_init_2 14 rfl rfl)
theorem dX0_init_65 : decode cX0_init 65 = .ok (.aload_n 0, 1) := dk_42 (dk_at dksX0_init_2 17 rfl rfl)
theorem dX0_init_66 : decode cX0_init 66 = .ok (.invokevirtual 116, 3) := dk_182 0 116 (dk_at dksX0_init_2 18 rfl rfl)
theorem dX0_init_69 : decode cX0_init 69 = .ok (.aload_n 0, 1) := dk_42 (dk_at dksX0_init_2 21 rfl rfl)
theorem dX0_init_70 : decode cX0_init 70 = .ok (.invokevirtual 119, 3) := dk_182 0 119 (dk_at dksX0_init_3 0 rfl rfl)
theorem dX0_init_73 : decode cX0_init 73 = .ok (.aload_n 0, 1) := dk_42 (dk_at dksX0_init_3 3 rfl rfl)
theorem dX0_init_74 : decode cX0_init 74 = .ok (.invokevirtual 122, 3) := dk_182 0 122 (dk_at dksX0_init_3 4 rfl rfl)
theorem dX0_init_77 : decode cX0_init 77 = .ok (.aload_n 0, 1) := dk_42 (dk_at dksX0_init_3 7 rfl rfl)
theorem dX0_init_78 : decode cX0_init 78 = .ok (.invokevirtual 125, 3) := dk_182 0 125 (dk_at dksX0_init_3 8 rfl rfl)
theorem dX0_init_81 : decode cX0_init 81 = .ok (.return_, 1) := dk_177 (dk_at dksX0_init_3 11 rfl rfl)
def dkwX0_makesCells_3 : List UInt8 := [5, 183, 0, 35, 83, 177]
abbrev dktX0_makesCells_3 : List UInt8 := dkwX0_makesCells_3 ++ []
def dkwX0_makesCells_2 : List UInt8 := [180, 0, 15, 6, 187, 0, 30, 89, 42, 4, 183, 0, 32, 83, 42, 180, 0, 15, 7, 187, 0, 33, 89, 42]
abbrev dktX0_makesCells_2 : List UInt8 := dkwX0_makesCells_2 ++ dktX0_makesCells_3
def dkwX0_makesCells_1 : List UInt8 := [42, 3, 183, 0, 26, 83, 42, 180, 0, 15, 5, 187, 0, 27, 89, 42, 4, 183, 0, 29, 83, 42]
abbrev dktX0_makesCells_1 : List UInt8 := dkwX0_makesCells_1 ++ dktX0_makesCells_2
def dkwX0_makesCells_0 : List UInt8 := [42, 180, 0, 15, 3, 187, 0, 19, 89, 42, 3, 183, 0, 21, 83, 42, 180, 0, 15, 4, 187, 0, 24, 89]
abbrev dktX0_makesCells_0 : List UInt8 := dkwX0_makesCells_0 ++ dktX0_makesCells_1
theorem dksX0_makesCells_0 : cX0_makesCells.data.toList.drop 0 = dktX0_makesCells_0 := by decide +kernel
theorem dksX0_makesCells_1 : cX0_makesCells.data.toList.drop 24 = dktX0_makesCells_1 := dk_seg dksX0_makesCells_0 24 rfl rfl
theorem dksX0_makesCells_2 : cX0_makesCells.data.toList.drop 46 = dktX0_makesCells_2 := dk_seg dksX0_makesCells_1 22 rfl rfl
theorem dksX0_makesCells_3 : cX0_makesCells.data.toList.drop 70 = dktX0_makesCells_3 := dk_seg dksX0_makesCells_2 24 rfl rfl
theorem dX0_makesCells_0 : decode cX0_makesCells 0 = .ok (.aload_n 0, 1) := dk_42 (dk_at dksX0_makesCells_0 0 rfl rfl)
theorem dX0_makesCells_1 : decode cX0_makesCells 1 = .ok (.getfield 15, 3) := dk_180 0 15 (dk_at dksX0_makesCells_0 1 rfl rfl)
theorem dX0_makesCells_4 : decode cX0_makesCells 4 = .ok (.iconst 0, 1) := dk_3 (dk_at dksX0_makesCells_0 4 rfl rfl)
theorem dX0_makesCells_5 : decode cX0_makesCells 5 = .ok (.new 19, 3) := dk_187 0 19 (dk_at dksX0_makesCells_0 5 rfl rfl)
theorem dX0_makesCells_8 : decode cX0_makesCells 8 = .ok (.dup, 1) := dk_89 (dk_at dksX0_makesCells_0 8 rfl rfl)
theorem dX0_makesCells_9 : decode cX0_makesCells 9 = .ok (.aload_n 0, 1) := dk_42 (dk_at dksX0_makesCells_0 9 rfl rfl)
theorem dX0_makesCells_10 : decode cX0_makesCells 10 = .ok (.iconst 0, 1) := dk_3 (dk_at dksX0_makesCells_0 10 rfl rfl)
theorem dX0_makesCells_11 : decode cX0_makesCells 11 = .ok (.invokespecial 21, 3) := dk_183 0 21 (dk_at dksX0_makesCells_0 11 rfl rfl)
theorem dX0_makesCells_14 : decode cX0_makesCells 14 = .ok (.aastore, 1) := dk_83 (dk_at dksX0_makesCells_0 14 rfl rfl)
theorem dX0_makesCells_15 : decode cX0_makesCells 15 = .ok (.aload_n 0, 1) := dk_42 (dk_at dksX0_makesCells_0 15 rfl rfl)
theorem dX0_makesCells_16 : decode cX0_makesCells 16 = .ok (.getfield 15, 3) := dk_180 0 15 (dk_at dksX0_makesCells_0 16 rfl rfl)
theorem dX0_makesCells_19 : decode cX0_makesCells 19 = .ok (.iconst 1, 1) := dk_4 (dk_at dksX0_makesCells_0 19 rfl rfl)
theorem dX0_makesCells_20 : decode cX0_makesCells 20 = .ok (.new 24, 3) := dk_187 0 24 (dk_at dksX0_makesCells_0 20 rfl rfl)
theorem dX0_makesCells_23 : decode cX0_makesCells 23 = .ok (.dup, 1) := dk_89 (dk_at dksX0_makesCells_0 23 rfl rfl)
theorem dX0_makesCells_24 : decode cX0_makesCells 24 = .ok (.aload_n 0, 1) := dk_42 (dk_at dksX0_makesCells_1 0 rfl rfl)
theorem dX0_makesCells_25 : decode cX0_makesCells 25 = .ok (.iconst 0, 1) := dk_3 (dk_at dksX0_makesCells_1 1 rfl rfl)
theorem dX0_makesCells_26 : decode cX0_makesCells 26 = .ok (.invokespecial 26, 3) := dk_183 0 26 (dk_at dksX0_makesCells_1 2 rfl rfl)
theorem dX0_makesCells_29 : decode cX0_makesCells 29 = .ok (.aastore, 1) := dk_83 (dk_at dksX0_makesCells_1 5 rfl rfl)
theorem dX0_makesCells_30 : decode cX0_makesCells 30 = .ok (.aload_n 0, 1) := dk_42 (dk_at dksX0_makesCells_1 6 rfl rfl)
theorem dX0_makesCells_31 : decode cX0_makesCells 31 = .ok (.getfield 15, 3) := dk_180 0 15 (dk_at dksX0_makesCells_1 7 rfl rfl)
theorem dX0_makesCells_34 : decode cX0_makesCells 34 = .ok (.iconst 2, 1) := dk_5 (dk_at dksX0_makesCells_1 10 rfl rfl)
theorem dX0_makesCells_35 : decode cX0_makesCells 35 = .ok (.new 27, 3) := dk_187 0 27 (dk_at dksX0_makesCells_1 11 rfl rfl)
theorem dX0_makesCells_38 : decode cX0_makesCells 38 = .ok (.dup, 1) := dk_89 (dk_at dksX0_makesCells_1 14 rfl rfl)
theorem dX0_makesCells_39 : decode cX0_makesCells 39 = .ok (.aload_n 0, 1) := dk_42 (dk_at dksX0_makesCells_1 15 rfl rfl)
theorem dX0_makesCells_40 : decode cX0_makesCells 40 = .ok (.iconst 1, 1) := dk_4 (dk_at dksX0_makesCells_1 16 rfl rfl)
theorem dX0_makesCells_41 : decode cX0_makesCells 41 = .ok (.invokespecial 29, 3) := dk_183 0 29 (dk_at dksX0_makesCells_1 17 rfl rfl)
theorem dX0_makesCells_44 : decode cX0_makesCells 44 = .ok (.aastore, 1) := dk_83 (dk_at dksX0_makesCells_1 20 rfl rfl)
theorem dX0_makesCells_45 : decode cX0_makesCells 45 = .ok (.aload_n 0, 1) := dk_42 (dk_at dksX0_makesCells_1 21 rfl rfl)
theorem dX0_makesCells_46 : decode cX0_makesCells 46 = .ok (.getfield 15, 3) := dk_180 0 15 (dk_at dksX0_makesCells_2 0 rfl rfl)
theorem dX0_makesCells_49 : decode cX0_makesCells 49 = .ok (.iconst 3, 1) := dk_6 (dk_at dksX0_makesCells_2 3 rfl rfl)
theorem dX0_makesCells_50 : decode cX0_makesCells 50 = .ok (.new 30, 3) := dk_187 0 30 (dk_at dksX0_makesCells_2 4 rfl rfl)
theorem dX0_makesCells_53 : decode cX0_makesCells 53 = .ok (.dup, 1) := dk_89 (dk_at dksX0_makesCells_2 7 rfl rfl)
theorem dX0_makesCells_54 : decode cX0_makesCells 54 = .ok (.aload_n 0, 1) := dk_42 (dk_at dksX0_makesCells_2 8 rfl rfl)
theorem dX0_makesCells_55 : decode cX0_makesCells 55 = .ok (.iconst 1, 1) := dk_4 (dk_at dksX0_makesCells_2 9 rfl rfl)
theorem dX0_makesCells_56 : decode cX0_makesCells 56 = .ok (.invokespecial 32, 3) := dk_183 0 32 (dk_at dksX0_makesCells_2 10 rfl rfl)
theorem dX0_makesCells_59 : decode cX0_makesCells 59 = .ok (.aastore, 1) := dk_83 (dk_at dksX0_makesCells_2 13 rfl rfl)
theorem dX0_makesCells_60 : decode cX0_makesCells 60 = .ok (.aload_n 0, 1) := dk_42 (dk_at dksX0_makesCells_2 14 rfl rfl)
theorem dX0_makesCells_61 : decode cX0_makesCells 61 = .ok (.getfield 15, 3) := dk_180 0 15 (dk_at dksX0_makesCells_2 15 rfl rfl)
theorem dX0_makesCells_64 : decode cX0_makesCells 64 = .ok (.iconst 4, 1) := dk_7 (dk_at dksX0_makesCells_2 18 rfl rfl)
theorem dX0_makesCells_65 : decode cX0_makesCells 65 = .ok (.new 33, 3) := dk_187 0 33 (dk_at dksX0_makesCells_2 19 rfl rfl)
theorem dX0_makesCells_68 : decode cX0_makesCells 68 = .ok (.dup, 1) := dk_89 (dk_at dksX0_makesCells_2 22 rfl rfl)
theorem dX0_makesCells_69 : decode cX0_makesCells 69 = .ok (.aload_n 0, 1) := dk_42 (dk_at dksX0_makesCells_2 23 rfl rfl)
theorem dX0_makesCells_70 : decode cX0_makesCells 70 = .ok (.iconst 2, 1) := dk_5 (dk_at dksX0_makesCells_3 0 rfl rfl)
theorem dX0_makesCells_71 : decode cX0_makesCells 71 = .ok (.invokespecial 35, 3) := dk_183 0 35 (dk_at dksX0_makesCells_3 1 rfl rfl)
theorem dX0_makesCells_74 : decode cX0_makesCells 74 = .ok (.aastore, 1) := dk_83 (dk_at dksX0_makesCells_3 4 rfl rfl)
theorem dX0_makesCells_75 : decode cX0_makesCells 75 = .ok (.return_, 1) := dk_177 (dk_at dksX0_makesCells_3 5 rfl rfl)
def dkwX0_makesReckoners_4 : List UInt8 := [16, 11, 187, 0, 56, 89, 42, 183, 0, 58, 83, 177]
abbrev dktX0_makesReckoners_4 : List UInt8 := dkwX0_makesReckoners_4 ++ []
def dkwX0_makesReckoners_3 : List UInt8 := [183, 0, 52, 83, 42, 180, 0, 15, 16, 10, 187, 0, 53, 89, 42, 183, 0, 55, 83, 42, 180, 0, 15]
abbrev dktX0_makesReckoners_3 : List UInt8 := dkwX0_makesReckoners_3 ++ dktX0_makesReckoners_4
def dkwX0_makesReckoners_2 : List UInt8 := [16, 8, 187, 0, 47, 89, 42, 183, 0, 49, 83, 42, 180, 0, 15, 16, 9, 187, 0, 50, 89, 42]
abbrev dktX0_makesReckoners_2 : List UInt8 := dkwX0_makesReckoners_2 ++ dktX0_makesReckoners_3
def dkwX0_makesReckoners_1 : List UInt8 := [42, 183, 0, 43, 83, 42, 180, 0, 15, 16, 7, 187, 0, 44, 89, 42, 183, 0, 46, 83, 42, 180, 0, 15]
abbrev dktX0_makesReckoners_1 : List UInt8 := dkwX0_makesReckoners_1 ++ dktX0_makesReckoners_2
def dkwX0_makesReckoners_0 : List UInt8 := [42, 180, 0, 15, 8, 187, 0, 36, 89, 42, 183, 0, 38, 83, 42, 180, 0, 15, 16, 6, 187, 0, 41, 89]
abbrev dktX0_makesReckoners_0 : List UInt8 := dkwX0_makesReckoners_0 ++ dktX0_makesReckoners_1
theorem dksX0_makesReckoners_0 : cX0_makesReckoners.data.toList.drop 0 = dktX0_makesReckoners_0 := by decide +kernel
theorem dksX0_makesReckoners_1 : cX0_makesReckoners.data.toList.drop 24 = dktX0_makesReckoners_1 := dk_seg dksX0_makesReckoners_0 24 rfl rfl
theorem dksX0_makesReckoners_2 : cX0_makesReckoners.data.toList.drop 48 = dktX0_makesReckoners_2 := dk_seg dksX0_makesReckoners_1 24 rfl rfl
theorem dksX0_makesReckoners_3 : cX0_makesReckoners.data.toList.drop 70 = dktX0_makesReckoners_3 := dk_seg dksX0_makesReckoners_2 22 rfl rfl
theorem dksX0_makesReckoners_4 : cX0_makesReckoners.data.toList.drop 93 = dktX0_makesReckoners_4 := dk_seg dksX0_makesReckoners_3 23 rfl rfl
theorem dX0_makesReckoners_0 : decode cX0_makesReckoners 0 = .ok (.aload_n 0, 1) := dk_42 (dk_at dksX0_makesReckoners_0 0 rfl rfl)
theorem dX0_makesReckoners_1 : decode cX0_makesReckoners 1 = .ok (.getfield 15, 3) := dk_180 0 15 (dk_at dksX0_makesReckoners_0 1 rfl rfl)
theorem dX0_makesReckoners_4 : decode cX0_makesReckoners 4 = .ok (.iconst 5, 1) := dk_8 (dk_at dksX0_makesReckoners_0 4 rfl rfl)
theorem dX0_makesReckoners_5 : decode cX0_makesReckoners 5 = .ok (.new 36, 3) := dk_187 0 36 (dk_at dksX0_makesReckoners_0 5 rfl rfl)
theorem dX0_makesReckoners_8 : decode cX0_makesReckoners 8 = .ok (.dup, 1) := dk_89 (dk_at dksX0_makesReckoners_0 8 rfl rfl)
theorem dX0_makesReckoners_9 : decode cX0_makesReckoners 9 = .ok (.aload_n 0, 1) := dk_42 (dk_at dksX0_makesReckoners_0 9 rfl rfl)
theorem dX0_makesReckoners_10 : decode cX0_makesReckoners 10 = .ok (.invokespecial 38, 3) := dk_183 0 38 (dk_at dksX0_makesReckoners_0 10 rfl rfl)
theorem dX0_makesReckoners_13 : decode cX0_makesReckoners 13 = .ok (.aastore, 1) := dk_83 (dk_at dksX0_makesReckoners_0 13 rfl rfl)
theorem dX0_makesReckoners_14 : decode cX0_makesReckoners 14 = .ok (.aload_n 0, 1) := dk_42 (dk_at dksX0_makesReckoners_0 14 rfl rfl)
theorem dX0_makesReckoners_15 : decode cX0_makesReckoners 15 = .ok (.getfield 15, 3) := dk_180 0 15 (dk_at dksX0_makesReckoners_0 15 rfl rfl)
theorem dX0_makesReckoners_18 : decode cX0_makesReckoners 18 = .ok (.bipush 6, 2) := dk_16 6 (dk_at dksX0_makesReckoners_0 18 rfl rfl)
theorem dX0_makesReckoners_20 : decode cX0_makesReckoners 20 = .ok (.new 41, 3) := dk_187 0 41 (dk_at dksX0_makesReckoners_0 20 rfl rfl)
theorem dX0_makesReckoners_23 : decode cX0_makesReckoners 23 = .ok (.dup, 1) := dk_89 (dk_at dksX0_makesReckoners_0 23 rfl rfl)
theorem dX0_makesReckoners_24 : decode cX0_makesReckoners 24 = .ok (.aload_n 0, 1) := dk_42 (dk_at dksX0_makesReckoners_1 0 rfl rfl)
theorem dX0_makesReckoners_25 : decode cX0_makesReckoners 25 = .ok (.invokespecial 43, 3) := dk_183 0 43 (dk_at dksX0_makesReckoners_1 1 rfl rfl)
theorem dX0_makesReckoners_28 : decode cX0_makesReckoners 28 = .ok (.aastore, 1) := dk_83 (dk_at dksX0_makesReckoners_1 4 rfl rfl)
theorem dX0_makesReckoners_29 : decode cX0_makesReckoners 29 = .ok (.aload_n 0, 1) := dk_42 (dk_at dksX0_makesReckoners_1 5 rfl rfl)
theorem dX0_makesReckoners_30 : decode cX0_makesReckoners 30 = .ok (.getfield 15, 3) := dk_180 0 15 (dk_at dksX0_makesReckoners_1 6 rfl rfl)
theorem dX0_makesReckoners_33 : decode cX0_makesReckoners 33 = .ok (.bipush 7, 2) := dk_16 7 (dk_at dksX0_makesReckoners_1 9 rfl rfl)
theorem dX0_makesReckoners_35 : decode cX0_makesReckoners 35 = .ok (.new 44, 3) := dk_187 0 44 (dk_at dksX0_makesReckoners_1 11 rfl rfl)
theorem dX0_makesReckoners_38 : decode cX0_makesReckoners 38 = .ok (.dup, 1) := dk_89 (dk_at dksX0_makesReckoners_1 14 rfl rfl)
theorem dX0_makesReckoners_39 : decode cX0_makesReckoners 39 = .ok (.aload_n 0, 1) := dk_42 (dk_at dksX0_makesReckoners_1 15 rfl rfl)
theorem dX0_makesReckoners_40 : decode cX0_makesReckoners 40 = .ok (.invokespecial 46, 3) := dk_183 0 46 (dk_at dksX0_makesReckoners_1 16 rfl rfl)
theorem dX0_makesReckoners_43 : decode cX0_makesReckoners 43 = .ok (.aastore, 1) := dk_83 (dk_at dksX0_makesReckoners_1 19 rfl rfl)
theorem dX0_makesReckoners_44 : decode cX0_makesReckoners 44 = .ok (.aload_n 0, 1) := dk_42 (dk_at dksX0_makesReckoners_1 20 rfl rfl)
theorem dX0_makesReckoners_45 : decode cX0_makesReckoners 45 = .ok (.getfield 15, 3) := dk_180 0 15 (dk_at dksX0_makesReckoners_1 21 rfl rfl)
theorem dX0_makesReckoners_48 : decode cX0_makesReckoners 48 = .ok (.bipush 8, 2) := dk_16 8 (dk_at dksX0_makesReckoners_2 0 rfl rfl)
theorem dX0_makesReckoners_50 : decode cX0_makesReckoners 50 = .ok (.new 47, 3) := dk_187 0 47 (dk_at dksX0_makesReckoners_2 2 rfl rfl)
theorem dX0_makesReckoners_53 : decode cX0_makesReckoners 53 = .ok (.dup, 1) := dk_89 (dk_at dksX0_makesReckoners_2 5 rfl rfl)
theorem dX0_makesReckoners_54 : decode cX0_makesReckoners 54 = .ok (.aload_n 0, 1) := dk_42 (dk_at dksX0_makesReckoners_2 6 rfl rfl)
theorem dX0_makesReckoners_55 : decode cX0_makesReckoners 55 = .ok (.invokespecial 49, 3) := dk_183 0 49 (dk_at dksX0_makesReckoners_2 7 rfl rfl)
theorem dX0_makesReckoners_58 : decode cX0_makesReckoners 58 = .ok (.aastore, 1) := dk_83 (dk_at dksX0_makesReckoners_2 10 rfl rfl)
theorem dX0_makesReckoners_59 : decode cX0_makesReckoners 59 = .ok (.aload_n 0, 1) := dk_42 (dk_at dksX0_makesReckoners_2 11 rfl rfl)
theorem dX0_makesReckoners_60 : decode cX0_makesReckoners 60 = .ok (.getfield 15, 3) := dk_180 0 15 (dk_at dksX0_makesReckoners_2 12 rfl rfl)
theorem dX0_makesReckoners_63 : decode cX0_makesReckoners 63 = .ok (.bipush 9, 2) := dk_16 9 (dk_at dksX0_makesReckoners_2 15 rfl rfl)
theorem dX0_makesReckoners_65 : decode cX0_makesReckoners 65 = .ok (.new 50, 3) := dk_187 0 50 (dk_at dksX0_makesReckoners_2 17 rfl rfl)
theorem dX0_makesReckoners_68 : decode cX0_makesReckoners 68 = .ok (.dup, 1) := dk_89 (dk_at dksX0_makesReckoners_2 20 rfl rfl)
theorem dX0_makesReckoners_69 : decode cX0_makesReckoners 69 = .ok (.aload_n 0, 1) := dk_42 (dk_at dksX0_makesReckoners_2 21 rfl rfl)
theorem dX0_makesReckoners_70 : decode cX0_makesReckoners 70 = .ok (.invokespecial 52, 3) := dk_183 0 52 (dk_at dksX0_makesReckoners_3 0 rfl rfl)
theorem dX0_makesReckoners_73 : decode cX0_makesReckoners 73 = .ok (.aastore, 1) := dk_83 (dk_at dksX0_makesReckoners_3 3 rfl rfl)
theorem dX0_makesReckoners_74 : decode cX0_makesReckoners 74 = .ok (.aload_n 0, 1) := dk_42 (dk_at dksX0_makesReckoners_3 4 rfl rfl)
theorem dX0_makesReckoners_75 : decode cX0_makesReckoners 75 = .ok (.getfield 15, 3) := dk_180 0 15 (dk_at dksX0_makesReckoners_3 5 rfl rfl)
theorem dX0_makesReckoners_78 : decode cX0_makesReckoners 78 = .ok (.bipush 10, 2) := dk_16 10 (dk_at dksX0_makesReckoners_3 8 rfl rfl)
theorem dX0_makesReckoners_80 : decode cX0_makesReckoners 80 = .ok (.new 53, 3) := dk_187 0 53 (dk_at dksX0_makesReckoners_3 10 rfl rfl)
theorem dX0_makesReckoners_83 : decode cX0_makesReckoners 83 = .ok (.dup, 1) := dk_89 (dk_at dksX0_makesReckoners_3 13 rfl rfl)
theorem dX0_makesReckoners_84 : decode cX0_makesReckoners 84 = .ok (.aload_n 0, 1) := dk_42 (dk_at dksX0_makesReckoners_3 14 rfl rfl)
theorem dX0_makesReckoners_85 : decode cX0_makesReckoners 85 = .ok (.invokespecial 55, 3) := dk_183 0 55 (dk_at dksX0_makesReckoners_3 15 rfl rfl)
theorem dX0_makesReckoners_88 : decode cX0_makesReckoners 88 = .ok (.aastore, 1) := dk_83 (dk_at dksX0_makesReckoners_3 18 rfl rfl)
theorem dX0_makesReckoners_89 : decode cX0_makesReckoners 89 = .ok (.aload_n 0, 1) := dk_42 (dk_at dksX0_makesReckoners_3 19 rfl rfl)
theorem dX0_makesReckoners_90 : decode cX0_makesReckoners 90 = .ok (.getfield 15, 3) := dk_180 0 15 (dk_at dksX0_makesReckoners_3 20 rfl rfl)
theorem dX0_makesReckoners_93 : decode cX0_makesReckoners 93 = .ok (.bipush 11, 2) := dk_16 11 (dk_at dksX0_makesReckoners_4 0 rfl rfl)
theorem dX0_makesReckoners_95 : decode cX0_makesReckoners 95 = .ok (.new 56, 3) := dk_187 0 56 (dk_at dksX0_makesReckoners_4 2 rfl rfl)
theorem dX0_makesReckoners_98 : decode cX0_makesReckoners 98 = .ok (.dup, 1) := dk_89 (dk_at dksX0_makesReckoners_4 5 rfl rfl)
theorem dX0_makesReckoners_99 : decode cX0_makesReckoners 99 = .ok (.aload_n 0, 1) := dk_42 (dk_at dksX0_makesReckoners_4 6 rfl rfl)
theorem dX0_makesReckoners_100 : decode cX0_makesReckoners 100 = .ok (.invokespecial 58, 3) := dk_183 0 58 (dk_at dksX0_makesReckoners_4 7 rfl rfl)
theorem dX0_makesReckoners_103 : decode cX0_makesReckoners 103 = .ok (.aastore, 1) := dk_83 (dk_at dksX0_makesReckoners_4 10 rfl rfl)
theorem dX0_makesReckoners_104 : decode cX0_makesReckoners 104 = .ok (.return_, 1) := dk_177 (dk_at dksX0_makesReckoners_4 11 rfl rfl)
def dkwX0_makesWays_3 : List UInt8 := [16, 16, 187, 0, 71, 89, 42, 4, 183, 0, 73, 83, 177]
abbrev dktX0_makesWays_3 : List UInt8 := dkwX0_makesWays_3 ++ []
def dkwX0_makesWays_2 : List UInt8 := [183, 0, 67, 83, 42, 180, 0, 15, 16, 15, 187, 0, 68, 89, 42, 4, 183, 0, 70, 83, 42, 180, 0, 15]
abbrev dktX0_makesWays_2 : List UInt8 := dkwX0_makesWays_2 ++ dktX0_makesWays_3
def dkwX0_makesWays_1 : List UInt8 := [187, 0, 62, 89, 42, 4, 183, 0, 64, 83, 42, 180, 0, 15, 16, 14, 187, 0, 65, 89, 42, 3]
abbrev dktX0_makesWays_1 : List UInt8 := dkwX0_makesWays_1 ++ dktX0_makesWays_2
def dkwX0_makesWays_0 : List UInt8 := [42, 180, 0, 15, 16, 12, 187, 0, 59, 89, 42, 3, 183, 0, 61, 83, 42, 180, 0, 15, 16, 13]
abbrev dktX0_makesWays_0 : List UInt8 := dkwX0_makesWays_0 ++ dktX0_makesWays_1
theorem dksX0_makesWays_0 : cX0_makesWays.data.toList.drop 0 = dktX0_makesWays_0 := by decide +kernel
theorem dksX0_makesWays_1 : cX0_makesWays.data.toList.drop 22 = dktX0_makesWays_1 := dk_seg dksX0_makesWays_0 22 rfl rfl
theorem dksX0_makesWays_2 : cX0_makesWays.data.toList.drop 44 = dktX0_makesWays_2 := dk_seg dksX0_makesWays_1 22 rfl rfl
theorem dksX0_makesWays_3 : cX0_makesWays.data.toList.drop 68 = dktX0_makesWays_3 := dk_seg dksX0_makesWays_2 24 rfl rfl
theorem dX0_makesWays_0 : decode cX0_makesWays 0 = .ok (.aload_n 0, 1) := dk_42 (dk_at dksX0_makesWays_0 0 rfl rfl)
theorem dX0_makesWays_1 : decode cX0_makesWays 1 = .ok (.getfield 15, 3) := dk_180 0 15 (dk_at dksX0_makesWays_0 1 rfl rfl)
theorem dX0_makesWays_4 : decode cX0_makesWays 4 = .ok (.bipush 12, 2) := dk_16 12 (dk_at dksX0_makesWays_0 4 rfl rfl)
theorem dX0_makesWays_6 : decode cX0_makesWays 6 = .ok (.new 59, 3) := dk_187 0 59 (dk_at dksX0_makesWays_0 6 rfl rfl)
theorem dX0_makesWays_9 : decode cX0_makesWays 9 = .ok (.dup, 1) := dk_89 (dk_at dksX0_makesWays_0 9 rfl rfl)
theorem dX0_makesWays_10 : decode cX0_makesWays 10 = .ok (.aload_n 0, 1) := dk_42 (dk_at dksX0_makesWays_0 10 rfl rfl)
theorem dX0_makesWays_11 : decode cX0_makesWays 11 = .ok (.iconst 0, 1) := dk_3 (dk_at dksX0_makesWays_0 11 rfl rfl)
theorem dX0_makesWays_12 : decode cX0_makesWays 12 = .ok (.invokespecial 61, 3) := dk_183 0 61 (dk_at dksX0_makesWays_0 12 rfl rfl)
theorem dX0_makesWays_15 : decode cX0_makesWays 15 = .ok (.aastore, 1) := dk_83 (dk_at dksX0_makesWays_0 15 rfl rfl)
theorem dX0_makesWays_16 : decode cX0_makesWays 16 = .ok (.aload_n 0, 1) := dk_42 (dk_at dksX0_makesWays_0 16 rfl rfl)
theorem dX0_makesWays_17 : decode cX0_makesWays 17 = .ok (.getfield 15, 3) := dk_180 0 15 (dk_at dksX0_makesWays_0 17 rfl rfl)
theorem dX0_makesWays_20 : decode cX0_makesWays 20 = .ok (.bipush 13, 2) := dk_16 13 (dk_at dksX0_makesWays_0 20 rfl rfl)
theorem dX0_makesWays_22 : decode cX0_makesWays 22 = .ok (.new 62, 3) := dk_187 0 62 (dk_at dksX0_makesWays_1 0 rfl rfl)
theorem dX0_makesWays_25 : decode cX0_makesWays 25 = .ok (.dup, 1) := dk_89 (dk_at dksX0_makesWays_1 3 rfl rfl)
theorem dX0_makesWays_26 : decode cX0_makesWays 26 = .ok (.aload_n 0, 1) := dk_42 (dk_at dksX0_makesWays_1 4 rfl rfl)
theorem dX0_makesWays_27 : decode cX0_makesWays 27 = .ok (.iconst 1, 1) := dk_4 (dk_at dksX0_makesWays_1 5 rfl rfl)
theorem dX0_makesWays_28 : decode cX0_makesWays 28 = .ok (.invokespecial 64, 3) := dk_183 0 64 (dk_at dksX0_makesWays_1 6 rfl rfl)
theorem dX0_makesWays_31 : decode cX0_makesWays 31 = .ok (.aastore, 1) := dk_83 (dk_at dksX0_makesWays_1 9 rfl rfl)
theorem dX0_makesWays_32 : decode cX0_makesWays 32 = .ok (.aload_n 0, 1) := dk_42 (dk_at dksX0_makesWays_1 10 rfl rfl)
theorem dX0_makesWays_33 : decode cX0_makesWays 33 = .ok (.getfield 15, 3) := dk_180 0 15 (dk_at dksX0_makesWays_1 11 rfl rfl)
theorem dX0_makesWays_36 : decode cX0_makesWays 36 = .ok (.bipush 14, 2) := dk_16 14 (dk_at dksX0_makesWays_1 14 rfl rfl)
theorem dX0_makesWays_38 : decode cX0_makesWays 38 = .ok (.new 65, 3) := dk_187 0 65 (dk_at dksX0_makesWays_1 16 rfl rfl)
theorem dX0_makesWays_41 : decode cX0_makesWays 41 = .ok (.dup, 1) := dk_89 (dk_at dksX0_makesWays_1 19 rfl rfl)
theorem dX0_makesWays_42 : decode cX0_makesWays 42 = .ok (.aload_n 0, 1) := dk_42 (dk_at dksX0_makesWays_1 20 rfl rfl)
theorem dX0_makesWays_43 : decode cX0_makesWays 43 = .ok (.iconst 0, 1) := dk_3 (dk_at dksX0_makesWays_1 21 rfl rfl)
theorem dX0_makesWays_44 : decode cX0_makesWays 44 = .ok (.invokespecial 67, 3) := dk_183 0 67 (dk_at dksX0_makesWays_2 0 rfl rfl)
theorem dX0_makesWays_47 : decode cX0_makesWays 47 = .ok (.aastore, 1) := dk_83 (dk_at dksX0_makesWays_2 3 rfl rfl)
theorem dX0_makesWays_48 : decode cX0_makesWays 48 = .ok (.aload_n 0, 1) := dk_42 (dk_at dksX0_makesWays_2 4 rfl rfl)
theorem dX0_makesWays_49 : decode cX0_makesWays 49 = .ok (.getfield 15, 3) := dk_180 0 15 (dk_at dksX0_makesWays_2 5 rfl rfl)
theorem dX0_makesWays_52 : decode cX0_makesWays 52 = .ok (.bipush 15, 2) := dk_16 15 (dk_at dksX0_makesWays_2 8 rfl rfl)
theorem dX0_makesWays_54 : decode cX0_makesWays 54 = .ok (.new 68, 3) := dk_187 0 68 (dk_at dksX0_makesWays_2 10 rfl rfl)
theorem dX0_makesWays_57 : decode cX0_makesWays 57 = .ok (.dup, 1) := dk_89 (dk_at dksX0_makesWays_2 13 rfl rfl)
theorem dX0_makesWays_58 : decode cX0_makesWays 58 = .ok (.aload_n 0, 1) := dk_42 (dk_at dksX0_makesWays_2 14 rfl rfl)
theorem dX0_makesWays_59 : decode cX0_makesWays 59 = .ok (.iconst 1, 1) := dk_4 (dk_at dksX0_makesWays_2 15 rfl rfl)
theorem dX0_makesWays_60 : decode cX0_makesWays 60 = .ok (.invokespecial 70, 3) := dk_183 0 70 (dk_at dksX0_makesWays_2 16 rfl rfl)
theorem dX0_makesWays_63 : decode cX0_makesWays 63 = .ok (.aastore, 1) := dk_83 (dk_at dksX0_makesWays_2 19 rfl rfl)
theorem dX0_makesWays_64 : decode cX0_makesWays 64 = .ok (.aload_n 0, 1) := dk_42 (dk_at dksX0_makesWays_2 20 rfl rfl)
theorem dX0_makesWays_65 : decode cX0_makesWays 65 = .ok (.getfield 15, 3) := dk_180 0 15 (dk_at dksX0_makesWays_2 21 rfl rfl)
theorem dX0_makesWays_68 : decode cX0_makesWays 68 = .ok (.bipush 16, 2) := dk_16 16 (dk_at dksX0_makesWays_3 0 rfl rfl)
theorem dX0_makesWays_70 : decode cX0_makesWays 70 = .ok (.new 71, 3) := dk_187 0 71 (dk_at dksX0_makesWays_3 2 rfl rfl)
theorem dX0_makesWays_73 : decode cX0_makesWays 73 = .ok (.dup, 1) := dk_89 (dk_at dksX0_makesWays_3 5 rfl rfl)
theorem dX0_makesWays_74 : decode cX0_makesWays 74 = .ok (.aload_n 0, 1) := dk_42 (dk_at dksX0_makesWays_3 6 rfl rfl)
theorem dX0_makesWays_75 : decode cX0_makesWays 75 = .ok (.iconst 1, 1) := dk_4 (dk_at dksX0_makesWays_3 7 rfl rfl)
theorem dX0_makesWays_76 : decode cX0_makesWays 76 = .ok (.invokespecial 73, 3) := dk_183 0 73 (dk_at dksX0_makesWays_3 8 rfl rfl)
theorem dX0_makesWays_79 : decode cX0_makesWays 79 = .ok (.aastore, 1) := dk_83 (dk_at dksX0_makesWays_3 11 rfl rfl)
theorem dX0_makesWays_80 : decode cX0_makesWays 80 = .ok (.return_, 1) := dk_177 (dk_at dksX0_makesWays_3 12 rfl rfl)
def dkwX0_makesTasks_3 : List UInt8 := [16, 21, 187, 0, 86, 89, 42, 4, 183, 0, 88, 83, 177]
abbrev dktX0_makesTasks_3 : List UInt8 := dkwX0_makesTasks_3 ++ []
def dkwX0_makesTasks_2 : List UInt8 := [183, 0, 82, 83, 42, 180, 0, 15, 16, 20, 187, 0, 83, 89, 42, 4, 183, 0, 85, 83, 42, 180, 0, 15]
abbrev dktX0_makesTasks_2 : List UInt8 := dkwX0_makesTasks_2 ++ dktX0_makesTasks_3
def dkwX0_makesTasks_1 : List UInt8 := [187, 0, 77, 89, 42, 4, 183, 0, 79, 83, 42, 180, 0, 15, 16, 19, 187, 0, 80, 89, 42, 4]
abbrev dktX0_makesTasks_1 : List UInt8 := dkwX0_makesTasks_1 ++ dktX0_makesTasks_2
def dkwX0_makesTasks_0 : List UInt8 := [42, 180, 0, 15, 16, 17, 187, 0, 74, 89, 42, 4, 183, 0, 76, 83, 42, 180, 0, 15, 16, 18]
abbrev dktX0_makesTasks_0 : List UInt8 := dkwX0_makesTasks_0 ++ dktX0_makesTasks_1
theorem dksX0_makesTasks_0 : cX0_makesTasks.data.toList.drop 0 = dktX0_makesTasks_0 := by decide +kernel
theorem dksX0_makesTasks_1 : cX0_makesTasks.data.toList.drop 22 = dktX0_makesTasks_1 := dk_seg dksX0_makesTasks_0 22 rfl rfl
theorem dksX0_makesTasks_2 : cX0_makesTasks.data.toList.drop 44 = dktX0_makesTasks_2 := dk_seg dksX0_makesTasks_1 22 rfl rfl
theorem dksX0_makesTasks_3 : cX0_makesTasks.data.toList.drop 68 = dktX0_makesTasks_3 := dk_seg dksX0_makesTasks_2 24 rfl rfl
theorem dX0_makesTasks_0 : decode cX0_makesTasks 0 = .ok (.aload_n 0, 1) := dk_42 (dk_at dksX0_makesTasks_0 0 rfl rfl)
theorem dX0_makesTasks_1 : decode cX0_makesTasks 1 = .ok (.getfield 15, 3) := dk_180 0 15 (dk_at dksX0_makesTasks_0 1 rfl rfl)
theorem dX0_makesTasks_4 : decode cX0_makesTasks 4 = .ok (.bipush 17, 2) := dk_16 17 (dk_at dksX0_makesTasks_0 4 rfl rfl)
theorem dX0_makesTasks_6 : decode cX0_makesTasks 6 = .ok (.new 74, 3) := dk_187 0 74 (dk_at dksX0_makesTasks_0 6 rfl rfl)
theorem dX0_makesTasks_9 : decode cX0_makesTasks 9 = .ok (.dup, 1) := dk_89 (dk_at dksX0_makesTasks_0 9 rfl rfl)
theorem dX0_makesTasks_10 : decode cX0_makesTasks 10 = .ok (.aload_n 0, 1) := dk_42 (dk_at dksX0_makesTasks_0 10 rfl rfl)
theorem dX0_makesTasks_11 : decode cX0_makesTasks 11 = .ok (.iconst 1, 1) := dk_4 (dk_at dksX0_makesTasks_0 11 rfl rfl)
theorem dX0_makesTasks_12 : decode cX0_makesTasks 12 = .ok (.invokespecial 76, 3) := dk_183 0 76 (dk_at dksX0_makesTasks_0 12 rfl rfl)
theorem dX0_makesTasks_15 : decode cX0_makesTasks 15 = .ok (.aastore, 1) := dk_83 (dk_at dksX0_makesTasks_0 15 rfl rfl)
theorem dX0_makesTasks_16 : decode cX0_makesTasks 16 = .ok (.aload_n 0, 1) := dk_42 (dk_at dksX0_makesTasks_0 16 rfl rfl)
theorem dX0_makesTasks_17 : decode cX0_makesTasks 17 = .ok (.getfield 15, 3) := dk_180 0 15 (dk_at dksX0_makesTasks_0 17 rfl rfl)
theorem dX0_makesTasks_20 : decode cX0_makesTasks 20 = .ok (.bipush 18, 2) := dk_16 18 (dk_at dksX0_makesTasks_0 20 rfl rfl)
theorem dX0_makesTasks_22 : decode cX0_makesTasks 22 = .ok (.new 77, 3) := dk_187 0 77 (dk_at dksX0_makesTasks_1 0 rfl rfl)
theorem dX0_makesTasks_25 : decode cX0_makesTasks 25 = .ok (.dup, 1) := dk_89 (dk_at dksX0_makesTasks_1 3 rfl rfl)
theorem dX0_makesTasks_26 : decode cX0_makesTasks 26 = .ok (.aload_n 0, 1) := dk_42 (dk_at dksX0_makesTasks_1 4 rfl rfl)
theorem dX0_makesTasks_27 : decode cX0_makesTasks 27 = .ok (.iconst 1, 1) := dk_4 (dk_at dksX0_makesTasks_1 5 rfl rfl)
theorem dX0_makesTasks_28 : decode cX0_makesTasks 28 = .ok (.invokespecial 79, 3) := dk_183 0 79 (dk_at dksX0_makesTasks_1 6 rfl rfl)
theorem dX0_makesTasks_31 : decode cX0_makesTasks 31 = .ok (.aastore, 1) := dk_83 (dk_at dksX0_makesTasks_1 9 rfl rfl)
theorem dX0_makesTasks_32 : decode cX0_makesTasks 32 = .ok (.aload_n 0, 1) := dk_42 (dk_at dksX0_makesTasks_1 10 rfl rfl)
theorem dX0_makesTasks_33 : decode cX0_makesTasks 33 = .ok (.getfield 15, 3) := dk_180 0 15 (dk_at dksX0_makesTasks_1 11 rfl rfl)
theorem dX0_makesTasks_36 : decode cX0_makesTasks 36 = .ok (.bipush 19, 2) := dk_16 19 (dk_at dksX0_makesTasks_1 14 rfl rfl)
theorem dX0_makesTasks_38 : decode cX0_makesTasks 38 = .ok (.new 80, 3) := dk_187 0 80 (dk_at dksX0_makesTasks_1 16 rfl rfl)
theorem dX0_makesTasks_41 : decode cX0_makesTasks 41 = .ok (.dup, 1) := dk_89 (dk_at dksX0_makesTasks_1 19 rfl rfl)
theorem dX0_makesTasks_42 : decode cX0_makesTasks 42 = .ok (.aload_n 0, 1) := dk_42 (dk_at dksX0_makesTasks_1 20 rfl rfl)
theorem dX0_makesTasks_43 : decode cX0_makesTasks 43 = .ok (.iconst 1, 1) := dk_4 (dk_at dksX0_makesTasks_1 21 rfl rfl)
theorem dX0_makesTasks_44 : decode cX0_makesTasks 44 = .ok (.invokespecial 82, 3) := dk_183 0 82 (dk_at dksX0_makesTasks_2 0 rfl rfl)
theorem dX0_makesTasks_47 : decode cX0_makesTasks 47 = .ok (.aastore, 1) := dk_83 (dk_at dksX0_makesTasks_2 3 rfl rfl)
theorem dX0_makesTasks_48 : decode cX0_makesTasks 48 = .ok (.aload_n 0, 1) := dk_42 (dk_at dksX0_makesTasks_2 4 rfl rfl)
theorem dX0_makesTasks_49 : decode cX0_makesTasks 49 = .ok (.getfield 15, 3) := dk_180 0 15 (dk_at dksX0_makesTasks_2 5 rfl rfl)
theorem dX0_makesTasks_52 : decode cX0_makesTasks 52 = .ok (.bipush 20, 2) := dk_16 20 (dk_at dksX0_makesTasks_2 8 rfl rfl)
theorem dX0_makesTasks_54 : decode cX0_makesTasks 54 = .ok (.new 83, 3) := dk_187 0 83 (dk_at dksX0_makesTasks_2 10 rfl rfl)
theorem dX0_makesTasks_57 : decode cX0_makesTasks 57 = .ok (.dup, 1) := dk_89 (dk_at dksX0_makesTasks_2 13 rfl rfl)
theorem dX0_makesTasks_58 : decode cX0_makesTasks 58 = .ok (.aload_n 0, 1) := dk_42 (dk_at dksX0_makesTasks_2 14 rfl rfl)
theorem dX0_makesTasks_59 : decode cX0_makesTasks 59 = .ok (.iconst 1, 1) := dk_4 (dk_at dksX0_makesTasks_2 15 rfl rfl)
theorem dX0_makesTasks_60 : decode cX0_makesTasks 60 = .ok (.invokespecial 85, 3) := dk_183 0 85 (dk_at dksX0_makesTasks_2 16 rfl rfl)
theorem dX0_makesTasks_63 : decode cX0_makesTasks 63 = .ok (.aastore, 1) := dk_83 (dk_at dksX0_makesTasks_2 19 rfl rfl)
theorem dX0_makesTasks_64 : decode cX0_makesTasks 64 = .ok (.aload_n 0, 1) := dk_42 (dk_at dksX0_makesTasks_2 20 rfl rfl)
theorem dX0_makesTasks_65 : decode cX0_makesTasks 65 = .ok (.getfield 15, 3) := dk_180 0 15 (dk_at dksX0_makesTasks_2 21 rfl rfl)
theorem dX0_makesTasks_68 : decode cX0_makesTasks 68 = .ok (.bipush 21, 2) := dk_16 21 (dk_at dksX0_makesTasks_3 0 rfl rfl)
theorem dX0_makesTasks_70 : decode cX0_makesTasks 70 = .ok (.new 86, 3) := dk_187 0 86 (dk_at dksX0_makesTasks_3 2 rfl rfl)
theorem dX0_makesTasks_73 : decode cX0_makesTasks 73 = .ok (.dup, 1) := dk_89 (dk_at dksX0_makesTasks_3 5 rfl rfl)
theorem dX0_makesTasks_74 : decode cX0_makesTasks 74 = .ok (.aload_n 0, 1) := dk_42 (dk_at dksX0_makesTasks_3 6 rfl rfl)
theorem dX0_makesTasks_75 : decode cX0_makesTasks 75 = .ok (.iconst 1, 1) := dk_4 (dk_at dksX0_makesTasks_3 7 rfl rfl)
theorem dX0_makesTasks_76 : decode cX0_makesTasks 76 = .ok (.invokespecial 88, 3) := dk_183 0 88 (dk_at dksX0_makesTasks_3 8 rfl rfl)
theorem dX0_makesTasks_79 : decode cX0_makesTasks 79 = .ok (.aastore, 1) := dk_83 (dk_at dksX0_makesTasks_3 11 rfl rfl)
theorem dX0_makesTasks_80 : decode cX0_makesTasks 80 = .ok (.return_, 1) := dk_177 (dk_at dksX0_makesTasks_3 12 rfl rfl)
def dkwX0_block_1 : List UInt8 := [89, 183, 1, 16, 185, 0, 137, 2, 0, 87, 42, 180, 0, 99, 185, 0, 145, 1, 0, 4, 100, 172]
abbrev dktX0_block_1 : List UInt8 := dkwX0_block_1 ++ []
def dkwX0_block_0 : List UInt8 := [42, 180, 0, 99, 185, 0, 145, 1, 0, 16, 8, 160, 0, 6, 16, 253, 172, 42, 180, 0, 99, 187, 0, 153]
abbrev dktX0_block_0 : List UInt8 := dkwX0_block_0 ++ dktX0_block_1
theorem dksX0_block_0 : cX0_block.data.toList.drop 0 = dktX0_block_0 := by decide +kernel
theorem dksX0_block_1 : cX0_block.data.toList.drop 24 = dktX0_block_1 := dk_seg dksX0_block_0 24 rfl rfl
theorem dX0_block_0 : decode cX0_block 0 = .ok (.aload_n 0, 1) := dk_42 (dk_at dksX0_block_0 0 rfl rfl)
theorem dX0_block_1 : decode cX0_block 1 = .ok (.getfield 99, 3) := dk_180 0 99 (dk_at dksX0_block_0 1 rfl rfl)
theorem dX0_block_4 : decode cX0_block 4 = .ok (.invokeinterface 145 1, 5) := by decide +kernel
theorem dX0_block_9 : decode cX0_block 9 = .ok (.bipush 8, 2) := dk_16 8 (dk_at dksX0_block_0 9 rfl rfl)
theorem dX0_block_11 : decode cX0_block 11 = .ok (.if_icmp .ne 6, 3) := dk_160 0 6 (dk_at dksX0_block_0 11 rfl rfl)
theorem dX0_block_14 : decode cX0_block 14 = .ok (.bipush (-3), 2) := dk_16 253 (dk_at dksX0_block_0 14 rfl rfl)
theorem dX0_block_16 : decode cX0_block 16 = .ok (.ireturn, 1) := dk_172 (dk_at dksX0_block_0 16 rfl rfl)
theorem dX0_block_17 : decode cX0_block 17 = .ok (.aload_n 0, 1) := dk_42 (dk_at dksX0_block_0 17 rfl rfl)
theorem dX0_block_18 : decode cX0_block 18 = .ok (.getfield 99, 3) := dk_180 0 99 (dk_at dksX0_block_0 18 rfl rfl)
theorem dX0_block_21 : decode cX0_block 21 = .ok (.new 153, 3) := dk_187 0 153 (dk_at dksX0_block_0 21 rfl rfl)
theorem dX0_block_24 : decode cX0_block 24 = .ok (.dup, 1) := dk_89 (dk_at dksX0_block_1 0 rfl rfl)
theorem dX0_block_25 : decode cX0_block 25 = .ok (.invokespecial 272, 3) := dk_183 1 16 (dk_at dksX0_block_1 1 rfl rfl)
theorem dX0_block_28 : decode cX0_block 28 = .ok (.invokeinterface 137 2, 5) := by decide +kernel
theorem dX0_block_33 : decode cX0_block 33 = .ok (.pop, 1) := dk_87 (dk_at dksX0_block_1 9 rfl rfl)
theorem dX0_block_34 : decode cX0_block 34 = .ok (.aload_n 0, 1) := dk_42 (dk_at dksX0_block_1 10 rfl rfl)
theorem dX0_block_35 : decode cX0_block 35 = .ok (.getfield 99, 3) := dk_180 0 99 (dk_at dksX0_block_1 11 rfl rfl)
theorem dX0_block_38 : decode cX0_block 38 = .ok (.invokeinterface 145 1, 5) := by decide +kernel
theorem dX0_block_43 : decode cX0_block 43 = .ok (.iconst 1, 1) := dk_4 (dk_at dksX0_block_1 19 rfl rfl)
theorem dX0_block_44 : decode cX0_block 44 = .ok (.isub, 1) := dk_100 (dk_at dksX0_block_1 20 rfl rfl)
theorem dX0_block_45 : decode cX0_block 45 = .ok (.ireturn, 1) := dk_172 (dk_at dksX0_block_1 21 rfl rfl)
def dkwX0_code_4 : List UInt8 := [25, 4, 89, 180, 1, 30, 4, 96, 181, 1, 30, 25, 4, 180, 1, 30, 172]
abbrev dktX0_code_4 : List UInt8 := dkwX0_code_4 ++ []
def dkwX0_code_3 : List UInt8 := [25, 4, 180, 1, 32, 25, 4, 180, 1, 30, 28, 79, 25, 4, 180, 1, 35, 25, 4, 180, 1, 30, 29, 79]
abbrev dktX0_code_3 : List UInt8 := dkwX0_code_3 ++ dktX0_code_4
def dkwX0_code_2 : List UInt8 := [185, 0, 149, 2, 0, 192, 0, 153, 58, 4, 25, 4, 180, 1, 30, 16, 40, 160, 0, 6, 16, 253, 172]
abbrev dktX0_code_2 : List UInt8 := dkwX0_code_2 ++ dktX0_code_3
def dkwX0_code_1 : List UInt8 := [184, 1, 23, 154, 0, 5, 2, 172, 42, 180, 1, 27, 153, 0, 6, 16, 254, 172, 42, 180, 0, 99, 27]
abbrev dktX0_code_1 : List UInt8 := dkwX0_code_1 ++ dktX0_code_2
def dkwX0_code_0 : List UInt8 := [27, 133, 9, 42, 180, 0, 99, 185, 0, 145, 1, 0, 4, 100, 133, 184, 0, 5, 153, 0, 11, 28, 29]
abbrev dktX0_code_0 : List UInt8 := dkwX0_code_0 ++ dktX0_code_1
theorem dksX0_code_0 : cX0_code.data.toList.drop 0 = dktX0_code_0 := by decide +kernel
theorem dksX0_code_1 : cX0_code.data.toList.drop 23 = dktX0_code_1 := dk_seg dksX0_code_0 23 rfl rfl
theorem dksX0_code_2 : cX0_code.data.toList.drop 46 = dktX0_code_2 := dk_seg dksX0_code_1 23 rfl rfl
theorem dksX0_code_3 : cX0_code.data.toList.drop 69 = dktX0_code_3 := dk_seg dksX0_code_2 23 rfl rfl
theorem dksX0_code_4 : cX0_code.data.toList.drop 93 = dktX0_code_4 := dk_seg dksX0_code_3 24 rfl rfl
theorem dX0_code_0 : decode cX0_code 0 = .ok (.iload_n 1, 1) := dk_27 (dk_at dksX0_code_0 0 rfl rfl)
theorem dX0_code_1 : decode cX0_code 1 = .ok (.i2l, 1) := dk_133 (dk_at dksX0_code_0 1 rfl rfl)
theorem dX0_code_2 : decode cX0_code 2 = .ok (.lconst 0, 1) := dk_9 (dk_at dksX0_code_0 2 rfl rfl)
theorem dX0_code_3 : decode cX0_code 3 = .ok (.aload_n 0, 1) := dk_42 (dk_at dksX0_code_0 3 rfl rfl)
theorem dX0_code_4 : decode cX0_code 4 = .ok (.getfield 99, 3) := dk_180 0 99 (dk_at dksX0_code_0 4 rfl rfl)
theorem dX0_code_7 : decode cX0_code 7 = .ok (.invokeinterface 145 1, 5) := by decide +kernel
theorem dX0_code_12 : decode cX0_code 12 = .ok (.iconst 1, 1) := dk_4 (dk_at dksX0_code_0 12 rfl rfl)
theorem dX0_code_13 : decode cX0_code 13 = .ok (.isub, 1) := dk_100 (dk_at dksX0_code_0 13 rfl rfl)
theorem dX0_code_14 : decode cX0_code 14 = .ok (.i2l, 1) := dk_133 (dk_at dksX0_code_0 14 rfl rfl)
theorem dX0_code_15 : decode cX0_code 15 = .ok (.invokestatic 5, 3) := dk_184 0 5 (dk_at dksX0_code_0 15 rfl rfl)
theorem dX0_code_18 : decode cX0_code 18 = .ok (.ifCond .eq 11, 3) := dk_153 0 11 (dk_at dksX0_code_0 18 rfl rfl)
theorem dX0_code_21 : decode cX0_code 21 = .ok (.iload_n 2, 1) := dk_28 (dk_at dksX0_code_0 21 rfl rfl)
theorem dX0_code_22 : decode cX0_code 22 = .ok (.iload_n 3, 1) := dk_29 (dk_at dksX0_code_0 22 rfl rfl)
theorem dX0_code_23 : decode cX0_code 23 = .ok (.invokestatic 279, 3) := dk_184 1 23 (dk_at dksX0_code_1 0 rfl rfl)
theorem dX0_code_26 : decode cX0_code 26 = .ok (.ifCond .ne 5, 3) := dk_154 0 5 (dk_at dksX0_code_1 3 rfl rfl)
theorem dX0_code_29 : decode cX0_code 29 = .ok (.iconst (-1), 1) := dk_2 (dk_at dksX0_code_1 6 rfl rfl)
theorem dX0_code_30 : decode cX0_code 30 = .ok (.ireturn, 1) := dk_172 (dk_at dksX0_code_1 7 rfl rfl)
theorem dX0_code_31 : decode cX0_code 31 = .ok (.aload_n 0, 1) := dk_42 (dk_at dksX0_code_1 8 rfl rfl)
theorem dX0_code_32 : decode cX0_code 32 = .ok (.getfield 283, 3) := dk_180 1 27 (dk_at dksX0_code_1 9 rfl rfl)
theorem dX0_code_35 : decode cX0_code 35 = .ok (.ifCond .eq 6, 3) := dk_153 0 6 (dk_at dksX0_code_1 12 rfl rfl)
theorem dX0_code_38 : decode cX0_code 38 = .ok (.bipush (-2), 2) := dk_16 254 (dk_at dksX0_code_1 15 rfl rfl)
theorem dX0_code_40 : decode cX0_code 40 = .ok (.ireturn, 1) := dk_172 (dk_at dksX0_code_1 17 rfl rfl)
theorem dX0_code_41 : decode cX0_code 41 = .ok (.aload_n 0, 1) := dk_42 (dk_at dksX0_code_1 18 rfl rfl)
theorem dX0_code_42 : decode cX0_code 42 = .ok (.getfield 99, 3) := dk_180 0 99 (dk_at dksX0_code_1 19 rfl rfl)
theorem dX0_code_45 : decode cX0_code 45 = .ok (.iload_n 1, 1) := dk_27 (dk_at dksX0_code_1 22 rfl rfl)
theorem dX0_code_46 : decode cX0_code 46 = .ok (.invokeinterface 149 2, 5) := by decide +kernel
theorem dX0_code_51 : decode cX0_code 51 = .ok (.checkcast 153, 3) := dk_192 0 153 (dk_at dksX0_code_2 5 rfl rfl)
theorem dX0_code_54 : decode cX0_code 54 = .ok (.astore 4, 2) := dk_58 4 (dk_at dksX0_code_2 8 rfl rfl)
theorem dX0_code_56 : decode cX0_code 56 = .ok (.aload 4, 2) := dk_25 4 (dk_at dksX0_code_2 10 rfl rfl)
theorem dX0_code_58 : decode cX0_code 58 = .ok (.getfield 286, 3) := dk_180 1 30 (dk_at dksX0_code_2 12 rfl rfl)
theorem dX0_code_61 : decode cX0_code 61 = .ok (.bipush 40, 2) := dk_16 40 (dk_at dksX0_code_2 15 rfl rfl)
theorem dX0_code_63 : decode cX0_code 63 = .ok (.if_icmp .ne 6, 3) := dk_160 0 6 (dk_at dksX0_code_2 17 rfl rfl)
theorem dX0_code_66 : decode cX0_code 66 = .ok (.bipush (-3), 2) := dk_16 253 (dk_at dksX0_code_2 20 rfl rfl)
theorem dX0_code_68 : decode cX0_code 68 = .ok (.ireturn, 1) := dk_172 (dk_at dksX0_code_2 22 rfl rfl)
theorem dX0_code_69 : decode cX0_code 69 = .ok (.aload 4, 2) := dk_25 4 (dk_at dksX0_code_3 0 rfl rfl)
theorem dX0_code_71 : decode cX0_code 71 = .ok (.getfield 288, 3) := dk_180 1 32 (dk_at dksX0_code_3 2 rfl rfl)
theorem dX0_code_74 : decode cX0_code 74 = .ok (.aload 4, 2) := dk_25 4 (dk_at dksX0_code_3 5 rfl rfl)
theorem dX0_code_76 : decode cX0_code 76 = .ok (.getfield 286, 3) := dk_180 1 30 (dk_at dksX0_code_3 7 rfl rfl)
theorem dX0_code_79 : decode cX0_code 79 = .ok (.iload_n 2, 1) := dk_28 (dk_at dksX0_code_3 10 rfl rfl)
theorem dX0_code_80 : decode cX0_code 80 = .ok (.iastore, 1) := dk_79 (dk_at dksX0_code_3 11 rfl rfl)
theorem dX0_code_81 : decode cX0_code 81 = .ok (.aload 4, 2) := dk_25 4 (dk_at dksX0_code_3 12 rfl rfl)
theorem dX0_code_83 : decode cX0_code 83 = .ok (.getfield 291, 3) := dk_180 1 35 (dk_at dksX0_code_3 14 rfl rfl)
theorem dX0_code_86 : decode cX0_code 86 = .ok (.aload 4, 2) := dk_25 4 (dk_at dksX0_code_3 17 rfl rfl)
theorem dX0_code_88 : decode cX0_code 88 = .ok (.getfield 286, 3) := dk_180 1 30 (dk_at dksX0_code_3 19 rfl rfl)
theorem dX0_code_91 : decode cX0_code 91 = .ok (.iload_n 3, 1) := dk_29 (dk_at dksX0_code_3 22 rfl rfl)
theorem dX0_code_92 : decode cX0_code 92 = .ok (.iastore, 1) := dk_79 (dk_at dksX0_code_3 23 rfl rfl)
theorem dX0_code_93 : decode cX0_code 93 = .ok (.aload 4, 2) := dk_25 4 (dk_at dksX0_code_4 0 rfl rfl)
theorem dX0_code_95 : decode cX0_code 95 = .ok (.dup, 1) := dk_89 (dk_at dksX0_code_4 2 rfl rfl)
theorem dX0_code_96 : decode cX0_code 96 = .ok (.getfield 286, 3) := dk_180 1 30 (dk_at dksX0_code_4 3 rfl rfl)
theorem dX0_code_99 : decode cX0_code 99 = .ok (.iconst 1, 1) := dk_4 (dk_at dksX0_code_4 6 rfl rfl)
theorem dX0_code_100 : decode cX0_code 100 = .ok (.iadd, 1) := dk_96 (dk_at dksX0_code_4 7 rfl rfl)
theorem dX0_code_101 : decode cX0_code 101 = .ok (.putfield 286, 3) := dk_181 1 30 (dk_at dksX0_code_4 8 rfl rfl)
theorem dX0_code_104 : decode cX0_code 104 = .ok (.aload 4, 2) := dk_25 4 (dk_at dksX0_code_4 11 rfl rfl)
theorem dX0_code_106 : decode cX0_code 106 = .ok (.getfield 286, 3) := dk_180 1 30 (dk_at dksX0_code_4 13 rfl rfl)
theorem dX0_code_109 : decode cX0_code 109 = .ok (.ireturn, 1) := dk_172 (dk_at dksX0_code_4 16 rfl rfl)
def dkwX0_in_0 : List UInt8 := [30, 32, 148, 155, 0, 14, 30, 22, 4, 148, 157, 0, 7, 4, 167, 0, 4, 3, 172]
abbrev dktX0_in_0 : List UInt8 := dkwX0_in_0 ++ []
theorem dksX0_in_0 : cX0_in.data.toList.drop 0 = dktX0_in_0 := by decide +kernel
theorem dX0_in_0 : decode cX0_in 0 = .ok (.lload_n 0, 1) := dk_30 (dk_at dksX0_in_0 0 rfl rfl)
theorem dX0_in_1 : decode cX0_in 1 = .ok (.lload_n 2, 1) := dk_32 (dk_at dksX0_in_0 1 rfl rfl)
theorem dX0_in_2 : decode cX0_in 2 = .ok (.lcmp, 1) := dk_148 (dk_at dksX0_in_0 2 rfl rfl)
theorem dX0_in_3 : decode cX0_in 3 = .ok (.ifCond .lt 14, 3) := dk_155 0 14 (dk_at dksX0_in_0 3 rfl rfl)
theorem dX0_in_6 : decode cX0_in 6 = .ok (.lload_n 0, 1) := dk_30 (dk_at dksX0_in_0 6 rfl rfl)
theorem dX0_in_7 : decode cX0_in 7 = .ok (.lload 4, 2) := dk_22 4 (dk_at dksX0_in_0 7 rfl rfl)
theorem dX0_in_9 : decode cX0_in 9 = .ok (.lcmp, 1) := dk_148 (dk_at dksX0_in_0 9 rfl rfl)
theorem dX0_in_10 : decode cX0_in 10 = .ok (.ifCond .gt 7, 3) := dk_157 0 7 (dk_at dksX0_in_0 10 rfl rfl)
theorem dX0_in_13 : decode cX0_in 13 = .ok (.iconst 1, 1) := dk_4 (dk_at dksX0_in_0 13 rfl rfl)
theorem dX0_in_14 : decode cX0_in 14 = .ok (.goto 4, 3) := dk_167 0 4 (dk_at dksX0_in_0 14 rfl rfl)
theorem dX0_in_17 : decode cX0_in 17 = .ok (.iconst 0, 1) := dk_3 (dk_at dksX0_in_0 17 rfl rfl)
theorem dX0_in_18 : decode cX0_in 18 = .ok (.ireturn, 1) := dk_172 (dk_at dksX0_in_0 18 rfl rfl)
def dkwX0_mayHave_4 : List UInt8 := [184, 0, 5, 172]
abbrev dktX0_mayHave_4 : List UInt8 := dkwX0_mayHave_4 ++ []
def dkwX0_mayHave_3 : List UInt8 := [20, 1, 19, 184, 0, 5, 172, 27, 133, 9, 20, 1, 19, 184, 0, 5, 172, 26, 133, 9, 20, 1, 21]
abbrev dktX0_mayHave_3 : List UInt8 := dkwX0_mayHave_3 ++ dktX0_mayHave_4
def dkwX0_mayHave_2 : List UInt8 := [27, 133, 9, 20, 0, 3, 184, 0, 5, 172, 27, 133, 9, 20, 1, 17, 184, 0, 5, 172, 27, 133, 9]
abbrev dktX0_mayHave_2 : List UInt8 := dkwX0_mayHave_2 ++ dktX0_mayHave_3
def dkwX0_mayHave_1 : List UInt8 := [170, 0, 0, 0, 0, 0, 123, 0, 0, 0, 1, 0, 0, 0, 17, 0, 0, 0, 83, 0, 0, 0, 83, 0, 0, 0, 123, 0, 0, 0, 123, 0, 0, 0, 123, 0, 0, 0, 123, 0, 0, 0, 123, 0, 0, 0, 123, 0, 0, 0, 123, 0, 0, 0, 123, 0, 0, 0, 123, 0, 0, 0, 93, 0, 0, 0, 93, 0, 0, 0, 103, 0, 0, 0, 103, 0, 0, 0, 123, 0, 0, 0, 113]
abbrev dktX0_mayHave_1 : List UInt8 := dkwX0_mayHave_1 ++ dktX0_mayHave_2
def dkwX0_mayHave_0 : List UInt8 := [26]
abbrev dktX0_mayHave_0 : List UInt8 := dkwX0_mayHave_0 ++ dktX0_mayHave_1
theorem dksX0_mayHave_0 : cX0_mayHave.data.toList.drop 0 = dktX0_mayHave_0 := by decide +kernel
theorem dksX0_mayHave_1 : cX0_mayHave.data.toList.drop 1 = dktX0_mayHave_1 := dk_seg dksX0_mayHave_0 1 rfl rfl
theorem dksX0_mayHave_2 : cX0_mayHave.data.toList.drop 84 = dktX0_mayHave_2 := dk_seg dksX0_mayHave_1 83 rfl rfl
theorem dksX0_mayHave_3 : cX0_mayHave.data.toList.drop 107 = dktX0_mayHave_3 := dk_seg dksX0_mayHave_2 23 rfl rfl
theorem dksX0_mayHave_4 : cX0_mayHave.data.toList.drop 130 = dktX0_mayHave_4 := dk_seg dksX0_mayHave_3 23 rfl rfl
theorem dX0_mayHave_0 : decode cX0_mayHave 0 = .ok (.iload_n 0, 1) := dk_26 (dk_at dksX0_mayHave_0 0 rfl rfl)
theorem dX0_mayHave_1 : decode cX0_mayHave 1 = .ok (.tableswitch 123 1 17 #[83, 83, 123, 123, 123, 123, 123, 123, 123, 123, 123, 93, 93, 103, 103, 123, 113], 83) := by decide +kernel
theorem dX0_mayHave_84 : decode cX0_mayHave 84 = .ok (.iload_n 1, 1) := dk_27 (dk_at dksX0_mayHave_2 0 rfl rfl)
theorem dX0_mayHave_85 : decode cX0_mayHave 85 = .ok (.i2l, 1) := dk_133 (dk_at dksX0_mayHave_2 1 rfl rfl)
theorem dX0_mayHave_86 : decode cX0_mayHave 86 = .ok (.lconst 0, 1) := dk_9 (dk_at dksX0_mayHave_2 2 rfl rfl)
theorem dX0_mayHave_87 : decode cX0_mayHave 87 = .ok (.ldc2_w 3, 3) := dk_20 0 3 (dk_at dksX0_mayHave_2 3 rfl rfl)
theorem dX0_mayHave_90 : decode cX0_mayHave 90 = .ok (.invokestatic 5, 3) := dk_184 0 5 (dk_at dksX0_mayHave_2 6 rfl rfl)
theorem dX0_mayHave_93 : decode cX0_mayHave 93 = .ok (.ireturn, 1) := dk_172 (dk_at dksX0_mayHave_2 9 rfl rfl)
theorem dX0_mayHave_94 : decode cX0_mayHave 94 = .ok (.iload_n 1, 1) := dk_27 (dk_at dksX0_mayHave_2 10 rfl rfl)
theorem dX0_mayHave_95 : decode cX0_mayHave 95 = .ok (.i2l, 1) := dk_133 (dk_at dksX0_mayHave_2 11 rfl rfl)
theorem dX0_mayHave_96 : decode cX0_mayHave 96 = .ok (.lconst 0, 1) := dk_9 (dk_at dksX0_mayHave_2 12 rfl rfl)
theorem dX0_mayHave_97 : decode cX0_mayHave 97 = .ok (.ldc2_w 273, 3) := dk_20 1 17 (dk_at dksX0_mayHave_2 13 rfl rfl)
theorem dX0_mayHave_100 : decode cX0_mayHave 100 = .ok (.invokestatic 5, 3) := dk_184 0 5 (dk_at dksX0_mayHave_2 16 rfl rfl)
theorem dX0_mayHave_103 : decode cX0_mayHave 103 = .ok (.ireturn, 1) := dk_172 (dk_at dksX0_mayHave_2 19 rfl rfl)
theorem dX0_mayHave_104 : decode cX0_mayHave 104 = .ok (.iload_n 1, 1) := dk_27 (dk_at dksX0_mayHave_2 20 rfl rfl)
theorem dX0_mayHave_105 : decode cX0_mayHave 105 = .ok (.i2l, 1) := dk_133 (dk_at dksX0_mayHave_2 21 rfl rfl)
theorem dX0_mayHave_106 : decode cX0_mayHave 106 = .ok (.lconst 0, 1) := dk_9 (dk_at dksX0_mayHave_2 22 rfl rfl)
theorem dX0_mayHave_107 : decode cX0_mayHave 107 = .ok (.ldc2_w 275, 3) := dk_20 1 19 (dk_at dksX0_mayHave_3 0 rfl rfl)
theorem dX0_mayHave_110 : decode cX0_mayHave 110 = .ok (.invokestatic 5, 3) := dk_184 0 5 (dk_at dksX0_mayHave_3 3 rfl rfl)
theorem dX0_mayHave_113 : decode cX0_mayHave 113 = .ok (.ireturn, 1) := dk_172 (dk_at dksX0_mayHave_3 6 rfl rfl)
theorem dX0_mayHave_114 : decode cX0_mayHave 114 = .ok (.iload_n 1, 1) := dk_27 (dk_at dksX0_mayHave_3 7 rfl rfl)
theorem dX0_mayHave_115 : decode cX0_mayHave 115 = .ok (.i2l, 1) := dk_133 (dk_at dksX0_mayHave_3 8 rfl rfl)
theorem dX0_mayHave_116 : decode cX0_mayHave 116 = .ok (.lconst 0, 1) := dk_9 (dk_at dksX0_mayHave_3 9 rfl rfl)
theorem dX0_mayHave_117 : decode cX0_mayHave 117 = .ok (.ldc2_w 275, 3) := dk_20 1 19 (dk_at dksX0_mayHave_3 10 rfl rfl)
theorem dX0_mayHave_120 : decode cX0_mayHave 120 = .ok (.invokestatic 5, 3) := dk_184 0 5 (dk_at dksX0_mayHave_3 13 rfl rfl)
theorem dX0_mayHave_123 : decode cX0_mayHave 123 = .ok (.ireturn, 1) := dk_172 (dk_at dksX0_mayHave_3 16 rfl rfl)
theorem dX0_mayHave_124 : decode cX0_mayHave 124 = .ok (.iload_n 0, 1) := dk_26 (dk_at dksX0_mayHave_3 17 rfl rfl)
theorem dX0_mayHave_125 : decode cX0_mayHave 125 = .ok (.i2l, 1) := dk_133 (dk_at dksX0_mayHave_3 18 rfl rfl)
theorem dX0_mayHave_126 : decode cX0_mayHave 126 = .ok (.lconst 0, 1) := dk_9 (dk_at dksX0_mayHave_3 19 rfl rfl)
theorem dX0_mayHave_127 : decode cX0_mayHave 127 = .ok (.ldc2_w 277, 3) := dk_20 1 21 (dk_at dksX0_mayHave_3 20 rfl rfl)
theorem dX0_mayHave_130 : decode cX0_mayHave 130 = .ok (.invokestatic 5, 3) := dk_184 0 5 (dk_at dksX0_mayHave_4 0 rfl rfl)
theorem dX0_mayHave_133 : decode cX0_mayHave 133 = .ok (.ireturn, 1) := dk_172 (dk_at dksX0_mayHave_4 3 rfl rfl)
def dkwX0_merger_1 : List UInt8 := [183, 1, 38, 185, 0, 137, 2, 0, 87, 42, 180, 0, 103, 185, 0, 145, 1, 0, 4, 100, 172]
abbrev dktX0_merger_1 : List UInt8 := dkwX0_merger_1 ++ []
def dkwX0_merger_0 : List UInt8 := [42, 180, 0, 103, 185, 0, 145, 1, 0, 7, 160, 0, 6, 16, 253, 172, 42, 180, 0, 103, 187, 0, 191, 89]
abbrev dktX0_merger_0 : List UInt8 := dkwX0_merger_0 ++ dktX0_merger_1
theorem dksX0_merger_0 : cX0_merger.data.toList.drop 0 = dktX0_merger_0 := by decide +kernel
theorem dksX0_merger_1 : cX0_merger.data.toList.drop 24 = dktX0_merger_1 := dk_seg dksX0_merger_0 24 rfl rfl
theorem dX0_merger_0 : decode cX0_merger 0 = .ok (.aload_n 0, 1) := dk_42 (dk_at dksX0_merger_0 0 rfl rfl)
theorem dX0_merger_1 : decode cX0_merger 1 = .ok (.getfield 103, 3) := dk_180 0 103 (dk_at dksX0_merger_0 1 rfl rfl)
theorem dX0_merger_4 : decode cX0_merger 4 = .ok (.invokeinterface 145 1, 5) := by decide +kernel
theorem dX0_merger_9 : decode cX0_merger 9 = .ok (.iconst 4, 1) := dk_7 (dk_at dksX0_merger_0 9 rfl rfl)
theorem dX0_merger_10 : decode cX0_merger 10 = .ok (.if_icmp .ne 6, 3) := dk_160 0 6 (dk_at dksX0_merger_0 10 rfl rfl)
theorem dX0_merger_13 : decode cX0_merger 13 = .ok (.bipush (-3), 2) := dk_16 253 (dk_at dksX0_merger_0 13 rfl rfl)
theorem dX0_merger_15 : decode cX0_merger 15 = .ok (.ireturn, 1) := dk_172 (dk_at dksX0_merger_0 15 rfl rfl)
theorem dX0_merger_16 : decode cX0_merger 16 = .ok (.aload_n 0, 1) := dk_42 (dk_at dksX0_merger_0 16 rfl rfl)
theorem dX0_merger_17 : decode cX0_merger 17 = .ok (.getfield 103, 3) := dk_180 0 103 (dk_at dksX0_merger_0 17 rfl rfl)
theorem dX0_merger_20 : decode cX0_merger 20 = .ok (.new 191, 3) := dk_187 0 191 (dk_at dksX0_merger_0 20 rfl rfl)
theorem dX0_merger_23 : decode cX0_merger 23 = .ok (.dup, 1) := dk_89 (dk_at dksX0_merger_0 23 rfl rfl)
theorem dX0_merger_24 : decode cX0_merger 24 = .ok (.invokespecial 294, 3) := dk_183 1 38 (dk_at dksX0_merger_1 0 rfl rfl)
theorem dX0_merger_27 : decode cX0_merger 27 = .ok (.invokeinterface 137 2, 5) := by decide +kernel
theorem dX0_merger_32 : decode cX0_merger 32 = .ok (.pop, 1) := dk_87 (dk_at dksX0_merger_1 8 rfl rfl)
theorem dX0_merger_33 : decode cX0_merger 33 = .ok (.aload_n 0, 1) := dk_42 (dk_at dksX0_merger_1 9 rfl rfl)
theorem dX0_merger_34 : decode cX0_merger 34 = .ok (.getfield 103, 3) := dk_180 0 103 (dk_at dksX0_merger_1 10 rfl rfl)
theorem dX0_merger_37 : decode cX0_merger 37 = .ok (.invokeinterface 145 1, 5) := by decide +kernel
theorem dX0_merger_42 : decode cX0_merger 42 = .ok (.iconst 1, 1) := dk_4 (dk_at dksX0_merger_1 18 rfl rfl)
theorem dX0_merger_43 : decode cX0_merger 43 = .ok (.isub, 1) := dk_100 (dk_at dksX0_merger_1 19 rfl rfl)
theorem dX0_merger_44 : decode cX0_merger 44 = .ok (.ireturn, 1) := dk_172 (dk_at dksX0_merger_1 20 rfl rfl)
def dkwX0_act_4 : List UInt8 := [25, 4, 180, 1, 45, 172]
abbrev dktX0_act_4 : List UInt8 := dkwX0_act_4 ++ []
def dkwX0_act_3 : List UInt8 := [79, 25, 4, 180, 1, 47, 25, 4, 180, 1, 45, 29, 79, 25, 4, 89, 180, 1, 45, 4, 96, 181, 1, 45]
abbrev dktX0_act_3 : List UInt8 := dkwX0_act_3 ++ dktX0_act_4
def dkwX0_act_2 : List UInt8 := [25, 4, 180, 1, 45, 16, 12, 160, 0, 6, 16, 253, 172, 25, 4, 180, 1, 46, 25, 4, 180, 1, 45, 28]
abbrev dktX0_act_2 : List UInt8 := dkwX0_act_2 ++ dktX0_act_3
def dkwX0_act_1 : List UInt8 := [180, 1, 27, 153, 0, 6, 16, 254, 172, 42, 180, 0, 103, 27, 185, 0, 149, 2, 0, 192, 0, 191, 58, 4]
abbrev dktX0_act_1 : List UInt8 := dkwX0_act_1 ++ dktX0_act_2
def dkwX0_act_0 : List UInt8 := [42, 27, 182, 1, 39, 153, 0, 15, 28, 133, 9, 20, 1, 43, 184, 0, 5, 154, 0, 5, 2, 172, 42]
abbrev dktX0_act_0 : List UInt8 := dkwX0_act_0 ++ dktX0_act_1
theorem dksX0_act_0 : cX0_act.data.toList.drop 0 = dktX0_act_0 := by decide +kernel
theorem dksX0_act_1 : cX0_act.data.toList.drop 23 = dktX0_act_1 := dk_seg dksX0_act_0 23 rfl rfl
theorem dksX0_act_2 : cX0_act.data.toList.drop 47 = dktX0_act_2 := dk_seg dksX0_act_1 24 rfl rfl
theorem dksX0_act_3 : cX0_act.data.toList.drop 71 = dktX0_act_3 := dk_seg dksX0_act_2 24 rfl rfl
theorem dksX0_act_4 : cX0_act.data.toList.drop 95 = dktX0_act_4 := dk_seg dksX0_act_3 24 rfl rfl
theorem dX0_act_0 : decode cX0_act 0 = .ok (.aload_n 0, 1) := dk_42 (dk_at dksX0_act_0 0 rfl rfl)
theorem dX0_act_1 : decode cX0_act 1 = .ok (.iload_n 1, 1) := dk_27 (dk_at dksX0_act_0 1 rfl rfl)
theorem dX0_act_2 : decode cX0_act 2 = .ok (.invokevirtual 295, 3) := dk_182 1 39 (dk_at dksX0_act_0 2 rfl rfl)
theorem dX0_act_5 : decode cX0_act 5 = .ok (.ifCond .eq 15, 3) := dk_153 0 15 (dk_at dksX0_act_0 5 rfl rfl)
theorem dX0_act_8 : decode cX0_act 8 = .ok (.iload_n 2, 1) := dk_28 (dk_at dksX0_act_0 8 rfl rfl)
theorem dX0_act_9 : decode cX0_act 9 = .ok (.i2l, 1) := dk_133 (dk_at dksX0_act_0 9 rfl rfl)
theorem dX0_act_10 : decode cX0_act 10 = .ok (.lconst 0, 1) := dk_9 (dk_at dksX0_act_0 10 rfl rfl)
theorem dX0_act_11 : decode cX0_act 11 = .ok (.ldc2_w 299, 3) := dk_20 1 43 (dk_at dksX0_act_0 11 rfl rfl)
theorem dX0_act_14 : decode cX0_act 14 = .ok (.invokestatic 5, 3) := dk_184 0 5 (dk_at dksX0_act_0 14 rfl rfl)
theorem dX0_act_17 : decode cX0_act 17 = .ok (.ifCond .ne 5, 3) := dk_154 0 5 (dk_at dksX0_act_0 17 rfl rfl)
theorem dX0_act_20 : decode cX0_act 20 = .ok (.iconst (-1), 1) := dk_2 (dk_at dksX0_act_0 20 rfl rfl)
theorem dX0_act_21 : decode cX0_act 21 = .ok (.ireturn, 1) := dk_172 (dk_at dksX0_act_0 21 rfl rfl)
theorem dX0_act_22 : decode cX0_act 22 = .ok (.aload_n 0, 1) := dk_42 (dk_at dksX0_act_0 22 rfl rfl)
theorem dX0_act_23 : decode cX0_act 23 = .ok (.getfield 283, 3) := dk_180 1 27 (dk_at dksX0_act_1 0 rfl rfl)
theorem dX0_act_26 : decode cX0_act 26 = .ok (.ifCond .eq 6, 3) := dk_153 0 6 (dk_at dksX0_act_1 3 rfl rfl)
theorem dX0_act_29 : decode cX0_act 29 = .ok (.bipush (-2), 2) := dk_16 254 (dk_at dksX0_act_1 6 rfl rfl)
theorem dX0_act_31 : decode cX0_act 31 = .ok (.ireturn, 1) := dk_172 (dk_at dksX0_act_1 8 rfl rfl)
theorem dX0_act_32 : decode cX0_act 32 = .ok (.aload_n 0, 1) := dk_42 (dk_at dksX0_act_1 9 rfl rfl)
theorem dX0_act_33 : decode cX0_act 33 = .ok (.getfield 103, 3) := dk_180 0 103 (dk_at dksX0_act_1 10 rfl rfl)
theorem dX0_act_36 : decode cX0_act 36 = .ok (.iload_n 1, 1) := dk_27 (dk_at dksX0_act_1 13 rfl rfl)
theorem dX0_act_37 : decode cX0_act 37 = .ok (.invokeinterface 149 2, 5) := by decide +kernel
theorem dX0_act_42 : decode cX0_act 42 = .ok (.checkcast 191, 3) := dk_192 0 191 (dk_at dksX0_act_1 19 rfl rfl)
theorem dX0_act_45 : decode cX0_act 45 = .ok (.astore 4, 2) := dk_58 4 (dk_at dksX0_act_1 22 rfl rfl)
theorem dX0_act_47 : decode cX0_act 47 = .ok (.aload 4, 2) := dk_25 4 (dk_at dksX0_act_2 0 rfl rfl)
theorem dX0_act_49 : decode cX0_act 49 = .ok (.getfield 301, 3) := dk_180 1 45 (dk_at dksX0_act_2 2 rfl rfl)
theorem dX0_act_52 : decode cX0_act 52 = .ok (.bipush 12, 2) := dk_16 12 (dk_at dksX0_act_2 5 rfl rfl)
theorem dX0_act_54 : decode cX0_act 54 = .ok (.if_icmp .ne 6, 3) := dk_160 0 6 (dk_at dksX0_act_2 7 rfl rfl)
theorem dX0_act_57 : decode cX0_act 57 = .ok (.bipush (-3), 2) := dk_16 253 (dk_at dksX0_act_2 10 rfl rfl)
theorem dX0_act_59 : decode cX0_act 59 = .ok (.ireturn, 1) := dk_172 (dk_at dksX0_act_2 12 rfl rfl)
theorem dX0_act_60 : decode cX0_act 60 = .ok (.aload 4, 2) := dk_25 4 (dk_at dksX0_act_2 13 rfl rfl)
theorem dX0_act_62 : decode cX0_act 62 = .ok (.getfield 302, 3) := dk_180 1 46 (dk_at dksX0_act_2 15 rfl rfl)
theorem dX0_act_65 : decode cX0_act 65 = .ok (.aload 4, 2) := dk_25 4 (dk_at dksX0_act_2 18 rfl rfl)
theorem dX0_act_67 : decode cX0_act 67 = .ok (.getfield 301, 3) := dk_180 1 45 (dk_at dksX0_act_2 20 rfl rfl)
theorem dX0_act_70 : decode cX0_act 70 = .ok (.iload_n 2, 1) := dk_28 (dk_at dksX0_act_2 23 rfl rfl)
theorem dX0_act_71 : decode cX0_act 71 = .ok (.iastore, 1) := dk_79 (dk_at dksX0_act_3 0 rfl rfl)
theorem dX0_act_72 : decode cX0_act 72 = .ok (.aload 4, 2) := dk_25 4 (dk_at dksX0_act_3 1 rfl rfl)
theorem dX0_act_74 : decode cX0_act 74 = .ok (.getfield 303, 3) := dk_180 1 47 (dk_at dksX0_act_3 3 rfl rfl)
theorem dX0_act_77 : decode cX0_act 77 = .ok (.aload 4, 2) := dk_25 4 (dk_at dksX0_act_3 6 rfl rfl)
theorem dX0_act_79 : decode cX0_act 79 = .ok (.getfield 301, 3) := dk_180 1 45 (dk_at dksX0_act_3 8 rfl rfl)
theorem dX0_act_82 : decode cX0_act 82 = .ok (.iload_n 3, 1) := dk_29 (dk_at dksX0_act_3 11 rfl rfl)
theorem dX0_act_83 : decode cX0_act 83 = .ok (.iastore, 1) := dk_79 (dk_at dksX0_act_3 12 rfl rfl)
theorem dX0_act_84 : decode cX0_act 84 = .ok (.aload 4, 2) := dk_25 4 (dk_at dksX0_act_3 13 rfl rfl)
theorem dX0_act_86 : decode cX0_act 86 = .ok (.dup, 1) := dk_89 (dk_at dksX0_act_3 15 rfl rfl)
theorem dX0_act_87 : decode cX0_act 87 = .ok (.getfield 301, 3) := dk_180 1 45 (dk_at dksX0_act_3 16 rfl rfl)
theorem dX0_act_90 : decode cX0_act 90 = .ok (.iconst 1, 1) := dk_4 (dk_at dksX0_act_3 19 rfl rfl)
theorem dX0_act_91 : decode cX0_act 91 = .ok (.iadd, 1) := dk_96 (dk_at dksX0_act_3 20 rfl rfl)
theorem dX0_act_92 : decode cX0_act 92 = .ok (.putfield 301, 3) := dk_181 1 45 (dk_at dksX0_act_3 21 rfl rfl)
theorem dX0_act_95 : decode cX0_act 95 = .ok (.aload 4, 2) := dk_25 4 (dk_at dksX0_act_4 0 rfl rfl)
theorem dX0_act_97 : decode cX0_act 97 = .ok (.getfield 301, 3) := dk_180 1 45 (dk_at dksX0_act_4 2 rfl rfl)
theorem dX0_act_100 : decode cX0_act 100 = .ok (.ireturn, 1) := dk_172 (dk_at dksX0_act_4 5 rfl rfl)
def dkwX0_isMerger_0 : List UInt8 := [27, 133, 9, 42, 180, 0, 103, 185, 0, 145, 1, 0, 4, 100, 133, 184, 0, 5, 172]
abbrev dktX0_isMerger_0 : List UInt8 := dkwX0_isMerger_0 ++ []
theorem dksX0_isMerger_0 : cX0_isMerger.data.toList.drop 0 = dktX0_isMerger_0 := by decide +kernel
theorem dX0_isMerger_0 : decode cX0_isMerger 0 = .ok (.iload_n 1, 1) := dk_27 (dk_at dksX0_isMerger_0 0 rfl rfl)
theorem dX0_isMerger_1 : decode cX0_isMerger 1 = .ok (.i2l, 1) := dk_133 (dk_at dksX0_isMerger_0 1 rfl rfl)
theorem dX0_isMerger_2 : decode cX0_isMerger 2 = .ok (.lconst 0, 1) := dk_9 (dk_at dksX0_isMerger_0 2 rfl rfl)
theorem dX0_isMerger_3 : decode cX0_isMerger 3 = .ok (.aload_n 0, 1) := dk_42 (dk_at dksX0_isMerger_0 3 rfl rfl)
theorem dX0_isMerger_4 : decode cX0_isMerger 4 = .ok (.getfield 103, 3) := dk_180 0 103 (dk_at dksX0_isMerger_0 4 rfl rfl)
theorem dX0_isMerger_7 : decode cX0_isMerger 7 = .ok (.invokeinterface 145 1, 5) := by decide +kernel
theorem dX0_isMerger_12 : decode cX0_isMerger 12 = .ok (.iconst 1, 1) := dk_4 (dk_at dksX0_isMerger_0 12 rfl rfl)
theorem dX0_isMerger_13 : decode cX0_isMerger 13 = .ok (.isub, 1) := dk_100 (dk_at dksX0_isMerger_0 13 rfl rfl)
theorem dX0_isMerger_14 : decode cX0_isMerger 14 = .ok (.i2l, 1) := dk_133 (dk_at dksX0_isMerger_0 14 rfl rfl)
theorem dX0_isMerger_15 : decode cX0_isMerger 15 = .ok (.invokestatic 5, 3) := dk_184 0 5 (dk_at dksX0_isMerger_0 15 rfl rfl)
theorem dX0_isMerger_18 : decode cX0_isMerger 18 = .ok (.ireturn, 1) := dk_172 (dk_at dksX0_isMerger_0 18 rfl rfl)
def dkwX0_tells_2 : List UInt8 := [167, 0, 6, 20, 1, 52, 173]
abbrev dktX0_tells_2 : List UInt8 := dkwX0_tells_2 ++ []
def dkwX0_tells_1 : List UInt8 := [192, 0, 191, 58, 8, 25, 8, 182, 1, 48, 153, 0, 16, 25, 8, 32, 22, 4, 22, 6, 182, 0, 193]
abbrev dktX0_tells_1 : List UInt8 := dkwX0_tells_1 ++ dktX0_tells_2
def dkwX0_tells_0 : List UInt8 := [42, 27, 182, 1, 39, 154, 0, 7, 20, 0, 189, 173, 42, 180, 0, 103, 27, 185, 0, 149, 2, 0]
abbrev dktX0_tells_0 : List UInt8 := dkwX0_tells_0 ++ dktX0_tells_1
theorem dksX0_tells_0 : cX0_tells.data.toList.drop 0 = dktX0_tells_0 := by decide +kernel
theorem dksX0_tells_1 : cX0_tells.data.toList.drop 22 = dktX0_tells_1 := dk_seg dksX0_tells_0 22 rfl rfl
theorem dksX0_tells_2 : cX0_tells.data.toList.drop 45 = dktX0_tells_2 := dk_seg dksX0_tells_1 23 rfl rfl
theorem dX0_tells_0 : decode cX0_tells 0 = .ok (.aload_n 0, 1) := dk_42 (dk_at dksX0_tells_0 0 rfl rfl)
theorem dX0_tells_1 : decode cX0_tells 1 = .ok (.iload_n 1, 1) := dk_27 (dk_at dksX0_tells_0 1 rfl rfl)
theorem dX0_tells_2 : decode cX0_tells 2 = .ok (.invokevirtual 295, 3) := dk_182 1 39 (dk_at dksX0_tells_0 2 rfl rfl)
theorem dX0_tells_5 : decode cX0_tells 5 = .ok (.ifCond .ne 7, 3) := dk_154 0 7 (dk_at dksX0_tells_0 5 rfl rfl)
theorem dX0_tells_8 : decode cX0_tells 8 = .ok (.ldc2_w 189, 3) := dk_20 0 189 (dk_at dksX0_tells_0 8 rfl rfl)
theorem dX0_tells_11 : decode cX0_tells 11 = .ok (.lreturn, 1) := dk_173 (dk_at dksX0_tells_0 11 rfl rfl)
theorem dX0_tells_12 : decode cX0_tells 12 = .ok (.aload_n 0, 1) := dk_42 (dk_at dksX0_tells_0 12 rfl rfl)
theorem dX0_tells_13 : decode cX0_tells 13 = .ok (.getfield 103, 3) := dk_180 0 103 (dk_at dksX0_tells_0 13 rfl rfl)
theorem dX0_tells_16 : decode cX0_tells 16 = .ok (.iload_n 1, 1) := dk_27 (dk_at dksX0_tells_0 16 rfl rfl)
theorem dX0_tells_17 : decode cX0_tells 17 = .ok (.invokeinterface 149 2, 5) := by decide +kernel
theorem dX0_tells_22 : decode cX0_tells 22 = .ok (.checkcast 191, 3) := dk_192 0 191 (dk_at dksX0_tells_1 0 rfl rfl)
theorem dX0_tells_25 : decode cX0_tells 25 = .ok (.astore 8, 2) := dk_58 8 (dk_at dksX0_tells_1 3 rfl rfl)
theorem dX0_tells_27 : decode cX0_tells 27 = .ok (.aload 8, 2) := dk_25 8 (dk_at dksX0_tells_1 5 rfl rfl)
theorem dX0_tells_29 : decode cX0_tells 29 = .ok (.invokevirtual 304, 3) := dk_182 1 48 (dk_at dksX0_tells_1 7 rfl rfl)
theorem dX0_tells_32 : decode cX0_tells 32 = .ok (.ifCond .eq 16, 3) := dk_153 0 16 (dk_at dksX0_tells_1 10 rfl rfl)
theorem dX0_tells_35 : decode cX0_tells 35 = .ok (.aload 8, 2) := dk_25 8 (dk_at dksX0_tells_1 13 rfl rfl)
theorem dX0_tells_37 : decode cX0_tells 37 = .ok (.lload_n 2, 1) := dk_32 (dk_at dksX0_tells_1 15 rfl rfl)
theorem dX0_tells_38 : decode cX0_tells 38 = .ok (.lload 4, 2) := dk_22 4 (dk_at dksX0_tells_1 16 rfl rfl)
theorem dX0_tells_40 : decode cX0_tells 40 = .ok (.lload 6, 2) := dk_22 6 (dk_at dksX0_tells_1 18 rfl rfl)
theorem dX0_tells_42 : decode cX0_tells 42 = .ok (.invokevirtual 193, 3) := dk_182 0 193 (dk_at dksX0_tells_1 20 rfl rfl)
theorem dX0_tells_45 : decode cX0_tells 45 = .ok (.goto 6, 3) := dk_167 0 6 (dk_at dksX0_tells_2 0 rfl rfl)
theorem dX0_tells_48 : decode cX0_tells 48 = .ok (.ldc2_w 308, 3) := dk_20 1 52 (dk_at dksX0_tells_2 3 rfl rfl)
theorem dX0_tells_51 : decode cX0_tells 51 = .ok (.lreturn, 1) := dk_173 (dk_at dksX0_tells_2 6 rfl rfl)
def dkwX0_isRight_1 : List UInt8 := [192, 0, 191, 182, 1, 48, 153, 0, 7, 4, 167, 0, 4, 3, 172]
abbrev dktX0_isRight_1 : List UInt8 := dkwX0_isRight_1 ++ []
def dkwX0_isRight_0 : List UInt8 := [42, 27, 182, 1, 39, 154, 0, 7, 2, 167, 0, 27, 42, 180, 0, 103, 27, 185, 0, 149, 2, 0]
abbrev dktX0_isRight_0 : List UInt8 := dkwX0_isRight_0 ++ dktX0_isRight_1
theorem dksX0_isRight_0 : cX0_isRight.data.toList.drop 0 = dktX0_isRight_0 := by decide +kernel
theorem dksX0_isRight_1 : cX0_isRight.data.toList.drop 22 = dktX0_isRight_1 := dk_seg dksX0_isRight_0 22 rfl rfl
theorem dX0_isRight_0 : decode cX0_isRight 0 = .ok (.aload_n 0, 1) := dk_42 (dk_at dksX0_isRight_0 0 rfl rfl)
theorem dX0_isRight_1 : decode cX0_isRight 1 = .ok (.iload_n 1, 1) := dk_27 (dk_at dksX0_isRight_0 1 rfl rfl)
theorem dX0_isRight_2 : decode cX0_isRight 2 = .ok (.invokevirtual 295, 3) := dk_182 1 39 (dk_at dksX0_isRight_0 2 rfl rfl)
theorem dX0_isRight_5 : decode cX0_isRight 5 = .ok (.ifCond .ne 7, 3) := dk_154 0 7 (dk_at dksX0_isRight_0 5 rfl rfl)
theorem dX0_isRight_8 : decode cX0_isRight 8 = .ok (.iconst (-1), 1) := dk_2 (dk_at dksX0_isRight_0 8 rfl rfl)
theorem dX0_isRight_9 : decode cX0_isRight 9 = .ok (.goto 27, 3) := dk_167 0 27 (dk_at dksX0_isRight_0 9 rfl rfl)
theorem dX0_isRight_12 : decode cX0_isRight 12 = .ok (.aload_n 0, 1) := dk_42 (dk_at dksX0_isRight_0 12 rfl rfl)
theorem dX0_isRight_13 : decode cX0_isRight 13 = .ok (.getfield 103, 3) := dk_180 0 103 (dk_at dksX0_isRight_0 13 rfl rfl)
theorem dX0_isRight_16 : decode cX0_isRight 16 = .ok (.iload_n 1, 1) := dk_27 (dk_at dksX0_isRight_0 16 rfl rfl)
theorem dX0_isRight_17 : decode cX0_isRight 17 = .ok (.invokeinterface 149 2, 5) := by decide +kernel
theorem dX0_isRight_22 : decode cX0_isRight 22 = .ok (.checkcast 191, 3) := dk_192 0 191 (dk_at dksX0_isRight_1 0 rfl rfl)
theorem dX0_isRight_25 : decode cX0_isRight 25 = .ok (.invokevirtual 304, 3) := dk_182 1 48 (dk_at dksX0_isRight_1 3 rfl rfl)
theorem dX0_isRight_28 : decode cX0_isRight 28 = .ok (.ifCond .eq 7, 3) := dk_153 0 7 (dk_at dksX0_isRight_1 6 rfl rfl)
theorem dX0_isRight_31 : decode cX0_isRight 31 = .ok (.iconst 1, 1) := dk_4 (dk_at dksX0_isRight_1 9 rfl rfl)
theorem dX0_isRight_32 : decode cX0_isRight 32 = .ok (.goto 4, 3) := dk_167 0 4 (dk_at dksX0_isRight_1 10 rfl rfl)
theorem dX0_isRight_35 : decode cX0_isRight 35 = .ok (.iconst 0, 1) := dk_3 (dk_at dksX0_isRight_1 13 rfl rfl)
theorem dX0_isRight_36 : decode cX0_isRight 36 = .ok (.ireturn, 1) := dk_172 (dk_at dksX0_isRight_1 14 rfl rfl)
def dkwX0_kind_2 : List UInt8 := [16, 254, 172, 42, 180, 0, 106, 27, 46, 62, 42, 180, 0, 106, 27, 28, 79, 29, 172]
abbrev dktX0_kind_2 : List UInt8 := dkwX0_kind_2 ++ []
def dkwX0_kind_1 : List UInt8 := [2, 172, 42, 180, 1, 27, 154, 0, 18, 28, 6, 161, 0, 16, 42, 28, 6, 100, 182, 1, 39, 154, 0, 6]
abbrev dktX0_kind_1 : List UInt8 := dkwX0_kind_1 ++ dktX0_kind_2
def dkwX0_kind_0 : List UInt8 := [27, 133, 9, 20, 0, 3, 184, 0, 5, 153, 0, 15, 28, 133, 9, 20, 1, 54, 184, 0, 5, 154, 0, 5]
abbrev dktX0_kind_0 : List UInt8 := dkwX0_kind_0 ++ dktX0_kind_1
theorem dksX0_kind_0 : cX0_kind.data.toList.drop 0 = dktX0_kind_0 := by decide +kernel
theorem dksX0_kind_1 : cX0_kind.data.toList.drop 24 = dktX0_kind_1 := dk_seg dksX0_kind_0 24 rfl rfl
theorem dksX0_kind_2 : cX0_kind.data.toList.drop 48 = dktX0_kind_2 := dk_seg dksX0_kind_1 24 rfl rfl
theorem dX0_kind_0 : decode cX0_kind 0 = .ok (.iload_n 1, 1) := dk_27 (dk_at dksX0_kind_0 0 rfl rfl)
theorem dX0_kind_1 : decode cX0_kind 1 = .ok (.i2l, 1) := dk_133 (dk_at dksX0_kind_0 1 rfl rfl)
theorem dX0_kind_2 : decode cX0_kind 2 = .ok (.lconst 0, 1) := dk_9 (dk_at dksX0_kind_0 2 rfl rfl)
theorem dX0_kind_3 : decode cX0_kind 3 = .ok (.ldc2_w 3, 3) := dk_20 0 3 (dk_at dksX0_kind_0 3 rfl rfl)
theorem dX0_kind_6 : decode cX0_kind 6 = .ok (.invokestatic 5, 3) := dk_184 0 5 (dk_at dksX0_kind_0 6 rfl rfl)
theorem dX0_kind_9 : decode cX0_kind 9 = .ok (.ifCond .eq 15, 3) := dk_153 0 15 (dk_at dksX0_kind_0 9 rfl rfl)
theorem dX0_kind_12 : decode cX0_kind 12 = .ok (.iload_n 2, 1) := dk_28 (dk_at dksX0_kind_0 12 rfl rfl)
theorem dX0_kind_13 : decode cX0_kind 13 = .ok (.i2l, 1) := dk_133 (dk_at dksX0_kind_0 13 rfl rfl)
theorem dX0_kind_14 : decode cX0_kind 14 = .ok (.lconst 0, 1) := dk_9 (dk_at dksX0_kind_0 14 rfl rfl)
theorem dX0_kind_15 : decode cX0_kind 15 = .ok (.ldc2_w 310, 3) := dk_20 1 54 (dk_at dksX0_kind_0 15 rfl rfl)
theorem dX0_kind_18 : decode cX0_kind 18 = .ok (.invokestatic 5, 3) := dk_184 0 5 (dk_at dksX0_kind_0 18 rfl rfl)
theorem dX0_kind_21 : decode cX0_kind 21 = .ok (.ifCond .ne 5, 3) := dk_154 0 5 (dk_at dksX0_kind_0 21 rfl rfl)
theorem dX0_kind_24 : decode cX0_kind 24 = .ok (.iconst (-1), 1) := dk_2 (dk_at dksX0_kind_1 0 rfl rfl)
theorem dX0_kind_25 : decode cX0_kind 25 = .ok (.ireturn, 1) := dk_172 (dk_at dksX0_kind_1 1 rfl rfl)
theorem dX0_kind_26 : decode cX0_kind 26 = .ok (.aload_n 0, 1) := dk_42 (dk_at dksX0_kind_1 2 rfl rfl)
theorem dX0_kind_27 : decode cX0_kind 27 = .ok (.getfield 283, 3) := dk_180 1 27 (dk_at dksX0_kind_1 3 rfl rfl)
theorem dX0_kind_30 : decode cX0_kind 30 = .ok (.ifCond .ne 18, 3) := dk_154 0 18 (dk_at dksX0_kind_1 6 rfl rfl)
theorem dX0_kind_33 : decode cX0_kind 33 = .ok (.iload_n 2, 1) := dk_28 (dk_at dksX0_kind_1 9 rfl rfl)
theorem dX0_kind_34 : decode cX0_kind 34 = .ok (.iconst 3, 1) := dk_6 (dk_at dksX0_kind_1 10 rfl rfl)
theorem dX0_kind_35 : decode cX0_kind 35 = .ok (.if_icmp .lt 16, 3) := dk_161 0 16 (dk_at dksX0_kind_1 11 rfl rfl)
theorem dX0_kind_38 : decode cX0_kind 38 = .ok (.aload_n 0, 1) := dk_42 (dk_at dksX0_kind_1 14 rfl rfl)
theorem dX0_kind_39 : decode cX0_kind 39 = .ok (.iload_n 2, 1) := dk_28 (dk_at dksX0_kind_1 15 rfl rfl)
theorem dX0_kind_40 : decode cX0_kind 40 = .ok (.iconst 3, 1) := dk_6 (dk_at dksX0_kind_1 16 rfl rfl)
theorem dX0_kind_41 : decode cX0_kind 41 = .ok (.isub, 1) := dk_100 (dk_at dksX0_kind_1 17 rfl rfl)
theorem dX0_kind_42 : decode cX0_kind 42 = .ok (.invokevirtual 295, 3) := dk_182 1 39 (dk_at dksX0_kind_1 18 rfl rfl)
theorem dX0_kind_45 : decode cX0_kind 45 = .ok (.ifCond .ne 6, 3) := dk_154 0 6 (dk_at dksX0_kind_1 21 rfl rfl)
theorem dX0_kind_48 : decode cX0_kind 48 = .ok (.bipush (-2), 2) := dk_16 254 (dk_at dksX0_kind_2 0 rfl rfl)
theorem dX0_kind_50 : decode cX0_kind 50 = .ok (.ireturn, 1) := dk_172 (dk_at dksX0_kind_2 2 rfl rfl)
theorem dX0_kind_51 : decode cX0_kind 51 = .ok (.aload_n 0, 1) := dk_42 (dk_at dksX0_kind_2 3 rfl rfl)
theorem dX0_kind_52 : decode cX0_kind 52 = .ok (.getfield 106, 3) := dk_180 0 106 (dk_at dksX0_kind_2 4 rfl rfl)
theorem dX0_kind_55 : decode cX0_kind 55 = .ok (.iload_n 1, 1) := dk_27 (dk_at dksX0_kind_2 7 rfl rfl)
theorem dX0_kind_56 : decode cX0_kind 56 = .ok (.iaload, 1) := dk_46 (dk_at dksX0_kind_2 8 rfl rfl)
theorem dX0_kind_57 : decode cX0_kind 57 = .ok (.istore_n 3, 1) := dk_62 (dk_at dksX0_kind_2 9 rfl rfl)
theorem dX0_kind_58 : decode cX0_kind 58 = .ok (.aload_n 0, 1) := dk_42 (dk_at dksX0_kind_2 10 rfl rfl)
theorem dX0_kind_59 : decode cX0_kind 59 = .ok (.getfield 106, 3) := dk_180 0 106 (dk_at dksX0_kind_2 11 rfl rfl)
theorem dX0_kind_62 : decode cX0_kind 62 = .ok (.iload_n 1, 1) := dk_27 (dk_at dksX0_kind_2 14 rfl rfl)
theorem dX0_kind_63 : decode cX0_kind 63 = .ok (.iload_n 2, 1) := dk_28 (dk_at dksX0_kind_2 15 rfl rfl)
theorem dX0_kind_64 : decode cX0_kind 64 = .ok (.iastore, 1) := dk_79 (dk_at dksX0_kind_2 16 rfl rfl)
theorem dX0_kind_65 : decode cX0_kind 65 = .ok (.iload_n 3, 1) := dk_29 (dk_at dksX0_kind_2 17 rfl rfl)
theorem dX0_kind_66 : decode cX0_kind 66 = .ok (.ireturn, 1) := dk_172 (dk_at dksX0_kind_2 18 rfl rfl)
def dkwX0_start_4 : List UInt8 := [4, 181, 1, 27, 42, 1, 3, 3, 42, 1, 182, 0, 181, 1, 31, 1, 182, 0, 185, 87, 4, 172]
abbrev dktX0_start_4 : List UInt8 := dkwX0_start_4 ++ []
def dkwX0_start_3 : List UInt8 := [167, 0, 4, 3, 126, 62, 132, 4, 1, 167, 255, 200, 29, 154, 0, 6, 16, 254, 172, 42, 182, 1, 65, 42]
abbrev dktX0_start_3 : List UInt8 := dkwX0_start_3 ++ dktX0_start_4
def dkwX0_start_2 : List UInt8 := [180, 0, 106, 21, 4, 46, 6, 100, 185, 0, 149, 2, 0, 192, 0, 191, 182, 1, 48, 153, 0, 7, 4]
abbrev dktX0_start_2 : List UInt8 := dkwX0_start_2 ++ dktX0_start_3
def dkwX0_start_1 : List UInt8 := [16, 16, 162, 0, 55, 29, 42, 180, 0, 106, 21, 4, 46, 6, 161, 0, 30, 42, 180, 0, 103, 42]
abbrev dktX0_start_1 : List UInt8 := dkwX0_start_1 ++ dktX0_start_2
def dkwX0_start_0 : List UInt8 := [42, 180, 0, 99, 185, 1, 62, 1, 0, 154, 0, 7, 4, 167, 0, 4, 3, 62, 3, 54, 4, 21, 4]
abbrev dktX0_start_0 : List UInt8 := dkwX0_start_0 ++ dktX0_start_1
theorem dksX0_start_0 : cX0_start.data.toList.drop 0 = dktX0_start_0 := by decide +kernel
theorem dksX0_start_1 : cX0_start.data.toList.drop 23 = dktX0_start_1 := dk_seg dksX0_start_0 23 rfl rfl
theorem dksX0_start_2 : cX0_start.data.toList.drop 45 = dktX0_start_2 := dk_seg dksX0_start_1 22 rfl rfl
theorem dksX0_start_3 : cX0_start.data.toList.drop 68 = dktX0_start_3 := dk_seg dksX0_start_2 23 rfl rfl
theorem dksX0_start_4 : cX0_start.data.toList.drop 92 = dktX0_start_4 := dk_seg dksX0_start_3 24 rfl rfl
theorem dX0_start_0 : decode cX0_start 0 = .ok (.aload_n 0, 1) := dk_42 (dk_at dksX0_start_0 0 rfl rfl)
theorem dX0_start_1 : decode cX0_start 1 = .ok (.getfield 99, 3) := dk_180 0 99 (dk_at dksX0_start_0 1 rfl rfl)
theorem dX0_start_4 : decode cX0_start 4 = .ok (.invokeinterface 318 1, 5) := by decide +kernel
theorem dX0_start_9 : decode cX0_start 9 = .ok (.ifCond .ne 7, 3) := dk_154 0 7 (dk_at dksX0_start_0 9 rfl rfl)
theorem dX0_start_12 : decode cX0_start 12 = .ok (.iconst 1, 1) := dk_4 (dk_at dksX0_start_0 12 rfl rfl)
theorem dX0_start_13 : decode cX0_start 13 = .ok (.goto 4, 3) := dk_167 0 4 (dk_at dksX0_start_0 13 rfl rfl)
theorem dX0_start_16 : decode cX0_start 16 = .ok (.iconst 0, 1) := dk_3 (dk_at dksX0_start_0 16 rfl rfl)
theorem dX0_start_17 : decode cX0_start 17 = .ok (.istore_n 3, 1) := dk_62 (dk_at dksX0_start_0 17 rfl rfl)
theorem dX0_start_18 : decode cX0_start 18 = .ok (.iconst 0, 1) := dk_3 (dk_at dksX0_start_0 18 rfl rfl)
theorem dX0_start_19 : decode cX0_start 19 = .ok (.istore 4, 2) := dk_54 4 (dk_at dksX0_start_0 19 rfl rfl)
theorem dX0_start_21 : decode cX0_start 21 = .ok (.iload 4, 2) := dk_21 4 (dk_at dksX0_start_0 21 rfl rfl)
theorem dX0_start_23 : decode cX0_start 23 = .ok (.bipush 16, 2) := dk_16 16 (dk_at dksX0_start_1 0 rfl rfl)
theorem dX0_start_25 : decode cX0_start 25 = .ok (.if_icmp .ge 55, 3) := dk_162 0 55 (dk_at dksX0_start_1 2 rfl rfl)
theorem dX0_start_28 : decode cX0_start 28 = .ok (.iload_n 3, 1) := dk_29 (dk_at dksX0_start_1 5 rfl rfl)
theorem dX0_start_29 : decode cX0_start 29 = .ok (.aload_n 0, 1) := dk_42 (dk_at dksX0_start_1 6 rfl rfl)
theorem dX0_start_30 : decode cX0_start 30 = .ok (.getfield 106, 3) := dk_180 0 106 (dk_at dksX0_start_1 7 rfl rfl)
theorem dX0_start_33 : decode cX0_start 33 = .ok (.iload 4, 2) := dk_21 4 (dk_at dksX0_start_1 10 rfl rfl)
theorem dX0_start_35 : decode cX0_start 35 = .ok (.iaload, 1) := dk_46 (dk_at dksX0_start_1 12 rfl rfl)
theorem dX0_start_36 : decode cX0_start 36 = .ok (.iconst 3, 1) := dk_6 (dk_at dksX0_start_1 13 rfl rfl)
theorem dX0_start_37 : decode cX0_start 37 = .ok (.if_icmp .lt 30, 3) := dk_161 0 30 (dk_at dksX0_start_1 14 rfl rfl)
theorem dX0_start_40 : decode cX0_start 40 = .ok (.aload_n 0, 1) := dk_42 (dk_at dksX0_start_1 17 rfl rfl)
theorem dX0_start_41 : decode cX0_start 41 = .ok (.getfield 103, 3) := dk_180 0 103 (dk_at dksX0_start_1 18 rfl rfl)
theorem dX0_start_44 : decode cX0_start 44 = .ok (.aload_n 0, 1) := dk_42 (dk_at dksX0_start_1 21 rfl rfl)
theorem dX0_start_45 : decode cX0_start 45 = .ok (.getfield 106, 3) := dk_180 0 106 (dk_at dksX0_start_2 0 rfl rfl)
theorem dX0_start_48 : decode cX0_start 48 = .ok (.iload 4, 2) := dk_21 4 (dk_at dksX0_start_2 3 rfl rfl)
theorem dX0_start_50 : decode cX0_start 50 = .ok (.iaload, 1) := dk_46 (dk_at dksX0_start_2 5 rfl rfl)
theorem dX0_start_51 : decode cX0_start 51 = .ok (.iconst 3, 1) := dk_6 (dk_at dksX0_start_2 6 rfl rfl)
theorem dX0_start_52 : decode cX0_start 52 = .ok (.isub, 1) := dk_100 (dk_at dksX0_start_2 7 rfl rfl)
theorem dX0_start_53 : decode cX0_start 53 = .ok (.invokeinterface 149 2, 5) := by decide +kernel
theorem dX0_start_58 : decode cX0_start 58 = .ok (.checkcast 191, 3) := dk_192 0 191 (dk_at dksX0_start_2 13 rfl rfl)
theorem dX0_start_61 : decode cX0_start 61 = .ok (.invokevirtual 304, 3) := dk_182 1 48 (dk_at dksX0_start_2 16 rfl rfl)
theorem dX0_start_64 : decode cX0_start 64 = .ok (.ifCond .eq 7, 3) := dk_153 0 7 (dk_at dksX0_start_2 19 rfl rfl)
theorem dX0_start_67 : decode cX0_start 67 = .ok (.iconst 1, 1) := dk_4 (dk_at dksX0_start_2 22 rfl rfl)
theorem dX0_start_68 : decode cX0_start 68 = .ok (.goto 4, 3) := dk_167 0 4 (dk_at dksX0_start_3 0 rfl rfl)
theorem dX0_start_71 : decode cX0_start 71 = .ok (.iconst 0, 1) := dk_3 (dk_at dksX0_start_3 3 rfl rfl)
theorem dX0_start_72 : decode cX0_start 72 = .ok (.iand, 1) := dk_126 (dk_at dksX0_start_3 4 rfl rfl)
theorem dX0_start_73 : decode cX0_start 73 = .ok (.istore_n 3, 1) := dk_62 (dk_at dksX0_start_3 5 rfl rfl)
theorem dX0_start_74 : decode cX0_start 74 = .ok (.iinc 4 1, 3) := dk_132 4 1 (dk_at dksX0_start_3 6 rfl rfl)
theorem dX0_start_77 : decode cX0_start 77 = .ok (.goto (-56), 3) := dk_167 255 200 (dk_at dksX0_start_3 9 rfl rfl)
theorem dX0_start_80 : decode cX0_start 80 = .ok (.iload_n 3, 1) := dk_29 (dk_at dksX0_start_3 12 rfl rfl)
theorem dX0_start_81 : decode cX0_start 81 = .ok (.ifCond .ne 6, 3) := dk_154 0 6 (dk_at dksX0_start_3 13 rfl rfl)
theorem dX0_start_84 : decode cX0_start 84 = .ok (.bipush (-2), 2) := dk_16 254 (dk_at dksX0_start_3 16 rfl rfl)
theorem dX0_start_86 : decode cX0_start 86 = .ok (.ireturn, 1) := dk_172 (dk_at dksX0_start_3 18 rfl rfl)
theorem dX0_start_87 : decode cX0_start 87 = .ok (.aload_n 0, 1) := dk_42 (dk_at dksX0_start_3 19 rfl rfl)
theorem dX0_start_88 : decode cX0_start 88 = .ok (.invokevirtual 321, 3) := dk_182 1 65 (dk_at dksX0_start_3 20 rfl rfl)
theorem dX0_start_91 : decode cX0_start 91 = .ok (.aload_n 0, 1) := dk_42 (dk_at dksX0_start_3 23 rfl rfl)
theorem dX0_start_92 : decode cX0_start 92 = .ok (.iconst 1, 1) := dk_4 (dk_at dksX0_start_4 0 rfl rfl)
theorem dX0_start_93 : decode cX0_start 93 = .ok (.putfield 283, 3) := dk_181 1 27 (dk_at dksX0_start_4 1 rfl rfl)
theorem dX0_start_96 : decode cX0_start 96 = .ok (.aload_n 0, 1) := dk_42 (dk_at dksX0_start_4 4 rfl rfl)
theorem dX0_start_97 : decode cX0_start 97 = .ok (.aconst_null, 1) := dk_1 (dk_at dksX0_start_4 5 rfl rfl)
theorem dX0_start_98 : decode cX0_start 98 = .ok (.iconst 0, 1) := dk_3 (dk_at dksX0_start_4 6 rfl rfl)
theorem dX0_start_99 : decode cX0_start 99 = .ok (.iconst 0, 1) := dk_3 (dk_at dksX0_start_4 7 rfl rfl)
theorem dX0_start_100 : decode cX0_start 100 = .ok (.aload_n 0, 1) := dk_42 (dk_at dksX0_start_4 8 rfl rfl)
theorem dX0_start_101 : decode cX0_start 101 = .ok (.aconst_null, 1) := dk_1 (dk_at dksX0_start_4 9 rfl rfl)
theorem dX0_start_102 : decode cX0_start 102 = .ok (.invokevirtual 181, 3) := dk_182 0 181 (dk_at dksX0_start_4 10 rfl rfl)
theorem dX0_start_105 : decode cX0_start 105 = .ok (.aconst_null, 1) := dk_1 (dk_at dksX0_start_4 13 rfl rfl)
theorem dX0_start_106 : decode cX0_start 106 = .ok (.lload_n 1, 1) := dk_31 (dk_at dksX0_start_4 14 rfl rfl)
theorem dX0_start_107 : decode cX0_start 107 = .ok (.aconst_null, 1) := dk_1 (dk_at dksX0_start_4 15 rfl rfl)
theorem dX0_start_108 : decode cX0_start 108 = .ok (.invokevirtual 185, 3) := dk_182 0 185 (dk_at dksX0_start_4 16 rfl rfl)
theorem dX0_start_111 : decode cX0_start 111 = .ok (.pop, 1) := dk_87 (dk_at dksX0_start_4 19 rfl rfl)
theorem dX0_start_112 : decode cX0_start 112 = .ok (.iconst 1, 1) := dk_4 (dk_at dksX0_start_4 20 rfl rfl)
theorem dX0_start_113 : decode cX0_start 113 = .ok (.ireturn, 1) := dk_172 (dk_at dksX0_start_4 21 rfl rfl)
def dkwX0_clears_1 : List UInt8 := [3, 181, 1, 59, 42, 3, 181, 0, 250, 177]
abbrev dktX0_clears_1 : List UInt8 := dkwX0_clears_1 ++ []
def dkwX0_clears_0 : List UInt8 := [42, 180, 0, 110, 185, 1, 56, 1, 0, 42, 180, 0, 113, 185, 1, 56, 1, 0, 42, 3, 181, 0, 130, 42]
abbrev dktX0_clears_0 : List UInt8 := dkwX0_clears_0 ++ dktX0_clears_1
theorem dksX0_clears_0 : cX0_clears.data.toList.drop 0 = dktX0_clears_0 := by decide +kernel
theorem dksX0_clears_1 : cX0_clears.data.toList.drop 24 = dktX0_clears_1 := dk_seg dksX0_clears_0 24 rfl rfl
theorem dX0_clears_0 : decode cX0_clears 0 = .ok (.aload_n 0, 1) := dk_42 (dk_at dksX0_clears_0 0 rfl rfl)
theorem dX0_clears_1 : decode cX0_clears 1 = .ok (.getfield 110, 3) := dk_180 0 110 (dk_at dksX0_clears_0 1 rfl rfl)
theorem dX0_clears_4 : decode cX0_clears 4 = .ok (.invokeinterface 312 1, 5) := by decide +kernel
theorem dX0_clears_9 : decode cX0_clears 9 = .ok (.aload_n 0, 1) := dk_42 (dk_at dksX0_clears_0 9 rfl rfl)
theorem dX0_clears_10 : decode cX0_clears 10 = .ok (.getfield 113, 3) := dk_180 0 113 (dk_at dksX0_clears_0 10 rfl rfl)
theorem dX0_clears_13 : decode cX0_clears 13 = .ok (.invokeinterface 312 1, 5) := by decide +kernel
theorem dX0_clears_18 : decode cX0_clears 18 = .ok (.aload_n 0, 1) := dk_42 (dk_at dksX0_clears_0 18 rfl rfl)
theorem dX0_clears_19 : decode cX0_clears 19 = .ok (.iconst 0, 1) := dk_3 (dk_at dksX0_clears_0 19 rfl rfl)
theorem dX0_clears_20 : decode cX0_clears 20 = .ok (.putfield 130, 3) := dk_181 0 130 (dk_at dksX0_clears_0 20 rfl rfl)
theorem dX0_clears_23 : decode cX0_clears 23 = .ok (.aload_n 0, 1) := dk_42 (dk_at dksX0_clears_0 23 rfl rfl)
theorem dX0_clears_24 : decode cX0_clears 24 = .ok (.iconst 0, 1) := dk_3 (dk_at dksX0_clears_1 0 rfl rfl)
theorem dX0_clears_25 : decode cX0_clears 25 = .ok (.putfield 315, 3) := dk_181 1 59 (dk_at dksX0_clears_1 1 rfl rfl)
theorem dX0_clears_28 : decode cX0_clears 28 = .ok (.aload_n 0, 1) := dk_42 (dk_at dksX0_clears_1 4 rfl rfl)
theorem dX0_clears_29 : decode cX0_clears 29 = .ok (.iconst 0, 1) := dk_3 (dk_at dksX0_clears_1 5 rfl rfl)
theorem dX0_clears_30 : decode cX0_clears 30 = .ok (.putfield 250, 3) := dk_181 0 250 (dk_at dksX0_clears_1 6 rfl rfl)
theorem dX0_clears_33 : decode cX0_clears 33 = .ok (.return_, 1) := dk_177 (dk_at dksX0_clears_1 9 rfl rfl)
def dkwX0_segment_1 : List UInt8 := [180, 0, 113, 44, 185, 0, 137, 2, 0, 87, 44, 176]
abbrev dktX0_segment_1 : List UInt8 := dkwX0_segment_1 ++ []
def dkwX0_segment_0 : List UInt8 := [187, 0, 128, 89, 42, 180, 0, 130, 43, 183, 0, 134, 77, 42, 89, 180, 0, 130, 4, 96, 181, 0, 130, 42]
abbrev dktX0_segment_0 : List UInt8 := dkwX0_segment_0 ++ dktX0_segment_1
theorem dksX0_segment_0 : cX0_segment.data.toList.drop 0 = dktX0_segment_0 := by decide +kernel
theorem dksX0_segment_1 : cX0_segment.data.toList.drop 24 = dktX0_segment_1 := dk_seg dksX0_segment_0 24 rfl rfl
theorem dX0_segment_0 : decode cX0_segment 0 = .ok (.new 128, 3) := dk_187 0 128 (dk_at dksX0_segment_0 0 rfl rfl)
theorem dX0_segment_3 : decode cX0_segment 3 = .ok (.dup, 1) := dk_89 (dk_at dksX0_segment_0 3 rfl rfl)
theorem dX0_segment_4 : decode cX0_segment 4 = .ok (.aload_n 0, 1) := dk_42 (dk_at dksX0_segment_0 4 rfl rfl)
theorem dX0_segment_5 : decode cX0_segment 5 = .ok (.getfield 130, 3) := dk_180 0 130 (dk_at dksX0_segment_0 5 rfl rfl)
theorem dX0_segment_8 : decode cX0_segment 8 = .ok (.aload_n 1, 1) := dk_43 (dk_at dksX0_segment_0 8 rfl rfl)
theorem dX0_segment_9 : decode cX0_segment 9 = .ok (.invokespecial 134, 3) := dk_183 0 134 (dk_at dksX0_segment_0 9 rfl rfl)
theorem dX0_segment_12 : decode cX0_segment 12 = .ok (.astore_n 2, 1) := dk_77 (dk_at dksX0_segment_0 12 rfl rfl)
theorem dX0_segment_13 : decode cX0_segment 13 = .ok (.aload_n 0, 1) := dk_42 (dk_at dksX0_segment_0 13 rfl rfl)
theorem dX0_segment_14 : decode cX0_segment 14 = .ok (.dup, 1) := dk_89 (dk_at dksX0_segment_0 14 rfl rfl)
theorem dX0_segment_15 : decode cX0_segment 15 = .ok (.getfield 130, 3) := dk_180 0 130 (dk_at dksX0_segment_0 15 rfl rfl)
theorem dX0_segment_18 : decode cX0_segment 18 = .ok (.iconst 1, 1) := dk_4 (dk_at dksX0_segment_0 18 rfl rfl)
theorem dX0_segment_19 : decode cX0_segment 19 = .ok (.iadd, 1) := dk_96 (dk_at dksX0_segment_0 19 rfl rfl)
theorem dX0_segment_20 : decode cX0_segment 20 = .ok (.putfield 130, 3) := dk_181 0 130 (dk_at dksX0_segment_0 20 rfl rfl)
theorem dX0_segment_23 : decode cX0_segment 23 = .ok (.aload_n 0, 1) := dk_42 (dk_at dksX0_segment_0 23 rfl rfl)
theorem dX0_segment_24 : decode cX0_segment 24 = .ok (.getfield 113, 3) := dk_180 0 113 (dk_at dksX0_segment_1 0 rfl rfl)
theorem dX0_segment_27 : decode cX0_segment 27 = .ok (.aload_n 2, 1) := dk_44 (dk_at dksX0_segment_1 3 rfl rfl)
theorem dX0_segment_28 : decode cX0_segment 28 = .ok (.invokeinterface 137 2, 5) := by decide +kernel
theorem dX0_segment_33 : decode cX0_segment 33 = .ok (.pop, 1) := dk_87 (dk_at dksX0_segment_1 9 rfl rfl)
theorem dX0_segment_34 : decode cX0_segment 34 = .ok (.aload_n 2, 1) := dk_44 (dk_at dksX0_segment_1 10 rfl rfl)
theorem dX0_segment_35 : decode cX0_segment 35 = .ok (.areturn, 1) := dk_176 (dk_at dksX0_segment_1 11 rfl rfl)
def dkwX0_begins_3 : List UInt8 := [25, 9, 176]
abbrev dktX0_begins_3 : List UInt8 := dkwX0_begins_3 ++ []
def dkwX0_begins_2 : List UInt8 := [22, 6, 25, 8, 182, 0, 162, 42, 180, 0, 110, 25, 9, 185, 0, 137, 2, 0, 87, 25, 9, 182, 0, 168]
abbrev dktX0_begins_2 : List UInt8 := dkwX0_begins_2 ++ dktX0_begins_3
def dkwX0_begins_1 : List UInt8 := [185, 0, 149, 2, 0, 192, 0, 153, 25, 4, 25, 5, 183, 0, 155, 58, 9, 25, 9, 180, 0, 158, 3]
abbrev dktX0_begins_1 : List UInt8 := dkwX0_begins_1 ++ dktX0_begins_2
def dkwX0_begins_0 : List UInt8 := [187, 0, 143, 89, 42, 180, 0, 110, 185, 0, 145, 1, 0, 43, 28, 29, 42, 180, 0, 99, 29]
abbrev dktX0_begins_0 : List UInt8 := dkwX0_begins_0 ++ dktX0_begins_1
theorem dksX0_begins_0 : cX0_begins.data.toList.drop 0 = dktX0_begins_0 := by decide +kernel
theorem dksX0_begins_1 : cX0_begins.data.toList.drop 21 = dktX0_begins_1 := dk_seg dksX0_begins_0 21 rfl rfl
theorem dksX0_begins_2 : cX0_begins.data.toList.drop 44 = dktX0_begins_2 := dk_seg dksX0_begins_1 23 rfl rfl
theorem dksX0_begins_3 : cX0_begins.data.toList.drop 68 = dktX0_begins_3 := dk_seg dksX0_begins_2 24 rfl rfl
theorem dX0_begins_0 : decode cX0_begins 0 = .ok (.new 143, 3) := dk_187 0 143 (dk_at dksX0_begins_0 0 rfl rfl)
theorem dX0_begins_3 : decode cX0_begins 3 = .ok (.dup, 1) := dk_89 (dk_at dksX0_begins_0 3 rfl rfl)
theorem dX0_begins_4 : decode cX0_begins 4 = .ok (.aload_n 0, 1) := dk_42 (dk_at dksX0_begins_0 4 rfl rfl)
theorem dX0_begins_5 : decode cX0_begins 5 = .ok (.getfield 110, 3) := dk_180 0 110 (dk_at dksX0_begins_0 5 rfl rfl)
theorem dX0_begins_8 : decode cX0_begins 8 = .ok (.invokeinterface 145 1, 5) := by decide +kernel
theorem dX0_begins_13 : decode cX0_begins 13 = .ok (.aload_n 1, 1) := dk_43 (dk_at dksX0_begins_0 13 rfl rfl)
theorem dX0_begins_14 : decode cX0_begins 14 = .ok (.iload_n 2, 1) := dk_28 (dk_at dksX0_begins_0 14 rfl rfl)
theorem dX0_begins_15 : decode cX0_begins 15 = .ok (.iload_n 3, 1) := dk_29 (dk_at dksX0_begins_0 15 rfl rfl)
theorem dX0_begins_16 : decode cX0_begins 16 = .ok (.aload_n 0, 1) := dk_42 (dk_at dksX0_begins_0 16 rfl rfl)
theorem dX0_begins_17 : decode cX0_begins 17 = .ok (.getfield 99, 3) := dk_180 0 99 (dk_at dksX0_begins_0 17 rfl rfl)
theorem dX0_begins_20 : decode cX0_begins 20 = .ok (.iload_n 3, 1) := dk_29 (dk_at dksX0_begins_0 20 rfl rfl)
theorem dX0_begins_21 : decode cX0_begins 21 = .ok (.invokeinterface 149 2, 5) := by decide +kernel
theorem dX0_begins_26 : decode cX0_begins 26 = .ok (.checkcast 153, 3) := dk_192 0 153 (dk_at dksX0_begins_1 5 rfl rfl)
theorem dX0_begins_29 : decode cX0_begins 29 = .ok (.aload 4, 2) := dk_25 4 (dk_at dksX0_begins_1 8 rfl rfl)
theorem dX0_begins_31 : decode cX0_begins 31 = .ok (.aload 5, 2) := dk_25 5 (dk_at dksX0_begins_1 10 rfl rfl)
theorem dX0_begins_33 : decode cX0_begins 33 = .ok (.invokespecial 155, 3) := dk_183 0 155 (dk_at dksX0_begins_1 12 rfl rfl)
theorem dX0_begins_36 : decode cX0_begins 36 = .ok (.astore 9, 2) := dk_58 9 (dk_at dksX0_begins_1 15 rfl rfl)
theorem dX0_begins_38 : decode cX0_begins 38 = .ok (.aload 9, 2) := dk_25 9 (dk_at dksX0_begins_1 17 rfl rfl)
theorem dX0_begins_40 : decode cX0_begins 40 = .ok (.getfield 158, 3) := dk_180 0 158 (dk_at dksX0_begins_1 19 rfl rfl)
theorem dX0_begins_43 : decode cX0_begins 43 = .ok (.iconst 0, 1) := dk_3 (dk_at dksX0_begins_1 22 rfl rfl)
theorem dX0_begins_44 : decode cX0_begins 44 = .ok (.lload 6, 2) := dk_22 6 (dk_at dksX0_begins_2 0 rfl rfl)
theorem dX0_begins_46 : decode cX0_begins 46 = .ok (.aload 8, 2) := dk_25 8 (dk_at dksX0_begins_2 2 rfl rfl)
theorem dX0_begins_48 : decode cX0_begins 48 = .ok (.invokevirtual 162, 3) := dk_182 0 162 (dk_at dksX0_begins_2 4 rfl rfl)
theorem dX0_begins_51 : decode cX0_begins 51 = .ok (.aload_n 0, 1) := dk_42 (dk_at dksX0_begins_2 7 rfl rfl)
theorem dX0_begins_52 : decode cX0_begins 52 = .ok (.getfield 110, 3) := dk_180 0 110 (dk_at dksX0_begins_2 8 rfl rfl)
theorem dX0_begins_55 : decode cX0_begins 55 = .ok (.aload 9, 2) := dk_25 9 (dk_at dksX0_begins_2 11 rfl rfl)
theorem dX0_begins_57 : decode cX0_begins 57 = .ok (.invokeinterface 137 2, 5) := by decide +kernel
theorem dX0_begins_62 : decode cX0_begins 62 = .ok (.pop, 1) := dk_87 (dk_at dksX0_begins_2 18 rfl rfl)
theorem dX0_begins_63 : decode cX0_begins 63 = .ok (.aload 9, 2) := dk_25 9 (dk_at dksX0_begins_2 19 rfl rfl)
theorem dX0_begins_65 : decode cX0_begins 65 = .ok (.invokevirtual 168, 3) := dk_182 0 168 (dk_at dksX0_begins_2 21 rfl rfl)
theorem dX0_begins_68 : decode cX0_begins 68 = .ok (.aload 9, 2) := dk_25 9 (dk_at dksX0_begins_3 0 rfl rfl)
theorem dX0_begins_70 : decode cX0_begins 70 = .ok (.areturn, 1) := dk_176 (dk_at dksX0_begins_3 2 rfl rfl)
def dkwX0_stop_1 : List UInt8 := [42, 3, 181, 1, 27, 27, 172]
abbrev dktX0_stop_1 : List UInt8 := dkwX0_stop_1 ++ []
def dkwX0_stop_0 : List UInt8 := [42, 180, 1, 27, 154, 0, 6, 16, 254, 172, 42, 180, 0, 110, 185, 0, 145, 1, 0, 60, 42, 182, 1, 65]
abbrev dktX0_stop_0 : List UInt8 := dkwX0_stop_0 ++ dktX0_stop_1
theorem dksX0_stop_0 : cX0_stop.data.toList.drop 0 = dktX0_stop_0 := by decide +kernel
theorem dksX0_stop_1 : cX0_stop.data.toList.drop 24 = dktX0_stop_1 := dk_seg dksX0_stop_0 24 rfl rfl
theorem dX0_stop_0 : decode cX0_stop 0 = .ok (.aload_n 0, 1) := dk_42 (dk_at dksX0_stop_0 0 rfl rfl)
theorem dX0_stop_1 : decode cX0_stop 1 = .ok (.getfield 283, 3) := dk_180 1 27 (dk_at dksX0_stop_0 1 rfl rfl)
theorem dX0_stop_4 : decode cX0_stop 4 = .ok (.ifCond .ne 6, 3) := dk_154 0 6 (dk_at dksX0_stop_0 4 rfl rfl)
theorem dX0_stop_7 : decode cX0_stop 7 = .ok (.bipush (-2), 2) := dk_16 254 (dk_at dksX0_stop_0 7 rfl rfl)
theorem dX0_stop_9 : decode cX0_stop 9 = .ok (.ireturn, 1) := dk_172 (dk_at dksX0_stop_0 9 rfl rfl)
theorem dX0_stop_10 : decode cX0_stop 10 = .ok (.aload_n 0, 1) := dk_42 (dk_at dksX0_stop_0 10 rfl rfl)
theorem dX0_stop_11 : decode cX0_stop 11 = .ok (.getfield 110, 3) := dk_180 0 110 (dk_at dksX0_stop_0 11 rfl rfl)
theorem dX0_stop_14 : decode cX0_stop 14 = .ok (.invokeinterface 145 1, 5) := by decide +kernel
theorem dX0_stop_19 : decode cX0_stop 19 = .ok (.istore_n 1, 1) := dk_60 (dk_at dksX0_stop_0 19 rfl rfl)
theorem dX0_stop_20 : decode cX0_stop 20 = .ok (.aload_n 0, 1) := dk_42 (dk_at dksX0_stop_0 20 rfl rfl)
theorem dX0_stop_21 : decode cX0_stop 21 = .ok (.invokevirtual 321, 3) := dk_182 1 65 (dk_at dksX0_stop_0 21 rfl rfl)
theorem dX0_stop_24 : decode cX0_stop 24 = .ok (.aload_n 0, 1) := dk_42 (dk_at dksX0_stop_1 0 rfl rfl)
theorem dX0_stop_25 : decode cX0_stop 25 = .ok (.iconst 0, 1) := dk_3 (dk_at dksX0_stop_1 1 rfl rfl)
theorem dX0_stop_26 : decode cX0_stop 26 = .ok (.putfield 283, 3) := dk_181 1 27 (dk_at dksX0_stop_1 2 rfl rfl)
theorem dX0_stop_29 : decode cX0_stop 29 = .ok (.iload_n 1, 1) := dk_27 (dk_at dksX0_stop_1 5 rfl rfl)
theorem dX0_stop_30 : decode cX0_stop 30 = .ok (.ireturn, 1) := dk_172 (dk_at dksX0_stop_1 6 rfl rfl)
def dkwX0_step_2 : List UInt8 := [167, 255, 235, 45, 182, 1, 101, 172]
abbrev dktX0_step_2 : List UInt8 := dkwX0_step_2 ++ []
def dkwX0_step_1 : List UInt8 := [3, 54, 4, 21, 4, 28, 162, 0, 21, 45, 182, 1, 95, 153, 0, 14, 42, 45, 182, 1, 98, 132, 4, 1]
abbrev dktX0_step_1 : List UInt8 := dkwX0_step_1 ++ dktX0_step_2
def dkwX0_step_0 : List UInt8 := [42, 27, 182, 1, 89, 78, 45, 198, 0, 15, 28, 133, 10, 20, 1, 93, 184, 0, 5, 154, 0, 5, 2, 172]
abbrev dktX0_step_0 : List UInt8 := dkwX0_step_0 ++ dktX0_step_1
theorem dksX0_step_0 : cX0_step.data.toList.drop 0 = dktX0_step_0 := by decide +kernel
theorem dksX0_step_1 : cX0_step.data.toList.drop 24 = dktX0_step_1 := dk_seg dksX0_step_0 24 rfl rfl
theorem dksX0_step_2 : cX0_step.data.toList.drop 48 = dktX0_step_2 := dk_seg dksX0_step_1 24 rfl rfl
theorem dX0_step_0 : decode cX0_step 0 = .ok (.aload_n 0, 1) := dk_42 (dk_at dksX0_step_0 0 rfl rfl)
theorem dX0_step_1 : decode cX0_step 1 = .ok (.iload_n 1, 1) := dk_27 (dk_at dksX0_step_0 1 rfl rfl)
theorem dX0_step_2 : decode cX0_step 2 = .ok (.invokevirtual 345, 3) := dk_182 1 89 (dk_at dksX0_step_0 2 rfl rfl)
theorem dX0_step_5 : decode cX0_step 5 = .ok (.astore_n 3, 1) := dk_78 (dk_at dksX0_step_0 5 rfl rfl)
theorem dX0_step_6 : decode cX0_step 6 = .ok (.aload_n 3, 1) := dk_45 (dk_at dksX0_step_0 6 rfl rfl)
theorem dX0_step_7 : decode cX0_step 7 = .ok (.ifnull 15, 3) := dk_198 0 15 (dk_at dksX0_step_0 7 rfl rfl)
theorem dX0_step_10 : decode cX0_step 10 = .ok (.iload_n 2, 1) := dk_28 (dk_at dksX0_step_0 10 rfl rfl)
theorem dX0_step_11 : decode cX0_step 11 = .ok (.i2l, 1) := dk_133 (dk_at dksX0_step_0 11 rfl rfl)
theorem dX0_step_12 : decode cX0_step 12 = .ok (.lconst 1, 1) := dk_10 (dk_at dksX0_step_0 12 rfl rfl)
theorem dX0_step_13 : decode cX0_step 13 = .ok (.ldc2_w 349, 3) := dk_20 1 93 (dk_at dksX0_step_0 13 rfl rfl)
theorem dX0_step_16 : decode cX0_step 16 = .ok (.invokestatic 5, 3) := dk_184 0 5 (dk_at dksX0_step_0 16 rfl rfl)
theorem dX0_step_19 : decode cX0_step 19 = .ok (.ifCond .ne 5, 3) := dk_154 0 5 (dk_at dksX0_step_0 19 rfl rfl)
theorem dX0_step_22 : decode cX0_step 22 = .ok (.iconst (-1), 1) := dk_2 (dk_at dksX0_step_0 22 rfl rfl)
theorem dX0_step_23 : decode cX0_step 23 = .ok (.ireturn, 1) := dk_172 (dk_at dksX0_step_0 23 rfl rfl)
theorem dX0_step_24 : decode cX0_step 24 = .ok (.iconst 0, 1) := dk_3 (dk_at dksX0_step_1 0 rfl rfl)
theorem dX0_step_25 : decode cX0_step 25 = .ok (.istore 4, 2) := dk_54 4 (dk_at dksX0_step_1 1 rfl rfl)
theorem dX0_step_27 : decode cX0_step 27 = .ok (.iload 4, 2) := dk_21 4 (dk_at dksX0_step_1 3 rfl rfl)
theorem dX0_step_29 : decode cX0_step 29 = .ok (.iload_n 2, 1) := dk_28 (dk_at dksX0_step_1 5 rfl rfl)
theorem dX0_step_30 : decode cX0_step 30 = .ok (.if_icmp .ge 21, 3) := dk_162 0 21 (dk_at dksX0_step_1 6 rfl rfl)
theorem dX0_step_33 : decode cX0_step 33 = .ok (.aload_n 3, 1) := dk_45 (dk_at dksX0_step_1 9 rfl rfl)
theorem dX0_step_34 : decode cX0_step 34 = .ok (.invokevirtual 351, 3) := dk_182 1 95 (dk_at dksX0_step_1 10 rfl rfl)
theorem dX0_step_37 : decode cX0_step 37 = .ok (.ifCond .eq 14, 3) := dk_153 0 14 (dk_at dksX0_step_1 13 rfl rfl)
theorem dX0_step_40 : decode cX0_step 40 = .ok (.aload_n 0, 1) := dk_42 (dk_at dksX0_step_1 16 rfl rfl)
theorem dX0_step_41 : decode cX0_step 41 = .ok (.aload_n 3, 1) := dk_45 (dk_at dksX0_step_1 17 rfl rfl)
theorem dX0_step_42 : decode cX0_step 42 = .ok (.invokevirtual 354, 3) := dk_182 1 98 (dk_at dksX0_step_1 18 rfl rfl)
theorem dX0_step_45 : decode cX0_step 45 = .ok (.iinc 4 1, 3) := dk_132 4 1 (dk_at dksX0_step_1 21 rfl rfl)
theorem dX0_step_48 : decode cX0_step 48 = .ok (.goto (-21), 3) := dk_167 255 235 (dk_at dksX0_step_2 0 rfl rfl)
theorem dX0_step_51 : decode cX0_step 51 = .ok (.aload_n 3, 1) := dk_45 (dk_at dksX0_step_2 3 rfl rfl)
theorem dX0_step_52 : decode cX0_step 52 = .ok (.invokevirtual 357, 3) := dk_182 1 101 (dk_at dksX0_step_2 4 rfl rfl)
theorem dX0_step_55 : decode cX0_step 55 = .ok (.ireturn, 1) := dk_172 (dk_at dksX0_step_2 7 rfl rfl)
def dkwX0_task_1 : List UInt8 := [180, 0, 110, 27, 185, 0, 149, 2, 0, 192, 0, 143, 167, 0, 4, 1, 176]
abbrev dktX0_task_1 : List UInt8 := dkwX0_task_1 ++ []
def dkwX0_task_0 : List UInt8 := [27, 133, 9, 42, 180, 0, 110, 185, 0, 145, 1, 0, 4, 100, 133, 184, 0, 5, 153, 0, 19, 42]
abbrev dktX0_task_0 : List UInt8 := dkwX0_task_0 ++ dktX0_task_1
theorem dksX0_task_0 : cX0_task.data.toList.drop 0 = dktX0_task_0 := by decide +kernel
theorem dksX0_task_1 : cX0_task.data.toList.drop 22 = dktX0_task_1 := dk_seg dksX0_task_0 22 rfl rfl
theorem dX0_task_0 : decode cX0_task 0 = .ok (.iload_n 1, 1) := dk_27 (dk_at dksX0_task_0 0 rfl rfl)
theorem dX0_task_1 : decode cX0_task 1 = .ok (.i2l, 1) := dk_133 (dk_at dksX0_task_0 1 rfl rfl)
theorem dX0_task_2 : decode cX0_task 2 = .ok (.lconst 0, 1) := dk_9 (dk_at dksX0_task_0 2 rfl rfl)
theorem dX0_task_3 : decode cX0_task 3 = .ok (.aload_n 0, 1) := dk_42 (dk_at dksX0_task_0 3 rfl rfl)
theorem dX0_task_4 : decode cX0_task 4 = .ok (.getfield 110, 3) := dk_180 0 110 (dk_at dksX0_task_0 4 rfl rfl)
theorem dX0_task_7 : decode cX0_task 7 = .ok (.invokeinterface 145 1, 5) := by decide +kernel
theorem dX0_task_12 : decode cX0_task 12 = .ok (.iconst 1, 1) := dk_4 (dk_at dksX0_task_0 12 rfl rfl)
theorem dX0_task_13 : decode cX0_task 13 = .ok (.isub, 1) := dk_100 (dk_at dksX0_task_0 13 rfl rfl)
theorem dX0_task_14 : decode cX0_task 14 = .ok (.i2l, 1) := dk_133 (dk_at dksX0_task_0 14 rfl rfl)
theorem dX0_task_15 : decode cX0_task 15 = .ok (.invokestatic 5, 3) := dk_184 0 5 (dk_at dksX0_task_0 15 rfl rfl)
theorem dX0_task_18 : decode cX0_task 18 = .ok (.ifCond .eq 19, 3) := dk_153 0 19 (dk_at dksX0_task_0 18 rfl rfl)
theorem dX0_task_21 : decode cX0_task 21 = .ok (.aload_n 0, 1) := dk_42 (dk_at dksX0_task_0 21 rfl rfl)
theorem dX0_task_22 : decode cX0_task 22 = .ok (.getfield 110, 3) := dk_180 0 110 (dk_at dksX0_task_1 0 rfl rfl)
theorem dX0_task_25 : decode cX0_task 25 = .ok (.iload_n 1, 1) := dk_27 (dk_at dksX0_task_1 3 rfl rfl)
theorem dX0_task_26 : decode cX0_task 26 = .ok (.invokeinterface 149 2, 5) := by decide +kernel
theorem dX0_task_31 : decode cX0_task 31 = .ok (.checkcast 143, 3) := dk_192 0 143 (dk_at dksX0_task_1 9 rfl rfl)
theorem dX0_task_34 : decode cX0_task 34 = .ok (.goto 4, 3) := dk_167 0 4 (dk_at dksX0_task_1 12 rfl rfl)
theorem dX0_task_37 : decode cX0_task 37 = .ok (.aconst_null, 1) := dk_1 (dk_at dksX0_task_1 15 rfl rfl)
theorem dX0_task_38 : decode cX0_task 38 = .ok (.areturn, 1) := dk_176 (dk_at dksX0_task_1 16 rfl rfl)
def dkwX0_does_7 : List UInt8 := [182, 0, 168, 177]
abbrev dktX0_does_7 : List UInt8 := dkwX0_does_7 ++ []
def dkwX0_does_6 : List UInt8 := [43, 21, 4, 181, 1, 72, 43, 25, 5, 180, 1, 86, 181, 0, 226, 43, 178, 0, 221, 181, 0, 217, 43]
abbrev dktX0_does_6 : List UInt8 := dkwX0_does_6 ++ dktX0_does_7
def dkwX0_does_5 : List UInt8 := [180, 1, 72, 4, 96, 181, 1, 72, 42, 180, 0, 15, 28, 50, 43, 29, 182, 1, 82, 167, 0, 27, 58, 5]
abbrev dktX0_does_5 : List UInt8 := dkwX0_does_5 ++ dktX0_does_6
def dkwX0_does_4 : List UInt8 := [180, 0, 15, 28, 50, 182, 1, 79, 162, 0, 13, 187, 0, 9, 89, 16, 8, 183, 0, 11, 191, 43, 89]
abbrev dktX0_does_4 : List UInt8 := dkwX0_does_4 ++ dktX0_does_5
def dkwX0_does_3 : List UInt8 := [17, 0, 200, 164, 0, 13, 187, 0, 9, 89, 16, 6, 183, 0, 11, 191, 43, 180, 0, 253, 180, 1, 78, 42]
abbrev dktX0_does_3 : List UInt8 := dkwX0_does_3 ++ dktX0_does_4
def dkwX0_does_2 : List UInt8 := [96, 181, 1, 59, 43, 20, 0, 211, 43, 180, 0, 213, 105, 28, 133, 97, 181, 0, 213, 43, 180, 1, 75]
abbrev dktX0_does_2 : List UInt8 := dkwX0_does_2 ++ dktX0_does_3
def dkwX0_does_1 : List UInt8 := [46, 62, 43, 180, 1, 72, 54, 4, 43, 89, 180, 1, 75, 4, 96, 181, 1, 75, 42, 89, 180, 1, 59, 4]
abbrev dktX0_does_1 : List UInt8 := dkwX0_does_1 ++ dktX0_does_2
def dkwX0_does_0 : List UInt8 := [43, 180, 1, 68, 180, 1, 32, 43, 180, 1, 72, 46, 61, 43, 180, 1, 68, 180, 1, 35, 43, 180, 1, 72]
abbrev dktX0_does_0 : List UInt8 := dkwX0_does_0 ++ dktX0_does_1
theorem dksX0_does_0 : cX0_does.data.toList.drop 0 = dktX0_does_0 := by decide +kernel
theorem dksX0_does_1 : cX0_does.data.toList.drop 24 = dktX0_does_1 := dk_seg dksX0_does_0 24 rfl rfl
theorem dksX0_does_2 : cX0_does.data.toList.drop 48 = dktX0_does_2 := dk_seg dksX0_does_1 24 rfl rfl
theorem dksX0_does_3 : cX0_does.data.toList.drop 71 = dktX0_does_3 := dk_seg dksX0_does_2 23 rfl rfl
theorem dksX0_does_4 : cX0_does.data.toList.drop 95 = dktX0_does_4 := dk_seg dksX0_does_3 24 rfl rfl
theorem dksX0_does_5 : cX0_does.data.toList.drop 118 = dktX0_does_5 := dk_seg dksX0_does_4 23 rfl rfl
theorem dksX0_does_6 : cX0_does.data.toList.drop 142 = dktX0_does_6 := dk_seg dksX0_does_5 24 rfl rfl
theorem dksX0_does_7 : cX0_does.data.toList.drop 165 = dktX0_does_7 := dk_seg dksX0_does_6 23 rfl rfl
theorem dX0_does_0 : decode cX0_does 0 = .ok (.aload_n 1, 1) := dk_43 (dk_at dksX0_does_0 0 rfl rfl)
theorem dX0_does_1 : decode cX0_does 1 = .ok (.getfield 324, 3) := dk_180 1 68 (dk_at dksX0_does_0 1 rfl rfl)
theorem dX0_does_4 : decode cX0_does 4 = .ok (.getfield 288, 3) := dk_180 1 32 (dk_at dksX0_does_0 4 rfl rfl)
theorem dX0_does_7 : decode cX0_does 7 = .ok (.aload_n 1, 1) := dk_43 (dk_at dksX0_does_0 7 rfl rfl)
theorem dX0_does_8 : decode cX0_does 8 = .ok (.getfield 328, 3) := dk_180 1 72 (dk_at dksX0_does_0 8 rfl rfl)
theorem dX0_does_11 : decode cX0_does 11 = .ok (.iaload, 1) := dk_46 (dk_at dksX0_does_0 11 rfl rfl)
theorem dX0_does_12 : decode cX0_does 12 = .ok (.istore_n 2, 1) := dk_61 (dk_at dksX0_does_0 12 rfl rfl)
theorem dX0_does_13 : decode cX0_does 13 = .ok (.aload_n 1, 1) := dk_43 (dk_at dksX0_does_0 13 rfl rfl)
theorem dX0_does_14 : decode cX0_does 14 = .ok (.getfield 324, 3) := dk_180 1 68 (dk_at dksX0_does_0 14 rfl rfl)
theorem dX0_does_17 : decode cX0_does 17 = .ok (.getfield 291, 3) := dk_180 1 35 (dk_at dksX0_does_0 17 rfl rfl)
theorem dX0_does_20 : decode cX0_does 20 = .ok (.aload_n 1, 1) := dk_43 (dk_at dksX0_does_0 20 rfl rfl)
theorem dX0_does_21 : decode cX0_does 21 = .ok (.getfield 328, 3) := dk_180 1 72 (dk_at dksX0_does_0 21 rfl rfl)
theorem dX0_does_24 : decode cX0_does 24 = .ok (.iaload, 1) := dk_46 (dk_at dksX0_does_1 0 rfl rfl)
theorem dX0_does_25 : decode cX0_does 25 = .ok (.istore_n 3, 1) := dk_62 (dk_at dksX0_does_1 1 rfl rfl)
theorem dX0_does_26 : decode cX0_does 26 = .ok (.aload_n 1, 1) := dk_43 (dk_at dksX0_does_1 2 rfl rfl)
theorem dX0_does_27 : decode cX0_does 27 = .ok (.getfield 328, 3) := dk_180 1 72 (dk_at dksX0_does_1 3 rfl rfl)
theorem dX0_does_30 : decode cX0_does 30 = .ok (.istore 4, 2) := dk_54 4 (dk_at dksX0_does_1 6 rfl rfl)
theorem dX0_does_32 : decode cX0_does 32 = .ok (.aload_n 1, 1) := dk_43 (dk_at dksX0_does_1 8 rfl rfl)
theorem dX0_does_33 : decode cX0_does 33 = .ok (.dup, 1) := dk_89 (dk_at dksX0_does_1 9 rfl rfl)
theorem dX0_does_34 : decode cX0_does 34 = .ok (.getfield 331, 3) := dk_180 1 75 (dk_at dksX0_does_1 10 rfl rfl)
theorem dX0_does_37 : decode cX0_does 37 = .ok (.iconst 1, 1) := dk_4 (dk_at dksX0_does_1 13 rfl rfl)
theorem dX0_does_38 : decode cX0_does 38 = .ok (.iadd, 1) := dk_96 (dk_at dksX0_does_1 14 rfl rfl)
theorem dX0_does_39 : decode cX0_does 39 = .ok (.putfield 331, 3) := dk_181 1 75 (dk_at dksX0_does_1 15 rfl rfl)
theorem dX0_does_42 : decode cX0_does 42 = .ok (.aload_n 0, 1) := dk_42 (dk_at dksX0_does_1 18 rfl rfl)
theorem dX0_does_43 : decode cX0_does 43 = .ok (.dup, 1) := dk_89 (dk_at dksX0_does_1 19 rfl rfl)
theorem dX0_does_44 : decode cX0_does 44 = .ok (.getfield 315, 3) := dk_180 1 59 (dk_at dksX0_does_1 20 rfl rfl)
theorem dX0_does_47 : decode cX0_does 47 = .ok (.iconst 1, 1) := dk_4 (dk_at dksX0_does_1 23 rfl rfl)
theorem dX0_does_48 : decode cX0_does 48 = .ok (.iadd, 1) := dk_96 (dk_at dksX0_does_2 0 rfl rfl)
theorem dX0_does_49 : decode cX0_does 49 = .ok (.putfield 315, 3) := dk_181 1 59 (dk_at dksX0_does_2 1 rfl rfl)
theorem dX0_does_52 : decode cX0_does 52 = .ok (.aload_n 1, 1) := dk_43 (dk_at dksX0_does_2 4 rfl rfl)
theorem dX0_does_53 : decode cX0_does 53 = .ok (.ldc2_w 211, 3) := dk_20 0 211 (dk_at dksX0_does_2 5 rfl rfl)
theorem dX0_does_56 : decode cX0_does 56 = .ok (.aload_n 1, 1) := dk_43 (dk_at dksX0_does_2 8 rfl rfl)
theorem dX0_does_57 : decode cX0_does 57 = .ok (.getfield 213, 3) := dk_180 0 213 (dk_at dksX0_does_2 9 rfl rfl)
theorem dX0_does_60 : decode cX0_does 60 = .ok (.lmul, 1) := dk_105 (dk_at dksX0_does_2 12 rfl rfl)
theorem dX0_does_61 : decode cX0_does 61 = .ok (.iload_n 2, 1) := dk_28 (dk_at dksX0_does_2 13 rfl rfl)
theorem dX0_does_62 : decode cX0_does 62 = .ok (.i2l, 1) := dk_133 (dk_at dksX0_does_2 14 rfl rfl)
theorem dX0_does_63 : decode cX0_does 63 = .ok (.ladd, 1) := dk_97 (dk_at dksX0_does_2 15 rfl rfl)
theorem dX0_does_64 : decode cX0_does 64 = .ok (.putfield 213, 3) := dk_181 0 213 (dk_at dksX0_does_2 16 rfl rfl)
theorem dX0_does_67 : decode cX0_does 67 = .ok (.aload_n 1, 1) := dk_43 (dk_at dksX0_does_2 19 rfl rfl)
theorem dX0_does_68 : decode cX0_does 68 = .ok (.getfield 331, 3) := dk_180 1 75 (dk_at dksX0_does_2 20 rfl rfl)
theorem dX0_does_71 : decode cX0_does 71 = .ok (.sipush 200, 3) := dk_17 0 200 (dk_at dksX0_does_3 0 rfl rfl)
theorem dX0_does_74 : decode cX0_does 74 = .ok (.if_icmp .le 13, 3) := dk_164 0 13 (dk_at dksX0_does_3 3 rfl rfl)
theorem dX0_does_77 : decode cX0_does 77 = .ok (.new 9, 3) := dk_187 0 9 (dk_at dksX0_does_3 6 rfl rfl)
theorem dX0_does_80 : decode cX0_does 80 = .ok (.dup, 1) := dk_89 (dk_at dksX0_does_3 9 rfl rfl)
theorem dX0_does_81 : decode cX0_does 81 = .ok (.bipush 6, 2) := dk_16 6 (dk_at dksX0_does_3 10 rfl rfl)
theorem dX0_does_83 : decode cX0_does 83 = .ok (.invokespecial 11, 3) := dk_183 0 11 (dk_at dksX0_does_3 12 rfl rfl)
theorem dX0_does_86 : decode cX0_does 86 = .ok (.athrow, 1) := dk_191 (dk_at dksX0_does_3 15 rfl rfl)
theorem dX0_does_87 : decode cX0_does 87 = .ok (.aload_n 1, 1) := dk_43 (dk_at dksX0_does_3 16 rfl rfl)
theorem dX0_does_88 : decode cX0_does 88 = .ok (.getfield 253, 3) := dk_180 0 253 (dk_at dksX0_does_3 17 rfl rfl)
theorem dX0_does_91 : decode cX0_does 91 = .ok (.getfield 334, 3) := dk_180 1 78 (dk_at dksX0_does_3 20 rfl rfl)
theorem dX0_does_94 : decode cX0_does 94 = .ok (.aload_n 0, 1) := dk_42 (dk_at dksX0_does_3 23 rfl rfl)
theorem dX0_does_95 : decode cX0_does 95 = .ok (.getfield 15, 3) := dk_180 0 15 (dk_at dksX0_does_4 0 rfl rfl)
theorem dX0_does_98 : decode cX0_does 98 = .ok (.iload_n 2, 1) := dk_28 (dk_at dksX0_does_4 3 rfl rfl)
theorem dX0_does_99 : decode cX0_does 99 = .ok (.aaload, 1) := dk_50 (dk_at dksX0_does_4 4 rfl rfl)
theorem dX0_does_100 : decode cX0_does 100 = .ok (.invokevirtual 335, 3) := dk_182 1 79 (dk_at dksX0_does_4 5 rfl rfl)
theorem dX0_does_103 : decode cX0_does 103 = .ok (.if_icmp .ge 13, 3) := dk_162 0 13 (dk_at dksX0_does_4 8 rfl rfl)
theorem dX0_does_106 : decode cX0_does 106 = .ok (.new 9, 3) := dk_187 0 9 (dk_at dksX0_does_4 11 rfl rfl)
theorem dX0_does_109 : decode cX0_does 109 = .ok (.dup, 1) := dk_89 (dk_at dksX0_does_4 14 rfl rfl)
theorem dX0_does_110 : decode cX0_does 110 = .ok (.bipush 8, 2) := dk_16 8 (dk_at dksX0_does_4 15 rfl rfl)
theorem dX0_does_112 : decode cX0_does 112 = .ok (.invokespecial 11, 3) := dk_183 0 11 (dk_at dksX0_does_4 17 rfl rfl)
theorem dX0_does_115 : decode cX0_does 115 = .ok (.athrow, 1) := dk_191 (dk_at dksX0_does_4 20 rfl rfl)
theorem dX0_does_116 : decode cX0_does 116 = .ok (.aload_n 1, 1) := dk_43 (dk_at dksX0_does_4 21 rfl rfl)
theorem dX0_does_117 : decode cX0_does 117 = .ok (.dup, 1) := dk_89 (dk_at dksX0_does_4 22 rfl rfl)
theorem dX0_does_118 : decode cX0_does 118 = .ok (.getfield 328, 3) := dk_180 1 72 (dk_at dksX0_does_5 0 rfl rfl)
theorem dX0_does_121 : decode cX0_does 121 = .ok (.iconst 1, 1) := dk_4 (dk_at dksX0_does_5 3 rfl rfl)
theorem dX0_does_122 : decode cX0_does 122 = .ok (.iadd, 1) := dk_96 (dk_at dksX0_does_5 4 rfl rfl)
theorem dX0_does_123 : decode cX0_does 123 = .ok (.putfield 328, 3) := dk_181 1 72 (dk_at dksX0_does_5 5 rfl rfl)
theorem dX0_does_126 : decode cX0_does 126 = .ok (.aload_n 0, 1) := dk_42 (dk_at dksX0_does_5 8 rfl rfl)
theorem dX0_does_127 : decode cX0_does 127 = .ok (.getfield 15, 3) := dk_180 0 15 (dk_at dksX0_does_5 9 rfl rfl)
theorem dX0_does_130 : decode cX0_does 130 = .ok (.iload_n 2, 1) := dk_28 (dk_at dksX0_does_5 12 rfl rfl)
theorem dX0_does_131 : decode cX0_does 131 = .ok (.aaload, 1) := dk_50 (dk_at dksX0_does_5 13 rfl rfl)
theorem dX0_does_132 : decode cX0_does 132 = .ok (.aload_n 1, 1) := dk_43 (dk_at dksX0_does_5 14 rfl rfl)
theorem dX0_does_133 : decode cX0_does 133 = .ok (.iload_n 3, 1) := dk_29 (dk_at dksX0_does_5 15 rfl rfl)
theorem dX0_does_134 : decode cX0_does 134 = .ok (.invokevirtual 338, 3) := dk_182 1 82 (dk_at dksX0_does_5 16 rfl rfl)
theorem dX0_does_137 : decode cX0_does 137 = .ok (.goto 27, 3) := dk_167 0 27 (dk_at dksX0_does_5 19 rfl rfl)
theorem dX0_does_140 : decode cX0_does 140 = .ok (.astore 5, 2) := dk_58 5 (dk_at dksX0_does_5 22 rfl rfl)
theorem dX0_does_142 : decode cX0_does 142 = .ok (.aload_n 1, 1) := dk_43 (dk_at dksX0_does_6 0 rfl rfl)
theorem dX0_does_143 : decode cX0_does 143 = .ok (.iload 4, 2) := dk_21 4 (dk_at dksX0_does_6 1 rfl rfl)
theorem dX0_does_145 : decode cX0_does 145 = .ok (.putfield 328, 3) := dk_181 1 72 (dk_at dksX0_does_6 3 rfl rfl)
theorem dX0_does_148 : decode cX0_does 148 = .ok (.aload_n 1, 1) := dk_43 (dk_at dksX0_does_6 6 rfl rfl)
theorem dX0_does_149 : decode cX0_does 149 = .ok (.aload 5, 2) := dk_25 5 (dk_at dksX0_does_6 7 rfl rfl)
theorem dX0_does_151 : decode cX0_does 151 = .ok (.getfield 342, 3) := dk_180 1 86 (dk_at dksX0_does_6 9 rfl rfl)
theorem dX0_does_154 : decode cX0_does 154 = .ok (.putfield 226, 3) := dk_181 0 226 (dk_at dksX0_does_6 12 rfl rfl)
theorem dX0_does_157 : decode cX0_does 157 = .ok (.aload_n 1, 1) := dk_43 (dk_at dksX0_does_6 15 rfl rfl)
theorem dX0_does_158 : decode cX0_does 158 = .ok (.getstatic 221, 3) := dk_178 0 221 (dk_at dksX0_does_6 16 rfl rfl)
theorem dX0_does_161 : decode cX0_does 161 = .ok (.putfield 217, 3) := dk_181 0 217 (dk_at dksX0_does_6 19 rfl rfl)
theorem dX0_does_164 : decode cX0_does 164 = .ok (.aload_n 1, 1) := dk_43 (dk_at dksX0_does_6 22 rfl rfl)
theorem dX0_does_165 : decode cX0_does 165 = .ok (.invokevirtual 168, 3) := dk_182 0 168 (dk_at dksX0_does_7 0 rfl rfl)
theorem dX0_does_168 : decode cX0_does 168 = .ok (.return_, 1) := dk_177 (dk_at dksX0_does_7 3 rfl rfl)
def dkwX0_forks_4 : List UInt8 := [182, 0, 181, 25, 6, 33, 25, 5, 182, 0, 185, 176]
abbrev dktX0_forks_4 : List UInt8 := dkwX0_forks_4 ++ []
def dkwX0_forks_3 : List UInt8 := [181, 0, 177, 43, 89, 180, 0, 174, 4, 96, 181, 0, 174, 42, 43, 43, 180, 0, 174, 28, 42, 25, 6]
abbrev dktX0_forks_3 : List UInt8 := dkwX0_forks_3 ++ dktX0_forks_4
def dkwX0_forks_2 : List UInt8 := [187, 0, 9, 89, 8, 183, 0, 11, 191, 43, 180, 0, 177, 58, 6, 43, 42, 25, 6, 182, 0, 181]
abbrev dktX0_forks_2 : List UInt8 := dkwX0_forks_2 ++ dktX0_forks_3
def dkwX0_forks_1 : List UInt8 := [180, 0, 171, 6, 160, 0, 12, 187, 0, 9, 89, 7, 183, 0, 11, 191, 43, 180, 0, 174, 6, 160, 0, 12]
abbrev dktX0_forks_1 : List UInt8 := dkwX0_forks_1 ++ dktX0_forks_2
def dkwX0_forks_0 : List UInt8 := [28, 42, 180, 0, 99, 185, 0, 145, 1, 0, 161, 0, 13, 187, 0, 9, 89, 16, 10, 183, 0, 11, 191, 43]
abbrev dktX0_forks_0 : List UInt8 := dkwX0_forks_0 ++ dktX0_forks_1
theorem dksX0_forks_0 : cX0_forks.data.toList.drop 0 = dktX0_forks_0 := by decide +kernel
theorem dksX0_forks_1 : cX0_forks.data.toList.drop 24 = dktX0_forks_1 := dk_seg dksX0_forks_0 24 rfl rfl
theorem dksX0_forks_2 : cX0_forks.data.toList.drop 48 = dktX0_forks_2 := dk_seg dksX0_forks_1 24 rfl rfl
theorem dksX0_forks_3 : cX0_forks.data.toList.drop 70 = dktX0_forks_3 := dk_seg dksX0_forks_2 22 rfl rfl
theorem dksX0_forks_4 : cX0_forks.data.toList.drop 93 = dktX0_forks_4 := dk_seg dksX0_forks_3 23 rfl rfl
theorem dX0_forks_0 : decode cX0_forks 0 = .ok (.iload_n 2, 1) := dk_28 (dk_at dksX0_forks_0 0 rfl rfl)
theorem dX0_forks_1 : decode cX0_forks 1 = .ok (.aload_n 0, 1) := dk_42 (dk_at dksX0_forks_0 1 rfl rfl)
theorem dX0_forks_2 : decode cX0_forks 2 = .ok (.getfield 99, 3) := dk_180 0 99 (dk_at dksX0_forks_0 2 rfl rfl)
theorem dX0_forks_5 : decode cX0_forks 5 = .ok (.invokeinterface 145 1, 5) := by decide +kernel
theorem dX0_forks_10 : decode cX0_forks 10 = .ok (.if_icmp .lt 13, 3) := dk_161 0 13 (dk_at dksX0_forks_0 10 rfl rfl)
theorem dX0_forks_13 : decode cX0_forks 13 = .ok (.new 9, 3) := dk_187 0 9 (dk_at dksX0_forks_0 13 rfl rfl)
theorem dX0_forks_16 : decode cX0_forks 16 = .ok (.dup, 1) := dk_89 (dk_at dksX0_forks_0 16 rfl rfl)
theorem dX0_forks_17 : decode cX0_forks 17 = .ok (.bipush 10, 2) := dk_16 10 (dk_at dksX0_forks_0 17 rfl rfl)
theorem dX0_forks_19 : decode cX0_forks 19 = .ok (.invokespecial 11, 3) := dk_183 0 11 (dk_at dksX0_forks_0 19 rfl rfl)
theorem dX0_forks_22 : decode cX0_forks 22 = .ok (.athrow, 1) := dk_191 (dk_at dksX0_forks_0 22 rfl rfl)
theorem dX0_forks_23 : decode cX0_forks 23 = .ok (.aload_n 1, 1) := dk_43 (dk_at dksX0_forks_0 23 rfl rfl)
theorem dX0_forks_24 : decode cX0_forks 24 = .ok (.getfield 171, 3) := dk_180 0 171 (dk_at dksX0_forks_1 0 rfl rfl)
theorem dX0_forks_27 : decode cX0_forks 27 = .ok (.iconst 3, 1) := dk_6 (dk_at dksX0_forks_1 3 rfl rfl)
theorem dX0_forks_28 : decode cX0_forks 28 = .ok (.if_icmp .ne 12, 3) := dk_160 0 12 (dk_at dksX0_forks_1 4 rfl rfl)
theorem dX0_forks_31 : decode cX0_forks 31 = .ok (.new 9, 3) := dk_187 0 9 (dk_at dksX0_forks_1 7 rfl rfl)
theorem dX0_forks_34 : decode cX0_forks 34 = .ok (.dup, 1) := dk_89 (dk_at dksX0_forks_1 10 rfl rfl)
theorem dX0_forks_35 : decode cX0_forks 35 = .ok (.iconst 4, 1) := dk_7 (dk_at dksX0_forks_1 11 rfl rfl)
theorem dX0_forks_36 : decode cX0_forks 36 = .ok (.invokespecial 11, 3) := dk_183 0 11 (dk_at dksX0_forks_1 12 rfl rfl)
theorem dX0_forks_39 : decode cX0_forks 39 = .ok (.athrow, 1) := dk_191 (dk_at dksX0_forks_1 15 rfl rfl)
theorem dX0_forks_40 : decode cX0_forks 40 = .ok (.aload_n 1, 1) := dk_43 (dk_at dksX0_forks_1 16 rfl rfl)
theorem dX0_forks_41 : decode cX0_forks 41 = .ok (.getfield 174, 3) := dk_180 0 174 (dk_at dksX0_forks_1 17 rfl rfl)
theorem dX0_forks_44 : decode cX0_forks 44 = .ok (.iconst 3, 1) := dk_6 (dk_at dksX0_forks_1 20 rfl rfl)
theorem dX0_forks_45 : decode cX0_forks 45 = .ok (.if_icmp .ne 12, 3) := dk_160 0 12 (dk_at dksX0_forks_1 21 rfl rfl)
theorem dX0_forks_48 : decode cX0_forks 48 = .ok (.new 9, 3) := dk_187 0 9 (dk_at dksX0_forks_2 0 rfl rfl)
theorem dX0_forks_51 : decode cX0_forks 51 = .ok (.dup, 1) := dk_89 (dk_at dksX0_forks_2 3 rfl rfl)
theorem dX0_forks_52 : decode cX0_forks 52 = .ok (.iconst 5, 1) := dk_8 (dk_at dksX0_forks_2 4 rfl rfl)
theorem dX0_forks_53 : decode cX0_forks 53 = .ok (.invokespecial 11, 3) := dk_183 0 11 (dk_at dksX0_forks_2 5 rfl rfl)
theorem dX0_forks_56 : decode cX0_forks 56 = .ok (.athrow, 1) := dk_191 (dk_at dksX0_forks_2 8 rfl rfl)
theorem dX0_forks_57 : decode cX0_forks 57 = .ok (.aload_n 1, 1) := dk_43 (dk_at dksX0_forks_2 9 rfl rfl)
theorem dX0_forks_58 : decode cX0_forks 58 = .ok (.getfield 177, 3) := dk_180 0 177 (dk_at dksX0_forks_2 10 rfl rfl)
theorem dX0_forks_61 : decode cX0_forks 61 = .ok (.astore 6, 2) := dk_58 6 (dk_at dksX0_forks_2 13 rfl rfl)
theorem dX0_forks_63 : decode cX0_forks 63 = .ok (.aload_n 1, 1) := dk_43 (dk_at dksX0_forks_2 15 rfl rfl)
theorem dX0_forks_64 : decode cX0_forks 64 = .ok (.aload_n 0, 1) := dk_42 (dk_at dksX0_forks_2 16 rfl rfl)
theorem dX0_forks_65 : decode cX0_forks 65 = .ok (.aload 6, 2) := dk_25 6 (dk_at dksX0_forks_2 17 rfl rfl)
theorem dX0_forks_67 : decode cX0_forks 67 = .ok (.invokevirtual 181, 3) := dk_182 0 181 (dk_at dksX0_forks_2 19 rfl rfl)
theorem dX0_forks_70 : decode cX0_forks 70 = .ok (.putfield 177, 3) := dk_181 0 177 (dk_at dksX0_forks_3 0 rfl rfl)
theorem dX0_forks_73 : decode cX0_forks 73 = .ok (.aload_n 1, 1) := dk_43 (dk_at dksX0_forks_3 3 rfl rfl)
theorem dX0_forks_74 : decode cX0_forks 74 = .ok (.dup, 1) := dk_89 (dk_at dksX0_forks_3 4 rfl rfl)
theorem dX0_forks_75 : decode cX0_forks 75 = .ok (.getfield 174, 3) := dk_180 0 174 (dk_at dksX0_forks_3 5 rfl rfl)
theorem dX0_forks_78 : decode cX0_forks 78 = .ok (.iconst 1, 1) := dk_4 (dk_at dksX0_forks_3 8 rfl rfl)
theorem dX0_forks_79 : decode cX0_forks 79 = .ok (.iadd, 1) := dk_96 (dk_at dksX0_forks_3 9 rfl rfl)
theorem dX0_forks_80 : decode cX0_forks 80 = .ok (.putfield 174, 3) := dk_181 0 174 (dk_at dksX0_forks_3 10 rfl rfl)
theorem dX0_forks_83 : decode cX0_forks 83 = .ok (.aload_n 0, 1) := dk_42 (dk_at dksX0_forks_3 13 rfl rfl)
theorem dX0_forks_84 : decode cX0_forks 84 = .ok (.aload_n 1, 1) := dk_43 (dk_at dksX0_forks_3 14 rfl rfl)
theorem dX0_forks_85 : decode cX0_forks 85 = .ok (.aload_n 1, 1) := dk_43 (dk_at dksX0_forks_3 15 rfl rfl)
theorem dX0_forks_86 : decode cX0_forks 86 = .ok (.getfield 174, 3) := dk_180 0 174 (dk_at dksX0_forks_3 16 rfl rfl)
theorem dX0_forks_89 : decode cX0_forks 89 = .ok (.iload_n 2, 1) := dk_28 (dk_at dksX0_forks_3 19 rfl rfl)
theorem dX0_forks_90 : decode cX0_forks 90 = .ok (.aload_n 0, 1) := dk_42 (dk_at dksX0_forks_3 20 rfl rfl)
theorem dX0_forks_91 : decode cX0_forks 91 = .ok (.aload 6, 2) := dk_25 6 (dk_at dksX0_forks_3 21 rfl rfl)
theorem dX0_forks_93 : decode cX0_forks 93 = .ok (.invokevirtual 181, 3) := dk_182 0 181 (dk_at dksX0_forks_4 0 rfl rfl)
theorem dX0_forks_96 : decode cX0_forks 96 = .ok (.aload 6, 2) := dk_25 6 (dk_at dksX0_forks_4 3 rfl rfl)
theorem dX0_forks_98 : decode cX0_forks 98 = .ok (.lload_n 3, 1) := dk_33 (dk_at dksX0_forks_4 5 rfl rfl)
theorem dX0_forks_99 : decode cX0_forks 99 = .ok (.aload 5, 2) := dk_25 5 (dk_at dksX0_forks_4 6 rfl rfl)
theorem dX0_forks_101 : decode cX0_forks 101 = .ok (.invokevirtual 185, 3) := dk_182 0 185 (dk_at dksX0_forks_4 8 rfl rfl)
theorem dX0_forks_104 : decode cX0_forks 104 = .ok (.areturn, 1) := dk_176 (dk_at dksX0_forks_4 11 rfl rfl)
def dkwX0_joins_8 : List UInt8 := [180, 1, 1, 180, 1, 4, 3, 47, 44, 180, 1, 1, 180, 1, 7, 3, 50, 182, 1, 11, 177]
abbrev dktX0_joins_8 : List UInt8 := dkwX0_joins_8 ++ []
def dkwX0_joins_7 : List UInt8 := [182, 0, 246, 42, 89, 180, 0, 250, 4, 96, 181, 0, 250, 132, 4, 1, 167, 255, 184, 43, 180, 0, 253, 44]
abbrev dktX0_joins_7 : List UInt8 := dkwX0_joins_7 ++ dktX0_joins_8
def dkwX0_joins_6 : List UInt8 := [184, 0, 238, 43, 180, 0, 177, 21, 4, 184, 0, 238, 44, 180, 0, 177, 21, 4, 184, 0, 238, 182, 0, 242]
abbrev dktX0_joins_6 : List UInt8 := dkwX0_joins_6 ++ dktX0_joins_7
def dkwX0_joins_5 : List UInt8 := [21, 4, 122, 4, 126, 4, 160, 0, 55, 43, 180, 0, 177, 21, 4, 42, 21, 4, 44, 180, 0, 229, 21, 4]
abbrev dktX0_joins_5 : List UInt8 := dkwX0_joins_5 ++ dktX0_joins_6
def dkwX0_joins_4 : List UInt8 := [128, 62, 25, 4, 180, 0, 235, 58, 4, 167, 255, 232, 3, 54, 4, 21, 4, 16, 16, 162, 0, 71, 29]
abbrev dktX0_joins_4 : List UInt8 := dkwX0_joins_4 ++ dktX0_joins_5
def dkwX0_joins_3 : List UInt8 := [191, 3, 62, 44, 180, 0, 177, 58, 4, 25, 4, 44, 180, 0, 229, 165, 0, 21, 29, 25, 4, 180, 0, 232]
abbrev dktX0_joins_3 : List UInt8 := dkwX0_joins_3 ++ dktX0_joins_4
def dkwX0_joins_2 : List UInt8 := [181, 0, 213, 44, 180, 0, 217, 178, 0, 221, 166, 0, 15, 187, 0, 9, 89, 44, 180, 0, 226, 183, 0, 11]
abbrev dktX0_joins_2 : List UInt8 := dkwX0_joins_2 ++ dktX0_joins_3
def dkwX0_joins_1 : List UInt8 := [182, 0, 208, 132, 3, 1, 167, 255, 235, 43, 20, 0, 211, 43, 180, 0, 213, 105, 44, 180, 0, 213, 97]
abbrev dktX0_joins_1 : List UInt8 := dkwX0_joins_1 ++ dktX0_joins_2
def dkwX0_joins_0 : List UInt8 := [44, 4, 181, 0, 197, 3, 62, 29, 44, 180, 0, 201, 162, 0, 19, 43, 44, 180, 0, 204, 29, 47]
abbrev dktX0_joins_0 : List UInt8 := dkwX0_joins_0 ++ dktX0_joins_1
theorem dksX0_joins_0 : cX0_joins.data.toList.drop 0 = dktX0_joins_0 := by decide +kernel
theorem dksX0_joins_1 : cX0_joins.data.toList.drop 22 = dktX0_joins_1 := dk_seg dksX0_joins_0 22 rfl rfl
theorem dksX0_joins_2 : cX0_joins.data.toList.drop 45 = dktX0_joins_2 := dk_seg dksX0_joins_1 23 rfl rfl
theorem dksX0_joins_3 : cX0_joins.data.toList.drop 69 = dktX0_joins_3 := dk_seg dksX0_joins_2 24 rfl rfl
theorem dksX0_joins_4 : cX0_joins.data.toList.drop 93 = dktX0_joins_4 := dk_seg dksX0_joins_3 24 rfl rfl
theorem dksX0_joins_5 : cX0_joins.data.toList.drop 116 = dktX0_joins_5 := dk_seg dksX0_joins_4 23 rfl rfl
theorem dksX0_joins_6 : cX0_joins.data.toList.drop 140 = dktX0_joins_6 := dk_seg dksX0_joins_5 24 rfl rfl
theorem dksX0_joins_7 : cX0_joins.data.toList.drop 164 = dktX0_joins_7 := dk_seg dksX0_joins_6 24 rfl rfl
theorem dksX0_joins_8 : cX0_joins.data.toList.drop 188 = dktX0_joins_8 := dk_seg dksX0_joins_7 24 rfl rfl
theorem dX0_joins_0 : decode cX0_joins 0 = .ok (.aload_n 2, 1) := dk_44 (dk_at dksX0_joins_0 0 rfl rfl)
theorem dX0_joins_1 : decode cX0_joins 1 = .ok (.iconst 1, 1) := dk_4 (dk_at dksX0_joins_0 1 rfl rfl)
theorem dX0_joins_2 : decode cX0_joins 2 = .ok (.putfield 197, 3) := dk_181 0 197 (dk_at dksX0_joins_0 2 rfl rfl)
theorem dX0_joins_5 : decode cX0_joins 5 = .ok (.iconst 0, 1) := dk_3 (dk_at dksX0_joins_0 5 rfl rfl)
theorem dX0_joins_6 : decode cX0_joins 6 = .ok (.istore_n 3, 1) := dk_62 (dk_at dksX0_joins_0 6 rfl rfl)
theorem dX0_joins_7 : decode cX0_joins 7 = .ok (.iload_n 3, 1) := dk_29 (dk_at dksX0_joins_0 7 rfl rfl)
theorem dX0_joins_8 : decode cX0_joins 8 = .ok (.aload_n 2, 1) := dk_44 (dk_at dksX0_joins_0 8 rfl rfl)
theorem dX0_joins_9 : decode cX0_joins 9 = .ok (.getfield 201, 3) := dk_180 0 201 (dk_at dksX0_joins_0 9 rfl rfl)
theorem dX0_joins_12 : decode cX0_joins 12 = .ok (.if_icmp .ge 19, 3) := dk_162 0 19 (dk_at dksX0_joins_0 12 rfl rfl)
theorem dX0_joins_15 : decode cX0_joins 15 = .ok (.aload_n 1, 1) := dk_43 (dk_at dksX0_joins_0 15 rfl rfl)
theorem dX0_joins_16 : decode cX0_joins 16 = .ok (.aload_n 2, 1) := dk_44 (dk_at dksX0_joins_0 16 rfl rfl)
theorem dX0_joins_17 : decode cX0_joins 17 = .ok (.getfield 204, 3) := dk_180 0 204 (dk_at dksX0_joins_0 17 rfl rfl)
theorem dX0_joins_20 : decode cX0_joins 20 = .ok (.iload_n 3, 1) := dk_29 (dk_at dksX0_joins_0 20 rfl rfl)
theorem dX0_joins_21 : decode cX0_joins 21 = .ok (.laload, 1) := dk_47 (dk_at dksX0_joins_0 21 rfl rfl)
theorem dX0_joins_22 : decode cX0_joins 22 = .ok (.invokevirtual 208, 3) := dk_182 0 208 (dk_at dksX0_joins_1 0 rfl rfl)
theorem dX0_joins_25 : decode cX0_joins 25 = .ok (.iinc 3 1, 3) := dk_132 3 1 (dk_at dksX0_joins_1 3 rfl rfl)
theorem dX0_joins_28 : decode cX0_joins 28 = .ok (.goto (-21), 3) := dk_167 255 235 (dk_at dksX0_joins_1 6 rfl rfl)
theorem dX0_joins_31 : decode cX0_joins 31 = .ok (.aload_n 1, 1) := dk_43 (dk_at dksX0_joins_1 9 rfl rfl)
theorem dX0_joins_32 : decode cX0_joins 32 = .ok (.ldc2_w 211, 3) := dk_20 0 211 (dk_at dksX0_joins_1 10 rfl rfl)
theorem dX0_joins_35 : decode cX0_joins 35 = .ok (.aload_n 1, 1) := dk_43 (dk_at dksX0_joins_1 13 rfl rfl)
theorem dX0_joins_36 : decode cX0_joins 36 = .ok (.getfield 213, 3) := dk_180 0 213 (dk_at dksX0_joins_1 14 rfl rfl)
theorem dX0_joins_39 : decode cX0_joins 39 = .ok (.lmul, 1) := dk_105 (dk_at dksX0_joins_1 17 rfl rfl)
theorem dX0_joins_40 : decode cX0_joins 40 = .ok (.aload_n 2, 1) := dk_44 (dk_at dksX0_joins_1 18 rfl rfl)
theorem dX0_joins_41 : decode cX0_joins 41 = .ok (.getfield 213, 3) := dk_180 0 213 (dk_at dksX0_joins_1 19 rfl rfl)
theorem dX0_joins_44 : decode cX0_joins 44 = .ok (.ladd, 1) := dk_97 (dk_at dksX0_joins_1 22 rfl rfl)
theorem dX0_joins_45 : decode cX0_joins 45 = .ok (.putfield 213, 3) := dk_181 0 213 (dk_at dksX0_joins_2 0 rfl rfl)
theorem dX0_joins_48 : decode cX0_joins 48 = .ok (.aload_n 2, 1) := dk_44 (dk_at dksX0_joins_2 3 rfl rfl)
theorem dX0_joins_49 : decode cX0_joins 49 = .ok (.getfield 217, 3) := dk_180 0 217 (dk_at dksX0_joins_2 4 rfl rfl)
theorem dX0_joins_52 : decode cX0_joins 52 = .ok (.getstatic 221, 3) := dk_178 0 221 (dk_at dksX0_joins_2 7 rfl rfl)
theorem dX0_joins_55 : decode cX0_joins 55 = .ok (.if_acmp .ne 15, 3) := dk_166 0 15 (dk_at dksX0_joins_2 10 rfl rfl)
theorem dX0_joins_58 : decode cX0_joins 58 = .ok (.new 9, 3) := dk_187 0 9 (dk_at dksX0_joins_2 13 rfl rfl)
theorem dX0_joins_61 : decode cX0_joins 61 = .ok (.dup, 1) := dk_89 (dk_at dksX0_joins_2 16 rfl rfl)
theorem dX0_joins_62 : decode cX0_joins 62 = .ok (.aload_n 2, 1) := dk_44 (dk_at dksX0_joins_2 17 rfl rfl)
theorem dX0_joins_63 : decode cX0_joins 63 = .ok (.getfield 226, 3) := dk_180 0 226 (dk_at dksX0_joins_2 18 rfl rfl)
theorem dX0_joins_66 : decode cX0_joins 66 = .ok (.invokespecial 11, 3) := dk_183 0 11 (dk_at dksX0_joins_2 21 rfl rfl)
theorem dX0_joins_69 : decode cX0_joins 69 = .ok (.athrow, 1) := dk_191 (dk_at dksX0_joins_3 0 rfl rfl)
theorem dX0_joins_70 : decode cX0_joins 70 = .ok (.iconst 0, 1) := dk_3 (dk_at dksX0_joins_3 1 rfl rfl)
theorem dX0_joins_71 : decode cX0_joins 71 = .ok (.istore_n 3, 1) := dk_62 (dk_at dksX0_joins_3 2 rfl rfl)
theorem dX0_joins_72 : decode cX0_joins 72 = .ok (.aload_n 2, 1) := dk_44 (dk_at dksX0_joins_3 3 rfl rfl)
theorem dX0_joins_73 : decode cX0_joins 73 = .ok (.getfield 177, 3) := dk_180 0 177 (dk_at dksX0_joins_3 4 rfl rfl)
theorem dX0_joins_76 : decode cX0_joins 76 = .ok (.astore 4, 2) := dk_58 4 (dk_at dksX0_joins_3 7 rfl rfl)
theorem dX0_joins_78 : decode cX0_joins 78 = .ok (.aload 4, 2) := dk_25 4 (dk_at dksX0_joins_3 9 rfl rfl)
theorem dX0_joins_80 : decode cX0_joins 80 = .ok (.aload_n 2, 1) := dk_44 (dk_at dksX0_joins_3 11 rfl rfl)
theorem dX0_joins_81 : decode cX0_joins 81 = .ok (.getfield 229, 3) := dk_180 0 229 (dk_at dksX0_joins_3 12 rfl rfl)
theorem dX0_joins_84 : decode cX0_joins 84 = .ok (.if_acmp .eq 21, 3) := dk_165 0 21 (dk_at dksX0_joins_3 15 rfl rfl)
theorem dX0_joins_87 : decode cX0_joins 87 = .ok (.iload_n 3, 1) := dk_29 (dk_at dksX0_joins_3 18 rfl rfl)
theorem dX0_joins_88 : decode cX0_joins 88 = .ok (.aload 4, 2) := dk_25 4 (dk_at dksX0_joins_3 19 rfl rfl)
theorem dX0_joins_90 : decode cX0_joins 90 = .ok (.getfield 232, 3) := dk_180 0 232 (dk_at dksX0_joins_3 21 rfl rfl)
theorem dX0_joins_93 : decode cX0_joins 93 = .ok (.ior, 1) := dk_128 (dk_at dksX0_joins_4 0 rfl rfl)
theorem dX0_joins_94 : decode cX0_joins 94 = .ok (.istore_n 3, 1) := dk_62 (dk_at dksX0_joins_4 1 rfl rfl)
theorem dX0_joins_95 : decode cX0_joins 95 = .ok (.aload 4, 2) := dk_25 4 (dk_at dksX0_joins_4 2 rfl rfl)
theorem dX0_joins_97 : decode cX0_joins 97 = .ok (.getfield 235, 3) := dk_180 0 235 (dk_at dksX0_joins_4 4 rfl rfl)
theorem dX0_joins_100 : decode cX0_joins 100 = .ok (.astore 4, 2) := dk_58 4 (dk_at dksX0_joins_4 7 rfl rfl)
theorem dX0_joins_102 : decode cX0_joins 102 = .ok (.goto (-24), 3) := dk_167 255 232 (dk_at dksX0_joins_4 9 rfl rfl)
theorem dX0_joins_105 : decode cX0_joins 105 = .ok (.iconst 0, 1) := dk_3 (dk_at dksX0_joins_4 12 rfl rfl)
theorem dX0_joins_106 : decode cX0_joins 106 = .ok (.istore 4, 2) := dk_54 4 (dk_at dksX0_joins_4 13 rfl rfl)
theorem dX0_joins_108 : decode cX0_joins 108 = .ok (.iload 4, 2) := dk_21 4 (dk_at dksX0_joins_4 15 rfl rfl)
theorem dX0_joins_110 : decode cX0_joins 110 = .ok (.bipush 16, 2) := dk_16 16 (dk_at dksX0_joins_4 17 rfl rfl)
theorem dX0_joins_112 : decode cX0_joins 112 = .ok (.if_icmp .ge 71, 3) := dk_162 0 71 (dk_at dksX0_joins_4 19 rfl rfl)
theorem dX0_joins_115 : decode cX0_joins 115 = .ok (.iload_n 3, 1) := dk_29 (dk_at dksX0_joins_4 22 rfl rfl)
theorem dX0_joins_116 : decode cX0_joins 116 = .ok (.iload 4, 2) := dk_21 4 (dk_at dksX0_joins_5 0 rfl rfl)
theorem dX0_joins_118 : decode cX0_joins 118 = .ok (.ishr, 1) := dk_122 (dk_at dksX0_joins_5 2 rfl rfl)
theorem dX0_joins_119 : decode cX0_joins 119 = .ok (.iconst 1, 1) := dk_4 (dk_at dksX0_joins_5 3 rfl rfl)
theorem dX0_joins_120 : decode cX0_joins 120 = .ok (.iand, 1) := dk_126 (dk_at dksX0_joins_5 4 rfl rfl)
theorem dX0_joins_121 : decode cX0_joins 121 = .ok (.iconst 1, 1) := dk_4 (dk_at dksX0_joins_5 5 rfl rfl)
theorem dX0_joins_122 : decode cX0_joins 122 = .ok (.if_icmp .ne 55, 3) := dk_160 0 55 (dk_at dksX0_joins_5 6 rfl rfl)
theorem dX0_joins_125 : decode cX0_joins 125 = .ok (.aload_n 1, 1) := dk_43 (dk_at dksX0_joins_5 9 rfl rfl)
theorem dX0_joins_126 : decode cX0_joins 126 = .ok (.getfield 177, 3) := dk_180 0 177 (dk_at dksX0_joins_5 10 rfl rfl)
theorem dX0_joins_129 : decode cX0_joins 129 = .ok (.iload 4, 2) := dk_21 4 (dk_at dksX0_joins_5 13 rfl rfl)
theorem dX0_joins_131 : decode cX0_joins 131 = .ok (.aload_n 0, 1) := dk_42 (dk_at dksX0_joins_5 15 rfl rfl)
theorem dX0_joins_132 : decode cX0_joins 132 = .ok (.iload 4, 2) := dk_21 4 (dk_at dksX0_joins_5 16 rfl rfl)
theorem dX0_joins_134 : decode cX0_joins 134 = .ok (.aload_n 2, 1) := dk_44 (dk_at dksX0_joins_5 18 rfl rfl)
theorem dX0_joins_135 : decode cX0_joins 135 = .ok (.getfield 229, 3) := dk_180 0 229 (dk_at dksX0_joins_5 19 rfl rfl)
theorem dX0_joins_138 : decode cX0_joins 138 = .ok (.iload 4, 2) := dk_21 4 (dk_at dksX0_joins_5 22 rfl rfl)
theorem dX0_joins_140 : decode cX0_joins 140 = .ok (.invokestatic 238, 3) := dk_184 0 238 (dk_at dksX0_joins_6 0 rfl rfl)
theorem dX0_joins_143 : decode cX0_joins 143 = .ok (.aload_n 1, 1) := dk_43 (dk_at dksX0_joins_6 3 rfl rfl)
theorem dX0_joins_144 : decode cX0_joins 144 = .ok (.getfield 177, 3) := dk_180 0 177 (dk_at dksX0_joins_6 4 rfl rfl)
theorem dX0_joins_147 : decode cX0_joins 147 = .ok (.iload 4, 2) := dk_21 4 (dk_at dksX0_joins_6 7 rfl rfl)
theorem dX0_joins_149 : decode cX0_joins 149 = .ok (.invokestatic 238, 3) := dk_184 0 238 (dk_at dksX0_joins_6 9 rfl rfl)
theorem dX0_joins_152 : decode cX0_joins 152 = .ok (.aload_n 2, 1) := dk_44 (dk_at dksX0_joins_6 12 rfl rfl)
theorem dX0_joins_153 : decode cX0_joins 153 = .ok (.getfield 177, 3) := dk_180 0 177 (dk_at dksX0_joins_6 13 rfl rfl)
theorem dX0_joins_156 : decode cX0_joins 156 = .ok (.iload 4, 2) := dk_21 4 (dk_at dksX0_joins_6 16 rfl rfl)
theorem dX0_joins_158 : decode cX0_joins 158 = .ok (.invokestatic 238, 3) := dk_184 0 238 (dk_at dksX0_joins_6 18 rfl rfl)
theorem dX0_joins_161 : decode cX0_joins 161 = .ok (.invokevirtual 242, 3) := dk_182 0 242 (dk_at dksX0_joins_6 21 rfl rfl)
theorem dX0_joins_164 : decode cX0_joins 164 = .ok (.invokevirtual 246, 3) := dk_182 0 246 (dk_at dksX0_joins_7 0 rfl rfl)
theorem dX0_joins_167 : decode cX0_joins 167 = .ok (.aload_n 0, 1) := dk_42 (dk_at dksX0_joins_7 3 rfl rfl)
theorem dX0_joins_168 : decode cX0_joins 168 = .ok (.dup, 1) := dk_89 (dk_at dksX0_joins_7 4 rfl rfl)
theorem dX0_joins_169 : decode cX0_joins 169 = .ok (.getfield 250, 3) := dk_180 0 250 (dk_at dksX0_joins_7 5 rfl rfl)
theorem dX0_joins_172 : decode cX0_joins 172 = .ok (.iconst 1, 1) := dk_4 (dk_at dksX0_joins_7 8 rfl rfl)
theorem dX0_joins_173 : decode cX0_joins 173 = .ok (.iadd, 1) := dk_96 (dk_at dksX0_joins_7 9 rfl rfl)
theorem dX0_joins_174 : decode cX0_joins 174 = .ok (.putfield 250, 3) := dk_181 0 250 (dk_at dksX0_joins_7 10 rfl rfl)
theorem dX0_joins_177 : decode cX0_joins 177 = .ok (.iinc 4 1, 3) := dk_132 4 1 (dk_at dksX0_joins_7 13 rfl rfl)
theorem dX0_joins_180 : decode cX0_joins 180 = .ok (.goto (-72), 3) := dk_167 255 184 (dk_at dksX0_joins_7 16 rfl rfl)
theorem dX0_joins_183 : decode cX0_joins 183 = .ok (.aload_n 1, 1) := dk_43 (dk_at dksX0_joins_7 19 rfl rfl)
theorem dX0_joins_184 : decode cX0_joins 184 = .ok (.getfield 253, 3) := dk_180 0 253 (dk_at dksX0_joins_7 20 rfl rfl)
theorem dX0_joins_187 : decode cX0_joins 187 = .ok (.aload_n 2, 1) := dk_44 (dk_at dksX0_joins_7 23 rfl rfl)
theorem dX0_joins_188 : decode cX0_joins 188 = .ok (.getfield 257, 3) := dk_180 1 1 (dk_at dksX0_joins_8 0 rfl rfl)
theorem dX0_joins_191 : decode cX0_joins 191 = .ok (.getfield 260, 3) := dk_180 1 4 (dk_at dksX0_joins_8 3 rfl rfl)
theorem dX0_joins_194 : decode cX0_joins 194 = .ok (.iconst 0, 1) := dk_3 (dk_at dksX0_joins_8 6 rfl rfl)
theorem dX0_joins_195 : decode cX0_joins 195 = .ok (.laload, 1) := dk_47 (dk_at dksX0_joins_8 7 rfl rfl)
theorem dX0_joins_196 : decode cX0_joins 196 = .ok (.aload_n 2, 1) := dk_44 (dk_at dksX0_joins_8 8 rfl rfl)
theorem dX0_joins_197 : decode cX0_joins 197 = .ok (.getfield 257, 3) := dk_180 1 1 (dk_at dksX0_joins_8 9 rfl rfl)
theorem dX0_joins_200 : decode cX0_joins 200 = .ok (.getfield 263, 3) := dk_180 1 7 (dk_at dksX0_joins_8 12 rfl rfl)
theorem dX0_joins_203 : decode cX0_joins 203 = .ok (.iconst 0, 1) := dk_3 (dk_at dksX0_joins_8 15 rfl rfl)
theorem dX0_joins_204 : decode cX0_joins 204 = .ok (.aaload, 1) := dk_50 (dk_at dksX0_joins_8 16 rfl rfl)
theorem dX0_joins_205 : decode cX0_joins 205 = .ok (.invokevirtual 267, 3) := dk_182 1 11 (dk_at dksX0_joins_8 17 rfl rfl)
theorem dX0_joins_208 : decode cX0_joins 208 = .ok (.return_, 1) := dk_177 (dk_at dksX0_joins_8 20 rfl rfl)
def dkwX0_mergedValue_4 : List UInt8 := [100, 185, 0, 149, 2, 0, 192, 0, 191, 32, 22, 4, 22, 6, 182, 0, 193, 173]
abbrev dktX0_mergedValue_4 : List UInt8 := dkwX0_mergedValue_4 ++ []
def dkwX0_mergedValue_3 : List UInt8 := [22, 6, 20, 0, 189, 131, 127, 20, 0, 189, 131, 127, 173, 42, 180, 0, 103, 42, 180, 0, 106, 27, 46, 6]
abbrev dktX0_mergedValue_3 : List UInt8 := dkwX0_mergedValue_3 ++ dktX0_mergedValue_4
def dkwX0_mergedValue_2 : List UInt8 := [22, 6, 173, 22, 4, 22, 6, 97, 32, 101, 173, 22, 4, 22, 6, 32, 20, 0, 189, 131, 127, 129, 32]
abbrev dktX0_mergedValue_2 : List UInt8 := dkwX0_mergedValue_2 ++ dktX0_mergedValue_3
def dkwX0_mergedValue_1 : List UInt8 := [170, 0, 0, 0, 0, 62, 0, 0, 0, 0, 0, 0, 0, 2, 0, 0, 0, 26, 0, 0, 0, 29, 0, 0, 0, 37]
abbrev dktX0_mergedValue_1 : List UInt8 := dkwX0_mergedValue_1 ++ dktX0_mergedValue_2
def dkwX0_mergedValue_0 : List UInt8 := [42, 180, 0, 106, 27, 46]
abbrev dktX0_mergedValue_0 : List UInt8 := dkwX0_mergedValue_0 ++ dktX0_mergedValue_1
theorem dksX0_mergedValue_0 : cX0_mergedValue.data.toList.drop 0 = dktX0_mergedValue_0 := by decide +kernel
theorem dksX0_mergedValue_1 : cX0_mergedValue.data.toList.drop 6 = dktX0_mergedValue_1 := dk_seg dksX0_mergedValue_0 6 rfl rfl
theorem dksX0_mergedValue_2 : cX0_mergedValue.data.toList.drop 32 = dktX0_mergedValue_2 := dk_seg dksX0_mergedValue_1 26 rfl rfl
theorem dksX0_mergedValue_3 : cX0_mergedValue.data.toList.drop 55 = dktX0_mergedValue_3 := dk_seg dksX0_mergedValue_2 23 rfl rfl
theorem dksX0_mergedValue_4 : cX0_mergedValue.data.toList.drop 79 = dktX0_mergedValue_4 := dk_seg dksX0_mergedValue_3 24 rfl rfl
theorem dX0_mergedValue_0 : decode cX0_mergedValue 0 = .ok (.aload_n 0, 1) := dk_42 (dk_at dksX0_mergedValue_0 0 rfl rfl)
theorem dX0_mergedValue_1 : decode cX0_mergedValue 1 = .ok (.getfield 106, 3) := dk_180 0 106 (dk_at dksX0_mergedValue_0 1 rfl rfl)
theorem dX0_mergedValue_4 : decode cX0_mergedValue 4 = .ok (.iload_n 1, 1) := dk_27 (dk_at dksX0_mergedValue_0 4 rfl rfl)
theorem dX0_mergedValue_5 : decode cX0_mergedValue 5 = .ok (.iaload, 1) := dk_46 (dk_at dksX0_mergedValue_0 5 rfl rfl)
theorem dX0_mergedValue_6 : decode cX0_mergedValue 6 = .ok (.tableswitch 62 0 2 #[26, 29, 37], 26) := by decide +kernel
theorem dX0_mergedValue_32 : decode cX0_mergedValue 32 = .ok (.lload 6, 2) := dk_22 6 (dk_at dksX0_mergedValue_2 0 rfl rfl)
theorem dX0_mergedValue_34 : decode cX0_mergedValue 34 = .ok (.lreturn, 1) := dk_173 (dk_at dksX0_mergedValue_2 2 rfl rfl)
theorem dX0_mergedValue_35 : decode cX0_mergedValue 35 = .ok (.lload 4, 2) := dk_22 4 (dk_at dksX0_mergedValue_2 3 rfl rfl)
theorem dX0_mergedValue_37 : decode cX0_mergedValue 37 = .ok (.lload 6, 2) := dk_22 6 (dk_at dksX0_mergedValue_2 5 rfl rfl)
theorem dX0_mergedValue_39 : decode cX0_mergedValue 39 = .ok (.ladd, 1) := dk_97 (dk_at dksX0_mergedValue_2 7 rfl rfl)
theorem dX0_mergedValue_40 : decode cX0_mergedValue 40 = .ok (.lload_n 2, 1) := dk_32 (dk_at dksX0_mergedValue_2 8 rfl rfl)
theorem dX0_mergedValue_41 : decode cX0_mergedValue 41 = .ok (.lsub, 1) := dk_101 (dk_at dksX0_mergedValue_2 9 rfl rfl)
theorem dX0_mergedValue_42 : decode cX0_mergedValue 42 = .ok (.lreturn, 1) := dk_173 (dk_at dksX0_mergedValue_2 10 rfl rfl)
theorem dX0_mergedValue_43 : decode cX0_mergedValue 43 = .ok (.lload 4, 2) := dk_22 4 (dk_at dksX0_mergedValue_2 11 rfl rfl)
theorem dX0_mergedValue_45 : decode cX0_mergedValue 45 = .ok (.lload 6, 2) := dk_22 6 (dk_at dksX0_mergedValue_2 13 rfl rfl)
theorem dX0_mergedValue_47 : decode cX0_mergedValue 47 = .ok (.lload_n 2, 1) := dk_32 (dk_at dksX0_mergedValue_2 15 rfl rfl)
theorem dX0_mergedValue_48 : decode cX0_mergedValue 48 = .ok (.ldc2_w 189, 3) := dk_20 0 189 (dk_at dksX0_mergedValue_2 16 rfl rfl)
theorem dX0_mergedValue_51 : decode cX0_mergedValue 51 = .ok (.lxor, 1) := dk_131 (dk_at dksX0_mergedValue_2 19 rfl rfl)
theorem dX0_mergedValue_52 : decode cX0_mergedValue 52 = .ok (.land, 1) := dk_127 (dk_at dksX0_mergedValue_2 20 rfl rfl)
theorem dX0_mergedValue_53 : decode cX0_mergedValue 53 = .ok (.lor, 1) := dk_129 (dk_at dksX0_mergedValue_2 21 rfl rfl)
theorem dX0_mergedValue_54 : decode cX0_mergedValue 54 = .ok (.lload_n 2, 1) := dk_32 (dk_at dksX0_mergedValue_2 22 rfl rfl)
theorem dX0_mergedValue_55 : decode cX0_mergedValue 55 = .ok (.lload 6, 2) := dk_22 6 (dk_at dksX0_mergedValue_3 0 rfl rfl)
theorem dX0_mergedValue_57 : decode cX0_mergedValue 57 = .ok (.ldc2_w 189, 3) := dk_20 0 189 (dk_at dksX0_mergedValue_3 2 rfl rfl)
theorem dX0_mergedValue_60 : decode cX0_mergedValue 60 = .ok (.lxor, 1) := dk_131 (dk_at dksX0_mergedValue_3 5 rfl rfl)
theorem dX0_mergedValue_61 : decode cX0_mergedValue 61 = .ok (.land, 1) := dk_127 (dk_at dksX0_mergedValue_3 6 rfl rfl)
theorem dX0_mergedValue_62 : decode cX0_mergedValue 62 = .ok (.ldc2_w 189, 3) := dk_20 0 189 (dk_at dksX0_mergedValue_3 7 rfl rfl)
theorem dX0_mergedValue_65 : decode cX0_mergedValue 65 = .ok (.lxor, 1) := dk_131 (dk_at dksX0_mergedValue_3 10 rfl rfl)
theorem dX0_mergedValue_66 : decode cX0_mergedValue 66 = .ok (.land, 1) := dk_127 (dk_at dksX0_mergedValue_3 11 rfl rfl)
theorem dX0_mergedValue_67 : decode cX0_mergedValue 67 = .ok (.lreturn, 1) := dk_173 (dk_at dksX0_mergedValue_3 12 rfl rfl)
theorem dX0_mergedValue_68 : decode cX0_mergedValue 68 = .ok (.aload_n 0, 1) := dk_42 (dk_at dksX0_mergedValue_3 13 rfl rfl)
theorem dX0_mergedValue_69 : decode cX0_mergedValue 69 = .ok (.getfield 103, 3) := dk_180 0 103 (dk_at dksX0_mergedValue_3 14 rfl rfl)
theorem dX0_mergedValue_72 : decode cX0_mergedValue 72 = .ok (.aload_n 0, 1) := dk_42 (dk_at dksX0_mergedValue_3 17 rfl rfl)
theorem dX0_mergedValue_73 : decode cX0_mergedValue 73 = .ok (.getfield 106, 3) := dk_180 0 106 (dk_at dksX0_mergedValue_3 18 rfl rfl)
theorem dX0_mergedValue_76 : decode cX0_mergedValue 76 = .ok (.iload_n 1, 1) := dk_27 (dk_at dksX0_mergedValue_3 21 rfl rfl)
theorem dX0_mergedValue_77 : decode cX0_mergedValue 77 = .ok (.iaload, 1) := dk_46 (dk_at dksX0_mergedValue_3 22 rfl rfl)
theorem dX0_mergedValue_78 : decode cX0_mergedValue 78 = .ok (.iconst 3, 1) := dk_6 (dk_at dksX0_mergedValue_3 23 rfl rfl)
theorem dX0_mergedValue_79 : decode cX0_mergedValue 79 = .ok (.isub, 1) := dk_100 (dk_at dksX0_mergedValue_4 0 rfl rfl)
theorem dX0_mergedValue_80 : decode cX0_mergedValue 80 = .ok (.invokeinterface 149 2, 5) := by decide +kernel
theorem dX0_mergedValue_85 : decode cX0_mergedValue 85 = .ok (.checkcast 191, 3) := dk_192 0 191 (dk_at dksX0_mergedValue_4 6 rfl rfl)
theorem dX0_mergedValue_88 : decode cX0_mergedValue 88 = .ok (.lload_n 2, 1) := dk_32 (dk_at dksX0_mergedValue_4 9 rfl rfl)
theorem dX0_mergedValue_89 : decode cX0_mergedValue 89 = .ok (.lload 4, 2) := dk_22 4 (dk_at dksX0_mergedValue_4 10 rfl rfl)
theorem dX0_mergedValue_91 : decode cX0_mergedValue 91 = .ok (.lload 6, 2) := dk_22 6 (dk_at dksX0_mergedValue_4 12 rfl rfl)
theorem dX0_mergedValue_93 : decode cX0_mergedValue 93 = .ok (.invokevirtual 193, 3) := dk_182 0 193 (dk_at dksX0_mergedValue_4 14 rfl rfl)
theorem dX0_mergedValue_96 : decode cX0_mergedValue 96 = .ok (.lreturn, 1) := dk_173 (dk_at dksX0_mergedValue_4 17 rfl rfl)
def dkwX0_cell_0 : List UInt8 := [30, 9, 20, 0, 3, 184, 0, 5, 154, 0, 13, 187, 0, 9, 89, 16, 9, 183, 0, 11, 191, 30, 136, 172]
abbrev dktX0_cell_0 : List UInt8 := dkwX0_cell_0 ++ []
theorem dksX0_cell_0 : cX0_cell.data.toList.drop 0 = dktX0_cell_0 := by decide +kernel
theorem dX0_cell_0 : decode cX0_cell 0 = .ok (.lload_n 0, 1) := dk_30 (dk_at dksX0_cell_0 0 rfl rfl)
theorem dX0_cell_1 : decode cX0_cell 1 = .ok (.lconst 0, 1) := dk_9 (dk_at dksX0_cell_0 1 rfl rfl)
theorem dX0_cell_2 : decode cX0_cell 2 = .ok (.ldc2_w 3, 3) := dk_20 0 3 (dk_at dksX0_cell_0 2 rfl rfl)
theorem dX0_cell_5 : decode cX0_cell 5 = .ok (.invokestatic 5, 3) := dk_184 0 5 (dk_at dksX0_cell_0 5 rfl rfl)
theorem dX0_cell_8 : decode cX0_cell 8 = .ok (.ifCond .ne 13, 3) := dk_154 0 13 (dk_at dksX0_cell_0 8 rfl rfl)
theorem dX0_cell_11 : decode cX0_cell 11 = .ok (.new 9, 3) := dk_187 0 9 (dk_at dksX0_cell_0 11 rfl rfl)
theorem dX0_cell_14 : decode cX0_cell 14 = .ok (.dup, 1) := dk_89 (dk_at dksX0_cell_0 14 rfl rfl)
theorem dX0_cell_15 : decode cX0_cell 15 = .ok (.bipush 9, 2) := dk_16 9 (dk_at dksX0_cell_0 15 rfl rfl)
theorem dX0_cell_17 : decode cX0_cell 17 = .ok (.invokespecial 11, 3) := dk_183 0 11 (dk_at dksX0_cell_0 17 rfl rfl)
theorem dX0_cell_20 : decode cX0_cell 20 = .ok (.athrow, 1) := dk_191 (dk_at dksX0_cell_0 20 rfl rfl)
theorem dX0_cell_21 : decode cX0_cell 21 = .ok (.lload_n 0, 1) := dk_30 (dk_at dksX0_cell_0 21 rfl rfl)
theorem dX0_cell_22 : decode cX0_cell 22 = .ok (.l2i, 1) := dk_136 (dk_at dksX0_cell_0 22 rfl rfl)
theorem dX0_cell_23 : decode cX0_cell 23 = .ok (.ireturn, 1) := dk_172 (dk_at dksX0_cell_0 23 rfl rfl)
def dkwX0_ready_2 : List UInt8 := [132, 2, 255, 132, 3, 1, 167, 255, 208, 16, 252, 172]
abbrev dktX0_ready_2 : List UInt8 := dkwX0_ready_2 ++ []
def dkwX0_ready_1 : List UInt8 := [180, 0, 110, 29, 185, 0, 149, 2, 0, 192, 0, 143, 182, 1, 95, 153, 0, 12, 28, 154, 0, 5, 29, 172]
abbrev dktX0_ready_1 : List UInt8 := dkwX0_ready_1 ++ dktX0_ready_2
def dkwX0_ready_0 : List UInt8 := [27, 61, 3, 62, 29, 42, 180, 0, 110, 185, 0, 145, 1, 0, 162, 0, 41, 27, 155, 0, 37, 42]
abbrev dktX0_ready_0 : List UInt8 := dkwX0_ready_0 ++ dktX0_ready_1
theorem dksX0_ready_0 : cX0_ready.data.toList.drop 0 = dktX0_ready_0 := by decide +kernel
theorem dksX0_ready_1 : cX0_ready.data.toList.drop 22 = dktX0_ready_1 := dk_seg dksX0_ready_0 22 rfl rfl
theorem dksX0_ready_2 : cX0_ready.data.toList.drop 46 = dktX0_ready_2 := dk_seg dksX0_ready_1 24 rfl rfl
theorem dX0_ready_0 : decode cX0_ready 0 = .ok (.iload_n 1, 1) := dk_27 (dk_at dksX0_ready_0 0 rfl rfl)
theorem dX0_ready_1 : decode cX0_ready 1 = .ok (.istore_n 2, 1) := dk_61 (dk_at dksX0_ready_0 1 rfl rfl)
theorem dX0_ready_2 : decode cX0_ready 2 = .ok (.iconst 0, 1) := dk_3 (dk_at dksX0_ready_0 2 rfl rfl)
theorem dX0_ready_3 : decode cX0_ready 3 = .ok (.istore_n 3, 1) := dk_62 (dk_at dksX0_ready_0 3 rfl rfl)
theorem dX0_ready_4 : decode cX0_ready 4 = .ok (.iload_n 3, 1) := dk_29 (dk_at dksX0_ready_0 4 rfl rfl)
theorem dX0_ready_5 : decode cX0_ready 5 = .ok (.aload_n 0, 1) := dk_42 (dk_at dksX0_ready_0 5 rfl rfl)
theorem dX0_ready_6 : decode cX0_ready 6 = .ok (.getfield 110, 3) := dk_180 0 110 (dk_at dksX0_ready_0 6 rfl rfl)
theorem dX0_ready_9 : decode cX0_ready 9 = .ok (.invokeinterface 145 1, 5) := by decide +kernel
theorem dX0_ready_14 : decode cX0_ready 14 = .ok (.if_icmp .ge 41, 3) := dk_162 0 41 (dk_at dksX0_ready_0 14 rfl rfl)
theorem dX0_ready_17 : decode cX0_ready 17 = .ok (.iload_n 1, 1) := dk_27 (dk_at dksX0_ready_0 17 rfl rfl)
theorem dX0_ready_18 : decode cX0_ready 18 = .ok (.ifCond .lt 37, 3) := dk_155 0 37 (dk_at dksX0_ready_0 18 rfl rfl)
theorem dX0_ready_21 : decode cX0_ready 21 = .ok (.aload_n 0, 1) := dk_42 (dk_at dksX0_ready_0 21 rfl rfl)
theorem dX0_ready_22 : decode cX0_ready 22 = .ok (.getfield 110, 3) := dk_180 0 110 (dk_at dksX0_ready_1 0 rfl rfl)
theorem dX0_ready_25 : decode cX0_ready 25 = .ok (.iload_n 3, 1) := dk_29 (dk_at dksX0_ready_1 3 rfl rfl)
theorem dX0_ready_26 : decode cX0_ready 26 = .ok (.invokeinterface 149 2, 5) := by decide +kernel
theorem dX0_ready_31 : decode cX0_ready 31 = .ok (.checkcast 143, 3) := dk_192 0 143 (dk_at dksX0_ready_1 9 rfl rfl)
theorem dX0_ready_34 : decode cX0_ready 34 = .ok (.invokevirtual 351, 3) := dk_182 1 95 (dk_at dksX0_ready_1 12 rfl rfl)
theorem dX0_ready_37 : decode cX0_ready 37 = .ok (.ifCond .eq 12, 3) := dk_153 0 12 (dk_at dksX0_ready_1 15 rfl rfl)
theorem dX0_ready_40 : decode cX0_ready 40 = .ok (.iload_n 2, 1) := dk_28 (dk_at dksX0_ready_1 18 rfl rfl)
theorem dX0_ready_41 : decode cX0_ready 41 = .ok (.ifCond .ne 5, 3) := dk_154 0 5 (dk_at dksX0_ready_1 19 rfl rfl)
theorem dX0_ready_44 : decode cX0_ready 44 = .ok (.iload_n 3, 1) := dk_29 (dk_at dksX0_ready_1 22 rfl rfl)
theorem dX0_ready_45 : decode cX0_ready 45 = .ok (.ireturn, 1) := dk_172 (dk_at dksX0_ready_1 23 rfl rfl)
theorem dX0_ready_46 : decode cX0_ready 46 = .ok (.iinc 2 (-1), 3) := dk_132 2 255 (dk_at dksX0_ready_2 0 rfl rfl)
theorem dX0_ready_49 : decode cX0_ready 49 = .ok (.iinc 3 1, 3) := dk_132 3 1 (dk_at dksX0_ready_2 3 rfl rfl)
theorem dX0_ready_52 : decode cX0_ready 52 = .ok (.goto (-48), 3) := dk_167 255 208 (dk_at dksX0_ready_2 6 rfl rfl)
theorem dX0_ready_55 : decode cX0_ready 55 = .ok (.bipush (-4), 2) := dk_16 252 (dk_at dksX0_ready_2 9 rfl rfl)
theorem dX0_ready_57 : decode cX0_ready 57 = .ok (.ireturn, 1) := dk_172 (dk_at dksX0_ready_2 11 rfl rfl)
def dkwX0_deep_3 : List UInt8 := [167, 255, 216, 28, 172]
abbrev dktX0_deep_3 : List UInt8 := dkwX0_deep_3 ++ []
def dkwX0_deep_2 : List UInt8 := [100, 182, 1, 109, 185, 0, 149, 2, 0, 192, 0, 143, 182, 1, 98, 132, 2, 1, 42, 182, 1, 106, 62]
abbrev dktX0_deep_2 : List UInt8 := dkwX0_deep_2 ++ dktX0_deep_3
def dkwX0_deep_1 : List UInt8 := [3, 61, 42, 182, 1, 106, 62, 28, 27, 162, 0, 41, 29, 158, 0, 37, 42, 42, 180, 0, 110, 42, 29, 4]
abbrev dktX0_deep_1 : List UInt8 := dkwX0_deep_1 ++ dktX0_deep_2
def dkwX0_deep_0 : List UInt8 := [27, 133, 10, 20, 1, 104, 184, 0, 5, 154, 0, 5, 2, 172, 42, 180, 1, 27, 154, 0, 6, 16, 254, 172]
abbrev dktX0_deep_0 : List UInt8 := dkwX0_deep_0 ++ dktX0_deep_1
theorem dksX0_deep_0 : cX0_deep.data.toList.drop 0 = dktX0_deep_0 := by decide +kernel
theorem dksX0_deep_1 : cX0_deep.data.toList.drop 24 = dktX0_deep_1 := dk_seg dksX0_deep_0 24 rfl rfl
theorem dksX0_deep_2 : cX0_deep.data.toList.drop 48 = dktX0_deep_2 := dk_seg dksX0_deep_1 24 rfl rfl
theorem dksX0_deep_3 : cX0_deep.data.toList.drop 71 = dktX0_deep_3 := dk_seg dksX0_deep_2 23 rfl rfl
theorem dX0_deep_0 : decode cX0_deep 0 = .ok (.iload_n 1, 1) := dk_27 (dk_at dksX0_deep_0 0 rfl rfl)
theorem dX0_deep_1 : decode cX0_deep 1 = .ok (.i2l, 1) := dk_133 (dk_at dksX0_deep_0 1 rfl rfl)
theorem dX0_deep_2 : decode cX0_deep 2 = .ok (.lconst 1, 1) := dk_10 (dk_at dksX0_deep_0 2 rfl rfl)
theorem dX0_deep_3 : decode cX0_deep 3 = .ok (.ldc2_w 360, 3) := dk_20 1 104 (dk_at dksX0_deep_0 3 rfl rfl)
theorem dX0_deep_6 : decode cX0_deep 6 = .ok (.invokestatic 5, 3) := dk_184 0 5 (dk_at dksX0_deep_0 6 rfl rfl)
theorem dX0_deep_9 : decode cX0_deep 9 = .ok (.ifCond .ne 5, 3) := dk_154 0 5 (dk_at dksX0_deep_0 9 rfl rfl)
theorem dX0_deep_12 : decode cX0_deep 12 = .ok (.iconst (-1), 1) := dk_2 (dk_at dksX0_deep_0 12 rfl rfl)
theorem dX0_deep_13 : decode cX0_deep 13 = .ok (.ireturn, 1) := dk_172 (dk_at dksX0_deep_0 13 rfl rfl)
theorem dX0_deep_14 : decode cX0_deep 14 = .ok (.aload_n 0, 1) := dk_42 (dk_at dksX0_deep_0 14 rfl rfl)
theorem dX0_deep_15 : decode cX0_deep 15 = .ok (.getfield 283, 3) := dk_180 1 27 (dk_at dksX0_deep_0 15 rfl rfl)
theorem dX0_deep_18 : decode cX0_deep 18 = .ok (.ifCond .ne 6, 3) := dk_154 0 6 (dk_at dksX0_deep_0 18 rfl rfl)
theorem dX0_deep_21 : decode cX0_deep 21 = .ok (.bipush (-2), 2) := dk_16 254 (dk_at dksX0_deep_0 21 rfl rfl)
theorem dX0_deep_23 : decode cX0_deep 23 = .ok (.ireturn, 1) := dk_172 (dk_at dksX0_deep_0 23 rfl rfl)
theorem dX0_deep_24 : decode cX0_deep 24 = .ok (.iconst 0, 1) := dk_3 (dk_at dksX0_deep_1 0 rfl rfl)
theorem dX0_deep_25 : decode cX0_deep 25 = .ok (.istore_n 2, 1) := dk_61 (dk_at dksX0_deep_1 1 rfl rfl)
theorem dX0_deep_26 : decode cX0_deep 26 = .ok (.aload_n 0, 1) := dk_42 (dk_at dksX0_deep_1 2 rfl rfl)
theorem dX0_deep_27 : decode cX0_deep 27 = .ok (.invokevirtual 362, 3) := dk_182 1 106 (dk_at dksX0_deep_1 3 rfl rfl)
theorem dX0_deep_30 : decode cX0_deep 30 = .ok (.istore_n 3, 1) := dk_62 (dk_at dksX0_deep_1 6 rfl rfl)
theorem dX0_deep_31 : decode cX0_deep 31 = .ok (.iload_n 2, 1) := dk_28 (dk_at dksX0_deep_1 7 rfl rfl)
theorem dX0_deep_32 : decode cX0_deep 32 = .ok (.iload_n 1, 1) := dk_27 (dk_at dksX0_deep_1 8 rfl rfl)
theorem dX0_deep_33 : decode cX0_deep 33 = .ok (.if_icmp .ge 41, 3) := dk_162 0 41 (dk_at dksX0_deep_1 9 rfl rfl)
theorem dX0_deep_36 : decode cX0_deep 36 = .ok (.iload_n 3, 1) := dk_29 (dk_at dksX0_deep_1 12 rfl rfl)
theorem dX0_deep_37 : decode cX0_deep 37 = .ok (.ifCond .le 37, 3) := dk_158 0 37 (dk_at dksX0_deep_1 13 rfl rfl)
theorem dX0_deep_40 : decode cX0_deep 40 = .ok (.aload_n 0, 1) := dk_42 (dk_at dksX0_deep_1 16 rfl rfl)
theorem dX0_deep_41 : decode cX0_deep 41 = .ok (.aload_n 0, 1) := dk_42 (dk_at dksX0_deep_1 17 rfl rfl)
theorem dX0_deep_42 : decode cX0_deep 42 = .ok (.getfield 110, 3) := dk_180 0 110 (dk_at dksX0_deep_1 18 rfl rfl)
theorem dX0_deep_45 : decode cX0_deep 45 = .ok (.aload_n 0, 1) := dk_42 (dk_at dksX0_deep_1 21 rfl rfl)
theorem dX0_deep_46 : decode cX0_deep 46 = .ok (.iload_n 3, 1) := dk_29 (dk_at dksX0_deep_1 22 rfl rfl)
theorem dX0_deep_47 : decode cX0_deep 47 = .ok (.iconst 1, 1) := dk_4 (dk_at dksX0_deep_1 23 rfl rfl)
theorem dX0_deep_48 : decode cX0_deep 48 = .ok (.isub, 1) := dk_100 (dk_at dksX0_deep_2 0 rfl rfl)
theorem dX0_deep_49 : decode cX0_deep 49 = .ok (.invokevirtual 365, 3) := dk_182 1 109 (dk_at dksX0_deep_2 1 rfl rfl)
theorem dX0_deep_52 : decode cX0_deep 52 = .ok (.invokeinterface 149 2, 5) := by decide +kernel
theorem dX0_deep_57 : decode cX0_deep 57 = .ok (.checkcast 143, 3) := dk_192 0 143 (dk_at dksX0_deep_2 9 rfl rfl)
theorem dX0_deep_60 : decode cX0_deep 60 = .ok (.invokevirtual 354, 3) := dk_182 1 98 (dk_at dksX0_deep_2 12 rfl rfl)
theorem dX0_deep_63 : decode cX0_deep 63 = .ok (.iinc 2 1, 3) := dk_132 2 1 (dk_at dksX0_deep_2 15 rfl rfl)
theorem dX0_deep_66 : decode cX0_deep 66 = .ok (.aload_n 0, 1) := dk_42 (dk_at dksX0_deep_2 18 rfl rfl)
theorem dX0_deep_67 : decode cX0_deep 67 = .ok (.invokevirtual 362, 3) := dk_182 1 106 (dk_at dksX0_deep_2 19 rfl rfl)
theorem dX0_deep_70 : decode cX0_deep 70 = .ok (.istore_n 3, 1) := dk_62 (dk_at dksX0_deep_2 22 rfl rfl)
theorem dX0_deep_71 : decode cX0_deep 71 = .ok (.goto (-40), 3) := dk_167 255 216 (dk_at dksX0_deep_3 0 rfl rfl)
theorem dX0_deep_74 : decode cX0_deep 74 = .ok (.iload_n 2, 1) := dk_28 (dk_at dksX0_deep_3 3 rfl rfl)
theorem dX0_deep_75 : decode cX0_deep 75 = .ok (.ireturn, 1) := dk_172 (dk_at dksX0_deep_3 4 rfl rfl)
def dkwX0_readyMany_2 : List UInt8 := [167, 255, 213, 27, 172]
abbrev dktX0_readyMany_2 : List UInt8 := dkwX0_readyMany_2 ++ []
def dkwX0_readyMany_1 : List UInt8 := [185, 0, 149, 2, 0, 192, 0, 143, 182, 1, 95, 153, 0, 7, 4, 167, 0, 4, 3, 96, 60, 132, 2, 1]
abbrev dktX0_readyMany_1 : List UInt8 := dkwX0_readyMany_1 ++ dktX0_readyMany_2
def dkwX0_readyMany_0 : List UInt8 := [3, 60, 3, 61, 28, 42, 180, 0, 110, 185, 0, 145, 1, 0, 162, 0, 36, 27, 42, 180, 0, 110, 28]
abbrev dktX0_readyMany_0 : List UInt8 := dkwX0_readyMany_0 ++ dktX0_readyMany_1
theorem dksX0_readyMany_0 : cX0_readyMany.data.toList.drop 0 = dktX0_readyMany_0 := by decide +kernel
theorem dksX0_readyMany_1 : cX0_readyMany.data.toList.drop 23 = dktX0_readyMany_1 := dk_seg dksX0_readyMany_0 23 rfl rfl
theorem dksX0_readyMany_2 : cX0_readyMany.data.toList.drop 47 = dktX0_readyMany_2 := dk_seg dksX0_readyMany_1 24 rfl rfl
theorem dX0_readyMany_0 : decode cX0_readyMany 0 = .ok (.iconst 0, 1) := dk_3 (dk_at dksX0_readyMany_0 0 rfl rfl)
theorem dX0_readyMany_1 : decode cX0_readyMany 1 = .ok (.istore_n 1, 1) := dk_60 (dk_at dksX0_readyMany_0 1 rfl rfl)
theorem dX0_readyMany_2 : decode cX0_readyMany 2 = .ok (.iconst 0, 1) := dk_3 (dk_at dksX0_readyMany_0 2 rfl rfl)
theorem dX0_readyMany_3 : decode cX0_readyMany 3 = .ok (.istore_n 2, 1) := dk_61 (dk_at dksX0_readyMany_0 3 rfl rfl)
theorem dX0_readyMany_4 : decode cX0_readyMany 4 = .ok (.iload_n 2, 1) := dk_28 (dk_at dksX0_readyMany_0 4 rfl rfl)
theorem dX0_readyMany_5 : decode cX0_readyMany 5 = .ok (.aload_n 0, 1) := dk_42 (dk_at dksX0_readyMany_0 5 rfl rfl)
theorem dX0_readyMany_6 : decode cX0_readyMany 6 = .ok (.getfield 110, 3) := dk_180 0 110 (dk_at dksX0_readyMany_0 6 rfl rfl)
theorem dX0_readyMany_9 : decode cX0_readyMany 9 = .ok (.invokeinterface 145 1, 5) := by decide +kernel
theorem dX0_readyMany_14 : decode cX0_readyMany 14 = .ok (.if_icmp .ge 36, 3) := dk_162 0 36 (dk_at dksX0_readyMany_0 14 rfl rfl)
theorem dX0_readyMany_17 : decode cX0_readyMany 17 = .ok (.iload_n 1, 1) := dk_27 (dk_at dksX0_readyMany_0 17 rfl rfl)
theorem dX0_readyMany_18 : decode cX0_readyMany 18 = .ok (.aload_n 0, 1) := dk_42 (dk_at dksX0_readyMany_0 18 rfl rfl)
theorem dX0_readyMany_19 : decode cX0_readyMany 19 = .ok (.getfield 110, 3) := dk_180 0 110 (dk_at dksX0_readyMany_0 19 rfl rfl)
theorem dX0_readyMany_22 : decode cX0_readyMany 22 = .ok (.iload_n 2, 1) := dk_28 (dk_at dksX0_readyMany_0 22 rfl rfl)
theorem dX0_readyMany_23 : decode cX0_readyMany 23 = .ok (.invokeinterface 149 2, 5) := by decide +kernel
theorem dX0_readyMany_28 : decode cX0_readyMany 28 = .ok (.checkcast 143, 3) := dk_192 0 143 (dk_at dksX0_readyMany_1 5 rfl rfl)
theorem dX0_readyMany_31 : decode cX0_readyMany 31 = .ok (.invokevirtual 351, 3) := dk_182 1 95 (dk_at dksX0_readyMany_1 8 rfl rfl)
theorem dX0_readyMany_34 : decode cX0_readyMany 34 = .ok (.ifCond .eq 7, 3) := dk_153 0 7 (dk_at dksX0_readyMany_1 11 rfl rfl)
theorem dX0_readyMany_37 : decode cX0_readyMany 37 = .ok (.iconst 1, 1) := dk_4 (dk_at dksX0_readyMany_1 14 rfl rfl)
theorem dX0_readyMany_38 : decode cX0_readyMany 38 = .ok (.goto 4, 3) := dk_167 0 4 (dk_at dksX0_readyMany_1 15 rfl rfl)
theorem dX0_readyMany_41 : decode cX0_readyMany 41 = .ok (.iconst 0, 1) := dk_3 (dk_at dksX0_readyMany_1 18 rfl rfl)
theorem dX0_readyMany_42 : decode cX0_readyMany 42 = .ok (.iadd, 1) := dk_96 (dk_at dksX0_readyMany_1 19 rfl rfl)
theorem dX0_readyMany_43 : decode cX0_readyMany 43 = .ok (.istore_n 1, 1) := dk_60 (dk_at dksX0_readyMany_1 20 rfl rfl)
theorem dX0_readyMany_44 : decode cX0_readyMany 44 = .ok (.iinc 2 1, 3) := dk_132 2 1 (dk_at dksX0_readyMany_1 21 rfl rfl)
theorem dX0_readyMany_47 : decode cX0_readyMany 47 = .ok (.goto (-43), 3) := dk_167 255 213 (dk_at dksX0_readyMany_2 0 rfl rfl)
theorem dX0_readyMany_50 : decode cX0_readyMany 50 = .ok (.iload_n 1, 1) := dk_27 (dk_at dksX0_readyMany_2 3 rfl rfl)
theorem dX0_readyMany_51 : decode cX0_readyMany 51 = .ok (.ireturn, 1) := dk_172 (dk_at dksX0_readyMany_2 4 rfl rfl)
def dkwX0_drawn_4 : List UInt8 := [132, 3, 1, 42, 182, 1, 106, 54, 5, 167, 255, 192, 29, 172]
abbrev dktX0_drawn_4 : List UInt8 := dkwX0_drawn_4 ++ []
def dkwX0_drawn_3 : List UInt8 := [42, 21, 4, 19, 1, 117, 108, 21, 5, 112, 182, 1, 109, 185, 0, 149, 2, 0, 192, 0, 143, 182, 1, 98]
abbrev dktX0_drawn_3 : List UInt8 := dkwX0_drawn_3 ++ dktX0_drawn_4
def dkwX0_drawn_2 : List UInt8 := [158, 0, 60, 21, 4, 19, 1, 113, 104, 17, 48, 57, 96, 19, 1, 116, 126, 54, 4, 42, 42, 180, 0, 110]
abbrev dktX0_drawn_2 : List UInt8 := dkwX0_drawn_2 ++ dktX0_drawn_3
def dkwX0_drawn_1 : List UInt8 := [154, 0, 6, 16, 254, 172, 3, 62, 27, 54, 4, 42, 182, 1, 106, 54, 5, 29, 28, 162, 0, 65, 21, 5]
abbrev dktX0_drawn_1 : List UInt8 := dkwX0_drawn_1 ++ dktX0_drawn_2
def dkwX0_drawn_0 : List UInt8 := [27, 155, 0, 15, 28, 133, 10, 20, 1, 104, 184, 0, 5, 154, 0, 5, 2, 172, 42, 180, 1, 27]
abbrev dktX0_drawn_0 : List UInt8 := dkwX0_drawn_0 ++ dktX0_drawn_1
theorem dksX0_drawn_0 : cX0_drawn.data.toList.drop 0 = dktX0_drawn_0 := by decide +kernel
theorem dksX0_drawn_1 : cX0_drawn.data.toList.drop 22 = dktX0_drawn_1 := dk_seg dksX0_drawn_0 22 rfl rfl
theorem dksX0_drawn_2 : cX0_drawn.data.toList.drop 46 = dktX0_drawn_2 := dk_seg dksX0_drawn_1 24 rfl rfl
theorem dksX0_drawn_3 : cX0_drawn.data.toList.drop 70 = dktX0_drawn_3 := dk_seg dksX0_drawn_2 24 rfl rfl
theorem dksX0_drawn_4 : cX0_drawn.data.toList.drop 94 = dktX0_drawn_4 := dk_seg dksX0_drawn_3 24 rfl rfl
theorem dX0_drawn_0 : decode cX0_drawn 0 = .ok (.iload_n 1, 1) := dk_27 (dk_at dksX0_drawn_0 0 rfl rfl)
theorem dX0_drawn_1 : decode cX0_drawn 1 = .ok (.ifCond .lt 15, 3) := dk_155 0 15 (dk_at dksX0_drawn_0 1 rfl rfl)
theorem dX0_drawn_4 : decode cX0_drawn 4 = .ok (.iload_n 2, 1) := dk_28 (dk_at dksX0_drawn_0 4 rfl rfl)
theorem dX0_drawn_5 : decode cX0_drawn 5 = .ok (.i2l, 1) := dk_133 (dk_at dksX0_drawn_0 5 rfl rfl)
theorem dX0_drawn_6 : decode cX0_drawn 6 = .ok (.lconst 1, 1) := dk_10 (dk_at dksX0_drawn_0 6 rfl rfl)
theorem dX0_drawn_7 : decode cX0_drawn 7 = .ok (.ldc2_w 360, 3) := dk_20 1 104 (dk_at dksX0_drawn_0 7 rfl rfl)
theorem dX0_drawn_10 : decode cX0_drawn 10 = .ok (.invokestatic 5, 3) := dk_184 0 5 (dk_at dksX0_drawn_0 10 rfl rfl)
theorem dX0_drawn_13 : decode cX0_drawn 13 = .ok (.ifCond .ne 5, 3) := dk_154 0 5 (dk_at dksX0_drawn_0 13 rfl rfl)
theorem dX0_drawn_16 : decode cX0_drawn 16 = .ok (.iconst (-1), 1) := dk_2 (dk_at dksX0_drawn_0 16 rfl rfl)
theorem dX0_drawn_17 : decode cX0_drawn 17 = .ok (.ireturn, 1) := dk_172 (dk_at dksX0_drawn_0 17 rfl rfl)
theorem dX0_drawn_18 : decode cX0_drawn 18 = .ok (.aload_n 0, 1) := dk_42 (dk_at dksX0_drawn_0 18 rfl rfl)
theorem dX0_drawn_19 : decode cX0_drawn 19 = .ok (.getfield 283, 3) := dk_180 1 27 (dk_at dksX0_drawn_0 19 rfl rfl)
theorem dX0_drawn_22 : decode cX0_drawn 22 = .ok (.ifCond .ne 6, 3) := dk_154 0 6 (dk_at dksX0_drawn_1 0 rfl rfl)
theorem dX0_drawn_25 : decode cX0_drawn 25 = .ok (.bipush (-2), 2) := dk_16 254 (dk_at dksX0_drawn_1 3 rfl rfl)
theorem dX0_drawn_27 : decode cX0_drawn 27 = .ok (.ireturn, 1) := dk_172 (dk_at dksX0_drawn_1 5 rfl rfl)
theorem dX0_drawn_28 : decode cX0_drawn 28 = .ok (.iconst 0, 1) := dk_3 (dk_at dksX0_drawn_1 6 rfl rfl)
theorem dX0_drawn_29 : decode cX0_drawn 29 = .ok (.istore_n 3, 1) := dk_62 (dk_at dksX0_drawn_1 7 rfl rfl)
theorem dX0_drawn_30 : decode cX0_drawn 30 = .ok (.iload_n 1, 1) := dk_27 (dk_at dksX0_drawn_1 8 rfl rfl)
theorem dX0_drawn_31 : decode cX0_drawn 31 = .ok (.istore 4, 2) := dk_54 4 (dk_at dksX0_drawn_1 9 rfl rfl)
theorem dX0_drawn_33 : decode cX0_drawn 33 = .ok (.aload_n 0, 1) := dk_42 (dk_at dksX0_drawn_1 11 rfl rfl)
theorem dX0_drawn_34 : decode cX0_drawn 34 = .ok (.invokevirtual 362, 3) := dk_182 1 106 (dk_at dksX0_drawn_1 12 rfl rfl)
theorem dX0_drawn_37 : decode cX0_drawn 37 = .ok (.istore 5, 2) := dk_54 5 (dk_at dksX0_drawn_1 15 rfl rfl)
theorem dX0_drawn_39 : decode cX0_drawn 39 = .ok (.iload_n 3, 1) := dk_29 (dk_at dksX0_drawn_1 17 rfl rfl)
theorem dX0_drawn_40 : decode cX0_drawn 40 = .ok (.iload_n 2, 1) := dk_28 (dk_at dksX0_drawn_1 18 rfl rfl)
theorem dX0_drawn_41 : decode cX0_drawn 41 = .ok (.if_icmp .ge 65, 3) := dk_162 0 65 (dk_at dksX0_drawn_1 19 rfl rfl)
theorem dX0_drawn_44 : decode cX0_drawn 44 = .ok (.iload 5, 2) := dk_21 5 (dk_at dksX0_drawn_1 22 rfl rfl)
theorem dX0_drawn_46 : decode cX0_drawn 46 = .ok (.ifCond .le 60, 3) := dk_158 0 60 (dk_at dksX0_drawn_2 0 rfl rfl)
theorem dX0_drawn_49 : decode cX0_drawn 49 = .ok (.iload 4, 2) := dk_21 4 (dk_at dksX0_drawn_2 3 rfl rfl)
theorem dX0_drawn_51 : decode cX0_drawn 51 = .ok (.ldc_w 369, 3) := dk_19 1 113 (dk_at dksX0_drawn_2 5 rfl rfl)
theorem dX0_drawn_54 : decode cX0_drawn 54 = .ok (.imul, 1) := dk_104 (dk_at dksX0_drawn_2 8 rfl rfl)
theorem dX0_drawn_55 : decode cX0_drawn 55 = .ok (.sipush 12345, 3) := dk_17 48 57 (dk_at dksX0_drawn_2 9 rfl rfl)
theorem dX0_drawn_58 : decode cX0_drawn 58 = .ok (.iadd, 1) := dk_96 (dk_at dksX0_drawn_2 12 rfl rfl)
theorem dX0_drawn_59 : decode cX0_drawn 59 = .ok (.ldc_w 372, 3) := dk_19 1 116 (dk_at dksX0_drawn_2 13 rfl rfl)
theorem dX0_drawn_62 : decode cX0_drawn 62 = .ok (.iand, 1) := dk_126 (dk_at dksX0_drawn_2 16 rfl rfl)
theorem dX0_drawn_63 : decode cX0_drawn 63 = .ok (.istore 4, 2) := dk_54 4 (dk_at dksX0_drawn_2 17 rfl rfl)
theorem dX0_drawn_65 : decode cX0_drawn 65 = .ok (.aload_n 0, 1) := dk_42 (dk_at dksX0_drawn_2 19 rfl rfl)
theorem dX0_drawn_66 : decode cX0_drawn 66 = .ok (.aload_n 0, 1) := dk_42 (dk_at dksX0_drawn_2 20 rfl rfl)
theorem dX0_drawn_67 : decode cX0_drawn 67 = .ok (.getfield 110, 3) := dk_180 0 110 (dk_at dksX0_drawn_2 21 rfl rfl)
theorem dX0_drawn_70 : decode cX0_drawn 70 = .ok (.aload_n 0, 1) := dk_42 (dk_at dksX0_drawn_3 0 rfl rfl)
theorem dX0_drawn_71 : decode cX0_drawn 71 = .ok (.iload 4, 2) := dk_21 4 (dk_at dksX0_drawn_3 1 rfl rfl)
theorem dX0_drawn_73 : decode cX0_drawn 73 = .ok (.ldc_w 373, 3) := dk_19 1 117 (dk_at dksX0_drawn_3 3 rfl rfl)
theorem dX0_drawn_76 : decode cX0_drawn 76 = .ok (.idiv, 1) := dk_108 (dk_at dksX0_drawn_3 6 rfl rfl)
theorem dX0_drawn_77 : decode cX0_drawn 77 = .ok (.iload 5, 2) := dk_21 5 (dk_at dksX0_drawn_3 7 rfl rfl)
theorem dX0_drawn_79 : decode cX0_drawn 79 = .ok (.irem, 1) := dk_112 (dk_at dksX0_drawn_3 9 rfl rfl)
theorem dX0_drawn_80 : decode cX0_drawn 80 = .ok (.invokevirtual 365, 3) := dk_182 1 109 (dk_at dksX0_drawn_3 10 rfl rfl)
theorem dX0_drawn_83 : decode cX0_drawn 83 = .ok (.invokeinterface 149 2, 5) := by decide +kernel
theorem dX0_drawn_88 : decode cX0_drawn 88 = .ok (.checkcast 143, 3) := dk_192 0 143 (dk_at dksX0_drawn_3 18 rfl rfl)
theorem dX0_drawn_91 : decode cX0_drawn 91 = .ok (.invokevirtual 354, 3) := dk_182 1 98 (dk_at dksX0_drawn_3 21 rfl rfl)
theorem dX0_drawn_94 : decode cX0_drawn 94 = .ok (.iinc 3 1, 3) := dk_132 3 1 (dk_at dksX0_drawn_4 0 rfl rfl)
theorem dX0_drawn_97 : decode cX0_drawn 97 = .ok (.aload_n 0, 1) := dk_42 (dk_at dksX0_drawn_4 3 rfl rfl)
theorem dX0_drawn_98 : decode cX0_drawn 98 = .ok (.invokevirtual 362, 3) := dk_182 1 106 (dk_at dksX0_drawn_4 4 rfl rfl)
theorem dX0_drawn_101 : decode cX0_drawn 101 = .ok (.istore 5, 2) := dk_54 5 (dk_at dksX0_drawn_4 7 rfl rfl)
theorem dX0_drawn_103 : decode cX0_drawn 103 = .ok (.goto (-64), 3) := dk_167 255 192 (dk_at dksX0_drawn_4 9 rfl rfl)
theorem dX0_drawn_106 : decode cX0_drawn 106 = .ok (.iload_n 3, 1) := dk_29 (dk_at dksX0_drawn_4 12 rfl rfl)
theorem dX0_drawn_107 : decode cX0_drawn 107 = .ok (.ireturn, 1) := dk_172 (dk_at dksX0_drawn_4 13 rfl rfl)
def dkwX0_about_1 : List UInt8 := [28, 182, 1, 141, 167, 0, 4, 2, 172]
abbrev dktX0_about_1 : List UInt8 := dkwX0_about_1 ++ []
def dkwX0_about_0 : List UInt8 := [42, 27, 182, 1, 89, 78, 45, 198, 0, 24, 28, 133, 9, 20, 1, 139, 184, 0, 5, 153, 0, 12, 42, 45]
abbrev dktX0_about_0 : List UInt8 := dkwX0_about_0 ++ dktX0_about_1
theorem dksX0_about_0 : cX0_about.data.toList.drop 0 = dktX0_about_0 := by decide +kernel
theorem dksX0_about_1 : cX0_about.data.toList.drop 24 = dktX0_about_1 := dk_seg dksX0_about_0 24 rfl rfl
theorem dX0_about_0 : decode cX0_about 0 = .ok (.aload_n 0, 1) := dk_42 (dk_at dksX0_about_0 0 rfl rfl)
theorem dX0_about_1 : decode cX0_about 1 = .ok (.iload_n 1, 1) := dk_27 (dk_at dksX0_about_0 1 rfl rfl)
theorem dX0_about_2 : decode cX0_about 2 = .ok (.invokevirtual 345, 3) := dk_182 1 89 (dk_at dksX0_about_0 2 rfl rfl)
theorem dX0_about_5 : decode cX0_about 5 = .ok (.astore_n 3, 1) := dk_78 (dk_at dksX0_about_0 5 rfl rfl)
theorem dX0_about_6 : decode cX0_about 6 = .ok (.aload_n 3, 1) := dk_45 (dk_at dksX0_about_0 6 rfl rfl)
theorem dX0_about_7 : decode cX0_about 7 = .ok (.ifnull 24, 3) := dk_198 0 24 (dk_at dksX0_about_0 7 rfl rfl)
theorem dX0_about_10 : decode cX0_about 10 = .ok (.iload_n 2, 1) := dk_28 (dk_at dksX0_about_0 10 rfl rfl)
theorem dX0_about_11 : decode cX0_about 11 = .ok (.i2l, 1) := dk_133 (dk_at dksX0_about_0 11 rfl rfl)
theorem dX0_about_12 : decode cX0_about 12 = .ok (.lconst 0, 1) := dk_9 (dk_at dksX0_about_0 12 rfl rfl)
theorem dX0_about_13 : decode cX0_about 13 = .ok (.ldc2_w 395, 3) := dk_20 1 139 (dk_at dksX0_about_0 13 rfl rfl)
theorem dX0_about_16 : decode cX0_about 16 = .ok (.invokestatic 5, 3) := dk_184 0 5 (dk_at dksX0_about_0 16 rfl rfl)
theorem dX0_about_19 : decode cX0_about 19 = .ok (.ifCond .eq 12, 3) := dk_153 0 12 (dk_at dksX0_about_0 19 rfl rfl)
theorem dX0_about_22 : decode cX0_about 22 = .ok (.aload_n 0, 1) := dk_42 (dk_at dksX0_about_0 22 rfl rfl)
theorem dX0_about_23 : decode cX0_about 23 = .ok (.aload_n 3, 1) := dk_45 (dk_at dksX0_about_0 23 rfl rfl)
theorem dX0_about_24 : decode cX0_about 24 = .ok (.iload_n 2, 1) := dk_28 (dk_at dksX0_about_1 0 rfl rfl)
theorem dX0_about_25 : decode cX0_about 25 = .ok (.invokevirtual 397, 3) := dk_182 1 141 (dk_at dksX0_about_1 1 rfl rfl)
theorem dX0_about_28 : decode cX0_about 28 = .ok (.goto 4, 3) := dk_167 0 4 (dk_at dksX0_about_1 4 rfl rfl)
theorem dX0_about_31 : decode cX0_about 31 = .ok (.iconst (-1), 1) := dk_2 (dk_at dksX0_about_1 7 rfl rfl)
theorem dX0_about_32 : decode cX0_about 32 = .ok (.ireturn, 1) := dk_172 (dk_at dksX0_about_1 8 rfl rfl)
def dkwX0_aboutOf_7 : List UInt8 := [180, 1, 138, 172]
abbrev dktX0_aboutOf_7 : List UInt8 := dkwX0_aboutOf_7 ++ []
def dkwX0_aboutOf_6 : List UInt8 := [180, 0, 177, 180, 1, 138, 172, 43, 180, 0, 229, 199, 0, 8, 16, 252, 167, 0, 10, 43, 180, 0, 229]
abbrev dktX0_aboutOf_6 : List UInt8 := dkwX0_aboutOf_6 ++ dktX0_aboutOf_7
def dkwX0_aboutOf_5 : List UInt8 := [167, 0, 10, 43, 182, 1, 134, 184, 1, 124, 172, 43, 180, 0, 197, 153, 0, 8, 16, 252, 167, 0, 10, 43]
abbrev dktX0_aboutOf_5 : List UInt8 := dkwX0_aboutOf_5 ++ dktX0_aboutOf_6
def dkwX0_aboutOf_4 : List UInt8 := [43, 180, 0, 253, 180, 1, 78, 172, 43, 180, 0, 201, 172, 43, 180, 0, 197, 153, 0, 8, 16, 252]
abbrev dktX0_aboutOf_4 : List UInt8 := dkwX0_aboutOf_4 ++ dktX0_aboutOf_5
def dkwX0_aboutOf_3 : List UInt8 := [180, 0, 226, 172, 43, 180, 1, 131, 172, 43, 180, 1, 72, 172, 43, 180, 0, 171, 172, 43, 180, 0, 174, 172]
abbrev dktX0_aboutOf_3 : List UInt8 := dkwX0_aboutOf_3 ++ dktX0_aboutOf_4
def dkwX0_aboutOf_2 : List UInt8 := [43, 182, 1, 101, 172, 43, 180, 1, 121, 184, 1, 124, 172, 43, 180, 1, 128, 172, 43, 180, 1, 75, 172, 43]
abbrev dktX0_aboutOf_2 : List UInt8 := dkwX0_aboutOf_2 ++ dktX0_aboutOf_3
def dkwX0_aboutOf_1 : List UInt8 := [170, 0, 0, 0, 0, 0, 168, 0, 0, 0, 0, 0, 0, 0, 12, 0, 0, 0, 67, 0, 0, 0, 72, 0, 0, 0, 80, 0, 0, 0, 85, 0, 0, 0, 90, 0, 0, 0, 95, 0, 0, 0, 100, 0, 0, 0, 105, 0, 0, 0, 110, 0, 0, 0, 115, 0, 0, 0, 123, 0, 0, 0, 128, 0, 0, 0, 148]
abbrev dktX0_aboutOf_1 : List UInt8 := dkwX0_aboutOf_1 ++ dktX0_aboutOf_2
def dkwX0_aboutOf_0 : List UInt8 := [28]
abbrev dktX0_aboutOf_0 : List UInt8 := dkwX0_aboutOf_0 ++ dktX0_aboutOf_1
theorem dksX0_aboutOf_0 : cX0_aboutOf.data.toList.drop 0 = dktX0_aboutOf_0 := by decide +kernel
theorem dksX0_aboutOf_1 : cX0_aboutOf.data.toList.drop 1 = dktX0_aboutOf_1 := dk_seg dksX0_aboutOf_0 1 rfl rfl
theorem dksX0_aboutOf_2 : cX0_aboutOf.data.toList.drop 68 = dktX0_aboutOf_2 := dk_seg dksX0_aboutOf_1 67 rfl rfl
theorem dksX0_aboutOf_3 : cX0_aboutOf.data.toList.drop 92 = dktX0_aboutOf_3 := dk_seg dksX0_aboutOf_2 24 rfl rfl
theorem dksX0_aboutOf_4 : cX0_aboutOf.data.toList.drop 116 = dktX0_aboutOf_4 := dk_seg dksX0_aboutOf_3 24 rfl rfl
theorem dksX0_aboutOf_5 : cX0_aboutOf.data.toList.drop 138 = dktX0_aboutOf_5 := dk_seg dksX0_aboutOf_4 22 rfl rfl
theorem dksX0_aboutOf_6 : cX0_aboutOf.data.toList.drop 162 = dktX0_aboutOf_6 := dk_seg dksX0_aboutOf_5 24 rfl rfl
theorem dksX0_aboutOf_7 : cX0_aboutOf.data.toList.drop 185 = dktX0_aboutOf_7 := dk_seg dksX0_aboutOf_6 23 rfl rfl
theorem dX0_aboutOf_0 : decode cX0_aboutOf 0 = .ok (.iload_n 2, 1) := dk_28 (dk_at dksX0_aboutOf_0 0 rfl rfl)
theorem dX0_aboutOf_1 : decode cX0_aboutOf 1 = .ok (.tableswitch 168 0 12 #[67, 72, 80, 85, 90, 95, 100, 105, 110, 115, 123, 128, 148], 67) := by decide +kernel
theorem dX0_aboutOf_68 : decode cX0_aboutOf 68 = .ok (.aload_n 1, 1) := dk_43 (dk_at dksX0_aboutOf_2 0 rfl rfl)
theorem dX0_aboutOf_69 : decode cX0_aboutOf 69 = .ok (.invokevirtual 357, 3) := dk_182 1 101 (dk_at dksX0_aboutOf_2 1 rfl rfl)
theorem dX0_aboutOf_72 : decode cX0_aboutOf 72 = .ok (.ireturn, 1) := dk_172 (dk_at dksX0_aboutOf_2 4 rfl rfl)
theorem dX0_aboutOf_73 : decode cX0_aboutOf 73 = .ok (.aload_n 1, 1) := dk_43 (dk_at dksX0_aboutOf_2 5 rfl rfl)
theorem dX0_aboutOf_74 : decode cX0_aboutOf 74 = .ok (.getfield 377, 3) := dk_180 1 121 (dk_at dksX0_aboutOf_2 6 rfl rfl)
theorem dX0_aboutOf_77 : decode cX0_aboutOf 77 = .ok (.invokestatic 380, 3) := dk_184 1 124 (dk_at dksX0_aboutOf_2 9 rfl rfl)
theorem dX0_aboutOf_80 : decode cX0_aboutOf 80 = .ok (.ireturn, 1) := dk_172 (dk_at dksX0_aboutOf_2 12 rfl rfl)
theorem dX0_aboutOf_81 : decode cX0_aboutOf 81 = .ok (.aload_n 1, 1) := dk_43 (dk_at dksX0_aboutOf_2 13 rfl rfl)
theorem dX0_aboutOf_82 : decode cX0_aboutOf 82 = .ok (.getfield 384, 3) := dk_180 1 128 (dk_at dksX0_aboutOf_2 14 rfl rfl)
theorem dX0_aboutOf_85 : decode cX0_aboutOf 85 = .ok (.ireturn, 1) := dk_172 (dk_at dksX0_aboutOf_2 17 rfl rfl)
theorem dX0_aboutOf_86 : decode cX0_aboutOf 86 = .ok (.aload_n 1, 1) := dk_43 (dk_at dksX0_aboutOf_2 18 rfl rfl)
theorem dX0_aboutOf_87 : decode cX0_aboutOf 87 = .ok (.getfield 331, 3) := dk_180 1 75 (dk_at dksX0_aboutOf_2 19 rfl rfl)
theorem dX0_aboutOf_90 : decode cX0_aboutOf 90 = .ok (.ireturn, 1) := dk_172 (dk_at dksX0_aboutOf_2 22 rfl rfl)
theorem dX0_aboutOf_91 : decode cX0_aboutOf 91 = .ok (.aload_n 1, 1) := dk_43 (dk_at dksX0_aboutOf_2 23 rfl rfl)
theorem dX0_aboutOf_92 : decode cX0_aboutOf 92 = .ok (.getfield 226, 3) := dk_180 0 226 (dk_at dksX0_aboutOf_3 0 rfl rfl)
theorem dX0_aboutOf_95 : decode cX0_aboutOf 95 = .ok (.ireturn, 1) := dk_172 (dk_at dksX0_aboutOf_3 3 rfl rfl)
theorem dX0_aboutOf_96 : decode cX0_aboutOf 96 = .ok (.aload_n 1, 1) := dk_43 (dk_at dksX0_aboutOf_3 4 rfl rfl)
theorem dX0_aboutOf_97 : decode cX0_aboutOf 97 = .ok (.getfield 387, 3) := dk_180 1 131 (dk_at dksX0_aboutOf_3 5 rfl rfl)
theorem dX0_aboutOf_100 : decode cX0_aboutOf 100 = .ok (.ireturn, 1) := dk_172 (dk_at dksX0_aboutOf_3 8 rfl rfl)
theorem dX0_aboutOf_101 : decode cX0_aboutOf 101 = .ok (.aload_n 1, 1) := dk_43 (dk_at dksX0_aboutOf_3 9 rfl rfl)
theorem dX0_aboutOf_102 : decode cX0_aboutOf 102 = .ok (.getfield 328, 3) := dk_180 1 72 (dk_at dksX0_aboutOf_3 10 rfl rfl)
theorem dX0_aboutOf_105 : decode cX0_aboutOf 105 = .ok (.ireturn, 1) := dk_172 (dk_at dksX0_aboutOf_3 13 rfl rfl)
theorem dX0_aboutOf_106 : decode cX0_aboutOf 106 = .ok (.aload_n 1, 1) := dk_43 (dk_at dksX0_aboutOf_3 14 rfl rfl)
theorem dX0_aboutOf_107 : decode cX0_aboutOf 107 = .ok (.getfield 171, 3) := dk_180 0 171 (dk_at dksX0_aboutOf_3 15 rfl rfl)
theorem dX0_aboutOf_110 : decode cX0_aboutOf 110 = .ok (.ireturn, 1) := dk_172 (dk_at dksX0_aboutOf_3 18 rfl rfl)
theorem dX0_aboutOf_111 : decode cX0_aboutOf 111 = .ok (.aload_n 1, 1) := dk_43 (dk_at dksX0_aboutOf_3 19 rfl rfl)
theorem dX0_aboutOf_112 : decode cX0_aboutOf 112 = .ok (.getfield 174, 3) := dk_180 0 174 (dk_at dksX0_aboutOf_3 20 rfl rfl)
theorem dX0_aboutOf_115 : decode cX0_aboutOf 115 = .ok (.ireturn, 1) := dk_172 (dk_at dksX0_aboutOf_3 23 rfl rfl)
theorem dX0_aboutOf_116 : decode cX0_aboutOf 116 = .ok (.aload_n 1, 1) := dk_43 (dk_at dksX0_aboutOf_4 0 rfl rfl)
theorem dX0_aboutOf_117 : decode cX0_aboutOf 117 = .ok (.getfield 253, 3) := dk_180 0 253 (dk_at dksX0_aboutOf_4 1 rfl rfl)
theorem dX0_aboutOf_120 : decode cX0_aboutOf 120 = .ok (.getfield 334, 3) := dk_180 1 78 (dk_at dksX0_aboutOf_4 4 rfl rfl)
theorem dX0_aboutOf_123 : decode cX0_aboutOf 123 = .ok (.ireturn, 1) := dk_172 (dk_at dksX0_aboutOf_4 7 rfl rfl)
theorem dX0_aboutOf_124 : decode cX0_aboutOf 124 = .ok (.aload_n 1, 1) := dk_43 (dk_at dksX0_aboutOf_4 8 rfl rfl)
theorem dX0_aboutOf_125 : decode cX0_aboutOf 125 = .ok (.getfield 201, 3) := dk_180 0 201 (dk_at dksX0_aboutOf_4 9 rfl rfl)
theorem dX0_aboutOf_128 : decode cX0_aboutOf 128 = .ok (.ireturn, 1) := dk_172 (dk_at dksX0_aboutOf_4 12 rfl rfl)
theorem dX0_aboutOf_129 : decode cX0_aboutOf 129 = .ok (.aload_n 1, 1) := dk_43 (dk_at dksX0_aboutOf_4 13 rfl rfl)
theorem dX0_aboutOf_130 : decode cX0_aboutOf 130 = .ok (.getfield 197, 3) := dk_180 0 197 (dk_at dksX0_aboutOf_4 14 rfl rfl)
theorem dX0_aboutOf_133 : decode cX0_aboutOf 133 = .ok (.ifCond .eq 8, 3) := dk_153 0 8 (dk_at dksX0_aboutOf_4 17 rfl rfl)
theorem dX0_aboutOf_136 : decode cX0_aboutOf 136 = .ok (.bipush (-4), 2) := dk_16 252 (dk_at dksX0_aboutOf_4 20 rfl rfl)
theorem dX0_aboutOf_138 : decode cX0_aboutOf 138 = .ok (.goto 10, 3) := dk_167 0 10 (dk_at dksX0_aboutOf_5 0 rfl rfl)
theorem dX0_aboutOf_141 : decode cX0_aboutOf 141 = .ok (.aload_n 1, 1) := dk_43 (dk_at dksX0_aboutOf_5 3 rfl rfl)
theorem dX0_aboutOf_142 : decode cX0_aboutOf 142 = .ok (.invokevirtual 390, 3) := dk_182 1 134 (dk_at dksX0_aboutOf_5 4 rfl rfl)
theorem dX0_aboutOf_145 : decode cX0_aboutOf 145 = .ok (.invokestatic 380, 3) := dk_184 1 124 (dk_at dksX0_aboutOf_5 7 rfl rfl)
theorem dX0_aboutOf_148 : decode cX0_aboutOf 148 = .ok (.ireturn, 1) := dk_172 (dk_at dksX0_aboutOf_5 10 rfl rfl)
theorem dX0_aboutOf_149 : decode cX0_aboutOf 149 = .ok (.aload_n 1, 1) := dk_43 (dk_at dksX0_aboutOf_5 11 rfl rfl)
theorem dX0_aboutOf_150 : decode cX0_aboutOf 150 = .ok (.getfield 197, 3) := dk_180 0 197 (dk_at dksX0_aboutOf_5 12 rfl rfl)
theorem dX0_aboutOf_153 : decode cX0_aboutOf 153 = .ok (.ifCond .eq 8, 3) := dk_153 0 8 (dk_at dksX0_aboutOf_5 15 rfl rfl)
theorem dX0_aboutOf_156 : decode cX0_aboutOf 156 = .ok (.bipush (-4), 2) := dk_16 252 (dk_at dksX0_aboutOf_5 18 rfl rfl)
theorem dX0_aboutOf_158 : decode cX0_aboutOf 158 = .ok (.goto 10, 3) := dk_167 0 10 (dk_at dksX0_aboutOf_5 20 rfl rfl)
theorem dX0_aboutOf_161 : decode cX0_aboutOf 161 = .ok (.aload_n 1, 1) := dk_43 (dk_at dksX0_aboutOf_5 23 rfl rfl)
theorem dX0_aboutOf_162 : decode cX0_aboutOf 162 = .ok (.getfield 177, 3) := dk_180 0 177 (dk_at dksX0_aboutOf_6 0 rfl rfl)
theorem dX0_aboutOf_165 : decode cX0_aboutOf 165 = .ok (.getfield 394, 3) := dk_180 1 138 (dk_at dksX0_aboutOf_6 3 rfl rfl)
theorem dX0_aboutOf_168 : decode cX0_aboutOf 168 = .ok (.ireturn, 1) := dk_172 (dk_at dksX0_aboutOf_6 6 rfl rfl)
theorem dX0_aboutOf_169 : decode cX0_aboutOf 169 = .ok (.aload_n 1, 1) := dk_43 (dk_at dksX0_aboutOf_6 7 rfl rfl)
theorem dX0_aboutOf_170 : decode cX0_aboutOf 170 = .ok (.getfield 229, 3) := dk_180 0 229 (dk_at dksX0_aboutOf_6 8 rfl rfl)
theorem dX0_aboutOf_173 : decode cX0_aboutOf 173 = .ok (.ifnonnull 8, 3) := dk_199 0 8 (dk_at dksX0_aboutOf_6 11 rfl rfl)
theorem dX0_aboutOf_176 : decode cX0_aboutOf 176 = .ok (.bipush (-4), 2) := dk_16 252 (dk_at dksX0_aboutOf_6 14 rfl rfl)
theorem dX0_aboutOf_178 : decode cX0_aboutOf 178 = .ok (.goto 10, 3) := dk_167 0 10 (dk_at dksX0_aboutOf_6 16 rfl rfl)
theorem dX0_aboutOf_181 : decode cX0_aboutOf 181 = .ok (.aload_n 1, 1) := dk_43 (dk_at dksX0_aboutOf_6 19 rfl rfl)
theorem dX0_aboutOf_182 : decode cX0_aboutOf 182 = .ok (.getfield 229, 3) := dk_180 0 229 (dk_at dksX0_aboutOf_6 20 rfl rfl)
theorem dX0_aboutOf_185 : decode cX0_aboutOf 185 = .ok (.getfield 394, 3) := dk_180 1 138 (dk_at dksX0_aboutOf_7 0 rfl rfl)
theorem dX0_aboutOf_188 : decode cX0_aboutOf 188 = .ok (.ireturn, 1) := dk_172 (dk_at dksX0_aboutOf_7 3 rfl rfl)
def dkwX0_numberOf_0 : List UInt8 := [42, 199, 0, 8, 16, 252, 167, 0, 7, 42, 180, 1, 118, 172]
abbrev dktX0_numberOf_0 : List UInt8 := dkwX0_numberOf_0 ++ []
theorem dksX0_numberOf_0 : cX0_numberOf.data.toList.drop 0 = dktX0_numberOf_0 := by decide +kernel
theorem dX0_numberOf_0 : decode cX0_numberOf 0 = .ok (.aload_n 0, 1) := dk_42 (dk_at dksX0_numberOf_0 0 rfl rfl)
theorem dX0_numberOf_1 : decode cX0_numberOf 1 = .ok (.ifnonnull 8, 3) := dk_199 0 8 (dk_at dksX0_numberOf_0 1 rfl rfl)
theorem dX0_numberOf_4 : decode cX0_numberOf 4 = .ok (.bipush (-4), 2) := dk_16 252 (dk_at dksX0_numberOf_0 4 rfl rfl)
theorem dX0_numberOf_6 : decode cX0_numberOf 6 = .ok (.goto 7, 3) := dk_167 0 7 (dk_at dksX0_numberOf_0 6 rfl rfl)
theorem dX0_numberOf_9 : decode cX0_numberOf 9 = .ok (.aload_n 0, 1) := dk_42 (dk_at dksX0_numberOf_0 9 rfl rfl)
theorem dX0_numberOf_10 : decode cX0_numberOf 10 = .ok (.getfield 374, 3) := dk_180 1 118 (dk_at dksX0_numberOf_0 10 rfl rfl)
theorem dX0_numberOf_13 : decode cX0_numberOf 13 = .ok (.ireturn, 1) := dk_172 (dk_at dksX0_numberOf_0 13 rfl rfl)
def dkwX0_result_0 : List UInt8 := [42, 27, 182, 1, 89, 77, 44, 199, 0, 7, 9, 167, 0, 12, 44, 180, 1, 1, 180, 1, 4, 3, 47, 173]
abbrev dktX0_result_0 : List UInt8 := dkwX0_result_0 ++ []
theorem dksX0_result_0 : cX0_result.data.toList.drop 0 = dktX0_result_0 := by decide +kernel
theorem dX0_result_0 : decode cX0_result 0 = .ok (.aload_n 0, 1) := dk_42 (dk_at dksX0_result_0 0 rfl rfl)
theorem dX0_result_1 : decode cX0_result 1 = .ok (.iload_n 1, 1) := dk_27 (dk_at dksX0_result_0 1 rfl rfl)
theorem dX0_result_2 : decode cX0_result 2 = .ok (.invokevirtual 345, 3) := dk_182 1 89 (dk_at dksX0_result_0 2 rfl rfl)
theorem dX0_result_5 : decode cX0_result 5 = .ok (.astore_n 2, 1) := dk_77 (dk_at dksX0_result_0 5 rfl rfl)
theorem dX0_result_6 : decode cX0_result 6 = .ok (.aload_n 2, 1) := dk_44 (dk_at dksX0_result_0 6 rfl rfl)
theorem dX0_result_7 : decode cX0_result 7 = .ok (.ifnonnull 7, 3) := dk_199 0 7 (dk_at dksX0_result_0 7 rfl rfl)
theorem dX0_result_10 : decode cX0_result 10 = .ok (.lconst 0, 1) := dk_9 (dk_at dksX0_result_0 10 rfl rfl)
theorem dX0_result_11 : decode cX0_result 11 = .ok (.goto 12, 3) := dk_167 0 12 (dk_at dksX0_result_0 11 rfl rfl)
theorem dX0_result_14 : decode cX0_result 14 = .ok (.aload_n 2, 1) := dk_44 (dk_at dksX0_result_0 14 rfl rfl)
theorem dX0_result_15 : decode cX0_result 15 = .ok (.getfield 257, 3) := dk_180 1 1 (dk_at dksX0_result_0 15 rfl rfl)
theorem dX0_result_18 : decode cX0_result 18 = .ok (.getfield 260, 3) := dk_180 1 4 (dk_at dksX0_result_0 18 rfl rfl)
theorem dX0_result_21 : decode cX0_result 21 = .ok (.iconst 0, 1) := dk_3 (dk_at dksX0_result_0 21 rfl rfl)
theorem dX0_result_22 : decode cX0_result 22 = .ok (.laload, 1) := dk_47 (dk_at dksX0_result_0 22 rfl rfl)
theorem dX0_result_23 : decode cX0_result 23 = .ok (.lreturn, 1) := dk_173 (dk_at dksX0_result_0 23 rfl rfl)
def dkwX0_out_1 : List UInt8 := [153, 0, 12, 45, 180, 0, 204, 28, 47, 167, 0, 4, 9, 173]
abbrev dktX0_out_1 : List UInt8 := dkwX0_out_1 ++ []
def dkwX0_out_0 : List UInt8 := [42, 27, 182, 1, 89, 78, 45, 198, 0, 28, 28, 133, 9, 45, 180, 0, 201, 4, 100, 133, 184, 0, 5]
abbrev dktX0_out_0 : List UInt8 := dkwX0_out_0 ++ dktX0_out_1
theorem dksX0_out_0 : cX0_out.data.toList.drop 0 = dktX0_out_0 := by decide +kernel
theorem dksX0_out_1 : cX0_out.data.toList.drop 23 = dktX0_out_1 := dk_seg dksX0_out_0 23 rfl rfl
theorem dX0_out_0 : decode cX0_out 0 = .ok (.aload_n 0, 1) := dk_42 (dk_at dksX0_out_0 0 rfl rfl)
theorem dX0_out_1 : decode cX0_out 1 = .ok (.iload_n 1, 1) := dk_27 (dk_at dksX0_out_0 1 rfl rfl)
theorem dX0_out_2 : decode cX0_out 2 = .ok (.invokevirtual 345, 3) := dk_182 1 89 (dk_at dksX0_out_0 2 rfl rfl)
theorem dX0_out_5 : decode cX0_out 5 = .ok (.astore_n 3, 1) := dk_78 (dk_at dksX0_out_0 5 rfl rfl)
theorem dX0_out_6 : decode cX0_out 6 = .ok (.aload_n 3, 1) := dk_45 (dk_at dksX0_out_0 6 rfl rfl)
theorem dX0_out_7 : decode cX0_out 7 = .ok (.ifnull 28, 3) := dk_198 0 28 (dk_at dksX0_out_0 7 rfl rfl)
theorem dX0_out_10 : decode cX0_out 10 = .ok (.iload_n 2, 1) := dk_28 (dk_at dksX0_out_0 10 rfl rfl)
theorem dX0_out_11 : decode cX0_out 11 = .ok (.i2l, 1) := dk_133 (dk_at dksX0_out_0 11 rfl rfl)
theorem dX0_out_12 : decode cX0_out 12 = .ok (.lconst 0, 1) := dk_9 (dk_at dksX0_out_0 12 rfl rfl)
theorem dX0_out_13 : decode cX0_out 13 = .ok (.aload_n 3, 1) := dk_45 (dk_at dksX0_out_0 13 rfl rfl)
theorem dX0_out_14 : decode cX0_out 14 = .ok (.getfield 201, 3) := dk_180 0 201 (dk_at dksX0_out_0 14 rfl rfl)
theorem dX0_out_17 : decode cX0_out 17 = .ok (.iconst 1, 1) := dk_4 (dk_at dksX0_out_0 17 rfl rfl)
theorem dX0_out_18 : decode cX0_out 18 = .ok (.isub, 1) := dk_100 (dk_at dksX0_out_0 18 rfl rfl)
theorem dX0_out_19 : decode cX0_out 19 = .ok (.i2l, 1) := dk_133 (dk_at dksX0_out_0 19 rfl rfl)
theorem dX0_out_20 : decode cX0_out 20 = .ok (.invokestatic 5, 3) := dk_184 0 5 (dk_at dksX0_out_0 20 rfl rfl)
theorem dX0_out_23 : decode cX0_out 23 = .ok (.ifCond .eq 12, 3) := dk_153 0 12 (dk_at dksX0_out_1 0 rfl rfl)
theorem dX0_out_26 : decode cX0_out 26 = .ok (.aload_n 3, 1) := dk_45 (dk_at dksX0_out_1 3 rfl rfl)
theorem dX0_out_27 : decode cX0_out 27 = .ok (.getfield 204, 3) := dk_180 0 204 (dk_at dksX0_out_1 4 rfl rfl)
theorem dX0_out_30 : decode cX0_out 30 = .ok (.iload_n 2, 1) := dk_28 (dk_at dksX0_out_1 7 rfl rfl)
theorem dX0_out_31 : decode cX0_out 31 = .ok (.laload, 1) := dk_47 (dk_at dksX0_out_1 8 rfl rfl)
theorem dX0_out_32 : decode cX0_out 32 = .ok (.goto 4, 3) := dk_167 0 4 (dk_at dksX0_out_1 9 rfl rfl)
theorem dX0_out_35 : decode cX0_out 35 = .ok (.lconst 0, 1) := dk_9 (dk_at dksX0_out_1 12 rfl rfl)
theorem dX0_out_36 : decode cX0_out 36 = .ok (.lreturn, 1) := dk_173 (dk_at dksX0_out_1 13 rfl rfl)
def dkwX0_read_1 : List UInt8 := [184, 0, 5, 154, 0, 7, 9, 167, 0, 11, 45, 180, 0, 177, 28, 184, 0, 238, 173]
abbrev dktX0_read_1 : List UInt8 := dkwX0_read_1 ++ []
def dkwX0_read_0 : List UInt8 := [42, 27, 182, 1, 89, 78, 45, 198, 0, 22, 45, 180, 0, 197, 154, 0, 15, 28, 133, 9, 20, 0, 3]
abbrev dktX0_read_0 : List UInt8 := dkwX0_read_0 ++ dktX0_read_1
theorem dksX0_read_0 : cX0_read.data.toList.drop 0 = dktX0_read_0 := by decide +kernel
theorem dksX0_read_1 : cX0_read.data.toList.drop 23 = dktX0_read_1 := dk_seg dksX0_read_0 23 rfl rfl
theorem dX0_read_0 : decode cX0_read 0 = .ok (.aload_n 0, 1) := dk_42 (dk_at dksX0_read_0 0 rfl rfl)
theorem dX0_read_1 : decode cX0_read 1 = .ok (.iload_n 1, 1) := dk_27 (dk_at dksX0_read_0 1 rfl rfl)
theorem dX0_read_2 : decode cX0_read 2 = .ok (.invokevirtual 345, 3) := dk_182 1 89 (dk_at dksX0_read_0 2 rfl rfl)
theorem dX0_read_5 : decode cX0_read 5 = .ok (.astore_n 3, 1) := dk_78 (dk_at dksX0_read_0 5 rfl rfl)
theorem dX0_read_6 : decode cX0_read 6 = .ok (.aload_n 3, 1) := dk_45 (dk_at dksX0_read_0 6 rfl rfl)
theorem dX0_read_7 : decode cX0_read 7 = .ok (.ifnull 22, 3) := dk_198 0 22 (dk_at dksX0_read_0 7 rfl rfl)
theorem dX0_read_10 : decode cX0_read 10 = .ok (.aload_n 3, 1) := dk_45 (dk_at dksX0_read_0 10 rfl rfl)
theorem dX0_read_11 : decode cX0_read 11 = .ok (.getfield 197, 3) := dk_180 0 197 (dk_at dksX0_read_0 11 rfl rfl)
theorem dX0_read_14 : decode cX0_read 14 = .ok (.ifCond .ne 15, 3) := dk_154 0 15 (dk_at dksX0_read_0 14 rfl rfl)
theorem dX0_read_17 : decode cX0_read 17 = .ok (.iload_n 2, 1) := dk_28 (dk_at dksX0_read_0 17 rfl rfl)
theorem dX0_read_18 : decode cX0_read 18 = .ok (.i2l, 1) := dk_133 (dk_at dksX0_read_0 18 rfl rfl)
theorem dX0_read_19 : decode cX0_read 19 = .ok (.lconst 0, 1) := dk_9 (dk_at dksX0_read_0 19 rfl rfl)
theorem dX0_read_20 : decode cX0_read 20 = .ok (.ldc2_w 3, 3) := dk_20 0 3 (dk_at dksX0_read_0 20 rfl rfl)
theorem dX0_read_23 : decode cX0_read 23 = .ok (.invokestatic 5, 3) := dk_184 0 5 (dk_at dksX0_read_1 0 rfl rfl)
theorem dX0_read_26 : decode cX0_read 26 = .ok (.ifCond .ne 7, 3) := dk_154 0 7 (dk_at dksX0_read_1 3 rfl rfl)
theorem dX0_read_29 : decode cX0_read 29 = .ok (.lconst 0, 1) := dk_9 (dk_at dksX0_read_1 6 rfl rfl)
theorem dX0_read_30 : decode cX0_read 30 = .ok (.goto 11, 3) := dk_167 0 11 (dk_at dksX0_read_1 7 rfl rfl)
theorem dX0_read_33 : decode cX0_read 33 = .ok (.aload_n 3, 1) := dk_45 (dk_at dksX0_read_1 10 rfl rfl)
theorem dX0_read_34 : decode cX0_read 34 = .ok (.getfield 177, 3) := dk_180 0 177 (dk_at dksX0_read_1 11 rfl rfl)
theorem dX0_read_37 : decode cX0_read 37 = .ok (.iload_n 2, 1) := dk_28 (dk_at dksX0_read_1 14 rfl rfl)
theorem dX0_read_38 : decode cX0_read 38 = .ok (.invokestatic 238, 3) := dk_184 0 238 (dk_at dksX0_read_1 15 rfl rfl)
theorem dX0_read_41 : decode cX0_read 41 = .ok (.lreturn, 1) := dk_173 (dk_at dksX0_read_1 18 rfl rfl)
def dkwX0_mark_0 : List UInt8 := [42, 27, 182, 1, 89, 77, 44, 199, 0, 7, 9, 167, 0, 7, 44, 180, 0, 213, 173]
abbrev dktX0_mark_0 : List UInt8 := dkwX0_mark_0 ++ []
theorem dksX0_mark_0 : cX0_mark.data.toList.drop 0 = dktX0_mark_0 := by decide +kernel
theorem dX0_mark_0 : decode cX0_mark 0 = .ok (.aload_n 0, 1) := dk_42 (dk_at dksX0_mark_0 0 rfl rfl)
theorem dX0_mark_1 : decode cX0_mark 1 = .ok (.iload_n 1, 1) := dk_27 (dk_at dksX0_mark_0 1 rfl rfl)
theorem dX0_mark_2 : decode cX0_mark 2 = .ok (.invokevirtual 345, 3) := dk_182 1 89 (dk_at dksX0_mark_0 2 rfl rfl)
theorem dX0_mark_5 : decode cX0_mark 5 = .ok (.astore_n 2, 1) := dk_77 (dk_at dksX0_mark_0 5 rfl rfl)
theorem dX0_mark_6 : decode cX0_mark 6 = .ok (.aload_n 2, 1) := dk_44 (dk_at dksX0_mark_0 6 rfl rfl)
theorem dX0_mark_7 : decode cX0_mark 7 = .ok (.ifnonnull 7, 3) := dk_199 0 7 (dk_at dksX0_mark_0 7 rfl rfl)
theorem dX0_mark_10 : decode cX0_mark 10 = .ok (.lconst 0, 1) := dk_9 (dk_at dksX0_mark_0 10 rfl rfl)
theorem dX0_mark_11 : decode cX0_mark 11 = .ok (.goto 7, 3) := dk_167 0 7 (dk_at dksX0_mark_0 11 rfl rfl)
theorem dX0_mark_14 : decode cX0_mark 14 = .ok (.aload_n 2, 1) := dk_44 (dk_at dksX0_mark_0 14 rfl rfl)
theorem dX0_mark_15 : decode cX0_mark 15 = .ok (.getfield 213, 3) := dk_180 0 213 (dk_at dksX0_mark_0 15 rfl rfl)
theorem dX0_mark_18 : decode cX0_mark 18 = .ok (.lreturn, 1) := dk_173 (dk_at dksX0_mark_0 18 rfl rfl)
def dkwX0_gather_7 : List UInt8 := [100, 172]
abbrev dktX0_gather_7 : List UInt8 := dkwX0_gather_7 ++ []
def dkwX0_gather_6 : List UInt8 := [42, 180, 0, 113, 44, 185, 1, 179, 2, 0, 87, 42, 182, 1, 170, 77, 167, 255, 119, 27, 42, 182, 1, 167]
abbrev dktX0_gather_6 : List UInt8 := dkwX0_gather_6 ++ dktX0_gather_7
def dkwX0_gather_5 : List UInt8 := [166, 0, 10, 44, 180, 0, 235, 167, 0, 8, 25, 5, 180, 0, 235, 181, 0, 235, 132, 4, 1, 167, 255, 197]
abbrev dktX0_gather_5 : List UInt8 := dkwX0_gather_5 ++ dktX0_gather_6
def dkwX0_gather_4 : List UInt8 := [180, 0, 113, 21, 4, 185, 0, 149, 2, 0, 192, 0, 128, 58, 5, 25, 5, 25, 5, 180, 0, 235, 44]
abbrev dktX0_gather_4 : List UInt8 := dkwX0_gather_4 ++ dktX0_gather_5
def dkwX0_gather_3 : List UInt8 := [132, 4, 1, 167, 255, 215, 3, 54, 4, 21, 4, 42, 180, 0, 113, 185, 0, 145, 1, 0, 162, 0, 51, 42]
abbrev dktX0_gather_3 : List UInt8 := dkwX0_gather_3 ++ dktX0_gather_4
def dkwX0_gather_2 : List UInt8 := [45, 21, 4, 182, 1, 174, 154, 0, 16, 45, 21, 4, 44, 180, 1, 176, 21, 4, 47, 182, 0, 246]
abbrev dktX0_gather_2 : List UInt8 := dkwX0_gather_2 ++ dktX0_gather_3
def dkwX0_gather_1 : List UInt8 := [44, 180, 1, 158, 78, 3, 54, 4, 21, 4, 16, 16, 162, 0, 40, 44, 21, 4, 182, 1, 174, 153, 0, 25]
abbrev dktX0_gather_1 : List UInt8 := dkwX0_gather_1 ++ dktX0_gather_2
def dkwX0_gather_0 : List UInt8 := [42, 180, 1, 27, 154, 0, 6, 16, 254, 172, 42, 182, 1, 167, 60, 42, 182, 1, 170, 77, 44, 198, 0, 139]
abbrev dktX0_gather_0 : List UInt8 := dkwX0_gather_0 ++ dktX0_gather_1
theorem dksX0_gather_0 : cX0_gather.data.toList.drop 0 = dktX0_gather_0 := by decide +kernel
theorem dksX0_gather_1 : cX0_gather.data.toList.drop 24 = dktX0_gather_1 := dk_seg dksX0_gather_0 24 rfl rfl
theorem dksX0_gather_2 : cX0_gather.data.toList.drop 48 = dktX0_gather_2 := dk_seg dksX0_gather_1 24 rfl rfl
theorem dksX0_gather_3 : cX0_gather.data.toList.drop 70 = dktX0_gather_3 := dk_seg dksX0_gather_2 22 rfl rfl
theorem dksX0_gather_4 : cX0_gather.data.toList.drop 94 = dktX0_gather_4 := dk_seg dksX0_gather_3 24 rfl rfl
theorem dksX0_gather_5 : cX0_gather.data.toList.drop 117 = dktX0_gather_5 := dk_seg dksX0_gather_4 23 rfl rfl
theorem dksX0_gather_6 : cX0_gather.data.toList.drop 141 = dktX0_gather_6 := dk_seg dksX0_gather_5 24 rfl rfl
theorem dksX0_gather_7 : cX0_gather.data.toList.drop 165 = dktX0_gather_7 := dk_seg dksX0_gather_6 24 rfl rfl
theorem dX0_gather_0 : decode cX0_gather 0 = .ok (.aload_n 0, 1) := dk_42 (dk_at dksX0_gather_0 0 rfl rfl)
theorem dX0_gather_1 : decode cX0_gather 1 = .ok (.getfield 283, 3) := dk_180 1 27 (dk_at dksX0_gather_0 1 rfl rfl)
theorem dX0_gather_4 : decode cX0_gather 4 = .ok (.ifCond .ne 6, 3) := dk_154 0 6 (dk_at dksX0_gather_0 4 rfl rfl)
theorem dX0_gather_7 : decode cX0_gather 7 = .ok (.bipush (-2), 2) := dk_16 254 (dk_at dksX0_gather_0 7 rfl rfl)
theorem dX0_gather_9 : decode cX0_gather 9 = .ok (.ireturn, 1) := dk_172 (dk_at dksX0_gather_0 9 rfl rfl)
theorem dX0_gather_10 : decode cX0_gather 10 = .ok (.aload_n 0, 1) := dk_42 (dk_at dksX0_gather_0 10 rfl rfl)
theorem dX0_gather_11 : decode cX0_gather 11 = .ok (.invokevirtual 423, 3) := dk_182 1 167 (dk_at dksX0_gather_0 11 rfl rfl)
theorem dX0_gather_14 : decode cX0_gather 14 = .ok (.istore_n 1, 1) := dk_60 (dk_at dksX0_gather_0 14 rfl rfl)
theorem dX0_gather_15 : decode cX0_gather 15 = .ok (.aload_n 0, 1) := dk_42 (dk_at dksX0_gather_0 15 rfl rfl)
theorem dX0_gather_16 : decode cX0_gather 16 = .ok (.invokevirtual 426, 3) := dk_182 1 170 (dk_at dksX0_gather_0 16 rfl rfl)
theorem dX0_gather_19 : decode cX0_gather 19 = .ok (.astore_n 2, 1) := dk_77 (dk_at dksX0_gather_0 19 rfl rfl)
theorem dX0_gather_20 : decode cX0_gather 20 = .ok (.aload_n 2, 1) := dk_44 (dk_at dksX0_gather_0 20 rfl rfl)
theorem dX0_gather_21 : decode cX0_gather 21 = .ok (.ifnull 139, 3) := dk_198 0 139 (dk_at dksX0_gather_0 21 rfl rfl)
theorem dX0_gather_24 : decode cX0_gather 24 = .ok (.aload_n 2, 1) := dk_44 (dk_at dksX0_gather_1 0 rfl rfl)
theorem dX0_gather_25 : decode cX0_gather 25 = .ok (.getfield 414, 3) := dk_180 1 158 (dk_at dksX0_gather_1 1 rfl rfl)
theorem dX0_gather_28 : decode cX0_gather 28 = .ok (.astore_n 3, 1) := dk_78 (dk_at dksX0_gather_1 4 rfl rfl)
theorem dX0_gather_29 : decode cX0_gather 29 = .ok (.iconst 0, 1) := dk_3 (dk_at dksX0_gather_1 5 rfl rfl)
theorem dX0_gather_30 : decode cX0_gather 30 = .ok (.istore 4, 2) := dk_54 4 (dk_at dksX0_gather_1 6 rfl rfl)
theorem dX0_gather_32 : decode cX0_gather 32 = .ok (.iload 4, 2) := dk_21 4 (dk_at dksX0_gather_1 8 rfl rfl)
theorem dX0_gather_34 : decode cX0_gather 34 = .ok (.bipush 16, 2) := dk_16 16 (dk_at dksX0_gather_1 10 rfl rfl)
theorem dX0_gather_36 : decode cX0_gather 36 = .ok (.if_icmp .ge 40, 3) := dk_162 0 40 (dk_at dksX0_gather_1 12 rfl rfl)
theorem dX0_gather_39 : decode cX0_gather 39 = .ok (.aload_n 2, 1) := dk_44 (dk_at dksX0_gather_1 15 rfl rfl)
theorem dX0_gather_40 : decode cX0_gather 40 = .ok (.iload 4, 2) := dk_21 4 (dk_at dksX0_gather_1 16 rfl rfl)
theorem dX0_gather_42 : decode cX0_gather 42 = .ok (.invokevirtual 430, 3) := dk_182 1 174 (dk_at dksX0_gather_1 18 rfl rfl)
theorem dX0_gather_45 : decode cX0_gather 45 = .ok (.ifCond .eq 25, 3) := dk_153 0 25 (dk_at dksX0_gather_1 21 rfl rfl)
theorem dX0_gather_48 : decode cX0_gather 48 = .ok (.aload_n 3, 1) := dk_45 (dk_at dksX0_gather_2 0 rfl rfl)
theorem dX0_gather_49 : decode cX0_gather 49 = .ok (.iload 4, 2) := dk_21 4 (dk_at dksX0_gather_2 1 rfl rfl)
theorem dX0_gather_51 : decode cX0_gather 51 = .ok (.invokevirtual 430, 3) := dk_182 1 174 (dk_at dksX0_gather_2 3 rfl rfl)
theorem dX0_gather_54 : decode cX0_gather 54 = .ok (.ifCond .ne 16, 3) := dk_154 0 16 (dk_at dksX0_gather_2 6 rfl rfl)
theorem dX0_gather_57 : decode cX0_gather 57 = .ok (.aload_n 3, 1) := dk_45 (dk_at dksX0_gather_2 9 rfl rfl)
theorem dX0_gather_58 : decode cX0_gather 58 = .ok (.iload 4, 2) := dk_21 4 (dk_at dksX0_gather_2 10 rfl rfl)
theorem dX0_gather_60 : decode cX0_gather 60 = .ok (.aload_n 2, 1) := dk_44 (dk_at dksX0_gather_2 12 rfl rfl)
theorem dX0_gather_61 : decode cX0_gather 61 = .ok (.getfield 432, 3) := dk_180 1 176 (dk_at dksX0_gather_2 13 rfl rfl)
theorem dX0_gather_64 : decode cX0_gather 64 = .ok (.iload 4, 2) := dk_21 4 (dk_at dksX0_gather_2 16 rfl rfl)
theorem dX0_gather_66 : decode cX0_gather 66 = .ok (.laload, 1) := dk_47 (dk_at dksX0_gather_2 18 rfl rfl)
theorem dX0_gather_67 : decode cX0_gather 67 = .ok (.invokevirtual 246, 3) := dk_182 0 246 (dk_at dksX0_gather_2 19 rfl rfl)
theorem dX0_gather_70 : decode cX0_gather 70 = .ok (.iinc 4 1, 3) := dk_132 4 1 (dk_at dksX0_gather_3 0 rfl rfl)
theorem dX0_gather_73 : decode cX0_gather 73 = .ok (.goto (-41), 3) := dk_167 255 215 (dk_at dksX0_gather_3 3 rfl rfl)
theorem dX0_gather_76 : decode cX0_gather 76 = .ok (.iconst 0, 1) := dk_3 (dk_at dksX0_gather_3 6 rfl rfl)
theorem dX0_gather_77 : decode cX0_gather 77 = .ok (.istore 4, 2) := dk_54 4 (dk_at dksX0_gather_3 7 rfl rfl)
theorem dX0_gather_79 : decode cX0_gather 79 = .ok (.iload 4, 2) := dk_21 4 (dk_at dksX0_gather_3 9 rfl rfl)
theorem dX0_gather_81 : decode cX0_gather 81 = .ok (.aload_n 0, 1) := dk_42 (dk_at dksX0_gather_3 11 rfl rfl)
theorem dX0_gather_82 : decode cX0_gather 82 = .ok (.getfield 113, 3) := dk_180 0 113 (dk_at dksX0_gather_3 12 rfl rfl)
theorem dX0_gather_85 : decode cX0_gather 85 = .ok (.invokeinterface 145 1, 5) := by decide +kernel
theorem dX0_gather_90 : decode cX0_gather 90 = .ok (.if_icmp .ge 51, 3) := dk_162 0 51 (dk_at dksX0_gather_3 20 rfl rfl)
theorem dX0_gather_93 : decode cX0_gather 93 = .ok (.aload_n 0, 1) := dk_42 (dk_at dksX0_gather_3 23 rfl rfl)
theorem dX0_gather_94 : decode cX0_gather 94 = .ok (.getfield 113, 3) := dk_180 0 113 (dk_at dksX0_gather_4 0 rfl rfl)
theorem dX0_gather_97 : decode cX0_gather 97 = .ok (.iload 4, 2) := dk_21 4 (dk_at dksX0_gather_4 3 rfl rfl)
theorem dX0_gather_99 : decode cX0_gather 99 = .ok (.invokeinterface 149 2, 5) := by decide +kernel
theorem dX0_gather_104 : decode cX0_gather 104 = .ok (.checkcast 128, 3) := dk_192 0 128 (dk_at dksX0_gather_4 10 rfl rfl)
theorem dX0_gather_107 : decode cX0_gather 107 = .ok (.astore 5, 2) := dk_58 5 (dk_at dksX0_gather_4 13 rfl rfl)
theorem dX0_gather_109 : decode cX0_gather 109 = .ok (.aload 5, 2) := dk_25 5 (dk_at dksX0_gather_4 15 rfl rfl)
theorem dX0_gather_111 : decode cX0_gather 111 = .ok (.aload 5, 2) := dk_25 5 (dk_at dksX0_gather_4 17 rfl rfl)
theorem dX0_gather_113 : decode cX0_gather 113 = .ok (.getfield 235, 3) := dk_180 0 235 (dk_at dksX0_gather_4 19 rfl rfl)
theorem dX0_gather_116 : decode cX0_gather 116 = .ok (.aload_n 2, 1) := dk_44 (dk_at dksX0_gather_4 22 rfl rfl)
theorem dX0_gather_117 : decode cX0_gather 117 = .ok (.if_acmp .ne 10, 3) := dk_166 0 10 (dk_at dksX0_gather_5 0 rfl rfl)
theorem dX0_gather_120 : decode cX0_gather 120 = .ok (.aload_n 2, 1) := dk_44 (dk_at dksX0_gather_5 3 rfl rfl)
theorem dX0_gather_121 : decode cX0_gather 121 = .ok (.getfield 235, 3) := dk_180 0 235 (dk_at dksX0_gather_5 4 rfl rfl)
theorem dX0_gather_124 : decode cX0_gather 124 = .ok (.goto 8, 3) := dk_167 0 8 (dk_at dksX0_gather_5 7 rfl rfl)
theorem dX0_gather_127 : decode cX0_gather 127 = .ok (.aload 5, 2) := dk_25 5 (dk_at dksX0_gather_5 10 rfl rfl)
theorem dX0_gather_129 : decode cX0_gather 129 = .ok (.getfield 235, 3) := dk_180 0 235 (dk_at dksX0_gather_5 12 rfl rfl)
theorem dX0_gather_132 : decode cX0_gather 132 = .ok (.putfield 235, 3) := dk_181 0 235 (dk_at dksX0_gather_5 15 rfl rfl)
theorem dX0_gather_135 : decode cX0_gather 135 = .ok (.iinc 4 1, 3) := dk_132 4 1 (dk_at dksX0_gather_5 18 rfl rfl)
theorem dX0_gather_138 : decode cX0_gather 138 = .ok (.goto (-59), 3) := dk_167 255 197 (dk_at dksX0_gather_5 21 rfl rfl)
theorem dX0_gather_141 : decode cX0_gather 141 = .ok (.aload_n 0, 1) := dk_42 (dk_at dksX0_gather_6 0 rfl rfl)
theorem dX0_gather_142 : decode cX0_gather 142 = .ok (.getfield 113, 3) := dk_180 0 113 (dk_at dksX0_gather_6 1 rfl rfl)
theorem dX0_gather_145 : decode cX0_gather 145 = .ok (.aload_n 2, 1) := dk_44 (dk_at dksX0_gather_6 4 rfl rfl)
theorem dX0_gather_146 : decode cX0_gather 146 = .ok (.invokeinterface 435 2, 5) := by decide +kernel
theorem dX0_gather_151 : decode cX0_gather 151 = .ok (.pop, 1) := dk_87 (dk_at dksX0_gather_6 10 rfl rfl)
theorem dX0_gather_152 : decode cX0_gather 152 = .ok (.aload_n 0, 1) := dk_42 (dk_at dksX0_gather_6 11 rfl rfl)
theorem dX0_gather_153 : decode cX0_gather 153 = .ok (.invokevirtual 426, 3) := dk_182 1 170 (dk_at dksX0_gather_6 12 rfl rfl)
theorem dX0_gather_156 : decode cX0_gather 156 = .ok (.astore_n 2, 1) := dk_77 (dk_at dksX0_gather_6 15 rfl rfl)
theorem dX0_gather_157 : decode cX0_gather 157 = .ok (.goto (-137), 3) := dk_167 255 119 (dk_at dksX0_gather_6 16 rfl rfl)
theorem dX0_gather_160 : decode cX0_gather 160 = .ok (.iload_n 1, 1) := dk_27 (dk_at dksX0_gather_6 19 rfl rfl)
theorem dX0_gather_161 : decode cX0_gather 161 = .ok (.aload_n 0, 1) := dk_42 (dk_at dksX0_gather_6 20 rfl rfl)
theorem dX0_gather_162 : decode cX0_gather 162 = .ok (.invokevirtual 423, 3) := dk_182 1 167 (dk_at dksX0_gather_6 21 rfl rfl)
theorem dX0_gather_165 : decode cX0_gather 165 = .ok (.isub, 1) := dk_100 (dk_at dksX0_gather_7 0 rfl rfl)
theorem dX0_gather_166 : decode cX0_gather 166 = .ok (.ireturn, 1) := dk_172 (dk_at dksX0_gather_7 1 rfl rfl)
def dkwX0_versions_3 : List UInt8 := [172]
abbrev dktX0_versions_3 : List UInt8 := dkwX0_versions_3 ++ []
def dkwX0_versions_2 : List UInt8 := [185, 0, 149, 2, 0, 192, 0, 128, 182, 1, 164, 167, 0, 4, 3, 96, 60, 132, 2, 1, 167, 255, 198, 27]
abbrev dktX0_versions_2 : List UInt8 := dkwX0_versions_2 ++ dktX0_versions_3
def dkwX0_versions_1 : List UInt8 := [180, 0, 113, 28, 185, 0, 149, 2, 0, 192, 0, 128, 180, 1, 152, 153, 0, 22, 42, 180, 0, 113, 28]
abbrev dktX0_versions_1 : List UInt8 := dkwX0_versions_1 ++ dktX0_versions_2
def dkwX0_versions_0 : List UInt8 := [42, 182, 1, 161, 3, 60, 3, 61, 28, 42, 180, 0, 113, 185, 0, 145, 1, 0, 162, 0, 51, 27, 42]
abbrev dktX0_versions_0 : List UInt8 := dkwX0_versions_0 ++ dktX0_versions_1
theorem dksX0_versions_0 : cX0_versions.data.toList.drop 0 = dktX0_versions_0 := by decide +kernel
theorem dksX0_versions_1 : cX0_versions.data.toList.drop 23 = dktX0_versions_1 := dk_seg dksX0_versions_0 23 rfl rfl
theorem dksX0_versions_2 : cX0_versions.data.toList.drop 46 = dktX0_versions_2 := dk_seg dksX0_versions_1 23 rfl rfl
theorem dksX0_versions_3 : cX0_versions.data.toList.drop 70 = dktX0_versions_3 := dk_seg dksX0_versions_2 24 rfl rfl
theorem dX0_versions_0 : decode cX0_versions 0 = .ok (.aload_n 0, 1) := dk_42 (dk_at dksX0_versions_0 0 rfl rfl)
theorem dX0_versions_1 : decode cX0_versions 1 = .ok (.invokevirtual 417, 3) := dk_182 1 161 (dk_at dksX0_versions_0 1 rfl rfl)
theorem dX0_versions_4 : decode cX0_versions 4 = .ok (.iconst 0, 1) := dk_3 (dk_at dksX0_versions_0 4 rfl rfl)
theorem dX0_versions_5 : decode cX0_versions 5 = .ok (.istore_n 1, 1) := dk_60 (dk_at dksX0_versions_0 5 rfl rfl)
theorem dX0_versions_6 : decode cX0_versions 6 = .ok (.iconst 0, 1) := dk_3 (dk_at dksX0_versions_0 6 rfl rfl)
theorem dX0_versions_7 : decode cX0_versions 7 = .ok (.istore_n 2, 1) := dk_61 (dk_at dksX0_versions_0 7 rfl rfl)
theorem dX0_versions_8 : decode cX0_versions 8 = .ok (.iload_n 2, 1) := dk_28 (dk_at dksX0_versions_0 8 rfl rfl)
theorem dX0_versions_9 : decode cX0_versions 9 = .ok (.aload_n 0, 1) := dk_42 (dk_at dksX0_versions_0 9 rfl rfl)
theorem dX0_versions_10 : decode cX0_versions 10 = .ok (.getfield 113, 3) := dk_180 0 113 (dk_at dksX0_versions_0 10 rfl rfl)
theorem dX0_versions_13 : decode cX0_versions 13 = .ok (.invokeinterface 145 1, 5) := by decide +kernel
theorem dX0_versions_18 : decode cX0_versions 18 = .ok (.if_icmp .ge 51, 3) := dk_162 0 51 (dk_at dksX0_versions_0 18 rfl rfl)
theorem dX0_versions_21 : decode cX0_versions 21 = .ok (.iload_n 1, 1) := dk_27 (dk_at dksX0_versions_0 21 rfl rfl)
theorem dX0_versions_22 : decode cX0_versions 22 = .ok (.aload_n 0, 1) := dk_42 (dk_at dksX0_versions_0 22 rfl rfl)
theorem dX0_versions_23 : decode cX0_versions 23 = .ok (.getfield 113, 3) := dk_180 0 113 (dk_at dksX0_versions_1 0 rfl rfl)
theorem dX0_versions_26 : decode cX0_versions 26 = .ok (.iload_n 2, 1) := dk_28 (dk_at dksX0_versions_1 3 rfl rfl)
theorem dX0_versions_27 : decode cX0_versions 27 = .ok (.invokeinterface 149 2, 5) := by decide +kernel
theorem dX0_versions_32 : decode cX0_versions 32 = .ok (.checkcast 128, 3) := dk_192 0 128 (dk_at dksX0_versions_1 9 rfl rfl)
theorem dX0_versions_35 : decode cX0_versions 35 = .ok (.getfield 408, 3) := dk_180 1 152 (dk_at dksX0_versions_1 12 rfl rfl)
theorem dX0_versions_38 : decode cX0_versions 38 = .ok (.ifCond .eq 22, 3) := dk_153 0 22 (dk_at dksX0_versions_1 15 rfl rfl)
theorem dX0_versions_41 : decode cX0_versions 41 = .ok (.aload_n 0, 1) := dk_42 (dk_at dksX0_versions_1 18 rfl rfl)
theorem dX0_versions_42 : decode cX0_versions 42 = .ok (.getfield 113, 3) := dk_180 0 113 (dk_at dksX0_versions_1 19 rfl rfl)
theorem dX0_versions_45 : decode cX0_versions 45 = .ok (.iload_n 2, 1) := dk_28 (dk_at dksX0_versions_1 22 rfl rfl)
theorem dX0_versions_46 : decode cX0_versions 46 = .ok (.invokeinterface 149 2, 5) := by decide +kernel
theorem dX0_versions_51 : decode cX0_versions 51 = .ok (.checkcast 128, 3) := dk_192 0 128 (dk_at dksX0_versions_2 5 rfl rfl)
theorem dX0_versions_54 : decode cX0_versions 54 = .ok (.invokevirtual 420, 3) := dk_182 1 164 (dk_at dksX0_versions_2 8 rfl rfl)
theorem dX0_versions_57 : decode cX0_versions 57 = .ok (.goto 4, 3) := dk_167 0 4 (dk_at dksX0_versions_2 11 rfl rfl)
theorem dX0_versions_60 : decode cX0_versions 60 = .ok (.iconst 0, 1) := dk_3 (dk_at dksX0_versions_2 14 rfl rfl)
theorem dX0_versions_61 : decode cX0_versions 61 = .ok (.iadd, 1) := dk_96 (dk_at dksX0_versions_2 15 rfl rfl)
theorem dX0_versions_62 : decode cX0_versions 62 = .ok (.istore_n 1, 1) := dk_60 (dk_at dksX0_versions_2 16 rfl rfl)
theorem dX0_versions_63 : decode cX0_versions 63 = .ok (.iinc 2 1, 3) := dk_132 2 1 (dk_at dksX0_versions_2 17 rfl rfl)
theorem dX0_versions_66 : decode cX0_versions 66 = .ok (.goto (-58), 3) := dk_167 255 198 (dk_at dksX0_versions_2 20 rfl rfl)
theorem dX0_versions_69 : decode cX0_versions 69 = .ok (.iload_n 1, 1) := dk_27 (dk_at dksX0_versions_2 23 rfl rfl)
theorem dX0_versions_70 : decode cX0_versions 70 = .ok (.ireturn, 1) := dk_172 (dk_at dksX0_versions_3 0 rfl rfl)
def dkwX0_looks_6 : List UInt8 := [45, 180, 0, 235, 45, 181, 1, 158, 45, 180, 0, 235, 78, 167, 255, 207, 132, 1, 1, 167, 255, 139, 177]
abbrev dktX0_looks_6 : List UInt8 := dkwX0_looks_6 ++ []
def dkwX0_looks_5 : List UInt8 := [4, 181, 1, 152, 45, 180, 0, 235, 198, 0, 24, 45, 180, 0, 235, 89, 180, 1, 155, 4, 96, 181, 1, 155]
abbrev dktX0_looks_5 : List UInt8 := dkwX0_looks_5 ++ dktX0_looks_6
def dkwX0_looks_4 : List UInt8 := [180, 0, 229, 4, 181, 1, 150, 44, 180, 0, 177, 78, 45, 198, 0, 51, 45, 180, 1, 152, 154, 0, 44, 45]
abbrev dktX0_looks_4 : List UInt8 := dkwX0_looks_4 ++ dktX0_looks_5
def dkwX0_looks_3 : List UInt8 := [180, 0, 197, 154, 0, 83, 44, 180, 0, 177, 4, 181, 1, 148, 44, 180, 0, 229, 198, 0, 11, 44]
abbrev dktX0_looks_3 : List UInt8 := dkwX0_looks_3 ++ dktX0_looks_4
def dkwX0_looks_2 : List UInt8 := [185, 0, 145, 1, 0, 162, 0, 110, 42, 180, 0, 110, 27, 185, 0, 149, 2, 0, 192, 0, 143, 77, 44]
abbrev dktX0_looks_2 : List UInt8 := dkwX0_looks_2 ++ dktX0_looks_3
def dkwX0_looks_1 : List UInt8 := [185, 0, 149, 2, 0, 192, 0, 128, 182, 1, 145, 132, 1, 1, 167, 255, 224, 3, 60, 27, 42, 180, 0, 110]
abbrev dktX0_looks_1 : List UInt8 := dkwX0_looks_1 ++ dktX0_looks_2
def dkwX0_looks_0 : List UInt8 := [3, 60, 27, 42, 180, 0, 113, 185, 0, 145, 1, 0, 162, 0, 25, 42, 180, 0, 113, 27]
abbrev dktX0_looks_0 : List UInt8 := dkwX0_looks_0 ++ dktX0_looks_1
theorem dksX0_looks_0 : cX0_looks.data.toList.drop 0 = dktX0_looks_0 := by decide +kernel
theorem dksX0_looks_1 : cX0_looks.data.toList.drop 20 = dktX0_looks_1 := dk_seg dksX0_looks_0 20 rfl rfl
theorem dksX0_looks_2 : cX0_looks.data.toList.drop 44 = dktX0_looks_2 := dk_seg dksX0_looks_1 24 rfl rfl
theorem dksX0_looks_3 : cX0_looks.data.toList.drop 67 = dktX0_looks_3 := dk_seg dksX0_looks_2 23 rfl rfl
theorem dksX0_looks_4 : cX0_looks.data.toList.drop 89 = dktX0_looks_4 := dk_seg dksX0_looks_3 22 rfl rfl
theorem dksX0_looks_5 : cX0_looks.data.toList.drop 113 = dktX0_looks_5 := dk_seg dksX0_looks_4 24 rfl rfl
theorem dksX0_looks_6 : cX0_looks.data.toList.drop 137 = dktX0_looks_6 := dk_seg dksX0_looks_5 24 rfl rfl
theorem dX0_looks_0 : decode cX0_looks 0 = .ok (.iconst 0, 1) := dk_3 (dk_at dksX0_looks_0 0 rfl rfl)
theorem dX0_looks_1 : decode cX0_looks 1 = .ok (.istore_n 1, 1) := dk_60 (dk_at dksX0_looks_0 1 rfl rfl)
theorem dX0_looks_2 : decode cX0_looks 2 = .ok (.iload_n 1, 1) := dk_27 (dk_at dksX0_looks_0 2 rfl rfl)
theorem dX0_looks_3 : decode cX0_looks 3 = .ok (.aload_n 0, 1) := dk_42 (dk_at dksX0_looks_0 3 rfl rfl)
theorem dX0_looks_4 : decode cX0_looks 4 = .ok (.getfield 113, 3) := dk_180 0 113 (dk_at dksX0_looks_0 4 rfl rfl)
theorem dX0_looks_7 : decode cX0_looks 7 = .ok (.invokeinterface 145 1, 5) := by decide +kernel
theorem dX0_looks_12 : decode cX0_looks 12 = .ok (.if_icmp .ge 25, 3) := dk_162 0 25 (dk_at dksX0_looks_0 12 rfl rfl)
theorem dX0_looks_15 : decode cX0_looks 15 = .ok (.aload_n 0, 1) := dk_42 (dk_at dksX0_looks_0 15 rfl rfl)
theorem dX0_looks_16 : decode cX0_looks 16 = .ok (.getfield 113, 3) := dk_180 0 113 (dk_at dksX0_looks_0 16 rfl rfl)
theorem dX0_looks_19 : decode cX0_looks 19 = .ok (.iload_n 1, 1) := dk_27 (dk_at dksX0_looks_0 19 rfl rfl)
theorem dX0_looks_20 : decode cX0_looks 20 = .ok (.invokeinterface 149 2, 5) := by decide +kernel
theorem dX0_looks_25 : decode cX0_looks 25 = .ok (.checkcast 128, 3) := dk_192 0 128 (dk_at dksX0_looks_1 5 rfl rfl)
theorem dX0_looks_28 : decode cX0_looks 28 = .ok (.invokevirtual 401, 3) := dk_182 1 145 (dk_at dksX0_looks_1 8 rfl rfl)
theorem dX0_looks_31 : decode cX0_looks 31 = .ok (.iinc 1 1, 3) := dk_132 1 1 (dk_at dksX0_looks_1 11 rfl rfl)
theorem dX0_looks_34 : decode cX0_looks 34 = .ok (.goto (-32), 3) := dk_167 255 224 (dk_at dksX0_looks_1 14 rfl rfl)
theorem dX0_looks_37 : decode cX0_looks 37 = .ok (.iconst 0, 1) := dk_3 (dk_at dksX0_looks_1 17 rfl rfl)
theorem dX0_looks_38 : decode cX0_looks 38 = .ok (.istore_n 1, 1) := dk_60 (dk_at dksX0_looks_1 18 rfl rfl)
theorem dX0_looks_39 : decode cX0_looks 39 = .ok (.iload_n 1, 1) := dk_27 (dk_at dksX0_looks_1 19 rfl rfl)
theorem dX0_looks_40 : decode cX0_looks 40 = .ok (.aload_n 0, 1) := dk_42 (dk_at dksX0_looks_1 20 rfl rfl)
theorem dX0_looks_41 : decode cX0_looks 41 = .ok (.getfield 110, 3) := dk_180 0 110 (dk_at dksX0_looks_1 21 rfl rfl)
theorem dX0_looks_44 : decode cX0_looks 44 = .ok (.invokeinterface 145 1, 5) := by decide +kernel
theorem dX0_looks_49 : decode cX0_looks 49 = .ok (.if_icmp .ge 110, 3) := dk_162 0 110 (dk_at dksX0_looks_2 5 rfl rfl)
theorem dX0_looks_52 : decode cX0_looks 52 = .ok (.aload_n 0, 1) := dk_42 (dk_at dksX0_looks_2 8 rfl rfl)
theorem dX0_looks_53 : decode cX0_looks 53 = .ok (.getfield 110, 3) := dk_180 0 110 (dk_at dksX0_looks_2 9 rfl rfl)
theorem dX0_looks_56 : decode cX0_looks 56 = .ok (.iload_n 1, 1) := dk_27 (dk_at dksX0_looks_2 12 rfl rfl)
theorem dX0_looks_57 : decode cX0_looks 57 = .ok (.invokeinterface 149 2, 5) := by decide +kernel
theorem dX0_looks_62 : decode cX0_looks 62 = .ok (.checkcast 143, 3) := dk_192 0 143 (dk_at dksX0_looks_2 18 rfl rfl)
theorem dX0_looks_65 : decode cX0_looks 65 = .ok (.astore_n 2, 1) := dk_77 (dk_at dksX0_looks_2 21 rfl rfl)
theorem dX0_looks_66 : decode cX0_looks 66 = .ok (.aload_n 2, 1) := dk_44 (dk_at dksX0_looks_2 22 rfl rfl)
theorem dX0_looks_67 : decode cX0_looks 67 = .ok (.getfield 197, 3) := dk_180 0 197 (dk_at dksX0_looks_3 0 rfl rfl)
theorem dX0_looks_70 : decode cX0_looks 70 = .ok (.ifCond .ne 83, 3) := dk_154 0 83 (dk_at dksX0_looks_3 3 rfl rfl)
theorem dX0_looks_73 : decode cX0_looks 73 = .ok (.aload_n 2, 1) := dk_44 (dk_at dksX0_looks_3 6 rfl rfl)
theorem dX0_looks_74 : decode cX0_looks 74 = .ok (.getfield 177, 3) := dk_180 0 177 (dk_at dksX0_looks_3 7 rfl rfl)
theorem dX0_looks_77 : decode cX0_looks 77 = .ok (.iconst 1, 1) := dk_4 (dk_at dksX0_looks_3 10 rfl rfl)
theorem dX0_looks_78 : decode cX0_looks 78 = .ok (.putfield 404, 3) := dk_181 1 148 (dk_at dksX0_looks_3 11 rfl rfl)
theorem dX0_looks_81 : decode cX0_looks 81 = .ok (.aload_n 2, 1) := dk_44 (dk_at dksX0_looks_3 14 rfl rfl)
theorem dX0_looks_82 : decode cX0_looks 82 = .ok (.getfield 229, 3) := dk_180 0 229 (dk_at dksX0_looks_3 15 rfl rfl)
theorem dX0_looks_85 : decode cX0_looks 85 = .ok (.ifnull 11, 3) := dk_198 0 11 (dk_at dksX0_looks_3 18 rfl rfl)
theorem dX0_looks_88 : decode cX0_looks 88 = .ok (.aload_n 2, 1) := dk_44 (dk_at dksX0_looks_3 21 rfl rfl)
theorem dX0_looks_89 : decode cX0_looks 89 = .ok (.getfield 229, 3) := dk_180 0 229 (dk_at dksX0_looks_4 0 rfl rfl)
theorem dX0_looks_92 : decode cX0_looks 92 = .ok (.iconst 1, 1) := dk_4 (dk_at dksX0_looks_4 3 rfl rfl)
theorem dX0_looks_93 : decode cX0_looks 93 = .ok (.putfield 406, 3) := dk_181 1 150 (dk_at dksX0_looks_4 4 rfl rfl)
theorem dX0_looks_96 : decode cX0_looks 96 = .ok (.aload_n 2, 1) := dk_44 (dk_at dksX0_looks_4 7 rfl rfl)
theorem dX0_looks_97 : decode cX0_looks 97 = .ok (.getfield 177, 3) := dk_180 0 177 (dk_at dksX0_looks_4 8 rfl rfl)
theorem dX0_looks_100 : decode cX0_looks 100 = .ok (.astore_n 3, 1) := dk_78 (dk_at dksX0_looks_4 11 rfl rfl)
theorem dX0_looks_101 : decode cX0_looks 101 = .ok (.aload_n 3, 1) := dk_45 (dk_at dksX0_looks_4 12 rfl rfl)
theorem dX0_looks_102 : decode cX0_looks 102 = .ok (.ifnull 51, 3) := dk_198 0 51 (dk_at dksX0_looks_4 13 rfl rfl)
theorem dX0_looks_105 : decode cX0_looks 105 = .ok (.aload_n 3, 1) := dk_45 (dk_at dksX0_looks_4 16 rfl rfl)
theorem dX0_looks_106 : decode cX0_looks 106 = .ok (.getfield 408, 3) := dk_180 1 152 (dk_at dksX0_looks_4 17 rfl rfl)
theorem dX0_looks_109 : decode cX0_looks 109 = .ok (.ifCond .ne 44, 3) := dk_154 0 44 (dk_at dksX0_looks_4 20 rfl rfl)
theorem dX0_looks_112 : decode cX0_looks 112 = .ok (.aload_n 3, 1) := dk_45 (dk_at dksX0_looks_4 23 rfl rfl)
theorem dX0_looks_113 : decode cX0_looks 113 = .ok (.iconst 1, 1) := dk_4 (dk_at dksX0_looks_5 0 rfl rfl)
theorem dX0_looks_114 : decode cX0_looks 114 = .ok (.putfield 408, 3) := dk_181 1 152 (dk_at dksX0_looks_5 1 rfl rfl)
theorem dX0_looks_117 : decode cX0_looks 117 = .ok (.aload_n 3, 1) := dk_45 (dk_at dksX0_looks_5 4 rfl rfl)
theorem dX0_looks_118 : decode cX0_looks 118 = .ok (.getfield 235, 3) := dk_180 0 235 (dk_at dksX0_looks_5 5 rfl rfl)
theorem dX0_looks_121 : decode cX0_looks 121 = .ok (.ifnull 24, 3) := dk_198 0 24 (dk_at dksX0_looks_5 8 rfl rfl)
theorem dX0_looks_124 : decode cX0_looks 124 = .ok (.aload_n 3, 1) := dk_45 (dk_at dksX0_looks_5 11 rfl rfl)
theorem dX0_looks_125 : decode cX0_looks 125 = .ok (.getfield 235, 3) := dk_180 0 235 (dk_at dksX0_looks_5 12 rfl rfl)
theorem dX0_looks_128 : decode cX0_looks 128 = .ok (.dup, 1) := dk_89 (dk_at dksX0_looks_5 15 rfl rfl)
theorem dX0_looks_129 : decode cX0_looks 129 = .ok (.getfield 411, 3) := dk_180 1 155 (dk_at dksX0_looks_5 16 rfl rfl)
theorem dX0_looks_132 : decode cX0_looks 132 = .ok (.iconst 1, 1) := dk_4 (dk_at dksX0_looks_5 19 rfl rfl)
theorem dX0_looks_133 : decode cX0_looks 133 = .ok (.iadd, 1) := dk_96 (dk_at dksX0_looks_5 20 rfl rfl)
theorem dX0_looks_134 : decode cX0_looks 134 = .ok (.putfield 411, 3) := dk_181 1 155 (dk_at dksX0_looks_5 21 rfl rfl)
theorem dX0_looks_137 : decode cX0_looks 137 = .ok (.aload_n 3, 1) := dk_45 (dk_at dksX0_looks_6 0 rfl rfl)
theorem dX0_looks_138 : decode cX0_looks 138 = .ok (.getfield 235, 3) := dk_180 0 235 (dk_at dksX0_looks_6 1 rfl rfl)
theorem dX0_looks_141 : decode cX0_looks 141 = .ok (.aload_n 3, 1) := dk_45 (dk_at dksX0_looks_6 4 rfl rfl)
theorem dX0_looks_142 : decode cX0_looks 142 = .ok (.putfield 414, 3) := dk_181 1 158 (dk_at dksX0_looks_6 5 rfl rfl)
theorem dX0_looks_145 : decode cX0_looks 145 = .ok (.aload_n 3, 1) := dk_45 (dk_at dksX0_looks_6 8 rfl rfl)
theorem dX0_looks_146 : decode cX0_looks 146 = .ok (.getfield 235, 3) := dk_180 0 235 (dk_at dksX0_looks_6 9 rfl rfl)
theorem dX0_looks_149 : decode cX0_looks 149 = .ok (.astore_n 3, 1) := dk_78 (dk_at dksX0_looks_6 12 rfl rfl)
theorem dX0_looks_150 : decode cX0_looks 150 = .ok (.goto (-49), 3) := dk_167 255 207 (dk_at dksX0_looks_6 13 rfl rfl)
theorem dX0_looks_153 : decode cX0_looks 153 = .ok (.iinc 1 1, 3) := dk_132 1 1 (dk_at dksX0_looks_6 16 rfl rfl)
theorem dX0_looks_156 : decode cX0_looks 156 = .ok (.goto (-117), 3) := dk_167 255 139 (dk_at dksX0_looks_6 19 rfl rfl)
theorem dX0_looks_159 : decode cX0_looks 159 = .ok (.return_, 1) := dk_177 (dk_at dksX0_looks_6 22 rfl rfl)
def dkwX0_first_2 : List UInt8 := [180, 1, 150, 154, 0, 13, 44, 180, 1, 155, 4, 160, 0, 5, 44, 176, 132, 1, 1, 167, 255, 195, 1, 176]
abbrev dktX0_first_2 : List UInt8 := dkwX0_first_2 ++ []
def dkwX0_first_1 : List UInt8 := [185, 0, 149, 2, 0, 192, 0, 128, 77, 44, 180, 1, 152, 153, 0, 27, 44, 180, 1, 148, 154, 0, 20, 44]
abbrev dktX0_first_1 : List UInt8 := dkwX0_first_1 ++ dktX0_first_2
def dkwX0_first_0 : List UInt8 := [42, 182, 1, 161, 3, 60, 27, 42, 180, 0, 113, 185, 0, 145, 1, 0, 162, 0, 54, 42, 180, 0, 113, 27]
abbrev dktX0_first_0 : List UInt8 := dkwX0_first_0 ++ dktX0_first_1
theorem dksX0_first_0 : cX0_first.data.toList.drop 0 = dktX0_first_0 := by decide +kernel
theorem dksX0_first_1 : cX0_first.data.toList.drop 24 = dktX0_first_1 := dk_seg dksX0_first_0 24 rfl rfl
theorem dksX0_first_2 : cX0_first.data.toList.drop 48 = dktX0_first_2 := dk_seg dksX0_first_1 24 rfl rfl
theorem dX0_first_0 : decode cX0_first 0 = .ok (.aload_n 0, 1) := dk_42 (dk_at dksX0_first_0 0 rfl rfl)
theorem dX0_first_1 : decode cX0_first 1 = .ok (.invokevirtual 417, 3) := dk_182 1 161 (dk_at dksX0_first_0 1 rfl rfl)
theorem dX0_first_4 : decode cX0_first 4 = .ok (.iconst 0, 1) := dk_3 (dk_at dksX0_first_0 4 rfl rfl)
theorem dX0_first_5 : decode cX0_first 5 = .ok (.istore_n 1, 1) := dk_60 (dk_at dksX0_first_0 5 rfl rfl)
theorem dX0_first_6 : decode cX0_first 6 = .ok (.iload_n 1, 1) := dk_27 (dk_at dksX0_first_0 6 rfl rfl)
theorem dX0_first_7 : decode cX0_first 7 = .ok (.aload_n 0, 1) := dk_42 (dk_at dksX0_first_0 7 rfl rfl)
theorem dX0_first_8 : decode cX0_first 8 = .ok (.getfield 113, 3) := dk_180 0 113 (dk_at dksX0_first_0 8 rfl rfl)
theorem dX0_first_11 : decode cX0_first 11 = .ok (.invokeinterface 145 1, 5) := by decide +kernel
theorem dX0_first_16 : decode cX0_first 16 = .ok (.if_icmp .ge 54, 3) := dk_162 0 54 (dk_at dksX0_first_0 16 rfl rfl)
theorem dX0_first_19 : decode cX0_first 19 = .ok (.aload_n 0, 1) := dk_42 (dk_at dksX0_first_0 19 rfl rfl)
theorem dX0_first_20 : decode cX0_first 20 = .ok (.getfield 113, 3) := dk_180 0 113 (dk_at dksX0_first_0 20 rfl rfl)
theorem dX0_first_23 : decode cX0_first 23 = .ok (.iload_n 1, 1) := dk_27 (dk_at dksX0_first_0 23 rfl rfl)
theorem dX0_first_24 : decode cX0_first 24 = .ok (.invokeinterface 149 2, 5) := by decide +kernel
theorem dX0_first_29 : decode cX0_first 29 = .ok (.checkcast 128, 3) := dk_192 0 128 (dk_at dksX0_first_1 5 rfl rfl)
theorem dX0_first_32 : decode cX0_first 32 = .ok (.astore_n 2, 1) := dk_77 (dk_at dksX0_first_1 8 rfl rfl)
theorem dX0_first_33 : decode cX0_first 33 = .ok (.aload_n 2, 1) := dk_44 (dk_at dksX0_first_1 9 rfl rfl)
theorem dX0_first_34 : decode cX0_first 34 = .ok (.getfield 408, 3) := dk_180 1 152 (dk_at dksX0_first_1 10 rfl rfl)
theorem dX0_first_37 : decode cX0_first 37 = .ok (.ifCond .eq 27, 3) := dk_153 0 27 (dk_at dksX0_first_1 13 rfl rfl)
theorem dX0_first_40 : decode cX0_first 40 = .ok (.aload_n 2, 1) := dk_44 (dk_at dksX0_first_1 16 rfl rfl)
theorem dX0_first_41 : decode cX0_first 41 = .ok (.getfield 404, 3) := dk_180 1 148 (dk_at dksX0_first_1 17 rfl rfl)
theorem dX0_first_44 : decode cX0_first 44 = .ok (.ifCond .ne 20, 3) := dk_154 0 20 (dk_at dksX0_first_1 20 rfl rfl)
theorem dX0_first_47 : decode cX0_first 47 = .ok (.aload_n 2, 1) := dk_44 (dk_at dksX0_first_1 23 rfl rfl)
theorem dX0_first_48 : decode cX0_first 48 = .ok (.getfield 406, 3) := dk_180 1 150 (dk_at dksX0_first_2 0 rfl rfl)
theorem dX0_first_51 : decode cX0_first 51 = .ok (.ifCond .ne 13, 3) := dk_154 0 13 (dk_at dksX0_first_2 3 rfl rfl)
theorem dX0_first_54 : decode cX0_first 54 = .ok (.aload_n 2, 1) := dk_44 (dk_at dksX0_first_2 6 rfl rfl)
theorem dX0_first_55 : decode cX0_first 55 = .ok (.getfield 411, 3) := dk_180 1 155 (dk_at dksX0_first_2 7 rfl rfl)
theorem dX0_first_58 : decode cX0_first 58 = .ok (.iconst 1, 1) := dk_4 (dk_at dksX0_first_2 10 rfl rfl)
theorem dX0_first_59 : decode cX0_first 59 = .ok (.if_icmp .ne 5, 3) := dk_160 0 5 (dk_at dksX0_first_2 11 rfl rfl)
theorem dX0_first_62 : decode cX0_first 62 = .ok (.aload_n 2, 1) := dk_44 (dk_at dksX0_first_2 14 rfl rfl)
theorem dX0_first_63 : decode cX0_first 63 = .ok (.areturn, 1) := dk_176 (dk_at dksX0_first_2 15 rfl rfl)
theorem dX0_first_64 : decode cX0_first 64 = .ok (.iinc 1 1, 3) := dk_132 1 1 (dk_at dksX0_first_2 16 rfl rfl)
theorem dX0_first_67 : decode cX0_first 67 = .ok (.goto (-61), 3) := dk_167 255 195 (dk_at dksX0_first_2 19 rfl rfl)
theorem dX0_first_70 : decode cX0_first 70 = .ok (.aconst_null, 1) := dk_1 (dk_at dksX0_first_2 22 rfl rfl)
theorem dX0_first_71 : decode cX0_first 71 = .ok (.areturn, 1) := dk_176 (dk_at dksX0_first_2 23 rfl rfl)
def dkwX0_version_1 : List UInt8 := [182, 1, 174, 153, 0, 12, 45, 180, 1, 176, 28, 47, 167, 0, 4, 9, 173]
abbrev dktX0_version_1 : List UInt8 := dkwX0_version_1 ++ []
def dkwX0_version_0 : List UInt8 := [42, 27, 182, 1, 182, 78, 45, 198, 0, 32, 28, 133, 9, 20, 0, 3, 184, 0, 5, 153, 0, 20, 45, 28]
abbrev dktX0_version_0 : List UInt8 := dkwX0_version_0 ++ dktX0_version_1
theorem dksX0_version_0 : cX0_version.data.toList.drop 0 = dktX0_version_0 := by decide +kernel
theorem dksX0_version_1 : cX0_version.data.toList.drop 24 = dktX0_version_1 := dk_seg dksX0_version_0 24 rfl rfl
theorem dX0_version_0 : decode cX0_version 0 = .ok (.aload_n 0, 1) := dk_42 (dk_at dksX0_version_0 0 rfl rfl)
theorem dX0_version_1 : decode cX0_version 1 = .ok (.iload_n 1, 1) := dk_27 (dk_at dksX0_version_0 1 rfl rfl)
theorem dX0_version_2 : decode cX0_version 2 = .ok (.invokevirtual 438, 3) := dk_182 1 182 (dk_at dksX0_version_0 2 rfl rfl)
theorem dX0_version_5 : decode cX0_version 5 = .ok (.astore_n 3, 1) := dk_78 (dk_at dksX0_version_0 5 rfl rfl)
theorem dX0_version_6 : decode cX0_version 6 = .ok (.aload_n 3, 1) := dk_45 (dk_at dksX0_version_0 6 rfl rfl)
theorem dX0_version_7 : decode cX0_version 7 = .ok (.ifnull 32, 3) := dk_198 0 32 (dk_at dksX0_version_0 7 rfl rfl)
theorem dX0_version_10 : decode cX0_version 10 = .ok (.iload_n 2, 1) := dk_28 (dk_at dksX0_version_0 10 rfl rfl)
theorem dX0_version_11 : decode cX0_version 11 = .ok (.i2l, 1) := dk_133 (dk_at dksX0_version_0 11 rfl rfl)
theorem dX0_version_12 : decode cX0_version 12 = .ok (.lconst 0, 1) := dk_9 (dk_at dksX0_version_0 12 rfl rfl)
theorem dX0_version_13 : decode cX0_version 13 = .ok (.ldc2_w 3, 3) := dk_20 0 3 (dk_at dksX0_version_0 13 rfl rfl)
theorem dX0_version_16 : decode cX0_version 16 = .ok (.invokestatic 5, 3) := dk_184 0 5 (dk_at dksX0_version_0 16 rfl rfl)
theorem dX0_version_19 : decode cX0_version 19 = .ok (.ifCond .eq 20, 3) := dk_153 0 20 (dk_at dksX0_version_0 19 rfl rfl)
theorem dX0_version_22 : decode cX0_version 22 = .ok (.aload_n 3, 1) := dk_45 (dk_at dksX0_version_0 22 rfl rfl)
theorem dX0_version_23 : decode cX0_version 23 = .ok (.iload_n 2, 1) := dk_28 (dk_at dksX0_version_0 23 rfl rfl)
theorem dX0_version_24 : decode cX0_version 24 = .ok (.invokevirtual 430, 3) := dk_182 1 174 (dk_at dksX0_version_1 0 rfl rfl)
theorem dX0_version_27 : decode cX0_version 27 = .ok (.ifCond .eq 12, 3) := dk_153 0 12 (dk_at dksX0_version_1 3 rfl rfl)
theorem dX0_version_30 : decode cX0_version 30 = .ok (.aload_n 3, 1) := dk_45 (dk_at dksX0_version_1 6 rfl rfl)
theorem dX0_version_31 : decode cX0_version 31 = .ok (.getfield 432, 3) := dk_180 1 176 (dk_at dksX0_version_1 7 rfl rfl)
theorem dX0_version_34 : decode cX0_version 34 = .ok (.iload_n 2, 1) := dk_28 (dk_at dksX0_version_1 10 rfl rfl)
theorem dX0_version_35 : decode cX0_version 35 = .ok (.laload, 1) := dk_47 (dk_at dksX0_version_1 11 rfl rfl)
theorem dX0_version_36 : decode cX0_version 36 = .ok (.goto 4, 3) := dk_167 0 4 (dk_at dksX0_version_1 12 rfl rfl)
theorem dX0_version_39 : decode cX0_version 39 = .ok (.lconst 0, 1) := dk_9 (dk_at dksX0_version_1 15 rfl rfl)
theorem dX0_version_40 : decode cX0_version 40 = .ok (.lreturn, 1) := dk_173 (dk_at dksX0_version_1 16 rfl rfl)
def dkwX0_held_3 : List UInt8 := [192, 0, 128, 176, 132, 2, 1, 167, 255, 187, 1, 176]
abbrev dktX0_held_3 : List UInt8 := dkwX0_held_3 ++ []
def dkwX0_held_2 : List UInt8 := [185, 0, 149, 2, 0, 192, 0, 128, 180, 1, 152, 153, 0, 17, 42, 180, 0, 113, 28, 185, 0, 149, 2, 0]
abbrev dktX0_held_2 : List UInt8 := dkwX0_held_2 ++ dktX0_held_3
def dkwX0_held_1 : List UInt8 := [185, 0, 149, 2, 0, 192, 0, 128, 180, 1, 138, 27, 160, 0, 36, 42, 180, 0, 113, 28]
abbrev dktX0_held_1 : List UInt8 := dkwX0_held_1 ++ dktX0_held_2
def dkwX0_held_0 : List UInt8 := [42, 182, 1, 161, 3, 61, 28, 42, 180, 0, 113, 185, 0, 145, 1, 0, 162, 0, 62, 42, 180, 0, 113, 28]
abbrev dktX0_held_0 : List UInt8 := dkwX0_held_0 ++ dktX0_held_1
theorem dksX0_held_0 : cX0_held.data.toList.drop 0 = dktX0_held_0 := by decide +kernel
theorem dksX0_held_1 : cX0_held.data.toList.drop 24 = dktX0_held_1 := dk_seg dksX0_held_0 24 rfl rfl
theorem dksX0_held_2 : cX0_held.data.toList.drop 44 = dktX0_held_2 := dk_seg dksX0_held_1 20 rfl rfl
theorem dksX0_held_3 : cX0_held.data.toList.drop 68 = dktX0_held_3 := dk_seg dksX0_held_2 24 rfl rfl
theorem dX0_held_0 : decode cX0_held 0 = .ok (.aload_n 0, 1) := dk_42 (dk_at dksX0_held_0 0 rfl rfl)
theorem dX0_held_1 : decode cX0_held 1 = .ok (.invokevirtual 417, 3) := dk_182 1 161 (dk_at dksX0_held_0 1 rfl rfl)
theorem dX0_held_4 : decode cX0_held 4 = .ok (.iconst 0, 1) := dk_3 (dk_at dksX0_held_0 4 rfl rfl)
theorem dX0_held_5 : decode cX0_held 5 = .ok (.istore_n 2, 1) := dk_61 (dk_at dksX0_held_0 5 rfl rfl)
theorem dX0_held_6 : decode cX0_held 6 = .ok (.iload_n 2, 1) := dk_28 (dk_at dksX0_held_0 6 rfl rfl)
theorem dX0_held_7 : decode cX0_held 7 = .ok (.aload_n 0, 1) := dk_42 (dk_at dksX0_held_0 7 rfl rfl)
theorem dX0_held_8 : decode cX0_held 8 = .ok (.getfield 113, 3) := dk_180 0 113 (dk_at dksX0_held_0 8 rfl rfl)
theorem dX0_held_11 : decode cX0_held 11 = .ok (.invokeinterface 145 1, 5) := by decide +kernel
theorem dX0_held_16 : decode cX0_held 16 = .ok (.if_icmp .ge 62, 3) := dk_162 0 62 (dk_at dksX0_held_0 16 rfl rfl)
theorem dX0_held_19 : decode cX0_held 19 = .ok (.aload_n 0, 1) := dk_42 (dk_at dksX0_held_0 19 rfl rfl)
theorem dX0_held_20 : decode cX0_held 20 = .ok (.getfield 113, 3) := dk_180 0 113 (dk_at dksX0_held_0 20 rfl rfl)
theorem dX0_held_23 : decode cX0_held 23 = .ok (.iload_n 2, 1) := dk_28 (dk_at dksX0_held_0 23 rfl rfl)
theorem dX0_held_24 : decode cX0_held 24 = .ok (.invokeinterface 149 2, 5) := by decide +kernel
theorem dX0_held_29 : decode cX0_held 29 = .ok (.checkcast 128, 3) := dk_192 0 128 (dk_at dksX0_held_1 5 rfl rfl)
theorem dX0_held_32 : decode cX0_held 32 = .ok (.getfield 394, 3) := dk_180 1 138 (dk_at dksX0_held_1 8 rfl rfl)
theorem dX0_held_35 : decode cX0_held 35 = .ok (.iload_n 1, 1) := dk_27 (dk_at dksX0_held_1 11 rfl rfl)
theorem dX0_held_36 : decode cX0_held 36 = .ok (.if_icmp .ne 36, 3) := dk_160 0 36 (dk_at dksX0_held_1 12 rfl rfl)
theorem dX0_held_39 : decode cX0_held 39 = .ok (.aload_n 0, 1) := dk_42 (dk_at dksX0_held_1 15 rfl rfl)
theorem dX0_held_40 : decode cX0_held 40 = .ok (.getfield 113, 3) := dk_180 0 113 (dk_at dksX0_held_1 16 rfl rfl)
theorem dX0_held_43 : decode cX0_held 43 = .ok (.iload_n 2, 1) := dk_28 (dk_at dksX0_held_1 19 rfl rfl)
theorem dX0_held_44 : decode cX0_held 44 = .ok (.invokeinterface 149 2, 5) := by decide +kernel
theorem dX0_held_49 : decode cX0_held 49 = .ok (.checkcast 128, 3) := dk_192 0 128 (dk_at dksX0_held_2 5 rfl rfl)
theorem dX0_held_52 : decode cX0_held 52 = .ok (.getfield 408, 3) := dk_180 1 152 (dk_at dksX0_held_2 8 rfl rfl)
theorem dX0_held_55 : decode cX0_held 55 = .ok (.ifCond .eq 17, 3) := dk_153 0 17 (dk_at dksX0_held_2 11 rfl rfl)
theorem dX0_held_58 : decode cX0_held 58 = .ok (.aload_n 0, 1) := dk_42 (dk_at dksX0_held_2 14 rfl rfl)
theorem dX0_held_59 : decode cX0_held 59 = .ok (.getfield 113, 3) := dk_180 0 113 (dk_at dksX0_held_2 15 rfl rfl)
theorem dX0_held_62 : decode cX0_held 62 = .ok (.iload_n 2, 1) := dk_28 (dk_at dksX0_held_2 18 rfl rfl)
theorem dX0_held_63 : decode cX0_held 63 = .ok (.invokeinterface 149 2, 5) := by decide +kernel
theorem dX0_held_68 : decode cX0_held 68 = .ok (.checkcast 128, 3) := dk_192 0 128 (dk_at dksX0_held_3 0 rfl rfl)
theorem dX0_held_71 : decode cX0_held 71 = .ok (.areturn, 1) := dk_176 (dk_at dksX0_held_3 3 rfl rfl)
theorem dX0_held_72 : decode cX0_held 72 = .ok (.iinc 2 1, 3) := dk_132 2 1 (dk_at dksX0_held_3 4 rfl rfl)
theorem dX0_held_75 : decode cX0_held 75 = .ok (.goto (-69), 3) := dk_167 255 187 (dk_at dksX0_held_3 7 rfl rfl)
theorem dX0_held_78 : decode cX0_held 78 = .ok (.aconst_null, 1) := dk_1 (dk_at dksX0_held_3 10 rfl rfl)
theorem dX0_held_79 : decode cX0_held 79 = .ok (.areturn, 1) := dk_176 (dk_at dksX0_held_3 11 rfl rfl)
def dkwX0_below_1 : List UInt8 := [167, 0, 10, 44, 180, 0, 235, 180, 1, 138, 172]
abbrev dktX0_below_1 : List UInt8 := dkwX0_below_1 ++ []
def dkwX0_below_0 : List UInt8 := [42, 27, 182, 1, 182, 77, 44, 199, 0, 7, 2, 167, 0, 22, 44, 180, 0, 235, 199, 0, 8, 16, 252]
abbrev dktX0_below_0 : List UInt8 := dkwX0_below_0 ++ dktX0_below_1
theorem dksX0_below_0 : cX0_below.data.toList.drop 0 = dktX0_below_0 := by decide +kernel
theorem dksX0_below_1 : cX0_below.data.toList.drop 23 = dktX0_below_1 := dk_seg dksX0_below_0 23 rfl rfl
theorem dX0_below_0 : decode cX0_below 0 = .ok (.aload_n 0, 1) := dk_42 (dk_at dksX0_below_0 0 rfl rfl)
theorem dX0_below_1 : decode cX0_below 1 = .ok (.iload_n 1, 1) := dk_27 (dk_at dksX0_below_0 1 rfl rfl)
theorem dX0_below_2 : decode cX0_below 2 = .ok (.invokevirtual 438, 3) := dk_182 1 182 (dk_at dksX0_below_0 2 rfl rfl)
theorem dX0_below_5 : decode cX0_below 5 = .ok (.astore_n 2, 1) := dk_77 (dk_at dksX0_below_0 5 rfl rfl)
theorem dX0_below_6 : decode cX0_below 6 = .ok (.aload_n 2, 1) := dk_44 (dk_at dksX0_below_0 6 rfl rfl)
theorem dX0_below_7 : decode cX0_below 7 = .ok (.ifnonnull 7, 3) := dk_199 0 7 (dk_at dksX0_below_0 7 rfl rfl)
theorem dX0_below_10 : decode cX0_below 10 = .ok (.iconst (-1), 1) := dk_2 (dk_at dksX0_below_0 10 rfl rfl)
theorem dX0_below_11 : decode cX0_below 11 = .ok (.goto 22, 3) := dk_167 0 22 (dk_at dksX0_below_0 11 rfl rfl)
theorem dX0_below_14 : decode cX0_below 14 = .ok (.aload_n 2, 1) := dk_44 (dk_at dksX0_below_0 14 rfl rfl)
theorem dX0_below_15 : decode cX0_below 15 = .ok (.getfield 235, 3) := dk_180 0 235 (dk_at dksX0_below_0 15 rfl rfl)
theorem dX0_below_18 : decode cX0_below 18 = .ok (.ifnonnull 8, 3) := dk_199 0 8 (dk_at dksX0_below_0 18 rfl rfl)
theorem dX0_below_21 : decode cX0_below 21 = .ok (.bipush (-4), 2) := dk_16 252 (dk_at dksX0_below_0 21 rfl rfl)
theorem dX0_below_23 : decode cX0_below 23 = .ok (.goto 10, 3) := dk_167 0 10 (dk_at dksX0_below_1 0 rfl rfl)
theorem dX0_below_26 : decode cX0_below 26 = .ok (.aload_n 2, 1) := dk_44 (dk_at dksX0_below_1 3 rfl rfl)
theorem dX0_below_27 : decode cX0_below 27 = .ok (.getfield 235, 3) := dk_180 0 235 (dk_at dksX0_below_1 4 rfl rfl)
theorem dX0_below_30 : decode cX0_below 30 = .ok (.getfield 394, 3) := dk_180 1 138 (dk_at dksX0_below_1 7 rfl rfl)
theorem dX0_below_33 : decode cX0_below 33 = .ok (.ireturn, 1) := dk_172 (dk_at dksX0_below_1 10 rfl rfl)
def dkwX0_count_9 : List UInt8 := [180, 0, 250, 172, 42, 180, 1, 27, 153, 0, 7, 4, 167, 0, 4, 3, 172, 2, 172]
abbrev dktX0_count_9 : List UInt8 := dkwX0_count_9 ++ []
def dkwX0_count_8 : List UInt8 := [96, 61, 167, 255, 220, 28, 172, 42, 182, 1, 167, 172, 42, 180, 0, 130, 172, 42, 180, 1, 59, 172, 42]
abbrev dktX0_count_8 : List UInt8 := dkwX0_count_8 ++ dktX0_count_9
def dkwX0_count_7 : List UInt8 := [185, 1, 194, 1, 0, 192, 0, 128, 58, 4, 28, 25, 4, 180, 1, 152, 153, 0, 7, 4, 167, 0, 4, 3]
abbrev dktX0_count_7 : List UInt8 := dkwX0_count_7 ++ dktX0_count_8
def dkwX0_count_6 : List UInt8 := [42, 180, 0, 113, 185, 1, 185, 1, 0, 78, 45, 185, 1, 189, 1, 0, 153, 0, 33, 45]
abbrev dktX0_count_6 : List UInt8 := dkwX0_count_6 ++ dktX0_count_7
def dkwX0_count_5 : List UInt8 := [25, 4, 182, 1, 198, 154, 0, 7, 4, 167, 0, 4, 3, 96, 61, 167, 255, 212, 28, 172, 42, 182, 1, 161]
abbrev dktX0_count_5 : List UInt8 := dkwX0_count_5 ++ dktX0_count_6
def dkwX0_count_4 : List UInt8 := [153, 0, 41, 45, 185, 1, 194, 1, 0, 192, 0, 143, 58, 4, 28, 25, 4, 180, 0, 197, 154, 0, 15]
abbrev dktX0_count_4 : List UInt8 := dkwX0_count_4 ++ dktX0_count_5
def dkwX0_count_3 : List UInt8 := [185, 0, 145, 1, 0, 172, 42, 180, 0, 110, 185, 1, 185, 1, 0, 78, 45, 185, 1, 189, 1, 0]
abbrev dktX0_count_3 : List UInt8 := dkwX0_count_3 ++ dktX0_count_4
def dkwX0_count_2 : List UInt8 := [42, 180, 0, 99, 185, 0, 145, 1, 0, 172, 42, 180, 0, 103, 185, 0, 145, 1, 0, 172, 42, 180, 0, 110]
abbrev dktX0_count_2 : List UInt8 := dkwX0_count_2 ++ dktX0_count_3
def dkwX0_count_1 : List UInt8 := [170, 0, 0, 0, 230, 0, 0, 0, 0, 0, 0, 0, 9, 0, 0, 0, 53, 0, 0, 0, 63, 0, 0, 0, 73, 0, 0, 0, 83, 0, 0, 0, 142, 0, 0, 0, 197, 0, 0, 0, 202, 0, 0, 0, 207, 0, 0, 0, 212, 0, 0, 0, 217]
abbrev dktX0_count_1 : List UInt8 := dkwX0_count_1 ++ dktX0_count_2
def dkwX0_count_0 : List UInt8 := [3, 61, 27]
abbrev dktX0_count_0 : List UInt8 := dkwX0_count_0 ++ dktX0_count_1
theorem dksX0_count_0 : cX0_count.data.toList.drop 0 = dktX0_count_0 := by decide +kernel
theorem dksX0_count_1 : cX0_count.data.toList.drop 3 = dktX0_count_1 := dk_seg dksX0_count_0 3 rfl rfl
theorem dksX0_count_2 : cX0_count.data.toList.drop 56 = dktX0_count_2 := dk_seg dksX0_count_1 53 rfl rfl
theorem dksX0_count_3 : cX0_count.data.toList.drop 80 = dktX0_count_3 := dk_seg dksX0_count_2 24 rfl rfl
theorem dksX0_count_4 : cX0_count.data.toList.drop 102 = dktX0_count_4 := dk_seg dksX0_count_3 22 rfl rfl
theorem dksX0_count_5 : cX0_count.data.toList.drop 125 = dktX0_count_5 := dk_seg dksX0_count_4 23 rfl rfl
theorem dksX0_count_6 : cX0_count.data.toList.drop 149 = dktX0_count_6 := dk_seg dksX0_count_5 24 rfl rfl
theorem dksX0_count_7 : cX0_count.data.toList.drop 169 = dktX0_count_7 := dk_seg dksX0_count_6 20 rfl rfl
theorem dksX0_count_8 : cX0_count.data.toList.drop 193 = dktX0_count_8 := dk_seg dksX0_count_7 24 rfl rfl
theorem dksX0_count_9 : cX0_count.data.toList.drop 216 = dktX0_count_9 := dk_seg dksX0_count_8 23 rfl rfl
theorem dX0_count_0 : decode cX0_count 0 = .ok (.iconst 0, 1) := dk_3 (dk_at dksX0_count_0 0 rfl rfl)
theorem dX0_count_1 : decode cX0_count 1 = .ok (.istore_n 2, 1) := dk_61 (dk_at dksX0_count_0 1 rfl rfl)
theorem dX0_count_2 : decode cX0_count 2 = .ok (.iload_n 1, 1) := dk_27 (dk_at dksX0_count_0 2 rfl rfl)
theorem dX0_count_3 : decode cX0_count 3 = .ok (.tableswitch 230 0 9 #[53, 63, 73, 83, 142, 197, 202, 207, 212, 217], 53) := by decide +kernel
theorem dX0_count_56 : decode cX0_count 56 = .ok (.aload_n 0, 1) := dk_42 (dk_at dksX0_count_2 0 rfl rfl)
theorem dX0_count_57 : decode cX0_count 57 = .ok (.getfield 99, 3) := dk_180 0 99 (dk_at dksX0_count_2 1 rfl rfl)
theorem dX0_count_60 : decode cX0_count 60 = .ok (.invokeinterface 145 1, 5) := by decide +kernel
theorem dX0_count_65 : decode cX0_count 65 = .ok (.ireturn, 1) := dk_172 (dk_at dksX0_count_2 9 rfl rfl)
theorem dX0_count_66 : decode cX0_count 66 = .ok (.aload_n 0, 1) := dk_42 (dk_at dksX0_count_2 10 rfl rfl)
theorem dX0_count_67 : decode cX0_count 67 = .ok (.getfield 103, 3) := dk_180 0 103 (dk_at dksX0_count_2 11 rfl rfl)
theorem dX0_count_70 : decode cX0_count 70 = .ok (.invokeinterface 145 1, 5) := by decide +kernel
theorem dX0_count_75 : decode cX0_count 75 = .ok (.ireturn, 1) := dk_172 (dk_at dksX0_count_2 19 rfl rfl)
theorem dX0_count_76 : decode cX0_count 76 = .ok (.aload_n 0, 1) := dk_42 (dk_at dksX0_count_2 20 rfl rfl)
theorem dX0_count_77 : decode cX0_count 77 = .ok (.getfield 110, 3) := dk_180 0 110 (dk_at dksX0_count_2 21 rfl rfl)
theorem dX0_count_80 : decode cX0_count 80 = .ok (.invokeinterface 145 1, 5) := by decide +kernel
theorem dX0_count_85 : decode cX0_count 85 = .ok (.ireturn, 1) := dk_172 (dk_at dksX0_count_3 5 rfl rfl)
theorem dX0_count_86 : decode cX0_count 86 = .ok (.aload_n 0, 1) := dk_42 (dk_at dksX0_count_3 6 rfl rfl)
theorem dX0_count_87 : decode cX0_count 87 = .ok (.getfield 110, 3) := dk_180 0 110 (dk_at dksX0_count_3 7 rfl rfl)
theorem dX0_count_90 : decode cX0_count 90 = .ok (.invokeinterface 441 1, 5) := by decide +kernel
theorem dX0_count_95 : decode cX0_count 95 = .ok (.astore_n 3, 1) := dk_78 (dk_at dksX0_count_3 15 rfl rfl)
theorem dX0_count_96 : decode cX0_count 96 = .ok (.aload_n 3, 1) := dk_45 (dk_at dksX0_count_3 16 rfl rfl)
theorem dX0_count_97 : decode cX0_count 97 = .ok (.invokeinterface 445 1, 5) := by decide +kernel
theorem dX0_count_102 : decode cX0_count 102 = .ok (.ifCond .eq 41, 3) := dk_153 0 41 (dk_at dksX0_count_4 0 rfl rfl)
theorem dX0_count_105 : decode cX0_count 105 = .ok (.aload_n 3, 1) := dk_45 (dk_at dksX0_count_4 3 rfl rfl)
theorem dX0_count_106 : decode cX0_count 106 = .ok (.invokeinterface 450 1, 5) := by decide +kernel
theorem dX0_count_111 : decode cX0_count 111 = .ok (.checkcast 143, 3) := dk_192 0 143 (dk_at dksX0_count_4 9 rfl rfl)
theorem dX0_count_114 : decode cX0_count 114 = .ok (.astore 4, 2) := dk_58 4 (dk_at dksX0_count_4 12 rfl rfl)
theorem dX0_count_116 : decode cX0_count 116 = .ok (.iload_n 2, 1) := dk_28 (dk_at dksX0_count_4 14 rfl rfl)
theorem dX0_count_117 : decode cX0_count 117 = .ok (.aload 4, 2) := dk_25 4 (dk_at dksX0_count_4 15 rfl rfl)
theorem dX0_count_119 : decode cX0_count 119 = .ok (.getfield 197, 3) := dk_180 0 197 (dk_at dksX0_count_4 17 rfl rfl)
theorem dX0_count_122 : decode cX0_count 122 = .ok (.ifCond .ne 15, 3) := dk_154 0 15 (dk_at dksX0_count_4 20 rfl rfl)
theorem dX0_count_125 : decode cX0_count 125 = .ok (.aload 4, 2) := dk_25 4 (dk_at dksX0_count_5 0 rfl rfl)
theorem dX0_count_127 : decode cX0_count 127 = .ok (.invokevirtual 454, 3) := dk_182 1 198 (dk_at dksX0_count_5 2 rfl rfl)
theorem dX0_count_130 : decode cX0_count 130 = .ok (.ifCond .ne 7, 3) := dk_154 0 7 (dk_at dksX0_count_5 5 rfl rfl)
theorem dX0_count_133 : decode cX0_count 133 = .ok (.iconst 1, 1) := dk_4 (dk_at dksX0_count_5 8 rfl rfl)
theorem dX0_count_134 : decode cX0_count 134 = .ok (.goto 4, 3) := dk_167 0 4 (dk_at dksX0_count_5 9 rfl rfl)
theorem dX0_count_137 : decode cX0_count 137 = .ok (.iconst 0, 1) := dk_3 (dk_at dksX0_count_5 12 rfl rfl)
theorem dX0_count_138 : decode cX0_count 138 = .ok (.iadd, 1) := dk_96 (dk_at dksX0_count_5 13 rfl rfl)
theorem dX0_count_139 : decode cX0_count 139 = .ok (.istore_n 2, 1) := dk_61 (dk_at dksX0_count_5 14 rfl rfl)
theorem dX0_count_140 : decode cX0_count 140 = .ok (.goto (-44), 3) := dk_167 255 212 (dk_at dksX0_count_5 15 rfl rfl)
theorem dX0_count_143 : decode cX0_count 143 = .ok (.iload_n 2, 1) := dk_28 (dk_at dksX0_count_5 18 rfl rfl)
theorem dX0_count_144 : decode cX0_count 144 = .ok (.ireturn, 1) := dk_172 (dk_at dksX0_count_5 19 rfl rfl)
theorem dX0_count_145 : decode cX0_count 145 = .ok (.aload_n 0, 1) := dk_42 (dk_at dksX0_count_5 20 rfl rfl)
theorem dX0_count_146 : decode cX0_count 146 = .ok (.invokevirtual 417, 3) := dk_182 1 161 (dk_at dksX0_count_5 21 rfl rfl)
theorem dX0_count_149 : decode cX0_count 149 = .ok (.aload_n 0, 1) := dk_42 (dk_at dksX0_count_6 0 rfl rfl)
theorem dX0_count_150 : decode cX0_count 150 = .ok (.getfield 113, 3) := dk_180 0 113 (dk_at dksX0_count_6 1 rfl rfl)
theorem dX0_count_153 : decode cX0_count 153 = .ok (.invokeinterface 441 1, 5) := by decide +kernel
theorem dX0_count_158 : decode cX0_count 158 = .ok (.astore_n 3, 1) := dk_78 (dk_at dksX0_count_6 9 rfl rfl)
theorem dX0_count_159 : decode cX0_count 159 = .ok (.aload_n 3, 1) := dk_45 (dk_at dksX0_count_6 10 rfl rfl)
theorem dX0_count_160 : decode cX0_count 160 = .ok (.invokeinterface 445 1, 5) := by decide +kernel
theorem dX0_count_165 : decode cX0_count 165 = .ok (.ifCond .eq 33, 3) := dk_153 0 33 (dk_at dksX0_count_6 16 rfl rfl)
theorem dX0_count_168 : decode cX0_count 168 = .ok (.aload_n 3, 1) := dk_45 (dk_at dksX0_count_6 19 rfl rfl)
theorem dX0_count_169 : decode cX0_count 169 = .ok (.invokeinterface 450 1, 5) := by decide +kernel
theorem dX0_count_174 : decode cX0_count 174 = .ok (.checkcast 128, 3) := dk_192 0 128 (dk_at dksX0_count_7 5 rfl rfl)
theorem dX0_count_177 : decode cX0_count 177 = .ok (.astore 4, 2) := dk_58 4 (dk_at dksX0_count_7 8 rfl rfl)
theorem dX0_count_179 : decode cX0_count 179 = .ok (.iload_n 2, 1) := dk_28 (dk_at dksX0_count_7 10 rfl rfl)
theorem dX0_count_180 : decode cX0_count 180 = .ok (.aload 4, 2) := dk_25 4 (dk_at dksX0_count_7 11 rfl rfl)
theorem dX0_count_182 : decode cX0_count 182 = .ok (.getfield 408, 3) := dk_180 1 152 (dk_at dksX0_count_7 13 rfl rfl)
theorem dX0_count_185 : decode cX0_count 185 = .ok (.ifCond .eq 7, 3) := dk_153 0 7 (dk_at dksX0_count_7 16 rfl rfl)
theorem dX0_count_188 : decode cX0_count 188 = .ok (.iconst 1, 1) := dk_4 (dk_at dksX0_count_7 19 rfl rfl)
theorem dX0_count_189 : decode cX0_count 189 = .ok (.goto 4, 3) := dk_167 0 4 (dk_at dksX0_count_7 20 rfl rfl)
theorem dX0_count_192 : decode cX0_count 192 = .ok (.iconst 0, 1) := dk_3 (dk_at dksX0_count_7 23 rfl rfl)
theorem dX0_count_193 : decode cX0_count 193 = .ok (.iadd, 1) := dk_96 (dk_at dksX0_count_8 0 rfl rfl)
theorem dX0_count_194 : decode cX0_count 194 = .ok (.istore_n 2, 1) := dk_61 (dk_at dksX0_count_8 1 rfl rfl)
theorem dX0_count_195 : decode cX0_count 195 = .ok (.goto (-36), 3) := dk_167 255 220 (dk_at dksX0_count_8 2 rfl rfl)
theorem dX0_count_198 : decode cX0_count 198 = .ok (.iload_n 2, 1) := dk_28 (dk_at dksX0_count_8 5 rfl rfl)
theorem dX0_count_199 : decode cX0_count 199 = .ok (.ireturn, 1) := dk_172 (dk_at dksX0_count_8 6 rfl rfl)
theorem dX0_count_200 : decode cX0_count 200 = .ok (.aload_n 0, 1) := dk_42 (dk_at dksX0_count_8 7 rfl rfl)
theorem dX0_count_201 : decode cX0_count 201 = .ok (.invokevirtual 423, 3) := dk_182 1 167 (dk_at dksX0_count_8 8 rfl rfl)
theorem dX0_count_204 : decode cX0_count 204 = .ok (.ireturn, 1) := dk_172 (dk_at dksX0_count_8 11 rfl rfl)
theorem dX0_count_205 : decode cX0_count 205 = .ok (.aload_n 0, 1) := dk_42 (dk_at dksX0_count_8 12 rfl rfl)
theorem dX0_count_206 : decode cX0_count 206 = .ok (.getfield 130, 3) := dk_180 0 130 (dk_at dksX0_count_8 13 rfl rfl)
theorem dX0_count_209 : decode cX0_count 209 = .ok (.ireturn, 1) := dk_172 (dk_at dksX0_count_8 16 rfl rfl)
theorem dX0_count_210 : decode cX0_count 210 = .ok (.aload_n 0, 1) := dk_42 (dk_at dksX0_count_8 17 rfl rfl)
theorem dX0_count_211 : decode cX0_count 211 = .ok (.getfield 315, 3) := dk_180 1 59 (dk_at dksX0_count_8 18 rfl rfl)
theorem dX0_count_214 : decode cX0_count 214 = .ok (.ireturn, 1) := dk_172 (dk_at dksX0_count_8 21 rfl rfl)
theorem dX0_count_215 : decode cX0_count 215 = .ok (.aload_n 0, 1) := dk_42 (dk_at dksX0_count_8 22 rfl rfl)
theorem dX0_count_216 : decode cX0_count 216 = .ok (.getfield 250, 3) := dk_180 0 250 (dk_at dksX0_count_9 0 rfl rfl)
theorem dX0_count_219 : decode cX0_count 219 = .ok (.ireturn, 1) := dk_172 (dk_at dksX0_count_9 3 rfl rfl)
theorem dX0_count_220 : decode cX0_count 220 = .ok (.aload_n 0, 1) := dk_42 (dk_at dksX0_count_9 4 rfl rfl)
theorem dX0_count_221 : decode cX0_count 221 = .ok (.getfield 283, 3) := dk_180 1 27 (dk_at dksX0_count_9 5 rfl rfl)
theorem dX0_count_224 : decode cX0_count 224 = .ok (.ifCond .eq 7, 3) := dk_153 0 7 (dk_at dksX0_count_9 8 rfl rfl)
theorem dX0_count_227 : decode cX0_count 227 = .ok (.iconst 1, 1) := dk_4 (dk_at dksX0_count_9 11 rfl rfl)
theorem dX0_count_228 : decode cX0_count 228 = .ok (.goto 4, 3) := dk_167 0 4 (dk_at dksX0_count_9 12 rfl rfl)
theorem dX0_count_231 : decode cX0_count 231 = .ok (.iconst 0, 1) := dk_3 (dk_at dksX0_count_9 15 rfl rfl)
theorem dX0_count_232 : decode cX0_count 232 = .ok (.ireturn, 1) := dk_172 (dk_at dksX0_count_9 16 rfl rfl)
theorem dX0_count_233 : decode cX0_count 233 = .ok (.iconst (-1), 1) := dk_2 (dk_at dksX0_count_9 17 rfl rfl)
theorem dX0_count_234 : decode cX0_count 234 = .ok (.ireturn, 1) := dk_172 (dk_at dksX0_count_9 18 rfl rfl)
def dkwX0_digest_9 : List UInt8 := [167, 255, 232, 132, 3, 1, 167, 255, 101, 31, 173]
abbrev dktX0_digest_9 : List UInt8 := dkwX0_digest_9 ++ []
def dkwX0_digest_8 : List UInt8 := [21, 4, 16, 16, 162, 0, 23, 20, 0, 211, 31, 105, 42, 29, 21, 4, 182, 1, 212, 97, 64, 132, 4, 1]
abbrev dktX0_digest_8 : List UInt8 := dkwX0_digest_8 ++ dktX0_digest_9
def dkwX0_digest_7 : List UInt8 := [20, 0, 211, 31, 105, 42, 29, 21, 4, 182, 1, 209, 97, 64, 132, 4, 1, 167, 255, 218, 3, 54, 4]
abbrev dktX0_digest_7 : List UInt8 := dkwX0_digest_7 ++ dktX0_digest_8
def dkwX0_digest_6 : List UInt8 := [54, 4, 21, 4, 42, 180, 0, 110, 29, 185, 0, 149, 2, 0, 192, 0, 143, 180, 0, 201, 162, 0, 23]
abbrev dktX0_digest_6 : List UInt8 := dkwX0_digest_6 ++ dktX0_digest_7
def dkwX0_digest_5 : List UInt8 := [20, 0, 211, 20, 0, 211, 31, 105, 42, 29, 182, 1, 204, 97, 105, 42, 29, 182, 1, 207, 97, 64, 3]
abbrev dktX0_digest_5 : List UInt8 := dkwX0_digest_5 ++ dktX0_digest_6
def dkwX0_digest_4 : List UInt8 := [185, 0, 149, 2, 0, 192, 0, 143, 21, 4, 182, 1, 141, 133, 97, 64, 132, 4, 1, 167, 255, 219]
abbrev dktX0_digest_4 : List UInt8 := dkwX0_digest_4 ++ dktX0_digest_5
def dkwX0_digest_3 : List UInt8 := [162, 0, 148, 3, 54, 4, 21, 4, 16, 14, 162, 0, 36, 20, 0, 211, 31, 105, 42, 42, 180, 0, 110, 29]
abbrev dktX0_digest_3 : List UInt8 := dkwX0_digest_3 ++ dktX0_digest_4
def dkwX0_digest_2 : List UInt8 := [29, 46, 133, 97, 64, 132, 3, 1, 167, 255, 233, 3, 62, 29, 42, 180, 0, 110, 185, 0, 145, 1, 0]
abbrev dktX0_digest_2 : List UInt8 := dkwX0_digest_2 ++ dktX0_digest_3
def dkwX0_digest_1 : List UInt8 := [64, 132, 3, 1, 167, 255, 234, 3, 62, 29, 16, 16, 162, 0, 23, 20, 0, 211, 31, 105, 42, 180, 0, 106]
abbrev dktX0_digest_1 : List UInt8 := dkwX0_digest_1 ++ dktX0_digest_2
def dkwX0_digest_0 : List UInt8 := [20, 1, 139, 64, 3, 62, 29, 16, 10, 162, 0, 22, 20, 0, 211, 31, 105, 42, 29, 182, 1, 201, 133, 97]
abbrev dktX0_digest_0 : List UInt8 := dkwX0_digest_0 ++ dktX0_digest_1
theorem dksX0_digest_0 : cX0_digest.data.toList.drop 0 = dktX0_digest_0 := by decide +kernel
theorem dksX0_digest_1 : cX0_digest.data.toList.drop 24 = dktX0_digest_1 := dk_seg dksX0_digest_0 24 rfl rfl
theorem dksX0_digest_2 : cX0_digest.data.toList.drop 48 = dktX0_digest_2 := dk_seg dksX0_digest_1 24 rfl rfl
theorem dksX0_digest_3 : cX0_digest.data.toList.drop 71 = dktX0_digest_3 := dk_seg dksX0_digest_2 23 rfl rfl
theorem dksX0_digest_4 : cX0_digest.data.toList.drop 95 = dktX0_digest_4 := dk_seg dksX0_digest_3 24 rfl rfl
theorem dksX0_digest_5 : cX0_digest.data.toList.drop 117 = dktX0_digest_5 := dk_seg dksX0_digest_4 22 rfl rfl
theorem dksX0_digest_6 : cX0_digest.data.toList.drop 140 = dktX0_digest_6 := dk_seg dksX0_digest_5 23 rfl rfl
theorem dksX0_digest_7 : cX0_digest.data.toList.drop 163 = dktX0_digest_7 := dk_seg dksX0_digest_6 23 rfl rfl
theorem dksX0_digest_8 : cX0_digest.data.toList.drop 186 = dktX0_digest_8 := dk_seg dksX0_digest_7 23 rfl rfl
theorem dksX0_digest_9 : cX0_digest.data.toList.drop 210 = dktX0_digest_9 := dk_seg dksX0_digest_8 24 rfl rfl
theorem dX0_digest_0 : decode cX0_digest 0 = .ok (.ldc2_w 395, 3) := dk_20 1 139 (dk_at dksX0_digest_0 0 rfl rfl)
theorem dX0_digest_3 : decode cX0_digest 3 = .ok (.lstore_n 1, 1) := dk_64 (dk_at dksX0_digest_0 3 rfl rfl)
theorem dX0_digest_4 : decode cX0_digest 4 = .ok (.iconst 0, 1) := dk_3 (dk_at dksX0_digest_0 4 rfl rfl)
theorem dX0_digest_5 : decode cX0_digest 5 = .ok (.istore_n 3, 1) := dk_62 (dk_at dksX0_digest_0 5 rfl rfl)
theorem dX0_digest_6 : decode cX0_digest 6 = .ok (.iload_n 3, 1) := dk_29 (dk_at dksX0_digest_0 6 rfl rfl)
theorem dX0_digest_7 : decode cX0_digest 7 = .ok (.bipush 10, 2) := dk_16 10 (dk_at dksX0_digest_0 7 rfl rfl)
theorem dX0_digest_9 : decode cX0_digest 9 = .ok (.if_icmp .ge 22, 3) := dk_162 0 22 (dk_at dksX0_digest_0 9 rfl rfl)
theorem dX0_digest_12 : decode cX0_digest 12 = .ok (.ldc2_w 211, 3) := dk_20 0 211 (dk_at dksX0_digest_0 12 rfl rfl)
theorem dX0_digest_15 : decode cX0_digest 15 = .ok (.lload_n 1, 1) := dk_31 (dk_at dksX0_digest_0 15 rfl rfl)
theorem dX0_digest_16 : decode cX0_digest 16 = .ok (.lmul, 1) := dk_105 (dk_at dksX0_digest_0 16 rfl rfl)
theorem dX0_digest_17 : decode cX0_digest 17 = .ok (.aload_n 0, 1) := dk_42 (dk_at dksX0_digest_0 17 rfl rfl)
theorem dX0_digest_18 : decode cX0_digest 18 = .ok (.iload_n 3, 1) := dk_29 (dk_at dksX0_digest_0 18 rfl rfl)
theorem dX0_digest_19 : decode cX0_digest 19 = .ok (.invokevirtual 457, 3) := dk_182 1 201 (dk_at dksX0_digest_0 19 rfl rfl)
theorem dX0_digest_22 : decode cX0_digest 22 = .ok (.i2l, 1) := dk_133 (dk_at dksX0_digest_0 22 rfl rfl)
theorem dX0_digest_23 : decode cX0_digest 23 = .ok (.ladd, 1) := dk_97 (dk_at dksX0_digest_0 23 rfl rfl)
theorem dX0_digest_24 : decode cX0_digest 24 = .ok (.lstore_n 1, 1) := dk_64 (dk_at dksX0_digest_1 0 rfl rfl)
theorem dX0_digest_25 : decode cX0_digest 25 = .ok (.iinc 3 1, 3) := dk_132 3 1 (dk_at dksX0_digest_1 1 rfl rfl)
theorem dX0_digest_28 : decode cX0_digest 28 = .ok (.goto (-22), 3) := dk_167 255 234 (dk_at dksX0_digest_1 4 rfl rfl)
theorem dX0_digest_31 : decode cX0_digest 31 = .ok (.iconst 0, 1) := dk_3 (dk_at dksX0_digest_1 7 rfl rfl)
theorem dX0_digest_32 : decode cX0_digest 32 = .ok (.istore_n 3, 1) := dk_62 (dk_at dksX0_digest_1 8 rfl rfl)
theorem dX0_digest_33 : decode cX0_digest 33 = .ok (.iload_n 3, 1) := dk_29 (dk_at dksX0_digest_1 9 rfl rfl)
theorem dX0_digest_34 : decode cX0_digest 34 = .ok (.bipush 16, 2) := dk_16 16 (dk_at dksX0_digest_1 10 rfl rfl)
theorem dX0_digest_36 : decode cX0_digest 36 = .ok (.if_icmp .ge 23, 3) := dk_162 0 23 (dk_at dksX0_digest_1 12 rfl rfl)
theorem dX0_digest_39 : decode cX0_digest 39 = .ok (.ldc2_w 211, 3) := dk_20 0 211 (dk_at dksX0_digest_1 15 rfl rfl)
theorem dX0_digest_42 : decode cX0_digest 42 = .ok (.lload_n 1, 1) := dk_31 (dk_at dksX0_digest_1 18 rfl rfl)
theorem dX0_digest_43 : decode cX0_digest 43 = .ok (.lmul, 1) := dk_105 (dk_at dksX0_digest_1 19 rfl rfl)
theorem dX0_digest_44 : decode cX0_digest 44 = .ok (.aload_n 0, 1) := dk_42 (dk_at dksX0_digest_1 20 rfl rfl)
theorem dX0_digest_45 : decode cX0_digest 45 = .ok (.getfield 106, 3) := dk_180 0 106 (dk_at dksX0_digest_1 21 rfl rfl)
theorem dX0_digest_48 : decode cX0_digest 48 = .ok (.iload_n 3, 1) := dk_29 (dk_at dksX0_digest_2 0 rfl rfl)
theorem dX0_digest_49 : decode cX0_digest 49 = .ok (.iaload, 1) := dk_46 (dk_at dksX0_digest_2 1 rfl rfl)
theorem dX0_digest_50 : decode cX0_digest 50 = .ok (.i2l, 1) := dk_133 (dk_at dksX0_digest_2 2 rfl rfl)
theorem dX0_digest_51 : decode cX0_digest 51 = .ok (.ladd, 1) := dk_97 (dk_at dksX0_digest_2 3 rfl rfl)
theorem dX0_digest_52 : decode cX0_digest 52 = .ok (.lstore_n 1, 1) := dk_64 (dk_at dksX0_digest_2 4 rfl rfl)
theorem dX0_digest_53 : decode cX0_digest 53 = .ok (.iinc 3 1, 3) := dk_132 3 1 (dk_at dksX0_digest_2 5 rfl rfl)
theorem dX0_digest_56 : decode cX0_digest 56 = .ok (.goto (-23), 3) := dk_167 255 233 (dk_at dksX0_digest_2 8 rfl rfl)
theorem dX0_digest_59 : decode cX0_digest 59 = .ok (.iconst 0, 1) := dk_3 (dk_at dksX0_digest_2 11 rfl rfl)
theorem dX0_digest_60 : decode cX0_digest 60 = .ok (.istore_n 3, 1) := dk_62 (dk_at dksX0_digest_2 12 rfl rfl)
theorem dX0_digest_61 : decode cX0_digest 61 = .ok (.iload_n 3, 1) := dk_29 (dk_at dksX0_digest_2 13 rfl rfl)
theorem dX0_digest_62 : decode cX0_digest 62 = .ok (.aload_n 0, 1) := dk_42 (dk_at dksX0_digest_2 14 rfl rfl)
theorem dX0_digest_63 : decode cX0_digest 63 = .ok (.getfield 110, 3) := dk_180 0 110 (dk_at dksX0_digest_2 15 rfl rfl)
theorem dX0_digest_66 : decode cX0_digest 66 = .ok (.invokeinterface 145 1, 5) := by decide +kernel
theorem dX0_digest_71 : decode cX0_digest 71 = .ok (.if_icmp .ge 148, 3) := dk_162 0 148 (dk_at dksX0_digest_3 0 rfl rfl)
theorem dX0_digest_74 : decode cX0_digest 74 = .ok (.iconst 0, 1) := dk_3 (dk_at dksX0_digest_3 3 rfl rfl)
theorem dX0_digest_75 : decode cX0_digest 75 = .ok (.istore 4, 2) := dk_54 4 (dk_at dksX0_digest_3 4 rfl rfl)
theorem dX0_digest_77 : decode cX0_digest 77 = .ok (.iload 4, 2) := dk_21 4 (dk_at dksX0_digest_3 6 rfl rfl)
theorem dX0_digest_79 : decode cX0_digest 79 = .ok (.bipush 14, 2) := dk_16 14 (dk_at dksX0_digest_3 8 rfl rfl)
theorem dX0_digest_81 : decode cX0_digest 81 = .ok (.if_icmp .ge 36, 3) := dk_162 0 36 (dk_at dksX0_digest_3 10 rfl rfl)
theorem dX0_digest_84 : decode cX0_digest 84 = .ok (.ldc2_w 211, 3) := dk_20 0 211 (dk_at dksX0_digest_3 13 rfl rfl)
theorem dX0_digest_87 : decode cX0_digest 87 = .ok (.lload_n 1, 1) := dk_31 (dk_at dksX0_digest_3 16 rfl rfl)
theorem dX0_digest_88 : decode cX0_digest 88 = .ok (.lmul, 1) := dk_105 (dk_at dksX0_digest_3 17 rfl rfl)
theorem dX0_digest_89 : decode cX0_digest 89 = .ok (.aload_n 0, 1) := dk_42 (dk_at dksX0_digest_3 18 rfl rfl)
theorem dX0_digest_90 : decode cX0_digest 90 = .ok (.aload_n 0, 1) := dk_42 (dk_at dksX0_digest_3 19 rfl rfl)
theorem dX0_digest_91 : decode cX0_digest 91 = .ok (.getfield 110, 3) := dk_180 0 110 (dk_at dksX0_digest_3 20 rfl rfl)
theorem dX0_digest_94 : decode cX0_digest 94 = .ok (.iload_n 3, 1) := dk_29 (dk_at dksX0_digest_3 23 rfl rfl)
theorem dX0_digest_95 : decode cX0_digest 95 = .ok (.invokeinterface 149 2, 5) := by decide +kernel
theorem dX0_digest_100 : decode cX0_digest 100 = .ok (.checkcast 143, 3) := dk_192 0 143 (dk_at dksX0_digest_4 5 rfl rfl)
theorem dX0_digest_103 : decode cX0_digest 103 = .ok (.iload 4, 2) := dk_21 4 (dk_at dksX0_digest_4 8 rfl rfl)
theorem dX0_digest_105 : decode cX0_digest 105 = .ok (.invokevirtual 397, 3) := dk_182 1 141 (dk_at dksX0_digest_4 10 rfl rfl)
theorem dX0_digest_108 : decode cX0_digest 108 = .ok (.i2l, 1) := dk_133 (dk_at dksX0_digest_4 13 rfl rfl)
theorem dX0_digest_109 : decode cX0_digest 109 = .ok (.ladd, 1) := dk_97 (dk_at dksX0_digest_4 14 rfl rfl)
theorem dX0_digest_110 : decode cX0_digest 110 = .ok (.lstore_n 1, 1) := dk_64 (dk_at dksX0_digest_4 15 rfl rfl)
theorem dX0_digest_111 : decode cX0_digest 111 = .ok (.iinc 4 1, 3) := dk_132 4 1 (dk_at dksX0_digest_4 16 rfl rfl)
theorem dX0_digest_114 : decode cX0_digest 114 = .ok (.goto (-37), 3) := dk_167 255 219 (dk_at dksX0_digest_4 19 rfl rfl)
theorem dX0_digest_117 : decode cX0_digest 117 = .ok (.ldc2_w 211, 3) := dk_20 0 211 (dk_at dksX0_digest_5 0 rfl rfl)
theorem dX0_digest_120 : decode cX0_digest 120 = .ok (.ldc2_w 211, 3) := dk_20 0 211 (dk_at dksX0_digest_5 3 rfl rfl)
theorem dX0_digest_123 : decode cX0_digest 123 = .ok (.lload_n 1, 1) := dk_31 (dk_at dksX0_digest_5 6 rfl rfl)
theorem dX0_digest_124 : decode cX0_digest 124 = .ok (.lmul, 1) := dk_105 (dk_at dksX0_digest_5 7 rfl rfl)
theorem dX0_digest_125 : decode cX0_digest 125 = .ok (.aload_n 0, 1) := dk_42 (dk_at dksX0_digest_5 8 rfl rfl)
theorem dX0_digest_126 : decode cX0_digest 126 = .ok (.iload_n 3, 1) := dk_29 (dk_at dksX0_digest_5 9 rfl rfl)
theorem dX0_digest_127 : decode cX0_digest 127 = .ok (.invokevirtual 460, 3) := dk_182 1 204 (dk_at dksX0_digest_5 10 rfl rfl)
theorem dX0_digest_130 : decode cX0_digest 130 = .ok (.ladd, 1) := dk_97 (dk_at dksX0_digest_5 13 rfl rfl)
theorem dX0_digest_131 : decode cX0_digest 131 = .ok (.lmul, 1) := dk_105 (dk_at dksX0_digest_5 14 rfl rfl)
theorem dX0_digest_132 : decode cX0_digest 132 = .ok (.aload_n 0, 1) := dk_42 (dk_at dksX0_digest_5 15 rfl rfl)
theorem dX0_digest_133 : decode cX0_digest 133 = .ok (.iload_n 3, 1) := dk_29 (dk_at dksX0_digest_5 16 rfl rfl)
theorem dX0_digest_134 : decode cX0_digest 134 = .ok (.invokevirtual 463, 3) := dk_182 1 207 (dk_at dksX0_digest_5 17 rfl rfl)
theorem dX0_digest_137 : decode cX0_digest 137 = .ok (.ladd, 1) := dk_97 (dk_at dksX0_digest_5 20 rfl rfl)
theorem dX0_digest_138 : decode cX0_digest 138 = .ok (.lstore_n 1, 1) := dk_64 (dk_at dksX0_digest_5 21 rfl rfl)
theorem dX0_digest_139 : decode cX0_digest 139 = .ok (.iconst 0, 1) := dk_3 (dk_at dksX0_digest_5 22 rfl rfl)
theorem dX0_digest_140 : decode cX0_digest 140 = .ok (.istore 4, 2) := dk_54 4 (dk_at dksX0_digest_6 0 rfl rfl)
theorem dX0_digest_142 : decode cX0_digest 142 = .ok (.iload 4, 2) := dk_21 4 (dk_at dksX0_digest_6 2 rfl rfl)
theorem dX0_digest_144 : decode cX0_digest 144 = .ok (.aload_n 0, 1) := dk_42 (dk_at dksX0_digest_6 4 rfl rfl)
theorem dX0_digest_145 : decode cX0_digest 145 = .ok (.getfield 110, 3) := dk_180 0 110 (dk_at dksX0_digest_6 5 rfl rfl)
theorem dX0_digest_148 : decode cX0_digest 148 = .ok (.iload_n 3, 1) := dk_29 (dk_at dksX0_digest_6 8 rfl rfl)
theorem dX0_digest_149 : decode cX0_digest 149 = .ok (.invokeinterface 149 2, 5) := by decide +kernel
theorem dX0_digest_154 : decode cX0_digest 154 = .ok (.checkcast 143, 3) := dk_192 0 143 (dk_at dksX0_digest_6 14 rfl rfl)
theorem dX0_digest_157 : decode cX0_digest 157 = .ok (.getfield 201, 3) := dk_180 0 201 (dk_at dksX0_digest_6 17 rfl rfl)
theorem dX0_digest_160 : decode cX0_digest 160 = .ok (.if_icmp .ge 23, 3) := dk_162 0 23 (dk_at dksX0_digest_6 20 rfl rfl)
theorem dX0_digest_163 : decode cX0_digest 163 = .ok (.ldc2_w 211, 3) := dk_20 0 211 (dk_at dksX0_digest_7 0 rfl rfl)
theorem dX0_digest_166 : decode cX0_digest 166 = .ok (.lload_n 1, 1) := dk_31 (dk_at dksX0_digest_7 3 rfl rfl)
theorem dX0_digest_167 : decode cX0_digest 167 = .ok (.lmul, 1) := dk_105 (dk_at dksX0_digest_7 4 rfl rfl)
theorem dX0_digest_168 : decode cX0_digest 168 = .ok (.aload_n 0, 1) := dk_42 (dk_at dksX0_digest_7 5 rfl rfl)
theorem dX0_digest_169 : decode cX0_digest 169 = .ok (.iload_n 3, 1) := dk_29 (dk_at dksX0_digest_7 6 rfl rfl)
theorem dX0_digest_170 : decode cX0_digest 170 = .ok (.iload 4, 2) := dk_21 4 (dk_at dksX0_digest_7 7 rfl rfl)
theorem dX0_digest_172 : decode cX0_digest 172 = .ok (.invokevirtual 465, 3) := dk_182 1 209 (dk_at dksX0_digest_7 9 rfl rfl)
theorem dX0_digest_175 : decode cX0_digest 175 = .ok (.ladd, 1) := dk_97 (dk_at dksX0_digest_7 12 rfl rfl)
theorem dX0_digest_176 : decode cX0_digest 176 = .ok (.lstore_n 1, 1) := dk_64 (dk_at dksX0_digest_7 13 rfl rfl)
theorem dX0_digest_177 : decode cX0_digest 177 = .ok (.iinc 4 1, 3) := dk_132 4 1 (dk_at dksX0_digest_7 14 rfl rfl)
theorem dX0_digest_180 : decode cX0_digest 180 = .ok (.goto (-38), 3) := dk_167 255 218 (dk_at dksX0_digest_7 17 rfl rfl)
theorem dX0_digest_183 : decode cX0_digest 183 = .ok (.iconst 0, 1) := dk_3 (dk_at dksX0_digest_7 20 rfl rfl)
theorem dX0_digest_184 : decode cX0_digest 184 = .ok (.istore 4, 2) := dk_54 4 (dk_at dksX0_digest_7 21 rfl rfl)
theorem dX0_digest_186 : decode cX0_digest 186 = .ok (.iload 4, 2) := dk_21 4 (dk_at dksX0_digest_8 0 rfl rfl)
theorem dX0_digest_188 : decode cX0_digest 188 = .ok (.bipush 16, 2) := dk_16 16 (dk_at dksX0_digest_8 2 rfl rfl)
theorem dX0_digest_190 : decode cX0_digest 190 = .ok (.if_icmp .ge 23, 3) := dk_162 0 23 (dk_at dksX0_digest_8 4 rfl rfl)
theorem dX0_digest_193 : decode cX0_digest 193 = .ok (.ldc2_w 211, 3) := dk_20 0 211 (dk_at dksX0_digest_8 7 rfl rfl)
theorem dX0_digest_196 : decode cX0_digest 196 = .ok (.lload_n 1, 1) := dk_31 (dk_at dksX0_digest_8 10 rfl rfl)
theorem dX0_digest_197 : decode cX0_digest 197 = .ok (.lmul, 1) := dk_105 (dk_at dksX0_digest_8 11 rfl rfl)
theorem dX0_digest_198 : decode cX0_digest 198 = .ok (.aload_n 0, 1) := dk_42 (dk_at dksX0_digest_8 12 rfl rfl)
theorem dX0_digest_199 : decode cX0_digest 199 = .ok (.iload_n 3, 1) := dk_29 (dk_at dksX0_digest_8 13 rfl rfl)
theorem dX0_digest_200 : decode cX0_digest 200 = .ok (.iload 4, 2) := dk_21 4 (dk_at dksX0_digest_8 14 rfl rfl)
theorem dX0_digest_202 : decode cX0_digest 202 = .ok (.invokevirtual 468, 3) := dk_182 1 212 (dk_at dksX0_digest_8 16 rfl rfl)
theorem dX0_digest_205 : decode cX0_digest 205 = .ok (.ladd, 1) := dk_97 (dk_at dksX0_digest_8 19 rfl rfl)
theorem dX0_digest_206 : decode cX0_digest 206 = .ok (.lstore_n 1, 1) := dk_64 (dk_at dksX0_digest_8 20 rfl rfl)
theorem dX0_digest_207 : decode cX0_digest 207 = .ok (.iinc 4 1, 3) := dk_132 4 1 (dk_at dksX0_digest_8 21 rfl rfl)
theorem dX0_digest_210 : decode cX0_digest 210 = .ok (.goto (-24), 3) := dk_167 255 232 (dk_at dksX0_digest_9 0 rfl rfl)
theorem dX0_digest_213 : decode cX0_digest 213 = .ok (.iinc 3 1, 3) := dk_132 3 1 (dk_at dksX0_digest_9 3 rfl rfl)
theorem dX0_digest_216 : decode cX0_digest 216 = .ok (.goto (-155), 3) := dk_167 255 101 (dk_at dksX0_digest_9 6 rfl rfl)
theorem dX0_digest_219 : decode cX0_digest 219 = .ok (.lload_n 1, 1) := dk_31 (dk_at dksX0_digest_9 9 rfl rfl)
theorem dX0_digest_220 : decode cX0_digest 220 = .ok (.lreturn, 1) := dk_173 (dk_at dksX0_digest_9 10 rfl rfl)
