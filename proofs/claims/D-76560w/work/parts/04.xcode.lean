set_option maxRecDepth 100000
def dkwX0_init_4 : List UInt8 := [189, 0, 57, 181, 0, 59, 177]
abbrev dktX0_init_4 : List UInt8 := dkwX0_init_4 ++ []
def dkwX0_init_3 : List UInt8 := [181, 0, 45, 42, 16, 24, 188, 8, 181, 0, 48, 42, 16, 50, 189, 0, 51, 181, 0, 53, 42, 16, 6]
abbrev dktX0_init_3 : List UInt8 := dkwX0_init_3 ++ dktX0_init_4
def dkwX0_init_2 : List UInt8 := [181, 0, 34, 42, 16, 60, 188, 10, 181, 0, 38, 42, 16, 8, 188, 10, 181, 0, 42, 42, 16, 14, 188, 10]
abbrev dktX0_init_2 : List UInt8 := dkwX0_init_2 ++ dktX0_init_3
def dkwX0_init_1 : List UInt8 := [16, 40, 189, 0, 21, 181, 0, 23, 42, 16, 120, 188, 8, 181, 0, 27, 42, 187, 0, 31, 89, 183, 0, 33]
abbrev dktX0_init_1 : List UInt8 := dkwX0_init_1 ++ dktX0_init_2
def dkwX0_init_0 : List UInt8 := [42, 183, 0, 1, 42, 16, 8, 189, 0, 9, 181, 0, 11, 42, 16, 14, 189, 0, 15, 181, 0, 17, 42]
abbrev dktX0_init_0 : List UInt8 := dkwX0_init_0 ++ dktX0_init_1
theorem dksX0_init_0 : cX0_init.data.toList.drop 0 = dktX0_init_0 := by decide +kernel
theorem dksX0_init_1 : cX0_init.data.toList.drop 23 = dktX0_init_1 := dk_seg dksX0_init_0 23 rfl rfl
theorem dksX0_init_2 : cX0_init.data.toList.drop 47 = dktX0_init_2 := dk_seg dksX0_init_1 24 rfl rfl
theorem dksX0_init_3 : cX0_init.data.toList.drop 71 = dktX0_init_3 := dk_seg dksX0_init_2 24 rfl rfl
theorem dksX0_init_4 : cX0_init.data.toList.drop 94 = dktX0_init_4 := dk_seg dksX0_init_3 23 rfl rfl
theorem dX0_init_0 : decode cX0_init 0 = .ok (.aload_n 0, 1) := dk_42 (dk_at dksX0_init_0 0 rfl rfl)
theorem dX0_init_1 : decode cX0_init 1 = .ok (.invokespecial 1, 3) := dk_183 0 1 (dk_at dksX0_init_0 1 rfl rfl)
theorem dX0_init_4 : decode cX0_init 4 = .ok (.aload_n 0, 1) := dk_42 (dk_at dksX0_init_0 4 rfl rfl)
theorem dX0_init_5 : decode cX0_init 5 = .ok (.bipush 8, 2) := dk_16 8 (dk_at dksX0_init_0 5 rfl rfl)
theorem dX0_init_7 : decode cX0_init 7 = .ok (.anewarray 9, 3) := dk_189 0 9 (dk_at dksX0_init_0 7 rfl rfl)
theorem dX0_init_10 : decode cX0_init 10 = .ok (.putfield 11, 3) := dk_181 0 11 (dk_at dksX0_init_0 10 rfl rfl)
theorem dX0_init_13 : decode cX0_init 13 = .ok (.aload_n 0, 1) := dk_42 (dk_at dksX0_init_0 13 rfl rfl)
theorem dX0_init_14 : decode cX0_init 14 = .ok (.bipush 14, 2) := dk_16 14 (dk_at dksX0_init_0 14 rfl rfl)
theorem dX0_init_16 : decode cX0_init 16 = .ok (.anewarray 15, 3) := dk_189 0 15 (dk_at dksX0_init_0 16 rfl rfl)
theorem dX0_init_19 : decode cX0_init 19 = .ok (.putfield 17, 3) := dk_181 0 17 (dk_at dksX0_init_0 19 rfl rfl)
theorem dX0_init_22 : decode cX0_init 22 = .ok (.aload_n 0, 1) := dk_42 (dk_at dksX0_init_0 22 rfl rfl)
theorem dX0_init_23 : decode cX0_init 23 = .ok (.bipush 40, 2) := dk_16 40 (dk_at dksX0_init_1 0 rfl rfl)
theorem dX0_init_25 : decode cX0_init 25 = .ok (.anewarray 21, 3) := dk_189 0 21 (dk_at dksX0_init_1 2 rfl rfl)
theorem dX0_init_28 : decode cX0_init 28 = .ok (.putfield 23, 3) := dk_181 0 23 (dk_at dksX0_init_1 5 rfl rfl)
theorem dX0_init_31 : decode cX0_init 31 = .ok (.aload_n 0, 1) := dk_42 (dk_at dksX0_init_1 8 rfl rfl)
theorem dX0_init_32 : decode cX0_init 32 = .ok (.bipush 120, 2) := dk_16 120 (dk_at dksX0_init_1 9 rfl rfl)
theorem dX0_init_34 : decode cX0_init 34 = .ok (.newarray .byte, 2) := dk_188_8 (dk_at dksX0_init_1 11 rfl rfl)
theorem dX0_init_36 : decode cX0_init 36 = .ok (.putfield 27, 3) := dk_181 0 27 (dk_at dksX0_init_1 13 rfl rfl)
theorem dX0_init_39 : decode cX0_init 39 = .ok (.aload_n 0, 1) := dk_42 (dk_at dksX0_init_1 16 rfl rfl)
theorem dX0_init_40 : decode cX0_init 40 = .ok (.new 31, 3) := dk_187 0 31 (dk_at dksX0_init_1 17 rfl rfl)
theorem dX0_init_43 : decode cX0_init 43 = .ok (.dup, 1) := dk_89 (dk_at dksX0_init_1 20 rfl rfl)
theorem dX0_init_44 : decode cX0_init 44 = .ok (.invokespecial 33, 3) := dk_183 0 33 (dk_at dksX0_init_1 21 rfl rfl)
theorem dX0_init_47 : decode cX0_init 47 = .ok (.putfield 34, 3) := dk_181 0 34 (dk_at dksX0_init_2 0 rfl rfl)
theorem dX0_init_50 : decode cX0_init 50 = .ok (.aload_n 0, 1) := dk_42 (dk_at dksX0_init_2 3 rfl rfl)
theorem dX0_init_51 : decode cX0_init 51 = .ok (.bipush 60, 2) := dk_16 60 (dk_at dksX0_init_2 4 rfl rfl)
theorem dX0_init_53 : decode cX0_init 53 = .ok (.newarray .int, 2) := dk_188_10 (dk_at dksX0_init_2 6 rfl rfl)
theorem dX0_init_55 : decode cX0_init 55 = .ok (.putfield 38, 3) := dk_181 0 38 (dk_at dksX0_init_2 8 rfl rfl)
theorem dX0_init_58 : decode cX0_init 58 = .ok (.aload_n 0, 1) := dk_42 (dk_at dksX0_init_2 11 rfl rfl)
theorem dX0_init_59 : decode cX0_init 59 = .ok (.bipush 8, 2) := dk_16 8 (dk_at dksX0_init_2 12 rfl rfl)
theorem dX0_init_61 : decode cX0_init 61 = .ok (.newarray .int, 2) := dk_188_10 (dk_at dksX0_init_2 14 rfl rfl)
theorem dX0_init_63 : decode cX0_init 63 = .ok (.putfield 42, 3) := dk_181 0 42 (dk_at dksX0_init_2 16 rfl rfl)
theorem dX0_init_66 : decode cX0_init 66 = .ok (.aload_n 0, 1) := dk_42 (dk_at dksX0_init_2 19 rfl rfl)
theorem dX0_init_67 : decode cX0_init 67 = .ok (.bipush 14, 2) := dk_16 14 (dk_at dksX0_init_2 20 rfl rfl)
theorem dX0_init_69 : decode cX0_init 69 = .ok (.newarray .int, 2) := dk_188_10 (dk_at dksX0_init_2 22 rfl rfl)
theorem dX0_init_71 : decode cX0_init 71 = .ok (.putfield 45, 3) := dk_181 0 45 (dk_at dksX0_init_3 0 rfl rfl)
theorem dX0_init_74 : decode cX0_init 74 = .ok (.aload_n 0, 1) := dk_42 (dk_at dksX0_init_3 3 rfl rfl)
theorem dX0_init_75 : decode cX0_init 75 = .ok (.bipush 24, 2) := dk_16 24 (dk_at dksX0_init_3 4 rfl rfl)
theorem dX0_init_77 : decode cX0_init 77 = .ok (.newarray .byte, 2) := dk_188_8 (dk_at dksX0_init_3 6 rfl rfl)
theorem dX0_init_79 : decode cX0_init 79 = .ok (.putfield 48, 3) := dk_181 0 48 (dk_at dksX0_init_3 8 rfl rfl)
theorem dX0_init_82 : decode cX0_init 82 = .ok (.aload_n 0, 1) := dk_42 (dk_at dksX0_init_3 11 rfl rfl)
theorem dX0_init_83 : decode cX0_init 83 = .ok (.bipush 50, 2) := dk_16 50 (dk_at dksX0_init_3 12 rfl rfl)
theorem dX0_init_85 : decode cX0_init 85 = .ok (.anewarray 51, 3) := dk_189 0 51 (dk_at dksX0_init_3 14 rfl rfl)
theorem dX0_init_88 : decode cX0_init 88 = .ok (.putfield 53, 3) := dk_181 0 53 (dk_at dksX0_init_3 17 rfl rfl)
theorem dX0_init_91 : decode cX0_init 91 = .ok (.aload_n 0, 1) := dk_42 (dk_at dksX0_init_3 20 rfl rfl)
theorem dX0_init_92 : decode cX0_init 92 = .ok (.bipush 6, 2) := dk_16 6 (dk_at dksX0_init_3 21 rfl rfl)
theorem dX0_init_94 : decode cX0_init 94 = .ok (.anewarray 57, 3) := dk_189 0 57 (dk_at dksX0_init_4 0 rfl rfl)
theorem dX0_init_97 : decode cX0_init 97 = .ok (.putfield 59, 3) := dk_181 0 59 (dk_at dksX0_init_4 3 rfl rfl)
theorem dX0_init_100 : decode cX0_init 100 = .ok (.return_, 1) := dk_177 (dk_at dksX0_init_4 6 rfl rfl)
def dkwX0_owner_2 : List UInt8 := [96, 181, 0, 63, 42, 180, 0, 63, 4, 100, 172]
abbrev dktX0_owner_2 : List UInt8 := dkwX0_owner_2 ++ []
def dkwX0_owner_1 : List UInt8 := [172, 42, 180, 0, 11, 42, 180, 0, 63, 187, 0, 9, 89, 27, 183, 0, 84, 83, 42, 89, 180, 0, 63, 4]
abbrev dktX0_owner_1 : List UInt8 := dkwX0_owner_1 ++ dktX0_owner_2
def dkwX0_owner_0 : List UInt8 := [27, 3, 17, 3, 231, 184, 0, 67, 154, 0, 5, 2, 172, 42, 180, 0, 63, 16, 8, 160, 0, 6, 16, 253]
abbrev dktX0_owner_0 : List UInt8 := dkwX0_owner_0 ++ dktX0_owner_1
theorem dksX0_owner_0 : cX0_owner.data.toList.drop 0 = dktX0_owner_0 := by decide +kernel
theorem dksX0_owner_1 : cX0_owner.data.toList.drop 24 = dktX0_owner_1 := dk_seg dksX0_owner_0 24 rfl rfl
theorem dksX0_owner_2 : cX0_owner.data.toList.drop 48 = dktX0_owner_2 := dk_seg dksX0_owner_1 24 rfl rfl
theorem dX0_owner_0 : decode cX0_owner 0 = .ok (.iload_n 1, 1) := dk_27 (dk_at dksX0_owner_0 0 rfl rfl)
theorem dX0_owner_1 : decode cX0_owner 1 = .ok (.iconst 0, 1) := dk_3 (dk_at dksX0_owner_0 1 rfl rfl)
theorem dX0_owner_2 : decode cX0_owner 2 = .ok (.sipush 999, 3) := dk_17 3 231 (dk_at dksX0_owner_0 2 rfl rfl)
theorem dX0_owner_5 : decode cX0_owner 5 = .ok (.invokestatic 67, 3) := dk_184 0 67 (dk_at dksX0_owner_0 5 rfl rfl)
theorem dX0_owner_8 : decode cX0_owner 8 = .ok (.ifCond .ne 5, 3) := dk_154 0 5 (dk_at dksX0_owner_0 8 rfl rfl)
theorem dX0_owner_11 : decode cX0_owner 11 = .ok (.iconst (-1), 1) := dk_2 (dk_at dksX0_owner_0 11 rfl rfl)
theorem dX0_owner_12 : decode cX0_owner 12 = .ok (.ireturn, 1) := dk_172 (dk_at dksX0_owner_0 12 rfl rfl)
theorem dX0_owner_13 : decode cX0_owner 13 = .ok (.aload_n 0, 1) := dk_42 (dk_at dksX0_owner_0 13 rfl rfl)
theorem dX0_owner_14 : decode cX0_owner 14 = .ok (.getfield 63, 3) := dk_180 0 63 (dk_at dksX0_owner_0 14 rfl rfl)
theorem dX0_owner_17 : decode cX0_owner 17 = .ok (.bipush 8, 2) := dk_16 8 (dk_at dksX0_owner_0 17 rfl rfl)
theorem dX0_owner_19 : decode cX0_owner 19 = .ok (.if_icmp .ne 6, 3) := dk_160 0 6 (dk_at dksX0_owner_0 19 rfl rfl)
theorem dX0_owner_22 : decode cX0_owner 22 = .ok (.bipush (-3), 2) := dk_16 253 (dk_at dksX0_owner_0 22 rfl rfl)
theorem dX0_owner_24 : decode cX0_owner 24 = .ok (.ireturn, 1) := dk_172 (dk_at dksX0_owner_1 0 rfl rfl)
theorem dX0_owner_25 : decode cX0_owner 25 = .ok (.aload_n 0, 1) := dk_42 (dk_at dksX0_owner_1 1 rfl rfl)
theorem dX0_owner_26 : decode cX0_owner 26 = .ok (.getfield 11, 3) := dk_180 0 11 (dk_at dksX0_owner_1 2 rfl rfl)
theorem dX0_owner_29 : decode cX0_owner 29 = .ok (.aload_n 0, 1) := dk_42 (dk_at dksX0_owner_1 5 rfl rfl)
theorem dX0_owner_30 : decode cX0_owner 30 = .ok (.getfield 63, 3) := dk_180 0 63 (dk_at dksX0_owner_1 6 rfl rfl)
theorem dX0_owner_33 : decode cX0_owner 33 = .ok (.new 9, 3) := dk_187 0 9 (dk_at dksX0_owner_1 9 rfl rfl)
theorem dX0_owner_36 : decode cX0_owner 36 = .ok (.dup, 1) := dk_89 (dk_at dksX0_owner_1 12 rfl rfl)
theorem dX0_owner_37 : decode cX0_owner 37 = .ok (.iload_n 1, 1) := dk_27 (dk_at dksX0_owner_1 13 rfl rfl)
theorem dX0_owner_38 : decode cX0_owner 38 = .ok (.invokespecial 84, 3) := dk_183 0 84 (dk_at dksX0_owner_1 14 rfl rfl)
theorem dX0_owner_41 : decode cX0_owner 41 = .ok (.aastore, 1) := dk_83 (dk_at dksX0_owner_1 17 rfl rfl)
theorem dX0_owner_42 : decode cX0_owner 42 = .ok (.aload_n 0, 1) := dk_42 (dk_at dksX0_owner_1 18 rfl rfl)
theorem dX0_owner_43 : decode cX0_owner 43 = .ok (.dup, 1) := dk_89 (dk_at dksX0_owner_1 19 rfl rfl)
theorem dX0_owner_44 : decode cX0_owner 44 = .ok (.getfield 63, 3) := dk_180 0 63 (dk_at dksX0_owner_1 20 rfl rfl)
theorem dX0_owner_47 : decode cX0_owner 47 = .ok (.iconst 1, 1) := dk_4 (dk_at dksX0_owner_1 23 rfl rfl)
theorem dX0_owner_48 : decode cX0_owner 48 = .ok (.iadd, 1) := dk_96 (dk_at dksX0_owner_2 0 rfl rfl)
theorem dX0_owner_49 : decode cX0_owner 49 = .ok (.putfield 63, 3) := dk_181 0 63 (dk_at dksX0_owner_2 1 rfl rfl)
theorem dX0_owner_52 : decode cX0_owner 52 = .ok (.aload_n 0, 1) := dk_42 (dk_at dksX0_owner_2 4 rfl rfl)
theorem dX0_owner_53 : decode cX0_owner 53 = .ok (.getfield 63, 3) := dk_180 0 63 (dk_at dksX0_owner_2 5 rfl rfl)
theorem dX0_owner_56 : decode cX0_owner 56 = .ok (.iconst 1, 1) := dk_4 (dk_at dksX0_owner_2 8 rfl rfl)
theorem dX0_owner_57 : decode cX0_owner 57 = .ok (.isub, 1) := dk_100 (dk_at dksX0_owner_2 9 rfl rfl)
theorem dX0_owner_58 : decode cX0_owner 58 = .ok (.ireturn, 1) := dk_172 (dk_at dksX0_owner_2 10 rfl rfl)
def dkwX0_in_0 : List UInt8 := [26, 27, 161, 0, 12, 26, 28, 163, 0, 7, 4, 167, 0, 4, 3, 172]
abbrev dktX0_in_0 : List UInt8 := dkwX0_in_0 ++ []
theorem dksX0_in_0 : cX0_in.data.toList.drop 0 = dktX0_in_0 := by decide +kernel
theorem dX0_in_0 : decode cX0_in 0 = .ok (.iload_n 0, 1) := dk_26 (dk_at dksX0_in_0 0 rfl rfl)
theorem dX0_in_1 : decode cX0_in 1 = .ok (.iload_n 1, 1) := dk_27 (dk_at dksX0_in_0 1 rfl rfl)
theorem dX0_in_2 : decode cX0_in 2 = .ok (.if_icmp .lt 12, 3) := dk_161 0 12 (dk_at dksX0_in_0 2 rfl rfl)
theorem dX0_in_5 : decode cX0_in 5 = .ok (.iload_n 0, 1) := dk_26 (dk_at dksX0_in_0 5 rfl rfl)
theorem dX0_in_6 : decode cX0_in 6 = .ok (.iload_n 2, 1) := dk_28 (dk_at dksX0_in_0 6 rfl rfl)
theorem dX0_in_7 : decode cX0_in 7 = .ok (.if_icmp .gt 7, 3) := dk_163 0 7 (dk_at dksX0_in_0 7 rfl rfl)
theorem dX0_in_10 : decode cX0_in 10 = .ok (.iconst 1, 1) := dk_4 (dk_at dksX0_in_0 10 rfl rfl)
theorem dX0_in_11 : decode cX0_in 11 = .ok (.goto 4, 3) := dk_167 0 4 (dk_at dksX0_in_0 11 rfl rfl)
theorem dX0_in_14 : decode cX0_in 14 = .ok (.iconst 0, 1) := dk_3 (dk_at dksX0_in_0 14 rfl rfl)
theorem dX0_in_15 : decode cX0_in 15 = .ok (.ireturn, 1) := dk_172 (dk_at dksX0_in_0 15 rfl rfl)
def dkwX0_promise_2 : List UInt8 := [29, 16, 10, 108, 29, 16, 10, 112, 182, 0, 94, 172]
abbrev dktX0_promise_2 : List UInt8 := dkwX0_promise_2 ++ []
def dkwX0_promise_1 : List UInt8 := [180, 0, 71, 16, 14, 160, 0, 6, 16, 253, 172, 42, 89, 180, 0, 91, 4, 96, 181, 0, 91, 42, 27, 28]
abbrev dktX0_promise_1 : List UInt8 := dkwX0_promise_1 ++ dktX0_promise_2
def dkwX0_promise_0 : List UInt8 := [29, 155, 0, 20, 42, 27, 28, 29, 16, 10, 108, 29, 16, 10, 112, 182, 0, 87, 154, 0, 5, 2, 172, 42]
abbrev dktX0_promise_0 : List UInt8 := dkwX0_promise_0 ++ dktX0_promise_1
theorem dksX0_promise_0 : cX0_promise.data.toList.drop 0 = dktX0_promise_0 := by decide +kernel
theorem dksX0_promise_1 : cX0_promise.data.toList.drop 24 = dktX0_promise_1 := dk_seg dksX0_promise_0 24 rfl rfl
theorem dksX0_promise_2 : cX0_promise.data.toList.drop 48 = dktX0_promise_2 := dk_seg dksX0_promise_1 24 rfl rfl
theorem dX0_promise_0 : decode cX0_promise 0 = .ok (.iload_n 3, 1) := dk_29 (dk_at dksX0_promise_0 0 rfl rfl)
theorem dX0_promise_1 : decode cX0_promise 1 = .ok (.ifCond .lt 20, 3) := dk_155 0 20 (dk_at dksX0_promise_0 1 rfl rfl)
theorem dX0_promise_4 : decode cX0_promise 4 = .ok (.aload_n 0, 1) := dk_42 (dk_at dksX0_promise_0 4 rfl rfl)
theorem dX0_promise_5 : decode cX0_promise 5 = .ok (.iload_n 1, 1) := dk_27 (dk_at dksX0_promise_0 5 rfl rfl)
theorem dX0_promise_6 : decode cX0_promise 6 = .ok (.iload_n 2, 1) := dk_28 (dk_at dksX0_promise_0 6 rfl rfl)
theorem dX0_promise_7 : decode cX0_promise 7 = .ok (.iload_n 3, 1) := dk_29 (dk_at dksX0_promise_0 7 rfl rfl)
theorem dX0_promise_8 : decode cX0_promise 8 = .ok (.bipush 10, 2) := dk_16 10 (dk_at dksX0_promise_0 8 rfl rfl)
theorem dX0_promise_10 : decode cX0_promise 10 = .ok (.idiv, 1) := dk_108 (dk_at dksX0_promise_0 10 rfl rfl)
theorem dX0_promise_11 : decode cX0_promise 11 = .ok (.iload_n 3, 1) := dk_29 (dk_at dksX0_promise_0 11 rfl rfl)
theorem dX0_promise_12 : decode cX0_promise 12 = .ok (.bipush 10, 2) := dk_16 10 (dk_at dksX0_promise_0 12 rfl rfl)
theorem dX0_promise_14 : decode cX0_promise 14 = .ok (.irem, 1) := dk_112 (dk_at dksX0_promise_0 14 rfl rfl)
theorem dX0_promise_15 : decode cX0_promise 15 = .ok (.invokevirtual 87, 3) := dk_182 0 87 (dk_at dksX0_promise_0 15 rfl rfl)
theorem dX0_promise_18 : decode cX0_promise 18 = .ok (.ifCond .ne 5, 3) := dk_154 0 5 (dk_at dksX0_promise_0 18 rfl rfl)
theorem dX0_promise_21 : decode cX0_promise 21 = .ok (.iconst (-1), 1) := dk_2 (dk_at dksX0_promise_0 21 rfl rfl)
theorem dX0_promise_22 : decode cX0_promise 22 = .ok (.ireturn, 1) := dk_172 (dk_at dksX0_promise_0 22 rfl rfl)
theorem dX0_promise_23 : decode cX0_promise 23 = .ok (.aload_n 0, 1) := dk_42 (dk_at dksX0_promise_0 23 rfl rfl)
theorem dX0_promise_24 : decode cX0_promise 24 = .ok (.getfield 71, 3) := dk_180 0 71 (dk_at dksX0_promise_1 0 rfl rfl)
theorem dX0_promise_27 : decode cX0_promise 27 = .ok (.bipush 14, 2) := dk_16 14 (dk_at dksX0_promise_1 3 rfl rfl)
theorem dX0_promise_29 : decode cX0_promise 29 = .ok (.if_icmp .ne 6, 3) := dk_160 0 6 (dk_at dksX0_promise_1 5 rfl rfl)
theorem dX0_promise_32 : decode cX0_promise 32 = .ok (.bipush (-3), 2) := dk_16 253 (dk_at dksX0_promise_1 8 rfl rfl)
theorem dX0_promise_34 : decode cX0_promise 34 = .ok (.ireturn, 1) := dk_172 (dk_at dksX0_promise_1 10 rfl rfl)
theorem dX0_promise_35 : decode cX0_promise 35 = .ok (.aload_n 0, 1) := dk_42 (dk_at dksX0_promise_1 11 rfl rfl)
theorem dX0_promise_36 : decode cX0_promise 36 = .ok (.dup, 1) := dk_89 (dk_at dksX0_promise_1 12 rfl rfl)
theorem dX0_promise_37 : decode cX0_promise 37 = .ok (.getfield 91, 3) := dk_180 0 91 (dk_at dksX0_promise_1 13 rfl rfl)
theorem dX0_promise_40 : decode cX0_promise 40 = .ok (.iconst 1, 1) := dk_4 (dk_at dksX0_promise_1 16 rfl rfl)
theorem dX0_promise_41 : decode cX0_promise 41 = .ok (.iadd, 1) := dk_96 (dk_at dksX0_promise_1 17 rfl rfl)
theorem dX0_promise_42 : decode cX0_promise 42 = .ok (.putfield 91, 3) := dk_181 0 91 (dk_at dksX0_promise_1 18 rfl rfl)
theorem dX0_promise_45 : decode cX0_promise 45 = .ok (.aload_n 0, 1) := dk_42 (dk_at dksX0_promise_1 21 rfl rfl)
theorem dX0_promise_46 : decode cX0_promise 46 = .ok (.iload_n 1, 1) := dk_27 (dk_at dksX0_promise_1 22 rfl rfl)
theorem dX0_promise_47 : decode cX0_promise 47 = .ok (.iload_n 2, 1) := dk_28 (dk_at dksX0_promise_1 23 rfl rfl)
theorem dX0_promise_48 : decode cX0_promise 48 = .ok (.iload_n 3, 1) := dk_29 (dk_at dksX0_promise_2 0 rfl rfl)
theorem dX0_promise_49 : decode cX0_promise 49 = .ok (.bipush 10, 2) := dk_16 10 (dk_at dksX0_promise_2 1 rfl rfl)
theorem dX0_promise_51 : decode cX0_promise 51 = .ok (.idiv, 1) := dk_108 (dk_at dksX0_promise_2 3 rfl rfl)
theorem dX0_promise_52 : decode cX0_promise 52 = .ok (.iload_n 3, 1) := dk_29 (dk_at dksX0_promise_2 4 rfl rfl)
theorem dX0_promise_53 : decode cX0_promise 53 = .ok (.bipush 10, 2) := dk_16 10 (dk_at dksX0_promise_2 5 rfl rfl)
theorem dX0_promise_55 : decode cX0_promise 55 = .ok (.irem, 1) := dk_112 (dk_at dksX0_promise_2 7 rfl rfl)
theorem dX0_promise_56 : decode cX0_promise 56 = .ok (.invokevirtual 94, 3) := dk_182 0 94 (dk_at dksX0_promise_2 8 rfl rfl)
theorem dX0_promise_59 : decode cX0_promise 59 = .ok (.ireturn, 1) := dk_172 (dk_at dksX0_promise_2 11 rfl rfl)
def dkwX0_mayPromise_2 : List UInt8 := [167, 0, 4, 3, 172]
abbrev dktX0_mayPromise_2 : List UInt8 := dkwX0_mayPromise_2 ++ []
def dkwX0_mayPromise_1 : List UInt8 := [159, 0, 27, 29, 3, 16, 99, 184, 0, 67, 153, 0, 17, 21, 4, 3, 5, 184, 0, 67, 153, 0, 7, 4]
abbrev dktX0_mayPromise_1 : List UInt8 := dkwX0_mayPromise_1 ++ dktX0_mayPromise_2
def dkwX0_mayPromise_0 : List UInt8 := [42, 27, 182, 0, 74, 153, 0, 45, 28, 2, 159, 0, 16, 42, 28, 182, 0, 74, 153, 0, 32, 28, 27]
abbrev dktX0_mayPromise_0 : List UInt8 := dkwX0_mayPromise_0 ++ dktX0_mayPromise_1
theorem dksX0_mayPromise_0 : cX0_mayPromise.data.toList.drop 0 = dktX0_mayPromise_0 := by decide +kernel
theorem dksX0_mayPromise_1 : cX0_mayPromise.data.toList.drop 23 = dktX0_mayPromise_1 := dk_seg dksX0_mayPromise_0 23 rfl rfl
theorem dksX0_mayPromise_2 : cX0_mayPromise.data.toList.drop 47 = dktX0_mayPromise_2 := dk_seg dksX0_mayPromise_1 24 rfl rfl
theorem dX0_mayPromise_0 : decode cX0_mayPromise 0 = .ok (.aload_n 0, 1) := dk_42 (dk_at dksX0_mayPromise_0 0 rfl rfl)
theorem dX0_mayPromise_1 : decode cX0_mayPromise 1 = .ok (.iload_n 1, 1) := dk_27 (dk_at dksX0_mayPromise_0 1 rfl rfl)
theorem dX0_mayPromise_2 : decode cX0_mayPromise 2 = .ok (.invokevirtual 74, 3) := dk_182 0 74 (dk_at dksX0_mayPromise_0 2 rfl rfl)
theorem dX0_mayPromise_5 : decode cX0_mayPromise 5 = .ok (.ifCond .eq 45, 3) := dk_153 0 45 (dk_at dksX0_mayPromise_0 5 rfl rfl)
theorem dX0_mayPromise_8 : decode cX0_mayPromise 8 = .ok (.iload_n 2, 1) := dk_28 (dk_at dksX0_mayPromise_0 8 rfl rfl)
theorem dX0_mayPromise_9 : decode cX0_mayPromise 9 = .ok (.iconst (-1), 1) := dk_2 (dk_at dksX0_mayPromise_0 9 rfl rfl)
theorem dX0_mayPromise_10 : decode cX0_mayPromise 10 = .ok (.if_icmp .eq 16, 3) := dk_159 0 16 (dk_at dksX0_mayPromise_0 10 rfl rfl)
theorem dX0_mayPromise_13 : decode cX0_mayPromise 13 = .ok (.aload_n 0, 1) := dk_42 (dk_at dksX0_mayPromise_0 13 rfl rfl)
theorem dX0_mayPromise_14 : decode cX0_mayPromise 14 = .ok (.iload_n 2, 1) := dk_28 (dk_at dksX0_mayPromise_0 14 rfl rfl)
theorem dX0_mayPromise_15 : decode cX0_mayPromise 15 = .ok (.invokevirtual 74, 3) := dk_182 0 74 (dk_at dksX0_mayPromise_0 15 rfl rfl)
theorem dX0_mayPromise_18 : decode cX0_mayPromise 18 = .ok (.ifCond .eq 32, 3) := dk_153 0 32 (dk_at dksX0_mayPromise_0 18 rfl rfl)
theorem dX0_mayPromise_21 : decode cX0_mayPromise 21 = .ok (.iload_n 2, 1) := dk_28 (dk_at dksX0_mayPromise_0 21 rfl rfl)
theorem dX0_mayPromise_22 : decode cX0_mayPromise 22 = .ok (.iload_n 1, 1) := dk_27 (dk_at dksX0_mayPromise_0 22 rfl rfl)
theorem dX0_mayPromise_23 : decode cX0_mayPromise 23 = .ok (.if_icmp .eq 27, 3) := dk_159 0 27 (dk_at dksX0_mayPromise_1 0 rfl rfl)
theorem dX0_mayPromise_26 : decode cX0_mayPromise 26 = .ok (.iload_n 3, 1) := dk_29 (dk_at dksX0_mayPromise_1 3 rfl rfl)
theorem dX0_mayPromise_27 : decode cX0_mayPromise 27 = .ok (.iconst 0, 1) := dk_3 (dk_at dksX0_mayPromise_1 4 rfl rfl)
theorem dX0_mayPromise_28 : decode cX0_mayPromise 28 = .ok (.bipush 99, 2) := dk_16 99 (dk_at dksX0_mayPromise_1 5 rfl rfl)
theorem dX0_mayPromise_30 : decode cX0_mayPromise 30 = .ok (.invokestatic 67, 3) := dk_184 0 67 (dk_at dksX0_mayPromise_1 7 rfl rfl)
theorem dX0_mayPromise_33 : decode cX0_mayPromise 33 = .ok (.ifCond .eq 17, 3) := dk_153 0 17 (dk_at dksX0_mayPromise_1 10 rfl rfl)
theorem dX0_mayPromise_36 : decode cX0_mayPromise 36 = .ok (.iload 4, 2) := dk_21 4 (dk_at dksX0_mayPromise_1 13 rfl rfl)
theorem dX0_mayPromise_38 : decode cX0_mayPromise 38 = .ok (.iconst 0, 1) := dk_3 (dk_at dksX0_mayPromise_1 15 rfl rfl)
theorem dX0_mayPromise_39 : decode cX0_mayPromise 39 = .ok (.iconst 2, 1) := dk_5 (dk_at dksX0_mayPromise_1 16 rfl rfl)
theorem dX0_mayPromise_40 : decode cX0_mayPromise 40 = .ok (.invokestatic 67, 3) := dk_184 0 67 (dk_at dksX0_mayPromise_1 17 rfl rfl)
theorem dX0_mayPromise_43 : decode cX0_mayPromise 43 = .ok (.ifCond .eq 7, 3) := dk_153 0 7 (dk_at dksX0_mayPromise_1 20 rfl rfl)
theorem dX0_mayPromise_46 : decode cX0_mayPromise 46 = .ok (.iconst 1, 1) := dk_4 (dk_at dksX0_mayPromise_1 23 rfl rfl)
theorem dX0_mayPromise_47 : decode cX0_mayPromise 47 = .ok (.goto 4, 3) := dk_167 0 4 (dk_at dksX0_mayPromise_2 0 rfl rfl)
theorem dX0_mayPromise_50 : decode cX0_mayPromise 50 = .ok (.iconst 0, 1) := dk_3 (dk_at dksX0_mayPromise_2 3 rfl rfl)
theorem dX0_mayPromise_51 : decode cX0_mayPromise 51 = .ok (.ireturn, 1) := dk_172 (dk_at dksX0_mayPromise_2 4 rfl rfl)
def dkwX0_isOwner_0 : List UInt8 := [27, 3, 42, 180, 0, 63, 4, 100, 184, 0, 67, 172]
abbrev dktX0_isOwner_0 : List UInt8 := dkwX0_isOwner_0 ++ []
theorem dksX0_isOwner_0 : cX0_isOwner.data.toList.drop 0 = dktX0_isOwner_0 := by decide +kernel
theorem dX0_isOwner_0 : decode cX0_isOwner 0 = .ok (.iload_n 1, 1) := dk_27 (dk_at dksX0_isOwner_0 0 rfl rfl)
theorem dX0_isOwner_1 : decode cX0_isOwner 1 = .ok (.iconst 0, 1) := dk_3 (dk_at dksX0_isOwner_0 1 rfl rfl)
theorem dX0_isOwner_2 : decode cX0_isOwner 2 = .ok (.aload_n 0, 1) := dk_42 (dk_at dksX0_isOwner_0 2 rfl rfl)
theorem dX0_isOwner_3 : decode cX0_isOwner 3 = .ok (.getfield 63, 3) := dk_180 0 63 (dk_at dksX0_isOwner_0 3 rfl rfl)
theorem dX0_isOwner_6 : decode cX0_isOwner 6 = .ok (.iconst 1, 1) := dk_4 (dk_at dksX0_isOwner_0 6 rfl rfl)
theorem dX0_isOwner_7 : decode cX0_isOwner 7 = .ok (.isub, 1) := dk_100 (dk_at dksX0_isOwner_0 7 rfl rfl)
theorem dX0_isOwner_8 : decode cX0_isOwner 8 = .ok (.invokestatic 67, 3) := dk_184 0 67 (dk_at dksX0_isOwner_0 8 rfl rfl)
theorem dX0_isOwner_11 : decode cX0_isOwner 11 = .ok (.ireturn, 1) := dk_172 (dk_at dksX0_isOwner_0 11 rfl rfl)
def dkwX0_addPromise_1 : List UInt8 := [83, 42, 89, 180, 0, 71, 4, 96, 181, 0, 71, 42, 180, 0, 71, 4, 100, 172]
abbrev dktX0_addPromise_1 : List UInt8 := dkwX0_addPromise_1 ++ []
def dkwX0_addPromise_0 : List UInt8 := [42, 180, 0, 17, 42, 180, 0, 71, 187, 0, 15, 89, 27, 28, 29, 21, 4, 42, 180, 0, 78, 183, 0, 81]
abbrev dktX0_addPromise_0 : List UInt8 := dkwX0_addPromise_0 ++ dktX0_addPromise_1
theorem dksX0_addPromise_0 : cX0_addPromise.data.toList.drop 0 = dktX0_addPromise_0 := by decide +kernel
theorem dksX0_addPromise_1 : cX0_addPromise.data.toList.drop 24 = dktX0_addPromise_1 := dk_seg dksX0_addPromise_0 24 rfl rfl
theorem dX0_addPromise_0 : decode cX0_addPromise 0 = .ok (.aload_n 0, 1) := dk_42 (dk_at dksX0_addPromise_0 0 rfl rfl)
theorem dX0_addPromise_1 : decode cX0_addPromise 1 = .ok (.getfield 17, 3) := dk_180 0 17 (dk_at dksX0_addPromise_0 1 rfl rfl)
theorem dX0_addPromise_4 : decode cX0_addPromise 4 = .ok (.aload_n 0, 1) := dk_42 (dk_at dksX0_addPromise_0 4 rfl rfl)
theorem dX0_addPromise_5 : decode cX0_addPromise 5 = .ok (.getfield 71, 3) := dk_180 0 71 (dk_at dksX0_addPromise_0 5 rfl rfl)
theorem dX0_addPromise_8 : decode cX0_addPromise 8 = .ok (.new 15, 3) := dk_187 0 15 (dk_at dksX0_addPromise_0 8 rfl rfl)
theorem dX0_addPromise_11 : decode cX0_addPromise 11 = .ok (.dup, 1) := dk_89 (dk_at dksX0_addPromise_0 11 rfl rfl)
theorem dX0_addPromise_12 : decode cX0_addPromise 12 = .ok (.iload_n 1, 1) := dk_27 (dk_at dksX0_addPromise_0 12 rfl rfl)
theorem dX0_addPromise_13 : decode cX0_addPromise 13 = .ok (.iload_n 2, 1) := dk_28 (dk_at dksX0_addPromise_0 13 rfl rfl)
theorem dX0_addPromise_14 : decode cX0_addPromise 14 = .ok (.iload_n 3, 1) := dk_29 (dk_at dksX0_addPromise_0 14 rfl rfl)
theorem dX0_addPromise_15 : decode cX0_addPromise 15 = .ok (.iload 4, 2) := dk_21 4 (dk_at dksX0_addPromise_0 15 rfl rfl)
theorem dX0_addPromise_17 : decode cX0_addPromise 17 = .ok (.aload_n 0, 1) := dk_42 (dk_at dksX0_addPromise_0 17 rfl rfl)
theorem dX0_addPromise_18 : decode cX0_addPromise 18 = .ok (.getfield 78, 3) := dk_180 0 78 (dk_at dksX0_addPromise_0 18 rfl rfl)
theorem dX0_addPromise_21 : decode cX0_addPromise 21 = .ok (.invokespecial 81, 3) := dk_183 0 81 (dk_at dksX0_addPromise_0 21 rfl rfl)
theorem dX0_addPromise_24 : decode cX0_addPromise 24 = .ok (.aastore, 1) := dk_83 (dk_at dksX0_addPromise_1 0 rfl rfl)
theorem dX0_addPromise_25 : decode cX0_addPromise 25 = .ok (.aload_n 0, 1) := dk_42 (dk_at dksX0_addPromise_1 1 rfl rfl)
theorem dX0_addPromise_26 : decode cX0_addPromise 26 = .ok (.dup, 1) := dk_89 (dk_at dksX0_addPromise_1 2 rfl rfl)
theorem dX0_addPromise_27 : decode cX0_addPromise 27 = .ok (.getfield 71, 3) := dk_180 0 71 (dk_at dksX0_addPromise_1 3 rfl rfl)
theorem dX0_addPromise_30 : decode cX0_addPromise 30 = .ok (.iconst 1, 1) := dk_4 (dk_at dksX0_addPromise_1 6 rfl rfl)
theorem dX0_addPromise_31 : decode cX0_addPromise 31 = .ok (.iadd, 1) := dk_96 (dk_at dksX0_addPromise_1 7 rfl rfl)
theorem dX0_addPromise_32 : decode cX0_addPromise 32 = .ok (.putfield 71, 3) := dk_181 0 71 (dk_at dksX0_addPromise_1 8 rfl rfl)
theorem dX0_addPromise_35 : decode cX0_addPromise 35 = .ok (.aload_n 0, 1) := dk_42 (dk_at dksX0_addPromise_1 11 rfl rfl)
theorem dX0_addPromise_36 : decode cX0_addPromise 36 = .ok (.getfield 71, 3) := dk_180 0 71 (dk_at dksX0_addPromise_1 12 rfl rfl)
theorem dX0_addPromise_39 : decode cX0_addPromise 39 = .ok (.iconst 1, 1) := dk_4 (dk_at dksX0_addPromise_1 15 rfl rfl)
theorem dX0_addPromise_40 : decode cX0_addPromise 40 = .ok (.isub, 1) := dk_100 (dk_at dksX0_addPromise_1 16 rfl rfl)
theorem dX0_addPromise_41 : decode cX0_addPromise 41 = .ok (.ireturn, 1) := dk_172 (dk_at dksX0_addPromise_1 17 rfl rfl)
def dkwX0_promises_7 : List UInt8 := [167, 255, 132, 167, 0, 18, 58, 5, 16, 244, 172, 58, 5, 21, 4, 172, 58, 5, 21, 4, 172, 21, 4, 172]
abbrev dktX0_promises_7 : List UInt8 := dkwX0_promises_7 ++ []
def dkwX0_promises_6 : List UInt8 := [21, 10, 182, 0, 94, 87, 42, 89, 180, 0, 91, 4, 96, 181, 0, 91, 132, 4, 1, 132, 6, 1]
abbrev dktX0_promises_6 : List UInt8 := dkwX0_promises_6 ++ dktX0_promises_7
def dkwX0_promises_5 : List UInt8 := [21, 7, 21, 8, 21, 9, 21, 10, 182, 0, 87, 154, 0, 6, 21, 4, 172, 42, 21, 7, 21, 8, 21, 9]
abbrev dktX0_promises_5 : List UInt8 := dkwX0_promises_5 ++ dktX0_promises_6
def dkwX0_promises_4 : List UInt8 := [182, 0, 103, 136, 54, 9, 25, 5, 28, 7, 21, 6, 104, 96, 6, 96, 182, 0, 103, 136, 54, 10, 42]
abbrev dktX0_promises_4 : List UInt8 := dkwX0_promises_4 ++ dktX0_promises_5
def dkwX0_promises_3 : List UInt8 := [21, 6, 104, 96, 4, 96, 182, 0, 103, 136, 54, 8, 25, 5, 28, 7, 21, 6, 104, 96, 5, 96]
abbrev dktX0_promises_3 : List UInt8 := dkwX0_promises_3 ++ dktX0_promises_4
def dkwX0_promises_2 : List UInt8 := [16, 14, 162, 0, 115, 25, 5, 28, 7, 21, 6, 104, 96, 182, 0, 103, 136, 54, 7, 25, 5, 28, 7]
abbrev dktX0_promises_2 : List UInt8 := dkwX0_promises_2 ++ dktX0_promises_3
def dkwX0_promises_1 : List UInt8 := [180, 0, 59, 27, 50, 192, 0, 101, 58, 5, 3, 54, 6, 21, 6, 29, 162, 0, 124, 42, 180, 0, 71]
abbrev dktX0_promises_1 : List UInt8 := dkwX0_promises_1 ++ dktX0_promises_2
def dkwX0_promises_0 : List UInt8 := [27, 184, 0, 98, 153, 0, 13, 29, 4, 16, 14, 184, 0, 67, 154, 0, 5, 2, 172, 3, 54, 4, 42]
abbrev dktX0_promises_0 : List UInt8 := dkwX0_promises_0 ++ dktX0_promises_1
theorem dksX0_promises_0 : cX0_promises.data.toList.drop 0 = dktX0_promises_0 := by decide +kernel
theorem dksX0_promises_1 : cX0_promises.data.toList.drop 23 = dktX0_promises_1 := dk_seg dksX0_promises_0 23 rfl rfl
theorem dksX0_promises_2 : cX0_promises.data.toList.drop 46 = dktX0_promises_2 := dk_seg dksX0_promises_1 23 rfl rfl
theorem dksX0_promises_3 : cX0_promises.data.toList.drop 69 = dktX0_promises_3 := dk_seg dksX0_promises_2 23 rfl rfl
theorem dksX0_promises_4 : cX0_promises.data.toList.drop 91 = dktX0_promises_4 := dk_seg dksX0_promises_3 22 rfl rfl
theorem dksX0_promises_5 : cX0_promises.data.toList.drop 114 = dktX0_promises_5 := dk_seg dksX0_promises_4 23 rfl rfl
theorem dksX0_promises_6 : cX0_promises.data.toList.drop 138 = dktX0_promises_6 := dk_seg dksX0_promises_5 24 rfl rfl
theorem dksX0_promises_7 : cX0_promises.data.toList.drop 160 = dktX0_promises_7 := dk_seg dksX0_promises_6 22 rfl rfl
theorem dX0_promises_0 : decode cX0_promises 0 = .ok (.iload_n 1, 1) := dk_27 (dk_at dksX0_promises_0 0 rfl rfl)
theorem dX0_promises_1 : decode cX0_promises 1 = .ok (.invokestatic 98, 3) := dk_184 0 98 (dk_at dksX0_promises_0 1 rfl rfl)
theorem dX0_promises_4 : decode cX0_promises 4 = .ok (.ifCond .eq 13, 3) := dk_153 0 13 (dk_at dksX0_promises_0 4 rfl rfl)
theorem dX0_promises_7 : decode cX0_promises 7 = .ok (.iload_n 3, 1) := dk_29 (dk_at dksX0_promises_0 7 rfl rfl)
theorem dX0_promises_8 : decode cX0_promises 8 = .ok (.iconst 1, 1) := dk_4 (dk_at dksX0_promises_0 8 rfl rfl)
theorem dX0_promises_9 : decode cX0_promises 9 = .ok (.bipush 14, 2) := dk_16 14 (dk_at dksX0_promises_0 9 rfl rfl)
theorem dX0_promises_11 : decode cX0_promises 11 = .ok (.invokestatic 67, 3) := dk_184 0 67 (dk_at dksX0_promises_0 11 rfl rfl)
theorem dX0_promises_14 : decode cX0_promises 14 = .ok (.ifCond .ne 5, 3) := dk_154 0 5 (dk_at dksX0_promises_0 14 rfl rfl)
theorem dX0_promises_17 : decode cX0_promises 17 = .ok (.iconst (-1), 1) := dk_2 (dk_at dksX0_promises_0 17 rfl rfl)
theorem dX0_promises_18 : decode cX0_promises 18 = .ok (.ireturn, 1) := dk_172 (dk_at dksX0_promises_0 18 rfl rfl)
theorem dX0_promises_19 : decode cX0_promises 19 = .ok (.iconst 0, 1) := dk_3 (dk_at dksX0_promises_0 19 rfl rfl)
theorem dX0_promises_20 : decode cX0_promises 20 = .ok (.istore 4, 2) := dk_54 4 (dk_at dksX0_promises_0 20 rfl rfl)
theorem dX0_promises_22 : decode cX0_promises 22 = .ok (.aload_n 0, 1) := dk_42 (dk_at dksX0_promises_0 22 rfl rfl)
theorem dX0_promises_23 : decode cX0_promises 23 = .ok (.getfield 59, 3) := dk_180 0 59 (dk_at dksX0_promises_1 0 rfl rfl)
theorem dX0_promises_26 : decode cX0_promises 26 = .ok (.iload_n 1, 1) := dk_27 (dk_at dksX0_promises_1 3 rfl rfl)
theorem dX0_promises_27 : decode cX0_promises 27 = .ok (.aaload, 1) := dk_50 (dk_at dksX0_promises_1 4 rfl rfl)
theorem dX0_promises_28 : decode cX0_promises 28 = .ok (.checkcast 101, 3) := dk_192 0 101 (dk_at dksX0_promises_1 5 rfl rfl)
theorem dX0_promises_31 : decode cX0_promises 31 = .ok (.astore 5, 2) := dk_58 5 (dk_at dksX0_promises_1 8 rfl rfl)
theorem dX0_promises_33 : decode cX0_promises 33 = .ok (.iconst 0, 1) := dk_3 (dk_at dksX0_promises_1 10 rfl rfl)
theorem dX0_promises_34 : decode cX0_promises 34 = .ok (.istore 6, 2) := dk_54 6 (dk_at dksX0_promises_1 11 rfl rfl)
theorem dX0_promises_36 : decode cX0_promises 36 = .ok (.iload 6, 2) := dk_21 6 (dk_at dksX0_promises_1 13 rfl rfl)
theorem dX0_promises_38 : decode cX0_promises 38 = .ok (.iload_n 3, 1) := dk_29 (dk_at dksX0_promises_1 15 rfl rfl)
theorem dX0_promises_39 : decode cX0_promises 39 = .ok (.if_icmp .ge 124, 3) := dk_162 0 124 (dk_at dksX0_promises_1 16 rfl rfl)
theorem dX0_promises_42 : decode cX0_promises 42 = .ok (.aload_n 0, 1) := dk_42 (dk_at dksX0_promises_1 19 rfl rfl)
theorem dX0_promises_43 : decode cX0_promises 43 = .ok (.getfield 71, 3) := dk_180 0 71 (dk_at dksX0_promises_1 20 rfl rfl)
theorem dX0_promises_46 : decode cX0_promises 46 = .ok (.bipush 14, 2) := dk_16 14 (dk_at dksX0_promises_2 0 rfl rfl)
theorem dX0_promises_48 : decode cX0_promises 48 = .ok (.if_icmp .ge 115, 3) := dk_162 0 115 (dk_at dksX0_promises_2 2 rfl rfl)
theorem dX0_promises_51 : decode cX0_promises 51 = .ok (.aload 5, 2) := dk_25 5 (dk_at dksX0_promises_2 5 rfl rfl)
theorem dX0_promises_53 : decode cX0_promises 53 = .ok (.iload_n 2, 1) := dk_28 (dk_at dksX0_promises_2 7 rfl rfl)
theorem dX0_promises_54 : decode cX0_promises 54 = .ok (.iconst 4, 1) := dk_7 (dk_at dksX0_promises_2 8 rfl rfl)
theorem dX0_promises_55 : decode cX0_promises 55 = .ok (.iload 6, 2) := dk_21 6 (dk_at dksX0_promises_2 9 rfl rfl)
theorem dX0_promises_57 : decode cX0_promises 57 = .ok (.imul, 1) := dk_104 (dk_at dksX0_promises_2 11 rfl rfl)
theorem dX0_promises_58 : decode cX0_promises 58 = .ok (.iadd, 1) := dk_96 (dk_at dksX0_promises_2 12 rfl rfl)
theorem dX0_promises_59 : decode cX0_promises 59 = .ok (.invokevirtual 103, 3) := dk_182 0 103 (dk_at dksX0_promises_2 13 rfl rfl)
theorem dX0_promises_62 : decode cX0_promises 62 = .ok (.l2i, 1) := dk_136 (dk_at dksX0_promises_2 16 rfl rfl)
theorem dX0_promises_63 : decode cX0_promises 63 = .ok (.istore 7, 2) := dk_54 7 (dk_at dksX0_promises_2 17 rfl rfl)
theorem dX0_promises_65 : decode cX0_promises 65 = .ok (.aload 5, 2) := dk_25 5 (dk_at dksX0_promises_2 19 rfl rfl)
theorem dX0_promises_67 : decode cX0_promises 67 = .ok (.iload_n 2, 1) := dk_28 (dk_at dksX0_promises_2 21 rfl rfl)
theorem dX0_promises_68 : decode cX0_promises 68 = .ok (.iconst 4, 1) := dk_7 (dk_at dksX0_promises_2 22 rfl rfl)
theorem dX0_promises_69 : decode cX0_promises 69 = .ok (.iload 6, 2) := dk_21 6 (dk_at dksX0_promises_3 0 rfl rfl)
theorem dX0_promises_71 : decode cX0_promises 71 = .ok (.imul, 1) := dk_104 (dk_at dksX0_promises_3 2 rfl rfl)
theorem dX0_promises_72 : decode cX0_promises 72 = .ok (.iadd, 1) := dk_96 (dk_at dksX0_promises_3 3 rfl rfl)
theorem dX0_promises_73 : decode cX0_promises 73 = .ok (.iconst 1, 1) := dk_4 (dk_at dksX0_promises_3 4 rfl rfl)
theorem dX0_promises_74 : decode cX0_promises 74 = .ok (.iadd, 1) := dk_96 (dk_at dksX0_promises_3 5 rfl rfl)
theorem dX0_promises_75 : decode cX0_promises 75 = .ok (.invokevirtual 103, 3) := dk_182 0 103 (dk_at dksX0_promises_3 6 rfl rfl)
theorem dX0_promises_78 : decode cX0_promises 78 = .ok (.l2i, 1) := dk_136 (dk_at dksX0_promises_3 9 rfl rfl)
theorem dX0_promises_79 : decode cX0_promises 79 = .ok (.istore 8, 2) := dk_54 8 (dk_at dksX0_promises_3 10 rfl rfl)
theorem dX0_promises_81 : decode cX0_promises 81 = .ok (.aload 5, 2) := dk_25 5 (dk_at dksX0_promises_3 12 rfl rfl)
theorem dX0_promises_83 : decode cX0_promises 83 = .ok (.iload_n 2, 1) := dk_28 (dk_at dksX0_promises_3 14 rfl rfl)
theorem dX0_promises_84 : decode cX0_promises 84 = .ok (.iconst 4, 1) := dk_7 (dk_at dksX0_promises_3 15 rfl rfl)
theorem dX0_promises_85 : decode cX0_promises 85 = .ok (.iload 6, 2) := dk_21 6 (dk_at dksX0_promises_3 16 rfl rfl)
theorem dX0_promises_87 : decode cX0_promises 87 = .ok (.imul, 1) := dk_104 (dk_at dksX0_promises_3 18 rfl rfl)
theorem dX0_promises_88 : decode cX0_promises 88 = .ok (.iadd, 1) := dk_96 (dk_at dksX0_promises_3 19 rfl rfl)
theorem dX0_promises_89 : decode cX0_promises 89 = .ok (.iconst 2, 1) := dk_5 (dk_at dksX0_promises_3 20 rfl rfl)
theorem dX0_promises_90 : decode cX0_promises 90 = .ok (.iadd, 1) := dk_96 (dk_at dksX0_promises_3 21 rfl rfl)
theorem dX0_promises_91 : decode cX0_promises 91 = .ok (.invokevirtual 103, 3) := dk_182 0 103 (dk_at dksX0_promises_4 0 rfl rfl)
theorem dX0_promises_94 : decode cX0_promises 94 = .ok (.l2i, 1) := dk_136 (dk_at dksX0_promises_4 3 rfl rfl)
theorem dX0_promises_95 : decode cX0_promises 95 = .ok (.istore 9, 2) := dk_54 9 (dk_at dksX0_promises_4 4 rfl rfl)
theorem dX0_promises_97 : decode cX0_promises 97 = .ok (.aload 5, 2) := dk_25 5 (dk_at dksX0_promises_4 6 rfl rfl)
theorem dX0_promises_99 : decode cX0_promises 99 = .ok (.iload_n 2, 1) := dk_28 (dk_at dksX0_promises_4 8 rfl rfl)
theorem dX0_promises_100 : decode cX0_promises 100 = .ok (.iconst 4, 1) := dk_7 (dk_at dksX0_promises_4 9 rfl rfl)
theorem dX0_promises_101 : decode cX0_promises 101 = .ok (.iload 6, 2) := dk_21 6 (dk_at dksX0_promises_4 10 rfl rfl)
theorem dX0_promises_103 : decode cX0_promises 103 = .ok (.imul, 1) := dk_104 (dk_at dksX0_promises_4 12 rfl rfl)
theorem dX0_promises_104 : decode cX0_promises 104 = .ok (.iadd, 1) := dk_96 (dk_at dksX0_promises_4 13 rfl rfl)
theorem dX0_promises_105 : decode cX0_promises 105 = .ok (.iconst 3, 1) := dk_6 (dk_at dksX0_promises_4 14 rfl rfl)
theorem dX0_promises_106 : decode cX0_promises 106 = .ok (.iadd, 1) := dk_96 (dk_at dksX0_promises_4 15 rfl rfl)
theorem dX0_promises_107 : decode cX0_promises 107 = .ok (.invokevirtual 103, 3) := dk_182 0 103 (dk_at dksX0_promises_4 16 rfl rfl)
theorem dX0_promises_110 : decode cX0_promises 110 = .ok (.l2i, 1) := dk_136 (dk_at dksX0_promises_4 19 rfl rfl)
theorem dX0_promises_111 : decode cX0_promises 111 = .ok (.istore 10, 2) := dk_54 10 (dk_at dksX0_promises_4 20 rfl rfl)
theorem dX0_promises_113 : decode cX0_promises 113 = .ok (.aload_n 0, 1) := dk_42 (dk_at dksX0_promises_4 22 rfl rfl)
theorem dX0_promises_114 : decode cX0_promises 114 = .ok (.iload 7, 2) := dk_21 7 (dk_at dksX0_promises_5 0 rfl rfl)
theorem dX0_promises_116 : decode cX0_promises 116 = .ok (.iload 8, 2) := dk_21 8 (dk_at dksX0_promises_5 2 rfl rfl)
theorem dX0_promises_118 : decode cX0_promises 118 = .ok (.iload 9, 2) := dk_21 9 (dk_at dksX0_promises_5 4 rfl rfl)
theorem dX0_promises_120 : decode cX0_promises 120 = .ok (.iload 10, 2) := dk_21 10 (dk_at dksX0_promises_5 6 rfl rfl)
theorem dX0_promises_122 : decode cX0_promises 122 = .ok (.invokevirtual 87, 3) := dk_182 0 87 (dk_at dksX0_promises_5 8 rfl rfl)
theorem dX0_promises_125 : decode cX0_promises 125 = .ok (.ifCond .ne 6, 3) := dk_154 0 6 (dk_at dksX0_promises_5 11 rfl rfl)
theorem dX0_promises_128 : decode cX0_promises 128 = .ok (.iload 4, 2) := dk_21 4 (dk_at dksX0_promises_5 14 rfl rfl)
theorem dX0_promises_130 : decode cX0_promises 130 = .ok (.ireturn, 1) := dk_172 (dk_at dksX0_promises_5 16 rfl rfl)
theorem dX0_promises_131 : decode cX0_promises 131 = .ok (.aload_n 0, 1) := dk_42 (dk_at dksX0_promises_5 17 rfl rfl)
theorem dX0_promises_132 : decode cX0_promises 132 = .ok (.iload 7, 2) := dk_21 7 (dk_at dksX0_promises_5 18 rfl rfl)
theorem dX0_promises_134 : decode cX0_promises 134 = .ok (.iload 8, 2) := dk_21 8 (dk_at dksX0_promises_5 20 rfl rfl)
theorem dX0_promises_136 : decode cX0_promises 136 = .ok (.iload 9, 2) := dk_21 9 (dk_at dksX0_promises_5 22 rfl rfl)
theorem dX0_promises_138 : decode cX0_promises 138 = .ok (.iload 10, 2) := dk_21 10 (dk_at dksX0_promises_6 0 rfl rfl)
theorem dX0_promises_140 : decode cX0_promises 140 = .ok (.invokevirtual 94, 3) := dk_182 0 94 (dk_at dksX0_promises_6 2 rfl rfl)
theorem dX0_promises_143 : decode cX0_promises 143 = .ok (.pop, 1) := dk_87 (dk_at dksX0_promises_6 5 rfl rfl)
theorem dX0_promises_144 : decode cX0_promises 144 = .ok (.aload_n 0, 1) := dk_42 (dk_at dksX0_promises_6 6 rfl rfl)
theorem dX0_promises_145 : decode cX0_promises 145 = .ok (.dup, 1) := dk_89 (dk_at dksX0_promises_6 7 rfl rfl)
theorem dX0_promises_146 : decode cX0_promises 146 = .ok (.getfield 91, 3) := dk_180 0 91 (dk_at dksX0_promises_6 8 rfl rfl)
theorem dX0_promises_149 : decode cX0_promises 149 = .ok (.iconst 1, 1) := dk_4 (dk_at dksX0_promises_6 11 rfl rfl)
theorem dX0_promises_150 : decode cX0_promises 150 = .ok (.iadd, 1) := dk_96 (dk_at dksX0_promises_6 12 rfl rfl)
theorem dX0_promises_151 : decode cX0_promises 151 = .ok (.putfield 91, 3) := dk_181 0 91 (dk_at dksX0_promises_6 13 rfl rfl)
theorem dX0_promises_154 : decode cX0_promises 154 = .ok (.iinc 4 1, 3) := dk_132 4 1 (dk_at dksX0_promises_6 16 rfl rfl)
theorem dX0_promises_157 : decode cX0_promises 157 = .ok (.iinc 6 1, 3) := dk_132 6 1 (dk_at dksX0_promises_6 19 rfl rfl)
theorem dX0_promises_160 : decode cX0_promises 160 = .ok (.goto (-124), 3) := dk_167 255 132 (dk_at dksX0_promises_7 0 rfl rfl)
theorem dX0_promises_163 : decode cX0_promises 163 = .ok (.goto 18, 3) := dk_167 0 18 (dk_at dksX0_promises_7 3 rfl rfl)
theorem dX0_promises_166 : decode cX0_promises 166 = .ok (.astore 5, 2) := dk_58 5 (dk_at dksX0_promises_7 6 rfl rfl)
theorem dX0_promises_168 : decode cX0_promises 168 = .ok (.bipush (-12), 2) := dk_16 244 (dk_at dksX0_promises_7 8 rfl rfl)
theorem dX0_promises_170 : decode cX0_promises 170 = .ok (.ireturn, 1) := dk_172 (dk_at dksX0_promises_7 10 rfl rfl)
theorem dX0_promises_171 : decode cX0_promises 171 = .ok (.astore 5, 2) := dk_58 5 (dk_at dksX0_promises_7 11 rfl rfl)
theorem dX0_promises_173 : decode cX0_promises 173 = .ok (.iload 4, 2) := dk_21 4 (dk_at dksX0_promises_7 13 rfl rfl)
theorem dX0_promises_175 : decode cX0_promises 175 = .ok (.ireturn, 1) := dk_172 (dk_at dksX0_promises_7 15 rfl rfl)
theorem dX0_promises_176 : decode cX0_promises 176 = .ok (.astore 5, 2) := dk_58 5 (dk_at dksX0_promises_7 16 rfl rfl)
theorem dX0_promises_178 : decode cX0_promises 178 = .ok (.iload 4, 2) := dk_21 4 (dk_at dksX0_promises_7 18 rfl rfl)
theorem dX0_promises_180 : decode cX0_promises 180 = .ok (.ireturn, 1) := dk_172 (dk_at dksX0_promises_7 20 rfl rfl)
theorem dX0_promises_181 : decode cX0_promises 181 = .ok (.iload 4, 2) := dk_21 4 (dk_at dksX0_promises_7 21 rfl rfl)
theorem dX0_promises_183 : decode cX0_promises 183 = .ok (.ireturn, 1) := dk_172 (dk_at dksX0_promises_7 23 rfl rfl)
def dkwX0_isShelf_0 : List UInt8 := [26, 3, 8, 184, 0, 67, 172]
abbrev dktX0_isShelf_0 : List UInt8 := dkwX0_isShelf_0 ++ []
theorem dksX0_isShelf_0 : cX0_isShelf.data.toList.drop 0 = dktX0_isShelf_0 := by decide +kernel
theorem dX0_isShelf_0 : decode cX0_isShelf 0 = .ok (.iload_n 0, 1) := dk_26 (dk_at dksX0_isShelf_0 0 rfl rfl)
theorem dX0_isShelf_1 : decode cX0_isShelf 1 = .ok (.iconst 0, 1) := dk_3 (dk_at dksX0_isShelf_0 1 rfl rfl)
theorem dX0_isShelf_2 : decode cX0_isShelf 2 = .ok (.iconst 5, 1) := dk_8 (dk_at dksX0_isShelf_0 2 rfl rfl)
theorem dX0_isShelf_3 : decode cX0_isShelf 3 = .ok (.invokestatic 67, 3) := dk_184 0 67 (dk_at dksX0_isShelf_0 3 rfl rfl)
theorem dX0_isShelf_6 : decode cX0_isShelf 6 = .ok (.ireturn, 1) := dk_172 (dk_at dksX0_isShelf_0 6 rfl rfl)
def dkwX0_undo_3 : List UInt8 := [182, 0, 140, 42, 180, 0, 134, 172]
abbrev dktX0_undo_3 : List UInt8 := dkwX0_undo_3 ++ []
def dkwX0_undo_2 : List UInt8 := [180, 0, 23, 42, 180, 0, 134, 50, 180, 0, 147, 42, 180, 0, 23, 42, 180, 0, 134, 50, 180, 0, 149]
abbrev dktX0_undo_2 : List UInt8 := dkwX0_undo_2 ++ dktX0_undo_3
def dkwX0_undo_1 : List UInt8 := [180, 0, 131, 4, 96, 181, 0, 131, 42, 42, 180, 0, 23, 42, 180, 0, 134, 50, 180, 0, 144, 42]
abbrev dktX0_undo_1 : List UInt8 := dkwX0_undo_1 ++ dktX0_undo_2
def dkwX0_undo_0 : List UInt8 := [42, 180, 0, 134, 154, 0, 6, 16, 251, 172, 42, 89, 180, 0, 134, 4, 100, 181, 0, 134, 42, 89]
abbrev dktX0_undo_0 : List UInt8 := dkwX0_undo_0 ++ dktX0_undo_1
theorem dksX0_undo_0 : cX0_undo.data.toList.drop 0 = dktX0_undo_0 := by decide +kernel
theorem dksX0_undo_1 : cX0_undo.data.toList.drop 22 = dktX0_undo_1 := dk_seg dksX0_undo_0 22 rfl rfl
theorem dksX0_undo_2 : cX0_undo.data.toList.drop 44 = dktX0_undo_2 := dk_seg dksX0_undo_1 22 rfl rfl
theorem dksX0_undo_3 : cX0_undo.data.toList.drop 67 = dktX0_undo_3 := dk_seg dksX0_undo_2 23 rfl rfl
theorem dX0_undo_0 : decode cX0_undo 0 = .ok (.aload_n 0, 1) := dk_42 (dk_at dksX0_undo_0 0 rfl rfl)
theorem dX0_undo_1 : decode cX0_undo 1 = .ok (.getfield 134, 3) := dk_180 0 134 (dk_at dksX0_undo_0 1 rfl rfl)
theorem dX0_undo_4 : decode cX0_undo 4 = .ok (.ifCond .ne 6, 3) := dk_154 0 6 (dk_at dksX0_undo_0 4 rfl rfl)
theorem dX0_undo_7 : decode cX0_undo 7 = .ok (.bipush (-5), 2) := dk_16 251 (dk_at dksX0_undo_0 7 rfl rfl)
theorem dX0_undo_9 : decode cX0_undo 9 = .ok (.ireturn, 1) := dk_172 (dk_at dksX0_undo_0 9 rfl rfl)
theorem dX0_undo_10 : decode cX0_undo 10 = .ok (.aload_n 0, 1) := dk_42 (dk_at dksX0_undo_0 10 rfl rfl)
theorem dX0_undo_11 : decode cX0_undo 11 = .ok (.dup, 1) := dk_89 (dk_at dksX0_undo_0 11 rfl rfl)
theorem dX0_undo_12 : decode cX0_undo 12 = .ok (.getfield 134, 3) := dk_180 0 134 (dk_at dksX0_undo_0 12 rfl rfl)
theorem dX0_undo_15 : decode cX0_undo 15 = .ok (.iconst 1, 1) := dk_4 (dk_at dksX0_undo_0 15 rfl rfl)
theorem dX0_undo_16 : decode cX0_undo 16 = .ok (.isub, 1) := dk_100 (dk_at dksX0_undo_0 16 rfl rfl)
theorem dX0_undo_17 : decode cX0_undo 17 = .ok (.putfield 134, 3) := dk_181 0 134 (dk_at dksX0_undo_0 17 rfl rfl)
theorem dX0_undo_20 : decode cX0_undo 20 = .ok (.aload_n 0, 1) := dk_42 (dk_at dksX0_undo_0 20 rfl rfl)
theorem dX0_undo_21 : decode cX0_undo 21 = .ok (.dup, 1) := dk_89 (dk_at dksX0_undo_0 21 rfl rfl)
theorem dX0_undo_22 : decode cX0_undo 22 = .ok (.getfield 131, 3) := dk_180 0 131 (dk_at dksX0_undo_1 0 rfl rfl)
theorem dX0_undo_25 : decode cX0_undo 25 = .ok (.iconst 1, 1) := dk_4 (dk_at dksX0_undo_1 3 rfl rfl)
theorem dX0_undo_26 : decode cX0_undo 26 = .ok (.iadd, 1) := dk_96 (dk_at dksX0_undo_1 4 rfl rfl)
theorem dX0_undo_27 : decode cX0_undo 27 = .ok (.putfield 131, 3) := dk_181 0 131 (dk_at dksX0_undo_1 5 rfl rfl)
theorem dX0_undo_30 : decode cX0_undo 30 = .ok (.aload_n 0, 1) := dk_42 (dk_at dksX0_undo_1 8 rfl rfl)
theorem dX0_undo_31 : decode cX0_undo 31 = .ok (.aload_n 0, 1) := dk_42 (dk_at dksX0_undo_1 9 rfl rfl)
theorem dX0_undo_32 : decode cX0_undo 32 = .ok (.getfield 23, 3) := dk_180 0 23 (dk_at dksX0_undo_1 10 rfl rfl)
theorem dX0_undo_35 : decode cX0_undo 35 = .ok (.aload_n 0, 1) := dk_42 (dk_at dksX0_undo_1 13 rfl rfl)
theorem dX0_undo_36 : decode cX0_undo 36 = .ok (.getfield 134, 3) := dk_180 0 134 (dk_at dksX0_undo_1 14 rfl rfl)
theorem dX0_undo_39 : decode cX0_undo 39 = .ok (.aaload, 1) := dk_50 (dk_at dksX0_undo_1 17 rfl rfl)
theorem dX0_undo_40 : decode cX0_undo 40 = .ok (.getfield 144, 3) := dk_180 0 144 (dk_at dksX0_undo_1 18 rfl rfl)
theorem dX0_undo_43 : decode cX0_undo 43 = .ok (.aload_n 0, 1) := dk_42 (dk_at dksX0_undo_1 21 rfl rfl)
theorem dX0_undo_44 : decode cX0_undo 44 = .ok (.getfield 23, 3) := dk_180 0 23 (dk_at dksX0_undo_2 0 rfl rfl)
theorem dX0_undo_47 : decode cX0_undo 47 = .ok (.aload_n 0, 1) := dk_42 (dk_at dksX0_undo_2 3 rfl rfl)
theorem dX0_undo_48 : decode cX0_undo 48 = .ok (.getfield 134, 3) := dk_180 0 134 (dk_at dksX0_undo_2 4 rfl rfl)
theorem dX0_undo_51 : decode cX0_undo 51 = .ok (.aaload, 1) := dk_50 (dk_at dksX0_undo_2 7 rfl rfl)
theorem dX0_undo_52 : decode cX0_undo 52 = .ok (.getfield 147, 3) := dk_180 0 147 (dk_at dksX0_undo_2 8 rfl rfl)
theorem dX0_undo_55 : decode cX0_undo 55 = .ok (.aload_n 0, 1) := dk_42 (dk_at dksX0_undo_2 11 rfl rfl)
theorem dX0_undo_56 : decode cX0_undo 56 = .ok (.getfield 23, 3) := dk_180 0 23 (dk_at dksX0_undo_2 12 rfl rfl)
theorem dX0_undo_59 : decode cX0_undo 59 = .ok (.aload_n 0, 1) := dk_42 (dk_at dksX0_undo_2 15 rfl rfl)
theorem dX0_undo_60 : decode cX0_undo 60 = .ok (.getfield 134, 3) := dk_180 0 134 (dk_at dksX0_undo_2 16 rfl rfl)
theorem dX0_undo_63 : decode cX0_undo 63 = .ok (.aaload, 1) := dk_50 (dk_at dksX0_undo_2 19 rfl rfl)
theorem dX0_undo_64 : decode cX0_undo 64 = .ok (.getfield 149, 3) := dk_180 0 149 (dk_at dksX0_undo_2 20 rfl rfl)
theorem dX0_undo_67 : decode cX0_undo 67 = .ok (.invokevirtual 140, 3) := dk_182 0 140 (dk_at dksX0_undo_3 0 rfl rfl)
theorem dX0_undo_70 : decode cX0_undo 70 = .ok (.aload_n 0, 1) := dk_42 (dk_at dksX0_undo_3 3 rfl rfl)
theorem dX0_undo_71 : decode cX0_undo 71 = .ok (.getfield 134, 3) := dk_180 0 134 (dk_at dksX0_undo_3 4 rfl rfl)
theorem dX0_undo_74 : decode cX0_undo 74 = .ok (.ireturn, 1) := dk_172 (dk_at dksX0_undo_3 7 rfl rfl)
def dkwX0_setTo_5 : List UInt8 := [50, 29, 181, 0, 128, 167, 0, 8, 42, 29, 181, 0, 78, 177]
abbrev dktX0_setTo_5 : List UInt8 := dkwX0_setTo_5 ++ []
def dkwX0_setTo_4 : List UInt8 := [181, 0, 122, 167, 0, 34, 42, 180, 0, 17, 28, 50, 29, 181, 0, 125, 167, 0, 21, 42, 180, 0, 17, 28]
abbrev dktX0_setTo_4 : List UInt8 := dkwX0_setTo_4 ++ dktX0_setTo_5
def dkwX0_setTo_3 : List UInt8 := [167, 0, 60, 42, 180, 0, 17, 28, 50, 29, 181, 0, 119, 167, 0, 47, 42, 180, 0, 17, 28, 50, 29]
abbrev dktX0_setTo_3 : List UInt8 := dkwX0_setTo_3 ++ dktX0_setTo_4
def dkwX0_setTo_2 : List UInt8 := [42, 180, 0, 11, 28, 50, 29, 181, 0, 113, 167, 0, 73, 42, 180, 0, 17, 28, 50, 29, 181, 0, 116]
abbrev dktX0_setTo_2 : List UInt8 := dkwX0_setTo_2 ++ dktX0_setTo_3
def dkwX0_setTo_1 : List UInt8 := [170, 0, 0, 0, 0, 0, 117, 0, 0, 0, 0, 0, 0, 0, 5, 0, 0, 0, 39, 0, 0, 0, 52, 0, 0, 0, 65, 0, 0, 0, 78, 0, 0, 0, 91, 0, 0, 0, 104]
abbrev dktX0_setTo_1 : List UInt8 := dkwX0_setTo_1 ++ dktX0_setTo_2
def dkwX0_setTo_0 : List UInt8 := [27]
abbrev dktX0_setTo_0 : List UInt8 := dkwX0_setTo_0 ++ dktX0_setTo_1
theorem dksX0_setTo_0 : cX0_setTo.data.toList.drop 0 = dktX0_setTo_0 := by decide +kernel
theorem dksX0_setTo_1 : cX0_setTo.data.toList.drop 1 = dktX0_setTo_1 := dk_seg dksX0_setTo_0 1 rfl rfl
theorem dksX0_setTo_2 : cX0_setTo.data.toList.drop 40 = dktX0_setTo_2 := dk_seg dksX0_setTo_1 39 rfl rfl
theorem dksX0_setTo_3 : cX0_setTo.data.toList.drop 63 = dktX0_setTo_3 := dk_seg dksX0_setTo_2 23 rfl rfl
theorem dksX0_setTo_4 : cX0_setTo.data.toList.drop 86 = dktX0_setTo_4 := dk_seg dksX0_setTo_3 23 rfl rfl
theorem dksX0_setTo_5 : cX0_setTo.data.toList.drop 110 = dktX0_setTo_5 := dk_seg dksX0_setTo_4 24 rfl rfl
theorem dX0_setTo_0 : decode cX0_setTo 0 = .ok (.iload_n 1, 1) := dk_27 (dk_at dksX0_setTo_0 0 rfl rfl)
theorem dX0_setTo_1 : decode cX0_setTo 1 = .ok (.tableswitch 117 0 5 #[39, 52, 65, 78, 91, 104], 39) := by decide +kernel
theorem dX0_setTo_40 : decode cX0_setTo 40 = .ok (.aload_n 0, 1) := dk_42 (dk_at dksX0_setTo_2 0 rfl rfl)
theorem dX0_setTo_41 : decode cX0_setTo 41 = .ok (.getfield 11, 3) := dk_180 0 11 (dk_at dksX0_setTo_2 1 rfl rfl)
theorem dX0_setTo_44 : decode cX0_setTo 44 = .ok (.iload_n 2, 1) := dk_28 (dk_at dksX0_setTo_2 4 rfl rfl)
theorem dX0_setTo_45 : decode cX0_setTo 45 = .ok (.aaload, 1) := dk_50 (dk_at dksX0_setTo_2 5 rfl rfl)
theorem dX0_setTo_46 : decode cX0_setTo 46 = .ok (.iload_n 3, 1) := dk_29 (dk_at dksX0_setTo_2 6 rfl rfl)
theorem dX0_setTo_47 : decode cX0_setTo 47 = .ok (.putfield 113, 3) := dk_181 0 113 (dk_at dksX0_setTo_2 7 rfl rfl)
theorem dX0_setTo_50 : decode cX0_setTo 50 = .ok (.goto 73, 3) := dk_167 0 73 (dk_at dksX0_setTo_2 10 rfl rfl)
theorem dX0_setTo_53 : decode cX0_setTo 53 = .ok (.aload_n 0, 1) := dk_42 (dk_at dksX0_setTo_2 13 rfl rfl)
theorem dX0_setTo_54 : decode cX0_setTo 54 = .ok (.getfield 17, 3) := dk_180 0 17 (dk_at dksX0_setTo_2 14 rfl rfl)
theorem dX0_setTo_57 : decode cX0_setTo 57 = .ok (.iload_n 2, 1) := dk_28 (dk_at dksX0_setTo_2 17 rfl rfl)
theorem dX0_setTo_58 : decode cX0_setTo 58 = .ok (.aaload, 1) := dk_50 (dk_at dksX0_setTo_2 18 rfl rfl)
theorem dX0_setTo_59 : decode cX0_setTo 59 = .ok (.iload_n 3, 1) := dk_29 (dk_at dksX0_setTo_2 19 rfl rfl)
theorem dX0_setTo_60 : decode cX0_setTo 60 = .ok (.putfield 116, 3) := dk_181 0 116 (dk_at dksX0_setTo_2 20 rfl rfl)
theorem dX0_setTo_63 : decode cX0_setTo 63 = .ok (.goto 60, 3) := dk_167 0 60 (dk_at dksX0_setTo_3 0 rfl rfl)
theorem dX0_setTo_66 : decode cX0_setTo 66 = .ok (.aload_n 0, 1) := dk_42 (dk_at dksX0_setTo_3 3 rfl rfl)
theorem dX0_setTo_67 : decode cX0_setTo 67 = .ok (.getfield 17, 3) := dk_180 0 17 (dk_at dksX0_setTo_3 4 rfl rfl)
theorem dX0_setTo_70 : decode cX0_setTo 70 = .ok (.iload_n 2, 1) := dk_28 (dk_at dksX0_setTo_3 7 rfl rfl)
theorem dX0_setTo_71 : decode cX0_setTo 71 = .ok (.aaload, 1) := dk_50 (dk_at dksX0_setTo_3 8 rfl rfl)
theorem dX0_setTo_72 : decode cX0_setTo 72 = .ok (.iload_n 3, 1) := dk_29 (dk_at dksX0_setTo_3 9 rfl rfl)
theorem dX0_setTo_73 : decode cX0_setTo 73 = .ok (.putfield 119, 3) := dk_181 0 119 (dk_at dksX0_setTo_3 10 rfl rfl)
theorem dX0_setTo_76 : decode cX0_setTo 76 = .ok (.goto 47, 3) := dk_167 0 47 (dk_at dksX0_setTo_3 13 rfl rfl)
theorem dX0_setTo_79 : decode cX0_setTo 79 = .ok (.aload_n 0, 1) := dk_42 (dk_at dksX0_setTo_3 16 rfl rfl)
theorem dX0_setTo_80 : decode cX0_setTo 80 = .ok (.getfield 17, 3) := dk_180 0 17 (dk_at dksX0_setTo_3 17 rfl rfl)
theorem dX0_setTo_83 : decode cX0_setTo 83 = .ok (.iload_n 2, 1) := dk_28 (dk_at dksX0_setTo_3 20 rfl rfl)
theorem dX0_setTo_84 : decode cX0_setTo 84 = .ok (.aaload, 1) := dk_50 (dk_at dksX0_setTo_3 21 rfl rfl)
theorem dX0_setTo_85 : decode cX0_setTo 85 = .ok (.iload_n 3, 1) := dk_29 (dk_at dksX0_setTo_3 22 rfl rfl)
theorem dX0_setTo_86 : decode cX0_setTo 86 = .ok (.putfield 122, 3) := dk_181 0 122 (dk_at dksX0_setTo_4 0 rfl rfl)
theorem dX0_setTo_89 : decode cX0_setTo 89 = .ok (.goto 34, 3) := dk_167 0 34 (dk_at dksX0_setTo_4 3 rfl rfl)
theorem dX0_setTo_92 : decode cX0_setTo 92 = .ok (.aload_n 0, 1) := dk_42 (dk_at dksX0_setTo_4 6 rfl rfl)
theorem dX0_setTo_93 : decode cX0_setTo 93 = .ok (.getfield 17, 3) := dk_180 0 17 (dk_at dksX0_setTo_4 7 rfl rfl)
theorem dX0_setTo_96 : decode cX0_setTo 96 = .ok (.iload_n 2, 1) := dk_28 (dk_at dksX0_setTo_4 10 rfl rfl)
theorem dX0_setTo_97 : decode cX0_setTo 97 = .ok (.aaload, 1) := dk_50 (dk_at dksX0_setTo_4 11 rfl rfl)
theorem dX0_setTo_98 : decode cX0_setTo 98 = .ok (.iload_n 3, 1) := dk_29 (dk_at dksX0_setTo_4 12 rfl rfl)
theorem dX0_setTo_99 : decode cX0_setTo 99 = .ok (.putfield 125, 3) := dk_181 0 125 (dk_at dksX0_setTo_4 13 rfl rfl)
theorem dX0_setTo_102 : decode cX0_setTo 102 = .ok (.goto 21, 3) := dk_167 0 21 (dk_at dksX0_setTo_4 16 rfl rfl)
theorem dX0_setTo_105 : decode cX0_setTo 105 = .ok (.aload_n 0, 1) := dk_42 (dk_at dksX0_setTo_4 19 rfl rfl)
theorem dX0_setTo_106 : decode cX0_setTo 106 = .ok (.getfield 17, 3) := dk_180 0 17 (dk_at dksX0_setTo_4 20 rfl rfl)
theorem dX0_setTo_109 : decode cX0_setTo 109 = .ok (.iload_n 2, 1) := dk_28 (dk_at dksX0_setTo_4 23 rfl rfl)
theorem dX0_setTo_110 : decode cX0_setTo 110 = .ok (.aaload, 1) := dk_50 (dk_at dksX0_setTo_5 0 rfl rfl)
theorem dX0_setTo_111 : decode cX0_setTo 111 = .ok (.iload_n 3, 1) := dk_29 (dk_at dksX0_setTo_5 1 rfl rfl)
theorem dX0_setTo_112 : decode cX0_setTo 112 = .ok (.putfield 128, 3) := dk_181 0 128 (dk_at dksX0_setTo_5 2 rfl rfl)
theorem dX0_setTo_115 : decode cX0_setTo 115 = .ok (.goto 8, 3) := dk_167 0 8 (dk_at dksX0_setTo_5 5 rfl rfl)
theorem dX0_setTo_118 : decode cX0_setTo 118 = .ok (.aload_n 0, 1) := dk_42 (dk_at dksX0_setTo_5 8 rfl rfl)
theorem dX0_setTo_119 : decode cX0_setTo 119 = .ok (.iload_n 3, 1) := dk_29 (dk_at dksX0_setTo_5 9 rfl rfl)
theorem dX0_setTo_120 : decode cX0_setTo 120 = .ok (.putfield 78, 3) := dk_181 0 78 (dk_at dksX0_setTo_5 10 rfl rfl)
theorem dX0_setTo_123 : decode cX0_setTo 123 = .ok (.return_, 1) := dk_177 (dk_at dksX0_setTo_5 13 rfl rfl)
def dkwX0_redo_3 : List UInt8 := [180, 0, 131, 172]
abbrev dktX0_redo_3 : List UInt8 := dkwX0_redo_3 ++ []
def dkwX0_redo_2 : List UInt8 := [182, 0, 140, 42, 89, 180, 0, 134, 4, 96, 181, 0, 134, 42, 89, 180, 0, 131, 4, 100, 181, 0, 131, 42]
abbrev dktX0_redo_2 : List UInt8 := dkwX0_redo_2 ++ dktX0_redo_3
def dkwX0_redo_1 : List UInt8 := [180, 0, 23, 42, 180, 0, 134, 50, 180, 0, 147, 42, 180, 0, 23, 42, 180, 0, 134, 50, 180, 0, 152]
abbrev dktX0_redo_1 : List UInt8 := dkwX0_redo_1 ++ dktX0_redo_2
def dkwX0_redo_0 : List UInt8 := [42, 180, 0, 131, 154, 0, 6, 16, 251, 172, 42, 42, 180, 0, 23, 42, 180, 0, 134, 50, 180, 0, 144, 42]
abbrev dktX0_redo_0 : List UInt8 := dkwX0_redo_0 ++ dktX0_redo_1
theorem dksX0_redo_0 : cX0_redo.data.toList.drop 0 = dktX0_redo_0 := by decide +kernel
theorem dksX0_redo_1 : cX0_redo.data.toList.drop 24 = dktX0_redo_1 := dk_seg dksX0_redo_0 24 rfl rfl
theorem dksX0_redo_2 : cX0_redo.data.toList.drop 47 = dktX0_redo_2 := dk_seg dksX0_redo_1 23 rfl rfl
theorem dksX0_redo_3 : cX0_redo.data.toList.drop 71 = dktX0_redo_3 := dk_seg dksX0_redo_2 24 rfl rfl
theorem dX0_redo_0 : decode cX0_redo 0 = .ok (.aload_n 0, 1) := dk_42 (dk_at dksX0_redo_0 0 rfl rfl)
theorem dX0_redo_1 : decode cX0_redo 1 = .ok (.getfield 131, 3) := dk_180 0 131 (dk_at dksX0_redo_0 1 rfl rfl)
theorem dX0_redo_4 : decode cX0_redo 4 = .ok (.ifCond .ne 6, 3) := dk_154 0 6 (dk_at dksX0_redo_0 4 rfl rfl)
theorem dX0_redo_7 : decode cX0_redo 7 = .ok (.bipush (-5), 2) := dk_16 251 (dk_at dksX0_redo_0 7 rfl rfl)
theorem dX0_redo_9 : decode cX0_redo 9 = .ok (.ireturn, 1) := dk_172 (dk_at dksX0_redo_0 9 rfl rfl)
theorem dX0_redo_10 : decode cX0_redo 10 = .ok (.aload_n 0, 1) := dk_42 (dk_at dksX0_redo_0 10 rfl rfl)
theorem dX0_redo_11 : decode cX0_redo 11 = .ok (.aload_n 0, 1) := dk_42 (dk_at dksX0_redo_0 11 rfl rfl)
theorem dX0_redo_12 : decode cX0_redo 12 = .ok (.getfield 23, 3) := dk_180 0 23 (dk_at dksX0_redo_0 12 rfl rfl)
theorem dX0_redo_15 : decode cX0_redo 15 = .ok (.aload_n 0, 1) := dk_42 (dk_at dksX0_redo_0 15 rfl rfl)
theorem dX0_redo_16 : decode cX0_redo 16 = .ok (.getfield 134, 3) := dk_180 0 134 (dk_at dksX0_redo_0 16 rfl rfl)
theorem dX0_redo_19 : decode cX0_redo 19 = .ok (.aaload, 1) := dk_50 (dk_at dksX0_redo_0 19 rfl rfl)
theorem dX0_redo_20 : decode cX0_redo 20 = .ok (.getfield 144, 3) := dk_180 0 144 (dk_at dksX0_redo_0 20 rfl rfl)
theorem dX0_redo_23 : decode cX0_redo 23 = .ok (.aload_n 0, 1) := dk_42 (dk_at dksX0_redo_0 23 rfl rfl)
theorem dX0_redo_24 : decode cX0_redo 24 = .ok (.getfield 23, 3) := dk_180 0 23 (dk_at dksX0_redo_1 0 rfl rfl)
theorem dX0_redo_27 : decode cX0_redo 27 = .ok (.aload_n 0, 1) := dk_42 (dk_at dksX0_redo_1 3 rfl rfl)
theorem dX0_redo_28 : decode cX0_redo 28 = .ok (.getfield 134, 3) := dk_180 0 134 (dk_at dksX0_redo_1 4 rfl rfl)
theorem dX0_redo_31 : decode cX0_redo 31 = .ok (.aaload, 1) := dk_50 (dk_at dksX0_redo_1 7 rfl rfl)
theorem dX0_redo_32 : decode cX0_redo 32 = .ok (.getfield 147, 3) := dk_180 0 147 (dk_at dksX0_redo_1 8 rfl rfl)
theorem dX0_redo_35 : decode cX0_redo 35 = .ok (.aload_n 0, 1) := dk_42 (dk_at dksX0_redo_1 11 rfl rfl)
theorem dX0_redo_36 : decode cX0_redo 36 = .ok (.getfield 23, 3) := dk_180 0 23 (dk_at dksX0_redo_1 12 rfl rfl)
theorem dX0_redo_39 : decode cX0_redo 39 = .ok (.aload_n 0, 1) := dk_42 (dk_at dksX0_redo_1 15 rfl rfl)
theorem dX0_redo_40 : decode cX0_redo 40 = .ok (.getfield 134, 3) := dk_180 0 134 (dk_at dksX0_redo_1 16 rfl rfl)
theorem dX0_redo_43 : decode cX0_redo 43 = .ok (.aaload, 1) := dk_50 (dk_at dksX0_redo_1 19 rfl rfl)
theorem dX0_redo_44 : decode cX0_redo 44 = .ok (.getfield 152, 3) := dk_180 0 152 (dk_at dksX0_redo_1 20 rfl rfl)
theorem dX0_redo_47 : decode cX0_redo 47 = .ok (.invokevirtual 140, 3) := dk_182 0 140 (dk_at dksX0_redo_2 0 rfl rfl)
theorem dX0_redo_50 : decode cX0_redo 50 = .ok (.aload_n 0, 1) := dk_42 (dk_at dksX0_redo_2 3 rfl rfl)
theorem dX0_redo_51 : decode cX0_redo 51 = .ok (.dup, 1) := dk_89 (dk_at dksX0_redo_2 4 rfl rfl)
theorem dX0_redo_52 : decode cX0_redo 52 = .ok (.getfield 134, 3) := dk_180 0 134 (dk_at dksX0_redo_2 5 rfl rfl)
theorem dX0_redo_55 : decode cX0_redo 55 = .ok (.iconst 1, 1) := dk_4 (dk_at dksX0_redo_2 8 rfl rfl)
theorem dX0_redo_56 : decode cX0_redo 56 = .ok (.iadd, 1) := dk_96 (dk_at dksX0_redo_2 9 rfl rfl)
theorem dX0_redo_57 : decode cX0_redo 57 = .ok (.putfield 134, 3) := dk_181 0 134 (dk_at dksX0_redo_2 10 rfl rfl)
theorem dX0_redo_60 : decode cX0_redo 60 = .ok (.aload_n 0, 1) := dk_42 (dk_at dksX0_redo_2 13 rfl rfl)
theorem dX0_redo_61 : decode cX0_redo 61 = .ok (.dup, 1) := dk_89 (dk_at dksX0_redo_2 14 rfl rfl)
theorem dX0_redo_62 : decode cX0_redo 62 = .ok (.getfield 131, 3) := dk_180 0 131 (dk_at dksX0_redo_2 15 rfl rfl)
theorem dX0_redo_65 : decode cX0_redo 65 = .ok (.iconst 1, 1) := dk_4 (dk_at dksX0_redo_2 18 rfl rfl)
theorem dX0_redo_66 : decode cX0_redo 66 = .ok (.isub, 1) := dk_100 (dk_at dksX0_redo_2 19 rfl rfl)
theorem dX0_redo_67 : decode cX0_redo 67 = .ok (.putfield 131, 3) := dk_181 0 131 (dk_at dksX0_redo_2 20 rfl rfl)
theorem dX0_redo_70 : decode cX0_redo 70 = .ok (.aload_n 0, 1) := dk_42 (dk_at dksX0_redo_2 23 rfl rfl)
theorem dX0_redo_71 : decode cX0_redo 71 = .ok (.getfield 131, 3) := dk_180 0 131 (dk_at dksX0_redo_3 0 rfl rfl)
theorem dX0_redo_74 : decode cX0_redo 74 = .ok (.ireturn, 1) := dk_172 (dk_at dksX0_redo_3 3 rfl rfl)
def dkwX0_mend_1 : List UInt8 := [182, 0, 165, 29, 182, 0, 169, 167, 0, 5, 18, 172, 172]
abbrev dktX0_mend_1 : List UInt8 := dkwX0_mend_1 ++ []
def dkwX0_mend_0 : List UInt8 := [42, 27, 28, 182, 0, 158, 153, 0, 27, 28, 29, 184, 0, 162, 153, 0, 19, 42, 28, 27, 42, 27, 28]
abbrev dktX0_mend_0 : List UInt8 := dkwX0_mend_0 ++ dktX0_mend_1
theorem dksX0_mend_0 : cX0_mend.data.toList.drop 0 = dktX0_mend_0 := by decide +kernel
theorem dksX0_mend_1 : cX0_mend.data.toList.drop 23 = dktX0_mend_1 := dk_seg dksX0_mend_0 23 rfl rfl
theorem dX0_mend_0 : decode cX0_mend 0 = .ok (.aload_n 0, 1) := dk_42 (dk_at dksX0_mend_0 0 rfl rfl)
theorem dX0_mend_1 : decode cX0_mend 1 = .ok (.iload_n 1, 1) := dk_27 (dk_at dksX0_mend_0 1 rfl rfl)
theorem dX0_mend_2 : decode cX0_mend 2 = .ok (.iload_n 2, 1) := dk_28 (dk_at dksX0_mend_0 2 rfl rfl)
theorem dX0_mend_3 : decode cX0_mend 3 = .ok (.invokevirtual 158, 3) := dk_182 0 158 (dk_at dksX0_mend_0 3 rfl rfl)
theorem dX0_mend_6 : decode cX0_mend 6 = .ok (.ifCond .eq 27, 3) := dk_153 0 27 (dk_at dksX0_mend_0 6 rfl rfl)
theorem dX0_mend_9 : decode cX0_mend 9 = .ok (.iload_n 2, 1) := dk_28 (dk_at dksX0_mend_0 9 rfl rfl)
theorem dX0_mend_10 : decode cX0_mend 10 = .ok (.iload_n 3, 1) := dk_29 (dk_at dksX0_mend_0 10 rfl rfl)
theorem dX0_mend_11 : decode cX0_mend 11 = .ok (.invokestatic 162, 3) := dk_184 0 162 (dk_at dksX0_mend_0 11 rfl rfl)
theorem dX0_mend_14 : decode cX0_mend 14 = .ok (.ifCond .eq 19, 3) := dk_153 0 19 (dk_at dksX0_mend_0 14 rfl rfl)
theorem dX0_mend_17 : decode cX0_mend 17 = .ok (.aload_n 0, 1) := dk_42 (dk_at dksX0_mend_0 17 rfl rfl)
theorem dX0_mend_18 : decode cX0_mend 18 = .ok (.iload_n 2, 1) := dk_28 (dk_at dksX0_mend_0 18 rfl rfl)
theorem dX0_mend_19 : decode cX0_mend 19 = .ok (.iload_n 1, 1) := dk_27 (dk_at dksX0_mend_0 19 rfl rfl)
theorem dX0_mend_20 : decode cX0_mend 20 = .ok (.aload_n 0, 1) := dk_42 (dk_at dksX0_mend_0 20 rfl rfl)
theorem dX0_mend_21 : decode cX0_mend 21 = .ok (.iload_n 1, 1) := dk_27 (dk_at dksX0_mend_0 21 rfl rfl)
theorem dX0_mend_22 : decode cX0_mend 22 = .ok (.iload_n 2, 1) := dk_28 (dk_at dksX0_mend_0 22 rfl rfl)
theorem dX0_mend_23 : decode cX0_mend 23 = .ok (.invokevirtual 165, 3) := dk_182 0 165 (dk_at dksX0_mend_1 0 rfl rfl)
theorem dX0_mend_26 : decode cX0_mend 26 = .ok (.iload_n 3, 1) := dk_29 (dk_at dksX0_mend_1 3 rfl rfl)
theorem dX0_mend_27 : decode cX0_mend 27 = .ok (.invokevirtual 169, 3) := dk_182 0 169 (dk_at dksX0_mend_1 4 rfl rfl)
theorem dX0_mend_30 : decode cX0_mend 30 = .ok (.goto 5, 3) := dk_167 0 5 (dk_at dksX0_mend_1 7 rfl rfl)
theorem dX0_mend_33 : decode cX0_mend 33 = .ok (.ldc 172, 2) := dk_18 172 (dk_at dksX0_mend_1 10 rfl rfl)
theorem dX0_mend_35 : decode cX0_mend 35 = .ok (.ireturn, 1) := dk_172 (dk_at dksX0_mend_1 12 rfl rfl)
def dkwX0_isOf_1 : List UInt8 := [182, 0, 155, 167, 0, 18, 28, 16, 6, 160, 0, 11, 27, 154, 0, 7, 4, 167, 0, 4, 3, 172]
abbrev dktX0_isOf_1 : List UInt8 := dkwX0_isOf_1 ++ []
def dkwX0_isOf_0 : List UInt8 := [28, 154, 0, 11, 42, 27, 182, 0, 74, 167, 0, 35, 28, 4, 8, 184, 0, 67, 153, 0, 11, 42, 27]
abbrev dktX0_isOf_0 : List UInt8 := dkwX0_isOf_0 ++ dktX0_isOf_1
theorem dksX0_isOf_0 : cX0_isOf.data.toList.drop 0 = dktX0_isOf_0 := by decide +kernel
theorem dksX0_isOf_1 : cX0_isOf.data.toList.drop 23 = dktX0_isOf_1 := dk_seg dksX0_isOf_0 23 rfl rfl
theorem dX0_isOf_0 : decode cX0_isOf 0 = .ok (.iload_n 2, 1) := dk_28 (dk_at dksX0_isOf_0 0 rfl rfl)
theorem dX0_isOf_1 : decode cX0_isOf 1 = .ok (.ifCond .ne 11, 3) := dk_154 0 11 (dk_at dksX0_isOf_0 1 rfl rfl)
theorem dX0_isOf_4 : decode cX0_isOf 4 = .ok (.aload_n 0, 1) := dk_42 (dk_at dksX0_isOf_0 4 rfl rfl)
theorem dX0_isOf_5 : decode cX0_isOf 5 = .ok (.iload_n 1, 1) := dk_27 (dk_at dksX0_isOf_0 5 rfl rfl)
theorem dX0_isOf_6 : decode cX0_isOf 6 = .ok (.invokevirtual 74, 3) := dk_182 0 74 (dk_at dksX0_isOf_0 6 rfl rfl)
theorem dX0_isOf_9 : decode cX0_isOf 9 = .ok (.goto 35, 3) := dk_167 0 35 (dk_at dksX0_isOf_0 9 rfl rfl)
theorem dX0_isOf_12 : decode cX0_isOf 12 = .ok (.iload_n 2, 1) := dk_28 (dk_at dksX0_isOf_0 12 rfl rfl)
theorem dX0_isOf_13 : decode cX0_isOf 13 = .ok (.iconst 1, 1) := dk_4 (dk_at dksX0_isOf_0 13 rfl rfl)
theorem dX0_isOf_14 : decode cX0_isOf 14 = .ok (.iconst 5, 1) := dk_8 (dk_at dksX0_isOf_0 14 rfl rfl)
theorem dX0_isOf_15 : decode cX0_isOf 15 = .ok (.invokestatic 67, 3) := dk_184 0 67 (dk_at dksX0_isOf_0 15 rfl rfl)
theorem dX0_isOf_18 : decode cX0_isOf 18 = .ok (.ifCond .eq 11, 3) := dk_153 0 11 (dk_at dksX0_isOf_0 18 rfl rfl)
theorem dX0_isOf_21 : decode cX0_isOf 21 = .ok (.aload_n 0, 1) := dk_42 (dk_at dksX0_isOf_0 21 rfl rfl)
theorem dX0_isOf_22 : decode cX0_isOf 22 = .ok (.iload_n 1, 1) := dk_27 (dk_at dksX0_isOf_0 22 rfl rfl)
theorem dX0_isOf_23 : decode cX0_isOf 23 = .ok (.invokevirtual 155, 3) := dk_182 0 155 (dk_at dksX0_isOf_1 0 rfl rfl)
theorem dX0_isOf_26 : decode cX0_isOf 26 = .ok (.goto 18, 3) := dk_167 0 18 (dk_at dksX0_isOf_1 3 rfl rfl)
theorem dX0_isOf_29 : decode cX0_isOf 29 = .ok (.iload_n 2, 1) := dk_28 (dk_at dksX0_isOf_1 6 rfl rfl)
theorem dX0_isOf_30 : decode cX0_isOf 30 = .ok (.bipush 6, 2) := dk_16 6 (dk_at dksX0_isOf_1 7 rfl rfl)
theorem dX0_isOf_32 : decode cX0_isOf 32 = .ok (.if_icmp .ne 11, 3) := dk_160 0 11 (dk_at dksX0_isOf_1 9 rfl rfl)
theorem dX0_isOf_35 : decode cX0_isOf 35 = .ok (.iload_n 1, 1) := dk_27 (dk_at dksX0_isOf_1 12 rfl rfl)
theorem dX0_isOf_36 : decode cX0_isOf 36 = .ok (.ifCond .ne 7, 3) := dk_154 0 7 (dk_at dksX0_isOf_1 13 rfl rfl)
theorem dX0_isOf_39 : decode cX0_isOf 39 = .ok (.iconst 1, 1) := dk_4 (dk_at dksX0_isOf_1 16 rfl rfl)
theorem dX0_isOf_40 : decode cX0_isOf 40 = .ok (.goto 4, 3) := dk_167 0 4 (dk_at dksX0_isOf_1 17 rfl rfl)
theorem dX0_isOf_43 : decode cX0_isOf 43 = .ok (.iconst 0, 1) := dk_3 (dk_at dksX0_isOf_1 20 rfl rfl)
theorem dX0_isOf_44 : decode cX0_isOf 44 = .ok (.ireturn, 1) := dk_172 (dk_at dksX0_isOf_1 21 rfl rfl)
def dkwX0_isPromise_0 : List UInt8 := [27, 3, 42, 180, 0, 71, 4, 100, 184, 0, 67, 172]
abbrev dktX0_isPromise_0 : List UInt8 := dkwX0_isPromise_0 ++ []
theorem dksX0_isPromise_0 : cX0_isPromise.data.toList.drop 0 = dktX0_isPromise_0 := by decide +kernel
theorem dX0_isPromise_0 : decode cX0_isPromise 0 = .ok (.iload_n 1, 1) := dk_27 (dk_at dksX0_isPromise_0 0 rfl rfl)
theorem dX0_isPromise_1 : decode cX0_isPromise 1 = .ok (.iconst 0, 1) := dk_3 (dk_at dksX0_isPromise_0 1 rfl rfl)
theorem dX0_isPromise_2 : decode cX0_isPromise 2 = .ok (.aload_n 0, 1) := dk_42 (dk_at dksX0_isPromise_0 2 rfl rfl)
theorem dX0_isPromise_3 : decode cX0_isPromise 3 = .ok (.getfield 71, 3) := dk_180 0 71 (dk_at dksX0_isPromise_0 3 rfl rfl)
theorem dX0_isPromise_6 : decode cX0_isPromise 6 = .ok (.iconst 1, 1) := dk_4 (dk_at dksX0_isPromise_0 6 rfl rfl)
theorem dX0_isPromise_7 : decode cX0_isPromise 7 = .ok (.isub, 1) := dk_100 (dk_at dksX0_isPromise_0 7 rfl rfl)
theorem dX0_isPromise_8 : decode cX0_isPromise 8 = .ok (.invokestatic 67, 3) := dk_184 0 67 (dk_at dksX0_isPromise_0 8 rfl rfl)
theorem dX0_isPromise_11 : decode cX0_isPromise 11 = .ok (.ireturn, 1) := dk_172 (dk_at dksX0_isPromise_0 11 rfl rfl)
def dkwX0_mayBe_3 : List UInt8 := [27, 3, 4, 184, 0, 67, 172, 27, 3, 16, 99, 184, 0, 67, 172]
abbrev dktX0_mayBe_3 : List UInt8 := dkwX0_mayBe_3 ++ []
def dkwX0_mayBe_2 : List UInt8 := [27, 3, 17, 3, 231, 184, 0, 67, 172, 27, 3, 5, 184, 0, 67, 172, 27, 4, 16, 99, 184, 0, 67, 172]
abbrev dktX0_mayBe_2 : List UInt8 := dkwX0_mayBe_2 ++ dktX0_mayBe_3
def dkwX0_mayBe_1 : List UInt8 := [170, 0, 0, 0, 0, 0, 70, 0, 0, 0, 0, 0, 0, 0, 5, 0, 0, 0, 39, 0, 0, 0, 70, 0, 0, 0, 48, 0, 0, 0, 55, 0, 0, 0, 70, 0, 0, 0, 63]
abbrev dktX0_mayBe_1 : List UInt8 := dkwX0_mayBe_1 ++ dktX0_mayBe_2
def dkwX0_mayBe_0 : List UInt8 := [26]
abbrev dktX0_mayBe_0 : List UInt8 := dkwX0_mayBe_0 ++ dktX0_mayBe_1
theorem dksX0_mayBe_0 : cX0_mayBe.data.toList.drop 0 = dktX0_mayBe_0 := by decide +kernel
theorem dksX0_mayBe_1 : cX0_mayBe.data.toList.drop 1 = dktX0_mayBe_1 := dk_seg dksX0_mayBe_0 1 rfl rfl
theorem dksX0_mayBe_2 : cX0_mayBe.data.toList.drop 40 = dktX0_mayBe_2 := dk_seg dksX0_mayBe_1 39 rfl rfl
theorem dksX0_mayBe_3 : cX0_mayBe.data.toList.drop 64 = dktX0_mayBe_3 := dk_seg dksX0_mayBe_2 24 rfl rfl
theorem dX0_mayBe_0 : decode cX0_mayBe 0 = .ok (.iload_n 0, 1) := dk_26 (dk_at dksX0_mayBe_0 0 rfl rfl)
theorem dX0_mayBe_1 : decode cX0_mayBe 1 = .ok (.tableswitch 70 0 5 #[39, 70, 48, 55, 70, 63], 39) := by decide +kernel
theorem dX0_mayBe_40 : decode cX0_mayBe 40 = .ok (.iload_n 1, 1) := dk_27 (dk_at dksX0_mayBe_2 0 rfl rfl)
theorem dX0_mayBe_41 : decode cX0_mayBe 41 = .ok (.iconst 0, 1) := dk_3 (dk_at dksX0_mayBe_2 1 rfl rfl)
theorem dX0_mayBe_42 : decode cX0_mayBe 42 = .ok (.sipush 999, 3) := dk_17 3 231 (dk_at dksX0_mayBe_2 2 rfl rfl)
theorem dX0_mayBe_45 : decode cX0_mayBe 45 = .ok (.invokestatic 67, 3) := dk_184 0 67 (dk_at dksX0_mayBe_2 5 rfl rfl)
theorem dX0_mayBe_48 : decode cX0_mayBe 48 = .ok (.ireturn, 1) := dk_172 (dk_at dksX0_mayBe_2 8 rfl rfl)
theorem dX0_mayBe_49 : decode cX0_mayBe 49 = .ok (.iload_n 1, 1) := dk_27 (dk_at dksX0_mayBe_2 9 rfl rfl)
theorem dX0_mayBe_50 : decode cX0_mayBe 50 = .ok (.iconst 0, 1) := dk_3 (dk_at dksX0_mayBe_2 10 rfl rfl)
theorem dX0_mayBe_51 : decode cX0_mayBe 51 = .ok (.iconst 2, 1) := dk_5 (dk_at dksX0_mayBe_2 11 rfl rfl)
theorem dX0_mayBe_52 : decode cX0_mayBe 52 = .ok (.invokestatic 67, 3) := dk_184 0 67 (dk_at dksX0_mayBe_2 12 rfl rfl)
theorem dX0_mayBe_55 : decode cX0_mayBe 55 = .ok (.ireturn, 1) := dk_172 (dk_at dksX0_mayBe_2 15 rfl rfl)
theorem dX0_mayBe_56 : decode cX0_mayBe 56 = .ok (.iload_n 1, 1) := dk_27 (dk_at dksX0_mayBe_2 16 rfl rfl)
theorem dX0_mayBe_57 : decode cX0_mayBe 57 = .ok (.iconst 1, 1) := dk_4 (dk_at dksX0_mayBe_2 17 rfl rfl)
theorem dX0_mayBe_58 : decode cX0_mayBe 58 = .ok (.bipush 99, 2) := dk_16 99 (dk_at dksX0_mayBe_2 18 rfl rfl)
theorem dX0_mayBe_60 : decode cX0_mayBe 60 = .ok (.invokestatic 67, 3) := dk_184 0 67 (dk_at dksX0_mayBe_2 20 rfl rfl)
theorem dX0_mayBe_63 : decode cX0_mayBe 63 = .ok (.ireturn, 1) := dk_172 (dk_at dksX0_mayBe_2 23 rfl rfl)
theorem dX0_mayBe_64 : decode cX0_mayBe 64 = .ok (.iload_n 1, 1) := dk_27 (dk_at dksX0_mayBe_3 0 rfl rfl)
theorem dX0_mayBe_65 : decode cX0_mayBe 65 = .ok (.iconst 0, 1) := dk_3 (dk_at dksX0_mayBe_3 1 rfl rfl)
theorem dX0_mayBe_66 : decode cX0_mayBe 66 = .ok (.iconst 1, 1) := dk_4 (dk_at dksX0_mayBe_3 2 rfl rfl)
theorem dX0_mayBe_67 : decode cX0_mayBe 67 = .ok (.invokestatic 67, 3) := dk_184 0 67 (dk_at dksX0_mayBe_3 3 rfl rfl)
theorem dX0_mayBe_70 : decode cX0_mayBe 70 = .ok (.ireturn, 1) := dk_172 (dk_at dksX0_mayBe_3 6 rfl rfl)
theorem dX0_mayBe_71 : decode cX0_mayBe 71 = .ok (.iload_n 1, 1) := dk_27 (dk_at dksX0_mayBe_3 7 rfl rfl)
theorem dX0_mayBe_72 : decode cX0_mayBe 72 = .ok (.iconst 0, 1) := dk_3 (dk_at dksX0_mayBe_3 8 rfl rfl)
theorem dX0_mayBe_73 : decode cX0_mayBe 73 = .ok (.bipush 99, 2) := dk_16 99 (dk_at dksX0_mayBe_3 9 rfl rfl)
theorem dX0_mayBe_75 : decode cX0_mayBe 75 = .ok (.invokestatic 67, 3) := dk_184 0 67 (dk_at dksX0_mayBe_3 11 rfl rfl)
theorem dX0_mayBe_78 : decode cX0_mayBe 78 = .ok (.ireturn, 1) := dk_172 (dk_at dksX0_mayBe_3 14 rfl rfl)
def dkwX0_valueOf_4 : List UInt8 := [180, 0, 125, 172, 42, 180, 0, 17, 27, 50, 180, 0, 128, 172, 42, 180, 0, 78, 172]
abbrev dktX0_valueOf_4 : List UInt8 := dkwX0_valueOf_4 ++ []
def dkwX0_valueOf_3 : List UInt8 := [27, 50, 180, 0, 119, 172, 42, 180, 0, 17, 27, 50, 180, 0, 122, 172, 42, 180, 0, 17, 27, 50]
abbrev dktX0_valueOf_3 : List UInt8 := dkwX0_valueOf_3 ++ dktX0_valueOf_4
def dkwX0_valueOf_2 : List UInt8 := [42, 180, 0, 11, 27, 50, 180, 0, 113, 172, 42, 180, 0, 17, 27, 50, 180, 0, 116, 172, 42, 180, 0, 17]
abbrev dktX0_valueOf_2 : List UInt8 := dkwX0_valueOf_2 ++ dktX0_valueOf_3
def dkwX0_valueOf_1 : List UInt8 := [170, 0, 0, 0, 0, 0, 99, 0, 0, 0, 0, 0, 0, 0, 5, 0, 0, 0, 39, 0, 0, 0, 49, 0, 0, 0, 59, 0, 0, 0, 69, 0, 0, 0, 79, 0, 0, 0, 89]
abbrev dktX0_valueOf_1 : List UInt8 := dkwX0_valueOf_1 ++ dktX0_valueOf_2
def dkwX0_valueOf_0 : List UInt8 := [28]
abbrev dktX0_valueOf_0 : List UInt8 := dkwX0_valueOf_0 ++ dktX0_valueOf_1
theorem dksX0_valueOf_0 : cX0_valueOf.data.toList.drop 0 = dktX0_valueOf_0 := by decide +kernel
theorem dksX0_valueOf_1 : cX0_valueOf.data.toList.drop 1 = dktX0_valueOf_1 := dk_seg dksX0_valueOf_0 1 rfl rfl
theorem dksX0_valueOf_2 : cX0_valueOf.data.toList.drop 40 = dktX0_valueOf_2 := dk_seg dksX0_valueOf_1 39 rfl rfl
theorem dksX0_valueOf_3 : cX0_valueOf.data.toList.drop 64 = dktX0_valueOf_3 := dk_seg dksX0_valueOf_2 24 rfl rfl
theorem dksX0_valueOf_4 : cX0_valueOf.data.toList.drop 86 = dktX0_valueOf_4 := dk_seg dksX0_valueOf_3 22 rfl rfl
theorem dX0_valueOf_0 : decode cX0_valueOf 0 = .ok (.iload_n 2, 1) := dk_28 (dk_at dksX0_valueOf_0 0 rfl rfl)
theorem dX0_valueOf_1 : decode cX0_valueOf 1 = .ok (.tableswitch 99 0 5 #[39, 49, 59, 69, 79, 89], 39) := by decide +kernel
theorem dX0_valueOf_40 : decode cX0_valueOf 40 = .ok (.aload_n 0, 1) := dk_42 (dk_at dksX0_valueOf_2 0 rfl rfl)
theorem dX0_valueOf_41 : decode cX0_valueOf 41 = .ok (.getfield 11, 3) := dk_180 0 11 (dk_at dksX0_valueOf_2 1 rfl rfl)
theorem dX0_valueOf_44 : decode cX0_valueOf 44 = .ok (.iload_n 1, 1) := dk_27 (dk_at dksX0_valueOf_2 4 rfl rfl)
theorem dX0_valueOf_45 : decode cX0_valueOf 45 = .ok (.aaload, 1) := dk_50 (dk_at dksX0_valueOf_2 5 rfl rfl)
theorem dX0_valueOf_46 : decode cX0_valueOf 46 = .ok (.getfield 113, 3) := dk_180 0 113 (dk_at dksX0_valueOf_2 6 rfl rfl)
theorem dX0_valueOf_49 : decode cX0_valueOf 49 = .ok (.ireturn, 1) := dk_172 (dk_at dksX0_valueOf_2 9 rfl rfl)
theorem dX0_valueOf_50 : decode cX0_valueOf 50 = .ok (.aload_n 0, 1) := dk_42 (dk_at dksX0_valueOf_2 10 rfl rfl)
theorem dX0_valueOf_51 : decode cX0_valueOf 51 = .ok (.getfield 17, 3) := dk_180 0 17 (dk_at dksX0_valueOf_2 11 rfl rfl)
theorem dX0_valueOf_54 : decode cX0_valueOf 54 = .ok (.iload_n 1, 1) := dk_27 (dk_at dksX0_valueOf_2 14 rfl rfl)
theorem dX0_valueOf_55 : decode cX0_valueOf 55 = .ok (.aaload, 1) := dk_50 (dk_at dksX0_valueOf_2 15 rfl rfl)
theorem dX0_valueOf_56 : decode cX0_valueOf 56 = .ok (.getfield 116, 3) := dk_180 0 116 (dk_at dksX0_valueOf_2 16 rfl rfl)
theorem dX0_valueOf_59 : decode cX0_valueOf 59 = .ok (.ireturn, 1) := dk_172 (dk_at dksX0_valueOf_2 19 rfl rfl)
theorem dX0_valueOf_60 : decode cX0_valueOf 60 = .ok (.aload_n 0, 1) := dk_42 (dk_at dksX0_valueOf_2 20 rfl rfl)
theorem dX0_valueOf_61 : decode cX0_valueOf 61 = .ok (.getfield 17, 3) := dk_180 0 17 (dk_at dksX0_valueOf_2 21 rfl rfl)
theorem dX0_valueOf_64 : decode cX0_valueOf 64 = .ok (.iload_n 1, 1) := dk_27 (dk_at dksX0_valueOf_3 0 rfl rfl)
theorem dX0_valueOf_65 : decode cX0_valueOf 65 = .ok (.aaload, 1) := dk_50 (dk_at dksX0_valueOf_3 1 rfl rfl)
theorem dX0_valueOf_66 : decode cX0_valueOf 66 = .ok (.getfield 119, 3) := dk_180 0 119 (dk_at dksX0_valueOf_3 2 rfl rfl)
theorem dX0_valueOf_69 : decode cX0_valueOf 69 = .ok (.ireturn, 1) := dk_172 (dk_at dksX0_valueOf_3 5 rfl rfl)
theorem dX0_valueOf_70 : decode cX0_valueOf 70 = .ok (.aload_n 0, 1) := dk_42 (dk_at dksX0_valueOf_3 6 rfl rfl)
theorem dX0_valueOf_71 : decode cX0_valueOf 71 = .ok (.getfield 17, 3) := dk_180 0 17 (dk_at dksX0_valueOf_3 7 rfl rfl)
theorem dX0_valueOf_74 : decode cX0_valueOf 74 = .ok (.iload_n 1, 1) := dk_27 (dk_at dksX0_valueOf_3 10 rfl rfl)
theorem dX0_valueOf_75 : decode cX0_valueOf 75 = .ok (.aaload, 1) := dk_50 (dk_at dksX0_valueOf_3 11 rfl rfl)
theorem dX0_valueOf_76 : decode cX0_valueOf 76 = .ok (.getfield 122, 3) := dk_180 0 122 (dk_at dksX0_valueOf_3 12 rfl rfl)
theorem dX0_valueOf_79 : decode cX0_valueOf 79 = .ok (.ireturn, 1) := dk_172 (dk_at dksX0_valueOf_3 15 rfl rfl)
theorem dX0_valueOf_80 : decode cX0_valueOf 80 = .ok (.aload_n 0, 1) := dk_42 (dk_at dksX0_valueOf_3 16 rfl rfl)
theorem dX0_valueOf_81 : decode cX0_valueOf 81 = .ok (.getfield 17, 3) := dk_180 0 17 (dk_at dksX0_valueOf_3 17 rfl rfl)
theorem dX0_valueOf_84 : decode cX0_valueOf 84 = .ok (.iload_n 1, 1) := dk_27 (dk_at dksX0_valueOf_3 20 rfl rfl)
theorem dX0_valueOf_85 : decode cX0_valueOf 85 = .ok (.aaload, 1) := dk_50 (dk_at dksX0_valueOf_3 21 rfl rfl)
theorem dX0_valueOf_86 : decode cX0_valueOf 86 = .ok (.getfield 125, 3) := dk_180 0 125 (dk_at dksX0_valueOf_4 0 rfl rfl)
theorem dX0_valueOf_89 : decode cX0_valueOf 89 = .ok (.ireturn, 1) := dk_172 (dk_at dksX0_valueOf_4 3 rfl rfl)
theorem dX0_valueOf_90 : decode cX0_valueOf 90 = .ok (.aload_n 0, 1) := dk_42 (dk_at dksX0_valueOf_4 4 rfl rfl)
theorem dX0_valueOf_91 : decode cX0_valueOf 91 = .ok (.getfield 17, 3) := dk_180 0 17 (dk_at dksX0_valueOf_4 5 rfl rfl)
theorem dX0_valueOf_94 : decode cX0_valueOf 94 = .ok (.iload_n 1, 1) := dk_27 (dk_at dksX0_valueOf_4 8 rfl rfl)
theorem dX0_valueOf_95 : decode cX0_valueOf 95 = .ok (.aaload, 1) := dk_50 (dk_at dksX0_valueOf_4 9 rfl rfl)
theorem dX0_valueOf_96 : decode cX0_valueOf 96 = .ok (.getfield 128, 3) := dk_180 0 128 (dk_at dksX0_valueOf_4 10 rfl rfl)
theorem dX0_valueOf_99 : decode cX0_valueOf 99 = .ok (.ireturn, 1) := dk_172 (dk_at dksX0_valueOf_4 13 rfl rfl)
theorem dX0_valueOf_100 : decode cX0_valueOf 100 = .ok (.aload_n 0, 1) := dk_42 (dk_at dksX0_valueOf_4 14 rfl rfl)
theorem dX0_valueOf_101 : decode cX0_valueOf 101 = .ok (.getfield 78, 3) := dk_180 0 78 (dk_at dksX0_valueOf_4 15 rfl rfl)
theorem dX0_valueOf_104 : decode cX0_valueOf 104 = .ok (.ireturn, 1) := dk_172 (dk_at dksX0_valueOf_4 18 rfl rfl)
def dkwX0_become_4 : List UInt8 := [181, 0, 134, 42, 27, 28, 21, 4, 182, 0, 140, 29, 172]
abbrev dktX0_become_4 : List UInt8 := dkwX0_become_4 ++ []
def dkwX0_become_3 : List UInt8 := [180, 0, 134, 187, 0, 21, 89, 27, 28, 29, 21, 4, 183, 0, 137, 83, 42, 89, 180, 0, 134, 4, 96]
abbrev dktX0_become_3 : List UInt8 := dkwX0_become_3 ++ dktX0_become_4
def dkwX0_become_2 : List UInt8 := [83, 132, 5, 1, 167, 255, 230, 42, 89, 180, 0, 134, 4, 100, 181, 0, 134, 42, 180, 0, 23, 42]
abbrev dktX0_become_2 : List UInt8 := dkwX0_become_2 ++ dktX0_become_3
def dkwX0_become_1 : List UInt8 := [54, 5, 21, 5, 16, 40, 162, 0, 25, 42, 180, 0, 23, 21, 5, 4, 100, 42, 180, 0, 23, 21, 5, 50]
abbrev dktX0_become_1 : List UInt8 := dkwX0_become_1 ++ dktX0_become_2
def dkwX0_become_0 : List UInt8 := [29, 21, 4, 160, 0, 5, 29, 172, 42, 3, 181, 0, 131, 42, 180, 0, 134, 16, 40, 160, 0, 45, 4]
abbrev dktX0_become_0 : List UInt8 := dkwX0_become_0 ++ dktX0_become_1
theorem dksX0_become_0 : cX0_become.data.toList.drop 0 = dktX0_become_0 := by decide +kernel
theorem dksX0_become_1 : cX0_become.data.toList.drop 23 = dktX0_become_1 := dk_seg dksX0_become_0 23 rfl rfl
theorem dksX0_become_2 : cX0_become.data.toList.drop 47 = dktX0_become_2 := dk_seg dksX0_become_1 24 rfl rfl
theorem dksX0_become_3 : cX0_become.data.toList.drop 69 = dktX0_become_3 := dk_seg dksX0_become_2 22 rfl rfl
theorem dksX0_become_4 : cX0_become.data.toList.drop 92 = dktX0_become_4 := dk_seg dksX0_become_3 23 rfl rfl
theorem dX0_become_0 : decode cX0_become 0 = .ok (.iload_n 3, 1) := dk_29 (dk_at dksX0_become_0 0 rfl rfl)
theorem dX0_become_1 : decode cX0_become 1 = .ok (.iload 4, 2) := dk_21 4 (dk_at dksX0_become_0 1 rfl rfl)
theorem dX0_become_3 : decode cX0_become 3 = .ok (.if_icmp .ne 5, 3) := dk_160 0 5 (dk_at dksX0_become_0 3 rfl rfl)
theorem dX0_become_6 : decode cX0_become 6 = .ok (.iload_n 3, 1) := dk_29 (dk_at dksX0_become_0 6 rfl rfl)
theorem dX0_become_7 : decode cX0_become 7 = .ok (.ireturn, 1) := dk_172 (dk_at dksX0_become_0 7 rfl rfl)
theorem dX0_become_8 : decode cX0_become 8 = .ok (.aload_n 0, 1) := dk_42 (dk_at dksX0_become_0 8 rfl rfl)
theorem dX0_become_9 : decode cX0_become 9 = .ok (.iconst 0, 1) := dk_3 (dk_at dksX0_become_0 9 rfl rfl)
theorem dX0_become_10 : decode cX0_become 10 = .ok (.putfield 131, 3) := dk_181 0 131 (dk_at dksX0_become_0 10 rfl rfl)
theorem dX0_become_13 : decode cX0_become 13 = .ok (.aload_n 0, 1) := dk_42 (dk_at dksX0_become_0 13 rfl rfl)
theorem dX0_become_14 : decode cX0_become 14 = .ok (.getfield 134, 3) := dk_180 0 134 (dk_at dksX0_become_0 14 rfl rfl)
theorem dX0_become_17 : decode cX0_become 17 = .ok (.bipush 40, 2) := dk_16 40 (dk_at dksX0_become_0 17 rfl rfl)
theorem dX0_become_19 : decode cX0_become 19 = .ok (.if_icmp .ne 45, 3) := dk_160 0 45 (dk_at dksX0_become_0 19 rfl rfl)
theorem dX0_become_22 : decode cX0_become 22 = .ok (.iconst 1, 1) := dk_4 (dk_at dksX0_become_0 22 rfl rfl)
theorem dX0_become_23 : decode cX0_become 23 = .ok (.istore 5, 2) := dk_54 5 (dk_at dksX0_become_1 0 rfl rfl)
theorem dX0_become_25 : decode cX0_become 25 = .ok (.iload 5, 2) := dk_21 5 (dk_at dksX0_become_1 2 rfl rfl)
theorem dX0_become_27 : decode cX0_become 27 = .ok (.bipush 40, 2) := dk_16 40 (dk_at dksX0_become_1 4 rfl rfl)
theorem dX0_become_29 : decode cX0_become 29 = .ok (.if_icmp .ge 25, 3) := dk_162 0 25 (dk_at dksX0_become_1 6 rfl rfl)
theorem dX0_become_32 : decode cX0_become 32 = .ok (.aload_n 0, 1) := dk_42 (dk_at dksX0_become_1 9 rfl rfl)
theorem dX0_become_33 : decode cX0_become 33 = .ok (.getfield 23, 3) := dk_180 0 23 (dk_at dksX0_become_1 10 rfl rfl)
theorem dX0_become_36 : decode cX0_become 36 = .ok (.iload 5, 2) := dk_21 5 (dk_at dksX0_become_1 13 rfl rfl)
theorem dX0_become_38 : decode cX0_become 38 = .ok (.iconst 1, 1) := dk_4 (dk_at dksX0_become_1 15 rfl rfl)
theorem dX0_become_39 : decode cX0_become 39 = .ok (.isub, 1) := dk_100 (dk_at dksX0_become_1 16 rfl rfl)
theorem dX0_become_40 : decode cX0_become 40 = .ok (.aload_n 0, 1) := dk_42 (dk_at dksX0_become_1 17 rfl rfl)
theorem dX0_become_41 : decode cX0_become 41 = .ok (.getfield 23, 3) := dk_180 0 23 (dk_at dksX0_become_1 18 rfl rfl)
theorem dX0_become_44 : decode cX0_become 44 = .ok (.iload 5, 2) := dk_21 5 (dk_at dksX0_become_1 21 rfl rfl)
theorem dX0_become_46 : decode cX0_become 46 = .ok (.aaload, 1) := dk_50 (dk_at dksX0_become_1 23 rfl rfl)
theorem dX0_become_47 : decode cX0_become 47 = .ok (.aastore, 1) := dk_83 (dk_at dksX0_become_2 0 rfl rfl)
theorem dX0_become_48 : decode cX0_become 48 = .ok (.iinc 5 1, 3) := dk_132 5 1 (dk_at dksX0_become_2 1 rfl rfl)
theorem dX0_become_51 : decode cX0_become 51 = .ok (.goto (-26), 3) := dk_167 255 230 (dk_at dksX0_become_2 4 rfl rfl)
theorem dX0_become_54 : decode cX0_become 54 = .ok (.aload_n 0, 1) := dk_42 (dk_at dksX0_become_2 7 rfl rfl)
theorem dX0_become_55 : decode cX0_become 55 = .ok (.dup, 1) := dk_89 (dk_at dksX0_become_2 8 rfl rfl)
theorem dX0_become_56 : decode cX0_become 56 = .ok (.getfield 134, 3) := dk_180 0 134 (dk_at dksX0_become_2 9 rfl rfl)
theorem dX0_become_59 : decode cX0_become 59 = .ok (.iconst 1, 1) := dk_4 (dk_at dksX0_become_2 12 rfl rfl)
theorem dX0_become_60 : decode cX0_become 60 = .ok (.isub, 1) := dk_100 (dk_at dksX0_become_2 13 rfl rfl)
theorem dX0_become_61 : decode cX0_become 61 = .ok (.putfield 134, 3) := dk_181 0 134 (dk_at dksX0_become_2 14 rfl rfl)
theorem dX0_become_64 : decode cX0_become 64 = .ok (.aload_n 0, 1) := dk_42 (dk_at dksX0_become_2 17 rfl rfl)
theorem dX0_become_65 : decode cX0_become 65 = .ok (.getfield 23, 3) := dk_180 0 23 (dk_at dksX0_become_2 18 rfl rfl)
theorem dX0_become_68 : decode cX0_become 68 = .ok (.aload_n 0, 1) := dk_42 (dk_at dksX0_become_2 21 rfl rfl)
theorem dX0_become_69 : decode cX0_become 69 = .ok (.getfield 134, 3) := dk_180 0 134 (dk_at dksX0_become_3 0 rfl rfl)
theorem dX0_become_72 : decode cX0_become 72 = .ok (.new 21, 3) := dk_187 0 21 (dk_at dksX0_become_3 3 rfl rfl)
theorem dX0_become_75 : decode cX0_become 75 = .ok (.dup, 1) := dk_89 (dk_at dksX0_become_3 6 rfl rfl)
theorem dX0_become_76 : decode cX0_become 76 = .ok (.iload_n 1, 1) := dk_27 (dk_at dksX0_become_3 7 rfl rfl)
theorem dX0_become_77 : decode cX0_become 77 = .ok (.iload_n 2, 1) := dk_28 (dk_at dksX0_become_3 8 rfl rfl)
theorem dX0_become_78 : decode cX0_become 78 = .ok (.iload_n 3, 1) := dk_29 (dk_at dksX0_become_3 9 rfl rfl)
theorem dX0_become_79 : decode cX0_become 79 = .ok (.iload 4, 2) := dk_21 4 (dk_at dksX0_become_3 10 rfl rfl)
theorem dX0_become_81 : decode cX0_become 81 = .ok (.invokespecial 137, 3) := dk_183 0 137 (dk_at dksX0_become_3 12 rfl rfl)
theorem dX0_become_84 : decode cX0_become 84 = .ok (.aastore, 1) := dk_83 (dk_at dksX0_become_3 15 rfl rfl)
theorem dX0_become_85 : decode cX0_become 85 = .ok (.aload_n 0, 1) := dk_42 (dk_at dksX0_become_3 16 rfl rfl)
theorem dX0_become_86 : decode cX0_become 86 = .ok (.dup, 1) := dk_89 (dk_at dksX0_become_3 17 rfl rfl)
theorem dX0_become_87 : decode cX0_become 87 = .ok (.getfield 134, 3) := dk_180 0 134 (dk_at dksX0_become_3 18 rfl rfl)
theorem dX0_become_90 : decode cX0_become 90 = .ok (.iconst 1, 1) := dk_4 (dk_at dksX0_become_3 21 rfl rfl)
theorem dX0_become_91 : decode cX0_become 91 = .ok (.iadd, 1) := dk_96 (dk_at dksX0_become_3 22 rfl rfl)
theorem dX0_become_92 : decode cX0_become 92 = .ok (.putfield 134, 3) := dk_181 0 134 (dk_at dksX0_become_4 0 rfl rfl)
theorem dX0_become_95 : decode cX0_become 95 = .ok (.aload_n 0, 1) := dk_42 (dk_at dksX0_become_4 3 rfl rfl)
theorem dX0_become_96 : decode cX0_become 96 = .ok (.iload_n 1, 1) := dk_27 (dk_at dksX0_become_4 4 rfl rfl)
theorem dX0_become_97 : decode cX0_become 97 = .ok (.iload_n 2, 1) := dk_28 (dk_at dksX0_become_4 5 rfl rfl)
theorem dX0_become_98 : decode cX0_become 98 = .ok (.iload 4, 2) := dk_21 4 (dk_at dksX0_become_4 6 rfl rfl)
theorem dX0_become_100 : decode cX0_become 100 = .ok (.invokevirtual 140, 3) := dk_182 0 140 (dk_at dksX0_become_4 8 rfl rfl)
theorem dX0_become_103 : decode cX0_become 103 = .ok (.iload_n 3, 1) := dk_29 (dk_at dksX0_become_4 11 rfl rfl)
theorem dX0_become_104 : decode cX0_become 104 = .ok (.ireturn, 1) := dk_172 (dk_at dksX0_become_4 12 rfl rfl)
def dkwX0_of_3 : List UInt8 := [172]
abbrev dktX0_of_3 : List UInt8 := dkwX0_of_3 ++ []
def dkwX0_of_2 : List UInt8 := [180, 0, 176, 172, 42, 27, 28, 182, 0, 158, 153, 0, 12, 42, 27, 28, 182, 0, 165, 167, 0, 5, 18, 172]
abbrev dktX0_of_2 : List UInt8 := dkwX0_of_2 ++ dktX0_of_3
def dkwX0_of_1 : List UInt8 := [28, 16, 7, 160, 0, 15, 42, 180, 0, 17, 27, 50, 180, 0, 173, 167, 0, 12, 42, 180, 0, 17, 27, 50]
abbrev dktX0_of_1 : List UInt8 := dkwX0_of_1 ++ dktX0_of_2
def dkwX0_of_0 : List UInt8 := [28, 16, 7, 16, 8, 184, 0, 67, 153, 0, 44, 42, 27, 182, 0, 155, 154, 0, 8, 18, 172, 167, 0, 30]
abbrev dktX0_of_0 : List UInt8 := dkwX0_of_0 ++ dktX0_of_1
theorem dksX0_of_0 : cX0_of.data.toList.drop 0 = dktX0_of_0 := by decide +kernel
theorem dksX0_of_1 : cX0_of.data.toList.drop 24 = dktX0_of_1 := dk_seg dksX0_of_0 24 rfl rfl
theorem dksX0_of_2 : cX0_of.data.toList.drop 48 = dktX0_of_2 := dk_seg dksX0_of_1 24 rfl rfl
theorem dksX0_of_3 : cX0_of.data.toList.drop 72 = dktX0_of_3 := dk_seg dksX0_of_2 24 rfl rfl
theorem dX0_of_0 : decode cX0_of 0 = .ok (.iload_n 2, 1) := dk_28 (dk_at dksX0_of_0 0 rfl rfl)
theorem dX0_of_1 : decode cX0_of 1 = .ok (.bipush 7, 2) := dk_16 7 (dk_at dksX0_of_0 1 rfl rfl)
theorem dX0_of_3 : decode cX0_of 3 = .ok (.bipush 8, 2) := dk_16 8 (dk_at dksX0_of_0 3 rfl rfl)
theorem dX0_of_5 : decode cX0_of 5 = .ok (.invokestatic 67, 3) := dk_184 0 67 (dk_at dksX0_of_0 5 rfl rfl)
theorem dX0_of_8 : decode cX0_of 8 = .ok (.ifCond .eq 44, 3) := dk_153 0 44 (dk_at dksX0_of_0 8 rfl rfl)
theorem dX0_of_11 : decode cX0_of 11 = .ok (.aload_n 0, 1) := dk_42 (dk_at dksX0_of_0 11 rfl rfl)
theorem dX0_of_12 : decode cX0_of 12 = .ok (.iload_n 1, 1) := dk_27 (dk_at dksX0_of_0 12 rfl rfl)
theorem dX0_of_13 : decode cX0_of 13 = .ok (.invokevirtual 155, 3) := dk_182 0 155 (dk_at dksX0_of_0 13 rfl rfl)
theorem dX0_of_16 : decode cX0_of 16 = .ok (.ifCond .ne 8, 3) := dk_154 0 8 (dk_at dksX0_of_0 16 rfl rfl)
theorem dX0_of_19 : decode cX0_of 19 = .ok (.ldc 172, 2) := dk_18 172 (dk_at dksX0_of_0 19 rfl rfl)
theorem dX0_of_21 : decode cX0_of 21 = .ok (.goto 30, 3) := dk_167 0 30 (dk_at dksX0_of_0 21 rfl rfl)
theorem dX0_of_24 : decode cX0_of 24 = .ok (.iload_n 2, 1) := dk_28 (dk_at dksX0_of_1 0 rfl rfl)
theorem dX0_of_25 : decode cX0_of 25 = .ok (.bipush 7, 2) := dk_16 7 (dk_at dksX0_of_1 1 rfl rfl)
theorem dX0_of_27 : decode cX0_of 27 = .ok (.if_icmp .ne 15, 3) := dk_160 0 15 (dk_at dksX0_of_1 3 rfl rfl)
theorem dX0_of_30 : decode cX0_of 30 = .ok (.aload_n 0, 1) := dk_42 (dk_at dksX0_of_1 6 rfl rfl)
theorem dX0_of_31 : decode cX0_of 31 = .ok (.getfield 17, 3) := dk_180 0 17 (dk_at dksX0_of_1 7 rfl rfl)
theorem dX0_of_34 : decode cX0_of 34 = .ok (.iload_n 1, 1) := dk_27 (dk_at dksX0_of_1 10 rfl rfl)
theorem dX0_of_35 : decode cX0_of 35 = .ok (.aaload, 1) := dk_50 (dk_at dksX0_of_1 11 rfl rfl)
theorem dX0_of_36 : decode cX0_of 36 = .ok (.getfield 173, 3) := dk_180 0 173 (dk_at dksX0_of_1 12 rfl rfl)
theorem dX0_of_39 : decode cX0_of 39 = .ok (.goto 12, 3) := dk_167 0 12 (dk_at dksX0_of_1 15 rfl rfl)
theorem dX0_of_42 : decode cX0_of 42 = .ok (.aload_n 0, 1) := dk_42 (dk_at dksX0_of_1 18 rfl rfl)
theorem dX0_of_43 : decode cX0_of 43 = .ok (.getfield 17, 3) := dk_180 0 17 (dk_at dksX0_of_1 19 rfl rfl)
theorem dX0_of_46 : decode cX0_of 46 = .ok (.iload_n 1, 1) := dk_27 (dk_at dksX0_of_1 22 rfl rfl)
theorem dX0_of_47 : decode cX0_of 47 = .ok (.aaload, 1) := dk_50 (dk_at dksX0_of_1 23 rfl rfl)
theorem dX0_of_48 : decode cX0_of 48 = .ok (.getfield 176, 3) := dk_180 0 176 (dk_at dksX0_of_2 0 rfl rfl)
theorem dX0_of_51 : decode cX0_of 51 = .ok (.ireturn, 1) := dk_172 (dk_at dksX0_of_2 3 rfl rfl)
theorem dX0_of_52 : decode cX0_of 52 = .ok (.aload_n 0, 1) := dk_42 (dk_at dksX0_of_2 4 rfl rfl)
theorem dX0_of_53 : decode cX0_of 53 = .ok (.iload_n 1, 1) := dk_27 (dk_at dksX0_of_2 5 rfl rfl)
theorem dX0_of_54 : decode cX0_of 54 = .ok (.iload_n 2, 1) := dk_28 (dk_at dksX0_of_2 6 rfl rfl)
theorem dX0_of_55 : decode cX0_of 55 = .ok (.invokevirtual 158, 3) := dk_182 0 158 (dk_at dksX0_of_2 7 rfl rfl)
theorem dX0_of_58 : decode cX0_of 58 = .ok (.ifCond .eq 12, 3) := dk_153 0 12 (dk_at dksX0_of_2 10 rfl rfl)
theorem dX0_of_61 : decode cX0_of 61 = .ok (.aload_n 0, 1) := dk_42 (dk_at dksX0_of_2 13 rfl rfl)
theorem dX0_of_62 : decode cX0_of 62 = .ok (.iload_n 1, 1) := dk_27 (dk_at dksX0_of_2 14 rfl rfl)
theorem dX0_of_63 : decode cX0_of 63 = .ok (.iload_n 2, 1) := dk_28 (dk_at dksX0_of_2 15 rfl rfl)
theorem dX0_of_64 : decode cX0_of 64 = .ok (.invokevirtual 165, 3) := dk_182 0 165 (dk_at dksX0_of_2 16 rfl rfl)
theorem dX0_of_67 : decode cX0_of 67 = .ok (.goto 5, 3) := dk_167 0 5 (dk_at dksX0_of_2 19 rfl rfl)
theorem dX0_of_70 : decode cX0_of 70 = .ok (.ldc 172, 2) := dk_18 172 (dk_at dksX0_of_2 22 rfl rfl)
theorem dX0_of_72 : decode cX0_of 72 = .ok (.ireturn, 1) := dk_172 (dk_at dksX0_of_3 0 rfl rfl)
def dkwX0_feed_2 : List UInt8 := [180, 0, 179, 172]
abbrev dktX0_feed_2 : List UInt8 := dkwX0_feed_2 ++ []
def dkwX0_feed_1 : List UInt8 := [172, 42, 180, 0, 27, 42, 180, 0, 179, 27, 145, 84, 42, 89, 180, 0, 179, 4, 96, 181, 0, 179, 42]
abbrev dktX0_feed_1 : List UInt8 := dkwX0_feed_1 ++ dktX0_feed_2
def dkwX0_feed_0 : List UInt8 := [27, 3, 17, 0, 255, 184, 0, 67, 154, 0, 5, 2, 172, 42, 180, 0, 179, 16, 120, 160, 0, 6, 16, 253]
abbrev dktX0_feed_0 : List UInt8 := dkwX0_feed_0 ++ dktX0_feed_1
theorem dksX0_feed_0 : cX0_feed.data.toList.drop 0 = dktX0_feed_0 := by decide +kernel
theorem dksX0_feed_1 : cX0_feed.data.toList.drop 24 = dktX0_feed_1 := dk_seg dksX0_feed_0 24 rfl rfl
theorem dksX0_feed_2 : cX0_feed.data.toList.drop 47 = dktX0_feed_2 := dk_seg dksX0_feed_1 23 rfl rfl
theorem dX0_feed_0 : decode cX0_feed 0 = .ok (.iload_n 1, 1) := dk_27 (dk_at dksX0_feed_0 0 rfl rfl)
theorem dX0_feed_1 : decode cX0_feed 1 = .ok (.iconst 0, 1) := dk_3 (dk_at dksX0_feed_0 1 rfl rfl)
theorem dX0_feed_2 : decode cX0_feed 2 = .ok (.sipush 255, 3) := dk_17 0 255 (dk_at dksX0_feed_0 2 rfl rfl)
theorem dX0_feed_5 : decode cX0_feed 5 = .ok (.invokestatic 67, 3) := dk_184 0 67 (dk_at dksX0_feed_0 5 rfl rfl)
theorem dX0_feed_8 : decode cX0_feed 8 = .ok (.ifCond .ne 5, 3) := dk_154 0 5 (dk_at dksX0_feed_0 8 rfl rfl)
theorem dX0_feed_11 : decode cX0_feed 11 = .ok (.iconst (-1), 1) := dk_2 (dk_at dksX0_feed_0 11 rfl rfl)
theorem dX0_feed_12 : decode cX0_feed 12 = .ok (.ireturn, 1) := dk_172 (dk_at dksX0_feed_0 12 rfl rfl)
theorem dX0_feed_13 : decode cX0_feed 13 = .ok (.aload_n 0, 1) := dk_42 (dk_at dksX0_feed_0 13 rfl rfl)
theorem dX0_feed_14 : decode cX0_feed 14 = .ok (.getfield 179, 3) := dk_180 0 179 (dk_at dksX0_feed_0 14 rfl rfl)
theorem dX0_feed_17 : decode cX0_feed 17 = .ok (.bipush 120, 2) := dk_16 120 (dk_at dksX0_feed_0 17 rfl rfl)
theorem dX0_feed_19 : decode cX0_feed 19 = .ok (.if_icmp .ne 6, 3) := dk_160 0 6 (dk_at dksX0_feed_0 19 rfl rfl)
theorem dX0_feed_22 : decode cX0_feed 22 = .ok (.bipush (-3), 2) := dk_16 253 (dk_at dksX0_feed_0 22 rfl rfl)
theorem dX0_feed_24 : decode cX0_feed 24 = .ok (.ireturn, 1) := dk_172 (dk_at dksX0_feed_1 0 rfl rfl)
theorem dX0_feed_25 : decode cX0_feed 25 = .ok (.aload_n 0, 1) := dk_42 (dk_at dksX0_feed_1 1 rfl rfl)
theorem dX0_feed_26 : decode cX0_feed 26 = .ok (.getfield 27, 3) := dk_180 0 27 (dk_at dksX0_feed_1 2 rfl rfl)
theorem dX0_feed_29 : decode cX0_feed 29 = .ok (.aload_n 0, 1) := dk_42 (dk_at dksX0_feed_1 5 rfl rfl)
theorem dX0_feed_30 : decode cX0_feed 30 = .ok (.getfield 179, 3) := dk_180 0 179 (dk_at dksX0_feed_1 6 rfl rfl)
theorem dX0_feed_33 : decode cX0_feed 33 = .ok (.iload_n 1, 1) := dk_27 (dk_at dksX0_feed_1 9 rfl rfl)
theorem dX0_feed_34 : decode cX0_feed 34 = .ok (.i2b, 1) := dk_145 (dk_at dksX0_feed_1 10 rfl rfl)
theorem dX0_feed_35 : decode cX0_feed 35 = .ok (.bastore, 1) := dk_84 (dk_at dksX0_feed_1 11 rfl rfl)
theorem dX0_feed_36 : decode cX0_feed 36 = .ok (.aload_n 0, 1) := dk_42 (dk_at dksX0_feed_1 12 rfl rfl)
theorem dX0_feed_37 : decode cX0_feed 37 = .ok (.dup, 1) := dk_89 (dk_at dksX0_feed_1 13 rfl rfl)
theorem dX0_feed_38 : decode cX0_feed 38 = .ok (.getfield 179, 3) := dk_180 0 179 (dk_at dksX0_feed_1 14 rfl rfl)
theorem dX0_feed_41 : decode cX0_feed 41 = .ok (.iconst 1, 1) := dk_4 (dk_at dksX0_feed_1 17 rfl rfl)
theorem dX0_feed_42 : decode cX0_feed 42 = .ok (.iadd, 1) := dk_96 (dk_at dksX0_feed_1 18 rfl rfl)
theorem dX0_feed_43 : decode cX0_feed 43 = .ok (.putfield 179, 3) := dk_181 0 179 (dk_at dksX0_feed_1 19 rfl rfl)
theorem dX0_feed_46 : decode cX0_feed 46 = .ok (.aload_n 0, 1) := dk_42 (dk_at dksX0_feed_1 22 rfl rfl)
theorem dX0_feed_47 : decode cX0_feed 47 = .ok (.getfield 179, 3) := dk_180 0 179 (dk_at dksX0_feed_2 0 rfl rfl)
theorem dX0_feed_50 : decode cX0_feed 50 = .ok (.ireturn, 1) := dk_172 (dk_at dksX0_feed_2 3 rfl rfl)
def dkwX0_law_1 : List UInt8 := [155, 0, 11, 16, 156, 43, 180, 0, 191, 100, 172, 42, 44, 181, 0, 194, 4, 172]
abbrev dktX0_law_1 : List UInt8 := dkwX0_law_1 ++ []
def dkwX0_law_0 : List UInt8 := [187, 0, 182, 89, 42, 183, 0, 184, 76, 43, 182, 0, 187, 77, 42, 3, 181, 0, 179, 43, 180, 0, 191]
abbrev dktX0_law_0 : List UInt8 := dkwX0_law_0 ++ dktX0_law_1
theorem dksX0_law_0 : cX0_law.data.toList.drop 0 = dktX0_law_0 := by decide +kernel
theorem dksX0_law_1 : cX0_law.data.toList.drop 23 = dktX0_law_1 := dk_seg dksX0_law_0 23 rfl rfl
theorem dX0_law_0 : decode cX0_law 0 = .ok (.new 182, 3) := dk_187 0 182 (dk_at dksX0_law_0 0 rfl rfl)
theorem dX0_law_3 : decode cX0_law 3 = .ok (.dup, 1) := dk_89 (dk_at dksX0_law_0 3 rfl rfl)
theorem dX0_law_4 : decode cX0_law 4 = .ok (.aload_n 0, 1) := dk_42 (dk_at dksX0_law_0 4 rfl rfl)
theorem dX0_law_5 : decode cX0_law 5 = .ok (.invokespecial 184, 3) := dk_183 0 184 (dk_at dksX0_law_0 5 rfl rfl)
theorem dX0_law_8 : decode cX0_law 8 = .ok (.astore_n 1, 1) := dk_76 (dk_at dksX0_law_0 8 rfl rfl)
theorem dX0_law_9 : decode cX0_law 9 = .ok (.aload_n 1, 1) := dk_43 (dk_at dksX0_law_0 9 rfl rfl)
theorem dX0_law_10 : decode cX0_law 10 = .ok (.invokevirtual 187, 3) := dk_182 0 187 (dk_at dksX0_law_0 10 rfl rfl)
theorem dX0_law_13 : decode cX0_law 13 = .ok (.astore_n 2, 1) := dk_77 (dk_at dksX0_law_0 13 rfl rfl)
theorem dX0_law_14 : decode cX0_law 14 = .ok (.aload_n 0, 1) := dk_42 (dk_at dksX0_law_0 14 rfl rfl)
theorem dX0_law_15 : decode cX0_law 15 = .ok (.iconst 0, 1) := dk_3 (dk_at dksX0_law_0 15 rfl rfl)
theorem dX0_law_16 : decode cX0_law 16 = .ok (.putfield 179, 3) := dk_181 0 179 (dk_at dksX0_law_0 16 rfl rfl)
theorem dX0_law_19 : decode cX0_law 19 = .ok (.aload_n 1, 1) := dk_43 (dk_at dksX0_law_0 19 rfl rfl)
theorem dX0_law_20 : decode cX0_law 20 = .ok (.getfield 191, 3) := dk_180 0 191 (dk_at dksX0_law_0 20 rfl rfl)
theorem dX0_law_23 : decode cX0_law 23 = .ok (.ifCond .lt 11, 3) := dk_155 0 11 (dk_at dksX0_law_1 0 rfl rfl)
theorem dX0_law_26 : decode cX0_law 26 = .ok (.bipush (-100), 2) := dk_16 156 (dk_at dksX0_law_1 3 rfl rfl)
theorem dX0_law_28 : decode cX0_law 28 = .ok (.aload_n 1, 1) := dk_43 (dk_at dksX0_law_1 5 rfl rfl)
theorem dX0_law_29 : decode cX0_law 29 = .ok (.getfield 191, 3) := dk_180 0 191 (dk_at dksX0_law_1 6 rfl rfl)
theorem dX0_law_32 : decode cX0_law 32 = .ok (.isub, 1) := dk_100 (dk_at dksX0_law_1 9 rfl rfl)
theorem dX0_law_33 : decode cX0_law 33 = .ok (.ireturn, 1) := dk_172 (dk_at dksX0_law_1 10 rfl rfl)
theorem dX0_law_34 : decode cX0_law 34 = .ok (.aload_n 0, 1) := dk_42 (dk_at dksX0_law_1 11 rfl rfl)
theorem dX0_law_35 : decode cX0_law 35 = .ok (.aload_n 2, 1) := dk_44 (dk_at dksX0_law_1 12 rfl rfl)
theorem dX0_law_36 : decode cX0_law 36 = .ok (.putfield 194, 3) := dk_181 0 194 (dk_at dksX0_law_1 13 rfl rfl)
theorem dX0_law_39 : decode cX0_law 39 = .ok (.iconst 1, 1) := dk_4 (dk_at dksX0_law_1 16 rfl rfl)
theorem dX0_law_40 : decode cX0_law 40 = .ok (.ireturn, 1) := dk_172 (dk_at dksX0_law_1 17 rfl rfl)
def dkwX0_storeys_0 : List UInt8 := [42, 27, 182, 0, 155, 153, 0, 15, 42, 27, 42, 180, 0, 78, 182, 0, 239, 167, 0, 4, 2, 172]
abbrev dktX0_storeys_0 : List UInt8 := dkwX0_storeys_0 ++ []
theorem dksX0_storeys_0 : cX0_storeys.data.toList.drop 0 = dktX0_storeys_0 := by decide +kernel
theorem dX0_storeys_0 : decode cX0_storeys 0 = .ok (.aload_n 0, 1) := dk_42 (dk_at dksX0_storeys_0 0 rfl rfl)
theorem dX0_storeys_1 : decode cX0_storeys 1 = .ok (.iload_n 1, 1) := dk_27 (dk_at dksX0_storeys_0 1 rfl rfl)
theorem dX0_storeys_2 : decode cX0_storeys 2 = .ok (.invokevirtual 155, 3) := dk_182 0 155 (dk_at dksX0_storeys_0 2 rfl rfl)
theorem dX0_storeys_5 : decode cX0_storeys 5 = .ok (.ifCond .eq 15, 3) := dk_153 0 15 (dk_at dksX0_storeys_0 5 rfl rfl)
theorem dX0_storeys_8 : decode cX0_storeys 8 = .ok (.aload_n 0, 1) := dk_42 (dk_at dksX0_storeys_0 8 rfl rfl)
theorem dX0_storeys_9 : decode cX0_storeys 9 = .ok (.iload_n 1, 1) := dk_27 (dk_at dksX0_storeys_0 9 rfl rfl)
theorem dX0_storeys_10 : decode cX0_storeys 10 = .ok (.aload_n 0, 1) := dk_42 (dk_at dksX0_storeys_0 10 rfl rfl)
theorem dX0_storeys_11 : decode cX0_storeys 11 = .ok (.getfield 78, 3) := dk_180 0 78 (dk_at dksX0_storeys_0 11 rfl rfl)
theorem dX0_storeys_14 : decode cX0_storeys 14 = .ok (.invokevirtual 239, 3) := dk_182 0 239 (dk_at dksX0_storeys_0 14 rfl rfl)
theorem dX0_storeys_17 : decode cX0_storeys 17 = .ok (.goto 4, 3) := dk_167 0 4 (dk_at dksX0_storeys_0 17 rfl rfl)
theorem dX0_storeys_20 : decode cX0_storeys 20 = .ok (.iconst (-1), 1) := dk_2 (dk_at dksX0_storeys_0 20 rfl rfl)
theorem dX0_storeys_21 : decode cX0_storeys 21 = .ok (.ireturn, 1) := dk_172 (dk_at dksX0_storeys_0 21 rfl rfl)
def dkwX0_storeysOf_7 : List UInt8 := [3, 16, 9, 21, 4, 184, 0, 236, 184, 0, 225, 172]
abbrev dktX0_storeysOf_7 : List UInt8 := dkwX0_storeysOf_7 ++ []
def dkwX0_storeysOf_6 : List UInt8 := [180, 0, 34, 180, 0, 222, 16, 110, 42, 45, 180, 0, 173, 28, 182, 0, 230, 79, 42, 182, 0, 233, 54, 4]
abbrev dktX0_storeysOf_6 : List UInt8 := dkwX0_storeysOf_6 ++ dktX0_storeysOf_7
def dkwX0_storeysOf_5 : List UInt8 := [42, 180, 0, 34, 180, 0, 222, 16, 109, 42, 180, 0, 11, 45, 180, 0, 173, 50, 180, 0, 113, 79, 42]
abbrev dktX0_storeysOf_5 : List UInt8 := dkwX0_storeysOf_5 ++ dktX0_storeysOf_6
def dkwX0_storeysOf_4 : List UInt8 := [180, 0, 222, 16, 108, 45, 180, 0, 122, 79, 42, 180, 0, 34, 180, 0, 222, 16, 107, 45, 180, 0, 119, 79]
abbrev dktX0_storeysOf_4 : List UInt8 := dkwX0_storeysOf_4 ++ dktX0_storeysOf_5
def dkwX0_storeysOf_3 : List UInt8 := [42, 180, 0, 34, 180, 0, 222, 16, 100, 3, 28, 45, 180, 0, 125, 100, 184, 0, 225, 79, 42, 180, 0, 34]
abbrev dktX0_storeysOf_3 : List UInt8 := dkwX0_storeysOf_3 ++ dktX0_storeysOf_4
def dkwX0_storeysOf_2 : List UInt8 := [198, 0, 119, 42, 180, 0, 34, 182, 0, 219, 42, 180, 0, 34, 180, 0, 222, 16, 119, 45, 180, 0, 116, 79]
abbrev dktX0_storeysOf_2 : List UInt8 := dkwX0_storeysOf_2 ++ dktX0_storeysOf_3
def dkwX0_storeysOf_1 : List UInt8 := [4, 96, 45, 180, 0, 119, 5, 160, 0, 7, 4, 167, 0, 4, 3, 96, 54, 4, 42, 180, 0, 194]
abbrev dktX0_storeysOf_1 : List UInt8 := dkwX0_storeysOf_1 ++ dktX0_storeysOf_2
def dkwX0_storeysOf_0 : List UInt8 := [42, 180, 0, 17, 27, 50, 78, 45, 28, 182, 0, 216, 154, 0, 5, 3, 172, 45, 180, 0, 116, 16, 20, 108]
abbrev dktX0_storeysOf_0 : List UInt8 := dkwX0_storeysOf_0 ++ dktX0_storeysOf_1
theorem dksX0_storeysOf_0 : cX0_storeysOf.data.toList.drop 0 = dktX0_storeysOf_0 := by decide +kernel
theorem dksX0_storeysOf_1 : cX0_storeysOf.data.toList.drop 24 = dktX0_storeysOf_1 := dk_seg dksX0_storeysOf_0 24 rfl rfl
theorem dksX0_storeysOf_2 : cX0_storeysOf.data.toList.drop 46 = dktX0_storeysOf_2 := dk_seg dksX0_storeysOf_1 22 rfl rfl
theorem dksX0_storeysOf_3 : cX0_storeysOf.data.toList.drop 70 = dktX0_storeysOf_3 := dk_seg dksX0_storeysOf_2 24 rfl rfl
theorem dksX0_storeysOf_4 : cX0_storeysOf.data.toList.drop 94 = dktX0_storeysOf_4 := dk_seg dksX0_storeysOf_3 24 rfl rfl
theorem dksX0_storeysOf_5 : cX0_storeysOf.data.toList.drop 118 = dktX0_storeysOf_5 := dk_seg dksX0_storeysOf_4 24 rfl rfl
theorem dksX0_storeysOf_6 : cX0_storeysOf.data.toList.drop 141 = dktX0_storeysOf_6 := dk_seg dksX0_storeysOf_5 23 rfl rfl
theorem dksX0_storeysOf_7 : cX0_storeysOf.data.toList.drop 165 = dktX0_storeysOf_7 := dk_seg dksX0_storeysOf_6 24 rfl rfl
theorem dX0_storeysOf_0 : decode cX0_storeysOf 0 = .ok (.aload_n 0, 1) := dk_42 (dk_at dksX0_storeysOf_0 0 rfl rfl)
theorem dX0_storeysOf_1 : decode cX0_storeysOf 1 = .ok (.getfield 17, 3) := dk_180 0 17 (dk_at dksX0_storeysOf_0 1 rfl rfl)
theorem dX0_storeysOf_4 : decode cX0_storeysOf 4 = .ok (.iload_n 1, 1) := dk_27 (dk_at dksX0_storeysOf_0 4 rfl rfl)
theorem dX0_storeysOf_5 : decode cX0_storeysOf 5 = .ok (.aaload, 1) := dk_50 (dk_at dksX0_storeysOf_0 5 rfl rfl)
theorem dX0_storeysOf_6 : decode cX0_storeysOf 6 = .ok (.astore_n 3, 1) := dk_78 (dk_at dksX0_storeysOf_0 6 rfl rfl)
theorem dX0_storeysOf_7 : decode cX0_storeysOf 7 = .ok (.aload_n 3, 1) := dk_45 (dk_at dksX0_storeysOf_0 7 rfl rfl)
theorem dX0_storeysOf_8 : decode cX0_storeysOf 8 = .ok (.iload_n 2, 1) := dk_28 (dk_at dksX0_storeysOf_0 8 rfl rfl)
theorem dX0_storeysOf_9 : decode cX0_storeysOf 9 = .ok (.invokevirtual 216, 3) := dk_182 0 216 (dk_at dksX0_storeysOf_0 9 rfl rfl)
theorem dX0_storeysOf_12 : decode cX0_storeysOf 12 = .ok (.ifCond .ne 5, 3) := dk_154 0 5 (dk_at dksX0_storeysOf_0 12 rfl rfl)
theorem dX0_storeysOf_15 : decode cX0_storeysOf 15 = .ok (.iconst 0, 1) := dk_3 (dk_at dksX0_storeysOf_0 15 rfl rfl)
theorem dX0_storeysOf_16 : decode cX0_storeysOf 16 = .ok (.ireturn, 1) := dk_172 (dk_at dksX0_storeysOf_0 16 rfl rfl)
theorem dX0_storeysOf_17 : decode cX0_storeysOf 17 = .ok (.aload_n 3, 1) := dk_45 (dk_at dksX0_storeysOf_0 17 rfl rfl)
theorem dX0_storeysOf_18 : decode cX0_storeysOf 18 = .ok (.getfield 116, 3) := dk_180 0 116 (dk_at dksX0_storeysOf_0 18 rfl rfl)
theorem dX0_storeysOf_21 : decode cX0_storeysOf 21 = .ok (.bipush 20, 2) := dk_16 20 (dk_at dksX0_storeysOf_0 21 rfl rfl)
theorem dX0_storeysOf_23 : decode cX0_storeysOf 23 = .ok (.idiv, 1) := dk_108 (dk_at dksX0_storeysOf_0 23 rfl rfl)
theorem dX0_storeysOf_24 : decode cX0_storeysOf 24 = .ok (.iconst 1, 1) := dk_4 (dk_at dksX0_storeysOf_1 0 rfl rfl)
theorem dX0_storeysOf_25 : decode cX0_storeysOf 25 = .ok (.iadd, 1) := dk_96 (dk_at dksX0_storeysOf_1 1 rfl rfl)
theorem dX0_storeysOf_26 : decode cX0_storeysOf 26 = .ok (.aload_n 3, 1) := dk_45 (dk_at dksX0_storeysOf_1 2 rfl rfl)
theorem dX0_storeysOf_27 : decode cX0_storeysOf 27 = .ok (.getfield 119, 3) := dk_180 0 119 (dk_at dksX0_storeysOf_1 3 rfl rfl)
theorem dX0_storeysOf_30 : decode cX0_storeysOf 30 = .ok (.iconst 2, 1) := dk_5 (dk_at dksX0_storeysOf_1 6 rfl rfl)
theorem dX0_storeysOf_31 : decode cX0_storeysOf 31 = .ok (.if_icmp .ne 7, 3) := dk_160 0 7 (dk_at dksX0_storeysOf_1 7 rfl rfl)
theorem dX0_storeysOf_34 : decode cX0_storeysOf 34 = .ok (.iconst 1, 1) := dk_4 (dk_at dksX0_storeysOf_1 10 rfl rfl)
theorem dX0_storeysOf_35 : decode cX0_storeysOf 35 = .ok (.goto 4, 3) := dk_167 0 4 (dk_at dksX0_storeysOf_1 11 rfl rfl)
theorem dX0_storeysOf_38 : decode cX0_storeysOf 38 = .ok (.iconst 0, 1) := dk_3 (dk_at dksX0_storeysOf_1 14 rfl rfl)
theorem dX0_storeysOf_39 : decode cX0_storeysOf 39 = .ok (.iadd, 1) := dk_96 (dk_at dksX0_storeysOf_1 15 rfl rfl)
theorem dX0_storeysOf_40 : decode cX0_storeysOf 40 = .ok (.istore 4, 2) := dk_54 4 (dk_at dksX0_storeysOf_1 16 rfl rfl)
theorem dX0_storeysOf_42 : decode cX0_storeysOf 42 = .ok (.aload_n 0, 1) := dk_42 (dk_at dksX0_storeysOf_1 18 rfl rfl)
theorem dX0_storeysOf_43 : decode cX0_storeysOf 43 = .ok (.getfield 194, 3) := dk_180 0 194 (dk_at dksX0_storeysOf_1 19 rfl rfl)
theorem dX0_storeysOf_46 : decode cX0_storeysOf 46 = .ok (.ifnull 119, 3) := dk_198 0 119 (dk_at dksX0_storeysOf_2 0 rfl rfl)
theorem dX0_storeysOf_49 : decode cX0_storeysOf 49 = .ok (.aload_n 0, 1) := dk_42 (dk_at dksX0_storeysOf_2 3 rfl rfl)
theorem dX0_storeysOf_50 : decode cX0_storeysOf 50 = .ok (.getfield 34, 3) := dk_180 0 34 (dk_at dksX0_storeysOf_2 4 rfl rfl)
theorem dX0_storeysOf_53 : decode cX0_storeysOf 53 = .ok (.invokevirtual 219, 3) := dk_182 0 219 (dk_at dksX0_storeysOf_2 7 rfl rfl)
theorem dX0_storeysOf_56 : decode cX0_storeysOf 56 = .ok (.aload_n 0, 1) := dk_42 (dk_at dksX0_storeysOf_2 10 rfl rfl)
theorem dX0_storeysOf_57 : decode cX0_storeysOf 57 = .ok (.getfield 34, 3) := dk_180 0 34 (dk_at dksX0_storeysOf_2 11 rfl rfl)
theorem dX0_storeysOf_60 : decode cX0_storeysOf 60 = .ok (.getfield 222, 3) := dk_180 0 222 (dk_at dksX0_storeysOf_2 14 rfl rfl)
theorem dX0_storeysOf_63 : decode cX0_storeysOf 63 = .ok (.bipush 119, 2) := dk_16 119 (dk_at dksX0_storeysOf_2 17 rfl rfl)
theorem dX0_storeysOf_65 : decode cX0_storeysOf 65 = .ok (.aload_n 3, 1) := dk_45 (dk_at dksX0_storeysOf_2 19 rfl rfl)
theorem dX0_storeysOf_66 : decode cX0_storeysOf 66 = .ok (.getfield 116, 3) := dk_180 0 116 (dk_at dksX0_storeysOf_2 20 rfl rfl)
theorem dX0_storeysOf_69 : decode cX0_storeysOf 69 = .ok (.iastore, 1) := dk_79 (dk_at dksX0_storeysOf_2 23 rfl rfl)
theorem dX0_storeysOf_70 : decode cX0_storeysOf 70 = .ok (.aload_n 0, 1) := dk_42 (dk_at dksX0_storeysOf_3 0 rfl rfl)
theorem dX0_storeysOf_71 : decode cX0_storeysOf 71 = .ok (.getfield 34, 3) := dk_180 0 34 (dk_at dksX0_storeysOf_3 1 rfl rfl)
theorem dX0_storeysOf_74 : decode cX0_storeysOf 74 = .ok (.getfield 222, 3) := dk_180 0 222 (dk_at dksX0_storeysOf_3 4 rfl rfl)
theorem dX0_storeysOf_77 : decode cX0_storeysOf 77 = .ok (.bipush 100, 2) := dk_16 100 (dk_at dksX0_storeysOf_3 7 rfl rfl)
theorem dX0_storeysOf_79 : decode cX0_storeysOf 79 = .ok (.iconst 0, 1) := dk_3 (dk_at dksX0_storeysOf_3 9 rfl rfl)
theorem dX0_storeysOf_80 : decode cX0_storeysOf 80 = .ok (.iload_n 2, 1) := dk_28 (dk_at dksX0_storeysOf_3 10 rfl rfl)
theorem dX0_storeysOf_81 : decode cX0_storeysOf 81 = .ok (.aload_n 3, 1) := dk_45 (dk_at dksX0_storeysOf_3 11 rfl rfl)
theorem dX0_storeysOf_82 : decode cX0_storeysOf 82 = .ok (.getfield 125, 3) := dk_180 0 125 (dk_at dksX0_storeysOf_3 12 rfl rfl)
theorem dX0_storeysOf_85 : decode cX0_storeysOf 85 = .ok (.isub, 1) := dk_100 (dk_at dksX0_storeysOf_3 15 rfl rfl)
theorem dX0_storeysOf_86 : decode cX0_storeysOf 86 = .ok (.invokestatic 225, 3) := dk_184 0 225 (dk_at dksX0_storeysOf_3 16 rfl rfl)
theorem dX0_storeysOf_89 : decode cX0_storeysOf 89 = .ok (.iastore, 1) := dk_79 (dk_at dksX0_storeysOf_3 19 rfl rfl)
theorem dX0_storeysOf_90 : decode cX0_storeysOf 90 = .ok (.aload_n 0, 1) := dk_42 (dk_at dksX0_storeysOf_3 20 rfl rfl)
theorem dX0_storeysOf_91 : decode cX0_storeysOf 91 = .ok (.getfield 34, 3) := dk_180 0 34 (dk_at dksX0_storeysOf_3 21 rfl rfl)
theorem dX0_storeysOf_94 : decode cX0_storeysOf 94 = .ok (.getfield 222, 3) := dk_180 0 222 (dk_at dksX0_storeysOf_4 0 rfl rfl)
theorem dX0_storeysOf_97 : decode cX0_storeysOf 97 = .ok (.bipush 108, 2) := dk_16 108 (dk_at dksX0_storeysOf_4 3 rfl rfl)
theorem dX0_storeysOf_99 : decode cX0_storeysOf 99 = .ok (.aload_n 3, 1) := dk_45 (dk_at dksX0_storeysOf_4 5 rfl rfl)
theorem dX0_storeysOf_100 : decode cX0_storeysOf 100 = .ok (.getfield 122, 3) := dk_180 0 122 (dk_at dksX0_storeysOf_4 6 rfl rfl)
theorem dX0_storeysOf_103 : decode cX0_storeysOf 103 = .ok (.iastore, 1) := dk_79 (dk_at dksX0_storeysOf_4 9 rfl rfl)
theorem dX0_storeysOf_104 : decode cX0_storeysOf 104 = .ok (.aload_n 0, 1) := dk_42 (dk_at dksX0_storeysOf_4 10 rfl rfl)
theorem dX0_storeysOf_105 : decode cX0_storeysOf 105 = .ok (.getfield 34, 3) := dk_180 0 34 (dk_at dksX0_storeysOf_4 11 rfl rfl)
theorem dX0_storeysOf_108 : decode cX0_storeysOf 108 = .ok (.getfield 222, 3) := dk_180 0 222 (dk_at dksX0_storeysOf_4 14 rfl rfl)
theorem dX0_storeysOf_111 : decode cX0_storeysOf 111 = .ok (.bipush 107, 2) := dk_16 107 (dk_at dksX0_storeysOf_4 17 rfl rfl)
theorem dX0_storeysOf_113 : decode cX0_storeysOf 113 = .ok (.aload_n 3, 1) := dk_45 (dk_at dksX0_storeysOf_4 19 rfl rfl)
theorem dX0_storeysOf_114 : decode cX0_storeysOf 114 = .ok (.getfield 119, 3) := dk_180 0 119 (dk_at dksX0_storeysOf_4 20 rfl rfl)
theorem dX0_storeysOf_117 : decode cX0_storeysOf 117 = .ok (.iastore, 1) := dk_79 (dk_at dksX0_storeysOf_4 23 rfl rfl)
theorem dX0_storeysOf_118 : decode cX0_storeysOf 118 = .ok (.aload_n 0, 1) := dk_42 (dk_at dksX0_storeysOf_5 0 rfl rfl)
theorem dX0_storeysOf_119 : decode cX0_storeysOf 119 = .ok (.getfield 34, 3) := dk_180 0 34 (dk_at dksX0_storeysOf_5 1 rfl rfl)
theorem dX0_storeysOf_122 : decode cX0_storeysOf 122 = .ok (.getfield 222, 3) := dk_180 0 222 (dk_at dksX0_storeysOf_5 4 rfl rfl)
theorem dX0_storeysOf_125 : decode cX0_storeysOf 125 = .ok (.bipush 109, 2) := dk_16 109 (dk_at dksX0_storeysOf_5 7 rfl rfl)
theorem dX0_storeysOf_127 : decode cX0_storeysOf 127 = .ok (.aload_n 0, 1) := dk_42 (dk_at dksX0_storeysOf_5 9 rfl rfl)
theorem dX0_storeysOf_128 : decode cX0_storeysOf 128 = .ok (.getfield 11, 3) := dk_180 0 11 (dk_at dksX0_storeysOf_5 10 rfl rfl)
theorem dX0_storeysOf_131 : decode cX0_storeysOf 131 = .ok (.aload_n 3, 1) := dk_45 (dk_at dksX0_storeysOf_5 13 rfl rfl)
theorem dX0_storeysOf_132 : decode cX0_storeysOf 132 = .ok (.getfield 173, 3) := dk_180 0 173 (dk_at dksX0_storeysOf_5 14 rfl rfl)
theorem dX0_storeysOf_135 : decode cX0_storeysOf 135 = .ok (.aaload, 1) := dk_50 (dk_at dksX0_storeysOf_5 17 rfl rfl)
theorem dX0_storeysOf_136 : decode cX0_storeysOf 136 = .ok (.getfield 113, 3) := dk_180 0 113 (dk_at dksX0_storeysOf_5 18 rfl rfl)
theorem dX0_storeysOf_139 : decode cX0_storeysOf 139 = .ok (.iastore, 1) := dk_79 (dk_at dksX0_storeysOf_5 21 rfl rfl)
theorem dX0_storeysOf_140 : decode cX0_storeysOf 140 = .ok (.aload_n 0, 1) := dk_42 (dk_at dksX0_storeysOf_5 22 rfl rfl)
theorem dX0_storeysOf_141 : decode cX0_storeysOf 141 = .ok (.getfield 34, 3) := dk_180 0 34 (dk_at dksX0_storeysOf_6 0 rfl rfl)
theorem dX0_storeysOf_144 : decode cX0_storeysOf 144 = .ok (.getfield 222, 3) := dk_180 0 222 (dk_at dksX0_storeysOf_6 3 rfl rfl)
theorem dX0_storeysOf_147 : decode cX0_storeysOf 147 = .ok (.bipush 110, 2) := dk_16 110 (dk_at dksX0_storeysOf_6 6 rfl rfl)
theorem dX0_storeysOf_149 : decode cX0_storeysOf 149 = .ok (.aload_n 0, 1) := dk_42 (dk_at dksX0_storeysOf_6 8 rfl rfl)
theorem dX0_storeysOf_150 : decode cX0_storeysOf 150 = .ok (.aload_n 3, 1) := dk_45 (dk_at dksX0_storeysOf_6 9 rfl rfl)
theorem dX0_storeysOf_151 : decode cX0_storeysOf 151 = .ok (.getfield 173, 3) := dk_180 0 173 (dk_at dksX0_storeysOf_6 10 rfl rfl)
theorem dX0_storeysOf_154 : decode cX0_storeysOf 154 = .ok (.iload_n 2, 1) := dk_28 (dk_at dksX0_storeysOf_6 13 rfl rfl)
theorem dX0_storeysOf_155 : decode cX0_storeysOf 155 = .ok (.invokevirtual 230, 3) := dk_182 0 230 (dk_at dksX0_storeysOf_6 14 rfl rfl)
theorem dX0_storeysOf_158 : decode cX0_storeysOf 158 = .ok (.iastore, 1) := dk_79 (dk_at dksX0_storeysOf_6 17 rfl rfl)
theorem dX0_storeysOf_159 : decode cX0_storeysOf 159 = .ok (.aload_n 0, 1) := dk_42 (dk_at dksX0_storeysOf_6 18 rfl rfl)
theorem dX0_storeysOf_160 : decode cX0_storeysOf 160 = .ok (.invokevirtual 233, 3) := dk_182 0 233 (dk_at dksX0_storeysOf_6 19 rfl rfl)
theorem dX0_storeysOf_163 : decode cX0_storeysOf 163 = .ok (.istore 4, 2) := dk_54 4 (dk_at dksX0_storeysOf_6 22 rfl rfl)
theorem dX0_storeysOf_165 : decode cX0_storeysOf 165 = .ok (.iconst 0, 1) := dk_3 (dk_at dksX0_storeysOf_7 0 rfl rfl)
theorem dX0_storeysOf_166 : decode cX0_storeysOf 166 = .ok (.bipush 9, 2) := dk_16 9 (dk_at dksX0_storeysOf_7 1 rfl rfl)
theorem dX0_storeysOf_168 : decode cX0_storeysOf 168 = .ok (.iload 4, 2) := dk_21 4 (dk_at dksX0_storeysOf_7 3 rfl rfl)
theorem dX0_storeysOf_170 : decode cX0_storeysOf 170 = .ok (.invokestatic 236, 3) := dk_184 0 236 (dk_at dksX0_storeysOf_7 5 rfl rfl)
theorem dX0_storeysOf_173 : decode cX0_storeysOf 173 = .ok (.invokestatic 225, 3) := dk_184 0 225 (dk_at dksX0_storeysOf_7 8 rfl rfl)
theorem dX0_storeysOf_176 : decode cX0_storeysOf 176 = .ok (.ireturn, 1) := dk_172 (dk_at dksX0_storeysOf_7 11 rfl rfl)
def dkwX0_openBy_2 : List UInt8 := [167, 0, 4, 3, 96, 62, 132, 4, 1, 167, 255, 208, 29, 172]
abbrev dktX0_openBy_2 : List UInt8 := dkwX0_openBy_2 ++ []
def dkwX0_openBy_1 : List UInt8 := [180, 0, 173, 27, 160, 0, 21, 42, 180, 0, 17, 21, 4, 50, 28, 182, 0, 216, 153, 0, 7, 4]
abbrev dktX0_openBy_1 : List UInt8 := dkwX0_openBy_1 ++ dktX0_openBy_2
def dkwX0_openBy_0 : List UInt8 := [3, 62, 3, 54, 4, 21, 4, 42, 180, 0, 71, 162, 0, 45, 29, 42, 180, 0, 17, 21, 4, 50]
abbrev dktX0_openBy_0 : List UInt8 := dkwX0_openBy_0 ++ dktX0_openBy_1
theorem dksX0_openBy_0 : cX0_openBy.data.toList.drop 0 = dktX0_openBy_0 := by decide +kernel
theorem dksX0_openBy_1 : cX0_openBy.data.toList.drop 22 = dktX0_openBy_1 := dk_seg dksX0_openBy_0 22 rfl rfl
theorem dksX0_openBy_2 : cX0_openBy.data.toList.drop 44 = dktX0_openBy_2 := dk_seg dksX0_openBy_1 22 rfl rfl
theorem dX0_openBy_0 : decode cX0_openBy 0 = .ok (.iconst 0, 1) := dk_3 (dk_at dksX0_openBy_0 0 rfl rfl)
theorem dX0_openBy_1 : decode cX0_openBy 1 = .ok (.istore_n 3, 1) := dk_62 (dk_at dksX0_openBy_0 1 rfl rfl)
theorem dX0_openBy_2 : decode cX0_openBy 2 = .ok (.iconst 0, 1) := dk_3 (dk_at dksX0_openBy_0 2 rfl rfl)
theorem dX0_openBy_3 : decode cX0_openBy 3 = .ok (.istore 4, 2) := dk_54 4 (dk_at dksX0_openBy_0 3 rfl rfl)
theorem dX0_openBy_5 : decode cX0_openBy 5 = .ok (.iload 4, 2) := dk_21 4 (dk_at dksX0_openBy_0 5 rfl rfl)
theorem dX0_openBy_7 : decode cX0_openBy 7 = .ok (.aload_n 0, 1) := dk_42 (dk_at dksX0_openBy_0 7 rfl rfl)
theorem dX0_openBy_8 : decode cX0_openBy 8 = .ok (.getfield 71, 3) := dk_180 0 71 (dk_at dksX0_openBy_0 8 rfl rfl)
theorem dX0_openBy_11 : decode cX0_openBy 11 = .ok (.if_icmp .ge 45, 3) := dk_162 0 45 (dk_at dksX0_openBy_0 11 rfl rfl)
theorem dX0_openBy_14 : decode cX0_openBy 14 = .ok (.iload_n 3, 1) := dk_29 (dk_at dksX0_openBy_0 14 rfl rfl)
theorem dX0_openBy_15 : decode cX0_openBy 15 = .ok (.aload_n 0, 1) := dk_42 (dk_at dksX0_openBy_0 15 rfl rfl)
theorem dX0_openBy_16 : decode cX0_openBy 16 = .ok (.getfield 17, 3) := dk_180 0 17 (dk_at dksX0_openBy_0 16 rfl rfl)
theorem dX0_openBy_19 : decode cX0_openBy 19 = .ok (.iload 4, 2) := dk_21 4 (dk_at dksX0_openBy_0 19 rfl rfl)
theorem dX0_openBy_21 : decode cX0_openBy 21 = .ok (.aaload, 1) := dk_50 (dk_at dksX0_openBy_0 21 rfl rfl)
theorem dX0_openBy_22 : decode cX0_openBy 22 = .ok (.getfield 173, 3) := dk_180 0 173 (dk_at dksX0_openBy_1 0 rfl rfl)
theorem dX0_openBy_25 : decode cX0_openBy 25 = .ok (.iload_n 1, 1) := dk_27 (dk_at dksX0_openBy_1 3 rfl rfl)
theorem dX0_openBy_26 : decode cX0_openBy 26 = .ok (.if_icmp .ne 21, 3) := dk_160 0 21 (dk_at dksX0_openBy_1 4 rfl rfl)
theorem dX0_openBy_29 : decode cX0_openBy 29 = .ok (.aload_n 0, 1) := dk_42 (dk_at dksX0_openBy_1 7 rfl rfl)
theorem dX0_openBy_30 : decode cX0_openBy 30 = .ok (.getfield 17, 3) := dk_180 0 17 (dk_at dksX0_openBy_1 8 rfl rfl)
theorem dX0_openBy_33 : decode cX0_openBy 33 = .ok (.iload 4, 2) := dk_21 4 (dk_at dksX0_openBy_1 11 rfl rfl)
theorem dX0_openBy_35 : decode cX0_openBy 35 = .ok (.aaload, 1) := dk_50 (dk_at dksX0_openBy_1 13 rfl rfl)
theorem dX0_openBy_36 : decode cX0_openBy 36 = .ok (.iload_n 2, 1) := dk_28 (dk_at dksX0_openBy_1 14 rfl rfl)
theorem dX0_openBy_37 : decode cX0_openBy 37 = .ok (.invokevirtual 216, 3) := dk_182 0 216 (dk_at dksX0_openBy_1 15 rfl rfl)
theorem dX0_openBy_40 : decode cX0_openBy 40 = .ok (.ifCond .eq 7, 3) := dk_153 0 7 (dk_at dksX0_openBy_1 18 rfl rfl)
theorem dX0_openBy_43 : decode cX0_openBy 43 = .ok (.iconst 1, 1) := dk_4 (dk_at dksX0_openBy_1 21 rfl rfl)
theorem dX0_openBy_44 : decode cX0_openBy 44 = .ok (.goto 4, 3) := dk_167 0 4 (dk_at dksX0_openBy_2 0 rfl rfl)
theorem dX0_openBy_47 : decode cX0_openBy 47 = .ok (.iconst 0, 1) := dk_3 (dk_at dksX0_openBy_2 3 rfl rfl)
theorem dX0_openBy_48 : decode cX0_openBy 48 = .ok (.iadd, 1) := dk_96 (dk_at dksX0_openBy_2 4 rfl rfl)
theorem dX0_openBy_49 : decode cX0_openBy 49 = .ok (.istore_n 3, 1) := dk_62 (dk_at dksX0_openBy_2 5 rfl rfl)
theorem dX0_openBy_50 : decode cX0_openBy 50 = .ok (.iinc 4 1, 3) := dk_132 4 1 (dk_at dksX0_openBy_2 6 rfl rfl)
theorem dX0_openBy_53 : decode cX0_openBy 53 = .ok (.goto (-48), 3) := dk_167 255 208 (dk_at dksX0_openBy_2 9 rfl rfl)
theorem dX0_openBy_56 : decode cX0_openBy 56 = .ok (.iload_n 3, 1) := dk_29 (dk_at dksX0_openBy_2 12 rfl rfl)
theorem dX0_openBy_57 : decode cX0_openBy 57 = .ok (.ireturn, 1) := dk_172 (dk_at dksX0_openBy_2 13 rfl rfl)
def dkwX0_gives_2 : List UInt8 := [167, 255, 214, 3, 172]
abbrev dktX0_gives_2 : List UInt8 := dkwX0_gives_2 ++ []
def dkwX0_gives_1 : List UInt8 := [182, 0, 204, 153, 0, 15, 43, 180, 0, 210, 42, 180, 0, 34, 182, 0, 204, 172, 43, 180, 0, 213, 76]
abbrev dktX0_gives_1 : List UInt8 := dkwX0_gives_1 ++ dktX0_gives_2
def dkwX0_gives_0 : List UInt8 := [42, 180, 0, 194, 76, 43, 198, 0, 44, 43, 180, 0, 198, 198, 0, 17, 43, 180, 0, 198, 42, 180, 0, 34]
abbrev dktX0_gives_0 : List UInt8 := dkwX0_gives_0 ++ dktX0_gives_1
theorem dksX0_gives_0 : cX0_gives.data.toList.drop 0 = dktX0_gives_0 := by decide +kernel
theorem dksX0_gives_1 : cX0_gives.data.toList.drop 24 = dktX0_gives_1 := dk_seg dksX0_gives_0 24 rfl rfl
theorem dksX0_gives_2 : cX0_gives.data.toList.drop 47 = dktX0_gives_2 := dk_seg dksX0_gives_1 23 rfl rfl
theorem dX0_gives_0 : decode cX0_gives 0 = .ok (.aload_n 0, 1) := dk_42 (dk_at dksX0_gives_0 0 rfl rfl)
theorem dX0_gives_1 : decode cX0_gives 1 = .ok (.getfield 194, 3) := dk_180 0 194 (dk_at dksX0_gives_0 1 rfl rfl)
theorem dX0_gives_4 : decode cX0_gives 4 = .ok (.astore_n 1, 1) := dk_76 (dk_at dksX0_gives_0 4 rfl rfl)
theorem dX0_gives_5 : decode cX0_gives 5 = .ok (.aload_n 1, 1) := dk_43 (dk_at dksX0_gives_0 5 rfl rfl)
theorem dX0_gives_6 : decode cX0_gives 6 = .ok (.ifnull 44, 3) := dk_198 0 44 (dk_at dksX0_gives_0 6 rfl rfl)
theorem dX0_gives_9 : decode cX0_gives 9 = .ok (.aload_n 1, 1) := dk_43 (dk_at dksX0_gives_0 9 rfl rfl)
theorem dX0_gives_10 : decode cX0_gives 10 = .ok (.getfield 198, 3) := dk_180 0 198 (dk_at dksX0_gives_0 10 rfl rfl)
theorem dX0_gives_13 : decode cX0_gives 13 = .ok (.ifnull 17, 3) := dk_198 0 17 (dk_at dksX0_gives_0 13 rfl rfl)
theorem dX0_gives_16 : decode cX0_gives 16 = .ok (.aload_n 1, 1) := dk_43 (dk_at dksX0_gives_0 16 rfl rfl)
theorem dX0_gives_17 : decode cX0_gives 17 = .ok (.getfield 198, 3) := dk_180 0 198 (dk_at dksX0_gives_0 17 rfl rfl)
theorem dX0_gives_20 : decode cX0_gives 20 = .ok (.aload_n 0, 1) := dk_42 (dk_at dksX0_gives_0 20 rfl rfl)
theorem dX0_gives_21 : decode cX0_gives 21 = .ok (.getfield 34, 3) := dk_180 0 34 (dk_at dksX0_gives_0 21 rfl rfl)
theorem dX0_gives_24 : decode cX0_gives 24 = .ok (.invokevirtual 204, 3) := dk_182 0 204 (dk_at dksX0_gives_1 0 rfl rfl)
theorem dX0_gives_27 : decode cX0_gives 27 = .ok (.ifCond .eq 15, 3) := dk_153 0 15 (dk_at dksX0_gives_1 3 rfl rfl)
theorem dX0_gives_30 : decode cX0_gives 30 = .ok (.aload_n 1, 1) := dk_43 (dk_at dksX0_gives_1 6 rfl rfl)
theorem dX0_gives_31 : decode cX0_gives 31 = .ok (.getfield 210, 3) := dk_180 0 210 (dk_at dksX0_gives_1 7 rfl rfl)
theorem dX0_gives_34 : decode cX0_gives 34 = .ok (.aload_n 0, 1) := dk_42 (dk_at dksX0_gives_1 10 rfl rfl)
theorem dX0_gives_35 : decode cX0_gives 35 = .ok (.getfield 34, 3) := dk_180 0 34 (dk_at dksX0_gives_1 11 rfl rfl)
theorem dX0_gives_38 : decode cX0_gives 38 = .ok (.invokevirtual 204, 3) := dk_182 0 204 (dk_at dksX0_gives_1 14 rfl rfl)
theorem dX0_gives_41 : decode cX0_gives 41 = .ok (.ireturn, 1) := dk_172 (dk_at dksX0_gives_1 17 rfl rfl)
theorem dX0_gives_42 : decode cX0_gives 42 = .ok (.aload_n 1, 1) := dk_43 (dk_at dksX0_gives_1 18 rfl rfl)
theorem dX0_gives_43 : decode cX0_gives 43 = .ok (.getfield 213, 3) := dk_180 0 213 (dk_at dksX0_gives_1 19 rfl rfl)
theorem dX0_gives_46 : decode cX0_gives 46 = .ok (.astore_n 1, 1) := dk_76 (dk_at dksX0_gives_1 22 rfl rfl)
theorem dX0_gives_47 : decode cX0_gives 47 = .ok (.goto (-42), 3) := dk_167 255 214 (dk_at dksX0_gives_2 0 rfl rfl)
theorem dX0_gives_50 : decode cX0_gives 50 = .ok (.iconst 0, 1) := dk_3 (dk_at dksX0_gives_2 3 rfl rfl)
theorem dX0_gives_51 : decode cX0_gives 51 = .ok (.ireturn, 1) := dk_172 (dk_at dksX0_gives_2 4 rfl rfl)
def dkwX0_high_2 : List UInt8 := [182, 0, 242, 172]
abbrev dktX0_high_2 : List UInt8 := dkwX0_high_2 ++ []
def dkwX0_high_1 : List UInt8 := [156, 0, 15, 42, 42, 27, 182, 0, 248, 182, 0, 252, 167, 0, 13, 42, 28, 42, 27, 182, 0, 248]
abbrev dktX0_high_1 : List UInt8 := dkwX0_high_1 ++ dktX0_high_2
def dkwX0_high_0 : List UInt8 := [27, 184, 0, 245, 153, 0, 16, 28, 2, 159, 0, 13, 42, 28, 182, 0, 74, 154, 0, 5, 2, 172, 28]
abbrev dktX0_high_0 : List UInt8 := dkwX0_high_0 ++ dktX0_high_1
theorem dksX0_high_0 : cX0_high.data.toList.drop 0 = dktX0_high_0 := by decide +kernel
theorem dksX0_high_1 : cX0_high.data.toList.drop 23 = dktX0_high_1 := dk_seg dksX0_high_0 23 rfl rfl
theorem dksX0_high_2 : cX0_high.data.toList.drop 45 = dktX0_high_2 := dk_seg dksX0_high_1 22 rfl rfl
theorem dX0_high_0 : decode cX0_high 0 = .ok (.iload_n 1, 1) := dk_27 (dk_at dksX0_high_0 0 rfl rfl)
theorem dX0_high_1 : decode cX0_high 1 = .ok (.invokestatic 245, 3) := dk_184 0 245 (dk_at dksX0_high_0 1 rfl rfl)
theorem dX0_high_4 : decode cX0_high 4 = .ok (.ifCond .eq 16, 3) := dk_153 0 16 (dk_at dksX0_high_0 4 rfl rfl)
theorem dX0_high_7 : decode cX0_high 7 = .ok (.iload_n 2, 1) := dk_28 (dk_at dksX0_high_0 7 rfl rfl)
theorem dX0_high_8 : decode cX0_high 8 = .ok (.iconst (-1), 1) := dk_2 (dk_at dksX0_high_0 8 rfl rfl)
theorem dX0_high_9 : decode cX0_high 9 = .ok (.if_icmp .eq 13, 3) := dk_159 0 13 (dk_at dksX0_high_0 9 rfl rfl)
theorem dX0_high_12 : decode cX0_high 12 = .ok (.aload_n 0, 1) := dk_42 (dk_at dksX0_high_0 12 rfl rfl)
theorem dX0_high_13 : decode cX0_high 13 = .ok (.iload_n 2, 1) := dk_28 (dk_at dksX0_high_0 13 rfl rfl)
theorem dX0_high_14 : decode cX0_high 14 = .ok (.invokevirtual 74, 3) := dk_182 0 74 (dk_at dksX0_high_0 14 rfl rfl)
theorem dX0_high_17 : decode cX0_high 17 = .ok (.ifCond .ne 5, 3) := dk_154 0 5 (dk_at dksX0_high_0 17 rfl rfl)
theorem dX0_high_20 : decode cX0_high 20 = .ok (.iconst (-1), 1) := dk_2 (dk_at dksX0_high_0 20 rfl rfl)
theorem dX0_high_21 : decode cX0_high 21 = .ok (.ireturn, 1) := dk_172 (dk_at dksX0_high_0 21 rfl rfl)
theorem dX0_high_22 : decode cX0_high 22 = .ok (.iload_n 2, 1) := dk_28 (dk_at dksX0_high_0 22 rfl rfl)
theorem dX0_high_23 : decode cX0_high 23 = .ok (.ifCond .ge 15, 3) := dk_156 0 15 (dk_at dksX0_high_1 0 rfl rfl)
theorem dX0_high_26 : decode cX0_high 26 = .ok (.aload_n 0, 1) := dk_42 (dk_at dksX0_high_1 3 rfl rfl)
theorem dX0_high_27 : decode cX0_high 27 = .ok (.aload_n 0, 1) := dk_42 (dk_at dksX0_high_1 4 rfl rfl)
theorem dX0_high_28 : decode cX0_high 28 = .ok (.iload_n 1, 1) := dk_27 (dk_at dksX0_high_1 5 rfl rfl)
theorem dX0_high_29 : decode cX0_high 29 = .ok (.invokevirtual 248, 3) := dk_182 0 248 (dk_at dksX0_high_1 6 rfl rfl)
theorem dX0_high_32 : decode cX0_high 32 = .ok (.invokevirtual 252, 3) := dk_182 0 252 (dk_at dksX0_high_1 9 rfl rfl)
theorem dX0_high_35 : decode cX0_high 35 = .ok (.goto 13, 3) := dk_167 0 13 (dk_at dksX0_high_1 12 rfl rfl)
theorem dX0_high_38 : decode cX0_high 38 = .ok (.aload_n 0, 1) := dk_42 (dk_at dksX0_high_1 15 rfl rfl)
theorem dX0_high_39 : decode cX0_high 39 = .ok (.iload_n 2, 1) := dk_28 (dk_at dksX0_high_1 16 rfl rfl)
theorem dX0_high_40 : decode cX0_high 40 = .ok (.aload_n 0, 1) := dk_42 (dk_at dksX0_high_1 17 rfl rfl)
theorem dX0_high_41 : decode cX0_high 41 = .ok (.iload_n 1, 1) := dk_27 (dk_at dksX0_high_1 18 rfl rfl)
theorem dX0_high_42 : decode cX0_high 42 = .ok (.invokevirtual 248, 3) := dk_182 0 248 (dk_at dksX0_high_1 19 rfl rfl)
theorem dX0_high_45 : decode cX0_high 45 = .ok (.invokevirtual 242, 3) := dk_182 0 242 (dk_at dksX0_high_2 0 rfl rfl)
theorem dX0_high_48 : decode cX0_high 48 = .ok (.ireturn, 1) := dk_172 (dk_at dksX0_high_2 3 rfl rfl)
def dkwX0_areDays_0 : List UInt8 := [26, 3, 16, 99, 184, 0, 67, 172]
abbrev dktX0_areDays_0 : List UInt8 := dkwX0_areDays_0 ++ []
theorem dksX0_areDays_0 : cX0_areDays.data.toList.drop 0 = dktX0_areDays_0 := by decide +kernel
theorem dX0_areDays_0 : decode cX0_areDays 0 = .ok (.iload_n 0, 1) := dk_26 (dk_at dksX0_areDays_0 0 rfl rfl)
theorem dX0_areDays_1 : decode cX0_areDays 1 = .ok (.iconst 0, 1) := dk_3 (dk_at dksX0_areDays_0 1 rfl rfl)
theorem dX0_areDays_2 : decode cX0_areDays 2 = .ok (.bipush 99, 2) := dk_16 99 (dk_at dksX0_areDays_0 2 rfl rfl)
theorem dX0_areDays_4 : decode cX0_areDays 4 = .ok (.invokestatic 67, 3) := dk_184 0 67 (dk_at dksX0_areDays_0 4 rfl rfl)
theorem dX0_areDays_7 : decode cX0_areDays 7 = .ok (.ireturn, 1) := dk_172 (dk_at dksX0_areDays_0 7 rfl rfl)
def dkwX0_dayBehind_0 : List UInt8 := [16, 99, 42, 180, 0, 78, 27, 96, 184, 0, 236, 172]
abbrev dktX0_dayBehind_0 : List UInt8 := dkwX0_dayBehind_0 ++ []
theorem dksX0_dayBehind_0 : cX0_dayBehind.data.toList.drop 0 = dktX0_dayBehind_0 := by decide +kernel
theorem dX0_dayBehind_0 : decode cX0_dayBehind 0 = .ok (.bipush 99, 2) := dk_16 99 (dk_at dksX0_dayBehind_0 0 rfl rfl)
theorem dX0_dayBehind_2 : decode cX0_dayBehind 2 = .ok (.aload_n 0, 1) := dk_42 (dk_at dksX0_dayBehind_0 2 rfl rfl)
theorem dX0_dayBehind_3 : decode cX0_dayBehind 3 = .ok (.getfield 78, 3) := dk_180 0 78 (dk_at dksX0_dayBehind_0 3 rfl rfl)
theorem dX0_dayBehind_6 : decode cX0_dayBehind 6 = .ok (.iload_n 1, 1) := dk_27 (dk_at dksX0_dayBehind_0 6 rfl rfl)
theorem dX0_dayBehind_7 : decode cX0_dayBehind 7 = .ok (.iadd, 1) := dk_96 (dk_at dksX0_dayBehind_0 7 rfl rfl)
theorem dX0_dayBehind_8 : decode cX0_dayBehind 8 = .ok (.invokestatic 236, 3) := dk_184 0 236 (dk_at dksX0_dayBehind_0 8 rfl rfl)
theorem dX0_dayBehind_11 : decode cX0_dayBehind 11 = .ok (.ireturn, 1) := dk_172 (dk_at dksX0_dayBehind_0 11 rfl rfl)
def dkwX0_allHigh_1 : List UInt8 := [167, 255, 236, 28, 172]
abbrev dktX0_allHigh_1 : List UInt8 := dkwX0_allHigh_1 ++ []
def dkwX0_allHigh_0 : List UInt8 := [3, 61, 3, 62, 29, 42, 180, 0, 63, 162, 0, 18, 28, 42, 29, 27, 182, 0, 242, 96, 61, 132, 3, 1]
abbrev dktX0_allHigh_0 : List UInt8 := dkwX0_allHigh_0 ++ dktX0_allHigh_1
theorem dksX0_allHigh_0 : cX0_allHigh.data.toList.drop 0 = dktX0_allHigh_0 := by decide +kernel
theorem dksX0_allHigh_1 : cX0_allHigh.data.toList.drop 24 = dktX0_allHigh_1 := dk_seg dksX0_allHigh_0 24 rfl rfl
theorem dX0_allHigh_0 : decode cX0_allHigh 0 = .ok (.iconst 0, 1) := dk_3 (dk_at dksX0_allHigh_0 0 rfl rfl)
theorem dX0_allHigh_1 : decode cX0_allHigh 1 = .ok (.istore_n 2, 1) := dk_61 (dk_at dksX0_allHigh_0 1 rfl rfl)
theorem dX0_allHigh_2 : decode cX0_allHigh 2 = .ok (.iconst 0, 1) := dk_3 (dk_at dksX0_allHigh_0 2 rfl rfl)
theorem dX0_allHigh_3 : decode cX0_allHigh 3 = .ok (.istore_n 3, 1) := dk_62 (dk_at dksX0_allHigh_0 3 rfl rfl)
theorem dX0_allHigh_4 : decode cX0_allHigh 4 = .ok (.iload_n 3, 1) := dk_29 (dk_at dksX0_allHigh_0 4 rfl rfl)
theorem dX0_allHigh_5 : decode cX0_allHigh 5 = .ok (.aload_n 0, 1) := dk_42 (dk_at dksX0_allHigh_0 5 rfl rfl)
theorem dX0_allHigh_6 : decode cX0_allHigh 6 = .ok (.getfield 63, 3) := dk_180 0 63 (dk_at dksX0_allHigh_0 6 rfl rfl)
theorem dX0_allHigh_9 : decode cX0_allHigh 9 = .ok (.if_icmp .ge 18, 3) := dk_162 0 18 (dk_at dksX0_allHigh_0 9 rfl rfl)
theorem dX0_allHigh_12 : decode cX0_allHigh 12 = .ok (.iload_n 2, 1) := dk_28 (dk_at dksX0_allHigh_0 12 rfl rfl)
theorem dX0_allHigh_13 : decode cX0_allHigh 13 = .ok (.aload_n 0, 1) := dk_42 (dk_at dksX0_allHigh_0 13 rfl rfl)
theorem dX0_allHigh_14 : decode cX0_allHigh 14 = .ok (.iload_n 3, 1) := dk_29 (dk_at dksX0_allHigh_0 14 rfl rfl)
theorem dX0_allHigh_15 : decode cX0_allHigh 15 = .ok (.iload_n 1, 1) := dk_27 (dk_at dksX0_allHigh_0 15 rfl rfl)
theorem dX0_allHigh_16 : decode cX0_allHigh 16 = .ok (.invokevirtual 242, 3) := dk_182 0 242 (dk_at dksX0_allHigh_0 16 rfl rfl)
theorem dX0_allHigh_19 : decode cX0_allHigh 19 = .ok (.iadd, 1) := dk_96 (dk_at dksX0_allHigh_0 19 rfl rfl)
theorem dX0_allHigh_20 : decode cX0_allHigh 20 = .ok (.istore_n 2, 1) := dk_61 (dk_at dksX0_allHigh_0 20 rfl rfl)
theorem dX0_allHigh_21 : decode cX0_allHigh 21 = .ok (.iinc 3 1, 3) := dk_132 3 1 (dk_at dksX0_allHigh_0 21 rfl rfl)
theorem dX0_allHigh_24 : decode cX0_allHigh 24 = .ok (.goto (-20), 3) := dk_167 255 236 (dk_at dksX0_allHigh_1 0 rfl rfl)
theorem dX0_allHigh_27 : decode cX0_allHigh 27 = .ok (.iload_n 2, 1) := dk_28 (dk_at dksX0_allHigh_1 3 rfl rfl)
theorem dX0_allHigh_28 : decode cX0_allHigh 28 = .ok (.ireturn, 1) := dk_172 (dk_at dksX0_allHigh_1 4 rfl rfl)
def dkwX0_highOf_1 : List UInt8 := [27, 160, 0, 15, 29, 42, 21, 4, 28, 182, 0, 239, 184, 0, 225, 62, 132, 4, 1, 167, 255, 218, 29, 172]
abbrev dktX0_highOf_1 : List UInt8 := dkwX0_highOf_1 ++ []
def dkwX0_highOf_0 : List UInt8 := [3, 62, 3, 54, 4, 21, 4, 42, 180, 0, 71, 162, 0, 35, 42, 180, 0, 17, 21, 4, 50, 180, 0, 173]
abbrev dktX0_highOf_0 : List UInt8 := dkwX0_highOf_0 ++ dktX0_highOf_1
theorem dksX0_highOf_0 : cX0_highOf.data.toList.drop 0 = dktX0_highOf_0 := by decide +kernel
theorem dksX0_highOf_1 : cX0_highOf.data.toList.drop 24 = dktX0_highOf_1 := dk_seg dksX0_highOf_0 24 rfl rfl
theorem dX0_highOf_0 : decode cX0_highOf 0 = .ok (.iconst 0, 1) := dk_3 (dk_at dksX0_highOf_0 0 rfl rfl)
theorem dX0_highOf_1 : decode cX0_highOf 1 = .ok (.istore_n 3, 1) := dk_62 (dk_at dksX0_highOf_0 1 rfl rfl)
theorem dX0_highOf_2 : decode cX0_highOf 2 = .ok (.iconst 0, 1) := dk_3 (dk_at dksX0_highOf_0 2 rfl rfl)
theorem dX0_highOf_3 : decode cX0_highOf 3 = .ok (.istore 4, 2) := dk_54 4 (dk_at dksX0_highOf_0 3 rfl rfl)
theorem dX0_highOf_5 : decode cX0_highOf 5 = .ok (.iload 4, 2) := dk_21 4 (dk_at dksX0_highOf_0 5 rfl rfl)
theorem dX0_highOf_7 : decode cX0_highOf 7 = .ok (.aload_n 0, 1) := dk_42 (dk_at dksX0_highOf_0 7 rfl rfl)
theorem dX0_highOf_8 : decode cX0_highOf 8 = .ok (.getfield 71, 3) := dk_180 0 71 (dk_at dksX0_highOf_0 8 rfl rfl)
theorem dX0_highOf_11 : decode cX0_highOf 11 = .ok (.if_icmp .ge 35, 3) := dk_162 0 35 (dk_at dksX0_highOf_0 11 rfl rfl)
theorem dX0_highOf_14 : decode cX0_highOf 14 = .ok (.aload_n 0, 1) := dk_42 (dk_at dksX0_highOf_0 14 rfl rfl)
theorem dX0_highOf_15 : decode cX0_highOf 15 = .ok (.getfield 17, 3) := dk_180 0 17 (dk_at dksX0_highOf_0 15 rfl rfl)
theorem dX0_highOf_18 : decode cX0_highOf 18 = .ok (.iload 4, 2) := dk_21 4 (dk_at dksX0_highOf_0 18 rfl rfl)
theorem dX0_highOf_20 : decode cX0_highOf 20 = .ok (.aaload, 1) := dk_50 (dk_at dksX0_highOf_0 20 rfl rfl)
theorem dX0_highOf_21 : decode cX0_highOf 21 = .ok (.getfield 173, 3) := dk_180 0 173 (dk_at dksX0_highOf_0 21 rfl rfl)
theorem dX0_highOf_24 : decode cX0_highOf 24 = .ok (.iload_n 1, 1) := dk_27 (dk_at dksX0_highOf_1 0 rfl rfl)
theorem dX0_highOf_25 : decode cX0_highOf 25 = .ok (.if_icmp .ne 15, 3) := dk_160 0 15 (dk_at dksX0_highOf_1 1 rfl rfl)
theorem dX0_highOf_28 : decode cX0_highOf 28 = .ok (.iload_n 3, 1) := dk_29 (dk_at dksX0_highOf_1 4 rfl rfl)
theorem dX0_highOf_29 : decode cX0_highOf 29 = .ok (.aload_n 0, 1) := dk_42 (dk_at dksX0_highOf_1 5 rfl rfl)
theorem dX0_highOf_30 : decode cX0_highOf 30 = .ok (.iload 4, 2) := dk_21 4 (dk_at dksX0_highOf_1 6 rfl rfl)
theorem dX0_highOf_32 : decode cX0_highOf 32 = .ok (.iload_n 2, 1) := dk_28 (dk_at dksX0_highOf_1 8 rfl rfl)
theorem dX0_highOf_33 : decode cX0_highOf 33 = .ok (.invokevirtual 239, 3) := dk_182 0 239 (dk_at dksX0_highOf_1 9 rfl rfl)
theorem dX0_highOf_36 : decode cX0_highOf 36 = .ok (.invokestatic 225, 3) := dk_184 0 225 (dk_at dksX0_highOf_1 12 rfl rfl)
theorem dX0_highOf_39 : decode cX0_highOf 39 = .ok (.istore_n 3, 1) := dk_62 (dk_at dksX0_highOf_1 15 rfl rfl)
theorem dX0_highOf_40 : decode cX0_highOf 40 = .ok (.iinc 4 1, 3) := dk_132 4 1 (dk_at dksX0_highOf_1 16 rfl rfl)
theorem dX0_highOf_43 : decode cX0_highOf 43 = .ok (.goto (-38), 3) := dk_167 255 218 (dk_at dksX0_highOf_1 19 rfl rfl)
theorem dX0_highOf_46 : decode cX0_highOf 46 = .ok (.iload_n 3, 1) := dk_29 (dk_at dksX0_highOf_1 22 rfl rfl)
theorem dX0_highOf_47 : decode cX0_highOf 47 = .ok (.ireturn, 1) := dk_172 (dk_at dksX0_highOf_1 23 rfl rfl)
def dkwX0_opens_2 : List UInt8 := [132, 3, 1, 167, 255, 222, 28, 172]
abbrev dktX0_opens_2 : List UInt8 := dkwX0_opens_2 ++ []
def dkwX0_opens_1 : List UInt8 := [180, 0, 17, 29, 50, 42, 27, 182, 0, 248, 182, 0, 216, 153, 0, 9, 28, 4, 29, 120, 128, 61]
abbrev dktX0_opens_1 : List UInt8 := dkwX0_opens_1 ++ dktX0_opens_2
def dkwX0_opens_0 : List UInt8 := [27, 184, 0, 245, 154, 0, 5, 2, 172, 3, 61, 3, 62, 29, 42, 180, 0, 71, 162, 0, 32, 42]
abbrev dktX0_opens_0 : List UInt8 := dkwX0_opens_0 ++ dktX0_opens_1
theorem dksX0_opens_0 : cX0_opens.data.toList.drop 0 = dktX0_opens_0 := by decide +kernel
theorem dksX0_opens_1 : cX0_opens.data.toList.drop 22 = dktX0_opens_1 := dk_seg dksX0_opens_0 22 rfl rfl
theorem dksX0_opens_2 : cX0_opens.data.toList.drop 44 = dktX0_opens_2 := dk_seg dksX0_opens_1 22 rfl rfl
theorem dX0_opens_0 : decode cX0_opens 0 = .ok (.iload_n 1, 1) := dk_27 (dk_at dksX0_opens_0 0 rfl rfl)
theorem dX0_opens_1 : decode cX0_opens 1 = .ok (.invokestatic 245, 3) := dk_184 0 245 (dk_at dksX0_opens_0 1 rfl rfl)
theorem dX0_opens_4 : decode cX0_opens 4 = .ok (.ifCond .ne 5, 3) := dk_154 0 5 (dk_at dksX0_opens_0 4 rfl rfl)
theorem dX0_opens_7 : decode cX0_opens 7 = .ok (.iconst (-1), 1) := dk_2 (dk_at dksX0_opens_0 7 rfl rfl)
theorem dX0_opens_8 : decode cX0_opens 8 = .ok (.ireturn, 1) := dk_172 (dk_at dksX0_opens_0 8 rfl rfl)
theorem dX0_opens_9 : decode cX0_opens 9 = .ok (.iconst 0, 1) := dk_3 (dk_at dksX0_opens_0 9 rfl rfl)
theorem dX0_opens_10 : decode cX0_opens 10 = .ok (.istore_n 2, 1) := dk_61 (dk_at dksX0_opens_0 10 rfl rfl)
theorem dX0_opens_11 : decode cX0_opens 11 = .ok (.iconst 0, 1) := dk_3 (dk_at dksX0_opens_0 11 rfl rfl)
theorem dX0_opens_12 : decode cX0_opens 12 = .ok (.istore_n 3, 1) := dk_62 (dk_at dksX0_opens_0 12 rfl rfl)
theorem dX0_opens_13 : decode cX0_opens 13 = .ok (.iload_n 3, 1) := dk_29 (dk_at dksX0_opens_0 13 rfl rfl)
theorem dX0_opens_14 : decode cX0_opens 14 = .ok (.aload_n 0, 1) := dk_42 (dk_at dksX0_opens_0 14 rfl rfl)
theorem dX0_opens_15 : decode cX0_opens 15 = .ok (.getfield 71, 3) := dk_180 0 71 (dk_at dksX0_opens_0 15 rfl rfl)
theorem dX0_opens_18 : decode cX0_opens 18 = .ok (.if_icmp .ge 32, 3) := dk_162 0 32 (dk_at dksX0_opens_0 18 rfl rfl)
theorem dX0_opens_21 : decode cX0_opens 21 = .ok (.aload_n 0, 1) := dk_42 (dk_at dksX0_opens_0 21 rfl rfl)
theorem dX0_opens_22 : decode cX0_opens 22 = .ok (.getfield 17, 3) := dk_180 0 17 (dk_at dksX0_opens_1 0 rfl rfl)
theorem dX0_opens_25 : decode cX0_opens 25 = .ok (.iload_n 3, 1) := dk_29 (dk_at dksX0_opens_1 3 rfl rfl)
theorem dX0_opens_26 : decode cX0_opens 26 = .ok (.aaload, 1) := dk_50 (dk_at dksX0_opens_1 4 rfl rfl)
theorem dX0_opens_27 : decode cX0_opens 27 = .ok (.aload_n 0, 1) := dk_42 (dk_at dksX0_opens_1 5 rfl rfl)
theorem dX0_opens_28 : decode cX0_opens 28 = .ok (.iload_n 1, 1) := dk_27 (dk_at dksX0_opens_1 6 rfl rfl)
theorem dX0_opens_29 : decode cX0_opens 29 = .ok (.invokevirtual 248, 3) := dk_182 0 248 (dk_at dksX0_opens_1 7 rfl rfl)
theorem dX0_opens_32 : decode cX0_opens 32 = .ok (.invokevirtual 216, 3) := dk_182 0 216 (dk_at dksX0_opens_1 10 rfl rfl)
theorem dX0_opens_35 : decode cX0_opens 35 = .ok (.ifCond .eq 9, 3) := dk_153 0 9 (dk_at dksX0_opens_1 13 rfl rfl)
theorem dX0_opens_38 : decode cX0_opens 38 = .ok (.iload_n 2, 1) := dk_28 (dk_at dksX0_opens_1 16 rfl rfl)
theorem dX0_opens_39 : decode cX0_opens 39 = .ok (.iconst 1, 1) := dk_4 (dk_at dksX0_opens_1 17 rfl rfl)
theorem dX0_opens_40 : decode cX0_opens 40 = .ok (.iload_n 3, 1) := dk_29 (dk_at dksX0_opens_1 18 rfl rfl)
theorem dX0_opens_41 : decode cX0_opens 41 = .ok (.ishl, 1) := dk_120 (dk_at dksX0_opens_1 19 rfl rfl)
theorem dX0_opens_42 : decode cX0_opens 42 = .ok (.ior, 1) := dk_128 (dk_at dksX0_opens_1 20 rfl rfl)
theorem dX0_opens_43 : decode cX0_opens 43 = .ok (.istore_n 2, 1) := dk_61 (dk_at dksX0_opens_1 21 rfl rfl)
theorem dX0_opens_44 : decode cX0_opens 44 = .ok (.iinc 3 1, 3) := dk_132 3 1 (dk_at dksX0_opens_2 0 rfl rfl)
theorem dX0_opens_47 : decode cX0_opens 47 = .ok (.goto (-34), 3) := dk_167 255 222 (dk_at dksX0_opens_2 3 rfl rfl)
theorem dX0_opens_50 : decode cX0_opens 50 = .ok (.iload_n 2, 1) := dk_28 (dk_at dksX0_opens_2 6 rfl rfl)
theorem dX0_opens_51 : decode cX0_opens 51 = .ok (.ireturn, 1) := dk_172 (dk_at dksX0_opens_2 7 rfl rfl)
def dkwX0_roof_0 : List UInt8 := [42, 27, 182, 0, 74, 153, 0, 11, 42, 27, 182, 0, 255, 167, 0, 4, 2, 172]
abbrev dktX0_roof_0 : List UInt8 := dkwX0_roof_0 ++ []
theorem dksX0_roof_0 : cX0_roof.data.toList.drop 0 = dktX0_roof_0 := by decide +kernel
theorem dX0_roof_0 : decode cX0_roof 0 = .ok (.aload_n 0, 1) := dk_42 (dk_at dksX0_roof_0 0 rfl rfl)
theorem dX0_roof_1 : decode cX0_roof 1 = .ok (.iload_n 1, 1) := dk_27 (dk_at dksX0_roof_0 1 rfl rfl)
theorem dX0_roof_2 : decode cX0_roof 2 = .ok (.invokevirtual 74, 3) := dk_182 0 74 (dk_at dksX0_roof_0 2 rfl rfl)
theorem dX0_roof_5 : decode cX0_roof 5 = .ok (.ifCond .eq 11, 3) := dk_153 0 11 (dk_at dksX0_roof_0 5 rfl rfl)
theorem dX0_roof_8 : decode cX0_roof 8 = .ok (.aload_n 0, 1) := dk_42 (dk_at dksX0_roof_0 8 rfl rfl)
theorem dX0_roof_9 : decode cX0_roof 9 = .ok (.iload_n 1, 1) := dk_27 (dk_at dksX0_roof_0 9 rfl rfl)
theorem dX0_roof_10 : decode cX0_roof 10 = .ok (.invokevirtual 255, 3) := dk_182 0 255 (dk_at dksX0_roof_0 10 rfl rfl)
theorem dX0_roof_13 : decode cX0_roof 13 = .ok (.goto 4, 3) := dk_167 0 4 (dk_at dksX0_roof_0 13 rfl rfl)
theorem dX0_roof_16 : decode cX0_roof 16 = .ok (.iconst (-1), 1) := dk_2 (dk_at dksX0_roof_0 16 rfl rfl)
theorem dX0_roof_17 : decode cX0_roof 17 = .ok (.ireturn, 1) := dk_172 (dk_at dksX0_roof_0 17 rfl rfl)
def dkwX0_roofOf_3 : List UInt8 := [29, 61, 132, 3, 1, 167, 255, 186, 28, 172]
abbrev dktX0_roofOf_3 : List UInt8 := dkwX0_roofOf_3 ++ []
def dkwX0_roofOf_2 : List UInt8 := [155, 0, 24, 42, 29, 42, 180, 0, 78, 182, 0, 239, 42, 28, 42, 180, 0, 78, 182, 0, 239, 164, 0, 5]
abbrev dktX0_roofOf_2 : List UInt8 := dkwX0_roofOf_2 ++ dktX0_roofOf_3
def dkwX0_roofOf_1 : List UInt8 := [160, 0, 49, 42, 180, 0, 17, 29, 50, 42, 180, 0, 78, 182, 0, 216, 154, 0, 6, 167, 0, 30, 28]
abbrev dktX0_roofOf_1 : List UInt8 := dkwX0_roofOf_1 ++ dktX0_roofOf_2
def dkwX0_roofOf_0 : List UInt8 := [16, 254, 61, 3, 62, 29, 42, 180, 0, 71, 162, 0, 68, 42, 180, 0, 17, 29, 50, 180, 0, 173, 27]
abbrev dktX0_roofOf_0 : List UInt8 := dkwX0_roofOf_0 ++ dktX0_roofOf_1
theorem dksX0_roofOf_0 : cX0_roofOf.data.toList.drop 0 = dktX0_roofOf_0 := by decide +kernel
theorem dksX0_roofOf_1 : cX0_roofOf.data.toList.drop 23 = dktX0_roofOf_1 := dk_seg dksX0_roofOf_0 23 rfl rfl
theorem dksX0_roofOf_2 : cX0_roofOf.data.toList.drop 46 = dktX0_roofOf_2 := dk_seg dksX0_roofOf_1 23 rfl rfl
theorem dksX0_roofOf_3 : cX0_roofOf.data.toList.drop 70 = dktX0_roofOf_3 := dk_seg dksX0_roofOf_2 24 rfl rfl
theorem dX0_roofOf_0 : decode cX0_roofOf 0 = .ok (.bipush (-2), 2) := dk_16 254 (dk_at dksX0_roofOf_0 0 rfl rfl)
theorem dX0_roofOf_2 : decode cX0_roofOf 2 = .ok (.istore_n 2, 1) := dk_61 (dk_at dksX0_roofOf_0 2 rfl rfl)
theorem dX0_roofOf_3 : decode cX0_roofOf 3 = .ok (.iconst 0, 1) := dk_3 (dk_at dksX0_roofOf_0 3 rfl rfl)
theorem dX0_roofOf_4 : decode cX0_roofOf 4 = .ok (.istore_n 3, 1) := dk_62 (dk_at dksX0_roofOf_0 4 rfl rfl)
theorem dX0_roofOf_5 : decode cX0_roofOf 5 = .ok (.iload_n 3, 1) := dk_29 (dk_at dksX0_roofOf_0 5 rfl rfl)
theorem dX0_roofOf_6 : decode cX0_roofOf 6 = .ok (.aload_n 0, 1) := dk_42 (dk_at dksX0_roofOf_0 6 rfl rfl)
theorem dX0_roofOf_7 : decode cX0_roofOf 7 = .ok (.getfield 71, 3) := dk_180 0 71 (dk_at dksX0_roofOf_0 7 rfl rfl)
theorem dX0_roofOf_10 : decode cX0_roofOf 10 = .ok (.if_icmp .ge 68, 3) := dk_162 0 68 (dk_at dksX0_roofOf_0 10 rfl rfl)
theorem dX0_roofOf_13 : decode cX0_roofOf 13 = .ok (.aload_n 0, 1) := dk_42 (dk_at dksX0_roofOf_0 13 rfl rfl)
theorem dX0_roofOf_14 : decode cX0_roofOf 14 = .ok (.getfield 17, 3) := dk_180 0 17 (dk_at dksX0_roofOf_0 14 rfl rfl)
theorem dX0_roofOf_17 : decode cX0_roofOf 17 = .ok (.iload_n 3, 1) := dk_29 (dk_at dksX0_roofOf_0 17 rfl rfl)
theorem dX0_roofOf_18 : decode cX0_roofOf 18 = .ok (.aaload, 1) := dk_50 (dk_at dksX0_roofOf_0 18 rfl rfl)
theorem dX0_roofOf_19 : decode cX0_roofOf 19 = .ok (.getfield 173, 3) := dk_180 0 173 (dk_at dksX0_roofOf_0 19 rfl rfl)
theorem dX0_roofOf_22 : decode cX0_roofOf 22 = .ok (.iload_n 1, 1) := dk_27 (dk_at dksX0_roofOf_0 22 rfl rfl)
theorem dX0_roofOf_23 : decode cX0_roofOf 23 = .ok (.if_icmp .ne 49, 3) := dk_160 0 49 (dk_at dksX0_roofOf_1 0 rfl rfl)
theorem dX0_roofOf_26 : decode cX0_roofOf 26 = .ok (.aload_n 0, 1) := dk_42 (dk_at dksX0_roofOf_1 3 rfl rfl)
theorem dX0_roofOf_27 : decode cX0_roofOf 27 = .ok (.getfield 17, 3) := dk_180 0 17 (dk_at dksX0_roofOf_1 4 rfl rfl)
theorem dX0_roofOf_30 : decode cX0_roofOf 30 = .ok (.iload_n 3, 1) := dk_29 (dk_at dksX0_roofOf_1 7 rfl rfl)
theorem dX0_roofOf_31 : decode cX0_roofOf 31 = .ok (.aaload, 1) := dk_50 (dk_at dksX0_roofOf_1 8 rfl rfl)
theorem dX0_roofOf_32 : decode cX0_roofOf 32 = .ok (.aload_n 0, 1) := dk_42 (dk_at dksX0_roofOf_1 9 rfl rfl)
theorem dX0_roofOf_33 : decode cX0_roofOf 33 = .ok (.getfield 78, 3) := dk_180 0 78 (dk_at dksX0_roofOf_1 10 rfl rfl)
theorem dX0_roofOf_36 : decode cX0_roofOf 36 = .ok (.invokevirtual 216, 3) := dk_182 0 216 (dk_at dksX0_roofOf_1 13 rfl rfl)
theorem dX0_roofOf_39 : decode cX0_roofOf 39 = .ok (.ifCond .ne 6, 3) := dk_154 0 6 (dk_at dksX0_roofOf_1 16 rfl rfl)
theorem dX0_roofOf_42 : decode cX0_roofOf 42 = .ok (.goto 30, 3) := dk_167 0 30 (dk_at dksX0_roofOf_1 19 rfl rfl)
theorem dX0_roofOf_45 : decode cX0_roofOf 45 = .ok (.iload_n 2, 1) := dk_28 (dk_at dksX0_roofOf_1 22 rfl rfl)
theorem dX0_roofOf_46 : decode cX0_roofOf 46 = .ok (.ifCond .lt 24, 3) := dk_155 0 24 (dk_at dksX0_roofOf_2 0 rfl rfl)
theorem dX0_roofOf_49 : decode cX0_roofOf 49 = .ok (.aload_n 0, 1) := dk_42 (dk_at dksX0_roofOf_2 3 rfl rfl)
theorem dX0_roofOf_50 : decode cX0_roofOf 50 = .ok (.iload_n 3, 1) := dk_29 (dk_at dksX0_roofOf_2 4 rfl rfl)
theorem dX0_roofOf_51 : decode cX0_roofOf 51 = .ok (.aload_n 0, 1) := dk_42 (dk_at dksX0_roofOf_2 5 rfl rfl)
theorem dX0_roofOf_52 : decode cX0_roofOf 52 = .ok (.getfield 78, 3) := dk_180 0 78 (dk_at dksX0_roofOf_2 6 rfl rfl)
theorem dX0_roofOf_55 : decode cX0_roofOf 55 = .ok (.invokevirtual 239, 3) := dk_182 0 239 (dk_at dksX0_roofOf_2 9 rfl rfl)
theorem dX0_roofOf_58 : decode cX0_roofOf 58 = .ok (.aload_n 0, 1) := dk_42 (dk_at dksX0_roofOf_2 12 rfl rfl)
theorem dX0_roofOf_59 : decode cX0_roofOf 59 = .ok (.iload_n 2, 1) := dk_28 (dk_at dksX0_roofOf_2 13 rfl rfl)
theorem dX0_roofOf_60 : decode cX0_roofOf 60 = .ok (.aload_n 0, 1) := dk_42 (dk_at dksX0_roofOf_2 14 rfl rfl)
theorem dX0_roofOf_61 : decode cX0_roofOf 61 = .ok (.getfield 78, 3) := dk_180 0 78 (dk_at dksX0_roofOf_2 15 rfl rfl)
theorem dX0_roofOf_64 : decode cX0_roofOf 64 = .ok (.invokevirtual 239, 3) := dk_182 0 239 (dk_at dksX0_roofOf_2 18 rfl rfl)
theorem dX0_roofOf_67 : decode cX0_roofOf 67 = .ok (.if_icmp .le 5, 3) := dk_164 0 5 (dk_at dksX0_roofOf_2 21 rfl rfl)
theorem dX0_roofOf_70 : decode cX0_roofOf 70 = .ok (.iload_n 3, 1) := dk_29 (dk_at dksX0_roofOf_3 0 rfl rfl)
theorem dX0_roofOf_71 : decode cX0_roofOf 71 = .ok (.istore_n 2, 1) := dk_61 (dk_at dksX0_roofOf_3 1 rfl rfl)
theorem dX0_roofOf_72 : decode cX0_roofOf 72 = .ok (.iinc 3 1, 3) := dk_132 3 1 (dk_at dksX0_roofOf_3 2 rfl rfl)
theorem dX0_roofOf_75 : decode cX0_roofOf 75 = .ok (.goto (-70), 3) := dk_167 255 186 (dk_at dksX0_roofOf_3 5 rfl rfl)
theorem dX0_roofOf_78 : decode cX0_roofOf 78 = .ok (.iload_n 2, 1) := dk_28 (dk_at dksX0_roofOf_3 8 rfl rfl)
theorem dX0_roofOf_79 : decode cX0_roofOf 79 = .ok (.ireturn, 1) := dk_172 (dk_at dksX0_roofOf_3 9 rfl rfl)
def dkwX0_falls_2 : List UInt8 := [167, 255, 231, 16, 254, 172]
abbrev dktX0_falls_2 : List UInt8 := dkwX0_falls_2 ++ []
def dkwX0_falls_1 : List UInt8 := [16, 99, 163, 0, 25, 42, 27, 42, 29, 182, 0, 248, 182, 0, 242, 28, 162, 0, 5, 29, 172, 132, 3, 1]
abbrev dktX0_falls_1 : List UInt8 := dkwX0_falls_1 ++ dktX0_falls_2
def dkwX0_falls_0 : List UInt8 := [42, 27, 182, 0, 74, 153, 0, 13, 28, 3, 16, 9, 184, 0, 67, 154, 0, 5, 2, 172, 3, 62, 29]
abbrev dktX0_falls_0 : List UInt8 := dkwX0_falls_0 ++ dktX0_falls_1
theorem dksX0_falls_0 : cX0_falls.data.toList.drop 0 = dktX0_falls_0 := by decide +kernel
theorem dksX0_falls_1 : cX0_falls.data.toList.drop 23 = dktX0_falls_1 := dk_seg dksX0_falls_0 23 rfl rfl
theorem dksX0_falls_2 : cX0_falls.data.toList.drop 47 = dktX0_falls_2 := dk_seg dksX0_falls_1 24 rfl rfl
theorem dX0_falls_0 : decode cX0_falls 0 = .ok (.aload_n 0, 1) := dk_42 (dk_at dksX0_falls_0 0 rfl rfl)
theorem dX0_falls_1 : decode cX0_falls 1 = .ok (.iload_n 1, 1) := dk_27 (dk_at dksX0_falls_0 1 rfl rfl)
theorem dX0_falls_2 : decode cX0_falls 2 = .ok (.invokevirtual 74, 3) := dk_182 0 74 (dk_at dksX0_falls_0 2 rfl rfl)
theorem dX0_falls_5 : decode cX0_falls 5 = .ok (.ifCond .eq 13, 3) := dk_153 0 13 (dk_at dksX0_falls_0 5 rfl rfl)
theorem dX0_falls_8 : decode cX0_falls 8 = .ok (.iload_n 2, 1) := dk_28 (dk_at dksX0_falls_0 8 rfl rfl)
theorem dX0_falls_9 : decode cX0_falls 9 = .ok (.iconst 0, 1) := dk_3 (dk_at dksX0_falls_0 9 rfl rfl)
theorem dX0_falls_10 : decode cX0_falls 10 = .ok (.bipush 9, 2) := dk_16 9 (dk_at dksX0_falls_0 10 rfl rfl)
theorem dX0_falls_12 : decode cX0_falls 12 = .ok (.invokestatic 67, 3) := dk_184 0 67 (dk_at dksX0_falls_0 12 rfl rfl)
theorem dX0_falls_15 : decode cX0_falls 15 = .ok (.ifCond .ne 5, 3) := dk_154 0 5 (dk_at dksX0_falls_0 15 rfl rfl)
theorem dX0_falls_18 : decode cX0_falls 18 = .ok (.iconst (-1), 1) := dk_2 (dk_at dksX0_falls_0 18 rfl rfl)
theorem dX0_falls_19 : decode cX0_falls 19 = .ok (.ireturn, 1) := dk_172 (dk_at dksX0_falls_0 19 rfl rfl)
theorem dX0_falls_20 : decode cX0_falls 20 = .ok (.iconst 0, 1) := dk_3 (dk_at dksX0_falls_0 20 rfl rfl)
theorem dX0_falls_21 : decode cX0_falls 21 = .ok (.istore_n 3, 1) := dk_62 (dk_at dksX0_falls_0 21 rfl rfl)
theorem dX0_falls_22 : decode cX0_falls 22 = .ok (.iload_n 3, 1) := dk_29 (dk_at dksX0_falls_0 22 rfl rfl)
theorem dX0_falls_23 : decode cX0_falls 23 = .ok (.bipush 99, 2) := dk_16 99 (dk_at dksX0_falls_1 0 rfl rfl)
theorem dX0_falls_25 : decode cX0_falls 25 = .ok (.if_icmp .gt 25, 3) := dk_163 0 25 (dk_at dksX0_falls_1 2 rfl rfl)
theorem dX0_falls_28 : decode cX0_falls 28 = .ok (.aload_n 0, 1) := dk_42 (dk_at dksX0_falls_1 5 rfl rfl)
theorem dX0_falls_29 : decode cX0_falls 29 = .ok (.iload_n 1, 1) := dk_27 (dk_at dksX0_falls_1 6 rfl rfl)
theorem dX0_falls_30 : decode cX0_falls 30 = .ok (.aload_n 0, 1) := dk_42 (dk_at dksX0_falls_1 7 rfl rfl)
theorem dX0_falls_31 : decode cX0_falls 31 = .ok (.iload_n 3, 1) := dk_29 (dk_at dksX0_falls_1 8 rfl rfl)
theorem dX0_falls_32 : decode cX0_falls 32 = .ok (.invokevirtual 248, 3) := dk_182 0 248 (dk_at dksX0_falls_1 9 rfl rfl)
theorem dX0_falls_35 : decode cX0_falls 35 = .ok (.invokevirtual 242, 3) := dk_182 0 242 (dk_at dksX0_falls_1 12 rfl rfl)
theorem dX0_falls_38 : decode cX0_falls 38 = .ok (.iload_n 2, 1) := dk_28 (dk_at dksX0_falls_1 15 rfl rfl)
theorem dX0_falls_39 : decode cX0_falls 39 = .ok (.if_icmp .ge 5, 3) := dk_162 0 5 (dk_at dksX0_falls_1 16 rfl rfl)
theorem dX0_falls_42 : decode cX0_falls 42 = .ok (.iload_n 3, 1) := dk_29 (dk_at dksX0_falls_1 19 rfl rfl)
theorem dX0_falls_43 : decode cX0_falls 43 = .ok (.ireturn, 1) := dk_172 (dk_at dksX0_falls_1 20 rfl rfl)
theorem dX0_falls_44 : decode cX0_falls 44 = .ok (.iinc 3 1, 3) := dk_132 3 1 (dk_at dksX0_falls_1 21 rfl rfl)
theorem dX0_falls_47 : decode cX0_falls 47 = .ok (.goto (-25), 3) := dk_167 255 231 (dk_at dksX0_falls_2 0 rfl rfl)
theorem dX0_falls_50 : decode cX0_falls 50 = .ok (.bipush (-2), 2) := dk_16 254 (dk_at dksX0_falls_2 3 rfl rfl)
theorem dX0_falls_52 : decode cX0_falls 52 = .ok (.ireturn, 1) := dk_172 (dk_at dksX0_falls_2 5 rfl rfl)
def dkwX0_skyline_3 : List UInt8 := [132, 4, 1, 167, 255, 209, 28, 172]
abbrev dktX0_skyline_3 : List UInt8 := dkwX0_skyline_3 ++ []
def dkwX0_skyline_2 : List UInt8 := [163, 0, 6, 167, 0, 21, 42, 21, 4, 42, 180, 0, 78, 182, 0, 242, 62, 28, 4, 21, 4, 120, 128, 61]
abbrev dktX0_skyline_2 : List UInt8 := dkwX0_skyline_2 ++ dktX0_skyline_3
def dkwX0_skyline_1 : List UInt8 := [62, 3, 54, 4, 21, 4, 42, 180, 0, 63, 162, 0, 44, 42, 21, 4, 42, 180, 0, 78, 182, 0, 242, 29]
abbrev dktX0_skyline_1 : List UInt8 := dkwX0_skyline_1 ++ dktX0_skyline_2
def dkwX0_skyline_0 : List UInt8 := [27, 3, 4, 184, 0, 67, 154, 0, 5, 2, 172, 27, 4, 160, 0, 8, 42, 182, 1, 2, 172, 3, 61, 2]
abbrev dktX0_skyline_0 : List UInt8 := dkwX0_skyline_0 ++ dktX0_skyline_1
theorem dksX0_skyline_0 : cX0_skyline.data.toList.drop 0 = dktX0_skyline_0 := by decide +kernel
theorem dksX0_skyline_1 : cX0_skyline.data.toList.drop 24 = dktX0_skyline_1 := dk_seg dksX0_skyline_0 24 rfl rfl
theorem dksX0_skyline_2 : cX0_skyline.data.toList.drop 48 = dktX0_skyline_2 := dk_seg dksX0_skyline_1 24 rfl rfl
theorem dksX0_skyline_3 : cX0_skyline.data.toList.drop 72 = dktX0_skyline_3 := dk_seg dksX0_skyline_2 24 rfl rfl
theorem dX0_skyline_0 : decode cX0_skyline 0 = .ok (.iload_n 1, 1) := dk_27 (dk_at dksX0_skyline_0 0 rfl rfl)
theorem dX0_skyline_1 : decode cX0_skyline 1 = .ok (.iconst 0, 1) := dk_3 (dk_at dksX0_skyline_0 1 rfl rfl)
theorem dX0_skyline_2 : decode cX0_skyline 2 = .ok (.iconst 1, 1) := dk_4 (dk_at dksX0_skyline_0 2 rfl rfl)
theorem dX0_skyline_3 : decode cX0_skyline 3 = .ok (.invokestatic 67, 3) := dk_184 0 67 (dk_at dksX0_skyline_0 3 rfl rfl)
theorem dX0_skyline_6 : decode cX0_skyline 6 = .ok (.ifCond .ne 5, 3) := dk_154 0 5 (dk_at dksX0_skyline_0 6 rfl rfl)
theorem dX0_skyline_9 : decode cX0_skyline 9 = .ok (.iconst (-1), 1) := dk_2 (dk_at dksX0_skyline_0 9 rfl rfl)
theorem dX0_skyline_10 : decode cX0_skyline 10 = .ok (.ireturn, 1) := dk_172 (dk_at dksX0_skyline_0 10 rfl rfl)
theorem dX0_skyline_11 : decode cX0_skyline 11 = .ok (.iload_n 1, 1) := dk_27 (dk_at dksX0_skyline_0 11 rfl rfl)
theorem dX0_skyline_12 : decode cX0_skyline 12 = .ok (.iconst 1, 1) := dk_4 (dk_at dksX0_skyline_0 12 rfl rfl)
theorem dX0_skyline_13 : decode cX0_skyline 13 = .ok (.if_icmp .ne 8, 3) := dk_160 0 8 (dk_at dksX0_skyline_0 13 rfl rfl)
theorem dX0_skyline_16 : decode cX0_skyline 16 = .ok (.aload_n 0, 1) := dk_42 (dk_at dksX0_skyline_0 16 rfl rfl)
theorem dX0_skyline_17 : decode cX0_skyline 17 = .ok (.invokevirtual 258, 3) := dk_182 1 2 (dk_at dksX0_skyline_0 17 rfl rfl)
theorem dX0_skyline_20 : decode cX0_skyline 20 = .ok (.ireturn, 1) := dk_172 (dk_at dksX0_skyline_0 20 rfl rfl)
theorem dX0_skyline_21 : decode cX0_skyline 21 = .ok (.iconst 0, 1) := dk_3 (dk_at dksX0_skyline_0 21 rfl rfl)
theorem dX0_skyline_22 : decode cX0_skyline 22 = .ok (.istore_n 2, 1) := dk_61 (dk_at dksX0_skyline_0 22 rfl rfl)
theorem dX0_skyline_23 : decode cX0_skyline 23 = .ok (.iconst (-1), 1) := dk_2 (dk_at dksX0_skyline_0 23 rfl rfl)
theorem dX0_skyline_24 : decode cX0_skyline 24 = .ok (.istore_n 3, 1) := dk_62 (dk_at dksX0_skyline_1 0 rfl rfl)
theorem dX0_skyline_25 : decode cX0_skyline 25 = .ok (.iconst 0, 1) := dk_3 (dk_at dksX0_skyline_1 1 rfl rfl)
theorem dX0_skyline_26 : decode cX0_skyline 26 = .ok (.istore 4, 2) := dk_54 4 (dk_at dksX0_skyline_1 2 rfl rfl)
theorem dX0_skyline_28 : decode cX0_skyline 28 = .ok (.iload 4, 2) := dk_21 4 (dk_at dksX0_skyline_1 4 rfl rfl)
theorem dX0_skyline_30 : decode cX0_skyline 30 = .ok (.aload_n 0, 1) := dk_42 (dk_at dksX0_skyline_1 6 rfl rfl)
theorem dX0_skyline_31 : decode cX0_skyline 31 = .ok (.getfield 63, 3) := dk_180 0 63 (dk_at dksX0_skyline_1 7 rfl rfl)
theorem dX0_skyline_34 : decode cX0_skyline 34 = .ok (.if_icmp .ge 44, 3) := dk_162 0 44 (dk_at dksX0_skyline_1 10 rfl rfl)
theorem dX0_skyline_37 : decode cX0_skyline 37 = .ok (.aload_n 0, 1) := dk_42 (dk_at dksX0_skyline_1 13 rfl rfl)
theorem dX0_skyline_38 : decode cX0_skyline 38 = .ok (.iload 4, 2) := dk_21 4 (dk_at dksX0_skyline_1 14 rfl rfl)
theorem dX0_skyline_40 : decode cX0_skyline 40 = .ok (.aload_n 0, 1) := dk_42 (dk_at dksX0_skyline_1 16 rfl rfl)
theorem dX0_skyline_41 : decode cX0_skyline 41 = .ok (.getfield 78, 3) := dk_180 0 78 (dk_at dksX0_skyline_1 17 rfl rfl)
theorem dX0_skyline_44 : decode cX0_skyline 44 = .ok (.invokevirtual 242, 3) := dk_182 0 242 (dk_at dksX0_skyline_1 20 rfl rfl)
theorem dX0_skyline_47 : decode cX0_skyline 47 = .ok (.iload_n 3, 1) := dk_29 (dk_at dksX0_skyline_1 23 rfl rfl)
theorem dX0_skyline_48 : decode cX0_skyline 48 = .ok (.if_icmp .gt 6, 3) := dk_163 0 6 (dk_at dksX0_skyline_2 0 rfl rfl)
theorem dX0_skyline_51 : decode cX0_skyline 51 = .ok (.goto 21, 3) := dk_167 0 21 (dk_at dksX0_skyline_2 3 rfl rfl)
theorem dX0_skyline_54 : decode cX0_skyline 54 = .ok (.aload_n 0, 1) := dk_42 (dk_at dksX0_skyline_2 6 rfl rfl)
theorem dX0_skyline_55 : decode cX0_skyline 55 = .ok (.iload 4, 2) := dk_21 4 (dk_at dksX0_skyline_2 7 rfl rfl)
theorem dX0_skyline_57 : decode cX0_skyline 57 = .ok (.aload_n 0, 1) := dk_42 (dk_at dksX0_skyline_2 9 rfl rfl)
theorem dX0_skyline_58 : decode cX0_skyline 58 = .ok (.getfield 78, 3) := dk_180 0 78 (dk_at dksX0_skyline_2 10 rfl rfl)
theorem dX0_skyline_61 : decode cX0_skyline 61 = .ok (.invokevirtual 242, 3) := dk_182 0 242 (dk_at dksX0_skyline_2 13 rfl rfl)
theorem dX0_skyline_64 : decode cX0_skyline 64 = .ok (.istore_n 3, 1) := dk_62 (dk_at dksX0_skyline_2 16 rfl rfl)
theorem dX0_skyline_65 : decode cX0_skyline 65 = .ok (.iload_n 2, 1) := dk_28 (dk_at dksX0_skyline_2 17 rfl rfl)
theorem dX0_skyline_66 : decode cX0_skyline 66 = .ok (.iconst 1, 1) := dk_4 (dk_at dksX0_skyline_2 18 rfl rfl)
theorem dX0_skyline_67 : decode cX0_skyline 67 = .ok (.iload 4, 2) := dk_21 4 (dk_at dksX0_skyline_2 19 rfl rfl)
theorem dX0_skyline_69 : decode cX0_skyline 69 = .ok (.ishl, 1) := dk_120 (dk_at dksX0_skyline_2 21 rfl rfl)
theorem dX0_skyline_70 : decode cX0_skyline 70 = .ok (.ior, 1) := dk_128 (dk_at dksX0_skyline_2 22 rfl rfl)
theorem dX0_skyline_71 : decode cX0_skyline 71 = .ok (.istore_n 2, 1) := dk_61 (dk_at dksX0_skyline_2 23 rfl rfl)
theorem dX0_skyline_72 : decode cX0_skyline 72 = .ok (.iinc 4 1, 3) := dk_132 4 1 (dk_at dksX0_skyline_3 0 rfl rfl)
theorem dX0_skyline_75 : decode cX0_skyline 75 = .ok (.goto (-47), 3) := dk_167 255 209 (dk_at dksX0_skyline_3 3 rfl rfl)
theorem dX0_skyline_78 : decode cX0_skyline 78 = .ok (.iload_n 2, 1) := dk_28 (dk_at dksX0_skyline_3 6 rfl rfl)
theorem dX0_skyline_79 : decode cX0_skyline 79 = .ok (.ireturn, 1) := dk_172 (dk_at dksX0_skyline_3 7 rfl rfl)
def dkwX0_tallest_2 : List UInt8 := [172]
abbrev dktX0_tallest_2 : List UInt8 := dkwX0_tallest_2 ++ []
def dkwX0_tallest_1 : List UInt8 := [182, 0, 242, 42, 27, 42, 180, 0, 78, 182, 0, 242, 164, 0, 5, 28, 60, 132, 2, 1, 167, 255, 218, 27]
abbrev dktX0_tallest_1 : List UInt8 := dkwX0_tallest_1 ++ dktX0_tallest_2
def dkwX0_tallest_0 : List UInt8 := [16, 254, 60, 3, 61, 28, 42, 180, 0, 63, 162, 0, 36, 27, 155, 0, 24, 42, 28, 42, 180, 0, 78]
abbrev dktX0_tallest_0 : List UInt8 := dkwX0_tallest_0 ++ dktX0_tallest_1
theorem dksX0_tallest_0 : cX0_tallest.data.toList.drop 0 = dktX0_tallest_0 := by decide +kernel
theorem dksX0_tallest_1 : cX0_tallest.data.toList.drop 23 = dktX0_tallest_1 := dk_seg dksX0_tallest_0 23 rfl rfl
theorem dksX0_tallest_2 : cX0_tallest.data.toList.drop 47 = dktX0_tallest_2 := dk_seg dksX0_tallest_1 24 rfl rfl
theorem dX0_tallest_0 : decode cX0_tallest 0 = .ok (.bipush (-2), 2) := dk_16 254 (dk_at dksX0_tallest_0 0 rfl rfl)
theorem dX0_tallest_2 : decode cX0_tallest 2 = .ok (.istore_n 1, 1) := dk_60 (dk_at dksX0_tallest_0 2 rfl rfl)
theorem dX0_tallest_3 : decode cX0_tallest 3 = .ok (.iconst 0, 1) := dk_3 (dk_at dksX0_tallest_0 3 rfl rfl)
theorem dX0_tallest_4 : decode cX0_tallest 4 = .ok (.istore_n 2, 1) := dk_61 (dk_at dksX0_tallest_0 4 rfl rfl)
theorem dX0_tallest_5 : decode cX0_tallest 5 = .ok (.iload_n 2, 1) := dk_28 (dk_at dksX0_tallest_0 5 rfl rfl)
theorem dX0_tallest_6 : decode cX0_tallest 6 = .ok (.aload_n 0, 1) := dk_42 (dk_at dksX0_tallest_0 6 rfl rfl)
theorem dX0_tallest_7 : decode cX0_tallest 7 = .ok (.getfield 63, 3) := dk_180 0 63 (dk_at dksX0_tallest_0 7 rfl rfl)
theorem dX0_tallest_10 : decode cX0_tallest 10 = .ok (.if_icmp .ge 36, 3) := dk_162 0 36 (dk_at dksX0_tallest_0 10 rfl rfl)
theorem dX0_tallest_13 : decode cX0_tallest 13 = .ok (.iload_n 1, 1) := dk_27 (dk_at dksX0_tallest_0 13 rfl rfl)
theorem dX0_tallest_14 : decode cX0_tallest 14 = .ok (.ifCond .lt 24, 3) := dk_155 0 24 (dk_at dksX0_tallest_0 14 rfl rfl)
theorem dX0_tallest_17 : decode cX0_tallest 17 = .ok (.aload_n 0, 1) := dk_42 (dk_at dksX0_tallest_0 17 rfl rfl)
theorem dX0_tallest_18 : decode cX0_tallest 18 = .ok (.iload_n 2, 1) := dk_28 (dk_at dksX0_tallest_0 18 rfl rfl)
theorem dX0_tallest_19 : decode cX0_tallest 19 = .ok (.aload_n 0, 1) := dk_42 (dk_at dksX0_tallest_0 19 rfl rfl)
theorem dX0_tallest_20 : decode cX0_tallest 20 = .ok (.getfield 78, 3) := dk_180 0 78 (dk_at dksX0_tallest_0 20 rfl rfl)
theorem dX0_tallest_23 : decode cX0_tallest 23 = .ok (.invokevirtual 242, 3) := dk_182 0 242 (dk_at dksX0_tallest_1 0 rfl rfl)
theorem dX0_tallest_26 : decode cX0_tallest 26 = .ok (.aload_n 0, 1) := dk_42 (dk_at dksX0_tallest_1 3 rfl rfl)
theorem dX0_tallest_27 : decode cX0_tallest 27 = .ok (.iload_n 1, 1) := dk_27 (dk_at dksX0_tallest_1 4 rfl rfl)
theorem dX0_tallest_28 : decode cX0_tallest 28 = .ok (.aload_n 0, 1) := dk_42 (dk_at dksX0_tallest_1 5 rfl rfl)
theorem dX0_tallest_29 : decode cX0_tallest 29 = .ok (.getfield 78, 3) := dk_180 0 78 (dk_at dksX0_tallest_1 6 rfl rfl)
theorem dX0_tallest_32 : decode cX0_tallest 32 = .ok (.invokevirtual 242, 3) := dk_182 0 242 (dk_at dksX0_tallest_1 9 rfl rfl)
theorem dX0_tallest_35 : decode cX0_tallest 35 = .ok (.if_icmp .le 5, 3) := dk_164 0 5 (dk_at dksX0_tallest_1 12 rfl rfl)
theorem dX0_tallest_38 : decode cX0_tallest 38 = .ok (.iload_n 2, 1) := dk_28 (dk_at dksX0_tallest_1 15 rfl rfl)
theorem dX0_tallest_39 : decode cX0_tallest 39 = .ok (.istore_n 1, 1) := dk_60 (dk_at dksX0_tallest_1 16 rfl rfl)
theorem dX0_tallest_40 : decode cX0_tallest 40 = .ok (.iinc 2 1, 3) := dk_132 2 1 (dk_at dksX0_tallest_1 17 rfl rfl)
theorem dX0_tallest_43 : decode cX0_tallest 43 = .ok (.goto (-38), 3) := dk_167 255 218 (dk_at dksX0_tallest_1 20 rfl rfl)
theorem dX0_tallest_46 : decode cX0_tallest 46 = .ok (.iload_n 1, 1) := dk_27 (dk_at dksX0_tallest_1 23 rfl rfl)
theorem dX0_tallest_47 : decode cX0_tallest 47 = .ok (.ireturn, 1) := dk_172 (dk_at dksX0_tallest_2 0 rfl rfl)
def dkwX0_view_4 : List UInt8 := [167, 255, 202, 21, 5, 172]
abbrev dktX0_view_4 : List UInt8 := dkwX0_view_4 ++ []
def dkwX0_view_3 : List UInt8 := [167, 0, 18, 42, 21, 6, 42, 180, 0, 78, 182, 0, 242, 54, 4, 132, 5, 1, 21, 6, 29, 96, 54, 6]
abbrev dktX0_view_3 : List UInt8 := dkwX0_view_3 ++ dktX0_view_4
def dkwX0_view_2 : List UInt8 := [100, 184, 0, 67, 153, 0, 45, 42, 21, 6, 42, 180, 0, 78, 182, 0, 242, 21, 4, 163, 0, 6]
abbrev dktX0_view_2 : List UInt8 := dkwX0_view_2 ++ dktX0_view_3
def dkwX0_view_1 : List UInt8 := [167, 0, 4, 2, 62, 2, 54, 4, 3, 54, 5, 27, 29, 96, 54, 6, 21, 6, 3, 42, 180, 0, 63, 4]
abbrev dktX0_view_1 : List UInt8 := dkwX0_view_1 ++ dktX0_view_2
def dkwX0_view_0 : List UInt8 := [42, 27, 182, 0, 74, 153, 0, 12, 28, 3, 4, 184, 0, 67, 154, 0, 5, 2, 172, 28, 154, 0, 7, 4]
abbrev dktX0_view_0 : List UInt8 := dkwX0_view_0 ++ dktX0_view_1
theorem dksX0_view_0 : cX0_view.data.toList.drop 0 = dktX0_view_0 := by decide +kernel
theorem dksX0_view_1 : cX0_view.data.toList.drop 24 = dktX0_view_1 := dk_seg dksX0_view_0 24 rfl rfl
theorem dksX0_view_2 : cX0_view.data.toList.drop 48 = dktX0_view_2 := dk_seg dksX0_view_1 24 rfl rfl
theorem dksX0_view_3 : cX0_view.data.toList.drop 70 = dktX0_view_3 := dk_seg dksX0_view_2 22 rfl rfl
theorem dksX0_view_4 : cX0_view.data.toList.drop 94 = dktX0_view_4 := dk_seg dksX0_view_3 24 rfl rfl
theorem dX0_view_0 : decode cX0_view 0 = .ok (.aload_n 0, 1) := dk_42 (dk_at dksX0_view_0 0 rfl rfl)
theorem dX0_view_1 : decode cX0_view 1 = .ok (.iload_n 1, 1) := dk_27 (dk_at dksX0_view_0 1 rfl rfl)
theorem dX0_view_2 : decode cX0_view 2 = .ok (.invokevirtual 74, 3) := dk_182 0 74 (dk_at dksX0_view_0 2 rfl rfl)
theorem dX0_view_5 : decode cX0_view 5 = .ok (.ifCond .eq 12, 3) := dk_153 0 12 (dk_at dksX0_view_0 5 rfl rfl)
theorem dX0_view_8 : decode cX0_view 8 = .ok (.iload_n 2, 1) := dk_28 (dk_at dksX0_view_0 8 rfl rfl)
theorem dX0_view_9 : decode cX0_view 9 = .ok (.iconst 0, 1) := dk_3 (dk_at dksX0_view_0 9 rfl rfl)
theorem dX0_view_10 : decode cX0_view 10 = .ok (.iconst 1, 1) := dk_4 (dk_at dksX0_view_0 10 rfl rfl)
theorem dX0_view_11 : decode cX0_view 11 = .ok (.invokestatic 67, 3) := dk_184 0 67 (dk_at dksX0_view_0 11 rfl rfl)
theorem dX0_view_14 : decode cX0_view 14 = .ok (.ifCond .ne 5, 3) := dk_154 0 5 (dk_at dksX0_view_0 14 rfl rfl)
theorem dX0_view_17 : decode cX0_view 17 = .ok (.iconst (-1), 1) := dk_2 (dk_at dksX0_view_0 17 rfl rfl)
theorem dX0_view_18 : decode cX0_view 18 = .ok (.ireturn, 1) := dk_172 (dk_at dksX0_view_0 18 rfl rfl)
theorem dX0_view_19 : decode cX0_view 19 = .ok (.iload_n 2, 1) := dk_28 (dk_at dksX0_view_0 19 rfl rfl)
theorem dX0_view_20 : decode cX0_view 20 = .ok (.ifCond .ne 7, 3) := dk_154 0 7 (dk_at dksX0_view_0 20 rfl rfl)
theorem dX0_view_23 : decode cX0_view 23 = .ok (.iconst 1, 1) := dk_4 (dk_at dksX0_view_0 23 rfl rfl)
theorem dX0_view_24 : decode cX0_view 24 = .ok (.goto 4, 3) := dk_167 0 4 (dk_at dksX0_view_1 0 rfl rfl)
theorem dX0_view_27 : decode cX0_view 27 = .ok (.iconst (-1), 1) := dk_2 (dk_at dksX0_view_1 3 rfl rfl)
theorem dX0_view_28 : decode cX0_view 28 = .ok (.istore_n 3, 1) := dk_62 (dk_at dksX0_view_1 4 rfl rfl)
theorem dX0_view_29 : decode cX0_view 29 = .ok (.iconst (-1), 1) := dk_2 (dk_at dksX0_view_1 5 rfl rfl)
theorem dX0_view_30 : decode cX0_view 30 = .ok (.istore 4, 2) := dk_54 4 (dk_at dksX0_view_1 6 rfl rfl)
theorem dX0_view_32 : decode cX0_view 32 = .ok (.iconst 0, 1) := dk_3 (dk_at dksX0_view_1 8 rfl rfl)
theorem dX0_view_33 : decode cX0_view 33 = .ok (.istore 5, 2) := dk_54 5 (dk_at dksX0_view_1 9 rfl rfl)
theorem dX0_view_35 : decode cX0_view 35 = .ok (.iload_n 1, 1) := dk_27 (dk_at dksX0_view_1 11 rfl rfl)
theorem dX0_view_36 : decode cX0_view 36 = .ok (.iload_n 3, 1) := dk_29 (dk_at dksX0_view_1 12 rfl rfl)
theorem dX0_view_37 : decode cX0_view 37 = .ok (.iadd, 1) := dk_96 (dk_at dksX0_view_1 13 rfl rfl)
theorem dX0_view_38 : decode cX0_view 38 = .ok (.istore 6, 2) := dk_54 6 (dk_at dksX0_view_1 14 rfl rfl)
theorem dX0_view_40 : decode cX0_view 40 = .ok (.iload 6, 2) := dk_21 6 (dk_at dksX0_view_1 16 rfl rfl)
theorem dX0_view_42 : decode cX0_view 42 = .ok (.iconst 0, 1) := dk_3 (dk_at dksX0_view_1 18 rfl rfl)
theorem dX0_view_43 : decode cX0_view 43 = .ok (.aload_n 0, 1) := dk_42 (dk_at dksX0_view_1 19 rfl rfl)
theorem dX0_view_44 : decode cX0_view 44 = .ok (.getfield 63, 3) := dk_180 0 63 (dk_at dksX0_view_1 20 rfl rfl)
theorem dX0_view_47 : decode cX0_view 47 = .ok (.iconst 1, 1) := dk_4 (dk_at dksX0_view_1 23 rfl rfl)
theorem dX0_view_48 : decode cX0_view 48 = .ok (.isub, 1) := dk_100 (dk_at dksX0_view_2 0 rfl rfl)
theorem dX0_view_49 : decode cX0_view 49 = .ok (.invokestatic 67, 3) := dk_184 0 67 (dk_at dksX0_view_2 1 rfl rfl)
theorem dX0_view_52 : decode cX0_view 52 = .ok (.ifCond .eq 45, 3) := dk_153 0 45 (dk_at dksX0_view_2 4 rfl rfl)
theorem dX0_view_55 : decode cX0_view 55 = .ok (.aload_n 0, 1) := dk_42 (dk_at dksX0_view_2 7 rfl rfl)
theorem dX0_view_56 : decode cX0_view 56 = .ok (.iload 6, 2) := dk_21 6 (dk_at dksX0_view_2 8 rfl rfl)
theorem dX0_view_58 : decode cX0_view 58 = .ok (.aload_n 0, 1) := dk_42 (dk_at dksX0_view_2 10 rfl rfl)
theorem dX0_view_59 : decode cX0_view 59 = .ok (.getfield 78, 3) := dk_180 0 78 (dk_at dksX0_view_2 11 rfl rfl)
theorem dX0_view_62 : decode cX0_view 62 = .ok (.invokevirtual 242, 3) := dk_182 0 242 (dk_at dksX0_view_2 14 rfl rfl)
theorem dX0_view_65 : decode cX0_view 65 = .ok (.iload 4, 2) := dk_21 4 (dk_at dksX0_view_2 17 rfl rfl)
theorem dX0_view_67 : decode cX0_view 67 = .ok (.if_icmp .gt 6, 3) := dk_163 0 6 (dk_at dksX0_view_2 19 rfl rfl)
theorem dX0_view_70 : decode cX0_view 70 = .ok (.goto 18, 3) := dk_167 0 18 (dk_at dksX0_view_3 0 rfl rfl)
theorem dX0_view_73 : decode cX0_view 73 = .ok (.aload_n 0, 1) := dk_42 (dk_at dksX0_view_3 3 rfl rfl)
theorem dX0_view_74 : decode cX0_view 74 = .ok (.iload 6, 2) := dk_21 6 (dk_at dksX0_view_3 4 rfl rfl)
theorem dX0_view_76 : decode cX0_view 76 = .ok (.aload_n 0, 1) := dk_42 (dk_at dksX0_view_3 6 rfl rfl)
theorem dX0_view_77 : decode cX0_view 77 = .ok (.getfield 78, 3) := dk_180 0 78 (dk_at dksX0_view_3 7 rfl rfl)
theorem dX0_view_80 : decode cX0_view 80 = .ok (.invokevirtual 242, 3) := dk_182 0 242 (dk_at dksX0_view_3 10 rfl rfl)
theorem dX0_view_83 : decode cX0_view 83 = .ok (.istore 4, 2) := dk_54 4 (dk_at dksX0_view_3 13 rfl rfl)
theorem dX0_view_85 : decode cX0_view 85 = .ok (.iinc 5 1, 3) := dk_132 5 1 (dk_at dksX0_view_3 15 rfl rfl)
theorem dX0_view_88 : decode cX0_view 88 = .ok (.iload 6, 2) := dk_21 6 (dk_at dksX0_view_3 18 rfl rfl)
theorem dX0_view_90 : decode cX0_view 90 = .ok (.iload_n 3, 1) := dk_29 (dk_at dksX0_view_3 20 rfl rfl)
theorem dX0_view_91 : decode cX0_view 91 = .ok (.iadd, 1) := dk_96 (dk_at dksX0_view_3 21 rfl rfl)
theorem dX0_view_92 : decode cX0_view 92 = .ok (.istore 6, 2) := dk_54 6 (dk_at dksX0_view_3 22 rfl rfl)
theorem dX0_view_94 : decode cX0_view 94 = .ok (.goto (-54), 3) := dk_167 255 202 (dk_at dksX0_view_4 0 rfl rfl)
theorem dX0_view_97 : decode cX0_view 97 = .ok (.iload 5, 2) := dk_21 5 (dk_at dksX0_view_4 3 rfl rfl)
theorem dX0_view_99 : decode cX0_view 99 = .ok (.ireturn, 1) := dk_172 (dk_at dksX0_view_4 5 rfl rfl)
def dkwX0_what_3 : List UInt8 := [112, 28, 16, 100, 108, 29, 16, 100, 108, 29, 16, 100, 112, 182, 1, 8, 172]
abbrev dktX0_what_3 : List UInt8 := dkwX0_what_3 ++ []
def dkwX0_what_2 : List UInt8 := [164, 0, 5, 2, 172, 42, 180, 0, 71, 16, 14, 160, 0, 8, 16, 254, 167, 0, 24, 42, 27, 28, 16, 100]
abbrev dktX0_what_2 : List UInt8 := dkwX0_what_2 ++ dktX0_what_3
def dkwX0_what_1 : List UInt8 := [153, 0, 25, 29, 155, 0, 21, 29, 16, 100, 108, 16, 9, 163, 0, 12, 29, 16, 100, 112, 16, 40]
abbrev dktX0_what_1 : List UInt8 := dkwX0_what_1 ++ dktX0_what_2
def dkwX0_what_0 : List UInt8 := [42, 27, 182, 0, 74, 153, 0, 44, 28, 155, 0, 40, 28, 16, 100, 108, 5, 163, 0, 32, 28, 16, 100, 112]
abbrev dktX0_what_0 : List UInt8 := dkwX0_what_0 ++ dktX0_what_1
theorem dksX0_what_0 : cX0_what.data.toList.drop 0 = dktX0_what_0 := by decide +kernel
theorem dksX0_what_1 : cX0_what.data.toList.drop 24 = dktX0_what_1 := dk_seg dksX0_what_0 24 rfl rfl
theorem dksX0_what_2 : cX0_what.data.toList.drop 46 = dktX0_what_2 := dk_seg dksX0_what_1 22 rfl rfl
theorem dksX0_what_3 : cX0_what.data.toList.drop 70 = dktX0_what_3 := dk_seg dksX0_what_2 24 rfl rfl
theorem dX0_what_0 : decode cX0_what 0 = .ok (.aload_n 0, 1) := dk_42 (dk_at dksX0_what_0 0 rfl rfl)
theorem dX0_what_1 : decode cX0_what 1 = .ok (.iload_n 1, 1) := dk_27 (dk_at dksX0_what_0 1 rfl rfl)
theorem dX0_what_2 : decode cX0_what 2 = .ok (.invokevirtual 74, 3) := dk_182 0 74 (dk_at dksX0_what_0 2 rfl rfl)
theorem dX0_what_5 : decode cX0_what 5 = .ok (.ifCond .eq 44, 3) := dk_153 0 44 (dk_at dksX0_what_0 5 rfl rfl)
theorem dX0_what_8 : decode cX0_what 8 = .ok (.iload_n 2, 1) := dk_28 (dk_at dksX0_what_0 8 rfl rfl)
theorem dX0_what_9 : decode cX0_what 9 = .ok (.ifCond .lt 40, 3) := dk_155 0 40 (dk_at dksX0_what_0 9 rfl rfl)
theorem dX0_what_12 : decode cX0_what 12 = .ok (.iload_n 2, 1) := dk_28 (dk_at dksX0_what_0 12 rfl rfl)
theorem dX0_what_13 : decode cX0_what 13 = .ok (.bipush 100, 2) := dk_16 100 (dk_at dksX0_what_0 13 rfl rfl)
theorem dX0_what_15 : decode cX0_what 15 = .ok (.idiv, 1) := dk_108 (dk_at dksX0_what_0 15 rfl rfl)
theorem dX0_what_16 : decode cX0_what 16 = .ok (.iconst 2, 1) := dk_5 (dk_at dksX0_what_0 16 rfl rfl)
theorem dX0_what_17 : decode cX0_what 17 = .ok (.if_icmp .gt 32, 3) := dk_163 0 32 (dk_at dksX0_what_0 17 rfl rfl)
theorem dX0_what_20 : decode cX0_what 20 = .ok (.iload_n 2, 1) := dk_28 (dk_at dksX0_what_0 20 rfl rfl)
theorem dX0_what_21 : decode cX0_what 21 = .ok (.bipush 100, 2) := dk_16 100 (dk_at dksX0_what_0 21 rfl rfl)
theorem dX0_what_23 : decode cX0_what 23 = .ok (.irem, 1) := dk_112 (dk_at dksX0_what_0 23 rfl rfl)
theorem dX0_what_24 : decode cX0_what 24 = .ok (.ifCond .eq 25, 3) := dk_153 0 25 (dk_at dksX0_what_1 0 rfl rfl)
theorem dX0_what_27 : decode cX0_what 27 = .ok (.iload_n 3, 1) := dk_29 (dk_at dksX0_what_1 3 rfl rfl)
theorem dX0_what_28 : decode cX0_what 28 = .ok (.ifCond .lt 21, 3) := dk_155 0 21 (dk_at dksX0_what_1 4 rfl rfl)
theorem dX0_what_31 : decode cX0_what 31 = .ok (.iload_n 3, 1) := dk_29 (dk_at dksX0_what_1 7 rfl rfl)
theorem dX0_what_32 : decode cX0_what 32 = .ok (.bipush 100, 2) := dk_16 100 (dk_at dksX0_what_1 8 rfl rfl)
theorem dX0_what_34 : decode cX0_what 34 = .ok (.idiv, 1) := dk_108 (dk_at dksX0_what_1 10 rfl rfl)
theorem dX0_what_35 : decode cX0_what 35 = .ok (.bipush 9, 2) := dk_16 9 (dk_at dksX0_what_1 11 rfl rfl)
theorem dX0_what_37 : decode cX0_what 37 = .ok (.if_icmp .gt 12, 3) := dk_163 0 12 (dk_at dksX0_what_1 13 rfl rfl)
theorem dX0_what_40 : decode cX0_what 40 = .ok (.iload_n 3, 1) := dk_29 (dk_at dksX0_what_1 16 rfl rfl)
theorem dX0_what_41 : decode cX0_what 41 = .ok (.bipush 100, 2) := dk_16 100 (dk_at dksX0_what_1 17 rfl rfl)
theorem dX0_what_43 : decode cX0_what 43 = .ok (.irem, 1) := dk_112 (dk_at dksX0_what_1 19 rfl rfl)
theorem dX0_what_44 : decode cX0_what 44 = .ok (.bipush 40, 2) := dk_16 40 (dk_at dksX0_what_1 20 rfl rfl)
theorem dX0_what_46 : decode cX0_what 46 = .ok (.if_icmp .le 5, 3) := dk_164 0 5 (dk_at dksX0_what_2 0 rfl rfl)
theorem dX0_what_49 : decode cX0_what 49 = .ok (.iconst (-1), 1) := dk_2 (dk_at dksX0_what_2 3 rfl rfl)
theorem dX0_what_50 : decode cX0_what 50 = .ok (.ireturn, 1) := dk_172 (dk_at dksX0_what_2 4 rfl rfl)
theorem dX0_what_51 : decode cX0_what 51 = .ok (.aload_n 0, 1) := dk_42 (dk_at dksX0_what_2 5 rfl rfl)
theorem dX0_what_52 : decode cX0_what 52 = .ok (.getfield 71, 3) := dk_180 0 71 (dk_at dksX0_what_2 6 rfl rfl)
theorem dX0_what_55 : decode cX0_what 55 = .ok (.bipush 14, 2) := dk_16 14 (dk_at dksX0_what_2 9 rfl rfl)
theorem dX0_what_57 : decode cX0_what 57 = .ok (.if_icmp .ne 8, 3) := dk_160 0 8 (dk_at dksX0_what_2 11 rfl rfl)
theorem dX0_what_60 : decode cX0_what 60 = .ok (.bipush (-2), 2) := dk_16 254 (dk_at dksX0_what_2 14 rfl rfl)
theorem dX0_what_62 : decode cX0_what 62 = .ok (.goto 24, 3) := dk_167 0 24 (dk_at dksX0_what_2 16 rfl rfl)
theorem dX0_what_65 : decode cX0_what 65 = .ok (.aload_n 0, 1) := dk_42 (dk_at dksX0_what_2 19 rfl rfl)
theorem dX0_what_66 : decode cX0_what 66 = .ok (.iload_n 1, 1) := dk_27 (dk_at dksX0_what_2 20 rfl rfl)
theorem dX0_what_67 : decode cX0_what 67 = .ok (.iload_n 2, 1) := dk_28 (dk_at dksX0_what_2 21 rfl rfl)
theorem dX0_what_68 : decode cX0_what 68 = .ok (.bipush 100, 2) := dk_16 100 (dk_at dksX0_what_2 22 rfl rfl)
theorem dX0_what_70 : decode cX0_what 70 = .ok (.irem, 1) := dk_112 (dk_at dksX0_what_3 0 rfl rfl)
theorem dX0_what_71 : decode cX0_what 71 = .ok (.iload_n 2, 1) := dk_28 (dk_at dksX0_what_3 1 rfl rfl)
theorem dX0_what_72 : decode cX0_what 72 = .ok (.bipush 100, 2) := dk_16 100 (dk_at dksX0_what_3 2 rfl rfl)
theorem dX0_what_74 : decode cX0_what 74 = .ok (.idiv, 1) := dk_108 (dk_at dksX0_what_3 4 rfl rfl)
theorem dX0_what_75 : decode cX0_what 75 = .ok (.iload_n 3, 1) := dk_29 (dk_at dksX0_what_3 5 rfl rfl)
theorem dX0_what_76 : decode cX0_what 76 = .ok (.bipush 100, 2) := dk_16 100 (dk_at dksX0_what_3 6 rfl rfl)
theorem dX0_what_78 : decode cX0_what 78 = .ok (.idiv, 1) := dk_108 (dk_at dksX0_what_3 8 rfl rfl)
theorem dX0_what_79 : decode cX0_what 79 = .ok (.iload_n 3, 1) := dk_29 (dk_at dksX0_what_3 9 rfl rfl)
theorem dX0_what_80 : decode cX0_what 80 = .ok (.bipush 100, 2) := dk_16 100 (dk_at dksX0_what_3 10 rfl rfl)
theorem dX0_what_82 : decode cX0_what 82 = .ok (.irem, 1) := dk_112 (dk_at dksX0_what_3 12 rfl rfl)
theorem dX0_what_83 : decode cX0_what 83 = .ok (.invokevirtual 264, 3) := dk_182 1 8 (dk_at dksX0_what_3 13 rfl rfl)
theorem dX0_what_86 : decode cX0_what 86 = .ok (.ireturn, 1) := dk_172 (dk_at dksX0_what_3 16 rfl rfl)
def dkwX0_leastWorth_3 : List UInt8 := [180, 0, 71, 4, 100, 181, 0, 71, 21, 7, 172]
abbrev dktX0_leastWorth_3 : List UInt8 := dkwX0_leastWorth_3 ++ []
def dkwX0_leastWorth_2 : List UInt8 := [42, 27, 21, 4, 21, 5, 182, 1, 5, 153, 0, 7, 21, 8, 54, 7, 132, 8, 1, 167, 255, 218, 42, 89]
abbrev dktX0_leastWorth_2 : List UInt8 := dkwX0_leastWorth_2 ++ dktX0_leastWorth_3
def dkwX0_leastWorth_1 : List UInt8 := [54, 7, 3, 54, 8, 21, 8, 16, 99, 163, 0, 37, 21, 7, 156, 0, 32, 25, 6, 21, 8, 181, 0, 116]
abbrev dktX0_leastWorth_1 : List UInt8 := dkwX0_leastWorth_1 ++ dktX0_leastWorth_2
def dkwX0_leastWorth_0 : List UInt8 := [42, 180, 0, 17, 42, 27, 2, 3, 29, 182, 0, 94, 50, 58, 6, 25, 6, 28, 181, 0, 122, 16, 254]
abbrev dktX0_leastWorth_0 : List UInt8 := dkwX0_leastWorth_0 ++ dktX0_leastWorth_1
theorem dksX0_leastWorth_0 : cX0_leastWorth.data.toList.drop 0 = dktX0_leastWorth_0 := by decide +kernel
theorem dksX0_leastWorth_1 : cX0_leastWorth.data.toList.drop 23 = dktX0_leastWorth_1 := dk_seg dksX0_leastWorth_0 23 rfl rfl
theorem dksX0_leastWorth_2 : cX0_leastWorth.data.toList.drop 47 = dktX0_leastWorth_2 := dk_seg dksX0_leastWorth_1 24 rfl rfl
theorem dksX0_leastWorth_3 : cX0_leastWorth.data.toList.drop 71 = dktX0_leastWorth_3 := dk_seg dksX0_leastWorth_2 24 rfl rfl
theorem dX0_leastWorth_0 : decode cX0_leastWorth 0 = .ok (.aload_n 0, 1) := dk_42 (dk_at dksX0_leastWorth_0 0 rfl rfl)
theorem dX0_leastWorth_1 : decode cX0_leastWorth 1 = .ok (.getfield 17, 3) := dk_180 0 17 (dk_at dksX0_leastWorth_0 1 rfl rfl)
theorem dX0_leastWorth_4 : decode cX0_leastWorth 4 = .ok (.aload_n 0, 1) := dk_42 (dk_at dksX0_leastWorth_0 4 rfl rfl)
theorem dX0_leastWorth_5 : decode cX0_leastWorth 5 = .ok (.iload_n 1, 1) := dk_27 (dk_at dksX0_leastWorth_0 5 rfl rfl)
theorem dX0_leastWorth_6 : decode cX0_leastWorth 6 = .ok (.iconst (-1), 1) := dk_2 (dk_at dksX0_leastWorth_0 6 rfl rfl)
theorem dX0_leastWorth_7 : decode cX0_leastWorth 7 = .ok (.iconst 0, 1) := dk_3 (dk_at dksX0_leastWorth_0 7 rfl rfl)
theorem dX0_leastWorth_8 : decode cX0_leastWorth 8 = .ok (.iload_n 3, 1) := dk_29 (dk_at dksX0_leastWorth_0 8 rfl rfl)
theorem dX0_leastWorth_9 : decode cX0_leastWorth 9 = .ok (.invokevirtual 94, 3) := dk_182 0 94 (dk_at dksX0_leastWorth_0 9 rfl rfl)
theorem dX0_leastWorth_12 : decode cX0_leastWorth 12 = .ok (.aaload, 1) := dk_50 (dk_at dksX0_leastWorth_0 12 rfl rfl)
theorem dX0_leastWorth_13 : decode cX0_leastWorth 13 = .ok (.astore 6, 2) := dk_58 6 (dk_at dksX0_leastWorth_0 13 rfl rfl)
theorem dX0_leastWorth_15 : decode cX0_leastWorth 15 = .ok (.aload 6, 2) := dk_25 6 (dk_at dksX0_leastWorth_0 15 rfl rfl)
theorem dX0_leastWorth_17 : decode cX0_leastWorth 17 = .ok (.iload_n 2, 1) := dk_28 (dk_at dksX0_leastWorth_0 17 rfl rfl)
theorem dX0_leastWorth_18 : decode cX0_leastWorth 18 = .ok (.putfield 122, 3) := dk_181 0 122 (dk_at dksX0_leastWorth_0 18 rfl rfl)
theorem dX0_leastWorth_21 : decode cX0_leastWorth 21 = .ok (.bipush (-2), 2) := dk_16 254 (dk_at dksX0_leastWorth_0 21 rfl rfl)
theorem dX0_leastWorth_23 : decode cX0_leastWorth 23 = .ok (.istore 7, 2) := dk_54 7 (dk_at dksX0_leastWorth_1 0 rfl rfl)
theorem dX0_leastWorth_25 : decode cX0_leastWorth 25 = .ok (.iconst 0, 1) := dk_3 (dk_at dksX0_leastWorth_1 2 rfl rfl)
theorem dX0_leastWorth_26 : decode cX0_leastWorth 26 = .ok (.istore 8, 2) := dk_54 8 (dk_at dksX0_leastWorth_1 3 rfl rfl)
theorem dX0_leastWorth_28 : decode cX0_leastWorth 28 = .ok (.iload 8, 2) := dk_21 8 (dk_at dksX0_leastWorth_1 5 rfl rfl)
theorem dX0_leastWorth_30 : decode cX0_leastWorth 30 = .ok (.bipush 99, 2) := dk_16 99 (dk_at dksX0_leastWorth_1 7 rfl rfl)
theorem dX0_leastWorth_32 : decode cX0_leastWorth 32 = .ok (.if_icmp .gt 37, 3) := dk_163 0 37 (dk_at dksX0_leastWorth_1 9 rfl rfl)
theorem dX0_leastWorth_35 : decode cX0_leastWorth 35 = .ok (.iload 7, 2) := dk_21 7 (dk_at dksX0_leastWorth_1 12 rfl rfl)
theorem dX0_leastWorth_37 : decode cX0_leastWorth 37 = .ok (.ifCond .ge 32, 3) := dk_156 0 32 (dk_at dksX0_leastWorth_1 14 rfl rfl)
theorem dX0_leastWorth_40 : decode cX0_leastWorth 40 = .ok (.aload 6, 2) := dk_25 6 (dk_at dksX0_leastWorth_1 17 rfl rfl)
theorem dX0_leastWorth_42 : decode cX0_leastWorth 42 = .ok (.iload 8, 2) := dk_21 8 (dk_at dksX0_leastWorth_1 19 rfl rfl)
theorem dX0_leastWorth_44 : decode cX0_leastWorth 44 = .ok (.putfield 116, 3) := dk_181 0 116 (dk_at dksX0_leastWorth_1 21 rfl rfl)
theorem dX0_leastWorth_47 : decode cX0_leastWorth 47 = .ok (.aload_n 0, 1) := dk_42 (dk_at dksX0_leastWorth_2 0 rfl rfl)
theorem dX0_leastWorth_48 : decode cX0_leastWorth 48 = .ok (.iload_n 1, 1) := dk_27 (dk_at dksX0_leastWorth_2 1 rfl rfl)
theorem dX0_leastWorth_49 : decode cX0_leastWorth 49 = .ok (.iload 4, 2) := dk_21 4 (dk_at dksX0_leastWorth_2 2 rfl rfl)
theorem dX0_leastWorth_51 : decode cX0_leastWorth 51 = .ok (.iload 5, 2) := dk_21 5 (dk_at dksX0_leastWorth_2 4 rfl rfl)
theorem dX0_leastWorth_53 : decode cX0_leastWorth 53 = .ok (.invokevirtual 261, 3) := dk_182 1 5 (dk_at dksX0_leastWorth_2 6 rfl rfl)
theorem dX0_leastWorth_56 : decode cX0_leastWorth 56 = .ok (.ifCond .eq 7, 3) := dk_153 0 7 (dk_at dksX0_leastWorth_2 9 rfl rfl)
theorem dX0_leastWorth_59 : decode cX0_leastWorth 59 = .ok (.iload 8, 2) := dk_21 8 (dk_at dksX0_leastWorth_2 12 rfl rfl)
theorem dX0_leastWorth_61 : decode cX0_leastWorth 61 = .ok (.istore 7, 2) := dk_54 7 (dk_at dksX0_leastWorth_2 14 rfl rfl)
theorem dX0_leastWorth_63 : decode cX0_leastWorth 63 = .ok (.iinc 8 1, 3) := dk_132 8 1 (dk_at dksX0_leastWorth_2 16 rfl rfl)
theorem dX0_leastWorth_66 : decode cX0_leastWorth 66 = .ok (.goto (-38), 3) := dk_167 255 218 (dk_at dksX0_leastWorth_2 19 rfl rfl)
theorem dX0_leastWorth_69 : decode cX0_leastWorth 69 = .ok (.aload_n 0, 1) := dk_42 (dk_at dksX0_leastWorth_2 22 rfl rfl)
theorem dX0_leastWorth_70 : decode cX0_leastWorth 70 = .ok (.dup, 1) := dk_89 (dk_at dksX0_leastWorth_2 23 rfl rfl)
theorem dX0_leastWorth_71 : decode cX0_leastWorth 71 = .ok (.getfield 71, 3) := dk_180 0 71 (dk_at dksX0_leastWorth_3 0 rfl rfl)
theorem dX0_leastWorth_74 : decode cX0_leastWorth 74 = .ok (.iconst 1, 1) := dk_4 (dk_at dksX0_leastWorth_3 3 rfl rfl)
theorem dX0_leastWorth_75 : decode cX0_leastWorth 75 = .ok (.isub, 1) := dk_100 (dk_at dksX0_leastWorth_3 4 rfl rfl)
theorem dX0_leastWorth_76 : decode cX0_leastWorth 76 = .ok (.putfield 71, 3) := dk_181 0 71 (dk_at dksX0_leastWorth_3 5 rfl rfl)
theorem dX0_leastWorth_79 : decode cX0_leastWorth 79 = .ok (.iload 7, 2) := dk_21 7 (dk_at dksX0_leastWorth_3 8 rfl rfl)
theorem dX0_leastWorth_81 : decode cX0_leastWorth 81 = .ok (.ireturn, 1) := dk_172 (dk_at dksX0_leastWorth_3 10 rfl rfl)
def dkwX0_standsSo_1 : List UInt8 := [3, 172, 132, 4, 1, 167, 255, 230, 4, 172]
abbrev dktX0_standsSo_1 : List UInt8 := dkwX0_standsSo_1 ++ []
def dkwX0_standsSo_0 : List UInt8 := [3, 54, 4, 21, 4, 29, 163, 0, 26, 42, 27, 42, 21, 4, 182, 0, 248, 182, 0, 242, 28, 162, 0, 5]
abbrev dktX0_standsSo_0 : List UInt8 := dkwX0_standsSo_0 ++ dktX0_standsSo_1
theorem dksX0_standsSo_0 : cX0_standsSo.data.toList.drop 0 = dktX0_standsSo_0 := by decide +kernel
theorem dksX0_standsSo_1 : cX0_standsSo.data.toList.drop 24 = dktX0_standsSo_1 := dk_seg dksX0_standsSo_0 24 rfl rfl
theorem dX0_standsSo_0 : decode cX0_standsSo 0 = .ok (.iconst 0, 1) := dk_3 (dk_at dksX0_standsSo_0 0 rfl rfl)
theorem dX0_standsSo_1 : decode cX0_standsSo 1 = .ok (.istore 4, 2) := dk_54 4 (dk_at dksX0_standsSo_0 1 rfl rfl)
theorem dX0_standsSo_3 : decode cX0_standsSo 3 = .ok (.iload 4, 2) := dk_21 4 (dk_at dksX0_standsSo_0 3 rfl rfl)
theorem dX0_standsSo_5 : decode cX0_standsSo 5 = .ok (.iload_n 3, 1) := dk_29 (dk_at dksX0_standsSo_0 5 rfl rfl)
theorem dX0_standsSo_6 : decode cX0_standsSo 6 = .ok (.if_icmp .gt 26, 3) := dk_163 0 26 (dk_at dksX0_standsSo_0 6 rfl rfl)
theorem dX0_standsSo_9 : decode cX0_standsSo 9 = .ok (.aload_n 0, 1) := dk_42 (dk_at dksX0_standsSo_0 9 rfl rfl)
theorem dX0_standsSo_10 : decode cX0_standsSo 10 = .ok (.iload_n 1, 1) := dk_27 (dk_at dksX0_standsSo_0 10 rfl rfl)
theorem dX0_standsSo_11 : decode cX0_standsSo 11 = .ok (.aload_n 0, 1) := dk_42 (dk_at dksX0_standsSo_0 11 rfl rfl)
theorem dX0_standsSo_12 : decode cX0_standsSo 12 = .ok (.iload 4, 2) := dk_21 4 (dk_at dksX0_standsSo_0 12 rfl rfl)
theorem dX0_standsSo_14 : decode cX0_standsSo 14 = .ok (.invokevirtual 248, 3) := dk_182 0 248 (dk_at dksX0_standsSo_0 14 rfl rfl)
theorem dX0_standsSo_17 : decode cX0_standsSo 17 = .ok (.invokevirtual 242, 3) := dk_182 0 242 (dk_at dksX0_standsSo_0 17 rfl rfl)
theorem dX0_standsSo_20 : decode cX0_standsSo 20 = .ok (.iload_n 2, 1) := dk_28 (dk_at dksX0_standsSo_0 20 rfl rfl)
theorem dX0_standsSo_21 : decode cX0_standsSo 21 = .ok (.if_icmp .ge 5, 3) := dk_162 0 5 (dk_at dksX0_standsSo_0 21 rfl rfl)
theorem dX0_standsSo_24 : decode cX0_standsSo 24 = .ok (.iconst 0, 1) := dk_3 (dk_at dksX0_standsSo_1 0 rfl rfl)
theorem dX0_standsSo_25 : decode cX0_standsSo 25 = .ok (.ireturn, 1) := dk_172 (dk_at dksX0_standsSo_1 1 rfl rfl)
theorem dX0_standsSo_26 : decode cX0_standsSo 26 = .ok (.iinc 4 1, 3) := dk_132 4 1 (dk_at dksX0_standsSo_1 2 rfl rfl)
theorem dX0_standsSo_29 : decode cX0_standsSo 29 = .ok (.goto (-26), 3) := dk_167 255 230 (dk_at dksX0_standsSo_1 5 rfl rfl)
theorem dX0_standsSo_32 : decode cX0_standsSo 32 = .ok (.iconst 1, 1) := dk_4 (dk_at dksX0_standsSo_1 8 rfl rfl)
theorem dX0_standsSo_33 : decode cX0_standsSo 33 = .ok (.ireturn, 1) := dk_172 (dk_at dksX0_standsSo_1 9 rfl rfl)
def dkwX0_lower_3 : List UInt8 := [180, 1, 26, 172]
abbrev dktX0_lower_3 : List UInt8 := dkwX0_lower_3 ++ []
def dkwX0_lower_2 : List UInt8 := [154, 0, 11, 21, 4, 184, 1, 15, 167, 0, 17, 29, 4, 160, 0, 8, 21, 4, 167, 0, 7, 42]
abbrev dktX0_lower_2 : List UInt8 := dkwX0_lower_2 ++ dktX0_lower_3
def dkwX0_lower_1 : List UInt8 := [154, 0, 5, 2, 172, 42, 27, 28, 182, 1, 35, 54, 4, 21, 4, 156, 0, 6, 16, 254, 172, 29]
abbrev dktX0_lower_1 : List UInt8 := dkwX0_lower_1 ++ dktX0_lower_2
def dkwX0_lower_0 : List UInt8 := [42, 27, 182, 0, 74, 153, 0, 22, 28, 3, 16, 9, 184, 0, 67, 153, 0, 12, 29, 3, 5, 184, 0, 67]
abbrev dktX0_lower_0 : List UInt8 := dkwX0_lower_0 ++ dktX0_lower_1
theorem dksX0_lower_0 : cX0_lower.data.toList.drop 0 = dktX0_lower_0 := by decide +kernel
theorem dksX0_lower_1 : cX0_lower.data.toList.drop 24 = dktX0_lower_1 := dk_seg dksX0_lower_0 24 rfl rfl
theorem dksX0_lower_2 : cX0_lower.data.toList.drop 46 = dktX0_lower_2 := dk_seg dksX0_lower_1 22 rfl rfl
theorem dksX0_lower_3 : cX0_lower.data.toList.drop 68 = dktX0_lower_3 := dk_seg dksX0_lower_2 22 rfl rfl
theorem dX0_lower_0 : decode cX0_lower 0 = .ok (.aload_n 0, 1) := dk_42 (dk_at dksX0_lower_0 0 rfl rfl)
theorem dX0_lower_1 : decode cX0_lower 1 = .ok (.iload_n 1, 1) := dk_27 (dk_at dksX0_lower_0 1 rfl rfl)
theorem dX0_lower_2 : decode cX0_lower 2 = .ok (.invokevirtual 74, 3) := dk_182 0 74 (dk_at dksX0_lower_0 2 rfl rfl)
theorem dX0_lower_5 : decode cX0_lower 5 = .ok (.ifCond .eq 22, 3) := dk_153 0 22 (dk_at dksX0_lower_0 5 rfl rfl)
theorem dX0_lower_8 : decode cX0_lower 8 = .ok (.iload_n 2, 1) := dk_28 (dk_at dksX0_lower_0 8 rfl rfl)
theorem dX0_lower_9 : decode cX0_lower 9 = .ok (.iconst 0, 1) := dk_3 (dk_at dksX0_lower_0 9 rfl rfl)
theorem dX0_lower_10 : decode cX0_lower 10 = .ok (.bipush 9, 2) := dk_16 9 (dk_at dksX0_lower_0 10 rfl rfl)
theorem dX0_lower_12 : decode cX0_lower 12 = .ok (.invokestatic 67, 3) := dk_184 0 67 (dk_at dksX0_lower_0 12 rfl rfl)
theorem dX0_lower_15 : decode cX0_lower 15 = .ok (.ifCond .eq 12, 3) := dk_153 0 12 (dk_at dksX0_lower_0 15 rfl rfl)
theorem dX0_lower_18 : decode cX0_lower 18 = .ok (.iload_n 3, 1) := dk_29 (dk_at dksX0_lower_0 18 rfl rfl)
theorem dX0_lower_19 : decode cX0_lower 19 = .ok (.iconst 0, 1) := dk_3 (dk_at dksX0_lower_0 19 rfl rfl)
theorem dX0_lower_20 : decode cX0_lower 20 = .ok (.iconst 2, 1) := dk_5 (dk_at dksX0_lower_0 20 rfl rfl)
theorem dX0_lower_21 : decode cX0_lower 21 = .ok (.invokestatic 67, 3) := dk_184 0 67 (dk_at dksX0_lower_0 21 rfl rfl)
theorem dX0_lower_24 : decode cX0_lower 24 = .ok (.ifCond .ne 5, 3) := dk_154 0 5 (dk_at dksX0_lower_1 0 rfl rfl)
theorem dX0_lower_27 : decode cX0_lower 27 = .ok (.iconst (-1), 1) := dk_2 (dk_at dksX0_lower_1 3 rfl rfl)
theorem dX0_lower_28 : decode cX0_lower 28 = .ok (.ireturn, 1) := dk_172 (dk_at dksX0_lower_1 4 rfl rfl)
theorem dX0_lower_29 : decode cX0_lower 29 = .ok (.aload_n 0, 1) := dk_42 (dk_at dksX0_lower_1 5 rfl rfl)
theorem dX0_lower_30 : decode cX0_lower 30 = .ok (.iload_n 1, 1) := dk_27 (dk_at dksX0_lower_1 6 rfl rfl)
theorem dX0_lower_31 : decode cX0_lower 31 = .ok (.iload_n 2, 1) := dk_28 (dk_at dksX0_lower_1 7 rfl rfl)
theorem dX0_lower_32 : decode cX0_lower 32 = .ok (.invokevirtual 291, 3) := dk_182 1 35 (dk_at dksX0_lower_1 8 rfl rfl)
theorem dX0_lower_35 : decode cX0_lower 35 = .ok (.istore 4, 2) := dk_54 4 (dk_at dksX0_lower_1 11 rfl rfl)
theorem dX0_lower_37 : decode cX0_lower 37 = .ok (.iload 4, 2) := dk_21 4 (dk_at dksX0_lower_1 13 rfl rfl)
theorem dX0_lower_39 : decode cX0_lower 39 = .ok (.ifCond .ge 6, 3) := dk_156 0 6 (dk_at dksX0_lower_1 15 rfl rfl)
theorem dX0_lower_42 : decode cX0_lower 42 = .ok (.bipush (-2), 2) := dk_16 254 (dk_at dksX0_lower_1 18 rfl rfl)
theorem dX0_lower_44 : decode cX0_lower 44 = .ok (.ireturn, 1) := dk_172 (dk_at dksX0_lower_1 20 rfl rfl)
theorem dX0_lower_45 : decode cX0_lower 45 = .ok (.iload_n 3, 1) := dk_29 (dk_at dksX0_lower_1 21 rfl rfl)
theorem dX0_lower_46 : decode cX0_lower 46 = .ok (.ifCond .ne 11, 3) := dk_154 0 11 (dk_at dksX0_lower_2 0 rfl rfl)
theorem dX0_lower_49 : decode cX0_lower 49 = .ok (.iload 4, 2) := dk_21 4 (dk_at dksX0_lower_2 3 rfl rfl)
theorem dX0_lower_51 : decode cX0_lower 51 = .ok (.invokestatic 271, 3) := dk_184 1 15 (dk_at dksX0_lower_2 5 rfl rfl)
theorem dX0_lower_54 : decode cX0_lower 54 = .ok (.goto 17, 3) := dk_167 0 17 (dk_at dksX0_lower_2 8 rfl rfl)
theorem dX0_lower_57 : decode cX0_lower 57 = .ok (.iload_n 3, 1) := dk_29 (dk_at dksX0_lower_2 11 rfl rfl)
theorem dX0_lower_58 : decode cX0_lower 58 = .ok (.iconst 1, 1) := dk_4 (dk_at dksX0_lower_2 12 rfl rfl)
theorem dX0_lower_59 : decode cX0_lower 59 = .ok (.if_icmp .ne 8, 3) := dk_160 0 8 (dk_at dksX0_lower_2 13 rfl rfl)
theorem dX0_lower_62 : decode cX0_lower 62 = .ok (.iload 4, 2) := dk_21 4 (dk_at dksX0_lower_2 16 rfl rfl)
theorem dX0_lower_64 : decode cX0_lower 64 = .ok (.goto 7, 3) := dk_167 0 7 (dk_at dksX0_lower_2 18 rfl rfl)
theorem dX0_lower_67 : decode cX0_lower 67 = .ok (.aload_n 0, 1) := dk_42 (dk_at dksX0_lower_2 21 rfl rfl)
theorem dX0_lower_68 : decode cX0_lower 68 = .ok (.getfield 282, 3) := dk_180 1 26 (dk_at dksX0_lower_3 0 rfl rfl)
theorem dX0_lower_71 : decode cX0_lower 71 = .ok (.ireturn, 1) := dk_172 (dk_at dksX0_lower_3 3 rfl rfl)
def dkwX0_bestLower_4 : List UInt8 := [182, 1, 20, 181, 1, 26, 132, 5, 1, 167, 255, 174, 21, 4, 172]
abbrev dktX0_bestLower_4 : List UInt8 := dkwX0_bestLower_4 ++ []
def dkwX0_bestLower_3 : List UInt8 := [180, 1, 26, 155, 0, 16, 42, 21, 5, 182, 1, 20, 42, 180, 1, 26, 162, 0, 13, 42, 42, 21, 5]
abbrev dktX0_bestLower_3 : List UInt8 := dkwX0_bestLower_3 ++ dktX0_bestLower_4
def dkwX0_bestLower_2 : List UInt8 := [154, 0, 6, 167, 0, 48, 42, 21, 5, 21, 4, 182, 1, 32, 153, 0, 7, 21, 5, 54, 4, 42]
abbrev dktX0_bestLower_2 : List UInt8 := dkwX0_bestLower_2 ++ dktX0_bestLower_3
def dkwX0_bestLower_1 : List UInt8 := [180, 0, 71, 120, 162, 0, 77, 21, 5, 29, 2, 130, 126, 154, 0, 62, 42, 21, 5, 27, 28, 182, 1, 29]
abbrev dktX0_bestLower_1 : List UInt8 := dkwX0_bestLower_1 ++ dktX0_bestLower_2
def dkwX0_bestLower_0 : List UInt8 := [42, 27, 182, 1, 23, 62, 16, 254, 54, 4, 42, 16, 254, 181, 1, 26, 3, 54, 5, 21, 5, 4, 42]
abbrev dktX0_bestLower_0 : List UInt8 := dkwX0_bestLower_0 ++ dktX0_bestLower_1
theorem dksX0_bestLower_0 : cX0_bestLower.data.toList.drop 0 = dktX0_bestLower_0 := by decide +kernel
theorem dksX0_bestLower_1 : cX0_bestLower.data.toList.drop 23 = dktX0_bestLower_1 := dk_seg dksX0_bestLower_0 23 rfl rfl
theorem dksX0_bestLower_2 : cX0_bestLower.data.toList.drop 47 = dktX0_bestLower_2 := dk_seg dksX0_bestLower_1 24 rfl rfl
theorem dksX0_bestLower_3 : cX0_bestLower.data.toList.drop 69 = dktX0_bestLower_3 := dk_seg dksX0_bestLower_2 22 rfl rfl
theorem dksX0_bestLower_4 : cX0_bestLower.data.toList.drop 92 = dktX0_bestLower_4 := dk_seg dksX0_bestLower_3 23 rfl rfl
theorem dX0_bestLower_0 : decode cX0_bestLower 0 = .ok (.aload_n 0, 1) := dk_42 (dk_at dksX0_bestLower_0 0 rfl rfl)
theorem dX0_bestLower_1 : decode cX0_bestLower 1 = .ok (.iload_n 1, 1) := dk_27 (dk_at dksX0_bestLower_0 1 rfl rfl)
theorem dX0_bestLower_2 : decode cX0_bestLower 2 = .ok (.invokevirtual 279, 3) := dk_182 1 23 (dk_at dksX0_bestLower_0 2 rfl rfl)
theorem dX0_bestLower_5 : decode cX0_bestLower 5 = .ok (.istore_n 3, 1) := dk_62 (dk_at dksX0_bestLower_0 5 rfl rfl)
theorem dX0_bestLower_6 : decode cX0_bestLower 6 = .ok (.bipush (-2), 2) := dk_16 254 (dk_at dksX0_bestLower_0 6 rfl rfl)
theorem dX0_bestLower_8 : decode cX0_bestLower 8 = .ok (.istore 4, 2) := dk_54 4 (dk_at dksX0_bestLower_0 8 rfl rfl)
theorem dX0_bestLower_10 : decode cX0_bestLower 10 = .ok (.aload_n 0, 1) := dk_42 (dk_at dksX0_bestLower_0 10 rfl rfl)
theorem dX0_bestLower_11 : decode cX0_bestLower 11 = .ok (.bipush (-2), 2) := dk_16 254 (dk_at dksX0_bestLower_0 11 rfl rfl)
theorem dX0_bestLower_13 : decode cX0_bestLower 13 = .ok (.putfield 282, 3) := dk_181 1 26 (dk_at dksX0_bestLower_0 13 rfl rfl)
theorem dX0_bestLower_16 : decode cX0_bestLower 16 = .ok (.iconst 0, 1) := dk_3 (dk_at dksX0_bestLower_0 16 rfl rfl)
theorem dX0_bestLower_17 : decode cX0_bestLower 17 = .ok (.istore 5, 2) := dk_54 5 (dk_at dksX0_bestLower_0 17 rfl rfl)
theorem dX0_bestLower_19 : decode cX0_bestLower 19 = .ok (.iload 5, 2) := dk_21 5 (dk_at dksX0_bestLower_0 19 rfl rfl)
theorem dX0_bestLower_21 : decode cX0_bestLower 21 = .ok (.iconst 1, 1) := dk_4 (dk_at dksX0_bestLower_0 21 rfl rfl)
theorem dX0_bestLower_22 : decode cX0_bestLower 22 = .ok (.aload_n 0, 1) := dk_42 (dk_at dksX0_bestLower_0 22 rfl rfl)
theorem dX0_bestLower_23 : decode cX0_bestLower 23 = .ok (.getfield 71, 3) := dk_180 0 71 (dk_at dksX0_bestLower_1 0 rfl rfl)
theorem dX0_bestLower_26 : decode cX0_bestLower 26 = .ok (.ishl, 1) := dk_120 (dk_at dksX0_bestLower_1 3 rfl rfl)
theorem dX0_bestLower_27 : decode cX0_bestLower 27 = .ok (.if_icmp .ge 77, 3) := dk_162 0 77 (dk_at dksX0_bestLower_1 4 rfl rfl)
theorem dX0_bestLower_30 : decode cX0_bestLower 30 = .ok (.iload 5, 2) := dk_21 5 (dk_at dksX0_bestLower_1 7 rfl rfl)
theorem dX0_bestLower_32 : decode cX0_bestLower 32 = .ok (.iload_n 3, 1) := dk_29 (dk_at dksX0_bestLower_1 9 rfl rfl)
theorem dX0_bestLower_33 : decode cX0_bestLower 33 = .ok (.iconst (-1), 1) := dk_2 (dk_at dksX0_bestLower_1 10 rfl rfl)
theorem dX0_bestLower_34 : decode cX0_bestLower 34 = .ok (.ixor, 1) := dk_130 (dk_at dksX0_bestLower_1 11 rfl rfl)
theorem dX0_bestLower_35 : decode cX0_bestLower 35 = .ok (.iand, 1) := dk_126 (dk_at dksX0_bestLower_1 12 rfl rfl)
theorem dX0_bestLower_36 : decode cX0_bestLower 36 = .ok (.ifCond .ne 62, 3) := dk_154 0 62 (dk_at dksX0_bestLower_1 13 rfl rfl)
theorem dX0_bestLower_39 : decode cX0_bestLower 39 = .ok (.aload_n 0, 1) := dk_42 (dk_at dksX0_bestLower_1 16 rfl rfl)
theorem dX0_bestLower_40 : decode cX0_bestLower 40 = .ok (.iload 5, 2) := dk_21 5 (dk_at dksX0_bestLower_1 17 rfl rfl)
theorem dX0_bestLower_42 : decode cX0_bestLower 42 = .ok (.iload_n 1, 1) := dk_27 (dk_at dksX0_bestLower_1 19 rfl rfl)
theorem dX0_bestLower_43 : decode cX0_bestLower 43 = .ok (.iload_n 2, 1) := dk_28 (dk_at dksX0_bestLower_1 20 rfl rfl)
theorem dX0_bestLower_44 : decode cX0_bestLower 44 = .ok (.invokevirtual 285, 3) := dk_182 1 29 (dk_at dksX0_bestLower_1 21 rfl rfl)
theorem dX0_bestLower_47 : decode cX0_bestLower 47 = .ok (.ifCond .ne 6, 3) := dk_154 0 6 (dk_at dksX0_bestLower_2 0 rfl rfl)
theorem dX0_bestLower_50 : decode cX0_bestLower 50 = .ok (.goto 48, 3) := dk_167 0 48 (dk_at dksX0_bestLower_2 3 rfl rfl)
theorem dX0_bestLower_53 : decode cX0_bestLower 53 = .ok (.aload_n 0, 1) := dk_42 (dk_at dksX0_bestLower_2 6 rfl rfl)
theorem dX0_bestLower_54 : decode cX0_bestLower 54 = .ok (.iload 5, 2) := dk_21 5 (dk_at dksX0_bestLower_2 7 rfl rfl)
theorem dX0_bestLower_56 : decode cX0_bestLower 56 = .ok (.iload 4, 2) := dk_21 4 (dk_at dksX0_bestLower_2 9 rfl rfl)
theorem dX0_bestLower_58 : decode cX0_bestLower 58 = .ok (.invokevirtual 288, 3) := dk_182 1 32 (dk_at dksX0_bestLower_2 11 rfl rfl)
theorem dX0_bestLower_61 : decode cX0_bestLower 61 = .ok (.ifCond .eq 7, 3) := dk_153 0 7 (dk_at dksX0_bestLower_2 14 rfl rfl)
theorem dX0_bestLower_64 : decode cX0_bestLower 64 = .ok (.iload 5, 2) := dk_21 5 (dk_at dksX0_bestLower_2 17 rfl rfl)
theorem dX0_bestLower_66 : decode cX0_bestLower 66 = .ok (.istore 4, 2) := dk_54 4 (dk_at dksX0_bestLower_2 19 rfl rfl)
theorem dX0_bestLower_68 : decode cX0_bestLower 68 = .ok (.aload_n 0, 1) := dk_42 (dk_at dksX0_bestLower_2 21 rfl rfl)
theorem dX0_bestLower_69 : decode cX0_bestLower 69 = .ok (.getfield 282, 3) := dk_180 1 26 (dk_at dksX0_bestLower_3 0 rfl rfl)
theorem dX0_bestLower_72 : decode cX0_bestLower 72 = .ok (.ifCond .lt 16, 3) := dk_155 0 16 (dk_at dksX0_bestLower_3 3 rfl rfl)
theorem dX0_bestLower_75 : decode cX0_bestLower 75 = .ok (.aload_n 0, 1) := dk_42 (dk_at dksX0_bestLower_3 6 rfl rfl)
theorem dX0_bestLower_76 : decode cX0_bestLower 76 = .ok (.iload 5, 2) := dk_21 5 (dk_at dksX0_bestLower_3 7 rfl rfl)
theorem dX0_bestLower_78 : decode cX0_bestLower 78 = .ok (.invokevirtual 276, 3) := dk_182 1 20 (dk_at dksX0_bestLower_3 9 rfl rfl)
theorem dX0_bestLower_81 : decode cX0_bestLower 81 = .ok (.aload_n 0, 1) := dk_42 (dk_at dksX0_bestLower_3 12 rfl rfl)
theorem dX0_bestLower_82 : decode cX0_bestLower 82 = .ok (.getfield 282, 3) := dk_180 1 26 (dk_at dksX0_bestLower_3 13 rfl rfl)
theorem dX0_bestLower_85 : decode cX0_bestLower 85 = .ok (.if_icmp .ge 13, 3) := dk_162 0 13 (dk_at dksX0_bestLower_3 16 rfl rfl)
theorem dX0_bestLower_88 : decode cX0_bestLower 88 = .ok (.aload_n 0, 1) := dk_42 (dk_at dksX0_bestLower_3 19 rfl rfl)
theorem dX0_bestLower_89 : decode cX0_bestLower 89 = .ok (.aload_n 0, 1) := dk_42 (dk_at dksX0_bestLower_3 20 rfl rfl)
theorem dX0_bestLower_90 : decode cX0_bestLower 90 = .ok (.iload 5, 2) := dk_21 5 (dk_at dksX0_bestLower_3 21 rfl rfl)
theorem dX0_bestLower_92 : decode cX0_bestLower 92 = .ok (.invokevirtual 276, 3) := dk_182 1 20 (dk_at dksX0_bestLower_4 0 rfl rfl)
theorem dX0_bestLower_95 : decode cX0_bestLower 95 = .ok (.putfield 282, 3) := dk_181 1 26 (dk_at dksX0_bestLower_4 3 rfl rfl)
theorem dX0_bestLower_98 : decode cX0_bestLower 98 = .ok (.iinc 5 1, 3) := dk_132 5 1 (dk_at dksX0_bestLower_4 6 rfl rfl)
theorem dX0_bestLower_101 : decode cX0_bestLower 101 = .ok (.goto (-82), 3) := dk_167 255 174 (dk_at dksX0_bestLower_4 9 rfl rfl)
theorem dX0_bestLower_104 : decode cX0_bestLower 104 = .ok (.iload 4, 2) := dk_21 4 (dk_at dksX0_bestLower_4 12 rfl rfl)
theorem dX0_bestLower_106 : decode cX0_bestLower 106 = .ok (.ireturn, 1) := dk_172 (dk_at dksX0_bestLower_4 14 rfl rfl)
def dkwX0_mayDo_2 : List UInt8 := [50, 180, 0, 119, 5, 159, 0, 9, 28, 4, 29, 120, 128, 61, 132, 3, 1, 167, 255, 197, 28, 172]
abbrev dktX0_mayDo_2 : List UInt8 := dkwX0_mayDo_2 ++ []
def dkwX0_mayDo_1 : List UInt8 := [160, 0, 38, 42, 180, 0, 17, 29, 50, 42, 180, 0, 78, 182, 0, 216, 153, 0, 22, 42, 180, 0, 17, 29]
abbrev dktX0_mayDo_1 : List UInt8 := dkwX0_mayDo_1 ++ dktX0_mayDo_2
def dkwX0_mayDo_0 : List UInt8 := [3, 61, 3, 62, 29, 42, 180, 0, 71, 162, 0, 57, 42, 180, 0, 17, 29, 50, 180, 0, 173, 27]
abbrev dktX0_mayDo_0 : List UInt8 := dkwX0_mayDo_0 ++ dktX0_mayDo_1
theorem dksX0_mayDo_0 : cX0_mayDo.data.toList.drop 0 = dktX0_mayDo_0 := by decide +kernel
theorem dksX0_mayDo_1 : cX0_mayDo.data.toList.drop 22 = dktX0_mayDo_1 := dk_seg dksX0_mayDo_0 22 rfl rfl
theorem dksX0_mayDo_2 : cX0_mayDo.data.toList.drop 46 = dktX0_mayDo_2 := dk_seg dksX0_mayDo_1 24 rfl rfl
theorem dX0_mayDo_0 : decode cX0_mayDo 0 = .ok (.iconst 0, 1) := dk_3 (dk_at dksX0_mayDo_0 0 rfl rfl)
theorem dX0_mayDo_1 : decode cX0_mayDo 1 = .ok (.istore_n 2, 1) := dk_61 (dk_at dksX0_mayDo_0 1 rfl rfl)
theorem dX0_mayDo_2 : decode cX0_mayDo 2 = .ok (.iconst 0, 1) := dk_3 (dk_at dksX0_mayDo_0 2 rfl rfl)
theorem dX0_mayDo_3 : decode cX0_mayDo 3 = .ok (.istore_n 3, 1) := dk_62 (dk_at dksX0_mayDo_0 3 rfl rfl)
theorem dX0_mayDo_4 : decode cX0_mayDo 4 = .ok (.iload_n 3, 1) := dk_29 (dk_at dksX0_mayDo_0 4 rfl rfl)
theorem dX0_mayDo_5 : decode cX0_mayDo 5 = .ok (.aload_n 0, 1) := dk_42 (dk_at dksX0_mayDo_0 5 rfl rfl)
theorem dX0_mayDo_6 : decode cX0_mayDo 6 = .ok (.getfield 71, 3) := dk_180 0 71 (dk_at dksX0_mayDo_0 6 rfl rfl)
theorem dX0_mayDo_9 : decode cX0_mayDo 9 = .ok (.if_icmp .ge 57, 3) := dk_162 0 57 (dk_at dksX0_mayDo_0 9 rfl rfl)
theorem dX0_mayDo_12 : decode cX0_mayDo 12 = .ok (.aload_n 0, 1) := dk_42 (dk_at dksX0_mayDo_0 12 rfl rfl)
theorem dX0_mayDo_13 : decode cX0_mayDo 13 = .ok (.getfield 17, 3) := dk_180 0 17 (dk_at dksX0_mayDo_0 13 rfl rfl)
theorem dX0_mayDo_16 : decode cX0_mayDo 16 = .ok (.iload_n 3, 1) := dk_29 (dk_at dksX0_mayDo_0 16 rfl rfl)
theorem dX0_mayDo_17 : decode cX0_mayDo 17 = .ok (.aaload, 1) := dk_50 (dk_at dksX0_mayDo_0 17 rfl rfl)
theorem dX0_mayDo_18 : decode cX0_mayDo 18 = .ok (.getfield 173, 3) := dk_180 0 173 (dk_at dksX0_mayDo_0 18 rfl rfl)
theorem dX0_mayDo_21 : decode cX0_mayDo 21 = .ok (.iload_n 1, 1) := dk_27 (dk_at dksX0_mayDo_0 21 rfl rfl)
theorem dX0_mayDo_22 : decode cX0_mayDo 22 = .ok (.if_icmp .ne 38, 3) := dk_160 0 38 (dk_at dksX0_mayDo_1 0 rfl rfl)
theorem dX0_mayDo_25 : decode cX0_mayDo 25 = .ok (.aload_n 0, 1) := dk_42 (dk_at dksX0_mayDo_1 3 rfl rfl)
theorem dX0_mayDo_26 : decode cX0_mayDo 26 = .ok (.getfield 17, 3) := dk_180 0 17 (dk_at dksX0_mayDo_1 4 rfl rfl)
theorem dX0_mayDo_29 : decode cX0_mayDo 29 = .ok (.iload_n 3, 1) := dk_29 (dk_at dksX0_mayDo_1 7 rfl rfl)
theorem dX0_mayDo_30 : decode cX0_mayDo 30 = .ok (.aaload, 1) := dk_50 (dk_at dksX0_mayDo_1 8 rfl rfl)
theorem dX0_mayDo_31 : decode cX0_mayDo 31 = .ok (.aload_n 0, 1) := dk_42 (dk_at dksX0_mayDo_1 9 rfl rfl)
theorem dX0_mayDo_32 : decode cX0_mayDo 32 = .ok (.getfield 78, 3) := dk_180 0 78 (dk_at dksX0_mayDo_1 10 rfl rfl)
theorem dX0_mayDo_35 : decode cX0_mayDo 35 = .ok (.invokevirtual 216, 3) := dk_182 0 216 (dk_at dksX0_mayDo_1 13 rfl rfl)
theorem dX0_mayDo_38 : decode cX0_mayDo 38 = .ok (.ifCond .eq 22, 3) := dk_153 0 22 (dk_at dksX0_mayDo_1 16 rfl rfl)
theorem dX0_mayDo_41 : decode cX0_mayDo 41 = .ok (.aload_n 0, 1) := dk_42 (dk_at dksX0_mayDo_1 19 rfl rfl)
theorem dX0_mayDo_42 : decode cX0_mayDo 42 = .ok (.getfield 17, 3) := dk_180 0 17 (dk_at dksX0_mayDo_1 20 rfl rfl)
theorem dX0_mayDo_45 : decode cX0_mayDo 45 = .ok (.iload_n 3, 1) := dk_29 (dk_at dksX0_mayDo_1 23 rfl rfl)
theorem dX0_mayDo_46 : decode cX0_mayDo 46 = .ok (.aaload, 1) := dk_50 (dk_at dksX0_mayDo_2 0 rfl rfl)
theorem dX0_mayDo_47 : decode cX0_mayDo 47 = .ok (.getfield 119, 3) := dk_180 0 119 (dk_at dksX0_mayDo_2 1 rfl rfl)
theorem dX0_mayDo_50 : decode cX0_mayDo 50 = .ok (.iconst 2, 1) := dk_5 (dk_at dksX0_mayDo_2 4 rfl rfl)
theorem dX0_mayDo_51 : decode cX0_mayDo 51 = .ok (.if_icmp .eq 9, 3) := dk_159 0 9 (dk_at dksX0_mayDo_2 5 rfl rfl)
theorem dX0_mayDo_54 : decode cX0_mayDo 54 = .ok (.iload_n 2, 1) := dk_28 (dk_at dksX0_mayDo_2 8 rfl rfl)
theorem dX0_mayDo_55 : decode cX0_mayDo 55 = .ok (.iconst 1, 1) := dk_4 (dk_at dksX0_mayDo_2 9 rfl rfl)
theorem dX0_mayDo_56 : decode cX0_mayDo 56 = .ok (.iload_n 3, 1) := dk_29 (dk_at dksX0_mayDo_2 10 rfl rfl)
theorem dX0_mayDo_57 : decode cX0_mayDo 57 = .ok (.ishl, 1) := dk_120 (dk_at dksX0_mayDo_2 11 rfl rfl)
theorem dX0_mayDo_58 : decode cX0_mayDo 58 = .ok (.ior, 1) := dk_128 (dk_at dksX0_mayDo_2 12 rfl rfl)
theorem dX0_mayDo_59 : decode cX0_mayDo 59 = .ok (.istore_n 2, 1) := dk_61 (dk_at dksX0_mayDo_2 13 rfl rfl)
theorem dX0_mayDo_60 : decode cX0_mayDo 60 = .ok (.iinc 3 1, 3) := dk_132 3 1 (dk_at dksX0_mayDo_2 14 rfl rfl)
theorem dX0_mayDo_63 : decode cX0_mayDo 63 = .ok (.goto (-59), 3) := dk_167 255 197 (dk_at dksX0_mayDo_2 17 rfl rfl)
theorem dX0_mayDo_66 : decode cX0_mayDo 66 = .ok (.iload_n 2, 1) := dk_28 (dk_at dksX0_mayDo_2 20 rfl rfl)
theorem dX0_mayDo_67 : decode cX0_mayDo 67 = .ok (.ireturn, 1) := dk_172 (dk_at dksX0_mayDo_2 21 rfl rfl)
def dkwX0_lowers_4 : List UInt8 := [132, 5, 1, 167, 255, 224, 21, 4, 172]
abbrev dktX0_lowers_4 : List UInt8 := dkwX0_lowers_4 ++ []
def dkwX0_lowers_3 : List UInt8 := [162, 0, 29, 27, 21, 5, 184, 1, 12, 153, 0, 14, 42, 180, 0, 17, 21, 5, 50, 3, 181, 0, 128]
abbrev dktX0_lowers_3 : List UInt8 := dkwX0_lowers_3 ++ dktX0_lowers_4
def dkwX0_lowers_2 : List UInt8 := [182, 0, 242, 29, 163, 0, 7, 4, 167, 0, 4, 3, 54, 4, 3, 54, 5, 21, 5, 42, 180, 0, 71]
abbrev dktX0_lowers_2 : List UInt8 := dkwX0_lowers_2 ++ dktX0_lowers_3
def dkwX0_lowers_1 : List UInt8 := [180, 0, 17, 21, 4, 50, 4, 181, 0, 128, 132, 4, 1, 167, 255, 224, 42, 28, 42, 180, 0, 78]
abbrev dktX0_lowers_1 : List UInt8 := dkwX0_lowers_1 ++ dktX0_lowers_2
def dkwX0_lowers_0 : List UInt8 := [3, 54, 4, 21, 4, 42, 180, 0, 71, 162, 0, 29, 27, 21, 4, 184, 1, 12, 153, 0, 14, 42]
abbrev dktX0_lowers_0 : List UInt8 := dkwX0_lowers_0 ++ dktX0_lowers_1
theorem dksX0_lowers_0 : cX0_lowers.data.toList.drop 0 = dktX0_lowers_0 := by decide +kernel
theorem dksX0_lowers_1 : cX0_lowers.data.toList.drop 22 = dktX0_lowers_1 := dk_seg dksX0_lowers_0 22 rfl rfl
theorem dksX0_lowers_2 : cX0_lowers.data.toList.drop 44 = dktX0_lowers_2 := dk_seg dksX0_lowers_1 22 rfl rfl
theorem dksX0_lowers_3 : cX0_lowers.data.toList.drop 67 = dktX0_lowers_3 := dk_seg dksX0_lowers_2 23 rfl rfl
theorem dksX0_lowers_4 : cX0_lowers.data.toList.drop 90 = dktX0_lowers_4 := dk_seg dksX0_lowers_3 23 rfl rfl
theorem dX0_lowers_0 : decode cX0_lowers 0 = .ok (.iconst 0, 1) := dk_3 (dk_at dksX0_lowers_0 0 rfl rfl)
theorem dX0_lowers_1 : decode cX0_lowers 1 = .ok (.istore 4, 2) := dk_54 4 (dk_at dksX0_lowers_0 1 rfl rfl)
theorem dX0_lowers_3 : decode cX0_lowers 3 = .ok (.iload 4, 2) := dk_21 4 (dk_at dksX0_lowers_0 3 rfl rfl)
theorem dX0_lowers_5 : decode cX0_lowers 5 = .ok (.aload_n 0, 1) := dk_42 (dk_at dksX0_lowers_0 5 rfl rfl)
theorem dX0_lowers_6 : decode cX0_lowers 6 = .ok (.getfield 71, 3) := dk_180 0 71 (dk_at dksX0_lowers_0 6 rfl rfl)
theorem dX0_lowers_9 : decode cX0_lowers 9 = .ok (.if_icmp .ge 29, 3) := dk_162 0 29 (dk_at dksX0_lowers_0 9 rfl rfl)
theorem dX0_lowers_12 : decode cX0_lowers 12 = .ok (.iload_n 1, 1) := dk_27 (dk_at dksX0_lowers_0 12 rfl rfl)
theorem dX0_lowers_13 : decode cX0_lowers 13 = .ok (.iload 4, 2) := dk_21 4 (dk_at dksX0_lowers_0 13 rfl rfl)
theorem dX0_lowers_15 : decode cX0_lowers 15 = .ok (.invokestatic 268, 3) := dk_184 1 12 (dk_at dksX0_lowers_0 15 rfl rfl)
theorem dX0_lowers_18 : decode cX0_lowers 18 = .ok (.ifCond .eq 14, 3) := dk_153 0 14 (dk_at dksX0_lowers_0 18 rfl rfl)
theorem dX0_lowers_21 : decode cX0_lowers 21 = .ok (.aload_n 0, 1) := dk_42 (dk_at dksX0_lowers_0 21 rfl rfl)
theorem dX0_lowers_22 : decode cX0_lowers 22 = .ok (.getfield 17, 3) := dk_180 0 17 (dk_at dksX0_lowers_1 0 rfl rfl)
theorem dX0_lowers_25 : decode cX0_lowers 25 = .ok (.iload 4, 2) := dk_21 4 (dk_at dksX0_lowers_1 3 rfl rfl)
theorem dX0_lowers_27 : decode cX0_lowers 27 = .ok (.aaload, 1) := dk_50 (dk_at dksX0_lowers_1 5 rfl rfl)
theorem dX0_lowers_28 : decode cX0_lowers 28 = .ok (.iconst 1, 1) := dk_4 (dk_at dksX0_lowers_1 6 rfl rfl)
theorem dX0_lowers_29 : decode cX0_lowers 29 = .ok (.putfield 128, 3) := dk_181 0 128 (dk_at dksX0_lowers_1 7 rfl rfl)
theorem dX0_lowers_32 : decode cX0_lowers 32 = .ok (.iinc 4 1, 3) := dk_132 4 1 (dk_at dksX0_lowers_1 10 rfl rfl)
theorem dX0_lowers_35 : decode cX0_lowers 35 = .ok (.goto (-32), 3) := dk_167 255 224 (dk_at dksX0_lowers_1 13 rfl rfl)
theorem dX0_lowers_38 : decode cX0_lowers 38 = .ok (.aload_n 0, 1) := dk_42 (dk_at dksX0_lowers_1 16 rfl rfl)
theorem dX0_lowers_39 : decode cX0_lowers 39 = .ok (.iload_n 2, 1) := dk_28 (dk_at dksX0_lowers_1 17 rfl rfl)
theorem dX0_lowers_40 : decode cX0_lowers 40 = .ok (.aload_n 0, 1) := dk_42 (dk_at dksX0_lowers_1 18 rfl rfl)
theorem dX0_lowers_41 : decode cX0_lowers 41 = .ok (.getfield 78, 3) := dk_180 0 78 (dk_at dksX0_lowers_1 19 rfl rfl)
theorem dX0_lowers_44 : decode cX0_lowers 44 = .ok (.invokevirtual 242, 3) := dk_182 0 242 (dk_at dksX0_lowers_2 0 rfl rfl)
theorem dX0_lowers_47 : decode cX0_lowers 47 = .ok (.iload_n 3, 1) := dk_29 (dk_at dksX0_lowers_2 3 rfl rfl)
theorem dX0_lowers_48 : decode cX0_lowers 48 = .ok (.if_icmp .gt 7, 3) := dk_163 0 7 (dk_at dksX0_lowers_2 4 rfl rfl)
theorem dX0_lowers_51 : decode cX0_lowers 51 = .ok (.iconst 1, 1) := dk_4 (dk_at dksX0_lowers_2 7 rfl rfl)
theorem dX0_lowers_52 : decode cX0_lowers 52 = .ok (.goto 4, 3) := dk_167 0 4 (dk_at dksX0_lowers_2 8 rfl rfl)
theorem dX0_lowers_55 : decode cX0_lowers 55 = .ok (.iconst 0, 1) := dk_3 (dk_at dksX0_lowers_2 11 rfl rfl)
theorem dX0_lowers_56 : decode cX0_lowers 56 = .ok (.istore 4, 2) := dk_54 4 (dk_at dksX0_lowers_2 12 rfl rfl)
theorem dX0_lowers_58 : decode cX0_lowers 58 = .ok (.iconst 0, 1) := dk_3 (dk_at dksX0_lowers_2 14 rfl rfl)
theorem dX0_lowers_59 : decode cX0_lowers 59 = .ok (.istore 5, 2) := dk_54 5 (dk_at dksX0_lowers_2 15 rfl rfl)
theorem dX0_lowers_61 : decode cX0_lowers 61 = .ok (.iload 5, 2) := dk_21 5 (dk_at dksX0_lowers_2 17 rfl rfl)
theorem dX0_lowers_63 : decode cX0_lowers 63 = .ok (.aload_n 0, 1) := dk_42 (dk_at dksX0_lowers_2 19 rfl rfl)
theorem dX0_lowers_64 : decode cX0_lowers 64 = .ok (.getfield 71, 3) := dk_180 0 71 (dk_at dksX0_lowers_2 20 rfl rfl)
theorem dX0_lowers_67 : decode cX0_lowers 67 = .ok (.if_icmp .ge 29, 3) := dk_162 0 29 (dk_at dksX0_lowers_3 0 rfl rfl)
theorem dX0_lowers_70 : decode cX0_lowers 70 = .ok (.iload_n 1, 1) := dk_27 (dk_at dksX0_lowers_3 3 rfl rfl)
theorem dX0_lowers_71 : decode cX0_lowers 71 = .ok (.iload 5, 2) := dk_21 5 (dk_at dksX0_lowers_3 4 rfl rfl)
theorem dX0_lowers_73 : decode cX0_lowers 73 = .ok (.invokestatic 268, 3) := dk_184 1 12 (dk_at dksX0_lowers_3 6 rfl rfl)
theorem dX0_lowers_76 : decode cX0_lowers 76 = .ok (.ifCond .eq 14, 3) := dk_153 0 14 (dk_at dksX0_lowers_3 9 rfl rfl)
theorem dX0_lowers_79 : decode cX0_lowers 79 = .ok (.aload_n 0, 1) := dk_42 (dk_at dksX0_lowers_3 12 rfl rfl)
theorem dX0_lowers_80 : decode cX0_lowers 80 = .ok (.getfield 17, 3) := dk_180 0 17 (dk_at dksX0_lowers_3 13 rfl rfl)
theorem dX0_lowers_83 : decode cX0_lowers 83 = .ok (.iload 5, 2) := dk_21 5 (dk_at dksX0_lowers_3 16 rfl rfl)
theorem dX0_lowers_85 : decode cX0_lowers 85 = .ok (.aaload, 1) := dk_50 (dk_at dksX0_lowers_3 18 rfl rfl)
theorem dX0_lowers_86 : decode cX0_lowers 86 = .ok (.iconst 0, 1) := dk_3 (dk_at dksX0_lowers_3 19 rfl rfl)
theorem dX0_lowers_87 : decode cX0_lowers 87 = .ok (.putfield 128, 3) := dk_181 0 128 (dk_at dksX0_lowers_3 20 rfl rfl)
theorem dX0_lowers_90 : decode cX0_lowers 90 = .ok (.iinc 5 1, 3) := dk_132 5 1 (dk_at dksX0_lowers_4 0 rfl rfl)
theorem dX0_lowers_93 : decode cX0_lowers 93 = .ok (.goto (-32), 3) := dk_167 255 224 (dk_at dksX0_lowers_4 3 rfl rfl)
theorem dX0_lowers_96 : decode cX0_lowers 96 = .ok (.iload 4, 2) := dk_21 4 (dk_at dksX0_lowers_4 6 rfl rfl)
theorem dX0_lowers_98 : decode cX0_lowers 98 = .ok (.ireturn, 1) := dk_172 (dk_at dksX0_lowers_4 8 rfl rfl)
def dkwX0_has_0 : List UInt8 := [26, 27, 122, 4, 126, 4, 160, 0, 7, 4, 167, 0, 4, 3, 172]
abbrev dktX0_has_0 : List UInt8 := dkwX0_has_0 ++ []
theorem dksX0_has_0 : cX0_has.data.toList.drop 0 = dktX0_has_0 := by decide +kernel
theorem dX0_has_0 : decode cX0_has 0 = .ok (.iload_n 0, 1) := dk_26 (dk_at dksX0_has_0 0 rfl rfl)
theorem dX0_has_1 : decode cX0_has 1 = .ok (.iload_n 1, 1) := dk_27 (dk_at dksX0_has_0 1 rfl rfl)
theorem dX0_has_2 : decode cX0_has 2 = .ok (.ishr, 1) := dk_122 (dk_at dksX0_has_0 2 rfl rfl)
theorem dX0_has_3 : decode cX0_has 3 = .ok (.iconst 1, 1) := dk_4 (dk_at dksX0_has_0 3 rfl rfl)
theorem dX0_has_4 : decode cX0_has 4 = .ok (.iand, 1) := dk_126 (dk_at dksX0_has_0 4 rfl rfl)
theorem dX0_has_5 : decode cX0_has 5 = .ok (.iconst 1, 1) := dk_4 (dk_at dksX0_has_0 5 rfl rfl)
theorem dX0_has_6 : decode cX0_has 6 = .ok (.if_icmp .ne 7, 3) := dk_160 0 7 (dk_at dksX0_has_0 6 rfl rfl)
theorem dX0_has_9 : decode cX0_has 9 = .ok (.iconst 1, 1) := dk_4 (dk_at dksX0_has_0 9 rfl rfl)
theorem dX0_has_10 : decode cX0_has 10 = .ok (.goto 4, 3) := dk_167 0 4 (dk_at dksX0_has_0 10 rfl rfl)
theorem dX0_has_13 : decode cX0_has 13 = .ok (.iconst 0, 1) := dk_3 (dk_at dksX0_has_0 13 rfl rfl)
theorem dX0_has_14 : decode cX0_has 14 = .ok (.ireturn, 1) := dk_172 (dk_at dksX0_has_0 14 rfl rfl)
def dkwX0_isBetter_1 : List UInt8 := [42, 27, 182, 1, 20, 42, 28, 182, 1, 20, 162, 0, 7, 4, 167, 0, 4, 3, 172]
abbrev dktX0_isBetter_1 : List UInt8 := dkwX0_isBetter_1 ++ []
def dkwX0_isBetter_0 : List UInt8 := [28, 156, 0, 5, 4, 172, 27, 184, 1, 15, 28, 184, 1, 15, 100, 62, 29, 155, 0, 20, 29, 154, 0, 20]
abbrev dktX0_isBetter_0 : List UInt8 := dkwX0_isBetter_0 ++ dktX0_isBetter_1
theorem dksX0_isBetter_0 : cX0_isBetter.data.toList.drop 0 = dktX0_isBetter_0 := by decide +kernel
theorem dksX0_isBetter_1 : cX0_isBetter.data.toList.drop 24 = dktX0_isBetter_1 := dk_seg dksX0_isBetter_0 24 rfl rfl
theorem dX0_isBetter_0 : decode cX0_isBetter 0 = .ok (.iload_n 2, 1) := dk_28 (dk_at dksX0_isBetter_0 0 rfl rfl)
theorem dX0_isBetter_1 : decode cX0_isBetter 1 = .ok (.ifCond .ge 5, 3) := dk_156 0 5 (dk_at dksX0_isBetter_0 1 rfl rfl)
theorem dX0_isBetter_4 : decode cX0_isBetter 4 = .ok (.iconst 1, 1) := dk_4 (dk_at dksX0_isBetter_0 4 rfl rfl)
theorem dX0_isBetter_5 : decode cX0_isBetter 5 = .ok (.ireturn, 1) := dk_172 (dk_at dksX0_isBetter_0 5 rfl rfl)
theorem dX0_isBetter_6 : decode cX0_isBetter 6 = .ok (.iload_n 1, 1) := dk_27 (dk_at dksX0_isBetter_0 6 rfl rfl)
theorem dX0_isBetter_7 : decode cX0_isBetter 7 = .ok (.invokestatic 271, 3) := dk_184 1 15 (dk_at dksX0_isBetter_0 7 rfl rfl)
theorem dX0_isBetter_10 : decode cX0_isBetter 10 = .ok (.iload_n 2, 1) := dk_28 (dk_at dksX0_isBetter_0 10 rfl rfl)
theorem dX0_isBetter_11 : decode cX0_isBetter 11 = .ok (.invokestatic 271, 3) := dk_184 1 15 (dk_at dksX0_isBetter_0 11 rfl rfl)
theorem dX0_isBetter_14 : decode cX0_isBetter 14 = .ok (.isub, 1) := dk_100 (dk_at dksX0_isBetter_0 14 rfl rfl)
theorem dX0_isBetter_15 : decode cX0_isBetter 15 = .ok (.istore_n 3, 1) := dk_62 (dk_at dksX0_isBetter_0 15 rfl rfl)
theorem dX0_isBetter_16 : decode cX0_isBetter 16 = .ok (.iload_n 3, 1) := dk_29 (dk_at dksX0_isBetter_0 16 rfl rfl)
theorem dX0_isBetter_17 : decode cX0_isBetter 17 = .ok (.ifCond .lt 20, 3) := dk_155 0 20 (dk_at dksX0_isBetter_0 17 rfl rfl)
theorem dX0_isBetter_20 : decode cX0_isBetter 20 = .ok (.iload_n 3, 1) := dk_29 (dk_at dksX0_isBetter_0 20 rfl rfl)
theorem dX0_isBetter_21 : decode cX0_isBetter 21 = .ok (.ifCond .ne 20, 3) := dk_154 0 20 (dk_at dksX0_isBetter_0 21 rfl rfl)
theorem dX0_isBetter_24 : decode cX0_isBetter 24 = .ok (.aload_n 0, 1) := dk_42 (dk_at dksX0_isBetter_1 0 rfl rfl)
theorem dX0_isBetter_25 : decode cX0_isBetter 25 = .ok (.iload_n 1, 1) := dk_27 (dk_at dksX0_isBetter_1 1 rfl rfl)
theorem dX0_isBetter_26 : decode cX0_isBetter 26 = .ok (.invokevirtual 276, 3) := dk_182 1 20 (dk_at dksX0_isBetter_1 2 rfl rfl)
theorem dX0_isBetter_29 : decode cX0_isBetter 29 = .ok (.aload_n 0, 1) := dk_42 (dk_at dksX0_isBetter_1 5 rfl rfl)
theorem dX0_isBetter_30 : decode cX0_isBetter 30 = .ok (.iload_n 2, 1) := dk_28 (dk_at dksX0_isBetter_1 6 rfl rfl)
theorem dX0_isBetter_31 : decode cX0_isBetter 31 = .ok (.invokevirtual 276, 3) := dk_182 1 20 (dk_at dksX0_isBetter_1 7 rfl rfl)
theorem dX0_isBetter_34 : decode cX0_isBetter 34 = .ok (.if_icmp .ge 7, 3) := dk_162 0 7 (dk_at dksX0_isBetter_1 10 rfl rfl)
theorem dX0_isBetter_37 : decode cX0_isBetter 37 = .ok (.iconst 1, 1) := dk_4 (dk_at dksX0_isBetter_1 13 rfl rfl)
theorem dX0_isBetter_38 : decode cX0_isBetter 38 = .ok (.goto 4, 3) := dk_167 0 4 (dk_at dksX0_isBetter_1 14 rfl rfl)
theorem dX0_isBetter_41 : decode cX0_isBetter 41 = .ok (.iconst 0, 1) := dk_3 (dk_at dksX0_isBetter_1 17 rfl rfl)
theorem dX0_isBetter_42 : decode cX0_isBetter 42 = .ok (.ireturn, 1) := dk_172 (dk_at dksX0_isBetter_1 18 rfl rfl)
def dkwX0_worthOf_1 : List UInt8 := [180, 0, 17, 29, 50, 180, 0, 116, 167, 0, 4, 3, 96, 61, 132, 3, 1, 167, 255, 221, 28, 172]
abbrev dktX0_worthOf_1 : List UInt8 := dkwX0_worthOf_1 ++ []
def dkwX0_worthOf_0 : List UInt8 := [3, 61, 3, 62, 29, 42, 180, 0, 71, 162, 0, 33, 28, 27, 29, 184, 1, 12, 153, 0, 15, 42]
abbrev dktX0_worthOf_0 : List UInt8 := dkwX0_worthOf_0 ++ dktX0_worthOf_1
theorem dksX0_worthOf_0 : cX0_worthOf.data.toList.drop 0 = dktX0_worthOf_0 := by decide +kernel
theorem dksX0_worthOf_1 : cX0_worthOf.data.toList.drop 22 = dktX0_worthOf_1 := dk_seg dksX0_worthOf_0 22 rfl rfl
theorem dX0_worthOf_0 : decode cX0_worthOf 0 = .ok (.iconst 0, 1) := dk_3 (dk_at dksX0_worthOf_0 0 rfl rfl)
theorem dX0_worthOf_1 : decode cX0_worthOf 1 = .ok (.istore_n 2, 1) := dk_61 (dk_at dksX0_worthOf_0 1 rfl rfl)
theorem dX0_worthOf_2 : decode cX0_worthOf 2 = .ok (.iconst 0, 1) := dk_3 (dk_at dksX0_worthOf_0 2 rfl rfl)
theorem dX0_worthOf_3 : decode cX0_worthOf 3 = .ok (.istore_n 3, 1) := dk_62 (dk_at dksX0_worthOf_0 3 rfl rfl)
theorem dX0_worthOf_4 : decode cX0_worthOf 4 = .ok (.iload_n 3, 1) := dk_29 (dk_at dksX0_worthOf_0 4 rfl rfl)
theorem dX0_worthOf_5 : decode cX0_worthOf 5 = .ok (.aload_n 0, 1) := dk_42 (dk_at dksX0_worthOf_0 5 rfl rfl)
theorem dX0_worthOf_6 : decode cX0_worthOf 6 = .ok (.getfield 71, 3) := dk_180 0 71 (dk_at dksX0_worthOf_0 6 rfl rfl)
theorem dX0_worthOf_9 : decode cX0_worthOf 9 = .ok (.if_icmp .ge 33, 3) := dk_162 0 33 (dk_at dksX0_worthOf_0 9 rfl rfl)
theorem dX0_worthOf_12 : decode cX0_worthOf 12 = .ok (.iload_n 2, 1) := dk_28 (dk_at dksX0_worthOf_0 12 rfl rfl)
theorem dX0_worthOf_13 : decode cX0_worthOf 13 = .ok (.iload_n 1, 1) := dk_27 (dk_at dksX0_worthOf_0 13 rfl rfl)
theorem dX0_worthOf_14 : decode cX0_worthOf 14 = .ok (.iload_n 3, 1) := dk_29 (dk_at dksX0_worthOf_0 14 rfl rfl)
theorem dX0_worthOf_15 : decode cX0_worthOf 15 = .ok (.invokestatic 268, 3) := dk_184 1 12 (dk_at dksX0_worthOf_0 15 rfl rfl)
theorem dX0_worthOf_18 : decode cX0_worthOf 18 = .ok (.ifCond .eq 15, 3) := dk_153 0 15 (dk_at dksX0_worthOf_0 18 rfl rfl)
theorem dX0_worthOf_21 : decode cX0_worthOf 21 = .ok (.aload_n 0, 1) := dk_42 (dk_at dksX0_worthOf_0 21 rfl rfl)
theorem dX0_worthOf_22 : decode cX0_worthOf 22 = .ok (.getfield 17, 3) := dk_180 0 17 (dk_at dksX0_worthOf_1 0 rfl rfl)
theorem dX0_worthOf_25 : decode cX0_worthOf 25 = .ok (.iload_n 3, 1) := dk_29 (dk_at dksX0_worthOf_1 3 rfl rfl)
theorem dX0_worthOf_26 : decode cX0_worthOf 26 = .ok (.aaload, 1) := dk_50 (dk_at dksX0_worthOf_1 4 rfl rfl)
theorem dX0_worthOf_27 : decode cX0_worthOf 27 = .ok (.getfield 116, 3) := dk_180 0 116 (dk_at dksX0_worthOf_1 5 rfl rfl)
theorem dX0_worthOf_30 : decode cX0_worthOf 30 = .ok (.goto 4, 3) := dk_167 0 4 (dk_at dksX0_worthOf_1 8 rfl rfl)
theorem dX0_worthOf_33 : decode cX0_worthOf 33 = .ok (.iconst 0, 1) := dk_3 (dk_at dksX0_worthOf_1 11 rfl rfl)
theorem dX0_worthOf_34 : decode cX0_worthOf 34 = .ok (.iadd, 1) := dk_96 (dk_at dksX0_worthOf_1 12 rfl rfl)
theorem dX0_worthOf_35 : decode cX0_worthOf 35 = .ok (.istore_n 2, 1) := dk_61 (dk_at dksX0_worthOf_1 13 rfl rfl)
theorem dX0_worthOf_36 : decode cX0_worthOf 36 = .ok (.iinc 3 1, 3) := dk_132 3 1 (dk_at dksX0_worthOf_1 14 rfl rfl)
theorem dX0_worthOf_39 : decode cX0_worthOf 39 = .ok (.goto (-35), 3) := dk_167 255 221 (dk_at dksX0_worthOf_1 17 rfl rfl)
theorem dX0_worthOf_42 : decode cX0_worthOf 42 = .ok (.iload_n 2, 1) := dk_28 (dk_at dksX0_worthOf_1 20 rfl rfl)
theorem dX0_worthOf_43 : decode cX0_worthOf 43 = .ok (.ireturn, 1) := dk_172 (dk_at dksX0_worthOf_1 21 rfl rfl)
def dkwX0_holds_3 : List UInt8 := [18, 172, 172]
abbrev dktX0_holds_3 : List UInt8 := dkwX0_holds_3 ++ []
def dkwX0_holds_2 : List UInt8 := [42, 27, 182, 1, 38, 172, 42, 27, 182, 1, 41, 172, 42, 27, 182, 1, 44, 172, 42, 27, 182, 1, 47, 172]
abbrev dktX0_holds_2 : List UInt8 := dkwX0_holds_2 ++ dktX0_holds_3
def dkwX0_holds_1 : List UInt8 := [170, 0, 0, 0, 0, 0, 0, 56, 0, 0, 0, 0, 0, 0, 0, 3, 0, 0, 0, 32, 0, 0, 0, 38, 0, 0, 0, 44, 0, 0, 0, 50]
abbrev dktX0_holds_1 : List UInt8 := dkwX0_holds_1 ++ dktX0_holds_2
def dkwX0_holds_0 : List UInt8 := [42, 27, 182, 0, 74, 154, 0, 6, 18, 172, 172, 28]
abbrev dktX0_holds_0 : List UInt8 := dkwX0_holds_0 ++ dktX0_holds_1
theorem dksX0_holds_0 : cX0_holds.data.toList.drop 0 = dktX0_holds_0 := by decide +kernel
theorem dksX0_holds_1 : cX0_holds.data.toList.drop 12 = dktX0_holds_1 := dk_seg dksX0_holds_0 12 rfl rfl
theorem dksX0_holds_2 : cX0_holds.data.toList.drop 44 = dktX0_holds_2 := dk_seg dksX0_holds_1 32 rfl rfl
theorem dksX0_holds_3 : cX0_holds.data.toList.drop 68 = dktX0_holds_3 := dk_seg dksX0_holds_2 24 rfl rfl
theorem dX0_holds_0 : decode cX0_holds 0 = .ok (.aload_n 0, 1) := dk_42 (dk_at dksX0_holds_0 0 rfl rfl)
theorem dX0_holds_1 : decode cX0_holds 1 = .ok (.iload_n 1, 1) := dk_27 (dk_at dksX0_holds_0 1 rfl rfl)
theorem dX0_holds_2 : decode cX0_holds 2 = .ok (.invokevirtual 74, 3) := dk_182 0 74 (dk_at dksX0_holds_0 2 rfl rfl)
theorem dX0_holds_5 : decode cX0_holds 5 = .ok (.ifCond .ne 6, 3) := dk_154 0 6 (dk_at dksX0_holds_0 5 rfl rfl)
theorem dX0_holds_8 : decode cX0_holds 8 = .ok (.ldc 172, 2) := dk_18 172 (dk_at dksX0_holds_0 8 rfl rfl)
theorem dX0_holds_10 : decode cX0_holds 10 = .ok (.ireturn, 1) := dk_172 (dk_at dksX0_holds_0 10 rfl rfl)
theorem dX0_holds_11 : decode cX0_holds 11 = .ok (.iload_n 2, 1) := dk_28 (dk_at dksX0_holds_0 11 rfl rfl)
theorem dX0_holds_12 : decode cX0_holds 12 = .ok (.tableswitch 56 0 3 #[32, 38, 44, 50], 32) := by decide +kernel
theorem dX0_holds_44 : decode cX0_holds 44 = .ok (.aload_n 0, 1) := dk_42 (dk_at dksX0_holds_2 0 rfl rfl)
theorem dX0_holds_45 : decode cX0_holds 45 = .ok (.iload_n 1, 1) := dk_27 (dk_at dksX0_holds_2 1 rfl rfl)
theorem dX0_holds_46 : decode cX0_holds 46 = .ok (.invokevirtual 294, 3) := dk_182 1 38 (dk_at dksX0_holds_2 2 rfl rfl)
theorem dX0_holds_49 : decode cX0_holds 49 = .ok (.ireturn, 1) := dk_172 (dk_at dksX0_holds_2 5 rfl rfl)
theorem dX0_holds_50 : decode cX0_holds 50 = .ok (.aload_n 0, 1) := dk_42 (dk_at dksX0_holds_2 6 rfl rfl)
theorem dX0_holds_51 : decode cX0_holds 51 = .ok (.iload_n 1, 1) := dk_27 (dk_at dksX0_holds_2 7 rfl rfl)
theorem dX0_holds_52 : decode cX0_holds 52 = .ok (.invokevirtual 297, 3) := dk_182 1 41 (dk_at dksX0_holds_2 8 rfl rfl)
theorem dX0_holds_55 : decode cX0_holds 55 = .ok (.ireturn, 1) := dk_172 (dk_at dksX0_holds_2 11 rfl rfl)
theorem dX0_holds_56 : decode cX0_holds 56 = .ok (.aload_n 0, 1) := dk_42 (dk_at dksX0_holds_2 12 rfl rfl)
theorem dX0_holds_57 : decode cX0_holds 57 = .ok (.iload_n 1, 1) := dk_27 (dk_at dksX0_holds_2 13 rfl rfl)
theorem dX0_holds_58 : decode cX0_holds 58 = .ok (.invokevirtual 300, 3) := dk_182 1 44 (dk_at dksX0_holds_2 14 rfl rfl)
theorem dX0_holds_61 : decode cX0_holds 61 = .ok (.ireturn, 1) := dk_172 (dk_at dksX0_holds_2 17 rfl rfl)
theorem dX0_holds_62 : decode cX0_holds 62 = .ok (.aload_n 0, 1) := dk_42 (dk_at dksX0_holds_2 18 rfl rfl)
theorem dX0_holds_63 : decode cX0_holds 63 = .ok (.iload_n 1, 1) := dk_27 (dk_at dksX0_holds_2 19 rfl rfl)
theorem dX0_holds_64 : decode cX0_holds 64 = .ok (.invokevirtual 303, 3) := dk_182 1 47 (dk_at dksX0_holds_2 20 rfl rfl)
theorem dX0_holds_67 : decode cX0_holds 67 = .ok (.ireturn, 1) := dk_172 (dk_at dksX0_holds_2 23 rfl rfl)
theorem dX0_holds_68 : decode cX0_holds 68 = .ok (.ldc 172, 2) := dk_18 172 (dk_at dksX0_holds_3 0 rfl rfl)
theorem dX0_holds_70 : decode cX0_holds 70 = .ok (.ireturn, 1) := dk_172 (dk_at dksX0_holds_3 2 rfl rfl)
def dkwX0_holder_1 : List UInt8 := [167, 0, 12, 42, 180, 0, 17, 28, 50, 180, 0, 176, 172]
abbrev dktX0_holder_1 : List UInt8 := dkwX0_holder_1 ++ []
def dkwX0_holder_0 : List UInt8 := [42, 27, 182, 0, 255, 61, 28, 155, 0, 15, 42, 180, 0, 17, 28, 50, 180, 0, 176, 156, 0, 8, 16, 254]
abbrev dktX0_holder_0 : List UInt8 := dkwX0_holder_0 ++ dktX0_holder_1
theorem dksX0_holder_0 : cX0_holder.data.toList.drop 0 = dktX0_holder_0 := by decide +kernel
theorem dksX0_holder_1 : cX0_holder.data.toList.drop 24 = dktX0_holder_1 := dk_seg dksX0_holder_0 24 rfl rfl
theorem dX0_holder_0 : decode cX0_holder 0 = .ok (.aload_n 0, 1) := dk_42 (dk_at dksX0_holder_0 0 rfl rfl)
theorem dX0_holder_1 : decode cX0_holder 1 = .ok (.iload_n 1, 1) := dk_27 (dk_at dksX0_holder_0 1 rfl rfl)
theorem dX0_holder_2 : decode cX0_holder 2 = .ok (.invokevirtual 255, 3) := dk_182 0 255 (dk_at dksX0_holder_0 2 rfl rfl)
theorem dX0_holder_5 : decode cX0_holder 5 = .ok (.istore_n 2, 1) := dk_61 (dk_at dksX0_holder_0 5 rfl rfl)
theorem dX0_holder_6 : decode cX0_holder 6 = .ok (.iload_n 2, 1) := dk_28 (dk_at dksX0_holder_0 6 rfl rfl)
theorem dX0_holder_7 : decode cX0_holder 7 = .ok (.ifCond .lt 15, 3) := dk_155 0 15 (dk_at dksX0_holder_0 7 rfl rfl)
theorem dX0_holder_10 : decode cX0_holder 10 = .ok (.aload_n 0, 1) := dk_42 (dk_at dksX0_holder_0 10 rfl rfl)
theorem dX0_holder_11 : decode cX0_holder 11 = .ok (.getfield 17, 3) := dk_180 0 17 (dk_at dksX0_holder_0 11 rfl rfl)
theorem dX0_holder_14 : decode cX0_holder 14 = .ok (.iload_n 2, 1) := dk_28 (dk_at dksX0_holder_0 14 rfl rfl)
theorem dX0_holder_15 : decode cX0_holder 15 = .ok (.aaload, 1) := dk_50 (dk_at dksX0_holder_0 15 rfl rfl)
theorem dX0_holder_16 : decode cX0_holder 16 = .ok (.getfield 176, 3) := dk_180 0 176 (dk_at dksX0_holder_0 16 rfl rfl)
theorem dX0_holder_19 : decode cX0_holder 19 = .ok (.ifCond .ge 8, 3) := dk_156 0 8 (dk_at dksX0_holder_0 19 rfl rfl)
theorem dX0_holder_22 : decode cX0_holder 22 = .ok (.bipush (-2), 2) := dk_16 254 (dk_at dksX0_holder_0 22 rfl rfl)
theorem dX0_holder_24 : decode cX0_holder 24 = .ok (.goto 12, 3) := dk_167 0 12 (dk_at dksX0_holder_1 0 rfl rfl)
theorem dX0_holder_27 : decode cX0_holder 27 = .ok (.aload_n 0, 1) := dk_42 (dk_at dksX0_holder_1 3 rfl rfl)
theorem dX0_holder_28 : decode cX0_holder 28 = .ok (.getfield 17, 3) := dk_180 0 17 (dk_at dksX0_holder_1 4 rfl rfl)
theorem dX0_holder_31 : decode cX0_holder 31 = .ok (.iload_n 2, 1) := dk_28 (dk_at dksX0_holder_1 7 rfl rfl)
theorem dX0_holder_32 : decode cX0_holder 32 = .ok (.aaload, 1) := dk_50 (dk_at dksX0_holder_1 8 rfl rfl)
theorem dX0_holder_33 : decode cX0_holder 33 = .ok (.getfield 176, 3) := dk_180 0 176 (dk_at dksX0_holder_1 9 rfl rfl)
theorem dX0_holder_36 : decode cX0_holder 36 = .ok (.ireturn, 1) := dk_172 (dk_at dksX0_holder_1 12 rfl rfl)
def dkwX0_ringOf_1 : List UInt8 := [160, 0, 5, 28, 172, 132, 2, 1, 42, 29, 182, 1, 38, 62, 167, 255, 228, 16, 254, 172]
abbrev dktX0_ringOf_1 : List UInt8 := dkwX0_ringOf_1 ++ []
def dkwX0_ringOf_0 : List UInt8 := [4, 61, 42, 27, 182, 1, 38, 62, 29, 155, 0, 30, 28, 42, 180, 0, 63, 163, 0, 22, 29, 27]
abbrev dktX0_ringOf_0 : List UInt8 := dkwX0_ringOf_0 ++ dktX0_ringOf_1
theorem dksX0_ringOf_0 : cX0_ringOf.data.toList.drop 0 = dktX0_ringOf_0 := by decide +kernel
theorem dksX0_ringOf_1 : cX0_ringOf.data.toList.drop 22 = dktX0_ringOf_1 := dk_seg dksX0_ringOf_0 22 rfl rfl
theorem dX0_ringOf_0 : decode cX0_ringOf 0 = .ok (.iconst 1, 1) := dk_4 (dk_at dksX0_ringOf_0 0 rfl rfl)
theorem dX0_ringOf_1 : decode cX0_ringOf 1 = .ok (.istore_n 2, 1) := dk_61 (dk_at dksX0_ringOf_0 1 rfl rfl)
theorem dX0_ringOf_2 : decode cX0_ringOf 2 = .ok (.aload_n 0, 1) := dk_42 (dk_at dksX0_ringOf_0 2 rfl rfl)
theorem dX0_ringOf_3 : decode cX0_ringOf 3 = .ok (.iload_n 1, 1) := dk_27 (dk_at dksX0_ringOf_0 3 rfl rfl)
theorem dX0_ringOf_4 : decode cX0_ringOf 4 = .ok (.invokevirtual 294, 3) := dk_182 1 38 (dk_at dksX0_ringOf_0 4 rfl rfl)
theorem dX0_ringOf_7 : decode cX0_ringOf 7 = .ok (.istore_n 3, 1) := dk_62 (dk_at dksX0_ringOf_0 7 rfl rfl)
theorem dX0_ringOf_8 : decode cX0_ringOf 8 = .ok (.iload_n 3, 1) := dk_29 (dk_at dksX0_ringOf_0 8 rfl rfl)
theorem dX0_ringOf_9 : decode cX0_ringOf 9 = .ok (.ifCond .lt 30, 3) := dk_155 0 30 (dk_at dksX0_ringOf_0 9 rfl rfl)
theorem dX0_ringOf_12 : decode cX0_ringOf 12 = .ok (.iload_n 2, 1) := dk_28 (dk_at dksX0_ringOf_0 12 rfl rfl)
theorem dX0_ringOf_13 : decode cX0_ringOf 13 = .ok (.aload_n 0, 1) := dk_42 (dk_at dksX0_ringOf_0 13 rfl rfl)
theorem dX0_ringOf_14 : decode cX0_ringOf 14 = .ok (.getfield 63, 3) := dk_180 0 63 (dk_at dksX0_ringOf_0 14 rfl rfl)
theorem dX0_ringOf_17 : decode cX0_ringOf 17 = .ok (.if_icmp .gt 22, 3) := dk_163 0 22 (dk_at dksX0_ringOf_0 17 rfl rfl)
theorem dX0_ringOf_20 : decode cX0_ringOf 20 = .ok (.iload_n 3, 1) := dk_29 (dk_at dksX0_ringOf_0 20 rfl rfl)
theorem dX0_ringOf_21 : decode cX0_ringOf 21 = .ok (.iload_n 1, 1) := dk_27 (dk_at dksX0_ringOf_0 21 rfl rfl)
theorem dX0_ringOf_22 : decode cX0_ringOf 22 = .ok (.if_icmp .ne 5, 3) := dk_160 0 5 (dk_at dksX0_ringOf_1 0 rfl rfl)
theorem dX0_ringOf_25 : decode cX0_ringOf 25 = .ok (.iload_n 2, 1) := dk_28 (dk_at dksX0_ringOf_1 3 rfl rfl)
theorem dX0_ringOf_26 : decode cX0_ringOf 26 = .ok (.ireturn, 1) := dk_172 (dk_at dksX0_ringOf_1 4 rfl rfl)
theorem dX0_ringOf_27 : decode cX0_ringOf 27 = .ok (.iinc 2 1, 3) := dk_132 2 1 (dk_at dksX0_ringOf_1 5 rfl rfl)
theorem dX0_ringOf_30 : decode cX0_ringOf 30 = .ok (.aload_n 0, 1) := dk_42 (dk_at dksX0_ringOf_1 8 rfl rfl)
theorem dX0_ringOf_31 : decode cX0_ringOf 31 = .ok (.iload_n 3, 1) := dk_29 (dk_at dksX0_ringOf_1 9 rfl rfl)
theorem dX0_ringOf_32 : decode cX0_ringOf 32 = .ok (.invokevirtual 294, 3) := dk_182 1 38 (dk_at dksX0_ringOf_1 10 rfl rfl)
theorem dX0_ringOf_35 : decode cX0_ringOf 35 = .ok (.istore_n 3, 1) := dk_62 (dk_at dksX0_ringOf_1 13 rfl rfl)
theorem dX0_ringOf_36 : decode cX0_ringOf 36 = .ok (.goto (-28), 3) := dk_167 255 228 (dk_at dksX0_ringOf_1 14 rfl rfl)
theorem dX0_ringOf_39 : decode cX0_ringOf 39 = .ok (.bipush (-2), 2) := dk_16 254 (dk_at dksX0_ringOf_1 17 rfl rfl)
theorem dX0_ringOf_41 : decode cX0_ringOf 41 = .ok (.ireturn, 1) := dk_172 (dk_at dksX0_ringOf_1 19 rfl rfl)
def dkwX0_endOf_1 : List UInt8 := [182, 1, 38, 61, 132, 3, 1, 167, 255, 229, 16, 254, 172]
abbrev dktX0_endOf_1 : List UInt8 := dkwX0_endOf_1 ++ []
def dkwX0_endOf_0 : List UInt8 := [27, 61, 3, 62, 29, 42, 180, 0, 63, 163, 0, 25, 42, 28, 182, 1, 38, 156, 0, 5, 28, 172, 42, 28]
abbrev dktX0_endOf_0 : List UInt8 := dkwX0_endOf_0 ++ dktX0_endOf_1
theorem dksX0_endOf_0 : cX0_endOf.data.toList.drop 0 = dktX0_endOf_0 := by decide +kernel
theorem dksX0_endOf_1 : cX0_endOf.data.toList.drop 24 = dktX0_endOf_1 := dk_seg dksX0_endOf_0 24 rfl rfl
theorem dX0_endOf_0 : decode cX0_endOf 0 = .ok (.iload_n 1, 1) := dk_27 (dk_at dksX0_endOf_0 0 rfl rfl)
theorem dX0_endOf_1 : decode cX0_endOf 1 = .ok (.istore_n 2, 1) := dk_61 (dk_at dksX0_endOf_0 1 rfl rfl)
theorem dX0_endOf_2 : decode cX0_endOf 2 = .ok (.iconst 0, 1) := dk_3 (dk_at dksX0_endOf_0 2 rfl rfl)
theorem dX0_endOf_3 : decode cX0_endOf 3 = .ok (.istore_n 3, 1) := dk_62 (dk_at dksX0_endOf_0 3 rfl rfl)
theorem dX0_endOf_4 : decode cX0_endOf 4 = .ok (.iload_n 3, 1) := dk_29 (dk_at dksX0_endOf_0 4 rfl rfl)
theorem dX0_endOf_5 : decode cX0_endOf 5 = .ok (.aload_n 0, 1) := dk_42 (dk_at dksX0_endOf_0 5 rfl rfl)
theorem dX0_endOf_6 : decode cX0_endOf 6 = .ok (.getfield 63, 3) := dk_180 0 63 (dk_at dksX0_endOf_0 6 rfl rfl)
theorem dX0_endOf_9 : decode cX0_endOf 9 = .ok (.if_icmp .gt 25, 3) := dk_163 0 25 (dk_at dksX0_endOf_0 9 rfl rfl)
theorem dX0_endOf_12 : decode cX0_endOf 12 = .ok (.aload_n 0, 1) := dk_42 (dk_at dksX0_endOf_0 12 rfl rfl)
theorem dX0_endOf_13 : decode cX0_endOf 13 = .ok (.iload_n 2, 1) := dk_28 (dk_at dksX0_endOf_0 13 rfl rfl)
theorem dX0_endOf_14 : decode cX0_endOf 14 = .ok (.invokevirtual 294, 3) := dk_182 1 38 (dk_at dksX0_endOf_0 14 rfl rfl)
theorem dX0_endOf_17 : decode cX0_endOf 17 = .ok (.ifCond .ge 5, 3) := dk_156 0 5 (dk_at dksX0_endOf_0 17 rfl rfl)
theorem dX0_endOf_20 : decode cX0_endOf 20 = .ok (.iload_n 2, 1) := dk_28 (dk_at dksX0_endOf_0 20 rfl rfl)
theorem dX0_endOf_21 : decode cX0_endOf 21 = .ok (.ireturn, 1) := dk_172 (dk_at dksX0_endOf_0 21 rfl rfl)
theorem dX0_endOf_22 : decode cX0_endOf 22 = .ok (.aload_n 0, 1) := dk_42 (dk_at dksX0_endOf_0 22 rfl rfl)
theorem dX0_endOf_23 : decode cX0_endOf 23 = .ok (.iload_n 2, 1) := dk_28 (dk_at dksX0_endOf_0 23 rfl rfl)
theorem dX0_endOf_24 : decode cX0_endOf 24 = .ok (.invokevirtual 294, 3) := dk_182 1 38 (dk_at dksX0_endOf_1 0 rfl rfl)
theorem dX0_endOf_27 : decode cX0_endOf 27 = .ok (.istore_n 2, 1) := dk_61 (dk_at dksX0_endOf_1 3 rfl rfl)
theorem dX0_endOf_28 : decode cX0_endOf 28 = .ok (.iinc 3 1, 3) := dk_132 3 1 (dk_at dksX0_endOf_1 4 rfl rfl)
theorem dX0_endOf_31 : decode cX0_endOf 31 = .ok (.goto (-27), 3) := dk_167 255 229 (dk_at dksX0_endOf_1 7 rfl rfl)
theorem dX0_endOf_34 : decode cX0_endOf 34 = .ok (.bipush (-2), 2) := dk_16 254 (dk_at dksX0_endOf_1 10 rfl rfl)
theorem dX0_endOf_36 : decode cX0_endOf 36 = .ok (.ireturn, 1) := dk_172 (dk_at dksX0_endOf_1 12 rfl rfl)
def dkwX0_owedTo_3 : List UInt8 := [180, 0, 17, 29, 50, 180, 0, 116, 167, 0, 4, 3, 100, 96, 61, 132, 3, 1, 167, 255, 173, 28, 172]
abbrev dktX0_owedTo_3 : List UInt8 := dkwX0_owedTo_3 ++ []
def dkwX0_owedTo_2 : List UInt8 := [29, 50, 180, 0, 116, 167, 0, 4, 3, 42, 180, 0, 17, 29, 50, 180, 0, 173, 27, 160, 0, 15, 42]
abbrev dktX0_owedTo_2 : List UInt8 := dkwX0_owedTo_2 ++ dktX0_owedTo_3
def dkwX0_owedTo_1 : List UInt8 := [182, 0, 216, 153, 0, 59, 28, 42, 180, 0, 17, 29, 50, 180, 0, 176, 27, 160, 0, 15, 42, 180, 0, 17]
abbrev dktX0_owedTo_1 : List UInt8 := dkwX0_owedTo_1 ++ dktX0_owedTo_2
def dkwX0_owedTo_0 : List UInt8 := [3, 61, 3, 62, 29, 42, 180, 0, 71, 162, 0, 81, 42, 180, 0, 17, 29, 50, 42, 180, 0, 78]
abbrev dktX0_owedTo_0 : List UInt8 := dkwX0_owedTo_0 ++ dktX0_owedTo_1
theorem dksX0_owedTo_0 : cX0_owedTo.data.toList.drop 0 = dktX0_owedTo_0 := by decide +kernel
theorem dksX0_owedTo_1 : cX0_owedTo.data.toList.drop 22 = dktX0_owedTo_1 := dk_seg dksX0_owedTo_0 22 rfl rfl
theorem dksX0_owedTo_2 : cX0_owedTo.data.toList.drop 46 = dktX0_owedTo_2 := dk_seg dksX0_owedTo_1 24 rfl rfl
theorem dksX0_owedTo_3 : cX0_owedTo.data.toList.drop 69 = dktX0_owedTo_3 := dk_seg dksX0_owedTo_2 23 rfl rfl
theorem dX0_owedTo_0 : decode cX0_owedTo 0 = .ok (.iconst 0, 1) := dk_3 (dk_at dksX0_owedTo_0 0 rfl rfl)
theorem dX0_owedTo_1 : decode cX0_owedTo 1 = .ok (.istore_n 2, 1) := dk_61 (dk_at dksX0_owedTo_0 1 rfl rfl)
theorem dX0_owedTo_2 : decode cX0_owedTo 2 = .ok (.iconst 0, 1) := dk_3 (dk_at dksX0_owedTo_0 2 rfl rfl)
theorem dX0_owedTo_3 : decode cX0_owedTo 3 = .ok (.istore_n 3, 1) := dk_62 (dk_at dksX0_owedTo_0 3 rfl rfl)
theorem dX0_owedTo_4 : decode cX0_owedTo 4 = .ok (.iload_n 3, 1) := dk_29 (dk_at dksX0_owedTo_0 4 rfl rfl)
theorem dX0_owedTo_5 : decode cX0_owedTo 5 = .ok (.aload_n 0, 1) := dk_42 (dk_at dksX0_owedTo_0 5 rfl rfl)
theorem dX0_owedTo_6 : decode cX0_owedTo 6 = .ok (.getfield 71, 3) := dk_180 0 71 (dk_at dksX0_owedTo_0 6 rfl rfl)
theorem dX0_owedTo_9 : decode cX0_owedTo 9 = .ok (.if_icmp .ge 81, 3) := dk_162 0 81 (dk_at dksX0_owedTo_0 9 rfl rfl)
theorem dX0_owedTo_12 : decode cX0_owedTo 12 = .ok (.aload_n 0, 1) := dk_42 (dk_at dksX0_owedTo_0 12 rfl rfl)
theorem dX0_owedTo_13 : decode cX0_owedTo 13 = .ok (.getfield 17, 3) := dk_180 0 17 (dk_at dksX0_owedTo_0 13 rfl rfl)
theorem dX0_owedTo_16 : decode cX0_owedTo 16 = .ok (.iload_n 3, 1) := dk_29 (dk_at dksX0_owedTo_0 16 rfl rfl)
theorem dX0_owedTo_17 : decode cX0_owedTo 17 = .ok (.aaload, 1) := dk_50 (dk_at dksX0_owedTo_0 17 rfl rfl)
theorem dX0_owedTo_18 : decode cX0_owedTo 18 = .ok (.aload_n 0, 1) := dk_42 (dk_at dksX0_owedTo_0 18 rfl rfl)
theorem dX0_owedTo_19 : decode cX0_owedTo 19 = .ok (.getfield 78, 3) := dk_180 0 78 (dk_at dksX0_owedTo_0 19 rfl rfl)
theorem dX0_owedTo_22 : decode cX0_owedTo 22 = .ok (.invokevirtual 216, 3) := dk_182 0 216 (dk_at dksX0_owedTo_1 0 rfl rfl)
theorem dX0_owedTo_25 : decode cX0_owedTo 25 = .ok (.ifCond .eq 59, 3) := dk_153 0 59 (dk_at dksX0_owedTo_1 3 rfl rfl)
theorem dX0_owedTo_28 : decode cX0_owedTo 28 = .ok (.iload_n 2, 1) := dk_28 (dk_at dksX0_owedTo_1 6 rfl rfl)
theorem dX0_owedTo_29 : decode cX0_owedTo 29 = .ok (.aload_n 0, 1) := dk_42 (dk_at dksX0_owedTo_1 7 rfl rfl)
theorem dX0_owedTo_30 : decode cX0_owedTo 30 = .ok (.getfield 17, 3) := dk_180 0 17 (dk_at dksX0_owedTo_1 8 rfl rfl)
theorem dX0_owedTo_33 : decode cX0_owedTo 33 = .ok (.iload_n 3, 1) := dk_29 (dk_at dksX0_owedTo_1 11 rfl rfl)
theorem dX0_owedTo_34 : decode cX0_owedTo 34 = .ok (.aaload, 1) := dk_50 (dk_at dksX0_owedTo_1 12 rfl rfl)
theorem dX0_owedTo_35 : decode cX0_owedTo 35 = .ok (.getfield 176, 3) := dk_180 0 176 (dk_at dksX0_owedTo_1 13 rfl rfl)
theorem dX0_owedTo_38 : decode cX0_owedTo 38 = .ok (.iload_n 1, 1) := dk_27 (dk_at dksX0_owedTo_1 16 rfl rfl)
theorem dX0_owedTo_39 : decode cX0_owedTo 39 = .ok (.if_icmp .ne 15, 3) := dk_160 0 15 (dk_at dksX0_owedTo_1 17 rfl rfl)
theorem dX0_owedTo_42 : decode cX0_owedTo 42 = .ok (.aload_n 0, 1) := dk_42 (dk_at dksX0_owedTo_1 20 rfl rfl)
theorem dX0_owedTo_43 : decode cX0_owedTo 43 = .ok (.getfield 17, 3) := dk_180 0 17 (dk_at dksX0_owedTo_1 21 rfl rfl)
theorem dX0_owedTo_46 : decode cX0_owedTo 46 = .ok (.iload_n 3, 1) := dk_29 (dk_at dksX0_owedTo_2 0 rfl rfl)
theorem dX0_owedTo_47 : decode cX0_owedTo 47 = .ok (.aaload, 1) := dk_50 (dk_at dksX0_owedTo_2 1 rfl rfl)
theorem dX0_owedTo_48 : decode cX0_owedTo 48 = .ok (.getfield 116, 3) := dk_180 0 116 (dk_at dksX0_owedTo_2 2 rfl rfl)
theorem dX0_owedTo_51 : decode cX0_owedTo 51 = .ok (.goto 4, 3) := dk_167 0 4 (dk_at dksX0_owedTo_2 5 rfl rfl)
theorem dX0_owedTo_54 : decode cX0_owedTo 54 = .ok (.iconst 0, 1) := dk_3 (dk_at dksX0_owedTo_2 8 rfl rfl)
theorem dX0_owedTo_55 : decode cX0_owedTo 55 = .ok (.aload_n 0, 1) := dk_42 (dk_at dksX0_owedTo_2 9 rfl rfl)
theorem dX0_owedTo_56 : decode cX0_owedTo 56 = .ok (.getfield 17, 3) := dk_180 0 17 (dk_at dksX0_owedTo_2 10 rfl rfl)
theorem dX0_owedTo_59 : decode cX0_owedTo 59 = .ok (.iload_n 3, 1) := dk_29 (dk_at dksX0_owedTo_2 13 rfl rfl)
theorem dX0_owedTo_60 : decode cX0_owedTo 60 = .ok (.aaload, 1) := dk_50 (dk_at dksX0_owedTo_2 14 rfl rfl)
theorem dX0_owedTo_61 : decode cX0_owedTo 61 = .ok (.getfield 173, 3) := dk_180 0 173 (dk_at dksX0_owedTo_2 15 rfl rfl)
theorem dX0_owedTo_64 : decode cX0_owedTo 64 = .ok (.iload_n 1, 1) := dk_27 (dk_at dksX0_owedTo_2 18 rfl rfl)
theorem dX0_owedTo_65 : decode cX0_owedTo 65 = .ok (.if_icmp .ne 15, 3) := dk_160 0 15 (dk_at dksX0_owedTo_2 19 rfl rfl)
theorem dX0_owedTo_68 : decode cX0_owedTo 68 = .ok (.aload_n 0, 1) := dk_42 (dk_at dksX0_owedTo_2 22 rfl rfl)
theorem dX0_owedTo_69 : decode cX0_owedTo 69 = .ok (.getfield 17, 3) := dk_180 0 17 (dk_at dksX0_owedTo_3 0 rfl rfl)
theorem dX0_owedTo_72 : decode cX0_owedTo 72 = .ok (.iload_n 3, 1) := dk_29 (dk_at dksX0_owedTo_3 3 rfl rfl)
theorem dX0_owedTo_73 : decode cX0_owedTo 73 = .ok (.aaload, 1) := dk_50 (dk_at dksX0_owedTo_3 4 rfl rfl)
theorem dX0_owedTo_74 : decode cX0_owedTo 74 = .ok (.getfield 116, 3) := dk_180 0 116 (dk_at dksX0_owedTo_3 5 rfl rfl)
theorem dX0_owedTo_77 : decode cX0_owedTo 77 = .ok (.goto 4, 3) := dk_167 0 4 (dk_at dksX0_owedTo_3 8 rfl rfl)
theorem dX0_owedTo_80 : decode cX0_owedTo 80 = .ok (.iconst 0, 1) := dk_3 (dk_at dksX0_owedTo_3 11 rfl rfl)
theorem dX0_owedTo_81 : decode cX0_owedTo 81 = .ok (.isub, 1) := dk_100 (dk_at dksX0_owedTo_3 12 rfl rfl)
theorem dX0_owedTo_82 : decode cX0_owedTo 82 = .ok (.iadd, 1) := dk_96 (dk_at dksX0_owedTo_3 13 rfl rfl)
theorem dX0_owedTo_83 : decode cX0_owedTo 83 = .ok (.istore_n 2, 1) := dk_61 (dk_at dksX0_owedTo_3 14 rfl rfl)
theorem dX0_owedTo_84 : decode cX0_owedTo 84 = .ok (.iinc 3 1, 3) := dk_132 3 1 (dk_at dksX0_owedTo_3 15 rfl rfl)
theorem dX0_owedTo_87 : decode cX0_owedTo 87 = .ok (.goto (-83), 3) := dk_167 255 173 (dk_at dksX0_owedTo_3 18 rfl rfl)
theorem dX0_owedTo_90 : decode cX0_owedTo 90 = .ok (.iload_n 2, 1) := dk_28 (dk_at dksX0_owedTo_3 21 rfl rfl)
theorem dX0_owedTo_91 : decode cX0_owedTo 91 = .ok (.ireturn, 1) := dk_172 (dk_at dksX0_owedTo_3 22 rfl rfl)
def dkwX0_judge_1 : List UInt8 := [156, 0, 7, 29, 167, 0, 8, 42, 28, 182, 1, 59, 172]
abbrev dktX0_judge_1 : List UInt8 := dkwX0_judge_1 ++ []
def dkwX0_judge_0 : List UInt8 := [27, 184, 0, 98, 153, 0, 11, 42, 28, 182, 0, 74, 154, 0, 5, 2, 172, 42, 27, 182, 1, 56, 62, 29]
abbrev dktX0_judge_0 : List UInt8 := dkwX0_judge_0 ++ dktX0_judge_1
theorem dksX0_judge_0 : cX0_judge.data.toList.drop 0 = dktX0_judge_0 := by decide +kernel
theorem dksX0_judge_1 : cX0_judge.data.toList.drop 24 = dktX0_judge_1 := dk_seg dksX0_judge_0 24 rfl rfl
theorem dX0_judge_0 : decode cX0_judge 0 = .ok (.iload_n 1, 1) := dk_27 (dk_at dksX0_judge_0 0 rfl rfl)
theorem dX0_judge_1 : decode cX0_judge 1 = .ok (.invokestatic 98, 3) := dk_184 0 98 (dk_at dksX0_judge_0 1 rfl rfl)
theorem dX0_judge_4 : decode cX0_judge 4 = .ok (.ifCond .eq 11, 3) := dk_153 0 11 (dk_at dksX0_judge_0 4 rfl rfl)
theorem dX0_judge_7 : decode cX0_judge 7 = .ok (.aload_n 0, 1) := dk_42 (dk_at dksX0_judge_0 7 rfl rfl)
theorem dX0_judge_8 : decode cX0_judge 8 = .ok (.iload_n 2, 1) := dk_28 (dk_at dksX0_judge_0 8 rfl rfl)
theorem dX0_judge_9 : decode cX0_judge 9 = .ok (.invokevirtual 74, 3) := dk_182 0 74 (dk_at dksX0_judge_0 9 rfl rfl)
theorem dX0_judge_12 : decode cX0_judge 12 = .ok (.ifCond .ne 5, 3) := dk_154 0 5 (dk_at dksX0_judge_0 12 rfl rfl)
theorem dX0_judge_15 : decode cX0_judge 15 = .ok (.iconst (-1), 1) := dk_2 (dk_at dksX0_judge_0 15 rfl rfl)
theorem dX0_judge_16 : decode cX0_judge 16 = .ok (.ireturn, 1) := dk_172 (dk_at dksX0_judge_0 16 rfl rfl)
theorem dX0_judge_17 : decode cX0_judge 17 = .ok (.aload_n 0, 1) := dk_42 (dk_at dksX0_judge_0 17 rfl rfl)
theorem dX0_judge_18 : decode cX0_judge 18 = .ok (.iload_n 1, 1) := dk_27 (dk_at dksX0_judge_0 18 rfl rfl)
theorem dX0_judge_19 : decode cX0_judge 19 = .ok (.invokevirtual 312, 3) := dk_182 1 56 (dk_at dksX0_judge_0 19 rfl rfl)
theorem dX0_judge_22 : decode cX0_judge 22 = .ok (.istore_n 3, 1) := dk_62 (dk_at dksX0_judge_0 22 rfl rfl)
theorem dX0_judge_23 : decode cX0_judge 23 = .ok (.iload_n 3, 1) := dk_29 (dk_at dksX0_judge_0 23 rfl rfl)
theorem dX0_judge_24 : decode cX0_judge 24 = .ok (.ifCond .ge 7, 3) := dk_156 0 7 (dk_at dksX0_judge_1 0 rfl rfl)
theorem dX0_judge_27 : decode cX0_judge 27 = .ok (.iload_n 3, 1) := dk_29 (dk_at dksX0_judge_1 3 rfl rfl)
theorem dX0_judge_28 : decode cX0_judge 28 = .ok (.goto 8, 3) := dk_167 0 8 (dk_at dksX0_judge_1 4 rfl rfl)
theorem dX0_judge_31 : decode cX0_judge 31 = .ok (.aload_n 0, 1) := dk_42 (dk_at dksX0_judge_1 7 rfl rfl)
theorem dX0_judge_32 : decode cX0_judge 32 = .ok (.iload_n 2, 1) := dk_28 (dk_at dksX0_judge_1 8 rfl rfl)
theorem dX0_judge_33 : decode cX0_judge 33 = .ok (.invokevirtual 315, 3) := dk_182 1 59 (dk_at dksX0_judge_1 9 rfl rfl)
theorem dX0_judge_36 : decode cX0_judge 36 = .ok (.ireturn, 1) := dk_172 (dk_at dksX0_judge_1 12 rfl rfl)
def dkwX0_layRow_2 : List UInt8 := [181, 1, 50, 132, 3, 1, 167, 255, 223, 167, 0, 11, 77, 16, 244, 172, 77, 16, 245, 172, 3, 172]
abbrev dktX0_layRow_2 : List UInt8 := dkwX0_layRow_2 ++ []
def dkwX0_layRow_1 : List UInt8 := [162, 0, 31, 42, 180, 0, 38, 29, 44, 29, 182, 0, 103, 136, 79, 42, 89, 180, 1, 50, 4, 96]
abbrev dktX0_layRow_1 : List UInt8 := dkwX0_layRow_1 ++ dktX0_layRow_2
def dkwX0_layRow_0 : List UInt8 := [42, 3, 181, 1, 50, 42, 180, 0, 59, 27, 50, 192, 0, 101, 77, 3, 62, 29, 44, 182, 1, 53]
abbrev dktX0_layRow_0 : List UInt8 := dkwX0_layRow_0 ++ dktX0_layRow_1
theorem dksX0_layRow_0 : cX0_layRow.data.toList.drop 0 = dktX0_layRow_0 := by decide +kernel
theorem dksX0_layRow_1 : cX0_layRow.data.toList.drop 22 = dktX0_layRow_1 := dk_seg dksX0_layRow_0 22 rfl rfl
theorem dksX0_layRow_2 : cX0_layRow.data.toList.drop 44 = dktX0_layRow_2 := dk_seg dksX0_layRow_1 22 rfl rfl
theorem dX0_layRow_0 : decode cX0_layRow 0 = .ok (.aload_n 0, 1) := dk_42 (dk_at dksX0_layRow_0 0 rfl rfl)
theorem dX0_layRow_1 : decode cX0_layRow 1 = .ok (.iconst 0, 1) := dk_3 (dk_at dksX0_layRow_0 1 rfl rfl)
theorem dX0_layRow_2 : decode cX0_layRow 2 = .ok (.putfield 306, 3) := dk_181 1 50 (dk_at dksX0_layRow_0 2 rfl rfl)
theorem dX0_layRow_5 : decode cX0_layRow 5 = .ok (.aload_n 0, 1) := dk_42 (dk_at dksX0_layRow_0 5 rfl rfl)
theorem dX0_layRow_6 : decode cX0_layRow 6 = .ok (.getfield 59, 3) := dk_180 0 59 (dk_at dksX0_layRow_0 6 rfl rfl)
theorem dX0_layRow_9 : decode cX0_layRow 9 = .ok (.iload_n 1, 1) := dk_27 (dk_at dksX0_layRow_0 9 rfl rfl)
theorem dX0_layRow_10 : decode cX0_layRow 10 = .ok (.aaload, 1) := dk_50 (dk_at dksX0_layRow_0 10 rfl rfl)
theorem dX0_layRow_11 : decode cX0_layRow 11 = .ok (.checkcast 101, 3) := dk_192 0 101 (dk_at dksX0_layRow_0 11 rfl rfl)
theorem dX0_layRow_14 : decode cX0_layRow 14 = .ok (.astore_n 2, 1) := dk_77 (dk_at dksX0_layRow_0 14 rfl rfl)
theorem dX0_layRow_15 : decode cX0_layRow 15 = .ok (.iconst 0, 1) := dk_3 (dk_at dksX0_layRow_0 15 rfl rfl)
theorem dX0_layRow_16 : decode cX0_layRow 16 = .ok (.istore_n 3, 1) := dk_62 (dk_at dksX0_layRow_0 16 rfl rfl)
theorem dX0_layRow_17 : decode cX0_layRow 17 = .ok (.iload_n 3, 1) := dk_29 (dk_at dksX0_layRow_0 17 rfl rfl)
theorem dX0_layRow_18 : decode cX0_layRow 18 = .ok (.aload_n 2, 1) := dk_44 (dk_at dksX0_layRow_0 18 rfl rfl)
theorem dX0_layRow_19 : decode cX0_layRow 19 = .ok (.invokevirtual 309, 3) := dk_182 1 53 (dk_at dksX0_layRow_0 19 rfl rfl)
theorem dX0_layRow_22 : decode cX0_layRow 22 = .ok (.if_icmp .ge 31, 3) := dk_162 0 31 (dk_at dksX0_layRow_1 0 rfl rfl)
theorem dX0_layRow_25 : decode cX0_layRow 25 = .ok (.aload_n 0, 1) := dk_42 (dk_at dksX0_layRow_1 3 rfl rfl)
theorem dX0_layRow_26 : decode cX0_layRow 26 = .ok (.getfield 38, 3) := dk_180 0 38 (dk_at dksX0_layRow_1 4 rfl rfl)
theorem dX0_layRow_29 : decode cX0_layRow 29 = .ok (.iload_n 3, 1) := dk_29 (dk_at dksX0_layRow_1 7 rfl rfl)
theorem dX0_layRow_30 : decode cX0_layRow 30 = .ok (.aload_n 2, 1) := dk_44 (dk_at dksX0_layRow_1 8 rfl rfl)
theorem dX0_layRow_31 : decode cX0_layRow 31 = .ok (.iload_n 3, 1) := dk_29 (dk_at dksX0_layRow_1 9 rfl rfl)
theorem dX0_layRow_32 : decode cX0_layRow 32 = .ok (.invokevirtual 103, 3) := dk_182 0 103 (dk_at dksX0_layRow_1 10 rfl rfl)
theorem dX0_layRow_35 : decode cX0_layRow 35 = .ok (.l2i, 1) := dk_136 (dk_at dksX0_layRow_1 13 rfl rfl)
theorem dX0_layRow_36 : decode cX0_layRow 36 = .ok (.iastore, 1) := dk_79 (dk_at dksX0_layRow_1 14 rfl rfl)
theorem dX0_layRow_37 : decode cX0_layRow 37 = .ok (.aload_n 0, 1) := dk_42 (dk_at dksX0_layRow_1 15 rfl rfl)
theorem dX0_layRow_38 : decode cX0_layRow 38 = .ok (.dup, 1) := dk_89 (dk_at dksX0_layRow_1 16 rfl rfl)
theorem dX0_layRow_39 : decode cX0_layRow 39 = .ok (.getfield 306, 3) := dk_180 1 50 (dk_at dksX0_layRow_1 17 rfl rfl)
theorem dX0_layRow_42 : decode cX0_layRow 42 = .ok (.iconst 1, 1) := dk_4 (dk_at dksX0_layRow_1 20 rfl rfl)
theorem dX0_layRow_43 : decode cX0_layRow 43 = .ok (.iadd, 1) := dk_96 (dk_at dksX0_layRow_1 21 rfl rfl)
theorem dX0_layRow_44 : decode cX0_layRow 44 = .ok (.putfield 306, 3) := dk_181 1 50 (dk_at dksX0_layRow_2 0 rfl rfl)
theorem dX0_layRow_47 : decode cX0_layRow 47 = .ok (.iinc 3 1, 3) := dk_132 3 1 (dk_at dksX0_layRow_2 3 rfl rfl)
theorem dX0_layRow_50 : decode cX0_layRow 50 = .ok (.goto (-33), 3) := dk_167 255 223 (dk_at dksX0_layRow_2 6 rfl rfl)
theorem dX0_layRow_53 : decode cX0_layRow 53 = .ok (.goto 11, 3) := dk_167 0 11 (dk_at dksX0_layRow_2 9 rfl rfl)
theorem dX0_layRow_56 : decode cX0_layRow 56 = .ok (.astore_n 2, 1) := dk_77 (dk_at dksX0_layRow_2 12 rfl rfl)
theorem dX0_layRow_57 : decode cX0_layRow 57 = .ok (.bipush (-12), 2) := dk_16 244 (dk_at dksX0_layRow_2 13 rfl rfl)
theorem dX0_layRow_59 : decode cX0_layRow 59 = .ok (.ireturn, 1) := dk_172 (dk_at dksX0_layRow_2 15 rfl rfl)
theorem dX0_layRow_60 : decode cX0_layRow 60 = .ok (.astore_n 2, 1) := dk_77 (dk_at dksX0_layRow_2 16 rfl rfl)
theorem dX0_layRow_61 : decode cX0_layRow 61 = .ok (.bipush (-11), 2) := dk_16 245 (dk_at dksX0_layRow_2 17 rfl rfl)
theorem dX0_layRow_63 : decode cX0_layRow 63 = .ok (.ireturn, 1) := dk_172 (dk_at dksX0_layRow_2 19 rfl rfl)
theorem dX0_layRow_64 : decode cX0_layRow 64 = .ok (.iconst 0, 1) := dk_3 (dk_at dksX0_layRow_2 20 rfl rfl)
theorem dX0_layRow_65 : decode cX0_layRow 65 = .ok (.ireturn, 1) := dk_172 (dk_at dksX0_layRow_2 21 rfl rfl)
def dkwX0_wrongDay_1 : List UInt8 := [28, 46, 159, 0, 5, 28, 172, 132, 2, 1, 167, 255, 224, 16, 254, 172]
abbrev dktX0_wrongDay_1 : List UInt8 := dkwX0_wrongDay_1 ++ []
def dkwX0_wrongDay_0 : List UInt8 := [3, 61, 28, 42, 180, 1, 50, 162, 0, 30, 42, 27, 42, 28, 182, 0, 248, 182, 0, 242, 42, 180, 0, 38]
abbrev dktX0_wrongDay_0 : List UInt8 := dkwX0_wrongDay_0 ++ dktX0_wrongDay_1
theorem dksX0_wrongDay_0 : cX0_wrongDay.data.toList.drop 0 = dktX0_wrongDay_0 := by decide +kernel
theorem dksX0_wrongDay_1 : cX0_wrongDay.data.toList.drop 24 = dktX0_wrongDay_1 := dk_seg dksX0_wrongDay_0 24 rfl rfl
theorem dX0_wrongDay_0 : decode cX0_wrongDay 0 = .ok (.iconst 0, 1) := dk_3 (dk_at dksX0_wrongDay_0 0 rfl rfl)
theorem dX0_wrongDay_1 : decode cX0_wrongDay 1 = .ok (.istore_n 2, 1) := dk_61 (dk_at dksX0_wrongDay_0 1 rfl rfl)
theorem dX0_wrongDay_2 : decode cX0_wrongDay 2 = .ok (.iload_n 2, 1) := dk_28 (dk_at dksX0_wrongDay_0 2 rfl rfl)
theorem dX0_wrongDay_3 : decode cX0_wrongDay 3 = .ok (.aload_n 0, 1) := dk_42 (dk_at dksX0_wrongDay_0 3 rfl rfl)
theorem dX0_wrongDay_4 : decode cX0_wrongDay 4 = .ok (.getfield 306, 3) := dk_180 1 50 (dk_at dksX0_wrongDay_0 4 rfl rfl)
theorem dX0_wrongDay_7 : decode cX0_wrongDay 7 = .ok (.if_icmp .ge 30, 3) := dk_162 0 30 (dk_at dksX0_wrongDay_0 7 rfl rfl)
theorem dX0_wrongDay_10 : decode cX0_wrongDay 10 = .ok (.aload_n 0, 1) := dk_42 (dk_at dksX0_wrongDay_0 10 rfl rfl)
theorem dX0_wrongDay_11 : decode cX0_wrongDay 11 = .ok (.iload_n 1, 1) := dk_27 (dk_at dksX0_wrongDay_0 11 rfl rfl)
theorem dX0_wrongDay_12 : decode cX0_wrongDay 12 = .ok (.aload_n 0, 1) := dk_42 (dk_at dksX0_wrongDay_0 12 rfl rfl)
theorem dX0_wrongDay_13 : decode cX0_wrongDay 13 = .ok (.iload_n 2, 1) := dk_28 (dk_at dksX0_wrongDay_0 13 rfl rfl)
theorem dX0_wrongDay_14 : decode cX0_wrongDay 14 = .ok (.invokevirtual 248, 3) := dk_182 0 248 (dk_at dksX0_wrongDay_0 14 rfl rfl)
theorem dX0_wrongDay_17 : decode cX0_wrongDay 17 = .ok (.invokevirtual 242, 3) := dk_182 0 242 (dk_at dksX0_wrongDay_0 17 rfl rfl)
theorem dX0_wrongDay_20 : decode cX0_wrongDay 20 = .ok (.aload_n 0, 1) := dk_42 (dk_at dksX0_wrongDay_0 20 rfl rfl)
theorem dX0_wrongDay_21 : decode cX0_wrongDay 21 = .ok (.getfield 38, 3) := dk_180 0 38 (dk_at dksX0_wrongDay_0 21 rfl rfl)
theorem dX0_wrongDay_24 : decode cX0_wrongDay 24 = .ok (.iload_n 2, 1) := dk_28 (dk_at dksX0_wrongDay_1 0 rfl rfl)
theorem dX0_wrongDay_25 : decode cX0_wrongDay 25 = .ok (.iaload, 1) := dk_46 (dk_at dksX0_wrongDay_1 1 rfl rfl)
theorem dX0_wrongDay_26 : decode cX0_wrongDay 26 = .ok (.if_icmp .eq 5, 3) := dk_159 0 5 (dk_at dksX0_wrongDay_1 2 rfl rfl)
theorem dX0_wrongDay_29 : decode cX0_wrongDay 29 = .ok (.iload_n 2, 1) := dk_28 (dk_at dksX0_wrongDay_1 5 rfl rfl)
theorem dX0_wrongDay_30 : decode cX0_wrongDay 30 = .ok (.ireturn, 1) := dk_172 (dk_at dksX0_wrongDay_1 6 rfl rfl)
theorem dX0_wrongDay_31 : decode cX0_wrongDay 31 = .ok (.iinc 2 1, 3) := dk_132 2 1 (dk_at dksX0_wrongDay_1 7 rfl rfl)
theorem dX0_wrongDay_34 : decode cX0_wrongDay 34 = .ok (.goto (-32), 3) := dk_167 255 224 (dk_at dksX0_wrongDay_1 10 rfl rfl)
theorem dX0_wrongDay_37 : decode cX0_wrongDay 37 = .ok (.bipush (-2), 2) := dk_16 254 (dk_at dksX0_wrongDay_1 13 rfl rfl)
theorem dX0_wrongDay_39 : decode cX0_wrongDay 39 = .ok (.ireturn, 1) := dk_172 (dk_at dksX0_wrongDay_1 15 rfl rfl)
def dkwX0_fits_4 : List UInt8 := [4, 167, 0, 4, 3, 182, 1, 66, 172]
abbrev dktX0_fits_4 : List UInt8 := dkwX0_fits_4 ++ []
def dkwX0_fits_3 : List UInt8 := [167, 0, 4, 3, 182, 1, 62, 167, 0, 25, 42, 28, 42, 180, 0, 17, 29, 50, 21, 4, 6, 160, 0, 7]
abbrev dktX0_fits_3 : List UInt8 := dkwX0_fits_3 ++ dktX0_fits_4
def dkwX0_fits_2 : List UInt8 := [21, 5, 172, 21, 4, 5, 162, 0, 28, 42, 28, 42, 180, 0, 17, 29, 50, 21, 4, 4, 160, 0, 7, 4]
abbrev dktX0_fits_2 : List UInt8 := dkwX0_fits_2 ++ dktX0_fits_3
def dkwX0_fits_1 : List UInt8 := [21, 4, 3, 6, 184, 0, 67, 154, 0, 5, 2, 172, 42, 27, 182, 1, 56, 54, 5, 21, 5, 156, 0, 6]
abbrev dktX0_fits_1 : List UInt8 := dkwX0_fits_1 ++ dktX0_fits_2
def dkwX0_fits_0 : List UInt8 := [27, 184, 0, 98, 153, 0, 29, 42, 28, 182, 0, 74, 153, 0, 21, 42, 29, 182, 0, 155, 153, 0, 13]
abbrev dktX0_fits_0 : List UInt8 := dkwX0_fits_0 ++ dktX0_fits_1
theorem dksX0_fits_0 : cX0_fits.data.toList.drop 0 = dktX0_fits_0 := by decide +kernel
theorem dksX0_fits_1 : cX0_fits.data.toList.drop 23 = dktX0_fits_1 := dk_seg dksX0_fits_0 23 rfl rfl
theorem dksX0_fits_2 : cX0_fits.data.toList.drop 47 = dktX0_fits_2 := dk_seg dksX0_fits_1 24 rfl rfl
theorem dksX0_fits_3 : cX0_fits.data.toList.drop 71 = dktX0_fits_3 := dk_seg dksX0_fits_2 24 rfl rfl
theorem dksX0_fits_4 : cX0_fits.data.toList.drop 95 = dktX0_fits_4 := dk_seg dksX0_fits_3 24 rfl rfl
theorem dX0_fits_0 : decode cX0_fits 0 = .ok (.iload_n 1, 1) := dk_27 (dk_at dksX0_fits_0 0 rfl rfl)
theorem dX0_fits_1 : decode cX0_fits 1 = .ok (.invokestatic 98, 3) := dk_184 0 98 (dk_at dksX0_fits_0 1 rfl rfl)
theorem dX0_fits_4 : decode cX0_fits 4 = .ok (.ifCond .eq 29, 3) := dk_153 0 29 (dk_at dksX0_fits_0 4 rfl rfl)
theorem dX0_fits_7 : decode cX0_fits 7 = .ok (.aload_n 0, 1) := dk_42 (dk_at dksX0_fits_0 7 rfl rfl)
theorem dX0_fits_8 : decode cX0_fits 8 = .ok (.iload_n 2, 1) := dk_28 (dk_at dksX0_fits_0 8 rfl rfl)
theorem dX0_fits_9 : decode cX0_fits 9 = .ok (.invokevirtual 74, 3) := dk_182 0 74 (dk_at dksX0_fits_0 9 rfl rfl)
theorem dX0_fits_12 : decode cX0_fits 12 = .ok (.ifCond .eq 21, 3) := dk_153 0 21 (dk_at dksX0_fits_0 12 rfl rfl)
theorem dX0_fits_15 : decode cX0_fits 15 = .ok (.aload_n 0, 1) := dk_42 (dk_at dksX0_fits_0 15 rfl rfl)
theorem dX0_fits_16 : decode cX0_fits 16 = .ok (.iload_n 3, 1) := dk_29 (dk_at dksX0_fits_0 16 rfl rfl)
theorem dX0_fits_17 : decode cX0_fits 17 = .ok (.invokevirtual 155, 3) := dk_182 0 155 (dk_at dksX0_fits_0 17 rfl rfl)
theorem dX0_fits_20 : decode cX0_fits 20 = .ok (.ifCond .eq 13, 3) := dk_153 0 13 (dk_at dksX0_fits_0 20 rfl rfl)
theorem dX0_fits_23 : decode cX0_fits 23 = .ok (.iload 4, 2) := dk_21 4 (dk_at dksX0_fits_1 0 rfl rfl)
theorem dX0_fits_25 : decode cX0_fits 25 = .ok (.iconst 0, 1) := dk_3 (dk_at dksX0_fits_1 2 rfl rfl)
theorem dX0_fits_26 : decode cX0_fits 26 = .ok (.iconst 3, 1) := dk_6 (dk_at dksX0_fits_1 3 rfl rfl)
theorem dX0_fits_27 : decode cX0_fits 27 = .ok (.invokestatic 67, 3) := dk_184 0 67 (dk_at dksX0_fits_1 4 rfl rfl)
theorem dX0_fits_30 : decode cX0_fits 30 = .ok (.ifCond .ne 5, 3) := dk_154 0 5 (dk_at dksX0_fits_1 7 rfl rfl)
theorem dX0_fits_33 : decode cX0_fits 33 = .ok (.iconst (-1), 1) := dk_2 (dk_at dksX0_fits_1 10 rfl rfl)
theorem dX0_fits_34 : decode cX0_fits 34 = .ok (.ireturn, 1) := dk_172 (dk_at dksX0_fits_1 11 rfl rfl)
theorem dX0_fits_35 : decode cX0_fits 35 = .ok (.aload_n 0, 1) := dk_42 (dk_at dksX0_fits_1 12 rfl rfl)
theorem dX0_fits_36 : decode cX0_fits 36 = .ok (.iload_n 1, 1) := dk_27 (dk_at dksX0_fits_1 13 rfl rfl)
theorem dX0_fits_37 : decode cX0_fits 37 = .ok (.invokevirtual 312, 3) := dk_182 1 56 (dk_at dksX0_fits_1 14 rfl rfl)
theorem dX0_fits_40 : decode cX0_fits 40 = .ok (.istore 5, 2) := dk_54 5 (dk_at dksX0_fits_1 17 rfl rfl)
theorem dX0_fits_42 : decode cX0_fits 42 = .ok (.iload 5, 2) := dk_21 5 (dk_at dksX0_fits_1 19 rfl rfl)
theorem dX0_fits_44 : decode cX0_fits 44 = .ok (.ifCond .ge 6, 3) := dk_156 0 6 (dk_at dksX0_fits_1 21 rfl rfl)
theorem dX0_fits_47 : decode cX0_fits 47 = .ok (.iload 5, 2) := dk_21 5 (dk_at dksX0_fits_2 0 rfl rfl)
theorem dX0_fits_49 : decode cX0_fits 49 = .ok (.ireturn, 1) := dk_172 (dk_at dksX0_fits_2 2 rfl rfl)
theorem dX0_fits_50 : decode cX0_fits 50 = .ok (.iload 4, 2) := dk_21 4 (dk_at dksX0_fits_2 3 rfl rfl)
theorem dX0_fits_52 : decode cX0_fits 52 = .ok (.iconst 2, 1) := dk_5 (dk_at dksX0_fits_2 5 rfl rfl)
theorem dX0_fits_53 : decode cX0_fits 53 = .ok (.if_icmp .ge 28, 3) := dk_162 0 28 (dk_at dksX0_fits_2 6 rfl rfl)
theorem dX0_fits_56 : decode cX0_fits 56 = .ok (.aload_n 0, 1) := dk_42 (dk_at dksX0_fits_2 9 rfl rfl)
theorem dX0_fits_57 : decode cX0_fits 57 = .ok (.iload_n 2, 1) := dk_28 (dk_at dksX0_fits_2 10 rfl rfl)
theorem dX0_fits_58 : decode cX0_fits 58 = .ok (.aload_n 0, 1) := dk_42 (dk_at dksX0_fits_2 11 rfl rfl)
theorem dX0_fits_59 : decode cX0_fits 59 = .ok (.getfield 17, 3) := dk_180 0 17 (dk_at dksX0_fits_2 12 rfl rfl)
theorem dX0_fits_62 : decode cX0_fits 62 = .ok (.iload_n 3, 1) := dk_29 (dk_at dksX0_fits_2 15 rfl rfl)
theorem dX0_fits_63 : decode cX0_fits 63 = .ok (.aaload, 1) := dk_50 (dk_at dksX0_fits_2 16 rfl rfl)
theorem dX0_fits_64 : decode cX0_fits 64 = .ok (.iload 4, 2) := dk_21 4 (dk_at dksX0_fits_2 17 rfl rfl)
theorem dX0_fits_66 : decode cX0_fits 66 = .ok (.iconst 1, 1) := dk_4 (dk_at dksX0_fits_2 19 rfl rfl)
theorem dX0_fits_67 : decode cX0_fits 67 = .ok (.if_icmp .ne 7, 3) := dk_160 0 7 (dk_at dksX0_fits_2 20 rfl rfl)
theorem dX0_fits_70 : decode cX0_fits 70 = .ok (.iconst 1, 1) := dk_4 (dk_at dksX0_fits_2 23 rfl rfl)
theorem dX0_fits_71 : decode cX0_fits 71 = .ok (.goto 4, 3) := dk_167 0 4 (dk_at dksX0_fits_3 0 rfl rfl)
theorem dX0_fits_74 : decode cX0_fits 74 = .ok (.iconst 0, 1) := dk_3 (dk_at dksX0_fits_3 3 rfl rfl)
theorem dX0_fits_75 : decode cX0_fits 75 = .ok (.invokevirtual 318, 3) := dk_182 1 62 (dk_at dksX0_fits_3 4 rfl rfl)
theorem dX0_fits_78 : decode cX0_fits 78 = .ok (.goto 25, 3) := dk_167 0 25 (dk_at dksX0_fits_3 7 rfl rfl)
theorem dX0_fits_81 : decode cX0_fits 81 = .ok (.aload_n 0, 1) := dk_42 (dk_at dksX0_fits_3 10 rfl rfl)
theorem dX0_fits_82 : decode cX0_fits 82 = .ok (.iload_n 2, 1) := dk_28 (dk_at dksX0_fits_3 11 rfl rfl)
theorem dX0_fits_83 : decode cX0_fits 83 = .ok (.aload_n 0, 1) := dk_42 (dk_at dksX0_fits_3 12 rfl rfl)
theorem dX0_fits_84 : decode cX0_fits 84 = .ok (.getfield 17, 3) := dk_180 0 17 (dk_at dksX0_fits_3 13 rfl rfl)
theorem dX0_fits_87 : decode cX0_fits 87 = .ok (.iload_n 3, 1) := dk_29 (dk_at dksX0_fits_3 16 rfl rfl)
theorem dX0_fits_88 : decode cX0_fits 88 = .ok (.aaload, 1) := dk_50 (dk_at dksX0_fits_3 17 rfl rfl)
theorem dX0_fits_89 : decode cX0_fits 89 = .ok (.iload 4, 2) := dk_21 4 (dk_at dksX0_fits_3 18 rfl rfl)
theorem dX0_fits_91 : decode cX0_fits 91 = .ok (.iconst 3, 1) := dk_6 (dk_at dksX0_fits_3 20 rfl rfl)
theorem dX0_fits_92 : decode cX0_fits 92 = .ok (.if_icmp .ne 7, 3) := dk_160 0 7 (dk_at dksX0_fits_3 21 rfl rfl)
theorem dX0_fits_95 : decode cX0_fits 95 = .ok (.iconst 1, 1) := dk_4 (dk_at dksX0_fits_4 0 rfl rfl)
theorem dX0_fits_96 : decode cX0_fits 96 = .ok (.goto 4, 3) := dk_167 0 4 (dk_at dksX0_fits_4 1 rfl rfl)
theorem dX0_fits_99 : decode cX0_fits 99 = .ok (.iconst 0, 1) := dk_3 (dk_at dksX0_fits_4 4 rfl rfl)
theorem dX0_fits_100 : decode cX0_fits 100 = .ok (.invokevirtual 322, 3) := dk_182 1 66 (dk_at dksX0_fits_4 5 rfl rfl)
theorem dX0_fits_103 : decode cX0_fits 103 = .ok (.ireturn, 1) := dk_172 (dk_at dksX0_fits_4 8 rfl rfl)
def dkwX0_byWorths_3 : List UInt8 := [21, 6, 167, 0, 5, 21, 5, 172]
abbrev dktX0_byWorths_3 : List UInt8 := dkwX0_byWorths_3 ++ []
def dkwX0_byWorths_2 : List UInt8 := [21, 7, 54, 6, 132, 5, 1, 132, 7, 1, 167, 255, 215, 44, 21, 4, 181, 0, 116, 29, 153, 0, 8]
abbrev dktX0_byWorths_2 : List UInt8 := dkwX0_byWorths_2 ++ dktX0_byWorths_3
def dkwX0_byWorths_1 : List UInt8 := [21, 7, 181, 0, 116, 42, 27, 182, 1, 59, 16, 254, 159, 0, 6, 167, 0, 15, 21, 5, 154, 0, 7]
abbrev dktX0_byWorths_1 : List UInt8 := dkwX0_byWorths_1 ++ dktX0_byWorths_2
def dkwX0_byWorths_0 : List UInt8 := [44, 180, 0, 116, 54, 4, 3, 54, 5, 16, 254, 54, 6, 3, 54, 7, 21, 7, 16, 99, 163, 0, 40, 44]
abbrev dktX0_byWorths_0 : List UInt8 := dkwX0_byWorths_0 ++ dktX0_byWorths_1
theorem dksX0_byWorths_0 : cX0_byWorths.data.toList.drop 0 = dktX0_byWorths_0 := by decide +kernel
theorem dksX0_byWorths_1 : cX0_byWorths.data.toList.drop 24 = dktX0_byWorths_1 := dk_seg dksX0_byWorths_0 24 rfl rfl
theorem dksX0_byWorths_2 : cX0_byWorths.data.toList.drop 47 = dktX0_byWorths_2 := dk_seg dksX0_byWorths_1 23 rfl rfl
theorem dksX0_byWorths_3 : cX0_byWorths.data.toList.drop 70 = dktX0_byWorths_3 := dk_seg dksX0_byWorths_2 23 rfl rfl
theorem dX0_byWorths_0 : decode cX0_byWorths 0 = .ok (.aload_n 2, 1) := dk_44 (dk_at dksX0_byWorths_0 0 rfl rfl)
theorem dX0_byWorths_1 : decode cX0_byWorths 1 = .ok (.getfield 116, 3) := dk_180 0 116 (dk_at dksX0_byWorths_0 1 rfl rfl)
theorem dX0_byWorths_4 : decode cX0_byWorths 4 = .ok (.istore 4, 2) := dk_54 4 (dk_at dksX0_byWorths_0 4 rfl rfl)
theorem dX0_byWorths_6 : decode cX0_byWorths 6 = .ok (.iconst 0, 1) := dk_3 (dk_at dksX0_byWorths_0 6 rfl rfl)
theorem dX0_byWorths_7 : decode cX0_byWorths 7 = .ok (.istore 5, 2) := dk_54 5 (dk_at dksX0_byWorths_0 7 rfl rfl)
theorem dX0_byWorths_9 : decode cX0_byWorths 9 = .ok (.bipush (-2), 2) := dk_16 254 (dk_at dksX0_byWorths_0 9 rfl rfl)
theorem dX0_byWorths_11 : decode cX0_byWorths 11 = .ok (.istore 6, 2) := dk_54 6 (dk_at dksX0_byWorths_0 11 rfl rfl)
theorem dX0_byWorths_13 : decode cX0_byWorths 13 = .ok (.iconst 0, 1) := dk_3 (dk_at dksX0_byWorths_0 13 rfl rfl)
theorem dX0_byWorths_14 : decode cX0_byWorths 14 = .ok (.istore 7, 2) := dk_54 7 (dk_at dksX0_byWorths_0 14 rfl rfl)
theorem dX0_byWorths_16 : decode cX0_byWorths 16 = .ok (.iload 7, 2) := dk_21 7 (dk_at dksX0_byWorths_0 16 rfl rfl)
theorem dX0_byWorths_18 : decode cX0_byWorths 18 = .ok (.bipush 99, 2) := dk_16 99 (dk_at dksX0_byWorths_0 18 rfl rfl)
theorem dX0_byWorths_20 : decode cX0_byWorths 20 = .ok (.if_icmp .gt 40, 3) := dk_163 0 40 (dk_at dksX0_byWorths_0 20 rfl rfl)
theorem dX0_byWorths_23 : decode cX0_byWorths 23 = .ok (.aload_n 2, 1) := dk_44 (dk_at dksX0_byWorths_0 23 rfl rfl)
theorem dX0_byWorths_24 : decode cX0_byWorths 24 = .ok (.iload 7, 2) := dk_21 7 (dk_at dksX0_byWorths_1 0 rfl rfl)
theorem dX0_byWorths_26 : decode cX0_byWorths 26 = .ok (.putfield 116, 3) := dk_181 0 116 (dk_at dksX0_byWorths_1 2 rfl rfl)
theorem dX0_byWorths_29 : decode cX0_byWorths 29 = .ok (.aload_n 0, 1) := dk_42 (dk_at dksX0_byWorths_1 5 rfl rfl)
theorem dX0_byWorths_30 : decode cX0_byWorths 30 = .ok (.iload_n 1, 1) := dk_27 (dk_at dksX0_byWorths_1 6 rfl rfl)
theorem dX0_byWorths_31 : decode cX0_byWorths 31 = .ok (.invokevirtual 315, 3) := dk_182 1 59 (dk_at dksX0_byWorths_1 7 rfl rfl)
theorem dX0_byWorths_34 : decode cX0_byWorths 34 = .ok (.bipush (-2), 2) := dk_16 254 (dk_at dksX0_byWorths_1 10 rfl rfl)
theorem dX0_byWorths_36 : decode cX0_byWorths 36 = .ok (.if_icmp .eq 6, 3) := dk_159 0 6 (dk_at dksX0_byWorths_1 12 rfl rfl)
theorem dX0_byWorths_39 : decode cX0_byWorths 39 = .ok (.goto 15, 3) := dk_167 0 15 (dk_at dksX0_byWorths_1 15 rfl rfl)
theorem dX0_byWorths_42 : decode cX0_byWorths 42 = .ok (.iload 5, 2) := dk_21 5 (dk_at dksX0_byWorths_1 18 rfl rfl)
theorem dX0_byWorths_44 : decode cX0_byWorths 44 = .ok (.ifCond .ne 7, 3) := dk_154 0 7 (dk_at dksX0_byWorths_1 20 rfl rfl)
theorem dX0_byWorths_47 : decode cX0_byWorths 47 = .ok (.iload 7, 2) := dk_21 7 (dk_at dksX0_byWorths_2 0 rfl rfl)
theorem dX0_byWorths_49 : decode cX0_byWorths 49 = .ok (.istore 6, 2) := dk_54 6 (dk_at dksX0_byWorths_2 2 rfl rfl)
theorem dX0_byWorths_51 : decode cX0_byWorths 51 = .ok (.iinc 5 1, 3) := dk_132 5 1 (dk_at dksX0_byWorths_2 4 rfl rfl)
theorem dX0_byWorths_54 : decode cX0_byWorths 54 = .ok (.iinc 7 1, 3) := dk_132 7 1 (dk_at dksX0_byWorths_2 7 rfl rfl)
theorem dX0_byWorths_57 : decode cX0_byWorths 57 = .ok (.goto (-41), 3) := dk_167 255 215 (dk_at dksX0_byWorths_2 10 rfl rfl)
theorem dX0_byWorths_60 : decode cX0_byWorths 60 = .ok (.aload_n 2, 1) := dk_44 (dk_at dksX0_byWorths_2 13 rfl rfl)
theorem dX0_byWorths_61 : decode cX0_byWorths 61 = .ok (.iload 4, 2) := dk_21 4 (dk_at dksX0_byWorths_2 14 rfl rfl)
theorem dX0_byWorths_63 : decode cX0_byWorths 63 = .ok (.putfield 116, 3) := dk_181 0 116 (dk_at dksX0_byWorths_2 16 rfl rfl)
theorem dX0_byWorths_66 : decode cX0_byWorths 66 = .ok (.iload_n 3, 1) := dk_29 (dk_at dksX0_byWorths_2 19 rfl rfl)
theorem dX0_byWorths_67 : decode cX0_byWorths 67 = .ok (.ifCond .eq 8, 3) := dk_153 0 8 (dk_at dksX0_byWorths_2 20 rfl rfl)
theorem dX0_byWorths_70 : decode cX0_byWorths 70 = .ok (.iload 6, 2) := dk_21 6 (dk_at dksX0_byWorths_3 0 rfl rfl)
theorem dX0_byWorths_72 : decode cX0_byWorths 72 = .ok (.goto 5, 3) := dk_167 0 5 (dk_at dksX0_byWorths_3 2 rfl rfl)
theorem dX0_byWorths_75 : decode cX0_byWorths 75 = .ok (.iload 5, 2) := dk_21 5 (dk_at dksX0_byWorths_3 5 rfl rfl)
theorem dX0_byWorths_77 : decode cX0_byWorths 77 = .ok (.ireturn, 1) := dk_172 (dk_at dksX0_byWorths_3 7 rfl rfl)
def dkwX0_byLasts_3 : List UInt8 := [21, 6, 167, 0, 5, 21, 5, 172]
abbrev dktX0_byLasts_3 : List UInt8 := dkwX0_byLasts_3 ++ []
def dkwX0_byLasts_2 : List UInt8 := [21, 7, 54, 6, 132, 5, 1, 132, 7, 1, 167, 255, 215, 44, 21, 4, 181, 0, 122, 29, 153, 0, 8]
abbrev dktX0_byLasts_2 : List UInt8 := dkwX0_byLasts_2 ++ dktX0_byLasts_3
def dkwX0_byLasts_1 : List UInt8 := [21, 7, 181, 0, 122, 42, 27, 182, 1, 59, 16, 254, 159, 0, 6, 167, 0, 15, 21, 5, 154, 0, 7]
abbrev dktX0_byLasts_1 : List UInt8 := dkwX0_byLasts_1 ++ dktX0_byLasts_2
def dkwX0_byLasts_0 : List UInt8 := [44, 180, 0, 122, 54, 4, 3, 54, 5, 16, 254, 54, 6, 4, 54, 7, 21, 7, 16, 99, 163, 0, 40, 44]
abbrev dktX0_byLasts_0 : List UInt8 := dkwX0_byLasts_0 ++ dktX0_byLasts_1
theorem dksX0_byLasts_0 : cX0_byLasts.data.toList.drop 0 = dktX0_byLasts_0 := by decide +kernel
theorem dksX0_byLasts_1 : cX0_byLasts.data.toList.drop 24 = dktX0_byLasts_1 := dk_seg dksX0_byLasts_0 24 rfl rfl
theorem dksX0_byLasts_2 : cX0_byLasts.data.toList.drop 47 = dktX0_byLasts_2 := dk_seg dksX0_byLasts_1 23 rfl rfl
theorem dksX0_byLasts_3 : cX0_byLasts.data.toList.drop 70 = dktX0_byLasts_3 := dk_seg dksX0_byLasts_2 23 rfl rfl
theorem dX0_byLasts_0 : decode cX0_byLasts 0 = .ok (.aload_n 2, 1) := dk_44 (dk_at dksX0_byLasts_0 0 rfl rfl)
theorem dX0_byLasts_1 : decode cX0_byLasts 1 = .ok (.getfield 122, 3) := dk_180 0 122 (dk_at dksX0_byLasts_0 1 rfl rfl)
theorem dX0_byLasts_4 : decode cX0_byLasts 4 = .ok (.istore 4, 2) := dk_54 4 (dk_at dksX0_byLasts_0 4 rfl rfl)
theorem dX0_byLasts_6 : decode cX0_byLasts 6 = .ok (.iconst 0, 1) := dk_3 (dk_at dksX0_byLasts_0 6 rfl rfl)
theorem dX0_byLasts_7 : decode cX0_byLasts 7 = .ok (.istore 5, 2) := dk_54 5 (dk_at dksX0_byLasts_0 7 rfl rfl)
theorem dX0_byLasts_9 : decode cX0_byLasts 9 = .ok (.bipush (-2), 2) := dk_16 254 (dk_at dksX0_byLasts_0 9 rfl rfl)
theorem dX0_byLasts_11 : decode cX0_byLasts 11 = .ok (.istore 6, 2) := dk_54 6 (dk_at dksX0_byLasts_0 11 rfl rfl)
theorem dX0_byLasts_13 : decode cX0_byLasts 13 = .ok (.iconst 1, 1) := dk_4 (dk_at dksX0_byLasts_0 13 rfl rfl)
theorem dX0_byLasts_14 : decode cX0_byLasts 14 = .ok (.istore 7, 2) := dk_54 7 (dk_at dksX0_byLasts_0 14 rfl rfl)
theorem dX0_byLasts_16 : decode cX0_byLasts 16 = .ok (.iload 7, 2) := dk_21 7 (dk_at dksX0_byLasts_0 16 rfl rfl)
theorem dX0_byLasts_18 : decode cX0_byLasts 18 = .ok (.bipush 99, 2) := dk_16 99 (dk_at dksX0_byLasts_0 18 rfl rfl)
theorem dX0_byLasts_20 : decode cX0_byLasts 20 = .ok (.if_icmp .gt 40, 3) := dk_163 0 40 (dk_at dksX0_byLasts_0 20 rfl rfl)
theorem dX0_byLasts_23 : decode cX0_byLasts 23 = .ok (.aload_n 2, 1) := dk_44 (dk_at dksX0_byLasts_0 23 rfl rfl)
theorem dX0_byLasts_24 : decode cX0_byLasts 24 = .ok (.iload 7, 2) := dk_21 7 (dk_at dksX0_byLasts_1 0 rfl rfl)
theorem dX0_byLasts_26 : decode cX0_byLasts 26 = .ok (.putfield 122, 3) := dk_181 0 122 (dk_at dksX0_byLasts_1 2 rfl rfl)
theorem dX0_byLasts_29 : decode cX0_byLasts 29 = .ok (.aload_n 0, 1) := dk_42 (dk_at dksX0_byLasts_1 5 rfl rfl)
theorem dX0_byLasts_30 : decode cX0_byLasts 30 = .ok (.iload_n 1, 1) := dk_27 (dk_at dksX0_byLasts_1 6 rfl rfl)
theorem dX0_byLasts_31 : decode cX0_byLasts 31 = .ok (.invokevirtual 315, 3) := dk_182 1 59 (dk_at dksX0_byLasts_1 7 rfl rfl)
theorem dX0_byLasts_34 : decode cX0_byLasts 34 = .ok (.bipush (-2), 2) := dk_16 254 (dk_at dksX0_byLasts_1 10 rfl rfl)
theorem dX0_byLasts_36 : decode cX0_byLasts 36 = .ok (.if_icmp .eq 6, 3) := dk_159 0 6 (dk_at dksX0_byLasts_1 12 rfl rfl)
theorem dX0_byLasts_39 : decode cX0_byLasts 39 = .ok (.goto 15, 3) := dk_167 0 15 (dk_at dksX0_byLasts_1 15 rfl rfl)
theorem dX0_byLasts_42 : decode cX0_byLasts 42 = .ok (.iload 5, 2) := dk_21 5 (dk_at dksX0_byLasts_1 18 rfl rfl)
theorem dX0_byLasts_44 : decode cX0_byLasts 44 = .ok (.ifCond .ne 7, 3) := dk_154 0 7 (dk_at dksX0_byLasts_1 20 rfl rfl)
theorem dX0_byLasts_47 : decode cX0_byLasts 47 = .ok (.iload 7, 2) := dk_21 7 (dk_at dksX0_byLasts_2 0 rfl rfl)
theorem dX0_byLasts_49 : decode cX0_byLasts 49 = .ok (.istore 6, 2) := dk_54 6 (dk_at dksX0_byLasts_2 2 rfl rfl)
theorem dX0_byLasts_51 : decode cX0_byLasts 51 = .ok (.iinc 5 1, 3) := dk_132 5 1 (dk_at dksX0_byLasts_2 4 rfl rfl)
theorem dX0_byLasts_54 : decode cX0_byLasts 54 = .ok (.iinc 7 1, 3) := dk_132 7 1 (dk_at dksX0_byLasts_2 7 rfl rfl)
theorem dX0_byLasts_57 : decode cX0_byLasts 57 = .ok (.goto (-41), 3) := dk_167 255 215 (dk_at dksX0_byLasts_2 10 rfl rfl)
theorem dX0_byLasts_60 : decode cX0_byLasts 60 = .ok (.aload_n 2, 1) := dk_44 (dk_at dksX0_byLasts_2 13 rfl rfl)
theorem dX0_byLasts_61 : decode cX0_byLasts 61 = .ok (.iload 4, 2) := dk_21 4 (dk_at dksX0_byLasts_2 14 rfl rfl)
theorem dX0_byLasts_63 : decode cX0_byLasts 63 = .ok (.putfield 122, 3) := dk_181 0 122 (dk_at dksX0_byLasts_2 16 rfl rfl)
theorem dX0_byLasts_66 : decode cX0_byLasts 66 = .ok (.iload_n 3, 1) := dk_29 (dk_at dksX0_byLasts_2 19 rfl rfl)
theorem dX0_byLasts_67 : decode cX0_byLasts 67 = .ok (.ifCond .eq 8, 3) := dk_153 0 8 (dk_at dksX0_byLasts_2 20 rfl rfl)
theorem dX0_byLasts_70 : decode cX0_byLasts 70 = .ok (.iload 6, 2) := dk_21 6 (dk_at dksX0_byLasts_3 0 rfl rfl)
theorem dX0_byLasts_72 : decode cX0_byLasts 72 = .ok (.goto 5, 3) := dk_167 0 5 (dk_at dksX0_byLasts_3 2 rfl rfl)
theorem dX0_byLasts_75 : decode cX0_byLasts 75 = .ok (.iload 5, 2) := dk_21 5 (dk_at dksX0_byLasts_3 5 rfl rfl)
theorem dX0_byLasts_77 : decode cX0_byLasts 77 = .ok (.ireturn, 1) := dk_172 (dk_at dksX0_byLasts_3 7 rfl rfl)
def dkwX0_share_4 : List UInt8 := [182, 1, 2, 160, 0, 8, 21, 4, 167, 0, 4, 3, 96, 172]
abbrev dktX0_share_4 : List UInt8 := dkwX0_share_4 ++ []
def dkwX0_share_3 : List UInt8 := [54, 4, 132, 5, 1, 167, 255, 225, 28, 42, 27, 42, 180, 0, 78, 182, 0, 242, 104, 29, 108, 27, 42]
abbrev dktX0_share_3 : List UInt8 := dkwX0_share_3 ++ dktX0_share_4
def dkwX0_share_2 : List UInt8 := [180, 0, 63, 162, 0, 28, 21, 4, 28, 42, 21, 5, 42, 180, 0, 78, 182, 0, 242, 104, 29, 108, 100]
abbrev dktX0_share_2 : List UInt8 := dkwX0_share_2 ++ dktX0_share_3
def dkwX0_share_1 : List UInt8 := [180, 0, 78, 182, 0, 252, 62, 29, 154, 0, 5, 3, 172, 28, 54, 4, 3, 54, 5, 21, 5, 42]
abbrev dktX0_share_1 : List UInt8 := dkwX0_share_1 ++ dktX0_share_2
def dkwX0_share_0 : List UInt8 := [42, 27, 182, 0, 74, 153, 0, 14, 28, 3, 17, 39, 15, 184, 0, 67, 154, 0, 5, 2, 172, 42, 42]
abbrev dktX0_share_0 : List UInt8 := dkwX0_share_0 ++ dktX0_share_1
theorem dksX0_share_0 : cX0_share.data.toList.drop 0 = dktX0_share_0 := by decide +kernel
theorem dksX0_share_1 : cX0_share.data.toList.drop 23 = dktX0_share_1 := dk_seg dksX0_share_0 23 rfl rfl
theorem dksX0_share_2 : cX0_share.data.toList.drop 45 = dktX0_share_2 := dk_seg dksX0_share_1 22 rfl rfl
theorem dksX0_share_3 : cX0_share.data.toList.drop 68 = dktX0_share_3 := dk_seg dksX0_share_2 23 rfl rfl
theorem dksX0_share_4 : cX0_share.data.toList.drop 91 = dktX0_share_4 := dk_seg dksX0_share_3 23 rfl rfl
theorem dX0_share_0 : decode cX0_share 0 = .ok (.aload_n 0, 1) := dk_42 (dk_at dksX0_share_0 0 rfl rfl)
theorem dX0_share_1 : decode cX0_share 1 = .ok (.iload_n 1, 1) := dk_27 (dk_at dksX0_share_0 1 rfl rfl)
theorem dX0_share_2 : decode cX0_share 2 = .ok (.invokevirtual 74, 3) := dk_182 0 74 (dk_at dksX0_share_0 2 rfl rfl)
theorem dX0_share_5 : decode cX0_share 5 = .ok (.ifCond .eq 14, 3) := dk_153 0 14 (dk_at dksX0_share_0 5 rfl rfl)
theorem dX0_share_8 : decode cX0_share 8 = .ok (.iload_n 2, 1) := dk_28 (dk_at dksX0_share_0 8 rfl rfl)
theorem dX0_share_9 : decode cX0_share 9 = .ok (.iconst 0, 1) := dk_3 (dk_at dksX0_share_0 9 rfl rfl)
theorem dX0_share_10 : decode cX0_share 10 = .ok (.sipush 9999, 3) := dk_17 39 15 (dk_at dksX0_share_0 10 rfl rfl)
theorem dX0_share_13 : decode cX0_share 13 = .ok (.invokestatic 67, 3) := dk_184 0 67 (dk_at dksX0_share_0 13 rfl rfl)
theorem dX0_share_16 : decode cX0_share 16 = .ok (.ifCond .ne 5, 3) := dk_154 0 5 (dk_at dksX0_share_0 16 rfl rfl)
theorem dX0_share_19 : decode cX0_share 19 = .ok (.iconst (-1), 1) := dk_2 (dk_at dksX0_share_0 19 rfl rfl)
theorem dX0_share_20 : decode cX0_share 20 = .ok (.ireturn, 1) := dk_172 (dk_at dksX0_share_0 20 rfl rfl)
theorem dX0_share_21 : decode cX0_share 21 = .ok (.aload_n 0, 1) := dk_42 (dk_at dksX0_share_0 21 rfl rfl)
theorem dX0_share_22 : decode cX0_share 22 = .ok (.aload_n 0, 1) := dk_42 (dk_at dksX0_share_0 22 rfl rfl)
theorem dX0_share_23 : decode cX0_share 23 = .ok (.getfield 78, 3) := dk_180 0 78 (dk_at dksX0_share_1 0 rfl rfl)
theorem dX0_share_26 : decode cX0_share 26 = .ok (.invokevirtual 252, 3) := dk_182 0 252 (dk_at dksX0_share_1 3 rfl rfl)
theorem dX0_share_29 : decode cX0_share 29 = .ok (.istore_n 3, 1) := dk_62 (dk_at dksX0_share_1 6 rfl rfl)
theorem dX0_share_30 : decode cX0_share 30 = .ok (.iload_n 3, 1) := dk_29 (dk_at dksX0_share_1 7 rfl rfl)
theorem dX0_share_31 : decode cX0_share 31 = .ok (.ifCond .ne 5, 3) := dk_154 0 5 (dk_at dksX0_share_1 8 rfl rfl)
theorem dX0_share_34 : decode cX0_share 34 = .ok (.iconst 0, 1) := dk_3 (dk_at dksX0_share_1 11 rfl rfl)
theorem dX0_share_35 : decode cX0_share 35 = .ok (.ireturn, 1) := dk_172 (dk_at dksX0_share_1 12 rfl rfl)
theorem dX0_share_36 : decode cX0_share 36 = .ok (.iload_n 2, 1) := dk_28 (dk_at dksX0_share_1 13 rfl rfl)
theorem dX0_share_37 : decode cX0_share 37 = .ok (.istore 4, 2) := dk_54 4 (dk_at dksX0_share_1 14 rfl rfl)
theorem dX0_share_39 : decode cX0_share 39 = .ok (.iconst 0, 1) := dk_3 (dk_at dksX0_share_1 16 rfl rfl)
theorem dX0_share_40 : decode cX0_share 40 = .ok (.istore 5, 2) := dk_54 5 (dk_at dksX0_share_1 17 rfl rfl)
theorem dX0_share_42 : decode cX0_share 42 = .ok (.iload 5, 2) := dk_21 5 (dk_at dksX0_share_1 19 rfl rfl)
theorem dX0_share_44 : decode cX0_share 44 = .ok (.aload_n 0, 1) := dk_42 (dk_at dksX0_share_1 21 rfl rfl)
theorem dX0_share_45 : decode cX0_share 45 = .ok (.getfield 63, 3) := dk_180 0 63 (dk_at dksX0_share_2 0 rfl rfl)
theorem dX0_share_48 : decode cX0_share 48 = .ok (.if_icmp .ge 28, 3) := dk_162 0 28 (dk_at dksX0_share_2 3 rfl rfl)
theorem dX0_share_51 : decode cX0_share 51 = .ok (.iload 4, 2) := dk_21 4 (dk_at dksX0_share_2 6 rfl rfl)
theorem dX0_share_53 : decode cX0_share 53 = .ok (.iload_n 2, 1) := dk_28 (dk_at dksX0_share_2 8 rfl rfl)
theorem dX0_share_54 : decode cX0_share 54 = .ok (.aload_n 0, 1) := dk_42 (dk_at dksX0_share_2 9 rfl rfl)
theorem dX0_share_55 : decode cX0_share 55 = .ok (.iload 5, 2) := dk_21 5 (dk_at dksX0_share_2 10 rfl rfl)
theorem dX0_share_57 : decode cX0_share 57 = .ok (.aload_n 0, 1) := dk_42 (dk_at dksX0_share_2 12 rfl rfl)
theorem dX0_share_58 : decode cX0_share 58 = .ok (.getfield 78, 3) := dk_180 0 78 (dk_at dksX0_share_2 13 rfl rfl)
theorem dX0_share_61 : decode cX0_share 61 = .ok (.invokevirtual 242, 3) := dk_182 0 242 (dk_at dksX0_share_2 16 rfl rfl)
theorem dX0_share_64 : decode cX0_share 64 = .ok (.imul, 1) := dk_104 (dk_at dksX0_share_2 19 rfl rfl)
theorem dX0_share_65 : decode cX0_share 65 = .ok (.iload_n 3, 1) := dk_29 (dk_at dksX0_share_2 20 rfl rfl)
theorem dX0_share_66 : decode cX0_share 66 = .ok (.idiv, 1) := dk_108 (dk_at dksX0_share_2 21 rfl rfl)
theorem dX0_share_67 : decode cX0_share 67 = .ok (.isub, 1) := dk_100 (dk_at dksX0_share_2 22 rfl rfl)
theorem dX0_share_68 : decode cX0_share 68 = .ok (.istore 4, 2) := dk_54 4 (dk_at dksX0_share_3 0 rfl rfl)
theorem dX0_share_70 : decode cX0_share 70 = .ok (.iinc 5 1, 3) := dk_132 5 1 (dk_at dksX0_share_3 2 rfl rfl)
theorem dX0_share_73 : decode cX0_share 73 = .ok (.goto (-31), 3) := dk_167 255 225 (dk_at dksX0_share_3 5 rfl rfl)
theorem dX0_share_76 : decode cX0_share 76 = .ok (.iload_n 2, 1) := dk_28 (dk_at dksX0_share_3 8 rfl rfl)
theorem dX0_share_77 : decode cX0_share 77 = .ok (.aload_n 0, 1) := dk_42 (dk_at dksX0_share_3 9 rfl rfl)
theorem dX0_share_78 : decode cX0_share 78 = .ok (.iload_n 1, 1) := dk_27 (dk_at dksX0_share_3 10 rfl rfl)
theorem dX0_share_79 : decode cX0_share 79 = .ok (.aload_n 0, 1) := dk_42 (dk_at dksX0_share_3 11 rfl rfl)
theorem dX0_share_80 : decode cX0_share 80 = .ok (.getfield 78, 3) := dk_180 0 78 (dk_at dksX0_share_3 12 rfl rfl)
theorem dX0_share_83 : decode cX0_share 83 = .ok (.invokevirtual 242, 3) := dk_182 0 242 (dk_at dksX0_share_3 15 rfl rfl)
theorem dX0_share_86 : decode cX0_share 86 = .ok (.imul, 1) := dk_104 (dk_at dksX0_share_3 18 rfl rfl)
theorem dX0_share_87 : decode cX0_share 87 = .ok (.iload_n 3, 1) := dk_29 (dk_at dksX0_share_3 19 rfl rfl)
theorem dX0_share_88 : decode cX0_share 88 = .ok (.idiv, 1) := dk_108 (dk_at dksX0_share_3 20 rfl rfl)
theorem dX0_share_89 : decode cX0_share 89 = .ok (.iload_n 1, 1) := dk_27 (dk_at dksX0_share_3 21 rfl rfl)
theorem dX0_share_90 : decode cX0_share 90 = .ok (.aload_n 0, 1) := dk_42 (dk_at dksX0_share_3 22 rfl rfl)
theorem dX0_share_91 : decode cX0_share 91 = .ok (.invokevirtual 258, 3) := dk_182 1 2 (dk_at dksX0_share_4 0 rfl rfl)
theorem dX0_share_94 : decode cX0_share 94 = .ok (.if_icmp .ne 8, 3) := dk_160 0 8 (dk_at dksX0_share_4 3 rfl rfl)
theorem dX0_share_97 : decode cX0_share 97 = .ok (.iload 4, 2) := dk_21 4 (dk_at dksX0_share_4 6 rfl rfl)
theorem dX0_share_99 : decode cX0_share 99 = .ok (.goto 4, 3) := dk_167 0 4 (dk_at dksX0_share_4 8 rfl rfl)
theorem dX0_share_102 : decode cX0_share 102 = .ok (.iconst 0, 1) := dk_3 (dk_at dksX0_share_4 11 rfl rfl)
theorem dX0_share_103 : decode cX0_share 103 = .ok (.iadd, 1) := dk_96 (dk_at dksX0_share_4 12 rfl rfl)
theorem dX0_share_104 : decode cX0_share 104 = .ok (.ireturn, 1) := dk_172 (dk_at dksX0_share_4 13 rfl rfl)
def dkwX0_byTurns_6 : List UInt8 := [182, 1, 79, 21, 4, 160, 0, 6, 21, 6, 172, 132, 6, 1, 167, 255, 218, 16, 14, 172]
abbrev dktX0_byTurns_6 : List UInt8 := dkwX0_byTurns_6 ++ []
def dkwX0_byTurns_5 : List UInt8 := [21, 6, 42, 180, 0, 71, 162, 0, 35, 21, 5, 21, 6, 184, 1, 12, 153, 0, 19, 42, 21, 6, 28, 4]
abbrev dktX0_byTurns_5 : List UInt8 := dkwX0_byTurns_5 ++ dktX0_byTurns_6
def dkwX0_byTurns_4 : List UInt8 := [182, 1, 69, 21, 4, 160, 0, 6, 16, 14, 172, 42, 42, 180, 1, 76, 182, 1, 23, 54, 5, 3, 54, 6]
abbrev dktX0_byTurns_4 : List UInt8 := dkwX0_byTurns_4 ++ dktX0_byTurns_5
def dkwX0_byTurns_3 : List UInt8 := [181, 1, 76, 42, 28, 4, 182, 1, 69, 54, 4, 29, 154, 0, 6, 21, 4, 172, 42, 28, 4, 100, 3]
abbrev dktX0_byTurns_3 : List UInt8 := dkwX0_byTurns_3 ++ dktX0_byTurns_4
def dkwX0_byTurns_2 : List UInt8 := [3, 4, 184, 0, 67, 154, 0, 6, 18, 172, 172, 42, 27, 16, 10, 108, 181, 1, 73, 42, 27, 16, 10, 112]
abbrev dktX0_byTurns_2 : List UInt8 := dkwX0_byTurns_2 ++ dktX0_byTurns_3
def dkwX0_byTurns_1 : List UInt8 := [153, 0, 32, 27, 16, 10, 108, 27, 16, 10, 112, 159, 0, 21, 28, 4, 7, 184, 0, 67, 153, 0, 12, 29]
abbrev dktX0_byTurns_1 : List UInt8 := dkwX0_byTurns_1 ++ dktX0_byTurns_2
def dkwX0_byTurns_0 : List UInt8 := [27, 155, 0, 54, 42, 27, 16, 10, 108, 182, 0, 74, 153, 0, 43, 42, 27, 16, 10, 112, 182, 0, 74]
abbrev dktX0_byTurns_0 : List UInt8 := dkwX0_byTurns_0 ++ dktX0_byTurns_1
theorem dksX0_byTurns_0 : cX0_byTurns.data.toList.drop 0 = dktX0_byTurns_0 := by decide +kernel
theorem dksX0_byTurns_1 : cX0_byTurns.data.toList.drop 23 = dktX0_byTurns_1 := dk_seg dksX0_byTurns_0 23 rfl rfl
theorem dksX0_byTurns_2 : cX0_byTurns.data.toList.drop 47 = dktX0_byTurns_2 := dk_seg dksX0_byTurns_1 24 rfl rfl
theorem dksX0_byTurns_3 : cX0_byTurns.data.toList.drop 71 = dktX0_byTurns_3 := dk_seg dksX0_byTurns_2 24 rfl rfl
theorem dksX0_byTurns_4 : cX0_byTurns.data.toList.drop 94 = dktX0_byTurns_4 := dk_seg dksX0_byTurns_3 23 rfl rfl
theorem dksX0_byTurns_5 : cX0_byTurns.data.toList.drop 118 = dktX0_byTurns_5 := dk_seg dksX0_byTurns_4 24 rfl rfl
theorem dksX0_byTurns_6 : cX0_byTurns.data.toList.drop 142 = dktX0_byTurns_6 := dk_seg dksX0_byTurns_5 24 rfl rfl
theorem dX0_byTurns_0 : decode cX0_byTurns 0 = .ok (.iload_n 1, 1) := dk_27 (dk_at dksX0_byTurns_0 0 rfl rfl)
theorem dX0_byTurns_1 : decode cX0_byTurns 1 = .ok (.ifCond .lt 54, 3) := dk_155 0 54 (dk_at dksX0_byTurns_0 1 rfl rfl)
theorem dX0_byTurns_4 : decode cX0_byTurns 4 = .ok (.aload_n 0, 1) := dk_42 (dk_at dksX0_byTurns_0 4 rfl rfl)
theorem dX0_byTurns_5 : decode cX0_byTurns 5 = .ok (.iload_n 1, 1) := dk_27 (dk_at dksX0_byTurns_0 5 rfl rfl)
theorem dX0_byTurns_6 : decode cX0_byTurns 6 = .ok (.bipush 10, 2) := dk_16 10 (dk_at dksX0_byTurns_0 6 rfl rfl)
theorem dX0_byTurns_8 : decode cX0_byTurns 8 = .ok (.idiv, 1) := dk_108 (dk_at dksX0_byTurns_0 8 rfl rfl)
theorem dX0_byTurns_9 : decode cX0_byTurns 9 = .ok (.invokevirtual 74, 3) := dk_182 0 74 (dk_at dksX0_byTurns_0 9 rfl rfl)
theorem dX0_byTurns_12 : decode cX0_byTurns 12 = .ok (.ifCond .eq 43, 3) := dk_153 0 43 (dk_at dksX0_byTurns_0 12 rfl rfl)
theorem dX0_byTurns_15 : decode cX0_byTurns 15 = .ok (.aload_n 0, 1) := dk_42 (dk_at dksX0_byTurns_0 15 rfl rfl)
theorem dX0_byTurns_16 : decode cX0_byTurns 16 = .ok (.iload_n 1, 1) := dk_27 (dk_at dksX0_byTurns_0 16 rfl rfl)
theorem dX0_byTurns_17 : decode cX0_byTurns 17 = .ok (.bipush 10, 2) := dk_16 10 (dk_at dksX0_byTurns_0 17 rfl rfl)
theorem dX0_byTurns_19 : decode cX0_byTurns 19 = .ok (.irem, 1) := dk_112 (dk_at dksX0_byTurns_0 19 rfl rfl)
theorem dX0_byTurns_20 : decode cX0_byTurns 20 = .ok (.invokevirtual 74, 3) := dk_182 0 74 (dk_at dksX0_byTurns_0 20 rfl rfl)
theorem dX0_byTurns_23 : decode cX0_byTurns 23 = .ok (.ifCond .eq 32, 3) := dk_153 0 32 (dk_at dksX0_byTurns_1 0 rfl rfl)
theorem dX0_byTurns_26 : decode cX0_byTurns 26 = .ok (.iload_n 1, 1) := dk_27 (dk_at dksX0_byTurns_1 3 rfl rfl)
theorem dX0_byTurns_27 : decode cX0_byTurns 27 = .ok (.bipush 10, 2) := dk_16 10 (dk_at dksX0_byTurns_1 4 rfl rfl)
theorem dX0_byTurns_29 : decode cX0_byTurns 29 = .ok (.idiv, 1) := dk_108 (dk_at dksX0_byTurns_1 6 rfl rfl)
theorem dX0_byTurns_30 : decode cX0_byTurns 30 = .ok (.iload_n 1, 1) := dk_27 (dk_at dksX0_byTurns_1 7 rfl rfl)
theorem dX0_byTurns_31 : decode cX0_byTurns 31 = .ok (.bipush 10, 2) := dk_16 10 (dk_at dksX0_byTurns_1 8 rfl rfl)
theorem dX0_byTurns_33 : decode cX0_byTurns 33 = .ok (.irem, 1) := dk_112 (dk_at dksX0_byTurns_1 10 rfl rfl)
theorem dX0_byTurns_34 : decode cX0_byTurns 34 = .ok (.if_icmp .eq 21, 3) := dk_159 0 21 (dk_at dksX0_byTurns_1 11 rfl rfl)
theorem dX0_byTurns_37 : decode cX0_byTurns 37 = .ok (.iload_n 2, 1) := dk_28 (dk_at dksX0_byTurns_1 14 rfl rfl)
theorem dX0_byTurns_38 : decode cX0_byTurns 38 = .ok (.iconst 1, 1) := dk_4 (dk_at dksX0_byTurns_1 15 rfl rfl)
theorem dX0_byTurns_39 : decode cX0_byTurns 39 = .ok (.iconst 4, 1) := dk_7 (dk_at dksX0_byTurns_1 16 rfl rfl)
theorem dX0_byTurns_40 : decode cX0_byTurns 40 = .ok (.invokestatic 67, 3) := dk_184 0 67 (dk_at dksX0_byTurns_1 17 rfl rfl)
theorem dX0_byTurns_43 : decode cX0_byTurns 43 = .ok (.ifCond .eq 12, 3) := dk_153 0 12 (dk_at dksX0_byTurns_1 20 rfl rfl)
theorem dX0_byTurns_46 : decode cX0_byTurns 46 = .ok (.iload_n 3, 1) := dk_29 (dk_at dksX0_byTurns_1 23 rfl rfl)
theorem dX0_byTurns_47 : decode cX0_byTurns 47 = .ok (.iconst 0, 1) := dk_3 (dk_at dksX0_byTurns_2 0 rfl rfl)
theorem dX0_byTurns_48 : decode cX0_byTurns 48 = .ok (.iconst 1, 1) := dk_4 (dk_at dksX0_byTurns_2 1 rfl rfl)
theorem dX0_byTurns_49 : decode cX0_byTurns 49 = .ok (.invokestatic 67, 3) := dk_184 0 67 (dk_at dksX0_byTurns_2 2 rfl rfl)
theorem dX0_byTurns_52 : decode cX0_byTurns 52 = .ok (.ifCond .ne 6, 3) := dk_154 0 6 (dk_at dksX0_byTurns_2 5 rfl rfl)
theorem dX0_byTurns_55 : decode cX0_byTurns 55 = .ok (.ldc 172, 2) := dk_18 172 (dk_at dksX0_byTurns_2 8 rfl rfl)
theorem dX0_byTurns_57 : decode cX0_byTurns 57 = .ok (.ireturn, 1) := dk_172 (dk_at dksX0_byTurns_2 10 rfl rfl)
theorem dX0_byTurns_58 : decode cX0_byTurns 58 = .ok (.aload_n 0, 1) := dk_42 (dk_at dksX0_byTurns_2 11 rfl rfl)
theorem dX0_byTurns_59 : decode cX0_byTurns 59 = .ok (.iload_n 1, 1) := dk_27 (dk_at dksX0_byTurns_2 12 rfl rfl)
theorem dX0_byTurns_60 : decode cX0_byTurns 60 = .ok (.bipush 10, 2) := dk_16 10 (dk_at dksX0_byTurns_2 13 rfl rfl)
theorem dX0_byTurns_62 : decode cX0_byTurns 62 = .ok (.idiv, 1) := dk_108 (dk_at dksX0_byTurns_2 15 rfl rfl)
theorem dX0_byTurns_63 : decode cX0_byTurns 63 = .ok (.putfield 329, 3) := dk_181 1 73 (dk_at dksX0_byTurns_2 16 rfl rfl)
theorem dX0_byTurns_66 : decode cX0_byTurns 66 = .ok (.aload_n 0, 1) := dk_42 (dk_at dksX0_byTurns_2 19 rfl rfl)
theorem dX0_byTurns_67 : decode cX0_byTurns 67 = .ok (.iload_n 1, 1) := dk_27 (dk_at dksX0_byTurns_2 20 rfl rfl)
theorem dX0_byTurns_68 : decode cX0_byTurns 68 = .ok (.bipush 10, 2) := dk_16 10 (dk_at dksX0_byTurns_2 21 rfl rfl)
theorem dX0_byTurns_70 : decode cX0_byTurns 70 = .ok (.irem, 1) := dk_112 (dk_at dksX0_byTurns_2 23 rfl rfl)
theorem dX0_byTurns_71 : decode cX0_byTurns 71 = .ok (.putfield 332, 3) := dk_181 1 76 (dk_at dksX0_byTurns_3 0 rfl rfl)
theorem dX0_byTurns_74 : decode cX0_byTurns 74 = .ok (.aload_n 0, 1) := dk_42 (dk_at dksX0_byTurns_3 3 rfl rfl)
theorem dX0_byTurns_75 : decode cX0_byTurns 75 = .ok (.iload_n 2, 1) := dk_28 (dk_at dksX0_byTurns_3 4 rfl rfl)
theorem dX0_byTurns_76 : decode cX0_byTurns 76 = .ok (.iconst 1, 1) := dk_4 (dk_at dksX0_byTurns_3 5 rfl rfl)
theorem dX0_byTurns_77 : decode cX0_byTurns 77 = .ok (.invokevirtual 325, 3) := dk_182 1 69 (dk_at dksX0_byTurns_3 6 rfl rfl)
theorem dX0_byTurns_80 : decode cX0_byTurns 80 = .ok (.istore 4, 2) := dk_54 4 (dk_at dksX0_byTurns_3 9 rfl rfl)
theorem dX0_byTurns_82 : decode cX0_byTurns 82 = .ok (.iload_n 3, 1) := dk_29 (dk_at dksX0_byTurns_3 11 rfl rfl)
theorem dX0_byTurns_83 : decode cX0_byTurns 83 = .ok (.ifCond .ne 6, 3) := dk_154 0 6 (dk_at dksX0_byTurns_3 12 rfl rfl)
theorem dX0_byTurns_86 : decode cX0_byTurns 86 = .ok (.iload 4, 2) := dk_21 4 (dk_at dksX0_byTurns_3 15 rfl rfl)
theorem dX0_byTurns_88 : decode cX0_byTurns 88 = .ok (.ireturn, 1) := dk_172 (dk_at dksX0_byTurns_3 17 rfl rfl)
theorem dX0_byTurns_89 : decode cX0_byTurns 89 = .ok (.aload_n 0, 1) := dk_42 (dk_at dksX0_byTurns_3 18 rfl rfl)
theorem dX0_byTurns_90 : decode cX0_byTurns 90 = .ok (.iload_n 2, 1) := dk_28 (dk_at dksX0_byTurns_3 19 rfl rfl)
theorem dX0_byTurns_91 : decode cX0_byTurns 91 = .ok (.iconst 1, 1) := dk_4 (dk_at dksX0_byTurns_3 20 rfl rfl)
theorem dX0_byTurns_92 : decode cX0_byTurns 92 = .ok (.isub, 1) := dk_100 (dk_at dksX0_byTurns_3 21 rfl rfl)
theorem dX0_byTurns_93 : decode cX0_byTurns 93 = .ok (.iconst 0, 1) := dk_3 (dk_at dksX0_byTurns_3 22 rfl rfl)
theorem dX0_byTurns_94 : decode cX0_byTurns 94 = .ok (.invokevirtual 325, 3) := dk_182 1 69 (dk_at dksX0_byTurns_4 0 rfl rfl)
theorem dX0_byTurns_97 : decode cX0_byTurns 97 = .ok (.iload 4, 2) := dk_21 4 (dk_at dksX0_byTurns_4 3 rfl rfl)
theorem dX0_byTurns_99 : decode cX0_byTurns 99 = .ok (.if_icmp .ne 6, 3) := dk_160 0 6 (dk_at dksX0_byTurns_4 5 rfl rfl)
theorem dX0_byTurns_102 : decode cX0_byTurns 102 = .ok (.bipush 14, 2) := dk_16 14 (dk_at dksX0_byTurns_4 8 rfl rfl)
theorem dX0_byTurns_104 : decode cX0_byTurns 104 = .ok (.ireturn, 1) := dk_172 (dk_at dksX0_byTurns_4 10 rfl rfl)
theorem dX0_byTurns_105 : decode cX0_byTurns 105 = .ok (.aload_n 0, 1) := dk_42 (dk_at dksX0_byTurns_4 11 rfl rfl)
theorem dX0_byTurns_106 : decode cX0_byTurns 106 = .ok (.aload_n 0, 1) := dk_42 (dk_at dksX0_byTurns_4 12 rfl rfl)
theorem dX0_byTurns_107 : decode cX0_byTurns 107 = .ok (.getfield 332, 3) := dk_180 1 76 (dk_at dksX0_byTurns_4 13 rfl rfl)
theorem dX0_byTurns_110 : decode cX0_byTurns 110 = .ok (.invokevirtual 279, 3) := dk_182 1 23 (dk_at dksX0_byTurns_4 16 rfl rfl)
theorem dX0_byTurns_113 : decode cX0_byTurns 113 = .ok (.istore 5, 2) := dk_54 5 (dk_at dksX0_byTurns_4 19 rfl rfl)
theorem dX0_byTurns_115 : decode cX0_byTurns 115 = .ok (.iconst 0, 1) := dk_3 (dk_at dksX0_byTurns_4 21 rfl rfl)
theorem dX0_byTurns_116 : decode cX0_byTurns 116 = .ok (.istore 6, 2) := dk_54 6 (dk_at dksX0_byTurns_4 22 rfl rfl)
theorem dX0_byTurns_118 : decode cX0_byTurns 118 = .ok (.iload 6, 2) := dk_21 6 (dk_at dksX0_byTurns_5 0 rfl rfl)
theorem dX0_byTurns_120 : decode cX0_byTurns 120 = .ok (.aload_n 0, 1) := dk_42 (dk_at dksX0_byTurns_5 2 rfl rfl)
theorem dX0_byTurns_121 : decode cX0_byTurns 121 = .ok (.getfield 71, 3) := dk_180 0 71 (dk_at dksX0_byTurns_5 3 rfl rfl)
theorem dX0_byTurns_124 : decode cX0_byTurns 124 = .ok (.if_icmp .ge 35, 3) := dk_162 0 35 (dk_at dksX0_byTurns_5 6 rfl rfl)
theorem dX0_byTurns_127 : decode cX0_byTurns 127 = .ok (.iload 5, 2) := dk_21 5 (dk_at dksX0_byTurns_5 9 rfl rfl)
theorem dX0_byTurns_129 : decode cX0_byTurns 129 = .ok (.iload 6, 2) := dk_21 6 (dk_at dksX0_byTurns_5 11 rfl rfl)
theorem dX0_byTurns_131 : decode cX0_byTurns 131 = .ok (.invokestatic 268, 3) := dk_184 1 12 (dk_at dksX0_byTurns_5 13 rfl rfl)
theorem dX0_byTurns_134 : decode cX0_byTurns 134 = .ok (.ifCond .eq 19, 3) := dk_153 0 19 (dk_at dksX0_byTurns_5 16 rfl rfl)
theorem dX0_byTurns_137 : decode cX0_byTurns 137 = .ok (.aload_n 0, 1) := dk_42 (dk_at dksX0_byTurns_5 19 rfl rfl)
theorem dX0_byTurns_138 : decode cX0_byTurns 138 = .ok (.iload 6, 2) := dk_21 6 (dk_at dksX0_byTurns_5 20 rfl rfl)
theorem dX0_byTurns_140 : decode cX0_byTurns 140 = .ok (.iload_n 2, 1) := dk_28 (dk_at dksX0_byTurns_5 22 rfl rfl)
theorem dX0_byTurns_141 : decode cX0_byTurns 141 = .ok (.iconst 1, 1) := dk_4 (dk_at dksX0_byTurns_5 23 rfl rfl)
theorem dX0_byTurns_142 : decode cX0_byTurns 142 = .ok (.invokevirtual 335, 3) := dk_182 1 79 (dk_at dksX0_byTurns_6 0 rfl rfl)
theorem dX0_byTurns_145 : decode cX0_byTurns 145 = .ok (.iload 4, 2) := dk_21 4 (dk_at dksX0_byTurns_6 3 rfl rfl)
theorem dX0_byTurns_147 : decode cX0_byTurns 147 = .ok (.if_icmp .ne 6, 3) := dk_160 0 6 (dk_at dksX0_byTurns_6 5 rfl rfl)
theorem dX0_byTurns_150 : decode cX0_byTurns 150 = .ok (.iload 6, 2) := dk_21 6 (dk_at dksX0_byTurns_6 8 rfl rfl)
theorem dX0_byTurns_152 : decode cX0_byTurns 152 = .ok (.ireturn, 1) := dk_172 (dk_at dksX0_byTurns_6 10 rfl rfl)
theorem dX0_byTurns_153 : decode cX0_byTurns 153 = .ok (.iinc 6 1, 3) := dk_132 6 1 (dk_at dksX0_byTurns_6 11 rfl rfl)
theorem dX0_byTurns_156 : decode cX0_byTurns 156 = .ok (.goto (-38), 3) := dk_167 255 218 (dk_at dksX0_byTurns_6 14 rfl rfl)
theorem dX0_byTurns_159 : decode cX0_byTurns 159 = .ok (.bipush 14, 2) := dk_16 14 (dk_at dksX0_byTurns_6 17 rfl rfl)
theorem dX0_byTurns_161 : decode cX0_byTurns 161 = .ok (.ireturn, 1) := dk_172 (dk_at dksX0_byTurns_6 19 rfl rfl)
def dkwX0_bestOf_5 : List UInt8 := [21, 6, 29, 162, 0, 6, 21, 6, 62, 132, 5, 1, 167, 255, 199, 29, 172]
abbrev dktX0_bestOf_5 : List UInt8 := dkwX0_bestOf_5 ++ []
def dkwX0_bestOf_4 : List UInt8 := [42, 21, 5, 27, 28, 182, 1, 79, 54, 6, 28, 153, 0, 12, 21, 6, 29, 164, 0, 15, 167, 0, 9]
abbrev dktX0_bestOf_4 : List UInt8 := dkwX0_bestOf_4 ++ dktX0_bestOf_5
def dkwX0_bestOf_3 : List UInt8 := [54, 5, 21, 5, 42, 180, 0, 71, 162, 0, 54, 21, 4, 21, 5, 184, 1, 12, 154, 0, 6, 167, 0, 35]
abbrev dktX0_bestOf_3 : List UInt8 := dkwX0_bestOf_3 ++ dktX0_bestOf_4
def dkwX0_bestOf_2 : List UInt8 := [62, 42, 28, 153, 0, 10, 42, 180, 1, 76, 167, 0, 7, 42, 180, 1, 73, 182, 1, 23, 54, 4, 3]
abbrev dktX0_bestOf_2 : List UInt8 := dkwX0_bestOf_2 ++ dktX0_bestOf_3
def dkwX0_bestOf_1 : List UInt8 := [180, 0, 78, 182, 0, 242, 100, 172, 42, 27, 4, 100, 28, 154, 0, 7, 4, 167, 0, 4, 3, 182, 1, 69]
abbrev dktX0_bestOf_1 : List UInt8 := dkwX0_bestOf_1 ++ dktX0_bestOf_2
def dkwX0_bestOf_0 : List UInt8 := [27, 154, 0, 29, 42, 42, 180, 1, 73, 42, 180, 0, 78, 182, 0, 242, 42, 42, 180, 1, 76, 42]
abbrev dktX0_bestOf_0 : List UInt8 := dkwX0_bestOf_0 ++ dktX0_bestOf_1
theorem dksX0_bestOf_0 : cX0_bestOf.data.toList.drop 0 = dktX0_bestOf_0 := by decide +kernel
theorem dksX0_bestOf_1 : cX0_bestOf.data.toList.drop 22 = dktX0_bestOf_1 := dk_seg dksX0_bestOf_0 22 rfl rfl
theorem dksX0_bestOf_2 : cX0_bestOf.data.toList.drop 46 = dktX0_bestOf_2 := dk_seg dksX0_bestOf_1 24 rfl rfl
theorem dksX0_bestOf_3 : cX0_bestOf.data.toList.drop 69 = dktX0_bestOf_3 := dk_seg dksX0_bestOf_2 23 rfl rfl
theorem dksX0_bestOf_4 : cX0_bestOf.data.toList.drop 93 = dktX0_bestOf_4 := dk_seg dksX0_bestOf_3 24 rfl rfl
theorem dksX0_bestOf_5 : cX0_bestOf.data.toList.drop 116 = dktX0_bestOf_5 := dk_seg dksX0_bestOf_4 23 rfl rfl
theorem dX0_bestOf_0 : decode cX0_bestOf 0 = .ok (.iload_n 1, 1) := dk_27 (dk_at dksX0_bestOf_0 0 rfl rfl)
theorem dX0_bestOf_1 : decode cX0_bestOf 1 = .ok (.ifCond .ne 29, 3) := dk_154 0 29 (dk_at dksX0_bestOf_0 1 rfl rfl)
theorem dX0_bestOf_4 : decode cX0_bestOf 4 = .ok (.aload_n 0, 1) := dk_42 (dk_at dksX0_bestOf_0 4 rfl rfl)
theorem dX0_bestOf_5 : decode cX0_bestOf 5 = .ok (.aload_n 0, 1) := dk_42 (dk_at dksX0_bestOf_0 5 rfl rfl)
theorem dX0_bestOf_6 : decode cX0_bestOf 6 = .ok (.getfield 329, 3) := dk_180 1 73 (dk_at dksX0_bestOf_0 6 rfl rfl)
theorem dX0_bestOf_9 : decode cX0_bestOf 9 = .ok (.aload_n 0, 1) := dk_42 (dk_at dksX0_bestOf_0 9 rfl rfl)
theorem dX0_bestOf_10 : decode cX0_bestOf 10 = .ok (.getfield 78, 3) := dk_180 0 78 (dk_at dksX0_bestOf_0 10 rfl rfl)
theorem dX0_bestOf_13 : decode cX0_bestOf 13 = .ok (.invokevirtual 242, 3) := dk_182 0 242 (dk_at dksX0_bestOf_0 13 rfl rfl)
theorem dX0_bestOf_16 : decode cX0_bestOf 16 = .ok (.aload_n 0, 1) := dk_42 (dk_at dksX0_bestOf_0 16 rfl rfl)
theorem dX0_bestOf_17 : decode cX0_bestOf 17 = .ok (.aload_n 0, 1) := dk_42 (dk_at dksX0_bestOf_0 17 rfl rfl)
theorem dX0_bestOf_18 : decode cX0_bestOf 18 = .ok (.getfield 332, 3) := dk_180 1 76 (dk_at dksX0_bestOf_0 18 rfl rfl)
theorem dX0_bestOf_21 : decode cX0_bestOf 21 = .ok (.aload_n 0, 1) := dk_42 (dk_at dksX0_bestOf_0 21 rfl rfl)
theorem dX0_bestOf_22 : decode cX0_bestOf 22 = .ok (.getfield 78, 3) := dk_180 0 78 (dk_at dksX0_bestOf_1 0 rfl rfl)
theorem dX0_bestOf_25 : decode cX0_bestOf 25 = .ok (.invokevirtual 242, 3) := dk_182 0 242 (dk_at dksX0_bestOf_1 3 rfl rfl)
theorem dX0_bestOf_28 : decode cX0_bestOf 28 = .ok (.isub, 1) := dk_100 (dk_at dksX0_bestOf_1 6 rfl rfl)
theorem dX0_bestOf_29 : decode cX0_bestOf 29 = .ok (.ireturn, 1) := dk_172 (dk_at dksX0_bestOf_1 7 rfl rfl)
theorem dX0_bestOf_30 : decode cX0_bestOf 30 = .ok (.aload_n 0, 1) := dk_42 (dk_at dksX0_bestOf_1 8 rfl rfl)
theorem dX0_bestOf_31 : decode cX0_bestOf 31 = .ok (.iload_n 1, 1) := dk_27 (dk_at dksX0_bestOf_1 9 rfl rfl)
theorem dX0_bestOf_32 : decode cX0_bestOf 32 = .ok (.iconst 1, 1) := dk_4 (dk_at dksX0_bestOf_1 10 rfl rfl)
theorem dX0_bestOf_33 : decode cX0_bestOf 33 = .ok (.isub, 1) := dk_100 (dk_at dksX0_bestOf_1 11 rfl rfl)
theorem dX0_bestOf_34 : decode cX0_bestOf 34 = .ok (.iload_n 2, 1) := dk_28 (dk_at dksX0_bestOf_1 12 rfl rfl)
theorem dX0_bestOf_35 : decode cX0_bestOf 35 = .ok (.ifCond .ne 7, 3) := dk_154 0 7 (dk_at dksX0_bestOf_1 13 rfl rfl)
theorem dX0_bestOf_38 : decode cX0_bestOf 38 = .ok (.iconst 1, 1) := dk_4 (dk_at dksX0_bestOf_1 16 rfl rfl)
theorem dX0_bestOf_39 : decode cX0_bestOf 39 = .ok (.goto 4, 3) := dk_167 0 4 (dk_at dksX0_bestOf_1 17 rfl rfl)
theorem dX0_bestOf_42 : decode cX0_bestOf 42 = .ok (.iconst 0, 1) := dk_3 (dk_at dksX0_bestOf_1 20 rfl rfl)
theorem dX0_bestOf_43 : decode cX0_bestOf 43 = .ok (.invokevirtual 325, 3) := dk_182 1 69 (dk_at dksX0_bestOf_1 21 rfl rfl)
theorem dX0_bestOf_46 : decode cX0_bestOf 46 = .ok (.istore_n 3, 1) := dk_62 (dk_at dksX0_bestOf_2 0 rfl rfl)
theorem dX0_bestOf_47 : decode cX0_bestOf 47 = .ok (.aload_n 0, 1) := dk_42 (dk_at dksX0_bestOf_2 1 rfl rfl)
theorem dX0_bestOf_48 : decode cX0_bestOf 48 = .ok (.iload_n 2, 1) := dk_28 (dk_at dksX0_bestOf_2 2 rfl rfl)
theorem dX0_bestOf_49 : decode cX0_bestOf 49 = .ok (.ifCond .eq 10, 3) := dk_153 0 10 (dk_at dksX0_bestOf_2 3 rfl rfl)
theorem dX0_bestOf_52 : decode cX0_bestOf 52 = .ok (.aload_n 0, 1) := dk_42 (dk_at dksX0_bestOf_2 6 rfl rfl)
theorem dX0_bestOf_53 : decode cX0_bestOf 53 = .ok (.getfield 332, 3) := dk_180 1 76 (dk_at dksX0_bestOf_2 7 rfl rfl)
theorem dX0_bestOf_56 : decode cX0_bestOf 56 = .ok (.goto 7, 3) := dk_167 0 7 (dk_at dksX0_bestOf_2 10 rfl rfl)
theorem dX0_bestOf_59 : decode cX0_bestOf 59 = .ok (.aload_n 0, 1) := dk_42 (dk_at dksX0_bestOf_2 13 rfl rfl)
theorem dX0_bestOf_60 : decode cX0_bestOf 60 = .ok (.getfield 329, 3) := dk_180 1 73 (dk_at dksX0_bestOf_2 14 rfl rfl)
theorem dX0_bestOf_63 : decode cX0_bestOf 63 = .ok (.invokevirtual 279, 3) := dk_182 1 23 (dk_at dksX0_bestOf_2 17 rfl rfl)
theorem dX0_bestOf_66 : decode cX0_bestOf 66 = .ok (.istore 4, 2) := dk_54 4 (dk_at dksX0_bestOf_2 20 rfl rfl)
theorem dX0_bestOf_68 : decode cX0_bestOf 68 = .ok (.iconst 0, 1) := dk_3 (dk_at dksX0_bestOf_2 22 rfl rfl)
theorem dX0_bestOf_69 : decode cX0_bestOf 69 = .ok (.istore 5, 2) := dk_54 5 (dk_at dksX0_bestOf_3 0 rfl rfl)
theorem dX0_bestOf_71 : decode cX0_bestOf 71 = .ok (.iload 5, 2) := dk_21 5 (dk_at dksX0_bestOf_3 2 rfl rfl)
theorem dX0_bestOf_73 : decode cX0_bestOf 73 = .ok (.aload_n 0, 1) := dk_42 (dk_at dksX0_bestOf_3 4 rfl rfl)
theorem dX0_bestOf_74 : decode cX0_bestOf 74 = .ok (.getfield 71, 3) := dk_180 0 71 (dk_at dksX0_bestOf_3 5 rfl rfl)
theorem dX0_bestOf_77 : decode cX0_bestOf 77 = .ok (.if_icmp .ge 54, 3) := dk_162 0 54 (dk_at dksX0_bestOf_3 8 rfl rfl)
theorem dX0_bestOf_80 : decode cX0_bestOf 80 = .ok (.iload 4, 2) := dk_21 4 (dk_at dksX0_bestOf_3 11 rfl rfl)
theorem dX0_bestOf_82 : decode cX0_bestOf 82 = .ok (.iload 5, 2) := dk_21 5 (dk_at dksX0_bestOf_3 13 rfl rfl)
theorem dX0_bestOf_84 : decode cX0_bestOf 84 = .ok (.invokestatic 268, 3) := dk_184 1 12 (dk_at dksX0_bestOf_3 15 rfl rfl)
theorem dX0_bestOf_87 : decode cX0_bestOf 87 = .ok (.ifCond .ne 6, 3) := dk_154 0 6 (dk_at dksX0_bestOf_3 18 rfl rfl)
theorem dX0_bestOf_90 : decode cX0_bestOf 90 = .ok (.goto 35, 3) := dk_167 0 35 (dk_at dksX0_bestOf_3 21 rfl rfl)
theorem dX0_bestOf_93 : decode cX0_bestOf 93 = .ok (.aload_n 0, 1) := dk_42 (dk_at dksX0_bestOf_4 0 rfl rfl)
theorem dX0_bestOf_94 : decode cX0_bestOf 94 = .ok (.iload 5, 2) := dk_21 5 (dk_at dksX0_bestOf_4 1 rfl rfl)
theorem dX0_bestOf_96 : decode cX0_bestOf 96 = .ok (.iload_n 1, 1) := dk_27 (dk_at dksX0_bestOf_4 3 rfl rfl)
theorem dX0_bestOf_97 : decode cX0_bestOf 97 = .ok (.iload_n 2, 1) := dk_28 (dk_at dksX0_bestOf_4 4 rfl rfl)
theorem dX0_bestOf_98 : decode cX0_bestOf 98 = .ok (.invokevirtual 335, 3) := dk_182 1 79 (dk_at dksX0_bestOf_4 5 rfl rfl)
theorem dX0_bestOf_101 : decode cX0_bestOf 101 = .ok (.istore 6, 2) := dk_54 6 (dk_at dksX0_bestOf_4 8 rfl rfl)
theorem dX0_bestOf_103 : decode cX0_bestOf 103 = .ok (.iload_n 2, 1) := dk_28 (dk_at dksX0_bestOf_4 10 rfl rfl)
theorem dX0_bestOf_104 : decode cX0_bestOf 104 = .ok (.ifCond .eq 12, 3) := dk_153 0 12 (dk_at dksX0_bestOf_4 11 rfl rfl)
theorem dX0_bestOf_107 : decode cX0_bestOf 107 = .ok (.iload 6, 2) := dk_21 6 (dk_at dksX0_bestOf_4 14 rfl rfl)
theorem dX0_bestOf_109 : decode cX0_bestOf 109 = .ok (.iload_n 3, 1) := dk_29 (dk_at dksX0_bestOf_4 16 rfl rfl)
theorem dX0_bestOf_110 : decode cX0_bestOf 110 = .ok (.if_icmp .le 15, 3) := dk_164 0 15 (dk_at dksX0_bestOf_4 17 rfl rfl)
theorem dX0_bestOf_113 : decode cX0_bestOf 113 = .ok (.goto 9, 3) := dk_167 0 9 (dk_at dksX0_bestOf_4 20 rfl rfl)
theorem dX0_bestOf_116 : decode cX0_bestOf 116 = .ok (.iload 6, 2) := dk_21 6 (dk_at dksX0_bestOf_5 0 rfl rfl)
theorem dX0_bestOf_118 : decode cX0_bestOf 118 = .ok (.iload_n 3, 1) := dk_29 (dk_at dksX0_bestOf_5 2 rfl rfl)
theorem dX0_bestOf_119 : decode cX0_bestOf 119 = .ok (.if_icmp .ge 6, 3) := dk_162 0 6 (dk_at dksX0_bestOf_5 3 rfl rfl)
theorem dX0_bestOf_122 : decode cX0_bestOf 122 = .ok (.iload 6, 2) := dk_21 6 (dk_at dksX0_bestOf_5 6 rfl rfl)
theorem dX0_bestOf_124 : decode cX0_bestOf 124 = .ok (.istore_n 3, 1) := dk_62 (dk_at dksX0_bestOf_5 8 rfl rfl)
theorem dX0_bestOf_125 : decode cX0_bestOf 125 = .ok (.iinc 5 1, 3) := dk_132 5 1 (dk_at dksX0_bestOf_5 9 rfl rfl)
theorem dX0_bestOf_128 : decode cX0_bestOf 128 = .ok (.goto (-57), 3) := dk_167 255 199 (dk_at dksX0_bestOf_5 12 rfl rfl)
theorem dX0_bestOf_131 : decode cX0_bestOf 131 = .ok (.iload_n 3, 1) := dk_29 (dk_at dksX0_bestOf_5 15 rfl rfl)
theorem dX0_bestOf_132 : decode cX0_bestOf 132 = .ok (.ireturn, 1) := dk_172 (dk_at dksX0_bestOf_5 16 rfl rfl)
def dkwX0_byDeed_1 : List UInt8 := [182, 1, 69, 54, 4, 42, 180, 0, 17, 27, 50, 3, 181, 0, 128, 21, 4, 172]
abbrev dktX0_byDeed_1 : List UInt8 := dkwX0_byDeed_1 ++ []
def dkwX0_byDeed_0 : List UInt8 := [42, 180, 0, 17, 27, 50, 4, 181, 0, 128, 42, 28, 4, 100, 29, 154, 0, 7, 4, 167, 0, 4, 3]
abbrev dktX0_byDeed_0 : List UInt8 := dkwX0_byDeed_0 ++ dktX0_byDeed_1
theorem dksX0_byDeed_0 : cX0_byDeed.data.toList.drop 0 = dktX0_byDeed_0 := by decide +kernel
theorem dksX0_byDeed_1 : cX0_byDeed.data.toList.drop 23 = dktX0_byDeed_1 := dk_seg dksX0_byDeed_0 23 rfl rfl
theorem dX0_byDeed_0 : decode cX0_byDeed 0 = .ok (.aload_n 0, 1) := dk_42 (dk_at dksX0_byDeed_0 0 rfl rfl)
theorem dX0_byDeed_1 : decode cX0_byDeed 1 = .ok (.getfield 17, 3) := dk_180 0 17 (dk_at dksX0_byDeed_0 1 rfl rfl)
theorem dX0_byDeed_4 : decode cX0_byDeed 4 = .ok (.iload_n 1, 1) := dk_27 (dk_at dksX0_byDeed_0 4 rfl rfl)
theorem dX0_byDeed_5 : decode cX0_byDeed 5 = .ok (.aaload, 1) := dk_50 (dk_at dksX0_byDeed_0 5 rfl rfl)
theorem dX0_byDeed_6 : decode cX0_byDeed 6 = .ok (.iconst 1, 1) := dk_4 (dk_at dksX0_byDeed_0 6 rfl rfl)
theorem dX0_byDeed_7 : decode cX0_byDeed 7 = .ok (.putfield 128, 3) := dk_181 0 128 (dk_at dksX0_byDeed_0 7 rfl rfl)
theorem dX0_byDeed_10 : decode cX0_byDeed 10 = .ok (.aload_n 0, 1) := dk_42 (dk_at dksX0_byDeed_0 10 rfl rfl)
theorem dX0_byDeed_11 : decode cX0_byDeed 11 = .ok (.iload_n 2, 1) := dk_28 (dk_at dksX0_byDeed_0 11 rfl rfl)
theorem dX0_byDeed_12 : decode cX0_byDeed 12 = .ok (.iconst 1, 1) := dk_4 (dk_at dksX0_byDeed_0 12 rfl rfl)
theorem dX0_byDeed_13 : decode cX0_byDeed 13 = .ok (.isub, 1) := dk_100 (dk_at dksX0_byDeed_0 13 rfl rfl)
theorem dX0_byDeed_14 : decode cX0_byDeed 14 = .ok (.iload_n 3, 1) := dk_29 (dk_at dksX0_byDeed_0 14 rfl rfl)
theorem dX0_byDeed_15 : decode cX0_byDeed 15 = .ok (.ifCond .ne 7, 3) := dk_154 0 7 (dk_at dksX0_byDeed_0 15 rfl rfl)
theorem dX0_byDeed_18 : decode cX0_byDeed 18 = .ok (.iconst 1, 1) := dk_4 (dk_at dksX0_byDeed_0 18 rfl rfl)
theorem dX0_byDeed_19 : decode cX0_byDeed 19 = .ok (.goto 4, 3) := dk_167 0 4 (dk_at dksX0_byDeed_0 19 rfl rfl)
theorem dX0_byDeed_22 : decode cX0_byDeed 22 = .ok (.iconst 0, 1) := dk_3 (dk_at dksX0_byDeed_0 22 rfl rfl)
theorem dX0_byDeed_23 : decode cX0_byDeed 23 = .ok (.invokevirtual 325, 3) := dk_182 1 69 (dk_at dksX0_byDeed_1 0 rfl rfl)
theorem dX0_byDeed_26 : decode cX0_byDeed 26 = .ok (.istore 4, 2) := dk_54 4 (dk_at dksX0_byDeed_1 3 rfl rfl)
theorem dX0_byDeed_28 : decode cX0_byDeed 28 = .ok (.aload_n 0, 1) := dk_42 (dk_at dksX0_byDeed_1 5 rfl rfl)
theorem dX0_byDeed_29 : decode cX0_byDeed 29 = .ok (.getfield 17, 3) := dk_180 0 17 (dk_at dksX0_byDeed_1 6 rfl rfl)
theorem dX0_byDeed_32 : decode cX0_byDeed 32 = .ok (.iload_n 1, 1) := dk_27 (dk_at dksX0_byDeed_1 9 rfl rfl)
theorem dX0_byDeed_33 : decode cX0_byDeed 33 = .ok (.aaload, 1) := dk_50 (dk_at dksX0_byDeed_1 10 rfl rfl)
theorem dX0_byDeed_34 : decode cX0_byDeed 34 = .ok (.iconst 0, 1) := dk_3 (dk_at dksX0_byDeed_1 11 rfl rfl)
theorem dX0_byDeed_35 : decode cX0_byDeed 35 = .ok (.putfield 128, 3) := dk_181 0 128 (dk_at dksX0_byDeed_1 12 rfl rfl)
theorem dX0_byDeed_38 : decode cX0_byDeed 38 = .ok (.iload 4, 2) := dk_21 4 (dk_at dksX0_byDeed_1 15 rfl rfl)
theorem dX0_byDeed_40 : decode cX0_byDeed 40 = .ok (.ireturn, 1) := dk_172 (dk_at dksX0_byDeed_1 17 rfl rfl)
def dkwX0_drawn_7 : List UInt8 := [182, 0, 242, 96, 54, 6, 42, 21, 7, 182, 1, 90, 132, 8, 1, 167, 255, 153, 21, 6, 172]
abbrev dktX0_drawn_7 : List UInt8 := dkwX0_drawn_7 ++ []
def dkwX0_drawn_6 : List UInt8 := [156, 0, 16, 42, 42, 21, 4, 182, 0, 248, 182, 0, 252, 167, 0, 14, 42, 29, 42, 21, 4, 182, 0, 248]
abbrev dktX0_drawn_6 : List UInt8 := dkwX0_drawn_6 ++ dktX0_drawn_7
def dkwX0_drawn_5 : List UInt8 := [21, 5, 28, 16, 100, 112, 42, 21, 9, 182, 0, 248, 182, 1, 87, 132, 9, 1, 167, 255, 211, 21, 6, 29]
abbrev dktX0_drawn_5 : List UInt8 := dkwX0_drawn_5 ++ dktX0_drawn_6
def dkwX0_drawn_4 : List UInt8 := [162, 0, 44, 21, 5, 19, 1, 86, 104, 17, 48, 57, 96, 54, 5, 42, 180, 0, 71, 158, 0, 19, 42]
abbrev dktX0_drawn_4 : List UInt8 := dkwX0_drawn_4 ++ dktX0_drawn_5
def dkwX0_drawn_3 : List UInt8 := [54, 7, 3, 54, 8, 21, 8, 28, 17, 39, 16, 108, 162, 0, 99, 3, 54, 9, 21, 9, 21, 4]
abbrev dktX0_drawn_3 : List UInt8 := dkwX0_drawn_3 ++ dktX0_drawn_4
def dkwX0_drawn_2 : List UInt8 := [2, 159, 0, 13, 42, 29, 182, 0, 74, 154, 0, 5, 2, 172, 27, 54, 5, 3, 54, 6, 42, 182, 1, 83]
abbrev dktX0_drawn_2 : List UInt8 := dkwX0_drawn_2 ++ dktX0_drawn_3
def dkwX0_drawn_1 : List UInt8 := [153, 0, 36, 21, 4, 4, 16, 40, 184, 0, 67, 153, 0, 25, 28, 16, 100, 112, 16, 12, 163, 0, 16, 29]
abbrev dktX0_drawn_1 : List UInt8 := dkwX0_drawn_1 ++ dktX0_drawn_2
def dkwX0_drawn_0 : List UInt8 := [28, 16, 100, 108, 16, 100, 112, 54, 4, 28, 155, 0, 50, 28, 17, 39, 16, 108, 4, 16, 30, 184, 0, 67]
abbrev dktX0_drawn_0 : List UInt8 := dkwX0_drawn_0 ++ dktX0_drawn_1
theorem dksX0_drawn_0 : cX0_drawn.data.toList.drop 0 = dktX0_drawn_0 := by decide +kernel
theorem dksX0_drawn_1 : cX0_drawn.data.toList.drop 24 = dktX0_drawn_1 := dk_seg dksX0_drawn_0 24 rfl rfl
theorem dksX0_drawn_2 : cX0_drawn.data.toList.drop 48 = dktX0_drawn_2 := dk_seg dksX0_drawn_1 24 rfl rfl
theorem dksX0_drawn_3 : cX0_drawn.data.toList.drop 72 = dktX0_drawn_3 := dk_seg dksX0_drawn_2 24 rfl rfl
theorem dksX0_drawn_4 : cX0_drawn.data.toList.drop 94 = dktX0_drawn_4 := dk_seg dksX0_drawn_3 22 rfl rfl
theorem dksX0_drawn_5 : cX0_drawn.data.toList.drop 117 = dktX0_drawn_5 := dk_seg dksX0_drawn_4 23 rfl rfl
theorem dksX0_drawn_6 : cX0_drawn.data.toList.drop 141 = dktX0_drawn_6 := dk_seg dksX0_drawn_5 24 rfl rfl
theorem dksX0_drawn_7 : cX0_drawn.data.toList.drop 165 = dktX0_drawn_7 := dk_seg dksX0_drawn_6 24 rfl rfl
theorem dX0_drawn_0 : decode cX0_drawn 0 = .ok (.iload_n 2, 1) := dk_28 (dk_at dksX0_drawn_0 0 rfl rfl)
theorem dX0_drawn_1 : decode cX0_drawn 1 = .ok (.bipush 100, 2) := dk_16 100 (dk_at dksX0_drawn_0 1 rfl rfl)
theorem dX0_drawn_3 : decode cX0_drawn 3 = .ok (.idiv, 1) := dk_108 (dk_at dksX0_drawn_0 3 rfl rfl)
theorem dX0_drawn_4 : decode cX0_drawn 4 = .ok (.bipush 100, 2) := dk_16 100 (dk_at dksX0_drawn_0 4 rfl rfl)
theorem dX0_drawn_6 : decode cX0_drawn 6 = .ok (.irem, 1) := dk_112 (dk_at dksX0_drawn_0 6 rfl rfl)
theorem dX0_drawn_7 : decode cX0_drawn 7 = .ok (.istore 4, 2) := dk_54 4 (dk_at dksX0_drawn_0 7 rfl rfl)
theorem dX0_drawn_9 : decode cX0_drawn 9 = .ok (.iload_n 2, 1) := dk_28 (dk_at dksX0_drawn_0 9 rfl rfl)
theorem dX0_drawn_10 : decode cX0_drawn 10 = .ok (.ifCond .lt 50, 3) := dk_155 0 50 (dk_at dksX0_drawn_0 10 rfl rfl)
theorem dX0_drawn_13 : decode cX0_drawn 13 = .ok (.iload_n 2, 1) := dk_28 (dk_at dksX0_drawn_0 13 rfl rfl)
theorem dX0_drawn_14 : decode cX0_drawn 14 = .ok (.sipush 10000, 3) := dk_17 39 16 (dk_at dksX0_drawn_0 14 rfl rfl)
theorem dX0_drawn_17 : decode cX0_drawn 17 = .ok (.idiv, 1) := dk_108 (dk_at dksX0_drawn_0 17 rfl rfl)
theorem dX0_drawn_18 : decode cX0_drawn 18 = .ok (.iconst 1, 1) := dk_4 (dk_at dksX0_drawn_0 18 rfl rfl)
theorem dX0_drawn_19 : decode cX0_drawn 19 = .ok (.bipush 30, 2) := dk_16 30 (dk_at dksX0_drawn_0 19 rfl rfl)
theorem dX0_drawn_21 : decode cX0_drawn 21 = .ok (.invokestatic 67, 3) := dk_184 0 67 (dk_at dksX0_drawn_0 21 rfl rfl)
theorem dX0_drawn_24 : decode cX0_drawn 24 = .ok (.ifCond .eq 36, 3) := dk_153 0 36 (dk_at dksX0_drawn_1 0 rfl rfl)
theorem dX0_drawn_27 : decode cX0_drawn 27 = .ok (.iload 4, 2) := dk_21 4 (dk_at dksX0_drawn_1 3 rfl rfl)
theorem dX0_drawn_29 : decode cX0_drawn 29 = .ok (.iconst 1, 1) := dk_4 (dk_at dksX0_drawn_1 5 rfl rfl)
theorem dX0_drawn_30 : decode cX0_drawn 30 = .ok (.bipush 40, 2) := dk_16 40 (dk_at dksX0_drawn_1 6 rfl rfl)
theorem dX0_drawn_32 : decode cX0_drawn 32 = .ok (.invokestatic 67, 3) := dk_184 0 67 (dk_at dksX0_drawn_1 8 rfl rfl)
theorem dX0_drawn_35 : decode cX0_drawn 35 = .ok (.ifCond .eq 25, 3) := dk_153 0 25 (dk_at dksX0_drawn_1 11 rfl rfl)
theorem dX0_drawn_38 : decode cX0_drawn 38 = .ok (.iload_n 2, 1) := dk_28 (dk_at dksX0_drawn_1 14 rfl rfl)
theorem dX0_drawn_39 : decode cX0_drawn 39 = .ok (.bipush 100, 2) := dk_16 100 (dk_at dksX0_drawn_1 15 rfl rfl)
theorem dX0_drawn_41 : decode cX0_drawn 41 = .ok (.irem, 1) := dk_112 (dk_at dksX0_drawn_1 17 rfl rfl)
theorem dX0_drawn_42 : decode cX0_drawn 42 = .ok (.bipush 12, 2) := dk_16 12 (dk_at dksX0_drawn_1 18 rfl rfl)
theorem dX0_drawn_44 : decode cX0_drawn 44 = .ok (.if_icmp .gt 16, 3) := dk_163 0 16 (dk_at dksX0_drawn_1 20 rfl rfl)
theorem dX0_drawn_47 : decode cX0_drawn 47 = .ok (.iload_n 3, 1) := dk_29 (dk_at dksX0_drawn_1 23 rfl rfl)
theorem dX0_drawn_48 : decode cX0_drawn 48 = .ok (.iconst (-1), 1) := dk_2 (dk_at dksX0_drawn_2 0 rfl rfl)
theorem dX0_drawn_49 : decode cX0_drawn 49 = .ok (.if_icmp .eq 13, 3) := dk_159 0 13 (dk_at dksX0_drawn_2 1 rfl rfl)
theorem dX0_drawn_52 : decode cX0_drawn 52 = .ok (.aload_n 0, 1) := dk_42 (dk_at dksX0_drawn_2 4 rfl rfl)
theorem dX0_drawn_53 : decode cX0_drawn 53 = .ok (.iload_n 3, 1) := dk_29 (dk_at dksX0_drawn_2 5 rfl rfl)
theorem dX0_drawn_54 : decode cX0_drawn 54 = .ok (.invokevirtual 74, 3) := dk_182 0 74 (dk_at dksX0_drawn_2 6 rfl rfl)
theorem dX0_drawn_57 : decode cX0_drawn 57 = .ok (.ifCond .ne 5, 3) := dk_154 0 5 (dk_at dksX0_drawn_2 9 rfl rfl)
theorem dX0_drawn_60 : decode cX0_drawn 60 = .ok (.iconst (-1), 1) := dk_2 (dk_at dksX0_drawn_2 12 rfl rfl)
theorem dX0_drawn_61 : decode cX0_drawn 61 = .ok (.ireturn, 1) := dk_172 (dk_at dksX0_drawn_2 13 rfl rfl)
theorem dX0_drawn_62 : decode cX0_drawn 62 = .ok (.iload_n 1, 1) := dk_27 (dk_at dksX0_drawn_2 14 rfl rfl)
theorem dX0_drawn_63 : decode cX0_drawn 63 = .ok (.istore 5, 2) := dk_54 5 (dk_at dksX0_drawn_2 15 rfl rfl)
theorem dX0_drawn_65 : decode cX0_drawn 65 = .ok (.iconst 0, 1) := dk_3 (dk_at dksX0_drawn_2 17 rfl rfl)
theorem dX0_drawn_66 : decode cX0_drawn 66 = .ok (.istore 6, 2) := dk_54 6 (dk_at dksX0_drawn_2 18 rfl rfl)
theorem dX0_drawn_68 : decode cX0_drawn 68 = .ok (.aload_n 0, 1) := dk_42 (dk_at dksX0_drawn_2 20 rfl rfl)
theorem dX0_drawn_69 : decode cX0_drawn 69 = .ok (.invokevirtual 339, 3) := dk_182 1 83 (dk_at dksX0_drawn_2 21 rfl rfl)
theorem dX0_drawn_72 : decode cX0_drawn 72 = .ok (.istore 7, 2) := dk_54 7 (dk_at dksX0_drawn_3 0 rfl rfl)
theorem dX0_drawn_74 : decode cX0_drawn 74 = .ok (.iconst 0, 1) := dk_3 (dk_at dksX0_drawn_3 2 rfl rfl)
theorem dX0_drawn_75 : decode cX0_drawn 75 = .ok (.istore 8, 2) := dk_54 8 (dk_at dksX0_drawn_3 3 rfl rfl)
theorem dX0_drawn_77 : decode cX0_drawn 77 = .ok (.iload 8, 2) := dk_21 8 (dk_at dksX0_drawn_3 5 rfl rfl)
theorem dX0_drawn_79 : decode cX0_drawn 79 = .ok (.iload_n 2, 1) := dk_28 (dk_at dksX0_drawn_3 7 rfl rfl)
theorem dX0_drawn_80 : decode cX0_drawn 80 = .ok (.sipush 10000, 3) := dk_17 39 16 (dk_at dksX0_drawn_3 8 rfl rfl)
theorem dX0_drawn_83 : decode cX0_drawn 83 = .ok (.idiv, 1) := dk_108 (dk_at dksX0_drawn_3 11 rfl rfl)
theorem dX0_drawn_84 : decode cX0_drawn 84 = .ok (.if_icmp .ge 99, 3) := dk_162 0 99 (dk_at dksX0_drawn_3 12 rfl rfl)
theorem dX0_drawn_87 : decode cX0_drawn 87 = .ok (.iconst 0, 1) := dk_3 (dk_at dksX0_drawn_3 15 rfl rfl)
theorem dX0_drawn_88 : decode cX0_drawn 88 = .ok (.istore 9, 2) := dk_54 9 (dk_at dksX0_drawn_3 16 rfl rfl)
theorem dX0_drawn_90 : decode cX0_drawn 90 = .ok (.iload 9, 2) := dk_21 9 (dk_at dksX0_drawn_3 18 rfl rfl)
theorem dX0_drawn_92 : decode cX0_drawn 92 = .ok (.iload 4, 2) := dk_21 4 (dk_at dksX0_drawn_3 20 rfl rfl)
theorem dX0_drawn_94 : decode cX0_drawn 94 = .ok (.if_icmp .ge 44, 3) := dk_162 0 44 (dk_at dksX0_drawn_4 0 rfl rfl)
theorem dX0_drawn_97 : decode cX0_drawn 97 = .ok (.iload 5, 2) := dk_21 5 (dk_at dksX0_drawn_4 3 rfl rfl)
theorem dX0_drawn_99 : decode cX0_drawn 99 = .ok (.ldc_w 342, 3) := dk_19 1 86 (dk_at dksX0_drawn_4 5 rfl rfl)
theorem dX0_drawn_102 : decode cX0_drawn 102 = .ok (.imul, 1) := dk_104 (dk_at dksX0_drawn_4 8 rfl rfl)
theorem dX0_drawn_103 : decode cX0_drawn 103 = .ok (.sipush 12345, 3) := dk_17 48 57 (dk_at dksX0_drawn_4 9 rfl rfl)
theorem dX0_drawn_106 : decode cX0_drawn 106 = .ok (.iadd, 1) := dk_96 (dk_at dksX0_drawn_4 12 rfl rfl)
theorem dX0_drawn_107 : decode cX0_drawn 107 = .ok (.istore 5, 2) := dk_54 5 (dk_at dksX0_drawn_4 13 rfl rfl)
theorem dX0_drawn_109 : decode cX0_drawn 109 = .ok (.aload_n 0, 1) := dk_42 (dk_at dksX0_drawn_4 15 rfl rfl)
theorem dX0_drawn_110 : decode cX0_drawn 110 = .ok (.getfield 71, 3) := dk_180 0 71 (dk_at dksX0_drawn_4 16 rfl rfl)
theorem dX0_drawn_113 : decode cX0_drawn 113 = .ok (.ifCond .le 19, 3) := dk_158 0 19 (dk_at dksX0_drawn_4 19 rfl rfl)
theorem dX0_drawn_116 : decode cX0_drawn 116 = .ok (.aload_n 0, 1) := dk_42 (dk_at dksX0_drawn_4 22 rfl rfl)
theorem dX0_drawn_117 : decode cX0_drawn 117 = .ok (.iload 5, 2) := dk_21 5 (dk_at dksX0_drawn_5 0 rfl rfl)
theorem dX0_drawn_119 : decode cX0_drawn 119 = .ok (.iload_n 2, 1) := dk_28 (dk_at dksX0_drawn_5 2 rfl rfl)
theorem dX0_drawn_120 : decode cX0_drawn 120 = .ok (.bipush 100, 2) := dk_16 100 (dk_at dksX0_drawn_5 3 rfl rfl)
theorem dX0_drawn_122 : decode cX0_drawn 122 = .ok (.irem, 1) := dk_112 (dk_at dksX0_drawn_5 5 rfl rfl)
theorem dX0_drawn_123 : decode cX0_drawn 123 = .ok (.aload_n 0, 1) := dk_42 (dk_at dksX0_drawn_5 6 rfl rfl)
theorem dX0_drawn_124 : decode cX0_drawn 124 = .ok (.iload 9, 2) := dk_21 9 (dk_at dksX0_drawn_5 7 rfl rfl)
theorem dX0_drawn_126 : decode cX0_drawn 126 = .ok (.invokevirtual 248, 3) := dk_182 0 248 (dk_at dksX0_drawn_5 9 rfl rfl)
theorem dX0_drawn_129 : decode cX0_drawn 129 = .ok (.invokevirtual 343, 3) := dk_182 1 87 (dk_at dksX0_drawn_5 12 rfl rfl)
theorem dX0_drawn_132 : decode cX0_drawn 132 = .ok (.iinc 9 1, 3) := dk_132 9 1 (dk_at dksX0_drawn_5 15 rfl rfl)
theorem dX0_drawn_135 : decode cX0_drawn 135 = .ok (.goto (-45), 3) := dk_167 255 211 (dk_at dksX0_drawn_5 18 rfl rfl)
theorem dX0_drawn_138 : decode cX0_drawn 138 = .ok (.iload 6, 2) := dk_21 6 (dk_at dksX0_drawn_5 21 rfl rfl)
theorem dX0_drawn_140 : decode cX0_drawn 140 = .ok (.iload_n 3, 1) := dk_29 (dk_at dksX0_drawn_5 23 rfl rfl)
theorem dX0_drawn_141 : decode cX0_drawn 141 = .ok (.ifCond .ge 16, 3) := dk_156 0 16 (dk_at dksX0_drawn_6 0 rfl rfl)
theorem dX0_drawn_144 : decode cX0_drawn 144 = .ok (.aload_n 0, 1) := dk_42 (dk_at dksX0_drawn_6 3 rfl rfl)
theorem dX0_drawn_145 : decode cX0_drawn 145 = .ok (.aload_n 0, 1) := dk_42 (dk_at dksX0_drawn_6 4 rfl rfl)
theorem dX0_drawn_146 : decode cX0_drawn 146 = .ok (.iload 4, 2) := dk_21 4 (dk_at dksX0_drawn_6 5 rfl rfl)
theorem dX0_drawn_148 : decode cX0_drawn 148 = .ok (.invokevirtual 248, 3) := dk_182 0 248 (dk_at dksX0_drawn_6 7 rfl rfl)
theorem dX0_drawn_151 : decode cX0_drawn 151 = .ok (.invokevirtual 252, 3) := dk_182 0 252 (dk_at dksX0_drawn_6 10 rfl rfl)
theorem dX0_drawn_154 : decode cX0_drawn 154 = .ok (.goto 14, 3) := dk_167 0 14 (dk_at dksX0_drawn_6 13 rfl rfl)
theorem dX0_drawn_157 : decode cX0_drawn 157 = .ok (.aload_n 0, 1) := dk_42 (dk_at dksX0_drawn_6 16 rfl rfl)
theorem dX0_drawn_158 : decode cX0_drawn 158 = .ok (.iload_n 3, 1) := dk_29 (dk_at dksX0_drawn_6 17 rfl rfl)
theorem dX0_drawn_159 : decode cX0_drawn 159 = .ok (.aload_n 0, 1) := dk_42 (dk_at dksX0_drawn_6 18 rfl rfl)
theorem dX0_drawn_160 : decode cX0_drawn 160 = .ok (.iload 4, 2) := dk_21 4 (dk_at dksX0_drawn_6 19 rfl rfl)
theorem dX0_drawn_162 : decode cX0_drawn 162 = .ok (.invokevirtual 248, 3) := dk_182 0 248 (dk_at dksX0_drawn_6 21 rfl rfl)
theorem dX0_drawn_165 : decode cX0_drawn 165 = .ok (.invokevirtual 242, 3) := dk_182 0 242 (dk_at dksX0_drawn_7 0 rfl rfl)
theorem dX0_drawn_168 : decode cX0_drawn 168 = .ok (.iadd, 1) := dk_96 (dk_at dksX0_drawn_7 3 rfl rfl)
theorem dX0_drawn_169 : decode cX0_drawn 169 = .ok (.istore 6, 2) := dk_54 6 (dk_at dksX0_drawn_7 4 rfl rfl)
theorem dX0_drawn_171 : decode cX0_drawn 171 = .ok (.aload_n 0, 1) := dk_42 (dk_at dksX0_drawn_7 6 rfl rfl)
theorem dX0_drawn_172 : decode cX0_drawn 172 = .ok (.iload 7, 2) := dk_21 7 (dk_at dksX0_drawn_7 7 rfl rfl)
theorem dX0_drawn_174 : decode cX0_drawn 174 = .ok (.invokevirtual 346, 3) := dk_182 1 90 (dk_at dksX0_drawn_7 9 rfl rfl)
theorem dX0_drawn_177 : decode cX0_drawn 177 = .ok (.iinc 8 1, 3) := dk_132 8 1 (dk_at dksX0_drawn_7 12 rfl rfl)
theorem dX0_drawn_180 : decode cX0_drawn 180 = .ok (.goto (-103), 3) := dk_167 255 153 (dk_at dksX0_drawn_7 15 rfl rfl)
theorem dX0_drawn_183 : decode cX0_drawn 183 = .ok (.iload 6, 2) := dk_21 6 (dk_at dksX0_drawn_7 18 rfl rfl)
theorem dX0_drawn_185 : decode cX0_drawn 185 = .ok (.ireturn, 1) := dk_172 (dk_at dksX0_drawn_7 20 rfl rfl)
def dkwX0_doneBits_1 : List UInt8 := [160, 0, 9, 27, 4, 28, 120, 128, 60, 132, 2, 1, 167, 255, 226, 27, 172]
abbrev dktX0_doneBits_1 : List UInt8 := dkwX0_doneBits_1 ++ []
def dkwX0_doneBits_0 : List UInt8 := [3, 60, 3, 61, 28, 42, 180, 0, 71, 162, 0, 28, 42, 180, 0, 17, 28, 50, 180, 0, 128, 4]
abbrev dktX0_doneBits_0 : List UInt8 := dkwX0_doneBits_0 ++ dktX0_doneBits_1
theorem dksX0_doneBits_0 : cX0_doneBits.data.toList.drop 0 = dktX0_doneBits_0 := by decide +kernel
theorem dksX0_doneBits_1 : cX0_doneBits.data.toList.drop 22 = dktX0_doneBits_1 := dk_seg dksX0_doneBits_0 22 rfl rfl
theorem dX0_doneBits_0 : decode cX0_doneBits 0 = .ok (.iconst 0, 1) := dk_3 (dk_at dksX0_doneBits_0 0 rfl rfl)
theorem dX0_doneBits_1 : decode cX0_doneBits 1 = .ok (.istore_n 1, 1) := dk_60 (dk_at dksX0_doneBits_0 1 rfl rfl)
theorem dX0_doneBits_2 : decode cX0_doneBits 2 = .ok (.iconst 0, 1) := dk_3 (dk_at dksX0_doneBits_0 2 rfl rfl)
theorem dX0_doneBits_3 : decode cX0_doneBits 3 = .ok (.istore_n 2, 1) := dk_61 (dk_at dksX0_doneBits_0 3 rfl rfl)
theorem dX0_doneBits_4 : decode cX0_doneBits 4 = .ok (.iload_n 2, 1) := dk_28 (dk_at dksX0_doneBits_0 4 rfl rfl)
theorem dX0_doneBits_5 : decode cX0_doneBits 5 = .ok (.aload_n 0, 1) := dk_42 (dk_at dksX0_doneBits_0 5 rfl rfl)
theorem dX0_doneBits_6 : decode cX0_doneBits 6 = .ok (.getfield 71, 3) := dk_180 0 71 (dk_at dksX0_doneBits_0 6 rfl rfl)
theorem dX0_doneBits_9 : decode cX0_doneBits 9 = .ok (.if_icmp .ge 28, 3) := dk_162 0 28 (dk_at dksX0_doneBits_0 9 rfl rfl)
theorem dX0_doneBits_12 : decode cX0_doneBits 12 = .ok (.aload_n 0, 1) := dk_42 (dk_at dksX0_doneBits_0 12 rfl rfl)
theorem dX0_doneBits_13 : decode cX0_doneBits 13 = .ok (.getfield 17, 3) := dk_180 0 17 (dk_at dksX0_doneBits_0 13 rfl rfl)
theorem dX0_doneBits_16 : decode cX0_doneBits 16 = .ok (.iload_n 2, 1) := dk_28 (dk_at dksX0_doneBits_0 16 rfl rfl)
theorem dX0_doneBits_17 : decode cX0_doneBits 17 = .ok (.aaload, 1) := dk_50 (dk_at dksX0_doneBits_0 17 rfl rfl)
theorem dX0_doneBits_18 : decode cX0_doneBits 18 = .ok (.getfield 128, 3) := dk_180 0 128 (dk_at dksX0_doneBits_0 18 rfl rfl)
theorem dX0_doneBits_21 : decode cX0_doneBits 21 = .ok (.iconst 1, 1) := dk_4 (dk_at dksX0_doneBits_0 21 rfl rfl)
theorem dX0_doneBits_22 : decode cX0_doneBits 22 = .ok (.if_icmp .ne 9, 3) := dk_160 0 9 (dk_at dksX0_doneBits_1 0 rfl rfl)
theorem dX0_doneBits_25 : decode cX0_doneBits 25 = .ok (.iload_n 1, 1) := dk_27 (dk_at dksX0_doneBits_1 3 rfl rfl)
theorem dX0_doneBits_26 : decode cX0_doneBits 26 = .ok (.iconst 1, 1) := dk_4 (dk_at dksX0_doneBits_1 4 rfl rfl)
theorem dX0_doneBits_27 : decode cX0_doneBits 27 = .ok (.iload_n 2, 1) := dk_28 (dk_at dksX0_doneBits_1 5 rfl rfl)
theorem dX0_doneBits_28 : decode cX0_doneBits 28 = .ok (.ishl, 1) := dk_120 (dk_at dksX0_doneBits_1 6 rfl rfl)
theorem dX0_doneBits_29 : decode cX0_doneBits 29 = .ok (.ior, 1) := dk_128 (dk_at dksX0_doneBits_1 7 rfl rfl)
theorem dX0_doneBits_30 : decode cX0_doneBits 30 = .ok (.istore_n 1, 1) := dk_60 (dk_at dksX0_doneBits_1 8 rfl rfl)
theorem dX0_doneBits_31 : decode cX0_doneBits 31 = .ok (.iinc 2 1, 3) := dk_132 2 1 (dk_at dksX0_doneBits_1 9 rfl rfl)
theorem dX0_doneBits_34 : decode cX0_doneBits 34 = .ok (.goto (-30), 3) := dk_167 255 226 (dk_at dksX0_doneBits_1 12 rfl rfl)
theorem dX0_doneBits_37 : decode cX0_doneBits 37 = .ok (.iload_n 1, 1) := dk_27 (dk_at dksX0_doneBits_1 15 rfl rfl)
theorem dX0_doneBits_38 : decode cX0_doneBits 38 = .ok (.ireturn, 1) := dk_172 (dk_at dksX0_doneBits_1 16 rfl rfl)
def dkwX0_goDraw_2 : List UInt8 := [25, 4, 4, 181, 0, 128, 177]
abbrev dktX0_goDraw_2 : List UInt8 := dkwX0_goDraw_2 ++ []
def dkwX0_goDraw_1 : List UInt8 := [153, 0, 29, 25, 4, 180, 0, 119, 5, 159, 0, 20, 27, 16, 16, 124, 16, 12, 112, 28, 162, 0, 9]
abbrev dktX0_goDraw_1 : List UInt8 := dkwX0_goDraw_1 ++ dktX0_goDraw_2
def dkwX0_goDraw_0 : List UInt8 := [42, 180, 0, 17, 27, 16, 8, 124, 42, 180, 0, 71, 112, 50, 58, 4, 25, 4, 29, 182, 0, 216]
abbrev dktX0_goDraw_0 : List UInt8 := dkwX0_goDraw_0 ++ dktX0_goDraw_1
theorem dksX0_goDraw_0 : cX0_goDraw.data.toList.drop 0 = dktX0_goDraw_0 := by decide +kernel
theorem dksX0_goDraw_1 : cX0_goDraw.data.toList.drop 22 = dktX0_goDraw_1 := dk_seg dksX0_goDraw_0 22 rfl rfl
theorem dksX0_goDraw_2 : cX0_goDraw.data.toList.drop 45 = dktX0_goDraw_2 := dk_seg dksX0_goDraw_1 23 rfl rfl
theorem dX0_goDraw_0 : decode cX0_goDraw 0 = .ok (.aload_n 0, 1) := dk_42 (dk_at dksX0_goDraw_0 0 rfl rfl)
theorem dX0_goDraw_1 : decode cX0_goDraw 1 = .ok (.getfield 17, 3) := dk_180 0 17 (dk_at dksX0_goDraw_0 1 rfl rfl)
theorem dX0_goDraw_4 : decode cX0_goDraw 4 = .ok (.iload_n 1, 1) := dk_27 (dk_at dksX0_goDraw_0 4 rfl rfl)
theorem dX0_goDraw_5 : decode cX0_goDraw 5 = .ok (.bipush 8, 2) := dk_16 8 (dk_at dksX0_goDraw_0 5 rfl rfl)
theorem dX0_goDraw_7 : decode cX0_goDraw 7 = .ok (.iushr, 1) := dk_124 (dk_at dksX0_goDraw_0 7 rfl rfl)
theorem dX0_goDraw_8 : decode cX0_goDraw 8 = .ok (.aload_n 0, 1) := dk_42 (dk_at dksX0_goDraw_0 8 rfl rfl)
theorem dX0_goDraw_9 : decode cX0_goDraw 9 = .ok (.getfield 71, 3) := dk_180 0 71 (dk_at dksX0_goDraw_0 9 rfl rfl)
theorem dX0_goDraw_12 : decode cX0_goDraw 12 = .ok (.irem, 1) := dk_112 (dk_at dksX0_goDraw_0 12 rfl rfl)
theorem dX0_goDraw_13 : decode cX0_goDraw 13 = .ok (.aaload, 1) := dk_50 (dk_at dksX0_goDraw_0 13 rfl rfl)
theorem dX0_goDraw_14 : decode cX0_goDraw 14 = .ok (.astore 4, 2) := dk_58 4 (dk_at dksX0_goDraw_0 14 rfl rfl)
theorem dX0_goDraw_16 : decode cX0_goDraw 16 = .ok (.aload 4, 2) := dk_25 4 (dk_at dksX0_goDraw_0 16 rfl rfl)
theorem dX0_goDraw_18 : decode cX0_goDraw 18 = .ok (.iload_n 3, 1) := dk_29 (dk_at dksX0_goDraw_0 18 rfl rfl)
theorem dX0_goDraw_19 : decode cX0_goDraw 19 = .ok (.invokevirtual 216, 3) := dk_182 0 216 (dk_at dksX0_goDraw_0 19 rfl rfl)
theorem dX0_goDraw_22 : decode cX0_goDraw 22 = .ok (.ifCond .eq 29, 3) := dk_153 0 29 (dk_at dksX0_goDraw_1 0 rfl rfl)
theorem dX0_goDraw_25 : decode cX0_goDraw 25 = .ok (.aload 4, 2) := dk_25 4 (dk_at dksX0_goDraw_1 3 rfl rfl)
theorem dX0_goDraw_27 : decode cX0_goDraw 27 = .ok (.getfield 119, 3) := dk_180 0 119 (dk_at dksX0_goDraw_1 5 rfl rfl)
theorem dX0_goDraw_30 : decode cX0_goDraw 30 = .ok (.iconst 2, 1) := dk_5 (dk_at dksX0_goDraw_1 8 rfl rfl)
theorem dX0_goDraw_31 : decode cX0_goDraw 31 = .ok (.if_icmp .eq 20, 3) := dk_159 0 20 (dk_at dksX0_goDraw_1 9 rfl rfl)
theorem dX0_goDraw_34 : decode cX0_goDraw 34 = .ok (.iload_n 1, 1) := dk_27 (dk_at dksX0_goDraw_1 12 rfl rfl)
theorem dX0_goDraw_35 : decode cX0_goDraw 35 = .ok (.bipush 16, 2) := dk_16 16 (dk_at dksX0_goDraw_1 13 rfl rfl)
theorem dX0_goDraw_37 : decode cX0_goDraw 37 = .ok (.iushr, 1) := dk_124 (dk_at dksX0_goDraw_1 15 rfl rfl)
theorem dX0_goDraw_38 : decode cX0_goDraw 38 = .ok (.bipush 12, 2) := dk_16 12 (dk_at dksX0_goDraw_1 16 rfl rfl)
theorem dX0_goDraw_40 : decode cX0_goDraw 40 = .ok (.irem, 1) := dk_112 (dk_at dksX0_goDraw_1 18 rfl rfl)
theorem dX0_goDraw_41 : decode cX0_goDraw 41 = .ok (.iload_n 2, 1) := dk_28 (dk_at dksX0_goDraw_1 19 rfl rfl)
theorem dX0_goDraw_42 : decode cX0_goDraw 42 = .ok (.if_icmp .ge 9, 3) := dk_162 0 9 (dk_at dksX0_goDraw_1 20 rfl rfl)
theorem dX0_goDraw_45 : decode cX0_goDraw 45 = .ok (.aload 4, 2) := dk_25 4 (dk_at dksX0_goDraw_2 0 rfl rfl)
theorem dX0_goDraw_47 : decode cX0_goDraw 47 = .ok (.iconst 1, 1) := dk_4 (dk_at dksX0_goDraw_2 2 rfl rfl)
theorem dX0_goDraw_48 : decode cX0_goDraw 48 = .ok (.putfield 128, 3) := dk_181 0 128 (dk_at dksX0_goDraw_2 3 rfl rfl)
theorem dX0_goDraw_51 : decode cX0_goDraw 51 = .ok (.return_, 1) := dk_177 (dk_at dksX0_goDraw_2 6 rfl rfl)
def dkwX0_layDone_1 : List UInt8 := [4, 167, 0, 4, 3, 181, 0, 128, 132, 2, 1, 167, 255, 223, 177]
abbrev dktX0_layDone_1 : List UInt8 := dkwX0_layDone_1 ++ []
def dkwX0_layDone_0 : List UInt8 := [3, 61, 28, 42, 180, 0, 71, 162, 0, 31, 42, 180, 0, 17, 28, 50, 27, 28, 184, 1, 12, 153, 0, 7]
abbrev dktX0_layDone_0 : List UInt8 := dkwX0_layDone_0 ++ dktX0_layDone_1
theorem dksX0_layDone_0 : cX0_layDone.data.toList.drop 0 = dktX0_layDone_0 := by decide +kernel
theorem dksX0_layDone_1 : cX0_layDone.data.toList.drop 24 = dktX0_layDone_1 := dk_seg dksX0_layDone_0 24 rfl rfl
theorem dX0_layDone_0 : decode cX0_layDone 0 = .ok (.iconst 0, 1) := dk_3 (dk_at dksX0_layDone_0 0 rfl rfl)
theorem dX0_layDone_1 : decode cX0_layDone 1 = .ok (.istore_n 2, 1) := dk_61 (dk_at dksX0_layDone_0 1 rfl rfl)
theorem dX0_layDone_2 : decode cX0_layDone 2 = .ok (.iload_n 2, 1) := dk_28 (dk_at dksX0_layDone_0 2 rfl rfl)
theorem dX0_layDone_3 : decode cX0_layDone 3 = .ok (.aload_n 0, 1) := dk_42 (dk_at dksX0_layDone_0 3 rfl rfl)
theorem dX0_layDone_4 : decode cX0_layDone 4 = .ok (.getfield 71, 3) := dk_180 0 71 (dk_at dksX0_layDone_0 4 rfl rfl)
theorem dX0_layDone_7 : decode cX0_layDone 7 = .ok (.if_icmp .ge 31, 3) := dk_162 0 31 (dk_at dksX0_layDone_0 7 rfl rfl)
theorem dX0_layDone_10 : decode cX0_layDone 10 = .ok (.aload_n 0, 1) := dk_42 (dk_at dksX0_layDone_0 10 rfl rfl)
theorem dX0_layDone_11 : decode cX0_layDone 11 = .ok (.getfield 17, 3) := dk_180 0 17 (dk_at dksX0_layDone_0 11 rfl rfl)
theorem dX0_layDone_14 : decode cX0_layDone 14 = .ok (.iload_n 2, 1) := dk_28 (dk_at dksX0_layDone_0 14 rfl rfl)
theorem dX0_layDone_15 : decode cX0_layDone 15 = .ok (.aaload, 1) := dk_50 (dk_at dksX0_layDone_0 15 rfl rfl)
theorem dX0_layDone_16 : decode cX0_layDone 16 = .ok (.iload_n 1, 1) := dk_27 (dk_at dksX0_layDone_0 16 rfl rfl)
theorem dX0_layDone_17 : decode cX0_layDone 17 = .ok (.iload_n 2, 1) := dk_28 (dk_at dksX0_layDone_0 17 rfl rfl)
theorem dX0_layDone_18 : decode cX0_layDone 18 = .ok (.invokestatic 268, 3) := dk_184 1 12 (dk_at dksX0_layDone_0 18 rfl rfl)
theorem dX0_layDone_21 : decode cX0_layDone 21 = .ok (.ifCond .eq 7, 3) := dk_153 0 7 (dk_at dksX0_layDone_0 21 rfl rfl)
theorem dX0_layDone_24 : decode cX0_layDone 24 = .ok (.iconst 1, 1) := dk_4 (dk_at dksX0_layDone_1 0 rfl rfl)
theorem dX0_layDone_25 : decode cX0_layDone 25 = .ok (.goto 4, 3) := dk_167 0 4 (dk_at dksX0_layDone_1 1 rfl rfl)
theorem dX0_layDone_28 : decode cX0_layDone 28 = .ok (.iconst 0, 1) := dk_3 (dk_at dksX0_layDone_1 4 rfl rfl)
theorem dX0_layDone_29 : decode cX0_layDone 29 = .ok (.putfield 128, 3) := dk_181 0 128 (dk_at dksX0_layDone_1 5 rfl rfl)
theorem dX0_layDone_32 : decode cX0_layDone 32 = .ok (.iinc 2 1, 3) := dk_132 2 1 (dk_at dksX0_layDone_1 8 rfl rfl)
theorem dX0_layDone_35 : decode cX0_layDone 35 = .ok (.goto (-33), 3) := dk_167 255 223 (dk_at dksX0_layDone_1 11 rfl rfl)
theorem dX0_layDone_38 : decode cX0_layDone 38 = .ok (.return_, 1) := dk_177 (dk_at dksX0_layDone_1 14 rfl rfl)
def dkwX0_does_4 : List UInt8 := [42, 89, 180, 1, 96, 45, 180, 0, 116, 96, 181, 1, 96, 42, 180, 0, 11, 28, 50, 180, 0, 113, 172]
abbrev dktX0_does_4 : List UInt8 := dkwX0_does_4 ++ []
def dkwX0_does_3 : List UInt8 := [28, 50, 89, 180, 0, 113, 45, 180, 0, 116, 100, 181, 0, 113, 42, 89, 180, 1, 93, 4, 96, 181, 1, 93]
abbrev dktX0_does_3 : List UInt8 := dkwX0_does_3 ++ dktX0_does_4
def dkwX0_does_2 : List UInt8 := [28, 50, 180, 0, 113, 45, 180, 0, 116, 162, 0, 6, 16, 251, 172, 45, 4, 181, 0, 128, 42, 180, 0, 11]
abbrev dktX0_does_2 : List UInt8 := dkwX0_does_2 ++ dktX0_does_3
def dkwX0_does_1 : List UInt8 := [78, 45, 42, 180, 0, 78, 182, 0, 216, 153, 0, 27, 45, 180, 0, 119, 5, 159, 0, 19, 42, 180, 0, 11]
abbrev dktX0_does_1 : List UInt8 := dkwX0_does_1 ++ dktX0_does_2
def dkwX0_does_0 : List UInt8 := [42, 27, 182, 0, 155, 153, 0, 11, 42, 28, 182, 0, 74, 154, 0, 5, 2, 172, 42, 180, 0, 17, 27, 50]
abbrev dktX0_does_0 : List UInt8 := dkwX0_does_0 ++ dktX0_does_1
theorem dksX0_does_0 : cX0_does.data.toList.drop 0 = dktX0_does_0 := by decide +kernel
theorem dksX0_does_1 : cX0_does.data.toList.drop 24 = dktX0_does_1 := dk_seg dksX0_does_0 24 rfl rfl
theorem dksX0_does_2 : cX0_does.data.toList.drop 48 = dktX0_does_2 := dk_seg dksX0_does_1 24 rfl rfl
theorem dksX0_does_3 : cX0_does.data.toList.drop 72 = dktX0_does_3 := dk_seg dksX0_does_2 24 rfl rfl
theorem dksX0_does_4 : cX0_does.data.toList.drop 96 = dktX0_does_4 := dk_seg dksX0_does_3 24 rfl rfl
theorem dX0_does_0 : decode cX0_does 0 = .ok (.aload_n 0, 1) := dk_42 (dk_at dksX0_does_0 0 rfl rfl)
theorem dX0_does_1 : decode cX0_does 1 = .ok (.iload_n 1, 1) := dk_27 (dk_at dksX0_does_0 1 rfl rfl)
theorem dX0_does_2 : decode cX0_does 2 = .ok (.invokevirtual 155, 3) := dk_182 0 155 (dk_at dksX0_does_0 2 rfl rfl)
theorem dX0_does_5 : decode cX0_does 5 = .ok (.ifCond .eq 11, 3) := dk_153 0 11 (dk_at dksX0_does_0 5 rfl rfl)
theorem dX0_does_8 : decode cX0_does 8 = .ok (.aload_n 0, 1) := dk_42 (dk_at dksX0_does_0 8 rfl rfl)
theorem dX0_does_9 : decode cX0_does 9 = .ok (.iload_n 2, 1) := dk_28 (dk_at dksX0_does_0 9 rfl rfl)
theorem dX0_does_10 : decode cX0_does 10 = .ok (.invokevirtual 74, 3) := dk_182 0 74 (dk_at dksX0_does_0 10 rfl rfl)
theorem dX0_does_13 : decode cX0_does 13 = .ok (.ifCond .ne 5, 3) := dk_154 0 5 (dk_at dksX0_does_0 13 rfl rfl)
theorem dX0_does_16 : decode cX0_does 16 = .ok (.iconst (-1), 1) := dk_2 (dk_at dksX0_does_0 16 rfl rfl)
theorem dX0_does_17 : decode cX0_does 17 = .ok (.ireturn, 1) := dk_172 (dk_at dksX0_does_0 17 rfl rfl)
theorem dX0_does_18 : decode cX0_does 18 = .ok (.aload_n 0, 1) := dk_42 (dk_at dksX0_does_0 18 rfl rfl)
theorem dX0_does_19 : decode cX0_does 19 = .ok (.getfield 17, 3) := dk_180 0 17 (dk_at dksX0_does_0 19 rfl rfl)
theorem dX0_does_22 : decode cX0_does 22 = .ok (.iload_n 1, 1) := dk_27 (dk_at dksX0_does_0 22 rfl rfl)
theorem dX0_does_23 : decode cX0_does 23 = .ok (.aaload, 1) := dk_50 (dk_at dksX0_does_0 23 rfl rfl)
theorem dX0_does_24 : decode cX0_does 24 = .ok (.astore_n 3, 1) := dk_78 (dk_at dksX0_does_1 0 rfl rfl)
theorem dX0_does_25 : decode cX0_does 25 = .ok (.aload_n 3, 1) := dk_45 (dk_at dksX0_does_1 1 rfl rfl)
theorem dX0_does_26 : decode cX0_does 26 = .ok (.aload_n 0, 1) := dk_42 (dk_at dksX0_does_1 2 rfl rfl)
theorem dX0_does_27 : decode cX0_does 27 = .ok (.getfield 78, 3) := dk_180 0 78 (dk_at dksX0_does_1 3 rfl rfl)
theorem dX0_does_30 : decode cX0_does 30 = .ok (.invokevirtual 216, 3) := dk_182 0 216 (dk_at dksX0_does_1 6 rfl rfl)
theorem dX0_does_33 : decode cX0_does 33 = .ok (.ifCond .eq 27, 3) := dk_153 0 27 (dk_at dksX0_does_1 9 rfl rfl)
theorem dX0_does_36 : decode cX0_does 36 = .ok (.aload_n 3, 1) := dk_45 (dk_at dksX0_does_1 12 rfl rfl)
theorem dX0_does_37 : decode cX0_does 37 = .ok (.getfield 119, 3) := dk_180 0 119 (dk_at dksX0_does_1 13 rfl rfl)
theorem dX0_does_40 : decode cX0_does 40 = .ok (.iconst 2, 1) := dk_5 (dk_at dksX0_does_1 16 rfl rfl)
theorem dX0_does_41 : decode cX0_does 41 = .ok (.if_icmp .eq 19, 3) := dk_159 0 19 (dk_at dksX0_does_1 17 rfl rfl)
theorem dX0_does_44 : decode cX0_does 44 = .ok (.aload_n 0, 1) := dk_42 (dk_at dksX0_does_1 20 rfl rfl)
theorem dX0_does_45 : decode cX0_does 45 = .ok (.getfield 11, 3) := dk_180 0 11 (dk_at dksX0_does_1 21 rfl rfl)
theorem dX0_does_48 : decode cX0_does 48 = .ok (.iload_n 2, 1) := dk_28 (dk_at dksX0_does_2 0 rfl rfl)
theorem dX0_does_49 : decode cX0_does 49 = .ok (.aaload, 1) := dk_50 (dk_at dksX0_does_2 1 rfl rfl)
theorem dX0_does_50 : decode cX0_does 50 = .ok (.getfield 113, 3) := dk_180 0 113 (dk_at dksX0_does_2 2 rfl rfl)
theorem dX0_does_53 : decode cX0_does 53 = .ok (.aload_n 3, 1) := dk_45 (dk_at dksX0_does_2 5 rfl rfl)
theorem dX0_does_54 : decode cX0_does 54 = .ok (.getfield 116, 3) := dk_180 0 116 (dk_at dksX0_does_2 6 rfl rfl)
theorem dX0_does_57 : decode cX0_does 57 = .ok (.if_icmp .ge 6, 3) := dk_162 0 6 (dk_at dksX0_does_2 9 rfl rfl)
theorem dX0_does_60 : decode cX0_does 60 = .ok (.bipush (-5), 2) := dk_16 251 (dk_at dksX0_does_2 12 rfl rfl)
theorem dX0_does_62 : decode cX0_does 62 = .ok (.ireturn, 1) := dk_172 (dk_at dksX0_does_2 14 rfl rfl)
theorem dX0_does_63 : decode cX0_does 63 = .ok (.aload_n 3, 1) := dk_45 (dk_at dksX0_does_2 15 rfl rfl)
theorem dX0_does_64 : decode cX0_does 64 = .ok (.iconst 1, 1) := dk_4 (dk_at dksX0_does_2 16 rfl rfl)
theorem dX0_does_65 : decode cX0_does 65 = .ok (.putfield 128, 3) := dk_181 0 128 (dk_at dksX0_does_2 17 rfl rfl)
theorem dX0_does_68 : decode cX0_does 68 = .ok (.aload_n 0, 1) := dk_42 (dk_at dksX0_does_2 20 rfl rfl)
theorem dX0_does_69 : decode cX0_does 69 = .ok (.getfield 11, 3) := dk_180 0 11 (dk_at dksX0_does_2 21 rfl rfl)
theorem dX0_does_72 : decode cX0_does 72 = .ok (.iload_n 2, 1) := dk_28 (dk_at dksX0_does_3 0 rfl rfl)
theorem dX0_does_73 : decode cX0_does 73 = .ok (.aaload, 1) := dk_50 (dk_at dksX0_does_3 1 rfl rfl)
theorem dX0_does_74 : decode cX0_does 74 = .ok (.dup, 1) := dk_89 (dk_at dksX0_does_3 2 rfl rfl)
theorem dX0_does_75 : decode cX0_does 75 = .ok (.getfield 113, 3) := dk_180 0 113 (dk_at dksX0_does_3 3 rfl rfl)
theorem dX0_does_78 : decode cX0_does 78 = .ok (.aload_n 3, 1) := dk_45 (dk_at dksX0_does_3 6 rfl rfl)
theorem dX0_does_79 : decode cX0_does 79 = .ok (.getfield 116, 3) := dk_180 0 116 (dk_at dksX0_does_3 7 rfl rfl)
theorem dX0_does_82 : decode cX0_does 82 = .ok (.isub, 1) := dk_100 (dk_at dksX0_does_3 10 rfl rfl)
theorem dX0_does_83 : decode cX0_does 83 = .ok (.putfield 113, 3) := dk_181 0 113 (dk_at dksX0_does_3 11 rfl rfl)
theorem dX0_does_86 : decode cX0_does 86 = .ok (.aload_n 0, 1) := dk_42 (dk_at dksX0_does_3 14 rfl rfl)
theorem dX0_does_87 : decode cX0_does 87 = .ok (.dup, 1) := dk_89 (dk_at dksX0_does_3 15 rfl rfl)
theorem dX0_does_88 : decode cX0_does 88 = .ok (.getfield 349, 3) := dk_180 1 93 (dk_at dksX0_does_3 16 rfl rfl)
theorem dX0_does_91 : decode cX0_does 91 = .ok (.iconst 1, 1) := dk_4 (dk_at dksX0_does_3 19 rfl rfl)
theorem dX0_does_92 : decode cX0_does 92 = .ok (.iadd, 1) := dk_96 (dk_at dksX0_does_3 20 rfl rfl)
theorem dX0_does_93 : decode cX0_does 93 = .ok (.putfield 349, 3) := dk_181 1 93 (dk_at dksX0_does_3 21 rfl rfl)
theorem dX0_does_96 : decode cX0_does 96 = .ok (.aload_n 0, 1) := dk_42 (dk_at dksX0_does_4 0 rfl rfl)
theorem dX0_does_97 : decode cX0_does 97 = .ok (.dup, 1) := dk_89 (dk_at dksX0_does_4 1 rfl rfl)
theorem dX0_does_98 : decode cX0_does 98 = .ok (.getfield 352, 3) := dk_180 1 96 (dk_at dksX0_does_4 2 rfl rfl)
theorem dX0_does_101 : decode cX0_does 101 = .ok (.aload_n 3, 1) := dk_45 (dk_at dksX0_does_4 5 rfl rfl)
theorem dX0_does_102 : decode cX0_does 102 = .ok (.getfield 116, 3) := dk_180 0 116 (dk_at dksX0_does_4 6 rfl rfl)
theorem dX0_does_105 : decode cX0_does 105 = .ok (.iadd, 1) := dk_96 (dk_at dksX0_does_4 9 rfl rfl)
theorem dX0_does_106 : decode cX0_does 106 = .ok (.putfield 352, 3) := dk_181 1 96 (dk_at dksX0_does_4 10 rfl rfl)
theorem dX0_does_109 : decode cX0_does 109 = .ok (.aload_n 0, 1) := dk_42 (dk_at dksX0_does_4 13 rfl rfl)
theorem dX0_does_110 : decode cX0_does 110 = .ok (.getfield 11, 3) := dk_180 0 11 (dk_at dksX0_does_4 14 rfl rfl)
theorem dX0_does_113 : decode cX0_does 113 = .ok (.iload_n 2, 1) := dk_28 (dk_at dksX0_does_4 17 rfl rfl)
theorem dX0_does_114 : decode cX0_does 114 = .ok (.aaload, 1) := dk_50 (dk_at dksX0_does_4 18 rfl rfl)
theorem dX0_does_115 : decode cX0_does 115 = .ok (.getfield 113, 3) := dk_180 0 113 (dk_at dksX0_does_4 19 rfl rfl)
theorem dX0_does_118 : decode cX0_does 118 = .ok (.ireturn, 1) := dk_172 (dk_at dksX0_does_4 22 rfl rfl)
def dkwX0_release_2 : List UInt8 := [180, 1, 99, 4, 96, 181, 1, 99, 42, 44, 180, 0, 173, 42, 180, 0, 78, 182, 0, 242, 172]
abbrev dktX0_release_2 : List UInt8 := dkwX0_release_2 ++ []
def dkwX0_release_1 : List UInt8 := [182, 0, 216, 153, 0, 10, 44, 180, 0, 176, 156, 0, 6, 16, 251, 172, 44, 4, 181, 0, 128, 42, 89]
abbrev dktX0_release_1 : List UInt8 := dkwX0_release_1 ++ dktX0_release_2
def dkwX0_release_0 : List UInt8 := [42, 27, 182, 0, 155, 154, 0, 5, 2, 172, 42, 180, 0, 17, 27, 50, 77, 44, 42, 180, 0, 78]
abbrev dktX0_release_0 : List UInt8 := dkwX0_release_0 ++ dktX0_release_1
theorem dksX0_release_0 : cX0_release.data.toList.drop 0 = dktX0_release_0 := by decide +kernel
theorem dksX0_release_1 : cX0_release.data.toList.drop 22 = dktX0_release_1 := dk_seg dksX0_release_0 22 rfl rfl
theorem dksX0_release_2 : cX0_release.data.toList.drop 45 = dktX0_release_2 := dk_seg dksX0_release_1 23 rfl rfl
theorem dX0_release_0 : decode cX0_release 0 = .ok (.aload_n 0, 1) := dk_42 (dk_at dksX0_release_0 0 rfl rfl)
theorem dX0_release_1 : decode cX0_release 1 = .ok (.iload_n 1, 1) := dk_27 (dk_at dksX0_release_0 1 rfl rfl)
theorem dX0_release_2 : decode cX0_release 2 = .ok (.invokevirtual 155, 3) := dk_182 0 155 (dk_at dksX0_release_0 2 rfl rfl)
theorem dX0_release_5 : decode cX0_release 5 = .ok (.ifCond .ne 5, 3) := dk_154 0 5 (dk_at dksX0_release_0 5 rfl rfl)
theorem dX0_release_8 : decode cX0_release 8 = .ok (.iconst (-1), 1) := dk_2 (dk_at dksX0_release_0 8 rfl rfl)
theorem dX0_release_9 : decode cX0_release 9 = .ok (.ireturn, 1) := dk_172 (dk_at dksX0_release_0 9 rfl rfl)
theorem dX0_release_10 : decode cX0_release 10 = .ok (.aload_n 0, 1) := dk_42 (dk_at dksX0_release_0 10 rfl rfl)
theorem dX0_release_11 : decode cX0_release 11 = .ok (.getfield 17, 3) := dk_180 0 17 (dk_at dksX0_release_0 11 rfl rfl)
theorem dX0_release_14 : decode cX0_release 14 = .ok (.iload_n 1, 1) := dk_27 (dk_at dksX0_release_0 14 rfl rfl)
theorem dX0_release_15 : decode cX0_release 15 = .ok (.aaload, 1) := dk_50 (dk_at dksX0_release_0 15 rfl rfl)
theorem dX0_release_16 : decode cX0_release 16 = .ok (.astore_n 2, 1) := dk_77 (dk_at dksX0_release_0 16 rfl rfl)
theorem dX0_release_17 : decode cX0_release 17 = .ok (.aload_n 2, 1) := dk_44 (dk_at dksX0_release_0 17 rfl rfl)
theorem dX0_release_18 : decode cX0_release 18 = .ok (.aload_n 0, 1) := dk_42 (dk_at dksX0_release_0 18 rfl rfl)
theorem dX0_release_19 : decode cX0_release 19 = .ok (.getfield 78, 3) := dk_180 0 78 (dk_at dksX0_release_0 19 rfl rfl)
theorem dX0_release_22 : decode cX0_release 22 = .ok (.invokevirtual 216, 3) := dk_182 0 216 (dk_at dksX0_release_1 0 rfl rfl)
theorem dX0_release_25 : decode cX0_release 25 = .ok (.ifCond .eq 10, 3) := dk_153 0 10 (dk_at dksX0_release_1 3 rfl rfl)
theorem dX0_release_28 : decode cX0_release 28 = .ok (.aload_n 2, 1) := dk_44 (dk_at dksX0_release_1 6 rfl rfl)
theorem dX0_release_29 : decode cX0_release 29 = .ok (.getfield 176, 3) := dk_180 0 176 (dk_at dksX0_release_1 7 rfl rfl)
theorem dX0_release_32 : decode cX0_release 32 = .ok (.ifCond .ge 6, 3) := dk_156 0 6 (dk_at dksX0_release_1 10 rfl rfl)
theorem dX0_release_35 : decode cX0_release 35 = .ok (.bipush (-5), 2) := dk_16 251 (dk_at dksX0_release_1 13 rfl rfl)
theorem dX0_release_37 : decode cX0_release 37 = .ok (.ireturn, 1) := dk_172 (dk_at dksX0_release_1 15 rfl rfl)
theorem dX0_release_38 : decode cX0_release 38 = .ok (.aload_n 2, 1) := dk_44 (dk_at dksX0_release_1 16 rfl rfl)
theorem dX0_release_39 : decode cX0_release 39 = .ok (.iconst 1, 1) := dk_4 (dk_at dksX0_release_1 17 rfl rfl)
theorem dX0_release_40 : decode cX0_release 40 = .ok (.putfield 128, 3) := dk_181 0 128 (dk_at dksX0_release_1 18 rfl rfl)
theorem dX0_release_43 : decode cX0_release 43 = .ok (.aload_n 0, 1) := dk_42 (dk_at dksX0_release_1 21 rfl rfl)
theorem dX0_release_44 : decode cX0_release 44 = .ok (.dup, 1) := dk_89 (dk_at dksX0_release_1 22 rfl rfl)
theorem dX0_release_45 : decode cX0_release 45 = .ok (.getfield 355, 3) := dk_180 1 99 (dk_at dksX0_release_2 0 rfl rfl)
theorem dX0_release_48 : decode cX0_release 48 = .ok (.iconst 1, 1) := dk_4 (dk_at dksX0_release_2 3 rfl rfl)
theorem dX0_release_49 : decode cX0_release 49 = .ok (.iadd, 1) := dk_96 (dk_at dksX0_release_2 4 rfl rfl)
theorem dX0_release_50 : decode cX0_release 50 = .ok (.putfield 355, 3) := dk_181 1 99 (dk_at dksX0_release_2 5 rfl rfl)
theorem dX0_release_53 : decode cX0_release 53 = .ok (.aload_n 0, 1) := dk_42 (dk_at dksX0_release_2 8 rfl rfl)
theorem dX0_release_54 : decode cX0_release 54 = .ok (.aload_n 2, 1) := dk_44 (dk_at dksX0_release_2 9 rfl rfl)
theorem dX0_release_55 : decode cX0_release 55 = .ok (.getfield 173, 3) := dk_180 0 173 (dk_at dksX0_release_2 10 rfl rfl)
theorem dX0_release_58 : decode cX0_release 58 = .ok (.aload_n 0, 1) := dk_42 (dk_at dksX0_release_2 13 rfl rfl)
theorem dX0_release_59 : decode cX0_release 59 = .ok (.getfield 78, 3) := dk_180 0 78 (dk_at dksX0_release_2 14 rfl rfl)
theorem dX0_release_62 : decode cX0_release 62 = .ok (.invokevirtual 242, 3) := dk_182 0 242 (dk_at dksX0_release_2 17 rfl rfl)
theorem dX0_release_65 : decode cX0_release 65 = .ok (.ireturn, 1) := dk_172 (dk_at dksX0_release_2 20 rfl rfl)
def dkwX0_days_1 : List UInt8 := [180, 1, 102, 27, 96, 181, 1, 102, 42, 180, 0, 78, 172]
abbrev dktX0_days_1 : List UInt8 := dkwX0_days_1 ++ []
def dkwX0_days_0 : List UInt8 := [27, 4, 16, 99, 184, 0, 67, 154, 0, 5, 2, 172, 42, 42, 27, 182, 0, 248, 181, 0, 78, 42, 89]
abbrev dktX0_days_0 : List UInt8 := dkwX0_days_0 ++ dktX0_days_1
theorem dksX0_days_0 : cX0_days.data.toList.drop 0 = dktX0_days_0 := by decide +kernel
theorem dksX0_days_1 : cX0_days.data.toList.drop 23 = dktX0_days_1 := dk_seg dksX0_days_0 23 rfl rfl
theorem dX0_days_0 : decode cX0_days 0 = .ok (.iload_n 1, 1) := dk_27 (dk_at dksX0_days_0 0 rfl rfl)
theorem dX0_days_1 : decode cX0_days 1 = .ok (.iconst 1, 1) := dk_4 (dk_at dksX0_days_0 1 rfl rfl)
theorem dX0_days_2 : decode cX0_days 2 = .ok (.bipush 99, 2) := dk_16 99 (dk_at dksX0_days_0 2 rfl rfl)
theorem dX0_days_4 : decode cX0_days 4 = .ok (.invokestatic 67, 3) := dk_184 0 67 (dk_at dksX0_days_0 4 rfl rfl)
theorem dX0_days_7 : decode cX0_days 7 = .ok (.ifCond .ne 5, 3) := dk_154 0 5 (dk_at dksX0_days_0 7 rfl rfl)
theorem dX0_days_10 : decode cX0_days 10 = .ok (.iconst (-1), 1) := dk_2 (dk_at dksX0_days_0 10 rfl rfl)
theorem dX0_days_11 : decode cX0_days 11 = .ok (.ireturn, 1) := dk_172 (dk_at dksX0_days_0 11 rfl rfl)
theorem dX0_days_12 : decode cX0_days 12 = .ok (.aload_n 0, 1) := dk_42 (dk_at dksX0_days_0 12 rfl rfl)
theorem dX0_days_13 : decode cX0_days 13 = .ok (.aload_n 0, 1) := dk_42 (dk_at dksX0_days_0 13 rfl rfl)
theorem dX0_days_14 : decode cX0_days 14 = .ok (.iload_n 1, 1) := dk_27 (dk_at dksX0_days_0 14 rfl rfl)
theorem dX0_days_15 : decode cX0_days 15 = .ok (.invokevirtual 248, 3) := dk_182 0 248 (dk_at dksX0_days_0 15 rfl rfl)
theorem dX0_days_18 : decode cX0_days 18 = .ok (.putfield 78, 3) := dk_181 0 78 (dk_at dksX0_days_0 18 rfl rfl)
theorem dX0_days_21 : decode cX0_days 21 = .ok (.aload_n 0, 1) := dk_42 (dk_at dksX0_days_0 21 rfl rfl)
theorem dX0_days_22 : decode cX0_days 22 = .ok (.dup, 1) := dk_89 (dk_at dksX0_days_0 22 rfl rfl)
theorem dX0_days_23 : decode cX0_days 23 = .ok (.getfield 358, 3) := dk_180 1 102 (dk_at dksX0_days_1 0 rfl rfl)
theorem dX0_days_26 : decode cX0_days 26 = .ok (.iload_n 1, 1) := dk_27 (dk_at dksX0_days_1 3 rfl rfl)
theorem dX0_days_27 : decode cX0_days 27 = .ok (.iadd, 1) := dk_96 (dk_at dksX0_days_1 4 rfl rfl)
theorem dX0_days_28 : decode cX0_days 28 = .ok (.putfield 358, 3) := dk_181 1 102 (dk_at dksX0_days_1 5 rfl rfl)
theorem dX0_days_31 : decode cX0_days 31 = .ok (.aload_n 0, 1) := dk_42 (dk_at dksX0_days_1 8 rfl rfl)
theorem dX0_days_32 : decode cX0_days 32 = .ok (.getfield 78, 3) := dk_180 0 78 (dk_at dksX0_days_1 9 rfl rfl)
theorem dX0_days_35 : decode cX0_days 35 = .ok (.ireturn, 1) := dk_172 (dk_at dksX0_days_1 12 rfl rfl)
def dkwX0_led_3 : List UInt8 := [172, 2, 172]
abbrev dktX0_led_3 : List UInt8 := dkwX0_led_3 ++ []
def dkwX0_led_2 : List UInt8 := [42, 180, 0, 91, 172, 42, 180, 1, 93, 172, 42, 180, 1, 99, 172, 42, 180, 1, 96, 172, 42, 180, 1, 102]
abbrev dktX0_led_2 : List UInt8 := dkwX0_led_2 ++ dktX0_led_3
def dkwX0_led_1 : List UInt8 := [170, 0, 0, 0, 0, 0, 60, 0, 0, 0, 0, 0, 0, 0, 4, 0, 0, 0, 35, 0, 0, 0, 40, 0, 0, 0, 45, 0, 0, 0, 50, 0, 0, 0, 55]
abbrev dktX0_led_1 : List UInt8 := dkwX0_led_1 ++ dktX0_led_2
def dkwX0_led_0 : List UInt8 := [27]
abbrev dktX0_led_0 : List UInt8 := dkwX0_led_0 ++ dktX0_led_1
theorem dksX0_led_0 : cX0_led.data.toList.drop 0 = dktX0_led_0 := by decide +kernel
theorem dksX0_led_1 : cX0_led.data.toList.drop 1 = dktX0_led_1 := dk_seg dksX0_led_0 1 rfl rfl
theorem dksX0_led_2 : cX0_led.data.toList.drop 36 = dktX0_led_2 := dk_seg dksX0_led_1 35 rfl rfl
theorem dksX0_led_3 : cX0_led.data.toList.drop 60 = dktX0_led_3 := dk_seg dksX0_led_2 24 rfl rfl
theorem dX0_led_0 : decode cX0_led 0 = .ok (.iload_n 1, 1) := dk_27 (dk_at dksX0_led_0 0 rfl rfl)
theorem dX0_led_1 : decode cX0_led 1 = .ok (.tableswitch 60 0 4 #[35, 40, 45, 50, 55], 35) := by decide +kernel
theorem dX0_led_36 : decode cX0_led 36 = .ok (.aload_n 0, 1) := dk_42 (dk_at dksX0_led_2 0 rfl rfl)
theorem dX0_led_37 : decode cX0_led 37 = .ok (.getfield 91, 3) := dk_180 0 91 (dk_at dksX0_led_2 1 rfl rfl)
theorem dX0_led_40 : decode cX0_led 40 = .ok (.ireturn, 1) := dk_172 (dk_at dksX0_led_2 4 rfl rfl)
theorem dX0_led_41 : decode cX0_led 41 = .ok (.aload_n 0, 1) := dk_42 (dk_at dksX0_led_2 5 rfl rfl)
theorem dX0_led_42 : decode cX0_led 42 = .ok (.getfield 349, 3) := dk_180 1 93 (dk_at dksX0_led_2 6 rfl rfl)
theorem dX0_led_45 : decode cX0_led 45 = .ok (.ireturn, 1) := dk_172 (dk_at dksX0_led_2 9 rfl rfl)
theorem dX0_led_46 : decode cX0_led 46 = .ok (.aload_n 0, 1) := dk_42 (dk_at dksX0_led_2 10 rfl rfl)
theorem dX0_led_47 : decode cX0_led 47 = .ok (.getfield 355, 3) := dk_180 1 99 (dk_at dksX0_led_2 11 rfl rfl)
theorem dX0_led_50 : decode cX0_led 50 = .ok (.ireturn, 1) := dk_172 (dk_at dksX0_led_2 14 rfl rfl)
theorem dX0_led_51 : decode cX0_led 51 = .ok (.aload_n 0, 1) := dk_42 (dk_at dksX0_led_2 15 rfl rfl)
theorem dX0_led_52 : decode cX0_led 52 = .ok (.getfield 352, 3) := dk_180 1 96 (dk_at dksX0_led_2 16 rfl rfl)
theorem dX0_led_55 : decode cX0_led 55 = .ok (.ireturn, 1) := dk_172 (dk_at dksX0_led_2 19 rfl rfl)
theorem dX0_led_56 : decode cX0_led 56 = .ok (.aload_n 0, 1) := dk_42 (dk_at dksX0_led_2 20 rfl rfl)
theorem dX0_led_57 : decode cX0_led 57 = .ok (.getfield 358, 3) := dk_180 1 102 (dk_at dksX0_led_2 21 rfl rfl)
theorem dX0_led_60 : decode cX0_led 60 = .ok (.ireturn, 1) := dk_172 (dk_at dksX0_led_3 0 rfl rfl)
theorem dX0_led_61 : decode cX0_led 61 = .ok (.iconst (-1), 1) := dk_2 (dk_at dksX0_led_3 1 rfl rfl)
theorem dX0_led_62 : decode cX0_led 62 = .ok (.ireturn, 1) := dk_172 (dk_at dksX0_led_3 2 rfl rfl)
def dkwX0_image_5 : List UInt8 := [180, 1, 96, 181, 1, 127, 42, 42, 180, 1, 102, 181, 1, 130, 42, 180, 1, 102, 172]
abbrev dktX0_image_5 : List UInt8 := dkwX0_image_5 ++ []
def dkwX0_image_4 : List UInt8 := [180, 0, 91, 181, 1, 118, 42, 42, 180, 1, 93, 181, 1, 121, 42, 42, 180, 1, 99, 181, 1, 124, 42, 42]
abbrev dktX0_image_4 : List UInt8 := dkwX0_image_4 ++ dktX0_image_5
def dkwX0_image_3 : List UInt8 := [180, 0, 63, 181, 1, 109, 42, 42, 180, 0, 71, 181, 1, 112, 42, 42, 180, 0, 78, 181, 1, 115, 42, 42]
abbrev dktX0_image_3 : List UInt8 := dkwX0_image_3 ++ dktX0_image_4
def dkwX0_image_2 : List UInt8 := [180, 0, 45, 27, 42, 180, 0, 17, 27, 50, 180, 0, 128, 79, 132, 1, 1, 167, 255, 230, 42, 42]
abbrev dktX0_image_2 : List UInt8 := dkwX0_image_2 ++ dktX0_image_3
def dkwX0_image_1 : List UInt8 := [27, 50, 180, 0, 113, 79, 132, 1, 1, 167, 255, 230, 3, 60, 27, 42, 180, 0, 71, 162, 0, 24, 42]
abbrev dktX0_image_1 : List UInt8 := dkwX0_image_1 ++ dktX0_image_2
def dkwX0_image_0 : List UInt8 := [42, 4, 181, 1, 105, 3, 60, 27, 42, 180, 0, 63, 162, 0, 24, 42, 180, 0, 42, 27, 42, 180, 0, 11]
abbrev dktX0_image_0 : List UInt8 := dkwX0_image_0 ++ dktX0_image_1
theorem dksX0_image_0 : cX0_image.data.toList.drop 0 = dktX0_image_0 := by decide +kernel
theorem dksX0_image_1 : cX0_image.data.toList.drop 24 = dktX0_image_1 := dk_seg dksX0_image_0 24 rfl rfl
theorem dksX0_image_2 : cX0_image.data.toList.drop 47 = dktX0_image_2 := dk_seg dksX0_image_1 23 rfl rfl
theorem dksX0_image_3 : cX0_image.data.toList.drop 69 = dktX0_image_3 := dk_seg dksX0_image_2 22 rfl rfl
theorem dksX0_image_4 : cX0_image.data.toList.drop 93 = dktX0_image_4 := dk_seg dksX0_image_3 24 rfl rfl
theorem dksX0_image_5 : cX0_image.data.toList.drop 117 = dktX0_image_5 := dk_seg dksX0_image_4 24 rfl rfl
theorem dX0_image_0 : decode cX0_image 0 = .ok (.aload_n 0, 1) := dk_42 (dk_at dksX0_image_0 0 rfl rfl)
theorem dX0_image_1 : decode cX0_image 1 = .ok (.iconst 1, 1) := dk_4 (dk_at dksX0_image_0 1 rfl rfl)
theorem dX0_image_2 : decode cX0_image 2 = .ok (.putfield 361, 3) := dk_181 1 105 (dk_at dksX0_image_0 2 rfl rfl)
theorem dX0_image_5 : decode cX0_image 5 = .ok (.iconst 0, 1) := dk_3 (dk_at dksX0_image_0 5 rfl rfl)
theorem dX0_image_6 : decode cX0_image 6 = .ok (.istore_n 1, 1) := dk_60 (dk_at dksX0_image_0 6 rfl rfl)
theorem dX0_image_7 : decode cX0_image 7 = .ok (.iload_n 1, 1) := dk_27 (dk_at dksX0_image_0 7 rfl rfl)
theorem dX0_image_8 : decode cX0_image 8 = .ok (.aload_n 0, 1) := dk_42 (dk_at dksX0_image_0 8 rfl rfl)
theorem dX0_image_9 : decode cX0_image 9 = .ok (.getfield 63, 3) := dk_180 0 63 (dk_at dksX0_image_0 9 rfl rfl)
theorem dX0_image_12 : decode cX0_image 12 = .ok (.if_icmp .ge 24, 3) := dk_162 0 24 (dk_at dksX0_image_0 12 rfl rfl)
theorem dX0_image_15 : decode cX0_image 15 = .ok (.aload_n 0, 1) := dk_42 (dk_at dksX0_image_0 15 rfl rfl)
theorem dX0_image_16 : decode cX0_image 16 = .ok (.getfield 42, 3) := dk_180 0 42 (dk_at dksX0_image_0 16 rfl rfl)
theorem dX0_image_19 : decode cX0_image 19 = .ok (.iload_n 1, 1) := dk_27 (dk_at dksX0_image_0 19 rfl rfl)
theorem dX0_image_20 : decode cX0_image 20 = .ok (.aload_n 0, 1) := dk_42 (dk_at dksX0_image_0 20 rfl rfl)
theorem dX0_image_21 : decode cX0_image 21 = .ok (.getfield 11, 3) := dk_180 0 11 (dk_at dksX0_image_0 21 rfl rfl)
theorem dX0_image_24 : decode cX0_image 24 = .ok (.iload_n 1, 1) := dk_27 (dk_at dksX0_image_1 0 rfl rfl)
theorem dX0_image_25 : decode cX0_image 25 = .ok (.aaload, 1) := dk_50 (dk_at dksX0_image_1 1 rfl rfl)
theorem dX0_image_26 : decode cX0_image 26 = .ok (.getfield 113, 3) := dk_180 0 113 (dk_at dksX0_image_1 2 rfl rfl)
theorem dX0_image_29 : decode cX0_image 29 = .ok (.iastore, 1) := dk_79 (dk_at dksX0_image_1 5 rfl rfl)
theorem dX0_image_30 : decode cX0_image 30 = .ok (.iinc 1 1, 3) := dk_132 1 1 (dk_at dksX0_image_1 6 rfl rfl)
theorem dX0_image_33 : decode cX0_image 33 = .ok (.goto (-26), 3) := dk_167 255 230 (dk_at dksX0_image_1 9 rfl rfl)
theorem dX0_image_36 : decode cX0_image 36 = .ok (.iconst 0, 1) := dk_3 (dk_at dksX0_image_1 12 rfl rfl)
theorem dX0_image_37 : decode cX0_image 37 = .ok (.istore_n 1, 1) := dk_60 (dk_at dksX0_image_1 13 rfl rfl)
theorem dX0_image_38 : decode cX0_image 38 = .ok (.iload_n 1, 1) := dk_27 (dk_at dksX0_image_1 14 rfl rfl)
theorem dX0_image_39 : decode cX0_image 39 = .ok (.aload_n 0, 1) := dk_42 (dk_at dksX0_image_1 15 rfl rfl)
theorem dX0_image_40 : decode cX0_image 40 = .ok (.getfield 71, 3) := dk_180 0 71 (dk_at dksX0_image_1 16 rfl rfl)
theorem dX0_image_43 : decode cX0_image 43 = .ok (.if_icmp .ge 24, 3) := dk_162 0 24 (dk_at dksX0_image_1 19 rfl rfl)
theorem dX0_image_46 : decode cX0_image 46 = .ok (.aload_n 0, 1) := dk_42 (dk_at dksX0_image_1 22 rfl rfl)
theorem dX0_image_47 : decode cX0_image 47 = .ok (.getfield 45, 3) := dk_180 0 45 (dk_at dksX0_image_2 0 rfl rfl)
theorem dX0_image_50 : decode cX0_image 50 = .ok (.iload_n 1, 1) := dk_27 (dk_at dksX0_image_2 3 rfl rfl)
theorem dX0_image_51 : decode cX0_image 51 = .ok (.aload_n 0, 1) := dk_42 (dk_at dksX0_image_2 4 rfl rfl)
theorem dX0_image_52 : decode cX0_image 52 = .ok (.getfield 17, 3) := dk_180 0 17 (dk_at dksX0_image_2 5 rfl rfl)
theorem dX0_image_55 : decode cX0_image 55 = .ok (.iload_n 1, 1) := dk_27 (dk_at dksX0_image_2 8 rfl rfl)
theorem dX0_image_56 : decode cX0_image 56 = .ok (.aaload, 1) := dk_50 (dk_at dksX0_image_2 9 rfl rfl)
theorem dX0_image_57 : decode cX0_image 57 = .ok (.getfield 128, 3) := dk_180 0 128 (dk_at dksX0_image_2 10 rfl rfl)
theorem dX0_image_60 : decode cX0_image 60 = .ok (.iastore, 1) := dk_79 (dk_at dksX0_image_2 13 rfl rfl)
theorem dX0_image_61 : decode cX0_image 61 = .ok (.iinc 1 1, 3) := dk_132 1 1 (dk_at dksX0_image_2 14 rfl rfl)
theorem dX0_image_64 : decode cX0_image 64 = .ok (.goto (-26), 3) := dk_167 255 230 (dk_at dksX0_image_2 17 rfl rfl)
theorem dX0_image_67 : decode cX0_image 67 = .ok (.aload_n 0, 1) := dk_42 (dk_at dksX0_image_2 20 rfl rfl)
theorem dX0_image_68 : decode cX0_image 68 = .ok (.aload_n 0, 1) := dk_42 (dk_at dksX0_image_2 21 rfl rfl)
theorem dX0_image_69 : decode cX0_image 69 = .ok (.getfield 63, 3) := dk_180 0 63 (dk_at dksX0_image_3 0 rfl rfl)
theorem dX0_image_72 : decode cX0_image 72 = .ok (.putfield 365, 3) := dk_181 1 109 (dk_at dksX0_image_3 3 rfl rfl)
theorem dX0_image_75 : decode cX0_image 75 = .ok (.aload_n 0, 1) := dk_42 (dk_at dksX0_image_3 6 rfl rfl)
theorem dX0_image_76 : decode cX0_image 76 = .ok (.aload_n 0, 1) := dk_42 (dk_at dksX0_image_3 7 rfl rfl)
theorem dX0_image_77 : decode cX0_image 77 = .ok (.getfield 71, 3) := dk_180 0 71 (dk_at dksX0_image_3 8 rfl rfl)
theorem dX0_image_80 : decode cX0_image 80 = .ok (.putfield 368, 3) := dk_181 1 112 (dk_at dksX0_image_3 11 rfl rfl)
theorem dX0_image_83 : decode cX0_image 83 = .ok (.aload_n 0, 1) := dk_42 (dk_at dksX0_image_3 14 rfl rfl)
theorem dX0_image_84 : decode cX0_image 84 = .ok (.aload_n 0, 1) := dk_42 (dk_at dksX0_image_3 15 rfl rfl)
theorem dX0_image_85 : decode cX0_image 85 = .ok (.getfield 78, 3) := dk_180 0 78 (dk_at dksX0_image_3 16 rfl rfl)
theorem dX0_image_88 : decode cX0_image 88 = .ok (.putfield 371, 3) := dk_181 1 115 (dk_at dksX0_image_3 19 rfl rfl)
theorem dX0_image_91 : decode cX0_image 91 = .ok (.aload_n 0, 1) := dk_42 (dk_at dksX0_image_3 22 rfl rfl)
theorem dX0_image_92 : decode cX0_image 92 = .ok (.aload_n 0, 1) := dk_42 (dk_at dksX0_image_3 23 rfl rfl)
theorem dX0_image_93 : decode cX0_image 93 = .ok (.getfield 91, 3) := dk_180 0 91 (dk_at dksX0_image_4 0 rfl rfl)
theorem dX0_image_96 : decode cX0_image 96 = .ok (.putfield 374, 3) := dk_181 1 118 (dk_at dksX0_image_4 3 rfl rfl)
theorem dX0_image_99 : decode cX0_image 99 = .ok (.aload_n 0, 1) := dk_42 (dk_at dksX0_image_4 6 rfl rfl)
theorem dX0_image_100 : decode cX0_image 100 = .ok (.aload_n 0, 1) := dk_42 (dk_at dksX0_image_4 7 rfl rfl)
theorem dX0_image_101 : decode cX0_image 101 = .ok (.getfield 349, 3) := dk_180 1 93 (dk_at dksX0_image_4 8 rfl rfl)
theorem dX0_image_104 : decode cX0_image 104 = .ok (.putfield 377, 3) := dk_181 1 121 (dk_at dksX0_image_4 11 rfl rfl)
theorem dX0_image_107 : decode cX0_image 107 = .ok (.aload_n 0, 1) := dk_42 (dk_at dksX0_image_4 14 rfl rfl)
theorem dX0_image_108 : decode cX0_image 108 = .ok (.aload_n 0, 1) := dk_42 (dk_at dksX0_image_4 15 rfl rfl)
theorem dX0_image_109 : decode cX0_image 109 = .ok (.getfield 355, 3) := dk_180 1 99 (dk_at dksX0_image_4 16 rfl rfl)
theorem dX0_image_112 : decode cX0_image 112 = .ok (.putfield 380, 3) := dk_181 1 124 (dk_at dksX0_image_4 19 rfl rfl)
theorem dX0_image_115 : decode cX0_image 115 = .ok (.aload_n 0, 1) := dk_42 (dk_at dksX0_image_4 22 rfl rfl)
theorem dX0_image_116 : decode cX0_image 116 = .ok (.aload_n 0, 1) := dk_42 (dk_at dksX0_image_4 23 rfl rfl)
theorem dX0_image_117 : decode cX0_image 117 = .ok (.getfield 352, 3) := dk_180 1 96 (dk_at dksX0_image_5 0 rfl rfl)
theorem dX0_image_120 : decode cX0_image 120 = .ok (.putfield 383, 3) := dk_181 1 127 (dk_at dksX0_image_5 3 rfl rfl)
theorem dX0_image_123 : decode cX0_image 123 = .ok (.aload_n 0, 1) := dk_42 (dk_at dksX0_image_5 6 rfl rfl)
theorem dX0_image_124 : decode cX0_image 124 = .ok (.aload_n 0, 1) := dk_42 (dk_at dksX0_image_5 7 rfl rfl)
theorem dX0_image_125 : decode cX0_image 125 = .ok (.getfield 358, 3) := dk_180 1 102 (dk_at dksX0_image_5 8 rfl rfl)
theorem dX0_image_128 : decode cX0_image 128 = .ok (.putfield 386, 3) := dk_181 1 130 (dk_at dksX0_image_5 11 rfl rfl)
theorem dX0_image_131 : decode cX0_image 131 = .ok (.aload_n 0, 1) := dk_42 (dk_at dksX0_image_5 14 rfl rfl)
theorem dX0_image_132 : decode cX0_image 132 = .ok (.getfield 358, 3) := dk_180 1 102 (dk_at dksX0_image_5 15 rfl rfl)
theorem dX0_image_135 : decode cX0_image 135 = .ok (.ireturn, 1) := dk_172 (dk_at dksX0_image_5 18 rfl rfl)
def dkwX0_back_5 : List UInt8 := [42, 180, 1, 102, 172]
abbrev dktX0_back_5 : List UInt8 := dkwX0_back_5 ++ []
def dkwX0_back_4 : List UInt8 := [42, 42, 180, 1, 124, 181, 1, 99, 42, 42, 180, 1, 127, 181, 1, 96, 42, 42, 180, 1, 130, 181, 1, 102]
abbrev dktX0_back_4 : List UInt8 := dkwX0_back_4 ++ dktX0_back_5
def dkwX0_back_3 : List UInt8 := [42, 42, 180, 1, 115, 181, 0, 78, 42, 42, 180, 1, 118, 181, 0, 91, 42, 42, 180, 1, 121, 181, 1, 93]
abbrev dktX0_back_3 : List UInt8 := dkwX0_back_3 ++ dktX0_back_4
def dkwX0_back_2 : List UInt8 := [162, 0, 24, 42, 180, 0, 17, 27, 50, 42, 180, 0, 45, 27, 46, 181, 0, 128, 132, 1, 1, 167, 255, 230]
abbrev dktX0_back_2 : List UInt8 := dkwX0_back_2 ++ dktX0_back_3
def dkwX0_back_1 : List UInt8 := [27, 50, 42, 180, 0, 42, 27, 46, 181, 0, 113, 132, 1, 1, 167, 255, 230, 3, 60, 27, 42, 180, 1, 112]
abbrev dktX0_back_1 : List UInt8 := dkwX0_back_1 ++ dktX0_back_2
def dkwX0_back_0 : List UInt8 := [42, 180, 1, 105, 154, 0, 6, 16, 251, 172, 3, 60, 27, 42, 180, 1, 109, 162, 0, 24, 42, 180, 0, 11]
abbrev dktX0_back_0 : List UInt8 := dkwX0_back_0 ++ dktX0_back_1
theorem dksX0_back_0 : cX0_back.data.toList.drop 0 = dktX0_back_0 := by decide +kernel
theorem dksX0_back_1 : cX0_back.data.toList.drop 24 = dktX0_back_1 := dk_seg dksX0_back_0 24 rfl rfl
theorem dksX0_back_2 : cX0_back.data.toList.drop 48 = dktX0_back_2 := dk_seg dksX0_back_1 24 rfl rfl
theorem dksX0_back_3 : cX0_back.data.toList.drop 72 = dktX0_back_3 := dk_seg dksX0_back_2 24 rfl rfl
theorem dksX0_back_4 : cX0_back.data.toList.drop 96 = dktX0_back_4 := dk_seg dksX0_back_3 24 rfl rfl
theorem dksX0_back_5 : cX0_back.data.toList.drop 120 = dktX0_back_5 := dk_seg dksX0_back_4 24 rfl rfl
theorem dX0_back_0 : decode cX0_back 0 = .ok (.aload_n 0, 1) := dk_42 (dk_at dksX0_back_0 0 rfl rfl)
theorem dX0_back_1 : decode cX0_back 1 = .ok (.getfield 361, 3) := dk_180 1 105 (dk_at dksX0_back_0 1 rfl rfl)
theorem dX0_back_4 : decode cX0_back 4 = .ok (.ifCond .ne 6, 3) := dk_154 0 6 (dk_at dksX0_back_0 4 rfl rfl)
theorem dX0_back_7 : decode cX0_back 7 = .ok (.bipush (-5), 2) := dk_16 251 (dk_at dksX0_back_0 7 rfl rfl)
theorem dX0_back_9 : decode cX0_back 9 = .ok (.ireturn, 1) := dk_172 (dk_at dksX0_back_0 9 rfl rfl)
theorem dX0_back_10 : decode cX0_back 10 = .ok (.iconst 0, 1) := dk_3 (dk_at dksX0_back_0 10 rfl rfl)
theorem dX0_back_11 : decode cX0_back 11 = .ok (.istore_n 1, 1) := dk_60 (dk_at dksX0_back_0 11 rfl rfl)
theorem dX0_back_12 : decode cX0_back 12 = .ok (.iload_n 1, 1) := dk_27 (dk_at dksX0_back_0 12 rfl rfl)
theorem dX0_back_13 : decode cX0_back 13 = .ok (.aload_n 0, 1) := dk_42 (dk_at dksX0_back_0 13 rfl rfl)
theorem dX0_back_14 : decode cX0_back 14 = .ok (.getfield 365, 3) := dk_180 1 109 (dk_at dksX0_back_0 14 rfl rfl)
theorem dX0_back_17 : decode cX0_back 17 = .ok (.if_icmp .ge 24, 3) := dk_162 0 24 (dk_at dksX0_back_0 17 rfl rfl)
theorem dX0_back_20 : decode cX0_back 20 = .ok (.aload_n 0, 1) := dk_42 (dk_at dksX0_back_0 20 rfl rfl)
theorem dX0_back_21 : decode cX0_back 21 = .ok (.getfield 11, 3) := dk_180 0 11 (dk_at dksX0_back_0 21 rfl rfl)
theorem dX0_back_24 : decode cX0_back 24 = .ok (.iload_n 1, 1) := dk_27 (dk_at dksX0_back_1 0 rfl rfl)
theorem dX0_back_25 : decode cX0_back 25 = .ok (.aaload, 1) := dk_50 (dk_at dksX0_back_1 1 rfl rfl)
theorem dX0_back_26 : decode cX0_back 26 = .ok (.aload_n 0, 1) := dk_42 (dk_at dksX0_back_1 2 rfl rfl)
theorem dX0_back_27 : decode cX0_back 27 = .ok (.getfield 42, 3) := dk_180 0 42 (dk_at dksX0_back_1 3 rfl rfl)
theorem dX0_back_30 : decode cX0_back 30 = .ok (.iload_n 1, 1) := dk_27 (dk_at dksX0_back_1 6 rfl rfl)
theorem dX0_back_31 : decode cX0_back 31 = .ok (.iaload, 1) := dk_46 (dk_at dksX0_back_1 7 rfl rfl)
theorem dX0_back_32 : decode cX0_back 32 = .ok (.putfield 113, 3) := dk_181 0 113 (dk_at dksX0_back_1 8 rfl rfl)
theorem dX0_back_35 : decode cX0_back 35 = .ok (.iinc 1 1, 3) := dk_132 1 1 (dk_at dksX0_back_1 11 rfl rfl)
theorem dX0_back_38 : decode cX0_back 38 = .ok (.goto (-26), 3) := dk_167 255 230 (dk_at dksX0_back_1 14 rfl rfl)
theorem dX0_back_41 : decode cX0_back 41 = .ok (.iconst 0, 1) := dk_3 (dk_at dksX0_back_1 17 rfl rfl)
theorem dX0_back_42 : decode cX0_back 42 = .ok (.istore_n 1, 1) := dk_60 (dk_at dksX0_back_1 18 rfl rfl)
theorem dX0_back_43 : decode cX0_back 43 = .ok (.iload_n 1, 1) := dk_27 (dk_at dksX0_back_1 19 rfl rfl)
theorem dX0_back_44 : decode cX0_back 44 = .ok (.aload_n 0, 1) := dk_42 (dk_at dksX0_back_1 20 rfl rfl)
theorem dX0_back_45 : decode cX0_back 45 = .ok (.getfield 368, 3) := dk_180 1 112 (dk_at dksX0_back_1 21 rfl rfl)
theorem dX0_back_48 : decode cX0_back 48 = .ok (.if_icmp .ge 24, 3) := dk_162 0 24 (dk_at dksX0_back_2 0 rfl rfl)
theorem dX0_back_51 : decode cX0_back 51 = .ok (.aload_n 0, 1) := dk_42 (dk_at dksX0_back_2 3 rfl rfl)
theorem dX0_back_52 : decode cX0_back 52 = .ok (.getfield 17, 3) := dk_180 0 17 (dk_at dksX0_back_2 4 rfl rfl)
theorem dX0_back_55 : decode cX0_back 55 = .ok (.iload_n 1, 1) := dk_27 (dk_at dksX0_back_2 7 rfl rfl)
theorem dX0_back_56 : decode cX0_back 56 = .ok (.aaload, 1) := dk_50 (dk_at dksX0_back_2 8 rfl rfl)
theorem dX0_back_57 : decode cX0_back 57 = .ok (.aload_n 0, 1) := dk_42 (dk_at dksX0_back_2 9 rfl rfl)
theorem dX0_back_58 : decode cX0_back 58 = .ok (.getfield 45, 3) := dk_180 0 45 (dk_at dksX0_back_2 10 rfl rfl)
theorem dX0_back_61 : decode cX0_back 61 = .ok (.iload_n 1, 1) := dk_27 (dk_at dksX0_back_2 13 rfl rfl)
theorem dX0_back_62 : decode cX0_back 62 = .ok (.iaload, 1) := dk_46 (dk_at dksX0_back_2 14 rfl rfl)
theorem dX0_back_63 : decode cX0_back 63 = .ok (.putfield 128, 3) := dk_181 0 128 (dk_at dksX0_back_2 15 rfl rfl)
theorem dX0_back_66 : decode cX0_back 66 = .ok (.iinc 1 1, 3) := dk_132 1 1 (dk_at dksX0_back_2 18 rfl rfl)
theorem dX0_back_69 : decode cX0_back 69 = .ok (.goto (-26), 3) := dk_167 255 230 (dk_at dksX0_back_2 21 rfl rfl)
theorem dX0_back_72 : decode cX0_back 72 = .ok (.aload_n 0, 1) := dk_42 (dk_at dksX0_back_3 0 rfl rfl)
theorem dX0_back_73 : decode cX0_back 73 = .ok (.aload_n 0, 1) := dk_42 (dk_at dksX0_back_3 1 rfl rfl)
theorem dX0_back_74 : decode cX0_back 74 = .ok (.getfield 371, 3) := dk_180 1 115 (dk_at dksX0_back_3 2 rfl rfl)
theorem dX0_back_77 : decode cX0_back 77 = .ok (.putfield 78, 3) := dk_181 0 78 (dk_at dksX0_back_3 5 rfl rfl)
theorem dX0_back_80 : decode cX0_back 80 = .ok (.aload_n 0, 1) := dk_42 (dk_at dksX0_back_3 8 rfl rfl)
theorem dX0_back_81 : decode cX0_back 81 = .ok (.aload_n 0, 1) := dk_42 (dk_at dksX0_back_3 9 rfl rfl)
theorem dX0_back_82 : decode cX0_back 82 = .ok (.getfield 374, 3) := dk_180 1 118 (dk_at dksX0_back_3 10 rfl rfl)
theorem dX0_back_85 : decode cX0_back 85 = .ok (.putfield 91, 3) := dk_181 0 91 (dk_at dksX0_back_3 13 rfl rfl)
theorem dX0_back_88 : decode cX0_back 88 = .ok (.aload_n 0, 1) := dk_42 (dk_at dksX0_back_3 16 rfl rfl)
theorem dX0_back_89 : decode cX0_back 89 = .ok (.aload_n 0, 1) := dk_42 (dk_at dksX0_back_3 17 rfl rfl)
theorem dX0_back_90 : decode cX0_back 90 = .ok (.getfield 377, 3) := dk_180 1 121 (dk_at dksX0_back_3 18 rfl rfl)
theorem dX0_back_93 : decode cX0_back 93 = .ok (.putfield 349, 3) := dk_181 1 93 (dk_at dksX0_back_3 21 rfl rfl)
theorem dX0_back_96 : decode cX0_back 96 = .ok (.aload_n 0, 1) := dk_42 (dk_at dksX0_back_4 0 rfl rfl)
theorem dX0_back_97 : decode cX0_back 97 = .ok (.aload_n 0, 1) := dk_42 (dk_at dksX0_back_4 1 rfl rfl)
theorem dX0_back_98 : decode cX0_back 98 = .ok (.getfield 380, 3) := dk_180 1 124 (dk_at dksX0_back_4 2 rfl rfl)
theorem dX0_back_101 : decode cX0_back 101 = .ok (.putfield 355, 3) := dk_181 1 99 (dk_at dksX0_back_4 5 rfl rfl)
theorem dX0_back_104 : decode cX0_back 104 = .ok (.aload_n 0, 1) := dk_42 (dk_at dksX0_back_4 8 rfl rfl)
theorem dX0_back_105 : decode cX0_back 105 = .ok (.aload_n 0, 1) := dk_42 (dk_at dksX0_back_4 9 rfl rfl)
theorem dX0_back_106 : decode cX0_back 106 = .ok (.getfield 383, 3) := dk_180 1 127 (dk_at dksX0_back_4 10 rfl rfl)
theorem dX0_back_109 : decode cX0_back 109 = .ok (.putfield 352, 3) := dk_181 1 96 (dk_at dksX0_back_4 13 rfl rfl)
theorem dX0_back_112 : decode cX0_back 112 = .ok (.aload_n 0, 1) := dk_42 (dk_at dksX0_back_4 16 rfl rfl)
theorem dX0_back_113 : decode cX0_back 113 = .ok (.aload_n 0, 1) := dk_42 (dk_at dksX0_back_4 17 rfl rfl)
theorem dX0_back_114 : decode cX0_back 114 = .ok (.getfield 386, 3) := dk_180 1 130 (dk_at dksX0_back_4 18 rfl rfl)
theorem dX0_back_117 : decode cX0_back 117 = .ok (.putfield 358, 3) := dk_181 1 102 (dk_at dksX0_back_4 21 rfl rfl)
theorem dX0_back_120 : decode cX0_back 120 = .ok (.aload_n 0, 1) := dk_42 (dk_at dksX0_back_5 0 rfl rfl)
theorem dX0_back_121 : decode cX0_back 121 = .ok (.getfield 358, 3) := dk_180 1 102 (dk_at dksX0_back_5 1 rfl rfl)
theorem dX0_back_124 : decode cX0_back 124 = .ok (.ireturn, 1) := dk_172 (dk_at dksX0_back_5 4 rfl rfl)
def dkwX0_body_2 : List UInt8 := [42, 180, 1, 136, 4, 100, 172]
abbrev dktX0_body_2 : List UInt8 := dkwX0_body_2 ++ []
def dkwX0_body_1 : List UInt8 := [42, 180, 0, 53, 42, 180, 1, 136, 42, 27, 182, 1, 163, 83, 42, 89, 180, 1, 136, 4, 96, 181, 1, 136]
abbrev dktX0_body_1 : List UInt8 := dkwX0_body_1 ++ dktX0_body_2
def dkwX0_body_0 : List UInt8 := [27, 3, 16, 7, 184, 0, 67, 154, 0, 5, 2, 172, 42, 180, 1, 136, 16, 50, 160, 0, 6, 16, 253, 172]
abbrev dktX0_body_0 : List UInt8 := dkwX0_body_0 ++ dktX0_body_1
theorem dksX0_body_0 : cX0_body.data.toList.drop 0 = dktX0_body_0 := by decide +kernel
theorem dksX0_body_1 : cX0_body.data.toList.drop 24 = dktX0_body_1 := dk_seg dksX0_body_0 24 rfl rfl
theorem dksX0_body_2 : cX0_body.data.toList.drop 48 = dktX0_body_2 := dk_seg dksX0_body_1 24 rfl rfl
theorem dX0_body_0 : decode cX0_body 0 = .ok (.iload_n 1, 1) := dk_27 (dk_at dksX0_body_0 0 rfl rfl)
theorem dX0_body_1 : decode cX0_body 1 = .ok (.iconst 0, 1) := dk_3 (dk_at dksX0_body_0 1 rfl rfl)
theorem dX0_body_2 : decode cX0_body 2 = .ok (.bipush 7, 2) := dk_16 7 (dk_at dksX0_body_0 2 rfl rfl)
theorem dX0_body_4 : decode cX0_body 4 = .ok (.invokestatic 67, 3) := dk_184 0 67 (dk_at dksX0_body_0 4 rfl rfl)
theorem dX0_body_7 : decode cX0_body 7 = .ok (.ifCond .ne 5, 3) := dk_154 0 5 (dk_at dksX0_body_0 7 rfl rfl)
theorem dX0_body_10 : decode cX0_body 10 = .ok (.iconst (-1), 1) := dk_2 (dk_at dksX0_body_0 10 rfl rfl)
theorem dX0_body_11 : decode cX0_body 11 = .ok (.ireturn, 1) := dk_172 (dk_at dksX0_body_0 11 rfl rfl)
theorem dX0_body_12 : decode cX0_body 12 = .ok (.aload_n 0, 1) := dk_42 (dk_at dksX0_body_0 12 rfl rfl)
theorem dX0_body_13 : decode cX0_body 13 = .ok (.getfield 392, 3) := dk_180 1 136 (dk_at dksX0_body_0 13 rfl rfl)
theorem dX0_body_16 : decode cX0_body 16 = .ok (.bipush 50, 2) := dk_16 50 (dk_at dksX0_body_0 16 rfl rfl)
theorem dX0_body_18 : decode cX0_body 18 = .ok (.if_icmp .ne 6, 3) := dk_160 0 6 (dk_at dksX0_body_0 18 rfl rfl)
theorem dX0_body_21 : decode cX0_body 21 = .ok (.bipush (-3), 2) := dk_16 253 (dk_at dksX0_body_0 21 rfl rfl)
theorem dX0_body_23 : decode cX0_body 23 = .ok (.ireturn, 1) := dk_172 (dk_at dksX0_body_0 23 rfl rfl)
theorem dX0_body_24 : decode cX0_body 24 = .ok (.aload_n 0, 1) := dk_42 (dk_at dksX0_body_1 0 rfl rfl)
theorem dX0_body_25 : decode cX0_body 25 = .ok (.getfield 53, 3) := dk_180 0 53 (dk_at dksX0_body_1 1 rfl rfl)
theorem dX0_body_28 : decode cX0_body 28 = .ok (.aload_n 0, 1) := dk_42 (dk_at dksX0_body_1 4 rfl rfl)
theorem dX0_body_29 : decode cX0_body 29 = .ok (.getfield 392, 3) := dk_180 1 136 (dk_at dksX0_body_1 5 rfl rfl)
theorem dX0_body_32 : decode cX0_body 32 = .ok (.aload_n 0, 1) := dk_42 (dk_at dksX0_body_1 8 rfl rfl)
theorem dX0_body_33 : decode cX0_body 33 = .ok (.iload_n 1, 1) := dk_27 (dk_at dksX0_body_1 9 rfl rfl)
theorem dX0_body_34 : decode cX0_body 34 = .ok (.invokevirtual 419, 3) := dk_182 1 163 (dk_at dksX0_body_1 10 rfl rfl)
theorem dX0_body_37 : decode cX0_body 37 = .ok (.aastore, 1) := dk_83 (dk_at dksX0_body_1 13 rfl rfl)
theorem dX0_body_38 : decode cX0_body 38 = .ok (.aload_n 0, 1) := dk_42 (dk_at dksX0_body_1 14 rfl rfl)
theorem dX0_body_39 : decode cX0_body 39 = .ok (.dup, 1) := dk_89 (dk_at dksX0_body_1 15 rfl rfl)
theorem dX0_body_40 : decode cX0_body 40 = .ok (.getfield 392, 3) := dk_180 1 136 (dk_at dksX0_body_1 16 rfl rfl)
theorem dX0_body_43 : decode cX0_body 43 = .ok (.iconst 1, 1) := dk_4 (dk_at dksX0_body_1 19 rfl rfl)
theorem dX0_body_44 : decode cX0_body 44 = .ok (.iadd, 1) := dk_96 (dk_at dksX0_body_1 20 rfl rfl)
theorem dX0_body_45 : decode cX0_body 45 = .ok (.putfield 392, 3) := dk_181 1 136 (dk_at dksX0_body_1 21 rfl rfl)
theorem dX0_body_48 : decode cX0_body 48 = .ok (.aload_n 0, 1) := dk_42 (dk_at dksX0_body_2 0 rfl rfl)
theorem dX0_body_49 : decode cX0_body 49 = .ok (.getfield 392, 3) := dk_180 1 136 (dk_at dksX0_body_2 1 rfl rfl)
theorem dX0_body_52 : decode cX0_body 52 = .ok (.iconst 1, 1) := dk_4 (dk_at dksX0_body_2 4 rfl rfl)
theorem dX0_body_53 : decode cX0_body 53 = .ok (.isub, 1) := dk_100 (dk_at dksX0_body_2 5 rfl rfl)
theorem dX0_body_54 : decode cX0_body 54 = .ok (.ireturn, 1) := dk_172 (dk_at dksX0_body_2 6 rfl rfl)
def dkwX0_bodyOf_6 : List UInt8 := [187, 0, 51, 89, 42, 42, 180, 1, 136, 183, 1, 162, 176]
abbrev dktX0_bodyOf_6 : List UInt8 := dkwX0_bodyOf_6 ++ []
def dkwX0_bodyOf_5 : List UInt8 := [42, 42, 180, 1, 136, 183, 1, 158, 176, 187, 1, 159, 89, 42, 42, 180, 1, 136, 183, 1, 161, 176]
abbrev dktX0_bodyOf_5 : List UInt8 := dkwX0_bodyOf_5 ++ dktX0_bodyOf_6
def dkwX0_bodyOf_4 : List UInt8 := [180, 1, 136, 183, 1, 152, 176, 187, 1, 153, 89, 42, 42, 180, 1, 136, 183, 1, 155, 176, 187, 1, 156, 89]
abbrev dktX0_bodyOf_4 : List UInt8 := dkwX0_bodyOf_4 ++ dktX0_bodyOf_5
def dkwX0_bodyOf_3 : List UInt8 := [183, 1, 146, 176, 187, 1, 147, 89, 42, 42, 180, 1, 136, 183, 1, 149, 176, 187, 1, 150, 89, 42, 42]
abbrev dktX0_bodyOf_3 : List UInt8 := dkwX0_bodyOf_3 ++ dktX0_bodyOf_4
def dkwX0_bodyOf_2 : List UInt8 := [187, 1, 139, 89, 42, 42, 180, 1, 136, 183, 1, 141, 176, 187, 1, 144, 89, 42, 42, 180, 1, 136]
abbrev dktX0_bodyOf_2 : List UInt8 := dkwX0_bodyOf_2 ++ dktX0_bodyOf_3
def dkwX0_bodyOf_1 : List UInt8 := [170, 0, 0, 0, 0, 0, 134, 0, 0, 0, 1, 0, 0, 0, 7, 0, 0, 0, 43, 0, 0, 0, 56, 0, 0, 0, 69, 0, 0, 0, 82, 0, 0, 0, 95, 0, 0, 0, 108, 0, 0, 0, 121]
abbrev dktX0_bodyOf_1 : List UInt8 := dkwX0_bodyOf_1 ++ dktX0_bodyOf_2
def dkwX0_bodyOf_0 : List UInt8 := [27]
abbrev dktX0_bodyOf_0 : List UInt8 := dkwX0_bodyOf_0 ++ dktX0_bodyOf_1
theorem dksX0_bodyOf_0 : cX0_bodyOf.data.toList.drop 0 = dktX0_bodyOf_0 := by decide +kernel
theorem dksX0_bodyOf_1 : cX0_bodyOf.data.toList.drop 1 = dktX0_bodyOf_1 := dk_seg dksX0_bodyOf_0 1 rfl rfl
theorem dksX0_bodyOf_2 : cX0_bodyOf.data.toList.drop 44 = dktX0_bodyOf_2 := dk_seg dksX0_bodyOf_1 43 rfl rfl
theorem dksX0_bodyOf_3 : cX0_bodyOf.data.toList.drop 66 = dktX0_bodyOf_3 := dk_seg dksX0_bodyOf_2 22 rfl rfl
theorem dksX0_bodyOf_4 : cX0_bodyOf.data.toList.drop 89 = dktX0_bodyOf_4 := dk_seg dksX0_bodyOf_3 23 rfl rfl
theorem dksX0_bodyOf_5 : cX0_bodyOf.data.toList.drop 113 = dktX0_bodyOf_5 := dk_seg dksX0_bodyOf_4 24 rfl rfl
theorem dksX0_bodyOf_6 : cX0_bodyOf.data.toList.drop 135 = dktX0_bodyOf_6 := dk_seg dksX0_bodyOf_5 22 rfl rfl
theorem dX0_bodyOf_0 : decode cX0_bodyOf 0 = .ok (.iload_n 1, 1) := dk_27 (dk_at dksX0_bodyOf_0 0 rfl rfl)
theorem dX0_bodyOf_1 : decode cX0_bodyOf 1 = .ok (.tableswitch 134 1 7 #[43, 56, 69, 82, 95, 108, 121], 43) := by decide +kernel
theorem dX0_bodyOf_44 : decode cX0_bodyOf 44 = .ok (.new 395, 3) := dk_187 1 139 (dk_at dksX0_bodyOf_2 0 rfl rfl)
theorem dX0_bodyOf_47 : decode cX0_bodyOf 47 = .ok (.dup, 1) := dk_89 (dk_at dksX0_bodyOf_2 3 rfl rfl)
theorem dX0_bodyOf_48 : decode cX0_bodyOf 48 = .ok (.aload_n 0, 1) := dk_42 (dk_at dksX0_bodyOf_2 4 rfl rfl)
theorem dX0_bodyOf_49 : decode cX0_bodyOf 49 = .ok (.aload_n 0, 1) := dk_42 (dk_at dksX0_bodyOf_2 5 rfl rfl)
theorem dX0_bodyOf_50 : decode cX0_bodyOf 50 = .ok (.getfield 392, 3) := dk_180 1 136 (dk_at dksX0_bodyOf_2 6 rfl rfl)
theorem dX0_bodyOf_53 : decode cX0_bodyOf 53 = .ok (.invokespecial 397, 3) := dk_183 1 141 (dk_at dksX0_bodyOf_2 9 rfl rfl)
theorem dX0_bodyOf_56 : decode cX0_bodyOf 56 = .ok (.areturn, 1) := dk_176 (dk_at dksX0_bodyOf_2 12 rfl rfl)
theorem dX0_bodyOf_57 : decode cX0_bodyOf 57 = .ok (.new 400, 3) := dk_187 1 144 (dk_at dksX0_bodyOf_2 13 rfl rfl)
theorem dX0_bodyOf_60 : decode cX0_bodyOf 60 = .ok (.dup, 1) := dk_89 (dk_at dksX0_bodyOf_2 16 rfl rfl)
theorem dX0_bodyOf_61 : decode cX0_bodyOf 61 = .ok (.aload_n 0, 1) := dk_42 (dk_at dksX0_bodyOf_2 17 rfl rfl)
theorem dX0_bodyOf_62 : decode cX0_bodyOf 62 = .ok (.aload_n 0, 1) := dk_42 (dk_at dksX0_bodyOf_2 18 rfl rfl)
theorem dX0_bodyOf_63 : decode cX0_bodyOf 63 = .ok (.getfield 392, 3) := dk_180 1 136 (dk_at dksX0_bodyOf_2 19 rfl rfl)
theorem dX0_bodyOf_66 : decode cX0_bodyOf 66 = .ok (.invokespecial 402, 3) := dk_183 1 146 (dk_at dksX0_bodyOf_3 0 rfl rfl)
theorem dX0_bodyOf_69 : decode cX0_bodyOf 69 = .ok (.areturn, 1) := dk_176 (dk_at dksX0_bodyOf_3 3 rfl rfl)
theorem dX0_bodyOf_70 : decode cX0_bodyOf 70 = .ok (.new 403, 3) := dk_187 1 147 (dk_at dksX0_bodyOf_3 4 rfl rfl)
theorem dX0_bodyOf_73 : decode cX0_bodyOf 73 = .ok (.dup, 1) := dk_89 (dk_at dksX0_bodyOf_3 7 rfl rfl)
theorem dX0_bodyOf_74 : decode cX0_bodyOf 74 = .ok (.aload_n 0, 1) := dk_42 (dk_at dksX0_bodyOf_3 8 rfl rfl)
theorem dX0_bodyOf_75 : decode cX0_bodyOf 75 = .ok (.aload_n 0, 1) := dk_42 (dk_at dksX0_bodyOf_3 9 rfl rfl)
theorem dX0_bodyOf_76 : decode cX0_bodyOf 76 = .ok (.getfield 392, 3) := dk_180 1 136 (dk_at dksX0_bodyOf_3 10 rfl rfl)
theorem dX0_bodyOf_79 : decode cX0_bodyOf 79 = .ok (.invokespecial 405, 3) := dk_183 1 149 (dk_at dksX0_bodyOf_3 13 rfl rfl)
theorem dX0_bodyOf_82 : decode cX0_bodyOf 82 = .ok (.areturn, 1) := dk_176 (dk_at dksX0_bodyOf_3 16 rfl rfl)
theorem dX0_bodyOf_83 : decode cX0_bodyOf 83 = .ok (.new 406, 3) := dk_187 1 150 (dk_at dksX0_bodyOf_3 17 rfl rfl)
theorem dX0_bodyOf_86 : decode cX0_bodyOf 86 = .ok (.dup, 1) := dk_89 (dk_at dksX0_bodyOf_3 20 rfl rfl)
theorem dX0_bodyOf_87 : decode cX0_bodyOf 87 = .ok (.aload_n 0, 1) := dk_42 (dk_at dksX0_bodyOf_3 21 rfl rfl)
theorem dX0_bodyOf_88 : decode cX0_bodyOf 88 = .ok (.aload_n 0, 1) := dk_42 (dk_at dksX0_bodyOf_3 22 rfl rfl)
theorem dX0_bodyOf_89 : decode cX0_bodyOf 89 = .ok (.getfield 392, 3) := dk_180 1 136 (dk_at dksX0_bodyOf_4 0 rfl rfl)
theorem dX0_bodyOf_92 : decode cX0_bodyOf 92 = .ok (.invokespecial 408, 3) := dk_183 1 152 (dk_at dksX0_bodyOf_4 3 rfl rfl)
theorem dX0_bodyOf_95 : decode cX0_bodyOf 95 = .ok (.areturn, 1) := dk_176 (dk_at dksX0_bodyOf_4 6 rfl rfl)
theorem dX0_bodyOf_96 : decode cX0_bodyOf 96 = .ok (.new 409, 3) := dk_187 1 153 (dk_at dksX0_bodyOf_4 7 rfl rfl)
theorem dX0_bodyOf_99 : decode cX0_bodyOf 99 = .ok (.dup, 1) := dk_89 (dk_at dksX0_bodyOf_4 10 rfl rfl)
theorem dX0_bodyOf_100 : decode cX0_bodyOf 100 = .ok (.aload_n 0, 1) := dk_42 (dk_at dksX0_bodyOf_4 11 rfl rfl)
theorem dX0_bodyOf_101 : decode cX0_bodyOf 101 = .ok (.aload_n 0, 1) := dk_42 (dk_at dksX0_bodyOf_4 12 rfl rfl)
theorem dX0_bodyOf_102 : decode cX0_bodyOf 102 = .ok (.getfield 392, 3) := dk_180 1 136 (dk_at dksX0_bodyOf_4 13 rfl rfl)
theorem dX0_bodyOf_105 : decode cX0_bodyOf 105 = .ok (.invokespecial 411, 3) := dk_183 1 155 (dk_at dksX0_bodyOf_4 16 rfl rfl)
theorem dX0_bodyOf_108 : decode cX0_bodyOf 108 = .ok (.areturn, 1) := dk_176 (dk_at dksX0_bodyOf_4 19 rfl rfl)
theorem dX0_bodyOf_109 : decode cX0_bodyOf 109 = .ok (.new 412, 3) := dk_187 1 156 (dk_at dksX0_bodyOf_4 20 rfl rfl)
theorem dX0_bodyOf_112 : decode cX0_bodyOf 112 = .ok (.dup, 1) := dk_89 (dk_at dksX0_bodyOf_4 23 rfl rfl)
theorem dX0_bodyOf_113 : decode cX0_bodyOf 113 = .ok (.aload_n 0, 1) := dk_42 (dk_at dksX0_bodyOf_5 0 rfl rfl)
theorem dX0_bodyOf_114 : decode cX0_bodyOf 114 = .ok (.aload_n 0, 1) := dk_42 (dk_at dksX0_bodyOf_5 1 rfl rfl)
theorem dX0_bodyOf_115 : decode cX0_bodyOf 115 = .ok (.getfield 392, 3) := dk_180 1 136 (dk_at dksX0_bodyOf_5 2 rfl rfl)
theorem dX0_bodyOf_118 : decode cX0_bodyOf 118 = .ok (.invokespecial 414, 3) := dk_183 1 158 (dk_at dksX0_bodyOf_5 5 rfl rfl)
theorem dX0_bodyOf_121 : decode cX0_bodyOf 121 = .ok (.areturn, 1) := dk_176 (dk_at dksX0_bodyOf_5 8 rfl rfl)
theorem dX0_bodyOf_122 : decode cX0_bodyOf 122 = .ok (.new 415, 3) := dk_187 1 159 (dk_at dksX0_bodyOf_5 9 rfl rfl)
theorem dX0_bodyOf_125 : decode cX0_bodyOf 125 = .ok (.dup, 1) := dk_89 (dk_at dksX0_bodyOf_5 12 rfl rfl)
theorem dX0_bodyOf_126 : decode cX0_bodyOf 126 = .ok (.aload_n 0, 1) := dk_42 (dk_at dksX0_bodyOf_5 13 rfl rfl)
theorem dX0_bodyOf_127 : decode cX0_bodyOf 127 = .ok (.aload_n 0, 1) := dk_42 (dk_at dksX0_bodyOf_5 14 rfl rfl)
theorem dX0_bodyOf_128 : decode cX0_bodyOf 128 = .ok (.getfield 392, 3) := dk_180 1 136 (dk_at dksX0_bodyOf_5 15 rfl rfl)
theorem dX0_bodyOf_131 : decode cX0_bodyOf 131 = .ok (.invokespecial 417, 3) := dk_183 1 161 (dk_at dksX0_bodyOf_5 18 rfl rfl)
theorem dX0_bodyOf_134 : decode cX0_bodyOf 134 = .ok (.areturn, 1) := dk_176 (dk_at dksX0_bodyOf_5 21 rfl rfl)
theorem dX0_bodyOf_135 : decode cX0_bodyOf 135 = .ok (.new 51, 3) := dk_187 0 51 (dk_at dksX0_bodyOf_6 0 rfl rfl)
theorem dX0_bodyOf_138 : decode cX0_bodyOf 138 = .ok (.dup, 1) := dk_89 (dk_at dksX0_bodyOf_6 3 rfl rfl)
theorem dX0_bodyOf_139 : decode cX0_bodyOf 139 = .ok (.aload_n 0, 1) := dk_42 (dk_at dksX0_bodyOf_6 4 rfl rfl)
theorem dX0_bodyOf_140 : decode cX0_bodyOf 140 = .ok (.aload_n 0, 1) := dk_42 (dk_at dksX0_bodyOf_6 5 rfl rfl)
theorem dX0_bodyOf_141 : decode cX0_bodyOf 141 = .ok (.getfield 392, 3) := dk_180 1 136 (dk_at dksX0_bodyOf_6 6 rfl rfl)
theorem dX0_bodyOf_144 : decode cX0_bodyOf 144 = .ok (.invokespecial 418, 3) := dk_183 1 162 (dk_at dksX0_bodyOf_6 9 rfl rfl)
theorem dX0_bodyOf_147 : decode cX0_bodyOf 147 = .ok (.areturn, 1) := dk_176 (dk_at dksX0_bodyOf_6 12 rfl rfl)
def dkwX0_act_3 : List UInt8 := [25, 4, 29, 182, 1, 180, 167, 0, 9, 25, 4, 29, 182, 1, 183, 172]
abbrev dktX0_act_3 : List UInt8 := dkwX0_act_3 ++ []
def dkwX0_act_2 : List UInt8 := [172, 28, 6, 160, 0, 16, 25, 4, 58, 5, 25, 5, 29, 185, 1, 175, 2, 0, 172, 28, 4, 160, 0, 12]
abbrev dktX0_act_2 : List UInt8 := dkwX0_act_2 ++ dktX0_act_3
def dkwX0_act_1 : List UInt8 := [42, 180, 0, 53, 27, 50, 58, 4, 28, 154, 0, 16, 25, 4, 58, 5, 25, 5, 29, 185, 1, 170, 2, 0]
abbrev dktX0_act_1 : List UInt8 := dkwX0_act_1 ++ dktX0_act_2
def dkwX0_act_0 : List UInt8 := [42, 3, 181, 1, 133, 42, 27, 182, 1, 167, 153, 0, 12, 28, 3, 6, 184, 0, 67, 154, 0, 5, 3, 172]
abbrev dktX0_act_0 : List UInt8 := dkwX0_act_0 ++ dktX0_act_1
theorem dksX0_act_0 : cX0_act.data.toList.drop 0 = dktX0_act_0 := by decide +kernel
theorem dksX0_act_1 : cX0_act.data.toList.drop 24 = dktX0_act_1 := dk_seg dksX0_act_0 24 rfl rfl
theorem dksX0_act_2 : cX0_act.data.toList.drop 48 = dktX0_act_2 := dk_seg dksX0_act_1 24 rfl rfl
theorem dksX0_act_3 : cX0_act.data.toList.drop 72 = dktX0_act_3 := dk_seg dksX0_act_2 24 rfl rfl
theorem dX0_act_0 : decode cX0_act 0 = .ok (.aload_n 0, 1) := dk_42 (dk_at dksX0_act_0 0 rfl rfl)
theorem dX0_act_1 : decode cX0_act 1 = .ok (.iconst 0, 1) := dk_3 (dk_at dksX0_act_0 1 rfl rfl)
theorem dX0_act_2 : decode cX0_act 2 = .ok (.putfield 389, 3) := dk_181 1 133 (dk_at dksX0_act_0 2 rfl rfl)
theorem dX0_act_5 : decode cX0_act 5 = .ok (.aload_n 0, 1) := dk_42 (dk_at dksX0_act_0 5 rfl rfl)
theorem dX0_act_6 : decode cX0_act 6 = .ok (.iload_n 1, 1) := dk_27 (dk_at dksX0_act_0 6 rfl rfl)
theorem dX0_act_7 : decode cX0_act 7 = .ok (.invokevirtual 423, 3) := dk_182 1 167 (dk_at dksX0_act_0 7 rfl rfl)
theorem dX0_act_10 : decode cX0_act 10 = .ok (.ifCond .eq 12, 3) := dk_153 0 12 (dk_at dksX0_act_0 10 rfl rfl)
theorem dX0_act_13 : decode cX0_act 13 = .ok (.iload_n 2, 1) := dk_28 (dk_at dksX0_act_0 13 rfl rfl)
theorem dX0_act_14 : decode cX0_act 14 = .ok (.iconst 0, 1) := dk_3 (dk_at dksX0_act_0 14 rfl rfl)
theorem dX0_act_15 : decode cX0_act 15 = .ok (.iconst 3, 1) := dk_6 (dk_at dksX0_act_0 15 rfl rfl)
theorem dX0_act_16 : decode cX0_act 16 = .ok (.invokestatic 67, 3) := dk_184 0 67 (dk_at dksX0_act_0 16 rfl rfl)
theorem dX0_act_19 : decode cX0_act 19 = .ok (.ifCond .ne 5, 3) := dk_154 0 5 (dk_at dksX0_act_0 19 rfl rfl)
theorem dX0_act_22 : decode cX0_act 22 = .ok (.iconst 0, 1) := dk_3 (dk_at dksX0_act_0 22 rfl rfl)
theorem dX0_act_23 : decode cX0_act 23 = .ok (.ireturn, 1) := dk_172 (dk_at dksX0_act_0 23 rfl rfl)
theorem dX0_act_24 : decode cX0_act 24 = .ok (.aload_n 0, 1) := dk_42 (dk_at dksX0_act_1 0 rfl rfl)
theorem dX0_act_25 : decode cX0_act 25 = .ok (.getfield 53, 3) := dk_180 0 53 (dk_at dksX0_act_1 1 rfl rfl)
theorem dX0_act_28 : decode cX0_act 28 = .ok (.iload_n 1, 1) := dk_27 (dk_at dksX0_act_1 4 rfl rfl)
theorem dX0_act_29 : decode cX0_act 29 = .ok (.aaload, 1) := dk_50 (dk_at dksX0_act_1 5 rfl rfl)
theorem dX0_act_30 : decode cX0_act 30 = .ok (.astore 4, 2) := dk_58 4 (dk_at dksX0_act_1 6 rfl rfl)
theorem dX0_act_32 : decode cX0_act 32 = .ok (.iload_n 2, 1) := dk_28 (dk_at dksX0_act_1 8 rfl rfl)
theorem dX0_act_33 : decode cX0_act 33 = .ok (.ifCond .ne 16, 3) := dk_154 0 16 (dk_at dksX0_act_1 9 rfl rfl)
theorem dX0_act_36 : decode cX0_act 36 = .ok (.aload 4, 2) := dk_25 4 (dk_at dksX0_act_1 12 rfl rfl)
theorem dX0_act_38 : decode cX0_act 38 = .ok (.astore 5, 2) := dk_58 5 (dk_at dksX0_act_1 14 rfl rfl)
theorem dX0_act_40 : decode cX0_act 40 = .ok (.aload 5, 2) := dk_25 5 (dk_at dksX0_act_1 16 rfl rfl)
theorem dX0_act_42 : decode cX0_act 42 = .ok (.iload_n 3, 1) := dk_29 (dk_at dksX0_act_1 18 rfl rfl)
theorem dX0_act_43 : decode cX0_act 43 = .ok (.invokeinterface 426 2, 5) := by decide +kernel
theorem dX0_act_48 : decode cX0_act 48 = .ok (.ireturn, 1) := dk_172 (dk_at dksX0_act_2 0 rfl rfl)
theorem dX0_act_49 : decode cX0_act 49 = .ok (.iload_n 2, 1) := dk_28 (dk_at dksX0_act_2 1 rfl rfl)
theorem dX0_act_50 : decode cX0_act 50 = .ok (.iconst 3, 1) := dk_6 (dk_at dksX0_act_2 2 rfl rfl)
theorem dX0_act_51 : decode cX0_act 51 = .ok (.if_icmp .ne 16, 3) := dk_160 0 16 (dk_at dksX0_act_2 3 rfl rfl)
theorem dX0_act_54 : decode cX0_act 54 = .ok (.aload 4, 2) := dk_25 4 (dk_at dksX0_act_2 6 rfl rfl)
theorem dX0_act_56 : decode cX0_act 56 = .ok (.astore 5, 2) := dk_58 5 (dk_at dksX0_act_2 8 rfl rfl)
theorem dX0_act_58 : decode cX0_act 58 = .ok (.aload 5, 2) := dk_25 5 (dk_at dksX0_act_2 10 rfl rfl)
theorem dX0_act_60 : decode cX0_act 60 = .ok (.iload_n 3, 1) := dk_29 (dk_at dksX0_act_2 12 rfl rfl)
theorem dX0_act_61 : decode cX0_act 61 = .ok (.invokeinterface 431 2, 5) := by decide +kernel
theorem dX0_act_66 : decode cX0_act 66 = .ok (.ireturn, 1) := dk_172 (dk_at dksX0_act_2 18 rfl rfl)
theorem dX0_act_67 : decode cX0_act 67 = .ok (.iload_n 2, 1) := dk_28 (dk_at dksX0_act_2 19 rfl rfl)
theorem dX0_act_68 : decode cX0_act 68 = .ok (.iconst 1, 1) := dk_4 (dk_at dksX0_act_2 20 rfl rfl)
theorem dX0_act_69 : decode cX0_act 69 = .ok (.if_icmp .ne 12, 3) := dk_160 0 12 (dk_at dksX0_act_2 21 rfl rfl)
theorem dX0_act_72 : decode cX0_act 72 = .ok (.aload 4, 2) := dk_25 4 (dk_at dksX0_act_3 0 rfl rfl)
theorem dX0_act_74 : decode cX0_act 74 = .ok (.iload_n 3, 1) := dk_29 (dk_at dksX0_act_3 2 rfl rfl)
theorem dX0_act_75 : decode cX0_act 75 = .ok (.invokevirtual 436, 3) := dk_182 1 180 (dk_at dksX0_act_3 3 rfl rfl)
theorem dX0_act_78 : decode cX0_act 78 = .ok (.goto 9, 3) := dk_167 0 9 (dk_at dksX0_act_3 6 rfl rfl)
theorem dX0_act_81 : decode cX0_act 81 = .ok (.aload 4, 2) := dk_25 4 (dk_at dksX0_act_3 9 rfl rfl)
theorem dX0_act_83 : decode cX0_act 83 = .ok (.iload_n 3, 1) := dk_29 (dk_at dksX0_act_3 11 rfl rfl)
theorem dX0_act_84 : decode cX0_act 84 = .ok (.invokevirtual 439, 3) := dk_182 1 183 (dk_at dksX0_act_3 12 rfl rfl)
theorem dX0_act_87 : decode cX0_act 87 = .ok (.ireturn, 1) := dk_172 (dk_at dksX0_act_3 15 rfl rfl)
def dkwX0_isBody_0 : List UInt8 := [27, 3, 42, 180, 1, 136, 4, 100, 184, 0, 67, 172]
abbrev dktX0_isBody_0 : List UInt8 := dkwX0_isBody_0 ++ []
theorem dksX0_isBody_0 : cX0_isBody.data.toList.drop 0 = dktX0_isBody_0 := by decide +kernel
theorem dX0_isBody_0 : decode cX0_isBody 0 = .ok (.iload_n 1, 1) := dk_27 (dk_at dksX0_isBody_0 0 rfl rfl)
theorem dX0_isBody_1 : decode cX0_isBody 1 = .ok (.iconst 0, 1) := dk_3 (dk_at dksX0_isBody_0 1 rfl rfl)
theorem dX0_isBody_2 : decode cX0_isBody 2 = .ok (.aload_n 0, 1) := dk_42 (dk_at dksX0_isBody_0 2 rfl rfl)
theorem dX0_isBody_3 : decode cX0_isBody 3 = .ok (.getfield 392, 3) := dk_180 1 136 (dk_at dksX0_isBody_0 3 rfl rfl)
theorem dX0_isBody_6 : decode cX0_isBody 6 = .ok (.iconst 1, 1) := dk_4 (dk_at dksX0_isBody_0 6 rfl rfl)
theorem dX0_isBody_7 : decode cX0_isBody 7 = .ok (.isub, 1) := dk_100 (dk_at dksX0_isBody_0 7 rfl rfl)
theorem dX0_isBody_8 : decode cX0_isBody 8 = .ok (.invokestatic 67, 3) := dk_184 0 67 (dk_at dksX0_isBody_0 8 rfl rfl)
theorem dX0_isBody_11 : decode cX0_isBody 11 = .ok (.ireturn, 1) := dk_172 (dk_at dksX0_isBody_0 11 rfl rfl)
def dkwX0_ran_1 : List UInt8 := [180, 1, 133, 4, 96, 181, 1, 133, 177]
abbrev dktX0_ran_1 : List UInt8 := dkwX0_ran_1 ++ []
def dkwX0_ran_0 : List UInt8 := [42, 180, 1, 133, 16, 24, 162, 0, 14, 42, 180, 0, 48, 42, 180, 1, 133, 27, 145, 84, 42, 89]
abbrev dktX0_ran_0 : List UInt8 := dkwX0_ran_0 ++ dktX0_ran_1
theorem dksX0_ran_0 : cX0_ran.data.toList.drop 0 = dktX0_ran_0 := by decide +kernel
theorem dksX0_ran_1 : cX0_ran.data.toList.drop 22 = dktX0_ran_1 := dk_seg dksX0_ran_0 22 rfl rfl
theorem dX0_ran_0 : decode cX0_ran 0 = .ok (.aload_n 0, 1) := dk_42 (dk_at dksX0_ran_0 0 rfl rfl)
theorem dX0_ran_1 : decode cX0_ran 1 = .ok (.getfield 389, 3) := dk_180 1 133 (dk_at dksX0_ran_0 1 rfl rfl)
theorem dX0_ran_4 : decode cX0_ran 4 = .ok (.bipush 24, 2) := dk_16 24 (dk_at dksX0_ran_0 4 rfl rfl)
theorem dX0_ran_6 : decode cX0_ran 6 = .ok (.if_icmp .ge 14, 3) := dk_162 0 14 (dk_at dksX0_ran_0 6 rfl rfl)
theorem dX0_ran_9 : decode cX0_ran 9 = .ok (.aload_n 0, 1) := dk_42 (dk_at dksX0_ran_0 9 rfl rfl)
theorem dX0_ran_10 : decode cX0_ran 10 = .ok (.getfield 48, 3) := dk_180 0 48 (dk_at dksX0_ran_0 10 rfl rfl)
theorem dX0_ran_13 : decode cX0_ran 13 = .ok (.aload_n 0, 1) := dk_42 (dk_at dksX0_ran_0 13 rfl rfl)
theorem dX0_ran_14 : decode cX0_ran 14 = .ok (.getfield 389, 3) := dk_180 1 133 (dk_at dksX0_ran_0 14 rfl rfl)
theorem dX0_ran_17 : decode cX0_ran 17 = .ok (.iload_n 1, 1) := dk_27 (dk_at dksX0_ran_0 17 rfl rfl)
theorem dX0_ran_18 : decode cX0_ran 18 = .ok (.i2b, 1) := dk_145 (dk_at dksX0_ran_0 18 rfl rfl)
theorem dX0_ran_19 : decode cX0_ran 19 = .ok (.bastore, 1) := dk_84 (dk_at dksX0_ran_0 19 rfl rfl)
theorem dX0_ran_20 : decode cX0_ran 20 = .ok (.aload_n 0, 1) := dk_42 (dk_at dksX0_ran_0 20 rfl rfl)
theorem dX0_ran_21 : decode cX0_ran 21 = .ok (.dup, 1) := dk_89 (dk_at dksX0_ran_0 21 rfl rfl)
theorem dX0_ran_22 : decode cX0_ran 22 = .ok (.getfield 389, 3) := dk_180 1 133 (dk_at dksX0_ran_1 0 rfl rfl)
theorem dX0_ran_25 : decode cX0_ran 25 = .ok (.iconst 1, 1) := dk_4 (dk_at dksX0_ran_1 3 rfl rfl)
theorem dX0_ran_26 : decode cX0_ran 26 = .ok (.iadd, 1) := dk_96 (dk_at dksX0_ran_1 4 rfl rfl)
theorem dX0_ran_27 : decode cX0_ran 27 = .ok (.putfield 389, 3) := dk_181 1 133 (dk_at dksX0_ran_1 5 rfl rfl)
theorem dX0_ran_30 : decode cX0_ran 30 = .ok (.return_, 1) := dk_177 (dk_at dksX0_ran_1 8 rfl rfl)
def dkwX0_trace_1 : List UInt8 := [167, 0, 4, 2, 172]
abbrev dktX0_trace_1 : List UInt8 := dkwX0_trace_1 ++ []
def dkwX0_trace_0 : List UInt8 := [27, 155, 0, 26, 27, 42, 180, 1, 133, 162, 0, 18, 27, 16, 24, 162, 0, 12, 42, 180, 0, 48, 27, 51]
abbrev dktX0_trace_0 : List UInt8 := dkwX0_trace_0 ++ dktX0_trace_1
theorem dksX0_trace_0 : cX0_trace.data.toList.drop 0 = dktX0_trace_0 := by decide +kernel
theorem dksX0_trace_1 : cX0_trace.data.toList.drop 24 = dktX0_trace_1 := dk_seg dksX0_trace_0 24 rfl rfl
theorem dX0_trace_0 : decode cX0_trace 0 = .ok (.iload_n 1, 1) := dk_27 (dk_at dksX0_trace_0 0 rfl rfl)
theorem dX0_trace_1 : decode cX0_trace 1 = .ok (.ifCond .lt 26, 3) := dk_155 0 26 (dk_at dksX0_trace_0 1 rfl rfl)
theorem dX0_trace_4 : decode cX0_trace 4 = .ok (.iload_n 1, 1) := dk_27 (dk_at dksX0_trace_0 4 rfl rfl)
theorem dX0_trace_5 : decode cX0_trace 5 = .ok (.aload_n 0, 1) := dk_42 (dk_at dksX0_trace_0 5 rfl rfl)
theorem dX0_trace_6 : decode cX0_trace 6 = .ok (.getfield 389, 3) := dk_180 1 133 (dk_at dksX0_trace_0 6 rfl rfl)
theorem dX0_trace_9 : decode cX0_trace 9 = .ok (.if_icmp .ge 18, 3) := dk_162 0 18 (dk_at dksX0_trace_0 9 rfl rfl)
theorem dX0_trace_12 : decode cX0_trace 12 = .ok (.iload_n 1, 1) := dk_27 (dk_at dksX0_trace_0 12 rfl rfl)
theorem dX0_trace_13 : decode cX0_trace 13 = .ok (.bipush 24, 2) := dk_16 24 (dk_at dksX0_trace_0 13 rfl rfl)
theorem dX0_trace_15 : decode cX0_trace 15 = .ok (.if_icmp .ge 12, 3) := dk_162 0 12 (dk_at dksX0_trace_0 15 rfl rfl)
theorem dX0_trace_18 : decode cX0_trace 18 = .ok (.aload_n 0, 1) := dk_42 (dk_at dksX0_trace_0 18 rfl rfl)
theorem dX0_trace_19 : decode cX0_trace 19 = .ok (.getfield 48, 3) := dk_180 0 48 (dk_at dksX0_trace_0 19 rfl rfl)
theorem dX0_trace_22 : decode cX0_trace 22 = .ok (.iload_n 1, 1) := dk_27 (dk_at dksX0_trace_0 22 rfl rfl)
theorem dX0_trace_23 : decode cX0_trace 23 = .ok (.baload, 1) := dk_51 (dk_at dksX0_trace_0 23 rfl rfl)
theorem dX0_trace_24 : decode cX0_trace 24 = .ok (.goto 4, 3) := dk_167 0 4 (dk_at dksX0_trace_1 0 rfl rfl)
theorem dX0_trace_27 : decode cX0_trace 27 = .ok (.iconst (-1), 1) := dk_2 (dk_at dksX0_trace_1 3 rfl rfl)
theorem dX0_trace_28 : decode cX0_trace 28 = .ok (.ireturn, 1) := dk_172 (dk_at dksX0_trace_1 4 rfl rfl)
def dkwX0_keep_1 : List UInt8 := [180, 0, 59, 27, 28, 156, 0, 7, 1, 167, 0, 9, 42, 180, 0, 53, 28, 50, 83, 4, 172]
abbrev dktX0_keep_1 : List UInt8 := dkwX0_keep_1 ++ []
def dkwX0_keep_0 : List UInt8 := [27, 184, 0, 98, 153, 0, 16, 28, 2, 159, 0, 13, 42, 28, 182, 1, 167, 154, 0, 5, 2, 172, 42]
abbrev dktX0_keep_0 : List UInt8 := dkwX0_keep_0 ++ dktX0_keep_1
theorem dksX0_keep_0 : cX0_keep.data.toList.drop 0 = dktX0_keep_0 := by decide +kernel
theorem dksX0_keep_1 : cX0_keep.data.toList.drop 23 = dktX0_keep_1 := dk_seg dksX0_keep_0 23 rfl rfl
theorem dX0_keep_0 : decode cX0_keep 0 = .ok (.iload_n 1, 1) := dk_27 (dk_at dksX0_keep_0 0 rfl rfl)
theorem dX0_keep_1 : decode cX0_keep 1 = .ok (.invokestatic 98, 3) := dk_184 0 98 (dk_at dksX0_keep_0 1 rfl rfl)
theorem dX0_keep_4 : decode cX0_keep 4 = .ok (.ifCond .eq 16, 3) := dk_153 0 16 (dk_at dksX0_keep_0 4 rfl rfl)
theorem dX0_keep_7 : decode cX0_keep 7 = .ok (.iload_n 2, 1) := dk_28 (dk_at dksX0_keep_0 7 rfl rfl)
theorem dX0_keep_8 : decode cX0_keep 8 = .ok (.iconst (-1), 1) := dk_2 (dk_at dksX0_keep_0 8 rfl rfl)
theorem dX0_keep_9 : decode cX0_keep 9 = .ok (.if_icmp .eq 13, 3) := dk_159 0 13 (dk_at dksX0_keep_0 9 rfl rfl)
theorem dX0_keep_12 : decode cX0_keep 12 = .ok (.aload_n 0, 1) := dk_42 (dk_at dksX0_keep_0 12 rfl rfl)
theorem dX0_keep_13 : decode cX0_keep 13 = .ok (.iload_n 2, 1) := dk_28 (dk_at dksX0_keep_0 13 rfl rfl)
theorem dX0_keep_14 : decode cX0_keep 14 = .ok (.invokevirtual 423, 3) := dk_182 1 167 (dk_at dksX0_keep_0 14 rfl rfl)
theorem dX0_keep_17 : decode cX0_keep 17 = .ok (.ifCond .ne 5, 3) := dk_154 0 5 (dk_at dksX0_keep_0 17 rfl rfl)
theorem dX0_keep_20 : decode cX0_keep 20 = .ok (.iconst (-1), 1) := dk_2 (dk_at dksX0_keep_0 20 rfl rfl)
theorem dX0_keep_21 : decode cX0_keep 21 = .ok (.ireturn, 1) := dk_172 (dk_at dksX0_keep_0 21 rfl rfl)
theorem dX0_keep_22 : decode cX0_keep 22 = .ok (.aload_n 0, 1) := dk_42 (dk_at dksX0_keep_0 22 rfl rfl)
theorem dX0_keep_23 : decode cX0_keep 23 = .ok (.getfield 59, 3) := dk_180 0 59 (dk_at dksX0_keep_1 0 rfl rfl)
theorem dX0_keep_26 : decode cX0_keep 26 = .ok (.iload_n 1, 1) := dk_27 (dk_at dksX0_keep_1 3 rfl rfl)
theorem dX0_keep_27 : decode cX0_keep 27 = .ok (.iload_n 2, 1) := dk_28 (dk_at dksX0_keep_1 4 rfl rfl)
theorem dX0_keep_28 : decode cX0_keep 28 = .ok (.ifCond .ge 7, 3) := dk_156 0 7 (dk_at dksX0_keep_1 5 rfl rfl)
theorem dX0_keep_31 : decode cX0_keep 31 = .ok (.aconst_null, 1) := dk_1 (dk_at dksX0_keep_1 8 rfl rfl)
theorem dX0_keep_32 : decode cX0_keep 32 = .ok (.goto 9, 3) := dk_167 0 9 (dk_at dksX0_keep_1 9 rfl rfl)
theorem dX0_keep_35 : decode cX0_keep 35 = .ok (.aload_n 0, 1) := dk_42 (dk_at dksX0_keep_1 12 rfl rfl)
theorem dX0_keep_36 : decode cX0_keep 36 = .ok (.getfield 53, 3) := dk_180 0 53 (dk_at dksX0_keep_1 13 rfl rfl)
theorem dX0_keep_39 : decode cX0_keep 39 = .ok (.iload_n 2, 1) := dk_28 (dk_at dksX0_keep_1 16 rfl rfl)
theorem dX0_keep_40 : decode cX0_keep 40 = .ok (.aaload, 1) := dk_50 (dk_at dksX0_keep_1 17 rfl rfl)
theorem dX0_keep_41 : decode cX0_keep 41 = .ok (.aastore, 1) := dk_83 (dk_at dksX0_keep_1 18 rfl rfl)
theorem dX0_keep_42 : decode cX0_keep 42 = .ok (.iconst 1, 1) := dk_4 (dk_at dksX0_keep_1 19 rfl rfl)
theorem dX0_keep_43 : decode cX0_keep 43 = .ok (.ireturn, 1) := dk_172 (dk_at dksX0_keep_1 20 rfl rfl)
def dkwX0_row_1 : List UInt8 := [42, 180, 0, 59, 27, 28, 29, 184, 1, 199, 83, 167, 0, 8, 58, 4, 16, 242, 172, 4, 172]
abbrev dktX0_row_1 : List UInt8 := dkwX0_row_1 ++ []
def dkwX0_row_0 : List UInt8 := [27, 184, 0, 98, 153, 0, 18, 28, 3, 7, 184, 0, 67, 153, 0, 9, 29, 16, 60, 164, 0, 5, 2, 172]
abbrev dktX0_row_0 : List UInt8 := dkwX0_row_0 ++ dktX0_row_1
theorem dksX0_row_0 : cX0_row.data.toList.drop 0 = dktX0_row_0 := by decide +kernel
theorem dksX0_row_1 : cX0_row.data.toList.drop 24 = dktX0_row_1 := dk_seg dksX0_row_0 24 rfl rfl
theorem dX0_row_0 : decode cX0_row 0 = .ok (.iload_n 1, 1) := dk_27 (dk_at dksX0_row_0 0 rfl rfl)
theorem dX0_row_1 : decode cX0_row 1 = .ok (.invokestatic 98, 3) := dk_184 0 98 (dk_at dksX0_row_0 1 rfl rfl)
theorem dX0_row_4 : decode cX0_row 4 = .ok (.ifCond .eq 18, 3) := dk_153 0 18 (dk_at dksX0_row_0 4 rfl rfl)
theorem dX0_row_7 : decode cX0_row 7 = .ok (.iload_n 2, 1) := dk_28 (dk_at dksX0_row_0 7 rfl rfl)
theorem dX0_row_8 : decode cX0_row 8 = .ok (.iconst 0, 1) := dk_3 (dk_at dksX0_row_0 8 rfl rfl)
theorem dX0_row_9 : decode cX0_row 9 = .ok (.iconst 4, 1) := dk_7 (dk_at dksX0_row_0 9 rfl rfl)
theorem dX0_row_10 : decode cX0_row 10 = .ok (.invokestatic 67, 3) := dk_184 0 67 (dk_at dksX0_row_0 10 rfl rfl)
theorem dX0_row_13 : decode cX0_row 13 = .ok (.ifCond .eq 9, 3) := dk_153 0 9 (dk_at dksX0_row_0 13 rfl rfl)
theorem dX0_row_16 : decode cX0_row 16 = .ok (.iload_n 3, 1) := dk_29 (dk_at dksX0_row_0 16 rfl rfl)
theorem dX0_row_17 : decode cX0_row 17 = .ok (.bipush 60, 2) := dk_16 60 (dk_at dksX0_row_0 17 rfl rfl)
theorem dX0_row_19 : decode cX0_row 19 = .ok (.if_icmp .le 5, 3) := dk_164 0 5 (dk_at dksX0_row_0 19 rfl rfl)
theorem dX0_row_22 : decode cX0_row 22 = .ok (.iconst (-1), 1) := dk_2 (dk_at dksX0_row_0 22 rfl rfl)
theorem dX0_row_23 : decode cX0_row 23 = .ok (.ireturn, 1) := dk_172 (dk_at dksX0_row_0 23 rfl rfl)
theorem dX0_row_24 : decode cX0_row 24 = .ok (.aload_n 0, 1) := dk_42 (dk_at dksX0_row_1 0 rfl rfl)
theorem dX0_row_25 : decode cX0_row 25 = .ok (.getfield 59, 3) := dk_180 0 59 (dk_at dksX0_row_1 1 rfl rfl)
theorem dX0_row_28 : decode cX0_row 28 = .ok (.iload_n 1, 1) := dk_27 (dk_at dksX0_row_1 4 rfl rfl)
theorem dX0_row_29 : decode cX0_row 29 = .ok (.iload_n 2, 1) := dk_28 (dk_at dksX0_row_1 5 rfl rfl)
theorem dX0_row_30 : decode cX0_row 30 = .ok (.iload_n 3, 1) := dk_29 (dk_at dksX0_row_1 6 rfl rfl)
theorem dX0_row_31 : decode cX0_row 31 = .ok (.invokestatic 455, 3) := dk_184 1 199 (dk_at dksX0_row_1 7 rfl rfl)
theorem dX0_row_34 : decode cX0_row 34 = .ok (.aastore, 1) := dk_83 (dk_at dksX0_row_1 10 rfl rfl)
theorem dX0_row_35 : decode cX0_row 35 = .ok (.goto 8, 3) := dk_167 0 8 (dk_at dksX0_row_1 11 rfl rfl)
theorem dX0_row_38 : decode cX0_row 38 = .ok (.astore 4, 2) := dk_58 4 (dk_at dksX0_row_1 14 rfl rfl)
theorem dX0_row_40 : decode cX0_row 40 = .ok (.bipush (-14), 2) := dk_16 242 (dk_at dksX0_row_1 16 rfl rfl)
theorem dX0_row_42 : decode cX0_row 42 = .ok (.ireturn, 1) := dk_172 (dk_at dksX0_row_1 18 rfl rfl)
theorem dX0_row_43 : decode cX0_row 43 = .ok (.iconst 1, 1) := dk_4 (dk_at dksX0_row_1 19 rfl rfl)
theorem dX0_row_44 : decode cX0_row 44 = .ok (.ireturn, 1) := dk_172 (dk_at dksX0_row_1 20 rfl rfl)
def dkwX0_newRow_3 : List UInt8 := [183, 1, 192, 176, 187, 1, 193, 89, 27, 183, 1, 195, 176, 187, 1, 196, 89, 27, 183, 1, 198, 176]
abbrev dktX0_newRow_3 : List UInt8 := dkwX0_newRow_3 ++ []
def dkwX0_newRow_2 : List UInt8 := [187, 0, 101, 89, 27, 183, 1, 186, 176, 187, 1, 187, 89, 27, 183, 1, 189, 176, 187, 1, 190, 89, 27]
abbrev dktX0_newRow_2 : List UInt8 := dkwX0_newRow_2 ++ dktX0_newRow_3
def dkwX0_newRow_1 : List UInt8 := [170, 0, 0, 0, 0, 0, 67, 0, 0, 0, 0, 0, 0, 0, 3, 0, 0, 0, 31, 0, 0, 0, 40, 0, 0, 0, 49, 0, 0, 0, 58]
abbrev dktX0_newRow_1 : List UInt8 := dkwX0_newRow_1 ++ dktX0_newRow_2
def dkwX0_newRow_0 : List UInt8 := [26]
abbrev dktX0_newRow_0 : List UInt8 := dkwX0_newRow_0 ++ dktX0_newRow_1
theorem dksX0_newRow_0 : cX0_newRow.data.toList.drop 0 = dktX0_newRow_0 := by decide +kernel
theorem dksX0_newRow_1 : cX0_newRow.data.toList.drop 1 = dktX0_newRow_1 := dk_seg dksX0_newRow_0 1 rfl rfl
theorem dksX0_newRow_2 : cX0_newRow.data.toList.drop 32 = dktX0_newRow_2 := dk_seg dksX0_newRow_1 31 rfl rfl
theorem dksX0_newRow_3 : cX0_newRow.data.toList.drop 55 = dktX0_newRow_3 := dk_seg dksX0_newRow_2 23 rfl rfl
theorem dX0_newRow_0 : decode cX0_newRow 0 = .ok (.iload_n 0, 1) := dk_26 (dk_at dksX0_newRow_0 0 rfl rfl)
theorem dX0_newRow_1 : decode cX0_newRow 1 = .ok (.tableswitch 67 0 3 #[31, 40, 49, 58], 31) := by decide +kernel
theorem dX0_newRow_32 : decode cX0_newRow 32 = .ok (.new 101, 3) := dk_187 0 101 (dk_at dksX0_newRow_2 0 rfl rfl)
theorem dX0_newRow_35 : decode cX0_newRow 35 = .ok (.dup, 1) := dk_89 (dk_at dksX0_newRow_2 3 rfl rfl)
theorem dX0_newRow_36 : decode cX0_newRow 36 = .ok (.iload_n 1, 1) := dk_27 (dk_at dksX0_newRow_2 4 rfl rfl)
theorem dX0_newRow_37 : decode cX0_newRow 37 = .ok (.invokespecial 442, 3) := dk_183 1 186 (dk_at dksX0_newRow_2 5 rfl rfl)
theorem dX0_newRow_40 : decode cX0_newRow 40 = .ok (.areturn, 1) := dk_176 (dk_at dksX0_newRow_2 8 rfl rfl)
theorem dX0_newRow_41 : decode cX0_newRow 41 = .ok (.new 443, 3) := dk_187 1 187 (dk_at dksX0_newRow_2 9 rfl rfl)
theorem dX0_newRow_44 : decode cX0_newRow 44 = .ok (.dup, 1) := dk_89 (dk_at dksX0_newRow_2 12 rfl rfl)
theorem dX0_newRow_45 : decode cX0_newRow 45 = .ok (.iload_n 1, 1) := dk_27 (dk_at dksX0_newRow_2 13 rfl rfl)
theorem dX0_newRow_46 : decode cX0_newRow 46 = .ok (.invokespecial 445, 3) := dk_183 1 189 (dk_at dksX0_newRow_2 14 rfl rfl)
theorem dX0_newRow_49 : decode cX0_newRow 49 = .ok (.areturn, 1) := dk_176 (dk_at dksX0_newRow_2 17 rfl rfl)
theorem dX0_newRow_50 : decode cX0_newRow 50 = .ok (.new 446, 3) := dk_187 1 190 (dk_at dksX0_newRow_2 18 rfl rfl)
theorem dX0_newRow_53 : decode cX0_newRow 53 = .ok (.dup, 1) := dk_89 (dk_at dksX0_newRow_2 21 rfl rfl)
theorem dX0_newRow_54 : decode cX0_newRow 54 = .ok (.iload_n 1, 1) := dk_27 (dk_at dksX0_newRow_2 22 rfl rfl)
theorem dX0_newRow_55 : decode cX0_newRow 55 = .ok (.invokespecial 448, 3) := dk_183 1 192 (dk_at dksX0_newRow_3 0 rfl rfl)
theorem dX0_newRow_58 : decode cX0_newRow 58 = .ok (.areturn, 1) := dk_176 (dk_at dksX0_newRow_3 3 rfl rfl)
theorem dX0_newRow_59 : decode cX0_newRow 59 = .ok (.new 449, 3) := dk_187 1 193 (dk_at dksX0_newRow_3 4 rfl rfl)
theorem dX0_newRow_62 : decode cX0_newRow 62 = .ok (.dup, 1) := dk_89 (dk_at dksX0_newRow_3 7 rfl rfl)
theorem dX0_newRow_63 : decode cX0_newRow 63 = .ok (.iload_n 1, 1) := dk_27 (dk_at dksX0_newRow_3 8 rfl rfl)
theorem dX0_newRow_64 : decode cX0_newRow 64 = .ok (.invokespecial 451, 3) := dk_183 1 195 (dk_at dksX0_newRow_3 9 rfl rfl)
theorem dX0_newRow_67 : decode cX0_newRow 67 = .ok (.areturn, 1) := dk_176 (dk_at dksX0_newRow_3 12 rfl rfl)
theorem dX0_newRow_68 : decode cX0_newRow 68 = .ok (.new 452, 3) := dk_187 1 196 (dk_at dksX0_newRow_3 13 rfl rfl)
theorem dX0_newRow_71 : decode cX0_newRow 71 = .ok (.dup, 1) := dk_89 (dk_at dksX0_newRow_3 16 rfl rfl)
theorem dX0_newRow_72 : decode cX0_newRow 72 = .ok (.iload_n 1, 1) := dk_27 (dk_at dksX0_newRow_3 17 rfl rfl)
theorem dX0_newRow_73 : decode cX0_newRow 73 = .ok (.invokespecial 454, 3) := dk_183 1 198 (dk_at dksX0_newRow_3 18 rfl rfl)
theorem dX0_newRow_76 : decode cX0_newRow 76 = .ok (.areturn, 1) := dk_176 (dk_at dksX0_newRow_3 21 rfl rfl)
def dkwX0_put_1 : List UInt8 := [153, 0, 7, 4, 167, 0, 4, 2, 172, 58, 5, 16, 245, 172, 58, 5, 16, 244, 172, 58, 5, 16, 243, 172]
abbrev dktX0_put_1 : List UInt8 := dkwX0_put_1 ++ []
def dkwX0_put_0 : List UInt8 := [27, 184, 0, 98, 154, 0, 5, 2, 172, 42, 180, 0, 59, 27, 50, 192, 1, 205, 28, 33, 182, 1, 207]
abbrev dktX0_put_0 : List UInt8 := dkwX0_put_0 ++ dktX0_put_1
theorem dksX0_put_0 : cX0_put.data.toList.drop 0 = dktX0_put_0 := by decide +kernel
theorem dksX0_put_1 : cX0_put.data.toList.drop 23 = dktX0_put_1 := dk_seg dksX0_put_0 23 rfl rfl
theorem dX0_put_0 : decode cX0_put 0 = .ok (.iload_n 1, 1) := dk_27 (dk_at dksX0_put_0 0 rfl rfl)
theorem dX0_put_1 : decode cX0_put 1 = .ok (.invokestatic 98, 3) := dk_184 0 98 (dk_at dksX0_put_0 1 rfl rfl)
theorem dX0_put_4 : decode cX0_put 4 = .ok (.ifCond .ne 5, 3) := dk_154 0 5 (dk_at dksX0_put_0 4 rfl rfl)
theorem dX0_put_7 : decode cX0_put 7 = .ok (.iconst (-1), 1) := dk_2 (dk_at dksX0_put_0 7 rfl rfl)
theorem dX0_put_8 : decode cX0_put 8 = .ok (.ireturn, 1) := dk_172 (dk_at dksX0_put_0 8 rfl rfl)
theorem dX0_put_9 : decode cX0_put 9 = .ok (.aload_n 0, 1) := dk_42 (dk_at dksX0_put_0 9 rfl rfl)
theorem dX0_put_10 : decode cX0_put 10 = .ok (.getfield 59, 3) := dk_180 0 59 (dk_at dksX0_put_0 10 rfl rfl)
theorem dX0_put_13 : decode cX0_put 13 = .ok (.iload_n 1, 1) := dk_27 (dk_at dksX0_put_0 13 rfl rfl)
theorem dX0_put_14 : decode cX0_put 14 = .ok (.aaload, 1) := dk_50 (dk_at dksX0_put_0 14 rfl rfl)
theorem dX0_put_15 : decode cX0_put 15 = .ok (.checkcast 461, 3) := dk_192 1 205 (dk_at dksX0_put_0 15 rfl rfl)
theorem dX0_put_18 : decode cX0_put 18 = .ok (.iload_n 2, 1) := dk_28 (dk_at dksX0_put_0 18 rfl rfl)
theorem dX0_put_19 : decode cX0_put 19 = .ok (.lload_n 3, 1) := dk_33 (dk_at dksX0_put_0 19 rfl rfl)
theorem dX0_put_20 : decode cX0_put 20 = .ok (.invokevirtual 463, 3) := dk_182 1 207 (dk_at dksX0_put_0 20 rfl rfl)
theorem dX0_put_23 : decode cX0_put 23 = .ok (.ifCond .eq 7, 3) := dk_153 0 7 (dk_at dksX0_put_1 0 rfl rfl)
theorem dX0_put_26 : decode cX0_put 26 = .ok (.iconst 1, 1) := dk_4 (dk_at dksX0_put_1 3 rfl rfl)
theorem dX0_put_27 : decode cX0_put 27 = .ok (.goto 4, 3) := dk_167 0 4 (dk_at dksX0_put_1 4 rfl rfl)
theorem dX0_put_30 : decode cX0_put 30 = .ok (.iconst (-1), 1) := dk_2 (dk_at dksX0_put_1 7 rfl rfl)
theorem dX0_put_31 : decode cX0_put 31 = .ok (.ireturn, 1) := dk_172 (dk_at dksX0_put_1 8 rfl rfl)
theorem dX0_put_32 : decode cX0_put 32 = .ok (.astore 5, 2) := dk_58 5 (dk_at dksX0_put_1 9 rfl rfl)
theorem dX0_put_34 : decode cX0_put 34 = .ok (.bipush (-11), 2) := dk_16 245 (dk_at dksX0_put_1 11 rfl rfl)
theorem dX0_put_36 : decode cX0_put 36 = .ok (.ireturn, 1) := dk_172 (dk_at dksX0_put_1 13 rfl rfl)
theorem dX0_put_37 : decode cX0_put 37 = .ok (.astore 5, 2) := dk_58 5 (dk_at dksX0_put_1 14 rfl rfl)
theorem dX0_put_39 : decode cX0_put 39 = .ok (.bipush (-12), 2) := dk_16 244 (dk_at dksX0_put_1 16 rfl rfl)
theorem dX0_put_41 : decode cX0_put 41 = .ok (.ireturn, 1) := dk_172 (dk_at dksX0_put_1 18 rfl rfl)
theorem dX0_put_42 : decode cX0_put 42 = .ok (.astore 5, 2) := dk_58 5 (dk_at dksX0_put_1 19 rfl rfl)
theorem dX0_put_44 : decode cX0_put 44 = .ok (.bipush (-13), 2) := dk_16 243 (dk_at dksX0_put_1 21 rfl rfl)
theorem dX0_put_46 : decode cX0_put 46 = .ok (.ireturn, 1) := dk_172 (dk_at dksX0_put_1 23 rfl rfl)
def dkwX0_element_1 : List UInt8 := [173, 78, 20, 1, 213, 173, 78, 20, 1, 213, 173, 78, 20, 1, 213, 173]
abbrev dktX0_element_1 : List UInt8 := dkwX0_element_1 ++ []
def dkwX0_element_0 : List UInt8 := [27, 184, 0, 98, 154, 0, 7, 20, 1, 213, 173, 42, 180, 0, 59, 27, 50, 192, 1, 205, 28, 182, 1, 215]
abbrev dktX0_element_0 : List UInt8 := dkwX0_element_0 ++ dktX0_element_1
theorem dksX0_element_0 : cX0_element.data.toList.drop 0 = dktX0_element_0 := by decide +kernel
theorem dksX0_element_1 : cX0_element.data.toList.drop 24 = dktX0_element_1 := dk_seg dksX0_element_0 24 rfl rfl
theorem dX0_element_0 : decode cX0_element 0 = .ok (.iload_n 1, 1) := dk_27 (dk_at dksX0_element_0 0 rfl rfl)
theorem dX0_element_1 : decode cX0_element 1 = .ok (.invokestatic 98, 3) := dk_184 0 98 (dk_at dksX0_element_0 1 rfl rfl)
theorem dX0_element_4 : decode cX0_element 4 = .ok (.ifCond .ne 7, 3) := dk_154 0 7 (dk_at dksX0_element_0 4 rfl rfl)
theorem dX0_element_7 : decode cX0_element 7 = .ok (.ldc2_w 469, 3) := dk_20 1 213 (dk_at dksX0_element_0 7 rfl rfl)
theorem dX0_element_10 : decode cX0_element 10 = .ok (.lreturn, 1) := dk_173 (dk_at dksX0_element_0 10 rfl rfl)
theorem dX0_element_11 : decode cX0_element 11 = .ok (.aload_n 0, 1) := dk_42 (dk_at dksX0_element_0 11 rfl rfl)
theorem dX0_element_12 : decode cX0_element 12 = .ok (.getfield 59, 3) := dk_180 0 59 (dk_at dksX0_element_0 12 rfl rfl)
theorem dX0_element_15 : decode cX0_element 15 = .ok (.iload_n 1, 1) := dk_27 (dk_at dksX0_element_0 15 rfl rfl)
theorem dX0_element_16 : decode cX0_element 16 = .ok (.aaload, 1) := dk_50 (dk_at dksX0_element_0 16 rfl rfl)
theorem dX0_element_17 : decode cX0_element 17 = .ok (.checkcast 461, 3) := dk_192 1 205 (dk_at dksX0_element_0 17 rfl rfl)
theorem dX0_element_20 : decode cX0_element 20 = .ok (.iload_n 2, 1) := dk_28 (dk_at dksX0_element_0 20 rfl rfl)
theorem dX0_element_21 : decode cX0_element 21 = .ok (.invokevirtual 471, 3) := dk_182 1 215 (dk_at dksX0_element_0 21 rfl rfl)
theorem dX0_element_24 : decode cX0_element 24 = .ok (.lreturn, 1) := dk_173 (dk_at dksX0_element_1 0 rfl rfl)
theorem dX0_element_25 : decode cX0_element 25 = .ok (.astore_n 3, 1) := dk_78 (dk_at dksX0_element_1 1 rfl rfl)
theorem dX0_element_26 : decode cX0_element 26 = .ok (.ldc2_w 469, 3) := dk_20 1 213 (dk_at dksX0_element_1 2 rfl rfl)
theorem dX0_element_29 : decode cX0_element 29 = .ok (.lreturn, 1) := dk_173 (dk_at dksX0_element_1 5 rfl rfl)
theorem dX0_element_30 : decode cX0_element 30 = .ok (.astore_n 3, 1) := dk_78 (dk_at dksX0_element_1 6 rfl rfl)
theorem dX0_element_31 : decode cX0_element 31 = .ok (.ldc2_w 469, 3) := dk_20 1 213 (dk_at dksX0_element_1 7 rfl rfl)
theorem dX0_element_34 : decode cX0_element 34 = .ok (.lreturn, 1) := dk_173 (dk_at dksX0_element_1 10 rfl rfl)
theorem dX0_element_35 : decode cX0_element 35 = .ok (.astore_n 3, 1) := dk_78 (dk_at dksX0_element_1 11 rfl rfl)
theorem dX0_element_36 : decode cX0_element 36 = .ok (.ldc2_w 469, 3) := dk_20 1 213 (dk_at dksX0_element_1 12 rfl rfl)
theorem dX0_element_39 : decode cX0_element 39 = .ok (.lreturn, 1) := dk_173 (dk_at dksX0_element_1 15 rfl rfl)
def dkwX0_shift_3 : List UInt8 := [172, 58, 6, 16, 243, 172, 21, 5, 172]
abbrev dktX0_shift_3 : List UInt8 := dkwX0_shift_3 ++ []
def dkwX0_shift_2 : List UInt8 := [28, 42, 180, 0, 59, 29, 50, 192, 1, 205, 21, 4, 21, 5, 182, 1, 216, 167, 0, 13, 58, 6, 16, 244]
abbrev dktX0_shift_2 : List UInt8 := dkwX0_shift_2 ++ dktX0_shift_3
def dkwX0_shift_1 : List UInt8 := [198, 0, 12, 42, 180, 0, 59, 29, 50, 199, 0, 6, 16, 245, 172, 42, 180, 0, 59, 27, 50, 192, 1, 205]
abbrev dktX0_shift_1 : List UInt8 := dkwX0_shift_1 ++ dktX0_shift_2
def dkwX0_shift_0 : List UInt8 := [27, 184, 0, 98, 153, 0, 10, 29, 184, 0, 98, 154, 0, 5, 2, 172, 42, 180, 0, 59, 27, 50]
abbrev dktX0_shift_0 : List UInt8 := dkwX0_shift_0 ++ dktX0_shift_1
theorem dksX0_shift_0 : cX0_shift.data.toList.drop 0 = dktX0_shift_0 := by decide +kernel
theorem dksX0_shift_1 : cX0_shift.data.toList.drop 22 = dktX0_shift_1 := dk_seg dksX0_shift_0 22 rfl rfl
theorem dksX0_shift_2 : cX0_shift.data.toList.drop 46 = dktX0_shift_2 := dk_seg dksX0_shift_1 24 rfl rfl
theorem dksX0_shift_3 : cX0_shift.data.toList.drop 70 = dktX0_shift_3 := dk_seg dksX0_shift_2 24 rfl rfl
theorem dX0_shift_0 : decode cX0_shift 0 = .ok (.iload_n 1, 1) := dk_27 (dk_at dksX0_shift_0 0 rfl rfl)
theorem dX0_shift_1 : decode cX0_shift 1 = .ok (.invokestatic 98, 3) := dk_184 0 98 (dk_at dksX0_shift_0 1 rfl rfl)
theorem dX0_shift_4 : decode cX0_shift 4 = .ok (.ifCond .eq 10, 3) := dk_153 0 10 (dk_at dksX0_shift_0 4 rfl rfl)
theorem dX0_shift_7 : decode cX0_shift 7 = .ok (.iload_n 3, 1) := dk_29 (dk_at dksX0_shift_0 7 rfl rfl)
theorem dX0_shift_8 : decode cX0_shift 8 = .ok (.invokestatic 98, 3) := dk_184 0 98 (dk_at dksX0_shift_0 8 rfl rfl)
theorem dX0_shift_11 : decode cX0_shift 11 = .ok (.ifCond .ne 5, 3) := dk_154 0 5 (dk_at dksX0_shift_0 11 rfl rfl)
theorem dX0_shift_14 : decode cX0_shift 14 = .ok (.iconst (-1), 1) := dk_2 (dk_at dksX0_shift_0 14 rfl rfl)
theorem dX0_shift_15 : decode cX0_shift 15 = .ok (.ireturn, 1) := dk_172 (dk_at dksX0_shift_0 15 rfl rfl)
theorem dX0_shift_16 : decode cX0_shift 16 = .ok (.aload_n 0, 1) := dk_42 (dk_at dksX0_shift_0 16 rfl rfl)
theorem dX0_shift_17 : decode cX0_shift 17 = .ok (.getfield 59, 3) := dk_180 0 59 (dk_at dksX0_shift_0 17 rfl rfl)
theorem dX0_shift_20 : decode cX0_shift 20 = .ok (.iload_n 1, 1) := dk_27 (dk_at dksX0_shift_0 20 rfl rfl)
theorem dX0_shift_21 : decode cX0_shift 21 = .ok (.aaload, 1) := dk_50 (dk_at dksX0_shift_0 21 rfl rfl)
theorem dX0_shift_22 : decode cX0_shift 22 = .ok (.ifnull 12, 3) := dk_198 0 12 (dk_at dksX0_shift_1 0 rfl rfl)
theorem dX0_shift_25 : decode cX0_shift 25 = .ok (.aload_n 0, 1) := dk_42 (dk_at dksX0_shift_1 3 rfl rfl)
theorem dX0_shift_26 : decode cX0_shift 26 = .ok (.getfield 59, 3) := dk_180 0 59 (dk_at dksX0_shift_1 4 rfl rfl)
theorem dX0_shift_29 : decode cX0_shift 29 = .ok (.iload_n 3, 1) := dk_29 (dk_at dksX0_shift_1 7 rfl rfl)
theorem dX0_shift_30 : decode cX0_shift 30 = .ok (.aaload, 1) := dk_50 (dk_at dksX0_shift_1 8 rfl rfl)
theorem dX0_shift_31 : decode cX0_shift 31 = .ok (.ifnonnull 6, 3) := dk_199 0 6 (dk_at dksX0_shift_1 9 rfl rfl)
theorem dX0_shift_34 : decode cX0_shift 34 = .ok (.bipush (-11), 2) := dk_16 245 (dk_at dksX0_shift_1 12 rfl rfl)
theorem dX0_shift_36 : decode cX0_shift 36 = .ok (.ireturn, 1) := dk_172 (dk_at dksX0_shift_1 14 rfl rfl)
theorem dX0_shift_37 : decode cX0_shift 37 = .ok (.aload_n 0, 1) := dk_42 (dk_at dksX0_shift_1 15 rfl rfl)
theorem dX0_shift_38 : decode cX0_shift 38 = .ok (.getfield 59, 3) := dk_180 0 59 (dk_at dksX0_shift_1 16 rfl rfl)
theorem dX0_shift_41 : decode cX0_shift 41 = .ok (.iload_n 1, 1) := dk_27 (dk_at dksX0_shift_1 19 rfl rfl)
theorem dX0_shift_42 : decode cX0_shift 42 = .ok (.aaload, 1) := dk_50 (dk_at dksX0_shift_1 20 rfl rfl)
theorem dX0_shift_43 : decode cX0_shift 43 = .ok (.checkcast 461, 3) := dk_192 1 205 (dk_at dksX0_shift_1 21 rfl rfl)
theorem dX0_shift_46 : decode cX0_shift 46 = .ok (.iload_n 2, 1) := dk_28 (dk_at dksX0_shift_2 0 rfl rfl)
theorem dX0_shift_47 : decode cX0_shift 47 = .ok (.aload_n 0, 1) := dk_42 (dk_at dksX0_shift_2 1 rfl rfl)
theorem dX0_shift_48 : decode cX0_shift 48 = .ok (.getfield 59, 3) := dk_180 0 59 (dk_at dksX0_shift_2 2 rfl rfl)
theorem dX0_shift_51 : decode cX0_shift 51 = .ok (.iload_n 3, 1) := dk_29 (dk_at dksX0_shift_2 5 rfl rfl)
theorem dX0_shift_52 : decode cX0_shift 52 = .ok (.aaload, 1) := dk_50 (dk_at dksX0_shift_2 6 rfl rfl)
theorem dX0_shift_53 : decode cX0_shift 53 = .ok (.checkcast 461, 3) := dk_192 1 205 (dk_at dksX0_shift_2 7 rfl rfl)
theorem dX0_shift_56 : decode cX0_shift 56 = .ok (.iload 4, 2) := dk_21 4 (dk_at dksX0_shift_2 10 rfl rfl)
theorem dX0_shift_58 : decode cX0_shift 58 = .ok (.iload 5, 2) := dk_21 5 (dk_at dksX0_shift_2 12 rfl rfl)
theorem dX0_shift_60 : decode cX0_shift 60 = .ok (.invokevirtual 472, 3) := dk_182 1 216 (dk_at dksX0_shift_2 14 rfl rfl)
theorem dX0_shift_63 : decode cX0_shift 63 = .ok (.goto 13, 3) := dk_167 0 13 (dk_at dksX0_shift_2 17 rfl rfl)
theorem dX0_shift_66 : decode cX0_shift 66 = .ok (.astore 6, 2) := dk_58 6 (dk_at dksX0_shift_2 20 rfl rfl)
theorem dX0_shift_68 : decode cX0_shift 68 = .ok (.bipush (-12), 2) := dk_16 244 (dk_at dksX0_shift_2 22 rfl rfl)
theorem dX0_shift_70 : decode cX0_shift 70 = .ok (.ireturn, 1) := dk_172 (dk_at dksX0_shift_3 0 rfl rfl)
theorem dX0_shift_71 : decode cX0_shift 71 = .ok (.astore 6, 2) := dk_58 6 (dk_at dksX0_shift_3 1 rfl rfl)
theorem dX0_shift_73 : decode cX0_shift 73 = .ok (.bipush (-13), 2) := dk_16 243 (dk_at dksX0_shift_3 3 rfl rfl)
theorem dX0_shift_75 : decode cX0_shift 75 = .ok (.ireturn, 1) := dk_172 (dk_at dksX0_shift_3 5 rfl rfl)
theorem dX0_shift_76 : decode cX0_shift 76 = .ok (.iload 5, 2) := dk_21 5 (dk_at dksX0_shift_3 6 rfl rfl)
theorem dX0_shift_78 : decode cX0_shift 78 = .ok (.ireturn, 1) := dk_172 (dk_at dksX0_shift_3 8 rfl rfl)
def dkwX0_taken_2 : List UInt8 := [16, 245, 172, 78, 16, 244, 172]
abbrev dktX0_taken_2 : List UInt8 := dkwX0_taken_2 ++ []
def dkwX0_taken_1 : List UInt8 := [50, 192, 0, 51, 78, 45, 28, 182, 1, 220, 153, 0, 10, 45, 182, 1, 223, 167, 0, 5, 16, 244, 172, 78]
abbrev dktX0_taken_1 : List UInt8 := dkwX0_taken_1 ++ dktX0_taken_2
def dkwX0_taken_0 : List UInt8 := [27, 184, 0, 98, 153, 0, 13, 28, 3, 16, 7, 184, 0, 67, 154, 0, 5, 2, 172, 42, 180, 0, 59, 27]
abbrev dktX0_taken_0 : List UInt8 := dkwX0_taken_0 ++ dktX0_taken_1
theorem dksX0_taken_0 : cX0_taken.data.toList.drop 0 = dktX0_taken_0 := by decide +kernel
theorem dksX0_taken_1 : cX0_taken.data.toList.drop 24 = dktX0_taken_1 := dk_seg dksX0_taken_0 24 rfl rfl
theorem dksX0_taken_2 : cX0_taken.data.toList.drop 48 = dktX0_taken_2 := dk_seg dksX0_taken_1 24 rfl rfl
theorem dX0_taken_0 : decode cX0_taken 0 = .ok (.iload_n 1, 1) := dk_27 (dk_at dksX0_taken_0 0 rfl rfl)
theorem dX0_taken_1 : decode cX0_taken 1 = .ok (.invokestatic 98, 3) := dk_184 0 98 (dk_at dksX0_taken_0 1 rfl rfl)
theorem dX0_taken_4 : decode cX0_taken 4 = .ok (.ifCond .eq 13, 3) := dk_153 0 13 (dk_at dksX0_taken_0 4 rfl rfl)
theorem dX0_taken_7 : decode cX0_taken 7 = .ok (.iload_n 2, 1) := dk_28 (dk_at dksX0_taken_0 7 rfl rfl)
theorem dX0_taken_8 : decode cX0_taken 8 = .ok (.iconst 0, 1) := dk_3 (dk_at dksX0_taken_0 8 rfl rfl)
theorem dX0_taken_9 : decode cX0_taken 9 = .ok (.bipush 7, 2) := dk_16 7 (dk_at dksX0_taken_0 9 rfl rfl)
theorem dX0_taken_11 : decode cX0_taken 11 = .ok (.invokestatic 67, 3) := dk_184 0 67 (dk_at dksX0_taken_0 11 rfl rfl)
theorem dX0_taken_14 : decode cX0_taken 14 = .ok (.ifCond .ne 5, 3) := dk_154 0 5 (dk_at dksX0_taken_0 14 rfl rfl)
theorem dX0_taken_17 : decode cX0_taken 17 = .ok (.iconst (-1), 1) := dk_2 (dk_at dksX0_taken_0 17 rfl rfl)
theorem dX0_taken_18 : decode cX0_taken 18 = .ok (.ireturn, 1) := dk_172 (dk_at dksX0_taken_0 18 rfl rfl)
theorem dX0_taken_19 : decode cX0_taken 19 = .ok (.aload_n 0, 1) := dk_42 (dk_at dksX0_taken_0 19 rfl rfl)
theorem dX0_taken_20 : decode cX0_taken 20 = .ok (.getfield 59, 3) := dk_180 0 59 (dk_at dksX0_taken_0 20 rfl rfl)
theorem dX0_taken_23 : decode cX0_taken 23 = .ok (.iload_n 1, 1) := dk_27 (dk_at dksX0_taken_0 23 rfl rfl)
theorem dX0_taken_24 : decode cX0_taken 24 = .ok (.aaload, 1) := dk_50 (dk_at dksX0_taken_1 0 rfl rfl)
theorem dX0_taken_25 : decode cX0_taken 25 = .ok (.checkcast 51, 3) := dk_192 0 51 (dk_at dksX0_taken_1 1 rfl rfl)
theorem dX0_taken_28 : decode cX0_taken 28 = .ok (.astore_n 3, 1) := dk_78 (dk_at dksX0_taken_1 4 rfl rfl)
theorem dX0_taken_29 : decode cX0_taken 29 = .ok (.aload_n 3, 1) := dk_45 (dk_at dksX0_taken_1 5 rfl rfl)
theorem dX0_taken_30 : decode cX0_taken 30 = .ok (.iload_n 2, 1) := dk_28 (dk_at dksX0_taken_1 6 rfl rfl)
theorem dX0_taken_31 : decode cX0_taken 31 = .ok (.invokevirtual 476, 3) := dk_182 1 220 (dk_at dksX0_taken_1 7 rfl rfl)
theorem dX0_taken_34 : decode cX0_taken 34 = .ok (.ifCond .eq 10, 3) := dk_153 0 10 (dk_at dksX0_taken_1 10 rfl rfl)
theorem dX0_taken_37 : decode cX0_taken 37 = .ok (.aload_n 3, 1) := dk_45 (dk_at dksX0_taken_1 13 rfl rfl)
theorem dX0_taken_38 : decode cX0_taken 38 = .ok (.invokevirtual 479, 3) := dk_182 1 223 (dk_at dksX0_taken_1 14 rfl rfl)
theorem dX0_taken_41 : decode cX0_taken 41 = .ok (.goto 5, 3) := dk_167 0 5 (dk_at dksX0_taken_1 17 rfl rfl)
theorem dX0_taken_44 : decode cX0_taken 44 = .ok (.bipush (-12), 2) := dk_16 244 (dk_at dksX0_taken_1 20 rfl rfl)
theorem dX0_taken_46 : decode cX0_taken 46 = .ok (.ireturn, 1) := dk_172 (dk_at dksX0_taken_1 22 rfl rfl)
theorem dX0_taken_47 : decode cX0_taken 47 = .ok (.astore_n 3, 1) := dk_78 (dk_at dksX0_taken_1 23 rfl rfl)
theorem dX0_taken_48 : decode cX0_taken 48 = .ok (.bipush (-11), 2) := dk_16 245 (dk_at dksX0_taken_2 0 rfl rfl)
theorem dX0_taken_50 : decode cX0_taken 50 = .ok (.ireturn, 1) := dk_172 (dk_at dksX0_taken_2 2 rfl rfl)
theorem dX0_taken_51 : decode cX0_taken 51 = .ok (.astore_n 3, 1) := dk_78 (dk_at dksX0_taken_2 3 rfl rfl)
theorem dX0_taken_52 : decode cX0_taken 52 = .ok (.bipush (-12), 2) := dk_16 244 (dk_at dksX0_taken_2 4 rfl rfl)
theorem dX0_taken_54 : decode cX0_taken 54 = .ok (.ireturn, 1) := dk_172 (dk_at dksX0_taken_2 6 rfl rfl)
def dkwX0_count_3 : List UInt8 := [172, 42, 180, 1, 133, 172, 2, 172]
abbrev dktX0_count_3 : List UInt8 := dkwX0_count_3 ++ []
def dkwX0_count_2 : List UInt8 := [42, 180, 0, 63, 172, 42, 180, 0, 71, 172, 42, 180, 0, 179, 172, 42, 180, 0, 134, 172, 42, 180, 1, 136]
abbrev dktX0_count_2 : List UInt8 := dkwX0_count_2 ++ dktX0_count_3
def dkwX0_count_1 : List UInt8 := [170, 0, 0, 0, 0, 0, 69, 0, 0, 0, 0, 0, 0, 0, 5, 0, 0, 0, 39, 0, 0, 0, 44, 0, 0, 0, 49, 0, 0, 0, 54, 0, 0, 0, 59, 0, 0, 0, 64]
abbrev dktX0_count_1 : List UInt8 := dkwX0_count_1 ++ dktX0_count_2
def dkwX0_count_0 : List UInt8 := [27]
abbrev dktX0_count_0 : List UInt8 := dkwX0_count_0 ++ dktX0_count_1
theorem dksX0_count_0 : cX0_count.data.toList.drop 0 = dktX0_count_0 := by decide +kernel
theorem dksX0_count_1 : cX0_count.data.toList.drop 1 = dktX0_count_1 := dk_seg dksX0_count_0 1 rfl rfl
theorem dksX0_count_2 : cX0_count.data.toList.drop 40 = dktX0_count_2 := dk_seg dksX0_count_1 39 rfl rfl
theorem dksX0_count_3 : cX0_count.data.toList.drop 64 = dktX0_count_3 := dk_seg dksX0_count_2 24 rfl rfl
theorem dX0_count_0 : decode cX0_count 0 = .ok (.iload_n 1, 1) := dk_27 (dk_at dksX0_count_0 0 rfl rfl)
theorem dX0_count_1 : decode cX0_count 1 = .ok (.tableswitch 69 0 5 #[39, 44, 49, 54, 59, 64], 39) := by decide +kernel
theorem dX0_count_40 : decode cX0_count 40 = .ok (.aload_n 0, 1) := dk_42 (dk_at dksX0_count_2 0 rfl rfl)
theorem dX0_count_41 : decode cX0_count 41 = .ok (.getfield 63, 3) := dk_180 0 63 (dk_at dksX0_count_2 1 rfl rfl)
theorem dX0_count_44 : decode cX0_count 44 = .ok (.ireturn, 1) := dk_172 (dk_at dksX0_count_2 4 rfl rfl)
theorem dX0_count_45 : decode cX0_count 45 = .ok (.aload_n 0, 1) := dk_42 (dk_at dksX0_count_2 5 rfl rfl)
theorem dX0_count_46 : decode cX0_count 46 = .ok (.getfield 71, 3) := dk_180 0 71 (dk_at dksX0_count_2 6 rfl rfl)
theorem dX0_count_49 : decode cX0_count 49 = .ok (.ireturn, 1) := dk_172 (dk_at dksX0_count_2 9 rfl rfl)
theorem dX0_count_50 : decode cX0_count 50 = .ok (.aload_n 0, 1) := dk_42 (dk_at dksX0_count_2 10 rfl rfl)
theorem dX0_count_51 : decode cX0_count 51 = .ok (.getfield 179, 3) := dk_180 0 179 (dk_at dksX0_count_2 11 rfl rfl)
theorem dX0_count_54 : decode cX0_count 54 = .ok (.ireturn, 1) := dk_172 (dk_at dksX0_count_2 14 rfl rfl)
theorem dX0_count_55 : decode cX0_count 55 = .ok (.aload_n 0, 1) := dk_42 (dk_at dksX0_count_2 15 rfl rfl)
theorem dX0_count_56 : decode cX0_count 56 = .ok (.getfield 134, 3) := dk_180 0 134 (dk_at dksX0_count_2 16 rfl rfl)
theorem dX0_count_59 : decode cX0_count 59 = .ok (.ireturn, 1) := dk_172 (dk_at dksX0_count_2 19 rfl rfl)
theorem dX0_count_60 : decode cX0_count 60 = .ok (.aload_n 0, 1) := dk_42 (dk_at dksX0_count_2 20 rfl rfl)
theorem dX0_count_61 : decode cX0_count 61 = .ok (.getfield 392, 3) := dk_180 1 136 (dk_at dksX0_count_2 21 rfl rfl)
theorem dX0_count_64 : decode cX0_count 64 = .ok (.ireturn, 1) := dk_172 (dk_at dksX0_count_3 0 rfl rfl)
theorem dX0_count_65 : decode cX0_count 65 = .ok (.aload_n 0, 1) := dk_42 (dk_at dksX0_count_3 1 rfl rfl)
theorem dX0_count_66 : decode cX0_count 66 = .ok (.getfield 389, 3) := dk_180 1 133 (dk_at dksX0_count_3 2 rfl rfl)
theorem dX0_count_69 : decode cX0_count 69 = .ok (.ireturn, 1) := dk_172 (dk_at dksX0_count_3 5 rfl rfl)
theorem dX0_count_70 : decode cX0_count 70 = .ok (.iconst (-1), 1) := dk_2 (dk_at dksX0_count_3 6 rfl rfl)
theorem dX0_count_71 : decode cX0_count 71 = .ok (.ireturn, 1) := dk_172 (dk_at dksX0_count_3 7 rfl rfl)
