/-! SoleraCellar$Reader -/
set_option maxRecDepth 100000
def RX6 : String := "SoleraCellar$Reader"
abbrev cX6_init : ByteArray := prog_13_method_1_code
def yX6_init : MethodName := ⟨RX6, "<init>", "([BI)V"⟩
def dkwX6_init_0 : List UInt8 := [42, 183, 0, 3, 42, 43, 181, 0, 9, 42, 28, 181, 0, 15, 177]
abbrev dktX6_init_0 : List UInt8 := dkwX6_init_0 ++ []
theorem dksX6_init_0 : cX6_init.data.toList.drop 0 = dktX6_init_0 := by decide +kernel
theorem dX6_init_0 : decode cX6_init 0 = .ok (.aload_n 0, 1) := dk_42 (dk_at dksX6_init_0 0 rfl rfl)
theorem dX6_init_1 : decode cX6_init 1 = .ok (.invokespecial 3, 3) := dk_183 0 3 (dk_at dksX6_init_0 1 rfl rfl)
theorem dX6_init_4 : decode cX6_init 4 = .ok (.aload_n 0, 1) := dk_42 (dk_at dksX6_init_0 4 rfl rfl)
theorem dX6_init_5 : decode cX6_init 5 = .ok (.aload_n 1, 1) := dk_43 (dk_at dksX6_init_0 5 rfl rfl)
theorem dX6_init_6 : decode cX6_init 6 = .ok (.putfield 9, 3) := dk_181 0 9 (dk_at dksX6_init_0 6 rfl rfl)
theorem dX6_init_9 : decode cX6_init 9 = .ok (.aload_n 0, 1) := dk_42 (dk_at dksX6_init_0 9 rfl rfl)
theorem dX6_init_10 : decode cX6_init 10 = .ok (.iload_n 2, 1) := dk_28 (dk_at dksX6_init_0 10 rfl rfl)
theorem dX6_init_11 : decode cX6_init 11 = .ok (.putfield 15, 3) := dk_181 0 15 (dk_at dksX6_init_0 11 rfl rfl)
theorem dX6_init_14 : decode cX6_init 14 = .ok (.return_, 1) := dk_177 (dk_at dksX6_init_0 14 rfl rfl)
abbrev cX6_read : ByteArray := prog_13_method_10_code
def yX6_read : MethodName := ⟨RX6, "read", "()V"⟩
def dkwX6_read_1 : List UInt8 := [42, 180, 0, 22, 42, 180, 0, 15, 162, 0, 15, 187, 0, 49, 89, 42, 180, 0, 22, 183, 0, 51, 191, 177]
abbrev dktX6_read_1 : List UInt8 := dkwX6_read_1 ++ []
def dkwX6_read_0 : List UInt8 := [42, 182, 0, 43, 42, 182, 0, 54, 42, 18, 57, 182, 0, 46, 153, 0, 10, 42, 182, 0, 54, 167, 255, 243]
abbrev dktX6_read_0 : List UInt8 := dkwX6_read_0 ++ dktX6_read_1
theorem dksX6_read_0 : cX6_read.data.toList.drop 0 = dktX6_read_0 := by decide +kernel
theorem dksX6_read_1 : cX6_read.data.toList.drop 24 = dktX6_read_1 := dk_seg dksX6_read_0 24 rfl rfl
theorem dX6_read_0 : decode cX6_read 0 = .ok (.aload_n 0, 1) := dk_42 (dk_at dksX6_read_0 0 rfl rfl)
theorem dX6_read_1 : decode cX6_read 1 = .ok (.invokevirtual 43, 3) := dk_182 0 43 (dk_at dksX6_read_0 1 rfl rfl)
theorem dX6_read_4 : decode cX6_read 4 = .ok (.aload_n 0, 1) := dk_42 (dk_at dksX6_read_0 4 rfl rfl)
theorem dX6_read_5 : decode cX6_read 5 = .ok (.invokevirtual 54, 3) := dk_182 0 54 (dk_at dksX6_read_0 5 rfl rfl)
theorem dX6_read_8 : decode cX6_read 8 = .ok (.aload_n 0, 1) := dk_42 (dk_at dksX6_read_0 8 rfl rfl)
theorem dX6_read_9 : decode cX6_read 9 = .ok (.ldc 57, 2) := dk_18 57 (dk_at dksX6_read_0 9 rfl rfl)
theorem dX6_read_11 : decode cX6_read 11 = .ok (.invokevirtual 46, 3) := dk_182 0 46 (dk_at dksX6_read_0 11 rfl rfl)
theorem dX6_read_14 : decode cX6_read 14 = .ok (.ifCond .eq 10, 3) := dk_153 0 10 (dk_at dksX6_read_0 14 rfl rfl)
theorem dX6_read_17 : decode cX6_read 17 = .ok (.aload_n 0, 1) := dk_42 (dk_at dksX6_read_0 17 rfl rfl)
theorem dX6_read_18 : decode cX6_read 18 = .ok (.invokevirtual 54, 3) := dk_182 0 54 (dk_at dksX6_read_0 18 rfl rfl)
theorem dX6_read_21 : decode cX6_read 21 = .ok (.goto (-13), 3) := dk_167 255 243 (dk_at dksX6_read_0 21 rfl rfl)
theorem dX6_read_24 : decode cX6_read 24 = .ok (.aload_n 0, 1) := dk_42 (dk_at dksX6_read_1 0 rfl rfl)
theorem dX6_read_25 : decode cX6_read 25 = .ok (.getfield 22, 3) := dk_180 0 22 (dk_at dksX6_read_1 1 rfl rfl)
theorem dX6_read_28 : decode cX6_read 28 = .ok (.aload_n 0, 1) := dk_42 (dk_at dksX6_read_1 4 rfl rfl)
theorem dX6_read_29 : decode cX6_read 29 = .ok (.getfield 15, 3) := dk_180 0 15 (dk_at dksX6_read_1 5 rfl rfl)
theorem dX6_read_32 : decode cX6_read 32 = .ok (.if_icmp .ge 15, 3) := dk_162 0 15 (dk_at dksX6_read_1 8 rfl rfl)
theorem dX6_read_35 : decode cX6_read 35 = .ok (.new 49, 3) := dk_187 0 49 (dk_at dksX6_read_1 11 rfl rfl)
theorem dX6_read_38 : decode cX6_read 38 = .ok (.dup, 1) := dk_89 (dk_at dksX6_read_1 14 rfl rfl)
theorem dX6_read_39 : decode cX6_read 39 = .ok (.aload_n 0, 1) := dk_42 (dk_at dksX6_read_1 15 rfl rfl)
theorem dX6_read_40 : decode cX6_read 40 = .ok (.getfield 22, 3) := dk_180 0 22 (dk_at dksX6_read_1 16 rfl rfl)
theorem dX6_read_43 : decode cX6_read 43 = .ok (.invokespecial 51, 3) := dk_183 0 51 (dk_at dksX6_read_1 19 rfl rfl)
theorem dX6_read_46 : decode cX6_read 46 = .ok (.athrow, 1) := dk_191 (dk_at dksX6_read_1 22 rfl rfl)
theorem dX6_read_47 : decode cX6_read 47 = .ok (.return_, 1) := dk_177 (dk_at dksX6_read_1 23 rfl rfl)
abbrev cX6_next : ByteArray := prog_13_method_3_code
def yX6_next : MethodName := ⟨RX6, "next", "()V"⟩
def dkwX6_next_6 : List UInt8 := [162, 0, 13, 42, 89, 180, 0, 19, 4, 96, 181, 0, 19, 177]
abbrev dktX6_next_6 : List UInt8 := dkwX6_next_6 ++ []
def dkwX6_next_5 : List UInt8 := [153, 0, 37, 42, 89, 180, 0, 19, 4, 96, 181, 0, 19, 167, 255, 231, 42, 180, 0, 22, 42, 180, 0, 15]
abbrev dktX6_next_5 : List UInt8 := dkwX6_next_5 ++ dktX6_next_6
def dkwX6_next_4 : List UInt8 := [16, 48, 16, 57, 182, 0, 25, 153, 0, 31, 42, 42, 180, 0, 19, 16, 48, 16, 57, 182, 0, 25]
abbrev dktX6_next_4 : List UInt8 := dkwX6_next_4 ++ dktX6_next_5
def dkwX6_next_3 : List UInt8 := [182, 0, 25, 153, 0, 80, 42, 89, 180, 0, 19, 4, 96, 181, 0, 19, 167, 255, 231, 42, 42, 180, 0, 22]
abbrev dktX6_next_3 : List UInt8 := dkwX6_next_3 ++ dktX6_next_4
def dkwX6_next_2 : List UInt8 := [180, 0, 22, 16, 97, 16, 122, 182, 0, 25, 153, 0, 31, 42, 42, 180, 0, 19, 16, 97, 16, 122]
abbrev dktX6_next_2 : List UInt8 := dkwX6_next_2 ++ dktX6_next_3
def dkwX6_next_1 : List UInt8 := [89, 180, 0, 22, 4, 96, 181, 0, 22, 167, 255, 231, 42, 42, 180, 0, 22, 181, 0, 19, 42, 42]
abbrev dktX6_next_1 : List UInt8 := dkwX6_next_1 ++ dktX6_next_2
def dkwX6_next_0 : List UInt8 := [42, 42, 180, 0, 19, 181, 0, 22, 42, 42, 180, 0, 22, 16, 32, 16, 32, 182, 0, 25, 153, 0, 16, 42]
abbrev dktX6_next_0 : List UInt8 := dkwX6_next_0 ++ dktX6_next_1
theorem dksX6_next_0 : cX6_next.data.toList.drop 0 = dktX6_next_0 := by decide +kernel
theorem dksX6_next_1 : cX6_next.data.toList.drop 24 = dktX6_next_1 := dk_seg dksX6_next_0 24 rfl rfl
theorem dksX6_next_2 : cX6_next.data.toList.drop 46 = dktX6_next_2 := dk_seg dksX6_next_1 22 rfl rfl
theorem dksX6_next_3 : cX6_next.data.toList.drop 68 = dktX6_next_3 := dk_seg dksX6_next_2 22 rfl rfl
theorem dksX6_next_4 : cX6_next.data.toList.drop 92 = dktX6_next_4 := dk_seg dksX6_next_3 24 rfl rfl
theorem dksX6_next_5 : cX6_next.data.toList.drop 114 = dktX6_next_5 := dk_seg dksX6_next_4 22 rfl rfl
theorem dksX6_next_6 : cX6_next.data.toList.drop 138 = dktX6_next_6 := dk_seg dksX6_next_5 24 rfl rfl
theorem dX6_next_0 : decode cX6_next 0 = .ok (.aload_n 0, 1) := dk_42 (dk_at dksX6_next_0 0 rfl rfl)
theorem dX6_next_1 : decode cX6_next 1 = .ok (.aload_n 0, 1) := dk_42 (dk_at dksX6_next_0 1 rfl rfl)
theorem dX6_next_2 : decode cX6_next 2 = .ok (.getfield 19, 3) := dk_180 0 19 (dk_at dksX6_next_0 2 rfl rfl)
theorem dX6_next_5 : decode cX6_next 5 = .ok (.putfield 22, 3) := dk_181 0 22 (dk_at dksX6_next_0 5 rfl rfl)
theorem dX6_next_8 : decode cX6_next 8 = .ok (.aload_n 0, 1) := dk_42 (dk_at dksX6_next_0 8 rfl rfl)
theorem dX6_next_9 : decode cX6_next 9 = .ok (.aload_n 0, 1) := dk_42 (dk_at dksX6_next_0 9 rfl rfl)
theorem dX6_next_10 : decode cX6_next 10 = .ok (.getfield 22, 3) := dk_180 0 22 (dk_at dksX6_next_0 10 rfl rfl)
theorem dX6_next_13 : decode cX6_next 13 = .ok (.bipush 32, 2) := dk_16 32 (dk_at dksX6_next_0 13 rfl rfl)
theorem dX6_next_15 : decode cX6_next 15 = .ok (.bipush 32, 2) := dk_16 32 (dk_at dksX6_next_0 15 rfl rfl)
theorem dX6_next_17 : decode cX6_next 17 = .ok (.invokevirtual 25, 3) := dk_182 0 25 (dk_at dksX6_next_0 17 rfl rfl)
theorem dX6_next_20 : decode cX6_next 20 = .ok (.ifCond .eq 16, 3) := dk_153 0 16 (dk_at dksX6_next_0 20 rfl rfl)
theorem dX6_next_23 : decode cX6_next 23 = .ok (.aload_n 0, 1) := dk_42 (dk_at dksX6_next_0 23 rfl rfl)
theorem dX6_next_24 : decode cX6_next 24 = .ok (.dup, 1) := dk_89 (dk_at dksX6_next_1 0 rfl rfl)
theorem dX6_next_25 : decode cX6_next 25 = .ok (.getfield 22, 3) := dk_180 0 22 (dk_at dksX6_next_1 1 rfl rfl)
theorem dX6_next_28 : decode cX6_next 28 = .ok (.iconst 1, 1) := dk_4 (dk_at dksX6_next_1 4 rfl rfl)
theorem dX6_next_29 : decode cX6_next 29 = .ok (.iadd, 1) := dk_96 (dk_at dksX6_next_1 5 rfl rfl)
theorem dX6_next_30 : decode cX6_next 30 = .ok (.putfield 22, 3) := dk_181 0 22 (dk_at dksX6_next_1 6 rfl rfl)
theorem dX6_next_33 : decode cX6_next 33 = .ok (.goto (-25), 3) := dk_167 255 231 (dk_at dksX6_next_1 9 rfl rfl)
theorem dX6_next_36 : decode cX6_next 36 = .ok (.aload_n 0, 1) := dk_42 (dk_at dksX6_next_1 12 rfl rfl)
theorem dX6_next_37 : decode cX6_next 37 = .ok (.aload_n 0, 1) := dk_42 (dk_at dksX6_next_1 13 rfl rfl)
theorem dX6_next_38 : decode cX6_next 38 = .ok (.getfield 22, 3) := dk_180 0 22 (dk_at dksX6_next_1 14 rfl rfl)
theorem dX6_next_41 : decode cX6_next 41 = .ok (.putfield 19, 3) := dk_181 0 19 (dk_at dksX6_next_1 17 rfl rfl)
theorem dX6_next_44 : decode cX6_next 44 = .ok (.aload_n 0, 1) := dk_42 (dk_at dksX6_next_1 20 rfl rfl)
theorem dX6_next_45 : decode cX6_next 45 = .ok (.aload_n 0, 1) := dk_42 (dk_at dksX6_next_1 21 rfl rfl)
theorem dX6_next_46 : decode cX6_next 46 = .ok (.getfield 22, 3) := dk_180 0 22 (dk_at dksX6_next_2 0 rfl rfl)
theorem dX6_next_49 : decode cX6_next 49 = .ok (.bipush 97, 2) := dk_16 97 (dk_at dksX6_next_2 3 rfl rfl)
theorem dX6_next_51 : decode cX6_next 51 = .ok (.bipush 122, 2) := dk_16 122 (dk_at dksX6_next_2 5 rfl rfl)
theorem dX6_next_53 : decode cX6_next 53 = .ok (.invokevirtual 25, 3) := dk_182 0 25 (dk_at dksX6_next_2 7 rfl rfl)
theorem dX6_next_56 : decode cX6_next 56 = .ok (.ifCond .eq 31, 3) := dk_153 0 31 (dk_at dksX6_next_2 10 rfl rfl)
theorem dX6_next_59 : decode cX6_next 59 = .ok (.aload_n 0, 1) := dk_42 (dk_at dksX6_next_2 13 rfl rfl)
theorem dX6_next_60 : decode cX6_next 60 = .ok (.aload_n 0, 1) := dk_42 (dk_at dksX6_next_2 14 rfl rfl)
theorem dX6_next_61 : decode cX6_next 61 = .ok (.getfield 19, 3) := dk_180 0 19 (dk_at dksX6_next_2 15 rfl rfl)
theorem dX6_next_64 : decode cX6_next 64 = .ok (.bipush 97, 2) := dk_16 97 (dk_at dksX6_next_2 18 rfl rfl)
theorem dX6_next_66 : decode cX6_next 66 = .ok (.bipush 122, 2) := dk_16 122 (dk_at dksX6_next_2 20 rfl rfl)
theorem dX6_next_68 : decode cX6_next 68 = .ok (.invokevirtual 25, 3) := dk_182 0 25 (dk_at dksX6_next_3 0 rfl rfl)
theorem dX6_next_71 : decode cX6_next 71 = .ok (.ifCond .eq 80, 3) := dk_153 0 80 (dk_at dksX6_next_3 3 rfl rfl)
theorem dX6_next_74 : decode cX6_next 74 = .ok (.aload_n 0, 1) := dk_42 (dk_at dksX6_next_3 6 rfl rfl)
theorem dX6_next_75 : decode cX6_next 75 = .ok (.dup, 1) := dk_89 (dk_at dksX6_next_3 7 rfl rfl)
theorem dX6_next_76 : decode cX6_next 76 = .ok (.getfield 19, 3) := dk_180 0 19 (dk_at dksX6_next_3 8 rfl rfl)
theorem dX6_next_79 : decode cX6_next 79 = .ok (.iconst 1, 1) := dk_4 (dk_at dksX6_next_3 11 rfl rfl)
theorem dX6_next_80 : decode cX6_next 80 = .ok (.iadd, 1) := dk_96 (dk_at dksX6_next_3 12 rfl rfl)
theorem dX6_next_81 : decode cX6_next 81 = .ok (.putfield 19, 3) := dk_181 0 19 (dk_at dksX6_next_3 13 rfl rfl)
theorem dX6_next_84 : decode cX6_next 84 = .ok (.goto (-25), 3) := dk_167 255 231 (dk_at dksX6_next_3 16 rfl rfl)
theorem dX6_next_87 : decode cX6_next 87 = .ok (.aload_n 0, 1) := dk_42 (dk_at dksX6_next_3 19 rfl rfl)
theorem dX6_next_88 : decode cX6_next 88 = .ok (.aload_n 0, 1) := dk_42 (dk_at dksX6_next_3 20 rfl rfl)
theorem dX6_next_89 : decode cX6_next 89 = .ok (.getfield 22, 3) := dk_180 0 22 (dk_at dksX6_next_3 21 rfl rfl)
theorem dX6_next_92 : decode cX6_next 92 = .ok (.bipush 48, 2) := dk_16 48 (dk_at dksX6_next_4 0 rfl rfl)
theorem dX6_next_94 : decode cX6_next 94 = .ok (.bipush 57, 2) := dk_16 57 (dk_at dksX6_next_4 2 rfl rfl)
theorem dX6_next_96 : decode cX6_next 96 = .ok (.invokevirtual 25, 3) := dk_182 0 25 (dk_at dksX6_next_4 4 rfl rfl)
theorem dX6_next_99 : decode cX6_next 99 = .ok (.ifCond .eq 31, 3) := dk_153 0 31 (dk_at dksX6_next_4 7 rfl rfl)
theorem dX6_next_102 : decode cX6_next 102 = .ok (.aload_n 0, 1) := dk_42 (dk_at dksX6_next_4 10 rfl rfl)
theorem dX6_next_103 : decode cX6_next 103 = .ok (.aload_n 0, 1) := dk_42 (dk_at dksX6_next_4 11 rfl rfl)
theorem dX6_next_104 : decode cX6_next 104 = .ok (.getfield 19, 3) := dk_180 0 19 (dk_at dksX6_next_4 12 rfl rfl)
theorem dX6_next_107 : decode cX6_next 107 = .ok (.bipush 48, 2) := dk_16 48 (dk_at dksX6_next_4 15 rfl rfl)
theorem dX6_next_109 : decode cX6_next 109 = .ok (.bipush 57, 2) := dk_16 57 (dk_at dksX6_next_4 17 rfl rfl)
theorem dX6_next_111 : decode cX6_next 111 = .ok (.invokevirtual 25, 3) := dk_182 0 25 (dk_at dksX6_next_4 19 rfl rfl)
theorem dX6_next_114 : decode cX6_next 114 = .ok (.ifCond .eq 37, 3) := dk_153 0 37 (dk_at dksX6_next_5 0 rfl rfl)
theorem dX6_next_117 : decode cX6_next 117 = .ok (.aload_n 0, 1) := dk_42 (dk_at dksX6_next_5 3 rfl rfl)
theorem dX6_next_118 : decode cX6_next 118 = .ok (.dup, 1) := dk_89 (dk_at dksX6_next_5 4 rfl rfl)
theorem dX6_next_119 : decode cX6_next 119 = .ok (.getfield 19, 3) := dk_180 0 19 (dk_at dksX6_next_5 5 rfl rfl)
theorem dX6_next_122 : decode cX6_next 122 = .ok (.iconst 1, 1) := dk_4 (dk_at dksX6_next_5 8 rfl rfl)
theorem dX6_next_123 : decode cX6_next 123 = .ok (.iadd, 1) := dk_96 (dk_at dksX6_next_5 9 rfl rfl)
theorem dX6_next_124 : decode cX6_next 124 = .ok (.putfield 19, 3) := dk_181 0 19 (dk_at dksX6_next_5 10 rfl rfl)
theorem dX6_next_127 : decode cX6_next 127 = .ok (.goto (-25), 3) := dk_167 255 231 (dk_at dksX6_next_5 13 rfl rfl)
theorem dX6_next_130 : decode cX6_next 130 = .ok (.aload_n 0, 1) := dk_42 (dk_at dksX6_next_5 16 rfl rfl)
theorem dX6_next_131 : decode cX6_next 131 = .ok (.getfield 22, 3) := dk_180 0 22 (dk_at dksX6_next_5 17 rfl rfl)
theorem dX6_next_134 : decode cX6_next 134 = .ok (.aload_n 0, 1) := dk_42 (dk_at dksX6_next_5 20 rfl rfl)
theorem dX6_next_135 : decode cX6_next 135 = .ok (.getfield 15, 3) := dk_180 0 15 (dk_at dksX6_next_5 21 rfl rfl)
theorem dX6_next_138 : decode cX6_next 138 = .ok (.if_icmp .ge 13, 3) := dk_162 0 13 (dk_at dksX6_next_6 0 rfl rfl)
theorem dX6_next_141 : decode cX6_next 141 = .ok (.aload_n 0, 1) := dk_42 (dk_at dksX6_next_6 3 rfl rfl)
theorem dX6_next_142 : decode cX6_next 142 = .ok (.dup, 1) := dk_89 (dk_at dksX6_next_6 4 rfl rfl)
theorem dX6_next_143 : decode cX6_next 143 = .ok (.getfield 19, 3) := dk_180 0 19 (dk_at dksX6_next_6 5 rfl rfl)
theorem dX6_next_146 : decode cX6_next 146 = .ok (.iconst 1, 1) := dk_4 (dk_at dksX6_next_6 8 rfl rfl)
theorem dX6_next_147 : decode cX6_next 147 = .ok (.iadd, 1) := dk_96 (dk_at dksX6_next_6 9 rfl rfl)
theorem dX6_next_148 : decode cX6_next 148 = .ok (.putfield 19, 3) := dk_181 0 19 (dk_at dksX6_next_6 10 rfl rfl)
theorem dX6_next_151 : decode cX6_next 151 = .ok (.return_, 1) := dk_177 (dk_at dksX6_next_6 13 rfl rfl)
abbrev cX6_isIn : ByteArray := prog_13_method_2_code
def yX6_isIn : MethodName := ⟨RX6, "isIn", "(III)Z"⟩
def dkwX6_isIn_1 : List UInt8 := [29, 163, 0, 7, 4, 167, 0, 4, 3, 172]
abbrev dktX6_isIn_1 : List UInt8 := dkwX6_isIn_1 ++ []
def dkwX6_isIn_0 : List UInt8 := [27, 42, 180, 0, 15, 162, 0, 27, 42, 180, 0, 9, 27, 51, 28, 161, 0, 17, 42, 180, 0, 9, 27, 51]
abbrev dktX6_isIn_0 : List UInt8 := dkwX6_isIn_0 ++ dktX6_isIn_1
theorem dksX6_isIn_0 : cX6_isIn.data.toList.drop 0 = dktX6_isIn_0 := by decide +kernel
theorem dksX6_isIn_1 : cX6_isIn.data.toList.drop 24 = dktX6_isIn_1 := dk_seg dksX6_isIn_0 24 rfl rfl
theorem dX6_isIn_0 : decode cX6_isIn 0 = .ok (.iload_n 1, 1) := dk_27 (dk_at dksX6_isIn_0 0 rfl rfl)
theorem dX6_isIn_1 : decode cX6_isIn 1 = .ok (.aload_n 0, 1) := dk_42 (dk_at dksX6_isIn_0 1 rfl rfl)
theorem dX6_isIn_2 : decode cX6_isIn 2 = .ok (.getfield 15, 3) := dk_180 0 15 (dk_at dksX6_isIn_0 2 rfl rfl)
theorem dX6_isIn_5 : decode cX6_isIn 5 = .ok (.if_icmp .ge 27, 3) := dk_162 0 27 (dk_at dksX6_isIn_0 5 rfl rfl)
theorem dX6_isIn_8 : decode cX6_isIn 8 = .ok (.aload_n 0, 1) := dk_42 (dk_at dksX6_isIn_0 8 rfl rfl)
theorem dX6_isIn_9 : decode cX6_isIn 9 = .ok (.getfield 9, 3) := dk_180 0 9 (dk_at dksX6_isIn_0 9 rfl rfl)
theorem dX6_isIn_12 : decode cX6_isIn 12 = .ok (.iload_n 1, 1) := dk_27 (dk_at dksX6_isIn_0 12 rfl rfl)
theorem dX6_isIn_13 : decode cX6_isIn 13 = .ok (.baload, 1) := dk_51 (dk_at dksX6_isIn_0 13 rfl rfl)
theorem dX6_isIn_14 : decode cX6_isIn 14 = .ok (.iload_n 2, 1) := dk_28 (dk_at dksX6_isIn_0 14 rfl rfl)
theorem dX6_isIn_15 : decode cX6_isIn 15 = .ok (.if_icmp .lt 17, 3) := dk_161 0 17 (dk_at dksX6_isIn_0 15 rfl rfl)
theorem dX6_isIn_18 : decode cX6_isIn 18 = .ok (.aload_n 0, 1) := dk_42 (dk_at dksX6_isIn_0 18 rfl rfl)
theorem dX6_isIn_19 : decode cX6_isIn 19 = .ok (.getfield 9, 3) := dk_180 0 9 (dk_at dksX6_isIn_0 19 rfl rfl)
theorem dX6_isIn_22 : decode cX6_isIn 22 = .ok (.iload_n 1, 1) := dk_27 (dk_at dksX6_isIn_0 22 rfl rfl)
theorem dX6_isIn_23 : decode cX6_isIn 23 = .ok (.baload, 1) := dk_51 (dk_at dksX6_isIn_0 23 rfl rfl)
theorem dX6_isIn_24 : decode cX6_isIn 24 = .ok (.iload_n 3, 1) := dk_29 (dk_at dksX6_isIn_1 0 rfl rfl)
theorem dX6_isIn_25 : decode cX6_isIn 25 = .ok (.if_icmp .gt 7, 3) := dk_163 0 7 (dk_at dksX6_isIn_1 1 rfl rfl)
theorem dX6_isIn_28 : decode cX6_isIn 28 = .ok (.iconst 1, 1) := dk_4 (dk_at dksX6_isIn_1 4 rfl rfl)
theorem dX6_isIn_29 : decode cX6_isIn 29 = .ok (.goto 4, 3) := dk_167 0 4 (dk_at dksX6_isIn_1 5 rfl rfl)
theorem dX6_isIn_32 : decode cX6_isIn 32 = .ok (.iconst 0, 1) := dk_3 (dk_at dksX6_isIn_1 8 rfl rfl)
theorem dX6_isIn_33 : decode cX6_isIn 33 = .ok (.ireturn, 1) := dk_172 (dk_at dksX6_isIn_1 9 rfl rfl)
abbrev cX6_is : ByteArray := prog_13_method_4_code
def yX6_is : MethodName := ⟨RX6, "is", "(Ljava/lang/String;)Z"⟩
def dkwX6_is_2 : List UInt8 := [159, 0, 5, 3, 172, 132, 2, 1, 167, 255, 224, 4, 172]
abbrev dktX6_is_2 : List UInt8 := dkwX6_is_2 ++ []
def dkwX6_is_1 : List UInt8 := [182, 0, 29, 162, 0, 30, 42, 180, 0, 9, 42, 180, 0, 22, 28, 96, 51, 43, 28, 182, 0, 35]
abbrev dktX6_is_1 : List UInt8 := dkwX6_is_1 ++ dktX6_is_2
def dkwX6_is_0 : List UInt8 := [42, 180, 0, 19, 42, 180, 0, 22, 100, 43, 182, 0, 29, 159, 0, 5, 3, 172, 3, 61, 28, 43]
abbrev dktX6_is_0 : List UInt8 := dkwX6_is_0 ++ dktX6_is_1
theorem dksX6_is_0 : cX6_is.data.toList.drop 0 = dktX6_is_0 := by decide +kernel
theorem dksX6_is_1 : cX6_is.data.toList.drop 22 = dktX6_is_1 := dk_seg dksX6_is_0 22 rfl rfl
theorem dksX6_is_2 : cX6_is.data.toList.drop 44 = dktX6_is_2 := dk_seg dksX6_is_1 22 rfl rfl
theorem dX6_is_0 : decode cX6_is 0 = .ok (.aload_n 0, 1) := dk_42 (dk_at dksX6_is_0 0 rfl rfl)
theorem dX6_is_1 : decode cX6_is 1 = .ok (.getfield 19, 3) := dk_180 0 19 (dk_at dksX6_is_0 1 rfl rfl)
theorem dX6_is_4 : decode cX6_is 4 = .ok (.aload_n 0, 1) := dk_42 (dk_at dksX6_is_0 4 rfl rfl)
theorem dX6_is_5 : decode cX6_is 5 = .ok (.getfield 22, 3) := dk_180 0 22 (dk_at dksX6_is_0 5 rfl rfl)
theorem dX6_is_8 : decode cX6_is 8 = .ok (.isub, 1) := dk_100 (dk_at dksX6_is_0 8 rfl rfl)
theorem dX6_is_9 : decode cX6_is 9 = .ok (.aload_n 1, 1) := dk_43 (dk_at dksX6_is_0 9 rfl rfl)
theorem dX6_is_10 : decode cX6_is 10 = .ok (.invokevirtual 29, 3) := dk_182 0 29 (dk_at dksX6_is_0 10 rfl rfl)
theorem dX6_is_13 : decode cX6_is 13 = .ok (.if_icmp .eq 5, 3) := dk_159 0 5 (dk_at dksX6_is_0 13 rfl rfl)
theorem dX6_is_16 : decode cX6_is 16 = .ok (.iconst 0, 1) := dk_3 (dk_at dksX6_is_0 16 rfl rfl)
theorem dX6_is_17 : decode cX6_is 17 = .ok (.ireturn, 1) := dk_172 (dk_at dksX6_is_0 17 rfl rfl)
theorem dX6_is_18 : decode cX6_is 18 = .ok (.iconst 0, 1) := dk_3 (dk_at dksX6_is_0 18 rfl rfl)
theorem dX6_is_19 : decode cX6_is 19 = .ok (.istore_n 2, 1) := dk_61 (dk_at dksX6_is_0 19 rfl rfl)
theorem dX6_is_20 : decode cX6_is 20 = .ok (.iload_n 2, 1) := dk_28 (dk_at dksX6_is_0 20 rfl rfl)
theorem dX6_is_21 : decode cX6_is 21 = .ok (.aload_n 1, 1) := dk_43 (dk_at dksX6_is_0 21 rfl rfl)
theorem dX6_is_22 : decode cX6_is 22 = .ok (.invokevirtual 29, 3) := dk_182 0 29 (dk_at dksX6_is_1 0 rfl rfl)
theorem dX6_is_25 : decode cX6_is 25 = .ok (.if_icmp .ge 30, 3) := dk_162 0 30 (dk_at dksX6_is_1 3 rfl rfl)
theorem dX6_is_28 : decode cX6_is 28 = .ok (.aload_n 0, 1) := dk_42 (dk_at dksX6_is_1 6 rfl rfl)
theorem dX6_is_29 : decode cX6_is 29 = .ok (.getfield 9, 3) := dk_180 0 9 (dk_at dksX6_is_1 7 rfl rfl)
theorem dX6_is_32 : decode cX6_is 32 = .ok (.aload_n 0, 1) := dk_42 (dk_at dksX6_is_1 10 rfl rfl)
theorem dX6_is_33 : decode cX6_is 33 = .ok (.getfield 22, 3) := dk_180 0 22 (dk_at dksX6_is_1 11 rfl rfl)
theorem dX6_is_36 : decode cX6_is 36 = .ok (.iload_n 2, 1) := dk_28 (dk_at dksX6_is_1 14 rfl rfl)
theorem dX6_is_37 : decode cX6_is 37 = .ok (.iadd, 1) := dk_96 (dk_at dksX6_is_1 15 rfl rfl)
theorem dX6_is_38 : decode cX6_is 38 = .ok (.baload, 1) := dk_51 (dk_at dksX6_is_1 16 rfl rfl)
theorem dX6_is_39 : decode cX6_is 39 = .ok (.aload_n 1, 1) := dk_43 (dk_at dksX6_is_1 17 rfl rfl)
theorem dX6_is_40 : decode cX6_is 40 = .ok (.iload_n 2, 1) := dk_28 (dk_at dksX6_is_1 18 rfl rfl)
theorem dX6_is_41 : decode cX6_is 41 = .ok (.invokevirtual 35, 3) := dk_182 0 35 (dk_at dksX6_is_1 19 rfl rfl)
theorem dX6_is_44 : decode cX6_is 44 = .ok (.if_icmp .eq 5, 3) := dk_159 0 5 (dk_at dksX6_is_2 0 rfl rfl)
theorem dX6_is_47 : decode cX6_is 47 = .ok (.iconst 0, 1) := dk_3 (dk_at dksX6_is_2 3 rfl rfl)
theorem dX6_is_48 : decode cX6_is 48 = .ok (.ireturn, 1) := dk_172 (dk_at dksX6_is_2 4 rfl rfl)
theorem dX6_is_49 : decode cX6_is 49 = .ok (.iinc 2 1, 3) := dk_132 2 1 (dk_at dksX6_is_2 5 rfl rfl)
theorem dX6_is_52 : decode cX6_is 52 = .ok (.goto (-32), 3) := dk_167 255 224 (dk_at dksX6_is_2 8 rfl rfl)
theorem dX6_is_55 : decode cX6_is 55 = .ok (.iconst 1, 1) := dk_4 (dk_at dksX6_is_2 11 rfl rfl)
theorem dX6_is_56 : decode cX6_is 56 = .ok (.ireturn, 1) := dk_172 (dk_at dksX6_is_2 12 rfl rfl)
abbrev cX6_begins : ByteArray := prog_13_method_11_code
def yX6_begins : MethodName := ⟨RX6, "begins", "(Z)V"⟩
def dkwX6_begins_1 : List UInt8 := [191, 42, 89, 180, 0, 59, 4, 96, 181, 0, 59, 177]
abbrev dktX6_begins_1 : List UInt8 := dkwX6_begins_1 ++ []
def dkwX6_begins_0 : List UInt8 := [42, 180, 0, 59, 16, 12, 159, 0, 7, 27, 154, 0, 15, 187, 0, 49, 89, 42, 180, 0, 22, 183, 0, 51]
abbrev dktX6_begins_0 : List UInt8 := dkwX6_begins_0 ++ dktX6_begins_1
theorem dksX6_begins_0 : cX6_begins.data.toList.drop 0 = dktX6_begins_0 := by decide +kernel
theorem dksX6_begins_1 : cX6_begins.data.toList.drop 24 = dktX6_begins_1 := dk_seg dksX6_begins_0 24 rfl rfl
theorem dX6_begins_0 : decode cX6_begins 0 = .ok (.aload_n 0, 1) := dk_42 (dk_at dksX6_begins_0 0 rfl rfl)
theorem dX6_begins_1 : decode cX6_begins 1 = .ok (.getfield 59, 3) := dk_180 0 59 (dk_at dksX6_begins_0 1 rfl rfl)
theorem dX6_begins_4 : decode cX6_begins 4 = .ok (.bipush 12, 2) := dk_16 12 (dk_at dksX6_begins_0 4 rfl rfl)
theorem dX6_begins_6 : decode cX6_begins 6 = .ok (.if_icmp .eq 7, 3) := dk_159 0 7 (dk_at dksX6_begins_0 6 rfl rfl)
theorem dX6_begins_9 : decode cX6_begins 9 = .ok (.iload_n 1, 1) := dk_27 (dk_at dksX6_begins_0 9 rfl rfl)
theorem dX6_begins_10 : decode cX6_begins 10 = .ok (.ifCond .ne 15, 3) := dk_154 0 15 (dk_at dksX6_begins_0 10 rfl rfl)
theorem dX6_begins_13 : decode cX6_begins 13 = .ok (.new 49, 3) := dk_187 0 49 (dk_at dksX6_begins_0 13 rfl rfl)
theorem dX6_begins_16 : decode cX6_begins 16 = .ok (.dup, 1) := dk_89 (dk_at dksX6_begins_0 16 rfl rfl)
theorem dX6_begins_17 : decode cX6_begins 17 = .ok (.aload_n 0, 1) := dk_42 (dk_at dksX6_begins_0 17 rfl rfl)
theorem dX6_begins_18 : decode cX6_begins 18 = .ok (.getfield 22, 3) := dk_180 0 22 (dk_at dksX6_begins_0 18 rfl rfl)
theorem dX6_begins_21 : decode cX6_begins 21 = .ok (.invokespecial 51, 3) := dk_183 0 51 (dk_at dksX6_begins_0 21 rfl rfl)
theorem dX6_begins_24 : decode cX6_begins 24 = .ok (.athrow, 1) := dk_191 (dk_at dksX6_begins_1 0 rfl rfl)
theorem dX6_begins_25 : decode cX6_begins 25 = .ok (.aload_n 0, 1) := dk_42 (dk_at dksX6_begins_1 1 rfl rfl)
theorem dX6_begins_26 : decode cX6_begins 26 = .ok (.dup, 1) := dk_89 (dk_at dksX6_begins_1 2 rfl rfl)
theorem dX6_begins_27 : decode cX6_begins 27 = .ok (.getfield 59, 3) := dk_180 0 59 (dk_at dksX6_begins_1 3 rfl rfl)
theorem dX6_begins_30 : decode cX6_begins 30 = .ok (.iconst 1, 1) := dk_4 (dk_at dksX6_begins_1 6 rfl rfl)
theorem dX6_begins_31 : decode cX6_begins 31 = .ok (.iadd, 1) := dk_96 (dk_at dksX6_begins_1 7 rfl rfl)
theorem dX6_begins_32 : decode cX6_begins 32 = .ok (.putfield 59, 3) := dk_181 0 59 (dk_at dksX6_begins_1 8 rfl rfl)
theorem dX6_begins_35 : decode cX6_begins 35 = .ok (.return_, 1) := dk_177 (dk_at dksX6_begins_1 11 rfl rfl)
abbrev cX6_sum : ByteArray := prog_13_method_17_code
def yX6_sum : MethodName := ⟨RX6, "sum", "()LSoleraCellar$Sum;"⟩
def dkwX6_sum_2 : List UInt8 := [183, 0, 139, 76, 167, 255, 209, 43, 176]
abbrev dktX6_sum_2 : List UInt8 := dkwX6_sum_2 ++ []
def dkwX6_sum_1 : List UInt8 := [180, 0, 9, 42, 180, 0, 22, 51, 146, 61, 42, 182, 0, 43, 187, 0, 137, 89, 28, 43, 42, 182, 0, 130]
abbrev dktX6_sum_1 : List UInt8 := dkwX6_sum_1 ++ dktX6_sum_2
def dkwX6_sum_0 : List UInt8 := [42, 182, 0, 130, 76, 42, 18, 133, 182, 0, 39, 154, 0, 12, 42, 18, 135, 182, 0, 39, 153, 0, 35, 42]
abbrev dktX6_sum_0 : List UInt8 := dkwX6_sum_0 ++ dktX6_sum_1
theorem dksX6_sum_0 : cX6_sum.data.toList.drop 0 = dktX6_sum_0 := by decide +kernel
theorem dksX6_sum_1 : cX6_sum.data.toList.drop 24 = dktX6_sum_1 := dk_seg dksX6_sum_0 24 rfl rfl
theorem dksX6_sum_2 : cX6_sum.data.toList.drop 48 = dktX6_sum_2 := dk_seg dksX6_sum_1 24 rfl rfl
theorem dX6_sum_0 : decode cX6_sum 0 = .ok (.aload_n 0, 1) := dk_42 (dk_at dksX6_sum_0 0 rfl rfl)
theorem dX6_sum_1 : decode cX6_sum 1 = .ok (.invokevirtual 130, 3) := dk_182 0 130 (dk_at dksX6_sum_0 1 rfl rfl)
theorem dX6_sum_4 : decode cX6_sum 4 = .ok (.astore_n 1, 1) := dk_76 (dk_at dksX6_sum_0 4 rfl rfl)
theorem dX6_sum_5 : decode cX6_sum 5 = .ok (.aload_n 0, 1) := dk_42 (dk_at dksX6_sum_0 5 rfl rfl)
theorem dX6_sum_6 : decode cX6_sum 6 = .ok (.ldc 133, 2) := dk_18 133 (dk_at dksX6_sum_0 6 rfl rfl)
theorem dX6_sum_8 : decode cX6_sum 8 = .ok (.invokevirtual 39, 3) := dk_182 0 39 (dk_at dksX6_sum_0 8 rfl rfl)
theorem dX6_sum_11 : decode cX6_sum 11 = .ok (.ifCond .ne 12, 3) := dk_154 0 12 (dk_at dksX6_sum_0 11 rfl rfl)
theorem dX6_sum_14 : decode cX6_sum 14 = .ok (.aload_n 0, 1) := dk_42 (dk_at dksX6_sum_0 14 rfl rfl)
theorem dX6_sum_15 : decode cX6_sum 15 = .ok (.ldc 135, 2) := dk_18 135 (dk_at dksX6_sum_0 15 rfl rfl)
theorem dX6_sum_17 : decode cX6_sum 17 = .ok (.invokevirtual 39, 3) := dk_182 0 39 (dk_at dksX6_sum_0 17 rfl rfl)
theorem dX6_sum_20 : decode cX6_sum 20 = .ok (.ifCond .eq 35, 3) := dk_153 0 35 (dk_at dksX6_sum_0 20 rfl rfl)
theorem dX6_sum_23 : decode cX6_sum 23 = .ok (.aload_n 0, 1) := dk_42 (dk_at dksX6_sum_0 23 rfl rfl)
theorem dX6_sum_24 : decode cX6_sum 24 = .ok (.getfield 9, 3) := dk_180 0 9 (dk_at dksX6_sum_1 0 rfl rfl)
theorem dX6_sum_27 : decode cX6_sum 27 = .ok (.aload_n 0, 1) := dk_42 (dk_at dksX6_sum_1 3 rfl rfl)
theorem dX6_sum_28 : decode cX6_sum 28 = .ok (.getfield 22, 3) := dk_180 0 22 (dk_at dksX6_sum_1 4 rfl rfl)
theorem dX6_sum_31 : decode cX6_sum 31 = .ok (.baload, 1) := dk_51 (dk_at dksX6_sum_1 7 rfl rfl)
theorem dX6_sum_32 : decode cX6_sum 32 = .ok (.i2c, 1) := dk_146 (dk_at dksX6_sum_1 8 rfl rfl)
theorem dX6_sum_33 : decode cX6_sum 33 = .ok (.istore_n 2, 1) := dk_61 (dk_at dksX6_sum_1 9 rfl rfl)
theorem dX6_sum_34 : decode cX6_sum 34 = .ok (.aload_n 0, 1) := dk_42 (dk_at dksX6_sum_1 10 rfl rfl)
theorem dX6_sum_35 : decode cX6_sum 35 = .ok (.invokevirtual 43, 3) := dk_182 0 43 (dk_at dksX6_sum_1 11 rfl rfl)
theorem dX6_sum_38 : decode cX6_sum 38 = .ok (.new 137, 3) := dk_187 0 137 (dk_at dksX6_sum_1 14 rfl rfl)
theorem dX6_sum_41 : decode cX6_sum 41 = .ok (.dup, 1) := dk_89 (dk_at dksX6_sum_1 17 rfl rfl)
theorem dX6_sum_42 : decode cX6_sum 42 = .ok (.iload_n 2, 1) := dk_28 (dk_at dksX6_sum_1 18 rfl rfl)
theorem dX6_sum_43 : decode cX6_sum 43 = .ok (.aload_n 1, 1) := dk_43 (dk_at dksX6_sum_1 19 rfl rfl)
theorem dX6_sum_44 : decode cX6_sum 44 = .ok (.aload_n 0, 1) := dk_42 (dk_at dksX6_sum_1 20 rfl rfl)
theorem dX6_sum_45 : decode cX6_sum 45 = .ok (.invokevirtual 130, 3) := dk_182 0 130 (dk_at dksX6_sum_1 21 rfl rfl)
theorem dX6_sum_48 : decode cX6_sum 48 = .ok (.invokespecial 139, 3) := dk_183 0 139 (dk_at dksX6_sum_2 0 rfl rfl)
theorem dX6_sum_51 : decode cX6_sum 51 = .ok (.astore_n 1, 1) := dk_76 (dk_at dksX6_sum_2 3 rfl rfl)
theorem dX6_sum_52 : decode cX6_sum 52 = .ok (.goto (-47), 3) := dk_167 255 209 (dk_at dksX6_sum_2 4 rfl rfl)
theorem dX6_sum_55 : decode cX6_sum 55 = .ok (.aload_n 1, 1) := dk_43 (dk_at dksX6_sum_2 7 rfl rfl)
theorem dX6_sum_56 : decode cX6_sum 56 = .ok (.areturn, 1) := dk_176 (dk_at dksX6_sum_2 8 rfl rfl)
abbrev cX6_term : ByteArray := prog_13_method_18_code
def yX6_term : MethodName := ⟨RX6, "term", "()LSoleraCellar$Sum;"⟩
def dkwX6_term_2 : List UInt8 := [187, 0, 137, 89, 28, 43, 42, 182, 0, 140, 183, 0, 139, 76, 167, 255, 200, 43, 176]
abbrev dktX6_term_2 : List UInt8 := dkwX6_term_2 ++ []
def dkwX6_term_1 : List UInt8 := [18, 147, 182, 0, 39, 153, 0, 35, 42, 180, 0, 9, 42, 180, 0, 22, 51, 146, 61, 42, 182, 0, 43]
abbrev dktX6_term_1 : List UInt8 := dkwX6_term_1 ++ dktX6_term_2
def dkwX6_term_0 : List UInt8 := [42, 182, 0, 140, 76, 42, 18, 143, 182, 0, 39, 154, 0, 21, 42, 18, 145, 182, 0, 39, 154, 0, 12, 42]
abbrev dktX6_term_0 : List UInt8 := dkwX6_term_0 ++ dktX6_term_1
theorem dksX6_term_0 : cX6_term.data.toList.drop 0 = dktX6_term_0 := by decide +kernel
theorem dksX6_term_1 : cX6_term.data.toList.drop 24 = dktX6_term_1 := dk_seg dksX6_term_0 24 rfl rfl
theorem dksX6_term_2 : cX6_term.data.toList.drop 47 = dktX6_term_2 := dk_seg dksX6_term_1 23 rfl rfl
theorem dX6_term_0 : decode cX6_term 0 = .ok (.aload_n 0, 1) := dk_42 (dk_at dksX6_term_0 0 rfl rfl)
theorem dX6_term_1 : decode cX6_term 1 = .ok (.invokevirtual 140, 3) := dk_182 0 140 (dk_at dksX6_term_0 1 rfl rfl)
theorem dX6_term_4 : decode cX6_term 4 = .ok (.astore_n 1, 1) := dk_76 (dk_at dksX6_term_0 4 rfl rfl)
theorem dX6_term_5 : decode cX6_term 5 = .ok (.aload_n 0, 1) := dk_42 (dk_at dksX6_term_0 5 rfl rfl)
theorem dX6_term_6 : decode cX6_term 6 = .ok (.ldc 143, 2) := dk_18 143 (dk_at dksX6_term_0 6 rfl rfl)
theorem dX6_term_8 : decode cX6_term 8 = .ok (.invokevirtual 39, 3) := dk_182 0 39 (dk_at dksX6_term_0 8 rfl rfl)
theorem dX6_term_11 : decode cX6_term 11 = .ok (.ifCond .ne 21, 3) := dk_154 0 21 (dk_at dksX6_term_0 11 rfl rfl)
theorem dX6_term_14 : decode cX6_term 14 = .ok (.aload_n 0, 1) := dk_42 (dk_at dksX6_term_0 14 rfl rfl)
theorem dX6_term_15 : decode cX6_term 15 = .ok (.ldc 145, 2) := dk_18 145 (dk_at dksX6_term_0 15 rfl rfl)
theorem dX6_term_17 : decode cX6_term 17 = .ok (.invokevirtual 39, 3) := dk_182 0 39 (dk_at dksX6_term_0 17 rfl rfl)
theorem dX6_term_20 : decode cX6_term 20 = .ok (.ifCond .ne 12, 3) := dk_154 0 12 (dk_at dksX6_term_0 20 rfl rfl)
theorem dX6_term_23 : decode cX6_term 23 = .ok (.aload_n 0, 1) := dk_42 (dk_at dksX6_term_0 23 rfl rfl)
theorem dX6_term_24 : decode cX6_term 24 = .ok (.ldc 147, 2) := dk_18 147 (dk_at dksX6_term_1 0 rfl rfl)
theorem dX6_term_26 : decode cX6_term 26 = .ok (.invokevirtual 39, 3) := dk_182 0 39 (dk_at dksX6_term_1 2 rfl rfl)
theorem dX6_term_29 : decode cX6_term 29 = .ok (.ifCond .eq 35, 3) := dk_153 0 35 (dk_at dksX6_term_1 5 rfl rfl)
theorem dX6_term_32 : decode cX6_term 32 = .ok (.aload_n 0, 1) := dk_42 (dk_at dksX6_term_1 8 rfl rfl)
theorem dX6_term_33 : decode cX6_term 33 = .ok (.getfield 9, 3) := dk_180 0 9 (dk_at dksX6_term_1 9 rfl rfl)
theorem dX6_term_36 : decode cX6_term 36 = .ok (.aload_n 0, 1) := dk_42 (dk_at dksX6_term_1 12 rfl rfl)
theorem dX6_term_37 : decode cX6_term 37 = .ok (.getfield 22, 3) := dk_180 0 22 (dk_at dksX6_term_1 13 rfl rfl)
theorem dX6_term_40 : decode cX6_term 40 = .ok (.baload, 1) := dk_51 (dk_at dksX6_term_1 16 rfl rfl)
theorem dX6_term_41 : decode cX6_term 41 = .ok (.i2c, 1) := dk_146 (dk_at dksX6_term_1 17 rfl rfl)
theorem dX6_term_42 : decode cX6_term 42 = .ok (.istore_n 2, 1) := dk_61 (dk_at dksX6_term_1 18 rfl rfl)
theorem dX6_term_43 : decode cX6_term 43 = .ok (.aload_n 0, 1) := dk_42 (dk_at dksX6_term_1 19 rfl rfl)
theorem dX6_term_44 : decode cX6_term 44 = .ok (.invokevirtual 43, 3) := dk_182 0 43 (dk_at dksX6_term_1 20 rfl rfl)
theorem dX6_term_47 : decode cX6_term 47 = .ok (.new 137, 3) := dk_187 0 137 (dk_at dksX6_term_2 0 rfl rfl)
theorem dX6_term_50 : decode cX6_term 50 = .ok (.dup, 1) := dk_89 (dk_at dksX6_term_2 3 rfl rfl)
theorem dX6_term_51 : decode cX6_term 51 = .ok (.iload_n 2, 1) := dk_28 (dk_at dksX6_term_2 4 rfl rfl)
theorem dX6_term_52 : decode cX6_term 52 = .ok (.aload_n 1, 1) := dk_43 (dk_at dksX6_term_2 5 rfl rfl)
theorem dX6_term_53 : decode cX6_term 53 = .ok (.aload_n 0, 1) := dk_42 (dk_at dksX6_term_2 6 rfl rfl)
theorem dX6_term_54 : decode cX6_term 54 = .ok (.invokevirtual 140, 3) := dk_182 0 140 (dk_at dksX6_term_2 7 rfl rfl)
theorem dX6_term_57 : decode cX6_term 57 = .ok (.invokespecial 139, 3) := dk_183 0 139 (dk_at dksX6_term_2 10 rfl rfl)
theorem dX6_term_60 : decode cX6_term 60 = .ok (.astore_n 1, 1) := dk_76 (dk_at dksX6_term_2 13 rfl rfl)
theorem dX6_term_61 : decode cX6_term 61 = .ok (.goto (-56), 3) := dk_167 255 200 (dk_at dksX6_term_2 14 rfl rfl)
theorem dX6_term_64 : decode cX6_term 64 = .ok (.aload_n 1, 1) := dk_43 (dk_at dksX6_term_2 17 rfl rfl)
theorem dX6_term_65 : decode cX6_term 65 = .ok (.areturn, 1) := dk_176 (dk_at dksX6_term_2 18 rfl rfl)
abbrev cX6_part : ByteArray := prog_13_method_20_code
def yX6_part : MethodName := ⟨RX6, "part", "()LSoleraCellar$Sum;"⟩
def dkwX6_part_4 : List UInt8 := [89, 27, 183, 0, 171, 176]
abbrev dktX6_part_4 : List UInt8 := dkwX6_part_4 ++ []
def dkwX6_part_3 : List UInt8 := [182, 0, 166, 60, 27, 2, 160, 0, 15, 187, 0, 49, 89, 42, 180, 0, 22, 183, 0, 51, 191, 187, 0, 169]
abbrev dktX6_part_3 : List UInt8 := dkwX6_part_3 ++ dktX6_part_4
def dkwX6_part_2 : List UInt8 := [153, 0, 23, 42, 182, 0, 156, 187, 0, 159, 89, 42, 3, 17, 3, 232, 182, 0, 161, 183, 0, 165, 176, 42]
abbrev dktX6_part_2 : List UInt8 := dkwX6_part_2 ++ dktX6_part_3
def dkwX6_part_1 : List UInt8 := [42, 89, 180, 0, 88, 4, 100, 181, 0, 88, 43, 176, 42, 42, 180, 0, 22, 16, 48, 16, 57, 182, 0, 25]
abbrev dktX6_part_1 : List UInt8 := dkwX6_part_1 ++ dktX6_part_2
def dkwX6_part_0 : List UInt8 := [42, 18, 152, 182, 0, 39, 153, 0, 30, 42, 182, 0, 103, 42, 182, 0, 115, 76, 42, 18, 154, 182, 0, 111]
abbrev dktX6_part_0 : List UInt8 := dkwX6_part_0 ++ dktX6_part_1
theorem dksX6_part_0 : cX6_part.data.toList.drop 0 = dktX6_part_0 := by decide +kernel
theorem dksX6_part_1 : cX6_part.data.toList.drop 24 = dktX6_part_1 := dk_seg dksX6_part_0 24 rfl rfl
theorem dksX6_part_2 : cX6_part.data.toList.drop 48 = dktX6_part_2 := dk_seg dksX6_part_1 24 rfl rfl
theorem dksX6_part_3 : cX6_part.data.toList.drop 72 = dktX6_part_3 := dk_seg dksX6_part_2 24 rfl rfl
theorem dksX6_part_4 : cX6_part.data.toList.drop 96 = dktX6_part_4 := dk_seg dksX6_part_3 24 rfl rfl
theorem dX6_part_0 : decode cX6_part 0 = .ok (.aload_n 0, 1) := dk_42 (dk_at dksX6_part_0 0 rfl rfl)
theorem dX6_part_1 : decode cX6_part 1 = .ok (.ldc 152, 2) := dk_18 152 (dk_at dksX6_part_0 1 rfl rfl)
theorem dX6_part_3 : decode cX6_part 3 = .ok (.invokevirtual 39, 3) := dk_182 0 39 (dk_at dksX6_part_0 3 rfl rfl)
theorem dX6_part_6 : decode cX6_part 6 = .ok (.ifCond .eq 30, 3) := dk_153 0 30 (dk_at dksX6_part_0 6 rfl rfl)
theorem dX6_part_9 : decode cX6_part 9 = .ok (.aload_n 0, 1) := dk_42 (dk_at dksX6_part_0 9 rfl rfl)
theorem dX6_part_10 : decode cX6_part 10 = .ok (.invokevirtual 103, 3) := dk_182 0 103 (dk_at dksX6_part_0 10 rfl rfl)
theorem dX6_part_13 : decode cX6_part 13 = .ok (.aload_n 0, 1) := dk_42 (dk_at dksX6_part_0 13 rfl rfl)
theorem dX6_part_14 : decode cX6_part 14 = .ok (.invokevirtual 115, 3) := dk_182 0 115 (dk_at dksX6_part_0 14 rfl rfl)
theorem dX6_part_17 : decode cX6_part 17 = .ok (.astore_n 1, 1) := dk_76 (dk_at dksX6_part_0 17 rfl rfl)
theorem dX6_part_18 : decode cX6_part 18 = .ok (.aload_n 0, 1) := dk_42 (dk_at dksX6_part_0 18 rfl rfl)
theorem dX6_part_19 : decode cX6_part 19 = .ok (.ldc 154, 2) := dk_18 154 (dk_at dksX6_part_0 19 rfl rfl)
theorem dX6_part_21 : decode cX6_part 21 = .ok (.invokevirtual 111, 3) := dk_182 0 111 (dk_at dksX6_part_0 21 rfl rfl)
theorem dX6_part_24 : decode cX6_part 24 = .ok (.aload_n 0, 1) := dk_42 (dk_at dksX6_part_1 0 rfl rfl)
theorem dX6_part_25 : decode cX6_part 25 = .ok (.dup, 1) := dk_89 (dk_at dksX6_part_1 1 rfl rfl)
theorem dX6_part_26 : decode cX6_part 26 = .ok (.getfield 88, 3) := dk_180 0 88 (dk_at dksX6_part_1 2 rfl rfl)
theorem dX6_part_29 : decode cX6_part 29 = .ok (.iconst 1, 1) := dk_4 (dk_at dksX6_part_1 5 rfl rfl)
theorem dX6_part_30 : decode cX6_part 30 = .ok (.isub, 1) := dk_100 (dk_at dksX6_part_1 6 rfl rfl)
theorem dX6_part_31 : decode cX6_part 31 = .ok (.putfield 88, 3) := dk_181 0 88 (dk_at dksX6_part_1 7 rfl rfl)
theorem dX6_part_34 : decode cX6_part 34 = .ok (.aload_n 1, 1) := dk_43 (dk_at dksX6_part_1 10 rfl rfl)
theorem dX6_part_35 : decode cX6_part 35 = .ok (.areturn, 1) := dk_176 (dk_at dksX6_part_1 11 rfl rfl)
theorem dX6_part_36 : decode cX6_part 36 = .ok (.aload_n 0, 1) := dk_42 (dk_at dksX6_part_1 12 rfl rfl)
theorem dX6_part_37 : decode cX6_part 37 = .ok (.aload_n 0, 1) := dk_42 (dk_at dksX6_part_1 13 rfl rfl)
theorem dX6_part_38 : decode cX6_part 38 = .ok (.getfield 22, 3) := dk_180 0 22 (dk_at dksX6_part_1 14 rfl rfl)
theorem dX6_part_41 : decode cX6_part 41 = .ok (.bipush 48, 2) := dk_16 48 (dk_at dksX6_part_1 17 rfl rfl)
theorem dX6_part_43 : decode cX6_part 43 = .ok (.bipush 57, 2) := dk_16 57 (dk_at dksX6_part_1 19 rfl rfl)
theorem dX6_part_45 : decode cX6_part 45 = .ok (.invokevirtual 25, 3) := dk_182 0 25 (dk_at dksX6_part_1 21 rfl rfl)
theorem dX6_part_48 : decode cX6_part 48 = .ok (.ifCond .eq 23, 3) := dk_153 0 23 (dk_at dksX6_part_2 0 rfl rfl)
theorem dX6_part_51 : decode cX6_part 51 = .ok (.aload_n 0, 1) := dk_42 (dk_at dksX6_part_2 3 rfl rfl)
theorem dX6_part_52 : decode cX6_part 52 = .ok (.invokevirtual 156, 3) := dk_182 0 156 (dk_at dksX6_part_2 4 rfl rfl)
theorem dX6_part_55 : decode cX6_part 55 = .ok (.new 159, 3) := dk_187 0 159 (dk_at dksX6_part_2 7 rfl rfl)
theorem dX6_part_58 : decode cX6_part 58 = .ok (.dup, 1) := dk_89 (dk_at dksX6_part_2 10 rfl rfl)
theorem dX6_part_59 : decode cX6_part 59 = .ok (.aload_n 0, 1) := dk_42 (dk_at dksX6_part_2 11 rfl rfl)
theorem dX6_part_60 : decode cX6_part 60 = .ok (.iconst 0, 1) := dk_3 (dk_at dksX6_part_2 12 rfl rfl)
theorem dX6_part_61 : decode cX6_part 61 = .ok (.sipush 1000, 3) := dk_17 3 232 (dk_at dksX6_part_2 13 rfl rfl)
theorem dX6_part_64 : decode cX6_part 64 = .ok (.invokevirtual 161, 3) := dk_182 0 161 (dk_at dksX6_part_2 16 rfl rfl)
theorem dX6_part_67 : decode cX6_part 67 = .ok (.invokespecial 165, 3) := dk_183 0 165 (dk_at dksX6_part_2 19 rfl rfl)
theorem dX6_part_70 : decode cX6_part 70 = .ok (.areturn, 1) := dk_176 (dk_at dksX6_part_2 22 rfl rfl)
theorem dX6_part_71 : decode cX6_part 71 = .ok (.aload_n 0, 1) := dk_42 (dk_at dksX6_part_2 23 rfl rfl)
theorem dX6_part_72 : decode cX6_part 72 = .ok (.invokevirtual 166, 3) := dk_182 0 166 (dk_at dksX6_part_3 0 rfl rfl)
theorem dX6_part_75 : decode cX6_part 75 = .ok (.istore_n 1, 1) := dk_60 (dk_at dksX6_part_3 3 rfl rfl)
theorem dX6_part_76 : decode cX6_part 76 = .ok (.iload_n 1, 1) := dk_27 (dk_at dksX6_part_3 4 rfl rfl)
theorem dX6_part_77 : decode cX6_part 77 = .ok (.iconst (-1), 1) := dk_2 (dk_at dksX6_part_3 5 rfl rfl)
theorem dX6_part_78 : decode cX6_part 78 = .ok (.if_icmp .ne 15, 3) := dk_160 0 15 (dk_at dksX6_part_3 6 rfl rfl)
theorem dX6_part_81 : decode cX6_part 81 = .ok (.new 49, 3) := dk_187 0 49 (dk_at dksX6_part_3 9 rfl rfl)
theorem dX6_part_84 : decode cX6_part 84 = .ok (.dup, 1) := dk_89 (dk_at dksX6_part_3 12 rfl rfl)
theorem dX6_part_85 : decode cX6_part 85 = .ok (.aload_n 0, 1) := dk_42 (dk_at dksX6_part_3 13 rfl rfl)
theorem dX6_part_86 : decode cX6_part 86 = .ok (.getfield 22, 3) := dk_180 0 22 (dk_at dksX6_part_3 14 rfl rfl)
theorem dX6_part_89 : decode cX6_part 89 = .ok (.invokespecial 51, 3) := dk_183 0 51 (dk_at dksX6_part_3 17 rfl rfl)
theorem dX6_part_92 : decode cX6_part 92 = .ok (.athrow, 1) := dk_191 (dk_at dksX6_part_3 20 rfl rfl)
theorem dX6_part_93 : decode cX6_part 93 = .ok (.new 169, 3) := dk_187 0 169 (dk_at dksX6_part_3 21 rfl rfl)
theorem dX6_part_96 : decode cX6_part 96 = .ok (.dup, 1) := dk_89 (dk_at dksX6_part_4 0 rfl rfl)
theorem dX6_part_97 : decode cX6_part 97 = .ok (.iload_n 1, 1) := dk_27 (dk_at dksX6_part_4 1 rfl rfl)
theorem dX6_part_98 : decode cX6_part 98 = .ok (.invokespecial 171, 3) := dk_183 0 171 (dk_at dksX6_part_4 2 rfl rfl)
theorem dX6_part_101 : decode cX6_part 101 = .ok (.areturn, 1) := dk_176 (dk_at dksX6_part_4 5 rfl rfl)
abbrev cX6_opens : ByteArray := prog_13_method_14_code
def yX6_opens : MethodName := ⟨RX6, "opens", "()V"⟩
def dkwX6_opens_1 : List UInt8 := [180, 0, 88, 4, 96, 181, 0, 88, 42, 182, 0, 43, 177]
abbrev dktX6_opens_1 : List UInt8 := dkwX6_opens_1 ++ []
def dkwX6_opens_0 : List UInt8 := [42, 180, 0, 88, 16, 8, 160, 0, 15, 187, 0, 49, 89, 42, 180, 0, 22, 183, 0, 51, 191, 42, 89]
abbrev dktX6_opens_0 : List UInt8 := dkwX6_opens_0 ++ dktX6_opens_1
theorem dksX6_opens_0 : cX6_opens.data.toList.drop 0 = dktX6_opens_0 := by decide +kernel
theorem dksX6_opens_1 : cX6_opens.data.toList.drop 23 = dktX6_opens_1 := dk_seg dksX6_opens_0 23 rfl rfl
theorem dX6_opens_0 : decode cX6_opens 0 = .ok (.aload_n 0, 1) := dk_42 (dk_at dksX6_opens_0 0 rfl rfl)
theorem dX6_opens_1 : decode cX6_opens 1 = .ok (.getfield 88, 3) := dk_180 0 88 (dk_at dksX6_opens_0 1 rfl rfl)
theorem dX6_opens_4 : decode cX6_opens 4 = .ok (.bipush 8, 2) := dk_16 8 (dk_at dksX6_opens_0 4 rfl rfl)
theorem dX6_opens_6 : decode cX6_opens 6 = .ok (.if_icmp .ne 15, 3) := dk_160 0 15 (dk_at dksX6_opens_0 6 rfl rfl)
theorem dX6_opens_9 : decode cX6_opens 9 = .ok (.new 49, 3) := dk_187 0 49 (dk_at dksX6_opens_0 9 rfl rfl)
theorem dX6_opens_12 : decode cX6_opens 12 = .ok (.dup, 1) := dk_89 (dk_at dksX6_opens_0 12 rfl rfl)
theorem dX6_opens_13 : decode cX6_opens 13 = .ok (.aload_n 0, 1) := dk_42 (dk_at dksX6_opens_0 13 rfl rfl)
theorem dX6_opens_14 : decode cX6_opens 14 = .ok (.getfield 22, 3) := dk_180 0 22 (dk_at dksX6_opens_0 14 rfl rfl)
theorem dX6_opens_17 : decode cX6_opens 17 = .ok (.invokespecial 51, 3) := dk_183 0 51 (dk_at dksX6_opens_0 17 rfl rfl)
theorem dX6_opens_20 : decode cX6_opens 20 = .ok (.athrow, 1) := dk_191 (dk_at dksX6_opens_0 20 rfl rfl)
theorem dX6_opens_21 : decode cX6_opens 21 = .ok (.aload_n 0, 1) := dk_42 (dk_at dksX6_opens_0 21 rfl rfl)
theorem dX6_opens_22 : decode cX6_opens 22 = .ok (.dup, 1) := dk_89 (dk_at dksX6_opens_0 22 rfl rfl)
theorem dX6_opens_23 : decode cX6_opens 23 = .ok (.getfield 88, 3) := dk_180 0 88 (dk_at dksX6_opens_1 0 rfl rfl)
theorem dX6_opens_26 : decode cX6_opens 26 = .ok (.iconst 1, 1) := dk_4 (dk_at dksX6_opens_1 3 rfl rfl)
theorem dX6_opens_27 : decode cX6_opens 27 = .ok (.iadd, 1) := dk_96 (dk_at dksX6_opens_1 4 rfl rfl)
theorem dX6_opens_28 : decode cX6_opens 28 = .ok (.putfield 88, 3) := dk_181 0 88 (dk_at dksX6_opens_1 5 rfl rfl)
theorem dX6_opens_31 : decode cX6_opens 31 = .ok (.aload_n 0, 1) := dk_42 (dk_at dksX6_opens_1 8 rfl rfl)
theorem dX6_opens_32 : decode cX6_opens 32 = .ok (.invokevirtual 43, 3) := dk_182 0 43 (dk_at dksX6_opens_1 9 rfl rfl)
theorem dX6_opens_35 : decode cX6_opens 35 = .ok (.return_, 1) := dk_177 (dk_at dksX6_opens_1 12 rfl rfl)
abbrev cX6_need : ByteArray := prog_13_method_6_code
def yX6_need : MethodName := ⟨RX6, "need", "(Ljava/lang/String;)V"⟩
def dkwX6_need_0 : List UInt8 := [42, 43, 182, 0, 46, 154, 0, 15, 187, 0, 49, 89, 42, 180, 0, 22, 183, 0, 51, 191, 177]
abbrev dktX6_need_0 : List UInt8 := dkwX6_need_0 ++ []
theorem dksX6_need_0 : cX6_need.data.toList.drop 0 = dktX6_need_0 := by decide +kernel
theorem dX6_need_0 : decode cX6_need 0 = .ok (.aload_n 0, 1) := dk_42 (dk_at dksX6_need_0 0 rfl rfl)
theorem dX6_need_1 : decode cX6_need 1 = .ok (.aload_n 1, 1) := dk_43 (dk_at dksX6_need_0 1 rfl rfl)
theorem dX6_need_2 : decode cX6_need 2 = .ok (.invokevirtual 46, 3) := dk_182 0 46 (dk_at dksX6_need_0 2 rfl rfl)
theorem dX6_need_5 : decode cX6_need 5 = .ok (.ifCond .ne 15, 3) := dk_154 0 15 (dk_at dksX6_need_0 5 rfl rfl)
theorem dX6_need_8 : decode cX6_need 8 = .ok (.new 49, 3) := dk_187 0 49 (dk_at dksX6_need_0 8 rfl rfl)
theorem dX6_need_11 : decode cX6_need 11 = .ok (.dup, 1) := dk_89 (dk_at dksX6_need_0 11 rfl rfl)
theorem dX6_need_12 : decode cX6_need 12 = .ok (.aload_n 0, 1) := dk_42 (dk_at dksX6_need_0 12 rfl rfl)
theorem dX6_need_13 : decode cX6_need 13 = .ok (.getfield 22, 3) := dk_180 0 22 (dk_at dksX6_need_0 13 rfl rfl)
theorem dX6_need_16 : decode cX6_need 16 = .ok (.invokespecial 51, 3) := dk_183 0 51 (dk_at dksX6_need_0 16 rfl rfl)
theorem dX6_need_19 : decode cX6_need 19 = .ok (.athrow, 1) := dk_191 (dk_at dksX6_need_0 19 rfl rfl)
theorem dX6_need_20 : decode cX6_need 20 = .ok (.return_, 1) := dk_177 (dk_at dksX6_need_0 20 rfl rfl)
abbrev cX6_takes : ByteArray := prog_13_method_5_code
def yX6_takes : MethodName := ⟨RX6, "takes", "(Ljava/lang/String;)Z"⟩
def dkwX6_takes_0 : List UInt8 := [42, 43, 182, 0, 39, 61, 28, 153, 0, 7, 42, 182, 0, 43, 28, 172]
abbrev dktX6_takes_0 : List UInt8 := dkwX6_takes_0 ++ []
theorem dksX6_takes_0 : cX6_takes.data.toList.drop 0 = dktX6_takes_0 := by decide +kernel
theorem dX6_takes_0 : decode cX6_takes 0 = .ok (.aload_n 0, 1) := dk_42 (dk_at dksX6_takes_0 0 rfl rfl)
theorem dX6_takes_1 : decode cX6_takes 1 = .ok (.aload_n 1, 1) := dk_43 (dk_at dksX6_takes_0 1 rfl rfl)
theorem dX6_takes_2 : decode cX6_takes 2 = .ok (.invokevirtual 39, 3) := dk_182 0 39 (dk_at dksX6_takes_0 2 rfl rfl)
theorem dX6_takes_5 : decode cX6_takes 5 = .ok (.istore_n 2, 1) := dk_61 (dk_at dksX6_takes_0 5 rfl rfl)
theorem dX6_takes_6 : decode cX6_takes 6 = .ok (.iload_n 2, 1) := dk_28 (dk_at dksX6_takes_0 6 rfl rfl)
theorem dX6_takes_7 : decode cX6_takes 7 = .ok (.ifCond .eq 7, 3) := dk_153 0 7 (dk_at dksX6_takes_0 7 rfl rfl)
theorem dX6_takes_10 : decode cX6_takes 10 = .ok (.aload_n 0, 1) := dk_42 (dk_at dksX6_takes_0 10 rfl rfl)
theorem dX6_takes_11 : decode cX6_takes 11 = .ok (.invokevirtual 43, 3) := dk_182 0 43 (dk_at dksX6_takes_0 11 rfl rfl)
theorem dX6_takes_14 : decode cX6_takes 14 = .ok (.iload_n 2, 1) := dk_28 (dk_at dksX6_takes_0 14 rfl rfl)
theorem dX6_takes_15 : decode cX6_takes 15 = .ok (.ireturn, 1) := dk_172 (dk_at dksX6_takes_0 15 rfl rfl)
abbrev cX6_leaf : ByteArray := prog_13_method_19_code
def yX6_leaf : MethodName := ⟨RX6, "leaf", "()V"⟩
def dkwX6_leaf_1 : List UInt8 := [180, 0, 149, 4, 96, 181, 0, 149, 177]
abbrev dktX6_leaf_1 : List UInt8 := dkwX6_leaf_1 ++ []
def dkwX6_leaf_0 : List UInt8 := [42, 180, 0, 149, 16, 50, 160, 0, 15, 187, 0, 49, 89, 42, 180, 0, 22, 183, 0, 51, 191, 42, 89]
abbrev dktX6_leaf_0 : List UInt8 := dkwX6_leaf_0 ++ dktX6_leaf_1
theorem dksX6_leaf_0 : cX6_leaf.data.toList.drop 0 = dktX6_leaf_0 := by decide +kernel
theorem dksX6_leaf_1 : cX6_leaf.data.toList.drop 23 = dktX6_leaf_1 := dk_seg dksX6_leaf_0 23 rfl rfl
theorem dX6_leaf_0 : decode cX6_leaf 0 = .ok (.aload_n 0, 1) := dk_42 (dk_at dksX6_leaf_0 0 rfl rfl)
theorem dX6_leaf_1 : decode cX6_leaf 1 = .ok (.getfield 149, 3) := dk_180 0 149 (dk_at dksX6_leaf_0 1 rfl rfl)
theorem dX6_leaf_4 : decode cX6_leaf 4 = .ok (.bipush 50, 2) := dk_16 50 (dk_at dksX6_leaf_0 4 rfl rfl)
theorem dX6_leaf_6 : decode cX6_leaf 6 = .ok (.if_icmp .ne 15, 3) := dk_160 0 15 (dk_at dksX6_leaf_0 6 rfl rfl)
theorem dX6_leaf_9 : decode cX6_leaf 9 = .ok (.new 49, 3) := dk_187 0 49 (dk_at dksX6_leaf_0 9 rfl rfl)
theorem dX6_leaf_12 : decode cX6_leaf 12 = .ok (.dup, 1) := dk_89 (dk_at dksX6_leaf_0 12 rfl rfl)
theorem dX6_leaf_13 : decode cX6_leaf 13 = .ok (.aload_n 0, 1) := dk_42 (dk_at dksX6_leaf_0 13 rfl rfl)
theorem dX6_leaf_14 : decode cX6_leaf 14 = .ok (.getfield 22, 3) := dk_180 0 22 (dk_at dksX6_leaf_0 14 rfl rfl)
theorem dX6_leaf_17 : decode cX6_leaf 17 = .ok (.invokespecial 51, 3) := dk_183 0 51 (dk_at dksX6_leaf_0 17 rfl rfl)
theorem dX6_leaf_20 : decode cX6_leaf 20 = .ok (.athrow, 1) := dk_191 (dk_at dksX6_leaf_0 20 rfl rfl)
theorem dX6_leaf_21 : decode cX6_leaf 21 = .ok (.aload_n 0, 1) := dk_42 (dk_at dksX6_leaf_0 21 rfl rfl)
theorem dX6_leaf_22 : decode cX6_leaf 22 = .ok (.dup, 1) := dk_89 (dk_at dksX6_leaf_0 22 rfl rfl)
theorem dX6_leaf_23 : decode cX6_leaf 23 = .ok (.getfield 149, 3) := dk_180 0 149 (dk_at dksX6_leaf_1 0 rfl rfl)
theorem dX6_leaf_26 : decode cX6_leaf 26 = .ok (.iconst 1, 1) := dk_4 (dk_at dksX6_leaf_1 3 rfl rfl)
theorem dX6_leaf_27 : decode cX6_leaf 27 = .ok (.iadd, 1) := dk_96 (dk_at dksX6_leaf_1 4 rfl rfl)
theorem dX6_leaf_28 : decode cX6_leaf 28 = .ok (.putfield 149, 3) := dk_181 0 149 (dk_at dksX6_leaf_1 5 rfl rfl)
theorem dX6_leaf_31 : decode cX6_leaf 31 = .ok (.return_, 1) := dk_177 (dk_at dksX6_leaf_1 8 rfl rfl)
abbrev cX6_number : ByteArray := prog_13_method_7_code
def yX6_number : MethodName := ⟨RX6, "number", "(II)I"⟩
def dkwX6_number_4 : List UInt8 := [191, 42, 182, 0, 43, 29, 172]
abbrev dktX6_number_4 : List UInt8 := dkwX6_number_4 ++ []
def dkwX6_number_3 : List UInt8 := [167, 255, 223, 29, 27, 161, 0, 8, 29, 28, 164, 0, 15, 187, 0, 49, 89, 42, 180, 0, 22, 183, 0, 51]
abbrev dktX6_number_3 : List UInt8 := dkwX6_number_3 ++ dktX6_number_4
def dkwX6_number_2 : List UInt8 := [163, 0, 25, 16, 10, 29, 104, 42, 180, 0, 9, 21, 4, 51, 96, 16, 48, 100, 62, 132, 4, 1]
abbrev dktX6_number_2 : List UInt8 := dkwX6_number_2 ++ dktX6_number_3
def dkwX6_number_1 : List UInt8 := [183, 0, 51, 191, 3, 62, 42, 180, 0, 22, 54, 4, 21, 4, 42, 180, 0, 19, 162, 0, 30, 29, 28]
abbrev dktX6_number_1 : List UInt8 := dkwX6_number_1 ++ dktX6_number_2
def dkwX6_number_0 : List UInt8 := [42, 42, 180, 0, 22, 16, 48, 16, 57, 182, 0, 25, 154, 0, 15, 187, 0, 49, 89, 42, 180, 0, 22]
abbrev dktX6_number_0 : List UInt8 := dkwX6_number_0 ++ dktX6_number_1
theorem dksX6_number_0 : cX6_number.data.toList.drop 0 = dktX6_number_0 := by decide +kernel
theorem dksX6_number_1 : cX6_number.data.toList.drop 23 = dktX6_number_1 := dk_seg dksX6_number_0 23 rfl rfl
theorem dksX6_number_2 : cX6_number.data.toList.drop 46 = dktX6_number_2 := dk_seg dksX6_number_1 23 rfl rfl
theorem dksX6_number_3 : cX6_number.data.toList.drop 68 = dktX6_number_3 := dk_seg dksX6_number_2 22 rfl rfl
theorem dksX6_number_4 : cX6_number.data.toList.drop 92 = dktX6_number_4 := dk_seg dksX6_number_3 24 rfl rfl
theorem dX6_number_0 : decode cX6_number 0 = .ok (.aload_n 0, 1) := dk_42 (dk_at dksX6_number_0 0 rfl rfl)
theorem dX6_number_1 : decode cX6_number 1 = .ok (.aload_n 0, 1) := dk_42 (dk_at dksX6_number_0 1 rfl rfl)
theorem dX6_number_2 : decode cX6_number 2 = .ok (.getfield 22, 3) := dk_180 0 22 (dk_at dksX6_number_0 2 rfl rfl)
theorem dX6_number_5 : decode cX6_number 5 = .ok (.bipush 48, 2) := dk_16 48 (dk_at dksX6_number_0 5 rfl rfl)
theorem dX6_number_7 : decode cX6_number 7 = .ok (.bipush 57, 2) := dk_16 57 (dk_at dksX6_number_0 7 rfl rfl)
theorem dX6_number_9 : decode cX6_number 9 = .ok (.invokevirtual 25, 3) := dk_182 0 25 (dk_at dksX6_number_0 9 rfl rfl)
theorem dX6_number_12 : decode cX6_number 12 = .ok (.ifCond .ne 15, 3) := dk_154 0 15 (dk_at dksX6_number_0 12 rfl rfl)
theorem dX6_number_15 : decode cX6_number 15 = .ok (.new 49, 3) := dk_187 0 49 (dk_at dksX6_number_0 15 rfl rfl)
theorem dX6_number_18 : decode cX6_number 18 = .ok (.dup, 1) := dk_89 (dk_at dksX6_number_0 18 rfl rfl)
theorem dX6_number_19 : decode cX6_number 19 = .ok (.aload_n 0, 1) := dk_42 (dk_at dksX6_number_0 19 rfl rfl)
theorem dX6_number_20 : decode cX6_number 20 = .ok (.getfield 22, 3) := dk_180 0 22 (dk_at dksX6_number_0 20 rfl rfl)
theorem dX6_number_23 : decode cX6_number 23 = .ok (.invokespecial 51, 3) := dk_183 0 51 (dk_at dksX6_number_1 0 rfl rfl)
theorem dX6_number_26 : decode cX6_number 26 = .ok (.athrow, 1) := dk_191 (dk_at dksX6_number_1 3 rfl rfl)
theorem dX6_number_27 : decode cX6_number 27 = .ok (.iconst 0, 1) := dk_3 (dk_at dksX6_number_1 4 rfl rfl)
theorem dX6_number_28 : decode cX6_number 28 = .ok (.istore_n 3, 1) := dk_62 (dk_at dksX6_number_1 5 rfl rfl)
theorem dX6_number_29 : decode cX6_number 29 = .ok (.aload_n 0, 1) := dk_42 (dk_at dksX6_number_1 6 rfl rfl)
theorem dX6_number_30 : decode cX6_number 30 = .ok (.getfield 22, 3) := dk_180 0 22 (dk_at dksX6_number_1 7 rfl rfl)
theorem dX6_number_33 : decode cX6_number 33 = .ok (.istore 4, 2) := dk_54 4 (dk_at dksX6_number_1 10 rfl rfl)
theorem dX6_number_35 : decode cX6_number 35 = .ok (.iload 4, 2) := dk_21 4 (dk_at dksX6_number_1 12 rfl rfl)
theorem dX6_number_37 : decode cX6_number 37 = .ok (.aload_n 0, 1) := dk_42 (dk_at dksX6_number_1 14 rfl rfl)
theorem dX6_number_38 : decode cX6_number 38 = .ok (.getfield 19, 3) := dk_180 0 19 (dk_at dksX6_number_1 15 rfl rfl)
theorem dX6_number_41 : decode cX6_number 41 = .ok (.if_icmp .ge 30, 3) := dk_162 0 30 (dk_at dksX6_number_1 18 rfl rfl)
theorem dX6_number_44 : decode cX6_number 44 = .ok (.iload_n 3, 1) := dk_29 (dk_at dksX6_number_1 21 rfl rfl)
theorem dX6_number_45 : decode cX6_number 45 = .ok (.iload_n 2, 1) := dk_28 (dk_at dksX6_number_1 22 rfl rfl)
theorem dX6_number_46 : decode cX6_number 46 = .ok (.if_icmp .gt 25, 3) := dk_163 0 25 (dk_at dksX6_number_2 0 rfl rfl)
theorem dX6_number_49 : decode cX6_number 49 = .ok (.bipush 10, 2) := dk_16 10 (dk_at dksX6_number_2 3 rfl rfl)
theorem dX6_number_51 : decode cX6_number 51 = .ok (.iload_n 3, 1) := dk_29 (dk_at dksX6_number_2 5 rfl rfl)
theorem dX6_number_52 : decode cX6_number 52 = .ok (.imul, 1) := dk_104 (dk_at dksX6_number_2 6 rfl rfl)
theorem dX6_number_53 : decode cX6_number 53 = .ok (.aload_n 0, 1) := dk_42 (dk_at dksX6_number_2 7 rfl rfl)
theorem dX6_number_54 : decode cX6_number 54 = .ok (.getfield 9, 3) := dk_180 0 9 (dk_at dksX6_number_2 8 rfl rfl)
theorem dX6_number_57 : decode cX6_number 57 = .ok (.iload 4, 2) := dk_21 4 (dk_at dksX6_number_2 11 rfl rfl)
theorem dX6_number_59 : decode cX6_number 59 = .ok (.baload, 1) := dk_51 (dk_at dksX6_number_2 13 rfl rfl)
theorem dX6_number_60 : decode cX6_number 60 = .ok (.iadd, 1) := dk_96 (dk_at dksX6_number_2 14 rfl rfl)
theorem dX6_number_61 : decode cX6_number 61 = .ok (.bipush 48, 2) := dk_16 48 (dk_at dksX6_number_2 15 rfl rfl)
theorem dX6_number_63 : decode cX6_number 63 = .ok (.isub, 1) := dk_100 (dk_at dksX6_number_2 17 rfl rfl)
theorem dX6_number_64 : decode cX6_number 64 = .ok (.istore_n 3, 1) := dk_62 (dk_at dksX6_number_2 18 rfl rfl)
theorem dX6_number_65 : decode cX6_number 65 = .ok (.iinc 4 1, 3) := dk_132 4 1 (dk_at dksX6_number_2 19 rfl rfl)
theorem dX6_number_68 : decode cX6_number 68 = .ok (.goto (-33), 3) := dk_167 255 223 (dk_at dksX6_number_3 0 rfl rfl)
theorem dX6_number_71 : decode cX6_number 71 = .ok (.iload_n 3, 1) := dk_29 (dk_at dksX6_number_3 3 rfl rfl)
theorem dX6_number_72 : decode cX6_number 72 = .ok (.iload_n 1, 1) := dk_27 (dk_at dksX6_number_3 4 rfl rfl)
theorem dX6_number_73 : decode cX6_number 73 = .ok (.if_icmp .lt 8, 3) := dk_161 0 8 (dk_at dksX6_number_3 5 rfl rfl)
theorem dX6_number_76 : decode cX6_number 76 = .ok (.iload_n 3, 1) := dk_29 (dk_at dksX6_number_3 8 rfl rfl)
theorem dX6_number_77 : decode cX6_number 77 = .ok (.iload_n 2, 1) := dk_28 (dk_at dksX6_number_3 9 rfl rfl)
theorem dX6_number_78 : decode cX6_number 78 = .ok (.if_icmp .le 15, 3) := dk_164 0 15 (dk_at dksX6_number_3 10 rfl rfl)
theorem dX6_number_81 : decode cX6_number 81 = .ok (.new 49, 3) := dk_187 0 49 (dk_at dksX6_number_3 13 rfl rfl)
theorem dX6_number_84 : decode cX6_number 84 = .ok (.dup, 1) := dk_89 (dk_at dksX6_number_3 16 rfl rfl)
theorem dX6_number_85 : decode cX6_number 85 = .ok (.aload_n 0, 1) := dk_42 (dk_at dksX6_number_3 17 rfl rfl)
theorem dX6_number_86 : decode cX6_number 86 = .ok (.getfield 22, 3) := dk_180 0 22 (dk_at dksX6_number_3 18 rfl rfl)
theorem dX6_number_89 : decode cX6_number 89 = .ok (.invokespecial 51, 3) := dk_183 0 51 (dk_at dksX6_number_3 21 rfl rfl)
theorem dX6_number_92 : decode cX6_number 92 = .ok (.athrow, 1) := dk_191 (dk_at dksX6_number_4 0 rfl rfl)
theorem dX6_number_93 : decode cX6_number 93 = .ok (.aload_n 0, 1) := dk_42 (dk_at dksX6_number_4 1 rfl rfl)
theorem dX6_number_94 : decode cX6_number 94 = .ok (.invokevirtual 43, 3) := dk_182 0 43 (dk_at dksX6_number_4 2 rfl rfl)
theorem dX6_number_97 : decode cX6_number 97 = .ok (.iload_n 3, 1) := dk_29 (dk_at dksX6_number_4 5 rfl rfl)
theorem dX6_number_98 : decode cX6_number 98 = .ok (.ireturn, 1) := dk_172 (dk_at dksX6_number_4 6 rfl rfl)
abbrev cX6_isValue : ByteArray := prog_13_method_21_code
def yX6_isValue : MethodName := ⟨RX6, "isValue", "(Ljava/lang/String;)Z"⟩
def dkwX6_isValue_0 : List UInt8 := [42, 43, 182, 0, 39, 154, 0, 5, 3, 172, 42, 182, 0, 156, 42, 182, 0, 43, 4, 172]
abbrev dktX6_isValue_0 : List UInt8 := dkwX6_isValue_0 ++ []
theorem dksX6_isValue_0 : cX6_isValue.data.toList.drop 0 = dktX6_isValue_0 := by decide +kernel
theorem dX6_isValue_0 : decode cX6_isValue 0 = .ok (.aload_n 0, 1) := dk_42 (dk_at dksX6_isValue_0 0 rfl rfl)
theorem dX6_isValue_1 : decode cX6_isValue 1 = .ok (.aload_n 1, 1) := dk_43 (dk_at dksX6_isValue_0 1 rfl rfl)
theorem dX6_isValue_2 : decode cX6_isValue 2 = .ok (.invokevirtual 39, 3) := dk_182 0 39 (dk_at dksX6_isValue_0 2 rfl rfl)
theorem dX6_isValue_5 : decode cX6_isValue 5 = .ok (.ifCond .ne 5, 3) := dk_154 0 5 (dk_at dksX6_isValue_0 5 rfl rfl)
theorem dX6_isValue_8 : decode cX6_isValue 8 = .ok (.iconst 0, 1) := dk_3 (dk_at dksX6_isValue_0 8 rfl rfl)
theorem dX6_isValue_9 : decode cX6_isValue 9 = .ok (.ireturn, 1) := dk_172 (dk_at dksX6_isValue_0 9 rfl rfl)
theorem dX6_isValue_10 : decode cX6_isValue 10 = .ok (.aload_n 0, 1) := dk_42 (dk_at dksX6_isValue_0 10 rfl rfl)
theorem dX6_isValue_11 : decode cX6_isValue 11 = .ok (.invokevirtual 156, 3) := dk_182 0 156 (dk_at dksX6_isValue_0 11 rfl rfl)
theorem dX6_isValue_14 : decode cX6_isValue 14 = .ok (.aload_n 0, 1) := dk_42 (dk_at dksX6_isValue_0 14 rfl rfl)
theorem dX6_isValue_15 : decode cX6_isValue 15 = .ok (.invokevirtual 43, 3) := dk_182 0 43 (dk_at dksX6_isValue_0 15 rfl rfl)
theorem dX6_isValue_18 : decode cX6_isValue 18 = .ok (.iconst 1, 1) := dk_4 (dk_at dksX6_isValue_0 18 rfl rfl)
theorem dX6_isValue_19 : decode cX6_isValue 19 = .ok (.ireturn, 1) := dk_172 (dk_at dksX6_isValue_0 19 rfl rfl)
abbrev cX6_test : ByteArray := prog_13_method_12_code
def yX6_test : MethodName := ⟨RX6, "test", "()LSoleraCellar$Test;"⟩
def dkwX6_test_2 : List UInt8 := [182, 0, 62, 182, 0, 77, 87, 167, 255, 235, 44, 176]
abbrev dktX6_test_2 : List UInt8 := dkwX6_test_2 ++ []
def dkwX6_test_1 : List UInt8 := [77, 44, 180, 0, 73, 43, 182, 0, 77, 87, 42, 18, 66, 182, 0, 46, 153, 0, 18, 44, 180, 0, 73, 42]
abbrev dktX6_test_1 : List UInt8 := dkwX6_test_1 ++ dktX6_test_2
def dkwX6_test_0 : List UInt8 := [42, 182, 0, 62, 76, 42, 18, 66, 182, 0, 39, 154, 0, 5, 43, 176, 187, 0, 68, 89, 3, 183, 0, 70]
abbrev dktX6_test_0 : List UInt8 := dkwX6_test_0 ++ dktX6_test_1
theorem dksX6_test_0 : cX6_test.data.toList.drop 0 = dktX6_test_0 := by decide +kernel
theorem dksX6_test_1 : cX6_test.data.toList.drop 24 = dktX6_test_1 := dk_seg dksX6_test_0 24 rfl rfl
theorem dksX6_test_2 : cX6_test.data.toList.drop 48 = dktX6_test_2 := dk_seg dksX6_test_1 24 rfl rfl
theorem dX6_test_0 : decode cX6_test 0 = .ok (.aload_n 0, 1) := dk_42 (dk_at dksX6_test_0 0 rfl rfl)
theorem dX6_test_1 : decode cX6_test 1 = .ok (.invokevirtual 62, 3) := dk_182 0 62 (dk_at dksX6_test_0 1 rfl rfl)
theorem dX6_test_4 : decode cX6_test 4 = .ok (.astore_n 1, 1) := dk_76 (dk_at dksX6_test_0 4 rfl rfl)
theorem dX6_test_5 : decode cX6_test 5 = .ok (.aload_n 0, 1) := dk_42 (dk_at dksX6_test_0 5 rfl rfl)
theorem dX6_test_6 : decode cX6_test 6 = .ok (.ldc 66, 2) := dk_18 66 (dk_at dksX6_test_0 6 rfl rfl)
theorem dX6_test_8 : decode cX6_test 8 = .ok (.invokevirtual 39, 3) := dk_182 0 39 (dk_at dksX6_test_0 8 rfl rfl)
theorem dX6_test_11 : decode cX6_test 11 = .ok (.ifCond .ne 5, 3) := dk_154 0 5 (dk_at dksX6_test_0 11 rfl rfl)
theorem dX6_test_14 : decode cX6_test 14 = .ok (.aload_n 1, 1) := dk_43 (dk_at dksX6_test_0 14 rfl rfl)
theorem dX6_test_15 : decode cX6_test 15 = .ok (.areturn, 1) := dk_176 (dk_at dksX6_test_0 15 rfl rfl)
theorem dX6_test_16 : decode cX6_test 16 = .ok (.new 68, 3) := dk_187 0 68 (dk_at dksX6_test_0 16 rfl rfl)
theorem dX6_test_19 : decode cX6_test 19 = .ok (.dup, 1) := dk_89 (dk_at dksX6_test_0 19 rfl rfl)
theorem dX6_test_20 : decode cX6_test 20 = .ok (.iconst 0, 1) := dk_3 (dk_at dksX6_test_0 20 rfl rfl)
theorem dX6_test_21 : decode cX6_test 21 = .ok (.invokespecial 70, 3) := dk_183 0 70 (dk_at dksX6_test_0 21 rfl rfl)
theorem dX6_test_24 : decode cX6_test 24 = .ok (.astore_n 2, 1) := dk_77 (dk_at dksX6_test_1 0 rfl rfl)
theorem dX6_test_25 : decode cX6_test 25 = .ok (.aload_n 2, 1) := dk_44 (dk_at dksX6_test_1 1 rfl rfl)
theorem dX6_test_26 : decode cX6_test 26 = .ok (.getfield 73, 3) := dk_180 0 73 (dk_at dksX6_test_1 2 rfl rfl)
theorem dX6_test_29 : decode cX6_test 29 = .ok (.aload_n 1, 1) := dk_43 (dk_at dksX6_test_1 5 rfl rfl)
theorem dX6_test_30 : decode cX6_test 30 = .ok (.invokevirtual 77, 3) := dk_182 0 77 (dk_at dksX6_test_1 6 rfl rfl)
theorem dX6_test_33 : decode cX6_test 33 = .ok (.pop, 1) := dk_87 (dk_at dksX6_test_1 9 rfl rfl)
theorem dX6_test_34 : decode cX6_test 34 = .ok (.aload_n 0, 1) := dk_42 (dk_at dksX6_test_1 10 rfl rfl)
theorem dX6_test_35 : decode cX6_test 35 = .ok (.ldc 66, 2) := dk_18 66 (dk_at dksX6_test_1 11 rfl rfl)
theorem dX6_test_37 : decode cX6_test 37 = .ok (.invokevirtual 46, 3) := dk_182 0 46 (dk_at dksX6_test_1 13 rfl rfl)
theorem dX6_test_40 : decode cX6_test 40 = .ok (.ifCond .eq 18, 3) := dk_153 0 18 (dk_at dksX6_test_1 16 rfl rfl)
theorem dX6_test_43 : decode cX6_test 43 = .ok (.aload_n 2, 1) := dk_44 (dk_at dksX6_test_1 19 rfl rfl)
theorem dX6_test_44 : decode cX6_test 44 = .ok (.getfield 73, 3) := dk_180 0 73 (dk_at dksX6_test_1 20 rfl rfl)
theorem dX6_test_47 : decode cX6_test 47 = .ok (.aload_n 0, 1) := dk_42 (dk_at dksX6_test_1 23 rfl rfl)
theorem dX6_test_48 : decode cX6_test 48 = .ok (.invokevirtual 62, 3) := dk_182 0 62 (dk_at dksX6_test_2 0 rfl rfl)
theorem dX6_test_51 : decode cX6_test 51 = .ok (.invokevirtual 77, 3) := dk_182 0 77 (dk_at dksX6_test_2 3 rfl rfl)
theorem dX6_test_54 : decode cX6_test 54 = .ok (.pop, 1) := dk_87 (dk_at dksX6_test_2 6 rfl rfl)
theorem dX6_test_55 : decode cX6_test 55 = .ok (.goto (-21), 3) := dk_167 255 235 (dk_at dksX6_test_2 7 rfl rfl)
theorem dX6_test_58 : decode cX6_test 58 = .ok (.aload_n 2, 1) := dk_44 (dk_at dksX6_test_2 10 rfl rfl)
theorem dX6_test_59 : decode cX6_test 59 = .ok (.areturn, 1) := dk_176 (dk_at dksX6_test_2 11 rfl rfl)
abbrev cX6_both : ByteArray := prog_13_method_13_code
def yX6_both : MethodName := ⟨RX6, "both", "()LSoleraCellar$Test;"⟩
def dkwX6_both_2 : List UInt8 := [182, 0, 83, 182, 0, 77, 87, 167, 255, 235, 44, 176]
abbrev dktX6_both_2 : List UInt8 := dkwX6_both_2 ++ []
def dkwX6_both_1 : List UInt8 := [77, 44, 180, 0, 73, 43, 182, 0, 77, 87, 42, 18, 86, 182, 0, 46, 153, 0, 18, 44, 180, 0, 73, 42]
abbrev dktX6_both_1 : List UInt8 := dkwX6_both_1 ++ dktX6_both_2
def dkwX6_both_0 : List UInt8 := [42, 182, 0, 83, 76, 42, 18, 86, 182, 0, 39, 154, 0, 5, 43, 176, 187, 0, 68, 89, 4, 183, 0, 70]
abbrev dktX6_both_0 : List UInt8 := dkwX6_both_0 ++ dktX6_both_1
theorem dksX6_both_0 : cX6_both.data.toList.drop 0 = dktX6_both_0 := by decide +kernel
theorem dksX6_both_1 : cX6_both.data.toList.drop 24 = dktX6_both_1 := dk_seg dksX6_both_0 24 rfl rfl
theorem dksX6_both_2 : cX6_both.data.toList.drop 48 = dktX6_both_2 := dk_seg dksX6_both_1 24 rfl rfl
theorem dX6_both_0 : decode cX6_both 0 = .ok (.aload_n 0, 1) := dk_42 (dk_at dksX6_both_0 0 rfl rfl)
theorem dX6_both_1 : decode cX6_both 1 = .ok (.invokevirtual 83, 3) := dk_182 0 83 (dk_at dksX6_both_0 1 rfl rfl)
theorem dX6_both_4 : decode cX6_both 4 = .ok (.astore_n 1, 1) := dk_76 (dk_at dksX6_both_0 4 rfl rfl)
theorem dX6_both_5 : decode cX6_both 5 = .ok (.aload_n 0, 1) := dk_42 (dk_at dksX6_both_0 5 rfl rfl)
theorem dX6_both_6 : decode cX6_both 6 = .ok (.ldc 86, 2) := dk_18 86 (dk_at dksX6_both_0 6 rfl rfl)
theorem dX6_both_8 : decode cX6_both 8 = .ok (.invokevirtual 39, 3) := dk_182 0 39 (dk_at dksX6_both_0 8 rfl rfl)
theorem dX6_both_11 : decode cX6_both 11 = .ok (.ifCond .ne 5, 3) := dk_154 0 5 (dk_at dksX6_both_0 11 rfl rfl)
theorem dX6_both_14 : decode cX6_both 14 = .ok (.aload_n 1, 1) := dk_43 (dk_at dksX6_both_0 14 rfl rfl)
theorem dX6_both_15 : decode cX6_both 15 = .ok (.areturn, 1) := dk_176 (dk_at dksX6_both_0 15 rfl rfl)
theorem dX6_both_16 : decode cX6_both 16 = .ok (.new 68, 3) := dk_187 0 68 (dk_at dksX6_both_0 16 rfl rfl)
theorem dX6_both_19 : decode cX6_both 19 = .ok (.dup, 1) := dk_89 (dk_at dksX6_both_0 19 rfl rfl)
theorem dX6_both_20 : decode cX6_both 20 = .ok (.iconst 1, 1) := dk_4 (dk_at dksX6_both_0 20 rfl rfl)
theorem dX6_both_21 : decode cX6_both 21 = .ok (.invokespecial 70, 3) := dk_183 0 70 (dk_at dksX6_both_0 21 rfl rfl)
theorem dX6_both_24 : decode cX6_both 24 = .ok (.astore_n 2, 1) := dk_77 (dk_at dksX6_both_1 0 rfl rfl)
theorem dX6_both_25 : decode cX6_both 25 = .ok (.aload_n 2, 1) := dk_44 (dk_at dksX6_both_1 1 rfl rfl)
theorem dX6_both_26 : decode cX6_both 26 = .ok (.getfield 73, 3) := dk_180 0 73 (dk_at dksX6_both_1 2 rfl rfl)
theorem dX6_both_29 : decode cX6_both 29 = .ok (.aload_n 1, 1) := dk_43 (dk_at dksX6_both_1 5 rfl rfl)
theorem dX6_both_30 : decode cX6_both 30 = .ok (.invokevirtual 77, 3) := dk_182 0 77 (dk_at dksX6_both_1 6 rfl rfl)
theorem dX6_both_33 : decode cX6_both 33 = .ok (.pop, 1) := dk_87 (dk_at dksX6_both_1 9 rfl rfl)
theorem dX6_both_34 : decode cX6_both 34 = .ok (.aload_n 0, 1) := dk_42 (dk_at dksX6_both_1 10 rfl rfl)
theorem dX6_both_35 : decode cX6_both 35 = .ok (.ldc 86, 2) := dk_18 86 (dk_at dksX6_both_1 11 rfl rfl)
theorem dX6_both_37 : decode cX6_both 37 = .ok (.invokevirtual 46, 3) := dk_182 0 46 (dk_at dksX6_both_1 13 rfl rfl)
theorem dX6_both_40 : decode cX6_both 40 = .ok (.ifCond .eq 18, 3) := dk_153 0 18 (dk_at dksX6_both_1 16 rfl rfl)
theorem dX6_both_43 : decode cX6_both 43 = .ok (.aload_n 2, 1) := dk_44 (dk_at dksX6_both_1 19 rfl rfl)
theorem dX6_both_44 : decode cX6_both 44 = .ok (.getfield 73, 3) := dk_180 0 73 (dk_at dksX6_both_1 20 rfl rfl)
theorem dX6_both_47 : decode cX6_both 47 = .ok (.aload_n 0, 1) := dk_42 (dk_at dksX6_both_1 23 rfl rfl)
theorem dX6_both_48 : decode cX6_both 48 = .ok (.invokevirtual 83, 3) := dk_182 0 83 (dk_at dksX6_both_2 0 rfl rfl)
theorem dX6_both_51 : decode cX6_both 51 = .ok (.invokevirtual 77, 3) := dk_182 0 77 (dk_at dksX6_both_2 3 rfl rfl)
theorem dX6_both_54 : decode cX6_both 54 = .ok (.pop, 1) := dk_87 (dk_at dksX6_both_2 6 rfl rfl)
theorem dX6_both_55 : decode cX6_both 55 = .ok (.goto (-21), 3) := dk_167 255 235 (dk_at dksX6_both_2 7 rfl rfl)
theorem dX6_both_58 : decode cX6_both 58 = .ok (.aload_n 2, 1) := dk_44 (dk_at dksX6_both_2 10 rfl rfl)
theorem dX6_both_59 : decode cX6_both 59 = .ok (.areturn, 1) := dk_176 (dk_at dksX6_both_2 11 rfl rfl)
abbrev cX6_plain : ByteArray := prog_13_method_15_code
def yX6_plain : MethodName := ⟨RX6, "plain", "()LSoleraCellar$Test;"⟩
def dkwX6_plain_1 : List UInt8 := [42, 182, 0, 93, 77, 27, 153, 0, 14, 187, 0, 96, 89, 44, 183, 0, 98, 167, 0, 4, 44, 176]
abbrev dktX6_plain_1 : List UInt8 := dkwX6_plain_1 ++ []
def dkwX6_plain_0 : List UInt8 := [3, 60, 42, 18, 91, 182, 0, 46, 153, 0, 16, 27, 154, 0, 7, 4, 167, 0, 4, 3, 60, 167, 255, 237]
abbrev dktX6_plain_0 : List UInt8 := dkwX6_plain_0 ++ dktX6_plain_1
theorem dksX6_plain_0 : cX6_plain.data.toList.drop 0 = dktX6_plain_0 := by decide +kernel
theorem dksX6_plain_1 : cX6_plain.data.toList.drop 24 = dktX6_plain_1 := dk_seg dksX6_plain_0 24 rfl rfl
theorem dX6_plain_0 : decode cX6_plain 0 = .ok (.iconst 0, 1) := dk_3 (dk_at dksX6_plain_0 0 rfl rfl)
theorem dX6_plain_1 : decode cX6_plain 1 = .ok (.istore_n 1, 1) := dk_60 (dk_at dksX6_plain_0 1 rfl rfl)
theorem dX6_plain_2 : decode cX6_plain 2 = .ok (.aload_n 0, 1) := dk_42 (dk_at dksX6_plain_0 2 rfl rfl)
theorem dX6_plain_3 : decode cX6_plain 3 = .ok (.ldc 91, 2) := dk_18 91 (dk_at dksX6_plain_0 3 rfl rfl)
theorem dX6_plain_5 : decode cX6_plain 5 = .ok (.invokevirtual 46, 3) := dk_182 0 46 (dk_at dksX6_plain_0 5 rfl rfl)
theorem dX6_plain_8 : decode cX6_plain 8 = .ok (.ifCond .eq 16, 3) := dk_153 0 16 (dk_at dksX6_plain_0 8 rfl rfl)
theorem dX6_plain_11 : decode cX6_plain 11 = .ok (.iload_n 1, 1) := dk_27 (dk_at dksX6_plain_0 11 rfl rfl)
theorem dX6_plain_12 : decode cX6_plain 12 = .ok (.ifCond .ne 7, 3) := dk_154 0 7 (dk_at dksX6_plain_0 12 rfl rfl)
theorem dX6_plain_15 : decode cX6_plain 15 = .ok (.iconst 1, 1) := dk_4 (dk_at dksX6_plain_0 15 rfl rfl)
theorem dX6_plain_16 : decode cX6_plain 16 = .ok (.goto 4, 3) := dk_167 0 4 (dk_at dksX6_plain_0 16 rfl rfl)
theorem dX6_plain_19 : decode cX6_plain 19 = .ok (.iconst 0, 1) := dk_3 (dk_at dksX6_plain_0 19 rfl rfl)
theorem dX6_plain_20 : decode cX6_plain 20 = .ok (.istore_n 1, 1) := dk_60 (dk_at dksX6_plain_0 20 rfl rfl)
theorem dX6_plain_21 : decode cX6_plain 21 = .ok (.goto (-19), 3) := dk_167 255 237 (dk_at dksX6_plain_0 21 rfl rfl)
theorem dX6_plain_24 : decode cX6_plain 24 = .ok (.aload_n 0, 1) := dk_42 (dk_at dksX6_plain_1 0 rfl rfl)
theorem dX6_plain_25 : decode cX6_plain 25 = .ok (.invokevirtual 93, 3) := dk_182 0 93 (dk_at dksX6_plain_1 1 rfl rfl)
theorem dX6_plain_28 : decode cX6_plain 28 = .ok (.astore_n 2, 1) := dk_77 (dk_at dksX6_plain_1 4 rfl rfl)
theorem dX6_plain_29 : decode cX6_plain 29 = .ok (.iload_n 1, 1) := dk_27 (dk_at dksX6_plain_1 5 rfl rfl)
theorem dX6_plain_30 : decode cX6_plain 30 = .ok (.ifCond .eq 14, 3) := dk_153 0 14 (dk_at dksX6_plain_1 6 rfl rfl)
theorem dX6_plain_33 : decode cX6_plain 33 = .ok (.new 96, 3) := dk_187 0 96 (dk_at dksX6_plain_1 9 rfl rfl)
theorem dX6_plain_36 : decode cX6_plain 36 = .ok (.dup, 1) := dk_89 (dk_at dksX6_plain_1 12 rfl rfl)
theorem dX6_plain_37 : decode cX6_plain 37 = .ok (.aload_n 2, 1) := dk_44 (dk_at dksX6_plain_1 13 rfl rfl)
theorem dX6_plain_38 : decode cX6_plain 38 = .ok (.invokespecial 98, 3) := dk_183 0 98 (dk_at dksX6_plain_1 14 rfl rfl)
theorem dX6_plain_41 : decode cX6_plain 41 = .ok (.goto 4, 3) := dk_167 0 4 (dk_at dksX6_plain_1 17 rfl rfl)
theorem dX6_plain_44 : decode cX6_plain 44 = .ok (.aload_n 2, 1) := dk_44 (dk_at dksX6_plain_1 20 rfl rfl)
theorem dX6_plain_45 : decode cX6_plain 45 = .ok (.areturn, 1) := dk_176 (dk_at dksX6_plain_1 21 rfl rfl)
abbrev cX6_positive : ByteArray := prog_13_method_16_code
def yX6_positive : MethodName := ⟨RX6, "positive", "()LSoleraCellar$Test;"⟩
def dkwX6_positive_4 : List UInt8 := [187, 0, 125, 89, 28, 43, 42, 182, 0, 115, 183, 0, 127, 176]
abbrev dktX6_positive_4 : List UInt8 := dkwX6_positive_4 ++ []
def dkwX6_positive_3 : List UInt8 := [89, 42, 180, 0, 22, 183, 0, 51, 191, 42, 180, 0, 9, 42, 180, 0, 22, 51, 146, 61, 42, 182, 0, 43]
abbrev dktX6_positive_3 : List UInt8 := dkwX6_positive_3 ++ dktX6_positive_4
def dkwX6_positive_2 : List UInt8 := [154, 0, 33, 42, 18, 121, 182, 0, 39, 154, 0, 24, 42, 18, 123, 182, 0, 39, 154, 0, 15, 187, 0, 49]
abbrev dktX6_positive_2 : List UInt8 := dkwX6_positive_2 ++ dktX6_positive_3
def dkwX6_positive_1 : List UInt8 := [42, 89, 180, 0, 88, 4, 100, 181, 0, 88, 43, 176, 42, 182, 0, 115, 76, 42, 18, 119, 182, 0, 39]
abbrev dktX6_positive_1 : List UInt8 := dkwX6_positive_1 ++ dktX6_positive_2
def dkwX6_positive_0 : List UInt8 := [42, 18, 101, 182, 0, 39, 153, 0, 30, 42, 182, 0, 103, 42, 182, 0, 106, 76, 42, 18, 109, 182, 0, 111]
abbrev dktX6_positive_0 : List UInt8 := dkwX6_positive_0 ++ dktX6_positive_1
theorem dksX6_positive_0 : cX6_positive.data.toList.drop 0 = dktX6_positive_0 := by decide +kernel
theorem dksX6_positive_1 : cX6_positive.data.toList.drop 24 = dktX6_positive_1 := dk_seg dksX6_positive_0 24 rfl rfl
theorem dksX6_positive_2 : cX6_positive.data.toList.drop 47 = dktX6_positive_2 := dk_seg dksX6_positive_1 23 rfl rfl
theorem dksX6_positive_3 : cX6_positive.data.toList.drop 71 = dktX6_positive_3 := dk_seg dksX6_positive_2 24 rfl rfl
theorem dksX6_positive_4 : cX6_positive.data.toList.drop 95 = dktX6_positive_4 := dk_seg dksX6_positive_3 24 rfl rfl
theorem dX6_positive_0 : decode cX6_positive 0 = .ok (.aload_n 0, 1) := dk_42 (dk_at dksX6_positive_0 0 rfl rfl)
theorem dX6_positive_1 : decode cX6_positive 1 = .ok (.ldc 101, 2) := dk_18 101 (dk_at dksX6_positive_0 1 rfl rfl)
theorem dX6_positive_3 : decode cX6_positive 3 = .ok (.invokevirtual 39, 3) := dk_182 0 39 (dk_at dksX6_positive_0 3 rfl rfl)
theorem dX6_positive_6 : decode cX6_positive 6 = .ok (.ifCond .eq 30, 3) := dk_153 0 30 (dk_at dksX6_positive_0 6 rfl rfl)
theorem dX6_positive_9 : decode cX6_positive 9 = .ok (.aload_n 0, 1) := dk_42 (dk_at dksX6_positive_0 9 rfl rfl)
theorem dX6_positive_10 : decode cX6_positive 10 = .ok (.invokevirtual 103, 3) := dk_182 0 103 (dk_at dksX6_positive_0 10 rfl rfl)
theorem dX6_positive_13 : decode cX6_positive 13 = .ok (.aload_n 0, 1) := dk_42 (dk_at dksX6_positive_0 13 rfl rfl)
theorem dX6_positive_14 : decode cX6_positive 14 = .ok (.invokevirtual 106, 3) := dk_182 0 106 (dk_at dksX6_positive_0 14 rfl rfl)
theorem dX6_positive_17 : decode cX6_positive 17 = .ok (.astore_n 1, 1) := dk_76 (dk_at dksX6_positive_0 17 rfl rfl)
theorem dX6_positive_18 : decode cX6_positive 18 = .ok (.aload_n 0, 1) := dk_42 (dk_at dksX6_positive_0 18 rfl rfl)
theorem dX6_positive_19 : decode cX6_positive 19 = .ok (.ldc 109, 2) := dk_18 109 (dk_at dksX6_positive_0 19 rfl rfl)
theorem dX6_positive_21 : decode cX6_positive 21 = .ok (.invokevirtual 111, 3) := dk_182 0 111 (dk_at dksX6_positive_0 21 rfl rfl)
theorem dX6_positive_24 : decode cX6_positive 24 = .ok (.aload_n 0, 1) := dk_42 (dk_at dksX6_positive_1 0 rfl rfl)
theorem dX6_positive_25 : decode cX6_positive 25 = .ok (.dup, 1) := dk_89 (dk_at dksX6_positive_1 1 rfl rfl)
theorem dX6_positive_26 : decode cX6_positive 26 = .ok (.getfield 88, 3) := dk_180 0 88 (dk_at dksX6_positive_1 2 rfl rfl)
theorem dX6_positive_29 : decode cX6_positive 29 = .ok (.iconst 1, 1) := dk_4 (dk_at dksX6_positive_1 5 rfl rfl)
theorem dX6_positive_30 : decode cX6_positive 30 = .ok (.isub, 1) := dk_100 (dk_at dksX6_positive_1 6 rfl rfl)
theorem dX6_positive_31 : decode cX6_positive 31 = .ok (.putfield 88, 3) := dk_181 0 88 (dk_at dksX6_positive_1 7 rfl rfl)
theorem dX6_positive_34 : decode cX6_positive 34 = .ok (.aload_n 1, 1) := dk_43 (dk_at dksX6_positive_1 10 rfl rfl)
theorem dX6_positive_35 : decode cX6_positive 35 = .ok (.areturn, 1) := dk_176 (dk_at dksX6_positive_1 11 rfl rfl)
theorem dX6_positive_36 : decode cX6_positive 36 = .ok (.aload_n 0, 1) := dk_42 (dk_at dksX6_positive_1 12 rfl rfl)
theorem dX6_positive_37 : decode cX6_positive 37 = .ok (.invokevirtual 115, 3) := dk_182 0 115 (dk_at dksX6_positive_1 13 rfl rfl)
theorem dX6_positive_40 : decode cX6_positive 40 = .ok (.astore_n 1, 1) := dk_76 (dk_at dksX6_positive_1 16 rfl rfl)
theorem dX6_positive_41 : decode cX6_positive 41 = .ok (.aload_n 0, 1) := dk_42 (dk_at dksX6_positive_1 17 rfl rfl)
theorem dX6_positive_42 : decode cX6_positive 42 = .ok (.ldc 119, 2) := dk_18 119 (dk_at dksX6_positive_1 18 rfl rfl)
theorem dX6_positive_44 : decode cX6_positive 44 = .ok (.invokevirtual 39, 3) := dk_182 0 39 (dk_at dksX6_positive_1 20 rfl rfl)
theorem dX6_positive_47 : decode cX6_positive 47 = .ok (.ifCond .ne 33, 3) := dk_154 0 33 (dk_at dksX6_positive_2 0 rfl rfl)
theorem dX6_positive_50 : decode cX6_positive 50 = .ok (.aload_n 0, 1) := dk_42 (dk_at dksX6_positive_2 3 rfl rfl)
theorem dX6_positive_51 : decode cX6_positive 51 = .ok (.ldc 121, 2) := dk_18 121 (dk_at dksX6_positive_2 4 rfl rfl)
theorem dX6_positive_53 : decode cX6_positive 53 = .ok (.invokevirtual 39, 3) := dk_182 0 39 (dk_at dksX6_positive_2 6 rfl rfl)
theorem dX6_positive_56 : decode cX6_positive 56 = .ok (.ifCond .ne 24, 3) := dk_154 0 24 (dk_at dksX6_positive_2 9 rfl rfl)
theorem dX6_positive_59 : decode cX6_positive 59 = .ok (.aload_n 0, 1) := dk_42 (dk_at dksX6_positive_2 12 rfl rfl)
theorem dX6_positive_60 : decode cX6_positive 60 = .ok (.ldc 123, 2) := dk_18 123 (dk_at dksX6_positive_2 13 rfl rfl)
theorem dX6_positive_62 : decode cX6_positive 62 = .ok (.invokevirtual 39, 3) := dk_182 0 39 (dk_at dksX6_positive_2 15 rfl rfl)
theorem dX6_positive_65 : decode cX6_positive 65 = .ok (.ifCond .ne 15, 3) := dk_154 0 15 (dk_at dksX6_positive_2 18 rfl rfl)
theorem dX6_positive_68 : decode cX6_positive 68 = .ok (.new 49, 3) := dk_187 0 49 (dk_at dksX6_positive_2 21 rfl rfl)
theorem dX6_positive_71 : decode cX6_positive 71 = .ok (.dup, 1) := dk_89 (dk_at dksX6_positive_3 0 rfl rfl)
theorem dX6_positive_72 : decode cX6_positive 72 = .ok (.aload_n 0, 1) := dk_42 (dk_at dksX6_positive_3 1 rfl rfl)
theorem dX6_positive_73 : decode cX6_positive 73 = .ok (.getfield 22, 3) := dk_180 0 22 (dk_at dksX6_positive_3 2 rfl rfl)
theorem dX6_positive_76 : decode cX6_positive 76 = .ok (.invokespecial 51, 3) := dk_183 0 51 (dk_at dksX6_positive_3 5 rfl rfl)
theorem dX6_positive_79 : decode cX6_positive 79 = .ok (.athrow, 1) := dk_191 (dk_at dksX6_positive_3 8 rfl rfl)
theorem dX6_positive_80 : decode cX6_positive 80 = .ok (.aload_n 0, 1) := dk_42 (dk_at dksX6_positive_3 9 rfl rfl)
theorem dX6_positive_81 : decode cX6_positive 81 = .ok (.getfield 9, 3) := dk_180 0 9 (dk_at dksX6_positive_3 10 rfl rfl)
theorem dX6_positive_84 : decode cX6_positive 84 = .ok (.aload_n 0, 1) := dk_42 (dk_at dksX6_positive_3 13 rfl rfl)
theorem dX6_positive_85 : decode cX6_positive 85 = .ok (.getfield 22, 3) := dk_180 0 22 (dk_at dksX6_positive_3 14 rfl rfl)
theorem dX6_positive_88 : decode cX6_positive 88 = .ok (.baload, 1) := dk_51 (dk_at dksX6_positive_3 17 rfl rfl)
theorem dX6_positive_89 : decode cX6_positive 89 = .ok (.i2c, 1) := dk_146 (dk_at dksX6_positive_3 18 rfl rfl)
theorem dX6_positive_90 : decode cX6_positive 90 = .ok (.istore_n 2, 1) := dk_61 (dk_at dksX6_positive_3 19 rfl rfl)
theorem dX6_positive_91 : decode cX6_positive 91 = .ok (.aload_n 0, 1) := dk_42 (dk_at dksX6_positive_3 20 rfl rfl)
theorem dX6_positive_92 : decode cX6_positive 92 = .ok (.invokevirtual 43, 3) := dk_182 0 43 (dk_at dksX6_positive_3 21 rfl rfl)
theorem dX6_positive_95 : decode cX6_positive 95 = .ok (.new 125, 3) := dk_187 0 125 (dk_at dksX6_positive_4 0 rfl rfl)
theorem dX6_positive_98 : decode cX6_positive 98 = .ok (.dup, 1) := dk_89 (dk_at dksX6_positive_4 3 rfl rfl)
theorem dX6_positive_99 : decode cX6_positive 99 = .ok (.iload_n 2, 1) := dk_28 (dk_at dksX6_positive_4 4 rfl rfl)
theorem dX6_positive_100 : decode cX6_positive 100 = .ok (.aload_n 1, 1) := dk_43 (dk_at dksX6_positive_4 5 rfl rfl)
theorem dX6_positive_101 : decode cX6_positive 101 = .ok (.aload_n 0, 1) := dk_42 (dk_at dksX6_positive_4 6 rfl rfl)
theorem dX6_positive_102 : decode cX6_positive 102 = .ok (.invokevirtual 115, 3) := dk_182 0 115 (dk_at dksX6_positive_4 7 rfl rfl)
theorem dX6_positive_105 : decode cX6_positive 105 = .ok (.invokespecial 127, 3) := dk_183 0 127 (dk_at dksX6_positive_4 10 rfl rfl)
theorem dX6_positive_108 : decode cX6_positive 108 = .ok (.areturn, 1) := dk_176 (dk_at dksX6_positive_4 13 rfl rfl)
abbrev cX6_behind : ByteArray := prog_13_method_22_code
def yX6_behind : MethodName := ⟨RX6, "behind", "(Ljava/lang/String;)LSoleraCellar$Sum;"⟩
def dkwX6_behind_0 : List UInt8 := [42, 43, 182, 0, 111, 42, 182, 0, 115, 176]
abbrev dktX6_behind_0 : List UInt8 := dkwX6_behind_0 ++ []
theorem dksX6_behind_0 : cX6_behind.data.toList.drop 0 = dktX6_behind_0 := by decide +kernel
theorem dX6_behind_0 : decode cX6_behind 0 = .ok (.aload_n 0, 1) := dk_42 (dk_at dksX6_behind_0 0 rfl rfl)
theorem dX6_behind_1 : decode cX6_behind 1 = .ok (.aload_n 1, 1) := dk_43 (dk_at dksX6_behind_0 1 rfl rfl)
theorem dX6_behind_2 : decode cX6_behind 2 = .ok (.invokevirtual 111, 3) := dk_182 0 111 (dk_at dksX6_behind_0 2 rfl rfl)
theorem dX6_behind_5 : decode cX6_behind 5 = .ok (.aload_n 0, 1) := dk_42 (dk_at dksX6_behind_0 5 rfl rfl)
theorem dX6_behind_6 : decode cX6_behind 6 = .ok (.invokevirtual 115, 3) := dk_182 0 115 (dk_at dksX6_behind_0 6 rfl rfl)
theorem dX6_behind_9 : decode cX6_behind 9 = .ok (.areturn, 1) := dk_176 (dk_at dksX6_behind_0 9 rfl rfl)
theorem q146 : (Jvm.Cond.initialized "SoleraCellar$Reader") ∈ lw_all := lw_g (lw_at lw_m1 15 rfl) rfl
theorem q741 : (Jvm.Cond.instanceMethod ({ cls := "SoleraCellar$Reader", name := "<init>", desc := "([BI)V" } : Jvm.MethodName)) ∈ lw_all := lw_g (lw_at lw_m3 130 rfl) rfl
theorem q742 : (Jvm.Cond.code ({ cls := "SoleraCellar$Reader", name := "<init>", desc := "([BI)V" } : Jvm.MethodName) prog_13_method_1_code (3 : Nat) (Option.none : Option Jvm.ClassFile.FieldType)) ∈ lw_all := lw_g (lw_at lw_m3 131 rfl) rfl
theorem q743 : (Jvm.Cond.methodLink "SoleraCellar$Reader" (3 : Nat) ({ cls := "java/lang/Object", name := "<init>", desc := "()V" } : Jvm.MethodName)) ∈ lw_all := lw_g (lw_at lw_m3 132 rfl) rfl
theorem q748 : (Jvm.Cond.fieldLink "SoleraCellar$Reader" (9 : Nat) "SoleraCellar$Reader" "tape" "[B") ∈ lw_all := lw_g (lw_at lw_m3 137 rfl) rfl
theorem q749 : (Jvm.Cond.fieldLink "SoleraCellar$Reader" (15 : Nat) "SoleraCellar$Reader" "size" "I") ∈ lw_all := lw_g (lw_at lw_m3 138 rfl) rfl
theorem q750 : (Jvm.Cond.fieldLink "SoleraCellar$Reader" (59 : Nat) "SoleraCellar$Reader" "made" "I") ∈ lw_all := lw_g (lw_at lw_m3 139 rfl) rfl
theorem q751 : (Jvm.Cond.fieldLink "SoleraCellar$Reader" (22 : Nat) "SoleraCellar$Reader" "from" "I") ∈ lw_all := lw_g (lw_at lw_m3 140 rfl) rfl
theorem q752 : (Jvm.Cond.fieldLink "SoleraCellar$Reader" (19 : Nat) "SoleraCellar$Reader" "to" "I") ∈ lw_all := lw_g (lw_at lw_m3 141 rfl) rfl
theorem q753 : (Jvm.Cond.fieldLink "SoleraCellar$Reader" (149 : Nat) "SoleraCellar$Reader" "leaves" "I") ∈ lw_all := lw_g (lw_at lw_m3 142 rfl) rfl
theorem q754 : (Jvm.Cond.fieldLink "SoleraCellar$Reader" (88 : Nat) "SoleraCellar$Reader" "deep" "I") ∈ lw_all := lw_g (lw_at lw_m3 143 rfl) rfl
theorem q758 : (Jvm.Cond.soleField "SoleraCellar$Reader" "tape") ∈ lw_all := lw_g (lw_at lw_m3 147 rfl) rfl
theorem q760 : (Jvm.Cond.soleField "SoleraCellar$Reader" "size") ∈ lw_all := lw_g (lw_at lw_m3 149 rfl) rfl
theorem q762 : (Jvm.Cond.soleField "SoleraCellar$Reader" "made") ∈ lw_all := lw_g (lw_at lw_m3 151 rfl) rfl
theorem q764 : (Jvm.Cond.soleField "SoleraCellar$Reader" "from") ∈ lw_all := lw_g (lw_at lw_m3 153 rfl) rfl
theorem q766 : (Jvm.Cond.soleField "SoleraCellar$Reader" "to") ∈ lw_all := lw_g (lw_at lw_m3 155 rfl) rfl
theorem q768 : (Jvm.Cond.soleField "SoleraCellar$Reader" "leaves") ∈ lw_all := lw_g (lw_at lw_m3 157 rfl) rfl
theorem q770 : (Jvm.Cond.soleField "SoleraCellar$Reader" "deep") ∈ lw_all := lw_g (lw_at lw_m3 159 rfl) rfl
theorem q778 : (Jvm.Cond.instanceMethod ({ cls := "SoleraCellar$Reader", name := "read", desc := "()V" } : Jvm.MethodName)) ∈ lw_all := lw_g (lw_at lw_m3 167 rfl) rfl
theorem q779 : (Jvm.Cond.sameMethod "SoleraCellar$Reader" "SoleraCellar$Reader" "read" "()V") ∈ lw_all := lw_g (lw_at lw_m3 168 rfl) rfl
theorem q782 : (Jvm.Cond.code ({ cls := "SoleraCellar$Reader", name := "read", desc := "()V" } : Jvm.MethodName) prog_13_method_10_code (1 : Nat) (Option.none : Option Jvm.ClassFile.FieldType)) ∈ lw_all := lw_g (lw_at lw_m3 171 rfl) rfl
theorem q783 : (Jvm.Cond.methodLink "SoleraCellar$Reader" (43 : Nat) ({ cls := "SoleraCellar$Reader", name := "next", desc := "()V" } : Jvm.MethodName)) ∈ lw_all := lw_g (lw_at lw_m3 172 rfl) rfl
theorem q784 : (Jvm.Cond.instanceMethod ({ cls := "SoleraCellar$Reader", name := "next", desc := "()V" } : Jvm.MethodName)) ∈ lw_all := lw_g (lw_at lw_m3 173 rfl) rfl
theorem q785 : (Jvm.Cond.sameMethod "SoleraCellar$Reader" "SoleraCellar$Reader" "next" "()V") ∈ lw_all := lw_g (lw_at lw_m3 174 rfl) rfl
theorem q788 : (Jvm.Cond.code ({ cls := "SoleraCellar$Reader", name := "next", desc := "()V" } : Jvm.MethodName) prog_13_method_3_code (1 : Nat) (Option.none : Option Jvm.ClassFile.FieldType)) ∈ lw_all := lw_g (lw_at lw_m3 177 rfl) rfl
theorem q789 : (Jvm.Cond.methodLink "SoleraCellar$Reader" (25 : Nat) ({ cls := "SoleraCellar$Reader", name := "isIn", desc := "(III)Z" } : Jvm.MethodName)) ∈ lw_all := lw_g (lw_at lw_m3 178 rfl) rfl
theorem q790 : (Jvm.Cond.instanceMethod ({ cls := "SoleraCellar$Reader", name := "isIn", desc := "(III)Z" } : Jvm.MethodName)) ∈ lw_all := lw_g (lw_at lw_m3 179 rfl) rfl
theorem q791 : (Jvm.Cond.sameMethod "SoleraCellar$Reader" "SoleraCellar$Reader" "isIn" "(III)Z") ∈ lw_all := lw_g (lw_at lw_m3 180 rfl) rfl
theorem q794 : (Jvm.Cond.code ({ cls := "SoleraCellar$Reader", name := "isIn", desc := "(III)Z" } : Jvm.MethodName) prog_13_method_2_code (4 : Nat) (Option.some Jvm.ClassFile.FieldType.boolean)) ∈ lw_all := lw_g (lw_at lw_m3 183 rfl) rfl
theorem q795 : (Jvm.Cond.methodLink "SoleraCellar$Reader" (54 : Nat) ({ cls := "SoleraCellar$Reader", name := "clause", desc := "()V" } : Jvm.MethodName)) ∈ lw_all := lw_g (lw_at lw_m3 184 rfl) rfl
theorem q796 : (Jvm.Cond.declares ({ cls := "SoleraCellar$Reader", name := "clause", desc := "()V" } : Jvm.MethodName)) ∈ lw_tbl := lw_at lw_m3 185 rfl
theorem q797 : (Jvm.Cond.sameMethod "SoleraCellar$Reader" "SoleraCellar$Reader" "clause" "()V") ∈ lw_all := lw_g (lw_at lw_m3 186 rfl) rfl
theorem q804 : (Jvm.Cond.declares ({ cls := "SoleraCellar$Reader", name := "is", desc := "(Ljava/lang/String;)Z" } : Jvm.MethodName)) ∈ lw_tbl := lw_at lw_m3 193 rfl
theorem q806 : (Jvm.Cond.instanceMethod ({ cls := "SoleraCellar$Reader", name := "is", desc := "(Ljava/lang/String;)Z" } : Jvm.MethodName)) ∈ lw_all := lw_g (lw_at lw_m3 195 rfl) rfl
theorem q807 : (Jvm.Cond.code ({ cls := "SoleraCellar$Reader", name := "is", desc := "(Ljava/lang/String;)Z" } : Jvm.MethodName) prog_13_method_4_code (3 : Nat) (Option.some Jvm.ClassFile.FieldType.boolean)) ∈ lw_all := lw_g (lw_at lw_m3 196 rfl) rfl
theorem q808 : (Jvm.Cond.methodLink "SoleraCellar$Reader" (29 : Nat) ({ cls := "java/lang/String", name := "length", desc := "()I" } : Jvm.MethodName)) ∈ lw_all := lw_g (lw_at lw_m3 197 rfl) rfl
theorem q818 : (Jvm.Cond.methodLink "SoleraCellar$Reader" (35 : Nat) ({ cls := "java/lang/String", name := "charAt", desc := "(I)C" } : Jvm.MethodName)) ∈ lw_all := lw_g (lw_at lw_m3 207 rfl) rfl
theorem q858 : (Jvm.Cond.declares ({ cls := "SoleraCellar$Reader", name := "begins", desc := "(Z)V" } : Jvm.MethodName)) ∈ lw_tbl := lw_at lw_m4 7 rfl
theorem q860 : (Jvm.Cond.instanceMethod ({ cls := "SoleraCellar$Reader", name := "begins", desc := "(Z)V" } : Jvm.MethodName)) ∈ lw_all := lw_g (lw_at lw_m4 9 rfl) rfl
theorem q861 : (Jvm.Cond.code ({ cls := "SoleraCellar$Reader", name := "begins", desc := "(Z)V" } : Jvm.MethodName) prog_13_method_11_code (2 : Nat) (Option.none : Option Jvm.ClassFile.FieldType)) ∈ lw_all := lw_g (lw_at lw_m4 10 rfl) rfl
theorem q862 : (Jvm.Cond.classLink "SoleraCellar$Reader" (49 : Nat) "SoleraCellar$Fault") ∈ lw_all := lw_g (lw_at lw_m4 11 rfl) rfl
theorem q871 : (Jvm.Cond.methodLink "SoleraCellar$Reader" (51 : Nat) ({ cls := "SoleraCellar$Fault", name := "<init>", desc := "(I)V" } : Jvm.MethodName)) ∈ lw_all := lw_g (lw_at lw_m4 20 rfl) rfl
theorem q883 : (Jvm.Cond.declares ({ cls := "SoleraCellar$Reader", name := "next", desc := "()V" } : Jvm.MethodName)) ∈ lw_tbl := lw_at lw_m4 32 rfl
theorem q906 : (Jvm.Cond.declares ({ cls := "SoleraCellar$Reader", name := "sum", desc := "()LSoleraCellar$Sum;" } : Jvm.MethodName)) ∈ lw_tbl := lw_at lw_m4 55 rfl
theorem q908 : (Jvm.Cond.instanceMethod ({ cls := "SoleraCellar$Reader", name := "sum", desc := "()LSoleraCellar$Sum;" } : Jvm.MethodName)) ∈ lw_all := lw_g (lw_at lw_m4 57 rfl) rfl
theorem q909 : (Jvm.Cond.code ({ cls := "SoleraCellar$Reader", name := "sum", desc := "()LSoleraCellar$Sum;" } : Jvm.MethodName) prog_13_method_17_code (3 : Nat) (Option.some (Jvm.ClassFile.FieldType.object "SoleraCellar$Sum"))) ∈ lw_all := lw_g (lw_at lw_m4 58 rfl) rfl
theorem q910 : (Jvm.Cond.methodLink "SoleraCellar$Reader" (130 : Nat) ({ cls := "SoleraCellar$Reader", name := "term", desc := "()LSoleraCellar$Sum;" } : Jvm.MethodName)) ∈ lw_all := lw_g (lw_at lw_m4 59 rfl) rfl
theorem q911 : (Jvm.Cond.instanceMethod ({ cls := "SoleraCellar$Reader", name := "term", desc := "()LSoleraCellar$Sum;" } : Jvm.MethodName)) ∈ lw_all := lw_g (lw_at lw_m4 60 rfl) rfl
theorem q912 : (Jvm.Cond.sameMethod "SoleraCellar$Reader" "SoleraCellar$Reader" "term" "()LSoleraCellar$Sum;") ∈ lw_all := lw_g (lw_at lw_m4 61 rfl) rfl
theorem q915 : (Jvm.Cond.code ({ cls := "SoleraCellar$Reader", name := "term", desc := "()LSoleraCellar$Sum;" } : Jvm.MethodName) prog_13_method_18_code (3 : Nat) (Option.some (Jvm.ClassFile.FieldType.object "SoleraCellar$Sum"))) ∈ lw_all := lw_g (lw_at lw_m4 64 rfl) rfl
theorem q916 : (Jvm.Cond.methodLink "SoleraCellar$Reader" (140 : Nat) ({ cls := "SoleraCellar$Reader", name := "part", desc := "()LSoleraCellar$Sum;" } : Jvm.MethodName)) ∈ lw_all := lw_g (lw_at lw_m4 65 rfl) rfl
theorem q917 : (Jvm.Cond.instanceMethod ({ cls := "SoleraCellar$Reader", name := "part", desc := "()LSoleraCellar$Sum;" } : Jvm.MethodName)) ∈ lw_all := lw_g (lw_at lw_m4 66 rfl) rfl
theorem q918 : (Jvm.Cond.sameMethod "SoleraCellar$Reader" "SoleraCellar$Reader" "part" "()LSoleraCellar$Sum;") ∈ lw_all := lw_g (lw_at lw_m4 67 rfl) rfl
theorem q921 : (Jvm.Cond.code ({ cls := "SoleraCellar$Reader", name := "part", desc := "()LSoleraCellar$Sum;" } : Jvm.MethodName) prog_13_method_20_code (2 : Nat) (Option.some (Jvm.ClassFile.FieldType.object "SoleraCellar$Sum"))) ∈ lw_all := lw_g (lw_at lw_m4 70 rfl) rfl
theorem q922 : (Jvm.Cond.stringRef "SoleraCellar$Reader" (152 : Nat) "[") ∈ lw_tbl := lw_at lw_m4 71 rfl
theorem q923 : (Jvm.Cond.methodLink "SoleraCellar$Reader" (39 : Nat) ({ cls := "SoleraCellar$Reader", name := "is", desc := "(Ljava/lang/String;)Z" } : Jvm.MethodName)) ∈ lw_all := lw_g (lw_at lw_m4 72 rfl) rfl
theorem q924 : (Jvm.Cond.methodLink "SoleraCellar$Reader" (103 : Nat) ({ cls := "SoleraCellar$Reader", name := "opens", desc := "()V" } : Jvm.MethodName)) ∈ lw_all := lw_g (lw_at lw_m4 73 rfl) rfl
theorem q925 : (Jvm.Cond.instanceMethod ({ cls := "SoleraCellar$Reader", name := "opens", desc := "()V" } : Jvm.MethodName)) ∈ lw_all := lw_g (lw_at lw_m4 74 rfl) rfl
theorem q926 : (Jvm.Cond.sameMethod "SoleraCellar$Reader" "SoleraCellar$Reader" "opens" "()V") ∈ lw_all := lw_g (lw_at lw_m4 75 rfl) rfl
theorem q929 : (Jvm.Cond.code ({ cls := "SoleraCellar$Reader", name := "opens", desc := "()V" } : Jvm.MethodName) prog_13_method_14_code (1 : Nat) (Option.none : Option Jvm.ClassFile.FieldType)) ∈ lw_all := lw_g (lw_at lw_m4 78 rfl) rfl
theorem q930 : (Jvm.Cond.methodLink "SoleraCellar$Reader" (115 : Nat) ({ cls := "SoleraCellar$Reader", name := "sum", desc := "()LSoleraCellar$Sum;" } : Jvm.MethodName)) ∈ lw_all := lw_g (lw_at lw_m4 79 rfl) rfl
theorem q931 : (Jvm.Cond.stringRef "SoleraCellar$Reader" (154 : Nat) "]") ∈ lw_tbl := lw_at lw_m4 80 rfl
theorem q932 : (Jvm.Cond.methodLink "SoleraCellar$Reader" (111 : Nat) ({ cls := "SoleraCellar$Reader", name := "need", desc := "(Ljava/lang/String;)V" } : Jvm.MethodName)) ∈ lw_all := lw_g (lw_at lw_m4 81 rfl) rfl
theorem q933 : (Jvm.Cond.instanceMethod ({ cls := "SoleraCellar$Reader", name := "need", desc := "(Ljava/lang/String;)V" } : Jvm.MethodName)) ∈ lw_all := lw_g (lw_at lw_m4 82 rfl) rfl
theorem q934 : (Jvm.Cond.sameMethod "SoleraCellar$Reader" "SoleraCellar$Reader" "need" "(Ljava/lang/String;)V") ∈ lw_all := lw_g (lw_at lw_m4 83 rfl) rfl
theorem q937 : (Jvm.Cond.code ({ cls := "SoleraCellar$Reader", name := "need", desc := "(Ljava/lang/String;)V" } : Jvm.MethodName) prog_13_method_6_code (2 : Nat) (Option.none : Option Jvm.ClassFile.FieldType)) ∈ lw_all := lw_g (lw_at lw_m4 86 rfl) rfl
theorem q938 : (Jvm.Cond.methodLink "SoleraCellar$Reader" (46 : Nat) ({ cls := "SoleraCellar$Reader", name := "takes", desc := "(Ljava/lang/String;)Z" } : Jvm.MethodName)) ∈ lw_all := lw_g (lw_at lw_m4 87 rfl) rfl
theorem q939 : (Jvm.Cond.instanceMethod ({ cls := "SoleraCellar$Reader", name := "takes", desc := "(Ljava/lang/String;)Z" } : Jvm.MethodName)) ∈ lw_all := lw_g (lw_at lw_m4 88 rfl) rfl
theorem q940 : (Jvm.Cond.sameMethod "SoleraCellar$Reader" "SoleraCellar$Reader" "takes" "(Ljava/lang/String;)Z") ∈ lw_all := lw_g (lw_at lw_m4 89 rfl) rfl
theorem q943 : (Jvm.Cond.code ({ cls := "SoleraCellar$Reader", name := "takes", desc := "(Ljava/lang/String;)Z" } : Jvm.MethodName) prog_13_method_5_code (3 : Nat) (Option.some Jvm.ClassFile.FieldType.boolean)) ∈ lw_all := lw_g (lw_at lw_m4 92 rfl) rfl
theorem q944 : (Jvm.Cond.methodLink "SoleraCellar$Reader" (156 : Nat) ({ cls := "SoleraCellar$Reader", name := "leaf", desc := "()V" } : Jvm.MethodName)) ∈ lw_all := lw_g (lw_at lw_m4 93 rfl) rfl
theorem q945 : (Jvm.Cond.instanceMethod ({ cls := "SoleraCellar$Reader", name := "leaf", desc := "()V" } : Jvm.MethodName)) ∈ lw_all := lw_g (lw_at lw_m4 94 rfl) rfl
theorem q946 : (Jvm.Cond.sameMethod "SoleraCellar$Reader" "SoleraCellar$Reader" "leaf" "()V") ∈ lw_all := lw_g (lw_at lw_m4 95 rfl) rfl
theorem q949 : (Jvm.Cond.code ({ cls := "SoleraCellar$Reader", name := "leaf", desc := "()V" } : Jvm.MethodName) prog_13_method_19_code (1 : Nat) (Option.none : Option Jvm.ClassFile.FieldType)) ∈ lw_all := lw_g (lw_at lw_m4 98 rfl) rfl
theorem q950 : (Jvm.Cond.classLink "SoleraCellar$Reader" (159 : Nat) "SoleraCellar$Number") ∈ lw_all := lw_g (lw_at lw_m4 99 rfl) rfl
theorem q952 : (Jvm.Cond.methodLink "SoleraCellar$Reader" (161 : Nat) ({ cls := "SoleraCellar$Reader", name := "number", desc := "(II)I" } : Jvm.MethodName)) ∈ lw_all := lw_g (lw_at lw_m4 101 rfl) rfl
theorem q953 : (Jvm.Cond.instanceMethod ({ cls := "SoleraCellar$Reader", name := "number", desc := "(II)I" } : Jvm.MethodName)) ∈ lw_all := lw_g (lw_at lw_m4 102 rfl) rfl
theorem q954 : (Jvm.Cond.sameMethod "SoleraCellar$Reader" "SoleraCellar$Reader" "number" "(II)I") ∈ lw_all := lw_g (lw_at lw_m4 103 rfl) rfl
theorem q957 : (Jvm.Cond.code ({ cls := "SoleraCellar$Reader", name := "number", desc := "(II)I" } : Jvm.MethodName) prog_13_method_7_code (5 : Nat) (Option.some Jvm.ClassFile.FieldType.int)) ∈ lw_all := lw_g (lw_at lw_m4 106 rfl) rfl
theorem q958 : (Jvm.Cond.methodLink "SoleraCellar$Reader" (165 : Nat) ({ cls := "SoleraCellar$Number", name := "<init>", desc := "(I)V" } : Jvm.MethodName)) ∈ lw_all := lw_g (lw_at lw_m4 107 rfl) rfl
theorem q969 : (Jvm.Cond.methodLink "SoleraCellar$Reader" (166 : Nat) ({ cls := "SoleraCellar$Reader", name := "value", desc := "()I" } : Jvm.MethodName)) ∈ lw_all := lw_g (lw_at lw_m4 118 rfl) rfl
theorem q970 : (Jvm.Cond.declares ({ cls := "SoleraCellar$Reader", name := "value", desc := "()I" } : Jvm.MethodName)) ∈ lw_tbl := lw_at lw_m4 119 rfl
theorem q971 : (Jvm.Cond.sameMethod "SoleraCellar$Reader" "SoleraCellar$Reader" "value" "()I") ∈ lw_all := lw_g (lw_at lw_m4 120 rfl) rfl
theorem q978 : (Jvm.Cond.declares ({ cls := "SoleraCellar$Reader", name := "isValue", desc := "(Ljava/lang/String;)Z" } : Jvm.MethodName)) ∈ lw_tbl := lw_at lw_m4 127 rfl
theorem q980 : (Jvm.Cond.instanceMethod ({ cls := "SoleraCellar$Reader", name := "isValue", desc := "(Ljava/lang/String;)Z" } : Jvm.MethodName)) ∈ lw_all := lw_g (lw_at lw_m4 129 rfl) rfl
theorem q981 : (Jvm.Cond.code ({ cls := "SoleraCellar$Reader", name := "isValue", desc := "(Ljava/lang/String;)Z" } : Jvm.MethodName) prog_13_method_21_code (2 : Nat) (Option.some Jvm.ClassFile.FieldType.boolean)) ∈ lw_all := lw_g (lw_at lw_m4 130 rfl) rfl
theorem q1001 : (Jvm.Cond.declares ({ cls := "SoleraCellar$Reader", name := "number", desc := "(II)I" } : Jvm.MethodName)) ∈ lw_tbl := lw_at lw_m4 150 rfl
theorem q1005 : (Jvm.Cond.classLink "SoleraCellar$Reader" (169 : Nat) "SoleraCellar$Value") ∈ lw_all := lw_g (lw_at lw_m4 154 rfl) rfl
theorem q1007 : (Jvm.Cond.methodLink "SoleraCellar$Reader" (171 : Nat) ({ cls := "SoleraCellar$Value", name := "<init>", desc := "(I)V" } : Jvm.MethodName)) ∈ lw_all := lw_g (lw_at lw_m4 156 rfl) rfl
theorem q1015 : (Jvm.Cond.stringRef "SoleraCellar$Reader" (143 : Nat) "*") ∈ lw_tbl := lw_at lw_m4 164 rfl
theorem q1016 : (Jvm.Cond.stringRef "SoleraCellar$Reader" (145 : Nat) "/") ∈ lw_tbl := lw_at lw_m4 165 rfl
theorem q1017 : (Jvm.Cond.stringRef "SoleraCellar$Reader" (147 : Nat) "%") ∈ lw_tbl := lw_at lw_m4 166 rfl
theorem q1018 : (Jvm.Cond.classLink "SoleraCellar$Reader" (137 : Nat) "SoleraCellar$Two") ∈ lw_all := lw_g (lw_at lw_m4 167 rfl) rfl
theorem q1020 : (Jvm.Cond.methodLink "SoleraCellar$Reader" (139 : Nat) ({ cls := "SoleraCellar$Two", name := "<init>", desc := "(CLSoleraCellar$Sum;LSoleraCellar$Sum;)V" } : Jvm.MethodName)) ∈ lw_all := lw_g (lw_at lw_m4 169 rfl) rfl
theorem q1034 : (Jvm.Cond.stringRef "SoleraCellar$Reader" (133 : Nat) "+") ∈ lw_tbl := lw_at lw_m4 183 rfl
theorem q1035 : (Jvm.Cond.stringRef "SoleraCellar$Reader" (135 : Nat) "-") ∈ lw_tbl := lw_at lw_m4 184 rfl
theorem q1039 : (Jvm.Cond.declares ({ cls := "SoleraCellar$Reader", name := "takes", desc := "(Ljava/lang/String;)Z" } : Jvm.MethodName)) ∈ lw_tbl := lw_at lw_m4 188 rfl
theorem q1043 : (Jvm.Cond.declares ({ cls := "SoleraCellar$Reader", name := "test", desc := "()LSoleraCellar$Test;" } : Jvm.MethodName)) ∈ lw_tbl := lw_at lw_m4 192 rfl
theorem q1045 : (Jvm.Cond.instanceMethod ({ cls := "SoleraCellar$Reader", name := "test", desc := "()LSoleraCellar$Test;" } : Jvm.MethodName)) ∈ lw_all := lw_g (lw_at lw_m4 194 rfl) rfl
theorem q1046 : (Jvm.Cond.code ({ cls := "SoleraCellar$Reader", name := "test", desc := "()LSoleraCellar$Test;" } : Jvm.MethodName) prog_13_method_12_code (3 : Nat) (Option.some (Jvm.ClassFile.FieldType.object "SoleraCellar$Test"))) ∈ lw_all := lw_g (lw_at lw_m4 195 rfl) rfl
theorem q1047 : (Jvm.Cond.methodLink "SoleraCellar$Reader" (62 : Nat) ({ cls := "SoleraCellar$Reader", name := "both", desc := "()LSoleraCellar$Test;" } : Jvm.MethodName)) ∈ lw_all := lw_g (lw_at lw_m4 196 rfl) rfl
theorem q1048 : (Jvm.Cond.instanceMethod ({ cls := "SoleraCellar$Reader", name := "both", desc := "()LSoleraCellar$Test;" } : Jvm.MethodName)) ∈ lw_all := lw_g (lw_at lw_m4 197 rfl) rfl
theorem q1049 : (Jvm.Cond.sameMethod "SoleraCellar$Reader" "SoleraCellar$Reader" "both" "()LSoleraCellar$Test;") ∈ lw_all := lw_g (lw_at lw_m4 198 rfl) rfl
theorem q1052 : (Jvm.Cond.code ({ cls := "SoleraCellar$Reader", name := "both", desc := "()LSoleraCellar$Test;" } : Jvm.MethodName) prog_13_method_13_code (3 : Nat) (Option.some (Jvm.ClassFile.FieldType.object "SoleraCellar$Test"))) ∈ lw_all := lw_g (lw_at lw_m4 201 rfl) rfl
theorem q1053 : (Jvm.Cond.methodLink "SoleraCellar$Reader" (83 : Nat) ({ cls := "SoleraCellar$Reader", name := "plain", desc := "()LSoleraCellar$Test;" } : Jvm.MethodName)) ∈ lw_all := lw_g (lw_at lw_m4 202 rfl) rfl
theorem q1054 : (Jvm.Cond.instanceMethod ({ cls := "SoleraCellar$Reader", name := "plain", desc := "()LSoleraCellar$Test;" } : Jvm.MethodName)) ∈ lw_all := lw_g (lw_at lw_m4 203 rfl) rfl
theorem q1055 : (Jvm.Cond.sameMethod "SoleraCellar$Reader" "SoleraCellar$Reader" "plain" "()LSoleraCellar$Test;") ∈ lw_all := lw_g (lw_at lw_m4 204 rfl) rfl
theorem q1058 : (Jvm.Cond.code ({ cls := "SoleraCellar$Reader", name := "plain", desc := "()LSoleraCellar$Test;" } : Jvm.MethodName) prog_13_method_15_code (3 : Nat) (Option.some (Jvm.ClassFile.FieldType.object "SoleraCellar$Test"))) ∈ lw_all := lw_g (lw_at lw_m4 207 rfl) rfl
theorem q1059 : (Jvm.Cond.stringRef "SoleraCellar$Reader" (91 : Nat) "not") ∈ lw_tbl := lw_at lw_m4 208 rfl
theorem q1060 : (Jvm.Cond.methodLink "SoleraCellar$Reader" (93 : Nat) ({ cls := "SoleraCellar$Reader", name := "positive", desc := "()LSoleraCellar$Test;" } : Jvm.MethodName)) ∈ lw_all := lw_g (lw_at lw_m4 209 rfl) rfl
theorem q1061 : (Jvm.Cond.instanceMethod ({ cls := "SoleraCellar$Reader", name := "positive", desc := "()LSoleraCellar$Test;" } : Jvm.MethodName)) ∈ lw_all := lw_g (lw_at lw_m4 210 rfl) rfl
theorem q1062 : (Jvm.Cond.sameMethod "SoleraCellar$Reader" "SoleraCellar$Reader" "positive" "()LSoleraCellar$Test;") ∈ lw_all := lw_g (lw_at lw_m4 211 rfl) rfl
theorem q1065 : (Jvm.Cond.code ({ cls := "SoleraCellar$Reader", name := "positive", desc := "()LSoleraCellar$Test;" } : Jvm.MethodName) prog_13_method_16_code (3 : Nat) (Option.some (Jvm.ClassFile.FieldType.object "SoleraCellar$Test"))) ∈ lw_all := lw_g (lw_at lw_m4 214 rfl) rfl
theorem q1066 : (Jvm.Cond.stringRef "SoleraCellar$Reader" (101 : Nat) "(") ∈ lw_tbl := lw_at lw_m4 215 rfl
theorem q1067 : (Jvm.Cond.methodLink "SoleraCellar$Reader" (106 : Nat) ({ cls := "SoleraCellar$Reader", name := "test", desc := "()LSoleraCellar$Test;" } : Jvm.MethodName)) ∈ lw_all := lw_g (lw_at lw_m4 216 rfl) rfl
theorem q1068 : (Jvm.Cond.stringRef "SoleraCellar$Reader" (109 : Nat) ")") ∈ lw_tbl := lw_at lw_m4 217 rfl
theorem q1069 : (Jvm.Cond.stringRef "SoleraCellar$Reader" (119 : Nat) "<") ∈ lw_tbl := lw_at lw_m4 218 rfl
theorem q1070 : (Jvm.Cond.stringRef "SoleraCellar$Reader" (121 : Nat) ">") ∈ lw_tbl := lw_at lw_m4 219 rfl
theorem q1071 : (Jvm.Cond.stringRef "SoleraCellar$Reader" (123 : Nat) "=") ∈ lw_tbl := lw_at lw_m4 220 rfl
theorem q1072 : (Jvm.Cond.classLink "SoleraCellar$Reader" (125 : Nat) "SoleraCellar$Compare") ∈ lw_all := lw_g (lw_at lw_m4 221 rfl) rfl
theorem q1074 : (Jvm.Cond.methodLink "SoleraCellar$Reader" (127 : Nat) ({ cls := "SoleraCellar$Compare", name := "<init>", desc := "(CLSoleraCellar$Sum;LSoleraCellar$Sum;)V" } : Jvm.MethodName)) ∈ lw_all := lw_g (lw_at lw_m4 223 rfl) rfl
theorem q1091 : (Jvm.Cond.classLink "SoleraCellar$Reader" (96 : Nat) "SoleraCellar$Not") ∈ lw_all := lw_g (lw_at lw_m5 0 rfl) rfl
theorem q1093 : (Jvm.Cond.methodLink "SoleraCellar$Reader" (98 : Nat) ({ cls := "SoleraCellar$Not", name := "<init>", desc := "(LSoleraCellar$Test;)V" } : Jvm.MethodName)) ∈ lw_all := lw_g (lw_at lw_m5 2 rfl) rfl
theorem q1101 : (Jvm.Cond.stringRef "SoleraCellar$Reader" (86 : Nat) "and") ∈ lw_tbl := lw_at lw_m5 10 rfl
theorem q1102 : (Jvm.Cond.classLink "SoleraCellar$Reader" (68 : Nat) "SoleraCellar$Several") ∈ lw_all := lw_g (lw_at lw_m5 11 rfl) rfl
theorem q1104 : (Jvm.Cond.methodLink "SoleraCellar$Reader" (70 : Nat) ({ cls := "SoleraCellar$Several", name := "<init>", desc := "(Z)V" } : Jvm.MethodName)) ∈ lw_all := lw_g (lw_at lw_m5 13 rfl) rfl
theorem q1112 : (Jvm.Cond.fieldLinkNest "SoleraCellar$Reader" (73 : Nat) "SoleraCellar$Several" "of" "Ljava/util/ArrayList;" "SoleraCellar") ∈ lw_tbl := lw_at lw_m5 21 rfl
theorem q1118 : (Jvm.Cond.methodLink "SoleraCellar$Reader" (77 : Nat) ({ cls := "java/util/ArrayList", name := "add", desc := "(Ljava/lang/Object;)Z" } : Jvm.MethodName)) ∈ lw_all := lw_g (lw_at lw_m5 27 rfl) rfl
theorem q1130 : (Jvm.Cond.stringRef "SoleraCellar$Reader" (66 : Nat) "or") ∈ lw_tbl := lw_at lw_m5 39 rfl
theorem q1180 : (Jvm.Cond.declares ({ cls := "SoleraCellar$Reader", name := "behind", desc := "(Ljava/lang/String;)LSoleraCellar$Sum;" } : Jvm.MethodName)) ∈ lw_tbl := lw_at lw_m5 89 rfl
theorem q1182 : (Jvm.Cond.instanceMethod ({ cls := "SoleraCellar$Reader", name := "behind", desc := "(Ljava/lang/String;)LSoleraCellar$Sum;" } : Jvm.MethodName)) ∈ lw_all := lw_g (lw_at lw_m5 91 rfl) rfl
theorem q1183 : (Jvm.Cond.code ({ cls := "SoleraCellar$Reader", name := "behind", desc := "(Ljava/lang/String;)LSoleraCellar$Sum;" } : Jvm.MethodName) prog_13_method_22_code (2 : Nat) (Option.some (Jvm.ClassFile.FieldType.object "SoleraCellar$Sum"))) ∈ lw_all := lw_g (lw_at lw_m5 92 rfl) rfl
theorem q1194 : (Jvm.Cond.stringRef "SoleraCellar$Reader" (57 : Nat) ";") ∈ lw_tbl := lw_at lw_m5 103 rfl
theorem q2231 : (Jvm.Cond.sameMethod "SoleraCellar$Reader" "SoleraCellar$Reader" "is" "(Ljava/lang/String;)Z") ∈ lw_all := lw_g (lw_at lw_m9 180 rfl) rfl
theorem q2234 : (Jvm.Cond.sameMethod "SoleraCellar$Reader" "SoleraCellar$Reader" "sum" "()LSoleraCellar$Sum;") ∈ lw_all := lw_g (lw_at lw_m9 183 rfl) rfl
theorem q2237 : (Jvm.Cond.sameMethod "SoleraCellar$Reader" "SoleraCellar$Reader" "test" "()LSoleraCellar$Test;") ∈ lw_all := lw_g (lw_at lw_m9 186 rfl) rfl
