/-! SoleraCellar$State -/
set_option maxRecDepth 100000
def RX1 : String := "SoleraCellar$State"
def TX1 : u_T := fun k => match k with
  | 0 => ("SoleraCellar$State", "table", "LSoleraCellar$Table;", true)
  | 1 => ("SoleraCellar$State", "tier", "[I", true)
  | 2 => ("SoleraCellar$State", "size", "[I", true)
  | 3 => ("SoleraCellar$State", "tasted", "[I", true)
  | 4 => ("SoleraCellar$State", "laws", "Ljava/util/ArrayList;", true)
  | 5 => ("SoleraCellar$State", "plans", "Ljava/util/ArrayList;", true)
  | 6 => ("SoleraCellar$State", "casks", "I", false)
  | 7 => ("SoleraCellar$State", "tastedMany", "I", false)
  | 8 => ("SoleraCellar$State", "corked", "I", false)
  | 9 => ("SoleraCellar$State", "mood", "I", false)
  | 10 => ("SoleraCellar$State", "part", "I", false)
  | _ => ("SoleraCellar$State", "force", "I", false)
def tyX1 : Nat → FieldType := fun k => match k with
  | 0 => .object "SoleraCellar$Table"
  | 1 => .array .int
  | 2 => .array .int
  | 3 => .array .int
  | 4 => .object "java/util/ArrayList"
  | 5 => .object "java/util/ArrayList"
  | 6 => .int
  | 7 => .int
  | 8 => .int
  | 9 => .int
  | 10 => .int
  | _ => .int
abbrev wsX10 : List Cond := u_ws RX1 TX1 12
theorem nmX1 : ∀ a, a < 12 → ∀ b, b < 12 → a ≠ b → (TX1 a).2.1 ≠ (TX1 b).2.1 := by decide +kernel
theorem tyX1_ok : ∀ k, k < 12 → parseFieldDescriptor (TX1 k).2.2.1 = some (tyX1 k) := by decide +kernel
abbrev cX1_init : ByteArray := prog_16_method_1_code
def yX1_init : MethodName := ⟨RX1, "<init>", "()V"⟩
def dkwX1_init_3 : List UInt8 := [181, 0, 44, 42, 2, 181, 0, 47, 177]
abbrev dktX1_init_3 : List UInt8 := dkwX1_init_3 ++ []
def dkwX1_init_2 : List UInt8 := [181, 0, 33, 42, 187, 0, 28, 89, 5, 183, 0, 30, 181, 0, 37, 42, 4, 181, 0, 40, 42, 16, 85]
abbrev dktX1_init_2 : List UInt8 := dkwX1_init_2 ++ dktX1_init_3
def dkwX1_init_1 : List UInt8 := [16, 8, 188, 10, 181, 0, 22, 42, 16, 12, 188, 10, 181, 0, 25, 42, 187, 0, 28, 89, 5, 183, 0, 30]
abbrev dktX1_init_1 : List UInt8 := dkwX1_init_1 ++ dktX1_init_2
def dkwX1_init_0 : List UInt8 := [42, 183, 0, 3, 42, 187, 0, 9, 89, 183, 0, 11, 181, 0, 12, 42, 16, 8, 188, 10, 181, 0, 18, 42]
abbrev dktX1_init_0 : List UInt8 := dkwX1_init_0 ++ dktX1_init_1
theorem dksX1_init_0 : cX1_init.data.toList.drop 0 = dktX1_init_0 := by decide +kernel
theorem dksX1_init_1 : cX1_init.data.toList.drop 24 = dktX1_init_1 := dk_seg dksX1_init_0 24 rfl rfl
theorem dksX1_init_2 : cX1_init.data.toList.drop 48 = dktX1_init_2 := dk_seg dksX1_init_1 24 rfl rfl
theorem dksX1_init_3 : cX1_init.data.toList.drop 71 = dktX1_init_3 := dk_seg dksX1_init_2 23 rfl rfl
theorem dX1_init_0 : decode cX1_init 0 = .ok (.aload_n 0, 1) := dk_42 (dk_at dksX1_init_0 0 rfl rfl)
theorem dX1_init_1 : decode cX1_init 1 = .ok (.invokespecial 3, 3) := dk_183 0 3 (dk_at dksX1_init_0 1 rfl rfl)
theorem dX1_init_4 : decode cX1_init 4 = .ok (.aload_n 0, 1) := dk_42 (dk_at dksX1_init_0 4 rfl rfl)
theorem dX1_init_5 : decode cX1_init 5 = .ok (.new 9, 3) := dk_187 0 9 (dk_at dksX1_init_0 5 rfl rfl)
theorem dX1_init_8 : decode cX1_init 8 = .ok (.dup, 1) := dk_89 (dk_at dksX1_init_0 8 rfl rfl)
theorem dX1_init_9 : decode cX1_init 9 = .ok (.invokespecial 11, 3) := dk_183 0 11 (dk_at dksX1_init_0 9 rfl rfl)
theorem dX1_init_12 : decode cX1_init 12 = .ok (.putfield 12, 3) := dk_181 0 12 (dk_at dksX1_init_0 12 rfl rfl)
theorem dX1_init_15 : decode cX1_init 15 = .ok (.aload_n 0, 1) := dk_42 (dk_at dksX1_init_0 15 rfl rfl)
theorem dX1_init_16 : decode cX1_init 16 = .ok (.bipush 8, 2) := dk_16 8 (dk_at dksX1_init_0 16 rfl rfl)
theorem dX1_init_18 : decode cX1_init 18 = .ok (.newarray .int, 2) := dk_188_10 (dk_at dksX1_init_0 18 rfl rfl)
theorem dX1_init_20 : decode cX1_init 20 = .ok (.putfield 18, 3) := dk_181 0 18 (dk_at dksX1_init_0 20 rfl rfl)
theorem dX1_init_23 : decode cX1_init 23 = .ok (.aload_n 0, 1) := dk_42 (dk_at dksX1_init_0 23 rfl rfl)
theorem dX1_init_24 : decode cX1_init 24 = .ok (.bipush 8, 2) := dk_16 8 (dk_at dksX1_init_1 0 rfl rfl)
theorem dX1_init_26 : decode cX1_init 26 = .ok (.newarray .int, 2) := dk_188_10 (dk_at dksX1_init_1 2 rfl rfl)
theorem dX1_init_28 : decode cX1_init 28 = .ok (.putfield 22, 3) := dk_181 0 22 (dk_at dksX1_init_1 4 rfl rfl)
theorem dX1_init_31 : decode cX1_init 31 = .ok (.aload_n 0, 1) := dk_42 (dk_at dksX1_init_1 7 rfl rfl)
theorem dX1_init_32 : decode cX1_init 32 = .ok (.bipush 12, 2) := dk_16 12 (dk_at dksX1_init_1 8 rfl rfl)
theorem dX1_init_34 : decode cX1_init 34 = .ok (.newarray .int, 2) := dk_188_10 (dk_at dksX1_init_1 10 rfl rfl)
theorem dX1_init_36 : decode cX1_init 36 = .ok (.putfield 25, 3) := dk_181 0 25 (dk_at dksX1_init_1 12 rfl rfl)
theorem dX1_init_39 : decode cX1_init 39 = .ok (.aload_n 0, 1) := dk_42 (dk_at dksX1_init_1 15 rfl rfl)
theorem dX1_init_40 : decode cX1_init 40 = .ok (.new 28, 3) := dk_187 0 28 (dk_at dksX1_init_1 16 rfl rfl)
theorem dX1_init_43 : decode cX1_init 43 = .ok (.dup, 1) := dk_89 (dk_at dksX1_init_1 19 rfl rfl)
theorem dX1_init_44 : decode cX1_init 44 = .ok (.iconst 2, 1) := dk_5 (dk_at dksX1_init_1 20 rfl rfl)
theorem dX1_init_45 : decode cX1_init 45 = .ok (.invokespecial 30, 3) := dk_183 0 30 (dk_at dksX1_init_1 21 rfl rfl)
theorem dX1_init_48 : decode cX1_init 48 = .ok (.putfield 33, 3) := dk_181 0 33 (dk_at dksX1_init_2 0 rfl rfl)
theorem dX1_init_51 : decode cX1_init 51 = .ok (.aload_n 0, 1) := dk_42 (dk_at dksX1_init_2 3 rfl rfl)
theorem dX1_init_52 : decode cX1_init 52 = .ok (.new 28, 3) := dk_187 0 28 (dk_at dksX1_init_2 4 rfl rfl)
theorem dX1_init_55 : decode cX1_init 55 = .ok (.dup, 1) := dk_89 (dk_at dksX1_init_2 7 rfl rfl)
theorem dX1_init_56 : decode cX1_init 56 = .ok (.iconst 2, 1) := dk_5 (dk_at dksX1_init_2 8 rfl rfl)
theorem dX1_init_57 : decode cX1_init 57 = .ok (.invokespecial 30, 3) := dk_183 0 30 (dk_at dksX1_init_2 9 rfl rfl)
theorem dX1_init_60 : decode cX1_init 60 = .ok (.putfield 37, 3) := dk_181 0 37 (dk_at dksX1_init_2 12 rfl rfl)
theorem dX1_init_63 : decode cX1_init 63 = .ok (.aload_n 0, 1) := dk_42 (dk_at dksX1_init_2 15 rfl rfl)
theorem dX1_init_64 : decode cX1_init 64 = .ok (.iconst 1, 1) := dk_4 (dk_at dksX1_init_2 16 rfl rfl)
theorem dX1_init_65 : decode cX1_init 65 = .ok (.putfield 40, 3) := dk_181 0 40 (dk_at dksX1_init_2 17 rfl rfl)
theorem dX1_init_68 : decode cX1_init 68 = .ok (.aload_n 0, 1) := dk_42 (dk_at dksX1_init_2 20 rfl rfl)
theorem dX1_init_69 : decode cX1_init 69 = .ok (.bipush 85, 2) := dk_16 85 (dk_at dksX1_init_2 21 rfl rfl)
theorem dX1_init_71 : decode cX1_init 71 = .ok (.putfield 44, 3) := dk_181 0 44 (dk_at dksX1_init_3 0 rfl rfl)
theorem dX1_init_74 : decode cX1_init 74 = .ok (.aload_n 0, 1) := dk_42 (dk_at dksX1_init_3 3 rfl rfl)
theorem dX1_init_75 : decode cX1_init 75 = .ok (.iconst (-1), 1) := dk_2 (dk_at dksX1_init_3 4 rfl rfl)
theorem dX1_init_76 : decode cX1_init 76 = .ok (.putfield 47, 3) := dk_181 0 47 (dk_at dksX1_init_3 5 rfl rfl)
theorem dX1_init_79 : decode cX1_init 79 = .ok (.return_, 1) := dk_177 (dk_at dksX1_init_3 8 rfl rfl)
abbrev cX1_takes : ByteArray := prog_16_method_2_code
def yX1_takes : MethodName := ⟨RX1, "takes", "(LSoleraCellar$State;)V"⟩
def dkwX1_takes_6 : List UInt8 := [180, 0, 47, 181, 0, 47, 177]
abbrev dktX1_takes_6 : List UInt8 := dkwX1_takes_6 ++ []
def dkwX1_takes_5 : List UInt8 := [180, 0, 40, 181, 0, 40, 42, 43, 180, 0, 73, 181, 0, 73, 42, 43, 180, 0, 44, 181, 0, 44, 42, 43]
abbrev dktX1_takes_5 : List UInt8 := dkwX1_takes_5 ++ dktX1_takes_6
def dkwX1_takes_4 : List UInt8 := [182, 0, 63, 87, 42, 43, 180, 0, 67, 181, 0, 67, 42, 43, 180, 0, 70, 181, 0, 70, 42, 43]
abbrev dktX1_takes_4 : List UInt8 := dkwX1_takes_4 ++ dktX1_takes_5
def dkwX1_takes_3 : List UInt8 := [180, 0, 33, 182, 0, 63, 87, 42, 180, 0, 37, 182, 0, 60, 42, 180, 0, 37, 43, 180, 0, 37]
abbrev dktX1_takes_3 : List UInt8 := dkwX1_takes_3 ++ dktX1_takes_4
def dkwX1_takes_2 : List UInt8 := [180, 0, 25, 3, 42, 180, 0, 25, 190, 184, 0, 54, 42, 180, 0, 33, 182, 0, 60, 42, 180, 0, 33, 43]
abbrev dktX1_takes_2 : List UInt8 := dkwX1_takes_2 ++ dktX1_takes_3
def dkwX1_takes_1 : List UInt8 := [184, 0, 54, 43, 180, 0, 22, 3, 42, 180, 0, 22, 3, 16, 8, 184, 0, 54, 43, 180, 0, 25, 3, 42]
abbrev dktX1_takes_1 : List UInt8 := dkwX1_takes_1 ++ dktX1_takes_2
def dkwX1_takes_0 : List UInt8 := [42, 180, 0, 12, 43, 180, 0, 12, 182, 0, 50, 43, 180, 0, 18, 3, 42, 180, 0, 18, 3, 16, 8]
abbrev dktX1_takes_0 : List UInt8 := dkwX1_takes_0 ++ dktX1_takes_1
theorem dksX1_takes_0 : cX1_takes.data.toList.drop 0 = dktX1_takes_0 := by decide +kernel
theorem dksX1_takes_1 : cX1_takes.data.toList.drop 23 = dktX1_takes_1 := dk_seg dksX1_takes_0 23 rfl rfl
theorem dksX1_takes_2 : cX1_takes.data.toList.drop 47 = dktX1_takes_2 := dk_seg dksX1_takes_1 24 rfl rfl
theorem dksX1_takes_3 : cX1_takes.data.toList.drop 71 = dktX1_takes_3 := dk_seg dksX1_takes_2 24 rfl rfl
theorem dksX1_takes_4 : cX1_takes.data.toList.drop 93 = dktX1_takes_4 := dk_seg dksX1_takes_3 22 rfl rfl
theorem dksX1_takes_5 : cX1_takes.data.toList.drop 115 = dktX1_takes_5 := dk_seg dksX1_takes_4 22 rfl rfl
theorem dksX1_takes_6 : cX1_takes.data.toList.drop 139 = dktX1_takes_6 := dk_seg dksX1_takes_5 24 rfl rfl
theorem dX1_takes_0 : decode cX1_takes 0 = .ok (.aload_n 0, 1) := dk_42 (dk_at dksX1_takes_0 0 rfl rfl)
theorem dX1_takes_1 : decode cX1_takes 1 = .ok (.getfield 12, 3) := dk_180 0 12 (dk_at dksX1_takes_0 1 rfl rfl)
theorem dX1_takes_4 : decode cX1_takes 4 = .ok (.aload_n 1, 1) := dk_43 (dk_at dksX1_takes_0 4 rfl rfl)
theorem dX1_takes_5 : decode cX1_takes 5 = .ok (.getfield 12, 3) := dk_180 0 12 (dk_at dksX1_takes_0 5 rfl rfl)
theorem dX1_takes_8 : decode cX1_takes 8 = .ok (.invokevirtual 50, 3) := dk_182 0 50 (dk_at dksX1_takes_0 8 rfl rfl)
theorem dX1_takes_11 : decode cX1_takes 11 = .ok (.aload_n 1, 1) := dk_43 (dk_at dksX1_takes_0 11 rfl rfl)
theorem dX1_takes_12 : decode cX1_takes 12 = .ok (.getfield 18, 3) := dk_180 0 18 (dk_at dksX1_takes_0 12 rfl rfl)
theorem dX1_takes_15 : decode cX1_takes 15 = .ok (.iconst 0, 1) := dk_3 (dk_at dksX1_takes_0 15 rfl rfl)
theorem dX1_takes_16 : decode cX1_takes 16 = .ok (.aload_n 0, 1) := dk_42 (dk_at dksX1_takes_0 16 rfl rfl)
theorem dX1_takes_17 : decode cX1_takes 17 = .ok (.getfield 18, 3) := dk_180 0 18 (dk_at dksX1_takes_0 17 rfl rfl)
theorem dX1_takes_20 : decode cX1_takes 20 = .ok (.iconst 0, 1) := dk_3 (dk_at dksX1_takes_0 20 rfl rfl)
theorem dX1_takes_21 : decode cX1_takes 21 = .ok (.bipush 8, 2) := dk_16 8 (dk_at dksX1_takes_0 21 rfl rfl)
theorem dX1_takes_23 : decode cX1_takes 23 = .ok (.invokestatic 54, 3) := dk_184 0 54 (dk_at dksX1_takes_1 0 rfl rfl)
theorem dX1_takes_26 : decode cX1_takes 26 = .ok (.aload_n 1, 1) := dk_43 (dk_at dksX1_takes_1 3 rfl rfl)
theorem dX1_takes_27 : decode cX1_takes 27 = .ok (.getfield 22, 3) := dk_180 0 22 (dk_at dksX1_takes_1 4 rfl rfl)
theorem dX1_takes_30 : decode cX1_takes 30 = .ok (.iconst 0, 1) := dk_3 (dk_at dksX1_takes_1 7 rfl rfl)
theorem dX1_takes_31 : decode cX1_takes 31 = .ok (.aload_n 0, 1) := dk_42 (dk_at dksX1_takes_1 8 rfl rfl)
theorem dX1_takes_32 : decode cX1_takes 32 = .ok (.getfield 22, 3) := dk_180 0 22 (dk_at dksX1_takes_1 9 rfl rfl)
theorem dX1_takes_35 : decode cX1_takes 35 = .ok (.iconst 0, 1) := dk_3 (dk_at dksX1_takes_1 12 rfl rfl)
theorem dX1_takes_36 : decode cX1_takes 36 = .ok (.bipush 8, 2) := dk_16 8 (dk_at dksX1_takes_1 13 rfl rfl)
theorem dX1_takes_38 : decode cX1_takes 38 = .ok (.invokestatic 54, 3) := dk_184 0 54 (dk_at dksX1_takes_1 15 rfl rfl)
theorem dX1_takes_41 : decode cX1_takes 41 = .ok (.aload_n 1, 1) := dk_43 (dk_at dksX1_takes_1 18 rfl rfl)
theorem dX1_takes_42 : decode cX1_takes 42 = .ok (.getfield 25, 3) := dk_180 0 25 (dk_at dksX1_takes_1 19 rfl rfl)
theorem dX1_takes_45 : decode cX1_takes 45 = .ok (.iconst 0, 1) := dk_3 (dk_at dksX1_takes_1 22 rfl rfl)
theorem dX1_takes_46 : decode cX1_takes 46 = .ok (.aload_n 0, 1) := dk_42 (dk_at dksX1_takes_1 23 rfl rfl)
theorem dX1_takes_47 : decode cX1_takes 47 = .ok (.getfield 25, 3) := dk_180 0 25 (dk_at dksX1_takes_2 0 rfl rfl)
theorem dX1_takes_50 : decode cX1_takes 50 = .ok (.iconst 0, 1) := dk_3 (dk_at dksX1_takes_2 3 rfl rfl)
theorem dX1_takes_51 : decode cX1_takes 51 = .ok (.aload_n 0, 1) := dk_42 (dk_at dksX1_takes_2 4 rfl rfl)
theorem dX1_takes_52 : decode cX1_takes 52 = .ok (.getfield 25, 3) := dk_180 0 25 (dk_at dksX1_takes_2 5 rfl rfl)
theorem dX1_takes_55 : decode cX1_takes 55 = .ok (.arraylength, 1) := dk_190 (dk_at dksX1_takes_2 8 rfl rfl)
theorem dX1_takes_56 : decode cX1_takes 56 = .ok (.invokestatic 54, 3) := dk_184 0 54 (dk_at dksX1_takes_2 9 rfl rfl)
theorem dX1_takes_59 : decode cX1_takes 59 = .ok (.aload_n 0, 1) := dk_42 (dk_at dksX1_takes_2 12 rfl rfl)
theorem dX1_takes_60 : decode cX1_takes 60 = .ok (.getfield 33, 3) := dk_180 0 33 (dk_at dksX1_takes_2 13 rfl rfl)
theorem dX1_takes_63 : decode cX1_takes 63 = .ok (.invokevirtual 60, 3) := dk_182 0 60 (dk_at dksX1_takes_2 16 rfl rfl)
theorem dX1_takes_66 : decode cX1_takes 66 = .ok (.aload_n 0, 1) := dk_42 (dk_at dksX1_takes_2 19 rfl rfl)
theorem dX1_takes_67 : decode cX1_takes 67 = .ok (.getfield 33, 3) := dk_180 0 33 (dk_at dksX1_takes_2 20 rfl rfl)
theorem dX1_takes_70 : decode cX1_takes 70 = .ok (.aload_n 1, 1) := dk_43 (dk_at dksX1_takes_2 23 rfl rfl)
theorem dX1_takes_71 : decode cX1_takes 71 = .ok (.getfield 33, 3) := dk_180 0 33 (dk_at dksX1_takes_3 0 rfl rfl)
theorem dX1_takes_74 : decode cX1_takes 74 = .ok (.invokevirtual 63, 3) := dk_182 0 63 (dk_at dksX1_takes_3 3 rfl rfl)
theorem dX1_takes_77 : decode cX1_takes 77 = .ok (.pop, 1) := dk_87 (dk_at dksX1_takes_3 6 rfl rfl)
theorem dX1_takes_78 : decode cX1_takes 78 = .ok (.aload_n 0, 1) := dk_42 (dk_at dksX1_takes_3 7 rfl rfl)
theorem dX1_takes_79 : decode cX1_takes 79 = .ok (.getfield 37, 3) := dk_180 0 37 (dk_at dksX1_takes_3 8 rfl rfl)
theorem dX1_takes_82 : decode cX1_takes 82 = .ok (.invokevirtual 60, 3) := dk_182 0 60 (dk_at dksX1_takes_3 11 rfl rfl)
theorem dX1_takes_85 : decode cX1_takes 85 = .ok (.aload_n 0, 1) := dk_42 (dk_at dksX1_takes_3 14 rfl rfl)
theorem dX1_takes_86 : decode cX1_takes 86 = .ok (.getfield 37, 3) := dk_180 0 37 (dk_at dksX1_takes_3 15 rfl rfl)
theorem dX1_takes_89 : decode cX1_takes 89 = .ok (.aload_n 1, 1) := dk_43 (dk_at dksX1_takes_3 18 rfl rfl)
theorem dX1_takes_90 : decode cX1_takes 90 = .ok (.getfield 37, 3) := dk_180 0 37 (dk_at dksX1_takes_3 19 rfl rfl)
theorem dX1_takes_93 : decode cX1_takes 93 = .ok (.invokevirtual 63, 3) := dk_182 0 63 (dk_at dksX1_takes_4 0 rfl rfl)
theorem dX1_takes_96 : decode cX1_takes 96 = .ok (.pop, 1) := dk_87 (dk_at dksX1_takes_4 3 rfl rfl)
theorem dX1_takes_97 : decode cX1_takes 97 = .ok (.aload_n 0, 1) := dk_42 (dk_at dksX1_takes_4 4 rfl rfl)
theorem dX1_takes_98 : decode cX1_takes 98 = .ok (.aload_n 1, 1) := dk_43 (dk_at dksX1_takes_4 5 rfl rfl)
theorem dX1_takes_99 : decode cX1_takes 99 = .ok (.getfield 67, 3) := dk_180 0 67 (dk_at dksX1_takes_4 6 rfl rfl)
theorem dX1_takes_102 : decode cX1_takes 102 = .ok (.putfield 67, 3) := dk_181 0 67 (dk_at dksX1_takes_4 9 rfl rfl)
theorem dX1_takes_105 : decode cX1_takes 105 = .ok (.aload_n 0, 1) := dk_42 (dk_at dksX1_takes_4 12 rfl rfl)
theorem dX1_takes_106 : decode cX1_takes 106 = .ok (.aload_n 1, 1) := dk_43 (dk_at dksX1_takes_4 13 rfl rfl)
theorem dX1_takes_107 : decode cX1_takes 107 = .ok (.getfield 70, 3) := dk_180 0 70 (dk_at dksX1_takes_4 14 rfl rfl)
theorem dX1_takes_110 : decode cX1_takes 110 = .ok (.putfield 70, 3) := dk_181 0 70 (dk_at dksX1_takes_4 17 rfl rfl)
theorem dX1_takes_113 : decode cX1_takes 113 = .ok (.aload_n 0, 1) := dk_42 (dk_at dksX1_takes_4 20 rfl rfl)
theorem dX1_takes_114 : decode cX1_takes 114 = .ok (.aload_n 1, 1) := dk_43 (dk_at dksX1_takes_4 21 rfl rfl)
theorem dX1_takes_115 : decode cX1_takes 115 = .ok (.getfield 40, 3) := dk_180 0 40 (dk_at dksX1_takes_5 0 rfl rfl)
theorem dX1_takes_118 : decode cX1_takes 118 = .ok (.putfield 40, 3) := dk_181 0 40 (dk_at dksX1_takes_5 3 rfl rfl)
theorem dX1_takes_121 : decode cX1_takes 121 = .ok (.aload_n 0, 1) := dk_42 (dk_at dksX1_takes_5 6 rfl rfl)
theorem dX1_takes_122 : decode cX1_takes 122 = .ok (.aload_n 1, 1) := dk_43 (dk_at dksX1_takes_5 7 rfl rfl)
theorem dX1_takes_123 : decode cX1_takes 123 = .ok (.getfield 73, 3) := dk_180 0 73 (dk_at dksX1_takes_5 8 rfl rfl)
theorem dX1_takes_126 : decode cX1_takes 126 = .ok (.putfield 73, 3) := dk_181 0 73 (dk_at dksX1_takes_5 11 rfl rfl)
theorem dX1_takes_129 : decode cX1_takes 129 = .ok (.aload_n 0, 1) := dk_42 (dk_at dksX1_takes_5 14 rfl rfl)
theorem dX1_takes_130 : decode cX1_takes 130 = .ok (.aload_n 1, 1) := dk_43 (dk_at dksX1_takes_5 15 rfl rfl)
theorem dX1_takes_131 : decode cX1_takes 131 = .ok (.getfield 44, 3) := dk_180 0 44 (dk_at dksX1_takes_5 16 rfl rfl)
theorem dX1_takes_134 : decode cX1_takes 134 = .ok (.putfield 44, 3) := dk_181 0 44 (dk_at dksX1_takes_5 19 rfl rfl)
theorem dX1_takes_137 : decode cX1_takes 137 = .ok (.aload_n 0, 1) := dk_42 (dk_at dksX1_takes_5 22 rfl rfl)
theorem dX1_takes_138 : decode cX1_takes 138 = .ok (.aload_n 1, 1) := dk_43 (dk_at dksX1_takes_5 23 rfl rfl)
theorem dX1_takes_139 : decode cX1_takes 139 = .ok (.getfield 47, 3) := dk_180 0 47 (dk_at dksX1_takes_6 0 rfl rfl)
theorem dX1_takes_142 : decode cX1_takes 142 = .ok (.putfield 47, 3) := dk_181 0 47 (dk_at dksX1_takes_6 3 rfl rfl)
theorem dX1_takes_145 : decode cX1_takes 145 = .ok (.return_, 1) := dk_177 (dk_at dksX1_takes_6 6 rfl rfl)
theorem q133 : (Jvm.Cond.initialized "SoleraCellar$State") ∈ lw_all := lw_g (lw_at lw_m1 2 rfl) rfl
theorem q177 : (Jvm.Cond.instantiable "SoleraCellar$State" (12 : Nat)) ∈ lw_all := lw_g (lw_at lw_m1 46 rfl) rfl
theorem q179 : (Jvm.Cond.instanceMethod ({ cls := "SoleraCellar$State", name := "<init>", desc := "()V" } : Jvm.MethodName)) ∈ lw_all := lw_g (lw_at lw_m1 48 rfl) rfl
theorem q180 : (Jvm.Cond.code ({ cls := "SoleraCellar$State", name := "<init>", desc := "()V" } : Jvm.MethodName) prog_16_method_1_code (1 : Nat) (Option.none : Option Jvm.ClassFile.FieldType)) ∈ lw_all := lw_g (lw_at lw_m1 49 rfl) rfl
theorem q181 : (Jvm.Cond.methodLink "SoleraCellar$State" (3 : Nat) ({ cls := "java/lang/Object", name := "<init>", desc := "()V" } : Jvm.MethodName)) ∈ lw_all := lw_g (lw_at lw_m1 50 rfl) rfl
theorem q182 : (Jvm.Cond.classLink "SoleraCellar$State" (9 : Nat) "SoleraCellar$Table") ∈ lw_all := lw_g (lw_at lw_m1 51 rfl) rfl
theorem q184 : (Jvm.Cond.methodLinkNest "SoleraCellar$State" (11 : Nat) ({ cls := "SoleraCellar$Table", name := "<init>", desc := "()V" } : Jvm.MethodName) "SoleraCellar") ∈ lw_tbl := lw_at lw_m1 53 rfl
theorem q202 : (Jvm.Cond.classLink "SoleraCellar$State" (28 : Nat) "java/util/ArrayList") ∈ lw_all := lw_g (lw_at lw_m1 71 rfl) rfl
theorem q204 : (Jvm.Cond.methodLink "SoleraCellar$State" (30 : Nat) ({ cls := "java/util/ArrayList", name := "<init>", desc := "(I)V" } : Jvm.MethodName)) ∈ lw_all := lw_g (lw_at lw_m1 73 rfl) rfl
theorem q230 : (Jvm.Cond.fieldLink "SoleraCellar$State" (12 : Nat) "SoleraCellar$State" "table" "LSoleraCellar$Table;") ∈ lw_all := lw_g (lw_at lw_m1 99 rfl) rfl
theorem q232 : (Jvm.Cond.fieldLink "SoleraCellar$State" (18 : Nat) "SoleraCellar$State" "tier" "[I") ∈ lw_all := lw_g (lw_at lw_m1 101 rfl) rfl
theorem q234 : (Jvm.Cond.fieldLink "SoleraCellar$State" (22 : Nat) "SoleraCellar$State" "size" "[I") ∈ lw_all := lw_g (lw_at lw_m1 103 rfl) rfl
theorem q236 : (Jvm.Cond.fieldLink "SoleraCellar$State" (25 : Nat) "SoleraCellar$State" "tasted" "[I") ∈ lw_all := lw_g (lw_at lw_m1 105 rfl) rfl
theorem q238 : (Jvm.Cond.fieldLink "SoleraCellar$State" (33 : Nat) "SoleraCellar$State" "laws" "Ljava/util/ArrayList;") ∈ lw_all := lw_g (lw_at lw_m1 107 rfl) rfl
theorem q240 : (Jvm.Cond.fieldLink "SoleraCellar$State" (37 : Nat) "SoleraCellar$State" "plans" "Ljava/util/ArrayList;") ∈ lw_all := lw_g (lw_at lw_m1 109 rfl) rfl
theorem q242 : (Jvm.Cond.fieldLink "SoleraCellar$State" (67 : Nat) "SoleraCellar$State" "casks" "I") ∈ lw_all := lw_g (lw_at lw_m1 111 rfl) rfl
theorem q244 : (Jvm.Cond.fieldLink "SoleraCellar$State" (70 : Nat) "SoleraCellar$State" "tastedMany" "I") ∈ lw_all := lw_g (lw_at lw_m1 113 rfl) rfl
theorem q246 : (Jvm.Cond.fieldLink "SoleraCellar$State" (40 : Nat) "SoleraCellar$State" "corked" "I") ∈ lw_all := lw_g (lw_at lw_m1 115 rfl) rfl
theorem q248 : (Jvm.Cond.fieldLink "SoleraCellar$State" (73 : Nat) "SoleraCellar$State" "mood" "I") ∈ lw_all := lw_g (lw_at lw_m1 117 rfl) rfl
theorem q250 : (Jvm.Cond.fieldLink "SoleraCellar$State" (44 : Nat) "SoleraCellar$State" "part" "I") ∈ lw_all := lw_g (lw_at lw_m1 119 rfl) rfl
theorem q252 : (Jvm.Cond.fieldLink "SoleraCellar$State" (47 : Nat) "SoleraCellar$State" "force" "I") ∈ lw_all := lw_g (lw_at lw_m1 121 rfl) rfl
theorem q254 : (Jvm.Cond.laysFinal "SoleraCellar$State" "SoleraCellar$State" "table" "LSoleraCellar$Table;") ∈ lw_all := lw_g (lw_at lw_m1 123 rfl) rfl
theorem q255 : (Jvm.Cond.soleField "SoleraCellar$State" "table") ∈ lw_all := lw_g (lw_at lw_m1 124 rfl) rfl
theorem q256 : (Jvm.Cond.laysFinal "SoleraCellar$State" "SoleraCellar$State" "tier" "[I") ∈ lw_all := lw_g (lw_at lw_m1 125 rfl) rfl
theorem q257 : (Jvm.Cond.soleField "SoleraCellar$State" "tier") ∈ lw_all := lw_g (lw_at lw_m1 126 rfl) rfl
theorem q258 : (Jvm.Cond.laysFinal "SoleraCellar$State" "SoleraCellar$State" "size" "[I") ∈ lw_all := lw_g (lw_at lw_m1 127 rfl) rfl
theorem q259 : (Jvm.Cond.soleField "SoleraCellar$State" "size") ∈ lw_all := lw_g (lw_at lw_m1 128 rfl) rfl
theorem q260 : (Jvm.Cond.laysFinal "SoleraCellar$State" "SoleraCellar$State" "tasted" "[I") ∈ lw_all := lw_g (lw_at lw_m1 129 rfl) rfl
theorem q261 : (Jvm.Cond.soleField "SoleraCellar$State" "tasted") ∈ lw_all := lw_g (lw_at lw_m1 130 rfl) rfl
theorem q262 : (Jvm.Cond.laysFinal "SoleraCellar$State" "SoleraCellar$State" "laws" "Ljava/util/ArrayList;") ∈ lw_all := lw_g (lw_at lw_m1 131 rfl) rfl
theorem q263 : (Jvm.Cond.soleField "SoleraCellar$State" "laws") ∈ lw_all := lw_g (lw_at lw_m1 132 rfl) rfl
theorem q264 : (Jvm.Cond.laysFinal "SoleraCellar$State" "SoleraCellar$State" "plans" "Ljava/util/ArrayList;") ∈ lw_all := lw_g (lw_at lw_m1 133 rfl) rfl
theorem q265 : (Jvm.Cond.soleField "SoleraCellar$State" "plans") ∈ lw_all := lw_g (lw_at lw_m1 134 rfl) rfl
theorem q266 : (Jvm.Cond.lays "SoleraCellar$State" "SoleraCellar$State" "casks" "I") ∈ lw_all := lw_g (lw_at lw_m1 135 rfl) rfl
theorem q267 : (Jvm.Cond.soleField "SoleraCellar$State" "casks") ∈ lw_all := lw_g (lw_at lw_m1 136 rfl) rfl
theorem q268 : (Jvm.Cond.lays "SoleraCellar$State" "SoleraCellar$State" "tastedMany" "I") ∈ lw_all := lw_g (lw_at lw_m1 137 rfl) rfl
theorem q269 : (Jvm.Cond.soleField "SoleraCellar$State" "tastedMany") ∈ lw_all := lw_g (lw_at lw_m1 138 rfl) rfl
theorem q270 : (Jvm.Cond.lays "SoleraCellar$State" "SoleraCellar$State" "corked" "I") ∈ lw_all := lw_g (lw_at lw_m1 139 rfl) rfl
theorem q271 : (Jvm.Cond.soleField "SoleraCellar$State" "corked") ∈ lw_all := lw_g (lw_at lw_m1 140 rfl) rfl
theorem q272 : (Jvm.Cond.lays "SoleraCellar$State" "SoleraCellar$State" "mood" "I") ∈ lw_all := lw_g (lw_at lw_m1 141 rfl) rfl
theorem q273 : (Jvm.Cond.soleField "SoleraCellar$State" "mood") ∈ lw_all := lw_g (lw_at lw_m1 142 rfl) rfl
theorem q274 : (Jvm.Cond.lays "SoleraCellar$State" "SoleraCellar$State" "part" "I") ∈ lw_all := lw_g (lw_at lw_m1 143 rfl) rfl
theorem q275 : (Jvm.Cond.soleField "SoleraCellar$State" "part") ∈ lw_all := lw_g (lw_at lw_m1 144 rfl) rfl
theorem q276 : (Jvm.Cond.lays "SoleraCellar$State" "SoleraCellar$State" "force" "I") ∈ lw_all := lw_g (lw_at lw_m1 145 rfl) rfl
theorem q277 : (Jvm.Cond.soleField "SoleraCellar$State" "force") ∈ lw_all := lw_g (lw_at lw_m1 146 rfl) rfl
theorem q278 : (Jvm.Cond.superclass "SoleraCellar$State" "java/lang/Object") ∈ lw_all := lw_g (lw_at lw_m1 147 rfl) rfl
theorem q452 : (Jvm.Cond.instanceMethod ({ cls := "SoleraCellar$State", name := "takes", desc := "(LSoleraCellar$State;)V" } : Jvm.MethodName)) ∈ lw_all := lw_g (lw_at lw_m2 81 rfl) rfl
theorem q453 : (Jvm.Cond.selects "SoleraCellar$State" ({ cls := "SoleraCellar$State", name := "takes", desc := "(LSoleraCellar$State;)V" } : Jvm.MethodName) ({ cls := "SoleraCellar$State", name := "takes", desc := "(LSoleraCellar$State;)V" } : Jvm.MethodName)) ∈ lw_all := lw_g (lw_at lw_m2 82 rfl) rfl
theorem q454 : (Jvm.Cond.code ({ cls := "SoleraCellar$State", name := "takes", desc := "(LSoleraCellar$State;)V" } : Jvm.MethodName) prog_16_method_2_code (2 : Nat) (Option.none : Option Jvm.ClassFile.FieldType)) ∈ lw_all := lw_g (lw_at lw_m2 83 rfl) rfl
theorem q455 : (Jvm.Cond.methodLink "SoleraCellar$State" (50 : Nat) ({ cls := "SoleraCellar$Table", name := "takes", desc := "(LSoleraCellar$Table;)V" } : Jvm.MethodName)) ∈ lw_all := lw_g (lw_at lw_m2 84 rfl) rfl
theorem q462 : (Jvm.Cond.methodLink "SoleraCellar$State" (54 : Nat) ({ cls := "java/lang/System", name := "arraycopy", desc := "(Ljava/lang/Object;ILjava/lang/Object;II)V" } : Jvm.MethodName)) ∈ lw_all := lw_g (lw_at lw_m2 91 rfl) rfl
theorem q463 : (Jvm.Cond.methodLink "SoleraCellar$State" (60 : Nat) ({ cls := "java/util/ArrayList", name := "clear", desc := "()V" } : Jvm.MethodName)) ∈ lw_all := lw_g (lw_at lw_m2 92 rfl) rfl
theorem q467 : (Jvm.Cond.methodLink "SoleraCellar$State" (63 : Nat) ({ cls := "java/util/ArrayList", name := "addAll", desc := "(Ljava/util/Collection;)Z" } : Jvm.MethodName)) ∈ lw_all := lw_g (lw_at lw_m2 96 rfl) rfl
theorem q501 : (Jvm.Cond.selects "SoleraCellar$State" ({ cls := "java/lang/Object", name := "getClass", desc := "()Ljava/lang/Class;" } : Jvm.MethodName) ({ cls := "java/lang/Object", name := "getClass", desc := "()Ljava/lang/Class;" } : Jvm.MethodName)) ∈ lw_all := lw_g (lw_at lw_m2 130 rfl) rfl
theorem q2244 : (Jvm.Cond.castable "SoleraCellar$State" "java/lang/Object") ∈ lw_tbl := lw_at lw_m9 193 rfl
theorem in_X1 : ∀ w ∈ wsX10, w ∈ lw_all := lw_in wsX10 [254, 256, 258, 260, 262, 264, 266, 268, 270, 272, 274, 276] (by decide +kernel) (by decide +kernel)

/-! SoleraCellar$Sum -/
set_option maxRecDepth 100000
def RX10 : String := "SoleraCellar$Sum"
abbrev cX10_init : ByteArray := prog_17_method_1_code
def yX10_init : MethodName := ⟨RX10, "<init>", "()V"⟩
theorem dX10_init_0 : decode cX10_init 0 = .ok (.aload_n 0, 1) := by decide +kernel
theorem dX10_init_1 : decode cX10_init 1 = .ok (.invokespecial 1, 3) := by decide +kernel
theorem dX10_init_4 : decode cX10_init 4 = .ok (.return_, 1) := by decide +kernel
theorem q153 : (Jvm.Cond.initialized "SoleraCellar$Sum") ∈ lw_all := lw_g (lw_at lw_m1 22 rfl) rfl
theorem q648 : (Jvm.Cond.declares ({ cls := "SoleraCellar$Sum", name := "of", desc := "(LSoleraCellar$Setting;)J" } : Jvm.MethodName)) ∈ lw_tbl := lw_at lw_m3 37 rfl
theorem q649 : (Jvm.Cond.sameMethod "SoleraCellar$Sum" "SoleraCellar$Sum" "of" "(LSoleraCellar$Setting;)J") ∈ lw_all := lw_g (lw_at lw_m3 38 rfl) rfl
theorem q962 : (Jvm.Cond.instanceMethod ({ cls := "SoleraCellar$Sum", name := "<init>", desc := "()V" } : Jvm.MethodName)) ∈ lw_all := lw_g (lw_at lw_m4 111 rfl) rfl
theorem q963 : (Jvm.Cond.code ({ cls := "SoleraCellar$Sum", name := "<init>", desc := "()V" } : Jvm.MethodName) prog_17_method_1_code (1 : Nat) (Option.none : Option Jvm.ClassFile.FieldType)) ∈ lw_all := lw_g (lw_at lw_m4 112 rfl) rfl
theorem q964 : (Jvm.Cond.methodLink "SoleraCellar$Sum" (1 : Nat) ({ cls := "java/lang/Object", name := "<init>", desc := "()V" } : Jvm.MethodName)) ∈ lw_all := lw_g (lw_at lw_m4 113 rfl) rfl
theorem q2246 : (Jvm.Cond.castable "SoleraCellar$Sum" "java/lang/Object") ∈ lw_tbl := lw_at lw_m9 195 rfl

/-! SoleraCellar$Number -/
set_option maxRecDepth 100000
def RX11 : String := "SoleraCellar$Number"
def TX11 : u_T := fun k => match k with
  | _ => ("SoleraCellar$Number", "number", "I", true)
def tyX11 : Nat → FieldType := fun k => match k with
  | _ => .int
abbrev wsX110 : List Cond := u_ws RX11 TX11 1
theorem nmX11 : ∀ a, a < 1 → ∀ b, b < 1 → a ≠ b → (TX11 a).2.1 ≠ (TX11 b).2.1 := by decide +kernel
theorem tyX11_ok : ∀ k, k < 1 → parseFieldDescriptor (TX11 k).2.2.1 = some (tyX11 k) := by decide +kernel
abbrev cX11_of : ByteArray := prog_9_method_2_code
def yX11_of : MethodName := ⟨RX11, "of", "(LSoleraCellar$Setting;)J"⟩
def dkwX11_of_0 : List UInt8 := [42, 180, 0, 7, 133, 173]
abbrev dktX11_of_0 : List UInt8 := dkwX11_of_0 ++ []
theorem dksX11_of_0 : cX11_of.data.toList.drop 0 = dktX11_of_0 := by decide +kernel
theorem dX11_of_0 : decode cX11_of 0 = .ok (.aload_n 0, 1) := dk_42 (dk_at dksX11_of_0 0 rfl rfl)
theorem dX11_of_1 : decode cX11_of 1 = .ok (.getfield 7, 3) := dk_180 0 7 (dk_at dksX11_of_0 1 rfl rfl)
theorem dX11_of_4 : decode cX11_of 4 = .ok (.i2l, 1) := dk_133 (dk_at dksX11_of_0 4 rfl rfl)
theorem dX11_of_5 : decode cX11_of 5 = .ok (.lreturn, 1) := dk_173 (dk_at dksX11_of_0 5 rfl rfl)
abbrev cX11_init : ByteArray := prog_9_method_1_code
def yX11_init : MethodName := ⟨RX11, "<init>", "(I)V"⟩
def dkwX11_init_0 : List UInt8 := [42, 183, 0, 1, 42, 27, 181, 0, 7, 177]
abbrev dktX11_init_0 : List UInt8 := dkwX11_init_0 ++ []
theorem dksX11_init_0 : cX11_init.data.toList.drop 0 = dktX11_init_0 := by decide +kernel
theorem dX11_init_0 : decode cX11_init 0 = .ok (.aload_n 0, 1) := dk_42 (dk_at dksX11_init_0 0 rfl rfl)
theorem dX11_init_1 : decode cX11_init 1 = .ok (.invokespecial 1, 3) := dk_183 0 1 (dk_at dksX11_init_0 1 rfl rfl)
theorem dX11_init_4 : decode cX11_init 4 = .ok (.aload_n 0, 1) := dk_42 (dk_at dksX11_init_0 4 rfl rfl)
theorem dX11_init_5 : decode cX11_init 5 = .ok (.iload_n 1, 1) := dk_27 (dk_at dksX11_init_0 5 rfl rfl)
theorem dX11_init_6 : decode cX11_init 6 = .ok (.putfield 7, 3) := dk_181 0 7 (dk_at dksX11_init_0 6 rfl rfl)
theorem dX11_init_9 : decode cX11_init 9 = .ok (.return_, 1) := dk_177 (dk_at dksX11_init_0 9 rfl rfl)
theorem q154 : (Jvm.Cond.initialized "SoleraCellar$Number") ∈ lw_all := lw_g (lw_at lw_m1 23 rfl) rfl
theorem q495 : (Jvm.Cond.selects "SoleraCellar$Number" ({ cls := "java/lang/Object", name := "getClass", desc := "()Ljava/lang/Class;" } : Jvm.MethodName) ({ cls := "java/lang/Object", name := "getClass", desc := "()Ljava/lang/Class;" } : Jvm.MethodName)) ∈ lw_all := lw_g (lw_at lw_m2 124 rfl) rfl
theorem q650 : (Jvm.Cond.selects "SoleraCellar$Number" ({ cls := "SoleraCellar$Sum", name := "of", desc := "(LSoleraCellar$Setting;)J" } : Jvm.MethodName) ({ cls := "SoleraCellar$Number", name := "of", desc := "(LSoleraCellar$Setting;)J" } : Jvm.MethodName)) ∈ lw_all := lw_g (lw_at lw_m3 39 rfl) rfl
theorem q651 : (Jvm.Cond.instanceMethod ({ cls := "SoleraCellar$Number", name := "of", desc := "(LSoleraCellar$Setting;)J" } : Jvm.MethodName)) ∈ lw_all := lw_g (lw_at lw_m3 40 rfl) rfl
theorem q652 : (Jvm.Cond.code ({ cls := "SoleraCellar$Number", name := "of", desc := "(LSoleraCellar$Setting;)J" } : Jvm.MethodName) prog_9_method_2_code (2 : Nat) (Option.some Jvm.ClassFile.FieldType.long)) ∈ lw_all := lw_g (lw_at lw_m3 41 rfl) rfl
theorem q951 : (Jvm.Cond.instantiable "SoleraCellar$Number" (1 : Nat)) ∈ lw_all := lw_g (lw_at lw_m4 100 rfl) rfl
theorem q959 : (Jvm.Cond.instanceMethod ({ cls := "SoleraCellar$Number", name := "<init>", desc := "(I)V" } : Jvm.MethodName)) ∈ lw_all := lw_g (lw_at lw_m4 108 rfl) rfl
theorem q960 : (Jvm.Cond.code ({ cls := "SoleraCellar$Number", name := "<init>", desc := "(I)V" } : Jvm.MethodName) prog_9_method_1_code (2 : Nat) (Option.none : Option Jvm.ClassFile.FieldType)) ∈ lw_all := lw_g (lw_at lw_m4 109 rfl) rfl
theorem q961 : (Jvm.Cond.methodLinkNest "SoleraCellar$Number" (1 : Nat) ({ cls := "SoleraCellar$Sum", name := "<init>", desc := "()V" } : Jvm.MethodName) "SoleraCellar") ∈ lw_tbl := lw_at lw_m4 110 rfl
theorem q965 : (Jvm.Cond.fieldLink "SoleraCellar$Number" (7 : Nat) "SoleraCellar$Number" "number" "I") ∈ lw_all := lw_g (lw_at lw_m4 114 rfl) rfl
theorem q966 : (Jvm.Cond.laysFinal "SoleraCellar$Number" "SoleraCellar$Number" "number" "I") ∈ lw_all := lw_g (lw_at lw_m4 115 rfl) rfl
theorem q967 : (Jvm.Cond.soleField "SoleraCellar$Number" "number") ∈ lw_all := lw_g (lw_at lw_m4 116 rfl) rfl
theorem q968 : (Jvm.Cond.superclass "SoleraCellar$Number" "SoleraCellar$Sum") ∈ lw_all := lw_g (lw_at lw_m4 117 rfl) rfl
theorem q2255 : (Jvm.Cond.castable "SoleraCellar$Number" "java/lang/Object") ∈ lw_tbl := lw_at lw_m9 204 rfl
theorem q2267 : (Jvm.Cond.castable "SoleraCellar$Number" "SoleraCellar$Sum") ∈ lw_tbl := lw_at lw_m9 216 rfl
theorem in_X11 : ∀ w ∈ wsX110, w ∈ lw_all := lw_in wsX110 [966] (by decide +kernel) (by decide +kernel)

/-! SoleraCellar$Value -/
set_option maxRecDepth 100000
def RX12 : String := "SoleraCellar$Value"
def TX12 : u_T := fun k => match k with
  | _ => ("SoleraCellar$Value", "which", "I", true)
def tyX12 : Nat → FieldType := fun k => match k with
  | _ => .int
abbrev wsX120 : List Cond := u_ws RX12 TX12 1
theorem nmX12 : ∀ a, a < 1 → ∀ b, b < 1 → a ≠ b → (TX12 a).2.1 ≠ (TX12 b).2.1 := by decide +kernel
theorem tyX12_ok : ∀ k, k < 1 → parseFieldDescriptor (TX12 k).2.2.1 = some (tyX12 k) := by decide +kernel
abbrev cX12_of : ByteArray := prog_21_method_2_code
def yX12_of : MethodName := ⟨RX12, "of", "(LSoleraCellar$Setting;)J"⟩
def dkwX12_of_0 : List UInt8 := [43, 180, 0, 13, 42, 180, 0, 7, 47, 173]
abbrev dktX12_of_0 : List UInt8 := dkwX12_of_0 ++ []
theorem dksX12_of_0 : cX12_of.data.toList.drop 0 = dktX12_of_0 := by decide +kernel
theorem dX12_of_0 : decode cX12_of 0 = .ok (.aload_n 1, 1) := dk_43 (dk_at dksX12_of_0 0 rfl rfl)
theorem dX12_of_1 : decode cX12_of 1 = .ok (.getfield 13, 3) := dk_180 0 13 (dk_at dksX12_of_0 1 rfl rfl)
theorem dX12_of_4 : decode cX12_of 4 = .ok (.aload_n 0, 1) := dk_42 (dk_at dksX12_of_0 4 rfl rfl)
theorem dX12_of_5 : decode cX12_of 5 = .ok (.getfield 7, 3) := dk_180 0 7 (dk_at dksX12_of_0 5 rfl rfl)
theorem dX12_of_8 : decode cX12_of 8 = .ok (.laload, 1) := dk_47 (dk_at dksX12_of_0 8 rfl rfl)
theorem dX12_of_9 : decode cX12_of 9 = .ok (.lreturn, 1) := dk_173 (dk_at dksX12_of_0 9 rfl rfl)
abbrev cX12_init : ByteArray := prog_21_method_1_code
def yX12_init : MethodName := ⟨RX12, "<init>", "(I)V"⟩
def dkwX12_init_0 : List UInt8 := [42, 183, 0, 1, 42, 27, 181, 0, 7, 177]
abbrev dktX12_init_0 : List UInt8 := dkwX12_init_0 ++ []
theorem dksX12_init_0 : cX12_init.data.toList.drop 0 = dktX12_init_0 := by decide +kernel
theorem dX12_init_0 : decode cX12_init 0 = .ok (.aload_n 0, 1) := dk_42 (dk_at dksX12_init_0 0 rfl rfl)
theorem dX12_init_1 : decode cX12_init 1 = .ok (.invokespecial 1, 3) := dk_183 0 1 (dk_at dksX12_init_0 1 rfl rfl)
theorem dX12_init_4 : decode cX12_init 4 = .ok (.aload_n 0, 1) := dk_42 (dk_at dksX12_init_0 4 rfl rfl)
theorem dX12_init_5 : decode cX12_init 5 = .ok (.iload_n 1, 1) := dk_27 (dk_at dksX12_init_0 5 rfl rfl)
theorem dX12_init_6 : decode cX12_init 6 = .ok (.putfield 7, 3) := dk_181 0 7 (dk_at dksX12_init_0 6 rfl rfl)
theorem dX12_init_9 : decode cX12_init 9 = .ok (.return_, 1) := dk_177 (dk_at dksX12_init_0 9 rfl rfl)
theorem q155 : (Jvm.Cond.initialized "SoleraCellar$Value") ∈ lw_all := lw_g (lw_at lw_m1 24 rfl) rfl
theorem q353 : (Jvm.Cond.fieldLinkNest "SoleraCellar$Value" (13 : Nat) "SoleraCellar$Setting" "values" "[J" "SoleraCellar") ∈ lw_tbl := lw_at lw_m1 222 rfl
theorem q504 : (Jvm.Cond.selects "SoleraCellar$Value" ({ cls := "java/lang/Object", name := "getClass", desc := "()Ljava/lang/Class;" } : Jvm.MethodName) ({ cls := "java/lang/Object", name := "getClass", desc := "()Ljava/lang/Class;" } : Jvm.MethodName)) ∈ lw_all := lw_g (lw_at lw_m2 133 rfl) rfl
theorem q657 : (Jvm.Cond.instanceMethod ({ cls := "SoleraCellar$Value", name := "of", desc := "(LSoleraCellar$Setting;)J" } : Jvm.MethodName)) ∈ lw_all := lw_g (lw_at lw_m3 46 rfl) rfl
theorem q658 : (Jvm.Cond.code ({ cls := "SoleraCellar$Value", name := "of", desc := "(LSoleraCellar$Setting;)J" } : Jvm.MethodName) prog_21_method_2_code (2 : Nat) (Option.some Jvm.ClassFile.FieldType.long)) ∈ lw_all := lw_g (lw_at lw_m3 47 rfl) rfl
theorem q661 : (Jvm.Cond.selects "SoleraCellar$Value" ({ cls := "SoleraCellar$Sum", name := "of", desc := "(LSoleraCellar$Setting;)J" } : Jvm.MethodName) ({ cls := "SoleraCellar$Value", name := "of", desc := "(LSoleraCellar$Setting;)J" } : Jvm.MethodName)) ∈ lw_all := lw_g (lw_at lw_m3 50 rfl) rfl
theorem q1006 : (Jvm.Cond.instantiable "SoleraCellar$Value" (1 : Nat)) ∈ lw_all := lw_g (lw_at lw_m4 155 rfl) rfl
theorem q1008 : (Jvm.Cond.instanceMethod ({ cls := "SoleraCellar$Value", name := "<init>", desc := "(I)V" } : Jvm.MethodName)) ∈ lw_all := lw_g (lw_at lw_m4 157 rfl) rfl
theorem q1009 : (Jvm.Cond.code ({ cls := "SoleraCellar$Value", name := "<init>", desc := "(I)V" } : Jvm.MethodName) prog_21_method_1_code (2 : Nat) (Option.none : Option Jvm.ClassFile.FieldType)) ∈ lw_all := lw_g (lw_at lw_m4 158 rfl) rfl
theorem q1010 : (Jvm.Cond.methodLinkNest "SoleraCellar$Value" (1 : Nat) ({ cls := "SoleraCellar$Sum", name := "<init>", desc := "()V" } : Jvm.MethodName) "SoleraCellar") ∈ lw_tbl := lw_at lw_m4 159 rfl
theorem q1011 : (Jvm.Cond.fieldLink "SoleraCellar$Value" (7 : Nat) "SoleraCellar$Value" "which" "I") ∈ lw_all := lw_g (lw_at lw_m4 160 rfl) rfl
theorem q1012 : (Jvm.Cond.laysFinal "SoleraCellar$Value" "SoleraCellar$Value" "which" "I") ∈ lw_all := lw_g (lw_at lw_m4 161 rfl) rfl
theorem q1013 : (Jvm.Cond.soleField "SoleraCellar$Value" "which") ∈ lw_all := lw_g (lw_at lw_m4 162 rfl) rfl
theorem q1014 : (Jvm.Cond.superclass "SoleraCellar$Value" "SoleraCellar$Sum") ∈ lw_all := lw_g (lw_at lw_m4 163 rfl) rfl
theorem q2256 : (Jvm.Cond.castable "SoleraCellar$Value" "java/lang/Object") ∈ lw_tbl := lw_at lw_m9 205 rfl
theorem q2268 : (Jvm.Cond.castable "SoleraCellar$Value" "SoleraCellar$Sum") ∈ lw_tbl := lw_at lw_m9 217 rfl
theorem in_X12 : ∀ w ∈ wsX120, w ∈ lw_all := lw_in wsX120 [1012] (by decide +kernel) (by decide +kernel)

/-! SoleraCellar$Two -/
set_option maxRecDepth 100000
def RX13 : String := "SoleraCellar$Two"
def TX13 : u_T := fun k => match k with
  | 0 => ("SoleraCellar$Two", "sign", "C", true)
  | 1 => ("SoleraCellar$Two", "left", "LSoleraCellar$Sum;", true)
  | _ => ("SoleraCellar$Two", "right", "LSoleraCellar$Sum;", true)
def tyX13 : Nat → FieldType := fun k => match k with
  | 0 => .char
  | 1 => .object "SoleraCellar$Sum"
  | _ => .object "SoleraCellar$Sum"
abbrev wsX130 : List Cond := u_ws RX13 TX13 3
theorem nmX13 : ∀ a, a < 3 → ∀ b, b < 3 → a ≠ b → (TX13 a).2.1 ≠ (TX13 b).2.1 := by decide +kernel
theorem tyX13_ok : ∀ k, k < 3 → parseFieldDescriptor (TX13 k).2.2.1 = some (tyX13 k) := by decide +kernel
abbrev cX13_of : ByteArray := prog_20_method_2_code
def yX13_of : MethodName := ⟨RX13, "of", "(LSoleraCellar$Setting;)J"⟩
def dkwX13_of_6 : List UInt8 := [191, 22, 6, 173]
abbrev dktX13_of_6 : List UInt8 := dkwX13_of_6 ++ []
def dkwX13_of_5 : List UInt8 := [55, 6, 22, 6, 20, 0, 32, 148, 157, 0, 12, 22, 6, 20, 0, 34, 148, 156, 0, 8, 43, 180, 0, 26]
abbrev dktX13_of_5 : List UInt8 := dkwX13_of_5 ++ dktX13_of_6
def dkwX13_of_4 : List UInt8 := [105, 167, 0, 23, 42, 180, 0, 9, 16, 47, 160, 0, 10, 32, 22, 4, 109, 167, 0, 7, 32, 22, 4, 113]
abbrev dktX13_of_4 : List UInt8 := dkwX13_of_4 ++ dktX13_of_5
def dkwX13_of_3 : List UInt8 := [16, 45, 160, 0, 10, 32, 22, 4, 101, 167, 0, 39, 42, 180, 0, 9, 16, 42, 160, 0, 10, 32, 22, 4]
abbrev dktX13_of_3 : List UInt8 := dkwX13_of_3 ++ dktX13_of_4
def dkwX13_of_2 : List UInt8 := [180, 0, 26, 191, 42, 180, 0, 9, 16, 43, 160, 0, 10, 32, 22, 4, 97, 167, 0, 55, 42, 180, 0, 9]
abbrev dktX13_of_2 : List UInt8 := dkwX13_of_2 ++ dktX13_of_3
def dkwX13_of_1 : List UInt8 := [16, 47, 159, 0, 12, 42, 180, 0, 9, 16, 37, 160, 0, 15, 22, 4, 9, 148, 154, 0, 8, 43]
abbrev dktX13_of_1 : List UInt8 := dkwX13_of_1 ++ dktX13_of_2
def dkwX13_of_0 : List UInt8 := [42, 180, 0, 15, 43, 182, 0, 22, 65, 42, 180, 0, 19, 43, 182, 0, 22, 55, 4, 42, 180, 0, 9]
abbrev dktX13_of_0 : List UInt8 := dkwX13_of_0 ++ dktX13_of_1
theorem dksX13_of_0 : cX13_of.data.toList.drop 0 = dktX13_of_0 := by decide +kernel
theorem dksX13_of_1 : cX13_of.data.toList.drop 23 = dktX13_of_1 := dk_seg dksX13_of_0 23 rfl rfl
theorem dksX13_of_2 : cX13_of.data.toList.drop 45 = dktX13_of_2 := dk_seg dksX13_of_1 22 rfl rfl
theorem dksX13_of_3 : cX13_of.data.toList.drop 69 = dktX13_of_3 := dk_seg dksX13_of_2 24 rfl rfl
theorem dksX13_of_4 : cX13_of.data.toList.drop 93 = dktX13_of_4 := dk_seg dksX13_of_3 24 rfl rfl
theorem dksX13_of_5 : cX13_of.data.toList.drop 117 = dktX13_of_5 := dk_seg dksX13_of_4 24 rfl rfl
theorem dksX13_of_6 : cX13_of.data.toList.drop 141 = dktX13_of_6 := dk_seg dksX13_of_5 24 rfl rfl
theorem dX13_of_0 : decode cX13_of 0 = .ok (.aload_n 0, 1) := dk_42 (dk_at dksX13_of_0 0 rfl rfl)
theorem dX13_of_1 : decode cX13_of 1 = .ok (.getfield 15, 3) := dk_180 0 15 (dk_at dksX13_of_0 1 rfl rfl)
theorem dX13_of_4 : decode cX13_of 4 = .ok (.aload_n 1, 1) := dk_43 (dk_at dksX13_of_0 4 rfl rfl)
theorem dX13_of_5 : decode cX13_of 5 = .ok (.invokevirtual 22, 3) := dk_182 0 22 (dk_at dksX13_of_0 5 rfl rfl)
theorem dX13_of_8 : decode cX13_of 8 = .ok (.lstore_n 2, 1) := dk_65 (dk_at dksX13_of_0 8 rfl rfl)
theorem dX13_of_9 : decode cX13_of 9 = .ok (.aload_n 0, 1) := dk_42 (dk_at dksX13_of_0 9 rfl rfl)
theorem dX13_of_10 : decode cX13_of 10 = .ok (.getfield 19, 3) := dk_180 0 19 (dk_at dksX13_of_0 10 rfl rfl)
theorem dX13_of_13 : decode cX13_of 13 = .ok (.aload_n 1, 1) := dk_43 (dk_at dksX13_of_0 13 rfl rfl)
theorem dX13_of_14 : decode cX13_of 14 = .ok (.invokevirtual 22, 3) := dk_182 0 22 (dk_at dksX13_of_0 14 rfl rfl)
theorem dX13_of_17 : decode cX13_of 17 = .ok (.lstore 4, 2) := dk_55 4 (dk_at dksX13_of_0 17 rfl rfl)
theorem dX13_of_19 : decode cX13_of 19 = .ok (.aload_n 0, 1) := dk_42 (dk_at dksX13_of_0 19 rfl rfl)
theorem dX13_of_20 : decode cX13_of 20 = .ok (.getfield 9, 3) := dk_180 0 9 (dk_at dksX13_of_0 20 rfl rfl)
theorem dX13_of_23 : decode cX13_of 23 = .ok (.bipush 47, 2) := dk_16 47 (dk_at dksX13_of_1 0 rfl rfl)
theorem dX13_of_25 : decode cX13_of 25 = .ok (.if_icmp .eq 12, 3) := dk_159 0 12 (dk_at dksX13_of_1 2 rfl rfl)
theorem dX13_of_28 : decode cX13_of 28 = .ok (.aload_n 0, 1) := dk_42 (dk_at dksX13_of_1 5 rfl rfl)
theorem dX13_of_29 : decode cX13_of 29 = .ok (.getfield 9, 3) := dk_180 0 9 (dk_at dksX13_of_1 6 rfl rfl)
theorem dX13_of_32 : decode cX13_of 32 = .ok (.bipush 37, 2) := dk_16 37 (dk_at dksX13_of_1 9 rfl rfl)
theorem dX13_of_34 : decode cX13_of 34 = .ok (.if_icmp .ne 15, 3) := dk_160 0 15 (dk_at dksX13_of_1 11 rfl rfl)
theorem dX13_of_37 : decode cX13_of 37 = .ok (.lload 4, 2) := dk_22 4 (dk_at dksX13_of_1 14 rfl rfl)
theorem dX13_of_39 : decode cX13_of 39 = .ok (.lconst 0, 1) := dk_9 (dk_at dksX13_of_1 16 rfl rfl)
theorem dX13_of_40 : decode cX13_of 40 = .ok (.lcmp, 1) := dk_148 (dk_at dksX13_of_1 17 rfl rfl)
theorem dX13_of_41 : decode cX13_of 41 = .ok (.ifCond .ne 8, 3) := dk_154 0 8 (dk_at dksX13_of_1 18 rfl rfl)
theorem dX13_of_44 : decode cX13_of 44 = .ok (.aload_n 1, 1) := dk_43 (dk_at dksX13_of_1 21 rfl rfl)
theorem dX13_of_45 : decode cX13_of 45 = .ok (.getfield 26, 3) := dk_180 0 26 (dk_at dksX13_of_2 0 rfl rfl)
theorem dX13_of_48 : decode cX13_of 48 = .ok (.athrow, 1) := dk_191 (dk_at dksX13_of_2 3 rfl rfl)
theorem dX13_of_49 : decode cX13_of 49 = .ok (.aload_n 0, 1) := dk_42 (dk_at dksX13_of_2 4 rfl rfl)
theorem dX13_of_50 : decode cX13_of 50 = .ok (.getfield 9, 3) := dk_180 0 9 (dk_at dksX13_of_2 5 rfl rfl)
theorem dX13_of_53 : decode cX13_of 53 = .ok (.bipush 43, 2) := dk_16 43 (dk_at dksX13_of_2 8 rfl rfl)
theorem dX13_of_55 : decode cX13_of 55 = .ok (.if_icmp .ne 10, 3) := dk_160 0 10 (dk_at dksX13_of_2 10 rfl rfl)
theorem dX13_of_58 : decode cX13_of 58 = .ok (.lload_n 2, 1) := dk_32 (dk_at dksX13_of_2 13 rfl rfl)
theorem dX13_of_59 : decode cX13_of 59 = .ok (.lload 4, 2) := dk_22 4 (dk_at dksX13_of_2 14 rfl rfl)
theorem dX13_of_61 : decode cX13_of 61 = .ok (.ladd, 1) := dk_97 (dk_at dksX13_of_2 16 rfl rfl)
theorem dX13_of_62 : decode cX13_of 62 = .ok (.goto 55, 3) := dk_167 0 55 (dk_at dksX13_of_2 17 rfl rfl)
theorem dX13_of_65 : decode cX13_of 65 = .ok (.aload_n 0, 1) := dk_42 (dk_at dksX13_of_2 20 rfl rfl)
theorem dX13_of_66 : decode cX13_of 66 = .ok (.getfield 9, 3) := dk_180 0 9 (dk_at dksX13_of_2 21 rfl rfl)
theorem dX13_of_69 : decode cX13_of 69 = .ok (.bipush 45, 2) := dk_16 45 (dk_at dksX13_of_3 0 rfl rfl)
theorem dX13_of_71 : decode cX13_of 71 = .ok (.if_icmp .ne 10, 3) := dk_160 0 10 (dk_at dksX13_of_3 2 rfl rfl)
theorem dX13_of_74 : decode cX13_of 74 = .ok (.lload_n 2, 1) := dk_32 (dk_at dksX13_of_3 5 rfl rfl)
theorem dX13_of_75 : decode cX13_of 75 = .ok (.lload 4, 2) := dk_22 4 (dk_at dksX13_of_3 6 rfl rfl)
theorem dX13_of_77 : decode cX13_of 77 = .ok (.lsub, 1) := dk_101 (dk_at dksX13_of_3 8 rfl rfl)
theorem dX13_of_78 : decode cX13_of 78 = .ok (.goto 39, 3) := dk_167 0 39 (dk_at dksX13_of_3 9 rfl rfl)
theorem dX13_of_81 : decode cX13_of 81 = .ok (.aload_n 0, 1) := dk_42 (dk_at dksX13_of_3 12 rfl rfl)
theorem dX13_of_82 : decode cX13_of 82 = .ok (.getfield 9, 3) := dk_180 0 9 (dk_at dksX13_of_3 13 rfl rfl)
theorem dX13_of_85 : decode cX13_of 85 = .ok (.bipush 42, 2) := dk_16 42 (dk_at dksX13_of_3 16 rfl rfl)
theorem dX13_of_87 : decode cX13_of 87 = .ok (.if_icmp .ne 10, 3) := dk_160 0 10 (dk_at dksX13_of_3 18 rfl rfl)
theorem dX13_of_90 : decode cX13_of 90 = .ok (.lload_n 2, 1) := dk_32 (dk_at dksX13_of_3 21 rfl rfl)
theorem dX13_of_91 : decode cX13_of 91 = .ok (.lload 4, 2) := dk_22 4 (dk_at dksX13_of_3 22 rfl rfl)
theorem dX13_of_93 : decode cX13_of 93 = .ok (.lmul, 1) := dk_105 (dk_at dksX13_of_4 0 rfl rfl)
theorem dX13_of_94 : decode cX13_of 94 = .ok (.goto 23, 3) := dk_167 0 23 (dk_at dksX13_of_4 1 rfl rfl)
theorem dX13_of_97 : decode cX13_of 97 = .ok (.aload_n 0, 1) := dk_42 (dk_at dksX13_of_4 4 rfl rfl)
theorem dX13_of_98 : decode cX13_of 98 = .ok (.getfield 9, 3) := dk_180 0 9 (dk_at dksX13_of_4 5 rfl rfl)
theorem dX13_of_101 : decode cX13_of 101 = .ok (.bipush 47, 2) := dk_16 47 (dk_at dksX13_of_4 8 rfl rfl)
theorem dX13_of_103 : decode cX13_of 103 = .ok (.if_icmp .ne 10, 3) := dk_160 0 10 (dk_at dksX13_of_4 10 rfl rfl)
theorem dX13_of_106 : decode cX13_of 106 = .ok (.lload_n 2, 1) := dk_32 (dk_at dksX13_of_4 13 rfl rfl)
theorem dX13_of_107 : decode cX13_of 107 = .ok (.lload 4, 2) := dk_22 4 (dk_at dksX13_of_4 14 rfl rfl)
theorem dX13_of_109 : decode cX13_of 109 = .ok (.ldiv, 1) := dk_109 (dk_at dksX13_of_4 16 rfl rfl)
theorem dX13_of_110 : decode cX13_of 110 = .ok (.goto 7, 3) := dk_167 0 7 (dk_at dksX13_of_4 17 rfl rfl)
theorem dX13_of_113 : decode cX13_of 113 = .ok (.lload_n 2, 1) := dk_32 (dk_at dksX13_of_4 20 rfl rfl)
theorem dX13_of_114 : decode cX13_of 114 = .ok (.lload 4, 2) := dk_22 4 (dk_at dksX13_of_4 21 rfl rfl)
theorem dX13_of_116 : decode cX13_of 116 = .ok (.lrem, 1) := dk_113 (dk_at dksX13_of_4 23 rfl rfl)
theorem dX13_of_117 : decode cX13_of 117 = .ok (.lstore 6, 2) := dk_55 6 (dk_at dksX13_of_5 0 rfl rfl)
theorem dX13_of_119 : decode cX13_of 119 = .ok (.lload 6, 2) := dk_22 6 (dk_at dksX13_of_5 2 rfl rfl)
theorem dX13_of_121 : decode cX13_of 121 = .ok (.ldc2_w 32, 3) := dk_20 0 32 (dk_at dksX13_of_5 4 rfl rfl)
theorem dX13_of_124 : decode cX13_of 124 = .ok (.lcmp, 1) := dk_148 (dk_at dksX13_of_5 7 rfl rfl)
theorem dX13_of_125 : decode cX13_of 125 = .ok (.ifCond .gt 12, 3) := dk_157 0 12 (dk_at dksX13_of_5 8 rfl rfl)
theorem dX13_of_128 : decode cX13_of 128 = .ok (.lload 6, 2) := dk_22 6 (dk_at dksX13_of_5 11 rfl rfl)
theorem dX13_of_130 : decode cX13_of 130 = .ok (.ldc2_w 34, 3) := dk_20 0 34 (dk_at dksX13_of_5 13 rfl rfl)
theorem dX13_of_133 : decode cX13_of 133 = .ok (.lcmp, 1) := dk_148 (dk_at dksX13_of_5 16 rfl rfl)
theorem dX13_of_134 : decode cX13_of 134 = .ok (.ifCond .ge 8, 3) := dk_156 0 8 (dk_at dksX13_of_5 17 rfl rfl)
theorem dX13_of_137 : decode cX13_of 137 = .ok (.aload_n 1, 1) := dk_43 (dk_at dksX13_of_5 20 rfl rfl)
theorem dX13_of_138 : decode cX13_of 138 = .ok (.getfield 26, 3) := dk_180 0 26 (dk_at dksX13_of_5 21 rfl rfl)
theorem dX13_of_141 : decode cX13_of 141 = .ok (.athrow, 1) := dk_191 (dk_at dksX13_of_6 0 rfl rfl)
theorem dX13_of_142 : decode cX13_of 142 = .ok (.lload 6, 2) := dk_22 6 (dk_at dksX13_of_6 1 rfl rfl)
theorem dX13_of_144 : decode cX13_of 144 = .ok (.lreturn, 1) := dk_173 (dk_at dksX13_of_6 3 rfl rfl)
abbrev cX13_init : ByteArray := prog_20_method_1_code
def yX13_init : MethodName := ⟨RX13, "<init>", "(CLSoleraCellar$Sum;LSoleraCellar$Sum;)V"⟩
def dkwX13_init_0 : List UInt8 := [42, 183, 0, 3, 42, 27, 181, 0, 9, 42, 44, 181, 0, 15, 42, 45, 181, 0, 19, 177]
abbrev dktX13_init_0 : List UInt8 := dkwX13_init_0 ++ []
theorem dksX13_init_0 : cX13_init.data.toList.drop 0 = dktX13_init_0 := by decide +kernel
theorem dX13_init_0 : decode cX13_init 0 = .ok (.aload_n 0, 1) := dk_42 (dk_at dksX13_init_0 0 rfl rfl)
theorem dX13_init_1 : decode cX13_init 1 = .ok (.invokespecial 3, 3) := dk_183 0 3 (dk_at dksX13_init_0 1 rfl rfl)
theorem dX13_init_4 : decode cX13_init 4 = .ok (.aload_n 0, 1) := dk_42 (dk_at dksX13_init_0 4 rfl rfl)
theorem dX13_init_5 : decode cX13_init 5 = .ok (.iload_n 1, 1) := dk_27 (dk_at dksX13_init_0 5 rfl rfl)
theorem dX13_init_6 : decode cX13_init 6 = .ok (.putfield 9, 3) := dk_181 0 9 (dk_at dksX13_init_0 6 rfl rfl)
theorem dX13_init_9 : decode cX13_init 9 = .ok (.aload_n 0, 1) := dk_42 (dk_at dksX13_init_0 9 rfl rfl)
theorem dX13_init_10 : decode cX13_init 10 = .ok (.aload_n 2, 1) := dk_44 (dk_at dksX13_init_0 10 rfl rfl)
theorem dX13_init_11 : decode cX13_init 11 = .ok (.putfield 15, 3) := dk_181 0 15 (dk_at dksX13_init_0 11 rfl rfl)
theorem dX13_init_14 : decode cX13_init 14 = .ok (.aload_n 0, 1) := dk_42 (dk_at dksX13_init_0 14 rfl rfl)
theorem dX13_init_15 : decode cX13_init 15 = .ok (.aload_n 3, 1) := dk_45 (dk_at dksX13_init_0 15 rfl rfl)
theorem dX13_init_16 : decode cX13_init 16 = .ok (.putfield 19, 3) := dk_181 0 19 (dk_at dksX13_init_0 16 rfl rfl)
theorem dX13_init_19 : decode cX13_init 19 = .ok (.return_, 1) := dk_177 (dk_at dksX13_init_0 19 rfl rfl)
theorem q156 : (Jvm.Cond.initialized "SoleraCellar$Two") ∈ lw_all := lw_g (lw_at lw_m1 25 rfl) rfl
theorem q351 : (Jvm.Cond.fieldLinkNest "SoleraCellar$Two" (26 : Nat) "SoleraCellar$Setting" "broken" "LSoleraCellar$Broken;" "SoleraCellar") ∈ lw_tbl := lw_at lw_m1 220 rfl
theorem q503 : (Jvm.Cond.selects "SoleraCellar$Two" ({ cls := "java/lang/Object", name := "getClass", desc := "()Ljava/lang/Class;" } : Jvm.MethodName) ({ cls := "java/lang/Object", name := "getClass", desc := "()Ljava/lang/Class;" } : Jvm.MethodName)) ∈ lw_all := lw_g (lw_at lw_m2 132 rfl) rfl
theorem q653 : (Jvm.Cond.selects "SoleraCellar$Two" ({ cls := "SoleraCellar$Sum", name := "of", desc := "(LSoleraCellar$Setting;)J" } : Jvm.MethodName) ({ cls := "SoleraCellar$Two", name := "of", desc := "(LSoleraCellar$Setting;)J" } : Jvm.MethodName)) ∈ lw_all := lw_g (lw_at lw_m3 42 rfl) rfl
theorem q654 : (Jvm.Cond.instanceMethod ({ cls := "SoleraCellar$Two", name := "of", desc := "(LSoleraCellar$Setting;)J" } : Jvm.MethodName)) ∈ lw_all := lw_g (lw_at lw_m3 43 rfl) rfl
theorem q655 : (Jvm.Cond.code ({ cls := "SoleraCellar$Two", name := "of", desc := "(LSoleraCellar$Setting;)J" } : Jvm.MethodName) prog_20_method_2_code (8 : Nat) (Option.some Jvm.ClassFile.FieldType.long)) ∈ lw_all := lw_g (lw_at lw_m3 44 rfl) rfl
theorem q656 : (Jvm.Cond.methodLink "SoleraCellar$Two" (22 : Nat) ({ cls := "SoleraCellar$Sum", name := "of", desc := "(LSoleraCellar$Setting;)J" } : Jvm.MethodName)) ∈ lw_all := lw_g (lw_at lw_m3 45 rfl) rfl
theorem q659 : (Jvm.Cond.constantLong "SoleraCellar$Two" (32 : Nat) (1000000000 : Int64)) ∈ lw_all := lw_g (lw_at lw_m3 48 rfl) rfl
theorem q660 : (Jvm.Cond.constantLong "SoleraCellar$Two" (34 : Nat) (-1000000000 : Int64)) ∈ lw_all := lw_g (lw_at lw_m3 49 rfl) rfl
theorem q1019 : (Jvm.Cond.instantiable "SoleraCellar$Two" (3 : Nat)) ∈ lw_all := lw_g (lw_at lw_m4 168 rfl) rfl
theorem q1021 : (Jvm.Cond.instanceMethod ({ cls := "SoleraCellar$Two", name := "<init>", desc := "(CLSoleraCellar$Sum;LSoleraCellar$Sum;)V" } : Jvm.MethodName)) ∈ lw_all := lw_g (lw_at lw_m4 170 rfl) rfl
theorem q1022 : (Jvm.Cond.code ({ cls := "SoleraCellar$Two", name := "<init>", desc := "(CLSoleraCellar$Sum;LSoleraCellar$Sum;)V" } : Jvm.MethodName) prog_20_method_1_code (4 : Nat) (Option.none : Option Jvm.ClassFile.FieldType)) ∈ lw_all := lw_g (lw_at lw_m4 171 rfl) rfl
theorem q1023 : (Jvm.Cond.methodLinkNest "SoleraCellar$Two" (3 : Nat) ({ cls := "SoleraCellar$Sum", name := "<init>", desc := "()V" } : Jvm.MethodName) "SoleraCellar") ∈ lw_tbl := lw_at lw_m4 172 rfl
theorem q1024 : (Jvm.Cond.fieldLink "SoleraCellar$Two" (9 : Nat) "SoleraCellar$Two" "sign" "C") ∈ lw_all := lw_g (lw_at lw_m4 173 rfl) rfl
theorem q1025 : (Jvm.Cond.fieldLink "SoleraCellar$Two" (15 : Nat) "SoleraCellar$Two" "left" "LSoleraCellar$Sum;") ∈ lw_all := lw_g (lw_at lw_m4 174 rfl) rfl
theorem q1026 : (Jvm.Cond.fieldLink "SoleraCellar$Two" (19 : Nat) "SoleraCellar$Two" "right" "LSoleraCellar$Sum;") ∈ lw_all := lw_g (lw_at lw_m4 175 rfl) rfl
theorem q1027 : (Jvm.Cond.laysFinal "SoleraCellar$Two" "SoleraCellar$Two" "sign" "C") ∈ lw_all := lw_g (lw_at lw_m4 176 rfl) rfl
theorem q1028 : (Jvm.Cond.soleField "SoleraCellar$Two" "sign") ∈ lw_all := lw_g (lw_at lw_m4 177 rfl) rfl
theorem q1029 : (Jvm.Cond.laysFinal "SoleraCellar$Two" "SoleraCellar$Two" "left" "LSoleraCellar$Sum;") ∈ lw_all := lw_g (lw_at lw_m4 178 rfl) rfl
theorem q1030 : (Jvm.Cond.soleField "SoleraCellar$Two" "left") ∈ lw_all := lw_g (lw_at lw_m4 179 rfl) rfl
theorem q1031 : (Jvm.Cond.laysFinal "SoleraCellar$Two" "SoleraCellar$Two" "right" "LSoleraCellar$Sum;") ∈ lw_all := lw_g (lw_at lw_m4 180 rfl) rfl
theorem q1032 : (Jvm.Cond.soleField "SoleraCellar$Two" "right") ∈ lw_all := lw_g (lw_at lw_m4 181 rfl) rfl
theorem q1033 : (Jvm.Cond.superclass "SoleraCellar$Two" "SoleraCellar$Sum") ∈ lw_all := lw_g (lw_at lw_m4 182 rfl) rfl
theorem q2257 : (Jvm.Cond.castable "SoleraCellar$Two" "java/lang/Object") ∈ lw_tbl := lw_at lw_m9 206 rfl
theorem q2269 : (Jvm.Cond.castable "SoleraCellar$Two" "SoleraCellar$Sum") ∈ lw_tbl := lw_at lw_m9 218 rfl
theorem in_X13 : ∀ w ∈ wsX130, w ∈ lw_all := lw_in wsX130 [1027, 1029, 1031] (by decide +kernel) (by decide +kernel)

/-! SoleraCellar$Test -/
set_option maxRecDepth 100000
def RX14 : String := "SoleraCellar$Test"
abbrev cX14_init : ByteArray := prog_19_method_1_code
def yX14_init : MethodName := ⟨RX14, "<init>", "()V"⟩
theorem dX14_init_0 : decode cX14_init 0 = .ok (.aload_n 0, 1) := by decide +kernel
theorem dX14_init_1 : decode cX14_init 1 = .ok (.invokespecial 1, 3) := by decide +kernel
theorem dX14_init_4 : decode cX14_init 4 = .ok (.return_, 1) := by decide +kernel
theorem q157 : (Jvm.Cond.initialized "SoleraCellar$Test") ∈ lw_all := lw_g (lw_at lw_m1 26 rfl) rfl
theorem q642 : (Jvm.Cond.declares ({ cls := "SoleraCellar$Test", name := "is", desc := "(LSoleraCellar$Setting;)Z" } : Jvm.MethodName)) ∈ lw_tbl := lw_at lw_m3 31 rfl
theorem q643 : (Jvm.Cond.sameMethod "SoleraCellar$Test" "SoleraCellar$Test" "is" "(LSoleraCellar$Setting;)Z") ∈ lw_all := lw_g (lw_at lw_m3 32 rfl) rfl
theorem q1078 : (Jvm.Cond.instanceMethod ({ cls := "SoleraCellar$Test", name := "<init>", desc := "()V" } : Jvm.MethodName)) ∈ lw_all := lw_g (lw_at lw_m4 227 rfl) rfl
theorem q1079 : (Jvm.Cond.code ({ cls := "SoleraCellar$Test", name := "<init>", desc := "()V" } : Jvm.MethodName) prog_19_method_1_code (1 : Nat) (Option.none : Option Jvm.ClassFile.FieldType)) ∈ lw_all := lw_g (lw_at lw_m4 228 rfl) rfl
theorem q1080 : (Jvm.Cond.methodLink "SoleraCellar$Test" (1 : Nat) ({ cls := "java/lang/Object", name := "<init>", desc := "()V" } : Jvm.MethodName)) ∈ lw_all := lw_g (lw_at lw_m4 229 rfl) rfl

/-! SoleraCellar$Compare -/
set_option maxRecDepth 100000
def RX15 : String := "SoleraCellar$Compare"
def TX15 : u_T := fun k => match k with
  | 0 => ("SoleraCellar$Compare", "sign", "C", true)
  | 1 => ("SoleraCellar$Compare", "left", "LSoleraCellar$Sum;", true)
  | _ => ("SoleraCellar$Compare", "right", "LSoleraCellar$Sum;", true)
def tyX15 : Nat → FieldType := fun k => match k with
  | 0 => .char
  | 1 => .object "SoleraCellar$Sum"
  | _ => .object "SoleraCellar$Sum"
abbrev wsX150 : List Cond := u_ws RX15 TX15 3
theorem nmX15 : ∀ a, a < 3 → ∀ b, b < 3 → a ≠ b → (TX15 a).2.1 ≠ (TX15 b).2.1 := by decide +kernel
theorem tyX15_ok : ∀ k, k < 3 → parseFieldDescriptor (TX15 k).2.2.1 = some (tyX15 k) := by decide +kernel
abbrev cX15_is : ByteArray := prog_4_method_2_code
def yX15_is : MethodName := ⟨RX15, "is", "(LSoleraCellar$Setting;)Z"⟩
def dkwX15_is_3 : List UInt8 := [154, 0, 7, 4, 167, 0, 4, 3, 172]
abbrev dktX15_is_3 : List UInt8 := dkwX15_is_3 ++ []
def dkwX15_is_2 : List UInt8 := [16, 62, 160, 0, 18, 32, 22, 4, 148, 158, 0, 7, 4, 167, 0, 19, 3, 167, 0, 15, 32, 22, 4, 148]
abbrev dktX15_is_2 : List UInt8 := dkwX15_is_2 ++ dktX15_is_3
def dkwX15_is_1 : List UInt8 := [16, 60, 160, 0, 18, 32, 22, 4, 148, 156, 0, 7, 4, 167, 0, 43, 3, 167, 0, 39, 42, 180, 0, 7]
abbrev dktX15_is_1 : List UInt8 := dkwX15_is_1 ++ dktX15_is_2
def dkwX15_is_0 : List UInt8 := [42, 180, 0, 13, 43, 182, 0, 20, 65, 42, 180, 0, 17, 43, 182, 0, 20, 55, 4, 42, 180, 0, 7]
abbrev dktX15_is_0 : List UInt8 := dkwX15_is_0 ++ dktX15_is_1
theorem dksX15_is_0 : cX15_is.data.toList.drop 0 = dktX15_is_0 := by decide +kernel
theorem dksX15_is_1 : cX15_is.data.toList.drop 23 = dktX15_is_1 := dk_seg dksX15_is_0 23 rfl rfl
theorem dksX15_is_2 : cX15_is.data.toList.drop 47 = dktX15_is_2 := dk_seg dksX15_is_1 24 rfl rfl
theorem dksX15_is_3 : cX15_is.data.toList.drop 71 = dktX15_is_3 := dk_seg dksX15_is_2 24 rfl rfl
theorem dX15_is_0 : decode cX15_is 0 = .ok (.aload_n 0, 1) := dk_42 (dk_at dksX15_is_0 0 rfl rfl)
theorem dX15_is_1 : decode cX15_is 1 = .ok (.getfield 13, 3) := dk_180 0 13 (dk_at dksX15_is_0 1 rfl rfl)
theorem dX15_is_4 : decode cX15_is 4 = .ok (.aload_n 1, 1) := dk_43 (dk_at dksX15_is_0 4 rfl rfl)
theorem dX15_is_5 : decode cX15_is 5 = .ok (.invokevirtual 20, 3) := dk_182 0 20 (dk_at dksX15_is_0 5 rfl rfl)
theorem dX15_is_8 : decode cX15_is 8 = .ok (.lstore_n 2, 1) := dk_65 (dk_at dksX15_is_0 8 rfl rfl)
theorem dX15_is_9 : decode cX15_is 9 = .ok (.aload_n 0, 1) := dk_42 (dk_at dksX15_is_0 9 rfl rfl)
theorem dX15_is_10 : decode cX15_is 10 = .ok (.getfield 17, 3) := dk_180 0 17 (dk_at dksX15_is_0 10 rfl rfl)
theorem dX15_is_13 : decode cX15_is 13 = .ok (.aload_n 1, 1) := dk_43 (dk_at dksX15_is_0 13 rfl rfl)
theorem dX15_is_14 : decode cX15_is 14 = .ok (.invokevirtual 20, 3) := dk_182 0 20 (dk_at dksX15_is_0 14 rfl rfl)
theorem dX15_is_17 : decode cX15_is 17 = .ok (.lstore 4, 2) := dk_55 4 (dk_at dksX15_is_0 17 rfl rfl)
theorem dX15_is_19 : decode cX15_is 19 = .ok (.aload_n 0, 1) := dk_42 (dk_at dksX15_is_0 19 rfl rfl)
theorem dX15_is_20 : decode cX15_is 20 = .ok (.getfield 7, 3) := dk_180 0 7 (dk_at dksX15_is_0 20 rfl rfl)
theorem dX15_is_23 : decode cX15_is 23 = .ok (.bipush 60, 2) := dk_16 60 (dk_at dksX15_is_1 0 rfl rfl)
theorem dX15_is_25 : decode cX15_is 25 = .ok (.if_icmp .ne 18, 3) := dk_160 0 18 (dk_at dksX15_is_1 2 rfl rfl)
theorem dX15_is_28 : decode cX15_is 28 = .ok (.lload_n 2, 1) := dk_32 (dk_at dksX15_is_1 5 rfl rfl)
theorem dX15_is_29 : decode cX15_is 29 = .ok (.lload 4, 2) := dk_22 4 (dk_at dksX15_is_1 6 rfl rfl)
theorem dX15_is_31 : decode cX15_is 31 = .ok (.lcmp, 1) := dk_148 (dk_at dksX15_is_1 8 rfl rfl)
theorem dX15_is_32 : decode cX15_is 32 = .ok (.ifCond .ge 7, 3) := dk_156 0 7 (dk_at dksX15_is_1 9 rfl rfl)
theorem dX15_is_35 : decode cX15_is 35 = .ok (.iconst 1, 1) := dk_4 (dk_at dksX15_is_1 12 rfl rfl)
theorem dX15_is_36 : decode cX15_is 36 = .ok (.goto 43, 3) := dk_167 0 43 (dk_at dksX15_is_1 13 rfl rfl)
theorem dX15_is_39 : decode cX15_is 39 = .ok (.iconst 0, 1) := dk_3 (dk_at dksX15_is_1 16 rfl rfl)
theorem dX15_is_40 : decode cX15_is 40 = .ok (.goto 39, 3) := dk_167 0 39 (dk_at dksX15_is_1 17 rfl rfl)
theorem dX15_is_43 : decode cX15_is 43 = .ok (.aload_n 0, 1) := dk_42 (dk_at dksX15_is_1 20 rfl rfl)
theorem dX15_is_44 : decode cX15_is 44 = .ok (.getfield 7, 3) := dk_180 0 7 (dk_at dksX15_is_1 21 rfl rfl)
theorem dX15_is_47 : decode cX15_is 47 = .ok (.bipush 62, 2) := dk_16 62 (dk_at dksX15_is_2 0 rfl rfl)
theorem dX15_is_49 : decode cX15_is 49 = .ok (.if_icmp .ne 18, 3) := dk_160 0 18 (dk_at dksX15_is_2 2 rfl rfl)
theorem dX15_is_52 : decode cX15_is 52 = .ok (.lload_n 2, 1) := dk_32 (dk_at dksX15_is_2 5 rfl rfl)
theorem dX15_is_53 : decode cX15_is 53 = .ok (.lload 4, 2) := dk_22 4 (dk_at dksX15_is_2 6 rfl rfl)
theorem dX15_is_55 : decode cX15_is 55 = .ok (.lcmp, 1) := dk_148 (dk_at dksX15_is_2 8 rfl rfl)
theorem dX15_is_56 : decode cX15_is 56 = .ok (.ifCond .le 7, 3) := dk_158 0 7 (dk_at dksX15_is_2 9 rfl rfl)
theorem dX15_is_59 : decode cX15_is 59 = .ok (.iconst 1, 1) := dk_4 (dk_at dksX15_is_2 12 rfl rfl)
theorem dX15_is_60 : decode cX15_is 60 = .ok (.goto 19, 3) := dk_167 0 19 (dk_at dksX15_is_2 13 rfl rfl)
theorem dX15_is_63 : decode cX15_is 63 = .ok (.iconst 0, 1) := dk_3 (dk_at dksX15_is_2 16 rfl rfl)
theorem dX15_is_64 : decode cX15_is 64 = .ok (.goto 15, 3) := dk_167 0 15 (dk_at dksX15_is_2 17 rfl rfl)
theorem dX15_is_67 : decode cX15_is 67 = .ok (.lload_n 2, 1) := dk_32 (dk_at dksX15_is_2 20 rfl rfl)
theorem dX15_is_68 : decode cX15_is 68 = .ok (.lload 4, 2) := dk_22 4 (dk_at dksX15_is_2 21 rfl rfl)
theorem dX15_is_70 : decode cX15_is 70 = .ok (.lcmp, 1) := dk_148 (dk_at dksX15_is_2 23 rfl rfl)
theorem dX15_is_71 : decode cX15_is 71 = .ok (.ifCond .ne 7, 3) := dk_154 0 7 (dk_at dksX15_is_3 0 rfl rfl)
theorem dX15_is_74 : decode cX15_is 74 = .ok (.iconst 1, 1) := dk_4 (dk_at dksX15_is_3 3 rfl rfl)
theorem dX15_is_75 : decode cX15_is 75 = .ok (.goto 4, 3) := dk_167 0 4 (dk_at dksX15_is_3 4 rfl rfl)
theorem dX15_is_78 : decode cX15_is 78 = .ok (.iconst 0, 1) := dk_3 (dk_at dksX15_is_3 7 rfl rfl)
theorem dX15_is_79 : decode cX15_is 79 = .ok (.ireturn, 1) := dk_172 (dk_at dksX15_is_3 8 rfl rfl)
abbrev cX15_init : ByteArray := prog_4_method_1_code
def yX15_init : MethodName := ⟨RX15, "<init>", "(CLSoleraCellar$Sum;LSoleraCellar$Sum;)V"⟩
def dkwX15_init_0 : List UInt8 := [42, 183, 0, 1, 42, 27, 181, 0, 7, 42, 44, 181, 0, 13, 42, 45, 181, 0, 17, 177]
abbrev dktX15_init_0 : List UInt8 := dkwX15_init_0 ++ []
theorem dksX15_init_0 : cX15_init.data.toList.drop 0 = dktX15_init_0 := by decide +kernel
theorem dX15_init_0 : decode cX15_init 0 = .ok (.aload_n 0, 1) := dk_42 (dk_at dksX15_init_0 0 rfl rfl)
theorem dX15_init_1 : decode cX15_init 1 = .ok (.invokespecial 1, 3) := dk_183 0 1 (dk_at dksX15_init_0 1 rfl rfl)
theorem dX15_init_4 : decode cX15_init 4 = .ok (.aload_n 0, 1) := dk_42 (dk_at dksX15_init_0 4 rfl rfl)
theorem dX15_init_5 : decode cX15_init 5 = .ok (.iload_n 1, 1) := dk_27 (dk_at dksX15_init_0 5 rfl rfl)
theorem dX15_init_6 : decode cX15_init 6 = .ok (.putfield 7, 3) := dk_181 0 7 (dk_at dksX15_init_0 6 rfl rfl)
theorem dX15_init_9 : decode cX15_init 9 = .ok (.aload_n 0, 1) := dk_42 (dk_at dksX15_init_0 9 rfl rfl)
theorem dX15_init_10 : decode cX15_init 10 = .ok (.aload_n 2, 1) := dk_44 (dk_at dksX15_init_0 10 rfl rfl)
theorem dX15_init_11 : decode cX15_init 11 = .ok (.putfield 13, 3) := dk_181 0 13 (dk_at dksX15_init_0 11 rfl rfl)
theorem dX15_init_14 : decode cX15_init 14 = .ok (.aload_n 0, 1) := dk_42 (dk_at dksX15_init_0 14 rfl rfl)
theorem dX15_init_15 : decode cX15_init 15 = .ok (.aload_n 3, 1) := dk_45 (dk_at dksX15_init_0 15 rfl rfl)
theorem dX15_init_16 : decode cX15_init 16 = .ok (.putfield 17, 3) := dk_181 0 17 (dk_at dksX15_init_0 16 rfl rfl)
theorem dX15_init_19 : decode cX15_init 19 = .ok (.return_, 1) := dk_177 (dk_at dksX15_init_0 19 rfl rfl)
theorem q158 : (Jvm.Cond.initialized "SoleraCellar$Compare") ∈ lw_all := lw_g (lw_at lw_m1 27 rfl) rfl
theorem q490 : (Jvm.Cond.selects "SoleraCellar$Compare" ({ cls := "java/lang/Object", name := "getClass", desc := "()Ljava/lang/Class;" } : Jvm.MethodName) ({ cls := "java/lang/Object", name := "getClass", desc := "()Ljava/lang/Class;" } : Jvm.MethodName)) ∈ lw_all := lw_g (lw_at lw_m2 119 rfl) rfl
theorem q644 : (Jvm.Cond.selects "SoleraCellar$Compare" ({ cls := "SoleraCellar$Test", name := "is", desc := "(LSoleraCellar$Setting;)Z" } : Jvm.MethodName) ({ cls := "SoleraCellar$Compare", name := "is", desc := "(LSoleraCellar$Setting;)Z" } : Jvm.MethodName)) ∈ lw_all := lw_g (lw_at lw_m3 33 rfl) rfl
theorem q645 : (Jvm.Cond.instanceMethod ({ cls := "SoleraCellar$Compare", name := "is", desc := "(LSoleraCellar$Setting;)Z" } : Jvm.MethodName)) ∈ lw_all := lw_g (lw_at lw_m3 34 rfl) rfl
theorem q646 : (Jvm.Cond.code ({ cls := "SoleraCellar$Compare", name := "is", desc := "(LSoleraCellar$Setting;)Z" } : Jvm.MethodName) prog_4_method_2_code (6 : Nat) (Option.some Jvm.ClassFile.FieldType.boolean)) ∈ lw_all := lw_g (lw_at lw_m3 35 rfl) rfl
theorem q647 : (Jvm.Cond.methodLink "SoleraCellar$Compare" (20 : Nat) ({ cls := "SoleraCellar$Sum", name := "of", desc := "(LSoleraCellar$Setting;)J" } : Jvm.MethodName)) ∈ lw_all := lw_g (lw_at lw_m3 36 rfl) rfl
theorem q1073 : (Jvm.Cond.instantiable "SoleraCellar$Compare" (3 : Nat)) ∈ lw_all := lw_g (lw_at lw_m4 222 rfl) rfl
theorem q1075 : (Jvm.Cond.instanceMethod ({ cls := "SoleraCellar$Compare", name := "<init>", desc := "(CLSoleraCellar$Sum;LSoleraCellar$Sum;)V" } : Jvm.MethodName)) ∈ lw_all := lw_g (lw_at lw_m4 224 rfl) rfl
theorem q1076 : (Jvm.Cond.code ({ cls := "SoleraCellar$Compare", name := "<init>", desc := "(CLSoleraCellar$Sum;LSoleraCellar$Sum;)V" } : Jvm.MethodName) prog_4_method_1_code (4 : Nat) (Option.none : Option Jvm.ClassFile.FieldType)) ∈ lw_all := lw_g (lw_at lw_m4 225 rfl) rfl
theorem q1077 : (Jvm.Cond.methodLinkNest "SoleraCellar$Compare" (1 : Nat) ({ cls := "SoleraCellar$Test", name := "<init>", desc := "()V" } : Jvm.MethodName) "SoleraCellar") ∈ lw_tbl := lw_at lw_m4 226 rfl
theorem q1081 : (Jvm.Cond.fieldLink "SoleraCellar$Compare" (7 : Nat) "SoleraCellar$Compare" "sign" "C") ∈ lw_all := lw_g (lw_at lw_m4 230 rfl) rfl
theorem q1082 : (Jvm.Cond.fieldLink "SoleraCellar$Compare" (13 : Nat) "SoleraCellar$Compare" "left" "LSoleraCellar$Sum;") ∈ lw_all := lw_g (lw_at lw_m4 231 rfl) rfl
theorem q1083 : (Jvm.Cond.fieldLink "SoleraCellar$Compare" (17 : Nat) "SoleraCellar$Compare" "right" "LSoleraCellar$Sum;") ∈ lw_all := lw_g (lw_at lw_m4 232 rfl) rfl
theorem q1084 : (Jvm.Cond.laysFinal "SoleraCellar$Compare" "SoleraCellar$Compare" "sign" "C") ∈ lw_all := lw_g (lw_at lw_m4 233 rfl) rfl
theorem q1085 : (Jvm.Cond.soleField "SoleraCellar$Compare" "sign") ∈ lw_all := lw_g (lw_at lw_m4 234 rfl) rfl
theorem q1086 : (Jvm.Cond.laysFinal "SoleraCellar$Compare" "SoleraCellar$Compare" "left" "LSoleraCellar$Sum;") ∈ lw_all := lw_g (lw_at lw_m4 235 rfl) rfl
theorem q1087 : (Jvm.Cond.soleField "SoleraCellar$Compare" "left") ∈ lw_all := lw_g (lw_at lw_m4 236 rfl) rfl
theorem q1088 : (Jvm.Cond.laysFinal "SoleraCellar$Compare" "SoleraCellar$Compare" "right" "LSoleraCellar$Sum;") ∈ lw_all := lw_g (lw_at lw_m4 237 rfl) rfl
theorem q1089 : (Jvm.Cond.soleField "SoleraCellar$Compare" "right") ∈ lw_all := lw_g (lw_at lw_m4 238 rfl) rfl
theorem q1090 : (Jvm.Cond.superclass "SoleraCellar$Compare" "SoleraCellar$Test") ∈ lw_all := lw_g (lw_at lw_m4 239 rfl) rfl
theorem q2241 : (Jvm.Cond.castable "SoleraCellar$Compare" "SoleraCellar$Test") ∈ lw_tbl := lw_at lw_m9 190 rfl
theorem q2258 : (Jvm.Cond.castable "SoleraCellar$Compare" "java/lang/Object") ∈ lw_tbl := lw_at lw_m9 207 rfl
theorem in_X15 : ∀ w ∈ wsX150, w ∈ lw_all := lw_in wsX150 [1084, 1086, 1088] (by decide +kernel) (by decide +kernel)

/-! SoleraCellar$Not -/
set_option maxRecDepth 100000
def RX16 : String := "SoleraCellar$Not"
def TX16 : u_T := fun k => match k with
  | _ => ("SoleraCellar$Not", "of", "LSoleraCellar$Test;", true)
def tyX16 : Nat → FieldType := fun k => match k with
  | _ => .object "SoleraCellar$Test"
abbrev wsX160 : List Cond := u_ws RX16 TX16 1
theorem nmX16 : ∀ a, a < 1 → ∀ b, b < 1 → a ≠ b → (TX16 a).2.1 ≠ (TX16 b).2.1 := by decide +kernel
theorem tyX16_ok : ∀ k, k < 1 → parseFieldDescriptor (TX16 k).2.2.1 = some (tyX16 k) := by decide +kernel
abbrev cX16_is : ByteArray := prog_8_method_2_code
def yX16_is : MethodName := ⟨RX16, "is", "(LSoleraCellar$Setting;)Z"⟩
def dkwX16_is_0 : List UInt8 := [42, 180, 0, 7, 43, 182, 0, 13, 154, 0, 7, 4, 167, 0, 4, 3, 172]
abbrev dktX16_is_0 : List UInt8 := dkwX16_is_0 ++ []
theorem dksX16_is_0 : cX16_is.data.toList.drop 0 = dktX16_is_0 := by decide +kernel
theorem dX16_is_0 : decode cX16_is 0 = .ok (.aload_n 0, 1) := dk_42 (dk_at dksX16_is_0 0 rfl rfl)
theorem dX16_is_1 : decode cX16_is 1 = .ok (.getfield 7, 3) := dk_180 0 7 (dk_at dksX16_is_0 1 rfl rfl)
theorem dX16_is_4 : decode cX16_is 4 = .ok (.aload_n 1, 1) := dk_43 (dk_at dksX16_is_0 4 rfl rfl)
theorem dX16_is_5 : decode cX16_is 5 = .ok (.invokevirtual 13, 3) := dk_182 0 13 (dk_at dksX16_is_0 5 rfl rfl)
theorem dX16_is_8 : decode cX16_is 8 = .ok (.ifCond .ne 7, 3) := dk_154 0 7 (dk_at dksX16_is_0 8 rfl rfl)
theorem dX16_is_11 : decode cX16_is 11 = .ok (.iconst 1, 1) := dk_4 (dk_at dksX16_is_0 11 rfl rfl)
theorem dX16_is_12 : decode cX16_is 12 = .ok (.goto 4, 3) := dk_167 0 4 (dk_at dksX16_is_0 12 rfl rfl)
theorem dX16_is_15 : decode cX16_is 15 = .ok (.iconst 0, 1) := dk_3 (dk_at dksX16_is_0 15 rfl rfl)
theorem dX16_is_16 : decode cX16_is 16 = .ok (.ireturn, 1) := dk_172 (dk_at dksX16_is_0 16 rfl rfl)
abbrev cX16_init : ByteArray := prog_8_method_1_code
def yX16_init : MethodName := ⟨RX16, "<init>", "(LSoleraCellar$Test;)V"⟩
def dkwX16_init_0 : List UInt8 := [42, 183, 0, 1, 42, 43, 181, 0, 7, 177]
abbrev dktX16_init_0 : List UInt8 := dkwX16_init_0 ++ []
theorem dksX16_init_0 : cX16_init.data.toList.drop 0 = dktX16_init_0 := by decide +kernel
theorem dX16_init_0 : decode cX16_init 0 = .ok (.aload_n 0, 1) := dk_42 (dk_at dksX16_init_0 0 rfl rfl)
theorem dX16_init_1 : decode cX16_init 1 = .ok (.invokespecial 1, 3) := dk_183 0 1 (dk_at dksX16_init_0 1 rfl rfl)
theorem dX16_init_4 : decode cX16_init 4 = .ok (.aload_n 0, 1) := dk_42 (dk_at dksX16_init_0 4 rfl rfl)
theorem dX16_init_5 : decode cX16_init 5 = .ok (.aload_n 1, 1) := dk_43 (dk_at dksX16_init_0 5 rfl rfl)
theorem dX16_init_6 : decode cX16_init 6 = .ok (.putfield 7, 3) := dk_181 0 7 (dk_at dksX16_init_0 6 rfl rfl)
theorem dX16_init_9 : decode cX16_init 9 = .ok (.return_, 1) := dk_177 (dk_at dksX16_init_0 9 rfl rfl)
theorem q159 : (Jvm.Cond.initialized "SoleraCellar$Not") ∈ lw_all := lw_g (lw_at lw_m1 28 rfl) rfl
theorem q494 : (Jvm.Cond.selects "SoleraCellar$Not" ({ cls := "java/lang/Object", name := "getClass", desc := "()Ljava/lang/Class;" } : Jvm.MethodName) ({ cls := "java/lang/Object", name := "getClass", desc := "()Ljava/lang/Class;" } : Jvm.MethodName)) ∈ lw_all := lw_g (lw_at lw_m2 123 rfl) rfl
theorem q662 : (Jvm.Cond.selects "SoleraCellar$Not" ({ cls := "SoleraCellar$Test", name := "is", desc := "(LSoleraCellar$Setting;)Z" } : Jvm.MethodName) ({ cls := "SoleraCellar$Not", name := "is", desc := "(LSoleraCellar$Setting;)Z" } : Jvm.MethodName)) ∈ lw_all := lw_g (lw_at lw_m3 51 rfl) rfl
theorem q663 : (Jvm.Cond.instanceMethod ({ cls := "SoleraCellar$Not", name := "is", desc := "(LSoleraCellar$Setting;)Z" } : Jvm.MethodName)) ∈ lw_all := lw_g (lw_at lw_m3 52 rfl) rfl
theorem q664 : (Jvm.Cond.code ({ cls := "SoleraCellar$Not", name := "is", desc := "(LSoleraCellar$Setting;)Z" } : Jvm.MethodName) prog_8_method_2_code (2 : Nat) (Option.some Jvm.ClassFile.FieldType.boolean)) ∈ lw_all := lw_g (lw_at lw_m3 53 rfl) rfl
theorem q665 : (Jvm.Cond.methodLink "SoleraCellar$Not" (13 : Nat) ({ cls := "SoleraCellar$Test", name := "is", desc := "(LSoleraCellar$Setting;)Z" } : Jvm.MethodName)) ∈ lw_all := lw_g (lw_at lw_m3 54 rfl) rfl
theorem q1092 : (Jvm.Cond.instantiable "SoleraCellar$Not" (1 : Nat)) ∈ lw_all := lw_g (lw_at lw_m5 1 rfl) rfl
theorem q1094 : (Jvm.Cond.instanceMethod ({ cls := "SoleraCellar$Not", name := "<init>", desc := "(LSoleraCellar$Test;)V" } : Jvm.MethodName)) ∈ lw_all := lw_g (lw_at lw_m5 3 rfl) rfl
theorem q1095 : (Jvm.Cond.code ({ cls := "SoleraCellar$Not", name := "<init>", desc := "(LSoleraCellar$Test;)V" } : Jvm.MethodName) prog_8_method_1_code (2 : Nat) (Option.none : Option Jvm.ClassFile.FieldType)) ∈ lw_all := lw_g (lw_at lw_m5 4 rfl) rfl
theorem q1096 : (Jvm.Cond.methodLinkNest "SoleraCellar$Not" (1 : Nat) ({ cls := "SoleraCellar$Test", name := "<init>", desc := "()V" } : Jvm.MethodName) "SoleraCellar") ∈ lw_tbl := lw_at lw_m5 5 rfl
theorem q1097 : (Jvm.Cond.fieldLink "SoleraCellar$Not" (7 : Nat) "SoleraCellar$Not" "of" "LSoleraCellar$Test;") ∈ lw_all := lw_g (lw_at lw_m5 6 rfl) rfl
theorem q1098 : (Jvm.Cond.laysFinal "SoleraCellar$Not" "SoleraCellar$Not" "of" "LSoleraCellar$Test;") ∈ lw_all := lw_g (lw_at lw_m5 7 rfl) rfl
theorem q1099 : (Jvm.Cond.soleField "SoleraCellar$Not" "of") ∈ lw_all := lw_g (lw_at lw_m5 8 rfl) rfl
theorem q1100 : (Jvm.Cond.superclass "SoleraCellar$Not" "SoleraCellar$Test") ∈ lw_all := lw_g (lw_at lw_m5 9 rfl) rfl
theorem q2242 : (Jvm.Cond.castable "SoleraCellar$Not" "SoleraCellar$Test") ∈ lw_tbl := lw_at lw_m9 191 rfl
theorem q2259 : (Jvm.Cond.castable "SoleraCellar$Not" "java/lang/Object") ∈ lw_tbl := lw_at lw_m9 208 rfl
theorem in_X16 : ∀ w ∈ wsX160, w ∈ lw_all := lw_in wsX160 [1098] (by decide +kernel) (by decide +kernel)

/-! SoleraCellar$Several -/
set_option maxRecDepth 100000
def RX17 : String := "SoleraCellar$Several"
def TX17 : u_T := fun k => match k with
  | 0 => ("SoleraCellar$Several", "all", "Z", true)
  | _ => ("SoleraCellar$Several", "of", "Ljava/util/ArrayList;", true)
def tyX17 : Nat → FieldType := fun k => match k with
  | 0 => .boolean
  | _ => .object "java/util/ArrayList"
abbrev wsX170 : List Cond := u_ws RX17 TX17 2
theorem nmX17 : ∀ a, a < 2 → ∀ b, b < 2 → a ≠ b → (TX17 a).2.1 ≠ (TX17 b).2.1 := by decide +kernel
theorem tyX17_ok : ∀ k, k < 2 → parseFieldDescriptor (TX17 k).2.2.1 = some (tyX17 k) := by decide +kernel
abbrev cX17_is : ByteArray := prog_15_method_2_code
def yX17_is : MethodName := ⟨RX17, "is", "(LSoleraCellar$Setting;)Z"⟩
def dkwX17_is_2 : List UInt8 := [132, 2, 1, 167, 255, 207, 42, 180, 0, 18, 172]
abbrev dktX17_is_2 : List UInt8 := dkwX17_is_2 ++ []
def dkwX17_is_1 : List UInt8 := [43, 182, 0, 30, 42, 180, 0, 18, 159, 0, 16, 42, 180, 0, 18, 154, 0, 7, 4, 167, 0, 4, 3, 172]
abbrev dktX17_is_1 : List UInt8 := dkwX17_is_1 ++ dktX17_is_2
def dkwX17_is_0 : List UInt8 := [3, 61, 28, 42, 180, 0, 12, 182, 0, 22, 162, 0, 44, 42, 180, 0, 12, 28, 182, 0, 26, 192, 0, 2]
abbrev dktX17_is_0 : List UInt8 := dkwX17_is_0 ++ dktX17_is_1
theorem dksX17_is_0 : cX17_is.data.toList.drop 0 = dktX17_is_0 := by decide +kernel
theorem dksX17_is_1 : cX17_is.data.toList.drop 24 = dktX17_is_1 := dk_seg dksX17_is_0 24 rfl rfl
theorem dksX17_is_2 : cX17_is.data.toList.drop 48 = dktX17_is_2 := dk_seg dksX17_is_1 24 rfl rfl
theorem dX17_is_0 : decode cX17_is 0 = .ok (.iconst 0, 1) := dk_3 (dk_at dksX17_is_0 0 rfl rfl)
theorem dX17_is_1 : decode cX17_is 1 = .ok (.istore_n 2, 1) := dk_61 (dk_at dksX17_is_0 1 rfl rfl)
theorem dX17_is_2 : decode cX17_is 2 = .ok (.iload_n 2, 1) := dk_28 (dk_at dksX17_is_0 2 rfl rfl)
theorem dX17_is_3 : decode cX17_is 3 = .ok (.aload_n 0, 1) := dk_42 (dk_at dksX17_is_0 3 rfl rfl)
theorem dX17_is_4 : decode cX17_is 4 = .ok (.getfield 12, 3) := dk_180 0 12 (dk_at dksX17_is_0 4 rfl rfl)
theorem dX17_is_7 : decode cX17_is 7 = .ok (.invokevirtual 22, 3) := dk_182 0 22 (dk_at dksX17_is_0 7 rfl rfl)
theorem dX17_is_10 : decode cX17_is 10 = .ok (.if_icmp .ge 44, 3) := dk_162 0 44 (dk_at dksX17_is_0 10 rfl rfl)
theorem dX17_is_13 : decode cX17_is 13 = .ok (.aload_n 0, 1) := dk_42 (dk_at dksX17_is_0 13 rfl rfl)
theorem dX17_is_14 : decode cX17_is 14 = .ok (.getfield 12, 3) := dk_180 0 12 (dk_at dksX17_is_0 14 rfl rfl)
theorem dX17_is_17 : decode cX17_is 17 = .ok (.iload_n 2, 1) := dk_28 (dk_at dksX17_is_0 17 rfl rfl)
theorem dX17_is_18 : decode cX17_is 18 = .ok (.invokevirtual 26, 3) := dk_182 0 26 (dk_at dksX17_is_0 18 rfl rfl)
theorem dX17_is_21 : decode cX17_is 21 = .ok (.checkcast 2, 3) := dk_192 0 2 (dk_at dksX17_is_0 21 rfl rfl)
theorem dX17_is_24 : decode cX17_is 24 = .ok (.aload_n 1, 1) := dk_43 (dk_at dksX17_is_1 0 rfl rfl)
theorem dX17_is_25 : decode cX17_is 25 = .ok (.invokevirtual 30, 3) := dk_182 0 30 (dk_at dksX17_is_1 1 rfl rfl)
theorem dX17_is_28 : decode cX17_is 28 = .ok (.aload_n 0, 1) := dk_42 (dk_at dksX17_is_1 4 rfl rfl)
theorem dX17_is_29 : decode cX17_is 29 = .ok (.getfield 18, 3) := dk_180 0 18 (dk_at dksX17_is_1 5 rfl rfl)
theorem dX17_is_32 : decode cX17_is 32 = .ok (.if_icmp .eq 16, 3) := dk_159 0 16 (dk_at dksX17_is_1 8 rfl rfl)
theorem dX17_is_35 : decode cX17_is 35 = .ok (.aload_n 0, 1) := dk_42 (dk_at dksX17_is_1 11 rfl rfl)
theorem dX17_is_36 : decode cX17_is 36 = .ok (.getfield 18, 3) := dk_180 0 18 (dk_at dksX17_is_1 12 rfl rfl)
theorem dX17_is_39 : decode cX17_is 39 = .ok (.ifCond .ne 7, 3) := dk_154 0 7 (dk_at dksX17_is_1 15 rfl rfl)
theorem dX17_is_42 : decode cX17_is 42 = .ok (.iconst 1, 1) := dk_4 (dk_at dksX17_is_1 18 rfl rfl)
theorem dX17_is_43 : decode cX17_is 43 = .ok (.goto 4, 3) := dk_167 0 4 (dk_at dksX17_is_1 19 rfl rfl)
theorem dX17_is_46 : decode cX17_is 46 = .ok (.iconst 0, 1) := dk_3 (dk_at dksX17_is_1 22 rfl rfl)
theorem dX17_is_47 : decode cX17_is 47 = .ok (.ireturn, 1) := dk_172 (dk_at dksX17_is_1 23 rfl rfl)
theorem dX17_is_48 : decode cX17_is 48 = .ok (.iinc 2 1, 3) := dk_132 2 1 (dk_at dksX17_is_2 0 rfl rfl)
theorem dX17_is_51 : decode cX17_is 51 = .ok (.goto (-49), 3) := dk_167 255 207 (dk_at dksX17_is_2 3 rfl rfl)
theorem dX17_is_54 : decode cX17_is 54 = .ok (.aload_n 0, 1) := dk_42 (dk_at dksX17_is_2 6 rfl rfl)
theorem dX17_is_55 : decode cX17_is 55 = .ok (.getfield 18, 3) := dk_180 0 18 (dk_at dksX17_is_2 7 rfl rfl)
theorem dX17_is_58 : decode cX17_is 58 = .ok (.ireturn, 1) := dk_172 (dk_at dksX17_is_2 10 rfl rfl)
abbrev cX17_init : ByteArray := prog_15_method_1_code
def yX17_init : MethodName := ⟨RX17, "<init>", "(Z)V"⟩
def dkwX17_init_0 : List UInt8 := [42, 183, 0, 1, 42, 187, 0, 7, 89, 5, 183, 0, 9, 181, 0, 12, 42, 27, 181, 0, 18, 177]
abbrev dktX17_init_0 : List UInt8 := dkwX17_init_0 ++ []
theorem dksX17_init_0 : cX17_init.data.toList.drop 0 = dktX17_init_0 := by decide +kernel
theorem dX17_init_0 : decode cX17_init 0 = .ok (.aload_n 0, 1) := dk_42 (dk_at dksX17_init_0 0 rfl rfl)
theorem dX17_init_1 : decode cX17_init 1 = .ok (.invokespecial 1, 3) := dk_183 0 1 (dk_at dksX17_init_0 1 rfl rfl)
theorem dX17_init_4 : decode cX17_init 4 = .ok (.aload_n 0, 1) := dk_42 (dk_at dksX17_init_0 4 rfl rfl)
theorem dX17_init_5 : decode cX17_init 5 = .ok (.new 7, 3) := dk_187 0 7 (dk_at dksX17_init_0 5 rfl rfl)
theorem dX17_init_8 : decode cX17_init 8 = .ok (.dup, 1) := dk_89 (dk_at dksX17_init_0 8 rfl rfl)
theorem dX17_init_9 : decode cX17_init 9 = .ok (.iconst 2, 1) := dk_5 (dk_at dksX17_init_0 9 rfl rfl)
theorem dX17_init_10 : decode cX17_init 10 = .ok (.invokespecial 9, 3) := dk_183 0 9 (dk_at dksX17_init_0 10 rfl rfl)
theorem dX17_init_13 : decode cX17_init 13 = .ok (.putfield 12, 3) := dk_181 0 12 (dk_at dksX17_init_0 13 rfl rfl)
theorem dX17_init_16 : decode cX17_init 16 = .ok (.aload_n 0, 1) := dk_42 (dk_at dksX17_init_0 16 rfl rfl)
theorem dX17_init_17 : decode cX17_init 17 = .ok (.iload_n 1, 1) := dk_27 (dk_at dksX17_init_0 17 rfl rfl)
theorem dX17_init_18 : decode cX17_init 18 = .ok (.putfield 18, 3) := dk_181 0 18 (dk_at dksX17_init_0 18 rfl rfl)
theorem dX17_init_21 : decode cX17_init 21 = .ok (.return_, 1) := dk_177 (dk_at dksX17_init_0 21 rfl rfl)
theorem q160 : (Jvm.Cond.initialized "SoleraCellar$Several") ∈ lw_all := lw_g (lw_at lw_m1 29 rfl) rfl
theorem q500 : (Jvm.Cond.selects "SoleraCellar$Several" ({ cls := "java/lang/Object", name := "getClass", desc := "()Ljava/lang/Class;" } : Jvm.MethodName) ({ cls := "java/lang/Object", name := "getClass", desc := "()Ljava/lang/Class;" } : Jvm.MethodName)) ∈ lw_all := lw_g (lw_at lw_m2 129 rfl) rfl
theorem q666 : (Jvm.Cond.instanceMethod ({ cls := "SoleraCellar$Several", name := "is", desc := "(LSoleraCellar$Setting;)Z" } : Jvm.MethodName)) ∈ lw_all := lw_g (lw_at lw_m3 55 rfl) rfl
theorem q667 : (Jvm.Cond.code ({ cls := "SoleraCellar$Several", name := "is", desc := "(LSoleraCellar$Setting;)Z" } : Jvm.MethodName) prog_15_method_2_code (3 : Nat) (Option.some Jvm.ClassFile.FieldType.boolean)) ∈ lw_all := lw_g (lw_at lw_m3 56 rfl) rfl
theorem q668 : (Jvm.Cond.methodLink "SoleraCellar$Several" (22 : Nat) ({ cls := "java/util/ArrayList", name := "size", desc := "()I" } : Jvm.MethodName)) ∈ lw_all := lw_g (lw_at lw_m3 57 rfl) rfl
theorem q669 : (Jvm.Cond.methodLink "SoleraCellar$Several" (26 : Nat) ({ cls := "java/util/ArrayList", name := "get", desc := "(I)Ljava/lang/Object;" } : Jvm.MethodName)) ∈ lw_all := lw_g (lw_at lw_m3 58 rfl) rfl
theorem q670 : (Jvm.Cond.classLink "SoleraCellar$Several" (2 : Nat) "SoleraCellar$Test") ∈ lw_all := lw_g (lw_at lw_m3 59 rfl) rfl
theorem q671 : (Jvm.Cond.methodLink "SoleraCellar$Several" (30 : Nat) ({ cls := "SoleraCellar$Test", name := "is", desc := "(LSoleraCellar$Setting;)Z" } : Jvm.MethodName)) ∈ lw_all := lw_g (lw_at lw_m3 60 rfl) rfl
theorem q672 : (Jvm.Cond.selects "SoleraCellar$Several" ({ cls := "SoleraCellar$Test", name := "is", desc := "(LSoleraCellar$Setting;)Z" } : Jvm.MethodName) ({ cls := "SoleraCellar$Several", name := "is", desc := "(LSoleraCellar$Setting;)Z" } : Jvm.MethodName)) ∈ lw_all := lw_g (lw_at lw_m3 61 rfl) rfl
theorem q1103 : (Jvm.Cond.instantiable "SoleraCellar$Several" (2 : Nat)) ∈ lw_all := lw_g (lw_at lw_m5 12 rfl) rfl
theorem q1105 : (Jvm.Cond.instanceMethod ({ cls := "SoleraCellar$Several", name := "<init>", desc := "(Z)V" } : Jvm.MethodName)) ∈ lw_all := lw_g (lw_at lw_m5 14 rfl) rfl
theorem q1106 : (Jvm.Cond.code ({ cls := "SoleraCellar$Several", name := "<init>", desc := "(Z)V" } : Jvm.MethodName) prog_15_method_1_code (2 : Nat) (Option.none : Option Jvm.ClassFile.FieldType)) ∈ lw_all := lw_g (lw_at lw_m5 15 rfl) rfl
theorem q1107 : (Jvm.Cond.methodLinkNest "SoleraCellar$Several" (1 : Nat) ({ cls := "SoleraCellar$Test", name := "<init>", desc := "()V" } : Jvm.MethodName) "SoleraCellar") ∈ lw_tbl := lw_at lw_m5 16 rfl
theorem q1108 : (Jvm.Cond.classLink "SoleraCellar$Several" (7 : Nat) "java/util/ArrayList") ∈ lw_all := lw_g (lw_at lw_m5 17 rfl) rfl
theorem q1109 : (Jvm.Cond.methodLink "SoleraCellar$Several" (9 : Nat) ({ cls := "java/util/ArrayList", name := "<init>", desc := "(I)V" } : Jvm.MethodName)) ∈ lw_all := lw_g (lw_at lw_m5 18 rfl) rfl
theorem q1110 : (Jvm.Cond.fieldLink "SoleraCellar$Several" (18 : Nat) "SoleraCellar$Several" "all" "Z") ∈ lw_all := lw_g (lw_at lw_m5 19 rfl) rfl
theorem q1111 : (Jvm.Cond.fieldLink "SoleraCellar$Several" (12 : Nat) "SoleraCellar$Several" "of" "Ljava/util/ArrayList;") ∈ lw_all := lw_g (lw_at lw_m5 20 rfl) rfl
theorem q1113 : (Jvm.Cond.laysFinal "SoleraCellar$Several" "SoleraCellar$Several" "all" "Z") ∈ lw_all := lw_g (lw_at lw_m5 22 rfl) rfl
theorem q1114 : (Jvm.Cond.soleField "SoleraCellar$Several" "all") ∈ lw_all := lw_g (lw_at lw_m5 23 rfl) rfl
theorem q1115 : (Jvm.Cond.laysFinal "SoleraCellar$Several" "SoleraCellar$Several" "of" "Ljava/util/ArrayList;") ∈ lw_all := lw_g (lw_at lw_m5 24 rfl) rfl
theorem q1116 : (Jvm.Cond.soleField "SoleraCellar$Several" "of") ∈ lw_all := lw_g (lw_at lw_m5 25 rfl) rfl
theorem q1117 : (Jvm.Cond.superclass "SoleraCellar$Several" "SoleraCellar$Test") ∈ lw_all := lw_g (lw_at lw_m5 26 rfl) rfl
theorem q2243 : (Jvm.Cond.castable "SoleraCellar$Several" "SoleraCellar$Test") ∈ lw_tbl := lw_at lw_m9 192 rfl
theorem q2260 : (Jvm.Cond.castable "SoleraCellar$Several" "java/lang/Object") ∈ lw_tbl := lw_at lw_m9 209 rfl
theorem in_X17 : ∀ w ∈ wsX170, w ∈ lw_all := lw_in wsX170 [1113, 1115] (by decide +kernel) (by decide +kernel)

/-! SoleraCellar$Order -/
set_option maxRecDepth 100000
def RX18 : String := "SoleraCellar$Order"
def TX18 : u_T := fun k => match k with
  | 0 => ("SoleraCellar$Order", "head", "I", true)
  | 1 => ("SoleraCellar$Order", "sums", "[LSoleraCellar$Sum;", true)
  | 2 => ("SoleraCellar$Order", "times", "I", false)
  | _ => ("SoleraCellar$Order", "when", "LSoleraCellar$Test;", false)
def tyX18 : Nat → FieldType := fun k => match k with
  | 0 => .int
  | 1 => .array (.object "SoleraCellar$Sum")
  | 2 => .int
  | _ => .object "SoleraCellar$Test"
abbrev wsX180 : List Cond := u_ws RX18 TX18 4
theorem nmX18 : ∀ a, a < 4 → ∀ b, b < 4 → a ≠ b → (TX18 a).2.1 ≠ (TX18 b).2.1 := by decide +kernel
theorem tyX18_ok : ∀ k, k < 4 → parseFieldDescriptor (TX18 k).2.2.1 = some (tyX18 k) := by decide +kernel
abbrev cX18_init : ByteArray := prog_10_method_1_code
def yX18_init : MethodName := ⟨RX18, "<init>", "(I)V"⟩
def dkwX18_init_0 : List UInt8 := [42, 183, 0, 3, 42, 6, 189, 0, 9, 181, 0, 11, 42, 4, 181, 0, 17, 42, 27, 181, 0, 21, 177]
abbrev dktX18_init_0 : List UInt8 := dkwX18_init_0 ++ []
theorem dksX18_init_0 : cX18_init.data.toList.drop 0 = dktX18_init_0 := by decide +kernel
theorem dX18_init_0 : decode cX18_init 0 = .ok (.aload_n 0, 1) := dk_42 (dk_at dksX18_init_0 0 rfl rfl)
theorem dX18_init_1 : decode cX18_init 1 = .ok (.invokespecial 3, 3) := dk_183 0 3 (dk_at dksX18_init_0 1 rfl rfl)
theorem dX18_init_4 : decode cX18_init 4 = .ok (.aload_n 0, 1) := dk_42 (dk_at dksX18_init_0 4 rfl rfl)
theorem dX18_init_5 : decode cX18_init 5 = .ok (.iconst 3, 1) := dk_6 (dk_at dksX18_init_0 5 rfl rfl)
theorem dX18_init_6 : decode cX18_init 6 = .ok (.anewarray 9, 3) := dk_189 0 9 (dk_at dksX18_init_0 6 rfl rfl)
theorem dX18_init_9 : decode cX18_init 9 = .ok (.putfield 11, 3) := dk_181 0 11 (dk_at dksX18_init_0 9 rfl rfl)
theorem dX18_init_12 : decode cX18_init 12 = .ok (.aload_n 0, 1) := dk_42 (dk_at dksX18_init_0 12 rfl rfl)
theorem dX18_init_13 : decode cX18_init 13 = .ok (.iconst 1, 1) := dk_4 (dk_at dksX18_init_0 13 rfl rfl)
theorem dX18_init_14 : decode cX18_init 14 = .ok (.putfield 17, 3) := dk_181 0 17 (dk_at dksX18_init_0 14 rfl rfl)
theorem dX18_init_17 : decode cX18_init 17 = .ok (.aload_n 0, 1) := dk_42 (dk_at dksX18_init_0 17 rfl rfl)
theorem dX18_init_18 : decode cX18_init 18 = .ok (.iload_n 1, 1) := dk_27 (dk_at dksX18_init_0 18 rfl rfl)
theorem dX18_init_19 : decode cX18_init 19 = .ok (.putfield 21, 3) := dk_181 0 21 (dk_at dksX18_init_0 19 rfl rfl)
theorem dX18_init_22 : decode cX18_init 22 = .ok (.return_, 1) := dk_177 (dk_at dksX18_init_0 22 rfl rfl)
abbrev cX18_isNow : ByteArray := prog_10_method_2_code
def yX18_isNow : MethodName := ⟨RX18, "isNow", "(LSoleraCellar$Setting;)Z"⟩
def dkwX18_isNow_1 : List UInt8 := [77, 3, 172]
abbrev dktX18_isNow_1 : List UInt8 := dkwX18_isNow_1 ++ []
def dkwX18_isNow_0 : List UInt8 := [42, 180, 0, 24, 198, 0, 14, 42, 180, 0, 24, 43, 182, 0, 28, 153, 0, 7, 4, 167, 0, 4, 3, 172]
abbrev dktX18_isNow_0 : List UInt8 := dkwX18_isNow_0 ++ dktX18_isNow_1
theorem dksX18_isNow_0 : cX18_isNow.data.toList.drop 0 = dktX18_isNow_0 := by decide +kernel
theorem dksX18_isNow_1 : cX18_isNow.data.toList.drop 24 = dktX18_isNow_1 := dk_seg dksX18_isNow_0 24 rfl rfl
theorem dX18_isNow_0 : decode cX18_isNow 0 = .ok (.aload_n 0, 1) := dk_42 (dk_at dksX18_isNow_0 0 rfl rfl)
theorem dX18_isNow_1 : decode cX18_isNow 1 = .ok (.getfield 24, 3) := dk_180 0 24 (dk_at dksX18_isNow_0 1 rfl rfl)
theorem dX18_isNow_4 : decode cX18_isNow 4 = .ok (.ifnull 14, 3) := dk_198 0 14 (dk_at dksX18_isNow_0 4 rfl rfl)
theorem dX18_isNow_7 : decode cX18_isNow 7 = .ok (.aload_n 0, 1) := dk_42 (dk_at dksX18_isNow_0 7 rfl rfl)
theorem dX18_isNow_8 : decode cX18_isNow 8 = .ok (.getfield 24, 3) := dk_180 0 24 (dk_at dksX18_isNow_0 8 rfl rfl)
theorem dX18_isNow_11 : decode cX18_isNow 11 = .ok (.aload_n 1, 1) := dk_43 (dk_at dksX18_isNow_0 11 rfl rfl)
theorem dX18_isNow_12 : decode cX18_isNow 12 = .ok (.invokevirtual 28, 3) := dk_182 0 28 (dk_at dksX18_isNow_0 12 rfl rfl)
theorem dX18_isNow_15 : decode cX18_isNow 15 = .ok (.ifCond .eq 7, 3) := dk_153 0 7 (dk_at dksX18_isNow_0 15 rfl rfl)
theorem dX18_isNow_18 : decode cX18_isNow 18 = .ok (.iconst 1, 1) := dk_4 (dk_at dksX18_isNow_0 18 rfl rfl)
theorem dX18_isNow_19 : decode cX18_isNow 19 = .ok (.goto 4, 3) := dk_167 0 4 (dk_at dksX18_isNow_0 19 rfl rfl)
theorem dX18_isNow_22 : decode cX18_isNow 22 = .ok (.iconst 0, 1) := dk_3 (dk_at dksX18_isNow_0 22 rfl rfl)
theorem dX18_isNow_23 : decode cX18_isNow 23 = .ok (.ireturn, 1) := dk_172 (dk_at dksX18_isNow_0 23 rfl rfl)
theorem dX18_isNow_24 : decode cX18_isNow 24 = .ok (.astore_n 2, 1) := dk_77 (dk_at dksX18_isNow_1 0 rfl rfl)
theorem dX18_isNow_25 : decode cX18_isNow 25 = .ok (.iconst 0, 1) := dk_3 (dk_at dksX18_isNow_1 1 rfl rfl)
theorem dX18_isNow_26 : decode cX18_isNow 26 = .ok (.ireturn, 1) := dk_172 (dk_at dksX18_isNow_1 2 rfl rfl)
abbrev cX18_told : ByteArray := prog_10_method_3_code
def yX18_told : MethodName := ⟨RX18, "told", "(ILSoleraCellar$Setting;)I"⟩
def dkwX18_told_1 : List UInt8 := [155, 0, 7, 2, 167, 0, 5, 33, 136, 172, 78, 2, 172]
abbrev dktX18_told_1 : List UInt8 := dkwX18_told_1 ++ []
def dkwX18_told_0 : List UInt8 := [42, 180, 0, 11, 27, 50, 44, 182, 0, 36, 66, 33, 9, 148, 155, 0, 11, 33, 20, 0, 40, 148]
abbrev dktX18_told_0 : List UInt8 := dkwX18_told_0 ++ dktX18_told_1
theorem dksX18_told_0 : cX18_told.data.toList.drop 0 = dktX18_told_0 := by decide +kernel
theorem dksX18_told_1 : cX18_told.data.toList.drop 22 = dktX18_told_1 := dk_seg dksX18_told_0 22 rfl rfl
theorem dX18_told_0 : decode cX18_told 0 = .ok (.aload_n 0, 1) := dk_42 (dk_at dksX18_told_0 0 rfl rfl)
theorem dX18_told_1 : decode cX18_told 1 = .ok (.getfield 11, 3) := dk_180 0 11 (dk_at dksX18_told_0 1 rfl rfl)
theorem dX18_told_4 : decode cX18_told 4 = .ok (.iload_n 1, 1) := dk_27 (dk_at dksX18_told_0 4 rfl rfl)
theorem dX18_told_5 : decode cX18_told 5 = .ok (.aaload, 1) := dk_50 (dk_at dksX18_told_0 5 rfl rfl)
theorem dX18_told_6 : decode cX18_told 6 = .ok (.aload_n 2, 1) := dk_44 (dk_at dksX18_told_0 6 rfl rfl)
theorem dX18_told_7 : decode cX18_told 7 = .ok (.invokevirtual 36, 3) := dk_182 0 36 (dk_at dksX18_told_0 7 rfl rfl)
theorem dX18_told_10 : decode cX18_told 10 = .ok (.lstore_n 3, 1) := dk_66 (dk_at dksX18_told_0 10 rfl rfl)
theorem dX18_told_11 : decode cX18_told 11 = .ok (.lload_n 3, 1) := dk_33 (dk_at dksX18_told_0 11 rfl rfl)
theorem dX18_told_12 : decode cX18_told 12 = .ok (.lconst 0, 1) := dk_9 (dk_at dksX18_told_0 12 rfl rfl)
theorem dX18_told_13 : decode cX18_told 13 = .ok (.lcmp, 1) := dk_148 (dk_at dksX18_told_0 13 rfl rfl)
theorem dX18_told_14 : decode cX18_told 14 = .ok (.ifCond .lt 11, 3) := dk_155 0 11 (dk_at dksX18_told_0 14 rfl rfl)
theorem dX18_told_17 : decode cX18_told 17 = .ok (.lload_n 3, 1) := dk_33 (dk_at dksX18_told_0 17 rfl rfl)
theorem dX18_told_18 : decode cX18_told 18 = .ok (.ldc2_w 40, 3) := dk_20 0 40 (dk_at dksX18_told_0 18 rfl rfl)
theorem dX18_told_21 : decode cX18_told 21 = .ok (.lcmp, 1) := dk_148 (dk_at dksX18_told_0 21 rfl rfl)
theorem dX18_told_22 : decode cX18_told 22 = .ok (.ifCond .lt 7, 3) := dk_155 0 7 (dk_at dksX18_told_1 0 rfl rfl)
theorem dX18_told_25 : decode cX18_told 25 = .ok (.iconst (-1), 1) := dk_2 (dk_at dksX18_told_1 3 rfl rfl)
theorem dX18_told_26 : decode cX18_told 26 = .ok (.goto 5, 3) := dk_167 0 5 (dk_at dksX18_told_1 4 rfl rfl)
theorem dX18_told_29 : decode cX18_told 29 = .ok (.lload_n 3, 1) := dk_33 (dk_at dksX18_told_1 7 rfl rfl)
theorem dX18_told_30 : decode cX18_told 30 = .ok (.l2i, 1) := dk_136 (dk_at dksX18_told_1 8 rfl rfl)
theorem dX18_told_31 : decode cX18_told 31 = .ok (.ireturn, 1) := dk_172 (dk_at dksX18_told_1 9 rfl rfl)
theorem dX18_told_32 : decode cX18_told 32 = .ok (.astore_n 3, 1) := dk_78 (dk_at dksX18_told_1 10 rfl rfl)
theorem dX18_told_33 : decode cX18_told 33 = .ok (.iconst (-1), 1) := dk_2 (dk_at dksX18_told_1 11 rfl rfl)
theorem dX18_told_34 : decode cX18_told 34 = .ok (.ireturn, 1) := dk_172 (dk_at dksX18_told_1 12 rfl rfl)
theorem q164 : (Jvm.Cond.initialized "SoleraCellar$Order") ∈ lw_all := lw_g (lw_at lw_m1 33 rfl) rfl
theorem q496 : (Jvm.Cond.selects "SoleraCellar$Order" ({ cls := "java/lang/Object", name := "getClass", desc := "()Ljava/lang/Class;" } : Jvm.MethodName) ({ cls := "java/lang/Object", name := "getClass", desc := "()Ljava/lang/Class;" } : Jvm.MethodName)) ∈ lw_all := lw_g (lw_at lw_m2 125 rfl) rfl
theorem q1149 : (Jvm.Cond.instantiable "SoleraCellar$Order" (4 : Nat)) ∈ lw_all := lw_g (lw_at lw_m5 58 rfl) rfl
theorem q1151 : (Jvm.Cond.instanceMethod ({ cls := "SoleraCellar$Order", name := "<init>", desc := "(I)V" } : Jvm.MethodName)) ∈ lw_all := lw_g (lw_at lw_m5 60 rfl) rfl
theorem q1152 : (Jvm.Cond.code ({ cls := "SoleraCellar$Order", name := "<init>", desc := "(I)V" } : Jvm.MethodName) prog_10_method_1_code (2 : Nat) (Option.none : Option Jvm.ClassFile.FieldType)) ∈ lw_all := lw_g (lw_at lw_m5 61 rfl) rfl
theorem q1153 : (Jvm.Cond.methodLink "SoleraCellar$Order" (3 : Nat) ({ cls := "java/lang/Object", name := "<init>", desc := "()V" } : Jvm.MethodName)) ∈ lw_all := lw_g (lw_at lw_m5 62 rfl) rfl
theorem q1154 : (Jvm.Cond.classLink "SoleraCellar$Order" (9 : Nat) "SoleraCellar$Sum") ∈ lw_all := lw_g (lw_at lw_m5 63 rfl) rfl
theorem q1156 : (Jvm.Cond.fieldLink "SoleraCellar$Order" (21 : Nat) "SoleraCellar$Order" "head" "I") ∈ lw_all := lw_g (lw_at lw_m5 65 rfl) rfl
theorem q1158 : (Jvm.Cond.fieldLink "SoleraCellar$Order" (11 : Nat) "SoleraCellar$Order" "sums" "[LSoleraCellar$Sum;") ∈ lw_all := lw_g (lw_at lw_m5 67 rfl) rfl
theorem q1160 : (Jvm.Cond.fieldLink "SoleraCellar$Order" (17 : Nat) "SoleraCellar$Order" "times" "I") ∈ lw_all := lw_g (lw_at lw_m5 69 rfl) rfl
theorem q1163 : (Jvm.Cond.fieldLink "SoleraCellar$Order" (24 : Nat) "SoleraCellar$Order" "when" "LSoleraCellar$Test;") ∈ lw_all := lw_g (lw_at lw_m5 72 rfl) rfl
theorem q1165 : (Jvm.Cond.laysFinal "SoleraCellar$Order" "SoleraCellar$Order" "head" "I") ∈ lw_all := lw_g (lw_at lw_m5 74 rfl) rfl
theorem q1166 : (Jvm.Cond.soleField "SoleraCellar$Order" "head") ∈ lw_all := lw_g (lw_at lw_m5 75 rfl) rfl
theorem q1167 : (Jvm.Cond.laysFinal "SoleraCellar$Order" "SoleraCellar$Order" "sums" "[LSoleraCellar$Sum;") ∈ lw_all := lw_g (lw_at lw_m5 76 rfl) rfl
theorem q1168 : (Jvm.Cond.soleField "SoleraCellar$Order" "sums") ∈ lw_all := lw_g (lw_at lw_m5 77 rfl) rfl
theorem q1169 : (Jvm.Cond.lays "SoleraCellar$Order" "SoleraCellar$Order" "times" "I") ∈ lw_all := lw_g (lw_at lw_m5 78 rfl) rfl
theorem q1170 : (Jvm.Cond.soleField "SoleraCellar$Order" "times") ∈ lw_all := lw_g (lw_at lw_m5 79 rfl) rfl
theorem q1171 : (Jvm.Cond.lays "SoleraCellar$Order" "SoleraCellar$Order" "when" "LSoleraCellar$Test;") ∈ lw_all := lw_g (lw_at lw_m5 80 rfl) rfl
theorem q1172 : (Jvm.Cond.soleField "SoleraCellar$Order" "when") ∈ lw_all := lw_g (lw_at lw_m5 81 rfl) rfl
theorem q1173 : (Jvm.Cond.superclass "SoleraCellar$Order" "java/lang/Object") ∈ lw_all := lw_g (lw_at lw_m5 82 rfl) rfl
theorem q1368 : (Jvm.Cond.instanceMethod ({ cls := "SoleraCellar$Order", name := "isNow", desc := "(LSoleraCellar$Setting;)Z" } : Jvm.MethodName)) ∈ lw_all := lw_g (lw_at lw_m6 37 rfl) rfl
theorem q1369 : (Jvm.Cond.selects "SoleraCellar$Order" ({ cls := "SoleraCellar$Order", name := "isNow", desc := "(LSoleraCellar$Setting;)Z" } : Jvm.MethodName) ({ cls := "SoleraCellar$Order", name := "isNow", desc := "(LSoleraCellar$Setting;)Z" } : Jvm.MethodName)) ∈ lw_all := lw_g (lw_at lw_m6 38 rfl) rfl
theorem q1370 : (Jvm.Cond.codeWith ({ cls := "SoleraCellar$Order", name := "isNow", desc := "(LSoleraCellar$Setting;)Z" } : Jvm.MethodName) prog_10_method_2_code (3 : Nat) (Option.some Jvm.ClassFile.FieldType.boolean) [((0 : Nat), (23 : Nat), (24 : Nat), (34 : Nat))]) ∈ lw_all := lw_g (lw_at lw_m6 39 rfl) rfl
theorem q1371 : (Jvm.Cond.classLink "SoleraCellar$Order" (34 : Nat) "SoleraCellar$Broken") ∈ lw_all := lw_g (lw_at lw_m6 40 rfl) rfl
theorem q1372 : (Jvm.Cond.methodLink "SoleraCellar$Order" (28 : Nat) ({ cls := "SoleraCellar$Test", name := "is", desc := "(LSoleraCellar$Setting;)Z" } : Jvm.MethodName)) ∈ lw_all := lw_g (lw_at lw_m6 41 rfl) rfl
theorem q1378 : (Jvm.Cond.instanceMethod ({ cls := "SoleraCellar$Order", name := "told", desc := "(ILSoleraCellar$Setting;)I" } : Jvm.MethodName)) ∈ lw_all := lw_g (lw_at lw_m6 47 rfl) rfl
theorem q1379 : (Jvm.Cond.selects "SoleraCellar$Order" ({ cls := "SoleraCellar$Order", name := "told", desc := "(ILSoleraCellar$Setting;)I" } : Jvm.MethodName) ({ cls := "SoleraCellar$Order", name := "told", desc := "(ILSoleraCellar$Setting;)I" } : Jvm.MethodName)) ∈ lw_all := lw_g (lw_at lw_m6 48 rfl) rfl
theorem q1380 : (Jvm.Cond.codeWith ({ cls := "SoleraCellar$Order", name := "told", desc := "(ILSoleraCellar$Setting;)I" } : Jvm.MethodName) prog_10_method_3_code (5 : Nat) (Option.some Jvm.ClassFile.FieldType.int) [((0 : Nat), (31 : Nat), (32 : Nat), (34 : Nat))]) ∈ lw_all := lw_g (lw_at lw_m6 49 rfl) rfl
theorem q1381 : (Jvm.Cond.methodLink "SoleraCellar$Order" (36 : Nat) ({ cls := "SoleraCellar$Sum", name := "of", desc := "(LSoleraCellar$Setting;)J" } : Jvm.MethodName)) ∈ lw_all := lw_g (lw_at lw_m6 50 rfl) rfl
theorem q1382 : (Jvm.Cond.constantLong "SoleraCellar$Order" (40 : Nat) (1000000 : Int64)) ∈ lw_all := lw_g (lw_at lw_m6 51 rfl) rfl
theorem q2264 : (Jvm.Cond.castable "SoleraCellar$Order" "java/lang/Object") ∈ lw_tbl := lw_at lw_m9 213 rfl
theorem in_X18 : ∀ w ∈ wsX180, w ∈ lw_all := lw_in wsX180 [1165, 1167, 1169, 1171] (by decide +kernel) (by decide +kernel)

/-! SoleraCellar$Law -/
set_option maxRecDepth 100000
def RX19 : String := "SoleraCellar$Law"
def TX19 : u_T := fun k => match k with
  | _ => ("SoleraCellar$Law", "clauses", "Ljava/util/ArrayList;", true)
def tyX19 : Nat → FieldType := fun k => match k with
  | _ => .object "java/util/ArrayList"
abbrev wsX190 : List Cond := u_ws RX19 TX19 1
theorem nmX19 : ∀ a, a < 1 → ∀ b, b < 1 → a ≠ b → (TX19 a).2.1 ≠ (TX19 b).2.1 := by decide +kernel
theorem tyX19_ok : ∀ k, k < 1 → parseFieldDescriptor (TX19 k).2.2.1 = some (tyX19 k) := by decide +kernel
abbrev cX19_told : ByteArray := prog_6_method_2_code
def yX19_told : MethodName := ⟨RX19, "told", "(ILSoleraCellar$Setting;)J"⟩
def dkwX19_told_3 : List UInt8 := [132, 5, 1, 167, 255, 189, 33, 173]
abbrev dktX19_told_3 : List UInt8 := dkwX19_told_3 ++ []
def dkwX19_told_2 : List UInt8 := [182, 0, 23, 192, 0, 27, 44, 182, 0, 33, 55, 6, 22, 6, 20, 0, 15, 148, 153, 0, 6, 22, 6, 66]
abbrev dktX19_told_2 : List UInt8 := dkwX19_told_2 ++ dktX19_told_3
def dkwX19_told_1 : List UInt8 := [21, 5, 182, 0, 23, 192, 0, 27, 180, 0, 29, 27, 159, 0, 6, 167, 0, 33, 42, 180, 0, 9, 21, 5]
abbrev dktX19_told_1 : List UInt8 := dkwX19_told_1 ++ dktX19_told_2
def dkwX19_told_0 : List UInt8 := [20, 0, 15, 66, 3, 54, 5, 21, 5, 42, 180, 0, 9, 182, 0, 17, 162, 0, 61, 42, 180, 0, 9]
abbrev dktX19_told_0 : List UInt8 := dkwX19_told_0 ++ dktX19_told_1
theorem dksX19_told_0 : cX19_told.data.toList.drop 0 = dktX19_told_0 := by decide +kernel
theorem dksX19_told_1 : cX19_told.data.toList.drop 23 = dktX19_told_1 := dk_seg dksX19_told_0 23 rfl rfl
theorem dksX19_told_2 : cX19_told.data.toList.drop 47 = dktX19_told_2 := dk_seg dksX19_told_1 24 rfl rfl
theorem dksX19_told_3 : cX19_told.data.toList.drop 71 = dktX19_told_3 := dk_seg dksX19_told_2 24 rfl rfl
theorem dX19_told_0 : decode cX19_told 0 = .ok (.ldc2_w 15, 3) := dk_20 0 15 (dk_at dksX19_told_0 0 rfl rfl)
theorem dX19_told_3 : decode cX19_told 3 = .ok (.lstore_n 3, 1) := dk_66 (dk_at dksX19_told_0 3 rfl rfl)
theorem dX19_told_4 : decode cX19_told 4 = .ok (.iconst 0, 1) := dk_3 (dk_at dksX19_told_0 4 rfl rfl)
theorem dX19_told_5 : decode cX19_told 5 = .ok (.istore 5, 2) := dk_54 5 (dk_at dksX19_told_0 5 rfl rfl)
theorem dX19_told_7 : decode cX19_told 7 = .ok (.iload 5, 2) := dk_21 5 (dk_at dksX19_told_0 7 rfl rfl)
theorem dX19_told_9 : decode cX19_told 9 = .ok (.aload_n 0, 1) := dk_42 (dk_at dksX19_told_0 9 rfl rfl)
theorem dX19_told_10 : decode cX19_told 10 = .ok (.getfield 9, 3) := dk_180 0 9 (dk_at dksX19_told_0 10 rfl rfl)
theorem dX19_told_13 : decode cX19_told 13 = .ok (.invokevirtual 17, 3) := dk_182 0 17 (dk_at dksX19_told_0 13 rfl rfl)
theorem dX19_told_16 : decode cX19_told 16 = .ok (.if_icmp .ge 61, 3) := dk_162 0 61 (dk_at dksX19_told_0 16 rfl rfl)
theorem dX19_told_19 : decode cX19_told 19 = .ok (.aload_n 0, 1) := dk_42 (dk_at dksX19_told_0 19 rfl rfl)
theorem dX19_told_20 : decode cX19_told 20 = .ok (.getfield 9, 3) := dk_180 0 9 (dk_at dksX19_told_0 20 rfl rfl)
theorem dX19_told_23 : decode cX19_told 23 = .ok (.iload 5, 2) := dk_21 5 (dk_at dksX19_told_1 0 rfl rfl)
theorem dX19_told_25 : decode cX19_told 25 = .ok (.invokevirtual 23, 3) := dk_182 0 23 (dk_at dksX19_told_1 2 rfl rfl)
theorem dX19_told_28 : decode cX19_told 28 = .ok (.checkcast 27, 3) := dk_192 0 27 (dk_at dksX19_told_1 5 rfl rfl)
theorem dX19_told_31 : decode cX19_told 31 = .ok (.getfield 29, 3) := dk_180 0 29 (dk_at dksX19_told_1 8 rfl rfl)
theorem dX19_told_34 : decode cX19_told 34 = .ok (.iload_n 1, 1) := dk_27 (dk_at dksX19_told_1 11 rfl rfl)
theorem dX19_told_35 : decode cX19_told 35 = .ok (.if_icmp .eq 6, 3) := dk_159 0 6 (dk_at dksX19_told_1 12 rfl rfl)
theorem dX19_told_38 : decode cX19_told 38 = .ok (.goto 33, 3) := dk_167 0 33 (dk_at dksX19_told_1 15 rfl rfl)
theorem dX19_told_41 : decode cX19_told 41 = .ok (.aload_n 0, 1) := dk_42 (dk_at dksX19_told_1 18 rfl rfl)
theorem dX19_told_42 : decode cX19_told 42 = .ok (.getfield 9, 3) := dk_180 0 9 (dk_at dksX19_told_1 19 rfl rfl)
theorem dX19_told_45 : decode cX19_told 45 = .ok (.iload 5, 2) := dk_21 5 (dk_at dksX19_told_1 22 rfl rfl)
theorem dX19_told_47 : decode cX19_told 47 = .ok (.invokevirtual 23, 3) := dk_182 0 23 (dk_at dksX19_told_2 0 rfl rfl)
theorem dX19_told_50 : decode cX19_told 50 = .ok (.checkcast 27, 3) := dk_192 0 27 (dk_at dksX19_told_2 3 rfl rfl)
theorem dX19_told_53 : decode cX19_told 53 = .ok (.aload_n 2, 1) := dk_44 (dk_at dksX19_told_2 6 rfl rfl)
theorem dX19_told_54 : decode cX19_told 54 = .ok (.invokevirtual 33, 3) := dk_182 0 33 (dk_at dksX19_told_2 7 rfl rfl)
theorem dX19_told_57 : decode cX19_told 57 = .ok (.lstore 6, 2) := dk_55 6 (dk_at dksX19_told_2 10 rfl rfl)
theorem dX19_told_59 : decode cX19_told 59 = .ok (.lload 6, 2) := dk_22 6 (dk_at dksX19_told_2 12 rfl rfl)
theorem dX19_told_61 : decode cX19_told 61 = .ok (.ldc2_w 15, 3) := dk_20 0 15 (dk_at dksX19_told_2 14 rfl rfl)
theorem dX19_told_64 : decode cX19_told 64 = .ok (.lcmp, 1) := dk_148 (dk_at dksX19_told_2 17 rfl rfl)
theorem dX19_told_65 : decode cX19_told 65 = .ok (.ifCond .eq 6, 3) := dk_153 0 6 (dk_at dksX19_told_2 18 rfl rfl)
theorem dX19_told_68 : decode cX19_told 68 = .ok (.lload 6, 2) := dk_22 6 (dk_at dksX19_told_2 21 rfl rfl)
theorem dX19_told_70 : decode cX19_told 70 = .ok (.lstore_n 3, 1) := dk_66 (dk_at dksX19_told_2 23 rfl rfl)
theorem dX19_told_71 : decode cX19_told 71 = .ok (.iinc 5 1, 3) := dk_132 5 1 (dk_at dksX19_told_3 0 rfl rfl)
theorem dX19_told_74 : decode cX19_told 74 = .ok (.goto (-67), 3) := dk_167 255 189 (dk_at dksX19_told_3 3 rfl rfl)
theorem dX19_told_77 : decode cX19_told 77 = .ok (.lload_n 3, 1) := dk_33 (dk_at dksX19_told_3 6 rfl rfl)
theorem dX19_told_78 : decode cX19_told 78 = .ok (.lreturn, 1) := dk_173 (dk_at dksX19_told_3 7 rfl rfl)
abbrev cX19_init : ByteArray := prog_6_method_1_code
def yX19_init : MethodName := ⟨RX19, "<init>", "(Ljava/util/ArrayList;)V"⟩
def dkwX19_init_0 : List UInt8 := [42, 183, 0, 3, 42, 43, 181, 0, 9, 177]
abbrev dktX19_init_0 : List UInt8 := dkwX19_init_0 ++ []
theorem dksX19_init_0 : cX19_init.data.toList.drop 0 = dktX19_init_0 := by decide +kernel
theorem dX19_init_0 : decode cX19_init 0 = .ok (.aload_n 0, 1) := dk_42 (dk_at dksX19_init_0 0 rfl rfl)
theorem dX19_init_1 : decode cX19_init 1 = .ok (.invokespecial 3, 3) := dk_183 0 3 (dk_at dksX19_init_0 1 rfl rfl)
theorem dX19_init_4 : decode cX19_init 4 = .ok (.aload_n 0, 1) := dk_42 (dk_at dksX19_init_0 4 rfl rfl)
theorem dX19_init_5 : decode cX19_init 5 = .ok (.aload_n 1, 1) := dk_43 (dk_at dksX19_init_0 5 rfl rfl)
theorem dX19_init_6 : decode cX19_init 6 = .ok (.putfield 9, 3) := dk_181 0 9 (dk_at dksX19_init_0 6 rfl rfl)
theorem dX19_init_9 : decode cX19_init 9 = .ok (.return_, 1) := dk_177 (dk_at dksX19_init_0 9 rfl rfl)
theorem q165 : (Jvm.Cond.initialized "SoleraCellar$Law") ∈ lw_all := lw_g (lw_at lw_m1 34 rfl) rfl
theorem q492 : (Jvm.Cond.selects "SoleraCellar$Law" ({ cls := "java/lang/Object", name := "getClass", desc := "()Ljava/lang/Class;" } : Jvm.MethodName) ({ cls := "java/lang/Object", name := "getClass", desc := "()Ljava/lang/Class;" } : Jvm.MethodName)) ∈ lw_all := lw_g (lw_at lw_m2 121 rfl) rfl
theorem q626 : (Jvm.Cond.instanceMethod ({ cls := "SoleraCellar$Law", name := "told", desc := "(ILSoleraCellar$Setting;)J" } : Jvm.MethodName)) ∈ lw_all := lw_g (lw_at lw_m3 15 rfl) rfl
theorem q627 : (Jvm.Cond.selects "SoleraCellar$Law" ({ cls := "SoleraCellar$Law", name := "told", desc := "(ILSoleraCellar$Setting;)J" } : Jvm.MethodName) ({ cls := "SoleraCellar$Law", name := "told", desc := "(ILSoleraCellar$Setting;)J" } : Jvm.MethodName)) ∈ lw_all := lw_g (lw_at lw_m3 16 rfl) rfl
theorem q628 : (Jvm.Cond.code ({ cls := "SoleraCellar$Law", name := "told", desc := "(ILSoleraCellar$Setting;)J" } : Jvm.MethodName) prog_6_method_2_code (8 : Nat) (Option.some Jvm.ClassFile.FieldType.long)) ∈ lw_all := lw_g (lw_at lw_m3 17 rfl) rfl
theorem q629 : (Jvm.Cond.constantLong "SoleraCellar$Law" (15 : Nat) (-4000000000 : Int64)) ∈ lw_all := lw_g (lw_at lw_m3 18 rfl) rfl
theorem q630 : (Jvm.Cond.methodLink "SoleraCellar$Law" (17 : Nat) ({ cls := "java/util/ArrayList", name := "size", desc := "()I" } : Jvm.MethodName)) ∈ lw_all := lw_g (lw_at lw_m3 19 rfl) rfl
theorem q634 : (Jvm.Cond.methodLink "SoleraCellar$Law" (23 : Nat) ({ cls := "java/util/ArrayList", name := "get", desc := "(I)Ljava/lang/Object;" } : Jvm.MethodName)) ∈ lw_all := lw_g (lw_at lw_m3 23 rfl) rfl
theorem q635 : (Jvm.Cond.classLink "SoleraCellar$Law" (27 : Nat) "SoleraCellar$Clause") ∈ lw_all := lw_g (lw_at lw_m3 24 rfl) rfl
theorem q636 : (Jvm.Cond.methodLink "SoleraCellar$Law" (33 : Nat) ({ cls := "SoleraCellar$Clause", name := "tells", desc := "(LSoleraCellar$Setting;)J" } : Jvm.MethodName)) ∈ lw_all := lw_g (lw_at lw_m3 25 rfl) rfl
theorem q892 : (Jvm.Cond.fieldLinkNest "SoleraCellar$Law" (29 : Nat) "SoleraCellar$Clause" "head" "I" "SoleraCellar") ∈ lw_tbl := lw_at lw_m4 41 rfl
theorem q1195 : (Jvm.Cond.instantiable "SoleraCellar$Law" (1 : Nat)) ∈ lw_all := lw_g (lw_at lw_m5 104 rfl) rfl
theorem q1197 : (Jvm.Cond.instanceMethod ({ cls := "SoleraCellar$Law", name := "<init>", desc := "(Ljava/util/ArrayList;)V" } : Jvm.MethodName)) ∈ lw_all := lw_g (lw_at lw_m5 106 rfl) rfl
theorem q1198 : (Jvm.Cond.code ({ cls := "SoleraCellar$Law", name := "<init>", desc := "(Ljava/util/ArrayList;)V" } : Jvm.MethodName) prog_6_method_1_code (2 : Nat) (Option.none : Option Jvm.ClassFile.FieldType)) ∈ lw_all := lw_g (lw_at lw_m5 107 rfl) rfl
theorem q1199 : (Jvm.Cond.methodLink "SoleraCellar$Law" (3 : Nat) ({ cls := "java/lang/Object", name := "<init>", desc := "()V" } : Jvm.MethodName)) ∈ lw_all := lw_g (lw_at lw_m5 108 rfl) rfl
theorem q1200 : (Jvm.Cond.fieldLink "SoleraCellar$Law" (9 : Nat) "SoleraCellar$Law" "clauses" "Ljava/util/ArrayList;") ∈ lw_all := lw_g (lw_at lw_m5 109 rfl) rfl
theorem q1201 : (Jvm.Cond.laysFinal "SoleraCellar$Law" "SoleraCellar$Law" "clauses" "Ljava/util/ArrayList;") ∈ lw_all := lw_g (lw_at lw_m5 110 rfl) rfl
theorem q1202 : (Jvm.Cond.soleField "SoleraCellar$Law" "clauses") ∈ lw_all := lw_g (lw_at lw_m5 111 rfl) rfl
theorem q1203 : (Jvm.Cond.superclass "SoleraCellar$Law" "java/lang/Object") ∈ lw_all := lw_g (lw_at lw_m5 112 rfl) rfl
theorem q2261 : (Jvm.Cond.castable "SoleraCellar$Law" "java/lang/Object") ∈ lw_tbl := lw_at lw_m9 210 rfl
theorem in_X19 : ∀ w ∈ wsX190, w ∈ lw_all := lw_in wsX190 [1201] (by decide +kernel) (by decide +kernel)

/-! SoleraCellar$Table -/
set_option maxRecDepth 100000
def RX2 : String := "SoleraCellar$Table"
def TX2 : u_T := fun k => match k with
  | 0 => ("SoleraCellar$Table", "drops", "[I", true)
  | 1 => ("SoleraCellar$Table", "bottled", "I", false)
  | _ => ("SoleraCellar$Table", "year", "I", false)
def tyX2 : Nat → FieldType := fun k => match k with
  | 0 => .array .int
  | 1 => .int
  | _ => .int
abbrev wsX20 : List Cond := u_ws RX2 TX2 3
theorem nmX2 : ∀ a, a < 3 → ∀ b, b < 3 → a ≠ b → (TX2 a).2.1 ≠ (TX2 b).2.1 := by decide +kernel
theorem tyX2_ok : ∀ k, k < 3 → parseFieldDescriptor (TX2 k).2.2.1 = some (tyX2 k) := by decide +kernel
abbrev cX2_init : ByteArray := prog_18_method_1_code
def yX2_init : MethodName := ⟨RX2, "<init>", "()V"⟩
def dkwX2_init_0 : List UInt8 := [42, 183, 0, 3, 42, 17, 0, 160, 188, 10, 181, 0, 9, 177]
abbrev dktX2_init_0 : List UInt8 := dkwX2_init_0 ++ []
theorem dksX2_init_0 : cX2_init.data.toList.drop 0 = dktX2_init_0 := by decide +kernel
theorem dX2_init_0 : decode cX2_init 0 = .ok (.aload_n 0, 1) := dk_42 (dk_at dksX2_init_0 0 rfl rfl)
theorem dX2_init_1 : decode cX2_init 1 = .ok (.invokespecial 3, 3) := dk_183 0 3 (dk_at dksX2_init_0 1 rfl rfl)
theorem dX2_init_4 : decode cX2_init 4 = .ok (.aload_n 0, 1) := dk_42 (dk_at dksX2_init_0 4 rfl rfl)
theorem dX2_init_5 : decode cX2_init 5 = .ok (.sipush 160, 3) := dk_17 0 160 (dk_at dksX2_init_0 5 rfl rfl)
theorem dX2_init_8 : decode cX2_init 8 = .ok (.newarray .int, 2) := dk_188_10 (dk_at dksX2_init_0 8 rfl rfl)
theorem dX2_init_10 : decode cX2_init 10 = .ok (.putfield 9, 3) := dk_181 0 9 (dk_at dksX2_init_0 10 rfl rfl)
theorem dX2_init_13 : decode cX2_init 13 = .ok (.return_, 1) := dk_177 (dk_at dksX2_init_0 13 rfl rfl)
abbrev cX2_takes : ByteArray := prog_18_method_2_code
def yX2_takes : MethodName := ⟨RX2, "takes", "(LSoleraCellar$Table;)V"⟩
def dkwX2_takes_1 : List UInt8 := [181, 0, 21, 42, 43, 180, 0, 25, 181, 0, 25, 177]
abbrev dktX2_takes_1 : List UInt8 := dkwX2_takes_1 ++ []
def dkwX2_takes_0 : List UInt8 := [43, 180, 0, 9, 3, 42, 180, 0, 9, 3, 42, 180, 0, 9, 190, 184, 0, 15, 42, 43, 180, 0, 21]
abbrev dktX2_takes_0 : List UInt8 := dkwX2_takes_0 ++ dktX2_takes_1
theorem dksX2_takes_0 : cX2_takes.data.toList.drop 0 = dktX2_takes_0 := by decide +kernel
theorem dksX2_takes_1 : cX2_takes.data.toList.drop 23 = dktX2_takes_1 := dk_seg dksX2_takes_0 23 rfl rfl
theorem dX2_takes_0 : decode cX2_takes 0 = .ok (.aload_n 1, 1) := dk_43 (dk_at dksX2_takes_0 0 rfl rfl)
theorem dX2_takes_1 : decode cX2_takes 1 = .ok (.getfield 9, 3) := dk_180 0 9 (dk_at dksX2_takes_0 1 rfl rfl)
theorem dX2_takes_4 : decode cX2_takes 4 = .ok (.iconst 0, 1) := dk_3 (dk_at dksX2_takes_0 4 rfl rfl)
theorem dX2_takes_5 : decode cX2_takes 5 = .ok (.aload_n 0, 1) := dk_42 (dk_at dksX2_takes_0 5 rfl rfl)
theorem dX2_takes_6 : decode cX2_takes 6 = .ok (.getfield 9, 3) := dk_180 0 9 (dk_at dksX2_takes_0 6 rfl rfl)
theorem dX2_takes_9 : decode cX2_takes 9 = .ok (.iconst 0, 1) := dk_3 (dk_at dksX2_takes_0 9 rfl rfl)
theorem dX2_takes_10 : decode cX2_takes 10 = .ok (.aload_n 0, 1) := dk_42 (dk_at dksX2_takes_0 10 rfl rfl)
theorem dX2_takes_11 : decode cX2_takes 11 = .ok (.getfield 9, 3) := dk_180 0 9 (dk_at dksX2_takes_0 11 rfl rfl)
theorem dX2_takes_14 : decode cX2_takes 14 = .ok (.arraylength, 1) := dk_190 (dk_at dksX2_takes_0 14 rfl rfl)
theorem dX2_takes_15 : decode cX2_takes 15 = .ok (.invokestatic 15, 3) := dk_184 0 15 (dk_at dksX2_takes_0 15 rfl rfl)
theorem dX2_takes_18 : decode cX2_takes 18 = .ok (.aload_n 0, 1) := dk_42 (dk_at dksX2_takes_0 18 rfl rfl)
theorem dX2_takes_19 : decode cX2_takes 19 = .ok (.aload_n 1, 1) := dk_43 (dk_at dksX2_takes_0 19 rfl rfl)
theorem dX2_takes_20 : decode cX2_takes 20 = .ok (.getfield 21, 3) := dk_180 0 21 (dk_at dksX2_takes_0 20 rfl rfl)
theorem dX2_takes_23 : decode cX2_takes 23 = .ok (.putfield 21, 3) := dk_181 0 21 (dk_at dksX2_takes_1 0 rfl rfl)
theorem dX2_takes_26 : decode cX2_takes 26 = .ok (.aload_n 0, 1) := dk_42 (dk_at dksX2_takes_1 3 rfl rfl)
theorem dX2_takes_27 : decode cX2_takes 27 = .ok (.aload_n 1, 1) := dk_43 (dk_at dksX2_takes_1 4 rfl rfl)
theorem dX2_takes_28 : decode cX2_takes 28 = .ok (.getfield 25, 3) := dk_180 0 25 (dk_at dksX2_takes_1 5 rfl rfl)
theorem dX2_takes_31 : decode cX2_takes 31 = .ok (.putfield 25, 3) := dk_181 0 25 (dk_at dksX2_takes_1 8 rfl rfl)
theorem dX2_takes_34 : decode cX2_takes 34 = .ok (.return_, 1) := dk_177 (dk_at dksX2_takes_1 11 rfl rfl)
abbrev cX2_all : ByteArray := prog_18_method_3_code
def yX2_all : MethodName := ⟨RX2, "all", "(I)I"⟩
def dkwX2_all_1 : List UInt8 := [132, 3, 1, 167, 255, 233, 28, 172]
abbrev dktX2_all_1 : List UInt8 := dkwX2_all_1 ++ []
def dkwX2_all_0 : List UInt8 := [3, 61, 3, 62, 29, 16, 20, 162, 0, 23, 28, 42, 180, 0, 9, 16, 20, 27, 104, 29, 96, 46, 96, 61]
abbrev dktX2_all_0 : List UInt8 := dkwX2_all_0 ++ dktX2_all_1
theorem dksX2_all_0 : cX2_all.data.toList.drop 0 = dktX2_all_0 := by decide +kernel
theorem dksX2_all_1 : cX2_all.data.toList.drop 24 = dktX2_all_1 := dk_seg dksX2_all_0 24 rfl rfl
theorem dX2_all_0 : decode cX2_all 0 = .ok (.iconst 0, 1) := dk_3 (dk_at dksX2_all_0 0 rfl rfl)
theorem dX2_all_1 : decode cX2_all 1 = .ok (.istore_n 2, 1) := dk_61 (dk_at dksX2_all_0 1 rfl rfl)
theorem dX2_all_2 : decode cX2_all 2 = .ok (.iconst 0, 1) := dk_3 (dk_at dksX2_all_0 2 rfl rfl)
theorem dX2_all_3 : decode cX2_all 3 = .ok (.istore_n 3, 1) := dk_62 (dk_at dksX2_all_0 3 rfl rfl)
theorem dX2_all_4 : decode cX2_all 4 = .ok (.iload_n 3, 1) := dk_29 (dk_at dksX2_all_0 4 rfl rfl)
theorem dX2_all_5 : decode cX2_all 5 = .ok (.bipush 20, 2) := dk_16 20 (dk_at dksX2_all_0 5 rfl rfl)
theorem dX2_all_7 : decode cX2_all 7 = .ok (.if_icmp .ge 23, 3) := dk_162 0 23 (dk_at dksX2_all_0 7 rfl rfl)
theorem dX2_all_10 : decode cX2_all 10 = .ok (.iload_n 2, 1) := dk_28 (dk_at dksX2_all_0 10 rfl rfl)
theorem dX2_all_11 : decode cX2_all 11 = .ok (.aload_n 0, 1) := dk_42 (dk_at dksX2_all_0 11 rfl rfl)
theorem dX2_all_12 : decode cX2_all 12 = .ok (.getfield 9, 3) := dk_180 0 9 (dk_at dksX2_all_0 12 rfl rfl)
theorem dX2_all_15 : decode cX2_all 15 = .ok (.bipush 20, 2) := dk_16 20 (dk_at dksX2_all_0 15 rfl rfl)
theorem dX2_all_17 : decode cX2_all 17 = .ok (.iload_n 1, 1) := dk_27 (dk_at dksX2_all_0 17 rfl rfl)
theorem dX2_all_18 : decode cX2_all 18 = .ok (.imul, 1) := dk_104 (dk_at dksX2_all_0 18 rfl rfl)
theorem dX2_all_19 : decode cX2_all 19 = .ok (.iload_n 3, 1) := dk_29 (dk_at dksX2_all_0 19 rfl rfl)
theorem dX2_all_20 : decode cX2_all 20 = .ok (.iadd, 1) := dk_96 (dk_at dksX2_all_0 20 rfl rfl)
theorem dX2_all_21 : decode cX2_all 21 = .ok (.iaload, 1) := dk_46 (dk_at dksX2_all_0 21 rfl rfl)
theorem dX2_all_22 : decode cX2_all 22 = .ok (.iadd, 1) := dk_96 (dk_at dksX2_all_0 22 rfl rfl)
theorem dX2_all_23 : decode cX2_all 23 = .ok (.istore_n 2, 1) := dk_61 (dk_at dksX2_all_0 23 rfl rfl)
theorem dX2_all_24 : decode cX2_all 24 = .ok (.iinc 3 1, 3) := dk_132 3 1 (dk_at dksX2_all_1 0 rfl rfl)
theorem dX2_all_27 : decode cX2_all 27 = .ok (.goto (-23), 3) := dk_167 255 233 (dk_at dksX2_all_1 3 rfl rfl)
theorem dX2_all_30 : decode cX2_all 30 = .ok (.iload_n 2, 1) := dk_28 (dk_at dksX2_all_1 6 rfl rfl)
theorem dX2_all_31 : decode cX2_all 31 = .ok (.ireturn, 1) := dk_172 (dk_at dksX2_all_1 7 rfl rfl)
abbrev cX2_mean : ByteArray := prog_18_method_5_code
def yX2_mean : MethodName := ⟨RX2, "mean", "(I)I"⟩
def dkwX2_mean_0 : List UInt8 := [42, 180, 0, 9, 16, 20, 27, 104, 184, 0, 32, 172]
abbrev dktX2_mean_0 : List UInt8 := dkwX2_mean_0 ++ []
theorem dksX2_mean_0 : cX2_mean.data.toList.drop 0 = dktX2_mean_0 := by decide +kernel
theorem dX2_mean_0 : decode cX2_mean 0 = .ok (.aload_n 0, 1) := dk_42 (dk_at dksX2_mean_0 0 rfl rfl)
theorem dX2_mean_1 : decode cX2_mean 1 = .ok (.getfield 9, 3) := dk_180 0 9 (dk_at dksX2_mean_0 1 rfl rfl)
theorem dX2_mean_4 : decode cX2_mean 4 = .ok (.bipush 20, 2) := dk_16 20 (dk_at dksX2_mean_0 4 rfl rfl)
theorem dX2_mean_6 : decode cX2_mean 6 = .ok (.iload_n 1, 1) := dk_27 (dk_at dksX2_mean_0 6 rfl rfl)
theorem dX2_mean_7 : decode cX2_mean 7 = .ok (.imul, 1) := dk_104 (dk_at dksX2_mean_0 7 rfl rfl)
theorem dX2_mean_8 : decode cX2_mean 8 = .ok (.invokestatic 32, 3) := dk_184 0 32 (dk_at dksX2_mean_0 8 rfl rfl)
theorem dX2_mean_11 : decode cX2_mean 11 = .ok (.ireturn, 1) := dk_172 (dk_at dksX2_mean_0 11 rfl rfl)
abbrev cX2_label : ByteArray := prog_18_method_8_code
def yX2_label : MethodName := ⟨RX2, "label", "(II)I"⟩
def dkwX2_label_1 : List UInt8 := [21, 5, 182, 0, 41, 133, 105, 33, 28, 133, 105, 148, 156, 0, 9, 132, 5, 255, 167, 255, 233, 21, 5, 172]
abbrev dktX2_label_1 : List UInt8 := dkwX2_label_1 ++ []
def dkwX2_label_0 : List UInt8 := [42, 27, 182, 0, 28, 133, 66, 33, 9, 148, 154, 0, 5, 2, 172, 16, 19, 54, 5, 20, 0, 39, 42, 27]
abbrev dktX2_label_0 : List UInt8 := dkwX2_label_0 ++ dktX2_label_1
theorem dksX2_label_0 : cX2_label.data.toList.drop 0 = dktX2_label_0 := by decide +kernel
theorem dksX2_label_1 : cX2_label.data.toList.drop 24 = dktX2_label_1 := dk_seg dksX2_label_0 24 rfl rfl
theorem dX2_label_0 : decode cX2_label 0 = .ok (.aload_n 0, 1) := dk_42 (dk_at dksX2_label_0 0 rfl rfl)
theorem dX2_label_1 : decode cX2_label 1 = .ok (.iload_n 1, 1) := dk_27 (dk_at dksX2_label_0 1 rfl rfl)
theorem dX2_label_2 : decode cX2_label 2 = .ok (.invokevirtual 28, 3) := dk_182 0 28 (dk_at dksX2_label_0 2 rfl rfl)
theorem dX2_label_5 : decode cX2_label 5 = .ok (.i2l, 1) := dk_133 (dk_at dksX2_label_0 5 rfl rfl)
theorem dX2_label_6 : decode cX2_label 6 = .ok (.lstore_n 3, 1) := dk_66 (dk_at dksX2_label_0 6 rfl rfl)
theorem dX2_label_7 : decode cX2_label 7 = .ok (.lload_n 3, 1) := dk_33 (dk_at dksX2_label_0 7 rfl rfl)
theorem dX2_label_8 : decode cX2_label 8 = .ok (.lconst 0, 1) := dk_9 (dk_at dksX2_label_0 8 rfl rfl)
theorem dX2_label_9 : decode cX2_label 9 = .ok (.lcmp, 1) := dk_148 (dk_at dksX2_label_0 9 rfl rfl)
theorem dX2_label_10 : decode cX2_label 10 = .ok (.ifCond .ne 5, 3) := dk_154 0 5 (dk_at dksX2_label_0 10 rfl rfl)
theorem dX2_label_13 : decode cX2_label 13 = .ok (.iconst (-1), 1) := dk_2 (dk_at dksX2_label_0 13 rfl rfl)
theorem dX2_label_14 : decode cX2_label 14 = .ok (.ireturn, 1) := dk_172 (dk_at dksX2_label_0 14 rfl rfl)
theorem dX2_label_15 : decode cX2_label 15 = .ok (.bipush 19, 2) := dk_16 19 (dk_at dksX2_label_0 15 rfl rfl)
theorem dX2_label_17 : decode cX2_label 17 = .ok (.istore 5, 2) := dk_54 5 (dk_at dksX2_label_0 17 rfl rfl)
theorem dX2_label_19 : decode cX2_label 19 = .ok (.ldc2_w 39, 3) := dk_20 0 39 (dk_at dksX2_label_0 19 rfl rfl)
theorem dX2_label_22 : decode cX2_label 22 = .ok (.aload_n 0, 1) := dk_42 (dk_at dksX2_label_0 22 rfl rfl)
theorem dX2_label_23 : decode cX2_label 23 = .ok (.iload_n 1, 1) := dk_27 (dk_at dksX2_label_0 23 rfl rfl)
theorem dX2_label_24 : decode cX2_label 24 = .ok (.iload 5, 2) := dk_21 5 (dk_at dksX2_label_1 0 rfl rfl)
theorem dX2_label_26 : decode cX2_label 26 = .ok (.invokevirtual 41, 3) := dk_182 0 41 (dk_at dksX2_label_1 2 rfl rfl)
theorem dX2_label_29 : decode cX2_label 29 = .ok (.i2l, 1) := dk_133 (dk_at dksX2_label_1 5 rfl rfl)
theorem dX2_label_30 : decode cX2_label 30 = .ok (.lmul, 1) := dk_105 (dk_at dksX2_label_1 6 rfl rfl)
theorem dX2_label_31 : decode cX2_label 31 = .ok (.lload_n 3, 1) := dk_33 (dk_at dksX2_label_1 7 rfl rfl)
theorem dX2_label_32 : decode cX2_label 32 = .ok (.iload_n 2, 1) := dk_28 (dk_at dksX2_label_1 8 rfl rfl)
theorem dX2_label_33 : decode cX2_label 33 = .ok (.i2l, 1) := dk_133 (dk_at dksX2_label_1 9 rfl rfl)
theorem dX2_label_34 : decode cX2_label 34 = .ok (.lmul, 1) := dk_105 (dk_at dksX2_label_1 10 rfl rfl)
theorem dX2_label_35 : decode cX2_label 35 = .ok (.lcmp, 1) := dk_148 (dk_at dksX2_label_1 11 rfl rfl)
theorem dX2_label_36 : decode cX2_label 36 = .ok (.ifCond .ge 9, 3) := dk_156 0 9 (dk_at dksX2_label_1 12 rfl rfl)
theorem dX2_label_39 : decode cX2_label 39 = .ok (.iinc 5 (-1), 3) := dk_132 5 255 (dk_at dksX2_label_1 15 rfl rfl)
theorem dX2_label_42 : decode cX2_label 42 = .ok (.goto (-23), 3) := dk_167 255 233 (dk_at dksX2_label_1 18 rfl rfl)
theorem dX2_label_45 : decode cX2_label 45 = .ok (.iload 5, 2) := dk_21 5 (dk_at dksX2_label_1 21 rfl rfl)
theorem dX2_label_47 : decode cX2_label 47 = .ok (.ireturn, 1) := dk_172 (dk_at dksX2_label_1 23 rfl rfl)
abbrev cX2_older : ByteArray := prog_18_method_7_code
def yX2_older : MethodName := ⟨RX2, "older", "(II)I"⟩
def dkwX2_older_1 : List UInt8 := [46, 96, 62, 132, 4, 1, 167, 255, 231, 29, 172]
abbrev dktX2_older_1 : List UInt8 := dkwX2_older_1 ++ []
def dkwX2_older_0 : List UInt8 := [3, 62, 28, 54, 4, 21, 4, 16, 20, 162, 0, 24, 29, 42, 180, 0, 9, 16, 20, 27, 104, 21, 4, 96]
abbrev dktX2_older_0 : List UInt8 := dkwX2_older_0 ++ dktX2_older_1
theorem dksX2_older_0 : cX2_older.data.toList.drop 0 = dktX2_older_0 := by decide +kernel
theorem dksX2_older_1 : cX2_older.data.toList.drop 24 = dktX2_older_1 := dk_seg dksX2_older_0 24 rfl rfl
theorem dX2_older_0 : decode cX2_older 0 = .ok (.iconst 0, 1) := dk_3 (dk_at dksX2_older_0 0 rfl rfl)
theorem dX2_older_1 : decode cX2_older 1 = .ok (.istore_n 3, 1) := dk_62 (dk_at dksX2_older_0 1 rfl rfl)
theorem dX2_older_2 : decode cX2_older 2 = .ok (.iload_n 2, 1) := dk_28 (dk_at dksX2_older_0 2 rfl rfl)
theorem dX2_older_3 : decode cX2_older 3 = .ok (.istore 4, 2) := dk_54 4 (dk_at dksX2_older_0 3 rfl rfl)
theorem dX2_older_5 : decode cX2_older 5 = .ok (.iload 4, 2) := dk_21 4 (dk_at dksX2_older_0 5 rfl rfl)
theorem dX2_older_7 : decode cX2_older 7 = .ok (.bipush 20, 2) := dk_16 20 (dk_at dksX2_older_0 7 rfl rfl)
theorem dX2_older_9 : decode cX2_older 9 = .ok (.if_icmp .ge 24, 3) := dk_162 0 24 (dk_at dksX2_older_0 9 rfl rfl)
theorem dX2_older_12 : decode cX2_older 12 = .ok (.iload_n 3, 1) := dk_29 (dk_at dksX2_older_0 12 rfl rfl)
theorem dX2_older_13 : decode cX2_older 13 = .ok (.aload_n 0, 1) := dk_42 (dk_at dksX2_older_0 13 rfl rfl)
theorem dX2_older_14 : decode cX2_older 14 = .ok (.getfield 9, 3) := dk_180 0 9 (dk_at dksX2_older_0 14 rfl rfl)
theorem dX2_older_17 : decode cX2_older 17 = .ok (.bipush 20, 2) := dk_16 20 (dk_at dksX2_older_0 17 rfl rfl)
theorem dX2_older_19 : decode cX2_older 19 = .ok (.iload_n 1, 1) := dk_27 (dk_at dksX2_older_0 19 rfl rfl)
theorem dX2_older_20 : decode cX2_older 20 = .ok (.imul, 1) := dk_104 (dk_at dksX2_older_0 20 rfl rfl)
theorem dX2_older_21 : decode cX2_older 21 = .ok (.iload 4, 2) := dk_21 4 (dk_at dksX2_older_0 21 rfl rfl)
theorem dX2_older_23 : decode cX2_older 23 = .ok (.iadd, 1) := dk_96 (dk_at dksX2_older_0 23 rfl rfl)
theorem dX2_older_24 : decode cX2_older 24 = .ok (.iaload, 1) := dk_46 (dk_at dksX2_older_1 0 rfl rfl)
theorem dX2_older_25 : decode cX2_older 25 = .ok (.iadd, 1) := dk_96 (dk_at dksX2_older_1 1 rfl rfl)
theorem dX2_older_26 : decode cX2_older 26 = .ok (.istore_n 3, 1) := dk_62 (dk_at dksX2_older_1 2 rfl rfl)
theorem dX2_older_27 : decode cX2_older 27 = .ok (.iinc 4 1, 3) := dk_132 4 1 (dk_at dksX2_older_1 3 rfl rfl)
theorem dX2_older_30 : decode cX2_older 30 = .ok (.goto (-25), 3) := dk_167 255 231 (dk_at dksX2_older_1 6 rfl rfl)
theorem dX2_older_33 : decode cX2_older 33 = .ok (.iload_n 3, 1) := dk_29 (dk_at dksX2_older_1 9 rfl rfl)
theorem dX2_older_34 : decode cX2_older 34 = .ok (.ireturn, 1) := dk_172 (dk_at dksX2_older_1 10 rfl rfl)
abbrev cX2_full : ByteArray := prog_18_method_4_code
def yX2_full : MethodName := ⟨RX2, "full", "(I)I"⟩
def dkwX2_full_0 : List UInt8 := [42, 27, 182, 0, 28, 17, 3, 232, 108, 172]
abbrev dktX2_full_0 : List UInt8 := dkwX2_full_0 ++ []
theorem dksX2_full_0 : cX2_full.data.toList.drop 0 = dktX2_full_0 := by decide +kernel
theorem dX2_full_0 : decode cX2_full 0 = .ok (.aload_n 0, 1) := dk_42 (dk_at dksX2_full_0 0 rfl rfl)
theorem dX2_full_1 : decode cX2_full 1 = .ok (.iload_n 1, 1) := dk_27 (dk_at dksX2_full_0 1 rfl rfl)
theorem dX2_full_2 : decode cX2_full 2 = .ok (.invokevirtual 28, 3) := dk_182 0 28 (dk_at dksX2_full_0 2 rfl rfl)
theorem dX2_full_5 : decode cX2_full 5 = .ok (.sipush 1000, 3) := dk_17 3 232 (dk_at dksX2_full_0 5 rfl rfl)
theorem dX2_full_8 : decode cX2_full 8 = .ok (.idiv, 1) := dk_108 (dk_at dksX2_full_0 8 rfl rfl)
theorem dX2_full_9 : decode cX2_full 9 = .ok (.ireturn, 1) := dk_172 (dk_at dksX2_full_0 9 rfl rfl)
abbrev cX2_years : ByteArray := prog_18_method_6_code
def yX2_years : MethodName := ⟨RX2, "years", "(I)I"⟩
def dkwX2_years_0 : List UInt8 := [42, 27, 182, 0, 36, 2, 160, 0, 7, 2, 167, 0, 12, 42, 27, 182, 0, 36, 17, 3, 232, 108, 172]
abbrev dktX2_years_0 : List UInt8 := dkwX2_years_0 ++ []
theorem dksX2_years_0 : cX2_years.data.toList.drop 0 = dktX2_years_0 := by decide +kernel
theorem dX2_years_0 : decode cX2_years 0 = .ok (.aload_n 0, 1) := dk_42 (dk_at dksX2_years_0 0 rfl rfl)
theorem dX2_years_1 : decode cX2_years 1 = .ok (.iload_n 1, 1) := dk_27 (dk_at dksX2_years_0 1 rfl rfl)
theorem dX2_years_2 : decode cX2_years 2 = .ok (.invokevirtual 36, 3) := dk_182 0 36 (dk_at dksX2_years_0 2 rfl rfl)
theorem dX2_years_5 : decode cX2_years 5 = .ok (.iconst (-1), 1) := dk_2 (dk_at dksX2_years_0 5 rfl rfl)
theorem dX2_years_6 : decode cX2_years 6 = .ok (.if_icmp .ne 7, 3) := dk_160 0 7 (dk_at dksX2_years_0 6 rfl rfl)
theorem dX2_years_9 : decode cX2_years 9 = .ok (.iconst (-1), 1) := dk_2 (dk_at dksX2_years_0 9 rfl rfl)
theorem dX2_years_10 : decode cX2_years 10 = .ok (.goto 12, 3) := dk_167 0 12 (dk_at dksX2_years_0 10 rfl rfl)
theorem dX2_years_13 : decode cX2_years 13 = .ok (.aload_n 0, 1) := dk_42 (dk_at dksX2_years_0 13 rfl rfl)
theorem dX2_years_14 : decode cX2_years 14 = .ok (.iload_n 1, 1) := dk_27 (dk_at dksX2_years_0 14 rfl rfl)
theorem dX2_years_15 : decode cX2_years 15 = .ok (.invokevirtual 36, 3) := dk_182 0 36 (dk_at dksX2_years_0 15 rfl rfl)
theorem dX2_years_18 : decode cX2_years 18 = .ok (.sipush 1000, 3) := dk_17 3 232 (dk_at dksX2_years_0 18 rfl rfl)
theorem dX2_years_21 : decode cX2_years 21 = .ok (.idiv, 1) := dk_108 (dk_at dksX2_years_0 21 rfl rfl)
theorem dX2_years_22 : decode cX2_years 22 = .ok (.ireturn, 1) := dk_172 (dk_at dksX2_years_0 22 rfl rfl)
abbrev cX2_draws : ByteArray := prog_18_method_9_code
def yX2_draws : MethodName := ⟨RX2, "draws", "(II[I)V"⟩
def dkwX2_draws_6 : List UInt8 := [96, 92, 46, 4, 100, 79, 132, 6, 255, 132, 7, 255, 167, 255, 198, 177]
abbrev dktX2_draws_6 : List UInt8 := dkwX2_draws_6 ++ []
def dkwX2_draws_5 : List UInt8 := [154, 0, 6, 167, 0, 30, 45, 21, 7, 92, 46, 4, 96, 79, 42, 180, 0, 9, 16, 20, 27, 104, 21, 7]
abbrev dktX2_draws_5 : List UInt8 := dkwX2_draws_5 ++ dktX2_draws_6
def dkwX2_draws_4 : List UInt8 := [21, 7, 155, 0, 59, 21, 6, 158, 0, 54, 42, 180, 0, 9, 16, 20, 27, 104, 21, 7, 96, 46]
abbrev dktX2_draws_4 : List UInt8 := dkwX2_draws_4 ++ dktX2_draws_5
def dkwX2_draws_3 : List UInt8 := [27, 104, 21, 7, 96, 92, 46, 45, 21, 7, 46, 100, 79, 132, 7, 1, 167, 255, 190, 16, 19, 54, 7]
abbrev dktX2_draws_3 : List UInt8 := dkwX2_draws_3 ++ dktX2_draws_4
def dkwX2_draws_2 : List UInt8 := [20, 0, 45, 105, 22, 4, 109, 136, 79, 21, 6, 45, 21, 7, 46, 100, 54, 6, 42, 180, 0, 9, 16, 20]
abbrev dktX2_draws_2 : List UInt8 := dkwX2_draws_2 ++ dktX2_draws_3
def dkwX2_draws_1 : List UInt8 := [162, 0, 65, 45, 21, 7, 42, 180, 0, 9, 16, 20, 27, 104, 21, 7, 96, 46, 133, 28, 133, 105]
abbrev dktX2_draws_1 : List UInt8 := dkwX2_draws_1 ++ dktX2_draws_2
def dkwX2_draws_0 : List UInt8 := [42, 27, 182, 0, 28, 133, 55, 4, 28, 17, 3, 232, 104, 54, 6, 3, 54, 7, 21, 7, 16, 20]
abbrev dktX2_draws_0 : List UInt8 := dkwX2_draws_0 ++ dktX2_draws_1
theorem dksX2_draws_0 : cX2_draws.data.toList.drop 0 = dktX2_draws_0 := by decide +kernel
theorem dksX2_draws_1 : cX2_draws.data.toList.drop 22 = dktX2_draws_1 := dk_seg dksX2_draws_0 22 rfl rfl
theorem dksX2_draws_2 : cX2_draws.data.toList.drop 44 = dktX2_draws_2 := dk_seg dksX2_draws_1 22 rfl rfl
theorem dksX2_draws_3 : cX2_draws.data.toList.drop 68 = dktX2_draws_3 := dk_seg dksX2_draws_2 24 rfl rfl
theorem dksX2_draws_4 : cX2_draws.data.toList.drop 91 = dktX2_draws_4 := dk_seg dksX2_draws_3 23 rfl rfl
theorem dksX2_draws_5 : cX2_draws.data.toList.drop 113 = dktX2_draws_5 := dk_seg dksX2_draws_4 22 rfl rfl
theorem dksX2_draws_6 : cX2_draws.data.toList.drop 137 = dktX2_draws_6 := dk_seg dksX2_draws_5 24 rfl rfl
theorem dX2_draws_0 : decode cX2_draws 0 = .ok (.aload_n 0, 1) := dk_42 (dk_at dksX2_draws_0 0 rfl rfl)
theorem dX2_draws_1 : decode cX2_draws 1 = .ok (.iload_n 1, 1) := dk_27 (dk_at dksX2_draws_0 1 rfl rfl)
theorem dX2_draws_2 : decode cX2_draws 2 = .ok (.invokevirtual 28, 3) := dk_182 0 28 (dk_at dksX2_draws_0 2 rfl rfl)
theorem dX2_draws_5 : decode cX2_draws 5 = .ok (.i2l, 1) := dk_133 (dk_at dksX2_draws_0 5 rfl rfl)
theorem dX2_draws_6 : decode cX2_draws 6 = .ok (.lstore 4, 2) := dk_55 4 (dk_at dksX2_draws_0 6 rfl rfl)
theorem dX2_draws_8 : decode cX2_draws 8 = .ok (.iload_n 2, 1) := dk_28 (dk_at dksX2_draws_0 8 rfl rfl)
theorem dX2_draws_9 : decode cX2_draws 9 = .ok (.sipush 1000, 3) := dk_17 3 232 (dk_at dksX2_draws_0 9 rfl rfl)
theorem dX2_draws_12 : decode cX2_draws 12 = .ok (.imul, 1) := dk_104 (dk_at dksX2_draws_0 12 rfl rfl)
theorem dX2_draws_13 : decode cX2_draws 13 = .ok (.istore 6, 2) := dk_54 6 (dk_at dksX2_draws_0 13 rfl rfl)
theorem dX2_draws_15 : decode cX2_draws 15 = .ok (.iconst 0, 1) := dk_3 (dk_at dksX2_draws_0 15 rfl rfl)
theorem dX2_draws_16 : decode cX2_draws 16 = .ok (.istore 7, 2) := dk_54 7 (dk_at dksX2_draws_0 16 rfl rfl)
theorem dX2_draws_18 : decode cX2_draws 18 = .ok (.iload 7, 2) := dk_21 7 (dk_at dksX2_draws_0 18 rfl rfl)
theorem dX2_draws_20 : decode cX2_draws 20 = .ok (.bipush 20, 2) := dk_16 20 (dk_at dksX2_draws_0 20 rfl rfl)
theorem dX2_draws_22 : decode cX2_draws 22 = .ok (.if_icmp .ge 65, 3) := dk_162 0 65 (dk_at dksX2_draws_1 0 rfl rfl)
theorem dX2_draws_25 : decode cX2_draws 25 = .ok (.aload_n 3, 1) := dk_45 (dk_at dksX2_draws_1 3 rfl rfl)
theorem dX2_draws_26 : decode cX2_draws 26 = .ok (.iload 7, 2) := dk_21 7 (dk_at dksX2_draws_1 4 rfl rfl)
theorem dX2_draws_28 : decode cX2_draws 28 = .ok (.aload_n 0, 1) := dk_42 (dk_at dksX2_draws_1 6 rfl rfl)
theorem dX2_draws_29 : decode cX2_draws 29 = .ok (.getfield 9, 3) := dk_180 0 9 (dk_at dksX2_draws_1 7 rfl rfl)
theorem dX2_draws_32 : decode cX2_draws 32 = .ok (.bipush 20, 2) := dk_16 20 (dk_at dksX2_draws_1 10 rfl rfl)
theorem dX2_draws_34 : decode cX2_draws 34 = .ok (.iload_n 1, 1) := dk_27 (dk_at dksX2_draws_1 12 rfl rfl)
theorem dX2_draws_35 : decode cX2_draws 35 = .ok (.imul, 1) := dk_104 (dk_at dksX2_draws_1 13 rfl rfl)
theorem dX2_draws_36 : decode cX2_draws 36 = .ok (.iload 7, 2) := dk_21 7 (dk_at dksX2_draws_1 14 rfl rfl)
theorem dX2_draws_38 : decode cX2_draws 38 = .ok (.iadd, 1) := dk_96 (dk_at dksX2_draws_1 16 rfl rfl)
theorem dX2_draws_39 : decode cX2_draws 39 = .ok (.iaload, 1) := dk_46 (dk_at dksX2_draws_1 17 rfl rfl)
theorem dX2_draws_40 : decode cX2_draws 40 = .ok (.i2l, 1) := dk_133 (dk_at dksX2_draws_1 18 rfl rfl)
theorem dX2_draws_41 : decode cX2_draws 41 = .ok (.iload_n 2, 1) := dk_28 (dk_at dksX2_draws_1 19 rfl rfl)
theorem dX2_draws_42 : decode cX2_draws 42 = .ok (.i2l, 1) := dk_133 (dk_at dksX2_draws_1 20 rfl rfl)
theorem dX2_draws_43 : decode cX2_draws 43 = .ok (.lmul, 1) := dk_105 (dk_at dksX2_draws_1 21 rfl rfl)
theorem dX2_draws_44 : decode cX2_draws 44 = .ok (.ldc2_w 45, 3) := dk_20 0 45 (dk_at dksX2_draws_2 0 rfl rfl)
theorem dX2_draws_47 : decode cX2_draws 47 = .ok (.lmul, 1) := dk_105 (dk_at dksX2_draws_2 3 rfl rfl)
theorem dX2_draws_48 : decode cX2_draws 48 = .ok (.lload 4, 2) := dk_22 4 (dk_at dksX2_draws_2 4 rfl rfl)
theorem dX2_draws_50 : decode cX2_draws 50 = .ok (.ldiv, 1) := dk_109 (dk_at dksX2_draws_2 6 rfl rfl)
theorem dX2_draws_51 : decode cX2_draws 51 = .ok (.l2i, 1) := dk_136 (dk_at dksX2_draws_2 7 rfl rfl)
theorem dX2_draws_52 : decode cX2_draws 52 = .ok (.iastore, 1) := dk_79 (dk_at dksX2_draws_2 8 rfl rfl)
theorem dX2_draws_53 : decode cX2_draws 53 = .ok (.iload 6, 2) := dk_21 6 (dk_at dksX2_draws_2 9 rfl rfl)
theorem dX2_draws_55 : decode cX2_draws 55 = .ok (.aload_n 3, 1) := dk_45 (dk_at dksX2_draws_2 11 rfl rfl)
theorem dX2_draws_56 : decode cX2_draws 56 = .ok (.iload 7, 2) := dk_21 7 (dk_at dksX2_draws_2 12 rfl rfl)
theorem dX2_draws_58 : decode cX2_draws 58 = .ok (.iaload, 1) := dk_46 (dk_at dksX2_draws_2 14 rfl rfl)
theorem dX2_draws_59 : decode cX2_draws 59 = .ok (.isub, 1) := dk_100 (dk_at dksX2_draws_2 15 rfl rfl)
theorem dX2_draws_60 : decode cX2_draws 60 = .ok (.istore 6, 2) := dk_54 6 (dk_at dksX2_draws_2 16 rfl rfl)
theorem dX2_draws_62 : decode cX2_draws 62 = .ok (.aload_n 0, 1) := dk_42 (dk_at dksX2_draws_2 18 rfl rfl)
theorem dX2_draws_63 : decode cX2_draws 63 = .ok (.getfield 9, 3) := dk_180 0 9 (dk_at dksX2_draws_2 19 rfl rfl)
theorem dX2_draws_66 : decode cX2_draws 66 = .ok (.bipush 20, 2) := dk_16 20 (dk_at dksX2_draws_2 22 rfl rfl)
theorem dX2_draws_68 : decode cX2_draws 68 = .ok (.iload_n 1, 1) := dk_27 (dk_at dksX2_draws_3 0 rfl rfl)
theorem dX2_draws_69 : decode cX2_draws 69 = .ok (.imul, 1) := dk_104 (dk_at dksX2_draws_3 1 rfl rfl)
theorem dX2_draws_70 : decode cX2_draws 70 = .ok (.iload 7, 2) := dk_21 7 (dk_at dksX2_draws_3 2 rfl rfl)
theorem dX2_draws_72 : decode cX2_draws 72 = .ok (.iadd, 1) := dk_96 (dk_at dksX2_draws_3 4 rfl rfl)
theorem dX2_draws_73 : decode cX2_draws 73 = .ok (.dup2, 1) := dk_92 (dk_at dksX2_draws_3 5 rfl rfl)
theorem dX2_draws_74 : decode cX2_draws 74 = .ok (.iaload, 1) := dk_46 (dk_at dksX2_draws_3 6 rfl rfl)
theorem dX2_draws_75 : decode cX2_draws 75 = .ok (.aload_n 3, 1) := dk_45 (dk_at dksX2_draws_3 7 rfl rfl)
theorem dX2_draws_76 : decode cX2_draws 76 = .ok (.iload 7, 2) := dk_21 7 (dk_at dksX2_draws_3 8 rfl rfl)
theorem dX2_draws_78 : decode cX2_draws 78 = .ok (.iaload, 1) := dk_46 (dk_at dksX2_draws_3 10 rfl rfl)
theorem dX2_draws_79 : decode cX2_draws 79 = .ok (.isub, 1) := dk_100 (dk_at dksX2_draws_3 11 rfl rfl)
theorem dX2_draws_80 : decode cX2_draws 80 = .ok (.iastore, 1) := dk_79 (dk_at dksX2_draws_3 12 rfl rfl)
theorem dX2_draws_81 : decode cX2_draws 81 = .ok (.iinc 7 1, 3) := dk_132 7 1 (dk_at dksX2_draws_3 13 rfl rfl)
theorem dX2_draws_84 : decode cX2_draws 84 = .ok (.goto (-66), 3) := dk_167 255 190 (dk_at dksX2_draws_3 16 rfl rfl)
theorem dX2_draws_87 : decode cX2_draws 87 = .ok (.bipush 19, 2) := dk_16 19 (dk_at dksX2_draws_3 19 rfl rfl)
theorem dX2_draws_89 : decode cX2_draws 89 = .ok (.istore 7, 2) := dk_54 7 (dk_at dksX2_draws_3 21 rfl rfl)
theorem dX2_draws_91 : decode cX2_draws 91 = .ok (.iload 7, 2) := dk_21 7 (dk_at dksX2_draws_4 0 rfl rfl)
theorem dX2_draws_93 : decode cX2_draws 93 = .ok (.ifCond .lt 59, 3) := dk_155 0 59 (dk_at dksX2_draws_4 2 rfl rfl)
theorem dX2_draws_96 : decode cX2_draws 96 = .ok (.iload 6, 2) := dk_21 6 (dk_at dksX2_draws_4 5 rfl rfl)
theorem dX2_draws_98 : decode cX2_draws 98 = .ok (.ifCond .le 54, 3) := dk_158 0 54 (dk_at dksX2_draws_4 7 rfl rfl)
theorem dX2_draws_101 : decode cX2_draws 101 = .ok (.aload_n 0, 1) := dk_42 (dk_at dksX2_draws_4 10 rfl rfl)
theorem dX2_draws_102 : decode cX2_draws 102 = .ok (.getfield 9, 3) := dk_180 0 9 (dk_at dksX2_draws_4 11 rfl rfl)
theorem dX2_draws_105 : decode cX2_draws 105 = .ok (.bipush 20, 2) := dk_16 20 (dk_at dksX2_draws_4 14 rfl rfl)
theorem dX2_draws_107 : decode cX2_draws 107 = .ok (.iload_n 1, 1) := dk_27 (dk_at dksX2_draws_4 16 rfl rfl)
theorem dX2_draws_108 : decode cX2_draws 108 = .ok (.imul, 1) := dk_104 (dk_at dksX2_draws_4 17 rfl rfl)
theorem dX2_draws_109 : decode cX2_draws 109 = .ok (.iload 7, 2) := dk_21 7 (dk_at dksX2_draws_4 18 rfl rfl)
theorem dX2_draws_111 : decode cX2_draws 111 = .ok (.iadd, 1) := dk_96 (dk_at dksX2_draws_4 20 rfl rfl)
theorem dX2_draws_112 : decode cX2_draws 112 = .ok (.iaload, 1) := dk_46 (dk_at dksX2_draws_4 21 rfl rfl)
theorem dX2_draws_113 : decode cX2_draws 113 = .ok (.ifCond .ne 6, 3) := dk_154 0 6 (dk_at dksX2_draws_5 0 rfl rfl)
theorem dX2_draws_116 : decode cX2_draws 116 = .ok (.goto 30, 3) := dk_167 0 30 (dk_at dksX2_draws_5 3 rfl rfl)
theorem dX2_draws_119 : decode cX2_draws 119 = .ok (.aload_n 3, 1) := dk_45 (dk_at dksX2_draws_5 6 rfl rfl)
theorem dX2_draws_120 : decode cX2_draws 120 = .ok (.iload 7, 2) := dk_21 7 (dk_at dksX2_draws_5 7 rfl rfl)
theorem dX2_draws_122 : decode cX2_draws 122 = .ok (.dup2, 1) := dk_92 (dk_at dksX2_draws_5 9 rfl rfl)
theorem dX2_draws_123 : decode cX2_draws 123 = .ok (.iaload, 1) := dk_46 (dk_at dksX2_draws_5 10 rfl rfl)
theorem dX2_draws_124 : decode cX2_draws 124 = .ok (.iconst 1, 1) := dk_4 (dk_at dksX2_draws_5 11 rfl rfl)
theorem dX2_draws_125 : decode cX2_draws 125 = .ok (.iadd, 1) := dk_96 (dk_at dksX2_draws_5 12 rfl rfl)
theorem dX2_draws_126 : decode cX2_draws 126 = .ok (.iastore, 1) := dk_79 (dk_at dksX2_draws_5 13 rfl rfl)
theorem dX2_draws_127 : decode cX2_draws 127 = .ok (.aload_n 0, 1) := dk_42 (dk_at dksX2_draws_5 14 rfl rfl)
theorem dX2_draws_128 : decode cX2_draws 128 = .ok (.getfield 9, 3) := dk_180 0 9 (dk_at dksX2_draws_5 15 rfl rfl)
theorem dX2_draws_131 : decode cX2_draws 131 = .ok (.bipush 20, 2) := dk_16 20 (dk_at dksX2_draws_5 18 rfl rfl)
theorem dX2_draws_133 : decode cX2_draws 133 = .ok (.iload_n 1, 1) := dk_27 (dk_at dksX2_draws_5 20 rfl rfl)
theorem dX2_draws_134 : decode cX2_draws 134 = .ok (.imul, 1) := dk_104 (dk_at dksX2_draws_5 21 rfl rfl)
theorem dX2_draws_135 : decode cX2_draws 135 = .ok (.iload 7, 2) := dk_21 7 (dk_at dksX2_draws_5 22 rfl rfl)
theorem dX2_draws_137 : decode cX2_draws 137 = .ok (.iadd, 1) := dk_96 (dk_at dksX2_draws_6 0 rfl rfl)
theorem dX2_draws_138 : decode cX2_draws 138 = .ok (.dup2, 1) := dk_92 (dk_at dksX2_draws_6 1 rfl rfl)
theorem dX2_draws_139 : decode cX2_draws 139 = .ok (.iaload, 1) := dk_46 (dk_at dksX2_draws_6 2 rfl rfl)
theorem dX2_draws_140 : decode cX2_draws 140 = .ok (.iconst 1, 1) := dk_4 (dk_at dksX2_draws_6 3 rfl rfl)
theorem dX2_draws_141 : decode cX2_draws 141 = .ok (.isub, 1) := dk_100 (dk_at dksX2_draws_6 4 rfl rfl)
theorem dX2_draws_142 : decode cX2_draws 142 = .ok (.iastore, 1) := dk_79 (dk_at dksX2_draws_6 5 rfl rfl)
theorem dX2_draws_143 : decode cX2_draws 143 = .ok (.iinc 6 (-1), 3) := dk_132 6 255 (dk_at dksX2_draws_6 6 rfl rfl)
theorem dX2_draws_146 : decode cX2_draws 146 = .ok (.iinc 7 (-1), 3) := dk_132 7 255 (dk_at dksX2_draws_6 9 rfl rfl)
theorem dX2_draws_149 : decode cX2_draws 149 = .ok (.goto (-58), 3) := dk_167 255 198 (dk_at dksX2_draws_6 12 rfl rfl)
theorem dX2_draws_152 : decode cX2_draws 152 = .ok (.return_, 1) := dk_177 (dk_at dksX2_draws_6 15 rfl rfl)
abbrev cX2_comes : ByteArray := prog_18_method_10_code
def yX2_comes : MethodName := ⟨RX2, "comes", "(I[I)V"⟩
def dkwX2_comes_1 : List UInt8 := [79, 132, 3, 1, 167, 255, 230, 177]
abbrev dktX2_comes_1 : List UInt8 := dkwX2_comes_1 ++ []
def dkwX2_comes_0 : List UInt8 := [3, 62, 29, 16, 20, 162, 0, 26, 42, 180, 0, 9, 16, 20, 27, 104, 29, 96, 92, 46, 44, 29, 46, 96]
abbrev dktX2_comes_0 : List UInt8 := dkwX2_comes_0 ++ dktX2_comes_1
theorem dksX2_comes_0 : cX2_comes.data.toList.drop 0 = dktX2_comes_0 := by decide +kernel
theorem dksX2_comes_1 : cX2_comes.data.toList.drop 24 = dktX2_comes_1 := dk_seg dksX2_comes_0 24 rfl rfl
theorem dX2_comes_0 : decode cX2_comes 0 = .ok (.iconst 0, 1) := dk_3 (dk_at dksX2_comes_0 0 rfl rfl)
theorem dX2_comes_1 : decode cX2_comes 1 = .ok (.istore_n 3, 1) := dk_62 (dk_at dksX2_comes_0 1 rfl rfl)
theorem dX2_comes_2 : decode cX2_comes 2 = .ok (.iload_n 3, 1) := dk_29 (dk_at dksX2_comes_0 2 rfl rfl)
theorem dX2_comes_3 : decode cX2_comes 3 = .ok (.bipush 20, 2) := dk_16 20 (dk_at dksX2_comes_0 3 rfl rfl)
theorem dX2_comes_5 : decode cX2_comes 5 = .ok (.if_icmp .ge 26, 3) := dk_162 0 26 (dk_at dksX2_comes_0 5 rfl rfl)
theorem dX2_comes_8 : decode cX2_comes 8 = .ok (.aload_n 0, 1) := dk_42 (dk_at dksX2_comes_0 8 rfl rfl)
theorem dX2_comes_9 : decode cX2_comes 9 = .ok (.getfield 9, 3) := dk_180 0 9 (dk_at dksX2_comes_0 9 rfl rfl)
theorem dX2_comes_12 : decode cX2_comes 12 = .ok (.bipush 20, 2) := dk_16 20 (dk_at dksX2_comes_0 12 rfl rfl)
theorem dX2_comes_14 : decode cX2_comes 14 = .ok (.iload_n 1, 1) := dk_27 (dk_at dksX2_comes_0 14 rfl rfl)
theorem dX2_comes_15 : decode cX2_comes 15 = .ok (.imul, 1) := dk_104 (dk_at dksX2_comes_0 15 rfl rfl)
theorem dX2_comes_16 : decode cX2_comes 16 = .ok (.iload_n 3, 1) := dk_29 (dk_at dksX2_comes_0 16 rfl rfl)
theorem dX2_comes_17 : decode cX2_comes 17 = .ok (.iadd, 1) := dk_96 (dk_at dksX2_comes_0 17 rfl rfl)
theorem dX2_comes_18 : decode cX2_comes 18 = .ok (.dup2, 1) := dk_92 (dk_at dksX2_comes_0 18 rfl rfl)
theorem dX2_comes_19 : decode cX2_comes 19 = .ok (.iaload, 1) := dk_46 (dk_at dksX2_comes_0 19 rfl rfl)
theorem dX2_comes_20 : decode cX2_comes 20 = .ok (.aload_n 2, 1) := dk_44 (dk_at dksX2_comes_0 20 rfl rfl)
theorem dX2_comes_21 : decode cX2_comes 21 = .ok (.iload_n 3, 1) := dk_29 (dk_at dksX2_comes_0 21 rfl rfl)
theorem dX2_comes_22 : decode cX2_comes 22 = .ok (.iaload, 1) := dk_46 (dk_at dksX2_comes_0 22 rfl rfl)
theorem dX2_comes_23 : decode cX2_comes 23 = .ok (.iadd, 1) := dk_96 (dk_at dksX2_comes_0 23 rfl rfl)
theorem dX2_comes_24 : decode cX2_comes 24 = .ok (.iastore, 1) := dk_79 (dk_at dksX2_comes_1 0 rfl rfl)
theorem dX2_comes_25 : decode cX2_comes 25 = .ok (.iinc 3 1, 3) := dk_132 3 1 (dk_at dksX2_comes_1 1 rfl rfl)
theorem dX2_comes_28 : decode cX2_comes 28 = .ok (.goto (-26), 3) := dk_167 255 230 (dk_at dksX2_comes_1 4 rfl rfl)
theorem dX2_comes_31 : decode cX2_comes 31 = .ok (.return_, 1) := dk_177 (dk_at dksX2_comes_1 7 rfl rfl)
abbrev cX2_ages : ByteArray := prog_18_method_11_code
def yX2_ages : MethodName := ⟨RX2, "ages", "(I)V"⟩
def dkwX2_ages_2 : List UInt8 := [28, 29, 96, 4, 100, 46, 79, 132, 3, 255, 167, 255, 231, 42, 180, 0, 9, 28, 3, 79, 177]
abbrev dktX2_ages_2 : List UInt8 := dkwX2_ages_2 ++ []
def dkwX2_ages_1 : List UInt8 := [96, 5, 100, 46, 96, 79, 16, 18, 62, 29, 158, 0, 27, 42, 180, 0, 9, 28, 29, 96, 42, 180, 0, 9]
abbrev dktX2_ages_1 : List UInt8 := dkwX2_ages_1 ++ dktX2_ages_2
def dkwX2_ages_0 : List UInt8 := [16, 20, 27, 104, 61, 42, 180, 0, 9, 28, 16, 20, 96, 4, 100, 92, 46, 42, 180, 0, 9, 28, 16, 20]
abbrev dktX2_ages_0 : List UInt8 := dkwX2_ages_0 ++ dktX2_ages_1
theorem dksX2_ages_0 : cX2_ages.data.toList.drop 0 = dktX2_ages_0 := by decide +kernel
theorem dksX2_ages_1 : cX2_ages.data.toList.drop 24 = dktX2_ages_1 := dk_seg dksX2_ages_0 24 rfl rfl
theorem dksX2_ages_2 : cX2_ages.data.toList.drop 48 = dktX2_ages_2 := dk_seg dksX2_ages_1 24 rfl rfl
theorem dX2_ages_0 : decode cX2_ages 0 = .ok (.bipush 20, 2) := dk_16 20 (dk_at dksX2_ages_0 0 rfl rfl)
theorem dX2_ages_2 : decode cX2_ages 2 = .ok (.iload_n 1, 1) := dk_27 (dk_at dksX2_ages_0 2 rfl rfl)
theorem dX2_ages_3 : decode cX2_ages 3 = .ok (.imul, 1) := dk_104 (dk_at dksX2_ages_0 3 rfl rfl)
theorem dX2_ages_4 : decode cX2_ages 4 = .ok (.istore_n 2, 1) := dk_61 (dk_at dksX2_ages_0 4 rfl rfl)
theorem dX2_ages_5 : decode cX2_ages 5 = .ok (.aload_n 0, 1) := dk_42 (dk_at dksX2_ages_0 5 rfl rfl)
theorem dX2_ages_6 : decode cX2_ages 6 = .ok (.getfield 9, 3) := dk_180 0 9 (dk_at dksX2_ages_0 6 rfl rfl)
theorem dX2_ages_9 : decode cX2_ages 9 = .ok (.iload_n 2, 1) := dk_28 (dk_at dksX2_ages_0 9 rfl rfl)
theorem dX2_ages_10 : decode cX2_ages 10 = .ok (.bipush 20, 2) := dk_16 20 (dk_at dksX2_ages_0 10 rfl rfl)
theorem dX2_ages_12 : decode cX2_ages 12 = .ok (.iadd, 1) := dk_96 (dk_at dksX2_ages_0 12 rfl rfl)
theorem dX2_ages_13 : decode cX2_ages 13 = .ok (.iconst 1, 1) := dk_4 (dk_at dksX2_ages_0 13 rfl rfl)
theorem dX2_ages_14 : decode cX2_ages 14 = .ok (.isub, 1) := dk_100 (dk_at dksX2_ages_0 14 rfl rfl)
theorem dX2_ages_15 : decode cX2_ages 15 = .ok (.dup2, 1) := dk_92 (dk_at dksX2_ages_0 15 rfl rfl)
theorem dX2_ages_16 : decode cX2_ages 16 = .ok (.iaload, 1) := dk_46 (dk_at dksX2_ages_0 16 rfl rfl)
theorem dX2_ages_17 : decode cX2_ages 17 = .ok (.aload_n 0, 1) := dk_42 (dk_at dksX2_ages_0 17 rfl rfl)
theorem dX2_ages_18 : decode cX2_ages 18 = .ok (.getfield 9, 3) := dk_180 0 9 (dk_at dksX2_ages_0 18 rfl rfl)
theorem dX2_ages_21 : decode cX2_ages 21 = .ok (.iload_n 2, 1) := dk_28 (dk_at dksX2_ages_0 21 rfl rfl)
theorem dX2_ages_22 : decode cX2_ages 22 = .ok (.bipush 20, 2) := dk_16 20 (dk_at dksX2_ages_0 22 rfl rfl)
theorem dX2_ages_24 : decode cX2_ages 24 = .ok (.iadd, 1) := dk_96 (dk_at dksX2_ages_1 0 rfl rfl)
theorem dX2_ages_25 : decode cX2_ages 25 = .ok (.iconst 2, 1) := dk_5 (dk_at dksX2_ages_1 1 rfl rfl)
theorem dX2_ages_26 : decode cX2_ages 26 = .ok (.isub, 1) := dk_100 (dk_at dksX2_ages_1 2 rfl rfl)
theorem dX2_ages_27 : decode cX2_ages 27 = .ok (.iaload, 1) := dk_46 (dk_at dksX2_ages_1 3 rfl rfl)
theorem dX2_ages_28 : decode cX2_ages 28 = .ok (.iadd, 1) := dk_96 (dk_at dksX2_ages_1 4 rfl rfl)
theorem dX2_ages_29 : decode cX2_ages 29 = .ok (.iastore, 1) := dk_79 (dk_at dksX2_ages_1 5 rfl rfl)
theorem dX2_ages_30 : decode cX2_ages 30 = .ok (.bipush 18, 2) := dk_16 18 (dk_at dksX2_ages_1 6 rfl rfl)
theorem dX2_ages_32 : decode cX2_ages 32 = .ok (.istore_n 3, 1) := dk_62 (dk_at dksX2_ages_1 8 rfl rfl)
theorem dX2_ages_33 : decode cX2_ages 33 = .ok (.iload_n 3, 1) := dk_29 (dk_at dksX2_ages_1 9 rfl rfl)
theorem dX2_ages_34 : decode cX2_ages 34 = .ok (.ifCond .le 27, 3) := dk_158 0 27 (dk_at dksX2_ages_1 10 rfl rfl)
theorem dX2_ages_37 : decode cX2_ages 37 = .ok (.aload_n 0, 1) := dk_42 (dk_at dksX2_ages_1 13 rfl rfl)
theorem dX2_ages_38 : decode cX2_ages 38 = .ok (.getfield 9, 3) := dk_180 0 9 (dk_at dksX2_ages_1 14 rfl rfl)
theorem dX2_ages_41 : decode cX2_ages 41 = .ok (.iload_n 2, 1) := dk_28 (dk_at dksX2_ages_1 17 rfl rfl)
theorem dX2_ages_42 : decode cX2_ages 42 = .ok (.iload_n 3, 1) := dk_29 (dk_at dksX2_ages_1 18 rfl rfl)
theorem dX2_ages_43 : decode cX2_ages 43 = .ok (.iadd, 1) := dk_96 (dk_at dksX2_ages_1 19 rfl rfl)
theorem dX2_ages_44 : decode cX2_ages 44 = .ok (.aload_n 0, 1) := dk_42 (dk_at dksX2_ages_1 20 rfl rfl)
theorem dX2_ages_45 : decode cX2_ages 45 = .ok (.getfield 9, 3) := dk_180 0 9 (dk_at dksX2_ages_1 21 rfl rfl)
theorem dX2_ages_48 : decode cX2_ages 48 = .ok (.iload_n 2, 1) := dk_28 (dk_at dksX2_ages_2 0 rfl rfl)
theorem dX2_ages_49 : decode cX2_ages 49 = .ok (.iload_n 3, 1) := dk_29 (dk_at dksX2_ages_2 1 rfl rfl)
theorem dX2_ages_50 : decode cX2_ages 50 = .ok (.iadd, 1) := dk_96 (dk_at dksX2_ages_2 2 rfl rfl)
theorem dX2_ages_51 : decode cX2_ages 51 = .ok (.iconst 1, 1) := dk_4 (dk_at dksX2_ages_2 3 rfl rfl)
theorem dX2_ages_52 : decode cX2_ages 52 = .ok (.isub, 1) := dk_100 (dk_at dksX2_ages_2 4 rfl rfl)
theorem dX2_ages_53 : decode cX2_ages 53 = .ok (.iaload, 1) := dk_46 (dk_at dksX2_ages_2 5 rfl rfl)
theorem dX2_ages_54 : decode cX2_ages 54 = .ok (.iastore, 1) := dk_79 (dk_at dksX2_ages_2 6 rfl rfl)
theorem dX2_ages_55 : decode cX2_ages 55 = .ok (.iinc 3 (-1), 3) := dk_132 3 255 (dk_at dksX2_ages_2 7 rfl rfl)
theorem dX2_ages_58 : decode cX2_ages 58 = .ok (.goto (-25), 3) := dk_167 255 231 (dk_at dksX2_ages_2 10 rfl rfl)
theorem dX2_ages_61 : decode cX2_ages 61 = .ok (.aload_n 0, 1) := dk_42 (dk_at dksX2_ages_2 13 rfl rfl)
theorem dX2_ages_62 : decode cX2_ages 62 = .ok (.getfield 9, 3) := dk_180 0 9 (dk_at dksX2_ages_2 14 rfl rfl)
theorem dX2_ages_65 : decode cX2_ages 65 = .ok (.iload_n 2, 1) := dk_28 (dk_at dksX2_ages_2 17 rfl rfl)
theorem dX2_ages_66 : decode cX2_ages 66 = .ok (.iconst 0, 1) := dk_3 (dk_at dksX2_ages_2 18 rfl rfl)
theorem dX2_ages_67 : decode cX2_ages 67 = .ok (.iastore, 1) := dk_79 (dk_at dksX2_ages_2 19 rfl rfl)
theorem dX2_ages_68 : decode cX2_ages 68 = .ok (.return_, 1) := dk_177 (dk_at dksX2_ages_2 20 rfl rfl)
theorem q134 : (Jvm.Cond.initialized "SoleraCellar$Table") ∈ lw_all := lw_g (lw_at lw_m1 3 rfl) rfl
theorem q183 : (Jvm.Cond.instantiable "SoleraCellar$Table" (3 : Nat)) ∈ lw_all := lw_g (lw_at lw_m1 52 rfl) rfl
theorem q185 : (Jvm.Cond.instanceMethod ({ cls := "SoleraCellar$Table", name := "<init>", desc := "()V" } : Jvm.MethodName)) ∈ lw_all := lw_g (lw_at lw_m1 54 rfl) rfl
theorem q186 : (Jvm.Cond.code ({ cls := "SoleraCellar$Table", name := "<init>", desc := "()V" } : Jvm.MethodName) prog_18_method_1_code (1 : Nat) (Option.none : Option Jvm.ClassFile.FieldType)) ∈ lw_all := lw_g (lw_at lw_m1 55 rfl) rfl
theorem q187 : (Jvm.Cond.methodLink "SoleraCellar$Table" (3 : Nat) ({ cls := "java/lang/Object", name := "<init>", desc := "()V" } : Jvm.MethodName)) ∈ lw_all := lw_g (lw_at lw_m1 56 rfl) rfl
theorem q188 : (Jvm.Cond.fieldLink "SoleraCellar$Table" (9 : Nat) "SoleraCellar$Table" "drops" "[I") ∈ lw_all := lw_g (lw_at lw_m1 57 rfl) rfl
theorem q190 : (Jvm.Cond.fieldLink "SoleraCellar$Table" (21 : Nat) "SoleraCellar$Table" "bottled" "I") ∈ lw_all := lw_g (lw_at lw_m1 59 rfl) rfl
theorem q192 : (Jvm.Cond.fieldLink "SoleraCellar$Table" (25 : Nat) "SoleraCellar$Table" "year" "I") ∈ lw_all := lw_g (lw_at lw_m1 61 rfl) rfl
theorem q194 : (Jvm.Cond.laysFinal "SoleraCellar$Table" "SoleraCellar$Table" "drops" "[I") ∈ lw_all := lw_g (lw_at lw_m1 63 rfl) rfl
theorem q195 : (Jvm.Cond.soleField "SoleraCellar$Table" "drops") ∈ lw_all := lw_g (lw_at lw_m1 64 rfl) rfl
theorem q196 : (Jvm.Cond.lays "SoleraCellar$Table" "SoleraCellar$Table" "bottled" "I") ∈ lw_all := lw_g (lw_at lw_m1 65 rfl) rfl
theorem q197 : (Jvm.Cond.soleField "SoleraCellar$Table" "bottled") ∈ lw_all := lw_g (lw_at lw_m1 66 rfl) rfl
theorem q198 : (Jvm.Cond.lays "SoleraCellar$Table" "SoleraCellar$Table" "year" "I") ∈ lw_all := lw_g (lw_at lw_m1 67 rfl) rfl
theorem q199 : (Jvm.Cond.soleField "SoleraCellar$Table" "year") ∈ lw_all := lw_g (lw_at lw_m1 68 rfl) rfl
theorem q200 : (Jvm.Cond.superclass "SoleraCellar$Table" "java/lang/Object") ∈ lw_all := lw_g (lw_at lw_m1 69 rfl) rfl
theorem q456 : (Jvm.Cond.instanceMethod ({ cls := "SoleraCellar$Table", name := "takes", desc := "(LSoleraCellar$Table;)V" } : Jvm.MethodName)) ∈ lw_all := lw_g (lw_at lw_m2 85 rfl) rfl
theorem q457 : (Jvm.Cond.selects "SoleraCellar$Table" ({ cls := "SoleraCellar$Table", name := "takes", desc := "(LSoleraCellar$Table;)V" } : Jvm.MethodName) ({ cls := "SoleraCellar$Table", name := "takes", desc := "(LSoleraCellar$Table;)V" } : Jvm.MethodName)) ∈ lw_all := lw_g (lw_at lw_m2 86 rfl) rfl
theorem q458 : (Jvm.Cond.code ({ cls := "SoleraCellar$Table", name := "takes", desc := "(LSoleraCellar$Table;)V" } : Jvm.MethodName) prog_18_method_2_code (2 : Nat) (Option.none : Option Jvm.ClassFile.FieldType)) ∈ lw_all := lw_g (lw_at lw_m2 87 rfl) rfl
theorem q459 : (Jvm.Cond.methodLink "SoleraCellar$Table" (15 : Nat) ({ cls := "java/lang/System", name := "arraycopy", desc := "(Ljava/lang/Object;ILjava/lang/Object;II)V" } : Jvm.MethodName)) ∈ lw_all := lw_g (lw_at lw_m2 88 rfl) rfl
theorem q502 : (Jvm.Cond.selects "SoleraCellar$Table" ({ cls := "java/lang/Object", name := "getClass", desc := "()Ljava/lang/Class;" } : Jvm.MethodName) ({ cls := "java/lang/Object", name := "getClass", desc := "()Ljava/lang/Class;" } : Jvm.MethodName)) ∈ lw_all := lw_g (lw_at lw_m2 131 rfl) rfl
theorem q571 : (Jvm.Cond.instanceMethod ({ cls := "SoleraCellar$Table", name := "all", desc := "(I)I" } : Jvm.MethodName)) ∈ lw_all := lw_g (lw_at lw_m2 200 rfl) rfl
theorem q572 : (Jvm.Cond.selects "SoleraCellar$Table" ({ cls := "SoleraCellar$Table", name := "all", desc := "(I)I" } : Jvm.MethodName) ({ cls := "SoleraCellar$Table", name := "all", desc := "(I)I" } : Jvm.MethodName)) ∈ lw_all := lw_g (lw_at lw_m2 201 rfl) rfl
theorem q573 : (Jvm.Cond.code ({ cls := "SoleraCellar$Table", name := "all", desc := "(I)I" } : Jvm.MethodName) prog_18_method_3_code (4 : Nat) (Option.some Jvm.ClassFile.FieldType.int)) ∈ lw_all := lw_g (lw_at lw_m2 202 rfl) rfl
theorem q575 : (Jvm.Cond.instanceMethod ({ cls := "SoleraCellar$Table", name := "mean", desc := "(I)I" } : Jvm.MethodName)) ∈ lw_all := lw_g (lw_at lw_m2 204 rfl) rfl
theorem q576 : (Jvm.Cond.selects "SoleraCellar$Table" ({ cls := "SoleraCellar$Table", name := "mean", desc := "(I)I" } : Jvm.MethodName) ({ cls := "SoleraCellar$Table", name := "mean", desc := "(I)I" } : Jvm.MethodName)) ∈ lw_all := lw_g (lw_at lw_m2 205 rfl) rfl
theorem q577 : (Jvm.Cond.code ({ cls := "SoleraCellar$Table", name := "mean", desc := "(I)I" } : Jvm.MethodName) prog_18_method_5_code (2 : Nat) (Option.some Jvm.ClassFile.FieldType.int)) ∈ lw_all := lw_g (lw_at lw_m2 206 rfl) rfl
theorem q578 : (Jvm.Cond.methodLinkNest "SoleraCellar$Table" (32 : Nat) ({ cls := "SoleraCellar", name := "meanOf", desc := "([II)I" } : Jvm.MethodName) "SoleraCellar") ∈ lw_tbl := lw_at lw_m2 207 rfl
theorem q583 : (Jvm.Cond.instanceMethod ({ cls := "SoleraCellar$Table", name := "label", desc := "(II)I" } : Jvm.MethodName)) ∈ lw_all := lw_g (lw_at lw_m2 212 rfl) rfl
theorem q584 : (Jvm.Cond.selects "SoleraCellar$Table" ({ cls := "SoleraCellar$Table", name := "label", desc := "(II)I" } : Jvm.MethodName) ({ cls := "SoleraCellar$Table", name := "label", desc := "(II)I" } : Jvm.MethodName)) ∈ lw_all := lw_g (lw_at lw_m2 213 rfl) rfl
theorem q585 : (Jvm.Cond.code ({ cls := "SoleraCellar$Table", name := "label", desc := "(II)I" } : Jvm.MethodName) prog_18_method_8_code (6 : Nat) (Option.some Jvm.ClassFile.FieldType.int)) ∈ lw_all := lw_g (lw_at lw_m2 214 rfl) rfl
theorem q586 : (Jvm.Cond.methodLink "SoleraCellar$Table" (28 : Nat) ({ cls := "SoleraCellar$Table", name := "all", desc := "(I)I" } : Jvm.MethodName)) ∈ lw_all := lw_g (lw_at lw_m2 215 rfl) rfl
theorem q587 : (Jvm.Cond.constantLong "SoleraCellar$Table" (39 : Nat) (100 : Int64)) ∈ lw_all := lw_g (lw_at lw_m2 216 rfl) rfl
theorem q588 : (Jvm.Cond.methodLink "SoleraCellar$Table" (41 : Nat) ({ cls := "SoleraCellar$Table", name := "older", desc := "(II)I" } : Jvm.MethodName)) ∈ lw_all := lw_g (lw_at lw_m2 217 rfl) rfl
theorem q589 : (Jvm.Cond.instanceMethod ({ cls := "SoleraCellar$Table", name := "older", desc := "(II)I" } : Jvm.MethodName)) ∈ lw_all := lw_g (lw_at lw_m2 218 rfl) rfl
theorem q590 : (Jvm.Cond.selects "SoleraCellar$Table" ({ cls := "SoleraCellar$Table", name := "older", desc := "(II)I" } : Jvm.MethodName) ({ cls := "SoleraCellar$Table", name := "older", desc := "(II)I" } : Jvm.MethodName)) ∈ lw_all := lw_g (lw_at lw_m2 219 rfl) rfl
theorem q591 : (Jvm.Cond.code ({ cls := "SoleraCellar$Table", name := "older", desc := "(II)I" } : Jvm.MethodName) prog_18_method_7_code (5 : Nat) (Option.some Jvm.ClassFile.FieldType.int)) ∈ lw_all := lw_g (lw_at lw_m2 220 rfl) rfl
theorem q602 : (Jvm.Cond.instanceMethod ({ cls := "SoleraCellar$Table", name := "full", desc := "(I)I" } : Jvm.MethodName)) ∈ lw_all := lw_g (lw_at lw_m2 231 rfl) rfl
theorem q603 : (Jvm.Cond.selects "SoleraCellar$Table" ({ cls := "SoleraCellar$Table", name := "full", desc := "(I)I" } : Jvm.MethodName) ({ cls := "SoleraCellar$Table", name := "full", desc := "(I)I" } : Jvm.MethodName)) ∈ lw_all := lw_g (lw_at lw_m2 232 rfl) rfl
theorem q604 : (Jvm.Cond.code ({ cls := "SoleraCellar$Table", name := "full", desc := "(I)I" } : Jvm.MethodName) prog_18_method_4_code (2 : Nat) (Option.some Jvm.ClassFile.FieldType.int)) ∈ lw_all := lw_g (lw_at lw_m2 233 rfl) rfl
theorem q606 : (Jvm.Cond.instanceMethod ({ cls := "SoleraCellar$Table", name := "years", desc := "(I)I" } : Jvm.MethodName)) ∈ lw_all := lw_g (lw_at lw_m2 235 rfl) rfl
theorem q607 : (Jvm.Cond.selects "SoleraCellar$Table" ({ cls := "SoleraCellar$Table", name := "years", desc := "(I)I" } : Jvm.MethodName) ({ cls := "SoleraCellar$Table", name := "years", desc := "(I)I" } : Jvm.MethodName)) ∈ lw_all := lw_g (lw_at lw_m2 236 rfl) rfl
theorem q608 : (Jvm.Cond.code ({ cls := "SoleraCellar$Table", name := "years", desc := "(I)I" } : Jvm.MethodName) prog_18_method_6_code (2 : Nat) (Option.some Jvm.ClassFile.FieldType.int)) ∈ lw_all := lw_g (lw_at lw_m2 237 rfl) rfl
theorem q609 : (Jvm.Cond.methodLink "SoleraCellar$Table" (36 : Nat) ({ cls := "SoleraCellar$Table", name := "mean", desc := "(I)I" } : Jvm.MethodName)) ∈ lw_all := lw_g (lw_at lw_m2 238 rfl) rfl
theorem q1310 : (Jvm.Cond.instanceMethod ({ cls := "SoleraCellar$Table", name := "draws", desc := "(II[I)V" } : Jvm.MethodName)) ∈ lw_all := lw_g (lw_at lw_m5 219 rfl) rfl
theorem q1311 : (Jvm.Cond.selects "SoleraCellar$Table" ({ cls := "SoleraCellar$Table", name := "draws", desc := "(II[I)V" } : Jvm.MethodName) ({ cls := "SoleraCellar$Table", name := "draws", desc := "(II[I)V" } : Jvm.MethodName)) ∈ lw_all := lw_g (lw_at lw_m5 220 rfl) rfl
theorem q1312 : (Jvm.Cond.code ({ cls := "SoleraCellar$Table", name := "draws", desc := "(II[I)V" } : Jvm.MethodName) prog_18_method_9_code (8 : Nat) (Option.none : Option Jvm.ClassFile.FieldType)) ∈ lw_all := lw_g (lw_at lw_m5 221 rfl) rfl
theorem q1313 : (Jvm.Cond.constantLong "SoleraCellar$Table" (45 : Nat) (1000 : Int64)) ∈ lw_all := lw_g (lw_at lw_m5 222 rfl) rfl
theorem q1315 : (Jvm.Cond.instanceMethod ({ cls := "SoleraCellar$Table", name := "comes", desc := "(I[I)V" } : Jvm.MethodName)) ∈ lw_all := lw_g (lw_at lw_m5 224 rfl) rfl
theorem q1316 : (Jvm.Cond.selects "SoleraCellar$Table" ({ cls := "SoleraCellar$Table", name := "comes", desc := "(I[I)V" } : Jvm.MethodName) ({ cls := "SoleraCellar$Table", name := "comes", desc := "(I[I)V" } : Jvm.MethodName)) ∈ lw_all := lw_g (lw_at lw_m5 225 rfl) rfl
theorem q1317 : (Jvm.Cond.code ({ cls := "SoleraCellar$Table", name := "comes", desc := "(I[I)V" } : Jvm.MethodName) prog_18_method_10_code (4 : Nat) (Option.none : Option Jvm.ClassFile.FieldType)) ∈ lw_all := lw_g (lw_at lw_m5 226 rfl) rfl
theorem q1350 : (Jvm.Cond.instanceMethod ({ cls := "SoleraCellar$Table", name := "ages", desc := "(I)V" } : Jvm.MethodName)) ∈ lw_all := lw_g (lw_at lw_m6 19 rfl) rfl
theorem q1351 : (Jvm.Cond.selects "SoleraCellar$Table" ({ cls := "SoleraCellar$Table", name := "ages", desc := "(I)V" } : Jvm.MethodName) ({ cls := "SoleraCellar$Table", name := "ages", desc := "(I)V" } : Jvm.MethodName)) ∈ lw_all := lw_g (lw_at lw_m6 20 rfl) rfl
theorem q1352 : (Jvm.Cond.code ({ cls := "SoleraCellar$Table", name := "ages", desc := "(I)V" } : Jvm.MethodName) prog_18_method_11_code (4 : Nat) (Option.none : Option Jvm.ClassFile.FieldType)) ∈ lw_all := lw_g (lw_at lw_m6 21 rfl) rfl
theorem q2245 : (Jvm.Cond.castable "SoleraCellar$Table" "java/lang/Object") ∈ lw_tbl := lw_at lw_m9 194 rfl
theorem in_X2 : ∀ w ∈ wsX20, w ∈ lw_all := lw_in wsX20 [194, 196, 198] (by decide +kernel) (by decide +kernel)

/-! SoleraCellar$OrderReader -/
set_option maxRecDepth 100000
def RX20 : String := "SoleraCellar$OrderReader"
def TX20 : u_T := fun k => match k with
  | 0 => ("SoleraCellar$Reader", "tape", "[B", true)
  | 1 => ("SoleraCellar$Reader", "size", "I", true)
  | 2 => ("SoleraCellar$Reader", "made", "I", false)
  | 3 => ("SoleraCellar$Reader", "from", "I", false)
  | 4 => ("SoleraCellar$Reader", "to", "I", false)
  | 5 => ("SoleraCellar$Reader", "leaves", "I", false)
  | 6 => ("SoleraCellar$Reader", "deep", "I", false)
  | _ => ("SoleraCellar$OrderReader", "orders", "Ljava/util/ArrayList;", true)
def tyX20 : Nat → FieldType := fun k => match k with
  | 0 => .array .byte
  | 1 => .int
  | 2 => .int
  | 3 => .int
  | 4 => .int
  | 5 => .int
  | 6 => .int
  | _ => .object "java/util/ArrayList"
abbrev wsX200 : List Cond := u_ws RX20 TX20 8
theorem nmX20 : ∀ a, a < 8 → ∀ b, b < 8 → a ≠ b → (TX20 a).2.1 ≠ (TX20 b).2.1 := by decide +kernel
theorem tyX20_ok : ∀ k, k < 8 → parseFieldDescriptor (TX20 k).2.2.1 = some (tyX20 k) := by decide +kernel
abbrev cX20_value : ByteArray := prog_11_method_3_code
def yX20_value : MethodName := ⟨RX20, "value", "()I"⟩
def dkwX20_value_4 : List UInt8 := [16, 20, 42, 3, 16, 7, 182, 0, 64, 96, 167, 0, 4, 2, 172]
abbrev dktX20_value_4 : List UInt8 := dkwX20_value_4 ++ []
def dkwX20_value_3 : List UInt8 := [153, 0, 14, 16, 12, 42, 3, 16, 7, 182, 0, 64, 96, 172, 42, 18, 100, 182, 0, 87, 153, 0, 16]
abbrev dktX20_value_3 : List UInt8 := dkwX20_value_3 ++ dktX20_value_4
def dkwX20_value_2 : List UInt8 := [182, 0, 87, 153, 0, 13, 7, 42, 3, 16, 7, 182, 0, 64, 96, 172, 42, 18, 98, 182, 0, 87]
abbrev dktX20_value_2 : List UInt8 := dkwX20_value_2 ++ dktX20_value_3
def dkwX20_value_1 : List UInt8 := [18, 92, 182, 0, 87, 153, 0, 5, 5, 172, 42, 18, 94, 182, 0, 87, 153, 0, 5, 6, 172, 42, 18, 96]
abbrev dktX20_value_1 : List UInt8 := dkwX20_value_1 ++ dktX20_value_2
def dkwX20_value_0 : List UInt8 := [42, 18, 85, 182, 0, 87, 153, 0, 5, 3, 172, 42, 18, 90, 182, 0, 87, 153, 0, 5, 4, 172, 42]
abbrev dktX20_value_0 : List UInt8 := dkwX20_value_0 ++ dktX20_value_1
theorem dksX20_value_0 : cX20_value.data.toList.drop 0 = dktX20_value_0 := by decide +kernel
theorem dksX20_value_1 : cX20_value.data.toList.drop 23 = dktX20_value_1 := dk_seg dksX20_value_0 23 rfl rfl
theorem dksX20_value_2 : cX20_value.data.toList.drop 47 = dktX20_value_2 := dk_seg dksX20_value_1 24 rfl rfl
theorem dksX20_value_3 : cX20_value.data.toList.drop 69 = dktX20_value_3 := dk_seg dksX20_value_2 22 rfl rfl
theorem dksX20_value_4 : cX20_value.data.toList.drop 92 = dktX20_value_4 := dk_seg dksX20_value_3 23 rfl rfl
theorem dX20_value_0 : decode cX20_value 0 = .ok (.aload_n 0, 1) := dk_42 (dk_at dksX20_value_0 0 rfl rfl)
theorem dX20_value_1 : decode cX20_value 1 = .ok (.ldc 85, 2) := dk_18 85 (dk_at dksX20_value_0 1 rfl rfl)
theorem dX20_value_3 : decode cX20_value 3 = .ok (.invokevirtual 87, 3) := dk_182 0 87 (dk_at dksX20_value_0 3 rfl rfl)
theorem dX20_value_6 : decode cX20_value 6 = .ok (.ifCond .eq 5, 3) := dk_153 0 5 (dk_at dksX20_value_0 6 rfl rfl)
theorem dX20_value_9 : decode cX20_value 9 = .ok (.iconst 0, 1) := dk_3 (dk_at dksX20_value_0 9 rfl rfl)
theorem dX20_value_10 : decode cX20_value 10 = .ok (.ireturn, 1) := dk_172 (dk_at dksX20_value_0 10 rfl rfl)
theorem dX20_value_11 : decode cX20_value 11 = .ok (.aload_n 0, 1) := dk_42 (dk_at dksX20_value_0 11 rfl rfl)
theorem dX20_value_12 : decode cX20_value 12 = .ok (.ldc 90, 2) := dk_18 90 (dk_at dksX20_value_0 12 rfl rfl)
theorem dX20_value_14 : decode cX20_value 14 = .ok (.invokevirtual 87, 3) := dk_182 0 87 (dk_at dksX20_value_0 14 rfl rfl)
theorem dX20_value_17 : decode cX20_value 17 = .ok (.ifCond .eq 5, 3) := dk_153 0 5 (dk_at dksX20_value_0 17 rfl rfl)
theorem dX20_value_20 : decode cX20_value 20 = .ok (.iconst 1, 1) := dk_4 (dk_at dksX20_value_0 20 rfl rfl)
theorem dX20_value_21 : decode cX20_value 21 = .ok (.ireturn, 1) := dk_172 (dk_at dksX20_value_0 21 rfl rfl)
theorem dX20_value_22 : decode cX20_value 22 = .ok (.aload_n 0, 1) := dk_42 (dk_at dksX20_value_0 22 rfl rfl)
theorem dX20_value_23 : decode cX20_value 23 = .ok (.ldc 92, 2) := dk_18 92 (dk_at dksX20_value_1 0 rfl rfl)
theorem dX20_value_25 : decode cX20_value 25 = .ok (.invokevirtual 87, 3) := dk_182 0 87 (dk_at dksX20_value_1 2 rfl rfl)
theorem dX20_value_28 : decode cX20_value 28 = .ok (.ifCond .eq 5, 3) := dk_153 0 5 (dk_at dksX20_value_1 5 rfl rfl)
theorem dX20_value_31 : decode cX20_value 31 = .ok (.iconst 2, 1) := dk_5 (dk_at dksX20_value_1 8 rfl rfl)
theorem dX20_value_32 : decode cX20_value 32 = .ok (.ireturn, 1) := dk_172 (dk_at dksX20_value_1 9 rfl rfl)
theorem dX20_value_33 : decode cX20_value 33 = .ok (.aload_n 0, 1) := dk_42 (dk_at dksX20_value_1 10 rfl rfl)
theorem dX20_value_34 : decode cX20_value 34 = .ok (.ldc 94, 2) := dk_18 94 (dk_at dksX20_value_1 11 rfl rfl)
theorem dX20_value_36 : decode cX20_value 36 = .ok (.invokevirtual 87, 3) := dk_182 0 87 (dk_at dksX20_value_1 13 rfl rfl)
theorem dX20_value_39 : decode cX20_value 39 = .ok (.ifCond .eq 5, 3) := dk_153 0 5 (dk_at dksX20_value_1 16 rfl rfl)
theorem dX20_value_42 : decode cX20_value 42 = .ok (.iconst 3, 1) := dk_6 (dk_at dksX20_value_1 19 rfl rfl)
theorem dX20_value_43 : decode cX20_value 43 = .ok (.ireturn, 1) := dk_172 (dk_at dksX20_value_1 20 rfl rfl)
theorem dX20_value_44 : decode cX20_value 44 = .ok (.aload_n 0, 1) := dk_42 (dk_at dksX20_value_1 21 rfl rfl)
theorem dX20_value_45 : decode cX20_value 45 = .ok (.ldc 96, 2) := dk_18 96 (dk_at dksX20_value_1 22 rfl rfl)
theorem dX20_value_47 : decode cX20_value 47 = .ok (.invokevirtual 87, 3) := dk_182 0 87 (dk_at dksX20_value_2 0 rfl rfl)
theorem dX20_value_50 : decode cX20_value 50 = .ok (.ifCond .eq 13, 3) := dk_153 0 13 (dk_at dksX20_value_2 3 rfl rfl)
theorem dX20_value_53 : decode cX20_value 53 = .ok (.iconst 4, 1) := dk_7 (dk_at dksX20_value_2 6 rfl rfl)
theorem dX20_value_54 : decode cX20_value 54 = .ok (.aload_n 0, 1) := dk_42 (dk_at dksX20_value_2 7 rfl rfl)
theorem dX20_value_55 : decode cX20_value 55 = .ok (.iconst 0, 1) := dk_3 (dk_at dksX20_value_2 8 rfl rfl)
theorem dX20_value_56 : decode cX20_value 56 = .ok (.bipush 7, 2) := dk_16 7 (dk_at dksX20_value_2 9 rfl rfl)
theorem dX20_value_58 : decode cX20_value 58 = .ok (.invokevirtual 64, 3) := dk_182 0 64 (dk_at dksX20_value_2 11 rfl rfl)
theorem dX20_value_61 : decode cX20_value 61 = .ok (.iadd, 1) := dk_96 (dk_at dksX20_value_2 14 rfl rfl)
theorem dX20_value_62 : decode cX20_value 62 = .ok (.ireturn, 1) := dk_172 (dk_at dksX20_value_2 15 rfl rfl)
theorem dX20_value_63 : decode cX20_value 63 = .ok (.aload_n 0, 1) := dk_42 (dk_at dksX20_value_2 16 rfl rfl)
theorem dX20_value_64 : decode cX20_value 64 = .ok (.ldc 98, 2) := dk_18 98 (dk_at dksX20_value_2 17 rfl rfl)
theorem dX20_value_66 : decode cX20_value 66 = .ok (.invokevirtual 87, 3) := dk_182 0 87 (dk_at dksX20_value_2 19 rfl rfl)
theorem dX20_value_69 : decode cX20_value 69 = .ok (.ifCond .eq 14, 3) := dk_153 0 14 (dk_at dksX20_value_3 0 rfl rfl)
theorem dX20_value_72 : decode cX20_value 72 = .ok (.bipush 12, 2) := dk_16 12 (dk_at dksX20_value_3 3 rfl rfl)
theorem dX20_value_74 : decode cX20_value 74 = .ok (.aload_n 0, 1) := dk_42 (dk_at dksX20_value_3 5 rfl rfl)
theorem dX20_value_75 : decode cX20_value 75 = .ok (.iconst 0, 1) := dk_3 (dk_at dksX20_value_3 6 rfl rfl)
theorem dX20_value_76 : decode cX20_value 76 = .ok (.bipush 7, 2) := dk_16 7 (dk_at dksX20_value_3 7 rfl rfl)
theorem dX20_value_78 : decode cX20_value 78 = .ok (.invokevirtual 64, 3) := dk_182 0 64 (dk_at dksX20_value_3 9 rfl rfl)
theorem dX20_value_81 : decode cX20_value 81 = .ok (.iadd, 1) := dk_96 (dk_at dksX20_value_3 12 rfl rfl)
theorem dX20_value_82 : decode cX20_value 82 = .ok (.ireturn, 1) := dk_172 (dk_at dksX20_value_3 13 rfl rfl)
theorem dX20_value_83 : decode cX20_value 83 = .ok (.aload_n 0, 1) := dk_42 (dk_at dksX20_value_3 14 rfl rfl)
theorem dX20_value_84 : decode cX20_value 84 = .ok (.ldc 100, 2) := dk_18 100 (dk_at dksX20_value_3 15 rfl rfl)
theorem dX20_value_86 : decode cX20_value 86 = .ok (.invokevirtual 87, 3) := dk_182 0 87 (dk_at dksX20_value_3 17 rfl rfl)
theorem dX20_value_89 : decode cX20_value 89 = .ok (.ifCond .eq 16, 3) := dk_153 0 16 (dk_at dksX20_value_3 20 rfl rfl)
theorem dX20_value_92 : decode cX20_value 92 = .ok (.bipush 20, 2) := dk_16 20 (dk_at dksX20_value_4 0 rfl rfl)
theorem dX20_value_94 : decode cX20_value 94 = .ok (.aload_n 0, 1) := dk_42 (dk_at dksX20_value_4 2 rfl rfl)
theorem dX20_value_95 : decode cX20_value 95 = .ok (.iconst 0, 1) := dk_3 (dk_at dksX20_value_4 3 rfl rfl)
theorem dX20_value_96 : decode cX20_value 96 = .ok (.bipush 7, 2) := dk_16 7 (dk_at dksX20_value_4 4 rfl rfl)
theorem dX20_value_98 : decode cX20_value 98 = .ok (.invokevirtual 64, 3) := dk_182 0 64 (dk_at dksX20_value_4 6 rfl rfl)
theorem dX20_value_101 : decode cX20_value 101 = .ok (.iadd, 1) := dk_96 (dk_at dksX20_value_4 9 rfl rfl)
theorem dX20_value_102 : decode cX20_value 102 = .ok (.goto 4, 3) := dk_167 0 4 (dk_at dksX20_value_4 10 rfl rfl)
theorem dX20_value_105 : decode cX20_value 105 = .ok (.iconst (-1), 1) := dk_2 (dk_at dksX20_value_4 13 rfl rfl)
theorem dX20_value_106 : decode cX20_value 106 = .ok (.ireturn, 1) := dk_172 (dk_at dksX20_value_4 14 rfl rfl)
abbrev cX20_clause : ByteArray := prog_11_method_2_code
def yX20_clause : MethodName := ⟨RX20, "clause", "()V"⟩
def dkwX20_clause_8 : List UInt8 := [182, 0, 73, 181, 0, 77, 42, 180, 0, 14, 44, 182, 0, 81, 87, 177]
abbrev dktX20_clause_8 : List UInt8 := dkwX20_clause_8 ++ []
def dkwX20_clause_7 : List UInt8 := [44, 42, 4, 16, 20, 182, 0, 64, 181, 0, 68, 42, 18, 71, 182, 0, 61, 153, 0, 11, 44, 42]
abbrev dktX20_clause_7 : List UInt8 := dkwX20_clause_7 ++ dktX20_clause_8
def dkwX20_clause_6 : List UInt8 := [160, 0, 15, 44, 180, 0, 43, 5, 42, 18, 57, 182, 0, 53, 83, 42, 18, 59, 182, 0, 61, 153, 0, 14]
abbrev dktX20_clause_6 : List UInt8 := dkwX20_clause_6 ++ dktX20_clause_7
def dkwX20_clause_5 : List UInt8 := [182, 0, 53, 83, 27, 154, 0, 15, 44, 180, 0, 43, 4, 42, 18, 57, 182, 0, 53, 83, 27, 4]
abbrev dktX20_clause_5 : List UInt8 := dkwX20_clause_5 ++ dktX20_clause_6
def dkwX20_clause_4 : List UInt8 := [182, 0, 47, 83, 27, 4, 159, 0, 8, 27, 5, 160, 0, 15, 44, 180, 0, 43, 4, 42, 18, 51]
abbrev dktX20_clause_4 : List UInt8 := dkwX20_clause_4 ++ dktX20_clause_5
def dkwX20_clause_3 : List UInt8 := [182, 0, 36, 187, 0, 40, 89, 27, 183, 0, 42, 77, 27, 6, 159, 0, 13, 44, 180, 0, 43, 3, 42]
abbrev dktX20_clause_3 : List UInt8 := dkwX20_clause_3 ++ dktX20_clause_4
def dkwX20_clause_2 : List UInt8 := [153, 0, 7, 6, 167, 0, 4, 2, 60, 42, 27, 2, 159, 0, 7, 4, 167, 0, 4, 3, 182, 0, 32, 42]
abbrev dktX20_clause_2 : List UInt8 := dkwX20_clause_2 ++ dktX20_clause_3
def dkwX20_clause_1 : List UInt8 := [167, 0, 30, 42, 18, 28, 182, 0, 22, 153, 0, 7, 5, 167, 0, 17, 42, 18, 30, 182, 0, 22]
abbrev dktX20_clause_1 : List UInt8 := dkwX20_clause_1 ++ dktX20_clause_2
def dkwX20_clause_0 : List UInt8 := [42, 18, 20, 182, 0, 22, 153, 0, 7, 3, 167, 0, 43, 42, 18, 26, 182, 0, 22, 153, 0, 7, 4]
abbrev dktX20_clause_0 : List UInt8 := dkwX20_clause_0 ++ dktX20_clause_1
theorem dksX20_clause_0 : cX20_clause.data.toList.drop 0 = dktX20_clause_0 := by decide +kernel
theorem dksX20_clause_1 : cX20_clause.data.toList.drop 23 = dktX20_clause_1 := dk_seg dksX20_clause_0 23 rfl rfl
theorem dksX20_clause_2 : cX20_clause.data.toList.drop 45 = dktX20_clause_2 := dk_seg dksX20_clause_1 22 rfl rfl
theorem dksX20_clause_3 : cX20_clause.data.toList.drop 69 = dktX20_clause_3 := dk_seg dksX20_clause_2 24 rfl rfl
theorem dksX20_clause_4 : cX20_clause.data.toList.drop 92 = dktX20_clause_4 := dk_seg dksX20_clause_3 23 rfl rfl
theorem dksX20_clause_5 : cX20_clause.data.toList.drop 114 = dktX20_clause_5 := dk_seg dksX20_clause_4 22 rfl rfl
theorem dksX20_clause_6 : cX20_clause.data.toList.drop 136 = dktX20_clause_6 := dk_seg dksX20_clause_5 22 rfl rfl
theorem dksX20_clause_7 : cX20_clause.data.toList.drop 160 = dktX20_clause_7 := dk_seg dksX20_clause_6 24 rfl rfl
theorem dksX20_clause_8 : cX20_clause.data.toList.drop 182 = dktX20_clause_8 := dk_seg dksX20_clause_7 22 rfl rfl
theorem dX20_clause_0 : decode cX20_clause 0 = .ok (.aload_n 0, 1) := dk_42 (dk_at dksX20_clause_0 0 rfl rfl)
theorem dX20_clause_1 : decode cX20_clause 1 = .ok (.ldc 20, 2) := dk_18 20 (dk_at dksX20_clause_0 1 rfl rfl)
theorem dX20_clause_3 : decode cX20_clause 3 = .ok (.invokevirtual 22, 3) := dk_182 0 22 (dk_at dksX20_clause_0 3 rfl rfl)
theorem dX20_clause_6 : decode cX20_clause 6 = .ok (.ifCond .eq 7, 3) := dk_153 0 7 (dk_at dksX20_clause_0 6 rfl rfl)
theorem dX20_clause_9 : decode cX20_clause 9 = .ok (.iconst 0, 1) := dk_3 (dk_at dksX20_clause_0 9 rfl rfl)
theorem dX20_clause_10 : decode cX20_clause 10 = .ok (.goto 43, 3) := dk_167 0 43 (dk_at dksX20_clause_0 10 rfl rfl)
theorem dX20_clause_13 : decode cX20_clause 13 = .ok (.aload_n 0, 1) := dk_42 (dk_at dksX20_clause_0 13 rfl rfl)
theorem dX20_clause_14 : decode cX20_clause 14 = .ok (.ldc 26, 2) := dk_18 26 (dk_at dksX20_clause_0 14 rfl rfl)
theorem dX20_clause_16 : decode cX20_clause 16 = .ok (.invokevirtual 22, 3) := dk_182 0 22 (dk_at dksX20_clause_0 16 rfl rfl)
theorem dX20_clause_19 : decode cX20_clause 19 = .ok (.ifCond .eq 7, 3) := dk_153 0 7 (dk_at dksX20_clause_0 19 rfl rfl)
theorem dX20_clause_22 : decode cX20_clause 22 = .ok (.iconst 1, 1) := dk_4 (dk_at dksX20_clause_0 22 rfl rfl)
theorem dX20_clause_23 : decode cX20_clause 23 = .ok (.goto 30, 3) := dk_167 0 30 (dk_at dksX20_clause_1 0 rfl rfl)
theorem dX20_clause_26 : decode cX20_clause 26 = .ok (.aload_n 0, 1) := dk_42 (dk_at dksX20_clause_1 3 rfl rfl)
theorem dX20_clause_27 : decode cX20_clause 27 = .ok (.ldc 28, 2) := dk_18 28 (dk_at dksX20_clause_1 4 rfl rfl)
theorem dX20_clause_29 : decode cX20_clause 29 = .ok (.invokevirtual 22, 3) := dk_182 0 22 (dk_at dksX20_clause_1 6 rfl rfl)
theorem dX20_clause_32 : decode cX20_clause 32 = .ok (.ifCond .eq 7, 3) := dk_153 0 7 (dk_at dksX20_clause_1 9 rfl rfl)
theorem dX20_clause_35 : decode cX20_clause 35 = .ok (.iconst 2, 1) := dk_5 (dk_at dksX20_clause_1 12 rfl rfl)
theorem dX20_clause_36 : decode cX20_clause 36 = .ok (.goto 17, 3) := dk_167 0 17 (dk_at dksX20_clause_1 13 rfl rfl)
theorem dX20_clause_39 : decode cX20_clause 39 = .ok (.aload_n 0, 1) := dk_42 (dk_at dksX20_clause_1 16 rfl rfl)
theorem dX20_clause_40 : decode cX20_clause 40 = .ok (.ldc 30, 2) := dk_18 30 (dk_at dksX20_clause_1 17 rfl rfl)
theorem dX20_clause_42 : decode cX20_clause 42 = .ok (.invokevirtual 22, 3) := dk_182 0 22 (dk_at dksX20_clause_1 19 rfl rfl)
theorem dX20_clause_45 : decode cX20_clause 45 = .ok (.ifCond .eq 7, 3) := dk_153 0 7 (dk_at dksX20_clause_2 0 rfl rfl)
theorem dX20_clause_48 : decode cX20_clause 48 = .ok (.iconst 3, 1) := dk_6 (dk_at dksX20_clause_2 3 rfl rfl)
theorem dX20_clause_49 : decode cX20_clause 49 = .ok (.goto 4, 3) := dk_167 0 4 (dk_at dksX20_clause_2 4 rfl rfl)
theorem dX20_clause_52 : decode cX20_clause 52 = .ok (.iconst (-1), 1) := dk_2 (dk_at dksX20_clause_2 7 rfl rfl)
theorem dX20_clause_53 : decode cX20_clause 53 = .ok (.istore_n 1, 1) := dk_60 (dk_at dksX20_clause_2 8 rfl rfl)
theorem dX20_clause_54 : decode cX20_clause 54 = .ok (.aload_n 0, 1) := dk_42 (dk_at dksX20_clause_2 9 rfl rfl)
theorem dX20_clause_55 : decode cX20_clause 55 = .ok (.iload_n 1, 1) := dk_27 (dk_at dksX20_clause_2 10 rfl rfl)
theorem dX20_clause_56 : decode cX20_clause 56 = .ok (.iconst (-1), 1) := dk_2 (dk_at dksX20_clause_2 11 rfl rfl)
theorem dX20_clause_57 : decode cX20_clause 57 = .ok (.if_icmp .eq 7, 3) := dk_159 0 7 (dk_at dksX20_clause_2 12 rfl rfl)
theorem dX20_clause_60 : decode cX20_clause 60 = .ok (.iconst 1, 1) := dk_4 (dk_at dksX20_clause_2 15 rfl rfl)
theorem dX20_clause_61 : decode cX20_clause 61 = .ok (.goto 4, 3) := dk_167 0 4 (dk_at dksX20_clause_2 16 rfl rfl)
theorem dX20_clause_64 : decode cX20_clause 64 = .ok (.iconst 0, 1) := dk_3 (dk_at dksX20_clause_2 19 rfl rfl)
theorem dX20_clause_65 : decode cX20_clause 65 = .ok (.invokevirtual 32, 3) := dk_182 0 32 (dk_at dksX20_clause_2 20 rfl rfl)
theorem dX20_clause_68 : decode cX20_clause 68 = .ok (.aload_n 0, 1) := dk_42 (dk_at dksX20_clause_2 23 rfl rfl)
theorem dX20_clause_69 : decode cX20_clause 69 = .ok (.invokevirtual 36, 3) := dk_182 0 36 (dk_at dksX20_clause_3 0 rfl rfl)
theorem dX20_clause_72 : decode cX20_clause 72 = .ok (.new 40, 3) := dk_187 0 40 (dk_at dksX20_clause_3 3 rfl rfl)
theorem dX20_clause_75 : decode cX20_clause 75 = .ok (.dup, 1) := dk_89 (dk_at dksX20_clause_3 6 rfl rfl)
theorem dX20_clause_76 : decode cX20_clause 76 = .ok (.iload_n 1, 1) := dk_27 (dk_at dksX20_clause_3 7 rfl rfl)
theorem dX20_clause_77 : decode cX20_clause 77 = .ok (.invokespecial 42, 3) := dk_183 0 42 (dk_at dksX20_clause_3 8 rfl rfl)
theorem dX20_clause_80 : decode cX20_clause 80 = .ok (.astore_n 2, 1) := dk_77 (dk_at dksX20_clause_3 11 rfl rfl)
theorem dX20_clause_81 : decode cX20_clause 81 = .ok (.iload_n 1, 1) := dk_27 (dk_at dksX20_clause_3 12 rfl rfl)
theorem dX20_clause_82 : decode cX20_clause 82 = .ok (.iconst 3, 1) := dk_6 (dk_at dksX20_clause_3 13 rfl rfl)
theorem dX20_clause_83 : decode cX20_clause 83 = .ok (.if_icmp .eq 13, 3) := dk_159 0 13 (dk_at dksX20_clause_3 14 rfl rfl)
theorem dX20_clause_86 : decode cX20_clause 86 = .ok (.aload_n 2, 1) := dk_44 (dk_at dksX20_clause_3 17 rfl rfl)
theorem dX20_clause_87 : decode cX20_clause 87 = .ok (.getfield 43, 3) := dk_180 0 43 (dk_at dksX20_clause_3 18 rfl rfl)
theorem dX20_clause_90 : decode cX20_clause 90 = .ok (.iconst 0, 1) := dk_3 (dk_at dksX20_clause_3 21 rfl rfl)
theorem dX20_clause_91 : decode cX20_clause 91 = .ok (.aload_n 0, 1) := dk_42 (dk_at dksX20_clause_3 22 rfl rfl)
theorem dX20_clause_92 : decode cX20_clause 92 = .ok (.invokevirtual 47, 3) := dk_182 0 47 (dk_at dksX20_clause_4 0 rfl rfl)
theorem dX20_clause_95 : decode cX20_clause 95 = .ok (.aastore, 1) := dk_83 (dk_at dksX20_clause_4 3 rfl rfl)
theorem dX20_clause_96 : decode cX20_clause 96 = .ok (.iload_n 1, 1) := dk_27 (dk_at dksX20_clause_4 4 rfl rfl)
theorem dX20_clause_97 : decode cX20_clause 97 = .ok (.iconst 1, 1) := dk_4 (dk_at dksX20_clause_4 5 rfl rfl)
theorem dX20_clause_98 : decode cX20_clause 98 = .ok (.if_icmp .eq 8, 3) := dk_159 0 8 (dk_at dksX20_clause_4 6 rfl rfl)
theorem dX20_clause_101 : decode cX20_clause 101 = .ok (.iload_n 1, 1) := dk_27 (dk_at dksX20_clause_4 9 rfl rfl)
theorem dX20_clause_102 : decode cX20_clause 102 = .ok (.iconst 2, 1) := dk_5 (dk_at dksX20_clause_4 10 rfl rfl)
theorem dX20_clause_103 : decode cX20_clause 103 = .ok (.if_icmp .ne 15, 3) := dk_160 0 15 (dk_at dksX20_clause_4 11 rfl rfl)
theorem dX20_clause_106 : decode cX20_clause 106 = .ok (.aload_n 2, 1) := dk_44 (dk_at dksX20_clause_4 14 rfl rfl)
theorem dX20_clause_107 : decode cX20_clause 107 = .ok (.getfield 43, 3) := dk_180 0 43 (dk_at dksX20_clause_4 15 rfl rfl)
theorem dX20_clause_110 : decode cX20_clause 110 = .ok (.iconst 1, 1) := dk_4 (dk_at dksX20_clause_4 18 rfl rfl)
theorem dX20_clause_111 : decode cX20_clause 111 = .ok (.aload_n 0, 1) := dk_42 (dk_at dksX20_clause_4 19 rfl rfl)
theorem dX20_clause_112 : decode cX20_clause 112 = .ok (.ldc 51, 2) := dk_18 51 (dk_at dksX20_clause_4 20 rfl rfl)
theorem dX20_clause_114 : decode cX20_clause 114 = .ok (.invokevirtual 53, 3) := dk_182 0 53 (dk_at dksX20_clause_5 0 rfl rfl)
theorem dX20_clause_117 : decode cX20_clause 117 = .ok (.aastore, 1) := dk_83 (dk_at dksX20_clause_5 3 rfl rfl)
theorem dX20_clause_118 : decode cX20_clause 118 = .ok (.iload_n 1, 1) := dk_27 (dk_at dksX20_clause_5 4 rfl rfl)
theorem dX20_clause_119 : decode cX20_clause 119 = .ok (.ifCond .ne 15, 3) := dk_154 0 15 (dk_at dksX20_clause_5 5 rfl rfl)
theorem dX20_clause_122 : decode cX20_clause 122 = .ok (.aload_n 2, 1) := dk_44 (dk_at dksX20_clause_5 8 rfl rfl)
theorem dX20_clause_123 : decode cX20_clause 123 = .ok (.getfield 43, 3) := dk_180 0 43 (dk_at dksX20_clause_5 9 rfl rfl)
theorem dX20_clause_126 : decode cX20_clause 126 = .ok (.iconst 1, 1) := dk_4 (dk_at dksX20_clause_5 12 rfl rfl)
theorem dX20_clause_127 : decode cX20_clause 127 = .ok (.aload_n 0, 1) := dk_42 (dk_at dksX20_clause_5 13 rfl rfl)
theorem dX20_clause_128 : decode cX20_clause 128 = .ok (.ldc 57, 2) := dk_18 57 (dk_at dksX20_clause_5 14 rfl rfl)
theorem dX20_clause_130 : decode cX20_clause 130 = .ok (.invokevirtual 53, 3) := dk_182 0 53 (dk_at dksX20_clause_5 16 rfl rfl)
theorem dX20_clause_133 : decode cX20_clause 133 = .ok (.aastore, 1) := dk_83 (dk_at dksX20_clause_5 19 rfl rfl)
theorem dX20_clause_134 : decode cX20_clause 134 = .ok (.iload_n 1, 1) := dk_27 (dk_at dksX20_clause_5 20 rfl rfl)
theorem dX20_clause_135 : decode cX20_clause 135 = .ok (.iconst 1, 1) := dk_4 (dk_at dksX20_clause_5 21 rfl rfl)
theorem dX20_clause_136 : decode cX20_clause 136 = .ok (.if_icmp .ne 15, 3) := dk_160 0 15 (dk_at dksX20_clause_6 0 rfl rfl)
theorem dX20_clause_139 : decode cX20_clause 139 = .ok (.aload_n 2, 1) := dk_44 (dk_at dksX20_clause_6 3 rfl rfl)
theorem dX20_clause_140 : decode cX20_clause 140 = .ok (.getfield 43, 3) := dk_180 0 43 (dk_at dksX20_clause_6 4 rfl rfl)
theorem dX20_clause_143 : decode cX20_clause 143 = .ok (.iconst 2, 1) := dk_5 (dk_at dksX20_clause_6 7 rfl rfl)
theorem dX20_clause_144 : decode cX20_clause 144 = .ok (.aload_n 0, 1) := dk_42 (dk_at dksX20_clause_6 8 rfl rfl)
theorem dX20_clause_145 : decode cX20_clause 145 = .ok (.ldc 57, 2) := dk_18 57 (dk_at dksX20_clause_6 9 rfl rfl)
theorem dX20_clause_147 : decode cX20_clause 147 = .ok (.invokevirtual 53, 3) := dk_182 0 53 (dk_at dksX20_clause_6 11 rfl rfl)
theorem dX20_clause_150 : decode cX20_clause 150 = .ok (.aastore, 1) := dk_83 (dk_at dksX20_clause_6 14 rfl rfl)
theorem dX20_clause_151 : decode cX20_clause 151 = .ok (.aload_n 0, 1) := dk_42 (dk_at dksX20_clause_6 15 rfl rfl)
theorem dX20_clause_152 : decode cX20_clause 152 = .ok (.ldc 59, 2) := dk_18 59 (dk_at dksX20_clause_6 16 rfl rfl)
theorem dX20_clause_154 : decode cX20_clause 154 = .ok (.invokevirtual 61, 3) := dk_182 0 61 (dk_at dksX20_clause_6 18 rfl rfl)
theorem dX20_clause_157 : decode cX20_clause 157 = .ok (.ifCond .eq 14, 3) := dk_153 0 14 (dk_at dksX20_clause_6 21 rfl rfl)
theorem dX20_clause_160 : decode cX20_clause 160 = .ok (.aload_n 2, 1) := dk_44 (dk_at dksX20_clause_7 0 rfl rfl)
theorem dX20_clause_161 : decode cX20_clause 161 = .ok (.aload_n 0, 1) := dk_42 (dk_at dksX20_clause_7 1 rfl rfl)
theorem dX20_clause_162 : decode cX20_clause 162 = .ok (.iconst 1, 1) := dk_4 (dk_at dksX20_clause_7 2 rfl rfl)
theorem dX20_clause_163 : decode cX20_clause 163 = .ok (.bipush 20, 2) := dk_16 20 (dk_at dksX20_clause_7 3 rfl rfl)
theorem dX20_clause_165 : decode cX20_clause 165 = .ok (.invokevirtual 64, 3) := dk_182 0 64 (dk_at dksX20_clause_7 5 rfl rfl)
theorem dX20_clause_168 : decode cX20_clause 168 = .ok (.putfield 68, 3) := dk_181 0 68 (dk_at dksX20_clause_7 8 rfl rfl)
theorem dX20_clause_171 : decode cX20_clause 171 = .ok (.aload_n 0, 1) := dk_42 (dk_at dksX20_clause_7 11 rfl rfl)
theorem dX20_clause_172 : decode cX20_clause 172 = .ok (.ldc 71, 2) := dk_18 71 (dk_at dksX20_clause_7 12 rfl rfl)
theorem dX20_clause_174 : decode cX20_clause 174 = .ok (.invokevirtual 61, 3) := dk_182 0 61 (dk_at dksX20_clause_7 14 rfl rfl)
theorem dX20_clause_177 : decode cX20_clause 177 = .ok (.ifCond .eq 11, 3) := dk_153 0 11 (dk_at dksX20_clause_7 17 rfl rfl)
theorem dX20_clause_180 : decode cX20_clause 180 = .ok (.aload_n 2, 1) := dk_44 (dk_at dksX20_clause_7 20 rfl rfl)
theorem dX20_clause_181 : decode cX20_clause 181 = .ok (.aload_n 0, 1) := dk_42 (dk_at dksX20_clause_7 21 rfl rfl)
theorem dX20_clause_182 : decode cX20_clause 182 = .ok (.invokevirtual 73, 3) := dk_182 0 73 (dk_at dksX20_clause_8 0 rfl rfl)
theorem dX20_clause_185 : decode cX20_clause 185 = .ok (.putfield 77, 3) := dk_181 0 77 (dk_at dksX20_clause_8 3 rfl rfl)
theorem dX20_clause_188 : decode cX20_clause 188 = .ok (.aload_n 0, 1) := dk_42 (dk_at dksX20_clause_8 6 rfl rfl)
theorem dX20_clause_189 : decode cX20_clause 189 = .ok (.getfield 14, 3) := dk_180 0 14 (dk_at dksX20_clause_8 7 rfl rfl)
theorem dX20_clause_192 : decode cX20_clause 192 = .ok (.aload_n 2, 1) := dk_44 (dk_at dksX20_clause_8 10 rfl rfl)
theorem dX20_clause_193 : decode cX20_clause 193 = .ok (.invokevirtual 81, 3) := dk_182 0 81 (dk_at dksX20_clause_8 11 rfl rfl)
theorem dX20_clause_196 : decode cX20_clause 196 = .ok (.pop, 1) := dk_87 (dk_at dksX20_clause_8 14 rfl rfl)
theorem dX20_clause_197 : decode cX20_clause 197 = .ok (.return_, 1) := dk_177 (dk_at dksX20_clause_8 15 rfl rfl)
abbrev cX20_init : ByteArray := prog_11_method_1_code
def yX20_init : MethodName := ⟨RX20, "<init>", "([BI)V"⟩
def dkwX20_init_0 : List UInt8 := [42, 43, 28, 183, 0, 3, 42, 187, 0, 9, 89, 5, 183, 0, 11, 181, 0, 14, 177]
abbrev dktX20_init_0 : List UInt8 := dkwX20_init_0 ++ []
theorem dksX20_init_0 : cX20_init.data.toList.drop 0 = dktX20_init_0 := by decide +kernel
theorem dX20_init_0 : decode cX20_init 0 = .ok (.aload_n 0, 1) := dk_42 (dk_at dksX20_init_0 0 rfl rfl)
theorem dX20_init_1 : decode cX20_init 1 = .ok (.aload_n 1, 1) := dk_43 (dk_at dksX20_init_0 1 rfl rfl)
theorem dX20_init_2 : decode cX20_init 2 = .ok (.iload_n 2, 1) := dk_28 (dk_at dksX20_init_0 2 rfl rfl)
theorem dX20_init_3 : decode cX20_init 3 = .ok (.invokespecial 3, 3) := dk_183 0 3 (dk_at dksX20_init_0 3 rfl rfl)
theorem dX20_init_6 : decode cX20_init 6 = .ok (.aload_n 0, 1) := dk_42 (dk_at dksX20_init_0 6 rfl rfl)
theorem dX20_init_7 : decode cX20_init 7 = .ok (.new 9, 3) := dk_187 0 9 (dk_at dksX20_init_0 7 rfl rfl)
theorem dX20_init_10 : decode cX20_init 10 = .ok (.dup, 1) := dk_89 (dk_at dksX20_init_0 10 rfl rfl)
theorem dX20_init_11 : decode cX20_init 11 = .ok (.iconst 2, 1) := dk_5 (dk_at dksX20_init_0 11 rfl rfl)
theorem dX20_init_12 : decode cX20_init 12 = .ok (.invokespecial 11, 3) := dk_183 0 11 (dk_at dksX20_init_0 12 rfl rfl)
theorem dX20_init_15 : decode cX20_init 15 = .ok (.putfield 14, 3) := dk_181 0 14 (dk_at dksX20_init_0 15 rfl rfl)
theorem dX20_init_18 : decode cX20_init 18 = .ok (.return_, 1) := dk_177 (dk_at dksX20_init_0 18 rfl rfl)
theorem q166 : (Jvm.Cond.initialized "SoleraCellar$OrderReader") ∈ lw_all := lw_g (lw_at lw_m1 35 rfl) rfl
theorem q497 : (Jvm.Cond.selects "SoleraCellar$OrderReader" ({ cls := "java/lang/Object", name := "getClass", desc := "()Ljava/lang/Class;" } : Jvm.MethodName) ({ cls := "java/lang/Object", name := "getClass", desc := "()Ljava/lang/Class;" } : Jvm.MethodName)) ∈ lw_all := lw_g (lw_at lw_m2 126 rfl) rfl
theorem q781 : (Jvm.Cond.selects "SoleraCellar$OrderReader" ({ cls := "SoleraCellar$Reader", name := "read", desc := "()V" } : Jvm.MethodName) ({ cls := "SoleraCellar$Reader", name := "read", desc := "()V" } : Jvm.MethodName)) ∈ lw_all := lw_g (lw_at lw_m3 170 rfl) rfl
theorem q787 : (Jvm.Cond.selects "SoleraCellar$OrderReader" ({ cls := "SoleraCellar$Reader", name := "next", desc := "()V" } : Jvm.MethodName) ({ cls := "SoleraCellar$Reader", name := "next", desc := "()V" } : Jvm.MethodName)) ∈ lw_all := lw_g (lw_at lw_m3 176 rfl) rfl
theorem q793 : (Jvm.Cond.selects "SoleraCellar$OrderReader" ({ cls := "SoleraCellar$Reader", name := "isIn", desc := "(III)Z" } : Jvm.MethodName) ({ cls := "SoleraCellar$Reader", name := "isIn", desc := "(III)Z" } : Jvm.MethodName)) ∈ lw_all := lw_g (lw_at lw_m3 182 rfl) rfl
theorem q914 : (Jvm.Cond.selects "SoleraCellar$OrderReader" ({ cls := "SoleraCellar$Reader", name := "term", desc := "()LSoleraCellar$Sum;" } : Jvm.MethodName) ({ cls := "SoleraCellar$Reader", name := "term", desc := "()LSoleraCellar$Sum;" } : Jvm.MethodName)) ∈ lw_all := lw_g (lw_at lw_m4 63 rfl) rfl
theorem q920 : (Jvm.Cond.selects "SoleraCellar$OrderReader" ({ cls := "SoleraCellar$Reader", name := "part", desc := "()LSoleraCellar$Sum;" } : Jvm.MethodName) ({ cls := "SoleraCellar$Reader", name := "part", desc := "()LSoleraCellar$Sum;" } : Jvm.MethodName)) ∈ lw_all := lw_g (lw_at lw_m4 69 rfl) rfl
theorem q928 : (Jvm.Cond.selects "SoleraCellar$OrderReader" ({ cls := "SoleraCellar$Reader", name := "opens", desc := "()V" } : Jvm.MethodName) ({ cls := "SoleraCellar$Reader", name := "opens", desc := "()V" } : Jvm.MethodName)) ∈ lw_all := lw_g (lw_at lw_m4 77 rfl) rfl
theorem q936 : (Jvm.Cond.selects "SoleraCellar$OrderReader" ({ cls := "SoleraCellar$Reader", name := "need", desc := "(Ljava/lang/String;)V" } : Jvm.MethodName) ({ cls := "SoleraCellar$Reader", name := "need", desc := "(Ljava/lang/String;)V" } : Jvm.MethodName)) ∈ lw_all := lw_g (lw_at lw_m4 85 rfl) rfl
theorem q942 : (Jvm.Cond.selects "SoleraCellar$OrderReader" ({ cls := "SoleraCellar$Reader", name := "takes", desc := "(Ljava/lang/String;)Z" } : Jvm.MethodName) ({ cls := "SoleraCellar$Reader", name := "takes", desc := "(Ljava/lang/String;)Z" } : Jvm.MethodName)) ∈ lw_all := lw_g (lw_at lw_m4 91 rfl) rfl
theorem q948 : (Jvm.Cond.selects "SoleraCellar$OrderReader" ({ cls := "SoleraCellar$Reader", name := "leaf", desc := "()V" } : Jvm.MethodName) ({ cls := "SoleraCellar$Reader", name := "leaf", desc := "()V" } : Jvm.MethodName)) ∈ lw_all := lw_g (lw_at lw_m4 97 rfl) rfl
theorem q956 : (Jvm.Cond.selects "SoleraCellar$OrderReader" ({ cls := "SoleraCellar$Reader", name := "number", desc := "(II)I" } : Jvm.MethodName) ({ cls := "SoleraCellar$Reader", name := "number", desc := "(II)I" } : Jvm.MethodName)) ∈ lw_all := lw_g (lw_at lw_m4 105 rfl) rfl
theorem q988 : (Jvm.Cond.selects "SoleraCellar$OrderReader" ({ cls := "SoleraCellar$Reader", name := "value", desc := "()I" } : Jvm.MethodName) ({ cls := "SoleraCellar$OrderReader", name := "value", desc := "()I" } : Jvm.MethodName)) ∈ lw_all := lw_g (lw_at lw_m4 137 rfl) rfl
theorem q989 : (Jvm.Cond.instanceMethod ({ cls := "SoleraCellar$OrderReader", name := "value", desc := "()I" } : Jvm.MethodName)) ∈ lw_all := lw_g (lw_at lw_m4 138 rfl) rfl
theorem q990 : (Jvm.Cond.code ({ cls := "SoleraCellar$OrderReader", name := "value", desc := "()I" } : Jvm.MethodName) prog_11_method_3_code (1 : Nat) (Option.some Jvm.ClassFile.FieldType.int)) ∈ lw_all := lw_g (lw_at lw_m4 139 rfl) rfl
theorem q991 : (Jvm.Cond.stringRef "SoleraCellar$OrderReader" (85 : Nat) "year") ∈ lw_tbl := lw_at lw_m4 140 rfl
theorem q992 : (Jvm.Cond.methodLink "SoleraCellar$OrderReader" (87 : Nat) ({ cls := "SoleraCellar$OrderReader", name := "isValue", desc := "(Ljava/lang/String;)Z" } : Jvm.MethodName)) ∈ lw_all := lw_g (lw_at lw_m4 141 rfl) rfl
theorem q993 : (Jvm.Cond.sameMethod "SoleraCellar$OrderReader" "SoleraCellar$Reader" "isValue" "(Ljava/lang/String;)Z") ∈ lw_all := lw_g (lw_at lw_m4 142 rfl) rfl
theorem q994 : (Jvm.Cond.selects "SoleraCellar$OrderReader" ({ cls := "SoleraCellar$OrderReader", name := "isValue", desc := "(Ljava/lang/String;)Z" } : Jvm.MethodName) ({ cls := "SoleraCellar$Reader", name := "isValue", desc := "(Ljava/lang/String;)Z" } : Jvm.MethodName)) ∈ lw_all := lw_g (lw_at lw_m4 143 rfl) rfl
theorem q995 : (Jvm.Cond.stringRef "SoleraCellar$OrderReader" (90 : Nat) "done") ∈ lw_tbl := lw_at lw_m4 144 rfl
theorem q996 : (Jvm.Cond.stringRef "SoleraCellar$OrderReader" (92 : Nat) "latest") ∈ lw_tbl := lw_at lw_m4 145 rfl
theorem q997 : (Jvm.Cond.stringRef "SoleraCellar$OrderReader" (94 : Nat) "bottled") ∈ lw_tbl := lw_at lw_m4 146 rfl
theorem q998 : (Jvm.Cond.stringRef "SoleraCellar$OrderReader" (96 : Nat) "full") ∈ lw_tbl := lw_at lw_m4 147 rfl
theorem q999 : (Jvm.Cond.methodLink "SoleraCellar$OrderReader" (64 : Nat) ({ cls := "SoleraCellar$OrderReader", name := "number", desc := "(II)I" } : Jvm.MethodName)) ∈ lw_all := lw_g (lw_at lw_m4 148 rfl) rfl
theorem q1000 : (Jvm.Cond.sameMethod "SoleraCellar$OrderReader" "SoleraCellar$Reader" "number" "(II)I") ∈ lw_all := lw_g (lw_at lw_m4 149 rfl) rfl
theorem q1002 : (Jvm.Cond.selects "SoleraCellar$OrderReader" ({ cls := "SoleraCellar$OrderReader", name := "number", desc := "(II)I" } : Jvm.MethodName) ({ cls := "SoleraCellar$Reader", name := "number", desc := "(II)I" } : Jvm.MethodName)) ∈ lw_all := lw_g (lw_at lw_m4 151 rfl) rfl
theorem q1003 : (Jvm.Cond.stringRef "SoleraCellar$OrderReader" (98 : Nat) "room") ∈ lw_tbl := lw_at lw_m4 152 rfl
theorem q1004 : (Jvm.Cond.stringRef "SoleraCellar$OrderReader" (100 : Nat) "mean") ∈ lw_tbl := lw_at lw_m4 153 rfl
theorem q1051 : (Jvm.Cond.selects "SoleraCellar$OrderReader" ({ cls := "SoleraCellar$Reader", name := "both", desc := "()LSoleraCellar$Test;" } : Jvm.MethodName) ({ cls := "SoleraCellar$Reader", name := "both", desc := "()LSoleraCellar$Test;" } : Jvm.MethodName)) ∈ lw_all := lw_g (lw_at lw_m4 200 rfl) rfl
theorem q1057 : (Jvm.Cond.selects "SoleraCellar$OrderReader" ({ cls := "SoleraCellar$Reader", name := "plain", desc := "()LSoleraCellar$Test;" } : Jvm.MethodName) ({ cls := "SoleraCellar$Reader", name := "plain", desc := "()LSoleraCellar$Test;" } : Jvm.MethodName)) ∈ lw_all := lw_g (lw_at lw_m4 206 rfl) rfl
theorem q1064 : (Jvm.Cond.selects "SoleraCellar$OrderReader" ({ cls := "SoleraCellar$Reader", name := "positive", desc := "()LSoleraCellar$Test;" } : Jvm.MethodName) ({ cls := "SoleraCellar$Reader", name := "positive", desc := "()LSoleraCellar$Test;" } : Jvm.MethodName)) ∈ lw_all := lw_g (lw_at lw_m4 213 rfl) rfl
theorem q1132 : (Jvm.Cond.selects "SoleraCellar$OrderReader" ({ cls := "SoleraCellar$Reader", name := "clause", desc := "()V" } : Jvm.MethodName) ({ cls := "SoleraCellar$OrderReader", name := "clause", desc := "()V" } : Jvm.MethodName)) ∈ lw_all := lw_g (lw_at lw_m5 41 rfl) rfl
theorem q1133 : (Jvm.Cond.instanceMethod ({ cls := "SoleraCellar$OrderReader", name := "clause", desc := "()V" } : Jvm.MethodName)) ∈ lw_all := lw_g (lw_at lw_m5 42 rfl) rfl
theorem q1134 : (Jvm.Cond.code ({ cls := "SoleraCellar$OrderReader", name := "clause", desc := "()V" } : Jvm.MethodName) prog_11_method_2_code (3 : Nat) (Option.none : Option Jvm.ClassFile.FieldType)) ∈ lw_all := lw_g (lw_at lw_m5 43 rfl) rfl
theorem q1135 : (Jvm.Cond.stringRef "SoleraCellar$OrderReader" (20 : Nat) "pour") ∈ lw_tbl := lw_at lw_m5 44 rfl
theorem q1136 : (Jvm.Cond.methodLink "SoleraCellar$OrderReader" (22 : Nat) ({ cls := "SoleraCellar$OrderReader", name := "is", desc := "(Ljava/lang/String;)Z" } : Jvm.MethodName)) ∈ lw_all := lw_g (lw_at lw_m5 45 rfl) rfl
theorem q1137 : (Jvm.Cond.sameMethod "SoleraCellar$OrderReader" "SoleraCellar$Reader" "is" "(Ljava/lang/String;)Z") ∈ lw_all := lw_g (lw_at lw_m5 46 rfl) rfl
theorem q1138 : (Jvm.Cond.selects "SoleraCellar$OrderReader" ({ cls := "SoleraCellar$OrderReader", name := "is", desc := "(Ljava/lang/String;)Z" } : Jvm.MethodName) ({ cls := "SoleraCellar$Reader", name := "is", desc := "(Ljava/lang/String;)Z" } : Jvm.MethodName)) ∈ lw_all := lw_g (lw_at lw_m5 47 rfl) rfl
theorem q1139 : (Jvm.Cond.stringRef "SoleraCellar$OrderReader" (26 : Nat) "rack") ∈ lw_tbl := lw_at lw_m5 48 rfl
theorem q1140 : (Jvm.Cond.stringRef "SoleraCellar$OrderReader" (28 : Nat) "bottle") ∈ lw_tbl := lw_at lw_m5 49 rfl
theorem q1141 : (Jvm.Cond.stringRef "SoleraCellar$OrderReader" (30 : Nat) "pass") ∈ lw_tbl := lw_at lw_m5 50 rfl
theorem q1142 : (Jvm.Cond.methodLink "SoleraCellar$OrderReader" (32 : Nat) ({ cls := "SoleraCellar$OrderReader", name := "begins", desc := "(Z)V" } : Jvm.MethodName)) ∈ lw_all := lw_g (lw_at lw_m5 51 rfl) rfl
theorem q1143 : (Jvm.Cond.sameMethod "SoleraCellar$OrderReader" "SoleraCellar$Reader" "begins" "(Z)V") ∈ lw_all := lw_g (lw_at lw_m5 52 rfl) rfl
theorem q1144 : (Jvm.Cond.selects "SoleraCellar$OrderReader" ({ cls := "SoleraCellar$OrderReader", name := "begins", desc := "(Z)V" } : Jvm.MethodName) ({ cls := "SoleraCellar$Reader", name := "begins", desc := "(Z)V" } : Jvm.MethodName)) ∈ lw_all := lw_g (lw_at lw_m5 53 rfl) rfl
theorem q1145 : (Jvm.Cond.methodLink "SoleraCellar$OrderReader" (36 : Nat) ({ cls := "SoleraCellar$OrderReader", name := "next", desc := "()V" } : Jvm.MethodName)) ∈ lw_all := lw_g (lw_at lw_m5 54 rfl) rfl
theorem q1146 : (Jvm.Cond.sameMethod "SoleraCellar$OrderReader" "SoleraCellar$Reader" "next" "()V") ∈ lw_all := lw_g (lw_at lw_m5 55 rfl) rfl
theorem q1147 : (Jvm.Cond.selects "SoleraCellar$OrderReader" ({ cls := "SoleraCellar$OrderReader", name := "next", desc := "()V" } : Jvm.MethodName) ({ cls := "SoleraCellar$Reader", name := "next", desc := "()V" } : Jvm.MethodName)) ∈ lw_all := lw_g (lw_at lw_m5 56 rfl) rfl
theorem q1148 : (Jvm.Cond.classLink "SoleraCellar$OrderReader" (40 : Nat) "SoleraCellar$Order") ∈ lw_all := lw_g (lw_at lw_m5 57 rfl) rfl
theorem q1150 : (Jvm.Cond.methodLink "SoleraCellar$OrderReader" (42 : Nat) ({ cls := "SoleraCellar$Order", name := "<init>", desc := "(I)V" } : Jvm.MethodName)) ∈ lw_all := lw_g (lw_at lw_m5 59 rfl) rfl
theorem q1159 : (Jvm.Cond.fieldLinkNest "SoleraCellar$OrderReader" (43 : Nat) "SoleraCellar$Order" "sums" "[LSoleraCellar$Sum;" "SoleraCellar") ∈ lw_tbl := lw_at lw_m5 68 rfl
theorem q1161 : (Jvm.Cond.fieldLinkNest "SoleraCellar$OrderReader" (68 : Nat) "SoleraCellar$Order" "times" "I" "SoleraCellar") ∈ lw_tbl := lw_at lw_m5 70 rfl
theorem q1164 : (Jvm.Cond.fieldLinkNest "SoleraCellar$OrderReader" (77 : Nat) "SoleraCellar$Order" "when" "LSoleraCellar$Test;" "SoleraCellar") ∈ lw_tbl := lw_at lw_m5 73 rfl
theorem q1174 : (Jvm.Cond.methodLink "SoleraCellar$OrderReader" (47 : Nat) ({ cls := "SoleraCellar$OrderReader", name := "sum", desc := "()LSoleraCellar$Sum;" } : Jvm.MethodName)) ∈ lw_all := lw_g (lw_at lw_m5 83 rfl) rfl
theorem q1175 : (Jvm.Cond.sameMethod "SoleraCellar$OrderReader" "SoleraCellar$Reader" "sum" "()LSoleraCellar$Sum;") ∈ lw_all := lw_g (lw_at lw_m5 84 rfl) rfl
theorem q1176 : (Jvm.Cond.selects "SoleraCellar$OrderReader" ({ cls := "SoleraCellar$OrderReader", name := "sum", desc := "()LSoleraCellar$Sum;" } : Jvm.MethodName) ({ cls := "SoleraCellar$Reader", name := "sum", desc := "()LSoleraCellar$Sum;" } : Jvm.MethodName)) ∈ lw_all := lw_g (lw_at lw_m5 85 rfl) rfl
theorem q1177 : (Jvm.Cond.stringRef "SoleraCellar$OrderReader" (51 : Nat) "from") ∈ lw_tbl := lw_at lw_m5 86 rfl
theorem q1178 : (Jvm.Cond.methodLink "SoleraCellar$OrderReader" (53 : Nat) ({ cls := "SoleraCellar$OrderReader", name := "behind", desc := "(Ljava/lang/String;)LSoleraCellar$Sum;" } : Jvm.MethodName)) ∈ lw_all := lw_g (lw_at lw_m5 87 rfl) rfl
theorem q1179 : (Jvm.Cond.sameMethod "SoleraCellar$OrderReader" "SoleraCellar$Reader" "behind" "(Ljava/lang/String;)LSoleraCellar$Sum;") ∈ lw_all := lw_g (lw_at lw_m5 88 rfl) rfl
theorem q1181 : (Jvm.Cond.selects "SoleraCellar$OrderReader" ({ cls := "SoleraCellar$OrderReader", name := "behind", desc := "(Ljava/lang/String;)LSoleraCellar$Sum;" } : Jvm.MethodName) ({ cls := "SoleraCellar$Reader", name := "behind", desc := "(Ljava/lang/String;)LSoleraCellar$Sum;" } : Jvm.MethodName)) ∈ lw_all := lw_g (lw_at lw_m5 90 rfl) rfl
theorem q1184 : (Jvm.Cond.stringRef "SoleraCellar$OrderReader" (57 : Nat) "in") ∈ lw_tbl := lw_at lw_m5 93 rfl
theorem q1185 : (Jvm.Cond.stringRef "SoleraCellar$OrderReader" (59 : Nat) "times") ∈ lw_tbl := lw_at lw_m5 94 rfl
theorem q1186 : (Jvm.Cond.methodLink "SoleraCellar$OrderReader" (61 : Nat) ({ cls := "SoleraCellar$OrderReader", name := "takes", desc := "(Ljava/lang/String;)Z" } : Jvm.MethodName)) ∈ lw_all := lw_g (lw_at lw_m5 95 rfl) rfl
theorem q1187 : (Jvm.Cond.sameMethod "SoleraCellar$OrderReader" "SoleraCellar$Reader" "takes" "(Ljava/lang/String;)Z") ∈ lw_all := lw_g (lw_at lw_m5 96 rfl) rfl
theorem q1188 : (Jvm.Cond.selects "SoleraCellar$OrderReader" ({ cls := "SoleraCellar$OrderReader", name := "takes", desc := "(Ljava/lang/String;)Z" } : Jvm.MethodName) ({ cls := "SoleraCellar$Reader", name := "takes", desc := "(Ljava/lang/String;)Z" } : Jvm.MethodName)) ∈ lw_all := lw_g (lw_at lw_m5 97 rfl) rfl
theorem q1189 : (Jvm.Cond.stringRef "SoleraCellar$OrderReader" (71 : Nat) "if") ∈ lw_tbl := lw_at lw_m5 98 rfl
theorem q1190 : (Jvm.Cond.methodLink "SoleraCellar$OrderReader" (73 : Nat) ({ cls := "SoleraCellar$OrderReader", name := "test", desc := "()LSoleraCellar$Test;" } : Jvm.MethodName)) ∈ lw_all := lw_g (lw_at lw_m5 99 rfl) rfl
theorem q1191 : (Jvm.Cond.sameMethod "SoleraCellar$OrderReader" "SoleraCellar$Reader" "test" "()LSoleraCellar$Test;") ∈ lw_all := lw_g (lw_at lw_m5 100 rfl) rfl
theorem q1192 : (Jvm.Cond.selects "SoleraCellar$OrderReader" ({ cls := "SoleraCellar$OrderReader", name := "test", desc := "()LSoleraCellar$Test;" } : Jvm.MethodName) ({ cls := "SoleraCellar$Reader", name := "test", desc := "()LSoleraCellar$Test;" } : Jvm.MethodName)) ∈ lw_all := lw_g (lw_at lw_m5 101 rfl) rfl
theorem q1193 : (Jvm.Cond.methodLink "SoleraCellar$OrderReader" (81 : Nat) ({ cls := "java/util/ArrayList", name := "add", desc := "(Ljava/lang/Object;)Z" } : Jvm.MethodName)) ∈ lw_all := lw_g (lw_at lw_m5 102 rfl) rfl
theorem q1210 : (Jvm.Cond.instantiable "SoleraCellar$OrderReader" (8 : Nat)) ∈ lw_all := lw_g (lw_at lw_m5 119 rfl) rfl
theorem q1212 : (Jvm.Cond.instanceMethod ({ cls := "SoleraCellar$OrderReader", name := "<init>", desc := "([BI)V" } : Jvm.MethodName)) ∈ lw_all := lw_g (lw_at lw_m5 121 rfl) rfl
theorem q1213 : (Jvm.Cond.code ({ cls := "SoleraCellar$OrderReader", name := "<init>", desc := "([BI)V" } : Jvm.MethodName) prog_11_method_1_code (3 : Nat) (Option.none : Option Jvm.ClassFile.FieldType)) ∈ lw_all := lw_g (lw_at lw_m5 122 rfl) rfl
theorem q1214 : (Jvm.Cond.methodLink "SoleraCellar$OrderReader" (3 : Nat) ({ cls := "SoleraCellar$Reader", name := "<init>", desc := "([BI)V" } : Jvm.MethodName)) ∈ lw_all := lw_g (lw_at lw_m5 123 rfl) rfl
theorem q1215 : (Jvm.Cond.classLink "SoleraCellar$OrderReader" (9 : Nat) "java/util/ArrayList") ∈ lw_all := lw_g (lw_at lw_m5 124 rfl) rfl
theorem q1216 : (Jvm.Cond.methodLink "SoleraCellar$OrderReader" (11 : Nat) ({ cls := "java/util/ArrayList", name := "<init>", desc := "(I)V" } : Jvm.MethodName)) ∈ lw_all := lw_g (lw_at lw_m5 125 rfl) rfl
theorem q1217 : (Jvm.Cond.fieldLink "SoleraCellar$OrderReader" (14 : Nat) "SoleraCellar$OrderReader" "orders" "Ljava/util/ArrayList;") ∈ lw_all := lw_g (lw_at lw_m5 126 rfl) rfl
theorem q1219 : (Jvm.Cond.laysFinal "SoleraCellar$OrderReader" "SoleraCellar$OrderReader" "orders" "Ljava/util/ArrayList;") ∈ lw_all := lw_g (lw_at lw_m5 128 rfl) rfl
theorem q1220 : (Jvm.Cond.soleField "SoleraCellar$OrderReader" "orders") ∈ lw_all := lw_g (lw_at lw_m5 129 rfl) rfl
theorem q1221 : (Jvm.Cond.laysFinal "SoleraCellar$OrderReader" "SoleraCellar$Reader" "tape" "[B") ∈ lw_all := lw_g (lw_at lw_m5 130 rfl) rfl
theorem q1222 : (Jvm.Cond.laysFinal "SoleraCellar$OrderReader" "SoleraCellar$Reader" "size" "I") ∈ lw_all := lw_g (lw_at lw_m5 131 rfl) rfl
theorem q1223 : (Jvm.Cond.lays "SoleraCellar$OrderReader" "SoleraCellar$Reader" "made" "I") ∈ lw_all := lw_g (lw_at lw_m5 132 rfl) rfl
theorem q1224 : (Jvm.Cond.lays "SoleraCellar$OrderReader" "SoleraCellar$Reader" "from" "I") ∈ lw_all := lw_g (lw_at lw_m5 133 rfl) rfl
theorem q1225 : (Jvm.Cond.lays "SoleraCellar$OrderReader" "SoleraCellar$Reader" "to" "I") ∈ lw_all := lw_g (lw_at lw_m5 134 rfl) rfl
theorem q1226 : (Jvm.Cond.lays "SoleraCellar$OrderReader" "SoleraCellar$Reader" "leaves" "I") ∈ lw_all := lw_g (lw_at lw_m5 135 rfl) rfl
theorem q1227 : (Jvm.Cond.lays "SoleraCellar$OrderReader" "SoleraCellar$Reader" "deep" "I") ∈ lw_all := lw_g (lw_at lw_m5 136 rfl) rfl
theorem q1228 : (Jvm.Cond.superclass "SoleraCellar$OrderReader" "SoleraCellar$Reader") ∈ lw_all := lw_g (lw_at lw_m5 137 rfl) rfl
theorem q2233 : (Jvm.Cond.selects "SoleraCellar$OrderReader" ({ cls := "SoleraCellar$Reader", name := "is", desc := "(Ljava/lang/String;)Z" } : Jvm.MethodName) ({ cls := "SoleraCellar$Reader", name := "is", desc := "(Ljava/lang/String;)Z" } : Jvm.MethodName)) ∈ lw_all := lw_g (lw_at lw_m9 182 rfl) rfl
theorem q2236 : (Jvm.Cond.selects "SoleraCellar$OrderReader" ({ cls := "SoleraCellar$Reader", name := "sum", desc := "()LSoleraCellar$Sum;" } : Jvm.MethodName) ({ cls := "SoleraCellar$Reader", name := "sum", desc := "()LSoleraCellar$Sum;" } : Jvm.MethodName)) ∈ lw_all := lw_g (lw_at lw_m9 185 rfl) rfl
theorem q2239 : (Jvm.Cond.selects "SoleraCellar$OrderReader" ({ cls := "SoleraCellar$Reader", name := "test", desc := "()LSoleraCellar$Test;" } : Jvm.MethodName) ({ cls := "SoleraCellar$Reader", name := "test", desc := "()LSoleraCellar$Test;" } : Jvm.MethodName)) ∈ lw_all := lw_g (lw_at lw_m9 188 rfl) rfl
theorem q2262 : (Jvm.Cond.castable "SoleraCellar$OrderReader" "java/lang/Object") ∈ lw_tbl := lw_at lw_m9 211 rfl
theorem in_X20 : ∀ w ∈ wsX200, w ∈ lw_all := lw_in wsX200 [1221, 1222, 1223, 1224, 1225, 1226, 1227, 1219] (by decide +kernel) (by decide +kernel)

/-! SoleraCellar$Plan -/
set_option maxRecDepth 100000
def RX21 : String := "SoleraCellar$Plan"
def TX21 : u_T := fun k => match k with
  | _ => ("SoleraCellar$Plan", "orders", "Ljava/util/ArrayList;", true)
def tyX21 : Nat → FieldType := fun k => match k with
  | _ => .object "java/util/ArrayList"
abbrev wsX210 : List Cond := u_ws RX21 TX21 1
theorem nmX21 : ∀ a, a < 1 → ∀ b, b < 1 → a ≠ b → (TX21 a).2.1 ≠ (TX21 b).2.1 := by decide +kernel
theorem tyX21_ok : ∀ k, k < 1 → parseFieldDescriptor (TX21 k).2.2.1 = some (tyX21 k) := by decide +kernel
abbrev cX21_init : ByteArray := prog_12_method_1_code
def yX21_init : MethodName := ⟨RX21, "<init>", "(Ljava/util/ArrayList;)V"⟩
def dkwX21_init_0 : List UInt8 := [42, 183, 0, 1, 42, 43, 181, 0, 7, 177]
abbrev dktX21_init_0 : List UInt8 := dkwX21_init_0 ++ []
theorem dksX21_init_0 : cX21_init.data.toList.drop 0 = dktX21_init_0 := by decide +kernel
theorem dX21_init_0 : decode cX21_init 0 = .ok (.aload_n 0, 1) := dk_42 (dk_at dksX21_init_0 0 rfl rfl)
theorem dX21_init_1 : decode cX21_init 1 = .ok (.invokespecial 1, 3) := dk_183 0 1 (dk_at dksX21_init_0 1 rfl rfl)
theorem dX21_init_4 : decode cX21_init 4 = .ok (.aload_n 0, 1) := dk_42 (dk_at dksX21_init_0 4 rfl rfl)
theorem dX21_init_5 : decode cX21_init 5 = .ok (.aload_n 1, 1) := dk_43 (dk_at dksX21_init_0 5 rfl rfl)
theorem dX21_init_6 : decode cX21_init 6 = .ok (.putfield 7, 3) := dk_181 0 7 (dk_at dksX21_init_0 6 rfl rfl)
theorem dX21_init_9 : decode cX21_init 9 = .ok (.return_, 1) := dk_177 (dk_at dksX21_init_0 9 rfl rfl)
theorem q167 : (Jvm.Cond.initialized "SoleraCellar$Plan") ∈ lw_all := lw_g (lw_at lw_m1 36 rfl) rfl
theorem q498 : (Jvm.Cond.selects "SoleraCellar$Plan" ({ cls := "java/lang/Object", name := "getClass", desc := "()Ljava/lang/Class;" } : Jvm.MethodName) ({ cls := "java/lang/Object", name := "getClass", desc := "()Ljava/lang/Class;" } : Jvm.MethodName)) ∈ lw_all := lw_g (lw_at lw_m2 127 rfl) rfl
theorem q1230 : (Jvm.Cond.instantiable "SoleraCellar$Plan" (1 : Nat)) ∈ lw_all := lw_g (lw_at lw_m5 139 rfl) rfl
theorem q1232 : (Jvm.Cond.instanceMethod ({ cls := "SoleraCellar$Plan", name := "<init>", desc := "(Ljava/util/ArrayList;)V" } : Jvm.MethodName)) ∈ lw_all := lw_g (lw_at lw_m5 141 rfl) rfl
theorem q1233 : (Jvm.Cond.code ({ cls := "SoleraCellar$Plan", name := "<init>", desc := "(Ljava/util/ArrayList;)V" } : Jvm.MethodName) prog_12_method_1_code (2 : Nat) (Option.none : Option Jvm.ClassFile.FieldType)) ∈ lw_all := lw_g (lw_at lw_m5 142 rfl) rfl
theorem q1234 : (Jvm.Cond.methodLink "SoleraCellar$Plan" (1 : Nat) ({ cls := "java/lang/Object", name := "<init>", desc := "()V" } : Jvm.MethodName)) ∈ lw_all := lw_g (lw_at lw_m5 143 rfl) rfl
theorem q1235 : (Jvm.Cond.fieldLink "SoleraCellar$Plan" (7 : Nat) "SoleraCellar$Plan" "orders" "Ljava/util/ArrayList;") ∈ lw_all := lw_g (lw_at lw_m5 144 rfl) rfl
theorem q1237 : (Jvm.Cond.laysFinal "SoleraCellar$Plan" "SoleraCellar$Plan" "orders" "Ljava/util/ArrayList;") ∈ lw_all := lw_g (lw_at lw_m5 146 rfl) rfl
theorem q1238 : (Jvm.Cond.soleField "SoleraCellar$Plan" "orders") ∈ lw_all := lw_g (lw_at lw_m5 147 rfl) rfl
theorem q1239 : (Jvm.Cond.superclass "SoleraCellar$Plan" "java/lang/Object") ∈ lw_all := lw_g (lw_at lw_m5 148 rfl) rfl
theorem q2263 : (Jvm.Cond.castable "SoleraCellar$Plan" "java/lang/Object") ∈ lw_tbl := lw_at lw_m9 212 rfl
theorem in_X21 : ∀ w ∈ wsX210, w ∈ lw_all := lw_in wsX210 [1237] (by decide +kernel) (by decide +kernel)

/-! SoleraCellar$Setting -/
set_option maxRecDepth 100000
def RX3 : String := "SoleraCellar$Setting"
def TX3 : u_T := fun k => match k with
  | 0 => ("SoleraCellar$Setting", "broken", "LSoleraCellar$Broken;", true)
  | _ => ("SoleraCellar$Setting", "values", "[J", true)
def tyX3 : Nat → FieldType := fun k => match k with
  | 0 => .object "SoleraCellar$Broken"
  | _ => .array .long
abbrev wsX30 : List Cond := u_ws RX3 TX3 2
theorem nmX3 : ∀ a, a < 2 → ∀ b, b < 2 → a ≠ b → (TX3 a).2.1 ≠ (TX3 b).2.1 := by decide +kernel
theorem tyX3_ok : ∀ k, k < 2 → parseFieldDescriptor (TX3 k).2.2.1 = some (tyX3 k) := by decide +kernel
abbrev cX3_init : ByteArray := prog_14_method_1_code
def yX3_init : MethodName := ⟨RX3, "<init>", "()V"⟩
def dkwX3_init_0 : List UInt8 := [42, 183, 0, 3, 42, 187, 0, 9, 89, 183, 0, 11, 181, 0, 12, 42, 16, 28, 188, 11, 181, 0, 18, 177]
abbrev dktX3_init_0 : List UInt8 := dkwX3_init_0 ++ []
theorem dksX3_init_0 : cX3_init.data.toList.drop 0 = dktX3_init_0 := by decide +kernel
theorem dX3_init_0 : decode cX3_init 0 = .ok (.aload_n 0, 1) := dk_42 (dk_at dksX3_init_0 0 rfl rfl)
theorem dX3_init_1 : decode cX3_init 1 = .ok (.invokespecial 3, 3) := dk_183 0 3 (dk_at dksX3_init_0 1 rfl rfl)
theorem dX3_init_4 : decode cX3_init 4 = .ok (.aload_n 0, 1) := dk_42 (dk_at dksX3_init_0 4 rfl rfl)
theorem dX3_init_5 : decode cX3_init 5 = .ok (.new 9, 3) := dk_187 0 9 (dk_at dksX3_init_0 5 rfl rfl)
theorem dX3_init_8 : decode cX3_init 8 = .ok (.dup, 1) := dk_89 (dk_at dksX3_init_0 8 rfl rfl)
theorem dX3_init_9 : decode cX3_init 9 = .ok (.invokespecial 11, 3) := dk_183 0 11 (dk_at dksX3_init_0 9 rfl rfl)
theorem dX3_init_12 : decode cX3_init 12 = .ok (.putfield 12, 3) := dk_181 0 12 (dk_at dksX3_init_0 12 rfl rfl)
theorem dX3_init_15 : decode cX3_init 15 = .ok (.aload_n 0, 1) := dk_42 (dk_at dksX3_init_0 15 rfl rfl)
theorem dX3_init_16 : decode cX3_init 16 = .ok (.bipush 28, 2) := dk_16 28 (dk_at dksX3_init_0 16 rfl rfl)
theorem dX3_init_18 : decode cX3_init 18 = .ok (.newarray .long, 2) := dk_188_11 (dk_at dksX3_init_0 18 rfl rfl)
theorem dX3_init_20 : decode cX3_init 20 = .ok (.putfield 18, 3) := dk_181 0 18 (dk_at dksX3_init_0 20 rfl rfl)
theorem dX3_init_23 : decode cX3_init 23 = .ok (.return_, 1) := dk_177 (dk_at dksX3_init_0 23 rfl rfl)
theorem q138 : (Jvm.Cond.initialized "SoleraCellar$Setting") ∈ lw_all := lw_g (lw_at lw_m1 7 rfl) rfl
theorem q284 : (Jvm.Cond.instantiable "SoleraCellar$Setting" (2 : Nat)) ∈ lw_all := lw_g (lw_at lw_m1 153 rfl) rfl
theorem q286 : (Jvm.Cond.instanceMethod ({ cls := "SoleraCellar$Setting", name := "<init>", desc := "()V" } : Jvm.MethodName)) ∈ lw_all := lw_g (lw_at lw_m1 155 rfl) rfl
theorem q287 : (Jvm.Cond.code ({ cls := "SoleraCellar$Setting", name := "<init>", desc := "()V" } : Jvm.MethodName) prog_14_method_1_code (1 : Nat) (Option.none : Option Jvm.ClassFile.FieldType)) ∈ lw_all := lw_g (lw_at lw_m1 156 rfl) rfl
theorem q288 : (Jvm.Cond.methodLink "SoleraCellar$Setting" (3 : Nat) ({ cls := "java/lang/Object", name := "<init>", desc := "()V" } : Jvm.MethodName)) ∈ lw_all := lw_g (lw_at lw_m1 157 rfl) rfl
theorem q289 : (Jvm.Cond.classLink "SoleraCellar$Setting" (9 : Nat) "SoleraCellar$Broken") ∈ lw_all := lw_g (lw_at lw_m1 158 rfl) rfl
theorem q327 : (Jvm.Cond.methodLink "SoleraCellar$Setting" (11 : Nat) ({ cls := "SoleraCellar$Broken", name := "<init>", desc := "()V" } : Jvm.MethodName)) ∈ lw_all := lw_g (lw_at lw_m1 196 rfl) rfl
theorem q350 : (Jvm.Cond.fieldLink "SoleraCellar$Setting" (12 : Nat) "SoleraCellar$Setting" "broken" "LSoleraCellar$Broken;") ∈ lw_all := lw_g (lw_at lw_m1 219 rfl) rfl
theorem q352 : (Jvm.Cond.fieldLink "SoleraCellar$Setting" (18 : Nat) "SoleraCellar$Setting" "values" "[J") ∈ lw_all := lw_g (lw_at lw_m1 221 rfl) rfl
theorem q355 : (Jvm.Cond.laysFinal "SoleraCellar$Setting" "SoleraCellar$Setting" "broken" "LSoleraCellar$Broken;") ∈ lw_all := lw_g (lw_at lw_m1 224 rfl) rfl
theorem q356 : (Jvm.Cond.soleField "SoleraCellar$Setting" "broken") ∈ lw_all := lw_g (lw_at lw_m1 225 rfl) rfl
theorem q357 : (Jvm.Cond.laysFinal "SoleraCellar$Setting" "SoleraCellar$Setting" "values" "[J") ∈ lw_all := lw_g (lw_at lw_m1 226 rfl) rfl
theorem q358 : (Jvm.Cond.soleField "SoleraCellar$Setting" "values") ∈ lw_all := lw_g (lw_at lw_m1 227 rfl) rfl
theorem q359 : (Jvm.Cond.superclass "SoleraCellar$Setting" "java/lang/Object") ∈ lw_all := lw_g (lw_at lw_m1 228 rfl) rfl
theorem q499 : (Jvm.Cond.selects "SoleraCellar$Setting" ({ cls := "java/lang/Object", name := "getClass", desc := "()Ljava/lang/Class;" } : Jvm.MethodName) ({ cls := "java/lang/Object", name := "getClass", desc := "()Ljava/lang/Class;" } : Jvm.MethodName)) ∈ lw_all := lw_g (lw_at lw_m2 128 rfl) rfl
theorem q2249 : (Jvm.Cond.castable "SoleraCellar$Setting" "java/lang/Object") ∈ lw_tbl := lw_at lw_m9 198 rfl
theorem in_X3 : ∀ w ∈ wsX30, w ∈ lw_all := lw_in wsX30 [355, 357] (by decide +kernel) (by decide +kernel)

/-! SoleraCellar$Broken -/
set_option maxRecDepth 100000
def RX4 : String := "SoleraCellar$Broken"
def TX4 : u_T := fun k => match k with
  | 0 => ("java/lang/Throwable", "cause", "Ljava/lang/Throwable;", false)
  | 1 => ("java/lang/Throwable", "stackTrace", "[Ljava/lang/StackTraceElement;", false)
  | 2 => ("java/lang/Throwable", "suppressedExceptions", "Ljava/util/List;", false)
  | 3 => ("java/lang/Throwable", "detailMessage", "Ljava/lang/String;", false)
  | 4 => ("java/lang/Throwable", "backtrace", "Ljava/lang/Object;", false)
  | _ => ("java/lang/Throwable", "depth", "I", false)
def tyX4 : Nat → FieldType := fun k => match k with
  | 0 => .object "java/lang/Throwable"
  | 1 => .array (.object "java/lang/StackTraceElement")
  | 2 => .object "java/util/List"
  | 3 => .object "java/lang/String"
  | 4 => .object "java/lang/Object"
  | _ => .int
abbrev wsX40 : List Cond := u_ws RX4 TX4 6
theorem nmX4 : ∀ a, a < 6 → ∀ b, b < 6 → a ≠ b → (TX4 a).2.1 ≠ (TX4 b).2.1 := by decide +kernel
theorem tyX4_ok : ∀ k, k < 6 → parseFieldDescriptor (TX4 k).2.2.1 = some (tyX4 k) := by decide +kernel
abbrev cX4_init : ByteArray := prog_2_method_1_code
def yX4_init : MethodName := ⟨RX4, "<init>", "()V"⟩
def dkwX4_init_0 : List UInt8 := [42, 1, 1, 3, 3, 183, 0, 1, 177]
abbrev dktX4_init_0 : List UInt8 := dkwX4_init_0 ++ []
theorem dksX4_init_0 : cX4_init.data.toList.drop 0 = dktX4_init_0 := by decide +kernel
theorem dX4_init_0 : decode cX4_init 0 = .ok (.aload_n 0, 1) := dk_42 (dk_at dksX4_init_0 0 rfl rfl)
theorem dX4_init_1 : decode cX4_init 1 = .ok (.aconst_null, 1) := dk_1 (dk_at dksX4_init_0 1 rfl rfl)
theorem dX4_init_2 : decode cX4_init 2 = .ok (.aconst_null, 1) := dk_1 (dk_at dksX4_init_0 2 rfl rfl)
theorem dX4_init_3 : decode cX4_init 3 = .ok (.iconst 0, 1) := dk_3 (dk_at dksX4_init_0 3 rfl rfl)
theorem dX4_init_4 : decode cX4_init 4 = .ok (.iconst 0, 1) := dk_3 (dk_at dksX4_init_0 4 rfl rfl)
theorem dX4_init_5 : decode cX4_init 5 = .ok (.invokespecial 1, 3) := dk_183 0 1 (dk_at dksX4_init_0 5 rfl rfl)
theorem dX4_init_8 : decode cX4_init 8 = .ok (.return_, 1) := dk_177 (dk_at dksX4_init_0 8 rfl rfl)
theorem q141 : (Jvm.Cond.initialized "SoleraCellar$Broken") ∈ lw_all := lw_g (lw_at lw_m1 10 rfl) rfl
theorem q290 : (Jvm.Cond.instantiable "SoleraCellar$Broken" (6 : Nat)) ∈ lw_all := lw_g (lw_at lw_m1 159 rfl) rfl
theorem q291 : (Jvm.Cond.castable "SoleraCellar$Broken" "SoleraCellar$Broken") ∈ lw_tbl := lw_at lw_m1 160 rfl
theorem q296 : (Jvm.Cond.selects "SoleraCellar$Broken" ({ cls := "java/lang/Throwable", name := "fillInStackTrace", desc := "(I)Ljava/lang/Throwable;" } : Jvm.MethodName) ({ cls := "java/lang/Throwable", name := "fillInStackTrace", desc := "(I)Ljava/lang/Throwable;" } : Jvm.MethodName)) ∈ lw_all := lw_g (lw_at lw_m1 165 rfl) rfl
theorem q297 : (Jvm.Cond.selects "SoleraCellar$Broken" ({ cls := "java/lang/Throwable", name := "fillInStackTrace", desc := "()Ljava/lang/Throwable;" } : Jvm.MethodName) ({ cls := "java/lang/Throwable", name := "fillInStackTrace", desc := "()Ljava/lang/Throwable;" } : Jvm.MethodName)) ∈ lw_all := lw_g (lw_at lw_m1 166 rfl) rfl
theorem q298 : (Jvm.Cond.lays "SoleraCellar$Broken" "java/lang/Throwable" "cause" "Ljava/lang/Throwable;") ∈ lw_all := lw_g (lw_at lw_m1 167 rfl) rfl
theorem q300 : (Jvm.Cond.lays "SoleraCellar$Broken" "java/lang/Throwable" "stackTrace" "[Ljava/lang/StackTraceElement;") ∈ lw_all := lw_g (lw_at lw_m1 169 rfl) rfl
theorem q302 : (Jvm.Cond.lays "SoleraCellar$Broken" "java/lang/Throwable" "suppressedExceptions" "Ljava/util/List;") ∈ lw_all := lw_g (lw_at lw_m1 171 rfl) rfl
theorem q304 : (Jvm.Cond.lays "SoleraCellar$Broken" "java/lang/Throwable" "detailMessage" "Ljava/lang/String;") ∈ lw_all := lw_g (lw_at lw_m1 173 rfl) rfl
theorem q306 : (Jvm.Cond.lays "SoleraCellar$Broken" "java/lang/Throwable" "backtrace" "Ljava/lang/Object;") ∈ lw_all := lw_g (lw_at lw_m1 175 rfl) rfl
theorem q328 : (Jvm.Cond.instanceMethod ({ cls := "SoleraCellar$Broken", name := "<init>", desc := "()V" } : Jvm.MethodName)) ∈ lw_all := lw_g (lw_at lw_m1 197 rfl) rfl
theorem q329 : (Jvm.Cond.code ({ cls := "SoleraCellar$Broken", name := "<init>", desc := "()V" } : Jvm.MethodName) prog_2_method_1_code (1 : Nat) (Option.none : Option Jvm.ClassFile.FieldType)) ∈ lw_all := lw_g (lw_at lw_m1 198 rfl) rfl
theorem q330 : (Jvm.Cond.methodLink "SoleraCellar$Broken" (1 : Nat) ({ cls := "java/lang/Exception", name := "<init>", desc := "(Ljava/lang/String;Ljava/lang/Throwable;ZZ)V" } : Jvm.MethodName)) ∈ lw_all := lw_g (lw_at lw_m1 199 rfl) rfl
theorem q345 : (Jvm.Cond.lays "SoleraCellar$Broken" "java/lang/Throwable" "depth" "I") ∈ lw_all := lw_g (lw_at lw_m1 214 rfl) rfl
theorem q348 : (Jvm.Cond.superclass "SoleraCellar$Broken" "java/lang/Exception") ∈ lw_all := lw_g (lw_at lw_m1 217 rfl) rfl
theorem q488 : (Jvm.Cond.selects "SoleraCellar$Broken" ({ cls := "java/lang/Object", name := "getClass", desc := "()Ljava/lang/Class;" } : Jvm.MethodName) ({ cls := "java/lang/Object", name := "getClass", desc := "()Ljava/lang/Class;" } : Jvm.MethodName)) ∈ lw_all := lw_g (lw_at lw_m2 117 rfl) rfl
theorem q2250 : (Jvm.Cond.castable "SoleraCellar$Broken" "java/lang/Object") ∈ lw_tbl := lw_at lw_m9 199 rfl
theorem in_X4 : ∀ w ∈ wsX40, w ∈ lw_all := lw_in wsX40 [298, 300, 302, 304, 306, 345] (by decide +kernel) (by decide +kernel)

/-! SoleraCellar$LawReader -/
set_option maxRecDepth 100000
def RX7 : String := "SoleraCellar$LawReader"
def TX7 : u_T := fun k => match k with
  | 0 => ("SoleraCellar$Reader", "tape", "[B", true)
  | 1 => ("SoleraCellar$Reader", "size", "I", true)
  | 2 => ("SoleraCellar$Reader", "made", "I", false)
  | 3 => ("SoleraCellar$Reader", "from", "I", false)
  | 4 => ("SoleraCellar$Reader", "to", "I", false)
  | 5 => ("SoleraCellar$Reader", "leaves", "I", false)
  | 6 => ("SoleraCellar$Reader", "deep", "I", false)
  | _ => ("SoleraCellar$LawReader", "clauses", "Ljava/util/ArrayList;", true)
def tyX7 : Nat → FieldType := fun k => match k with
  | 0 => .array .byte
  | 1 => .int
  | 2 => .int
  | 3 => .int
  | 4 => .int
  | 5 => .int
  | 6 => .int
  | _ => .object "java/util/ArrayList"
abbrev wsX70 : List Cond := u_ws RX7 TX7 8
theorem nmX7 : ∀ a, a < 8 → ∀ b, b < 8 → a ≠ b → (TX7 a).2.1 ≠ (TX7 b).2.1 := by decide +kernel
theorem tyX7_ok : ∀ k, k < 8 → parseFieldDescriptor (TX7 k).2.2.1 = some (tyX7 k) := by decide +kernel
abbrev cX7_init : ByteArray := prog_7_method_1_code
def yX7_init : MethodName := ⟨RX7, "<init>", "([BI)V"⟩
def dkwX7_init_0 : List UInt8 := [42, 43, 28, 183, 0, 3, 42, 187, 0, 9, 89, 5, 183, 0, 11, 181, 0, 14, 177]
abbrev dktX7_init_0 : List UInt8 := dkwX7_init_0 ++ []
theorem dksX7_init_0 : cX7_init.data.toList.drop 0 = dktX7_init_0 := by decide +kernel
theorem dX7_init_0 : decode cX7_init 0 = .ok (.aload_n 0, 1) := dk_42 (dk_at dksX7_init_0 0 rfl rfl)
theorem dX7_init_1 : decode cX7_init 1 = .ok (.aload_n 1, 1) := dk_43 (dk_at dksX7_init_0 1 rfl rfl)
theorem dX7_init_2 : decode cX7_init 2 = .ok (.iload_n 2, 1) := dk_28 (dk_at dksX7_init_0 2 rfl rfl)
theorem dX7_init_3 : decode cX7_init 3 = .ok (.invokespecial 3, 3) := dk_183 0 3 (dk_at dksX7_init_0 3 rfl rfl)
theorem dX7_init_6 : decode cX7_init 6 = .ok (.aload_n 0, 1) := dk_42 (dk_at dksX7_init_0 6 rfl rfl)
theorem dX7_init_7 : decode cX7_init 7 = .ok (.new 9, 3) := dk_187 0 9 (dk_at dksX7_init_0 7 rfl rfl)
theorem dX7_init_10 : decode cX7_init 10 = .ok (.dup, 1) := dk_89 (dk_at dksX7_init_0 10 rfl rfl)
theorem dX7_init_11 : decode cX7_init 11 = .ok (.iconst 2, 1) := dk_5 (dk_at dksX7_init_0 11 rfl rfl)
theorem dX7_init_12 : decode cX7_init 12 = .ok (.invokespecial 11, 3) := dk_183 0 11 (dk_at dksX7_init_0 12 rfl rfl)
theorem dX7_init_15 : decode cX7_init 15 = .ok (.putfield 14, 3) := dk_181 0 14 (dk_at dksX7_init_0 15 rfl rfl)
theorem dX7_init_18 : decode cX7_init 18 = .ok (.return_, 1) := dk_177 (dk_at dksX7_init_0 18 rfl rfl)
abbrev cX7_clause : ByteArray := prog_7_method_2_code
def yX7_clause : MethodName := ⟨RX7, "clause", "()V"⟩
def dkwX7_clause_4 : List UInt8 := [182, 0, 53, 181, 0, 57, 42, 180, 0, 14, 44, 182, 0, 61, 87, 177]
abbrev dktX7_clause_4 : List UInt8 := dkwX7_clause_4 ++ []
def dkwX7_clause_3 : List UInt8 := [159, 0, 11, 44, 42, 182, 0, 41, 181, 0, 45, 42, 18, 48, 182, 0, 50, 153, 0, 11, 44, 42]
abbrev dktX7_clause_3 : List UInt8 := dkwX7_clause_3 ++ dktX7_clause_4
def dkwX7_clause_2 : List UInt8 := [4, 167, 0, 4, 3, 182, 0, 30, 42, 182, 0, 34, 187, 0, 38, 89, 27, 183, 0, 40, 77, 27, 5]
abbrev dktX7_clause_2 : List UInt8 := dkwX7_clause_2 ++ dktX7_clause_3
def dkwX7_clause_1 : List UInt8 := [167, 0, 17, 42, 18, 28, 182, 0, 22, 153, 0, 7, 5, 167, 0, 4, 2, 60, 42, 27, 2, 159, 0, 7]
abbrev dktX7_clause_1 : List UInt8 := dkwX7_clause_1 ++ dktX7_clause_2
def dkwX7_clause_0 : List UInt8 := [42, 18, 20, 182, 0, 22, 153, 0, 7, 3, 167, 0, 30, 42, 18, 26, 182, 0, 22, 153, 0, 7, 4]
abbrev dktX7_clause_0 : List UInt8 := dkwX7_clause_0 ++ dktX7_clause_1
theorem dksX7_clause_0 : cX7_clause.data.toList.drop 0 = dktX7_clause_0 := by decide +kernel
theorem dksX7_clause_1 : cX7_clause.data.toList.drop 23 = dktX7_clause_1 := dk_seg dksX7_clause_0 23 rfl rfl
theorem dksX7_clause_2 : cX7_clause.data.toList.drop 47 = dktX7_clause_2 := dk_seg dksX7_clause_1 24 rfl rfl
theorem dksX7_clause_3 : cX7_clause.data.toList.drop 70 = dktX7_clause_3 := dk_seg dksX7_clause_2 23 rfl rfl
theorem dksX7_clause_4 : cX7_clause.data.toList.drop 92 = dktX7_clause_4 := dk_seg dksX7_clause_3 22 rfl rfl
theorem dX7_clause_0 : decode cX7_clause 0 = .ok (.aload_n 0, 1) := dk_42 (dk_at dksX7_clause_0 0 rfl rfl)
theorem dX7_clause_1 : decode cX7_clause 1 = .ok (.ldc 20, 2) := dk_18 20 (dk_at dksX7_clause_0 1 rfl rfl)
theorem dX7_clause_3 : decode cX7_clause 3 = .ok (.invokevirtual 22, 3) := dk_182 0 22 (dk_at dksX7_clause_0 3 rfl rfl)
theorem dX7_clause_6 : decode cX7_clause 6 = .ok (.ifCond .eq 7, 3) := dk_153 0 7 (dk_at dksX7_clause_0 6 rfl rfl)
theorem dX7_clause_9 : decode cX7_clause 9 = .ok (.iconst 0, 1) := dk_3 (dk_at dksX7_clause_0 9 rfl rfl)
theorem dX7_clause_10 : decode cX7_clause 10 = .ok (.goto 30, 3) := dk_167 0 30 (dk_at dksX7_clause_0 10 rfl rfl)
theorem dX7_clause_13 : decode cX7_clause 13 = .ok (.aload_n 0, 1) := dk_42 (dk_at dksX7_clause_0 13 rfl rfl)
theorem dX7_clause_14 : decode cX7_clause 14 = .ok (.ldc 26, 2) := dk_18 26 (dk_at dksX7_clause_0 14 rfl rfl)
theorem dX7_clause_16 : decode cX7_clause 16 = .ok (.invokevirtual 22, 3) := dk_182 0 22 (dk_at dksX7_clause_0 16 rfl rfl)
theorem dX7_clause_19 : decode cX7_clause 19 = .ok (.ifCond .eq 7, 3) := dk_153 0 7 (dk_at dksX7_clause_0 19 rfl rfl)
theorem dX7_clause_22 : decode cX7_clause 22 = .ok (.iconst 1, 1) := dk_4 (dk_at dksX7_clause_0 22 rfl rfl)
theorem dX7_clause_23 : decode cX7_clause 23 = .ok (.goto 17, 3) := dk_167 0 17 (dk_at dksX7_clause_1 0 rfl rfl)
theorem dX7_clause_26 : decode cX7_clause 26 = .ok (.aload_n 0, 1) := dk_42 (dk_at dksX7_clause_1 3 rfl rfl)
theorem dX7_clause_27 : decode cX7_clause 27 = .ok (.ldc 28, 2) := dk_18 28 (dk_at dksX7_clause_1 4 rfl rfl)
theorem dX7_clause_29 : decode cX7_clause 29 = .ok (.invokevirtual 22, 3) := dk_182 0 22 (dk_at dksX7_clause_1 6 rfl rfl)
theorem dX7_clause_32 : decode cX7_clause 32 = .ok (.ifCond .eq 7, 3) := dk_153 0 7 (dk_at dksX7_clause_1 9 rfl rfl)
theorem dX7_clause_35 : decode cX7_clause 35 = .ok (.iconst 2, 1) := dk_5 (dk_at dksX7_clause_1 12 rfl rfl)
theorem dX7_clause_36 : decode cX7_clause 36 = .ok (.goto 4, 3) := dk_167 0 4 (dk_at dksX7_clause_1 13 rfl rfl)
theorem dX7_clause_39 : decode cX7_clause 39 = .ok (.iconst (-1), 1) := dk_2 (dk_at dksX7_clause_1 16 rfl rfl)
theorem dX7_clause_40 : decode cX7_clause 40 = .ok (.istore_n 1, 1) := dk_60 (dk_at dksX7_clause_1 17 rfl rfl)
theorem dX7_clause_41 : decode cX7_clause 41 = .ok (.aload_n 0, 1) := dk_42 (dk_at dksX7_clause_1 18 rfl rfl)
theorem dX7_clause_42 : decode cX7_clause 42 = .ok (.iload_n 1, 1) := dk_27 (dk_at dksX7_clause_1 19 rfl rfl)
theorem dX7_clause_43 : decode cX7_clause 43 = .ok (.iconst (-1), 1) := dk_2 (dk_at dksX7_clause_1 20 rfl rfl)
theorem dX7_clause_44 : decode cX7_clause 44 = .ok (.if_icmp .eq 7, 3) := dk_159 0 7 (dk_at dksX7_clause_1 21 rfl rfl)
theorem dX7_clause_47 : decode cX7_clause 47 = .ok (.iconst 1, 1) := dk_4 (dk_at dksX7_clause_2 0 rfl rfl)
theorem dX7_clause_48 : decode cX7_clause 48 = .ok (.goto 4, 3) := dk_167 0 4 (dk_at dksX7_clause_2 1 rfl rfl)
theorem dX7_clause_51 : decode cX7_clause 51 = .ok (.iconst 0, 1) := dk_3 (dk_at dksX7_clause_2 4 rfl rfl)
theorem dX7_clause_52 : decode cX7_clause 52 = .ok (.invokevirtual 30, 3) := dk_182 0 30 (dk_at dksX7_clause_2 5 rfl rfl)
theorem dX7_clause_55 : decode cX7_clause 55 = .ok (.aload_n 0, 1) := dk_42 (dk_at dksX7_clause_2 8 rfl rfl)
theorem dX7_clause_56 : decode cX7_clause 56 = .ok (.invokevirtual 34, 3) := dk_182 0 34 (dk_at dksX7_clause_2 9 rfl rfl)
theorem dX7_clause_59 : decode cX7_clause 59 = .ok (.new 38, 3) := dk_187 0 38 (dk_at dksX7_clause_2 12 rfl rfl)
theorem dX7_clause_62 : decode cX7_clause 62 = .ok (.dup, 1) := dk_89 (dk_at dksX7_clause_2 15 rfl rfl)
theorem dX7_clause_63 : decode cX7_clause 63 = .ok (.iload_n 1, 1) := dk_27 (dk_at dksX7_clause_2 16 rfl rfl)
theorem dX7_clause_64 : decode cX7_clause 64 = .ok (.invokespecial 40, 3) := dk_183 0 40 (dk_at dksX7_clause_2 17 rfl rfl)
theorem dX7_clause_67 : decode cX7_clause 67 = .ok (.astore_n 2, 1) := dk_77 (dk_at dksX7_clause_2 20 rfl rfl)
theorem dX7_clause_68 : decode cX7_clause 68 = .ok (.iload_n 1, 1) := dk_27 (dk_at dksX7_clause_2 21 rfl rfl)
theorem dX7_clause_69 : decode cX7_clause 69 = .ok (.iconst 2, 1) := dk_5 (dk_at dksX7_clause_2 22 rfl rfl)
theorem dX7_clause_70 : decode cX7_clause 70 = .ok (.if_icmp .eq 11, 3) := dk_159 0 11 (dk_at dksX7_clause_3 0 rfl rfl)
theorem dX7_clause_73 : decode cX7_clause 73 = .ok (.aload_n 2, 1) := dk_44 (dk_at dksX7_clause_3 3 rfl rfl)
theorem dX7_clause_74 : decode cX7_clause 74 = .ok (.aload_n 0, 1) := dk_42 (dk_at dksX7_clause_3 4 rfl rfl)
theorem dX7_clause_75 : decode cX7_clause 75 = .ok (.invokevirtual 41, 3) := dk_182 0 41 (dk_at dksX7_clause_3 5 rfl rfl)
theorem dX7_clause_78 : decode cX7_clause 78 = .ok (.putfield 45, 3) := dk_181 0 45 (dk_at dksX7_clause_3 8 rfl rfl)
theorem dX7_clause_81 : decode cX7_clause 81 = .ok (.aload_n 0, 1) := dk_42 (dk_at dksX7_clause_3 11 rfl rfl)
theorem dX7_clause_82 : decode cX7_clause 82 = .ok (.ldc 48, 2) := dk_18 48 (dk_at dksX7_clause_3 12 rfl rfl)
theorem dX7_clause_84 : decode cX7_clause 84 = .ok (.invokevirtual 50, 3) := dk_182 0 50 (dk_at dksX7_clause_3 14 rfl rfl)
theorem dX7_clause_87 : decode cX7_clause 87 = .ok (.ifCond .eq 11, 3) := dk_153 0 11 (dk_at dksX7_clause_3 17 rfl rfl)
theorem dX7_clause_90 : decode cX7_clause 90 = .ok (.aload_n 2, 1) := dk_44 (dk_at dksX7_clause_3 20 rfl rfl)
theorem dX7_clause_91 : decode cX7_clause 91 = .ok (.aload_n 0, 1) := dk_42 (dk_at dksX7_clause_3 21 rfl rfl)
theorem dX7_clause_92 : decode cX7_clause 92 = .ok (.invokevirtual 53, 3) := dk_182 0 53 (dk_at dksX7_clause_4 0 rfl rfl)
theorem dX7_clause_95 : decode cX7_clause 95 = .ok (.putfield 57, 3) := dk_181 0 57 (dk_at dksX7_clause_4 3 rfl rfl)
theorem dX7_clause_98 : decode cX7_clause 98 = .ok (.aload_n 0, 1) := dk_42 (dk_at dksX7_clause_4 6 rfl rfl)
theorem dX7_clause_99 : decode cX7_clause 99 = .ok (.getfield 14, 3) := dk_180 0 14 (dk_at dksX7_clause_4 7 rfl rfl)
theorem dX7_clause_102 : decode cX7_clause 102 = .ok (.aload_n 2, 1) := dk_44 (dk_at dksX7_clause_4 10 rfl rfl)
theorem dX7_clause_103 : decode cX7_clause 103 = .ok (.invokevirtual 61, 3) := dk_182 0 61 (dk_at dksX7_clause_4 11 rfl rfl)
theorem dX7_clause_106 : decode cX7_clause 106 = .ok (.pop, 1) := dk_87 (dk_at dksX7_clause_4 14 rfl rfl)
theorem dX7_clause_107 : decode cX7_clause 107 = .ok (.return_, 1) := dk_177 (dk_at dksX7_clause_4 15 rfl rfl)
abbrev cX7_value : ByteArray := prog_7_method_3_code
def yX7_value : MethodName := ⟨RX7, "value", "()I"⟩
def dkwX7_value_3 : List UInt8 := [182, 0, 67, 153, 0, 8, 16, 6, 167, 0, 4, 2, 172]
abbrev dktX7_value_3 : List UInt8 := dkwX7_value_3 ++ []
def dkwX7_value_2 : List UInt8 := [182, 0, 67, 153, 0, 5, 7, 172, 42, 18, 78, 182, 0, 67, 153, 0, 5, 8, 172, 42, 18, 80]
abbrev dktX7_value_2 : List UInt8 := dkwX7_value_2 ++ dktX7_value_3
def dkwX7_value_1 : List UInt8 := [18, 72, 182, 0, 67, 153, 0, 5, 5, 172, 42, 18, 74, 182, 0, 67, 153, 0, 5, 6, 172, 42, 18, 76]
abbrev dktX7_value_1 : List UInt8 := dkwX7_value_1 ++ dktX7_value_2
def dkwX7_value_0 : List UInt8 := [42, 18, 65, 182, 0, 67, 153, 0, 5, 3, 172, 42, 18, 70, 182, 0, 67, 153, 0, 5, 4, 172, 42]
abbrev dktX7_value_0 : List UInt8 := dkwX7_value_0 ++ dktX7_value_1
theorem dksX7_value_0 : cX7_value.data.toList.drop 0 = dktX7_value_0 := by decide +kernel
theorem dksX7_value_1 : cX7_value.data.toList.drop 23 = dktX7_value_1 := dk_seg dksX7_value_0 23 rfl rfl
theorem dksX7_value_2 : cX7_value.data.toList.drop 47 = dktX7_value_2 := dk_seg dksX7_value_1 24 rfl rfl
theorem dksX7_value_3 : cX7_value.data.toList.drop 69 = dktX7_value_3 := dk_seg dksX7_value_2 22 rfl rfl
theorem dX7_value_0 : decode cX7_value 0 = .ok (.aload_n 0, 1) := dk_42 (dk_at dksX7_value_0 0 rfl rfl)
theorem dX7_value_1 : decode cX7_value 1 = .ok (.ldc 65, 2) := dk_18 65 (dk_at dksX7_value_0 1 rfl rfl)
theorem dX7_value_3 : decode cX7_value 3 = .ok (.invokevirtual 67, 3) := dk_182 0 67 (dk_at dksX7_value_0 3 rfl rfl)
theorem dX7_value_6 : decode cX7_value 6 = .ok (.ifCond .eq 5, 3) := dk_153 0 5 (dk_at dksX7_value_0 6 rfl rfl)
theorem dX7_value_9 : decode cX7_value 9 = .ok (.iconst 0, 1) := dk_3 (dk_at dksX7_value_0 9 rfl rfl)
theorem dX7_value_10 : decode cX7_value 10 = .ok (.ireturn, 1) := dk_172 (dk_at dksX7_value_0 10 rfl rfl)
theorem dX7_value_11 : decode cX7_value 11 = .ok (.aload_n 0, 1) := dk_42 (dk_at dksX7_value_0 11 rfl rfl)
theorem dX7_value_12 : decode cX7_value 12 = .ok (.ldc 70, 2) := dk_18 70 (dk_at dksX7_value_0 12 rfl rfl)
theorem dX7_value_14 : decode cX7_value 14 = .ok (.invokevirtual 67, 3) := dk_182 0 67 (dk_at dksX7_value_0 14 rfl rfl)
theorem dX7_value_17 : decode cX7_value 17 = .ok (.ifCond .eq 5, 3) := dk_153 0 5 (dk_at dksX7_value_0 17 rfl rfl)
theorem dX7_value_20 : decode cX7_value 20 = .ok (.iconst 1, 1) := dk_4 (dk_at dksX7_value_0 20 rfl rfl)
theorem dX7_value_21 : decode cX7_value 21 = .ok (.ireturn, 1) := dk_172 (dk_at dksX7_value_0 21 rfl rfl)
theorem dX7_value_22 : decode cX7_value 22 = .ok (.aload_n 0, 1) := dk_42 (dk_at dksX7_value_0 22 rfl rfl)
theorem dX7_value_23 : decode cX7_value 23 = .ok (.ldc 72, 2) := dk_18 72 (dk_at dksX7_value_1 0 rfl rfl)
theorem dX7_value_25 : decode cX7_value 25 = .ok (.invokevirtual 67, 3) := dk_182 0 67 (dk_at dksX7_value_1 2 rfl rfl)
theorem dX7_value_28 : decode cX7_value 28 = .ok (.ifCond .eq 5, 3) := dk_153 0 5 (dk_at dksX7_value_1 5 rfl rfl)
theorem dX7_value_31 : decode cX7_value 31 = .ok (.iconst 2, 1) := dk_5 (dk_at dksX7_value_1 8 rfl rfl)
theorem dX7_value_32 : decode cX7_value 32 = .ok (.ireturn, 1) := dk_172 (dk_at dksX7_value_1 9 rfl rfl)
theorem dX7_value_33 : decode cX7_value 33 = .ok (.aload_n 0, 1) := dk_42 (dk_at dksX7_value_1 10 rfl rfl)
theorem dX7_value_34 : decode cX7_value 34 = .ok (.ldc 74, 2) := dk_18 74 (dk_at dksX7_value_1 11 rfl rfl)
theorem dX7_value_36 : decode cX7_value 36 = .ok (.invokevirtual 67, 3) := dk_182 0 67 (dk_at dksX7_value_1 13 rfl rfl)
theorem dX7_value_39 : decode cX7_value 39 = .ok (.ifCond .eq 5, 3) := dk_153 0 5 (dk_at dksX7_value_1 16 rfl rfl)
theorem dX7_value_42 : decode cX7_value 42 = .ok (.iconst 3, 1) := dk_6 (dk_at dksX7_value_1 19 rfl rfl)
theorem dX7_value_43 : decode cX7_value 43 = .ok (.ireturn, 1) := dk_172 (dk_at dksX7_value_1 20 rfl rfl)
theorem dX7_value_44 : decode cX7_value 44 = .ok (.aload_n 0, 1) := dk_42 (dk_at dksX7_value_1 21 rfl rfl)
theorem dX7_value_45 : decode cX7_value 45 = .ok (.ldc 76, 2) := dk_18 76 (dk_at dksX7_value_1 22 rfl rfl)
theorem dX7_value_47 : decode cX7_value 47 = .ok (.invokevirtual 67, 3) := dk_182 0 67 (dk_at dksX7_value_2 0 rfl rfl)
theorem dX7_value_50 : decode cX7_value 50 = .ok (.ifCond .eq 5, 3) := dk_153 0 5 (dk_at dksX7_value_2 3 rfl rfl)
theorem dX7_value_53 : decode cX7_value 53 = .ok (.iconst 4, 1) := dk_7 (dk_at dksX7_value_2 6 rfl rfl)
theorem dX7_value_54 : decode cX7_value 54 = .ok (.ireturn, 1) := dk_172 (dk_at dksX7_value_2 7 rfl rfl)
theorem dX7_value_55 : decode cX7_value 55 = .ok (.aload_n 0, 1) := dk_42 (dk_at dksX7_value_2 8 rfl rfl)
theorem dX7_value_56 : decode cX7_value 56 = .ok (.ldc 78, 2) := dk_18 78 (dk_at dksX7_value_2 9 rfl rfl)
theorem dX7_value_58 : decode cX7_value 58 = .ok (.invokevirtual 67, 3) := dk_182 0 67 (dk_at dksX7_value_2 11 rfl rfl)
theorem dX7_value_61 : decode cX7_value 61 = .ok (.ifCond .eq 5, 3) := dk_153 0 5 (dk_at dksX7_value_2 14 rfl rfl)
theorem dX7_value_64 : decode cX7_value 64 = .ok (.iconst 5, 1) := dk_8 (dk_at dksX7_value_2 17 rfl rfl)
theorem dX7_value_65 : decode cX7_value 65 = .ok (.ireturn, 1) := dk_172 (dk_at dksX7_value_2 18 rfl rfl)
theorem dX7_value_66 : decode cX7_value 66 = .ok (.aload_n 0, 1) := dk_42 (dk_at dksX7_value_2 19 rfl rfl)
theorem dX7_value_67 : decode cX7_value 67 = .ok (.ldc 80, 2) := dk_18 80 (dk_at dksX7_value_2 20 rfl rfl)
theorem dX7_value_69 : decode cX7_value 69 = .ok (.invokevirtual 67, 3) := dk_182 0 67 (dk_at dksX7_value_3 0 rfl rfl)
theorem dX7_value_72 : decode cX7_value 72 = .ok (.ifCond .eq 8, 3) := dk_153 0 8 (dk_at dksX7_value_3 3 rfl rfl)
theorem dX7_value_75 : decode cX7_value 75 = .ok (.bipush 6, 2) := dk_16 6 (dk_at dksX7_value_3 6 rfl rfl)
theorem dX7_value_77 : decode cX7_value 77 = .ok (.goto 4, 3) := dk_167 0 4 (dk_at dksX7_value_3 8 rfl rfl)
theorem dX7_value_80 : decode cX7_value 80 = .ok (.iconst (-1), 1) := dk_2 (dk_at dksX7_value_3 11 rfl rfl)
theorem dX7_value_81 : decode cX7_value 81 = .ok (.ireturn, 1) := dk_172 (dk_at dksX7_value_3 12 rfl rfl)
theorem q147 : (Jvm.Cond.initialized "SoleraCellar$LawReader") ∈ lw_all := lw_g (lw_at lw_m1 16 rfl) rfl
theorem q493 : (Jvm.Cond.selects "SoleraCellar$LawReader" ({ cls := "java/lang/Object", name := "getClass", desc := "()Ljava/lang/Class;" } : Jvm.MethodName) ({ cls := "java/lang/Object", name := "getClass", desc := "()Ljava/lang/Class;" } : Jvm.MethodName)) ∈ lw_all := lw_g (lw_at lw_m2 122 rfl) rfl
theorem q736 : (Jvm.Cond.instantiable "SoleraCellar$LawReader" (8 : Nat)) ∈ lw_all := lw_g (lw_at lw_m3 125 rfl) rfl
theorem q738 : (Jvm.Cond.instanceMethod ({ cls := "SoleraCellar$LawReader", name := "<init>", desc := "([BI)V" } : Jvm.MethodName)) ∈ lw_all := lw_g (lw_at lw_m3 127 rfl) rfl
theorem q739 : (Jvm.Cond.code ({ cls := "SoleraCellar$LawReader", name := "<init>", desc := "([BI)V" } : Jvm.MethodName) prog_7_method_1_code (3 : Nat) (Option.none : Option Jvm.ClassFile.FieldType)) ∈ lw_all := lw_g (lw_at lw_m3 128 rfl) rfl
theorem q740 : (Jvm.Cond.methodLink "SoleraCellar$LawReader" (3 : Nat) ({ cls := "SoleraCellar$Reader", name := "<init>", desc := "([BI)V" } : Jvm.MethodName)) ∈ lw_all := lw_g (lw_at lw_m3 129 rfl) rfl
theorem q744 : (Jvm.Cond.classLink "SoleraCellar$LawReader" (9 : Nat) "java/util/ArrayList") ∈ lw_all := lw_g (lw_at lw_m3 133 rfl) rfl
theorem q745 : (Jvm.Cond.methodLink "SoleraCellar$LawReader" (11 : Nat) ({ cls := "java/util/ArrayList", name := "<init>", desc := "(I)V" } : Jvm.MethodName)) ∈ lw_all := lw_g (lw_at lw_m3 134 rfl) rfl
theorem q746 : (Jvm.Cond.fieldLink "SoleraCellar$LawReader" (14 : Nat) "SoleraCellar$LawReader" "clauses" "Ljava/util/ArrayList;") ∈ lw_all := lw_g (lw_at lw_m3 135 rfl) rfl
theorem q755 : (Jvm.Cond.laysFinal "SoleraCellar$LawReader" "SoleraCellar$LawReader" "clauses" "Ljava/util/ArrayList;") ∈ lw_all := lw_g (lw_at lw_m3 144 rfl) rfl
theorem q756 : (Jvm.Cond.soleField "SoleraCellar$LawReader" "clauses") ∈ lw_all := lw_g (lw_at lw_m3 145 rfl) rfl
theorem q757 : (Jvm.Cond.laysFinal "SoleraCellar$LawReader" "SoleraCellar$Reader" "tape" "[B") ∈ lw_all := lw_g (lw_at lw_m3 146 rfl) rfl
theorem q759 : (Jvm.Cond.laysFinal "SoleraCellar$LawReader" "SoleraCellar$Reader" "size" "I") ∈ lw_all := lw_g (lw_at lw_m3 148 rfl) rfl
theorem q761 : (Jvm.Cond.lays "SoleraCellar$LawReader" "SoleraCellar$Reader" "made" "I") ∈ lw_all := lw_g (lw_at lw_m3 150 rfl) rfl
theorem q763 : (Jvm.Cond.lays "SoleraCellar$LawReader" "SoleraCellar$Reader" "from" "I") ∈ lw_all := lw_g (lw_at lw_m3 152 rfl) rfl
theorem q765 : (Jvm.Cond.lays "SoleraCellar$LawReader" "SoleraCellar$Reader" "to" "I") ∈ lw_all := lw_g (lw_at lw_m3 154 rfl) rfl
theorem q767 : (Jvm.Cond.lays "SoleraCellar$LawReader" "SoleraCellar$Reader" "leaves" "I") ∈ lw_all := lw_g (lw_at lw_m3 156 rfl) rfl
theorem q769 : (Jvm.Cond.lays "SoleraCellar$LawReader" "SoleraCellar$Reader" "deep" "I") ∈ lw_all := lw_g (lw_at lw_m3 158 rfl) rfl
theorem q771 : (Jvm.Cond.superclass "SoleraCellar$LawReader" "SoleraCellar$Reader") ∈ lw_all := lw_g (lw_at lw_m3 160 rfl) rfl
theorem q780 : (Jvm.Cond.selects "SoleraCellar$LawReader" ({ cls := "SoleraCellar$Reader", name := "read", desc := "()V" } : Jvm.MethodName) ({ cls := "SoleraCellar$Reader", name := "read", desc := "()V" } : Jvm.MethodName)) ∈ lw_all := lw_g (lw_at lw_m3 169 rfl) rfl
theorem q786 : (Jvm.Cond.selects "SoleraCellar$LawReader" ({ cls := "SoleraCellar$Reader", name := "next", desc := "()V" } : Jvm.MethodName) ({ cls := "SoleraCellar$Reader", name := "next", desc := "()V" } : Jvm.MethodName)) ∈ lw_all := lw_g (lw_at lw_m3 175 rfl) rfl
theorem q792 : (Jvm.Cond.selects "SoleraCellar$LawReader" ({ cls := "SoleraCellar$Reader", name := "isIn", desc := "(III)Z" } : Jvm.MethodName) ({ cls := "SoleraCellar$Reader", name := "isIn", desc := "(III)Z" } : Jvm.MethodName)) ∈ lw_all := lw_g (lw_at lw_m3 181 rfl) rfl
theorem q798 : (Jvm.Cond.selects "SoleraCellar$LawReader" ({ cls := "SoleraCellar$Reader", name := "clause", desc := "()V" } : Jvm.MethodName) ({ cls := "SoleraCellar$LawReader", name := "clause", desc := "()V" } : Jvm.MethodName)) ∈ lw_all := lw_g (lw_at lw_m3 187 rfl) rfl
theorem q799 : (Jvm.Cond.instanceMethod ({ cls := "SoleraCellar$LawReader", name := "clause", desc := "()V" } : Jvm.MethodName)) ∈ lw_all := lw_g (lw_at lw_m3 188 rfl) rfl
theorem q800 : (Jvm.Cond.code ({ cls := "SoleraCellar$LawReader", name := "clause", desc := "()V" } : Jvm.MethodName) prog_7_method_2_code (3 : Nat) (Option.none : Option Jvm.ClassFile.FieldType)) ∈ lw_all := lw_g (lw_at lw_m3 189 rfl) rfl
theorem q801 : (Jvm.Cond.stringRef "SoleraCellar$LawReader" (20 : Nat) "loses") ∈ lw_tbl := lw_at lw_m3 190 rfl
theorem q802 : (Jvm.Cond.methodLink "SoleraCellar$LawReader" (22 : Nat) ({ cls := "SoleraCellar$LawReader", name := "is", desc := "(Ljava/lang/String;)Z" } : Jvm.MethodName)) ∈ lw_all := lw_g (lw_at lw_m3 191 rfl) rfl
theorem q803 : (Jvm.Cond.sameMethod "SoleraCellar$LawReader" "SoleraCellar$Reader" "is" "(Ljava/lang/String;)Z") ∈ lw_all := lw_g (lw_at lw_m3 192 rfl) rfl
theorem q805 : (Jvm.Cond.selects "SoleraCellar$LawReader" ({ cls := "SoleraCellar$LawReader", name := "is", desc := "(Ljava/lang/String;)Z" } : Jvm.MethodName) ({ cls := "SoleraCellar$Reader", name := "is", desc := "(Ljava/lang/String;)Z" } : Jvm.MethodName)) ∈ lw_all := lw_g (lw_at lw_m3 194 rfl) rfl
theorem q854 : (Jvm.Cond.stringRef "SoleraCellar$LawReader" (26 : Nat) "yields") ∈ lw_tbl := lw_at lw_m4 3 rfl
theorem q855 : (Jvm.Cond.stringRef "SoleraCellar$LawReader" (28 : Nat) "bars") ∈ lw_tbl := lw_at lw_m4 4 rfl
theorem q856 : (Jvm.Cond.methodLink "SoleraCellar$LawReader" (30 : Nat) ({ cls := "SoleraCellar$LawReader", name := "begins", desc := "(Z)V" } : Jvm.MethodName)) ∈ lw_all := lw_g (lw_at lw_m4 5 rfl) rfl
theorem q857 : (Jvm.Cond.sameMethod "SoleraCellar$LawReader" "SoleraCellar$Reader" "begins" "(Z)V") ∈ lw_all := lw_g (lw_at lw_m4 6 rfl) rfl
theorem q859 : (Jvm.Cond.selects "SoleraCellar$LawReader" ({ cls := "SoleraCellar$LawReader", name := "begins", desc := "(Z)V" } : Jvm.MethodName) ({ cls := "SoleraCellar$Reader", name := "begins", desc := "(Z)V" } : Jvm.MethodName)) ∈ lw_all := lw_g (lw_at lw_m4 8 rfl) rfl
theorem q881 : (Jvm.Cond.methodLink "SoleraCellar$LawReader" (34 : Nat) ({ cls := "SoleraCellar$LawReader", name := "next", desc := "()V" } : Jvm.MethodName)) ∈ lw_all := lw_g (lw_at lw_m4 30 rfl) rfl
theorem q882 : (Jvm.Cond.sameMethod "SoleraCellar$LawReader" "SoleraCellar$Reader" "next" "()V") ∈ lw_all := lw_g (lw_at lw_m4 31 rfl) rfl
theorem q884 : (Jvm.Cond.selects "SoleraCellar$LawReader" ({ cls := "SoleraCellar$LawReader", name := "next", desc := "()V" } : Jvm.MethodName) ({ cls := "SoleraCellar$Reader", name := "next", desc := "()V" } : Jvm.MethodName)) ∈ lw_all := lw_g (lw_at lw_m4 33 rfl) rfl
theorem q885 : (Jvm.Cond.classLink "SoleraCellar$LawReader" (38 : Nat) "SoleraCellar$Clause") ∈ lw_all := lw_g (lw_at lw_m4 34 rfl) rfl
theorem q887 : (Jvm.Cond.methodLink "SoleraCellar$LawReader" (40 : Nat) ({ cls := "SoleraCellar$Clause", name := "<init>", desc := "(I)V" } : Jvm.MethodName)) ∈ lw_all := lw_g (lw_at lw_m4 36 rfl) rfl
theorem q894 : (Jvm.Cond.fieldLinkNest "SoleraCellar$LawReader" (45 : Nat) "SoleraCellar$Clause" "sum" "LSoleraCellar$Sum;" "SoleraCellar") ∈ lw_tbl := lw_at lw_m4 43 rfl
theorem q896 : (Jvm.Cond.fieldLinkNest "SoleraCellar$LawReader" (57 : Nat) "SoleraCellar$Clause" "when" "LSoleraCellar$Test;" "SoleraCellar") ∈ lw_tbl := lw_at lw_m4 45 rfl
theorem q904 : (Jvm.Cond.methodLink "SoleraCellar$LawReader" (41 : Nat) ({ cls := "SoleraCellar$LawReader", name := "sum", desc := "()LSoleraCellar$Sum;" } : Jvm.MethodName)) ∈ lw_all := lw_g (lw_at lw_m4 53 rfl) rfl
theorem q905 : (Jvm.Cond.sameMethod "SoleraCellar$LawReader" "SoleraCellar$Reader" "sum" "()LSoleraCellar$Sum;") ∈ lw_all := lw_g (lw_at lw_m4 54 rfl) rfl
theorem q907 : (Jvm.Cond.selects "SoleraCellar$LawReader" ({ cls := "SoleraCellar$LawReader", name := "sum", desc := "()LSoleraCellar$Sum;" } : Jvm.MethodName) ({ cls := "SoleraCellar$Reader", name := "sum", desc := "()LSoleraCellar$Sum;" } : Jvm.MethodName)) ∈ lw_all := lw_g (lw_at lw_m4 56 rfl) rfl
theorem q913 : (Jvm.Cond.selects "SoleraCellar$LawReader" ({ cls := "SoleraCellar$Reader", name := "term", desc := "()LSoleraCellar$Sum;" } : Jvm.MethodName) ({ cls := "SoleraCellar$Reader", name := "term", desc := "()LSoleraCellar$Sum;" } : Jvm.MethodName)) ∈ lw_all := lw_g (lw_at lw_m4 62 rfl) rfl
theorem q919 : (Jvm.Cond.selects "SoleraCellar$LawReader" ({ cls := "SoleraCellar$Reader", name := "part", desc := "()LSoleraCellar$Sum;" } : Jvm.MethodName) ({ cls := "SoleraCellar$Reader", name := "part", desc := "()LSoleraCellar$Sum;" } : Jvm.MethodName)) ∈ lw_all := lw_g (lw_at lw_m4 68 rfl) rfl
theorem q927 : (Jvm.Cond.selects "SoleraCellar$LawReader" ({ cls := "SoleraCellar$Reader", name := "opens", desc := "()V" } : Jvm.MethodName) ({ cls := "SoleraCellar$Reader", name := "opens", desc := "()V" } : Jvm.MethodName)) ∈ lw_all := lw_g (lw_at lw_m4 76 rfl) rfl
theorem q935 : (Jvm.Cond.selects "SoleraCellar$LawReader" ({ cls := "SoleraCellar$Reader", name := "need", desc := "(Ljava/lang/String;)V" } : Jvm.MethodName) ({ cls := "SoleraCellar$Reader", name := "need", desc := "(Ljava/lang/String;)V" } : Jvm.MethodName)) ∈ lw_all := lw_g (lw_at lw_m4 84 rfl) rfl
theorem q941 : (Jvm.Cond.selects "SoleraCellar$LawReader" ({ cls := "SoleraCellar$Reader", name := "takes", desc := "(Ljava/lang/String;)Z" } : Jvm.MethodName) ({ cls := "SoleraCellar$Reader", name := "takes", desc := "(Ljava/lang/String;)Z" } : Jvm.MethodName)) ∈ lw_all := lw_g (lw_at lw_m4 90 rfl) rfl
theorem q947 : (Jvm.Cond.selects "SoleraCellar$LawReader" ({ cls := "SoleraCellar$Reader", name := "leaf", desc := "()V" } : Jvm.MethodName) ({ cls := "SoleraCellar$Reader", name := "leaf", desc := "()V" } : Jvm.MethodName)) ∈ lw_all := lw_g (lw_at lw_m4 96 rfl) rfl
theorem q955 : (Jvm.Cond.selects "SoleraCellar$LawReader" ({ cls := "SoleraCellar$Reader", name := "number", desc := "(II)I" } : Jvm.MethodName) ({ cls := "SoleraCellar$Reader", name := "number", desc := "(II)I" } : Jvm.MethodName)) ∈ lw_all := lw_g (lw_at lw_m4 104 rfl) rfl
theorem q972 : (Jvm.Cond.selects "SoleraCellar$LawReader" ({ cls := "SoleraCellar$Reader", name := "value", desc := "()I" } : Jvm.MethodName) ({ cls := "SoleraCellar$LawReader", name := "value", desc := "()I" } : Jvm.MethodName)) ∈ lw_all := lw_g (lw_at lw_m4 121 rfl) rfl
theorem q973 : (Jvm.Cond.instanceMethod ({ cls := "SoleraCellar$LawReader", name := "value", desc := "()I" } : Jvm.MethodName)) ∈ lw_all := lw_g (lw_at lw_m4 122 rfl) rfl
theorem q974 : (Jvm.Cond.code ({ cls := "SoleraCellar$LawReader", name := "value", desc := "()I" } : Jvm.MethodName) prog_7_method_3_code (1 : Nat) (Option.some Jvm.ClassFile.FieldType.int)) ∈ lw_all := lw_g (lw_at lw_m4 123 rfl) rfl
theorem q975 : (Jvm.Cond.stringRef "SoleraCellar$LawReader" (65 : Nat) "cask") ∈ lw_tbl := lw_at lw_m4 124 rfl
theorem q976 : (Jvm.Cond.methodLink "SoleraCellar$LawReader" (67 : Nat) ({ cls := "SoleraCellar$LawReader", name := "isValue", desc := "(Ljava/lang/String;)Z" } : Jvm.MethodName)) ∈ lw_all := lw_g (lw_at lw_m4 125 rfl) rfl
theorem q977 : (Jvm.Cond.sameMethod "SoleraCellar$LawReader" "SoleraCellar$Reader" "isValue" "(Ljava/lang/String;)Z") ∈ lw_all := lw_g (lw_at lw_m4 126 rfl) rfl
theorem q979 : (Jvm.Cond.selects "SoleraCellar$LawReader" ({ cls := "SoleraCellar$LawReader", name := "isValue", desc := "(Ljava/lang/String;)Z" } : Jvm.MethodName) ({ cls := "SoleraCellar$Reader", name := "isValue", desc := "(Ljava/lang/String;)Z" } : Jvm.MethodName)) ∈ lw_all := lw_g (lw_at lw_m4 128 rfl) rfl
theorem q982 : (Jvm.Cond.stringRef "SoleraCellar$LawReader" (70 : Nat) "tier") ∈ lw_tbl := lw_at lw_m4 131 rfl
theorem q983 : (Jvm.Cond.stringRef "SoleraCellar$LawReader" (72 : Nat) "size") ∈ lw_tbl := lw_at lw_m4 132 rfl
theorem q984 : (Jvm.Cond.stringRef "SoleraCellar$LawReader" (74 : Nat) "full") ∈ lw_tbl := lw_at lw_m4 133 rfl
theorem q985 : (Jvm.Cond.stringRef "SoleraCellar$LawReader" (76 : Nat) "mean") ∈ lw_tbl := lw_at lw_m4 134 rfl
theorem q986 : (Jvm.Cond.stringRef "SoleraCellar$LawReader" (78 : Nat) "year") ∈ lw_tbl := lw_at lw_m4 135 rfl
theorem q987 : (Jvm.Cond.stringRef "SoleraCellar$LawReader" (80 : Nat) "mood") ∈ lw_tbl := lw_at lw_m4 136 rfl
theorem q1036 : (Jvm.Cond.stringRef "SoleraCellar$LawReader" (48 : Nat) "if") ∈ lw_tbl := lw_at lw_m4 185 rfl
theorem q1037 : (Jvm.Cond.methodLink "SoleraCellar$LawReader" (50 : Nat) ({ cls := "SoleraCellar$LawReader", name := "takes", desc := "(Ljava/lang/String;)Z" } : Jvm.MethodName)) ∈ lw_all := lw_g (lw_at lw_m4 186 rfl) rfl
theorem q1038 : (Jvm.Cond.sameMethod "SoleraCellar$LawReader" "SoleraCellar$Reader" "takes" "(Ljava/lang/String;)Z") ∈ lw_all := lw_g (lw_at lw_m4 187 rfl) rfl
theorem q1040 : (Jvm.Cond.selects "SoleraCellar$LawReader" ({ cls := "SoleraCellar$LawReader", name := "takes", desc := "(Ljava/lang/String;)Z" } : Jvm.MethodName) ({ cls := "SoleraCellar$Reader", name := "takes", desc := "(Ljava/lang/String;)Z" } : Jvm.MethodName)) ∈ lw_all := lw_g (lw_at lw_m4 189 rfl) rfl
theorem q1041 : (Jvm.Cond.methodLink "SoleraCellar$LawReader" (53 : Nat) ({ cls := "SoleraCellar$LawReader", name := "test", desc := "()LSoleraCellar$Test;" } : Jvm.MethodName)) ∈ lw_all := lw_g (lw_at lw_m4 190 rfl) rfl
theorem q1042 : (Jvm.Cond.sameMethod "SoleraCellar$LawReader" "SoleraCellar$Reader" "test" "()LSoleraCellar$Test;") ∈ lw_all := lw_g (lw_at lw_m4 191 rfl) rfl
theorem q1044 : (Jvm.Cond.selects "SoleraCellar$LawReader" ({ cls := "SoleraCellar$LawReader", name := "test", desc := "()LSoleraCellar$Test;" } : Jvm.MethodName) ({ cls := "SoleraCellar$Reader", name := "test", desc := "()LSoleraCellar$Test;" } : Jvm.MethodName)) ∈ lw_all := lw_g (lw_at lw_m4 193 rfl) rfl
theorem q1050 : (Jvm.Cond.selects "SoleraCellar$LawReader" ({ cls := "SoleraCellar$Reader", name := "both", desc := "()LSoleraCellar$Test;" } : Jvm.MethodName) ({ cls := "SoleraCellar$Reader", name := "both", desc := "()LSoleraCellar$Test;" } : Jvm.MethodName)) ∈ lw_all := lw_g (lw_at lw_m4 199 rfl) rfl
theorem q1056 : (Jvm.Cond.selects "SoleraCellar$LawReader" ({ cls := "SoleraCellar$Reader", name := "plain", desc := "()LSoleraCellar$Test;" } : Jvm.MethodName) ({ cls := "SoleraCellar$Reader", name := "plain", desc := "()LSoleraCellar$Test;" } : Jvm.MethodName)) ∈ lw_all := lw_g (lw_at lw_m4 205 rfl) rfl
theorem q1063 : (Jvm.Cond.selects "SoleraCellar$LawReader" ({ cls := "SoleraCellar$Reader", name := "positive", desc := "()LSoleraCellar$Test;" } : Jvm.MethodName) ({ cls := "SoleraCellar$Reader", name := "positive", desc := "()LSoleraCellar$Test;" } : Jvm.MethodName)) ∈ lw_all := lw_g (lw_at lw_m4 212 rfl) rfl
theorem q1131 : (Jvm.Cond.methodLink "SoleraCellar$LawReader" (61 : Nat) ({ cls := "java/util/ArrayList", name := "add", desc := "(Ljava/lang/Object;)Z" } : Jvm.MethodName)) ∈ lw_all := lw_g (lw_at lw_m5 40 rfl) rfl
theorem q2232 : (Jvm.Cond.selects "SoleraCellar$LawReader" ({ cls := "SoleraCellar$Reader", name := "is", desc := "(Ljava/lang/String;)Z" } : Jvm.MethodName) ({ cls := "SoleraCellar$Reader", name := "is", desc := "(Ljava/lang/String;)Z" } : Jvm.MethodName)) ∈ lw_all := lw_g (lw_at lw_m9 181 rfl) rfl
theorem q2235 : (Jvm.Cond.selects "SoleraCellar$LawReader" ({ cls := "SoleraCellar$Reader", name := "sum", desc := "()LSoleraCellar$Sum;" } : Jvm.MethodName) ({ cls := "SoleraCellar$Reader", name := "sum", desc := "()LSoleraCellar$Sum;" } : Jvm.MethodName)) ∈ lw_all := lw_g (lw_at lw_m9 184 rfl) rfl
theorem q2238 : (Jvm.Cond.selects "SoleraCellar$LawReader" ({ cls := "SoleraCellar$Reader", name := "test", desc := "()LSoleraCellar$Test;" } : Jvm.MethodName) ({ cls := "SoleraCellar$Reader", name := "test", desc := "()LSoleraCellar$Test;" } : Jvm.MethodName)) ∈ lw_all := lw_g (lw_at lw_m9 187 rfl) rfl
theorem q2252 : (Jvm.Cond.castable "SoleraCellar$LawReader" "java/lang/Object") ∈ lw_tbl := lw_at lw_m9 201 rfl
theorem in_X7 : ∀ w ∈ wsX70, w ∈ lw_all := lw_in wsX70 [757, 759, 761, 763, 765, 767, 769, 755] (by decide +kernel) (by decide +kernel)

/-! SoleraCellar$Fault -/
set_option maxRecDepth 100000
def RX8 : String := "SoleraCellar$Fault"
def TX8 : u_T := fun k => match k with
  | 0 => ("java/lang/Throwable", "cause", "Ljava/lang/Throwable;", false)
  | 1 => ("java/lang/Throwable", "stackTrace", "[Ljava/lang/StackTraceElement;", false)
  | 2 => ("java/lang/Throwable", "suppressedExceptions", "Ljava/util/List;", false)
  | 3 => ("java/lang/Throwable", "detailMessage", "Ljava/lang/String;", false)
  | 4 => ("java/lang/Throwable", "backtrace", "Ljava/lang/Object;", false)
  | 5 => ("java/lang/Throwable", "depth", "I", false)
  | _ => ("SoleraCellar$Fault", "place", "I", true)
def tyX8 : Nat → FieldType := fun k => match k with
  | 0 => .object "java/lang/Throwable"
  | 1 => .array (.object "java/lang/StackTraceElement")
  | 2 => .object "java/util/List"
  | 3 => .object "java/lang/String"
  | 4 => .object "java/lang/Object"
  | 5 => .int
  | _ => .int
abbrev wsX80 : List Cond := u_ws RX8 TX8 7
theorem nmX8 : ∀ a, a < 7 → ∀ b, b < 7 → a ≠ b → (TX8 a).2.1 ≠ (TX8 b).2.1 := by decide +kernel
theorem tyX8_ok : ∀ k, k < 7 → parseFieldDescriptor (TX8 k).2.2.1 = some (tyX8 k) := by decide +kernel
abbrev cX8_init : ByteArray := prog_5_method_1_code
def yX8_init : MethodName := ⟨RX8, "<init>", "(I)V"⟩
def dkwX8_init_0 : List UInt8 := [42, 1, 1, 3, 3, 183, 0, 1, 42, 27, 181, 0, 7, 177]
abbrev dktX8_init_0 : List UInt8 := dkwX8_init_0 ++ []
theorem dksX8_init_0 : cX8_init.data.toList.drop 0 = dktX8_init_0 := by decide +kernel
theorem dX8_init_0 : decode cX8_init 0 = .ok (.aload_n 0, 1) := dk_42 (dk_at dksX8_init_0 0 rfl rfl)
theorem dX8_init_1 : decode cX8_init 1 = .ok (.aconst_null, 1) := dk_1 (dk_at dksX8_init_0 1 rfl rfl)
theorem dX8_init_2 : decode cX8_init 2 = .ok (.aconst_null, 1) := dk_1 (dk_at dksX8_init_0 2 rfl rfl)
theorem dX8_init_3 : decode cX8_init 3 = .ok (.iconst 0, 1) := dk_3 (dk_at dksX8_init_0 3 rfl rfl)
theorem dX8_init_4 : decode cX8_init 4 = .ok (.iconst 0, 1) := dk_3 (dk_at dksX8_init_0 4 rfl rfl)
theorem dX8_init_5 : decode cX8_init 5 = .ok (.invokespecial 1, 3) := dk_183 0 1 (dk_at dksX8_init_0 5 rfl rfl)
theorem dX8_init_8 : decode cX8_init 8 = .ok (.aload_n 0, 1) := dk_42 (dk_at dksX8_init_0 8 rfl rfl)
theorem dX8_init_9 : decode cX8_init 9 = .ok (.iload_n 1, 1) := dk_27 (dk_at dksX8_init_0 9 rfl rfl)
theorem dX8_init_10 : decode cX8_init 10 = .ok (.putfield 7, 3) := dk_181 0 7 (dk_at dksX8_init_0 10 rfl rfl)
theorem dX8_init_13 : decode cX8_init 13 = .ok (.return_, 1) := dk_177 (dk_at dksX8_init_0 13 rfl rfl)
theorem q151 : (Jvm.Cond.initialized "SoleraCellar$Fault") ∈ lw_all := lw_g (lw_at lw_m1 20 rfl) rfl
theorem q320 : (Jvm.Cond.selects "SoleraCellar$Fault" ({ cls := "java/lang/Throwable", name := "fillInStackTrace", desc := "()Ljava/lang/Throwable;" } : Jvm.MethodName) ({ cls := "java/lang/Throwable", name := "fillInStackTrace", desc := "()Ljava/lang/Throwable;" } : Jvm.MethodName)) ∈ lw_all := lw_g (lw_at lw_m1 189 rfl) rfl
theorem q491 : (Jvm.Cond.selects "SoleraCellar$Fault" ({ cls := "java/lang/Object", name := "getClass", desc := "()Ljava/lang/Class;" } : Jvm.MethodName) ({ cls := "java/lang/Object", name := "getClass", desc := "()Ljava/lang/Class;" } : Jvm.MethodName)) ∈ lw_all := lw_g (lw_at lw_m2 120 rfl) rfl
theorem q863 : (Jvm.Cond.instantiable "SoleraCellar$Fault" (7 : Nat)) ∈ lw_all := lw_g (lw_at lw_m4 12 rfl) rfl
theorem q864 : (Jvm.Cond.castable "SoleraCellar$Fault" "SoleraCellar$Fault") ∈ lw_tbl := lw_at lw_m4 13 rfl
theorem q865 : (Jvm.Cond.selects "SoleraCellar$Fault" ({ cls := "java/lang/Throwable", name := "fillInStackTrace", desc := "(I)Ljava/lang/Throwable;" } : Jvm.MethodName) ({ cls := "java/lang/Throwable", name := "fillInStackTrace", desc := "(I)Ljava/lang/Throwable;" } : Jvm.MethodName)) ∈ lw_all := lw_g (lw_at lw_m4 14 rfl) rfl
theorem q866 : (Jvm.Cond.lays "SoleraCellar$Fault" "java/lang/Throwable" "cause" "Ljava/lang/Throwable;") ∈ lw_all := lw_g (lw_at lw_m4 15 rfl) rfl
theorem q867 : (Jvm.Cond.lays "SoleraCellar$Fault" "java/lang/Throwable" "stackTrace" "[Ljava/lang/StackTraceElement;") ∈ lw_all := lw_g (lw_at lw_m4 16 rfl) rfl
theorem q868 : (Jvm.Cond.lays "SoleraCellar$Fault" "java/lang/Throwable" "suppressedExceptions" "Ljava/util/List;") ∈ lw_all := lw_g (lw_at lw_m4 17 rfl) rfl
theorem q869 : (Jvm.Cond.lays "SoleraCellar$Fault" "java/lang/Throwable" "detailMessage" "Ljava/lang/String;") ∈ lw_all := lw_g (lw_at lw_m4 18 rfl) rfl
theorem q870 : (Jvm.Cond.lays "SoleraCellar$Fault" "java/lang/Throwable" "backtrace" "Ljava/lang/Object;") ∈ lw_all := lw_g (lw_at lw_m4 19 rfl) rfl
theorem q872 : (Jvm.Cond.instanceMethod ({ cls := "SoleraCellar$Fault", name := "<init>", desc := "(I)V" } : Jvm.MethodName)) ∈ lw_all := lw_g (lw_at lw_m4 21 rfl) rfl
theorem q873 : (Jvm.Cond.code ({ cls := "SoleraCellar$Fault", name := "<init>", desc := "(I)V" } : Jvm.MethodName) prog_5_method_1_code (2 : Nat) (Option.none : Option Jvm.ClassFile.FieldType)) ∈ lw_all := lw_g (lw_at lw_m4 22 rfl) rfl
theorem q874 : (Jvm.Cond.methodLink "SoleraCellar$Fault" (1 : Nat) ({ cls := "java/lang/Exception", name := "<init>", desc := "(Ljava/lang/String;Ljava/lang/Throwable;ZZ)V" } : Jvm.MethodName)) ∈ lw_all := lw_g (lw_at lw_m4 23 rfl) rfl
theorem q875 : (Jvm.Cond.fieldLink "SoleraCellar$Fault" (7 : Nat) "SoleraCellar$Fault" "place" "I") ∈ lw_all := lw_g (lw_at lw_m4 24 rfl) rfl
theorem q877 : (Jvm.Cond.laysFinal "SoleraCellar$Fault" "SoleraCellar$Fault" "place" "I") ∈ lw_all := lw_g (lw_at lw_m4 26 rfl) rfl
theorem q878 : (Jvm.Cond.soleField "SoleraCellar$Fault" "place") ∈ lw_all := lw_g (lw_at lw_m4 27 rfl) rfl
theorem q879 : (Jvm.Cond.lays "SoleraCellar$Fault" "java/lang/Throwable" "depth" "I") ∈ lw_all := lw_g (lw_at lw_m4 28 rfl) rfl
theorem q880 : (Jvm.Cond.superclass "SoleraCellar$Fault" "java/lang/Exception") ∈ lw_all := lw_g (lw_at lw_m4 29 rfl) rfl
theorem q2253 : (Jvm.Cond.castable "SoleraCellar$Fault" "java/lang/Object") ∈ lw_tbl := lw_at lw_m9 202 rfl
theorem in_X8 : ∀ w ∈ wsX80, w ∈ lw_all := lw_in wsX80 [866, 867, 868, 869, 870, 879, 877] (by decide +kernel) (by decide +kernel)

/-! SoleraCellar$Clause -/
set_option maxRecDepth 100000
def RX9 : String := "SoleraCellar$Clause"
def TX9 : u_T := fun k => match k with
  | 0 => ("SoleraCellar$Clause", "head", "I", true)
  | 1 => ("SoleraCellar$Clause", "sum", "LSoleraCellar$Sum;", false)
  | _ => ("SoleraCellar$Clause", "when", "LSoleraCellar$Test;", false)
def tyX9 : Nat → FieldType := fun k => match k with
  | 0 => .int
  | 1 => .object "SoleraCellar$Sum"
  | _ => .object "SoleraCellar$Test"
abbrev wsX90 : List Cond := u_ws RX9 TX9 3
theorem nmX9 : ∀ a, a < 3 → ∀ b, b < 3 → a ≠ b → (TX9 a).2.1 ≠ (TX9 b).2.1 := by decide +kernel
theorem tyX9_ok : ∀ k, k < 3 → parseFieldDescriptor (TX9 k).2.2.1 = some (tyX9 k) := by decide +kernel
abbrev cX9_tells : ByteArray := prog_3_method_2_code
def yX9_tells : MethodName := ⟨RX9, "tells", "(LSoleraCellar$Setting;)J"⟩
def dkwX9_tells_1 : List UInt8 := [180, 0, 27, 199, 0, 7, 10, 167, 0, 11, 42, 180, 0, 27, 43, 182, 0, 31, 173, 77, 20, 0, 25, 173]
abbrev dktX9_tells_1 : List UInt8 := dkwX9_tells_1 ++ []
def dkwX9_tells_0 : List UInt8 := [42, 180, 0, 15, 198, 0, 18, 42, 180, 0, 15, 43, 182, 0, 19, 154, 0, 7, 20, 0, 25, 173, 42]
abbrev dktX9_tells_0 : List UInt8 := dkwX9_tells_0 ++ dktX9_tells_1
theorem dksX9_tells_0 : cX9_tells.data.toList.drop 0 = dktX9_tells_0 := by decide +kernel
theorem dksX9_tells_1 : cX9_tells.data.toList.drop 23 = dktX9_tells_1 := dk_seg dksX9_tells_0 23 rfl rfl
theorem dX9_tells_0 : decode cX9_tells 0 = .ok (.aload_n 0, 1) := dk_42 (dk_at dksX9_tells_0 0 rfl rfl)
theorem dX9_tells_1 : decode cX9_tells 1 = .ok (.getfield 15, 3) := dk_180 0 15 (dk_at dksX9_tells_0 1 rfl rfl)
theorem dX9_tells_4 : decode cX9_tells 4 = .ok (.ifnull 18, 3) := dk_198 0 18 (dk_at dksX9_tells_0 4 rfl rfl)
theorem dX9_tells_7 : decode cX9_tells 7 = .ok (.aload_n 0, 1) := dk_42 (dk_at dksX9_tells_0 7 rfl rfl)
theorem dX9_tells_8 : decode cX9_tells 8 = .ok (.getfield 15, 3) := dk_180 0 15 (dk_at dksX9_tells_0 8 rfl rfl)
theorem dX9_tells_11 : decode cX9_tells 11 = .ok (.aload_n 1, 1) := dk_43 (dk_at dksX9_tells_0 11 rfl rfl)
theorem dX9_tells_12 : decode cX9_tells 12 = .ok (.invokevirtual 19, 3) := dk_182 0 19 (dk_at dksX9_tells_0 12 rfl rfl)
theorem dX9_tells_15 : decode cX9_tells 15 = .ok (.ifCond .ne 7, 3) := dk_154 0 7 (dk_at dksX9_tells_0 15 rfl rfl)
theorem dX9_tells_18 : decode cX9_tells 18 = .ok (.ldc2_w 25, 3) := dk_20 0 25 (dk_at dksX9_tells_0 18 rfl rfl)
theorem dX9_tells_21 : decode cX9_tells 21 = .ok (.lreturn, 1) := dk_173 (dk_at dksX9_tells_0 21 rfl rfl)
theorem dX9_tells_22 : decode cX9_tells 22 = .ok (.aload_n 0, 1) := dk_42 (dk_at dksX9_tells_0 22 rfl rfl)
theorem dX9_tells_23 : decode cX9_tells 23 = .ok (.getfield 27, 3) := dk_180 0 27 (dk_at dksX9_tells_1 0 rfl rfl)
theorem dX9_tells_26 : decode cX9_tells 26 = .ok (.ifnonnull 7, 3) := dk_199 0 7 (dk_at dksX9_tells_1 3 rfl rfl)
theorem dX9_tells_29 : decode cX9_tells 29 = .ok (.lconst 1, 1) := dk_10 (dk_at dksX9_tells_1 6 rfl rfl)
theorem dX9_tells_30 : decode cX9_tells 30 = .ok (.goto 11, 3) := dk_167 0 11 (dk_at dksX9_tells_1 7 rfl rfl)
theorem dX9_tells_33 : decode cX9_tells 33 = .ok (.aload_n 0, 1) := dk_42 (dk_at dksX9_tells_1 10 rfl rfl)
theorem dX9_tells_34 : decode cX9_tells 34 = .ok (.getfield 27, 3) := dk_180 0 27 (dk_at dksX9_tells_1 11 rfl rfl)
theorem dX9_tells_37 : decode cX9_tells 37 = .ok (.aload_n 1, 1) := dk_43 (dk_at dksX9_tells_1 14 rfl rfl)
theorem dX9_tells_38 : decode cX9_tells 38 = .ok (.invokevirtual 31, 3) := dk_182 0 31 (dk_at dksX9_tells_1 15 rfl rfl)
theorem dX9_tells_41 : decode cX9_tells 41 = .ok (.lreturn, 1) := dk_173 (dk_at dksX9_tells_1 18 rfl rfl)
theorem dX9_tells_42 : decode cX9_tells 42 = .ok (.astore_n 2, 1) := dk_77 (dk_at dksX9_tells_1 19 rfl rfl)
theorem dX9_tells_43 : decode cX9_tells 43 = .ok (.ldc2_w 25, 3) := dk_20 0 25 (dk_at dksX9_tells_1 20 rfl rfl)
theorem dX9_tells_46 : decode cX9_tells 46 = .ok (.lreturn, 1) := dk_173 (dk_at dksX9_tells_1 23 rfl rfl)
abbrev cX9_init : ByteArray := prog_3_method_1_code
def yX9_init : MethodName := ⟨RX9, "<init>", "(I)V"⟩
def dkwX9_init_0 : List UInt8 := [42, 183, 0, 3, 42, 27, 181, 0, 9, 177]
abbrev dktX9_init_0 : List UInt8 := dkwX9_init_0 ++ []
theorem dksX9_init_0 : cX9_init.data.toList.drop 0 = dktX9_init_0 := by decide +kernel
theorem dX9_init_0 : decode cX9_init 0 = .ok (.aload_n 0, 1) := dk_42 (dk_at dksX9_init_0 0 rfl rfl)
theorem dX9_init_1 : decode cX9_init 1 = .ok (.invokespecial 3, 3) := dk_183 0 3 (dk_at dksX9_init_0 1 rfl rfl)
theorem dX9_init_4 : decode cX9_init 4 = .ok (.aload_n 0, 1) := dk_42 (dk_at dksX9_init_0 4 rfl rfl)
theorem dX9_init_5 : decode cX9_init 5 = .ok (.iload_n 1, 1) := dk_27 (dk_at dksX9_init_0 5 rfl rfl)
theorem dX9_init_6 : decode cX9_init 6 = .ok (.putfield 9, 3) := dk_181 0 9 (dk_at dksX9_init_0 6 rfl rfl)
theorem dX9_init_9 : decode cX9_init 9 = .ok (.return_, 1) := dk_177 (dk_at dksX9_init_0 9 rfl rfl)
theorem q152 : (Jvm.Cond.initialized "SoleraCellar$Clause") ∈ lw_all := lw_g (lw_at lw_m1 21 rfl) rfl
theorem q489 : (Jvm.Cond.selects "SoleraCellar$Clause" ({ cls := "java/lang/Object", name := "getClass", desc := "()Ljava/lang/Class;" } : Jvm.MethodName) ({ cls := "java/lang/Object", name := "getClass", desc := "()Ljava/lang/Class;" } : Jvm.MethodName)) ∈ lw_all := lw_g (lw_at lw_m2 118 rfl) rfl
theorem q637 : (Jvm.Cond.instanceMethod ({ cls := "SoleraCellar$Clause", name := "tells", desc := "(LSoleraCellar$Setting;)J" } : Jvm.MethodName)) ∈ lw_all := lw_g (lw_at lw_m3 26 rfl) rfl
theorem q638 : (Jvm.Cond.selects "SoleraCellar$Clause" ({ cls := "SoleraCellar$Clause", name := "tells", desc := "(LSoleraCellar$Setting;)J" } : Jvm.MethodName) ({ cls := "SoleraCellar$Clause", name := "tells", desc := "(LSoleraCellar$Setting;)J" } : Jvm.MethodName)) ∈ lw_all := lw_g (lw_at lw_m3 27 rfl) rfl
theorem q639 : (Jvm.Cond.codeWith ({ cls := "SoleraCellar$Clause", name := "tells", desc := "(LSoleraCellar$Setting;)J" } : Jvm.MethodName) prog_3_method_2_code (3 : Nat) (Option.some Jvm.ClassFile.FieldType.long) [((0 : Nat), (21 : Nat), (42 : Nat), (37 : Nat)), ((22 : Nat), (41 : Nat), (42 : Nat), (37 : Nat))]) ∈ lw_all := lw_g (lw_at lw_m3 28 rfl) rfl
theorem q640 : (Jvm.Cond.classLink "SoleraCellar$Clause" (37 : Nat) "SoleraCellar$Broken") ∈ lw_all := lw_g (lw_at lw_m3 29 rfl) rfl
theorem q641 : (Jvm.Cond.methodLink "SoleraCellar$Clause" (19 : Nat) ({ cls := "SoleraCellar$Test", name := "is", desc := "(LSoleraCellar$Setting;)Z" } : Jvm.MethodName)) ∈ lw_all := lw_g (lw_at lw_m3 30 rfl) rfl
theorem q673 : (Jvm.Cond.constantLong "SoleraCellar$Clause" (25 : Nat) (-4000000000 : Int64)) ∈ lw_all := lw_g (lw_at lw_m3 62 rfl) rfl
theorem q674 : (Jvm.Cond.methodLink "SoleraCellar$Clause" (31 : Nat) ({ cls := "SoleraCellar$Sum", name := "of", desc := "(LSoleraCellar$Setting;)J" } : Jvm.MethodName)) ∈ lw_all := lw_g (lw_at lw_m3 63 rfl) rfl
theorem q886 : (Jvm.Cond.instantiable "SoleraCellar$Clause" (3 : Nat)) ∈ lw_all := lw_g (lw_at lw_m4 35 rfl) rfl
theorem q888 : (Jvm.Cond.instanceMethod ({ cls := "SoleraCellar$Clause", name := "<init>", desc := "(I)V" } : Jvm.MethodName)) ∈ lw_all := lw_g (lw_at lw_m4 37 rfl) rfl
theorem q889 : (Jvm.Cond.code ({ cls := "SoleraCellar$Clause", name := "<init>", desc := "(I)V" } : Jvm.MethodName) prog_3_method_1_code (2 : Nat) (Option.none : Option Jvm.ClassFile.FieldType)) ∈ lw_all := lw_g (lw_at lw_m4 38 rfl) rfl
theorem q890 : (Jvm.Cond.methodLink "SoleraCellar$Clause" (3 : Nat) ({ cls := "java/lang/Object", name := "<init>", desc := "()V" } : Jvm.MethodName)) ∈ lw_all := lw_g (lw_at lw_m4 39 rfl) rfl
theorem q891 : (Jvm.Cond.fieldLink "SoleraCellar$Clause" (9 : Nat) "SoleraCellar$Clause" "head" "I") ∈ lw_all := lw_g (lw_at lw_m4 40 rfl) rfl
theorem q893 : (Jvm.Cond.fieldLink "SoleraCellar$Clause" (27 : Nat) "SoleraCellar$Clause" "sum" "LSoleraCellar$Sum;") ∈ lw_all := lw_g (lw_at lw_m4 42 rfl) rfl
theorem q895 : (Jvm.Cond.fieldLink "SoleraCellar$Clause" (15 : Nat) "SoleraCellar$Clause" "when" "LSoleraCellar$Test;") ∈ lw_all := lw_g (lw_at lw_m4 44 rfl) rfl
theorem q897 : (Jvm.Cond.laysFinal "SoleraCellar$Clause" "SoleraCellar$Clause" "head" "I") ∈ lw_all := lw_g (lw_at lw_m4 46 rfl) rfl
theorem q898 : (Jvm.Cond.soleField "SoleraCellar$Clause" "head") ∈ lw_all := lw_g (lw_at lw_m4 47 rfl) rfl
theorem q899 : (Jvm.Cond.lays "SoleraCellar$Clause" "SoleraCellar$Clause" "sum" "LSoleraCellar$Sum;") ∈ lw_all := lw_g (lw_at lw_m4 48 rfl) rfl
theorem q900 : (Jvm.Cond.soleField "SoleraCellar$Clause" "sum") ∈ lw_all := lw_g (lw_at lw_m4 49 rfl) rfl
theorem q901 : (Jvm.Cond.lays "SoleraCellar$Clause" "SoleraCellar$Clause" "when" "LSoleraCellar$Test;") ∈ lw_all := lw_g (lw_at lw_m4 50 rfl) rfl
theorem q902 : (Jvm.Cond.soleField "SoleraCellar$Clause" "when") ∈ lw_all := lw_g (lw_at lw_m4 51 rfl) rfl
theorem q903 : (Jvm.Cond.superclass "SoleraCellar$Clause" "java/lang/Object") ∈ lw_all := lw_g (lw_at lw_m4 52 rfl) rfl
theorem q2254 : (Jvm.Cond.castable "SoleraCellar$Clause" "java/lang/Object") ∈ lw_tbl := lw_at lw_m9 203 rfl
theorem in_X9 : ∀ w ∈ wsX90, w ∈ lw_all := lw_in wsX90 [897, 899, 901] (by decide +kernel) (by decide +kernel)
