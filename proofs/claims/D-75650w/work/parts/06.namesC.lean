/-! SoleraCellar -/
set_option maxRecDepth 100000
def RX0 : String := "SoleraCellar"
def TX0 : u_T := fun k => match k with
  | 0 => ("SoleraCellar", "status", "I", false)
  | 1 => ("SoleraCellar", "refused", "[I", true)
  | 2 => ("SoleraCellar", "state", "LSoleraCellar$State;", true)
  | 3 => ("SoleraCellar", "images", "[LSoleraCellar$State;", true)
  | 4 => ("SoleraCellar", "undone", "[LSoleraCellar$Table;", true)
  | 5 => ("SoleraCellar", "ordersUndone", "[LSoleraCellar$Table;", true)
  | 6 => ("SoleraCellar", "undoneWhat", "[I", true)
  | 7 => ("SoleraCellar", "ordersWhat", "[I", true)
  | 8 => ("SoleraCellar", "ahead", "LSoleraCellar$Table;", true)
  | 9 => ("SoleraCellar", "tried", "LSoleraCellar$Table;", true)
  | 10 => ("SoleraCellar", "tape", "[B", true)
  | 11 => ("SoleraCellar", "taped", "I", false)
  | 12 => ("SoleraCellar", "fault", "I", false)
  | 13 => ("SoleraCellar", "leaks", "I", false)
  | 14 => ("SoleraCellar", "stopped", "I", false)
  | 15 => ("SoleraCellar", "undoMany", "I", false)
  | 16 => ("SoleraCellar", "setting", "LSoleraCellar$Setting;", true)
  | 17 => ("SoleraCellar", "out", "[I", true)
  | 18 => ("SoleraCellar", "losing", "[I", true)
  | 19 => ("SoleraCellar", "yielded", "I", false)
  | 20 => ("SoleraCellar", "leastMean", "I", false)
  | 21 => ("SoleraCellar", "skipped", "Z", false)
  | 22 => ("SoleraCellar", "parts", "[J", true)
  | 23 => ("SoleraCellar", "drawnTable", "LSoleraCellar$Table;", true)
  | 24 => ("SoleraCellar", "drawnMany", "I", false)
  | _ => ("SoleraCellar", "drawn0", "I", false)
def tyX0 : Nat → FieldType := fun k => match k with
  | 0 => .int
  | 1 => .array .int
  | 2 => .object "SoleraCellar$State"
  | 3 => .array (.object "SoleraCellar$State")
  | 4 => .array (.object "SoleraCellar$Table")
  | 5 => .array (.object "SoleraCellar$Table")
  | 6 => .array .int
  | 7 => .array .int
  | 8 => .object "SoleraCellar$Table"
  | 9 => .object "SoleraCellar$Table"
  | 10 => .array .byte
  | 11 => .int
  | 12 => .int
  | 13 => .int
  | 14 => .int
  | 15 => .int
  | 16 => .object "SoleraCellar$Setting"
  | 17 => .array .int
  | 18 => .array .int
  | 19 => .int
  | 20 => .int
  | 21 => .boolean
  | 22 => .array .long
  | 23 => .object "SoleraCellar$Table"
  | 24 => .int
  | _ => .int
abbrev wsX00 : List Cond := u_ws RX0 TX0 26
set_option maxRecDepth 100000 in
theorem nmX0 : ∀ a, a < 26 → ∀ b, b < 26 → a ≠ b → (TX0 a).2.1 ≠ (TX0 b).2.1 := by decide +kernel
set_option maxRecDepth 100000 in
theorem tyX0_ok : ∀ k, k < 26 → parseFieldDescriptor (TX0 k).2.2.1 = some (tyX0 k) := by decide +kernel
abbrev cX0_init : ByteArray := prog_1_method_6_code
def yX0_init : MethodName := ⟨RX0, "<init>", "()V"⟩
def dkwX0_init_8 : List UInt8 := [183, 0, 54, 83, 132, 1, 1, 167, 255, 221, 177]
abbrev dktX0_init_8 : List UInt8 := dkwX0_init_8 ++ []
def dkwX0_init_7 : List UInt8 := [42, 180, 0, 41, 27, 187, 0, 39, 89, 183, 0, 54, 83, 42, 180, 0, 45, 27, 187, 0, 39, 89]
abbrev dktX0_init_7 : List UInt8 := dkwX0_init_7 ++ dktX0_init_8
def dkwX0_init_6 : List UInt8 := [42, 187, 0, 39, 89, 183, 0, 54, 181, 0, 89, 42, 2, 181, 0, 92, 3, 60, 27, 16, 16, 162, 0, 35]
abbrev dktX0_init_6 : List UInt8 := dkwX0_init_6 ++ dktX0_init_7
def dkwX0_init_5 : List UInt8 := [42, 16, 20, 188, 10, 181, 0, 79, 42, 16, 8, 188, 10, 181, 0, 82, 42, 16, 21, 188, 11, 181, 0, 85]
abbrev dktX0_init_5 : List UInt8 := dkwX0_init_5 ++ dktX0_init_6
def dkwX0_init_4 : List UInt8 := [181, 0, 62, 42, 2, 181, 0, 66, 42, 2, 181, 0, 69, 42, 187, 0, 72, 89, 183, 0, 74, 181, 0, 75]
abbrev dktX0_init_4 : List UInt8 := dkwX0_init_4 ++ dktX0_init_5
def dkwX0_init_3 : List UInt8 := [183, 0, 54, 181, 0, 55, 42, 187, 0, 39, 89, 183, 0, 54, 181, 0, 59, 42, 17, 1, 144, 188, 8]
abbrev dktX0_init_3 : List UInt8 := dkwX0_init_3 ++ dktX0_init_4
def dkwX0_init_2 : List UInt8 := [181, 0, 45, 42, 16, 16, 188, 10, 181, 0, 48, 42, 16, 16, 188, 10, 181, 0, 51, 42, 187, 0, 39, 89]
abbrev dktX0_init_2 : List UInt8 := dkwX0_init_2 ++ dktX0_init_3
def dkwX0_init_1 : List UInt8 := [5, 189, 0, 28, 181, 0, 35, 42, 16, 16, 189, 0, 39, 181, 0, 41, 42, 16, 16, 189, 0, 39]
abbrev dktX0_init_1 : List UInt8 := dkwX0_init_1 ++ dktX0_init_2
def dkwX0_init_0 : List UInt8 := [42, 183, 0, 22, 42, 16, 7, 188, 10, 181, 0, 7, 42, 187, 0, 28, 89, 183, 0, 30, 181, 0, 31, 42]
abbrev dktX0_init_0 : List UInt8 := dkwX0_init_0 ++ dktX0_init_1
theorem dksX0_init_0 : cX0_init.data.toList.drop 0 = dktX0_init_0 := by decide +kernel
theorem dksX0_init_1 : cX0_init.data.toList.drop 24 = dktX0_init_1 := dk_seg dksX0_init_0 24 rfl rfl
theorem dksX0_init_2 : cX0_init.data.toList.drop 46 = dktX0_init_2 := dk_seg dksX0_init_1 22 rfl rfl
theorem dksX0_init_3 : cX0_init.data.toList.drop 70 = dktX0_init_3 := dk_seg dksX0_init_2 24 rfl rfl
theorem dksX0_init_4 : cX0_init.data.toList.drop 93 = dktX0_init_4 := dk_seg dksX0_init_3 23 rfl rfl
theorem dksX0_init_5 : cX0_init.data.toList.drop 117 = dktX0_init_5 := dk_seg dksX0_init_4 24 rfl rfl
theorem dksX0_init_6 : cX0_init.data.toList.drop 141 = dktX0_init_6 := dk_seg dksX0_init_5 24 rfl rfl
theorem dksX0_init_7 : cX0_init.data.toList.drop 165 = dktX0_init_7 := dk_seg dksX0_init_6 24 rfl rfl
theorem dksX0_init_8 : cX0_init.data.toList.drop 187 = dktX0_init_8 := dk_seg dksX0_init_7 22 rfl rfl
theorem dX0_init_0 : decode cX0_init 0 = .ok (.aload_n 0, 1) := dk_42 (dk_at dksX0_init_0 0 rfl rfl)
theorem dX0_init_1 : decode cX0_init 1 = .ok (.invokespecial 22, 3) := dk_183 0 22 (dk_at dksX0_init_0 1 rfl rfl)
theorem dX0_init_4 : decode cX0_init 4 = .ok (.aload_n 0, 1) := dk_42 (dk_at dksX0_init_0 4 rfl rfl)
theorem dX0_init_5 : decode cX0_init 5 = .ok (.bipush 7, 2) := dk_16 7 (dk_at dksX0_init_0 5 rfl rfl)
theorem dX0_init_7 : decode cX0_init 7 = .ok (.newarray .int, 2) := dk_188_10 (dk_at dksX0_init_0 7 rfl rfl)
theorem dX0_init_9 : decode cX0_init 9 = .ok (.putfield 7, 3) := dk_181 0 7 (dk_at dksX0_init_0 9 rfl rfl)
theorem dX0_init_12 : decode cX0_init 12 = .ok (.aload_n 0, 1) := dk_42 (dk_at dksX0_init_0 12 rfl rfl)
theorem dX0_init_13 : decode cX0_init 13 = .ok (.new 28, 3) := dk_187 0 28 (dk_at dksX0_init_0 13 rfl rfl)
theorem dX0_init_16 : decode cX0_init 16 = .ok (.dup, 1) := dk_89 (dk_at dksX0_init_0 16 rfl rfl)
theorem dX0_init_17 : decode cX0_init 17 = .ok (.invokespecial 30, 3) := dk_183 0 30 (dk_at dksX0_init_0 17 rfl rfl)
theorem dX0_init_20 : decode cX0_init 20 = .ok (.putfield 31, 3) := dk_181 0 31 (dk_at dksX0_init_0 20 rfl rfl)
theorem dX0_init_23 : decode cX0_init 23 = .ok (.aload_n 0, 1) := dk_42 (dk_at dksX0_init_0 23 rfl rfl)
theorem dX0_init_24 : decode cX0_init 24 = .ok (.iconst 2, 1) := dk_5 (dk_at dksX0_init_1 0 rfl rfl)
theorem dX0_init_25 : decode cX0_init 25 = .ok (.anewarray 28, 3) := dk_189 0 28 (dk_at dksX0_init_1 1 rfl rfl)
theorem dX0_init_28 : decode cX0_init 28 = .ok (.putfield 35, 3) := dk_181 0 35 (dk_at dksX0_init_1 4 rfl rfl)
theorem dX0_init_31 : decode cX0_init 31 = .ok (.aload_n 0, 1) := dk_42 (dk_at dksX0_init_1 7 rfl rfl)
theorem dX0_init_32 : decode cX0_init 32 = .ok (.bipush 16, 2) := dk_16 16 (dk_at dksX0_init_1 8 rfl rfl)
theorem dX0_init_34 : decode cX0_init 34 = .ok (.anewarray 39, 3) := dk_189 0 39 (dk_at dksX0_init_1 10 rfl rfl)
theorem dX0_init_37 : decode cX0_init 37 = .ok (.putfield 41, 3) := dk_181 0 41 (dk_at dksX0_init_1 13 rfl rfl)
theorem dX0_init_40 : decode cX0_init 40 = .ok (.aload_n 0, 1) := dk_42 (dk_at dksX0_init_1 16 rfl rfl)
theorem dX0_init_41 : decode cX0_init 41 = .ok (.bipush 16, 2) := dk_16 16 (dk_at dksX0_init_1 17 rfl rfl)
theorem dX0_init_43 : decode cX0_init 43 = .ok (.anewarray 39, 3) := dk_189 0 39 (dk_at dksX0_init_1 19 rfl rfl)
theorem dX0_init_46 : decode cX0_init 46 = .ok (.putfield 45, 3) := dk_181 0 45 (dk_at dksX0_init_2 0 rfl rfl)
theorem dX0_init_49 : decode cX0_init 49 = .ok (.aload_n 0, 1) := dk_42 (dk_at dksX0_init_2 3 rfl rfl)
theorem dX0_init_50 : decode cX0_init 50 = .ok (.bipush 16, 2) := dk_16 16 (dk_at dksX0_init_2 4 rfl rfl)
theorem dX0_init_52 : decode cX0_init 52 = .ok (.newarray .int, 2) := dk_188_10 (dk_at dksX0_init_2 6 rfl rfl)
theorem dX0_init_54 : decode cX0_init 54 = .ok (.putfield 48, 3) := dk_181 0 48 (dk_at dksX0_init_2 8 rfl rfl)
theorem dX0_init_57 : decode cX0_init 57 = .ok (.aload_n 0, 1) := dk_42 (dk_at dksX0_init_2 11 rfl rfl)
theorem dX0_init_58 : decode cX0_init 58 = .ok (.bipush 16, 2) := dk_16 16 (dk_at dksX0_init_2 12 rfl rfl)
theorem dX0_init_60 : decode cX0_init 60 = .ok (.newarray .int, 2) := dk_188_10 (dk_at dksX0_init_2 14 rfl rfl)
theorem dX0_init_62 : decode cX0_init 62 = .ok (.putfield 51, 3) := dk_181 0 51 (dk_at dksX0_init_2 16 rfl rfl)
theorem dX0_init_65 : decode cX0_init 65 = .ok (.aload_n 0, 1) := dk_42 (dk_at dksX0_init_2 19 rfl rfl)
theorem dX0_init_66 : decode cX0_init 66 = .ok (.new 39, 3) := dk_187 0 39 (dk_at dksX0_init_2 20 rfl rfl)
theorem dX0_init_69 : decode cX0_init 69 = .ok (.dup, 1) := dk_89 (dk_at dksX0_init_2 23 rfl rfl)
theorem dX0_init_70 : decode cX0_init 70 = .ok (.invokespecial 54, 3) := dk_183 0 54 (dk_at dksX0_init_3 0 rfl rfl)
theorem dX0_init_73 : decode cX0_init 73 = .ok (.putfield 55, 3) := dk_181 0 55 (dk_at dksX0_init_3 3 rfl rfl)
theorem dX0_init_76 : decode cX0_init 76 = .ok (.aload_n 0, 1) := dk_42 (dk_at dksX0_init_3 6 rfl rfl)
theorem dX0_init_77 : decode cX0_init 77 = .ok (.new 39, 3) := dk_187 0 39 (dk_at dksX0_init_3 7 rfl rfl)
theorem dX0_init_80 : decode cX0_init 80 = .ok (.dup, 1) := dk_89 (dk_at dksX0_init_3 10 rfl rfl)
theorem dX0_init_81 : decode cX0_init 81 = .ok (.invokespecial 54, 3) := dk_183 0 54 (dk_at dksX0_init_3 11 rfl rfl)
theorem dX0_init_84 : decode cX0_init 84 = .ok (.putfield 59, 3) := dk_181 0 59 (dk_at dksX0_init_3 14 rfl rfl)
theorem dX0_init_87 : decode cX0_init 87 = .ok (.aload_n 0, 1) := dk_42 (dk_at dksX0_init_3 17 rfl rfl)
theorem dX0_init_88 : decode cX0_init 88 = .ok (.sipush 400, 3) := dk_17 1 144 (dk_at dksX0_init_3 18 rfl rfl)
theorem dX0_init_91 : decode cX0_init 91 = .ok (.newarray .byte, 2) := dk_188_8 (dk_at dksX0_init_3 21 rfl rfl)
theorem dX0_init_93 : decode cX0_init 93 = .ok (.putfield 62, 3) := dk_181 0 62 (dk_at dksX0_init_4 0 rfl rfl)
theorem dX0_init_96 : decode cX0_init 96 = .ok (.aload_n 0, 1) := dk_42 (dk_at dksX0_init_4 3 rfl rfl)
theorem dX0_init_97 : decode cX0_init 97 = .ok (.iconst (-1), 1) := dk_2 (dk_at dksX0_init_4 4 rfl rfl)
theorem dX0_init_98 : decode cX0_init 98 = .ok (.putfield 66, 3) := dk_181 0 66 (dk_at dksX0_init_4 5 rfl rfl)
theorem dX0_init_101 : decode cX0_init 101 = .ok (.aload_n 0, 1) := dk_42 (dk_at dksX0_init_4 8 rfl rfl)
theorem dX0_init_102 : decode cX0_init 102 = .ok (.iconst (-1), 1) := dk_2 (dk_at dksX0_init_4 9 rfl rfl)
theorem dX0_init_103 : decode cX0_init 103 = .ok (.putfield 69, 3) := dk_181 0 69 (dk_at dksX0_init_4 10 rfl rfl)
theorem dX0_init_106 : decode cX0_init 106 = .ok (.aload_n 0, 1) := dk_42 (dk_at dksX0_init_4 13 rfl rfl)
theorem dX0_init_107 : decode cX0_init 107 = .ok (.new 72, 3) := dk_187 0 72 (dk_at dksX0_init_4 14 rfl rfl)
theorem dX0_init_110 : decode cX0_init 110 = .ok (.dup, 1) := dk_89 (dk_at dksX0_init_4 17 rfl rfl)
theorem dX0_init_111 : decode cX0_init 111 = .ok (.invokespecial 74, 3) := dk_183 0 74 (dk_at dksX0_init_4 18 rfl rfl)
theorem dX0_init_114 : decode cX0_init 114 = .ok (.putfield 75, 3) := dk_181 0 75 (dk_at dksX0_init_4 21 rfl rfl)
theorem dX0_init_117 : decode cX0_init 117 = .ok (.aload_n 0, 1) := dk_42 (dk_at dksX0_init_5 0 rfl rfl)
theorem dX0_init_118 : decode cX0_init 118 = .ok (.bipush 20, 2) := dk_16 20 (dk_at dksX0_init_5 1 rfl rfl)
theorem dX0_init_120 : decode cX0_init 120 = .ok (.newarray .int, 2) := dk_188_10 (dk_at dksX0_init_5 3 rfl rfl)
theorem dX0_init_122 : decode cX0_init 122 = .ok (.putfield 79, 3) := dk_181 0 79 (dk_at dksX0_init_5 5 rfl rfl)
theorem dX0_init_125 : decode cX0_init 125 = .ok (.aload_n 0, 1) := dk_42 (dk_at dksX0_init_5 8 rfl rfl)
theorem dX0_init_126 : decode cX0_init 126 = .ok (.bipush 8, 2) := dk_16 8 (dk_at dksX0_init_5 9 rfl rfl)
theorem dX0_init_128 : decode cX0_init 128 = .ok (.newarray .int, 2) := dk_188_10 (dk_at dksX0_init_5 11 rfl rfl)
theorem dX0_init_130 : decode cX0_init 130 = .ok (.putfield 82, 3) := dk_181 0 82 (dk_at dksX0_init_5 13 rfl rfl)
theorem dX0_init_133 : decode cX0_init 133 = .ok (.aload_n 0, 1) := dk_42 (dk_at dksX0_init_5 16 rfl rfl)
theorem dX0_init_134 : decode cX0_init 134 = .ok (.bipush 21, 2) := dk_16 21 (dk_at dksX0_init_5 17 rfl rfl)
theorem dX0_init_136 : decode cX0_init 136 = .ok (.newarray .long, 2) := dk_188_11 (dk_at dksX0_init_5 19 rfl rfl)
theorem dX0_init_138 : decode cX0_init 138 = .ok (.putfield 85, 3) := dk_181 0 85 (dk_at dksX0_init_5 21 rfl rfl)
theorem dX0_init_141 : decode cX0_init 141 = .ok (.aload_n 0, 1) := dk_42 (dk_at dksX0_init_6 0 rfl rfl)
theorem dX0_init_142 : decode cX0_init 142 = .ok (.new 39, 3) := dk_187 0 39 (dk_at dksX0_init_6 1 rfl rfl)
theorem dX0_init_145 : decode cX0_init 145 = .ok (.dup, 1) := dk_89 (dk_at dksX0_init_6 4 rfl rfl)
theorem dX0_init_146 : decode cX0_init 146 = .ok (.invokespecial 54, 3) := dk_183 0 54 (dk_at dksX0_init_6 5 rfl rfl)
theorem dX0_init_149 : decode cX0_init 149 = .ok (.putfield 89, 3) := dk_181 0 89 (dk_at dksX0_init_6 8 rfl rfl)
theorem dX0_init_152 : decode cX0_init 152 = .ok (.aload_n 0, 1) := dk_42 (dk_at dksX0_init_6 11 rfl rfl)
theorem dX0_init_153 : decode cX0_init 153 = .ok (.iconst (-1), 1) := dk_2 (dk_at dksX0_init_6 12 rfl rfl)
theorem dX0_init_154 : decode cX0_init 154 = .ok (.putfield 92, 3) := dk_181 0 92 (dk_at dksX0_init_6 13 rfl rfl)
theorem dX0_init_157 : decode cX0_init 157 = .ok (.iconst 0, 1) := dk_3 (dk_at dksX0_init_6 16 rfl rfl)
theorem dX0_init_158 : decode cX0_init 158 = .ok (.istore_n 1, 1) := dk_60 (dk_at dksX0_init_6 17 rfl rfl)
theorem dX0_init_159 : decode cX0_init 159 = .ok (.iload_n 1, 1) := dk_27 (dk_at dksX0_init_6 18 rfl rfl)
theorem dX0_init_160 : decode cX0_init 160 = .ok (.bipush 16, 2) := dk_16 16 (dk_at dksX0_init_6 19 rfl rfl)
theorem dX0_init_162 : decode cX0_init 162 = .ok (.if_icmp .ge 35, 3) := dk_162 0 35 (dk_at dksX0_init_6 21 rfl rfl)
theorem dX0_init_165 : decode cX0_init 165 = .ok (.aload_n 0, 1) := dk_42 (dk_at dksX0_init_7 0 rfl rfl)
theorem dX0_init_166 : decode cX0_init 166 = .ok (.getfield 41, 3) := dk_180 0 41 (dk_at dksX0_init_7 1 rfl rfl)
theorem dX0_init_169 : decode cX0_init 169 = .ok (.iload_n 1, 1) := dk_27 (dk_at dksX0_init_7 4 rfl rfl)
theorem dX0_init_170 : decode cX0_init 170 = .ok (.new 39, 3) := dk_187 0 39 (dk_at dksX0_init_7 5 rfl rfl)
theorem dX0_init_173 : decode cX0_init 173 = .ok (.dup, 1) := dk_89 (dk_at dksX0_init_7 8 rfl rfl)
theorem dX0_init_174 : decode cX0_init 174 = .ok (.invokespecial 54, 3) := dk_183 0 54 (dk_at dksX0_init_7 9 rfl rfl)
theorem dX0_init_177 : decode cX0_init 177 = .ok (.aastore, 1) := dk_83 (dk_at dksX0_init_7 12 rfl rfl)
theorem dX0_init_178 : decode cX0_init 178 = .ok (.aload_n 0, 1) := dk_42 (dk_at dksX0_init_7 13 rfl rfl)
theorem dX0_init_179 : decode cX0_init 179 = .ok (.getfield 45, 3) := dk_180 0 45 (dk_at dksX0_init_7 14 rfl rfl)
theorem dX0_init_182 : decode cX0_init 182 = .ok (.iload_n 1, 1) := dk_27 (dk_at dksX0_init_7 17 rfl rfl)
theorem dX0_init_183 : decode cX0_init 183 = .ok (.new 39, 3) := dk_187 0 39 (dk_at dksX0_init_7 18 rfl rfl)
theorem dX0_init_186 : decode cX0_init 186 = .ok (.dup, 1) := dk_89 (dk_at dksX0_init_7 21 rfl rfl)
theorem dX0_init_187 : decode cX0_init 187 = .ok (.invokespecial 54, 3) := dk_183 0 54 (dk_at dksX0_init_8 0 rfl rfl)
theorem dX0_init_190 : decode cX0_init 190 = .ok (.aastore, 1) := dk_83 (dk_at dksX0_init_8 3 rfl rfl)
theorem dX0_init_191 : decode cX0_init 191 = .ok (.iinc 1 1, 3) := dk_132 1 1 (dk_at dksX0_init_8 4 rfl rfl)
theorem dX0_init_194 : decode cX0_init 194 = .ok (.goto (-35), 3) := dk_167 255 221 (dk_at dksX0_init_8 7 rfl rfl)
theorem dX0_init_197 : decode cX0_init 197 = .ok (.return_, 1) := dk_177 (dk_at dksX0_init_8 10 rfl rfl)
abbrev cX0_image : ByteArray := prog_1_method_11_code
def yX0_image : MethodName := ⟨RX0, "image", "(I)I"⟩
def dkwX0_image_2 : List UInt8 := [182, 0, 125, 42, 3, 182, 0, 101, 172]
abbrev dktX0_image_2 : List UInt8 := dkwX0_image_2 ++ []
def dkwX0_image_1 : List UInt8 := [42, 180, 0, 35, 27, 187, 0, 28, 89, 183, 0, 30, 83, 42, 180, 0, 35, 27, 50, 42, 180, 0, 31]
abbrev dktX0_image_1 : List UInt8 := dkwX0_image_1 ++ dktX0_image_2
def dkwX0_image_0 : List UInt8 := [27, 3, 4, 184, 0, 108, 154, 0, 9, 42, 2, 182, 0, 122, 172, 42, 180, 0, 35, 27, 50, 199, 0, 16]
abbrev dktX0_image_0 : List UInt8 := dkwX0_image_0 ++ dktX0_image_1
theorem dksX0_image_0 : cX0_image.data.toList.drop 0 = dktX0_image_0 := by decide +kernel
theorem dksX0_image_1 : cX0_image.data.toList.drop 24 = dktX0_image_1 := dk_seg dksX0_image_0 24 rfl rfl
theorem dksX0_image_2 : cX0_image.data.toList.drop 47 = dktX0_image_2 := dk_seg dksX0_image_1 23 rfl rfl
theorem dX0_image_0 : decode cX0_image 0 = .ok (.iload_n 1, 1) := dk_27 (dk_at dksX0_image_0 0 rfl rfl)
theorem dX0_image_1 : decode cX0_image 1 = .ok (.iconst 0, 1) := dk_3 (dk_at dksX0_image_0 1 rfl rfl)
theorem dX0_image_2 : decode cX0_image 2 = .ok (.iconst 1, 1) := dk_4 (dk_at dksX0_image_0 2 rfl rfl)
theorem dX0_image_3 : decode cX0_image 3 = .ok (.invokestatic 108, 3) := dk_184 0 108 (dk_at dksX0_image_0 3 rfl rfl)
theorem dX0_image_6 : decode cX0_image 6 = .ok (.ifCond .ne 9, 3) := dk_154 0 9 (dk_at dksX0_image_0 6 rfl rfl)
theorem dX0_image_9 : decode cX0_image 9 = .ok (.aload_n 0, 1) := dk_42 (dk_at dksX0_image_0 9 rfl rfl)
theorem dX0_image_10 : decode cX0_image 10 = .ok (.iconst (-1), 1) := dk_2 (dk_at dksX0_image_0 10 rfl rfl)
theorem dX0_image_11 : decode cX0_image 11 = .ok (.invokevirtual 122, 3) := dk_182 0 122 (dk_at dksX0_image_0 11 rfl rfl)
theorem dX0_image_14 : decode cX0_image 14 = .ok (.ireturn, 1) := dk_172 (dk_at dksX0_image_0 14 rfl rfl)
theorem dX0_image_15 : decode cX0_image 15 = .ok (.aload_n 0, 1) := dk_42 (dk_at dksX0_image_0 15 rfl rfl)
theorem dX0_image_16 : decode cX0_image 16 = .ok (.getfield 35, 3) := dk_180 0 35 (dk_at dksX0_image_0 16 rfl rfl)
theorem dX0_image_19 : decode cX0_image 19 = .ok (.iload_n 1, 1) := dk_27 (dk_at dksX0_image_0 19 rfl rfl)
theorem dX0_image_20 : decode cX0_image 20 = .ok (.aaload, 1) := dk_50 (dk_at dksX0_image_0 20 rfl rfl)
theorem dX0_image_21 : decode cX0_image 21 = .ok (.ifnonnull 16, 3) := dk_199 0 16 (dk_at dksX0_image_0 21 rfl rfl)
theorem dX0_image_24 : decode cX0_image 24 = .ok (.aload_n 0, 1) := dk_42 (dk_at dksX0_image_1 0 rfl rfl)
theorem dX0_image_25 : decode cX0_image 25 = .ok (.getfield 35, 3) := dk_180 0 35 (dk_at dksX0_image_1 1 rfl rfl)
theorem dX0_image_28 : decode cX0_image 28 = .ok (.iload_n 1, 1) := dk_27 (dk_at dksX0_image_1 4 rfl rfl)
theorem dX0_image_29 : decode cX0_image 29 = .ok (.new 28, 3) := dk_187 0 28 (dk_at dksX0_image_1 5 rfl rfl)
theorem dX0_image_32 : decode cX0_image 32 = .ok (.dup, 1) := dk_89 (dk_at dksX0_image_1 8 rfl rfl)
theorem dX0_image_33 : decode cX0_image 33 = .ok (.invokespecial 30, 3) := dk_183 0 30 (dk_at dksX0_image_1 9 rfl rfl)
theorem dX0_image_36 : decode cX0_image 36 = .ok (.aastore, 1) := dk_83 (dk_at dksX0_image_1 12 rfl rfl)
theorem dX0_image_37 : decode cX0_image 37 = .ok (.aload_n 0, 1) := dk_42 (dk_at dksX0_image_1 13 rfl rfl)
theorem dX0_image_38 : decode cX0_image 38 = .ok (.getfield 35, 3) := dk_180 0 35 (dk_at dksX0_image_1 14 rfl rfl)
theorem dX0_image_41 : decode cX0_image 41 = .ok (.iload_n 1, 1) := dk_27 (dk_at dksX0_image_1 17 rfl rfl)
theorem dX0_image_42 : decode cX0_image 42 = .ok (.aaload, 1) := dk_50 (dk_at dksX0_image_1 18 rfl rfl)
theorem dX0_image_43 : decode cX0_image 43 = .ok (.aload_n 0, 1) := dk_42 (dk_at dksX0_image_1 19 rfl rfl)
theorem dX0_image_44 : decode cX0_image 44 = .ok (.getfield 31, 3) := dk_180 0 31 (dk_at dksX0_image_1 20 rfl rfl)
theorem dX0_image_47 : decode cX0_image 47 = .ok (.invokevirtual 125, 3) := dk_182 0 125 (dk_at dksX0_image_2 0 rfl rfl)
theorem dX0_image_50 : decode cX0_image 50 = .ok (.aload_n 0, 1) := dk_42 (dk_at dksX0_image_2 3 rfl rfl)
theorem dX0_image_51 : decode cX0_image 51 = .ok (.iconst 0, 1) := dk_3 (dk_at dksX0_image_2 4 rfl rfl)
theorem dX0_image_52 : decode cX0_image 52 = .ok (.invokevirtual 101, 3) := dk_182 0 101 (dk_at dksX0_image_2 5 rfl rfl)
theorem dX0_image_55 : decode cX0_image 55 = .ok (.ireturn, 1) := dk_172 (dk_at dksX0_image_2 8 rfl rfl)
abbrev cX0_in : ByteArray := prog_1_method_3_code
def yX0_in : MethodName := ⟨RX0, "in", "(III)Z"⟩
def dkwX0_in_0 : List UInt8 := [26, 27, 161, 0, 12, 26, 28, 163, 0, 7, 4, 167, 0, 4, 3, 172]
abbrev dktX0_in_0 : List UInt8 := dkwX0_in_0 ++ []
theorem dksX0_in_0 : cX0_in.data.toList.drop 0 = dktX0_in_0 := by decide +kernel
theorem dX0_in_0 : decode cX0_in 0 = .ok (.iload_n 0, 1) := dk_26 (dk_at dksX0_in_0 0 rfl rfl)
theorem dX0_in_1 : decode cX0_in 1 = .ok (.iload_n 1, 1) := dk_27 (dk_at dksX0_in_0 1 rfl rfl)
theorem dX0_in_2 : decode cX0_in 2 = .ok (.if_icmp .lt 12, 3) := dk_161 0 12 (dk_at dksX0_in_0 2 rfl rfl)
theorem dX0_in_5 : decode cX0_in 5 = .ok (.iload_n 0, 1) := dk_26 (dk_at dksX0_in_0 5 rfl rfl)
theorem dX0_in_6 : decode cX0_in 6 = .ok (.iload_n 2, 1) := dk_28 (dk_at dksX0_in_0 6 rfl rfl)
theorem dX0_in_7 : decode cX0_in 7 = .ok (.if_icmp .gt 7, 3) := dk_163 0 7 (dk_at dksX0_in_0 7 rfl rfl)
theorem dX0_in_10 : decode cX0_in 10 = .ok (.iconst 1, 1) := dk_4 (dk_at dksX0_in_0 10 rfl rfl)
theorem dX0_in_11 : decode cX0_in 11 = .ok (.goto 4, 3) := dk_167 0 4 (dk_at dksX0_in_0 11 rfl rfl)
theorem dX0_in_14 : decode cX0_in 14 = .ok (.iconst 0, 1) := dk_3 (dk_at dksX0_in_0 14 rfl rfl)
theorem dX0_in_15 : decode cX0_in 15 = .ok (.ireturn, 1) := dk_172 (dk_at dksX0_in_0 15 rfl rfl)
abbrev cX0_refuse : ByteArray := prog_1_method_1_code
def yX0_refuse : MethodName := ⟨RX0, "refuse", "(I)I"⟩
def dkwX0_refuse_0 : List UInt8 := [42, 27, 181, 0, 1, 42, 180, 0, 7, 27, 116, 92, 46, 4, 96, 79, 27, 172]
abbrev dktX0_refuse_0 : List UInt8 := dkwX0_refuse_0 ++ []
theorem dksX0_refuse_0 : cX0_refuse.data.toList.drop 0 = dktX0_refuse_0 := by decide +kernel
theorem dX0_refuse_0 : decode cX0_refuse 0 = .ok (.aload_n 0, 1) := dk_42 (dk_at dksX0_refuse_0 0 rfl rfl)
theorem dX0_refuse_1 : decode cX0_refuse 1 = .ok (.iload_n 1, 1) := dk_27 (dk_at dksX0_refuse_0 1 rfl rfl)
theorem dX0_refuse_2 : decode cX0_refuse 2 = .ok (.putfield 1, 3) := dk_181 0 1 (dk_at dksX0_refuse_0 2 rfl rfl)
theorem dX0_refuse_5 : decode cX0_refuse 5 = .ok (.aload_n 0, 1) := dk_42 (dk_at dksX0_refuse_0 5 rfl rfl)
theorem dX0_refuse_6 : decode cX0_refuse 6 = .ok (.getfield 7, 3) := dk_180 0 7 (dk_at dksX0_refuse_0 6 rfl rfl)
theorem dX0_refuse_9 : decode cX0_refuse 9 = .ok (.iload_n 1, 1) := dk_27 (dk_at dksX0_refuse_0 9 rfl rfl)
theorem dX0_refuse_10 : decode cX0_refuse 10 = .ok (.ineg, 1) := dk_116 (dk_at dksX0_refuse_0 10 rfl rfl)
theorem dX0_refuse_11 : decode cX0_refuse 11 = .ok (.dup2, 1) := dk_92 (dk_at dksX0_refuse_0 11 rfl rfl)
theorem dX0_refuse_12 : decode cX0_refuse 12 = .ok (.iaload, 1) := dk_46 (dk_at dksX0_refuse_0 12 rfl rfl)
theorem dX0_refuse_13 : decode cX0_refuse 13 = .ok (.iconst 1, 1) := dk_4 (dk_at dksX0_refuse_0 13 rfl rfl)
theorem dX0_refuse_14 : decode cX0_refuse 14 = .ok (.iadd, 1) := dk_96 (dk_at dksX0_refuse_0 14 rfl rfl)
theorem dX0_refuse_15 : decode cX0_refuse 15 = .ok (.iastore, 1) := dk_79 (dk_at dksX0_refuse_0 15 rfl rfl)
theorem dX0_refuse_16 : decode cX0_refuse 16 = .ok (.iload_n 1, 1) := dk_27 (dk_at dksX0_refuse_0 16 rfl rfl)
theorem dX0_refuse_17 : decode cX0_refuse 17 = .ok (.ireturn, 1) := dk_172 (dk_at dksX0_refuse_0 17 rfl rfl)
abbrev cX0_done : ByteArray := prog_1_method_2_code
def yX0_done : MethodName := ⟨RX0, "done", "(I)I"⟩
def dkwX0_done_0 : List UInt8 := [42, 3, 181, 0, 1, 27, 172]
abbrev dktX0_done_0 : List UInt8 := dkwX0_done_0 ++ []
theorem dksX0_done_0 : cX0_done.data.toList.drop 0 = dktX0_done_0 := by decide +kernel
theorem dX0_done_0 : decode cX0_done 0 = .ok (.aload_n 0, 1) := dk_42 (dk_at dksX0_done_0 0 rfl rfl)
theorem dX0_done_1 : decode cX0_done 1 = .ok (.iconst 0, 1) := dk_3 (dk_at dksX0_done_0 1 rfl rfl)
theorem dX0_done_2 : decode cX0_done 2 = .ok (.putfield 1, 3) := dk_181 0 1 (dk_at dksX0_done_0 2 rfl rfl)
theorem dX0_done_5 : decode cX0_done 5 = .ok (.iload_n 1, 1) := dk_27 (dk_at dksX0_done_0 5 rfl rfl)
theorem dX0_done_6 : decode cX0_done 6 = .ok (.ireturn, 1) := dk_172 (dk_at dksX0_done_0 6 rfl rfl)
abbrev cX0_back : ByteArray := prog_1_method_12_code
def yX0_back : MethodName := ⟨RX0, "back", "(I)I"⟩
def dkwX0_back_2 : List UInt8 := [182, 0, 129, 172]
abbrev dktX0_back_2 : List UInt8 := dkwX0_back_2 ++ []
def dkwX0_back_1 : List UInt8 := [42, 16, 254, 182, 0, 122, 172, 42, 180, 0, 31, 42, 180, 0, 35, 27, 50, 182, 0, 125, 42, 3]
abbrev dktX0_back_1 : List UInt8 := dkwX0_back_1 ++ dktX0_back_2
def dkwX0_back_0 : List UInt8 := [27, 3, 4, 184, 0, 108, 154, 0, 9, 42, 2, 182, 0, 122, 172, 42, 180, 0, 35, 27, 50, 199, 0, 10]
abbrev dktX0_back_0 : List UInt8 := dkwX0_back_0 ++ dktX0_back_1
theorem dksX0_back_0 : cX0_back.data.toList.drop 0 = dktX0_back_0 := by decide +kernel
theorem dksX0_back_1 : cX0_back.data.toList.drop 24 = dktX0_back_1 := dk_seg dksX0_back_0 24 rfl rfl
theorem dksX0_back_2 : cX0_back.data.toList.drop 46 = dktX0_back_2 := dk_seg dksX0_back_1 22 rfl rfl
theorem dX0_back_0 : decode cX0_back 0 = .ok (.iload_n 1, 1) := dk_27 (dk_at dksX0_back_0 0 rfl rfl)
theorem dX0_back_1 : decode cX0_back 1 = .ok (.iconst 0, 1) := dk_3 (dk_at dksX0_back_0 1 rfl rfl)
theorem dX0_back_2 : decode cX0_back 2 = .ok (.iconst 1, 1) := dk_4 (dk_at dksX0_back_0 2 rfl rfl)
theorem dX0_back_3 : decode cX0_back 3 = .ok (.invokestatic 108, 3) := dk_184 0 108 (dk_at dksX0_back_0 3 rfl rfl)
theorem dX0_back_6 : decode cX0_back 6 = .ok (.ifCond .ne 9, 3) := dk_154 0 9 (dk_at dksX0_back_0 6 rfl rfl)
theorem dX0_back_9 : decode cX0_back 9 = .ok (.aload_n 0, 1) := dk_42 (dk_at dksX0_back_0 9 rfl rfl)
theorem dX0_back_10 : decode cX0_back 10 = .ok (.iconst (-1), 1) := dk_2 (dk_at dksX0_back_0 10 rfl rfl)
theorem dX0_back_11 : decode cX0_back 11 = .ok (.invokevirtual 122, 3) := dk_182 0 122 (dk_at dksX0_back_0 11 rfl rfl)
theorem dX0_back_14 : decode cX0_back 14 = .ok (.ireturn, 1) := dk_172 (dk_at dksX0_back_0 14 rfl rfl)
theorem dX0_back_15 : decode cX0_back 15 = .ok (.aload_n 0, 1) := dk_42 (dk_at dksX0_back_0 15 rfl rfl)
theorem dX0_back_16 : decode cX0_back 16 = .ok (.getfield 35, 3) := dk_180 0 35 (dk_at dksX0_back_0 16 rfl rfl)
theorem dX0_back_19 : decode cX0_back 19 = .ok (.iload_n 1, 1) := dk_27 (dk_at dksX0_back_0 19 rfl rfl)
theorem dX0_back_20 : decode cX0_back 20 = .ok (.aaload, 1) := dk_50 (dk_at dksX0_back_0 20 rfl rfl)
theorem dX0_back_21 : decode cX0_back 21 = .ok (.ifnonnull 10, 3) := dk_199 0 10 (dk_at dksX0_back_0 21 rfl rfl)
theorem dX0_back_24 : decode cX0_back 24 = .ok (.aload_n 0, 1) := dk_42 (dk_at dksX0_back_1 0 rfl rfl)
theorem dX0_back_25 : decode cX0_back 25 = .ok (.bipush (-2), 2) := dk_16 254 (dk_at dksX0_back_1 1 rfl rfl)
theorem dX0_back_27 : decode cX0_back 27 = .ok (.invokevirtual 122, 3) := dk_182 0 122 (dk_at dksX0_back_1 3 rfl rfl)
theorem dX0_back_30 : decode cX0_back 30 = .ok (.ireturn, 1) := dk_172 (dk_at dksX0_back_1 6 rfl rfl)
theorem dX0_back_31 : decode cX0_back 31 = .ok (.aload_n 0, 1) := dk_42 (dk_at dksX0_back_1 7 rfl rfl)
theorem dX0_back_32 : decode cX0_back 32 = .ok (.getfield 31, 3) := dk_180 0 31 (dk_at dksX0_back_1 8 rfl rfl)
theorem dX0_back_35 : decode cX0_back 35 = .ok (.aload_n 0, 1) := dk_42 (dk_at dksX0_back_1 11 rfl rfl)
theorem dX0_back_36 : decode cX0_back 36 = .ok (.getfield 35, 3) := dk_180 0 35 (dk_at dksX0_back_1 12 rfl rfl)
theorem dX0_back_39 : decode cX0_back 39 = .ok (.iload_n 1, 1) := dk_27 (dk_at dksX0_back_1 15 rfl rfl)
theorem dX0_back_40 : decode cX0_back 40 = .ok (.aaload, 1) := dk_50 (dk_at dksX0_back_1 16 rfl rfl)
theorem dX0_back_41 : decode cX0_back 41 = .ok (.invokevirtual 125, 3) := dk_182 0 125 (dk_at dksX0_back_1 17 rfl rfl)
theorem dX0_back_44 : decode cX0_back 44 = .ok (.aload_n 0, 1) := dk_42 (dk_at dksX0_back_1 20 rfl rfl)
theorem dX0_back_45 : decode cX0_back 45 = .ok (.iconst 0, 1) := dk_3 (dk_at dksX0_back_1 21 rfl rfl)
theorem dX0_back_46 : decode cX0_back 46 = .ok (.invokevirtual 129, 3) := dk_182 0 129 (dk_at dksX0_back_2 0 rfl rfl)
theorem dX0_back_49 : decode cX0_back 49 = .ok (.ireturn, 1) := dk_172 (dk_at dksX0_back_2 3 rfl rfl)
abbrev cX0_settles : ByteArray := prog_1_method_8_code
def yX0_settles : MethodName := ⟨RX0, "settles", "(I)I"⟩
def dkwX0_settles_0 : List UInt8 := [42, 3, 181, 0, 98, 42, 27, 182, 0, 101, 172]
abbrev dktX0_settles_0 : List UInt8 := dkwX0_settles_0 ++ []
theorem dksX0_settles_0 : cX0_settles.data.toList.drop 0 = dktX0_settles_0 := by decide +kernel
theorem dX0_settles_0 : decode cX0_settles 0 = .ok (.aload_n 0, 1) := dk_42 (dk_at dksX0_settles_0 0 rfl rfl)
theorem dX0_settles_1 : decode cX0_settles 1 = .ok (.iconst 0, 1) := dk_3 (dk_at dksX0_settles_0 1 rfl rfl)
theorem dX0_settles_2 : decode cX0_settles 2 = .ok (.putfield 98, 3) := dk_181 0 98 (dk_at dksX0_settles_0 2 rfl rfl)
theorem dX0_settles_5 : decode cX0_settles 5 = .ok (.aload_n 0, 1) := dk_42 (dk_at dksX0_settles_0 5 rfl rfl)
theorem dX0_settles_6 : decode cX0_settles 6 = .ok (.iload_n 1, 1) := dk_27 (dk_at dksX0_settles_0 6 rfl rfl)
theorem dX0_settles_7 : decode cX0_settles 7 = .ok (.invokevirtual 101, 3) := dk_182 0 101 (dk_at dksX0_settles_0 7 rfl rfl)
theorem dX0_settles_10 : decode cX0_settles 10 = .ok (.ireturn, 1) := dk_172 (dk_at dksX0_settles_0 10 rfl rfl)
abbrev cX0_cask : ByteArray := prog_1_method_15_code
def yX0_cask : MethodName := ⟨RX0, "cask", "(II)I"⟩
def dkwX0_cask_1 : List UInt8 := [160, 0, 10, 42, 16, 251, 182, 0, 122, 172, 42, 42, 27, 28, 3, 182, 0, 147, 182, 0, 129, 172]
abbrev dktX0_cask_1 : List UInt8 := dkwX0_cask_1 ++ []
def dkwX0_cask_0 : List UInt8 := [27, 28, 184, 0, 143, 154, 0, 9, 42, 2, 182, 0, 122, 172, 42, 180, 0, 31, 180, 0, 105, 16, 8]
abbrev dktX0_cask_0 : List UInt8 := dkwX0_cask_0 ++ dktX0_cask_1
theorem dksX0_cask_0 : cX0_cask.data.toList.drop 0 = dktX0_cask_0 := by decide +kernel
theorem dksX0_cask_1 : cX0_cask.data.toList.drop 23 = dktX0_cask_1 := dk_seg dksX0_cask_0 23 rfl rfl
theorem dX0_cask_0 : decode cX0_cask 0 = .ok (.iload_n 1, 1) := dk_27 (dk_at dksX0_cask_0 0 rfl rfl)
theorem dX0_cask_1 : decode cX0_cask 1 = .ok (.iload_n 2, 1) := dk_28 (dk_at dksX0_cask_0 1 rfl rfl)
theorem dX0_cask_2 : decode cX0_cask 2 = .ok (.invokestatic 143, 3) := dk_184 0 143 (dk_at dksX0_cask_0 2 rfl rfl)
theorem dX0_cask_5 : decode cX0_cask 5 = .ok (.ifCond .ne 9, 3) := dk_154 0 9 (dk_at dksX0_cask_0 5 rfl rfl)
theorem dX0_cask_8 : decode cX0_cask 8 = .ok (.aload_n 0, 1) := dk_42 (dk_at dksX0_cask_0 8 rfl rfl)
theorem dX0_cask_9 : decode cX0_cask 9 = .ok (.iconst (-1), 1) := dk_2 (dk_at dksX0_cask_0 9 rfl rfl)
theorem dX0_cask_10 : decode cX0_cask 10 = .ok (.invokevirtual 122, 3) := dk_182 0 122 (dk_at dksX0_cask_0 10 rfl rfl)
theorem dX0_cask_13 : decode cX0_cask 13 = .ok (.ireturn, 1) := dk_172 (dk_at dksX0_cask_0 13 rfl rfl)
theorem dX0_cask_14 : decode cX0_cask 14 = .ok (.aload_n 0, 1) := dk_42 (dk_at dksX0_cask_0 14 rfl rfl)
theorem dX0_cask_15 : decode cX0_cask 15 = .ok (.getfield 31, 3) := dk_180 0 31 (dk_at dksX0_cask_0 15 rfl rfl)
theorem dX0_cask_18 : decode cX0_cask 18 = .ok (.getfield 105, 3) := dk_180 0 105 (dk_at dksX0_cask_0 18 rfl rfl)
theorem dX0_cask_21 : decode cX0_cask 21 = .ok (.bipush 8, 2) := dk_16 8 (dk_at dksX0_cask_0 21 rfl rfl)
theorem dX0_cask_23 : decode cX0_cask 23 = .ok (.if_icmp .ne 10, 3) := dk_160 0 10 (dk_at dksX0_cask_1 0 rfl rfl)
theorem dX0_cask_26 : decode cX0_cask 26 = .ok (.aload_n 0, 1) := dk_42 (dk_at dksX0_cask_1 3 rfl rfl)
theorem dX0_cask_27 : decode cX0_cask 27 = .ok (.bipush (-5), 2) := dk_16 251 (dk_at dksX0_cask_1 4 rfl rfl)
theorem dX0_cask_29 : decode cX0_cask 29 = .ok (.invokevirtual 122, 3) := dk_182 0 122 (dk_at dksX0_cask_1 6 rfl rfl)
theorem dX0_cask_32 : decode cX0_cask 32 = .ok (.ireturn, 1) := dk_172 (dk_at dksX0_cask_1 9 rfl rfl)
theorem dX0_cask_33 : decode cX0_cask 33 = .ok (.aload_n 0, 1) := dk_42 (dk_at dksX0_cask_1 10 rfl rfl)
theorem dX0_cask_34 : decode cX0_cask 34 = .ok (.aload_n 0, 1) := dk_42 (dk_at dksX0_cask_1 11 rfl rfl)
theorem dX0_cask_35 : decode cX0_cask 35 = .ok (.iload_n 1, 1) := dk_27 (dk_at dksX0_cask_1 12 rfl rfl)
theorem dX0_cask_36 : decode cX0_cask 36 = .ok (.iload_n 2, 1) := dk_28 (dk_at dksX0_cask_1 13 rfl rfl)
theorem dX0_cask_37 : decode cX0_cask 37 = .ok (.iconst 0, 1) := dk_3 (dk_at dksX0_cask_1 14 rfl rfl)
theorem dX0_cask_38 : decode cX0_cask 38 = .ok (.invokevirtual 147, 3) := dk_182 0 147 (dk_at dksX0_cask_1 15 rfl rfl)
theorem dX0_cask_41 : decode cX0_cask 41 = .ok (.invokevirtual 129, 3) := dk_182 0 129 (dk_at dksX0_cask_1 18 rfl rfl)
theorem dX0_cask_44 : decode cX0_cask 44 = .ok (.ireturn, 1) := dk_172 (dk_at dksX0_cask_1 21 rfl rfl)
abbrev cX0_canCask : ByteArray := prog_1_method_13_code
def yX0_canCask : MethodName := ⟨RX0, "canCask", "(II)Z"⟩
def dkwX0_canCask_1 : List UInt8 := [3, 172]
abbrev dktX0_canCask_1 : List UInt8 := dkwX0_canCask_1 ++ []
def dkwX0_canCask_0 : List UInt8 := [26, 3, 7, 184, 0, 108, 153, 0, 18, 27, 4, 17, 3, 231, 184, 0, 108, 153, 0, 7, 4, 167, 0, 4]
abbrev dktX0_canCask_0 : List UInt8 := dkwX0_canCask_0 ++ dktX0_canCask_1
theorem dksX0_canCask_0 : cX0_canCask.data.toList.drop 0 = dktX0_canCask_0 := by decide +kernel
theorem dksX0_canCask_1 : cX0_canCask.data.toList.drop 24 = dktX0_canCask_1 := dk_seg dksX0_canCask_0 24 rfl rfl
theorem dX0_canCask_0 : decode cX0_canCask 0 = .ok (.iload_n 0, 1) := dk_26 (dk_at dksX0_canCask_0 0 rfl rfl)
theorem dX0_canCask_1 : decode cX0_canCask 1 = .ok (.iconst 0, 1) := dk_3 (dk_at dksX0_canCask_0 1 rfl rfl)
theorem dX0_canCask_2 : decode cX0_canCask 2 = .ok (.iconst 4, 1) := dk_7 (dk_at dksX0_canCask_0 2 rfl rfl)
theorem dX0_canCask_3 : decode cX0_canCask 3 = .ok (.invokestatic 108, 3) := dk_184 0 108 (dk_at dksX0_canCask_0 3 rfl rfl)
theorem dX0_canCask_6 : decode cX0_canCask 6 = .ok (.ifCond .eq 18, 3) := dk_153 0 18 (dk_at dksX0_canCask_0 6 rfl rfl)
theorem dX0_canCask_9 : decode cX0_canCask 9 = .ok (.iload_n 1, 1) := dk_27 (dk_at dksX0_canCask_0 9 rfl rfl)
theorem dX0_canCask_10 : decode cX0_canCask 10 = .ok (.iconst 1, 1) := dk_4 (dk_at dksX0_canCask_0 10 rfl rfl)
theorem dX0_canCask_11 : decode cX0_canCask 11 = .ok (.sipush 999, 3) := dk_17 3 231 (dk_at dksX0_canCask_0 11 rfl rfl)
theorem dX0_canCask_14 : decode cX0_canCask 14 = .ok (.invokestatic 108, 3) := dk_184 0 108 (dk_at dksX0_canCask_0 14 rfl rfl)
theorem dX0_canCask_17 : decode cX0_canCask 17 = .ok (.ifCond .eq 7, 3) := dk_153 0 7 (dk_at dksX0_canCask_0 17 rfl rfl)
theorem dX0_canCask_20 : decode cX0_canCask 20 = .ok (.iconst 1, 1) := dk_4 (dk_at dksX0_canCask_0 20 rfl rfl)
theorem dX0_canCask_21 : decode cX0_canCask 21 = .ok (.goto 4, 3) := dk_167 0 4 (dk_at dksX0_canCask_0 21 rfl rfl)
theorem dX0_canCask_24 : decode cX0_canCask 24 = .ok (.iconst 0, 1) := dk_3 (dk_at dksX0_canCask_1 0 rfl rfl)
theorem dX0_canCask_25 : decode cX0_canCask 25 = .ok (.ireturn, 1) := dk_172 (dk_at dksX0_canCask_1 1 rfl rfl)
abbrev cX0_adds : ByteArray := prog_1_method_14_code
def yX0_adds : MethodName := ⟨RX0, "adds", "(III)I"⟩
def dkwX0_adds_3 : List UInt8 := [132, 5, 1, 167, 255, 216, 42, 180, 0, 31, 89, 180, 0, 105, 4, 96, 181, 0, 105, 21, 4, 172]
abbrev dktX0_adds_3 : List UInt8 := dkwX0_adds_3 ++ []
def dkwX0_adds_2 : List UInt8 := [16, 20, 21, 4, 104, 21, 5, 96, 21, 5, 154, 0, 11, 17, 3, 232, 29, 104, 167, 0, 4, 3, 79]
abbrev dktX0_adds_2 : List UInt8 := dkwX0_adds_2 ++ dktX0_adds_3
def dkwX0_adds_1 : List UInt8 := [180, 0, 135, 21, 4, 28, 79, 3, 54, 5, 21, 5, 16, 20, 162, 0, 39, 42, 182, 0, 137, 180, 0, 140]
abbrev dktX0_adds_1 : List UInt8 := dkwX0_adds_1 ++ dktX0_adds_2
def dkwX0_adds_0 : List UInt8 := [42, 180, 0, 31, 180, 0, 105, 54, 4, 42, 180, 0, 31, 180, 0, 132, 21, 4, 27, 79, 42, 180, 0, 31]
abbrev dktX0_adds_0 : List UInt8 := dkwX0_adds_0 ++ dktX0_adds_1
theorem dksX0_adds_0 : cX0_adds.data.toList.drop 0 = dktX0_adds_0 := by decide +kernel
theorem dksX0_adds_1 : cX0_adds.data.toList.drop 24 = dktX0_adds_1 := dk_seg dksX0_adds_0 24 rfl rfl
theorem dksX0_adds_2 : cX0_adds.data.toList.drop 48 = dktX0_adds_2 := dk_seg dksX0_adds_1 24 rfl rfl
theorem dksX0_adds_3 : cX0_adds.data.toList.drop 71 = dktX0_adds_3 := dk_seg dksX0_adds_2 23 rfl rfl
theorem dX0_adds_0 : decode cX0_adds 0 = .ok (.aload_n 0, 1) := dk_42 (dk_at dksX0_adds_0 0 rfl rfl)
theorem dX0_adds_1 : decode cX0_adds 1 = .ok (.getfield 31, 3) := dk_180 0 31 (dk_at dksX0_adds_0 1 rfl rfl)
theorem dX0_adds_4 : decode cX0_adds 4 = .ok (.getfield 105, 3) := dk_180 0 105 (dk_at dksX0_adds_0 4 rfl rfl)
theorem dX0_adds_7 : decode cX0_adds 7 = .ok (.istore 4, 2) := dk_54 4 (dk_at dksX0_adds_0 7 rfl rfl)
theorem dX0_adds_9 : decode cX0_adds 9 = .ok (.aload_n 0, 1) := dk_42 (dk_at dksX0_adds_0 9 rfl rfl)
theorem dX0_adds_10 : decode cX0_adds 10 = .ok (.getfield 31, 3) := dk_180 0 31 (dk_at dksX0_adds_0 10 rfl rfl)
theorem dX0_adds_13 : decode cX0_adds 13 = .ok (.getfield 132, 3) := dk_180 0 132 (dk_at dksX0_adds_0 13 rfl rfl)
theorem dX0_adds_16 : decode cX0_adds 16 = .ok (.iload 4, 2) := dk_21 4 (dk_at dksX0_adds_0 16 rfl rfl)
theorem dX0_adds_18 : decode cX0_adds 18 = .ok (.iload_n 1, 1) := dk_27 (dk_at dksX0_adds_0 18 rfl rfl)
theorem dX0_adds_19 : decode cX0_adds 19 = .ok (.iastore, 1) := dk_79 (dk_at dksX0_adds_0 19 rfl rfl)
theorem dX0_adds_20 : decode cX0_adds 20 = .ok (.aload_n 0, 1) := dk_42 (dk_at dksX0_adds_0 20 rfl rfl)
theorem dX0_adds_21 : decode cX0_adds 21 = .ok (.getfield 31, 3) := dk_180 0 31 (dk_at dksX0_adds_0 21 rfl rfl)
theorem dX0_adds_24 : decode cX0_adds 24 = .ok (.getfield 135, 3) := dk_180 0 135 (dk_at dksX0_adds_1 0 rfl rfl)
theorem dX0_adds_27 : decode cX0_adds 27 = .ok (.iload 4, 2) := dk_21 4 (dk_at dksX0_adds_1 3 rfl rfl)
theorem dX0_adds_29 : decode cX0_adds 29 = .ok (.iload_n 2, 1) := dk_28 (dk_at dksX0_adds_1 5 rfl rfl)
theorem dX0_adds_30 : decode cX0_adds 30 = .ok (.iastore, 1) := dk_79 (dk_at dksX0_adds_1 6 rfl rfl)
theorem dX0_adds_31 : decode cX0_adds 31 = .ok (.iconst 0, 1) := dk_3 (dk_at dksX0_adds_1 7 rfl rfl)
theorem dX0_adds_32 : decode cX0_adds 32 = .ok (.istore 5, 2) := dk_54 5 (dk_at dksX0_adds_1 8 rfl rfl)
theorem dX0_adds_34 : decode cX0_adds 34 = .ok (.iload 5, 2) := dk_21 5 (dk_at dksX0_adds_1 10 rfl rfl)
theorem dX0_adds_36 : decode cX0_adds 36 = .ok (.bipush 20, 2) := dk_16 20 (dk_at dksX0_adds_1 12 rfl rfl)
theorem dX0_adds_38 : decode cX0_adds 38 = .ok (.if_icmp .ge 39, 3) := dk_162 0 39 (dk_at dksX0_adds_1 14 rfl rfl)
theorem dX0_adds_41 : decode cX0_adds 41 = .ok (.aload_n 0, 1) := dk_42 (dk_at dksX0_adds_1 17 rfl rfl)
theorem dX0_adds_42 : decode cX0_adds 42 = .ok (.invokevirtual 137, 3) := dk_182 0 137 (dk_at dksX0_adds_1 18 rfl rfl)
theorem dX0_adds_45 : decode cX0_adds 45 = .ok (.getfield 140, 3) := dk_180 0 140 (dk_at dksX0_adds_1 21 rfl rfl)
theorem dX0_adds_48 : decode cX0_adds 48 = .ok (.bipush 20, 2) := dk_16 20 (dk_at dksX0_adds_2 0 rfl rfl)
theorem dX0_adds_50 : decode cX0_adds 50 = .ok (.iload 4, 2) := dk_21 4 (dk_at dksX0_adds_2 2 rfl rfl)
theorem dX0_adds_52 : decode cX0_adds 52 = .ok (.imul, 1) := dk_104 (dk_at dksX0_adds_2 4 rfl rfl)
theorem dX0_adds_53 : decode cX0_adds 53 = .ok (.iload 5, 2) := dk_21 5 (dk_at dksX0_adds_2 5 rfl rfl)
theorem dX0_adds_55 : decode cX0_adds 55 = .ok (.iadd, 1) := dk_96 (dk_at dksX0_adds_2 7 rfl rfl)
theorem dX0_adds_56 : decode cX0_adds 56 = .ok (.iload 5, 2) := dk_21 5 (dk_at dksX0_adds_2 8 rfl rfl)
theorem dX0_adds_58 : decode cX0_adds 58 = .ok (.ifCond .ne 11, 3) := dk_154 0 11 (dk_at dksX0_adds_2 10 rfl rfl)
theorem dX0_adds_61 : decode cX0_adds 61 = .ok (.sipush 1000, 3) := dk_17 3 232 (dk_at dksX0_adds_2 13 rfl rfl)
theorem dX0_adds_64 : decode cX0_adds 64 = .ok (.iload_n 3, 1) := dk_29 (dk_at dksX0_adds_2 16 rfl rfl)
theorem dX0_adds_65 : decode cX0_adds 65 = .ok (.imul, 1) := dk_104 (dk_at dksX0_adds_2 17 rfl rfl)
theorem dX0_adds_66 : decode cX0_adds 66 = .ok (.goto 4, 3) := dk_167 0 4 (dk_at dksX0_adds_2 18 rfl rfl)
theorem dX0_adds_69 : decode cX0_adds 69 = .ok (.iconst 0, 1) := dk_3 (dk_at dksX0_adds_2 21 rfl rfl)
theorem dX0_adds_70 : decode cX0_adds 70 = .ok (.iastore, 1) := dk_79 (dk_at dksX0_adds_2 22 rfl rfl)
theorem dX0_adds_71 : decode cX0_adds 71 = .ok (.iinc 5 1, 3) := dk_132 5 1 (dk_at dksX0_adds_3 0 rfl rfl)
theorem dX0_adds_74 : decode cX0_adds 74 = .ok (.goto (-40), 3) := dk_167 255 216 (dk_at dksX0_adds_3 3 rfl rfl)
theorem dX0_adds_77 : decode cX0_adds 77 = .ok (.aload_n 0, 1) := dk_42 (dk_at dksX0_adds_3 6 rfl rfl)
theorem dX0_adds_78 : decode cX0_adds 78 = .ok (.getfield 31, 3) := dk_180 0 31 (dk_at dksX0_adds_3 7 rfl rfl)
theorem dX0_adds_81 : decode cX0_adds 81 = .ok (.dup, 1) := dk_89 (dk_at dksX0_adds_3 10 rfl rfl)
theorem dX0_adds_82 : decode cX0_adds 82 = .ok (.getfield 105, 3) := dk_180 0 105 (dk_at dksX0_adds_3 11 rfl rfl)
theorem dX0_adds_85 : decode cX0_adds 85 = .ok (.iconst 1, 1) := dk_4 (dk_at dksX0_adds_3 14 rfl rfl)
theorem dX0_adds_86 : decode cX0_adds 86 = .ok (.iadd, 1) := dk_96 (dk_at dksX0_adds_3 15 rfl rfl)
theorem dX0_adds_87 : decode cX0_adds 87 = .ok (.putfield 105, 3) := dk_181 0 105 (dk_at dksX0_adds_3 16 rfl rfl)
theorem dX0_adds_90 : decode cX0_adds 90 = .ok (.iload 4, 2) := dk_21 4 (dk_at dksX0_adds_3 19 rfl rfl)
theorem dX0_adds_92 : decode cX0_adds 92 = .ok (.ireturn, 1) := dk_172 (dk_at dksX0_adds_3 21 rfl rfl)
abbrev cX0_table : ByteArray := prog_1_method_7_code
def yX0_table : MethodName := ⟨RX0, "table", "()LSoleraCellar$Table;"⟩
def dkwX0_table_0 : List UInt8 := [42, 180, 0, 31, 180, 0, 95, 176]
abbrev dktX0_table_0 : List UInt8 := dkwX0_table_0 ++ []
theorem dksX0_table_0 : cX0_table.data.toList.drop 0 = dktX0_table_0 := by decide +kernel
theorem dX0_table_0 : decode cX0_table 0 = .ok (.aload_n 0, 1) := dk_42 (dk_at dksX0_table_0 0 rfl rfl)
theorem dX0_table_1 : decode cX0_table 1 = .ok (.getfield 31, 3) := dk_180 0 31 (dk_at dksX0_table_0 1 rfl rfl)
theorem dX0_table_4 : decode cX0_table 4 = .ok (.getfield 95, 3) := dk_180 0 95 (dk_at dksX0_table_0 4 rfl rfl)
theorem dX0_table_7 : decode cX0_table 7 = .ok (.areturn, 1) := dk_176 (dk_at dksX0_table_0 7 rfl rfl)
abbrev cX0_of : ByteArray := prog_1_method_16_code
def yX0_of : MethodName := ⟨RX0, "of", "(II)I"⟩
def dkwX0_of_6 : List UInt8 := [167, 0, 4, 3, 172, 2, 172]
abbrev dktX0_of_6 : List UInt8 := dkwX0_of_6 ++ []
def dkwX0_of_5 : List UInt8 := [45, 27, 182, 0, 168, 172, 42, 45, 27, 182, 0, 172, 172, 42, 45, 27, 182, 0, 175, 153, 0, 7, 4]
abbrev dktX0_of_5 : List UInt8 := dkwX0_of_5 ++ dktX0_of_6
def dkwX0_of_4 : List UInt8 := [182, 0, 155, 172, 45, 27, 182, 0, 158, 172, 45, 27, 42, 180, 0, 31, 180, 0, 161, 182, 0, 164, 172, 42]
abbrev dktX0_of_4 : List UInt8 := dkwX0_of_4 ++ dktX0_of_5
def dkwX0_of_3 : List UInt8 := [42, 180, 0, 31, 180, 0, 132, 27, 46, 172, 42, 180, 0, 31, 180, 0, 135, 27, 46, 172, 45, 27]
abbrev dktX0_of_3 : List UInt8 := dkwX0_of_3 ++ dktX0_of_4
def dkwX0_of_2 : List UInt8 := [170, 0, 0, 0, 0, 120, 0, 0, 0, 0, 0, 0, 0, 7, 0, 0, 0, 46, 0, 0, 0, 56, 0, 0, 0, 66, 0, 0, 0, 72, 0, 0, 0, 78, 0, 0, 0, 91, 0, 0, 0, 98, 0, 0, 0, 105]
abbrev dktX0_of_2 : List UInt8 := dkwX0_of_2 ++ dktX0_of_3
def dkwX0_of_1 : List UInt8 := [153, 0, 18, 45, 180, 0, 140, 16, 20, 27, 104, 28, 96, 16, 8, 100, 46, 172, 28]
abbrev dktX0_of_1 : List UInt8 := dkwX0_of_1 ++ dktX0_of_2
def dkwX0_of_0 : List UInt8 := [42, 27, 182, 0, 151, 154, 0, 5, 2, 172, 42, 182, 0, 137, 78, 28, 16, 8, 16, 27, 184, 0, 108]
abbrev dktX0_of_0 : List UInt8 := dkwX0_of_0 ++ dktX0_of_1
theorem dksX0_of_0 : cX0_of.data.toList.drop 0 = dktX0_of_0 := by decide +kernel
theorem dksX0_of_1 : cX0_of.data.toList.drop 23 = dktX0_of_1 := dk_seg dksX0_of_0 23 rfl rfl
theorem dksX0_of_2 : cX0_of.data.toList.drop 42 = dktX0_of_2 := dk_seg dksX0_of_1 19 rfl rfl
theorem dksX0_of_3 : cX0_of.data.toList.drop 88 = dktX0_of_3 := dk_seg dksX0_of_2 46 rfl rfl
theorem dksX0_of_4 : cX0_of.data.toList.drop 110 = dktX0_of_4 := dk_seg dksX0_of_3 22 rfl rfl
theorem dksX0_of_5 : cX0_of.data.toList.drop 134 = dktX0_of_5 := dk_seg dksX0_of_4 24 rfl rfl
theorem dksX0_of_6 : cX0_of.data.toList.drop 157 = dktX0_of_6 := dk_seg dksX0_of_5 23 rfl rfl
theorem dX0_of_0 : decode cX0_of 0 = .ok (.aload_n 0, 1) := dk_42 (dk_at dksX0_of_0 0 rfl rfl)
theorem dX0_of_1 : decode cX0_of 1 = .ok (.iload_n 1, 1) := dk_27 (dk_at dksX0_of_0 1 rfl rfl)
theorem dX0_of_2 : decode cX0_of 2 = .ok (.invokevirtual 151, 3) := dk_182 0 151 (dk_at dksX0_of_0 2 rfl rfl)
theorem dX0_of_5 : decode cX0_of 5 = .ok (.ifCond .ne 5, 3) := dk_154 0 5 (dk_at dksX0_of_0 5 rfl rfl)
theorem dX0_of_8 : decode cX0_of 8 = .ok (.iconst (-1), 1) := dk_2 (dk_at dksX0_of_0 8 rfl rfl)
theorem dX0_of_9 : decode cX0_of 9 = .ok (.ireturn, 1) := dk_172 (dk_at dksX0_of_0 9 rfl rfl)
theorem dX0_of_10 : decode cX0_of 10 = .ok (.aload_n 0, 1) := dk_42 (dk_at dksX0_of_0 10 rfl rfl)
theorem dX0_of_11 : decode cX0_of 11 = .ok (.invokevirtual 137, 3) := dk_182 0 137 (dk_at dksX0_of_0 11 rfl rfl)
theorem dX0_of_14 : decode cX0_of 14 = .ok (.astore_n 3, 1) := dk_78 (dk_at dksX0_of_0 14 rfl rfl)
theorem dX0_of_15 : decode cX0_of 15 = .ok (.iload_n 2, 1) := dk_28 (dk_at dksX0_of_0 15 rfl rfl)
theorem dX0_of_16 : decode cX0_of 16 = .ok (.bipush 8, 2) := dk_16 8 (dk_at dksX0_of_0 16 rfl rfl)
theorem dX0_of_18 : decode cX0_of 18 = .ok (.bipush 27, 2) := dk_16 27 (dk_at dksX0_of_0 18 rfl rfl)
theorem dX0_of_20 : decode cX0_of 20 = .ok (.invokestatic 108, 3) := dk_184 0 108 (dk_at dksX0_of_0 20 rfl rfl)
theorem dX0_of_23 : decode cX0_of 23 = .ok (.ifCond .eq 18, 3) := dk_153 0 18 (dk_at dksX0_of_1 0 rfl rfl)
theorem dX0_of_26 : decode cX0_of 26 = .ok (.aload_n 3, 1) := dk_45 (dk_at dksX0_of_1 3 rfl rfl)
theorem dX0_of_27 : decode cX0_of 27 = .ok (.getfield 140, 3) := dk_180 0 140 (dk_at dksX0_of_1 4 rfl rfl)
theorem dX0_of_30 : decode cX0_of 30 = .ok (.bipush 20, 2) := dk_16 20 (dk_at dksX0_of_1 7 rfl rfl)
theorem dX0_of_32 : decode cX0_of 32 = .ok (.iload_n 1, 1) := dk_27 (dk_at dksX0_of_1 9 rfl rfl)
theorem dX0_of_33 : decode cX0_of 33 = .ok (.imul, 1) := dk_104 (dk_at dksX0_of_1 10 rfl rfl)
theorem dX0_of_34 : decode cX0_of 34 = .ok (.iload_n 2, 1) := dk_28 (dk_at dksX0_of_1 11 rfl rfl)
theorem dX0_of_35 : decode cX0_of 35 = .ok (.iadd, 1) := dk_96 (dk_at dksX0_of_1 12 rfl rfl)
theorem dX0_of_36 : decode cX0_of 36 = .ok (.bipush 8, 2) := dk_16 8 (dk_at dksX0_of_1 13 rfl rfl)
theorem dX0_of_38 : decode cX0_of 38 = .ok (.isub, 1) := dk_100 (dk_at dksX0_of_1 15 rfl rfl)
theorem dX0_of_39 : decode cX0_of 39 = .ok (.iaload, 1) := dk_46 (dk_at dksX0_of_1 16 rfl rfl)
theorem dX0_of_40 : decode cX0_of 40 = .ok (.ireturn, 1) := dk_172 (dk_at dksX0_of_1 17 rfl rfl)
theorem dX0_of_41 : decode cX0_of 41 = .ok (.iload_n 2, 1) := dk_28 (dk_at dksX0_of_1 18 rfl rfl)
theorem dX0_of_42 : decode cX0_of 42 = .ok (.tableswitch 120 0 7 #[46, 56, 66, 72, 78, 91, 98, 105], 46) := by decide +kernel
theorem dX0_of_88 : decode cX0_of 88 = .ok (.aload_n 0, 1) := dk_42 (dk_at dksX0_of_3 0 rfl rfl)
theorem dX0_of_89 : decode cX0_of 89 = .ok (.getfield 31, 3) := dk_180 0 31 (dk_at dksX0_of_3 1 rfl rfl)
theorem dX0_of_92 : decode cX0_of 92 = .ok (.getfield 132, 3) := dk_180 0 132 (dk_at dksX0_of_3 4 rfl rfl)
theorem dX0_of_95 : decode cX0_of 95 = .ok (.iload_n 1, 1) := dk_27 (dk_at dksX0_of_3 7 rfl rfl)
theorem dX0_of_96 : decode cX0_of 96 = .ok (.iaload, 1) := dk_46 (dk_at dksX0_of_3 8 rfl rfl)
theorem dX0_of_97 : decode cX0_of 97 = .ok (.ireturn, 1) := dk_172 (dk_at dksX0_of_3 9 rfl rfl)
theorem dX0_of_98 : decode cX0_of 98 = .ok (.aload_n 0, 1) := dk_42 (dk_at dksX0_of_3 10 rfl rfl)
theorem dX0_of_99 : decode cX0_of 99 = .ok (.getfield 31, 3) := dk_180 0 31 (dk_at dksX0_of_3 11 rfl rfl)
theorem dX0_of_102 : decode cX0_of 102 = .ok (.getfield 135, 3) := dk_180 0 135 (dk_at dksX0_of_3 14 rfl rfl)
theorem dX0_of_105 : decode cX0_of 105 = .ok (.iload_n 1, 1) := dk_27 (dk_at dksX0_of_3 17 rfl rfl)
theorem dX0_of_106 : decode cX0_of 106 = .ok (.iaload, 1) := dk_46 (dk_at dksX0_of_3 18 rfl rfl)
theorem dX0_of_107 : decode cX0_of 107 = .ok (.ireturn, 1) := dk_172 (dk_at dksX0_of_3 19 rfl rfl)
theorem dX0_of_108 : decode cX0_of 108 = .ok (.aload_n 3, 1) := dk_45 (dk_at dksX0_of_3 20 rfl rfl)
theorem dX0_of_109 : decode cX0_of 109 = .ok (.iload_n 1, 1) := dk_27 (dk_at dksX0_of_3 21 rfl rfl)
theorem dX0_of_110 : decode cX0_of 110 = .ok (.invokevirtual 155, 3) := dk_182 0 155 (dk_at dksX0_of_4 0 rfl rfl)
theorem dX0_of_113 : decode cX0_of 113 = .ok (.ireturn, 1) := dk_172 (dk_at dksX0_of_4 3 rfl rfl)
theorem dX0_of_114 : decode cX0_of 114 = .ok (.aload_n 3, 1) := dk_45 (dk_at dksX0_of_4 4 rfl rfl)
theorem dX0_of_115 : decode cX0_of 115 = .ok (.iload_n 1, 1) := dk_27 (dk_at dksX0_of_4 5 rfl rfl)
theorem dX0_of_116 : decode cX0_of 116 = .ok (.invokevirtual 158, 3) := dk_182 0 158 (dk_at dksX0_of_4 6 rfl rfl)
theorem dX0_of_119 : decode cX0_of 119 = .ok (.ireturn, 1) := dk_172 (dk_at dksX0_of_4 9 rfl rfl)
theorem dX0_of_120 : decode cX0_of 120 = .ok (.aload_n 3, 1) := dk_45 (dk_at dksX0_of_4 10 rfl rfl)
theorem dX0_of_121 : decode cX0_of 121 = .ok (.iload_n 1, 1) := dk_27 (dk_at dksX0_of_4 11 rfl rfl)
theorem dX0_of_122 : decode cX0_of 122 = .ok (.aload_n 0, 1) := dk_42 (dk_at dksX0_of_4 12 rfl rfl)
theorem dX0_of_123 : decode cX0_of 123 = .ok (.getfield 31, 3) := dk_180 0 31 (dk_at dksX0_of_4 13 rfl rfl)
theorem dX0_of_126 : decode cX0_of 126 = .ok (.getfield 161, 3) := dk_180 0 161 (dk_at dksX0_of_4 16 rfl rfl)
theorem dX0_of_129 : decode cX0_of 129 = .ok (.invokevirtual 164, 3) := dk_182 0 164 (dk_at dksX0_of_4 19 rfl rfl)
theorem dX0_of_132 : decode cX0_of 132 = .ok (.ireturn, 1) := dk_172 (dk_at dksX0_of_4 22 rfl rfl)
theorem dX0_of_133 : decode cX0_of 133 = .ok (.aload_n 0, 1) := dk_42 (dk_at dksX0_of_4 23 rfl rfl)
theorem dX0_of_134 : decode cX0_of 134 = .ok (.aload_n 3, 1) := dk_45 (dk_at dksX0_of_5 0 rfl rfl)
theorem dX0_of_135 : decode cX0_of 135 = .ok (.iload_n 1, 1) := dk_27 (dk_at dksX0_of_5 1 rfl rfl)
theorem dX0_of_136 : decode cX0_of 136 = .ok (.invokevirtual 168, 3) := dk_182 0 168 (dk_at dksX0_of_5 2 rfl rfl)
theorem dX0_of_139 : decode cX0_of 139 = .ok (.ireturn, 1) := dk_172 (dk_at dksX0_of_5 5 rfl rfl)
theorem dX0_of_140 : decode cX0_of 140 = .ok (.aload_n 0, 1) := dk_42 (dk_at dksX0_of_5 6 rfl rfl)
theorem dX0_of_141 : decode cX0_of 141 = .ok (.aload_n 3, 1) := dk_45 (dk_at dksX0_of_5 7 rfl rfl)
theorem dX0_of_142 : decode cX0_of 142 = .ok (.iload_n 1, 1) := dk_27 (dk_at dksX0_of_5 8 rfl rfl)
theorem dX0_of_143 : decode cX0_of 143 = .ok (.invokevirtual 172, 3) := dk_182 0 172 (dk_at dksX0_of_5 9 rfl rfl)
theorem dX0_of_146 : decode cX0_of 146 = .ok (.ireturn, 1) := dk_172 (dk_at dksX0_of_5 12 rfl rfl)
theorem dX0_of_147 : decode cX0_of 147 = .ok (.aload_n 0, 1) := dk_42 (dk_at dksX0_of_5 13 rfl rfl)
theorem dX0_of_148 : decode cX0_of 148 = .ok (.aload_n 3, 1) := dk_45 (dk_at dksX0_of_5 14 rfl rfl)
theorem dX0_of_149 : decode cX0_of 149 = .ok (.iload_n 1, 1) := dk_27 (dk_at dksX0_of_5 15 rfl rfl)
theorem dX0_of_150 : decode cX0_of 150 = .ok (.invokevirtual 175, 3) := dk_182 0 175 (dk_at dksX0_of_5 16 rfl rfl)
theorem dX0_of_153 : decode cX0_of 153 = .ok (.ifCond .eq 7, 3) := dk_153 0 7 (dk_at dksX0_of_5 19 rfl rfl)
theorem dX0_of_156 : decode cX0_of 156 = .ok (.iconst 1, 1) := dk_4 (dk_at dksX0_of_5 22 rfl rfl)
theorem dX0_of_157 : decode cX0_of 157 = .ok (.goto 4, 3) := dk_167 0 4 (dk_at dksX0_of_6 0 rfl rfl)
theorem dX0_of_160 : decode cX0_of 160 = .ok (.iconst 0, 1) := dk_3 (dk_at dksX0_of_6 3 rfl rfl)
theorem dX0_of_161 : decode cX0_of 161 = .ok (.ireturn, 1) := dk_172 (dk_at dksX0_of_6 4 rfl rfl)
theorem dX0_of_162 : decode cX0_of 162 = .ok (.iconst (-1), 1) := dk_2 (dk_at dksX0_of_6 5 rfl rfl)
theorem dX0_of_163 : decode cX0_of 163 = .ok (.ireturn, 1) := dk_172 (dk_at dksX0_of_6 6 rfl rfl)
abbrev cX0_isCask : ByteArray := prog_1_method_9_code
def yX0_isCask : MethodName := ⟨RX0, "isCask", "(I)Z"⟩
def dkwX0_isCask_0 : List UInt8 := [27, 3, 42, 180, 0, 31, 180, 0, 105, 4, 100, 184, 0, 108, 172]
abbrev dktX0_isCask_0 : List UInt8 := dkwX0_isCask_0 ++ []
theorem dksX0_isCask_0 : cX0_isCask.data.toList.drop 0 = dktX0_isCask_0 := by decide +kernel
theorem dX0_isCask_0 : decode cX0_isCask 0 = .ok (.iload_n 1, 1) := dk_27 (dk_at dksX0_isCask_0 0 rfl rfl)
theorem dX0_isCask_1 : decode cX0_isCask 1 = .ok (.iconst 0, 1) := dk_3 (dk_at dksX0_isCask_0 1 rfl rfl)
theorem dX0_isCask_2 : decode cX0_isCask 2 = .ok (.aload_n 0, 1) := dk_42 (dk_at dksX0_isCask_0 2 rfl rfl)
theorem dX0_isCask_3 : decode cX0_isCask 3 = .ok (.getfield 31, 3) := dk_180 0 31 (dk_at dksX0_isCask_0 3 rfl rfl)
theorem dX0_isCask_6 : decode cX0_isCask 6 = .ok (.getfield 105, 3) := dk_180 0 105 (dk_at dksX0_isCask_0 6 rfl rfl)
theorem dX0_isCask_9 : decode cX0_isCask 9 = .ok (.iconst 1, 1) := dk_4 (dk_at dksX0_isCask_0 9 rfl rfl)
theorem dX0_isCask_10 : decode cX0_isCask 10 = .ok (.isub, 1) := dk_100 (dk_at dksX0_isCask_0 10 rfl rfl)
theorem dX0_isCask_11 : decode cX0_isCask 11 = .ok (.invokestatic 108, 3) := dk_184 0 108 (dk_at dksX0_isCask_0 11 rfl rfl)
theorem dX0_isCask_14 : decode cX0_isCask 14 = .ok (.ireturn, 1) := dk_172 (dk_at dksX0_isCask_0 14 rfl rfl)
abbrev cX0_meanOf : ByteArray := prog_1_method_5_code
def yX0_meanOf : MethodName := ⟨RX0, "meanOf", "([II)I"⟩
def dkwX0_meanOf_2 : List UInt8 := [167, 255, 216, 22, 4, 9, 148, 154, 0, 7, 2, 167, 0, 8, 32, 22, 4, 109, 136, 172]
abbrev dktX0_meanOf_2 : List UInt8 := dkwX0_meanOf_2 ++ []
def dkwX0_meanOf_1 : List UInt8 := [27, 21, 6, 96, 46, 133, 105, 97, 65, 22, 4, 42, 27, 21, 6, 96, 46, 133, 97, 55, 4, 132, 6, 1]
abbrev dktX0_meanOf_1 : List UInt8 := dkwX0_meanOf_1 ++ dktX0_meanOf_2
def dkwX0_meanOf_0 : List UInt8 := [9, 65, 9, 55, 4, 3, 54, 6, 21, 6, 16, 20, 162, 0, 39, 32, 20, 0, 20, 21, 6, 133, 105, 42]
abbrev dktX0_meanOf_0 : List UInt8 := dkwX0_meanOf_0 ++ dktX0_meanOf_1
theorem dksX0_meanOf_0 : cX0_meanOf.data.toList.drop 0 = dktX0_meanOf_0 := by decide +kernel
theorem dksX0_meanOf_1 : cX0_meanOf.data.toList.drop 24 = dktX0_meanOf_1 := dk_seg dksX0_meanOf_0 24 rfl rfl
theorem dksX0_meanOf_2 : cX0_meanOf.data.toList.drop 48 = dktX0_meanOf_2 := dk_seg dksX0_meanOf_1 24 rfl rfl
theorem dX0_meanOf_0 : decode cX0_meanOf 0 = .ok (.lconst 0, 1) := dk_9 (dk_at dksX0_meanOf_0 0 rfl rfl)
theorem dX0_meanOf_1 : decode cX0_meanOf 1 = .ok (.lstore_n 2, 1) := dk_65 (dk_at dksX0_meanOf_0 1 rfl rfl)
theorem dX0_meanOf_2 : decode cX0_meanOf 2 = .ok (.lconst 0, 1) := dk_9 (dk_at dksX0_meanOf_0 2 rfl rfl)
theorem dX0_meanOf_3 : decode cX0_meanOf 3 = .ok (.lstore 4, 2) := dk_55 4 (dk_at dksX0_meanOf_0 3 rfl rfl)
theorem dX0_meanOf_5 : decode cX0_meanOf 5 = .ok (.iconst 0, 1) := dk_3 (dk_at dksX0_meanOf_0 5 rfl rfl)
theorem dX0_meanOf_6 : decode cX0_meanOf 6 = .ok (.istore 6, 2) := dk_54 6 (dk_at dksX0_meanOf_0 6 rfl rfl)
theorem dX0_meanOf_8 : decode cX0_meanOf 8 = .ok (.iload 6, 2) := dk_21 6 (dk_at dksX0_meanOf_0 8 rfl rfl)
theorem dX0_meanOf_10 : decode cX0_meanOf 10 = .ok (.bipush 20, 2) := dk_16 20 (dk_at dksX0_meanOf_0 10 rfl rfl)
theorem dX0_meanOf_12 : decode cX0_meanOf 12 = .ok (.if_icmp .ge 39, 3) := dk_162 0 39 (dk_at dksX0_meanOf_0 12 rfl rfl)
theorem dX0_meanOf_15 : decode cX0_meanOf 15 = .ok (.lload_n 2, 1) := dk_32 (dk_at dksX0_meanOf_0 15 rfl rfl)
theorem dX0_meanOf_16 : decode cX0_meanOf 16 = .ok (.ldc2_w 20, 3) := dk_20 0 20 (dk_at dksX0_meanOf_0 16 rfl rfl)
theorem dX0_meanOf_19 : decode cX0_meanOf 19 = .ok (.iload 6, 2) := dk_21 6 (dk_at dksX0_meanOf_0 19 rfl rfl)
theorem dX0_meanOf_21 : decode cX0_meanOf 21 = .ok (.i2l, 1) := dk_133 (dk_at dksX0_meanOf_0 21 rfl rfl)
theorem dX0_meanOf_22 : decode cX0_meanOf 22 = .ok (.lmul, 1) := dk_105 (dk_at dksX0_meanOf_0 22 rfl rfl)
theorem dX0_meanOf_23 : decode cX0_meanOf 23 = .ok (.aload_n 0, 1) := dk_42 (dk_at dksX0_meanOf_0 23 rfl rfl)
theorem dX0_meanOf_24 : decode cX0_meanOf 24 = .ok (.iload_n 1, 1) := dk_27 (dk_at dksX0_meanOf_1 0 rfl rfl)
theorem dX0_meanOf_25 : decode cX0_meanOf 25 = .ok (.iload 6, 2) := dk_21 6 (dk_at dksX0_meanOf_1 1 rfl rfl)
theorem dX0_meanOf_27 : decode cX0_meanOf 27 = .ok (.iadd, 1) := dk_96 (dk_at dksX0_meanOf_1 3 rfl rfl)
theorem dX0_meanOf_28 : decode cX0_meanOf 28 = .ok (.iaload, 1) := dk_46 (dk_at dksX0_meanOf_1 4 rfl rfl)
theorem dX0_meanOf_29 : decode cX0_meanOf 29 = .ok (.i2l, 1) := dk_133 (dk_at dksX0_meanOf_1 5 rfl rfl)
theorem dX0_meanOf_30 : decode cX0_meanOf 30 = .ok (.lmul, 1) := dk_105 (dk_at dksX0_meanOf_1 6 rfl rfl)
theorem dX0_meanOf_31 : decode cX0_meanOf 31 = .ok (.ladd, 1) := dk_97 (dk_at dksX0_meanOf_1 7 rfl rfl)
theorem dX0_meanOf_32 : decode cX0_meanOf 32 = .ok (.lstore_n 2, 1) := dk_65 (dk_at dksX0_meanOf_1 8 rfl rfl)
theorem dX0_meanOf_33 : decode cX0_meanOf 33 = .ok (.lload 4, 2) := dk_22 4 (dk_at dksX0_meanOf_1 9 rfl rfl)
theorem dX0_meanOf_35 : decode cX0_meanOf 35 = .ok (.aload_n 0, 1) := dk_42 (dk_at dksX0_meanOf_1 11 rfl rfl)
theorem dX0_meanOf_36 : decode cX0_meanOf 36 = .ok (.iload_n 1, 1) := dk_27 (dk_at dksX0_meanOf_1 12 rfl rfl)
theorem dX0_meanOf_37 : decode cX0_meanOf 37 = .ok (.iload 6, 2) := dk_21 6 (dk_at dksX0_meanOf_1 13 rfl rfl)
theorem dX0_meanOf_39 : decode cX0_meanOf 39 = .ok (.iadd, 1) := dk_96 (dk_at dksX0_meanOf_1 15 rfl rfl)
theorem dX0_meanOf_40 : decode cX0_meanOf 40 = .ok (.iaload, 1) := dk_46 (dk_at dksX0_meanOf_1 16 rfl rfl)
theorem dX0_meanOf_41 : decode cX0_meanOf 41 = .ok (.i2l, 1) := dk_133 (dk_at dksX0_meanOf_1 17 rfl rfl)
theorem dX0_meanOf_42 : decode cX0_meanOf 42 = .ok (.ladd, 1) := dk_97 (dk_at dksX0_meanOf_1 18 rfl rfl)
theorem dX0_meanOf_43 : decode cX0_meanOf 43 = .ok (.lstore 4, 2) := dk_55 4 (dk_at dksX0_meanOf_1 19 rfl rfl)
theorem dX0_meanOf_45 : decode cX0_meanOf 45 = .ok (.iinc 6 1, 3) := dk_132 6 1 (dk_at dksX0_meanOf_1 21 rfl rfl)
theorem dX0_meanOf_48 : decode cX0_meanOf 48 = .ok (.goto (-40), 3) := dk_167 255 216 (dk_at dksX0_meanOf_2 0 rfl rfl)
theorem dX0_meanOf_51 : decode cX0_meanOf 51 = .ok (.lload 4, 2) := dk_22 4 (dk_at dksX0_meanOf_2 3 rfl rfl)
theorem dX0_meanOf_53 : decode cX0_meanOf 53 = .ok (.lconst 0, 1) := dk_9 (dk_at dksX0_meanOf_2 5 rfl rfl)
theorem dX0_meanOf_54 : decode cX0_meanOf 54 = .ok (.lcmp, 1) := dk_148 (dk_at dksX0_meanOf_2 6 rfl rfl)
theorem dX0_meanOf_55 : decode cX0_meanOf 55 = .ok (.ifCond .ne 7, 3) := dk_154 0 7 (dk_at dksX0_meanOf_2 7 rfl rfl)
theorem dX0_meanOf_58 : decode cX0_meanOf 58 = .ok (.iconst (-1), 1) := dk_2 (dk_at dksX0_meanOf_2 10 rfl rfl)
theorem dX0_meanOf_59 : decode cX0_meanOf 59 = .ok (.goto 8, 3) := dk_167 0 8 (dk_at dksX0_meanOf_2 11 rfl rfl)
theorem dX0_meanOf_62 : decode cX0_meanOf 62 = .ok (.lload_n 2, 1) := dk_32 (dk_at dksX0_meanOf_2 14 rfl rfl)
theorem dX0_meanOf_63 : decode cX0_meanOf 63 = .ok (.lload 4, 2) := dk_22 4 (dk_at dksX0_meanOf_2 15 rfl rfl)
theorem dX0_meanOf_65 : decode cX0_meanOf 65 = .ok (.ldiv, 1) := dk_109 (dk_at dksX0_meanOf_2 17 rfl rfl)
theorem dX0_meanOf_66 : decode cX0_meanOf 66 = .ok (.l2i, 1) := dk_136 (dk_at dksX0_meanOf_2 18 rfl rfl)
theorem dX0_meanOf_67 : decode cX0_meanOf 67 = .ok (.ireturn, 1) := dk_172 (dk_at dksX0_meanOf_2 19 rfl rfl)
abbrev cX0_losesOf : ByteArray := prog_1_method_34_code
def yX0_losesOf : MethodName := ⟨RX0, "losesOf", "(LSoleraCellar$Table;I)I"⟩
def dkwX0_losesOf_1 : List UInt8 := [184, 1, 27, 172]
abbrev dktX0_losesOf_1 : List UInt8 := dkwX0_losesOf_1 ++ []
def dkwX0_losesOf_0 : List UInt8 := [42, 3, 43, 28, 182, 1, 23, 66, 33, 20, 1, 4, 148, 154, 0, 7, 3, 167, 0, 9, 33, 16, 99]
abbrev dktX0_losesOf_0 : List UInt8 := dkwX0_losesOf_0 ++ dktX0_losesOf_1
theorem dksX0_losesOf_0 : cX0_losesOf.data.toList.drop 0 = dktX0_losesOf_0 := by decide +kernel
theorem dksX0_losesOf_1 : cX0_losesOf.data.toList.drop 23 = dktX0_losesOf_1 := dk_seg dksX0_losesOf_0 23 rfl rfl
theorem dX0_losesOf_0 : decode cX0_losesOf 0 = .ok (.aload_n 0, 1) := dk_42 (dk_at dksX0_losesOf_0 0 rfl rfl)
theorem dX0_losesOf_1 : decode cX0_losesOf 1 = .ok (.iconst 0, 1) := dk_3 (dk_at dksX0_losesOf_0 1 rfl rfl)
theorem dX0_losesOf_2 : decode cX0_losesOf 2 = .ok (.aload_n 1, 1) := dk_43 (dk_at dksX0_losesOf_0 2 rfl rfl)
theorem dX0_losesOf_3 : decode cX0_losesOf 3 = .ok (.iload_n 2, 1) := dk_28 (dk_at dksX0_losesOf_0 3 rfl rfl)
theorem dX0_losesOf_4 : decode cX0_losesOf 4 = .ok (.invokevirtual 279, 3) := dk_182 1 23 (dk_at dksX0_losesOf_0 4 rfl rfl)
theorem dX0_losesOf_7 : decode cX0_losesOf 7 = .ok (.lstore_n 3, 1) := dk_66 (dk_at dksX0_losesOf_0 7 rfl rfl)
theorem dX0_losesOf_8 : decode cX0_losesOf 8 = .ok (.lload_n 3, 1) := dk_33 (dk_at dksX0_losesOf_0 8 rfl rfl)
theorem dX0_losesOf_9 : decode cX0_losesOf 9 = .ok (.ldc2_w 260, 3) := dk_20 1 4 (dk_at dksX0_losesOf_0 9 rfl rfl)
theorem dX0_losesOf_12 : decode cX0_losesOf 12 = .ok (.lcmp, 1) := dk_148 (dk_at dksX0_losesOf_0 12 rfl rfl)
theorem dX0_losesOf_13 : decode cX0_losesOf 13 = .ok (.ifCond .ne 7, 3) := dk_154 0 7 (dk_at dksX0_losesOf_0 13 rfl rfl)
theorem dX0_losesOf_16 : decode cX0_losesOf 16 = .ok (.iconst 0, 1) := dk_3 (dk_at dksX0_losesOf_0 16 rfl rfl)
theorem dX0_losesOf_17 : decode cX0_losesOf 17 = .ok (.goto 9, 3) := dk_167 0 9 (dk_at dksX0_losesOf_0 17 rfl rfl)
theorem dX0_losesOf_20 : decode cX0_losesOf 20 = .ok (.lload_n 3, 1) := dk_33 (dk_at dksX0_losesOf_0 20 rfl rfl)
theorem dX0_losesOf_21 : decode cX0_losesOf 21 = .ok (.bipush 99, 2) := dk_16 99 (dk_at dksX0_losesOf_0 21 rfl rfl)
theorem dX0_losesOf_23 : decode cX0_losesOf 23 = .ok (.invokestatic 283, 3) := dk_184 1 27 (dk_at dksX0_losesOf_1 0 rfl rfl)
theorem dX0_losesOf_26 : decode cX0_losesOf 26 = .ok (.ireturn, 1) := dk_172 (dk_at dksX0_losesOf_1 3 rfl rfl)
abbrev cX0_says : ByteArray := prog_1_method_33_code
def yX0_says : MethodName := ⟨RX0, "says", "(ILSoleraCellar$Table;I)J"⟩
def dkwX0_says_5 : List UInt8 := [192, 0, 233, 27, 42, 180, 0, 75, 182, 1, 19, 173]
abbrev dktX0_says_5 : List UInt8 := dkwX0_says_5 ++ []
def dkwX0_says_4 : List UInt8 := [180, 0, 192, 133, 80, 42, 180, 0, 31, 180, 0, 221, 42, 180, 0, 31, 180, 1, 1, 182, 1, 15]
abbrev dktX0_says_4 : List UInt8 := dkwX0_says_4 ++ dktX0_says_5
def dkwX0_says_3 : List UInt8 := [29, 182, 1, 12, 133, 80, 25, 4, 8, 44, 180, 0, 186, 133, 80, 25, 4, 16, 6, 42, 180, 0, 31]
abbrev dktX0_says_3 : List UInt8 := dkwX0_says_3 ++ dktX0_says_4
def dkwX0_says_2 : List UInt8 := [180, 0, 31, 180, 0, 135, 29, 46, 133, 80, 25, 4, 6, 44, 29, 182, 1, 9, 133, 80, 25, 4, 7, 44]
abbrev dktX0_says_2 : List UInt8 := dkwX0_says_2 ++ dktX0_says_3
def dkwX0_says_1 : List UInt8 := [25, 4, 3, 29, 133, 80, 25, 4, 4, 42, 180, 0, 31, 180, 0, 132, 29, 46, 133, 80, 25, 4, 5, 42]
abbrev dktX0_says_1 : List UInt8 := dkwX0_says_1 ++ dktX0_says_2
def dkwX0_says_0 : List UInt8 := [42, 180, 0, 31, 180, 1, 1, 2, 160, 0, 7, 20, 1, 4, 173, 42, 180, 0, 75, 180, 1, 6, 58, 4]
abbrev dktX0_says_0 : List UInt8 := dkwX0_says_0 ++ dktX0_says_1
theorem dksX0_says_0 : cX0_says.data.toList.drop 0 = dktX0_says_0 := by decide +kernel
theorem dksX0_says_1 : cX0_says.data.toList.drop 24 = dktX0_says_1 := dk_seg dksX0_says_0 24 rfl rfl
theorem dksX0_says_2 : cX0_says.data.toList.drop 48 = dktX0_says_2 := dk_seg dksX0_says_1 24 rfl rfl
theorem dksX0_says_3 : cX0_says.data.toList.drop 72 = dktX0_says_3 := dk_seg dksX0_says_2 24 rfl rfl
theorem dksX0_says_4 : cX0_says.data.toList.drop 95 = dktX0_says_4 := dk_seg dksX0_says_3 23 rfl rfl
theorem dksX0_says_5 : cX0_says.data.toList.drop 117 = dktX0_says_5 := dk_seg dksX0_says_4 22 rfl rfl
theorem dX0_says_0 : decode cX0_says 0 = .ok (.aload_n 0, 1) := dk_42 (dk_at dksX0_says_0 0 rfl rfl)
theorem dX0_says_1 : decode cX0_says 1 = .ok (.getfield 31, 3) := dk_180 0 31 (dk_at dksX0_says_0 1 rfl rfl)
theorem dX0_says_4 : decode cX0_says 4 = .ok (.getfield 257, 3) := dk_180 1 1 (dk_at dksX0_says_0 4 rfl rfl)
theorem dX0_says_7 : decode cX0_says 7 = .ok (.iconst (-1), 1) := dk_2 (dk_at dksX0_says_0 7 rfl rfl)
theorem dX0_says_8 : decode cX0_says 8 = .ok (.if_icmp .ne 7, 3) := dk_160 0 7 (dk_at dksX0_says_0 8 rfl rfl)
theorem dX0_says_11 : decode cX0_says 11 = .ok (.ldc2_w 260, 3) := dk_20 1 4 (dk_at dksX0_says_0 11 rfl rfl)
theorem dX0_says_14 : decode cX0_says 14 = .ok (.lreturn, 1) := dk_173 (dk_at dksX0_says_0 14 rfl rfl)
theorem dX0_says_15 : decode cX0_says 15 = .ok (.aload_n 0, 1) := dk_42 (dk_at dksX0_says_0 15 rfl rfl)
theorem dX0_says_16 : decode cX0_says 16 = .ok (.getfield 75, 3) := dk_180 0 75 (dk_at dksX0_says_0 16 rfl rfl)
theorem dX0_says_19 : decode cX0_says 19 = .ok (.getfield 262, 3) := dk_180 1 6 (dk_at dksX0_says_0 19 rfl rfl)
theorem dX0_says_22 : decode cX0_says 22 = .ok (.astore 4, 2) := dk_58 4 (dk_at dksX0_says_0 22 rfl rfl)
theorem dX0_says_24 : decode cX0_says 24 = .ok (.aload 4, 2) := dk_25 4 (dk_at dksX0_says_1 0 rfl rfl)
theorem dX0_says_26 : decode cX0_says 26 = .ok (.iconst 0, 1) := dk_3 (dk_at dksX0_says_1 2 rfl rfl)
theorem dX0_says_27 : decode cX0_says 27 = .ok (.iload_n 3, 1) := dk_29 (dk_at dksX0_says_1 3 rfl rfl)
theorem dX0_says_28 : decode cX0_says 28 = .ok (.i2l, 1) := dk_133 (dk_at dksX0_says_1 4 rfl rfl)
theorem dX0_says_29 : decode cX0_says 29 = .ok (.lastore, 1) := dk_80 (dk_at dksX0_says_1 5 rfl rfl)
theorem dX0_says_30 : decode cX0_says 30 = .ok (.aload 4, 2) := dk_25 4 (dk_at dksX0_says_1 6 rfl rfl)
theorem dX0_says_32 : decode cX0_says 32 = .ok (.iconst 1, 1) := dk_4 (dk_at dksX0_says_1 8 rfl rfl)
theorem dX0_says_33 : decode cX0_says 33 = .ok (.aload_n 0, 1) := dk_42 (dk_at dksX0_says_1 9 rfl rfl)
theorem dX0_says_34 : decode cX0_says 34 = .ok (.getfield 31, 3) := dk_180 0 31 (dk_at dksX0_says_1 10 rfl rfl)
theorem dX0_says_37 : decode cX0_says 37 = .ok (.getfield 132, 3) := dk_180 0 132 (dk_at dksX0_says_1 13 rfl rfl)
theorem dX0_says_40 : decode cX0_says 40 = .ok (.iload_n 3, 1) := dk_29 (dk_at dksX0_says_1 16 rfl rfl)
theorem dX0_says_41 : decode cX0_says 41 = .ok (.iaload, 1) := dk_46 (dk_at dksX0_says_1 17 rfl rfl)
theorem dX0_says_42 : decode cX0_says 42 = .ok (.i2l, 1) := dk_133 (dk_at dksX0_says_1 18 rfl rfl)
theorem dX0_says_43 : decode cX0_says 43 = .ok (.lastore, 1) := dk_80 (dk_at dksX0_says_1 19 rfl rfl)
theorem dX0_says_44 : decode cX0_says 44 = .ok (.aload 4, 2) := dk_25 4 (dk_at dksX0_says_1 20 rfl rfl)
theorem dX0_says_46 : decode cX0_says 46 = .ok (.iconst 2, 1) := dk_5 (dk_at dksX0_says_1 22 rfl rfl)
theorem dX0_says_47 : decode cX0_says 47 = .ok (.aload_n 0, 1) := dk_42 (dk_at dksX0_says_1 23 rfl rfl)
theorem dX0_says_48 : decode cX0_says 48 = .ok (.getfield 31, 3) := dk_180 0 31 (dk_at dksX0_says_2 0 rfl rfl)
theorem dX0_says_51 : decode cX0_says 51 = .ok (.getfield 135, 3) := dk_180 0 135 (dk_at dksX0_says_2 3 rfl rfl)
theorem dX0_says_54 : decode cX0_says 54 = .ok (.iload_n 3, 1) := dk_29 (dk_at dksX0_says_2 6 rfl rfl)
theorem dX0_says_55 : decode cX0_says 55 = .ok (.iaload, 1) := dk_46 (dk_at dksX0_says_2 7 rfl rfl)
theorem dX0_says_56 : decode cX0_says 56 = .ok (.i2l, 1) := dk_133 (dk_at dksX0_says_2 8 rfl rfl)
theorem dX0_says_57 : decode cX0_says 57 = .ok (.lastore, 1) := dk_80 (dk_at dksX0_says_2 9 rfl rfl)
theorem dX0_says_58 : decode cX0_says 58 = .ok (.aload 4, 2) := dk_25 4 (dk_at dksX0_says_2 10 rfl rfl)
theorem dX0_says_60 : decode cX0_says 60 = .ok (.iconst 3, 1) := dk_6 (dk_at dksX0_says_2 12 rfl rfl)
theorem dX0_says_61 : decode cX0_says 61 = .ok (.aload_n 2, 1) := dk_44 (dk_at dksX0_says_2 13 rfl rfl)
theorem dX0_says_62 : decode cX0_says 62 = .ok (.iload_n 3, 1) := dk_29 (dk_at dksX0_says_2 14 rfl rfl)
theorem dX0_says_63 : decode cX0_says 63 = .ok (.invokevirtual 265, 3) := dk_182 1 9 (dk_at dksX0_says_2 15 rfl rfl)
theorem dX0_says_66 : decode cX0_says 66 = .ok (.i2l, 1) := dk_133 (dk_at dksX0_says_2 18 rfl rfl)
theorem dX0_says_67 : decode cX0_says 67 = .ok (.lastore, 1) := dk_80 (dk_at dksX0_says_2 19 rfl rfl)
theorem dX0_says_68 : decode cX0_says 68 = .ok (.aload 4, 2) := dk_25 4 (dk_at dksX0_says_2 20 rfl rfl)
theorem dX0_says_70 : decode cX0_says 70 = .ok (.iconst 4, 1) := dk_7 (dk_at dksX0_says_2 22 rfl rfl)
theorem dX0_says_71 : decode cX0_says 71 = .ok (.aload_n 2, 1) := dk_44 (dk_at dksX0_says_2 23 rfl rfl)
theorem dX0_says_72 : decode cX0_says 72 = .ok (.iload_n 3, 1) := dk_29 (dk_at dksX0_says_3 0 rfl rfl)
theorem dX0_says_73 : decode cX0_says 73 = .ok (.invokevirtual 268, 3) := dk_182 1 12 (dk_at dksX0_says_3 1 rfl rfl)
theorem dX0_says_76 : decode cX0_says 76 = .ok (.i2l, 1) := dk_133 (dk_at dksX0_says_3 4 rfl rfl)
theorem dX0_says_77 : decode cX0_says 77 = .ok (.lastore, 1) := dk_80 (dk_at dksX0_says_3 5 rfl rfl)
theorem dX0_says_78 : decode cX0_says 78 = .ok (.aload 4, 2) := dk_25 4 (dk_at dksX0_says_3 6 rfl rfl)
theorem dX0_says_80 : decode cX0_says 80 = .ok (.iconst 5, 1) := dk_8 (dk_at dksX0_says_3 8 rfl rfl)
theorem dX0_says_81 : decode cX0_says 81 = .ok (.aload_n 2, 1) := dk_44 (dk_at dksX0_says_3 9 rfl rfl)
theorem dX0_says_82 : decode cX0_says 82 = .ok (.getfield 186, 3) := dk_180 0 186 (dk_at dksX0_says_3 10 rfl rfl)
theorem dX0_says_85 : decode cX0_says 85 = .ok (.i2l, 1) := dk_133 (dk_at dksX0_says_3 13 rfl rfl)
theorem dX0_says_86 : decode cX0_says 86 = .ok (.lastore, 1) := dk_80 (dk_at dksX0_says_3 14 rfl rfl)
theorem dX0_says_87 : decode cX0_says 87 = .ok (.aload 4, 2) := dk_25 4 (dk_at dksX0_says_3 15 rfl rfl)
theorem dX0_says_89 : decode cX0_says 89 = .ok (.bipush 6, 2) := dk_16 6 (dk_at dksX0_says_3 17 rfl rfl)
theorem dX0_says_91 : decode cX0_says 91 = .ok (.aload_n 0, 1) := dk_42 (dk_at dksX0_says_3 19 rfl rfl)
theorem dX0_says_92 : decode cX0_says 92 = .ok (.getfield 31, 3) := dk_180 0 31 (dk_at dksX0_says_3 20 rfl rfl)
theorem dX0_says_95 : decode cX0_says 95 = .ok (.getfield 192, 3) := dk_180 0 192 (dk_at dksX0_says_4 0 rfl rfl)
theorem dX0_says_98 : decode cX0_says 98 = .ok (.i2l, 1) := dk_133 (dk_at dksX0_says_4 3 rfl rfl)
theorem dX0_says_99 : decode cX0_says 99 = .ok (.lastore, 1) := dk_80 (dk_at dksX0_says_4 4 rfl rfl)
theorem dX0_says_100 : decode cX0_says 100 = .ok (.aload_n 0, 1) := dk_42 (dk_at dksX0_says_4 5 rfl rfl)
theorem dX0_says_101 : decode cX0_says 101 = .ok (.getfield 31, 3) := dk_180 0 31 (dk_at dksX0_says_4 6 rfl rfl)
theorem dX0_says_104 : decode cX0_says 104 = .ok (.getfield 221, 3) := dk_180 0 221 (dk_at dksX0_says_4 9 rfl rfl)
theorem dX0_says_107 : decode cX0_says 107 = .ok (.aload_n 0, 1) := dk_42 (dk_at dksX0_says_4 12 rfl rfl)
theorem dX0_says_108 : decode cX0_says 108 = .ok (.getfield 31, 3) := dk_180 0 31 (dk_at dksX0_says_4 13 rfl rfl)
theorem dX0_says_111 : decode cX0_says 111 = .ok (.getfield 257, 3) := dk_180 1 1 (dk_at dksX0_says_4 16 rfl rfl)
theorem dX0_says_114 : decode cX0_says 114 = .ok (.invokevirtual 271, 3) := dk_182 1 15 (dk_at dksX0_says_4 19 rfl rfl)
theorem dX0_says_117 : decode cX0_says 117 = .ok (.checkcast 233, 3) := dk_192 0 233 (dk_at dksX0_says_5 0 rfl rfl)
theorem dX0_says_120 : decode cX0_says 120 = .ok (.iload_n 1, 1) := dk_27 (dk_at dksX0_says_5 3 rfl rfl)
theorem dX0_says_121 : decode cX0_says 121 = .ok (.aload_n 0, 1) := dk_42 (dk_at dksX0_says_5 4 rfl rfl)
theorem dX0_says_122 : decode cX0_says 122 = .ok (.getfield 75, 3) := dk_180 0 75 (dk_at dksX0_says_5 5 rfl rfl)
theorem dX0_says_125 : decode cX0_says 125 = .ok (.invokevirtual 275, 3) := dk_182 1 19 (dk_at dksX0_says_5 8 rfl rfl)
theorem dX0_says_128 : decode cX0_says 128 = .ok (.lreturn, 1) := dk_173 (dk_at dksX0_says_5 11 rfl rfl)
abbrev cX0_within : ByteArray := prog_1_method_4_code
def yX0_within : MethodName := ⟨RX0, "within", "(JI)I"⟩
def dkwX0_within_0 : List UInt8 := [9, 28, 133, 30, 184, 0, 11, 184, 0, 17, 136, 172]
abbrev dktX0_within_0 : List UInt8 := dkwX0_within_0 ++ []
theorem dksX0_within_0 : cX0_within.data.toList.drop 0 = dktX0_within_0 := by decide +kernel
theorem dX0_within_0 : decode cX0_within 0 = .ok (.lconst 0, 1) := dk_9 (dk_at dksX0_within_0 0 rfl rfl)
theorem dX0_within_1 : decode cX0_within 1 = .ok (.iload_n 2, 1) := dk_28 (dk_at dksX0_within_0 1 rfl rfl)
theorem dX0_within_2 : decode cX0_within 2 = .ok (.i2l, 1) := dk_133 (dk_at dksX0_within_0 2 rfl rfl)
theorem dX0_within_3 : decode cX0_within 3 = .ok (.lload_n 0, 1) := dk_30 (dk_at dksX0_within_0 3 rfl rfl)
theorem dX0_within_4 : decode cX0_within 4 = .ok (.invokestatic 11, 3) := dk_184 0 11 (dk_at dksX0_within_0 4 rfl rfl)
theorem dX0_within_7 : decode cX0_within 7 = .ok (.invokestatic 17, 3) := dk_184 0 17 (dk_at dksX0_within_0 7 rfl rfl)
theorem dX0_within_10 : decode cX0_within 10 = .ok (.l2i, 1) := dk_136 (dk_at dksX0_within_0 10 rfl rfl)
theorem dX0_within_11 : decode cX0_within 11 = .ok (.ireturn, 1) := dk_172 (dk_at dksX0_within_0 11 rfl rfl)
abbrev cX0_yieldOf : ByteArray := prog_1_method_35_code
def yX0_yieldOf : MethodName := ⟨RX0, "yieldOf", "(LSoleraCellar$Table;I)I"⟩
def dkwX0_yieldOf_1 : List UInt8 := [17, 3, 231, 184, 1, 27, 172]
abbrev dktX0_yieldOf_1 : List UInt8 := dkwX0_yieldOf_1 ++ []
def dkwX0_yieldOf_0 : List UInt8 := [42, 4, 43, 28, 182, 1, 23, 66, 33, 20, 1, 4, 148, 154, 0, 9, 17, 3, 231, 167, 0, 10, 33]
abbrev dktX0_yieldOf_0 : List UInt8 := dkwX0_yieldOf_0 ++ dktX0_yieldOf_1
theorem dksX0_yieldOf_0 : cX0_yieldOf.data.toList.drop 0 = dktX0_yieldOf_0 := by decide +kernel
theorem dksX0_yieldOf_1 : cX0_yieldOf.data.toList.drop 23 = dktX0_yieldOf_1 := dk_seg dksX0_yieldOf_0 23 rfl rfl
theorem dX0_yieldOf_0 : decode cX0_yieldOf 0 = .ok (.aload_n 0, 1) := dk_42 (dk_at dksX0_yieldOf_0 0 rfl rfl)
theorem dX0_yieldOf_1 : decode cX0_yieldOf 1 = .ok (.iconst 1, 1) := dk_4 (dk_at dksX0_yieldOf_0 1 rfl rfl)
theorem dX0_yieldOf_2 : decode cX0_yieldOf 2 = .ok (.aload_n 1, 1) := dk_43 (dk_at dksX0_yieldOf_0 2 rfl rfl)
theorem dX0_yieldOf_3 : decode cX0_yieldOf 3 = .ok (.iload_n 2, 1) := dk_28 (dk_at dksX0_yieldOf_0 3 rfl rfl)
theorem dX0_yieldOf_4 : decode cX0_yieldOf 4 = .ok (.invokevirtual 279, 3) := dk_182 1 23 (dk_at dksX0_yieldOf_0 4 rfl rfl)
theorem dX0_yieldOf_7 : decode cX0_yieldOf 7 = .ok (.lstore_n 3, 1) := dk_66 (dk_at dksX0_yieldOf_0 7 rfl rfl)
theorem dX0_yieldOf_8 : decode cX0_yieldOf 8 = .ok (.lload_n 3, 1) := dk_33 (dk_at dksX0_yieldOf_0 8 rfl rfl)
theorem dX0_yieldOf_9 : decode cX0_yieldOf 9 = .ok (.ldc2_w 260, 3) := dk_20 1 4 (dk_at dksX0_yieldOf_0 9 rfl rfl)
theorem dX0_yieldOf_12 : decode cX0_yieldOf 12 = .ok (.lcmp, 1) := dk_148 (dk_at dksX0_yieldOf_0 12 rfl rfl)
theorem dX0_yieldOf_13 : decode cX0_yieldOf 13 = .ok (.ifCond .ne 9, 3) := dk_154 0 9 (dk_at dksX0_yieldOf_0 13 rfl rfl)
theorem dX0_yieldOf_16 : decode cX0_yieldOf 16 = .ok (.sipush 999, 3) := dk_17 3 231 (dk_at dksX0_yieldOf_0 16 rfl rfl)
theorem dX0_yieldOf_19 : decode cX0_yieldOf 19 = .ok (.goto 10, 3) := dk_167 0 10 (dk_at dksX0_yieldOf_0 19 rfl rfl)
theorem dX0_yieldOf_22 : decode cX0_yieldOf 22 = .ok (.lload_n 3, 1) := dk_33 (dk_at dksX0_yieldOf_0 22 rfl rfl)
theorem dX0_yieldOf_23 : decode cX0_yieldOf 23 = .ok (.sipush 999, 3) := dk_17 3 231 (dk_at dksX0_yieldOf_1 0 rfl rfl)
theorem dX0_yieldOf_26 : decode cX0_yieldOf 26 = .ok (.invokestatic 283, 3) := dk_184 1 27 (dk_at dksX0_yieldOf_1 3 rfl rfl)
theorem dX0_yieldOf_29 : decode cX0_yieldOf 29 = .ok (.ireturn, 1) := dk_172 (dk_at dksX0_yieldOf_1 6 rfl rfl)
abbrev cX0_isBarred : ByteArray := prog_1_method_36_code
def yX0_isBarred : MethodName := ⟨RX0, "isBarred", "(LSoleraCellar$Table;I)Z"⟩
def dkwX0_isBarred_0 : List UInt8 := [42, 5, 43, 28, 182, 1, 23, 20, 1, 4, 148, 153, 0, 7, 4, 167, 0, 4, 3, 172]
abbrev dktX0_isBarred_0 : List UInt8 := dkwX0_isBarred_0 ++ []
theorem dksX0_isBarred_0 : cX0_isBarred.data.toList.drop 0 = dktX0_isBarred_0 := by decide +kernel
theorem dX0_isBarred_0 : decode cX0_isBarred 0 = .ok (.aload_n 0, 1) := dk_42 (dk_at dksX0_isBarred_0 0 rfl rfl)
theorem dX0_isBarred_1 : decode cX0_isBarred 1 = .ok (.iconst 2, 1) := dk_5 (dk_at dksX0_isBarred_0 1 rfl rfl)
theorem dX0_isBarred_2 : decode cX0_isBarred 2 = .ok (.aload_n 1, 1) := dk_43 (dk_at dksX0_isBarred_0 2 rfl rfl)
theorem dX0_isBarred_3 : decode cX0_isBarred 3 = .ok (.iload_n 2, 1) := dk_28 (dk_at dksX0_isBarred_0 3 rfl rfl)
theorem dX0_isBarred_4 : decode cX0_isBarred 4 = .ok (.invokevirtual 279, 3) := dk_182 1 23 (dk_at dksX0_isBarred_0 4 rfl rfl)
theorem dX0_isBarred_7 : decode cX0_isBarred 7 = .ok (.ldc2_w 260, 3) := dk_20 1 4 (dk_at dksX0_isBarred_0 7 rfl rfl)
theorem dX0_isBarred_10 : decode cX0_isBarred 10 = .ok (.lcmp, 1) := dk_148 (dk_at dksX0_isBarred_0 10 rfl rfl)
theorem dX0_isBarred_11 : decode cX0_isBarred 11 = .ok (.ifCond .eq 7, 3) := dk_153 0 7 (dk_at dksX0_isBarred_0 11 rfl rfl)
theorem dX0_isBarred_14 : decode cX0_isBarred 14 = .ok (.iconst 1, 1) := dk_4 (dk_at dksX0_isBarred_0 14 rfl rfl)
theorem dX0_isBarred_15 : decode cX0_isBarred 15 = .ok (.goto 4, 3) := dk_167 0 4 (dk_at dksX0_isBarred_0 15 rfl rfl)
theorem dX0_isBarred_18 : decode cX0_isBarred 18 = .ok (.iconst 0, 1) := dk_3 (dk_at dksX0_isBarred_0 18 rfl rfl)
theorem dX0_isBarred_19 : decode cX0_isBarred 19 = .ok (.ireturn, 1) := dk_172 (dk_at dksX0_isBarred_0 19 rfl rfl)
abbrev cX0_old : ByteArray := prog_1_method_17_code
def yX0_old : MethodName := ⟨RX0, "old", "(II)J"⟩
def dkwX0_old_2 : List UInt8 := [42, 182, 0, 137, 27, 182, 0, 155, 133, 109, 173]
abbrev dktX0_old_2 : List UInt8 := dkwX0_old_2 ++ []
def dkwX0_old_1 : List UInt8 := [182, 0, 155, 154, 0, 7, 20, 0, 179, 173, 42, 182, 0, 137, 27, 28, 182, 0, 181, 133, 20, 0, 184, 105]
abbrev dktX0_old_1 : List UInt8 := dkwX0_old_1 ++ dktX0_old_2
def dkwX0_old_0 : List UInt8 := [42, 27, 182, 0, 151, 153, 0, 24, 28, 3, 16, 19, 184, 0, 108, 153, 0, 14, 42, 182, 0, 137, 27]
abbrev dktX0_old_0 : List UInt8 := dkwX0_old_0 ++ dktX0_old_1
theorem dksX0_old_0 : cX0_old.data.toList.drop 0 = dktX0_old_0 := by decide +kernel
theorem dksX0_old_1 : cX0_old.data.toList.drop 23 = dktX0_old_1 := dk_seg dksX0_old_0 23 rfl rfl
theorem dksX0_old_2 : cX0_old.data.toList.drop 47 = dktX0_old_2 := dk_seg dksX0_old_1 24 rfl rfl
theorem dX0_old_0 : decode cX0_old 0 = .ok (.aload_n 0, 1) := dk_42 (dk_at dksX0_old_0 0 rfl rfl)
theorem dX0_old_1 : decode cX0_old 1 = .ok (.iload_n 1, 1) := dk_27 (dk_at dksX0_old_0 1 rfl rfl)
theorem dX0_old_2 : decode cX0_old 2 = .ok (.invokevirtual 151, 3) := dk_182 0 151 (dk_at dksX0_old_0 2 rfl rfl)
theorem dX0_old_5 : decode cX0_old 5 = .ok (.ifCond .eq 24, 3) := dk_153 0 24 (dk_at dksX0_old_0 5 rfl rfl)
theorem dX0_old_8 : decode cX0_old 8 = .ok (.iload_n 2, 1) := dk_28 (dk_at dksX0_old_0 8 rfl rfl)
theorem dX0_old_9 : decode cX0_old 9 = .ok (.iconst 0, 1) := dk_3 (dk_at dksX0_old_0 9 rfl rfl)
theorem dX0_old_10 : decode cX0_old 10 = .ok (.bipush 19, 2) := dk_16 19 (dk_at dksX0_old_0 10 rfl rfl)
theorem dX0_old_12 : decode cX0_old 12 = .ok (.invokestatic 108, 3) := dk_184 0 108 (dk_at dksX0_old_0 12 rfl rfl)
theorem dX0_old_15 : decode cX0_old 15 = .ok (.ifCond .eq 14, 3) := dk_153 0 14 (dk_at dksX0_old_0 15 rfl rfl)
theorem dX0_old_18 : decode cX0_old 18 = .ok (.aload_n 0, 1) := dk_42 (dk_at dksX0_old_0 18 rfl rfl)
theorem dX0_old_19 : decode cX0_old 19 = .ok (.invokevirtual 137, 3) := dk_182 0 137 (dk_at dksX0_old_0 19 rfl rfl)
theorem dX0_old_22 : decode cX0_old 22 = .ok (.iload_n 1, 1) := dk_27 (dk_at dksX0_old_0 22 rfl rfl)
theorem dX0_old_23 : decode cX0_old 23 = .ok (.invokevirtual 155, 3) := dk_182 0 155 (dk_at dksX0_old_1 0 rfl rfl)
theorem dX0_old_26 : decode cX0_old 26 = .ok (.ifCond .ne 7, 3) := dk_154 0 7 (dk_at dksX0_old_1 3 rfl rfl)
theorem dX0_old_29 : decode cX0_old 29 = .ok (.ldc2_w 179, 3) := dk_20 0 179 (dk_at dksX0_old_1 6 rfl rfl)
theorem dX0_old_32 : decode cX0_old 32 = .ok (.lreturn, 1) := dk_173 (dk_at dksX0_old_1 9 rfl rfl)
theorem dX0_old_33 : decode cX0_old 33 = .ok (.aload_n 0, 1) := dk_42 (dk_at dksX0_old_1 10 rfl rfl)
theorem dX0_old_34 : decode cX0_old 34 = .ok (.invokevirtual 137, 3) := dk_182 0 137 (dk_at dksX0_old_1 11 rfl rfl)
theorem dX0_old_37 : decode cX0_old 37 = .ok (.iload_n 1, 1) := dk_27 (dk_at dksX0_old_1 14 rfl rfl)
theorem dX0_old_38 : decode cX0_old 38 = .ok (.iload_n 2, 1) := dk_28 (dk_at dksX0_old_1 15 rfl rfl)
theorem dX0_old_39 : decode cX0_old 39 = .ok (.invokevirtual 181, 3) := dk_182 0 181 (dk_at dksX0_old_1 16 rfl rfl)
theorem dX0_old_42 : decode cX0_old 42 = .ok (.i2l, 1) := dk_133 (dk_at dksX0_old_1 19 rfl rfl)
theorem dX0_old_43 : decode cX0_old 43 = .ok (.ldc2_w 184, 3) := dk_20 0 184 (dk_at dksX0_old_1 20 rfl rfl)
theorem dX0_old_46 : decode cX0_old 46 = .ok (.lmul, 1) := dk_105 (dk_at dksX0_old_1 23 rfl rfl)
theorem dX0_old_47 : decode cX0_old 47 = .ok (.aload_n 0, 1) := dk_42 (dk_at dksX0_old_2 0 rfl rfl)
theorem dX0_old_48 : decode cX0_old 48 = .ok (.invokevirtual 137, 3) := dk_182 0 137 (dk_at dksX0_old_2 1 rfl rfl)
theorem dX0_old_51 : decode cX0_old 51 = .ok (.iload_n 1, 1) := dk_27 (dk_at dksX0_old_2 4 rfl rfl)
theorem dX0_old_52 : decode cX0_old 52 = .ok (.invokevirtual 155, 3) := dk_182 0 155 (dk_at dksX0_old_2 5 rfl rfl)
theorem dX0_old_55 : decode cX0_old 55 = .ok (.i2l, 1) := dk_133 (dk_at dksX0_old_2 8 rfl rfl)
theorem dX0_old_56 : decode cX0_old 56 = .ok (.ldiv, 1) := dk_109 (dk_at dksX0_old_2 9 rfl rfl)
theorem dX0_old_57 : decode cX0_old 57 = .ok (.lreturn, 1) := dk_173 (dk_at dksX0_old_2 10 rfl rfl)
abbrev cX0_terms : ByteArray := prog_1_method_20_code
def yX0_terms : MethodName := ⟨RX0, "terms", "(II)I"⟩
def dkwX0_terms_3 : List UInt8 := [181, 0, 161, 42, 29, 182, 0, 129, 172]
abbrev dktX0_terms_3 : List UInt8 := dkwX0_terms_3 ++ []
def dkwX0_terms_2 : List UInt8 := [167, 0, 27, 27, 5, 160, 0, 14, 42, 180, 0, 31, 28, 181, 0, 192, 167, 0, 11, 42, 180, 0, 31, 28]
abbrev dktX0_terms_2 : List UInt8 := dkwX0_terms_2 ++ dktX0_terms_3
def dkwX0_terms_1 : List UInt8 := [42, 182, 0, 137, 28, 181, 0, 186, 167, 0, 43, 27, 4, 160, 0, 14, 42, 180, 0, 31, 28, 181, 0, 189]
abbrev dktX0_terms_1 : List UInt8 := dkwX0_terms_1 ++ dktX0_terms_2
def dkwX0_terms_0 : List UInt8 := [27, 28, 184, 0, 195, 154, 0, 9, 42, 2, 182, 0, 122, 172, 42, 27, 182, 0, 198, 62, 27, 154, 0, 14]
abbrev dktX0_terms_0 : List UInt8 := dkwX0_terms_0 ++ dktX0_terms_1
theorem dksX0_terms_0 : cX0_terms.data.toList.drop 0 = dktX0_terms_0 := by decide +kernel
theorem dksX0_terms_1 : cX0_terms.data.toList.drop 24 = dktX0_terms_1 := dk_seg dksX0_terms_0 24 rfl rfl
theorem dksX0_terms_2 : cX0_terms.data.toList.drop 48 = dktX0_terms_2 := dk_seg dksX0_terms_1 24 rfl rfl
theorem dksX0_terms_3 : cX0_terms.data.toList.drop 72 = dktX0_terms_3 := dk_seg dksX0_terms_2 24 rfl rfl
theorem dX0_terms_0 : decode cX0_terms 0 = .ok (.iload_n 1, 1) := dk_27 (dk_at dksX0_terms_0 0 rfl rfl)
theorem dX0_terms_1 : decode cX0_terms 1 = .ok (.iload_n 2, 1) := dk_28 (dk_at dksX0_terms_0 1 rfl rfl)
theorem dX0_terms_2 : decode cX0_terms 2 = .ok (.invokestatic 195, 3) := dk_184 0 195 (dk_at dksX0_terms_0 2 rfl rfl)
theorem dX0_terms_5 : decode cX0_terms 5 = .ok (.ifCond .ne 9, 3) := dk_154 0 9 (dk_at dksX0_terms_0 5 rfl rfl)
theorem dX0_terms_8 : decode cX0_terms 8 = .ok (.aload_n 0, 1) := dk_42 (dk_at dksX0_terms_0 8 rfl rfl)
theorem dX0_terms_9 : decode cX0_terms 9 = .ok (.iconst (-1), 1) := dk_2 (dk_at dksX0_terms_0 9 rfl rfl)
theorem dX0_terms_10 : decode cX0_terms 10 = .ok (.invokevirtual 122, 3) := dk_182 0 122 (dk_at dksX0_terms_0 10 rfl rfl)
theorem dX0_terms_13 : decode cX0_terms 13 = .ok (.ireturn, 1) := dk_172 (dk_at dksX0_terms_0 13 rfl rfl)
theorem dX0_terms_14 : decode cX0_terms 14 = .ok (.aload_n 0, 1) := dk_42 (dk_at dksX0_terms_0 14 rfl rfl)
theorem dX0_terms_15 : decode cX0_terms 15 = .ok (.iload_n 1, 1) := dk_27 (dk_at dksX0_terms_0 15 rfl rfl)
theorem dX0_terms_16 : decode cX0_terms 16 = .ok (.invokevirtual 198, 3) := dk_182 0 198 (dk_at dksX0_terms_0 16 rfl rfl)
theorem dX0_terms_19 : decode cX0_terms 19 = .ok (.istore_n 3, 1) := dk_62 (dk_at dksX0_terms_0 19 rfl rfl)
theorem dX0_terms_20 : decode cX0_terms 20 = .ok (.iload_n 1, 1) := dk_27 (dk_at dksX0_terms_0 20 rfl rfl)
theorem dX0_terms_21 : decode cX0_terms 21 = .ok (.ifCond .ne 14, 3) := dk_154 0 14 (dk_at dksX0_terms_0 21 rfl rfl)
theorem dX0_terms_24 : decode cX0_terms 24 = .ok (.aload_n 0, 1) := dk_42 (dk_at dksX0_terms_1 0 rfl rfl)
theorem dX0_terms_25 : decode cX0_terms 25 = .ok (.invokevirtual 137, 3) := dk_182 0 137 (dk_at dksX0_terms_1 1 rfl rfl)
theorem dX0_terms_28 : decode cX0_terms 28 = .ok (.iload_n 2, 1) := dk_28 (dk_at dksX0_terms_1 4 rfl rfl)
theorem dX0_terms_29 : decode cX0_terms 29 = .ok (.putfield 186, 3) := dk_181 0 186 (dk_at dksX0_terms_1 5 rfl rfl)
theorem dX0_terms_32 : decode cX0_terms 32 = .ok (.goto 43, 3) := dk_167 0 43 (dk_at dksX0_terms_1 8 rfl rfl)
theorem dX0_terms_35 : decode cX0_terms 35 = .ok (.iload_n 1, 1) := dk_27 (dk_at dksX0_terms_1 11 rfl rfl)
theorem dX0_terms_36 : decode cX0_terms 36 = .ok (.iconst 1, 1) := dk_4 (dk_at dksX0_terms_1 12 rfl rfl)
theorem dX0_terms_37 : decode cX0_terms 37 = .ok (.if_icmp .ne 14, 3) := dk_160 0 14 (dk_at dksX0_terms_1 13 rfl rfl)
theorem dX0_terms_40 : decode cX0_terms 40 = .ok (.aload_n 0, 1) := dk_42 (dk_at dksX0_terms_1 16 rfl rfl)
theorem dX0_terms_41 : decode cX0_terms 41 = .ok (.getfield 31, 3) := dk_180 0 31 (dk_at dksX0_terms_1 17 rfl rfl)
theorem dX0_terms_44 : decode cX0_terms 44 = .ok (.iload_n 2, 1) := dk_28 (dk_at dksX0_terms_1 20 rfl rfl)
theorem dX0_terms_45 : decode cX0_terms 45 = .ok (.putfield 189, 3) := dk_181 0 189 (dk_at dksX0_terms_1 21 rfl rfl)
theorem dX0_terms_48 : decode cX0_terms 48 = .ok (.goto 27, 3) := dk_167 0 27 (dk_at dksX0_terms_2 0 rfl rfl)
theorem dX0_terms_51 : decode cX0_terms 51 = .ok (.iload_n 1, 1) := dk_27 (dk_at dksX0_terms_2 3 rfl rfl)
theorem dX0_terms_52 : decode cX0_terms 52 = .ok (.iconst 2, 1) := dk_5 (dk_at dksX0_terms_2 4 rfl rfl)
theorem dX0_terms_53 : decode cX0_terms 53 = .ok (.if_icmp .ne 14, 3) := dk_160 0 14 (dk_at dksX0_terms_2 5 rfl rfl)
theorem dX0_terms_56 : decode cX0_terms 56 = .ok (.aload_n 0, 1) := dk_42 (dk_at dksX0_terms_2 8 rfl rfl)
theorem dX0_terms_57 : decode cX0_terms 57 = .ok (.getfield 31, 3) := dk_180 0 31 (dk_at dksX0_terms_2 9 rfl rfl)
theorem dX0_terms_60 : decode cX0_terms 60 = .ok (.iload_n 2, 1) := dk_28 (dk_at dksX0_terms_2 12 rfl rfl)
theorem dX0_terms_61 : decode cX0_terms 61 = .ok (.putfield 192, 3) := dk_181 0 192 (dk_at dksX0_terms_2 13 rfl rfl)
theorem dX0_terms_64 : decode cX0_terms 64 = .ok (.goto 11, 3) := dk_167 0 11 (dk_at dksX0_terms_2 16 rfl rfl)
theorem dX0_terms_67 : decode cX0_terms 67 = .ok (.aload_n 0, 1) := dk_42 (dk_at dksX0_terms_2 19 rfl rfl)
theorem dX0_terms_68 : decode cX0_terms 68 = .ok (.getfield 31, 3) := dk_180 0 31 (dk_at dksX0_terms_2 20 rfl rfl)
theorem dX0_terms_71 : decode cX0_terms 71 = .ok (.iload_n 2, 1) := dk_28 (dk_at dksX0_terms_2 23 rfl rfl)
theorem dX0_terms_72 : decode cX0_terms 72 = .ok (.putfield 161, 3) := dk_181 0 161 (dk_at dksX0_terms_3 0 rfl rfl)
theorem dX0_terms_75 : decode cX0_terms 75 = .ok (.aload_n 0, 1) := dk_42 (dk_at dksX0_terms_3 3 rfl rfl)
theorem dX0_terms_76 : decode cX0_terms 76 = .ok (.iload_n 3, 1) := dk_29 (dk_at dksX0_terms_3 4 rfl rfl)
theorem dX0_terms_77 : decode cX0_terms 77 = .ok (.invokevirtual 129, 3) := dk_182 0 129 (dk_at dksX0_terms_3 5 rfl rfl)
theorem dX0_terms_80 : decode cX0_terms 80 = .ok (.ireturn, 1) := dk_172 (dk_at dksX0_terms_3 8 rfl rfl)
abbrev cX0_isTerm : ByteArray := prog_1_method_18_code
def yX0_isTerm : MethodName := ⟨RX0, "isTerm", "(II)Z"⟩
def dkwX0_isTerm_3 : List UInt8 := [172, 27, 4, 16, 100, 184, 0, 108, 172, 3, 172]
abbrev dktX0_isTerm_3 : List UInt8 := dkwX0_isTerm_3 ++ []
def dkwX0_isTerm_2 : List UInt8 := [27, 3, 17, 3, 231, 184, 0, 108, 172, 27, 3, 16, 10, 184, 0, 108, 172, 27, 3, 16, 9, 184, 0, 108]
abbrev dktX0_isTerm_2 : List UInt8 := dkwX0_isTerm_2 ++ dktX0_isTerm_3
def dkwX0_isTerm_1 : List UInt8 := [170, 0, 0, 0, 0, 0, 64, 0, 0, 0, 0, 0, 0, 0, 3, 0, 0, 0, 31, 0, 0, 0, 40, 0, 0, 0, 48, 0, 0, 0, 56]
abbrev dktX0_isTerm_1 : List UInt8 := dkwX0_isTerm_1 ++ dktX0_isTerm_2
def dkwX0_isTerm_0 : List UInt8 := [26]
abbrev dktX0_isTerm_0 : List UInt8 := dkwX0_isTerm_0 ++ dktX0_isTerm_1
theorem dksX0_isTerm_0 : cX0_isTerm.data.toList.drop 0 = dktX0_isTerm_0 := by decide +kernel
theorem dksX0_isTerm_1 : cX0_isTerm.data.toList.drop 1 = dktX0_isTerm_1 := dk_seg dksX0_isTerm_0 1 rfl rfl
theorem dksX0_isTerm_2 : cX0_isTerm.data.toList.drop 32 = dktX0_isTerm_2 := dk_seg dksX0_isTerm_1 31 rfl rfl
theorem dksX0_isTerm_3 : cX0_isTerm.data.toList.drop 56 = dktX0_isTerm_3 := dk_seg dksX0_isTerm_2 24 rfl rfl
theorem dX0_isTerm_0 : decode cX0_isTerm 0 = .ok (.iload_n 0, 1) := dk_26 (dk_at dksX0_isTerm_0 0 rfl rfl)
theorem dX0_isTerm_1 : decode cX0_isTerm 1 = .ok (.tableswitch 64 0 3 #[31, 40, 48, 56], 31) := by decide +kernel
theorem dX0_isTerm_32 : decode cX0_isTerm 32 = .ok (.iload_n 1, 1) := dk_27 (dk_at dksX0_isTerm_2 0 rfl rfl)
theorem dX0_isTerm_33 : decode cX0_isTerm 33 = .ok (.iconst 0, 1) := dk_3 (dk_at dksX0_isTerm_2 1 rfl rfl)
theorem dX0_isTerm_34 : decode cX0_isTerm 34 = .ok (.sipush 999, 3) := dk_17 3 231 (dk_at dksX0_isTerm_2 2 rfl rfl)
theorem dX0_isTerm_37 : decode cX0_isTerm 37 = .ok (.invokestatic 108, 3) := dk_184 0 108 (dk_at dksX0_isTerm_2 5 rfl rfl)
theorem dX0_isTerm_40 : decode cX0_isTerm 40 = .ok (.ireturn, 1) := dk_172 (dk_at dksX0_isTerm_2 8 rfl rfl)
theorem dX0_isTerm_41 : decode cX0_isTerm 41 = .ok (.iload_n 1, 1) := dk_27 (dk_at dksX0_isTerm_2 9 rfl rfl)
theorem dX0_isTerm_42 : decode cX0_isTerm 42 = .ok (.iconst 0, 1) := dk_3 (dk_at dksX0_isTerm_2 10 rfl rfl)
theorem dX0_isTerm_43 : decode cX0_isTerm 43 = .ok (.bipush 10, 2) := dk_16 10 (dk_at dksX0_isTerm_2 11 rfl rfl)
theorem dX0_isTerm_45 : decode cX0_isTerm 45 = .ok (.invokestatic 108, 3) := dk_184 0 108 (dk_at dksX0_isTerm_2 13 rfl rfl)
theorem dX0_isTerm_48 : decode cX0_isTerm 48 = .ok (.ireturn, 1) := dk_172 (dk_at dksX0_isTerm_2 16 rfl rfl)
theorem dX0_isTerm_49 : decode cX0_isTerm 49 = .ok (.iload_n 1, 1) := dk_27 (dk_at dksX0_isTerm_2 17 rfl rfl)
theorem dX0_isTerm_50 : decode cX0_isTerm 50 = .ok (.iconst 0, 1) := dk_3 (dk_at dksX0_isTerm_2 18 rfl rfl)
theorem dX0_isTerm_51 : decode cX0_isTerm 51 = .ok (.bipush 9, 2) := dk_16 9 (dk_at dksX0_isTerm_2 19 rfl rfl)
theorem dX0_isTerm_53 : decode cX0_isTerm 53 = .ok (.invokestatic 108, 3) := dk_184 0 108 (dk_at dksX0_isTerm_2 21 rfl rfl)
theorem dX0_isTerm_56 : decode cX0_isTerm 56 = .ok (.ireturn, 1) := dk_172 (dk_at dksX0_isTerm_3 0 rfl rfl)
theorem dX0_isTerm_57 : decode cX0_isTerm 57 = .ok (.iload_n 1, 1) := dk_27 (dk_at dksX0_isTerm_3 1 rfl rfl)
theorem dX0_isTerm_58 : decode cX0_isTerm 58 = .ok (.iconst 1, 1) := dk_4 (dk_at dksX0_isTerm_3 2 rfl rfl)
theorem dX0_isTerm_59 : decode cX0_isTerm 59 = .ok (.bipush 100, 2) := dk_16 100 (dk_at dksX0_isTerm_3 3 rfl rfl)
theorem dX0_isTerm_61 : decode cX0_isTerm 61 = .ok (.invokestatic 108, 3) := dk_184 0 108 (dk_at dksX0_isTerm_3 5 rfl rfl)
theorem dX0_isTerm_64 : decode cX0_isTerm 64 = .ok (.ireturn, 1) := dk_172 (dk_at dksX0_isTerm_3 8 rfl rfl)
theorem dX0_isTerm_65 : decode cX0_isTerm 65 = .ok (.iconst 0, 1) := dk_3 (dk_at dksX0_isTerm_3 9 rfl rfl)
theorem dX0_isTerm_66 : decode cX0_isTerm 66 = .ok (.ireturn, 1) := dk_172 (dk_at dksX0_isTerm_3 10 rfl rfl)
abbrev cX0_termNow : ByteArray := prog_1_method_19_code
def yX0_termNow : MethodName := ⟨RX0, "termNow", "(I)I"⟩
def dkwX0_termNow_2 : List UInt8 := [180, 0, 31, 180, 0, 161, 172]
abbrev dktX0_termNow_2 : List UInt8 := dkwX0_termNow_2 ++ []
def dkwX0_termNow_1 : List UInt8 := [180, 0, 189, 167, 0, 25, 27, 5, 160, 0, 13, 42, 180, 0, 31, 180, 0, 192, 167, 0, 10, 42]
abbrev dktX0_termNow_1 : List UInt8 := dkwX0_termNow_1 ++ dktX0_termNow_2
def dkwX0_termNow_0 : List UInt8 := [27, 154, 0, 13, 42, 182, 0, 137, 180, 0, 186, 167, 0, 40, 27, 4, 160, 0, 13, 42, 180, 0, 31]
abbrev dktX0_termNow_0 : List UInt8 := dkwX0_termNow_0 ++ dktX0_termNow_1
theorem dksX0_termNow_0 : cX0_termNow.data.toList.drop 0 = dktX0_termNow_0 := by decide +kernel
theorem dksX0_termNow_1 : cX0_termNow.data.toList.drop 23 = dktX0_termNow_1 := dk_seg dksX0_termNow_0 23 rfl rfl
theorem dksX0_termNow_2 : cX0_termNow.data.toList.drop 45 = dktX0_termNow_2 := dk_seg dksX0_termNow_1 22 rfl rfl
theorem dX0_termNow_0 : decode cX0_termNow 0 = .ok (.iload_n 1, 1) := dk_27 (dk_at dksX0_termNow_0 0 rfl rfl)
theorem dX0_termNow_1 : decode cX0_termNow 1 = .ok (.ifCond .ne 13, 3) := dk_154 0 13 (dk_at dksX0_termNow_0 1 rfl rfl)
theorem dX0_termNow_4 : decode cX0_termNow 4 = .ok (.aload_n 0, 1) := dk_42 (dk_at dksX0_termNow_0 4 rfl rfl)
theorem dX0_termNow_5 : decode cX0_termNow 5 = .ok (.invokevirtual 137, 3) := dk_182 0 137 (dk_at dksX0_termNow_0 5 rfl rfl)
theorem dX0_termNow_8 : decode cX0_termNow 8 = .ok (.getfield 186, 3) := dk_180 0 186 (dk_at dksX0_termNow_0 8 rfl rfl)
theorem dX0_termNow_11 : decode cX0_termNow 11 = .ok (.goto 40, 3) := dk_167 0 40 (dk_at dksX0_termNow_0 11 rfl rfl)
theorem dX0_termNow_14 : decode cX0_termNow 14 = .ok (.iload_n 1, 1) := dk_27 (dk_at dksX0_termNow_0 14 rfl rfl)
theorem dX0_termNow_15 : decode cX0_termNow 15 = .ok (.iconst 1, 1) := dk_4 (dk_at dksX0_termNow_0 15 rfl rfl)
theorem dX0_termNow_16 : decode cX0_termNow 16 = .ok (.if_icmp .ne 13, 3) := dk_160 0 13 (dk_at dksX0_termNow_0 16 rfl rfl)
theorem dX0_termNow_19 : decode cX0_termNow 19 = .ok (.aload_n 0, 1) := dk_42 (dk_at dksX0_termNow_0 19 rfl rfl)
theorem dX0_termNow_20 : decode cX0_termNow 20 = .ok (.getfield 31, 3) := dk_180 0 31 (dk_at dksX0_termNow_0 20 rfl rfl)
theorem dX0_termNow_23 : decode cX0_termNow 23 = .ok (.getfield 189, 3) := dk_180 0 189 (dk_at dksX0_termNow_1 0 rfl rfl)
theorem dX0_termNow_26 : decode cX0_termNow 26 = .ok (.goto 25, 3) := dk_167 0 25 (dk_at dksX0_termNow_1 3 rfl rfl)
theorem dX0_termNow_29 : decode cX0_termNow 29 = .ok (.iload_n 1, 1) := dk_27 (dk_at dksX0_termNow_1 6 rfl rfl)
theorem dX0_termNow_30 : decode cX0_termNow 30 = .ok (.iconst 2, 1) := dk_5 (dk_at dksX0_termNow_1 7 rfl rfl)
theorem dX0_termNow_31 : decode cX0_termNow 31 = .ok (.if_icmp .ne 13, 3) := dk_160 0 13 (dk_at dksX0_termNow_1 8 rfl rfl)
theorem dX0_termNow_34 : decode cX0_termNow 34 = .ok (.aload_n 0, 1) := dk_42 (dk_at dksX0_termNow_1 11 rfl rfl)
theorem dX0_termNow_35 : decode cX0_termNow 35 = .ok (.getfield 31, 3) := dk_180 0 31 (dk_at dksX0_termNow_1 12 rfl rfl)
theorem dX0_termNow_38 : decode cX0_termNow 38 = .ok (.getfield 192, 3) := dk_180 0 192 (dk_at dksX0_termNow_1 15 rfl rfl)
theorem dX0_termNow_41 : decode cX0_termNow 41 = .ok (.goto 10, 3) := dk_167 0 10 (dk_at dksX0_termNow_1 18 rfl rfl)
theorem dX0_termNow_44 : decode cX0_termNow 44 = .ok (.aload_n 0, 1) := dk_42 (dk_at dksX0_termNow_1 21 rfl rfl)
theorem dX0_termNow_45 : decode cX0_termNow 45 = .ok (.getfield 31, 3) := dk_180 0 31 (dk_at dksX0_termNow_2 0 rfl rfl)
theorem dX0_termNow_48 : decode cX0_termNow 48 = .ok (.getfield 161, 3) := dk_180 0 161 (dk_at dksX0_termNow_2 3 rfl rfl)
theorem dX0_termNow_51 : decode cX0_termNow 51 = .ok (.ireturn, 1) := dk_172 (dk_at dksX0_termNow_2 6 rfl rfl)
abbrev cX0_feed : ByteArray := prog_1_method_21_code
def yX0_feed : MethodName := ⟨RX0, "feed", "(IIIII)I"⟩
def dkwX0_feed_2 : List UInt8 := [172]
abbrev dktX0_feed_2 : List UInt8 := dkwX0_feed_2 ++ []
def dkwX0_feed_1 : List UInt8 := [182, 0, 204, 42, 29, 182, 0, 204, 42, 21, 4, 182, 0, 204, 42, 21, 5, 182, 0, 204, 42, 180, 0, 201]
abbrev dktX0_feed_1 : List UInt8 := dkwX0_feed_1 ++ dktX0_feed_2
def dkwX0_feed_0 : List UInt8 := [42, 180, 0, 201, 16, 20, 96, 17, 1, 144, 164, 0, 5, 2, 172, 42, 27, 182, 0, 204, 42, 28]
abbrev dktX0_feed_0 : List UInt8 := dkwX0_feed_0 ++ dktX0_feed_1
theorem dksX0_feed_0 : cX0_feed.data.toList.drop 0 = dktX0_feed_0 := by decide +kernel
theorem dksX0_feed_1 : cX0_feed.data.toList.drop 22 = dktX0_feed_1 := dk_seg dksX0_feed_0 22 rfl rfl
theorem dksX0_feed_2 : cX0_feed.data.toList.drop 46 = dktX0_feed_2 := dk_seg dksX0_feed_1 24 rfl rfl
theorem dX0_feed_0 : decode cX0_feed 0 = .ok (.aload_n 0, 1) := dk_42 (dk_at dksX0_feed_0 0 rfl rfl)
theorem dX0_feed_1 : decode cX0_feed 1 = .ok (.getfield 201, 3) := dk_180 0 201 (dk_at dksX0_feed_0 1 rfl rfl)
theorem dX0_feed_4 : decode cX0_feed 4 = .ok (.bipush 20, 2) := dk_16 20 (dk_at dksX0_feed_0 4 rfl rfl)
theorem dX0_feed_6 : decode cX0_feed 6 = .ok (.iadd, 1) := dk_96 (dk_at dksX0_feed_0 6 rfl rfl)
theorem dX0_feed_7 : decode cX0_feed 7 = .ok (.sipush 400, 3) := dk_17 1 144 (dk_at dksX0_feed_0 7 rfl rfl)
theorem dX0_feed_10 : decode cX0_feed 10 = .ok (.if_icmp .le 5, 3) := dk_164 0 5 (dk_at dksX0_feed_0 10 rfl rfl)
theorem dX0_feed_13 : decode cX0_feed 13 = .ok (.iconst (-1), 1) := dk_2 (dk_at dksX0_feed_0 13 rfl rfl)
theorem dX0_feed_14 : decode cX0_feed 14 = .ok (.ireturn, 1) := dk_172 (dk_at dksX0_feed_0 14 rfl rfl)
theorem dX0_feed_15 : decode cX0_feed 15 = .ok (.aload_n 0, 1) := dk_42 (dk_at dksX0_feed_0 15 rfl rfl)
theorem dX0_feed_16 : decode cX0_feed 16 = .ok (.iload_n 1, 1) := dk_27 (dk_at dksX0_feed_0 16 rfl rfl)
theorem dX0_feed_17 : decode cX0_feed 17 = .ok (.invokevirtual 204, 3) := dk_182 0 204 (dk_at dksX0_feed_0 17 rfl rfl)
theorem dX0_feed_20 : decode cX0_feed 20 = .ok (.aload_n 0, 1) := dk_42 (dk_at dksX0_feed_0 20 rfl rfl)
theorem dX0_feed_21 : decode cX0_feed 21 = .ok (.iload_n 2, 1) := dk_28 (dk_at dksX0_feed_0 21 rfl rfl)
theorem dX0_feed_22 : decode cX0_feed 22 = .ok (.invokevirtual 204, 3) := dk_182 0 204 (dk_at dksX0_feed_1 0 rfl rfl)
theorem dX0_feed_25 : decode cX0_feed 25 = .ok (.aload_n 0, 1) := dk_42 (dk_at dksX0_feed_1 3 rfl rfl)
theorem dX0_feed_26 : decode cX0_feed 26 = .ok (.iload_n 3, 1) := dk_29 (dk_at dksX0_feed_1 4 rfl rfl)
theorem dX0_feed_27 : decode cX0_feed 27 = .ok (.invokevirtual 204, 3) := dk_182 0 204 (dk_at dksX0_feed_1 5 rfl rfl)
theorem dX0_feed_30 : decode cX0_feed 30 = .ok (.aload_n 0, 1) := dk_42 (dk_at dksX0_feed_1 8 rfl rfl)
theorem dX0_feed_31 : decode cX0_feed 31 = .ok (.iload 4, 2) := dk_21 4 (dk_at dksX0_feed_1 9 rfl rfl)
theorem dX0_feed_33 : decode cX0_feed 33 = .ok (.invokevirtual 204, 3) := dk_182 0 204 (dk_at dksX0_feed_1 11 rfl rfl)
theorem dX0_feed_36 : decode cX0_feed 36 = .ok (.aload_n 0, 1) := dk_42 (dk_at dksX0_feed_1 14 rfl rfl)
theorem dX0_feed_37 : decode cX0_feed 37 = .ok (.iload 5, 2) := dk_21 5 (dk_at dksX0_feed_1 15 rfl rfl)
theorem dX0_feed_39 : decode cX0_feed 39 = .ok (.invokevirtual 204, 3) := dk_182 0 204 (dk_at dksX0_feed_1 17 rfl rfl)
theorem dX0_feed_42 : decode cX0_feed 42 = .ok (.aload_n 0, 1) := dk_42 (dk_at dksX0_feed_1 20 rfl rfl)
theorem dX0_feed_43 : decode cX0_feed 43 = .ok (.getfield 201, 3) := dk_180 0 201 (dk_at dksX0_feed_1 21 rfl rfl)
theorem dX0_feed_46 : decode cX0_feed 46 = .ok (.ireturn, 1) := dk_172 (dk_at dksX0_feed_2 0 rfl rfl)
abbrev cX0_four : ByteArray := prog_1_method_22_code
def yX0_four : MethodName := ⟨RX0, "four", "(I)V"⟩
def dkwX0_four_1 : List UInt8 := [180, 0, 201, 4, 96, 181, 0, 201, 132, 2, 248, 167, 255, 226, 177]
abbrev dktX0_four_1 : List UInt8 := dkwX0_four_1 ++ []
def dkwX0_four_0 : List UInt8 := [16, 24, 61, 28, 155, 0, 32, 42, 180, 0, 62, 42, 180, 0, 201, 27, 28, 122, 145, 84, 42, 89]
abbrev dktX0_four_0 : List UInt8 := dkwX0_four_0 ++ dktX0_four_1
theorem dksX0_four_0 : cX0_four.data.toList.drop 0 = dktX0_four_0 := by decide +kernel
theorem dksX0_four_1 : cX0_four.data.toList.drop 22 = dktX0_four_1 := dk_seg dksX0_four_0 22 rfl rfl
theorem dX0_four_0 : decode cX0_four 0 = .ok (.bipush 24, 2) := dk_16 24 (dk_at dksX0_four_0 0 rfl rfl)
theorem dX0_four_2 : decode cX0_four 2 = .ok (.istore_n 2, 1) := dk_61 (dk_at dksX0_four_0 2 rfl rfl)
theorem dX0_four_3 : decode cX0_four 3 = .ok (.iload_n 2, 1) := dk_28 (dk_at dksX0_four_0 3 rfl rfl)
theorem dX0_four_4 : decode cX0_four 4 = .ok (.ifCond .lt 32, 3) := dk_155 0 32 (dk_at dksX0_four_0 4 rfl rfl)
theorem dX0_four_7 : decode cX0_four 7 = .ok (.aload_n 0, 1) := dk_42 (dk_at dksX0_four_0 7 rfl rfl)
theorem dX0_four_8 : decode cX0_four 8 = .ok (.getfield 62, 3) := dk_180 0 62 (dk_at dksX0_four_0 8 rfl rfl)
theorem dX0_four_11 : decode cX0_four 11 = .ok (.aload_n 0, 1) := dk_42 (dk_at dksX0_four_0 11 rfl rfl)
theorem dX0_four_12 : decode cX0_four 12 = .ok (.getfield 201, 3) := dk_180 0 201 (dk_at dksX0_four_0 12 rfl rfl)
theorem dX0_four_15 : decode cX0_four 15 = .ok (.iload_n 1, 1) := dk_27 (dk_at dksX0_four_0 15 rfl rfl)
theorem dX0_four_16 : decode cX0_four 16 = .ok (.iload_n 2, 1) := dk_28 (dk_at dksX0_four_0 16 rfl rfl)
theorem dX0_four_17 : decode cX0_four 17 = .ok (.ishr, 1) := dk_122 (dk_at dksX0_four_0 17 rfl rfl)
theorem dX0_four_18 : decode cX0_four 18 = .ok (.i2b, 1) := dk_145 (dk_at dksX0_four_0 18 rfl rfl)
theorem dX0_four_19 : decode cX0_four 19 = .ok (.bastore, 1) := dk_84 (dk_at dksX0_four_0 19 rfl rfl)
theorem dX0_four_20 : decode cX0_four 20 = .ok (.aload_n 0, 1) := dk_42 (dk_at dksX0_four_0 20 rfl rfl)
theorem dX0_four_21 : decode cX0_four 21 = .ok (.dup, 1) := dk_89 (dk_at dksX0_four_0 21 rfl rfl)
theorem dX0_four_22 : decode cX0_four 22 = .ok (.getfield 201, 3) := dk_180 0 201 (dk_at dksX0_four_1 0 rfl rfl)
theorem dX0_four_25 : decode cX0_four 25 = .ok (.iconst 1, 1) := dk_4 (dk_at dksX0_four_1 3 rfl rfl)
theorem dX0_four_26 : decode cX0_four 26 = .ok (.iadd, 1) := dk_96 (dk_at dksX0_four_1 4 rfl rfl)
theorem dX0_four_27 : decode cX0_four 27 = .ok (.putfield 201, 3) := dk_181 0 201 (dk_at dksX0_four_1 5 rfl rfl)
theorem dX0_four_30 : decode cX0_four 30 = .ok (.iinc 2 (-8), 3) := dk_132 2 248 (dk_at dksX0_four_1 8 rfl rfl)
theorem dX0_four_33 : decode cX0_four 33 = .ok (.goto (-30), 3) := dk_167 255 226 (dk_at dksX0_four_1 11 rfl rfl)
theorem dX0_four_36 : decode cX0_four 36 = .ok (.return_, 1) := dk_177 (dk_at dksX0_four_1 14 rfl rfl)
abbrev cX0_end : ByteArray := prog_1_method_23_code
def yX0_end : MethodName := ⟨RX0, "end", "(I)I"⟩
def dkwX0_end_0 : List UInt8 := [27, 155, 0, 11, 27, 42, 180, 0, 201, 164, 0, 5, 2, 172, 42, 27, 181, 0, 201, 27, 172]
abbrev dktX0_end_0 : List UInt8 := dkwX0_end_0 ++ []
theorem dksX0_end_0 : cX0_end.data.toList.drop 0 = dktX0_end_0 := by decide +kernel
theorem dX0_end_0 : decode cX0_end 0 = .ok (.iload_n 1, 1) := dk_27 (dk_at dksX0_end_0 0 rfl rfl)
theorem dX0_end_1 : decode cX0_end 1 = .ok (.ifCond .lt 11, 3) := dk_155 0 11 (dk_at dksX0_end_0 1 rfl rfl)
theorem dX0_end_4 : decode cX0_end 4 = .ok (.iload_n 1, 1) := dk_27 (dk_at dksX0_end_0 4 rfl rfl)
theorem dX0_end_5 : decode cX0_end 5 = .ok (.aload_n 0, 1) := dk_42 (dk_at dksX0_end_0 5 rfl rfl)
theorem dX0_end_6 : decode cX0_end 6 = .ok (.getfield 201, 3) := dk_180 0 201 (dk_at dksX0_end_0 6 rfl rfl)
theorem dX0_end_9 : decode cX0_end 9 = .ok (.if_icmp .le 5, 3) := dk_164 0 5 (dk_at dksX0_end_0 9 rfl rfl)
theorem dX0_end_12 : decode cX0_end 12 = .ok (.iconst (-1), 1) := dk_2 (dk_at dksX0_end_0 12 rfl rfl)
theorem dX0_end_13 : decode cX0_end 13 = .ok (.ireturn, 1) := dk_172 (dk_at dksX0_end_0 13 rfl rfl)
theorem dX0_end_14 : decode cX0_end 14 = .ok (.aload_n 0, 1) := dk_42 (dk_at dksX0_end_0 14 rfl rfl)
theorem dX0_end_15 : decode cX0_end 15 = .ok (.iload_n 1, 1) := dk_27 (dk_at dksX0_end_0 15 rfl rfl)
theorem dX0_end_16 : decode cX0_end 16 = .ok (.putfield 201, 3) := dk_181 0 201 (dk_at dksX0_end_0 16 rfl rfl)
theorem dX0_end_19 : decode cX0_end 19 = .ok (.iload_n 1, 1) := dk_27 (dk_at dksX0_end_0 19 rfl rfl)
theorem dX0_end_20 : decode cX0_end 20 = .ok (.ireturn, 1) := dk_172 (dk_at dksX0_end_0 20 rfl rfl)
abbrev cX0_row : ByteArray := prog_1_method_24_code
def yX0_row : MethodName := ⟨RX0, "row", "()I"⟩
def dkwX0_row_7 : List UInt8 := [181, 0, 208, 132, 3, 3, 167, 255, 126, 42, 28, 182, 0, 129, 172]
abbrev dktX0_row_7 : List UInt8 := dkwX0_row_7 ++ []
def dkwX0_row_6 : List UInt8 := [4, 167, 0, 4, 3, 96, 61, 42, 89, 180, 0, 208, 21, 6, 153, 0, 7, 3, 167, 0, 4, 4, 96]
abbrev dktX0_row_6 : List UInt8 := dkwX0_row_6 ++ dktX0_row_7
def dkwX0_row_5 : List UInt8 := [153, 0, 18, 42, 42, 180, 0, 62, 29, 51, 21, 4, 21, 5, 182, 0, 147, 87, 28, 21, 6, 153, 0, 7]
abbrev dktX0_row_5 : List UInt8 := dkwX0_row_5 ++ dktX0_row_6
def dkwX0_row_4 : List UInt8 := [184, 0, 143, 153, 0, 14, 21, 5, 21, 4, 163, 0, 7, 4, 167, 0, 4, 3, 54, 6, 21, 6]
abbrev dktX0_row_4 : List UInt8 := dkwX0_row_4 ++ dktX0_row_5
def dkwX0_row_3 : List UInt8 := [126, 54, 5, 42, 180, 0, 31, 180, 0, 105, 16, 8, 162, 0, 28, 42, 180, 0, 62, 29, 51, 21, 4]
abbrev dktX0_row_3 : List UInt8 := dkwX0_row_3 ++ dktX0_row_4
def dkwX0_row_2 : List UInt8 := [180, 0, 62, 29, 4, 96, 51, 17, 0, 255, 126, 54, 4, 42, 180, 0, 62, 29, 5, 96, 51, 17, 0, 255]
abbrev dktX0_row_2 : List UInt8 := dkwX0_row_2 ++ dktX0_row_3
def dkwX0_row_1 : List UInt8 := [27, 6, 112, 154, 0, 7, 3, 167, 0, 4, 4, 181, 0, 208, 3, 62, 29, 6, 96, 27, 163, 0, 129, 42]
abbrev dktX0_row_1 : List UInt8 := dkwX0_row_1 ++ dktX0_row_2
def dkwX0_row_0 : List UInt8 := [42, 180, 0, 201, 60, 42, 3, 181, 0, 201, 27, 154, 0, 10, 42, 16, 250, 182, 0, 122, 172, 3, 61, 42]
abbrev dktX0_row_0 : List UInt8 := dkwX0_row_0 ++ dktX0_row_1
theorem dksX0_row_0 : cX0_row.data.toList.drop 0 = dktX0_row_0 := by decide +kernel
theorem dksX0_row_1 : cX0_row.data.toList.drop 24 = dktX0_row_1 := dk_seg dksX0_row_0 24 rfl rfl
theorem dksX0_row_2 : cX0_row.data.toList.drop 48 = dktX0_row_2 := dk_seg dksX0_row_1 24 rfl rfl
theorem dksX0_row_3 : cX0_row.data.toList.drop 72 = dktX0_row_3 := dk_seg dksX0_row_2 24 rfl rfl
theorem dksX0_row_4 : cX0_row.data.toList.drop 95 = dktX0_row_4 := dk_seg dksX0_row_3 23 rfl rfl
theorem dksX0_row_5 : cX0_row.data.toList.drop 117 = dktX0_row_5 := dk_seg dksX0_row_4 22 rfl rfl
theorem dksX0_row_6 : cX0_row.data.toList.drop 141 = dktX0_row_6 := dk_seg dksX0_row_5 24 rfl rfl
theorem dksX0_row_7 : cX0_row.data.toList.drop 164 = dktX0_row_7 := dk_seg dksX0_row_6 23 rfl rfl
theorem dX0_row_0 : decode cX0_row 0 = .ok (.aload_n 0, 1) := dk_42 (dk_at dksX0_row_0 0 rfl rfl)
theorem dX0_row_1 : decode cX0_row 1 = .ok (.getfield 201, 3) := dk_180 0 201 (dk_at dksX0_row_0 1 rfl rfl)
theorem dX0_row_4 : decode cX0_row 4 = .ok (.istore_n 1, 1) := dk_60 (dk_at dksX0_row_0 4 rfl rfl)
theorem dX0_row_5 : decode cX0_row 5 = .ok (.aload_n 0, 1) := dk_42 (dk_at dksX0_row_0 5 rfl rfl)
theorem dX0_row_6 : decode cX0_row 6 = .ok (.iconst 0, 1) := dk_3 (dk_at dksX0_row_0 6 rfl rfl)
theorem dX0_row_7 : decode cX0_row 7 = .ok (.putfield 201, 3) := dk_181 0 201 (dk_at dksX0_row_0 7 rfl rfl)
theorem dX0_row_10 : decode cX0_row 10 = .ok (.iload_n 1, 1) := dk_27 (dk_at dksX0_row_0 10 rfl rfl)
theorem dX0_row_11 : decode cX0_row 11 = .ok (.ifCond .ne 10, 3) := dk_154 0 10 (dk_at dksX0_row_0 11 rfl rfl)
theorem dX0_row_14 : decode cX0_row 14 = .ok (.aload_n 0, 1) := dk_42 (dk_at dksX0_row_0 14 rfl rfl)
theorem dX0_row_15 : decode cX0_row 15 = .ok (.bipush (-6), 2) := dk_16 250 (dk_at dksX0_row_0 15 rfl rfl)
theorem dX0_row_17 : decode cX0_row 17 = .ok (.invokevirtual 122, 3) := dk_182 0 122 (dk_at dksX0_row_0 17 rfl rfl)
theorem dX0_row_20 : decode cX0_row 20 = .ok (.ireturn, 1) := dk_172 (dk_at dksX0_row_0 20 rfl rfl)
theorem dX0_row_21 : decode cX0_row 21 = .ok (.iconst 0, 1) := dk_3 (dk_at dksX0_row_0 21 rfl rfl)
theorem dX0_row_22 : decode cX0_row 22 = .ok (.istore_n 2, 1) := dk_61 (dk_at dksX0_row_0 22 rfl rfl)
theorem dX0_row_23 : decode cX0_row 23 = .ok (.aload_n 0, 1) := dk_42 (dk_at dksX0_row_0 23 rfl rfl)
theorem dX0_row_24 : decode cX0_row 24 = .ok (.iload_n 1, 1) := dk_27 (dk_at dksX0_row_1 0 rfl rfl)
theorem dX0_row_25 : decode cX0_row 25 = .ok (.iconst 3, 1) := dk_6 (dk_at dksX0_row_1 1 rfl rfl)
theorem dX0_row_26 : decode cX0_row 26 = .ok (.irem, 1) := dk_112 (dk_at dksX0_row_1 2 rfl rfl)
theorem dX0_row_27 : decode cX0_row 27 = .ok (.ifCond .ne 7, 3) := dk_154 0 7 (dk_at dksX0_row_1 3 rfl rfl)
theorem dX0_row_30 : decode cX0_row 30 = .ok (.iconst 0, 1) := dk_3 (dk_at dksX0_row_1 6 rfl rfl)
theorem dX0_row_31 : decode cX0_row 31 = .ok (.goto 4, 3) := dk_167 0 4 (dk_at dksX0_row_1 7 rfl rfl)
theorem dX0_row_34 : decode cX0_row 34 = .ok (.iconst 1, 1) := dk_4 (dk_at dksX0_row_1 10 rfl rfl)
theorem dX0_row_35 : decode cX0_row 35 = .ok (.putfield 208, 3) := dk_181 0 208 (dk_at dksX0_row_1 11 rfl rfl)
theorem dX0_row_38 : decode cX0_row 38 = .ok (.iconst 0, 1) := dk_3 (dk_at dksX0_row_1 14 rfl rfl)
theorem dX0_row_39 : decode cX0_row 39 = .ok (.istore_n 3, 1) := dk_62 (dk_at dksX0_row_1 15 rfl rfl)
theorem dX0_row_40 : decode cX0_row 40 = .ok (.iload_n 3, 1) := dk_29 (dk_at dksX0_row_1 16 rfl rfl)
theorem dX0_row_41 : decode cX0_row 41 = .ok (.iconst 3, 1) := dk_6 (dk_at dksX0_row_1 17 rfl rfl)
theorem dX0_row_42 : decode cX0_row 42 = .ok (.iadd, 1) := dk_96 (dk_at dksX0_row_1 18 rfl rfl)
theorem dX0_row_43 : decode cX0_row 43 = .ok (.iload_n 1, 1) := dk_27 (dk_at dksX0_row_1 19 rfl rfl)
theorem dX0_row_44 : decode cX0_row 44 = .ok (.if_icmp .gt 129, 3) := dk_163 0 129 (dk_at dksX0_row_1 20 rfl rfl)
theorem dX0_row_47 : decode cX0_row 47 = .ok (.aload_n 0, 1) := dk_42 (dk_at dksX0_row_1 23 rfl rfl)
theorem dX0_row_48 : decode cX0_row 48 = .ok (.getfield 62, 3) := dk_180 0 62 (dk_at dksX0_row_2 0 rfl rfl)
theorem dX0_row_51 : decode cX0_row 51 = .ok (.iload_n 3, 1) := dk_29 (dk_at dksX0_row_2 3 rfl rfl)
theorem dX0_row_52 : decode cX0_row 52 = .ok (.iconst 1, 1) := dk_4 (dk_at dksX0_row_2 4 rfl rfl)
theorem dX0_row_53 : decode cX0_row 53 = .ok (.iadd, 1) := dk_96 (dk_at dksX0_row_2 5 rfl rfl)
theorem dX0_row_54 : decode cX0_row 54 = .ok (.baload, 1) := dk_51 (dk_at dksX0_row_2 6 rfl rfl)
theorem dX0_row_55 : decode cX0_row 55 = .ok (.sipush 255, 3) := dk_17 0 255 (dk_at dksX0_row_2 7 rfl rfl)
theorem dX0_row_58 : decode cX0_row 58 = .ok (.iand, 1) := dk_126 (dk_at dksX0_row_2 10 rfl rfl)
theorem dX0_row_59 : decode cX0_row 59 = .ok (.istore 4, 2) := dk_54 4 (dk_at dksX0_row_2 11 rfl rfl)
theorem dX0_row_61 : decode cX0_row 61 = .ok (.aload_n 0, 1) := dk_42 (dk_at dksX0_row_2 13 rfl rfl)
theorem dX0_row_62 : decode cX0_row 62 = .ok (.getfield 62, 3) := dk_180 0 62 (dk_at dksX0_row_2 14 rfl rfl)
theorem dX0_row_65 : decode cX0_row 65 = .ok (.iload_n 3, 1) := dk_29 (dk_at dksX0_row_2 17 rfl rfl)
theorem dX0_row_66 : decode cX0_row 66 = .ok (.iconst 2, 1) := dk_5 (dk_at dksX0_row_2 18 rfl rfl)
theorem dX0_row_67 : decode cX0_row 67 = .ok (.iadd, 1) := dk_96 (dk_at dksX0_row_2 19 rfl rfl)
theorem dX0_row_68 : decode cX0_row 68 = .ok (.baload, 1) := dk_51 (dk_at dksX0_row_2 20 rfl rfl)
theorem dX0_row_69 : decode cX0_row 69 = .ok (.sipush 255, 3) := dk_17 0 255 (dk_at dksX0_row_2 21 rfl rfl)
theorem dX0_row_72 : decode cX0_row 72 = .ok (.iand, 1) := dk_126 (dk_at dksX0_row_3 0 rfl rfl)
theorem dX0_row_73 : decode cX0_row 73 = .ok (.istore 5, 2) := dk_54 5 (dk_at dksX0_row_3 1 rfl rfl)
theorem dX0_row_75 : decode cX0_row 75 = .ok (.aload_n 0, 1) := dk_42 (dk_at dksX0_row_3 3 rfl rfl)
theorem dX0_row_76 : decode cX0_row 76 = .ok (.getfield 31, 3) := dk_180 0 31 (dk_at dksX0_row_3 4 rfl rfl)
theorem dX0_row_79 : decode cX0_row 79 = .ok (.getfield 105, 3) := dk_180 0 105 (dk_at dksX0_row_3 7 rfl rfl)
theorem dX0_row_82 : decode cX0_row 82 = .ok (.bipush 8, 2) := dk_16 8 (dk_at dksX0_row_3 10 rfl rfl)
theorem dX0_row_84 : decode cX0_row 84 = .ok (.if_icmp .ge 28, 3) := dk_162 0 28 (dk_at dksX0_row_3 12 rfl rfl)
theorem dX0_row_87 : decode cX0_row 87 = .ok (.aload_n 0, 1) := dk_42 (dk_at dksX0_row_3 15 rfl rfl)
theorem dX0_row_88 : decode cX0_row 88 = .ok (.getfield 62, 3) := dk_180 0 62 (dk_at dksX0_row_3 16 rfl rfl)
theorem dX0_row_91 : decode cX0_row 91 = .ok (.iload_n 3, 1) := dk_29 (dk_at dksX0_row_3 19 rfl rfl)
theorem dX0_row_92 : decode cX0_row 92 = .ok (.baload, 1) := dk_51 (dk_at dksX0_row_3 20 rfl rfl)
theorem dX0_row_93 : decode cX0_row 93 = .ok (.iload 4, 2) := dk_21 4 (dk_at dksX0_row_3 21 rfl rfl)
theorem dX0_row_95 : decode cX0_row 95 = .ok (.invokestatic 143, 3) := dk_184 0 143 (dk_at dksX0_row_4 0 rfl rfl)
theorem dX0_row_98 : decode cX0_row 98 = .ok (.ifCond .eq 14, 3) := dk_153 0 14 (dk_at dksX0_row_4 3 rfl rfl)
theorem dX0_row_101 : decode cX0_row 101 = .ok (.iload 5, 2) := dk_21 5 (dk_at dksX0_row_4 6 rfl rfl)
theorem dX0_row_103 : decode cX0_row 103 = .ok (.iload 4, 2) := dk_21 4 (dk_at dksX0_row_4 8 rfl rfl)
theorem dX0_row_105 : decode cX0_row 105 = .ok (.if_icmp .gt 7, 3) := dk_163 0 7 (dk_at dksX0_row_4 10 rfl rfl)
theorem dX0_row_108 : decode cX0_row 108 = .ok (.iconst 1, 1) := dk_4 (dk_at dksX0_row_4 13 rfl rfl)
theorem dX0_row_109 : decode cX0_row 109 = .ok (.goto 4, 3) := dk_167 0 4 (dk_at dksX0_row_4 14 rfl rfl)
theorem dX0_row_112 : decode cX0_row 112 = .ok (.iconst 0, 1) := dk_3 (dk_at dksX0_row_4 17 rfl rfl)
theorem dX0_row_113 : decode cX0_row 113 = .ok (.istore 6, 2) := dk_54 6 (dk_at dksX0_row_4 18 rfl rfl)
theorem dX0_row_115 : decode cX0_row 115 = .ok (.iload 6, 2) := dk_21 6 (dk_at dksX0_row_4 20 rfl rfl)
theorem dX0_row_117 : decode cX0_row 117 = .ok (.ifCond .eq 18, 3) := dk_153 0 18 (dk_at dksX0_row_5 0 rfl rfl)
theorem dX0_row_120 : decode cX0_row 120 = .ok (.aload_n 0, 1) := dk_42 (dk_at dksX0_row_5 3 rfl rfl)
theorem dX0_row_121 : decode cX0_row 121 = .ok (.aload_n 0, 1) := dk_42 (dk_at dksX0_row_5 4 rfl rfl)
theorem dX0_row_122 : decode cX0_row 122 = .ok (.getfield 62, 3) := dk_180 0 62 (dk_at dksX0_row_5 5 rfl rfl)
theorem dX0_row_125 : decode cX0_row 125 = .ok (.iload_n 3, 1) := dk_29 (dk_at dksX0_row_5 8 rfl rfl)
theorem dX0_row_126 : decode cX0_row 126 = .ok (.baload, 1) := dk_51 (dk_at dksX0_row_5 9 rfl rfl)
theorem dX0_row_127 : decode cX0_row 127 = .ok (.iload 4, 2) := dk_21 4 (dk_at dksX0_row_5 10 rfl rfl)
theorem dX0_row_129 : decode cX0_row 129 = .ok (.iload 5, 2) := dk_21 5 (dk_at dksX0_row_5 12 rfl rfl)
theorem dX0_row_131 : decode cX0_row 131 = .ok (.invokevirtual 147, 3) := dk_182 0 147 (dk_at dksX0_row_5 14 rfl rfl)
theorem dX0_row_134 : decode cX0_row 134 = .ok (.pop, 1) := dk_87 (dk_at dksX0_row_5 17 rfl rfl)
theorem dX0_row_135 : decode cX0_row 135 = .ok (.iload_n 2, 1) := dk_28 (dk_at dksX0_row_5 18 rfl rfl)
theorem dX0_row_136 : decode cX0_row 136 = .ok (.iload 6, 2) := dk_21 6 (dk_at dksX0_row_5 19 rfl rfl)
theorem dX0_row_138 : decode cX0_row 138 = .ok (.ifCond .eq 7, 3) := dk_153 0 7 (dk_at dksX0_row_5 21 rfl rfl)
theorem dX0_row_141 : decode cX0_row 141 = .ok (.iconst 1, 1) := dk_4 (dk_at dksX0_row_6 0 rfl rfl)
theorem dX0_row_142 : decode cX0_row 142 = .ok (.goto 4, 3) := dk_167 0 4 (dk_at dksX0_row_6 1 rfl rfl)
theorem dX0_row_145 : decode cX0_row 145 = .ok (.iconst 0, 1) := dk_3 (dk_at dksX0_row_6 4 rfl rfl)
theorem dX0_row_146 : decode cX0_row 146 = .ok (.iadd, 1) := dk_96 (dk_at dksX0_row_6 5 rfl rfl)
theorem dX0_row_147 : decode cX0_row 147 = .ok (.istore_n 2, 1) := dk_61 (dk_at dksX0_row_6 6 rfl rfl)
theorem dX0_row_148 : decode cX0_row 148 = .ok (.aload_n 0, 1) := dk_42 (dk_at dksX0_row_6 7 rfl rfl)
theorem dX0_row_149 : decode cX0_row 149 = .ok (.dup, 1) := dk_89 (dk_at dksX0_row_6 8 rfl rfl)
theorem dX0_row_150 : decode cX0_row 150 = .ok (.getfield 208, 3) := dk_180 0 208 (dk_at dksX0_row_6 9 rfl rfl)
theorem dX0_row_153 : decode cX0_row 153 = .ok (.iload 6, 2) := dk_21 6 (dk_at dksX0_row_6 12 rfl rfl)
theorem dX0_row_155 : decode cX0_row 155 = .ok (.ifCond .eq 7, 3) := dk_153 0 7 (dk_at dksX0_row_6 14 rfl rfl)
theorem dX0_row_158 : decode cX0_row 158 = .ok (.iconst 0, 1) := dk_3 (dk_at dksX0_row_6 17 rfl rfl)
theorem dX0_row_159 : decode cX0_row 159 = .ok (.goto 4, 3) := dk_167 0 4 (dk_at dksX0_row_6 18 rfl rfl)
theorem dX0_row_162 : decode cX0_row 162 = .ok (.iconst 1, 1) := dk_4 (dk_at dksX0_row_6 21 rfl rfl)
theorem dX0_row_163 : decode cX0_row 163 = .ok (.iadd, 1) := dk_96 (dk_at dksX0_row_6 22 rfl rfl)
theorem dX0_row_164 : decode cX0_row 164 = .ok (.putfield 208, 3) := dk_181 0 208 (dk_at dksX0_row_7 0 rfl rfl)
theorem dX0_row_167 : decode cX0_row 167 = .ok (.iinc 3 3, 3) := dk_132 3 3 (dk_at dksX0_row_7 3 rfl rfl)
theorem dX0_row_170 : decode cX0_row 170 = .ok (.goto (-130), 3) := dk_167 255 126 (dk_at dksX0_row_7 6 rfl rfl)
theorem dX0_row_173 : decode cX0_row 173 = .ok (.aload_n 0, 1) := dk_42 (dk_at dksX0_row_7 9 rfl rfl)
theorem dX0_row_174 : decode cX0_row 174 = .ok (.iload_n 2, 1) := dk_28 (dk_at dksX0_row_7 10 rfl rfl)
theorem dX0_row_175 : decode cX0_row 175 = .ok (.invokevirtual 129, 3) := dk_182 0 129 (dk_at dksX0_row_7 11 rfl rfl)
theorem dX0_row_178 : decode cX0_row 178 = .ok (.ireturn, 1) := dk_172 (dk_at dksX0_row_7 14 rfl rfl)
abbrev cX0_leaks : ByteArray := prog_1_method_25_code
def yX0_leaks : MethodName := ⟨RX0, "leaks", "()I"⟩
theorem dX0_leaks_0 : decode cX0_leaks 0 = .ok (.aload_n 0, 1) := by decide +kernel
theorem dX0_leaks_1 : decode cX0_leaks 1 = .ok (.getfield 208, 3) := by decide +kernel
theorem dX0_leaks_4 : decode cX0_leaks 4 = .ok (.ireturn, 1) := by decide +kernel
abbrev cX0_law : ByteArray := prog_1_method_27_code
def yX0_law : MethodName := ⟨RX0, "law", "()I"⟩
def dkwX0_law_4 : List UInt8 := [100, 182, 0, 101, 172]
abbrev dktX0_law_4 : List UInt8 := dkwX0_law_4 ++ []
def dkwX0_law_3 : List UInt8 := [89, 44, 180, 0, 235, 183, 0, 238, 182, 0, 241, 87, 42, 42, 180, 0, 31, 180, 0, 221, 182, 0, 116, 4]
abbrev dktX0_law_3 : List UInt8 := dkwX0_law_3 ++ dktX0_law_4
def dkwX0_law_2 : List UInt8 := [44, 182, 0, 229, 154, 0, 10, 42, 16, 250, 182, 0, 122, 172, 42, 180, 0, 31, 180, 0, 221, 187, 0, 233]
abbrev dktX0_law_2 : List UInt8 := dkwX0_law_2 ++ dktX0_law_3
def dkwX0_law_1 : List UInt8 := [160, 0, 10, 42, 16, 251, 182, 0, 122, 172, 187, 0, 224, 89, 42, 180, 0, 62, 27, 183, 0, 226, 77, 42]
abbrev dktX0_law_1 : List UInt8 := dkwX0_law_1 ++ dktX0_law_2
def dkwX0_law_0 : List UInt8 := [42, 180, 0, 201, 60, 42, 3, 181, 0, 201, 42, 180, 0, 31, 180, 0, 221, 182, 0, 116, 16, 6]
abbrev dktX0_law_0 : List UInt8 := dkwX0_law_0 ++ dktX0_law_1
theorem dksX0_law_0 : cX0_law.data.toList.drop 0 = dktX0_law_0 := by decide +kernel
theorem dksX0_law_1 : cX0_law.data.toList.drop 22 = dktX0_law_1 := dk_seg dksX0_law_0 22 rfl rfl
theorem dksX0_law_2 : cX0_law.data.toList.drop 46 = dktX0_law_2 := dk_seg dksX0_law_1 24 rfl rfl
theorem dksX0_law_3 : cX0_law.data.toList.drop 70 = dktX0_law_3 := dk_seg dksX0_law_2 24 rfl rfl
theorem dksX0_law_4 : cX0_law.data.toList.drop 94 = dktX0_law_4 := dk_seg dksX0_law_3 24 rfl rfl
theorem dX0_law_0 : decode cX0_law 0 = .ok (.aload_n 0, 1) := dk_42 (dk_at dksX0_law_0 0 rfl rfl)
theorem dX0_law_1 : decode cX0_law 1 = .ok (.getfield 201, 3) := dk_180 0 201 (dk_at dksX0_law_0 1 rfl rfl)
theorem dX0_law_4 : decode cX0_law 4 = .ok (.istore_n 1, 1) := dk_60 (dk_at dksX0_law_0 4 rfl rfl)
theorem dX0_law_5 : decode cX0_law 5 = .ok (.aload_n 0, 1) := dk_42 (dk_at dksX0_law_0 5 rfl rfl)
theorem dX0_law_6 : decode cX0_law 6 = .ok (.iconst 0, 1) := dk_3 (dk_at dksX0_law_0 6 rfl rfl)
theorem dX0_law_7 : decode cX0_law 7 = .ok (.putfield 201, 3) := dk_181 0 201 (dk_at dksX0_law_0 7 rfl rfl)
theorem dX0_law_10 : decode cX0_law 10 = .ok (.aload_n 0, 1) := dk_42 (dk_at dksX0_law_0 10 rfl rfl)
theorem dX0_law_11 : decode cX0_law 11 = .ok (.getfield 31, 3) := dk_180 0 31 (dk_at dksX0_law_0 11 rfl rfl)
theorem dX0_law_14 : decode cX0_law 14 = .ok (.getfield 221, 3) := dk_180 0 221 (dk_at dksX0_law_0 14 rfl rfl)
theorem dX0_law_17 : decode cX0_law 17 = .ok (.invokevirtual 116, 3) := dk_182 0 116 (dk_at dksX0_law_0 17 rfl rfl)
theorem dX0_law_20 : decode cX0_law 20 = .ok (.bipush 6, 2) := dk_16 6 (dk_at dksX0_law_0 20 rfl rfl)
theorem dX0_law_22 : decode cX0_law 22 = .ok (.if_icmp .ne 10, 3) := dk_160 0 10 (dk_at dksX0_law_1 0 rfl rfl)
theorem dX0_law_25 : decode cX0_law 25 = .ok (.aload_n 0, 1) := dk_42 (dk_at dksX0_law_1 3 rfl rfl)
theorem dX0_law_26 : decode cX0_law 26 = .ok (.bipush (-5), 2) := dk_16 251 (dk_at dksX0_law_1 4 rfl rfl)
theorem dX0_law_28 : decode cX0_law 28 = .ok (.invokevirtual 122, 3) := dk_182 0 122 (dk_at dksX0_law_1 6 rfl rfl)
theorem dX0_law_31 : decode cX0_law 31 = .ok (.ireturn, 1) := dk_172 (dk_at dksX0_law_1 9 rfl rfl)
theorem dX0_law_32 : decode cX0_law 32 = .ok (.new 224, 3) := dk_187 0 224 (dk_at dksX0_law_1 10 rfl rfl)
theorem dX0_law_35 : decode cX0_law 35 = .ok (.dup, 1) := dk_89 (dk_at dksX0_law_1 13 rfl rfl)
theorem dX0_law_36 : decode cX0_law 36 = .ok (.aload_n 0, 1) := dk_42 (dk_at dksX0_law_1 14 rfl rfl)
theorem dX0_law_37 : decode cX0_law 37 = .ok (.getfield 62, 3) := dk_180 0 62 (dk_at dksX0_law_1 15 rfl rfl)
theorem dX0_law_40 : decode cX0_law 40 = .ok (.iload_n 1, 1) := dk_27 (dk_at dksX0_law_1 18 rfl rfl)
theorem dX0_law_41 : decode cX0_law 41 = .ok (.invokespecial 226, 3) := dk_183 0 226 (dk_at dksX0_law_1 19 rfl rfl)
theorem dX0_law_44 : decode cX0_law 44 = .ok (.astore_n 2, 1) := dk_77 (dk_at dksX0_law_1 22 rfl rfl)
theorem dX0_law_45 : decode cX0_law 45 = .ok (.aload_n 0, 1) := dk_42 (dk_at dksX0_law_1 23 rfl rfl)
theorem dX0_law_46 : decode cX0_law 46 = .ok (.aload_n 2, 1) := dk_44 (dk_at dksX0_law_2 0 rfl rfl)
theorem dX0_law_47 : decode cX0_law 47 = .ok (.invokevirtual 229, 3) := dk_182 0 229 (dk_at dksX0_law_2 1 rfl rfl)
theorem dX0_law_50 : decode cX0_law 50 = .ok (.ifCond .ne 10, 3) := dk_154 0 10 (dk_at dksX0_law_2 4 rfl rfl)
theorem dX0_law_53 : decode cX0_law 53 = .ok (.aload_n 0, 1) := dk_42 (dk_at dksX0_law_2 7 rfl rfl)
theorem dX0_law_54 : decode cX0_law 54 = .ok (.bipush (-6), 2) := dk_16 250 (dk_at dksX0_law_2 8 rfl rfl)
theorem dX0_law_56 : decode cX0_law 56 = .ok (.invokevirtual 122, 3) := dk_182 0 122 (dk_at dksX0_law_2 10 rfl rfl)
theorem dX0_law_59 : decode cX0_law 59 = .ok (.ireturn, 1) := dk_172 (dk_at dksX0_law_2 13 rfl rfl)
theorem dX0_law_60 : decode cX0_law 60 = .ok (.aload_n 0, 1) := dk_42 (dk_at dksX0_law_2 14 rfl rfl)
theorem dX0_law_61 : decode cX0_law 61 = .ok (.getfield 31, 3) := dk_180 0 31 (dk_at dksX0_law_2 15 rfl rfl)
theorem dX0_law_64 : decode cX0_law 64 = .ok (.getfield 221, 3) := dk_180 0 221 (dk_at dksX0_law_2 18 rfl rfl)
theorem dX0_law_67 : decode cX0_law 67 = .ok (.new 233, 3) := dk_187 0 233 (dk_at dksX0_law_2 21 rfl rfl)
theorem dX0_law_70 : decode cX0_law 70 = .ok (.dup, 1) := dk_89 (dk_at dksX0_law_3 0 rfl rfl)
theorem dX0_law_71 : decode cX0_law 71 = .ok (.aload_n 2, 1) := dk_44 (dk_at dksX0_law_3 1 rfl rfl)
theorem dX0_law_72 : decode cX0_law 72 = .ok (.getfield 235, 3) := dk_180 0 235 (dk_at dksX0_law_3 2 rfl rfl)
theorem dX0_law_75 : decode cX0_law 75 = .ok (.invokespecial 238, 3) := dk_183 0 238 (dk_at dksX0_law_3 5 rfl rfl)
theorem dX0_law_78 : decode cX0_law 78 = .ok (.invokevirtual 241, 3) := dk_182 0 241 (dk_at dksX0_law_3 8 rfl rfl)
theorem dX0_law_81 : decode cX0_law 81 = .ok (.pop, 1) := dk_87 (dk_at dksX0_law_3 11 rfl rfl)
theorem dX0_law_82 : decode cX0_law 82 = .ok (.aload_n 0, 1) := dk_42 (dk_at dksX0_law_3 12 rfl rfl)
theorem dX0_law_83 : decode cX0_law 83 = .ok (.aload_n 0, 1) := dk_42 (dk_at dksX0_law_3 13 rfl rfl)
theorem dX0_law_84 : decode cX0_law 84 = .ok (.getfield 31, 3) := dk_180 0 31 (dk_at dksX0_law_3 14 rfl rfl)
theorem dX0_law_87 : decode cX0_law 87 = .ok (.getfield 221, 3) := dk_180 0 221 (dk_at dksX0_law_3 17 rfl rfl)
theorem dX0_law_90 : decode cX0_law 90 = .ok (.invokevirtual 116, 3) := dk_182 0 116 (dk_at dksX0_law_3 20 rfl rfl)
theorem dX0_law_93 : decode cX0_law 93 = .ok (.iconst 1, 1) := dk_4 (dk_at dksX0_law_3 23 rfl rfl)
theorem dX0_law_94 : decode cX0_law 94 = .ok (.isub, 1) := dk_100 (dk_at dksX0_law_4 0 rfl rfl)
theorem dX0_law_95 : decode cX0_law 95 = .ok (.invokevirtual 101, 3) := dk_182 0 101 (dk_at dksX0_law_4 1 rfl rfl)
theorem dX0_law_98 : decode cX0_law 98 = .ok (.ireturn, 1) := dk_172 (dk_at dksX0_law_4 4 rfl rfl)
abbrev cX0_reads : ByteArray := prog_1_method_26_code
def yX0_reads : MethodName := ⟨RX0, "reads", "(LSoleraCellar$Reader;)Z"⟩
def dkwX0_reads_1 : List UInt8 := [172]
abbrev dktX0_reads_1 : List UInt8 := dkwX0_reads_1 ++ []
def dkwX0_reads_0 : List UInt8 := [43, 182, 0, 211, 167, 0, 14, 77, 42, 44, 180, 0, 218, 181, 0, 66, 3, 172, 42, 2, 181, 0, 66, 4]
abbrev dktX0_reads_0 : List UInt8 := dkwX0_reads_0 ++ dktX0_reads_1
theorem dksX0_reads_0 : cX0_reads.data.toList.drop 0 = dktX0_reads_0 := by decide +kernel
theorem dksX0_reads_1 : cX0_reads.data.toList.drop 24 = dktX0_reads_1 := dk_seg dksX0_reads_0 24 rfl rfl
theorem dX0_reads_0 : decode cX0_reads 0 = .ok (.aload_n 1, 1) := dk_43 (dk_at dksX0_reads_0 0 rfl rfl)
theorem dX0_reads_1 : decode cX0_reads 1 = .ok (.invokevirtual 211, 3) := dk_182 0 211 (dk_at dksX0_reads_0 1 rfl rfl)
theorem dX0_reads_4 : decode cX0_reads 4 = .ok (.goto 14, 3) := dk_167 0 14 (dk_at dksX0_reads_0 4 rfl rfl)
theorem dX0_reads_7 : decode cX0_reads 7 = .ok (.astore_n 2, 1) := dk_77 (dk_at dksX0_reads_0 7 rfl rfl)
theorem dX0_reads_8 : decode cX0_reads 8 = .ok (.aload_n 0, 1) := dk_42 (dk_at dksX0_reads_0 8 rfl rfl)
theorem dX0_reads_9 : decode cX0_reads 9 = .ok (.aload_n 2, 1) := dk_44 (dk_at dksX0_reads_0 9 rfl rfl)
theorem dX0_reads_10 : decode cX0_reads 10 = .ok (.getfield 218, 3) := dk_180 0 218 (dk_at dksX0_reads_0 10 rfl rfl)
theorem dX0_reads_13 : decode cX0_reads 13 = .ok (.putfield 66, 3) := dk_181 0 66 (dk_at dksX0_reads_0 13 rfl rfl)
theorem dX0_reads_16 : decode cX0_reads 16 = .ok (.iconst 0, 1) := dk_3 (dk_at dksX0_reads_0 16 rfl rfl)
theorem dX0_reads_17 : decode cX0_reads 17 = .ok (.ireturn, 1) := dk_172 (dk_at dksX0_reads_0 17 rfl rfl)
theorem dX0_reads_18 : decode cX0_reads 18 = .ok (.aload_n 0, 1) := dk_42 (dk_at dksX0_reads_0 18 rfl rfl)
theorem dX0_reads_19 : decode cX0_reads 19 = .ok (.iconst (-1), 1) := dk_2 (dk_at dksX0_reads_0 19 rfl rfl)
theorem dX0_reads_20 : decode cX0_reads 20 = .ok (.putfield 66, 3) := dk_181 0 66 (dk_at dksX0_reads_0 20 rfl rfl)
theorem dX0_reads_23 : decode cX0_reads 23 = .ok (.iconst 1, 1) := dk_4 (dk_at dksX0_reads_0 23 rfl rfl)
theorem dX0_reads_24 : decode cX0_reads 24 = .ok (.ireturn, 1) := dk_172 (dk_at dksX0_reads_1 0 rfl rfl)
abbrev cX0_plan : ByteArray := prog_1_method_28_code
def yX0_plan : MethodName := ⟨RX0, "plan", "()I"⟩
def dkwX0_plan_4 : List UInt8 := [182, 0, 101, 172]
abbrev dktX0_plan_4 : List UInt8 := dkwX0_plan_4 ++ []
def dkwX0_plan_3 : List UInt8 := [44, 180, 0, 250, 183, 0, 253, 182, 0, 241, 87, 42, 42, 180, 0, 31, 180, 0, 112, 182, 0, 116, 4, 100]
abbrev dktX0_plan_3 : List UInt8 := dkwX0_plan_3 ++ dktX0_plan_4
def dkwX0_plan_2 : List UInt8 := [182, 0, 229, 154, 0, 10, 42, 16, 250, 182, 0, 122, 172, 42, 180, 0, 31, 180, 0, 112, 187, 0, 248, 89]
abbrev dktX0_plan_2 : List UInt8 := dkwX0_plan_2 ++ dktX0_plan_3
def dkwX0_plan_1 : List UInt8 := [42, 16, 251, 182, 0, 122, 172, 187, 0, 245, 89, 42, 180, 0, 62, 27, 183, 0, 247, 77, 42, 44]
abbrev dktX0_plan_1 : List UInt8 := dkwX0_plan_1 ++ dktX0_plan_2
def dkwX0_plan_0 : List UInt8 := [42, 180, 0, 201, 60, 42, 3, 181, 0, 201, 42, 180, 0, 31, 180, 0, 112, 182, 0, 116, 7, 160, 0, 10]
abbrev dktX0_plan_0 : List UInt8 := dkwX0_plan_0 ++ dktX0_plan_1
theorem dksX0_plan_0 : cX0_plan.data.toList.drop 0 = dktX0_plan_0 := by decide +kernel
theorem dksX0_plan_1 : cX0_plan.data.toList.drop 24 = dktX0_plan_1 := dk_seg dksX0_plan_0 24 rfl rfl
theorem dksX0_plan_2 : cX0_plan.data.toList.drop 46 = dktX0_plan_2 := dk_seg dksX0_plan_1 22 rfl rfl
theorem dksX0_plan_3 : cX0_plan.data.toList.drop 70 = dktX0_plan_3 := dk_seg dksX0_plan_2 24 rfl rfl
theorem dksX0_plan_4 : cX0_plan.data.toList.drop 94 = dktX0_plan_4 := dk_seg dksX0_plan_3 24 rfl rfl
theorem dX0_plan_0 : decode cX0_plan 0 = .ok (.aload_n 0, 1) := dk_42 (dk_at dksX0_plan_0 0 rfl rfl)
theorem dX0_plan_1 : decode cX0_plan 1 = .ok (.getfield 201, 3) := dk_180 0 201 (dk_at dksX0_plan_0 1 rfl rfl)
theorem dX0_plan_4 : decode cX0_plan 4 = .ok (.istore_n 1, 1) := dk_60 (dk_at dksX0_plan_0 4 rfl rfl)
theorem dX0_plan_5 : decode cX0_plan 5 = .ok (.aload_n 0, 1) := dk_42 (dk_at dksX0_plan_0 5 rfl rfl)
theorem dX0_plan_6 : decode cX0_plan 6 = .ok (.iconst 0, 1) := dk_3 (dk_at dksX0_plan_0 6 rfl rfl)
theorem dX0_plan_7 : decode cX0_plan 7 = .ok (.putfield 201, 3) := dk_181 0 201 (dk_at dksX0_plan_0 7 rfl rfl)
theorem dX0_plan_10 : decode cX0_plan 10 = .ok (.aload_n 0, 1) := dk_42 (dk_at dksX0_plan_0 10 rfl rfl)
theorem dX0_plan_11 : decode cX0_plan 11 = .ok (.getfield 31, 3) := dk_180 0 31 (dk_at dksX0_plan_0 11 rfl rfl)
theorem dX0_plan_14 : decode cX0_plan 14 = .ok (.getfield 112, 3) := dk_180 0 112 (dk_at dksX0_plan_0 14 rfl rfl)
theorem dX0_plan_17 : decode cX0_plan 17 = .ok (.invokevirtual 116, 3) := dk_182 0 116 (dk_at dksX0_plan_0 17 rfl rfl)
theorem dX0_plan_20 : decode cX0_plan 20 = .ok (.iconst 4, 1) := dk_7 (dk_at dksX0_plan_0 20 rfl rfl)
theorem dX0_plan_21 : decode cX0_plan 21 = .ok (.if_icmp .ne 10, 3) := dk_160 0 10 (dk_at dksX0_plan_0 21 rfl rfl)
theorem dX0_plan_24 : decode cX0_plan 24 = .ok (.aload_n 0, 1) := dk_42 (dk_at dksX0_plan_1 0 rfl rfl)
theorem dX0_plan_25 : decode cX0_plan 25 = .ok (.bipush (-5), 2) := dk_16 251 (dk_at dksX0_plan_1 1 rfl rfl)
theorem dX0_plan_27 : decode cX0_plan 27 = .ok (.invokevirtual 122, 3) := dk_182 0 122 (dk_at dksX0_plan_1 3 rfl rfl)
theorem dX0_plan_30 : decode cX0_plan 30 = .ok (.ireturn, 1) := dk_172 (dk_at dksX0_plan_1 6 rfl rfl)
theorem dX0_plan_31 : decode cX0_plan 31 = .ok (.new 245, 3) := dk_187 0 245 (dk_at dksX0_plan_1 7 rfl rfl)
theorem dX0_plan_34 : decode cX0_plan 34 = .ok (.dup, 1) := dk_89 (dk_at dksX0_plan_1 10 rfl rfl)
theorem dX0_plan_35 : decode cX0_plan 35 = .ok (.aload_n 0, 1) := dk_42 (dk_at dksX0_plan_1 11 rfl rfl)
theorem dX0_plan_36 : decode cX0_plan 36 = .ok (.getfield 62, 3) := dk_180 0 62 (dk_at dksX0_plan_1 12 rfl rfl)
theorem dX0_plan_39 : decode cX0_plan 39 = .ok (.iload_n 1, 1) := dk_27 (dk_at dksX0_plan_1 15 rfl rfl)
theorem dX0_plan_40 : decode cX0_plan 40 = .ok (.invokespecial 247, 3) := dk_183 0 247 (dk_at dksX0_plan_1 16 rfl rfl)
theorem dX0_plan_43 : decode cX0_plan 43 = .ok (.astore_n 2, 1) := dk_77 (dk_at dksX0_plan_1 19 rfl rfl)
theorem dX0_plan_44 : decode cX0_plan 44 = .ok (.aload_n 0, 1) := dk_42 (dk_at dksX0_plan_1 20 rfl rfl)
theorem dX0_plan_45 : decode cX0_plan 45 = .ok (.aload_n 2, 1) := dk_44 (dk_at dksX0_plan_1 21 rfl rfl)
theorem dX0_plan_46 : decode cX0_plan 46 = .ok (.invokevirtual 229, 3) := dk_182 0 229 (dk_at dksX0_plan_2 0 rfl rfl)
theorem dX0_plan_49 : decode cX0_plan 49 = .ok (.ifCond .ne 10, 3) := dk_154 0 10 (dk_at dksX0_plan_2 3 rfl rfl)
theorem dX0_plan_52 : decode cX0_plan 52 = .ok (.aload_n 0, 1) := dk_42 (dk_at dksX0_plan_2 6 rfl rfl)
theorem dX0_plan_53 : decode cX0_plan 53 = .ok (.bipush (-6), 2) := dk_16 250 (dk_at dksX0_plan_2 7 rfl rfl)
theorem dX0_plan_55 : decode cX0_plan 55 = .ok (.invokevirtual 122, 3) := dk_182 0 122 (dk_at dksX0_plan_2 9 rfl rfl)
theorem dX0_plan_58 : decode cX0_plan 58 = .ok (.ireturn, 1) := dk_172 (dk_at dksX0_plan_2 12 rfl rfl)
theorem dX0_plan_59 : decode cX0_plan 59 = .ok (.aload_n 0, 1) := dk_42 (dk_at dksX0_plan_2 13 rfl rfl)
theorem dX0_plan_60 : decode cX0_plan 60 = .ok (.getfield 31, 3) := dk_180 0 31 (dk_at dksX0_plan_2 14 rfl rfl)
theorem dX0_plan_63 : decode cX0_plan 63 = .ok (.getfield 112, 3) := dk_180 0 112 (dk_at dksX0_plan_2 17 rfl rfl)
theorem dX0_plan_66 : decode cX0_plan 66 = .ok (.new 248, 3) := dk_187 0 248 (dk_at dksX0_plan_2 20 rfl rfl)
theorem dX0_plan_69 : decode cX0_plan 69 = .ok (.dup, 1) := dk_89 (dk_at dksX0_plan_2 23 rfl rfl)
theorem dX0_plan_70 : decode cX0_plan 70 = .ok (.aload_n 2, 1) := dk_44 (dk_at dksX0_plan_3 0 rfl rfl)
theorem dX0_plan_71 : decode cX0_plan 71 = .ok (.getfield 250, 3) := dk_180 0 250 (dk_at dksX0_plan_3 1 rfl rfl)
theorem dX0_plan_74 : decode cX0_plan 74 = .ok (.invokespecial 253, 3) := dk_183 0 253 (dk_at dksX0_plan_3 4 rfl rfl)
theorem dX0_plan_77 : decode cX0_plan 77 = .ok (.invokevirtual 241, 3) := dk_182 0 241 (dk_at dksX0_plan_3 7 rfl rfl)
theorem dX0_plan_80 : decode cX0_plan 80 = .ok (.pop, 1) := dk_87 (dk_at dksX0_plan_3 10 rfl rfl)
theorem dX0_plan_81 : decode cX0_plan 81 = .ok (.aload_n 0, 1) := dk_42 (dk_at dksX0_plan_3 11 rfl rfl)
theorem dX0_plan_82 : decode cX0_plan 82 = .ok (.aload_n 0, 1) := dk_42 (dk_at dksX0_plan_3 12 rfl rfl)
theorem dX0_plan_83 : decode cX0_plan 83 = .ok (.getfield 31, 3) := dk_180 0 31 (dk_at dksX0_plan_3 13 rfl rfl)
theorem dX0_plan_86 : decode cX0_plan 86 = .ok (.getfield 112, 3) := dk_180 0 112 (dk_at dksX0_plan_3 16 rfl rfl)
theorem dX0_plan_89 : decode cX0_plan 89 = .ok (.invokevirtual 116, 3) := dk_182 0 116 (dk_at dksX0_plan_3 19 rfl rfl)
theorem dX0_plan_92 : decode cX0_plan 92 = .ok (.iconst 1, 1) := dk_4 (dk_at dksX0_plan_3 22 rfl rfl)
theorem dX0_plan_93 : decode cX0_plan 93 = .ok (.isub, 1) := dk_100 (dk_at dksX0_plan_3 23 rfl rfl)
theorem dX0_plan_94 : decode cX0_plan 94 = .ok (.invokevirtual 101, 3) := dk_182 0 101 (dk_at dksX0_plan_4 0 rfl rfl)
theorem dX0_plan_97 : decode cX0_plan 97 = .ok (.ireturn, 1) := dk_172 (dk_at dksX0_plan_4 3 rfl rfl)
abbrev cX0_fault : ByteArray := prog_1_method_29_code
def yX0_fault : MethodName := ⟨RX0, "fault", "()I"⟩
theorem dX0_fault_0 : decode cX0_fault 0 = .ok (.aload_n 0, 1) := by decide +kernel
theorem dX0_fault_1 : decode cX0_fault 1 = .ok (.getfield 66, 3) := by decide +kernel
theorem dX0_fault_4 : decode cX0_fault 4 = .ok (.ireturn, 1) := by decide +kernel
abbrev cX0_stopped : ByteArray := prog_1_method_30_code
def yX0_stopped : MethodName := ⟨RX0, "stopped", "()I"⟩
theorem dX0_stopped_0 : decode cX0_stopped 0 = .ok (.aload_n 0, 1) := by decide +kernel
theorem dX0_stopped_1 : decode cX0_stopped 1 = .ok (.getfield 69, 3) := by decide +kernel
theorem dX0_stopped_4 : decode cX0_stopped 4 = .ok (.ireturn, 1) := by decide +kernel
abbrev cX0_force : ByteArray := prog_1_method_32_code
def yX0_force : MethodName := ⟨RX0, "force", "(I)I"⟩
def dkwX0_force_1 : List UInt8 := [180, 0, 31, 27, 181, 1, 1, 42, 28, 182, 0, 101, 172]
abbrev dktX0_force_1 : List UInt8 := dkwX0_force_1 ++ []
def dkwX0_force_0 : List UInt8 := [42, 27, 182, 0, 254, 154, 0, 10, 42, 16, 254, 182, 0, 122, 172, 42, 180, 0, 31, 180, 1, 1, 61, 42]
abbrev dktX0_force_0 : List UInt8 := dkwX0_force_0 ++ dktX0_force_1
theorem dksX0_force_0 : cX0_force.data.toList.drop 0 = dktX0_force_0 := by decide +kernel
theorem dksX0_force_1 : cX0_force.data.toList.drop 24 = dktX0_force_1 := dk_seg dksX0_force_0 24 rfl rfl
theorem dX0_force_0 : decode cX0_force 0 = .ok (.aload_n 0, 1) := dk_42 (dk_at dksX0_force_0 0 rfl rfl)
theorem dX0_force_1 : decode cX0_force 1 = .ok (.iload_n 1, 1) := dk_27 (dk_at dksX0_force_0 1 rfl rfl)
theorem dX0_force_2 : decode cX0_force 2 = .ok (.invokevirtual 254, 3) := dk_182 0 254 (dk_at dksX0_force_0 2 rfl rfl)
theorem dX0_force_5 : decode cX0_force 5 = .ok (.ifCond .ne 10, 3) := dk_154 0 10 (dk_at dksX0_force_0 5 rfl rfl)
theorem dX0_force_8 : decode cX0_force 8 = .ok (.aload_n 0, 1) := dk_42 (dk_at dksX0_force_0 8 rfl rfl)
theorem dX0_force_9 : decode cX0_force 9 = .ok (.bipush (-2), 2) := dk_16 254 (dk_at dksX0_force_0 9 rfl rfl)
theorem dX0_force_11 : decode cX0_force 11 = .ok (.invokevirtual 122, 3) := dk_182 0 122 (dk_at dksX0_force_0 11 rfl rfl)
theorem dX0_force_14 : decode cX0_force 14 = .ok (.ireturn, 1) := dk_172 (dk_at dksX0_force_0 14 rfl rfl)
theorem dX0_force_15 : decode cX0_force 15 = .ok (.aload_n 0, 1) := dk_42 (dk_at dksX0_force_0 15 rfl rfl)
theorem dX0_force_16 : decode cX0_force 16 = .ok (.getfield 31, 3) := dk_180 0 31 (dk_at dksX0_force_0 16 rfl rfl)
theorem dX0_force_19 : decode cX0_force 19 = .ok (.getfield 257, 3) := dk_180 1 1 (dk_at dksX0_force_0 19 rfl rfl)
theorem dX0_force_22 : decode cX0_force 22 = .ok (.istore_n 2, 1) := dk_61 (dk_at dksX0_force_0 22 rfl rfl)
theorem dX0_force_23 : decode cX0_force 23 = .ok (.aload_n 0, 1) := dk_42 (dk_at dksX0_force_0 23 rfl rfl)
theorem dX0_force_24 : decode cX0_force 24 = .ok (.getfield 31, 3) := dk_180 0 31 (dk_at dksX0_force_1 0 rfl rfl)
theorem dX0_force_27 : decode cX0_force 27 = .ok (.iload_n 1, 1) := dk_27 (dk_at dksX0_force_1 3 rfl rfl)
theorem dX0_force_28 : decode cX0_force 28 = .ok (.putfield 257, 3) := dk_181 1 1 (dk_at dksX0_force_1 4 rfl rfl)
theorem dX0_force_31 : decode cX0_force 31 = .ok (.aload_n 0, 1) := dk_42 (dk_at dksX0_force_1 7 rfl rfl)
theorem dX0_force_32 : decode cX0_force 32 = .ok (.iload_n 2, 1) := dk_28 (dk_at dksX0_force_1 8 rfl rfl)
theorem dX0_force_33 : decode cX0_force 33 = .ok (.invokevirtual 101, 3) := dk_182 0 101 (dk_at dksX0_force_1 9 rfl rfl)
theorem dX0_force_36 : decode cX0_force 36 = .ok (.ireturn, 1) := dk_172 (dk_at dksX0_force_1 12 rfl rfl)
abbrev cX0_isLaw : ByteArray := prog_1_method_31_code
def yX0_isLaw : MethodName := ⟨RX0, "isLaw", "(I)Z"⟩
def dkwX0_isLaw_0 : List UInt8 := [27, 2, 42, 180, 0, 31, 180, 0, 221, 182, 0, 116, 4, 100, 184, 0, 108, 172]
abbrev dktX0_isLaw_0 : List UInt8 := dkwX0_isLaw_0 ++ []
theorem dksX0_isLaw_0 : cX0_isLaw.data.toList.drop 0 = dktX0_isLaw_0 := by decide +kernel
theorem dX0_isLaw_0 : decode cX0_isLaw 0 = .ok (.iload_n 1, 1) := dk_27 (dk_at dksX0_isLaw_0 0 rfl rfl)
theorem dX0_isLaw_1 : decode cX0_isLaw 1 = .ok (.iconst (-1), 1) := dk_2 (dk_at dksX0_isLaw_0 1 rfl rfl)
theorem dX0_isLaw_2 : decode cX0_isLaw 2 = .ok (.aload_n 0, 1) := dk_42 (dk_at dksX0_isLaw_0 2 rfl rfl)
theorem dX0_isLaw_3 : decode cX0_isLaw 3 = .ok (.getfield 31, 3) := dk_180 0 31 (dk_at dksX0_isLaw_0 3 rfl rfl)
theorem dX0_isLaw_6 : decode cX0_isLaw 6 = .ok (.getfield 221, 3) := dk_180 0 221 (dk_at dksX0_isLaw_0 6 rfl rfl)
theorem dX0_isLaw_9 : decode cX0_isLaw 9 = .ok (.invokevirtual 116, 3) := dk_182 0 116 (dk_at dksX0_isLaw_0 9 rfl rfl)
theorem dX0_isLaw_12 : decode cX0_isLaw 12 = .ok (.iconst 1, 1) := dk_4 (dk_at dksX0_isLaw_0 12 rfl rfl)
theorem dX0_isLaw_13 : decode cX0_isLaw 13 = .ok (.isub, 1) := dk_100 (dk_at dksX0_isLaw_0 13 rfl rfl)
theorem dX0_isLaw_14 : decode cX0_isLaw 14 = .ok (.invokestatic 108, 3) := dk_184 0 108 (dk_at dksX0_isLaw_0 14 rfl rfl)
theorem dX0_isLaw_17 : decode cX0_isLaw 17 = .ok (.ireturn, 1) := dk_172 (dk_at dksX0_isLaw_0 17 rfl rfl)
abbrev cX0_pour : ByteArray := prog_1_method_54_code
def yX0_pour : MethodName := ⟨RX0, "pour", "(II)I"⟩
def dkwX0_pour_0 : List UInt8 := [42, 42, 27, 28, 182, 1, 92, 182, 1, 95, 172]
abbrev dktX0_pour_0 : List UInt8 := dkwX0_pour_0 ++ []
theorem dksX0_pour_0 : cX0_pour.data.toList.drop 0 = dktX0_pour_0 := by decide +kernel
theorem dX0_pour_0 : decode cX0_pour 0 = .ok (.aload_n 0, 1) := dk_42 (dk_at dksX0_pour_0 0 rfl rfl)
theorem dX0_pour_1 : decode cX0_pour 1 = .ok (.aload_n 0, 1) := dk_42 (dk_at dksX0_pour_0 1 rfl rfl)
theorem dX0_pour_2 : decode cX0_pour 2 = .ok (.iload_n 1, 1) := dk_27 (dk_at dksX0_pour_0 2 rfl rfl)
theorem dX0_pour_3 : decode cX0_pour 3 = .ok (.iload_n 2, 1) := dk_28 (dk_at dksX0_pour_0 3 rfl rfl)
theorem dX0_pour_4 : decode cX0_pour 4 = .ok (.invokevirtual 348, 3) := dk_182 1 92 (dk_at dksX0_pour_0 4 rfl rfl)
theorem dX0_pour_7 : decode cX0_pour 7 = .ok (.invokevirtual 351, 3) := dk_182 1 95 (dk_at dksX0_pour_0 7 rfl rfl)
theorem dX0_pour_10 : decode cX0_pour 10 = .ok (.ireturn, 1) := dk_172 (dk_at dksX0_pour_0 10 rfl rfl)
abbrev cX0_poursKept : ByteArray := prog_1_method_49_code
def yX0_poursKept : MethodName := ⟨RX0, "poursKept", "(II)I"⟩
def dkwX0_poursKept_1 : List UInt8 := [182, 0, 137, 27, 28, 182, 1, 72, 172]
abbrev dktX0_poursKept_1 : List UInt8 := dkwX0_poursKept_1 ++ []
def dkwX0_poursKept_0 : List UInt8 := [42, 42, 182, 0, 137, 27, 28, 182, 1, 65, 62, 29, 156, 0, 5, 29, 172, 42, 3, 182, 1, 69, 42, 42]
abbrev dktX0_poursKept_0 : List UInt8 := dkwX0_poursKept_0 ++ dktX0_poursKept_1
theorem dksX0_poursKept_0 : cX0_poursKept.data.toList.drop 0 = dktX0_poursKept_0 := by decide +kernel
theorem dksX0_poursKept_1 : cX0_poursKept.data.toList.drop 24 = dktX0_poursKept_1 := dk_seg dksX0_poursKept_0 24 rfl rfl
theorem dX0_poursKept_0 : decode cX0_poursKept 0 = .ok (.aload_n 0, 1) := dk_42 (dk_at dksX0_poursKept_0 0 rfl rfl)
theorem dX0_poursKept_1 : decode cX0_poursKept 1 = .ok (.aload_n 0, 1) := dk_42 (dk_at dksX0_poursKept_0 1 rfl rfl)
theorem dX0_poursKept_2 : decode cX0_poursKept 2 = .ok (.invokevirtual 137, 3) := dk_182 0 137 (dk_at dksX0_poursKept_0 2 rfl rfl)
theorem dX0_poursKept_5 : decode cX0_poursKept 5 = .ok (.iload_n 1, 1) := dk_27 (dk_at dksX0_poursKept_0 5 rfl rfl)
theorem dX0_poursKept_6 : decode cX0_poursKept 6 = .ok (.iload_n 2, 1) := dk_28 (dk_at dksX0_poursKept_0 6 rfl rfl)
theorem dX0_poursKept_7 : decode cX0_poursKept 7 = .ok (.invokevirtual 321, 3) := dk_182 1 65 (dk_at dksX0_poursKept_0 7 rfl rfl)
theorem dX0_poursKept_10 : decode cX0_poursKept 10 = .ok (.istore_n 3, 1) := dk_62 (dk_at dksX0_poursKept_0 10 rfl rfl)
theorem dX0_poursKept_11 : decode cX0_poursKept 11 = .ok (.iload_n 3, 1) := dk_29 (dk_at dksX0_poursKept_0 11 rfl rfl)
theorem dX0_poursKept_12 : decode cX0_poursKept 12 = .ok (.ifCond .ge 5, 3) := dk_156 0 5 (dk_at dksX0_poursKept_0 12 rfl rfl)
theorem dX0_poursKept_15 : decode cX0_poursKept 15 = .ok (.iload_n 3, 1) := dk_29 (dk_at dksX0_poursKept_0 15 rfl rfl)
theorem dX0_poursKept_16 : decode cX0_poursKept 16 = .ok (.ireturn, 1) := dk_172 (dk_at dksX0_poursKept_0 16 rfl rfl)
theorem dX0_poursKept_17 : decode cX0_poursKept 17 = .ok (.aload_n 0, 1) := dk_42 (dk_at dksX0_poursKept_0 17 rfl rfl)
theorem dX0_poursKept_18 : decode cX0_poursKept 18 = .ok (.iconst 0, 1) := dk_3 (dk_at dksX0_poursKept_0 18 rfl rfl)
theorem dX0_poursKept_19 : decode cX0_poursKept 19 = .ok (.invokevirtual 325, 3) := dk_182 1 69 (dk_at dksX0_poursKept_0 19 rfl rfl)
theorem dX0_poursKept_22 : decode cX0_poursKept 22 = .ok (.aload_n 0, 1) := dk_42 (dk_at dksX0_poursKept_0 22 rfl rfl)
theorem dX0_poursKept_23 : decode cX0_poursKept 23 = .ok (.aload_n 0, 1) := dk_42 (dk_at dksX0_poursKept_0 23 rfl rfl)
theorem dX0_poursKept_24 : decode cX0_poursKept 24 = .ok (.invokevirtual 137, 3) := dk_182 0 137 (dk_at dksX0_poursKept_1 0 rfl rfl)
theorem dX0_poursKept_27 : decode cX0_poursKept 27 = .ok (.iload_n 1, 1) := dk_27 (dk_at dksX0_poursKept_1 3 rfl rfl)
theorem dX0_poursKept_28 : decode cX0_poursKept 28 = .ok (.iload_n 2, 1) := dk_28 (dk_at dksX0_poursKept_1 4 rfl rfl)
theorem dX0_poursKept_29 : decode cX0_poursKept 29 = .ok (.invokevirtual 328, 3) := dk_182 1 72 (dk_at dksX0_poursKept_1 5 rfl rfl)
theorem dX0_poursKept_32 : decode cX0_poursKept 32 = .ok (.ireturn, 1) := dk_172 (dk_at dksX0_poursKept_1 8 rfl rfl)
abbrev cX0_canPour : ByteArray := prog_1_method_41_code
def yX0_canPour : MethodName := ⟨RX0, "canPour", "(LSoleraCellar$Table;II)I"⟩
def dkwX0_canPour_1 : List UInt8 := [182, 1, 34, 153, 0, 7, 3, 167, 0, 5, 16, 253, 172]
abbrev dktX0_canPour_1 : List UInt8 := dkwX0_canPour_1 ++ []
def dkwX0_canPour_0 : List UInt8 := [42, 28, 29, 182, 1, 31, 54, 4, 21, 4, 156, 0, 8, 21, 4, 167, 0, 19, 42, 43, 28, 29]
abbrev dktX0_canPour_0 : List UInt8 := dkwX0_canPour_0 ++ dktX0_canPour_1
theorem dksX0_canPour_0 : cX0_canPour.data.toList.drop 0 = dktX0_canPour_0 := by decide +kernel
theorem dksX0_canPour_1 : cX0_canPour.data.toList.drop 22 = dktX0_canPour_1 := dk_seg dksX0_canPour_0 22 rfl rfl
theorem dX0_canPour_0 : decode cX0_canPour 0 = .ok (.aload_n 0, 1) := dk_42 (dk_at dksX0_canPour_0 0 rfl rfl)
theorem dX0_canPour_1 : decode cX0_canPour 1 = .ok (.iload_n 2, 1) := dk_28 (dk_at dksX0_canPour_0 1 rfl rfl)
theorem dX0_canPour_2 : decode cX0_canPour 2 = .ok (.iload_n 3, 1) := dk_29 (dk_at dksX0_canPour_0 2 rfl rfl)
theorem dX0_canPour_3 : decode cX0_canPour 3 = .ok (.invokevirtual 287, 3) := dk_182 1 31 (dk_at dksX0_canPour_0 3 rfl rfl)
theorem dX0_canPour_6 : decode cX0_canPour 6 = .ok (.istore 4, 2) := dk_54 4 (dk_at dksX0_canPour_0 6 rfl rfl)
theorem dX0_canPour_8 : decode cX0_canPour 8 = .ok (.iload 4, 2) := dk_21 4 (dk_at dksX0_canPour_0 8 rfl rfl)
theorem dX0_canPour_10 : decode cX0_canPour 10 = .ok (.ifCond .ge 8, 3) := dk_156 0 8 (dk_at dksX0_canPour_0 10 rfl rfl)
theorem dX0_canPour_13 : decode cX0_canPour 13 = .ok (.iload 4, 2) := dk_21 4 (dk_at dksX0_canPour_0 13 rfl rfl)
theorem dX0_canPour_15 : decode cX0_canPour 15 = .ok (.goto 19, 3) := dk_167 0 19 (dk_at dksX0_canPour_0 15 rfl rfl)
theorem dX0_canPour_18 : decode cX0_canPour 18 = .ok (.aload_n 0, 1) := dk_42 (dk_at dksX0_canPour_0 18 rfl rfl)
theorem dX0_canPour_19 : decode cX0_canPour 19 = .ok (.aload_n 1, 1) := dk_43 (dk_at dksX0_canPour_0 19 rfl rfl)
theorem dX0_canPour_20 : decode cX0_canPour 20 = .ok (.iload_n 2, 1) := dk_28 (dk_at dksX0_canPour_0 20 rfl rfl)
theorem dX0_canPour_21 : decode cX0_canPour 21 = .ok (.iload_n 3, 1) := dk_29 (dk_at dksX0_canPour_0 21 rfl rfl)
theorem dX0_canPour_22 : decode cX0_canPour 22 = .ok (.invokevirtual 290, 3) := dk_182 1 34 (dk_at dksX0_canPour_1 0 rfl rfl)
theorem dX0_canPour_25 : decode cX0_canPour 25 = .ok (.ifCond .eq 7, 3) := dk_153 0 7 (dk_at dksX0_canPour_1 3 rfl rfl)
theorem dX0_canPour_28 : decode cX0_canPour 28 = .ok (.iconst 0, 1) := dk_3 (dk_at dksX0_canPour_1 6 rfl rfl)
theorem dX0_canPour_29 : decode cX0_canPour 29 = .ok (.goto 5, 3) := dk_167 0 5 (dk_at dksX0_canPour_1 7 rfl rfl)
theorem dX0_canPour_32 : decode cX0_canPour 32 = .ok (.bipush (-3), 2) := dk_16 253 (dk_at dksX0_canPour_1 10 rfl rfl)
theorem dX0_canPour_34 : decode cX0_canPour 34 = .ok (.ireturn, 1) := dk_172 (dk_at dksX0_canPour_1 12 rfl rfl)
abbrev cX0_checks : ByteArray := prog_1_method_40_code
def yX0_checks : MethodName := ⟨RX0, "checks", "(II)I"⟩
def dkwX0_checks_1 : List UInt8 := [16, 254, 167, 0, 4, 3, 172]
abbrev dktX0_checks_1 : List UInt8 := dkwX0_checks_1 ++ []
def dkwX0_checks_0 : List UInt8 := [28, 4, 17, 3, 231, 184, 0, 108, 154, 0, 7, 2, 167, 0, 17, 42, 27, 182, 0, 151, 154, 0, 8]
abbrev dktX0_checks_0 : List UInt8 := dkwX0_checks_0 ++ dktX0_checks_1
theorem dksX0_checks_0 : cX0_checks.data.toList.drop 0 = dktX0_checks_0 := by decide +kernel
theorem dksX0_checks_1 : cX0_checks.data.toList.drop 23 = dktX0_checks_1 := dk_seg dksX0_checks_0 23 rfl rfl
theorem dX0_checks_0 : decode cX0_checks 0 = .ok (.iload_n 2, 1) := dk_28 (dk_at dksX0_checks_0 0 rfl rfl)
theorem dX0_checks_1 : decode cX0_checks 1 = .ok (.iconst 1, 1) := dk_4 (dk_at dksX0_checks_0 1 rfl rfl)
theorem dX0_checks_2 : decode cX0_checks 2 = .ok (.sipush 999, 3) := dk_17 3 231 (dk_at dksX0_checks_0 2 rfl rfl)
theorem dX0_checks_5 : decode cX0_checks 5 = .ok (.invokestatic 108, 3) := dk_184 0 108 (dk_at dksX0_checks_0 5 rfl rfl)
theorem dX0_checks_8 : decode cX0_checks 8 = .ok (.ifCond .ne 7, 3) := dk_154 0 7 (dk_at dksX0_checks_0 8 rfl rfl)
theorem dX0_checks_11 : decode cX0_checks 11 = .ok (.iconst (-1), 1) := dk_2 (dk_at dksX0_checks_0 11 rfl rfl)
theorem dX0_checks_12 : decode cX0_checks 12 = .ok (.goto 17, 3) := dk_167 0 17 (dk_at dksX0_checks_0 12 rfl rfl)
theorem dX0_checks_15 : decode cX0_checks 15 = .ok (.aload_n 0, 1) := dk_42 (dk_at dksX0_checks_0 15 rfl rfl)
theorem dX0_checks_16 : decode cX0_checks 16 = .ok (.iload_n 1, 1) := dk_27 (dk_at dksX0_checks_0 16 rfl rfl)
theorem dX0_checks_17 : decode cX0_checks 17 = .ok (.invokevirtual 151, 3) := dk_182 0 151 (dk_at dksX0_checks_0 17 rfl rfl)
theorem dX0_checks_20 : decode cX0_checks 20 = .ok (.ifCond .ne 8, 3) := dk_154 0 8 (dk_at dksX0_checks_0 20 rfl rfl)
theorem dX0_checks_23 : decode cX0_checks 23 = .ok (.bipush (-2), 2) := dk_16 254 (dk_at dksX0_checks_1 0 rfl rfl)
theorem dX0_checks_25 : decode cX0_checks 25 = .ok (.goto 4, 3) := dk_167 0 4 (dk_at dksX0_checks_1 2 rfl rfl)
theorem dX0_checks_28 : decode cX0_checks 28 = .ok (.iconst 0, 1) := dk_3 (dk_at dksX0_checks_1 5 rfl rfl)
theorem dX0_checks_29 : decode cX0_checks 29 = .ok (.ireturn, 1) := dk_172 (dk_at dksX0_checks_1 6 rfl rfl)
abbrev cX0_hasRoom : ByteArray := prog_1_method_38_code
def yX0_hasRoom : MethodName := ⟨RX0, "hasRoom", "(LSoleraCellar$Table;II)Z"⟩
def dkwX0_hasRoom_1 : List UInt8 := [163, 0, 7, 4, 167, 0, 4, 3, 172]
abbrev dktX0_hasRoom_1 : List UInt8 := dkwX0_hasRoom_1 ++ []
def dkwX0_hasRoom_0 : List UInt8 := [43, 28, 182, 0, 155, 29, 17, 3, 232, 104, 96, 42, 180, 0, 31, 180, 0, 135, 28, 46, 17, 3, 232, 104]
abbrev dktX0_hasRoom_0 : List UInt8 := dkwX0_hasRoom_0 ++ dktX0_hasRoom_1
theorem dksX0_hasRoom_0 : cX0_hasRoom.data.toList.drop 0 = dktX0_hasRoom_0 := by decide +kernel
theorem dksX0_hasRoom_1 : cX0_hasRoom.data.toList.drop 24 = dktX0_hasRoom_1 := dk_seg dksX0_hasRoom_0 24 rfl rfl
theorem dX0_hasRoom_0 : decode cX0_hasRoom 0 = .ok (.aload_n 1, 1) := dk_43 (dk_at dksX0_hasRoom_0 0 rfl rfl)
theorem dX0_hasRoom_1 : decode cX0_hasRoom 1 = .ok (.iload_n 2, 1) := dk_28 (dk_at dksX0_hasRoom_0 1 rfl rfl)
theorem dX0_hasRoom_2 : decode cX0_hasRoom 2 = .ok (.invokevirtual 155, 3) := dk_182 0 155 (dk_at dksX0_hasRoom_0 2 rfl rfl)
theorem dX0_hasRoom_5 : decode cX0_hasRoom 5 = .ok (.iload_n 3, 1) := dk_29 (dk_at dksX0_hasRoom_0 5 rfl rfl)
theorem dX0_hasRoom_6 : decode cX0_hasRoom 6 = .ok (.sipush 1000, 3) := dk_17 3 232 (dk_at dksX0_hasRoom_0 6 rfl rfl)
theorem dX0_hasRoom_9 : decode cX0_hasRoom 9 = .ok (.imul, 1) := dk_104 (dk_at dksX0_hasRoom_0 9 rfl rfl)
theorem dX0_hasRoom_10 : decode cX0_hasRoom 10 = .ok (.iadd, 1) := dk_96 (dk_at dksX0_hasRoom_0 10 rfl rfl)
theorem dX0_hasRoom_11 : decode cX0_hasRoom 11 = .ok (.aload_n 0, 1) := dk_42 (dk_at dksX0_hasRoom_0 11 rfl rfl)
theorem dX0_hasRoom_12 : decode cX0_hasRoom 12 = .ok (.getfield 31, 3) := dk_180 0 31 (dk_at dksX0_hasRoom_0 12 rfl rfl)
theorem dX0_hasRoom_15 : decode cX0_hasRoom 15 = .ok (.getfield 135, 3) := dk_180 0 135 (dk_at dksX0_hasRoom_0 15 rfl rfl)
theorem dX0_hasRoom_18 : decode cX0_hasRoom 18 = .ok (.iload_n 2, 1) := dk_28 (dk_at dksX0_hasRoom_0 18 rfl rfl)
theorem dX0_hasRoom_19 : decode cX0_hasRoom 19 = .ok (.iaload, 1) := dk_46 (dk_at dksX0_hasRoom_0 19 rfl rfl)
theorem dX0_hasRoom_20 : decode cX0_hasRoom 20 = .ok (.sipush 1000, 3) := dk_17 3 232 (dk_at dksX0_hasRoom_0 20 rfl rfl)
theorem dX0_hasRoom_23 : decode cX0_hasRoom 23 = .ok (.imul, 1) := dk_104 (dk_at dksX0_hasRoom_0 23 rfl rfl)
theorem dX0_hasRoom_24 : decode cX0_hasRoom 24 = .ok (.if_icmp .gt 7, 3) := dk_163 0 7 (dk_at dksX0_hasRoom_1 0 rfl rfl)
theorem dX0_hasRoom_27 : decode cX0_hasRoom 27 = .ok (.iconst 1, 1) := dk_4 (dk_at dksX0_hasRoom_1 3 rfl rfl)
theorem dX0_hasRoom_28 : decode cX0_hasRoom 28 = .ok (.goto 4, 3) := dk_167 0 4 (dk_at dksX0_hasRoom_1 4 rfl rfl)
theorem dX0_hasRoom_31 : decode cX0_hasRoom 31 = .ok (.iconst 0, 1) := dk_3 (dk_at dksX0_hasRoom_1 7 rfl rfl)
theorem dX0_hasRoom_32 : decode cX0_hasRoom 32 = .ok (.ireturn, 1) := dk_172 (dk_at dksX0_hasRoom_1 8 rfl rfl)
abbrev cX0_keeps : ByteArray := prog_1_method_48_code
def yX0_keeps : MethodName := ⟨RX0, "keeps", "(I)V"⟩
def dkwX0_keeps_4 : List UInt8 := [42, 180, 0, 48, 42, 180, 0, 98, 27, 79, 42, 89, 180, 0, 98, 4, 96, 181, 0, 98, 177]
abbrev dktX0_keeps_4 : List UInt8 := dkwX0_keeps_4 ++ []
def dkwX0_keeps_3 : List UInt8 := [180, 0, 98, 4, 100, 181, 0, 98, 42, 180, 0, 41, 42, 180, 0, 98, 50, 42, 182, 0, 137, 182, 1, 62]
abbrev dktX0_keeps_3 : List UInt8 := dkwX0_keeps_3 ++ dktX0_keeps_4
def dkwX0_keeps_2 : List UInt8 := [180, 0, 48, 29, 46, 79, 132, 3, 1, 167, 255, 219, 42, 180, 0, 41, 16, 15, 44, 83, 42, 89]
abbrev dktX0_keeps_2 : List UInt8 := dkwX0_keeps_2 ++ dktX0_keeps_3
def dkwX0_keeps_1 : List UInt8 := [42, 180, 0, 41, 29, 4, 100, 42, 180, 0, 41, 29, 50, 83, 42, 180, 0, 48, 29, 4, 100, 42]
abbrev dktX0_keeps_1 : List UInt8 := dkwX0_keeps_1 ++ dktX0_keeps_2
def dkwX0_keeps_0 : List UInt8 := [42, 180, 0, 98, 16, 16, 160, 0, 70, 42, 180, 0, 41, 3, 50, 77, 4, 62, 29, 16, 16, 162, 0, 37]
abbrev dktX0_keeps_0 : List UInt8 := dkwX0_keeps_0 ++ dktX0_keeps_1
theorem dksX0_keeps_0 : cX0_keeps.data.toList.drop 0 = dktX0_keeps_0 := by decide +kernel
theorem dksX0_keeps_1 : cX0_keeps.data.toList.drop 24 = dktX0_keeps_1 := dk_seg dksX0_keeps_0 24 rfl rfl
theorem dksX0_keeps_2 : cX0_keeps.data.toList.drop 46 = dktX0_keeps_2 := dk_seg dksX0_keeps_1 22 rfl rfl
theorem dksX0_keeps_3 : cX0_keeps.data.toList.drop 68 = dktX0_keeps_3 := dk_seg dksX0_keeps_2 22 rfl rfl
theorem dksX0_keeps_4 : cX0_keeps.data.toList.drop 92 = dktX0_keeps_4 := dk_seg dksX0_keeps_3 24 rfl rfl
theorem dX0_keeps_0 : decode cX0_keeps 0 = .ok (.aload_n 0, 1) := dk_42 (dk_at dksX0_keeps_0 0 rfl rfl)
theorem dX0_keeps_1 : decode cX0_keeps 1 = .ok (.getfield 98, 3) := dk_180 0 98 (dk_at dksX0_keeps_0 1 rfl rfl)
theorem dX0_keeps_4 : decode cX0_keeps 4 = .ok (.bipush 16, 2) := dk_16 16 (dk_at dksX0_keeps_0 4 rfl rfl)
theorem dX0_keeps_6 : decode cX0_keeps 6 = .ok (.if_icmp .ne 70, 3) := dk_160 0 70 (dk_at dksX0_keeps_0 6 rfl rfl)
theorem dX0_keeps_9 : decode cX0_keeps 9 = .ok (.aload_n 0, 1) := dk_42 (dk_at dksX0_keeps_0 9 rfl rfl)
theorem dX0_keeps_10 : decode cX0_keeps 10 = .ok (.getfield 41, 3) := dk_180 0 41 (dk_at dksX0_keeps_0 10 rfl rfl)
theorem dX0_keeps_13 : decode cX0_keeps 13 = .ok (.iconst 0, 1) := dk_3 (dk_at dksX0_keeps_0 13 rfl rfl)
theorem dX0_keeps_14 : decode cX0_keeps 14 = .ok (.aaload, 1) := dk_50 (dk_at dksX0_keeps_0 14 rfl rfl)
theorem dX0_keeps_15 : decode cX0_keeps 15 = .ok (.astore_n 2, 1) := dk_77 (dk_at dksX0_keeps_0 15 rfl rfl)
theorem dX0_keeps_16 : decode cX0_keeps 16 = .ok (.iconst 1, 1) := dk_4 (dk_at dksX0_keeps_0 16 rfl rfl)
theorem dX0_keeps_17 : decode cX0_keeps 17 = .ok (.istore_n 3, 1) := dk_62 (dk_at dksX0_keeps_0 17 rfl rfl)
theorem dX0_keeps_18 : decode cX0_keeps 18 = .ok (.iload_n 3, 1) := dk_29 (dk_at dksX0_keeps_0 18 rfl rfl)
theorem dX0_keeps_19 : decode cX0_keeps 19 = .ok (.bipush 16, 2) := dk_16 16 (dk_at dksX0_keeps_0 19 rfl rfl)
theorem dX0_keeps_21 : decode cX0_keeps 21 = .ok (.if_icmp .ge 37, 3) := dk_162 0 37 (dk_at dksX0_keeps_0 21 rfl rfl)
theorem dX0_keeps_24 : decode cX0_keeps 24 = .ok (.aload_n 0, 1) := dk_42 (dk_at dksX0_keeps_1 0 rfl rfl)
theorem dX0_keeps_25 : decode cX0_keeps 25 = .ok (.getfield 41, 3) := dk_180 0 41 (dk_at dksX0_keeps_1 1 rfl rfl)
theorem dX0_keeps_28 : decode cX0_keeps 28 = .ok (.iload_n 3, 1) := dk_29 (dk_at dksX0_keeps_1 4 rfl rfl)
theorem dX0_keeps_29 : decode cX0_keeps 29 = .ok (.iconst 1, 1) := dk_4 (dk_at dksX0_keeps_1 5 rfl rfl)
theorem dX0_keeps_30 : decode cX0_keeps 30 = .ok (.isub, 1) := dk_100 (dk_at dksX0_keeps_1 6 rfl rfl)
theorem dX0_keeps_31 : decode cX0_keeps 31 = .ok (.aload_n 0, 1) := dk_42 (dk_at dksX0_keeps_1 7 rfl rfl)
theorem dX0_keeps_32 : decode cX0_keeps 32 = .ok (.getfield 41, 3) := dk_180 0 41 (dk_at dksX0_keeps_1 8 rfl rfl)
theorem dX0_keeps_35 : decode cX0_keeps 35 = .ok (.iload_n 3, 1) := dk_29 (dk_at dksX0_keeps_1 11 rfl rfl)
theorem dX0_keeps_36 : decode cX0_keeps 36 = .ok (.aaload, 1) := dk_50 (dk_at dksX0_keeps_1 12 rfl rfl)
theorem dX0_keeps_37 : decode cX0_keeps 37 = .ok (.aastore, 1) := dk_83 (dk_at dksX0_keeps_1 13 rfl rfl)
theorem dX0_keeps_38 : decode cX0_keeps 38 = .ok (.aload_n 0, 1) := dk_42 (dk_at dksX0_keeps_1 14 rfl rfl)
theorem dX0_keeps_39 : decode cX0_keeps 39 = .ok (.getfield 48, 3) := dk_180 0 48 (dk_at dksX0_keeps_1 15 rfl rfl)
theorem dX0_keeps_42 : decode cX0_keeps 42 = .ok (.iload_n 3, 1) := dk_29 (dk_at dksX0_keeps_1 18 rfl rfl)
theorem dX0_keeps_43 : decode cX0_keeps 43 = .ok (.iconst 1, 1) := dk_4 (dk_at dksX0_keeps_1 19 rfl rfl)
theorem dX0_keeps_44 : decode cX0_keeps 44 = .ok (.isub, 1) := dk_100 (dk_at dksX0_keeps_1 20 rfl rfl)
theorem dX0_keeps_45 : decode cX0_keeps 45 = .ok (.aload_n 0, 1) := dk_42 (dk_at dksX0_keeps_1 21 rfl rfl)
theorem dX0_keeps_46 : decode cX0_keeps 46 = .ok (.getfield 48, 3) := dk_180 0 48 (dk_at dksX0_keeps_2 0 rfl rfl)
theorem dX0_keeps_49 : decode cX0_keeps 49 = .ok (.iload_n 3, 1) := dk_29 (dk_at dksX0_keeps_2 3 rfl rfl)
theorem dX0_keeps_50 : decode cX0_keeps 50 = .ok (.iaload, 1) := dk_46 (dk_at dksX0_keeps_2 4 rfl rfl)
theorem dX0_keeps_51 : decode cX0_keeps 51 = .ok (.iastore, 1) := dk_79 (dk_at dksX0_keeps_2 5 rfl rfl)
theorem dX0_keeps_52 : decode cX0_keeps 52 = .ok (.iinc 3 1, 3) := dk_132 3 1 (dk_at dksX0_keeps_2 6 rfl rfl)
theorem dX0_keeps_55 : decode cX0_keeps 55 = .ok (.goto (-37), 3) := dk_167 255 219 (dk_at dksX0_keeps_2 9 rfl rfl)
theorem dX0_keeps_58 : decode cX0_keeps 58 = .ok (.aload_n 0, 1) := dk_42 (dk_at dksX0_keeps_2 12 rfl rfl)
theorem dX0_keeps_59 : decode cX0_keeps 59 = .ok (.getfield 41, 3) := dk_180 0 41 (dk_at dksX0_keeps_2 13 rfl rfl)
theorem dX0_keeps_62 : decode cX0_keeps 62 = .ok (.bipush 15, 2) := dk_16 15 (dk_at dksX0_keeps_2 16 rfl rfl)
theorem dX0_keeps_64 : decode cX0_keeps 64 = .ok (.aload_n 2, 1) := dk_44 (dk_at dksX0_keeps_2 18 rfl rfl)
theorem dX0_keeps_65 : decode cX0_keeps 65 = .ok (.aastore, 1) := dk_83 (dk_at dksX0_keeps_2 19 rfl rfl)
theorem dX0_keeps_66 : decode cX0_keeps 66 = .ok (.aload_n 0, 1) := dk_42 (dk_at dksX0_keeps_2 20 rfl rfl)
theorem dX0_keeps_67 : decode cX0_keeps 67 = .ok (.dup, 1) := dk_89 (dk_at dksX0_keeps_2 21 rfl rfl)
theorem dX0_keeps_68 : decode cX0_keeps 68 = .ok (.getfield 98, 3) := dk_180 0 98 (dk_at dksX0_keeps_3 0 rfl rfl)
theorem dX0_keeps_71 : decode cX0_keeps 71 = .ok (.iconst 1, 1) := dk_4 (dk_at dksX0_keeps_3 3 rfl rfl)
theorem dX0_keeps_72 : decode cX0_keeps 72 = .ok (.isub, 1) := dk_100 (dk_at dksX0_keeps_3 4 rfl rfl)
theorem dX0_keeps_73 : decode cX0_keeps 73 = .ok (.putfield 98, 3) := dk_181 0 98 (dk_at dksX0_keeps_3 5 rfl rfl)
theorem dX0_keeps_76 : decode cX0_keeps 76 = .ok (.aload_n 0, 1) := dk_42 (dk_at dksX0_keeps_3 8 rfl rfl)
theorem dX0_keeps_77 : decode cX0_keeps 77 = .ok (.getfield 41, 3) := dk_180 0 41 (dk_at dksX0_keeps_3 9 rfl rfl)
theorem dX0_keeps_80 : decode cX0_keeps 80 = .ok (.aload_n 0, 1) := dk_42 (dk_at dksX0_keeps_3 12 rfl rfl)
theorem dX0_keeps_81 : decode cX0_keeps 81 = .ok (.getfield 98, 3) := dk_180 0 98 (dk_at dksX0_keeps_3 13 rfl rfl)
theorem dX0_keeps_84 : decode cX0_keeps 84 = .ok (.aaload, 1) := dk_50 (dk_at dksX0_keeps_3 16 rfl rfl)
theorem dX0_keeps_85 : decode cX0_keeps 85 = .ok (.aload_n 0, 1) := dk_42 (dk_at dksX0_keeps_3 17 rfl rfl)
theorem dX0_keeps_86 : decode cX0_keeps 86 = .ok (.invokevirtual 137, 3) := dk_182 0 137 (dk_at dksX0_keeps_3 18 rfl rfl)
theorem dX0_keeps_89 : decode cX0_keeps 89 = .ok (.invokevirtual 318, 3) := dk_182 1 62 (dk_at dksX0_keeps_3 21 rfl rfl)
theorem dX0_keeps_92 : decode cX0_keeps 92 = .ok (.aload_n 0, 1) := dk_42 (dk_at dksX0_keeps_4 0 rfl rfl)
theorem dX0_keeps_93 : decode cX0_keeps 93 = .ok (.getfield 48, 3) := dk_180 0 48 (dk_at dksX0_keeps_4 1 rfl rfl)
theorem dX0_keeps_96 : decode cX0_keeps 96 = .ok (.aload_n 0, 1) := dk_42 (dk_at dksX0_keeps_4 4 rfl rfl)
theorem dX0_keeps_97 : decode cX0_keeps 97 = .ok (.getfield 98, 3) := dk_180 0 98 (dk_at dksX0_keeps_4 5 rfl rfl)
theorem dX0_keeps_100 : decode cX0_keeps 100 = .ok (.iload_n 1, 1) := dk_27 (dk_at dksX0_keeps_4 8 rfl rfl)
theorem dX0_keeps_101 : decode cX0_keeps 101 = .ok (.iastore, 1) := dk_79 (dk_at dksX0_keeps_4 9 rfl rfl)
theorem dX0_keeps_102 : decode cX0_keeps 102 = .ok (.aload_n 0, 1) := dk_42 (dk_at dksX0_keeps_4 10 rfl rfl)
theorem dX0_keeps_103 : decode cX0_keeps 103 = .ok (.dup, 1) := dk_89 (dk_at dksX0_keeps_4 11 rfl rfl)
theorem dX0_keeps_104 : decode cX0_keeps 104 = .ok (.getfield 98, 3) := dk_180 0 98 (dk_at dksX0_keeps_4 12 rfl rfl)
theorem dX0_keeps_107 : decode cX0_keeps 107 = .ok (.iconst 1, 1) := dk_4 (dk_at dksX0_keeps_4 15 rfl rfl)
theorem dX0_keeps_108 : decode cX0_keeps 108 = .ok (.iadd, 1) := dk_96 (dk_at dksX0_keeps_4 16 rfl rfl)
theorem dX0_keeps_109 : decode cX0_keeps 109 = .ok (.putfield 98, 3) := dk_181 0 98 (dk_at dksX0_keeps_4 17 rfl rfl)
theorem dX0_keeps_112 : decode cX0_keeps 112 = .ok (.return_, 1) := dk_177 (dk_at dksX0_keeps_4 20 rfl rfl)
abbrev cX0_pours : ByteArray := prog_1_method_44_code
def yX0_pours : MethodName := ⟨RX0, "pours", "(LSoleraCellar$Table;II)I"⟩
def dkwX0_pours_0 : List UInt8 := [43, 180, 0, 140, 16, 20, 28, 104, 92, 46, 29, 17, 3, 232, 104, 96, 79, 43, 28, 182, 1, 9, 172]
abbrev dktX0_pours_0 : List UInt8 := dkwX0_pours_0 ++ []
theorem dksX0_pours_0 : cX0_pours.data.toList.drop 0 = dktX0_pours_0 := by decide +kernel
theorem dX0_pours_0 : decode cX0_pours 0 = .ok (.aload_n 1, 1) := dk_43 (dk_at dksX0_pours_0 0 rfl rfl)
theorem dX0_pours_1 : decode cX0_pours 1 = .ok (.getfield 140, 3) := dk_180 0 140 (dk_at dksX0_pours_0 1 rfl rfl)
theorem dX0_pours_4 : decode cX0_pours 4 = .ok (.bipush 20, 2) := dk_16 20 (dk_at dksX0_pours_0 4 rfl rfl)
theorem dX0_pours_6 : decode cX0_pours 6 = .ok (.iload_n 2, 1) := dk_28 (dk_at dksX0_pours_0 6 rfl rfl)
theorem dX0_pours_7 : decode cX0_pours 7 = .ok (.imul, 1) := dk_104 (dk_at dksX0_pours_0 7 rfl rfl)
theorem dX0_pours_8 : decode cX0_pours 8 = .ok (.dup2, 1) := dk_92 (dk_at dksX0_pours_0 8 rfl rfl)
theorem dX0_pours_9 : decode cX0_pours 9 = .ok (.iaload, 1) := dk_46 (dk_at dksX0_pours_0 9 rfl rfl)
theorem dX0_pours_10 : decode cX0_pours 10 = .ok (.iload_n 3, 1) := dk_29 (dk_at dksX0_pours_0 10 rfl rfl)
theorem dX0_pours_11 : decode cX0_pours 11 = .ok (.sipush 1000, 3) := dk_17 3 232 (dk_at dksX0_pours_0 11 rfl rfl)
theorem dX0_pours_14 : decode cX0_pours 14 = .ok (.imul, 1) := dk_104 (dk_at dksX0_pours_0 14 rfl rfl)
theorem dX0_pours_15 : decode cX0_pours 15 = .ok (.iadd, 1) := dk_96 (dk_at dksX0_pours_0 15 rfl rfl)
theorem dX0_pours_16 : decode cX0_pours 16 = .ok (.iastore, 1) := dk_79 (dk_at dksX0_pours_0 16 rfl rfl)
theorem dX0_pours_17 : decode cX0_pours 17 = .ok (.aload_n 1, 1) := dk_43 (dk_at dksX0_pours_0 17 rfl rfl)
theorem dX0_pours_18 : decode cX0_pours 18 = .ok (.iload_n 2, 1) := dk_28 (dk_at dksX0_pours_0 18 rfl rfl)
theorem dX0_pours_19 : decode cX0_pours 19 = .ok (.invokevirtual 265, 3) := dk_182 1 9 (dk_at dksX0_pours_0 19 rfl rfl)
theorem dX0_pours_22 : decode cX0_pours 22 = .ok (.ireturn, 1) := dk_172 (dk_at dksX0_pours_0 22 rfl rfl)
abbrev cX0_doneOr : ByteArray := prog_1_method_53_code
def yX0_doneOr : MethodName := ⟨RX0, "doneOr", "(I)I"⟩
def dkwX0_doneOr_0 : List UInt8 := [27, 156, 0, 11, 42, 27, 182, 0, 122, 167, 0, 8, 42, 27, 182, 0, 101, 172]
abbrev dktX0_doneOr_0 : List UInt8 := dkwX0_doneOr_0 ++ []
theorem dksX0_doneOr_0 : cX0_doneOr.data.toList.drop 0 = dktX0_doneOr_0 := by decide +kernel
theorem dX0_doneOr_0 : decode cX0_doneOr 0 = .ok (.iload_n 1, 1) := dk_27 (dk_at dksX0_doneOr_0 0 rfl rfl)
theorem dX0_doneOr_1 : decode cX0_doneOr 1 = .ok (.ifCond .ge 11, 3) := dk_156 0 11 (dk_at dksX0_doneOr_0 1 rfl rfl)
theorem dX0_doneOr_4 : decode cX0_doneOr 4 = .ok (.aload_n 0, 1) := dk_42 (dk_at dksX0_doneOr_0 4 rfl rfl)
theorem dX0_doneOr_5 : decode cX0_doneOr 5 = .ok (.iload_n 1, 1) := dk_27 (dk_at dksX0_doneOr_0 5 rfl rfl)
theorem dX0_doneOr_6 : decode cX0_doneOr 6 = .ok (.invokevirtual 122, 3) := dk_182 0 122 (dk_at dksX0_doneOr_0 6 rfl rfl)
theorem dX0_doneOr_9 : decode cX0_doneOr 9 = .ok (.goto 8, 3) := dk_167 0 8 (dk_at dksX0_doneOr_0 9 rfl rfl)
theorem dX0_doneOr_12 : decode cX0_doneOr 12 = .ok (.aload_n 0, 1) := dk_42 (dk_at dksX0_doneOr_0 12 rfl rfl)
theorem dX0_doneOr_13 : decode cX0_doneOr 13 = .ok (.iload_n 1, 1) := dk_27 (dk_at dksX0_doneOr_0 13 rfl rfl)
theorem dX0_doneOr_14 : decode cX0_doneOr 14 = .ok (.invokevirtual 101, 3) := dk_182 0 101 (dk_at dksX0_doneOr_0 14 rfl rfl)
theorem dX0_doneOr_17 : decode cX0_doneOr 17 = .ok (.ireturn, 1) := dk_172 (dk_at dksX0_doneOr_0 17 rfl rfl)
abbrev cX0_rack : ByteArray := prog_1_method_55_code
def yX0_rack : MethodName := ⟨RX0, "rack", "(III)I"⟩
def dkwX0_rack_0 : List UInt8 := [42, 42, 27, 28, 29, 182, 1, 98, 182, 1, 95, 172]
abbrev dktX0_rack_0 : List UInt8 := dkwX0_rack_0 ++ []
theorem dksX0_rack_0 : cX0_rack.data.toList.drop 0 = dktX0_rack_0 := by decide +kernel
theorem dX0_rack_0 : decode cX0_rack 0 = .ok (.aload_n 0, 1) := dk_42 (dk_at dksX0_rack_0 0 rfl rfl)
theorem dX0_rack_1 : decode cX0_rack 1 = .ok (.aload_n 0, 1) := dk_42 (dk_at dksX0_rack_0 1 rfl rfl)
theorem dX0_rack_2 : decode cX0_rack 2 = .ok (.iload_n 1, 1) := dk_27 (dk_at dksX0_rack_0 2 rfl rfl)
theorem dX0_rack_3 : decode cX0_rack 3 = .ok (.iload_n 2, 1) := dk_28 (dk_at dksX0_rack_0 3 rfl rfl)
theorem dX0_rack_4 : decode cX0_rack 4 = .ok (.iload_n 3, 1) := dk_29 (dk_at dksX0_rack_0 4 rfl rfl)
theorem dX0_rack_5 : decode cX0_rack 5 = .ok (.invokevirtual 354, 3) := dk_182 1 98 (dk_at dksX0_rack_0 5 rfl rfl)
theorem dX0_rack_8 : decode cX0_rack 8 = .ok (.invokevirtual 351, 3) := dk_182 1 95 (dk_at dksX0_rack_0 8 rfl rfl)
theorem dX0_rack_11 : decode cX0_rack 11 = .ok (.ireturn, 1) := dk_172 (dk_at dksX0_rack_0 11 rfl rfl)
abbrev cX0_racksKept : ByteArray := prog_1_method_50_code
def yX0_racksKept : MethodName := ⟨RX0, "racksKept", "(III)I"⟩
def dkwX0_racksKept_1 : List UInt8 := [182, 1, 69, 42, 42, 182, 0, 137, 27, 28, 29, 182, 1, 79, 172]
abbrev dktX0_racksKept_1 : List UInt8 := dkwX0_racksKept_1 ++ []
def dkwX0_racksKept_0 : List UInt8 := [42, 42, 182, 0, 137, 27, 28, 29, 182, 1, 75, 54, 4, 21, 4, 156, 0, 6, 21, 4, 172, 42, 4]
abbrev dktX0_racksKept_0 : List UInt8 := dkwX0_racksKept_0 ++ dktX0_racksKept_1
theorem dksX0_racksKept_0 : cX0_racksKept.data.toList.drop 0 = dktX0_racksKept_0 := by decide +kernel
theorem dksX0_racksKept_1 : cX0_racksKept.data.toList.drop 23 = dktX0_racksKept_1 := dk_seg dksX0_racksKept_0 23 rfl rfl
theorem dX0_racksKept_0 : decode cX0_racksKept 0 = .ok (.aload_n 0, 1) := dk_42 (dk_at dksX0_racksKept_0 0 rfl rfl)
theorem dX0_racksKept_1 : decode cX0_racksKept 1 = .ok (.aload_n 0, 1) := dk_42 (dk_at dksX0_racksKept_0 1 rfl rfl)
theorem dX0_racksKept_2 : decode cX0_racksKept 2 = .ok (.invokevirtual 137, 3) := dk_182 0 137 (dk_at dksX0_racksKept_0 2 rfl rfl)
theorem dX0_racksKept_5 : decode cX0_racksKept 5 = .ok (.iload_n 1, 1) := dk_27 (dk_at dksX0_racksKept_0 5 rfl rfl)
theorem dX0_racksKept_6 : decode cX0_racksKept 6 = .ok (.iload_n 2, 1) := dk_28 (dk_at dksX0_racksKept_0 6 rfl rfl)
theorem dX0_racksKept_7 : decode cX0_racksKept 7 = .ok (.iload_n 3, 1) := dk_29 (dk_at dksX0_racksKept_0 7 rfl rfl)
theorem dX0_racksKept_8 : decode cX0_racksKept 8 = .ok (.invokevirtual 331, 3) := dk_182 1 75 (dk_at dksX0_racksKept_0 8 rfl rfl)
theorem dX0_racksKept_11 : decode cX0_racksKept 11 = .ok (.istore 4, 2) := dk_54 4 (dk_at dksX0_racksKept_0 11 rfl rfl)
theorem dX0_racksKept_13 : decode cX0_racksKept 13 = .ok (.iload 4, 2) := dk_21 4 (dk_at dksX0_racksKept_0 13 rfl rfl)
theorem dX0_racksKept_15 : decode cX0_racksKept 15 = .ok (.ifCond .ge 6, 3) := dk_156 0 6 (dk_at dksX0_racksKept_0 15 rfl rfl)
theorem dX0_racksKept_18 : decode cX0_racksKept 18 = .ok (.iload 4, 2) := dk_21 4 (dk_at dksX0_racksKept_0 18 rfl rfl)
theorem dX0_racksKept_20 : decode cX0_racksKept 20 = .ok (.ireturn, 1) := dk_172 (dk_at dksX0_racksKept_0 20 rfl rfl)
theorem dX0_racksKept_21 : decode cX0_racksKept 21 = .ok (.aload_n 0, 1) := dk_42 (dk_at dksX0_racksKept_0 21 rfl rfl)
theorem dX0_racksKept_22 : decode cX0_racksKept 22 = .ok (.iconst 1, 1) := dk_4 (dk_at dksX0_racksKept_0 22 rfl rfl)
theorem dX0_racksKept_23 : decode cX0_racksKept 23 = .ok (.invokevirtual 325, 3) := dk_182 1 69 (dk_at dksX0_racksKept_1 0 rfl rfl)
theorem dX0_racksKept_26 : decode cX0_racksKept 26 = .ok (.aload_n 0, 1) := dk_42 (dk_at dksX0_racksKept_1 3 rfl rfl)
theorem dX0_racksKept_27 : decode cX0_racksKept 27 = .ok (.aload_n 0, 1) := dk_42 (dk_at dksX0_racksKept_1 4 rfl rfl)
theorem dX0_racksKept_28 : decode cX0_racksKept 28 = .ok (.invokevirtual 137, 3) := dk_182 0 137 (dk_at dksX0_racksKept_1 5 rfl rfl)
theorem dX0_racksKept_31 : decode cX0_racksKept 31 = .ok (.iload_n 1, 1) := dk_27 (dk_at dksX0_racksKept_1 8 rfl rfl)
theorem dX0_racksKept_32 : decode cX0_racksKept 32 = .ok (.iload_n 2, 1) := dk_28 (dk_at dksX0_racksKept_1 9 rfl rfl)
theorem dX0_racksKept_33 : decode cX0_racksKept 33 = .ok (.iload_n 3, 1) := dk_29 (dk_at dksX0_racksKept_1 10 rfl rfl)
theorem dX0_racksKept_34 : decode cX0_racksKept 34 = .ok (.invokevirtual 335, 3) := dk_182 1 79 (dk_at dksX0_racksKept_1 11 rfl rfl)
theorem dX0_racksKept_37 : decode cX0_racksKept 37 = .ok (.ireturn, 1) := dk_172 (dk_at dksX0_racksKept_1 14 rfl rfl)
abbrev cX0_canRack : ByteArray := prog_1_method_42_code
def yX0_canRack : MethodName := ⟨RX0, "canRack", "(LSoleraCellar$Table;III)I"⟩
def dkwX0_canRack_3 : List UInt8 := [182, 0, 175, 154, 0, 18, 42, 43, 29, 21, 4, 182, 1, 34, 153, 0, 7, 3, 167, 0, 5, 16, 253, 172]
abbrev dktX0_canRack_3 : List UInt8 := dkwX0_canRack_3 ++ []
def dkwX0_canRack_2 : List UInt8 := [180, 0, 132, 28, 46, 4, 100, 160, 0, 38, 42, 43, 28, 21, 4, 182, 1, 38, 153, 0, 27, 42, 43, 29]
abbrev dktX0_canRack_2 : List UInt8 := dkwX0_canRack_2 ++ dktX0_canRack_3
def dkwX0_canRack_1 : List UInt8 := [156, 0, 8, 21, 5, 167, 0, 5, 16, 254, 172, 42, 180, 0, 31, 180, 0, 132, 29, 46, 42, 180, 0, 31]
abbrev dktX0_canRack_1 : List UInt8 := dkwX0_canRack_1 ++ dktX0_canRack_2
def dkwX0_canRack_0 : List UInt8 := [42, 28, 21, 4, 182, 1, 31, 54, 5, 21, 5, 155, 0, 11, 42, 29, 182, 0, 151, 154, 0, 16, 21, 5]
abbrev dktX0_canRack_0 : List UInt8 := dkwX0_canRack_0 ++ dktX0_canRack_1
theorem dksX0_canRack_0 : cX0_canRack.data.toList.drop 0 = dktX0_canRack_0 := by decide +kernel
theorem dksX0_canRack_1 : cX0_canRack.data.toList.drop 24 = dktX0_canRack_1 := dk_seg dksX0_canRack_0 24 rfl rfl
theorem dksX0_canRack_2 : cX0_canRack.data.toList.drop 48 = dktX0_canRack_2 := dk_seg dksX0_canRack_1 24 rfl rfl
theorem dksX0_canRack_3 : cX0_canRack.data.toList.drop 72 = dktX0_canRack_3 := dk_seg dksX0_canRack_2 24 rfl rfl
theorem dX0_canRack_0 : decode cX0_canRack 0 = .ok (.aload_n 0, 1) := dk_42 (dk_at dksX0_canRack_0 0 rfl rfl)
theorem dX0_canRack_1 : decode cX0_canRack 1 = .ok (.iload_n 2, 1) := dk_28 (dk_at dksX0_canRack_0 1 rfl rfl)
theorem dX0_canRack_2 : decode cX0_canRack 2 = .ok (.iload 4, 2) := dk_21 4 (dk_at dksX0_canRack_0 2 rfl rfl)
theorem dX0_canRack_4 : decode cX0_canRack 4 = .ok (.invokevirtual 287, 3) := dk_182 1 31 (dk_at dksX0_canRack_0 4 rfl rfl)
theorem dX0_canRack_7 : decode cX0_canRack 7 = .ok (.istore 5, 2) := dk_54 5 (dk_at dksX0_canRack_0 7 rfl rfl)
theorem dX0_canRack_9 : decode cX0_canRack 9 = .ok (.iload 5, 2) := dk_21 5 (dk_at dksX0_canRack_0 9 rfl rfl)
theorem dX0_canRack_11 : decode cX0_canRack 11 = .ok (.ifCond .lt 11, 3) := dk_155 0 11 (dk_at dksX0_canRack_0 11 rfl rfl)
theorem dX0_canRack_14 : decode cX0_canRack 14 = .ok (.aload_n 0, 1) := dk_42 (dk_at dksX0_canRack_0 14 rfl rfl)
theorem dX0_canRack_15 : decode cX0_canRack 15 = .ok (.iload_n 3, 1) := dk_29 (dk_at dksX0_canRack_0 15 rfl rfl)
theorem dX0_canRack_16 : decode cX0_canRack 16 = .ok (.invokevirtual 151, 3) := dk_182 0 151 (dk_at dksX0_canRack_0 16 rfl rfl)
theorem dX0_canRack_19 : decode cX0_canRack 19 = .ok (.ifCond .ne 16, 3) := dk_154 0 16 (dk_at dksX0_canRack_0 19 rfl rfl)
theorem dX0_canRack_22 : decode cX0_canRack 22 = .ok (.iload 5, 2) := dk_21 5 (dk_at dksX0_canRack_0 22 rfl rfl)
theorem dX0_canRack_24 : decode cX0_canRack 24 = .ok (.ifCond .ge 8, 3) := dk_156 0 8 (dk_at dksX0_canRack_1 0 rfl rfl)
theorem dX0_canRack_27 : decode cX0_canRack 27 = .ok (.iload 5, 2) := dk_21 5 (dk_at dksX0_canRack_1 3 rfl rfl)
theorem dX0_canRack_29 : decode cX0_canRack 29 = .ok (.goto 5, 3) := dk_167 0 5 (dk_at dksX0_canRack_1 5 rfl rfl)
theorem dX0_canRack_32 : decode cX0_canRack 32 = .ok (.bipush (-2), 2) := dk_16 254 (dk_at dksX0_canRack_1 8 rfl rfl)
theorem dX0_canRack_34 : decode cX0_canRack 34 = .ok (.ireturn, 1) := dk_172 (dk_at dksX0_canRack_1 10 rfl rfl)
theorem dX0_canRack_35 : decode cX0_canRack 35 = .ok (.aload_n 0, 1) := dk_42 (dk_at dksX0_canRack_1 11 rfl rfl)
theorem dX0_canRack_36 : decode cX0_canRack 36 = .ok (.getfield 31, 3) := dk_180 0 31 (dk_at dksX0_canRack_1 12 rfl rfl)
theorem dX0_canRack_39 : decode cX0_canRack 39 = .ok (.getfield 132, 3) := dk_180 0 132 (dk_at dksX0_canRack_1 15 rfl rfl)
theorem dX0_canRack_42 : decode cX0_canRack 42 = .ok (.iload_n 3, 1) := dk_29 (dk_at dksX0_canRack_1 18 rfl rfl)
theorem dX0_canRack_43 : decode cX0_canRack 43 = .ok (.iaload, 1) := dk_46 (dk_at dksX0_canRack_1 19 rfl rfl)
theorem dX0_canRack_44 : decode cX0_canRack 44 = .ok (.aload_n 0, 1) := dk_42 (dk_at dksX0_canRack_1 20 rfl rfl)
theorem dX0_canRack_45 : decode cX0_canRack 45 = .ok (.getfield 31, 3) := dk_180 0 31 (dk_at dksX0_canRack_1 21 rfl rfl)
theorem dX0_canRack_48 : decode cX0_canRack 48 = .ok (.getfield 132, 3) := dk_180 0 132 (dk_at dksX0_canRack_2 0 rfl rfl)
theorem dX0_canRack_51 : decode cX0_canRack 51 = .ok (.iload_n 2, 1) := dk_28 (dk_at dksX0_canRack_2 3 rfl rfl)
theorem dX0_canRack_52 : decode cX0_canRack 52 = .ok (.iaload, 1) := dk_46 (dk_at dksX0_canRack_2 4 rfl rfl)
theorem dX0_canRack_53 : decode cX0_canRack 53 = .ok (.iconst 1, 1) := dk_4 (dk_at dksX0_canRack_2 5 rfl rfl)
theorem dX0_canRack_54 : decode cX0_canRack 54 = .ok (.isub, 1) := dk_100 (dk_at dksX0_canRack_2 6 rfl rfl)
theorem dX0_canRack_55 : decode cX0_canRack 55 = .ok (.if_icmp .ne 38, 3) := dk_160 0 38 (dk_at dksX0_canRack_2 7 rfl rfl)
theorem dX0_canRack_58 : decode cX0_canRack 58 = .ok (.aload_n 0, 1) := dk_42 (dk_at dksX0_canRack_2 10 rfl rfl)
theorem dX0_canRack_59 : decode cX0_canRack 59 = .ok (.aload_n 1, 1) := dk_43 (dk_at dksX0_canRack_2 11 rfl rfl)
theorem dX0_canRack_60 : decode cX0_canRack 60 = .ok (.iload_n 2, 1) := dk_28 (dk_at dksX0_canRack_2 12 rfl rfl)
theorem dX0_canRack_61 : decode cX0_canRack 61 = .ok (.iload 4, 2) := dk_21 4 (dk_at dksX0_canRack_2 13 rfl rfl)
theorem dX0_canRack_63 : decode cX0_canRack 63 = .ok (.invokevirtual 294, 3) := dk_182 1 38 (dk_at dksX0_canRack_2 15 rfl rfl)
theorem dX0_canRack_66 : decode cX0_canRack 66 = .ok (.ifCond .eq 27, 3) := dk_153 0 27 (dk_at dksX0_canRack_2 18 rfl rfl)
theorem dX0_canRack_69 : decode cX0_canRack 69 = .ok (.aload_n 0, 1) := dk_42 (dk_at dksX0_canRack_2 21 rfl rfl)
theorem dX0_canRack_70 : decode cX0_canRack 70 = .ok (.aload_n 1, 1) := dk_43 (dk_at dksX0_canRack_2 22 rfl rfl)
theorem dX0_canRack_71 : decode cX0_canRack 71 = .ok (.iload_n 3, 1) := dk_29 (dk_at dksX0_canRack_2 23 rfl rfl)
theorem dX0_canRack_72 : decode cX0_canRack 72 = .ok (.invokevirtual 175, 3) := dk_182 0 175 (dk_at dksX0_canRack_3 0 rfl rfl)
theorem dX0_canRack_75 : decode cX0_canRack 75 = .ok (.ifCond .ne 18, 3) := dk_154 0 18 (dk_at dksX0_canRack_3 3 rfl rfl)
theorem dX0_canRack_78 : decode cX0_canRack 78 = .ok (.aload_n 0, 1) := dk_42 (dk_at dksX0_canRack_3 6 rfl rfl)
theorem dX0_canRack_79 : decode cX0_canRack 79 = .ok (.aload_n 1, 1) := dk_43 (dk_at dksX0_canRack_3 7 rfl rfl)
theorem dX0_canRack_80 : decode cX0_canRack 80 = .ok (.iload_n 3, 1) := dk_29 (dk_at dksX0_canRack_3 8 rfl rfl)
theorem dX0_canRack_81 : decode cX0_canRack 81 = .ok (.iload 4, 2) := dk_21 4 (dk_at dksX0_canRack_3 9 rfl rfl)
theorem dX0_canRack_83 : decode cX0_canRack 83 = .ok (.invokevirtual 290, 3) := dk_182 1 34 (dk_at dksX0_canRack_3 11 rfl rfl)
theorem dX0_canRack_86 : decode cX0_canRack 86 = .ok (.ifCond .eq 7, 3) := dk_153 0 7 (dk_at dksX0_canRack_3 14 rfl rfl)
theorem dX0_canRack_89 : decode cX0_canRack 89 = .ok (.iconst 0, 1) := dk_3 (dk_at dksX0_canRack_3 17 rfl rfl)
theorem dX0_canRack_90 : decode cX0_canRack 90 = .ok (.goto 5, 3) := dk_167 0 5 (dk_at dksX0_canRack_3 18 rfl rfl)
theorem dX0_canRack_93 : decode cX0_canRack 93 = .ok (.bipush (-3), 2) := dk_16 253 (dk_at dksX0_canRack_3 21 rfl rfl)
theorem dX0_canRack_95 : decode cX0_canRack 95 = .ok (.ireturn, 1) := dk_172 (dk_at dksX0_canRack_3 23 rfl rfl)
abbrev cX0_gives : ByteArray := prog_1_method_39_code
def yX0_gives : MethodName := ⟨RX0, "gives", "(LSoleraCellar$Table;II)Z"⟩
def dkwX0_gives_1 : List UInt8 := [29, 17, 3, 232, 104, 161, 0, 7, 4, 167, 0, 4, 3, 172]
abbrev dktX0_gives_1 : List UInt8 := dkwX0_gives_1 ++ []
def dkwX0_gives_0 : List UInt8 := [42, 43, 28, 182, 0, 175, 154, 0, 30, 42, 43, 28, 182, 0, 172, 29, 161, 0, 20, 43, 28, 182, 0, 155]
abbrev dktX0_gives_0 : List UInt8 := dkwX0_gives_0 ++ dktX0_gives_1
theorem dksX0_gives_0 : cX0_gives.data.toList.drop 0 = dktX0_gives_0 := by decide +kernel
theorem dksX0_gives_1 : cX0_gives.data.toList.drop 24 = dktX0_gives_1 := dk_seg dksX0_gives_0 24 rfl rfl
theorem dX0_gives_0 : decode cX0_gives 0 = .ok (.aload_n 0, 1) := dk_42 (dk_at dksX0_gives_0 0 rfl rfl)
theorem dX0_gives_1 : decode cX0_gives 1 = .ok (.aload_n 1, 1) := dk_43 (dk_at dksX0_gives_0 1 rfl rfl)
theorem dX0_gives_2 : decode cX0_gives 2 = .ok (.iload_n 2, 1) := dk_28 (dk_at dksX0_gives_0 2 rfl rfl)
theorem dX0_gives_3 : decode cX0_gives 3 = .ok (.invokevirtual 175, 3) := dk_182 0 175 (dk_at dksX0_gives_0 3 rfl rfl)
theorem dX0_gives_6 : decode cX0_gives 6 = .ok (.ifCond .ne 30, 3) := dk_154 0 30 (dk_at dksX0_gives_0 6 rfl rfl)
theorem dX0_gives_9 : decode cX0_gives 9 = .ok (.aload_n 0, 1) := dk_42 (dk_at dksX0_gives_0 9 rfl rfl)
theorem dX0_gives_10 : decode cX0_gives 10 = .ok (.aload_n 1, 1) := dk_43 (dk_at dksX0_gives_0 10 rfl rfl)
theorem dX0_gives_11 : decode cX0_gives 11 = .ok (.iload_n 2, 1) := dk_28 (dk_at dksX0_gives_0 11 rfl rfl)
theorem dX0_gives_12 : decode cX0_gives 12 = .ok (.invokevirtual 172, 3) := dk_182 0 172 (dk_at dksX0_gives_0 12 rfl rfl)
theorem dX0_gives_15 : decode cX0_gives 15 = .ok (.iload_n 3, 1) := dk_29 (dk_at dksX0_gives_0 15 rfl rfl)
theorem dX0_gives_16 : decode cX0_gives 16 = .ok (.if_icmp .lt 20, 3) := dk_161 0 20 (dk_at dksX0_gives_0 16 rfl rfl)
theorem dX0_gives_19 : decode cX0_gives 19 = .ok (.aload_n 1, 1) := dk_43 (dk_at dksX0_gives_0 19 rfl rfl)
theorem dX0_gives_20 : decode cX0_gives 20 = .ok (.iload_n 2, 1) := dk_28 (dk_at dksX0_gives_0 20 rfl rfl)
theorem dX0_gives_21 : decode cX0_gives 21 = .ok (.invokevirtual 155, 3) := dk_182 0 155 (dk_at dksX0_gives_0 21 rfl rfl)
theorem dX0_gives_24 : decode cX0_gives 24 = .ok (.iload_n 3, 1) := dk_29 (dk_at dksX0_gives_1 0 rfl rfl)
theorem dX0_gives_25 : decode cX0_gives 25 = .ok (.sipush 1000, 3) := dk_17 3 232 (dk_at dksX0_gives_1 1 rfl rfl)
theorem dX0_gives_28 : decode cX0_gives 28 = .ok (.imul, 1) := dk_104 (dk_at dksX0_gives_1 4 rfl rfl)
theorem dX0_gives_29 : decode cX0_gives 29 = .ok (.if_icmp .lt 7, 3) := dk_161 0 7 (dk_at dksX0_gives_1 5 rfl rfl)
theorem dX0_gives_32 : decode cX0_gives 32 = .ok (.iconst 1, 1) := dk_4 (dk_at dksX0_gives_1 8 rfl rfl)
theorem dX0_gives_33 : decode cX0_gives 33 = .ok (.goto 4, 3) := dk_167 0 4 (dk_at dksX0_gives_1 9 rfl rfl)
theorem dX0_gives_36 : decode cX0_gives 36 = .ok (.iconst 0, 1) := dk_3 (dk_at dksX0_gives_1 12 rfl rfl)
theorem dX0_gives_37 : decode cX0_gives 37 = .ok (.ireturn, 1) := dk_172 (dk_at dksX0_gives_1 13 rfl rfl)
abbrev cX0_racks : ByteArray := prog_1_method_45_code
def yX0_racks : MethodName := ⟨RX0, "racks", "(LSoleraCellar$Table;III)I"⟩
def dkwX0_racks_1 : List UInt8 := [182, 0, 158, 172]
abbrev dktX0_racks_1 : List UInt8 := dkwX0_racks_1 ++ []
def dkwX0_racks_0 : List UInt8 := [43, 28, 21, 4, 42, 180, 0, 79, 182, 1, 41, 43, 29, 42, 180, 0, 79, 182, 1, 45, 43, 29]
abbrev dktX0_racks_0 : List UInt8 := dkwX0_racks_0 ++ dktX0_racks_1
theorem dksX0_racks_0 : cX0_racks.data.toList.drop 0 = dktX0_racks_0 := by decide +kernel
theorem dksX0_racks_1 : cX0_racks.data.toList.drop 22 = dktX0_racks_1 := dk_seg dksX0_racks_0 22 rfl rfl
theorem dX0_racks_0 : decode cX0_racks 0 = .ok (.aload_n 1, 1) := dk_43 (dk_at dksX0_racks_0 0 rfl rfl)
theorem dX0_racks_1 : decode cX0_racks 1 = .ok (.iload_n 2, 1) := dk_28 (dk_at dksX0_racks_0 1 rfl rfl)
theorem dX0_racks_2 : decode cX0_racks 2 = .ok (.iload 4, 2) := dk_21 4 (dk_at dksX0_racks_0 2 rfl rfl)
theorem dX0_racks_4 : decode cX0_racks 4 = .ok (.aload_n 0, 1) := dk_42 (dk_at dksX0_racks_0 4 rfl rfl)
theorem dX0_racks_5 : decode cX0_racks 5 = .ok (.getfield 79, 3) := dk_180 0 79 (dk_at dksX0_racks_0 5 rfl rfl)
theorem dX0_racks_8 : decode cX0_racks 8 = .ok (.invokevirtual 297, 3) := dk_182 1 41 (dk_at dksX0_racks_0 8 rfl rfl)
theorem dX0_racks_11 : decode cX0_racks 11 = .ok (.aload_n 1, 1) := dk_43 (dk_at dksX0_racks_0 11 rfl rfl)
theorem dX0_racks_12 : decode cX0_racks 12 = .ok (.iload_n 3, 1) := dk_29 (dk_at dksX0_racks_0 12 rfl rfl)
theorem dX0_racks_13 : decode cX0_racks 13 = .ok (.aload_n 0, 1) := dk_42 (dk_at dksX0_racks_0 13 rfl rfl)
theorem dX0_racks_14 : decode cX0_racks 14 = .ok (.getfield 79, 3) := dk_180 0 79 (dk_at dksX0_racks_0 14 rfl rfl)
theorem dX0_racks_17 : decode cX0_racks 17 = .ok (.invokevirtual 301, 3) := dk_182 1 45 (dk_at dksX0_racks_0 17 rfl rfl)
theorem dX0_racks_20 : decode cX0_racks 20 = .ok (.aload_n 1, 1) := dk_43 (dk_at dksX0_racks_0 20 rfl rfl)
theorem dX0_racks_21 : decode cX0_racks 21 = .ok (.iload_n 3, 1) := dk_29 (dk_at dksX0_racks_0 21 rfl rfl)
theorem dX0_racks_22 : decode cX0_racks 22 = .ok (.invokevirtual 158, 3) := dk_182 0 158 (dk_at dksX0_racks_1 0 rfl rfl)
theorem dX0_racks_25 : decode cX0_racks 25 = .ok (.ireturn, 1) := dk_172 (dk_at dksX0_racks_1 3 rfl rfl)
abbrev cX0_bottle : ByteArray := prog_1_method_56_code
def yX0_bottle : MethodName := ⟨RX0, "bottle", "(II)I"⟩
def dkwX0_bottle_0 : List UInt8 := [42, 42, 27, 28, 182, 1, 101, 182, 1, 95, 172]
abbrev dktX0_bottle_0 : List UInt8 := dkwX0_bottle_0 ++ []
theorem dksX0_bottle_0 : cX0_bottle.data.toList.drop 0 = dktX0_bottle_0 := by decide +kernel
theorem dX0_bottle_0 : decode cX0_bottle 0 = .ok (.aload_n 0, 1) := dk_42 (dk_at dksX0_bottle_0 0 rfl rfl)
theorem dX0_bottle_1 : decode cX0_bottle 1 = .ok (.aload_n 0, 1) := dk_42 (dk_at dksX0_bottle_0 1 rfl rfl)
theorem dX0_bottle_2 : decode cX0_bottle 2 = .ok (.iload_n 1, 1) := dk_27 (dk_at dksX0_bottle_0 2 rfl rfl)
theorem dX0_bottle_3 : decode cX0_bottle 3 = .ok (.iload_n 2, 1) := dk_28 (dk_at dksX0_bottle_0 3 rfl rfl)
theorem dX0_bottle_4 : decode cX0_bottle 4 = .ok (.invokevirtual 357, 3) := dk_182 1 101 (dk_at dksX0_bottle_0 4 rfl rfl)
theorem dX0_bottle_7 : decode cX0_bottle 7 = .ok (.invokevirtual 351, 3) := dk_182 1 95 (dk_at dksX0_bottle_0 7 rfl rfl)
theorem dX0_bottle_10 : decode cX0_bottle 10 = .ok (.ireturn, 1) := dk_172 (dk_at dksX0_bottle_0 10 rfl rfl)
abbrev cX0_bottlesKept : ByteArray := prog_1_method_51_code
def yX0_bottlesKept : MethodName := ⟨RX0, "bottlesKept", "(II)I"⟩
def dkwX0_bottlesKept_1 : List UInt8 := [182, 0, 137, 27, 28, 182, 1, 85, 172]
abbrev dktX0_bottlesKept_1 : List UInt8 := dkwX0_bottlesKept_1 ++ []
def dkwX0_bottlesKept_0 : List UInt8 := [42, 42, 182, 0, 137, 27, 28, 182, 1, 82, 62, 29, 156, 0, 5, 29, 172, 42, 5, 182, 1, 69, 42, 42]
abbrev dktX0_bottlesKept_0 : List UInt8 := dkwX0_bottlesKept_0 ++ dktX0_bottlesKept_1
theorem dksX0_bottlesKept_0 : cX0_bottlesKept.data.toList.drop 0 = dktX0_bottlesKept_0 := by decide +kernel
theorem dksX0_bottlesKept_1 : cX0_bottlesKept.data.toList.drop 24 = dktX0_bottlesKept_1 := dk_seg dksX0_bottlesKept_0 24 rfl rfl
theorem dX0_bottlesKept_0 : decode cX0_bottlesKept 0 = .ok (.aload_n 0, 1) := dk_42 (dk_at dksX0_bottlesKept_0 0 rfl rfl)
theorem dX0_bottlesKept_1 : decode cX0_bottlesKept 1 = .ok (.aload_n 0, 1) := dk_42 (dk_at dksX0_bottlesKept_0 1 rfl rfl)
theorem dX0_bottlesKept_2 : decode cX0_bottlesKept 2 = .ok (.invokevirtual 137, 3) := dk_182 0 137 (dk_at dksX0_bottlesKept_0 2 rfl rfl)
theorem dX0_bottlesKept_5 : decode cX0_bottlesKept 5 = .ok (.iload_n 1, 1) := dk_27 (dk_at dksX0_bottlesKept_0 5 rfl rfl)
theorem dX0_bottlesKept_6 : decode cX0_bottlesKept 6 = .ok (.iload_n 2, 1) := dk_28 (dk_at dksX0_bottlesKept_0 6 rfl rfl)
theorem dX0_bottlesKept_7 : decode cX0_bottlesKept 7 = .ok (.invokevirtual 338, 3) := dk_182 1 82 (dk_at dksX0_bottlesKept_0 7 rfl rfl)
theorem dX0_bottlesKept_10 : decode cX0_bottlesKept 10 = .ok (.istore_n 3, 1) := dk_62 (dk_at dksX0_bottlesKept_0 10 rfl rfl)
theorem dX0_bottlesKept_11 : decode cX0_bottlesKept 11 = .ok (.iload_n 3, 1) := dk_29 (dk_at dksX0_bottlesKept_0 11 rfl rfl)
theorem dX0_bottlesKept_12 : decode cX0_bottlesKept 12 = .ok (.ifCond .ge 5, 3) := dk_156 0 5 (dk_at dksX0_bottlesKept_0 12 rfl rfl)
theorem dX0_bottlesKept_15 : decode cX0_bottlesKept 15 = .ok (.iload_n 3, 1) := dk_29 (dk_at dksX0_bottlesKept_0 15 rfl rfl)
theorem dX0_bottlesKept_16 : decode cX0_bottlesKept 16 = .ok (.ireturn, 1) := dk_172 (dk_at dksX0_bottlesKept_0 16 rfl rfl)
theorem dX0_bottlesKept_17 : decode cX0_bottlesKept 17 = .ok (.aload_n 0, 1) := dk_42 (dk_at dksX0_bottlesKept_0 17 rfl rfl)
theorem dX0_bottlesKept_18 : decode cX0_bottlesKept 18 = .ok (.iconst 2, 1) := dk_5 (dk_at dksX0_bottlesKept_0 18 rfl rfl)
theorem dX0_bottlesKept_19 : decode cX0_bottlesKept 19 = .ok (.invokevirtual 325, 3) := dk_182 1 69 (dk_at dksX0_bottlesKept_0 19 rfl rfl)
theorem dX0_bottlesKept_22 : decode cX0_bottlesKept 22 = .ok (.aload_n 0, 1) := dk_42 (dk_at dksX0_bottlesKept_0 22 rfl rfl)
theorem dX0_bottlesKept_23 : decode cX0_bottlesKept 23 = .ok (.aload_n 0, 1) := dk_42 (dk_at dksX0_bottlesKept_0 23 rfl rfl)
theorem dX0_bottlesKept_24 : decode cX0_bottlesKept 24 = .ok (.invokevirtual 137, 3) := dk_182 0 137 (dk_at dksX0_bottlesKept_1 0 rfl rfl)
theorem dX0_bottlesKept_27 : decode cX0_bottlesKept 27 = .ok (.iload_n 1, 1) := dk_27 (dk_at dksX0_bottlesKept_1 3 rfl rfl)
theorem dX0_bottlesKept_28 : decode cX0_bottlesKept 28 = .ok (.iload_n 2, 1) := dk_28 (dk_at dksX0_bottlesKept_1 4 rfl rfl)
theorem dX0_bottlesKept_29 : decode cX0_bottlesKept 29 = .ok (.invokevirtual 341, 3) := dk_182 1 85 (dk_at dksX0_bottlesKept_1 5 rfl rfl)
theorem dX0_bottlesKept_32 : decode cX0_bottlesKept 32 = .ok (.ireturn, 1) := dk_172 (dk_at dksX0_bottlesKept_1 8 rfl rfl)
abbrev cX0_canBottle : ByteArray := prog_1_method_43_code
def yX0_canBottle : MethodName := ⟨RX0, "canBottle", "(LSoleraCellar$Table;II)I"⟩
def dkwX0_canBottle_2 : List UInt8 := [172]
abbrev dktX0_canBottle_2 : List UInt8 := dkwX0_canBottle_2 ++ []
def dkwX0_canBottle_1 : List UInt8 := [180, 0, 132, 28, 46, 154, 0, 17, 42, 43, 28, 29, 182, 1, 38, 153, 0, 7, 3, 167, 0, 5, 16, 253]
abbrev dktX0_canBottle_1 : List UInt8 := dkwX0_canBottle_1 ++ dktX0_canBottle_2
def dkwX0_canBottle_0 : List UInt8 := [42, 28, 29, 182, 1, 31, 54, 4, 21, 4, 156, 0, 8, 21, 4, 167, 0, 31, 42, 180, 0, 31]
abbrev dktX0_canBottle_0 : List UInt8 := dkwX0_canBottle_0 ++ dktX0_canBottle_1
theorem dksX0_canBottle_0 : cX0_canBottle.data.toList.drop 0 = dktX0_canBottle_0 := by decide +kernel
theorem dksX0_canBottle_1 : cX0_canBottle.data.toList.drop 22 = dktX0_canBottle_1 := dk_seg dksX0_canBottle_0 22 rfl rfl
theorem dksX0_canBottle_2 : cX0_canBottle.data.toList.drop 46 = dktX0_canBottle_2 := dk_seg dksX0_canBottle_1 24 rfl rfl
theorem dX0_canBottle_0 : decode cX0_canBottle 0 = .ok (.aload_n 0, 1) := dk_42 (dk_at dksX0_canBottle_0 0 rfl rfl)
theorem dX0_canBottle_1 : decode cX0_canBottle 1 = .ok (.iload_n 2, 1) := dk_28 (dk_at dksX0_canBottle_0 1 rfl rfl)
theorem dX0_canBottle_2 : decode cX0_canBottle 2 = .ok (.iload_n 3, 1) := dk_29 (dk_at dksX0_canBottle_0 2 rfl rfl)
theorem dX0_canBottle_3 : decode cX0_canBottle 3 = .ok (.invokevirtual 287, 3) := dk_182 1 31 (dk_at dksX0_canBottle_0 3 rfl rfl)
theorem dX0_canBottle_6 : decode cX0_canBottle 6 = .ok (.istore 4, 2) := dk_54 4 (dk_at dksX0_canBottle_0 6 rfl rfl)
theorem dX0_canBottle_8 : decode cX0_canBottle 8 = .ok (.iload 4, 2) := dk_21 4 (dk_at dksX0_canBottle_0 8 rfl rfl)
theorem dX0_canBottle_10 : decode cX0_canBottle 10 = .ok (.ifCond .ge 8, 3) := dk_156 0 8 (dk_at dksX0_canBottle_0 10 rfl rfl)
theorem dX0_canBottle_13 : decode cX0_canBottle 13 = .ok (.iload 4, 2) := dk_21 4 (dk_at dksX0_canBottle_0 13 rfl rfl)
theorem dX0_canBottle_15 : decode cX0_canBottle 15 = .ok (.goto 31, 3) := dk_167 0 31 (dk_at dksX0_canBottle_0 15 rfl rfl)
theorem dX0_canBottle_18 : decode cX0_canBottle 18 = .ok (.aload_n 0, 1) := dk_42 (dk_at dksX0_canBottle_0 18 rfl rfl)
theorem dX0_canBottle_19 : decode cX0_canBottle 19 = .ok (.getfield 31, 3) := dk_180 0 31 (dk_at dksX0_canBottle_0 19 rfl rfl)
theorem dX0_canBottle_22 : decode cX0_canBottle 22 = .ok (.getfield 132, 3) := dk_180 0 132 (dk_at dksX0_canBottle_1 0 rfl rfl)
theorem dX0_canBottle_25 : decode cX0_canBottle 25 = .ok (.iload_n 2, 1) := dk_28 (dk_at dksX0_canBottle_1 3 rfl rfl)
theorem dX0_canBottle_26 : decode cX0_canBottle 26 = .ok (.iaload, 1) := dk_46 (dk_at dksX0_canBottle_1 4 rfl rfl)
theorem dX0_canBottle_27 : decode cX0_canBottle 27 = .ok (.ifCond .ne 17, 3) := dk_154 0 17 (dk_at dksX0_canBottle_1 5 rfl rfl)
theorem dX0_canBottle_30 : decode cX0_canBottle 30 = .ok (.aload_n 0, 1) := dk_42 (dk_at dksX0_canBottle_1 8 rfl rfl)
theorem dX0_canBottle_31 : decode cX0_canBottle 31 = .ok (.aload_n 1, 1) := dk_43 (dk_at dksX0_canBottle_1 9 rfl rfl)
theorem dX0_canBottle_32 : decode cX0_canBottle 32 = .ok (.iload_n 2, 1) := dk_28 (dk_at dksX0_canBottle_1 10 rfl rfl)
theorem dX0_canBottle_33 : decode cX0_canBottle 33 = .ok (.iload_n 3, 1) := dk_29 (dk_at dksX0_canBottle_1 11 rfl rfl)
theorem dX0_canBottle_34 : decode cX0_canBottle 34 = .ok (.invokevirtual 294, 3) := dk_182 1 38 (dk_at dksX0_canBottle_1 12 rfl rfl)
theorem dX0_canBottle_37 : decode cX0_canBottle 37 = .ok (.ifCond .eq 7, 3) := dk_153 0 7 (dk_at dksX0_canBottle_1 15 rfl rfl)
theorem dX0_canBottle_40 : decode cX0_canBottle 40 = .ok (.iconst 0, 1) := dk_3 (dk_at dksX0_canBottle_1 18 rfl rfl)
theorem dX0_canBottle_41 : decode cX0_canBottle 41 = .ok (.goto 5, 3) := dk_167 0 5 (dk_at dksX0_canBottle_1 19 rfl rfl)
theorem dX0_canBottle_44 : decode cX0_canBottle 44 = .ok (.bipush (-3), 2) := dk_16 253 (dk_at dksX0_canBottle_1 22 rfl rfl)
theorem dX0_canBottle_46 : decode cX0_canBottle 46 = .ok (.ireturn, 1) := dk_172 (dk_at dksX0_canBottle_2 0 rfl rfl)
abbrev cX0_bottles : ByteArray := prog_1_method_46_code
def yX0_bottles : MethodName := ⟨RX0, "bottles", "(LSoleraCellar$Table;II)I"⟩
def dkwX0_bottles_1 : List UInt8 := [181, 1, 50, 42, 180, 0, 79, 3, 184, 1, 55, 172]
abbrev dktX0_bottles_1 : List UInt8 := dkwX0_bottles_1 ++ []
def dkwX0_bottles_0 : List UInt8 := [43, 28, 29, 42, 180, 0, 79, 182, 1, 41, 43, 19, 1, 49, 43, 180, 1, 50, 29, 96, 184, 1, 53]
abbrev dktX0_bottles_0 : List UInt8 := dkwX0_bottles_0 ++ dktX0_bottles_1
theorem dksX0_bottles_0 : cX0_bottles.data.toList.drop 0 = dktX0_bottles_0 := by decide +kernel
theorem dksX0_bottles_1 : cX0_bottles.data.toList.drop 23 = dktX0_bottles_1 := dk_seg dksX0_bottles_0 23 rfl rfl
theorem dX0_bottles_0 : decode cX0_bottles 0 = .ok (.aload_n 1, 1) := dk_43 (dk_at dksX0_bottles_0 0 rfl rfl)
theorem dX0_bottles_1 : decode cX0_bottles 1 = .ok (.iload_n 2, 1) := dk_28 (dk_at dksX0_bottles_0 1 rfl rfl)
theorem dX0_bottles_2 : decode cX0_bottles 2 = .ok (.iload_n 3, 1) := dk_29 (dk_at dksX0_bottles_0 2 rfl rfl)
theorem dX0_bottles_3 : decode cX0_bottles 3 = .ok (.aload_n 0, 1) := dk_42 (dk_at dksX0_bottles_0 3 rfl rfl)
theorem dX0_bottles_4 : decode cX0_bottles 4 = .ok (.getfield 79, 3) := dk_180 0 79 (dk_at dksX0_bottles_0 4 rfl rfl)
theorem dX0_bottles_7 : decode cX0_bottles 7 = .ok (.invokevirtual 297, 3) := dk_182 1 41 (dk_at dksX0_bottles_0 7 rfl rfl)
theorem dX0_bottles_10 : decode cX0_bottles 10 = .ok (.aload_n 1, 1) := dk_43 (dk_at dksX0_bottles_0 10 rfl rfl)
theorem dX0_bottles_11 : decode cX0_bottles 11 = .ok (.ldc_w 305, 3) := dk_19 1 49 (dk_at dksX0_bottles_0 11 rfl rfl)
theorem dX0_bottles_14 : decode cX0_bottles 14 = .ok (.aload_n 1, 1) := dk_43 (dk_at dksX0_bottles_0 14 rfl rfl)
theorem dX0_bottles_15 : decode cX0_bottles 15 = .ok (.getfield 306, 3) := dk_180 1 50 (dk_at dksX0_bottles_0 15 rfl rfl)
theorem dX0_bottles_18 : decode cX0_bottles 18 = .ok (.iload_n 3, 1) := dk_29 (dk_at dksX0_bottles_0 18 rfl rfl)
theorem dX0_bottles_19 : decode cX0_bottles 19 = .ok (.iadd, 1) := dk_96 (dk_at dksX0_bottles_0 19 rfl rfl)
theorem dX0_bottles_20 : decode cX0_bottles 20 = .ok (.invokestatic 309, 3) := dk_184 1 53 (dk_at dksX0_bottles_0 20 rfl rfl)
theorem dX0_bottles_23 : decode cX0_bottles 23 = .ok (.putfield 306, 3) := dk_181 1 50 (dk_at dksX0_bottles_1 0 rfl rfl)
theorem dX0_bottles_26 : decode cX0_bottles 26 = .ok (.aload_n 0, 1) := dk_42 (dk_at dksX0_bottles_1 3 rfl rfl)
theorem dX0_bottles_27 : decode cX0_bottles 27 = .ok (.getfield 79, 3) := dk_180 0 79 (dk_at dksX0_bottles_1 4 rfl rfl)
theorem dX0_bottles_30 : decode cX0_bottles 30 = .ok (.iconst 0, 1) := dk_3 (dk_at dksX0_bottles_1 7 rfl rfl)
theorem dX0_bottles_31 : decode cX0_bottles 31 = .ok (.invokestatic 311, 3) := dk_184 1 55 (dk_at dksX0_bottles_1 8 rfl rfl)
theorem dX0_bottles_34 : decode cX0_bottles 34 = .ok (.ireturn, 1) := dk_172 (dk_at dksX0_bottles_1 11 rfl rfl)
abbrev cX0_pass : ByteArray := prog_1_method_57_code
def yX0_pass : MethodName := ⟨RX0, "pass", "()I"⟩
def dkwX0_pass_0 : List UInt8 := [42, 42, 182, 1, 104, 182, 1, 95, 172]
abbrev dktX0_pass_0 : List UInt8 := dkwX0_pass_0 ++ []
theorem dksX0_pass_0 : cX0_pass.data.toList.drop 0 = dktX0_pass_0 := by decide +kernel
theorem dX0_pass_0 : decode cX0_pass 0 = .ok (.aload_n 0, 1) := dk_42 (dk_at dksX0_pass_0 0 rfl rfl)
theorem dX0_pass_1 : decode cX0_pass 1 = .ok (.aload_n 0, 1) := dk_42 (dk_at dksX0_pass_0 1 rfl rfl)
theorem dX0_pass_2 : decode cX0_pass 2 = .ok (.invokevirtual 360, 3) := dk_182 1 104 (dk_at dksX0_pass_0 2 rfl rfl)
theorem dX0_pass_5 : decode cX0_pass 5 = .ok (.invokevirtual 351, 3) := dk_182 1 95 (dk_at dksX0_pass_0 5 rfl rfl)
theorem dX0_pass_8 : decode cX0_pass 8 = .ok (.ireturn, 1) := dk_172 (dk_at dksX0_pass_0 8 rfl rfl)
abbrev cX0_passesKept : ByteArray := prog_1_method_52_code
def yX0_passesKept : MethodName := ⟨RX0, "passesKept", "()I"⟩
def dkwX0_passesKept_1 : List UInt8 := [182, 0, 137, 182, 1, 88, 172]
abbrev dktX0_passesKept_1 : List UInt8 := dkwX0_passesKept_1 ++ []
def dkwX0_passesKept_0 : List UInt8 := [42, 182, 0, 137, 180, 0, 186, 17, 3, 231, 160, 0, 6, 16, 253, 172, 42, 6, 182, 1, 69, 42, 42]
abbrev dktX0_passesKept_0 : List UInt8 := dkwX0_passesKept_0 ++ dktX0_passesKept_1
theorem dksX0_passesKept_0 : cX0_passesKept.data.toList.drop 0 = dktX0_passesKept_0 := by decide +kernel
theorem dksX0_passesKept_1 : cX0_passesKept.data.toList.drop 23 = dktX0_passesKept_1 := dk_seg dksX0_passesKept_0 23 rfl rfl
theorem dX0_passesKept_0 : decode cX0_passesKept 0 = .ok (.aload_n 0, 1) := dk_42 (dk_at dksX0_passesKept_0 0 rfl rfl)
theorem dX0_passesKept_1 : decode cX0_passesKept 1 = .ok (.invokevirtual 137, 3) := dk_182 0 137 (dk_at dksX0_passesKept_0 1 rfl rfl)
theorem dX0_passesKept_4 : decode cX0_passesKept 4 = .ok (.getfield 186, 3) := dk_180 0 186 (dk_at dksX0_passesKept_0 4 rfl rfl)
theorem dX0_passesKept_7 : decode cX0_passesKept 7 = .ok (.sipush 999, 3) := dk_17 3 231 (dk_at dksX0_passesKept_0 7 rfl rfl)
theorem dX0_passesKept_10 : decode cX0_passesKept 10 = .ok (.if_icmp .ne 6, 3) := dk_160 0 6 (dk_at dksX0_passesKept_0 10 rfl rfl)
theorem dX0_passesKept_13 : decode cX0_passesKept 13 = .ok (.bipush (-3), 2) := dk_16 253 (dk_at dksX0_passesKept_0 13 rfl rfl)
theorem dX0_passesKept_15 : decode cX0_passesKept 15 = .ok (.ireturn, 1) := dk_172 (dk_at dksX0_passesKept_0 15 rfl rfl)
theorem dX0_passesKept_16 : decode cX0_passesKept 16 = .ok (.aload_n 0, 1) := dk_42 (dk_at dksX0_passesKept_0 16 rfl rfl)
theorem dX0_passesKept_17 : decode cX0_passesKept 17 = .ok (.iconst 3, 1) := dk_6 (dk_at dksX0_passesKept_0 17 rfl rfl)
theorem dX0_passesKept_18 : decode cX0_passesKept 18 = .ok (.invokevirtual 325, 3) := dk_182 1 69 (dk_at dksX0_passesKept_0 18 rfl rfl)
theorem dX0_passesKept_21 : decode cX0_passesKept 21 = .ok (.aload_n 0, 1) := dk_42 (dk_at dksX0_passesKept_0 21 rfl rfl)
theorem dX0_passesKept_22 : decode cX0_passesKept 22 = .ok (.aload_n 0, 1) := dk_42 (dk_at dksX0_passesKept_0 22 rfl rfl)
theorem dX0_passesKept_23 : decode cX0_passesKept 23 = .ok (.invokevirtual 137, 3) := dk_182 0 137 (dk_at dksX0_passesKept_1 0 rfl rfl)
theorem dX0_passesKept_26 : decode cX0_passesKept 26 = .ok (.invokevirtual 344, 3) := dk_182 1 88 (dk_at dksX0_passesKept_1 3 rfl rfl)
theorem dX0_passesKept_29 : decode cX0_passesKept 29 = .ok (.ireturn, 1) := dk_172 (dk_at dksX0_passesKept_1 6 rfl rfl)
abbrev cX0_ends : ByteArray := prog_1_method_47_code
def yX0_ends : MethodName := ⟨RX0, "ends", "(LSoleraCellar$Table;)I"⟩
def dkwX0_ends_5 : List UInt8 := [132, 3, 1, 167, 255, 171, 43, 89, 180, 0, 186, 4, 96, 181, 0, 186, 28, 172]
abbrev dktX0_ends_5 : List UInt8 := dkwX0_ends_5 ++ []
def dkwX0_ends_4 : List UInt8 := [96, 92, 46, 21, 5, 100, 79, 28, 21, 5, 96, 61, 132, 4, 1, 167, 255, 196, 43, 29, 182, 1, 59]
abbrev dktX0_ends_4 : List UInt8 := dkwX0_ends_4 ++ dktX0_ends_5
def dkwX0_ends_3 : List UInt8 := [180, 0, 82, 29, 46, 133, 105, 20, 0, 20, 109, 136, 54, 5, 43, 180, 0, 140, 16, 20, 29, 104, 21, 4]
abbrev dktX0_ends_3 : List UInt8 := dkwX0_ends_3 ++ dktX0_ends_4
def dkwX0_ends_2 : List UInt8 := [54, 4, 21, 4, 16, 20, 162, 0, 59, 43, 180, 0, 140, 16, 20, 29, 104, 21, 4, 96, 46, 133, 42]
abbrev dktX0_ends_2 : List UInt8 := dkwX0_ends_2 ++ dktX0_ends_3
def dkwX0_ends_1 : List UInt8 := [182, 0, 168, 79, 132, 3, 1, 167, 255, 230, 3, 62, 29, 42, 180, 0, 31, 180, 0, 105, 162, 0, 80, 3]
abbrev dktX0_ends_1 : List UInt8 := dkwX0_ends_1 ++ dktX0_ends_2
def dkwX0_ends_0 : List UInt8 := [3, 61, 3, 62, 29, 42, 180, 0, 31, 180, 0, 105, 162, 0, 21, 42, 180, 0, 82, 29, 42, 43, 29]
abbrev dktX0_ends_0 : List UInt8 := dkwX0_ends_0 ++ dktX0_ends_1
theorem dksX0_ends_0 : cX0_ends.data.toList.drop 0 = dktX0_ends_0 := by decide +kernel
theorem dksX0_ends_1 : cX0_ends.data.toList.drop 23 = dktX0_ends_1 := dk_seg dksX0_ends_0 23 rfl rfl
theorem dksX0_ends_2 : cX0_ends.data.toList.drop 47 = dktX0_ends_2 := dk_seg dksX0_ends_1 24 rfl rfl
theorem dksX0_ends_3 : cX0_ends.data.toList.drop 70 = dktX0_ends_3 := dk_seg dksX0_ends_2 23 rfl rfl
theorem dksX0_ends_4 : cX0_ends.data.toList.drop 94 = dktX0_ends_4 := dk_seg dksX0_ends_3 24 rfl rfl
theorem dksX0_ends_5 : cX0_ends.data.toList.drop 117 = dktX0_ends_5 := dk_seg dksX0_ends_4 23 rfl rfl
theorem dX0_ends_0 : decode cX0_ends 0 = .ok (.iconst 0, 1) := dk_3 (dk_at dksX0_ends_0 0 rfl rfl)
theorem dX0_ends_1 : decode cX0_ends 1 = .ok (.istore_n 2, 1) := dk_61 (dk_at dksX0_ends_0 1 rfl rfl)
theorem dX0_ends_2 : decode cX0_ends 2 = .ok (.iconst 0, 1) := dk_3 (dk_at dksX0_ends_0 2 rfl rfl)
theorem dX0_ends_3 : decode cX0_ends 3 = .ok (.istore_n 3, 1) := dk_62 (dk_at dksX0_ends_0 3 rfl rfl)
theorem dX0_ends_4 : decode cX0_ends 4 = .ok (.iload_n 3, 1) := dk_29 (dk_at dksX0_ends_0 4 rfl rfl)
theorem dX0_ends_5 : decode cX0_ends 5 = .ok (.aload_n 0, 1) := dk_42 (dk_at dksX0_ends_0 5 rfl rfl)
theorem dX0_ends_6 : decode cX0_ends 6 = .ok (.getfield 31, 3) := dk_180 0 31 (dk_at dksX0_ends_0 6 rfl rfl)
theorem dX0_ends_9 : decode cX0_ends 9 = .ok (.getfield 105, 3) := dk_180 0 105 (dk_at dksX0_ends_0 9 rfl rfl)
theorem dX0_ends_12 : decode cX0_ends 12 = .ok (.if_icmp .ge 21, 3) := dk_162 0 21 (dk_at dksX0_ends_0 12 rfl rfl)
theorem dX0_ends_15 : decode cX0_ends 15 = .ok (.aload_n 0, 1) := dk_42 (dk_at dksX0_ends_0 15 rfl rfl)
theorem dX0_ends_16 : decode cX0_ends 16 = .ok (.getfield 82, 3) := dk_180 0 82 (dk_at dksX0_ends_0 16 rfl rfl)
theorem dX0_ends_19 : decode cX0_ends 19 = .ok (.iload_n 3, 1) := dk_29 (dk_at dksX0_ends_0 19 rfl rfl)
theorem dX0_ends_20 : decode cX0_ends 20 = .ok (.aload_n 0, 1) := dk_42 (dk_at dksX0_ends_0 20 rfl rfl)
theorem dX0_ends_21 : decode cX0_ends 21 = .ok (.aload_n 1, 1) := dk_43 (dk_at dksX0_ends_0 21 rfl rfl)
theorem dX0_ends_22 : decode cX0_ends 22 = .ok (.iload_n 3, 1) := dk_29 (dk_at dksX0_ends_0 22 rfl rfl)
theorem dX0_ends_23 : decode cX0_ends 23 = .ok (.invokevirtual 168, 3) := dk_182 0 168 (dk_at dksX0_ends_1 0 rfl rfl)
theorem dX0_ends_26 : decode cX0_ends 26 = .ok (.iastore, 1) := dk_79 (dk_at dksX0_ends_1 3 rfl rfl)
theorem dX0_ends_27 : decode cX0_ends 27 = .ok (.iinc 3 1, 3) := dk_132 3 1 (dk_at dksX0_ends_1 4 rfl rfl)
theorem dX0_ends_30 : decode cX0_ends 30 = .ok (.goto (-26), 3) := dk_167 255 230 (dk_at dksX0_ends_1 7 rfl rfl)
theorem dX0_ends_33 : decode cX0_ends 33 = .ok (.iconst 0, 1) := dk_3 (dk_at dksX0_ends_1 10 rfl rfl)
theorem dX0_ends_34 : decode cX0_ends 34 = .ok (.istore_n 3, 1) := dk_62 (dk_at dksX0_ends_1 11 rfl rfl)
theorem dX0_ends_35 : decode cX0_ends 35 = .ok (.iload_n 3, 1) := dk_29 (dk_at dksX0_ends_1 12 rfl rfl)
theorem dX0_ends_36 : decode cX0_ends 36 = .ok (.aload_n 0, 1) := dk_42 (dk_at dksX0_ends_1 13 rfl rfl)
theorem dX0_ends_37 : decode cX0_ends 37 = .ok (.getfield 31, 3) := dk_180 0 31 (dk_at dksX0_ends_1 14 rfl rfl)
theorem dX0_ends_40 : decode cX0_ends 40 = .ok (.getfield 105, 3) := dk_180 0 105 (dk_at dksX0_ends_1 17 rfl rfl)
theorem dX0_ends_43 : decode cX0_ends 43 = .ok (.if_icmp .ge 80, 3) := dk_162 0 80 (dk_at dksX0_ends_1 20 rfl rfl)
theorem dX0_ends_46 : decode cX0_ends 46 = .ok (.iconst 0, 1) := dk_3 (dk_at dksX0_ends_1 23 rfl rfl)
theorem dX0_ends_47 : decode cX0_ends 47 = .ok (.istore 4, 2) := dk_54 4 (dk_at dksX0_ends_2 0 rfl rfl)
theorem dX0_ends_49 : decode cX0_ends 49 = .ok (.iload 4, 2) := dk_21 4 (dk_at dksX0_ends_2 2 rfl rfl)
theorem dX0_ends_51 : decode cX0_ends 51 = .ok (.bipush 20, 2) := dk_16 20 (dk_at dksX0_ends_2 4 rfl rfl)
theorem dX0_ends_53 : decode cX0_ends 53 = .ok (.if_icmp .ge 59, 3) := dk_162 0 59 (dk_at dksX0_ends_2 6 rfl rfl)
theorem dX0_ends_56 : decode cX0_ends 56 = .ok (.aload_n 1, 1) := dk_43 (dk_at dksX0_ends_2 9 rfl rfl)
theorem dX0_ends_57 : decode cX0_ends 57 = .ok (.getfield 140, 3) := dk_180 0 140 (dk_at dksX0_ends_2 10 rfl rfl)
theorem dX0_ends_60 : decode cX0_ends 60 = .ok (.bipush 20, 2) := dk_16 20 (dk_at dksX0_ends_2 13 rfl rfl)
theorem dX0_ends_62 : decode cX0_ends 62 = .ok (.iload_n 3, 1) := dk_29 (dk_at dksX0_ends_2 15 rfl rfl)
theorem dX0_ends_63 : decode cX0_ends 63 = .ok (.imul, 1) := dk_104 (dk_at dksX0_ends_2 16 rfl rfl)
theorem dX0_ends_64 : decode cX0_ends 64 = .ok (.iload 4, 2) := dk_21 4 (dk_at dksX0_ends_2 17 rfl rfl)
theorem dX0_ends_66 : decode cX0_ends 66 = .ok (.iadd, 1) := dk_96 (dk_at dksX0_ends_2 19 rfl rfl)
theorem dX0_ends_67 : decode cX0_ends 67 = .ok (.iaload, 1) := dk_46 (dk_at dksX0_ends_2 20 rfl rfl)
theorem dX0_ends_68 : decode cX0_ends 68 = .ok (.i2l, 1) := dk_133 (dk_at dksX0_ends_2 21 rfl rfl)
theorem dX0_ends_69 : decode cX0_ends 69 = .ok (.aload_n 0, 1) := dk_42 (dk_at dksX0_ends_2 22 rfl rfl)
theorem dX0_ends_70 : decode cX0_ends 70 = .ok (.getfield 82, 3) := dk_180 0 82 (dk_at dksX0_ends_3 0 rfl rfl)
theorem dX0_ends_73 : decode cX0_ends 73 = .ok (.iload_n 3, 1) := dk_29 (dk_at dksX0_ends_3 3 rfl rfl)
theorem dX0_ends_74 : decode cX0_ends 74 = .ok (.iaload, 1) := dk_46 (dk_at dksX0_ends_3 4 rfl rfl)
theorem dX0_ends_75 : decode cX0_ends 75 = .ok (.i2l, 1) := dk_133 (dk_at dksX0_ends_3 5 rfl rfl)
theorem dX0_ends_76 : decode cX0_ends 76 = .ok (.lmul, 1) := dk_105 (dk_at dksX0_ends_3 6 rfl rfl)
theorem dX0_ends_77 : decode cX0_ends 77 = .ok (.ldc2_w 20, 3) := dk_20 0 20 (dk_at dksX0_ends_3 7 rfl rfl)
theorem dX0_ends_80 : decode cX0_ends 80 = .ok (.ldiv, 1) := dk_109 (dk_at dksX0_ends_3 10 rfl rfl)
theorem dX0_ends_81 : decode cX0_ends 81 = .ok (.l2i, 1) := dk_136 (dk_at dksX0_ends_3 11 rfl rfl)
theorem dX0_ends_82 : decode cX0_ends 82 = .ok (.istore 5, 2) := dk_54 5 (dk_at dksX0_ends_3 12 rfl rfl)
theorem dX0_ends_84 : decode cX0_ends 84 = .ok (.aload_n 1, 1) := dk_43 (dk_at dksX0_ends_3 14 rfl rfl)
theorem dX0_ends_85 : decode cX0_ends 85 = .ok (.getfield 140, 3) := dk_180 0 140 (dk_at dksX0_ends_3 15 rfl rfl)
theorem dX0_ends_88 : decode cX0_ends 88 = .ok (.bipush 20, 2) := dk_16 20 (dk_at dksX0_ends_3 18 rfl rfl)
theorem dX0_ends_90 : decode cX0_ends 90 = .ok (.iload_n 3, 1) := dk_29 (dk_at dksX0_ends_3 20 rfl rfl)
theorem dX0_ends_91 : decode cX0_ends 91 = .ok (.imul, 1) := dk_104 (dk_at dksX0_ends_3 21 rfl rfl)
theorem dX0_ends_92 : decode cX0_ends 92 = .ok (.iload 4, 2) := dk_21 4 (dk_at dksX0_ends_3 22 rfl rfl)
theorem dX0_ends_94 : decode cX0_ends 94 = .ok (.iadd, 1) := dk_96 (dk_at dksX0_ends_4 0 rfl rfl)
theorem dX0_ends_95 : decode cX0_ends 95 = .ok (.dup2, 1) := dk_92 (dk_at dksX0_ends_4 1 rfl rfl)
theorem dX0_ends_96 : decode cX0_ends 96 = .ok (.iaload, 1) := dk_46 (dk_at dksX0_ends_4 2 rfl rfl)
theorem dX0_ends_97 : decode cX0_ends 97 = .ok (.iload 5, 2) := dk_21 5 (dk_at dksX0_ends_4 3 rfl rfl)
theorem dX0_ends_99 : decode cX0_ends 99 = .ok (.isub, 1) := dk_100 (dk_at dksX0_ends_4 5 rfl rfl)
theorem dX0_ends_100 : decode cX0_ends 100 = .ok (.iastore, 1) := dk_79 (dk_at dksX0_ends_4 6 rfl rfl)
theorem dX0_ends_101 : decode cX0_ends 101 = .ok (.iload_n 2, 1) := dk_28 (dk_at dksX0_ends_4 7 rfl rfl)
theorem dX0_ends_102 : decode cX0_ends 102 = .ok (.iload 5, 2) := dk_21 5 (dk_at dksX0_ends_4 8 rfl rfl)
theorem dX0_ends_104 : decode cX0_ends 104 = .ok (.iadd, 1) := dk_96 (dk_at dksX0_ends_4 10 rfl rfl)
theorem dX0_ends_105 : decode cX0_ends 105 = .ok (.istore_n 2, 1) := dk_61 (dk_at dksX0_ends_4 11 rfl rfl)
theorem dX0_ends_106 : decode cX0_ends 106 = .ok (.iinc 4 1, 3) := dk_132 4 1 (dk_at dksX0_ends_4 12 rfl rfl)
theorem dX0_ends_109 : decode cX0_ends 109 = .ok (.goto (-60), 3) := dk_167 255 196 (dk_at dksX0_ends_4 15 rfl rfl)
theorem dX0_ends_112 : decode cX0_ends 112 = .ok (.aload_n 1, 1) := dk_43 (dk_at dksX0_ends_4 18 rfl rfl)
theorem dX0_ends_113 : decode cX0_ends 113 = .ok (.iload_n 3, 1) := dk_29 (dk_at dksX0_ends_4 19 rfl rfl)
theorem dX0_ends_114 : decode cX0_ends 114 = .ok (.invokevirtual 315, 3) := dk_182 1 59 (dk_at dksX0_ends_4 20 rfl rfl)
theorem dX0_ends_117 : decode cX0_ends 117 = .ok (.iinc 3 1, 3) := dk_132 3 1 (dk_at dksX0_ends_5 0 rfl rfl)
theorem dX0_ends_120 : decode cX0_ends 120 = .ok (.goto (-85), 3) := dk_167 255 171 (dk_at dksX0_ends_5 3 rfl rfl)
theorem dX0_ends_123 : decode cX0_ends 123 = .ok (.aload_n 1, 1) := dk_43 (dk_at dksX0_ends_5 6 rfl rfl)
theorem dX0_ends_124 : decode cX0_ends 124 = .ok (.dup, 1) := dk_89 (dk_at dksX0_ends_5 7 rfl rfl)
theorem dX0_ends_125 : decode cX0_ends 125 = .ok (.getfield 186, 3) := dk_180 0 186 (dk_at dksX0_ends_5 8 rfl rfl)
theorem dX0_ends_128 : decode cX0_ends 128 = .ok (.iconst 1, 1) := dk_4 (dk_at dksX0_ends_5 11 rfl rfl)
theorem dX0_ends_129 : decode cX0_ends 129 = .ok (.iadd, 1) := dk_96 (dk_at dksX0_ends_5 12 rfl rfl)
theorem dX0_ends_130 : decode cX0_ends 130 = .ok (.putfield 186, 3) := dk_181 0 186 (dk_at dksX0_ends_5 13 rfl rfl)
theorem dX0_ends_133 : decode cX0_ends 133 = .ok (.iload_n 2, 1) := dk_28 (dk_at dksX0_ends_5 16 rfl rfl)
theorem dX0_ends_134 : decode cX0_ends 134 = .ok (.ireturn, 1) := dk_172 (dk_at dksX0_ends_5 17 rfl rfl)
abbrev cX0_undo : ByteArray := prog_1_method_58_code
def yX0_undo : MethodName := ⟨RX0, "undo", "()I"⟩
def dkwX0_undo_2 : List UInt8 := [180, 0, 98, 46, 182, 0, 101, 172]
abbrev dktX0_undo_2 : List UInt8 := dkwX0_undo_2 ++ []
def dkwX0_undo_1 : List UInt8 := [42, 182, 0, 137, 42, 180, 0, 41, 42, 180, 0, 98, 50, 182, 1, 62, 42, 42, 180, 0, 48, 42]
abbrev dktX0_undo_1 : List UInt8 := dkwX0_undo_1 ++ dktX0_undo_2
def dkwX0_undo_0 : List UInt8 := [42, 180, 0, 98, 154, 0, 10, 42, 16, 253, 182, 0, 122, 172, 42, 89, 180, 0, 98, 4, 100, 181, 0, 98]
abbrev dktX0_undo_0 : List UInt8 := dkwX0_undo_0 ++ dktX0_undo_1
theorem dksX0_undo_0 : cX0_undo.data.toList.drop 0 = dktX0_undo_0 := by decide +kernel
theorem dksX0_undo_1 : cX0_undo.data.toList.drop 24 = dktX0_undo_1 := dk_seg dksX0_undo_0 24 rfl rfl
theorem dksX0_undo_2 : cX0_undo.data.toList.drop 46 = dktX0_undo_2 := dk_seg dksX0_undo_1 22 rfl rfl
theorem dX0_undo_0 : decode cX0_undo 0 = .ok (.aload_n 0, 1) := dk_42 (dk_at dksX0_undo_0 0 rfl rfl)
theorem dX0_undo_1 : decode cX0_undo 1 = .ok (.getfield 98, 3) := dk_180 0 98 (dk_at dksX0_undo_0 1 rfl rfl)
theorem dX0_undo_4 : decode cX0_undo 4 = .ok (.ifCond .ne 10, 3) := dk_154 0 10 (dk_at dksX0_undo_0 4 rfl rfl)
theorem dX0_undo_7 : decode cX0_undo 7 = .ok (.aload_n 0, 1) := dk_42 (dk_at dksX0_undo_0 7 rfl rfl)
theorem dX0_undo_8 : decode cX0_undo 8 = .ok (.bipush (-3), 2) := dk_16 253 (dk_at dksX0_undo_0 8 rfl rfl)
theorem dX0_undo_10 : decode cX0_undo 10 = .ok (.invokevirtual 122, 3) := dk_182 0 122 (dk_at dksX0_undo_0 10 rfl rfl)
theorem dX0_undo_13 : decode cX0_undo 13 = .ok (.ireturn, 1) := dk_172 (dk_at dksX0_undo_0 13 rfl rfl)
theorem dX0_undo_14 : decode cX0_undo 14 = .ok (.aload_n 0, 1) := dk_42 (dk_at dksX0_undo_0 14 rfl rfl)
theorem dX0_undo_15 : decode cX0_undo 15 = .ok (.dup, 1) := dk_89 (dk_at dksX0_undo_0 15 rfl rfl)
theorem dX0_undo_16 : decode cX0_undo 16 = .ok (.getfield 98, 3) := dk_180 0 98 (dk_at dksX0_undo_0 16 rfl rfl)
theorem dX0_undo_19 : decode cX0_undo 19 = .ok (.iconst 1, 1) := dk_4 (dk_at dksX0_undo_0 19 rfl rfl)
theorem dX0_undo_20 : decode cX0_undo 20 = .ok (.isub, 1) := dk_100 (dk_at dksX0_undo_0 20 rfl rfl)
theorem dX0_undo_21 : decode cX0_undo 21 = .ok (.putfield 98, 3) := dk_181 0 98 (dk_at dksX0_undo_0 21 rfl rfl)
theorem dX0_undo_24 : decode cX0_undo 24 = .ok (.aload_n 0, 1) := dk_42 (dk_at dksX0_undo_1 0 rfl rfl)
theorem dX0_undo_25 : decode cX0_undo 25 = .ok (.invokevirtual 137, 3) := dk_182 0 137 (dk_at dksX0_undo_1 1 rfl rfl)
theorem dX0_undo_28 : decode cX0_undo 28 = .ok (.aload_n 0, 1) := dk_42 (dk_at dksX0_undo_1 4 rfl rfl)
theorem dX0_undo_29 : decode cX0_undo 29 = .ok (.getfield 41, 3) := dk_180 0 41 (dk_at dksX0_undo_1 5 rfl rfl)
theorem dX0_undo_32 : decode cX0_undo 32 = .ok (.aload_n 0, 1) := dk_42 (dk_at dksX0_undo_1 8 rfl rfl)
theorem dX0_undo_33 : decode cX0_undo 33 = .ok (.getfield 98, 3) := dk_180 0 98 (dk_at dksX0_undo_1 9 rfl rfl)
theorem dX0_undo_36 : decode cX0_undo 36 = .ok (.aaload, 1) := dk_50 (dk_at dksX0_undo_1 12 rfl rfl)
theorem dX0_undo_37 : decode cX0_undo 37 = .ok (.invokevirtual 318, 3) := dk_182 1 62 (dk_at dksX0_undo_1 13 rfl rfl)
theorem dX0_undo_40 : decode cX0_undo 40 = .ok (.aload_n 0, 1) := dk_42 (dk_at dksX0_undo_1 16 rfl rfl)
theorem dX0_undo_41 : decode cX0_undo 41 = .ok (.aload_n 0, 1) := dk_42 (dk_at dksX0_undo_1 17 rfl rfl)
theorem dX0_undo_42 : decode cX0_undo 42 = .ok (.getfield 48, 3) := dk_180 0 48 (dk_at dksX0_undo_1 18 rfl rfl)
theorem dX0_undo_45 : decode cX0_undo 45 = .ok (.aload_n 0, 1) := dk_42 (dk_at dksX0_undo_1 21 rfl rfl)
theorem dX0_undo_46 : decode cX0_undo 46 = .ok (.getfield 98, 3) := dk_180 0 98 (dk_at dksX0_undo_2 0 rfl rfl)
theorem dX0_undo_49 : decode cX0_undo 49 = .ok (.iaload, 1) := dk_46 (dk_at dksX0_undo_2 3 rfl rfl)
theorem dX0_undo_50 : decode cX0_undo 50 = .ok (.invokevirtual 101, 3) := dk_182 0 101 (dk_at dksX0_undo_2 4 rfl rfl)
theorem dX0_undo_53 : decode cX0_undo 53 = .ok (.ireturn, 1) := dk_172 (dk_at dksX0_undo_2 7 rfl rfl)
abbrev cX0_orders : ByteArray := prog_1_method_59_code
def yX0_orders : MethodName := ⟨RX0, "orders", "()I"⟩
def dkwX0_orders_10 : List UInt8 := [167, 255, 164, 132, 6, 1, 167, 255, 129, 42, 21, 4, 182, 0, 101, 172]
abbrev dktX0_orders_10 : List UInt8 := dkwX0_orders_10 ++ []
def dkwX0_orders_9 : List UInt8 := [25, 7, 180, 1, 133, 5, 160, 0, 8, 21, 9, 167, 0, 5, 21, 5, 54, 5, 132, 4, 1, 132, 8, 1]
abbrev dktX0_orders_9 : List UInt8 := dkwX0_orders_9 ++ dktX0_orders_10
def dkwX0_orders_8 : List UInt8 := [21, 9, 156, 0, 21, 42, 29, 182, 1, 130, 42, 21, 6, 181, 0, 69, 42, 16, 253, 182, 0, 122, 172]
abbrev dktX0_orders_8 : List UInt8 := dkwX0_orders_8 ++ dktX0_orders_9
def dkwX0_orders_7 : List UInt8 := [25, 7, 42, 180, 0, 75, 182, 1, 122, 154, 0, 6, 167, 0, 55, 42, 25, 7, 182, 1, 126, 54, 9]
abbrev dktX0_orders_7 : List UInt8 := dkwX0_orders_7 ++ dktX0_orders_8
def dkwX0_orders_6 : List UInt8 := [54, 8, 21, 8, 25, 7, 180, 1, 115, 162, 0, 88, 42, 42, 182, 0, 137, 21, 4, 21, 5, 182, 1, 118]
abbrev dktX0_orders_6 : List UInt8 := dkwX0_orders_6 ++ dktX0_orders_7
def dkwX0_orders_5 : List UInt8 := [180, 0, 250, 182, 0, 116, 162, 0, 121, 44, 180, 0, 250, 21, 6, 182, 1, 15, 192, 1, 113, 58, 7, 3]
abbrev dktX0_orders_5 : List UInt8 := dkwX0_orders_5 ++ dktX0_orders_6
def dkwX0_orders_4 : List UInt8 := [16, 16, 184, 1, 107, 42, 180, 0, 98, 62, 3, 54, 4, 2, 54, 5, 3, 54, 6, 21, 6, 44]
abbrev dktX0_orders_4 : List UInt8 := dkwX0_orders_4 ++ dktX0_orders_5
def dkwX0_orders_3 : List UInt8 := [180, 0, 41, 29, 50, 182, 1, 62, 132, 3, 1, 167, 255, 230, 42, 180, 0, 48, 3, 42, 180, 0, 51, 3]
abbrev dktX0_orders_3 : List UInt8 := dkwX0_orders_3 ++ dktX0_orders_4
def dkwX0_orders_2 : List UInt8 := [182, 0, 137, 182, 1, 62, 3, 62, 29, 42, 180, 0, 98, 162, 0, 24, 42, 180, 0, 45, 29, 50, 42]
abbrev dktX0_orders_2 : List UInt8 := dkwX0_orders_2 ++ dktX0_orders_3
def dkwX0_orders_1 : List UInt8 := [183, 0, 247, 77, 42, 44, 182, 0, 229, 154, 0, 10, 42, 16, 250, 182, 0, 122, 172, 42, 180, 0, 55, 42]
abbrev dktX0_orders_1 : List UInt8 := dkwX0_orders_1 ++ dktX0_orders_2
def dkwX0_orders_0 : List UInt8 := [42, 180, 0, 201, 60, 42, 3, 181, 0, 201, 42, 2, 181, 0, 69, 187, 0, 245, 89, 42, 180, 0, 62, 27]
abbrev dktX0_orders_0 : List UInt8 := dkwX0_orders_0 ++ dktX0_orders_1
theorem dksX0_orders_0 : cX0_orders.data.toList.drop 0 = dktX0_orders_0 := by decide +kernel
theorem dksX0_orders_1 : cX0_orders.data.toList.drop 24 = dktX0_orders_1 := dk_seg dksX0_orders_0 24 rfl rfl
theorem dksX0_orders_2 : cX0_orders.data.toList.drop 48 = dktX0_orders_2 := dk_seg dksX0_orders_1 24 rfl rfl
theorem dksX0_orders_3 : cX0_orders.data.toList.drop 71 = dktX0_orders_3 := dk_seg dksX0_orders_2 23 rfl rfl
theorem dksX0_orders_4 : cX0_orders.data.toList.drop 95 = dktX0_orders_4 := dk_seg dksX0_orders_3 24 rfl rfl
theorem dksX0_orders_5 : cX0_orders.data.toList.drop 117 = dktX0_orders_5 := dk_seg dksX0_orders_4 22 rfl rfl
theorem dksX0_orders_6 : cX0_orders.data.toList.drop 141 = dktX0_orders_6 := dk_seg dksX0_orders_5 24 rfl rfl
theorem dksX0_orders_7 : cX0_orders.data.toList.drop 165 = dktX0_orders_7 := dk_seg dksX0_orders_6 24 rfl rfl
theorem dksX0_orders_8 : cX0_orders.data.toList.drop 188 = dktX0_orders_8 := dk_seg dksX0_orders_7 23 rfl rfl
theorem dksX0_orders_9 : cX0_orders.data.toList.drop 211 = dktX0_orders_9 := dk_seg dksX0_orders_8 23 rfl rfl
theorem dksX0_orders_10 : cX0_orders.data.toList.drop 235 = dktX0_orders_10 := dk_seg dksX0_orders_9 24 rfl rfl
theorem dX0_orders_0 : decode cX0_orders 0 = .ok (.aload_n 0, 1) := dk_42 (dk_at dksX0_orders_0 0 rfl rfl)
theorem dX0_orders_1 : decode cX0_orders 1 = .ok (.getfield 201, 3) := dk_180 0 201 (dk_at dksX0_orders_0 1 rfl rfl)
theorem dX0_orders_4 : decode cX0_orders 4 = .ok (.istore_n 1, 1) := dk_60 (dk_at dksX0_orders_0 4 rfl rfl)
theorem dX0_orders_5 : decode cX0_orders 5 = .ok (.aload_n 0, 1) := dk_42 (dk_at dksX0_orders_0 5 rfl rfl)
theorem dX0_orders_6 : decode cX0_orders 6 = .ok (.iconst 0, 1) := dk_3 (dk_at dksX0_orders_0 6 rfl rfl)
theorem dX0_orders_7 : decode cX0_orders 7 = .ok (.putfield 201, 3) := dk_181 0 201 (dk_at dksX0_orders_0 7 rfl rfl)
theorem dX0_orders_10 : decode cX0_orders 10 = .ok (.aload_n 0, 1) := dk_42 (dk_at dksX0_orders_0 10 rfl rfl)
theorem dX0_orders_11 : decode cX0_orders 11 = .ok (.iconst (-1), 1) := dk_2 (dk_at dksX0_orders_0 11 rfl rfl)
theorem dX0_orders_12 : decode cX0_orders 12 = .ok (.putfield 69, 3) := dk_181 0 69 (dk_at dksX0_orders_0 12 rfl rfl)
theorem dX0_orders_15 : decode cX0_orders 15 = .ok (.new 245, 3) := dk_187 0 245 (dk_at dksX0_orders_0 15 rfl rfl)
theorem dX0_orders_18 : decode cX0_orders 18 = .ok (.dup, 1) := dk_89 (dk_at dksX0_orders_0 18 rfl rfl)
theorem dX0_orders_19 : decode cX0_orders 19 = .ok (.aload_n 0, 1) := dk_42 (dk_at dksX0_orders_0 19 rfl rfl)
theorem dX0_orders_20 : decode cX0_orders 20 = .ok (.getfield 62, 3) := dk_180 0 62 (dk_at dksX0_orders_0 20 rfl rfl)
theorem dX0_orders_23 : decode cX0_orders 23 = .ok (.iload_n 1, 1) := dk_27 (dk_at dksX0_orders_0 23 rfl rfl)
theorem dX0_orders_24 : decode cX0_orders 24 = .ok (.invokespecial 247, 3) := dk_183 0 247 (dk_at dksX0_orders_1 0 rfl rfl)
theorem dX0_orders_27 : decode cX0_orders 27 = .ok (.astore_n 2, 1) := dk_77 (dk_at dksX0_orders_1 3 rfl rfl)
theorem dX0_orders_28 : decode cX0_orders 28 = .ok (.aload_n 0, 1) := dk_42 (dk_at dksX0_orders_1 4 rfl rfl)
theorem dX0_orders_29 : decode cX0_orders 29 = .ok (.aload_n 2, 1) := dk_44 (dk_at dksX0_orders_1 5 rfl rfl)
theorem dX0_orders_30 : decode cX0_orders 30 = .ok (.invokevirtual 229, 3) := dk_182 0 229 (dk_at dksX0_orders_1 6 rfl rfl)
theorem dX0_orders_33 : decode cX0_orders 33 = .ok (.ifCond .ne 10, 3) := dk_154 0 10 (dk_at dksX0_orders_1 9 rfl rfl)
theorem dX0_orders_36 : decode cX0_orders 36 = .ok (.aload_n 0, 1) := dk_42 (dk_at dksX0_orders_1 12 rfl rfl)
theorem dX0_orders_37 : decode cX0_orders 37 = .ok (.bipush (-6), 2) := dk_16 250 (dk_at dksX0_orders_1 13 rfl rfl)
theorem dX0_orders_39 : decode cX0_orders 39 = .ok (.invokevirtual 122, 3) := dk_182 0 122 (dk_at dksX0_orders_1 15 rfl rfl)
theorem dX0_orders_42 : decode cX0_orders 42 = .ok (.ireturn, 1) := dk_172 (dk_at dksX0_orders_1 18 rfl rfl)
theorem dX0_orders_43 : decode cX0_orders 43 = .ok (.aload_n 0, 1) := dk_42 (dk_at dksX0_orders_1 19 rfl rfl)
theorem dX0_orders_44 : decode cX0_orders 44 = .ok (.getfield 55, 3) := dk_180 0 55 (dk_at dksX0_orders_1 20 rfl rfl)
theorem dX0_orders_47 : decode cX0_orders 47 = .ok (.aload_n 0, 1) := dk_42 (dk_at dksX0_orders_1 23 rfl rfl)
theorem dX0_orders_48 : decode cX0_orders 48 = .ok (.invokevirtual 137, 3) := dk_182 0 137 (dk_at dksX0_orders_2 0 rfl rfl)
theorem dX0_orders_51 : decode cX0_orders 51 = .ok (.invokevirtual 318, 3) := dk_182 1 62 (dk_at dksX0_orders_2 3 rfl rfl)
theorem dX0_orders_54 : decode cX0_orders 54 = .ok (.iconst 0, 1) := dk_3 (dk_at dksX0_orders_2 6 rfl rfl)
theorem dX0_orders_55 : decode cX0_orders 55 = .ok (.istore_n 3, 1) := dk_62 (dk_at dksX0_orders_2 7 rfl rfl)
theorem dX0_orders_56 : decode cX0_orders 56 = .ok (.iload_n 3, 1) := dk_29 (dk_at dksX0_orders_2 8 rfl rfl)
theorem dX0_orders_57 : decode cX0_orders 57 = .ok (.aload_n 0, 1) := dk_42 (dk_at dksX0_orders_2 9 rfl rfl)
theorem dX0_orders_58 : decode cX0_orders 58 = .ok (.getfield 98, 3) := dk_180 0 98 (dk_at dksX0_orders_2 10 rfl rfl)
theorem dX0_orders_61 : decode cX0_orders 61 = .ok (.if_icmp .ge 24, 3) := dk_162 0 24 (dk_at dksX0_orders_2 13 rfl rfl)
theorem dX0_orders_64 : decode cX0_orders 64 = .ok (.aload_n 0, 1) := dk_42 (dk_at dksX0_orders_2 16 rfl rfl)
theorem dX0_orders_65 : decode cX0_orders 65 = .ok (.getfield 45, 3) := dk_180 0 45 (dk_at dksX0_orders_2 17 rfl rfl)
theorem dX0_orders_68 : decode cX0_orders 68 = .ok (.iload_n 3, 1) := dk_29 (dk_at dksX0_orders_2 20 rfl rfl)
theorem dX0_orders_69 : decode cX0_orders 69 = .ok (.aaload, 1) := dk_50 (dk_at dksX0_orders_2 21 rfl rfl)
theorem dX0_orders_70 : decode cX0_orders 70 = .ok (.aload_n 0, 1) := dk_42 (dk_at dksX0_orders_2 22 rfl rfl)
theorem dX0_orders_71 : decode cX0_orders 71 = .ok (.getfield 41, 3) := dk_180 0 41 (dk_at dksX0_orders_3 0 rfl rfl)
theorem dX0_orders_74 : decode cX0_orders 74 = .ok (.iload_n 3, 1) := dk_29 (dk_at dksX0_orders_3 3 rfl rfl)
theorem dX0_orders_75 : decode cX0_orders 75 = .ok (.aaload, 1) := dk_50 (dk_at dksX0_orders_3 4 rfl rfl)
theorem dX0_orders_76 : decode cX0_orders 76 = .ok (.invokevirtual 318, 3) := dk_182 1 62 (dk_at dksX0_orders_3 5 rfl rfl)
theorem dX0_orders_79 : decode cX0_orders 79 = .ok (.iinc 3 1, 3) := dk_132 3 1 (dk_at dksX0_orders_3 8 rfl rfl)
theorem dX0_orders_82 : decode cX0_orders 82 = .ok (.goto (-26), 3) := dk_167 255 230 (dk_at dksX0_orders_3 11 rfl rfl)
theorem dX0_orders_85 : decode cX0_orders 85 = .ok (.aload_n 0, 1) := dk_42 (dk_at dksX0_orders_3 14 rfl rfl)
theorem dX0_orders_86 : decode cX0_orders 86 = .ok (.getfield 48, 3) := dk_180 0 48 (dk_at dksX0_orders_3 15 rfl rfl)
theorem dX0_orders_89 : decode cX0_orders 89 = .ok (.iconst 0, 1) := dk_3 (dk_at dksX0_orders_3 18 rfl rfl)
theorem dX0_orders_90 : decode cX0_orders 90 = .ok (.aload_n 0, 1) := dk_42 (dk_at dksX0_orders_3 19 rfl rfl)
theorem dX0_orders_91 : decode cX0_orders 91 = .ok (.getfield 51, 3) := dk_180 0 51 (dk_at dksX0_orders_3 20 rfl rfl)
theorem dX0_orders_94 : decode cX0_orders 94 = .ok (.iconst 0, 1) := dk_3 (dk_at dksX0_orders_3 23 rfl rfl)
theorem dX0_orders_95 : decode cX0_orders 95 = .ok (.bipush 16, 2) := dk_16 16 (dk_at dksX0_orders_4 0 rfl rfl)
theorem dX0_orders_97 : decode cX0_orders 97 = .ok (.invokestatic 363, 3) := dk_184 1 107 (dk_at dksX0_orders_4 2 rfl rfl)
theorem dX0_orders_100 : decode cX0_orders 100 = .ok (.aload_n 0, 1) := dk_42 (dk_at dksX0_orders_4 5 rfl rfl)
theorem dX0_orders_101 : decode cX0_orders 101 = .ok (.getfield 98, 3) := dk_180 0 98 (dk_at dksX0_orders_4 6 rfl rfl)
theorem dX0_orders_104 : decode cX0_orders 104 = .ok (.istore_n 3, 1) := dk_62 (dk_at dksX0_orders_4 9 rfl rfl)
theorem dX0_orders_105 : decode cX0_orders 105 = .ok (.iconst 0, 1) := dk_3 (dk_at dksX0_orders_4 10 rfl rfl)
theorem dX0_orders_106 : decode cX0_orders 106 = .ok (.istore 4, 2) := dk_54 4 (dk_at dksX0_orders_4 11 rfl rfl)
theorem dX0_orders_108 : decode cX0_orders 108 = .ok (.iconst (-1), 1) := dk_2 (dk_at dksX0_orders_4 13 rfl rfl)
theorem dX0_orders_109 : decode cX0_orders 109 = .ok (.istore 5, 2) := dk_54 5 (dk_at dksX0_orders_4 14 rfl rfl)
theorem dX0_orders_111 : decode cX0_orders 111 = .ok (.iconst 0, 1) := dk_3 (dk_at dksX0_orders_4 16 rfl rfl)
theorem dX0_orders_112 : decode cX0_orders 112 = .ok (.istore 6, 2) := dk_54 6 (dk_at dksX0_orders_4 17 rfl rfl)
theorem dX0_orders_114 : decode cX0_orders 114 = .ok (.iload 6, 2) := dk_21 6 (dk_at dksX0_orders_4 19 rfl rfl)
theorem dX0_orders_116 : decode cX0_orders 116 = .ok (.aload_n 2, 1) := dk_44 (dk_at dksX0_orders_4 21 rfl rfl)
theorem dX0_orders_117 : decode cX0_orders 117 = .ok (.getfield 250, 3) := dk_180 0 250 (dk_at dksX0_orders_5 0 rfl rfl)
theorem dX0_orders_120 : decode cX0_orders 120 = .ok (.invokevirtual 116, 3) := dk_182 0 116 (dk_at dksX0_orders_5 3 rfl rfl)
theorem dX0_orders_123 : decode cX0_orders 123 = .ok (.if_icmp .ge 121, 3) := dk_162 0 121 (dk_at dksX0_orders_5 6 rfl rfl)
theorem dX0_orders_126 : decode cX0_orders 126 = .ok (.aload_n 2, 1) := dk_44 (dk_at dksX0_orders_5 9 rfl rfl)
theorem dX0_orders_127 : decode cX0_orders 127 = .ok (.getfield 250, 3) := dk_180 0 250 (dk_at dksX0_orders_5 10 rfl rfl)
theorem dX0_orders_130 : decode cX0_orders 130 = .ok (.iload 6, 2) := dk_21 6 (dk_at dksX0_orders_5 13 rfl rfl)
theorem dX0_orders_132 : decode cX0_orders 132 = .ok (.invokevirtual 271, 3) := dk_182 1 15 (dk_at dksX0_orders_5 15 rfl rfl)
theorem dX0_orders_135 : decode cX0_orders 135 = .ok (.checkcast 369, 3) := dk_192 1 113 (dk_at dksX0_orders_5 18 rfl rfl)
theorem dX0_orders_138 : decode cX0_orders 138 = .ok (.astore 7, 2) := dk_58 7 (dk_at dksX0_orders_5 21 rfl rfl)
theorem dX0_orders_140 : decode cX0_orders 140 = .ok (.iconst 0, 1) := dk_3 (dk_at dksX0_orders_5 23 rfl rfl)
theorem dX0_orders_141 : decode cX0_orders 141 = .ok (.istore 8, 2) := dk_54 8 (dk_at dksX0_orders_6 0 rfl rfl)
theorem dX0_orders_143 : decode cX0_orders 143 = .ok (.iload 8, 2) := dk_21 8 (dk_at dksX0_orders_6 2 rfl rfl)
theorem dX0_orders_145 : decode cX0_orders 145 = .ok (.aload 7, 2) := dk_25 7 (dk_at dksX0_orders_6 4 rfl rfl)
theorem dX0_orders_147 : decode cX0_orders 147 = .ok (.getfield 371, 3) := dk_180 1 115 (dk_at dksX0_orders_6 6 rfl rfl)
theorem dX0_orders_150 : decode cX0_orders 150 = .ok (.if_icmp .ge 88, 3) := dk_162 0 88 (dk_at dksX0_orders_6 9 rfl rfl)
theorem dX0_orders_153 : decode cX0_orders 153 = .ok (.aload_n 0, 1) := dk_42 (dk_at dksX0_orders_6 12 rfl rfl)
theorem dX0_orders_154 : decode cX0_orders 154 = .ok (.aload_n 0, 1) := dk_42 (dk_at dksX0_orders_6 13 rfl rfl)
theorem dX0_orders_155 : decode cX0_orders 155 = .ok (.invokevirtual 137, 3) := dk_182 0 137 (dk_at dksX0_orders_6 14 rfl rfl)
theorem dX0_orders_158 : decode cX0_orders 158 = .ok (.iload 4, 2) := dk_21 4 (dk_at dksX0_orders_6 17 rfl rfl)
theorem dX0_orders_160 : decode cX0_orders 160 = .ok (.iload 5, 2) := dk_21 5 (dk_at dksX0_orders_6 19 rfl rfl)
theorem dX0_orders_162 : decode cX0_orders 162 = .ok (.invokevirtual 374, 3) := dk_182 1 118 (dk_at dksX0_orders_6 21 rfl rfl)
theorem dX0_orders_165 : decode cX0_orders 165 = .ok (.aload 7, 2) := dk_25 7 (dk_at dksX0_orders_7 0 rfl rfl)
theorem dX0_orders_167 : decode cX0_orders 167 = .ok (.aload_n 0, 1) := dk_42 (dk_at dksX0_orders_7 2 rfl rfl)
theorem dX0_orders_168 : decode cX0_orders 168 = .ok (.getfield 75, 3) := dk_180 0 75 (dk_at dksX0_orders_7 3 rfl rfl)
theorem dX0_orders_171 : decode cX0_orders 171 = .ok (.invokevirtual 378, 3) := dk_182 1 122 (dk_at dksX0_orders_7 6 rfl rfl)
theorem dX0_orders_174 : decode cX0_orders 174 = .ok (.ifCond .ne 6, 3) := dk_154 0 6 (dk_at dksX0_orders_7 9 rfl rfl)
theorem dX0_orders_177 : decode cX0_orders 177 = .ok (.goto 55, 3) := dk_167 0 55 (dk_at dksX0_orders_7 12 rfl rfl)
theorem dX0_orders_180 : decode cX0_orders 180 = .ok (.aload_n 0, 1) := dk_42 (dk_at dksX0_orders_7 15 rfl rfl)
theorem dX0_orders_181 : decode cX0_orders 181 = .ok (.aload 7, 2) := dk_25 7 (dk_at dksX0_orders_7 16 rfl rfl)
theorem dX0_orders_183 : decode cX0_orders 183 = .ok (.invokevirtual 382, 3) := dk_182 1 126 (dk_at dksX0_orders_7 18 rfl rfl)
theorem dX0_orders_186 : decode cX0_orders 186 = .ok (.istore 9, 2) := dk_54 9 (dk_at dksX0_orders_7 21 rfl rfl)
theorem dX0_orders_188 : decode cX0_orders 188 = .ok (.iload 9, 2) := dk_21 9 (dk_at dksX0_orders_8 0 rfl rfl)
theorem dX0_orders_190 : decode cX0_orders 190 = .ok (.ifCond .ge 21, 3) := dk_156 0 21 (dk_at dksX0_orders_8 2 rfl rfl)
theorem dX0_orders_193 : decode cX0_orders 193 = .ok (.aload_n 0, 1) := dk_42 (dk_at dksX0_orders_8 5 rfl rfl)
theorem dX0_orders_194 : decode cX0_orders 194 = .ok (.iload_n 3, 1) := dk_29 (dk_at dksX0_orders_8 6 rfl rfl)
theorem dX0_orders_195 : decode cX0_orders 195 = .ok (.invokevirtual 386, 3) := dk_182 1 130 (dk_at dksX0_orders_8 7 rfl rfl)
theorem dX0_orders_198 : decode cX0_orders 198 = .ok (.aload_n 0, 1) := dk_42 (dk_at dksX0_orders_8 10 rfl rfl)
theorem dX0_orders_199 : decode cX0_orders 199 = .ok (.iload 6, 2) := dk_21 6 (dk_at dksX0_orders_8 11 rfl rfl)
theorem dX0_orders_201 : decode cX0_orders 201 = .ok (.putfield 69, 3) := dk_181 0 69 (dk_at dksX0_orders_8 13 rfl rfl)
theorem dX0_orders_204 : decode cX0_orders 204 = .ok (.aload_n 0, 1) := dk_42 (dk_at dksX0_orders_8 16 rfl rfl)
theorem dX0_orders_205 : decode cX0_orders 205 = .ok (.bipush (-3), 2) := dk_16 253 (dk_at dksX0_orders_8 17 rfl rfl)
theorem dX0_orders_207 : decode cX0_orders 207 = .ok (.invokevirtual 122, 3) := dk_182 0 122 (dk_at dksX0_orders_8 19 rfl rfl)
theorem dX0_orders_210 : decode cX0_orders 210 = .ok (.ireturn, 1) := dk_172 (dk_at dksX0_orders_8 22 rfl rfl)
theorem dX0_orders_211 : decode cX0_orders 211 = .ok (.aload 7, 2) := dk_25 7 (dk_at dksX0_orders_9 0 rfl rfl)
theorem dX0_orders_213 : decode cX0_orders 213 = .ok (.getfield 389, 3) := dk_180 1 133 (dk_at dksX0_orders_9 2 rfl rfl)
theorem dX0_orders_216 : decode cX0_orders 216 = .ok (.iconst 2, 1) := dk_5 (dk_at dksX0_orders_9 5 rfl rfl)
theorem dX0_orders_217 : decode cX0_orders 217 = .ok (.if_icmp .ne 8, 3) := dk_160 0 8 (dk_at dksX0_orders_9 6 rfl rfl)
theorem dX0_orders_220 : decode cX0_orders 220 = .ok (.iload 9, 2) := dk_21 9 (dk_at dksX0_orders_9 9 rfl rfl)
theorem dX0_orders_222 : decode cX0_orders 222 = .ok (.goto 5, 3) := dk_167 0 5 (dk_at dksX0_orders_9 11 rfl rfl)
theorem dX0_orders_225 : decode cX0_orders 225 = .ok (.iload 5, 2) := dk_21 5 (dk_at dksX0_orders_9 14 rfl rfl)
theorem dX0_orders_227 : decode cX0_orders 227 = .ok (.istore 5, 2) := dk_54 5 (dk_at dksX0_orders_9 16 rfl rfl)
theorem dX0_orders_229 : decode cX0_orders 229 = .ok (.iinc 4 1, 3) := dk_132 4 1 (dk_at dksX0_orders_9 18 rfl rfl)
theorem dX0_orders_232 : decode cX0_orders 232 = .ok (.iinc 8 1, 3) := dk_132 8 1 (dk_at dksX0_orders_9 21 rfl rfl)
theorem dX0_orders_235 : decode cX0_orders 235 = .ok (.goto (-92), 3) := dk_167 255 164 (dk_at dksX0_orders_10 0 rfl rfl)
theorem dX0_orders_238 : decode cX0_orders 238 = .ok (.iinc 6 1, 3) := dk_132 6 1 (dk_at dksX0_orders_10 3 rfl rfl)
theorem dX0_orders_241 : decode cX0_orders 241 = .ok (.goto (-127), 3) := dk_167 255 129 (dk_at dksX0_orders_10 6 rfl rfl)
theorem dX0_orders_244 : decode cX0_orders 244 = .ok (.aload_n 0, 1) := dk_42 (dk_at dksX0_orders_10 9 rfl rfl)
theorem dX0_orders_245 : decode cX0_orders 245 = .ok (.iload 4, 2) := dk_21 4 (dk_at dksX0_orders_10 10 rfl rfl)
theorem dX0_orders_247 : decode cX0_orders 247 = .ok (.invokevirtual 101, 3) := dk_182 0 101 (dk_at dksX0_orders_10 12 rfl rfl)
theorem dX0_orders_250 : decode cX0_orders 250 = .ok (.ireturn, 1) := dk_172 (dk_at dksX0_orders_10 15 rfl rfl)
abbrev cX0_tellsOrder : ByteArray := prog_1_method_62_code
def yX0_tellsOrder : MethodName := ⟨RX0, "tellsOrder", "(LSoleraCellar$Table;II)V"⟩
def dkwX0_tellsOrder_6 : List UInt8 := [153, 0, 13, 43, 21, 5, 182, 1, 12, 133, 167, 0, 6, 20, 0, 179, 80, 132, 5, 1, 167, 255, 138, 177]
abbrev dktX0_tellsOrder_6 : List UInt8 := dkwX0_tellsOrder_6 ++ []
def dkwX0_tellsOrder_5 : List UInt8 := [108, 133, 167, 0, 6, 20, 0, 179, 80, 25, 4, 16, 20, 21, 5, 96, 42, 21, 5, 182, 0, 151]
abbrev dktX0_tellsOrder_5 : List UInt8 := dkwX0_tellsOrder_5 ++ dktX0_tellsOrder_6
def dkwX0_tellsOrder_4 : List UInt8 := [42, 180, 0, 31, 180, 0, 135, 21, 5, 46, 17, 3, 232, 104, 43, 21, 5, 182, 0, 155, 100, 17, 3, 232]
abbrev dktX0_tellsOrder_4 : List UInt8 := dkwX0_tellsOrder_4 ++ dktX0_tellsOrder_5
def dkwX0_tellsOrder_3 : List UInt8 := [133, 167, 0, 6, 20, 0, 179, 80, 25, 4, 16, 12, 21, 5, 96, 42, 21, 5, 182, 0, 151, 153, 0, 32]
abbrev dktX0_tellsOrder_3 : List UInt8 := dkwX0_tellsOrder_3 ++ dktX0_tellsOrder_4
def dkwX0_tellsOrder_2 : List UInt8 := [162, 0, 117, 25, 4, 7, 21, 5, 96, 42, 21, 5, 182, 0, 151, 153, 0, 13, 43, 21, 5, 182, 1, 9]
abbrev dktX0_tellsOrder_2 : List UInt8 := dkwX0_tellsOrder_2 ++ dktX0_tellsOrder_3
def dkwX0_tellsOrder_1 : List UInt8 := [25, 4, 5, 29, 133, 80, 25, 4, 6, 43, 180, 1, 50, 133, 80, 3, 54, 5, 21, 5, 16, 8]
abbrev dktX0_tellsOrder_1 : List UInt8 := dkwX0_tellsOrder_1 ++ dktX0_tellsOrder_2
def dkwX0_tellsOrder_0 : List UInt8 := [42, 180, 0, 75, 180, 1, 6, 58, 4, 25, 4, 3, 43, 180, 0, 186, 133, 80, 25, 4, 4, 28, 133, 80]
abbrev dktX0_tellsOrder_0 : List UInt8 := dkwX0_tellsOrder_0 ++ dktX0_tellsOrder_1
theorem dksX0_tellsOrder_0 : cX0_tellsOrder.data.toList.drop 0 = dktX0_tellsOrder_0 := by decide +kernel
theorem dksX0_tellsOrder_1 : cX0_tellsOrder.data.toList.drop 24 = dktX0_tellsOrder_1 := dk_seg dksX0_tellsOrder_0 24 rfl rfl
theorem dksX0_tellsOrder_2 : cX0_tellsOrder.data.toList.drop 46 = dktX0_tellsOrder_2 := dk_seg dksX0_tellsOrder_1 22 rfl rfl
theorem dksX0_tellsOrder_3 : cX0_tellsOrder.data.toList.drop 70 = dktX0_tellsOrder_3 := dk_seg dksX0_tellsOrder_2 24 rfl rfl
theorem dksX0_tellsOrder_4 : cX0_tellsOrder.data.toList.drop 94 = dktX0_tellsOrder_4 := dk_seg dksX0_tellsOrder_3 24 rfl rfl
theorem dksX0_tellsOrder_5 : cX0_tellsOrder.data.toList.drop 118 = dktX0_tellsOrder_5 := dk_seg dksX0_tellsOrder_4 24 rfl rfl
theorem dksX0_tellsOrder_6 : cX0_tellsOrder.data.toList.drop 140 = dktX0_tellsOrder_6 := dk_seg dksX0_tellsOrder_5 22 rfl rfl
theorem dX0_tellsOrder_0 : decode cX0_tellsOrder 0 = .ok (.aload_n 0, 1) := dk_42 (dk_at dksX0_tellsOrder_0 0 rfl rfl)
theorem dX0_tellsOrder_1 : decode cX0_tellsOrder 1 = .ok (.getfield 75, 3) := dk_180 0 75 (dk_at dksX0_tellsOrder_0 1 rfl rfl)
theorem dX0_tellsOrder_4 : decode cX0_tellsOrder 4 = .ok (.getfield 262, 3) := dk_180 1 6 (dk_at dksX0_tellsOrder_0 4 rfl rfl)
theorem dX0_tellsOrder_7 : decode cX0_tellsOrder 7 = .ok (.astore 4, 2) := dk_58 4 (dk_at dksX0_tellsOrder_0 7 rfl rfl)
theorem dX0_tellsOrder_9 : decode cX0_tellsOrder 9 = .ok (.aload 4, 2) := dk_25 4 (dk_at dksX0_tellsOrder_0 9 rfl rfl)
theorem dX0_tellsOrder_11 : decode cX0_tellsOrder 11 = .ok (.iconst 0, 1) := dk_3 (dk_at dksX0_tellsOrder_0 11 rfl rfl)
theorem dX0_tellsOrder_12 : decode cX0_tellsOrder 12 = .ok (.aload_n 1, 1) := dk_43 (dk_at dksX0_tellsOrder_0 12 rfl rfl)
theorem dX0_tellsOrder_13 : decode cX0_tellsOrder 13 = .ok (.getfield 186, 3) := dk_180 0 186 (dk_at dksX0_tellsOrder_0 13 rfl rfl)
theorem dX0_tellsOrder_16 : decode cX0_tellsOrder 16 = .ok (.i2l, 1) := dk_133 (dk_at dksX0_tellsOrder_0 16 rfl rfl)
theorem dX0_tellsOrder_17 : decode cX0_tellsOrder 17 = .ok (.lastore, 1) := dk_80 (dk_at dksX0_tellsOrder_0 17 rfl rfl)
theorem dX0_tellsOrder_18 : decode cX0_tellsOrder 18 = .ok (.aload 4, 2) := dk_25 4 (dk_at dksX0_tellsOrder_0 18 rfl rfl)
theorem dX0_tellsOrder_20 : decode cX0_tellsOrder 20 = .ok (.iconst 1, 1) := dk_4 (dk_at dksX0_tellsOrder_0 20 rfl rfl)
theorem dX0_tellsOrder_21 : decode cX0_tellsOrder 21 = .ok (.iload_n 2, 1) := dk_28 (dk_at dksX0_tellsOrder_0 21 rfl rfl)
theorem dX0_tellsOrder_22 : decode cX0_tellsOrder 22 = .ok (.i2l, 1) := dk_133 (dk_at dksX0_tellsOrder_0 22 rfl rfl)
theorem dX0_tellsOrder_23 : decode cX0_tellsOrder 23 = .ok (.lastore, 1) := dk_80 (dk_at dksX0_tellsOrder_0 23 rfl rfl)
theorem dX0_tellsOrder_24 : decode cX0_tellsOrder 24 = .ok (.aload 4, 2) := dk_25 4 (dk_at dksX0_tellsOrder_1 0 rfl rfl)
theorem dX0_tellsOrder_26 : decode cX0_tellsOrder 26 = .ok (.iconst 2, 1) := dk_5 (dk_at dksX0_tellsOrder_1 2 rfl rfl)
theorem dX0_tellsOrder_27 : decode cX0_tellsOrder 27 = .ok (.iload_n 3, 1) := dk_29 (dk_at dksX0_tellsOrder_1 3 rfl rfl)
theorem dX0_tellsOrder_28 : decode cX0_tellsOrder 28 = .ok (.i2l, 1) := dk_133 (dk_at dksX0_tellsOrder_1 4 rfl rfl)
theorem dX0_tellsOrder_29 : decode cX0_tellsOrder 29 = .ok (.lastore, 1) := dk_80 (dk_at dksX0_tellsOrder_1 5 rfl rfl)
theorem dX0_tellsOrder_30 : decode cX0_tellsOrder 30 = .ok (.aload 4, 2) := dk_25 4 (dk_at dksX0_tellsOrder_1 6 rfl rfl)
theorem dX0_tellsOrder_32 : decode cX0_tellsOrder 32 = .ok (.iconst 3, 1) := dk_6 (dk_at dksX0_tellsOrder_1 8 rfl rfl)
theorem dX0_tellsOrder_33 : decode cX0_tellsOrder 33 = .ok (.aload_n 1, 1) := dk_43 (dk_at dksX0_tellsOrder_1 9 rfl rfl)
theorem dX0_tellsOrder_34 : decode cX0_tellsOrder 34 = .ok (.getfield 306, 3) := dk_180 1 50 (dk_at dksX0_tellsOrder_1 10 rfl rfl)
theorem dX0_tellsOrder_37 : decode cX0_tellsOrder 37 = .ok (.i2l, 1) := dk_133 (dk_at dksX0_tellsOrder_1 13 rfl rfl)
theorem dX0_tellsOrder_38 : decode cX0_tellsOrder 38 = .ok (.lastore, 1) := dk_80 (dk_at dksX0_tellsOrder_1 14 rfl rfl)
theorem dX0_tellsOrder_39 : decode cX0_tellsOrder 39 = .ok (.iconst 0, 1) := dk_3 (dk_at dksX0_tellsOrder_1 15 rfl rfl)
theorem dX0_tellsOrder_40 : decode cX0_tellsOrder 40 = .ok (.istore 5, 2) := dk_54 5 (dk_at dksX0_tellsOrder_1 16 rfl rfl)
theorem dX0_tellsOrder_42 : decode cX0_tellsOrder 42 = .ok (.iload 5, 2) := dk_21 5 (dk_at dksX0_tellsOrder_1 18 rfl rfl)
theorem dX0_tellsOrder_44 : decode cX0_tellsOrder 44 = .ok (.bipush 8, 2) := dk_16 8 (dk_at dksX0_tellsOrder_1 20 rfl rfl)
theorem dX0_tellsOrder_46 : decode cX0_tellsOrder 46 = .ok (.if_icmp .ge 117, 3) := dk_162 0 117 (dk_at dksX0_tellsOrder_2 0 rfl rfl)
theorem dX0_tellsOrder_49 : decode cX0_tellsOrder 49 = .ok (.aload 4, 2) := dk_25 4 (dk_at dksX0_tellsOrder_2 3 rfl rfl)
theorem dX0_tellsOrder_51 : decode cX0_tellsOrder 51 = .ok (.iconst 4, 1) := dk_7 (dk_at dksX0_tellsOrder_2 5 rfl rfl)
theorem dX0_tellsOrder_52 : decode cX0_tellsOrder 52 = .ok (.iload 5, 2) := dk_21 5 (dk_at dksX0_tellsOrder_2 6 rfl rfl)
theorem dX0_tellsOrder_54 : decode cX0_tellsOrder 54 = .ok (.iadd, 1) := dk_96 (dk_at dksX0_tellsOrder_2 8 rfl rfl)
theorem dX0_tellsOrder_55 : decode cX0_tellsOrder 55 = .ok (.aload_n 0, 1) := dk_42 (dk_at dksX0_tellsOrder_2 9 rfl rfl)
theorem dX0_tellsOrder_56 : decode cX0_tellsOrder 56 = .ok (.iload 5, 2) := dk_21 5 (dk_at dksX0_tellsOrder_2 10 rfl rfl)
theorem dX0_tellsOrder_58 : decode cX0_tellsOrder 58 = .ok (.invokevirtual 151, 3) := dk_182 0 151 (dk_at dksX0_tellsOrder_2 12 rfl rfl)
theorem dX0_tellsOrder_61 : decode cX0_tellsOrder 61 = .ok (.ifCond .eq 13, 3) := dk_153 0 13 (dk_at dksX0_tellsOrder_2 15 rfl rfl)
theorem dX0_tellsOrder_64 : decode cX0_tellsOrder 64 = .ok (.aload_n 1, 1) := dk_43 (dk_at dksX0_tellsOrder_2 18 rfl rfl)
theorem dX0_tellsOrder_65 : decode cX0_tellsOrder 65 = .ok (.iload 5, 2) := dk_21 5 (dk_at dksX0_tellsOrder_2 19 rfl rfl)
theorem dX0_tellsOrder_67 : decode cX0_tellsOrder 67 = .ok (.invokevirtual 265, 3) := dk_182 1 9 (dk_at dksX0_tellsOrder_2 21 rfl rfl)
theorem dX0_tellsOrder_70 : decode cX0_tellsOrder 70 = .ok (.i2l, 1) := dk_133 (dk_at dksX0_tellsOrder_3 0 rfl rfl)
theorem dX0_tellsOrder_71 : decode cX0_tellsOrder 71 = .ok (.goto 6, 3) := dk_167 0 6 (dk_at dksX0_tellsOrder_3 1 rfl rfl)
theorem dX0_tellsOrder_74 : decode cX0_tellsOrder 74 = .ok (.ldc2_w 179, 3) := dk_20 0 179 (dk_at dksX0_tellsOrder_3 4 rfl rfl)
theorem dX0_tellsOrder_77 : decode cX0_tellsOrder 77 = .ok (.lastore, 1) := dk_80 (dk_at dksX0_tellsOrder_3 7 rfl rfl)
theorem dX0_tellsOrder_78 : decode cX0_tellsOrder 78 = .ok (.aload 4, 2) := dk_25 4 (dk_at dksX0_tellsOrder_3 8 rfl rfl)
theorem dX0_tellsOrder_80 : decode cX0_tellsOrder 80 = .ok (.bipush 12, 2) := dk_16 12 (dk_at dksX0_tellsOrder_3 10 rfl rfl)
theorem dX0_tellsOrder_82 : decode cX0_tellsOrder 82 = .ok (.iload 5, 2) := dk_21 5 (dk_at dksX0_tellsOrder_3 12 rfl rfl)
theorem dX0_tellsOrder_84 : decode cX0_tellsOrder 84 = .ok (.iadd, 1) := dk_96 (dk_at dksX0_tellsOrder_3 14 rfl rfl)
theorem dX0_tellsOrder_85 : decode cX0_tellsOrder 85 = .ok (.aload_n 0, 1) := dk_42 (dk_at dksX0_tellsOrder_3 15 rfl rfl)
theorem dX0_tellsOrder_86 : decode cX0_tellsOrder 86 = .ok (.iload 5, 2) := dk_21 5 (dk_at dksX0_tellsOrder_3 16 rfl rfl)
theorem dX0_tellsOrder_88 : decode cX0_tellsOrder 88 = .ok (.invokevirtual 151, 3) := dk_182 0 151 (dk_at dksX0_tellsOrder_3 18 rfl rfl)
theorem dX0_tellsOrder_91 : decode cX0_tellsOrder 91 = .ok (.ifCond .eq 32, 3) := dk_153 0 32 (dk_at dksX0_tellsOrder_3 21 rfl rfl)
theorem dX0_tellsOrder_94 : decode cX0_tellsOrder 94 = .ok (.aload_n 0, 1) := dk_42 (dk_at dksX0_tellsOrder_4 0 rfl rfl)
theorem dX0_tellsOrder_95 : decode cX0_tellsOrder 95 = .ok (.getfield 31, 3) := dk_180 0 31 (dk_at dksX0_tellsOrder_4 1 rfl rfl)
theorem dX0_tellsOrder_98 : decode cX0_tellsOrder 98 = .ok (.getfield 135, 3) := dk_180 0 135 (dk_at dksX0_tellsOrder_4 4 rfl rfl)
theorem dX0_tellsOrder_101 : decode cX0_tellsOrder 101 = .ok (.iload 5, 2) := dk_21 5 (dk_at dksX0_tellsOrder_4 7 rfl rfl)
theorem dX0_tellsOrder_103 : decode cX0_tellsOrder 103 = .ok (.iaload, 1) := dk_46 (dk_at dksX0_tellsOrder_4 9 rfl rfl)
theorem dX0_tellsOrder_104 : decode cX0_tellsOrder 104 = .ok (.sipush 1000, 3) := dk_17 3 232 (dk_at dksX0_tellsOrder_4 10 rfl rfl)
theorem dX0_tellsOrder_107 : decode cX0_tellsOrder 107 = .ok (.imul, 1) := dk_104 (dk_at dksX0_tellsOrder_4 13 rfl rfl)
theorem dX0_tellsOrder_108 : decode cX0_tellsOrder 108 = .ok (.aload_n 1, 1) := dk_43 (dk_at dksX0_tellsOrder_4 14 rfl rfl)
theorem dX0_tellsOrder_109 : decode cX0_tellsOrder 109 = .ok (.iload 5, 2) := dk_21 5 (dk_at dksX0_tellsOrder_4 15 rfl rfl)
theorem dX0_tellsOrder_111 : decode cX0_tellsOrder 111 = .ok (.invokevirtual 155, 3) := dk_182 0 155 (dk_at dksX0_tellsOrder_4 17 rfl rfl)
theorem dX0_tellsOrder_114 : decode cX0_tellsOrder 114 = .ok (.isub, 1) := dk_100 (dk_at dksX0_tellsOrder_4 20 rfl rfl)
theorem dX0_tellsOrder_115 : decode cX0_tellsOrder 115 = .ok (.sipush 1000, 3) := dk_17 3 232 (dk_at dksX0_tellsOrder_4 21 rfl rfl)
theorem dX0_tellsOrder_118 : decode cX0_tellsOrder 118 = .ok (.idiv, 1) := dk_108 (dk_at dksX0_tellsOrder_5 0 rfl rfl)
theorem dX0_tellsOrder_119 : decode cX0_tellsOrder 119 = .ok (.i2l, 1) := dk_133 (dk_at dksX0_tellsOrder_5 1 rfl rfl)
theorem dX0_tellsOrder_120 : decode cX0_tellsOrder 120 = .ok (.goto 6, 3) := dk_167 0 6 (dk_at dksX0_tellsOrder_5 2 rfl rfl)
theorem dX0_tellsOrder_123 : decode cX0_tellsOrder 123 = .ok (.ldc2_w 179, 3) := dk_20 0 179 (dk_at dksX0_tellsOrder_5 5 rfl rfl)
theorem dX0_tellsOrder_126 : decode cX0_tellsOrder 126 = .ok (.lastore, 1) := dk_80 (dk_at dksX0_tellsOrder_5 8 rfl rfl)
theorem dX0_tellsOrder_127 : decode cX0_tellsOrder 127 = .ok (.aload 4, 2) := dk_25 4 (dk_at dksX0_tellsOrder_5 9 rfl rfl)
theorem dX0_tellsOrder_129 : decode cX0_tellsOrder 129 = .ok (.bipush 20, 2) := dk_16 20 (dk_at dksX0_tellsOrder_5 11 rfl rfl)
theorem dX0_tellsOrder_131 : decode cX0_tellsOrder 131 = .ok (.iload 5, 2) := dk_21 5 (dk_at dksX0_tellsOrder_5 13 rfl rfl)
theorem dX0_tellsOrder_133 : decode cX0_tellsOrder 133 = .ok (.iadd, 1) := dk_96 (dk_at dksX0_tellsOrder_5 15 rfl rfl)
theorem dX0_tellsOrder_134 : decode cX0_tellsOrder 134 = .ok (.aload_n 0, 1) := dk_42 (dk_at dksX0_tellsOrder_5 16 rfl rfl)
theorem dX0_tellsOrder_135 : decode cX0_tellsOrder 135 = .ok (.iload 5, 2) := dk_21 5 (dk_at dksX0_tellsOrder_5 17 rfl rfl)
theorem dX0_tellsOrder_137 : decode cX0_tellsOrder 137 = .ok (.invokevirtual 151, 3) := dk_182 0 151 (dk_at dksX0_tellsOrder_5 19 rfl rfl)
theorem dX0_tellsOrder_140 : decode cX0_tellsOrder 140 = .ok (.ifCond .eq 13, 3) := dk_153 0 13 (dk_at dksX0_tellsOrder_6 0 rfl rfl)
theorem dX0_tellsOrder_143 : decode cX0_tellsOrder 143 = .ok (.aload_n 1, 1) := dk_43 (dk_at dksX0_tellsOrder_6 3 rfl rfl)
theorem dX0_tellsOrder_144 : decode cX0_tellsOrder 144 = .ok (.iload 5, 2) := dk_21 5 (dk_at dksX0_tellsOrder_6 4 rfl rfl)
theorem dX0_tellsOrder_146 : decode cX0_tellsOrder 146 = .ok (.invokevirtual 268, 3) := dk_182 1 12 (dk_at dksX0_tellsOrder_6 6 rfl rfl)
theorem dX0_tellsOrder_149 : decode cX0_tellsOrder 149 = .ok (.i2l, 1) := dk_133 (dk_at dksX0_tellsOrder_6 9 rfl rfl)
theorem dX0_tellsOrder_150 : decode cX0_tellsOrder 150 = .ok (.goto 6, 3) := dk_167 0 6 (dk_at dksX0_tellsOrder_6 10 rfl rfl)
theorem dX0_tellsOrder_153 : decode cX0_tellsOrder 153 = .ok (.ldc2_w 179, 3) := dk_20 0 179 (dk_at dksX0_tellsOrder_6 13 rfl rfl)
theorem dX0_tellsOrder_156 : decode cX0_tellsOrder 156 = .ok (.lastore, 1) := dk_80 (dk_at dksX0_tellsOrder_6 16 rfl rfl)
theorem dX0_tellsOrder_157 : decode cX0_tellsOrder 157 = .ok (.iinc 5 1, 3) := dk_132 5 1 (dk_at dksX0_tellsOrder_6 17 rfl rfl)
theorem dX0_tellsOrder_160 : decode cX0_tellsOrder 160 = .ok (.goto (-118), 3) := dk_167 255 138 (dk_at dksX0_tellsOrder_6 20 rfl rfl)
theorem dX0_tellsOrder_163 : decode cX0_tellsOrder 163 = .ok (.return_, 1) := dk_177 (dk_at dksX0_tellsOrder_6 23 rfl rfl)
abbrev cX0_runsOrder : ByteArray := prog_1_method_60_code
def yX0_runsOrder : MethodName := ⟨RX0, "runsOrder", "(LSoleraCellar$Order;)I"⟩
def dkwX0_runsOrder_3 : List UInt8 := [182, 1, 136, 28, 182, 1, 98, 172]
abbrev dktX0_runsOrder_3 : List UInt8 := dkwX0_runsOrder_3 ++ []
def dkwX0_runsOrder_2 : List UInt8 := [180, 1, 133, 5, 160, 0, 10, 42, 29, 28, 182, 1, 101, 172, 42, 29, 43, 5, 42, 180, 0, 75]
abbrev dktX0_runsOrder_2 : List UInt8 := dkwX0_runsOrder_2 ++ dktX0_runsOrder_3
def dkwX0_runsOrder_1 : List UInt8 := [4, 42, 180, 0, 75, 182, 1, 136, 62, 43, 180, 1, 133, 154, 0, 10, 42, 29, 28, 182, 1, 92, 172, 43]
abbrev dktX0_runsOrder_1 : List UInt8 := dkwX0_runsOrder_1 ++ dktX0_runsOrder_2
def dkwX0_runsOrder_0 : List UInt8 := [43, 180, 1, 133, 6, 160, 0, 8, 42, 182, 1, 104, 172, 43, 3, 42, 180, 0, 75, 182, 1, 136, 61, 43]
abbrev dktX0_runsOrder_0 : List UInt8 := dkwX0_runsOrder_0 ++ dktX0_runsOrder_1
theorem dksX0_runsOrder_0 : cX0_runsOrder.data.toList.drop 0 = dktX0_runsOrder_0 := by decide +kernel
theorem dksX0_runsOrder_1 : cX0_runsOrder.data.toList.drop 24 = dktX0_runsOrder_1 := dk_seg dksX0_runsOrder_0 24 rfl rfl
theorem dksX0_runsOrder_2 : cX0_runsOrder.data.toList.drop 48 = dktX0_runsOrder_2 := dk_seg dksX0_runsOrder_1 24 rfl rfl
theorem dksX0_runsOrder_3 : cX0_runsOrder.data.toList.drop 70 = dktX0_runsOrder_3 := dk_seg dksX0_runsOrder_2 22 rfl rfl
theorem dX0_runsOrder_0 : decode cX0_runsOrder 0 = .ok (.aload_n 1, 1) := dk_43 (dk_at dksX0_runsOrder_0 0 rfl rfl)
theorem dX0_runsOrder_1 : decode cX0_runsOrder 1 = .ok (.getfield 389, 3) := dk_180 1 133 (dk_at dksX0_runsOrder_0 1 rfl rfl)
theorem dX0_runsOrder_4 : decode cX0_runsOrder 4 = .ok (.iconst 3, 1) := dk_6 (dk_at dksX0_runsOrder_0 4 rfl rfl)
theorem dX0_runsOrder_5 : decode cX0_runsOrder 5 = .ok (.if_icmp .ne 8, 3) := dk_160 0 8 (dk_at dksX0_runsOrder_0 5 rfl rfl)
theorem dX0_runsOrder_8 : decode cX0_runsOrder 8 = .ok (.aload_n 0, 1) := dk_42 (dk_at dksX0_runsOrder_0 8 rfl rfl)
theorem dX0_runsOrder_9 : decode cX0_runsOrder 9 = .ok (.invokevirtual 360, 3) := dk_182 1 104 (dk_at dksX0_runsOrder_0 9 rfl rfl)
theorem dX0_runsOrder_12 : decode cX0_runsOrder 12 = .ok (.ireturn, 1) := dk_172 (dk_at dksX0_runsOrder_0 12 rfl rfl)
theorem dX0_runsOrder_13 : decode cX0_runsOrder 13 = .ok (.aload_n 1, 1) := dk_43 (dk_at dksX0_runsOrder_0 13 rfl rfl)
theorem dX0_runsOrder_14 : decode cX0_runsOrder 14 = .ok (.iconst 0, 1) := dk_3 (dk_at dksX0_runsOrder_0 14 rfl rfl)
theorem dX0_runsOrder_15 : decode cX0_runsOrder 15 = .ok (.aload_n 0, 1) := dk_42 (dk_at dksX0_runsOrder_0 15 rfl rfl)
theorem dX0_runsOrder_16 : decode cX0_runsOrder 16 = .ok (.getfield 75, 3) := dk_180 0 75 (dk_at dksX0_runsOrder_0 16 rfl rfl)
theorem dX0_runsOrder_19 : decode cX0_runsOrder 19 = .ok (.invokevirtual 392, 3) := dk_182 1 136 (dk_at dksX0_runsOrder_0 19 rfl rfl)
theorem dX0_runsOrder_22 : decode cX0_runsOrder 22 = .ok (.istore_n 2, 1) := dk_61 (dk_at dksX0_runsOrder_0 22 rfl rfl)
theorem dX0_runsOrder_23 : decode cX0_runsOrder 23 = .ok (.aload_n 1, 1) := dk_43 (dk_at dksX0_runsOrder_0 23 rfl rfl)
theorem dX0_runsOrder_24 : decode cX0_runsOrder 24 = .ok (.iconst 1, 1) := dk_4 (dk_at dksX0_runsOrder_1 0 rfl rfl)
theorem dX0_runsOrder_25 : decode cX0_runsOrder 25 = .ok (.aload_n 0, 1) := dk_42 (dk_at dksX0_runsOrder_1 1 rfl rfl)
theorem dX0_runsOrder_26 : decode cX0_runsOrder 26 = .ok (.getfield 75, 3) := dk_180 0 75 (dk_at dksX0_runsOrder_1 2 rfl rfl)
theorem dX0_runsOrder_29 : decode cX0_runsOrder 29 = .ok (.invokevirtual 392, 3) := dk_182 1 136 (dk_at dksX0_runsOrder_1 5 rfl rfl)
theorem dX0_runsOrder_32 : decode cX0_runsOrder 32 = .ok (.istore_n 3, 1) := dk_62 (dk_at dksX0_runsOrder_1 8 rfl rfl)
theorem dX0_runsOrder_33 : decode cX0_runsOrder 33 = .ok (.aload_n 1, 1) := dk_43 (dk_at dksX0_runsOrder_1 9 rfl rfl)
theorem dX0_runsOrder_34 : decode cX0_runsOrder 34 = .ok (.getfield 389, 3) := dk_180 1 133 (dk_at dksX0_runsOrder_1 10 rfl rfl)
theorem dX0_runsOrder_37 : decode cX0_runsOrder 37 = .ok (.ifCond .ne 10, 3) := dk_154 0 10 (dk_at dksX0_runsOrder_1 13 rfl rfl)
theorem dX0_runsOrder_40 : decode cX0_runsOrder 40 = .ok (.aload_n 0, 1) := dk_42 (dk_at dksX0_runsOrder_1 16 rfl rfl)
theorem dX0_runsOrder_41 : decode cX0_runsOrder 41 = .ok (.iload_n 3, 1) := dk_29 (dk_at dksX0_runsOrder_1 17 rfl rfl)
theorem dX0_runsOrder_42 : decode cX0_runsOrder 42 = .ok (.iload_n 2, 1) := dk_28 (dk_at dksX0_runsOrder_1 18 rfl rfl)
theorem dX0_runsOrder_43 : decode cX0_runsOrder 43 = .ok (.invokevirtual 348, 3) := dk_182 1 92 (dk_at dksX0_runsOrder_1 19 rfl rfl)
theorem dX0_runsOrder_46 : decode cX0_runsOrder 46 = .ok (.ireturn, 1) := dk_172 (dk_at dksX0_runsOrder_1 22 rfl rfl)
theorem dX0_runsOrder_47 : decode cX0_runsOrder 47 = .ok (.aload_n 1, 1) := dk_43 (dk_at dksX0_runsOrder_1 23 rfl rfl)
theorem dX0_runsOrder_48 : decode cX0_runsOrder 48 = .ok (.getfield 389, 3) := dk_180 1 133 (dk_at dksX0_runsOrder_2 0 rfl rfl)
theorem dX0_runsOrder_51 : decode cX0_runsOrder 51 = .ok (.iconst 2, 1) := dk_5 (dk_at dksX0_runsOrder_2 3 rfl rfl)
theorem dX0_runsOrder_52 : decode cX0_runsOrder 52 = .ok (.if_icmp .ne 10, 3) := dk_160 0 10 (dk_at dksX0_runsOrder_2 4 rfl rfl)
theorem dX0_runsOrder_55 : decode cX0_runsOrder 55 = .ok (.aload_n 0, 1) := dk_42 (dk_at dksX0_runsOrder_2 7 rfl rfl)
theorem dX0_runsOrder_56 : decode cX0_runsOrder 56 = .ok (.iload_n 3, 1) := dk_29 (dk_at dksX0_runsOrder_2 8 rfl rfl)
theorem dX0_runsOrder_57 : decode cX0_runsOrder 57 = .ok (.iload_n 2, 1) := dk_28 (dk_at dksX0_runsOrder_2 9 rfl rfl)
theorem dX0_runsOrder_58 : decode cX0_runsOrder 58 = .ok (.invokevirtual 357, 3) := dk_182 1 101 (dk_at dksX0_runsOrder_2 10 rfl rfl)
theorem dX0_runsOrder_61 : decode cX0_runsOrder 61 = .ok (.ireturn, 1) := dk_172 (dk_at dksX0_runsOrder_2 13 rfl rfl)
theorem dX0_runsOrder_62 : decode cX0_runsOrder 62 = .ok (.aload_n 0, 1) := dk_42 (dk_at dksX0_runsOrder_2 14 rfl rfl)
theorem dX0_runsOrder_63 : decode cX0_runsOrder 63 = .ok (.iload_n 3, 1) := dk_29 (dk_at dksX0_runsOrder_2 15 rfl rfl)
theorem dX0_runsOrder_64 : decode cX0_runsOrder 64 = .ok (.aload_n 1, 1) := dk_43 (dk_at dksX0_runsOrder_2 16 rfl rfl)
theorem dX0_runsOrder_65 : decode cX0_runsOrder 65 = .ok (.iconst 2, 1) := dk_5 (dk_at dksX0_runsOrder_2 17 rfl rfl)
theorem dX0_runsOrder_66 : decode cX0_runsOrder 66 = .ok (.aload_n 0, 1) := dk_42 (dk_at dksX0_runsOrder_2 18 rfl rfl)
theorem dX0_runsOrder_67 : decode cX0_runsOrder 67 = .ok (.getfield 75, 3) := dk_180 0 75 (dk_at dksX0_runsOrder_2 19 rfl rfl)
theorem dX0_runsOrder_70 : decode cX0_runsOrder 70 = .ok (.invokevirtual 392, 3) := dk_182 1 136 (dk_at dksX0_runsOrder_3 0 rfl rfl)
theorem dX0_runsOrder_73 : decode cX0_runsOrder 73 = .ok (.iload_n 2, 1) := dk_28 (dk_at dksX0_runsOrder_3 3 rfl rfl)
theorem dX0_runsOrder_74 : decode cX0_runsOrder 74 = .ok (.invokevirtual 354, 3) := dk_182 1 98 (dk_at dksX0_runsOrder_3 4 rfl rfl)
theorem dX0_runsOrder_77 : decode cX0_runsOrder 77 = .ok (.ireturn, 1) := dk_172 (dk_at dksX0_runsOrder_3 7 rfl rfl)
abbrev cX0_putsBack : ByteArray := prog_1_method_61_code
def yX0_putsBack : MethodName := ⟨RX0, "putsBack", "(I)V"⟩
def dkwX0_putsBack_2 : List UInt8 := [3, 16, 16, 184, 1, 107, 42, 27, 181, 0, 98, 177]
abbrev dktX0_putsBack_2 : List UInt8 := dkwX0_putsBack_2 ++ []
def dkwX0_putsBack_1 : List UInt8 := [42, 180, 0, 45, 28, 50, 182, 1, 62, 132, 2, 1, 167, 255, 233, 42, 180, 0, 51, 3, 42, 180, 0, 48]
abbrev dktX0_putsBack_1 : List UInt8 := dkwX0_putsBack_1 ++ dktX0_putsBack_2
def dkwX0_putsBack_0 : List UInt8 := [42, 182, 0, 137, 42, 180, 0, 55, 182, 1, 62, 3, 61, 28, 27, 162, 0, 24, 42, 180, 0, 41, 28, 50]
abbrev dktX0_putsBack_0 : List UInt8 := dkwX0_putsBack_0 ++ dktX0_putsBack_1
theorem dksX0_putsBack_0 : cX0_putsBack.data.toList.drop 0 = dktX0_putsBack_0 := by decide +kernel
theorem dksX0_putsBack_1 : cX0_putsBack.data.toList.drop 24 = dktX0_putsBack_1 := dk_seg dksX0_putsBack_0 24 rfl rfl
theorem dksX0_putsBack_2 : cX0_putsBack.data.toList.drop 48 = dktX0_putsBack_2 := dk_seg dksX0_putsBack_1 24 rfl rfl
theorem dX0_putsBack_0 : decode cX0_putsBack 0 = .ok (.aload_n 0, 1) := dk_42 (dk_at dksX0_putsBack_0 0 rfl rfl)
theorem dX0_putsBack_1 : decode cX0_putsBack 1 = .ok (.invokevirtual 137, 3) := dk_182 0 137 (dk_at dksX0_putsBack_0 1 rfl rfl)
theorem dX0_putsBack_4 : decode cX0_putsBack 4 = .ok (.aload_n 0, 1) := dk_42 (dk_at dksX0_putsBack_0 4 rfl rfl)
theorem dX0_putsBack_5 : decode cX0_putsBack 5 = .ok (.getfield 55, 3) := dk_180 0 55 (dk_at dksX0_putsBack_0 5 rfl rfl)
theorem dX0_putsBack_8 : decode cX0_putsBack 8 = .ok (.invokevirtual 318, 3) := dk_182 1 62 (dk_at dksX0_putsBack_0 8 rfl rfl)
theorem dX0_putsBack_11 : decode cX0_putsBack 11 = .ok (.iconst 0, 1) := dk_3 (dk_at dksX0_putsBack_0 11 rfl rfl)
theorem dX0_putsBack_12 : decode cX0_putsBack 12 = .ok (.istore_n 2, 1) := dk_61 (dk_at dksX0_putsBack_0 12 rfl rfl)
theorem dX0_putsBack_13 : decode cX0_putsBack 13 = .ok (.iload_n 2, 1) := dk_28 (dk_at dksX0_putsBack_0 13 rfl rfl)
theorem dX0_putsBack_14 : decode cX0_putsBack 14 = .ok (.iload_n 1, 1) := dk_27 (dk_at dksX0_putsBack_0 14 rfl rfl)
theorem dX0_putsBack_15 : decode cX0_putsBack 15 = .ok (.if_icmp .ge 24, 3) := dk_162 0 24 (dk_at dksX0_putsBack_0 15 rfl rfl)
theorem dX0_putsBack_18 : decode cX0_putsBack 18 = .ok (.aload_n 0, 1) := dk_42 (dk_at dksX0_putsBack_0 18 rfl rfl)
theorem dX0_putsBack_19 : decode cX0_putsBack 19 = .ok (.getfield 41, 3) := dk_180 0 41 (dk_at dksX0_putsBack_0 19 rfl rfl)
theorem dX0_putsBack_22 : decode cX0_putsBack 22 = .ok (.iload_n 2, 1) := dk_28 (dk_at dksX0_putsBack_0 22 rfl rfl)
theorem dX0_putsBack_23 : decode cX0_putsBack 23 = .ok (.aaload, 1) := dk_50 (dk_at dksX0_putsBack_0 23 rfl rfl)
theorem dX0_putsBack_24 : decode cX0_putsBack 24 = .ok (.aload_n 0, 1) := dk_42 (dk_at dksX0_putsBack_1 0 rfl rfl)
theorem dX0_putsBack_25 : decode cX0_putsBack 25 = .ok (.getfield 45, 3) := dk_180 0 45 (dk_at dksX0_putsBack_1 1 rfl rfl)
theorem dX0_putsBack_28 : decode cX0_putsBack 28 = .ok (.iload_n 2, 1) := dk_28 (dk_at dksX0_putsBack_1 4 rfl rfl)
theorem dX0_putsBack_29 : decode cX0_putsBack 29 = .ok (.aaload, 1) := dk_50 (dk_at dksX0_putsBack_1 5 rfl rfl)
theorem dX0_putsBack_30 : decode cX0_putsBack 30 = .ok (.invokevirtual 318, 3) := dk_182 1 62 (dk_at dksX0_putsBack_1 6 rfl rfl)
theorem dX0_putsBack_33 : decode cX0_putsBack 33 = .ok (.iinc 2 1, 3) := dk_132 2 1 (dk_at dksX0_putsBack_1 9 rfl rfl)
theorem dX0_putsBack_36 : decode cX0_putsBack 36 = .ok (.goto (-23), 3) := dk_167 255 233 (dk_at dksX0_putsBack_1 12 rfl rfl)
theorem dX0_putsBack_39 : decode cX0_putsBack 39 = .ok (.aload_n 0, 1) := dk_42 (dk_at dksX0_putsBack_1 15 rfl rfl)
theorem dX0_putsBack_40 : decode cX0_putsBack 40 = .ok (.getfield 51, 3) := dk_180 0 51 (dk_at dksX0_putsBack_1 16 rfl rfl)
theorem dX0_putsBack_43 : decode cX0_putsBack 43 = .ok (.iconst 0, 1) := dk_3 (dk_at dksX0_putsBack_1 19 rfl rfl)
theorem dX0_putsBack_44 : decode cX0_putsBack 44 = .ok (.aload_n 0, 1) := dk_42 (dk_at dksX0_putsBack_1 20 rfl rfl)
theorem dX0_putsBack_45 : decode cX0_putsBack 45 = .ok (.getfield 48, 3) := dk_180 0 48 (dk_at dksX0_putsBack_1 21 rfl rfl)
theorem dX0_putsBack_48 : decode cX0_putsBack 48 = .ok (.iconst 0, 1) := dk_3 (dk_at dksX0_putsBack_2 0 rfl rfl)
theorem dX0_putsBack_49 : decode cX0_putsBack 49 = .ok (.bipush 16, 2) := dk_16 16 (dk_at dksX0_putsBack_2 1 rfl rfl)
theorem dX0_putsBack_51 : decode cX0_putsBack 51 = .ok (.invokestatic 363, 3) := dk_184 1 107 (dk_at dksX0_putsBack_2 3 rfl rfl)
theorem dX0_putsBack_54 : decode cX0_putsBack 54 = .ok (.aload_n 0, 1) := dk_42 (dk_at dksX0_putsBack_2 6 rfl rfl)
theorem dX0_putsBack_55 : decode cX0_putsBack 55 = .ok (.iload_n 1, 1) := dk_27 (dk_at dksX0_putsBack_2 7 rfl rfl)
theorem dX0_putsBack_56 : decode cX0_putsBack 56 = .ok (.putfield 98, 3) := dk_181 0 98 (dk_at dksX0_putsBack_2 8 rfl rfl)
theorem dX0_putsBack_59 : decode cX0_putsBack 59 = .ok (.return_, 1) := dk_177 (dk_at dksX0_putsBack_2 11 rfl rfl)
abbrev cX0_byPlan : ByteArray := prog_1_method_67_code
def yX0_byPlan : MethodName := ⟨RX0, "byPlan", "(IIII)I"⟩
def dkwX0_byPlan_4 : List UInt8 := [29, 42, 180, 0, 31, 180, 0, 161, 182, 0, 164, 172]
abbrev dktX0_byPlan_4 : List UInt8 := dkwX0_byPlan_4 ++ []
def dkwX0_byPlan_3 : List UInt8 := [167, 0, 35, 21, 4, 4, 160, 0, 14, 42, 180, 0, 59, 29, 182, 0, 158, 167, 0, 18, 42, 180, 0, 59]
abbrev dktX0_byPlan_3 : List UInt8 := dkwX0_byPlan_3 ++ dktX0_byPlan_4
def dkwX0_byPlan_2 : List UInt8 := [182, 1, 15, 192, 0, 248, 28, 182, 1, 164, 21, 4, 154, 0, 14, 42, 180, 0, 59, 29, 182, 0, 155]
abbrev dktX0_byPlan_2 : List UInt8 := dkwX0_byPlan_2 ++ dktX0_byPlan_3
def dkwX0_byPlan_1 : List UInt8 := [153, 0, 13, 21, 4, 3, 5, 184, 0, 108, 154, 0, 5, 2, 172, 42, 42, 180, 0, 31, 180, 0, 112, 27]
abbrev dktX0_byPlan_1 : List UInt8 := dkwX0_byPlan_1 ++ dktX0_byPlan_2
def dkwX0_byPlan_0 : List UInt8 := [42, 27, 182, 1, 161, 153, 0, 31, 28, 3, 16, 60, 184, 0, 108, 153, 0, 21, 42, 29, 182, 0, 151]
abbrev dktX0_byPlan_0 : List UInt8 := dkwX0_byPlan_0 ++ dktX0_byPlan_1
theorem dksX0_byPlan_0 : cX0_byPlan.data.toList.drop 0 = dktX0_byPlan_0 := by decide +kernel
theorem dksX0_byPlan_1 : cX0_byPlan.data.toList.drop 23 = dktX0_byPlan_1 := dk_seg dksX0_byPlan_0 23 rfl rfl
theorem dksX0_byPlan_2 : cX0_byPlan.data.toList.drop 47 = dktX0_byPlan_2 := dk_seg dksX0_byPlan_1 24 rfl rfl
theorem dksX0_byPlan_3 : cX0_byPlan.data.toList.drop 70 = dktX0_byPlan_3 := dk_seg dksX0_byPlan_2 23 rfl rfl
theorem dksX0_byPlan_4 : cX0_byPlan.data.toList.drop 94 = dktX0_byPlan_4 := dk_seg dksX0_byPlan_3 24 rfl rfl
theorem dX0_byPlan_0 : decode cX0_byPlan 0 = .ok (.aload_n 0, 1) := dk_42 (dk_at dksX0_byPlan_0 0 rfl rfl)
theorem dX0_byPlan_1 : decode cX0_byPlan 1 = .ok (.iload_n 1, 1) := dk_27 (dk_at dksX0_byPlan_0 1 rfl rfl)
theorem dX0_byPlan_2 : decode cX0_byPlan 2 = .ok (.invokevirtual 417, 3) := dk_182 1 161 (dk_at dksX0_byPlan_0 2 rfl rfl)
theorem dX0_byPlan_5 : decode cX0_byPlan 5 = .ok (.ifCond .eq 31, 3) := dk_153 0 31 (dk_at dksX0_byPlan_0 5 rfl rfl)
theorem dX0_byPlan_8 : decode cX0_byPlan 8 = .ok (.iload_n 2, 1) := dk_28 (dk_at dksX0_byPlan_0 8 rfl rfl)
theorem dX0_byPlan_9 : decode cX0_byPlan 9 = .ok (.iconst 0, 1) := dk_3 (dk_at dksX0_byPlan_0 9 rfl rfl)
theorem dX0_byPlan_10 : decode cX0_byPlan 10 = .ok (.bipush 60, 2) := dk_16 60 (dk_at dksX0_byPlan_0 10 rfl rfl)
theorem dX0_byPlan_12 : decode cX0_byPlan 12 = .ok (.invokestatic 108, 3) := dk_184 0 108 (dk_at dksX0_byPlan_0 12 rfl rfl)
theorem dX0_byPlan_15 : decode cX0_byPlan 15 = .ok (.ifCond .eq 21, 3) := dk_153 0 21 (dk_at dksX0_byPlan_0 15 rfl rfl)
theorem dX0_byPlan_18 : decode cX0_byPlan 18 = .ok (.aload_n 0, 1) := dk_42 (dk_at dksX0_byPlan_0 18 rfl rfl)
theorem dX0_byPlan_19 : decode cX0_byPlan 19 = .ok (.iload_n 3, 1) := dk_29 (dk_at dksX0_byPlan_0 19 rfl rfl)
theorem dX0_byPlan_20 : decode cX0_byPlan 20 = .ok (.invokevirtual 151, 3) := dk_182 0 151 (dk_at dksX0_byPlan_0 20 rfl rfl)
theorem dX0_byPlan_23 : decode cX0_byPlan 23 = .ok (.ifCond .eq 13, 3) := dk_153 0 13 (dk_at dksX0_byPlan_1 0 rfl rfl)
theorem dX0_byPlan_26 : decode cX0_byPlan 26 = .ok (.iload 4, 2) := dk_21 4 (dk_at dksX0_byPlan_1 3 rfl rfl)
theorem dX0_byPlan_28 : decode cX0_byPlan 28 = .ok (.iconst 0, 1) := dk_3 (dk_at dksX0_byPlan_1 5 rfl rfl)
theorem dX0_byPlan_29 : decode cX0_byPlan 29 = .ok (.iconst 2, 1) := dk_5 (dk_at dksX0_byPlan_1 6 rfl rfl)
theorem dX0_byPlan_30 : decode cX0_byPlan 30 = .ok (.invokestatic 108, 3) := dk_184 0 108 (dk_at dksX0_byPlan_1 7 rfl rfl)
theorem dX0_byPlan_33 : decode cX0_byPlan 33 = .ok (.ifCond .ne 5, 3) := dk_154 0 5 (dk_at dksX0_byPlan_1 10 rfl rfl)
theorem dX0_byPlan_36 : decode cX0_byPlan 36 = .ok (.iconst (-1), 1) := dk_2 (dk_at dksX0_byPlan_1 13 rfl rfl)
theorem dX0_byPlan_37 : decode cX0_byPlan 37 = .ok (.ireturn, 1) := dk_172 (dk_at dksX0_byPlan_1 14 rfl rfl)
theorem dX0_byPlan_38 : decode cX0_byPlan 38 = .ok (.aload_n 0, 1) := dk_42 (dk_at dksX0_byPlan_1 15 rfl rfl)
theorem dX0_byPlan_39 : decode cX0_byPlan 39 = .ok (.aload_n 0, 1) := dk_42 (dk_at dksX0_byPlan_1 16 rfl rfl)
theorem dX0_byPlan_40 : decode cX0_byPlan 40 = .ok (.getfield 31, 3) := dk_180 0 31 (dk_at dksX0_byPlan_1 17 rfl rfl)
theorem dX0_byPlan_43 : decode cX0_byPlan 43 = .ok (.getfield 112, 3) := dk_180 0 112 (dk_at dksX0_byPlan_1 20 rfl rfl)
theorem dX0_byPlan_46 : decode cX0_byPlan 46 = .ok (.iload_n 1, 1) := dk_27 (dk_at dksX0_byPlan_1 23 rfl rfl)
theorem dX0_byPlan_47 : decode cX0_byPlan 47 = .ok (.invokevirtual 271, 3) := dk_182 1 15 (dk_at dksX0_byPlan_2 0 rfl rfl)
theorem dX0_byPlan_50 : decode cX0_byPlan 50 = .ok (.checkcast 248, 3) := dk_192 0 248 (dk_at dksX0_byPlan_2 3 rfl rfl)
theorem dX0_byPlan_53 : decode cX0_byPlan 53 = .ok (.iload_n 2, 1) := dk_28 (dk_at dksX0_byPlan_2 6 rfl rfl)
theorem dX0_byPlan_54 : decode cX0_byPlan 54 = .ok (.invokevirtual 420, 3) := dk_182 1 164 (dk_at dksX0_byPlan_2 7 rfl rfl)
theorem dX0_byPlan_57 : decode cX0_byPlan 57 = .ok (.iload 4, 2) := dk_21 4 (dk_at dksX0_byPlan_2 10 rfl rfl)
theorem dX0_byPlan_59 : decode cX0_byPlan 59 = .ok (.ifCond .ne 14, 3) := dk_154 0 14 (dk_at dksX0_byPlan_2 12 rfl rfl)
theorem dX0_byPlan_62 : decode cX0_byPlan 62 = .ok (.aload_n 0, 1) := dk_42 (dk_at dksX0_byPlan_2 15 rfl rfl)
theorem dX0_byPlan_63 : decode cX0_byPlan 63 = .ok (.getfield 59, 3) := dk_180 0 59 (dk_at dksX0_byPlan_2 16 rfl rfl)
theorem dX0_byPlan_66 : decode cX0_byPlan 66 = .ok (.iload_n 3, 1) := dk_29 (dk_at dksX0_byPlan_2 19 rfl rfl)
theorem dX0_byPlan_67 : decode cX0_byPlan 67 = .ok (.invokevirtual 155, 3) := dk_182 0 155 (dk_at dksX0_byPlan_2 20 rfl rfl)
theorem dX0_byPlan_70 : decode cX0_byPlan 70 = .ok (.goto 35, 3) := dk_167 0 35 (dk_at dksX0_byPlan_3 0 rfl rfl)
theorem dX0_byPlan_73 : decode cX0_byPlan 73 = .ok (.iload 4, 2) := dk_21 4 (dk_at dksX0_byPlan_3 3 rfl rfl)
theorem dX0_byPlan_75 : decode cX0_byPlan 75 = .ok (.iconst 1, 1) := dk_4 (dk_at dksX0_byPlan_3 5 rfl rfl)
theorem dX0_byPlan_76 : decode cX0_byPlan 76 = .ok (.if_icmp .ne 14, 3) := dk_160 0 14 (dk_at dksX0_byPlan_3 6 rfl rfl)
theorem dX0_byPlan_79 : decode cX0_byPlan 79 = .ok (.aload_n 0, 1) := dk_42 (dk_at dksX0_byPlan_3 9 rfl rfl)
theorem dX0_byPlan_80 : decode cX0_byPlan 80 = .ok (.getfield 59, 3) := dk_180 0 59 (dk_at dksX0_byPlan_3 10 rfl rfl)
theorem dX0_byPlan_83 : decode cX0_byPlan 83 = .ok (.iload_n 3, 1) := dk_29 (dk_at dksX0_byPlan_3 13 rfl rfl)
theorem dX0_byPlan_84 : decode cX0_byPlan 84 = .ok (.invokevirtual 158, 3) := dk_182 0 158 (dk_at dksX0_byPlan_3 14 rfl rfl)
theorem dX0_byPlan_87 : decode cX0_byPlan 87 = .ok (.goto 18, 3) := dk_167 0 18 (dk_at dksX0_byPlan_3 17 rfl rfl)
theorem dX0_byPlan_90 : decode cX0_byPlan 90 = .ok (.aload_n 0, 1) := dk_42 (dk_at dksX0_byPlan_3 20 rfl rfl)
theorem dX0_byPlan_91 : decode cX0_byPlan 91 = .ok (.getfield 59, 3) := dk_180 0 59 (dk_at dksX0_byPlan_3 21 rfl rfl)
theorem dX0_byPlan_94 : decode cX0_byPlan 94 = .ok (.iload_n 3, 1) := dk_29 (dk_at dksX0_byPlan_4 0 rfl rfl)
theorem dX0_byPlan_95 : decode cX0_byPlan 95 = .ok (.aload_n 0, 1) := dk_42 (dk_at dksX0_byPlan_4 1 rfl rfl)
theorem dX0_byPlan_96 : decode cX0_byPlan 96 = .ok (.getfield 31, 3) := dk_180 0 31 (dk_at dksX0_byPlan_4 2 rfl rfl)
theorem dX0_byPlan_99 : decode cX0_byPlan 99 = .ok (.getfield 161, 3) := dk_180 0 161 (dk_at dksX0_byPlan_4 5 rfl rfl)
theorem dX0_byPlan_102 : decode cX0_byPlan 102 = .ok (.invokevirtual 164, 3) := dk_182 0 164 (dk_at dksX0_byPlan_4 8 rfl rfl)
theorem dX0_byPlan_105 : decode cX0_byPlan 105 = .ok (.ireturn, 1) := dk_172 (dk_at dksX0_byPlan_4 11 rfl rfl)
abbrev cX0_isPlan : ByteArray := prog_1_method_10_code
def yX0_isPlan : MethodName := ⟨RX0, "isPlan", "(I)Z"⟩
def dkwX0_isPlan_0 : List UInt8 := [27, 3, 42, 180, 0, 31, 180, 0, 112, 182, 0, 116, 4, 100, 184, 0, 108, 172]
abbrev dktX0_isPlan_0 : List UInt8 := dkwX0_isPlan_0 ++ []
theorem dksX0_isPlan_0 : cX0_isPlan.data.toList.drop 0 = dktX0_isPlan_0 := by decide +kernel
theorem dX0_isPlan_0 : decode cX0_isPlan 0 = .ok (.iload_n 1, 1) := dk_27 (dk_at dksX0_isPlan_0 0 rfl rfl)
theorem dX0_isPlan_1 : decode cX0_isPlan 1 = .ok (.iconst 0, 1) := dk_3 (dk_at dksX0_isPlan_0 1 rfl rfl)
theorem dX0_isPlan_2 : decode cX0_isPlan 2 = .ok (.aload_n 0, 1) := dk_42 (dk_at dksX0_isPlan_0 2 rfl rfl)
theorem dX0_isPlan_3 : decode cX0_isPlan 3 = .ok (.getfield 31, 3) := dk_180 0 31 (dk_at dksX0_isPlan_0 3 rfl rfl)
theorem dX0_isPlan_6 : decode cX0_isPlan 6 = .ok (.getfield 112, 3) := dk_180 0 112 (dk_at dksX0_isPlan_0 6 rfl rfl)
theorem dX0_isPlan_9 : decode cX0_isPlan 9 = .ok (.invokevirtual 116, 3) := dk_182 0 116 (dk_at dksX0_isPlan_0 9 rfl rfl)
theorem dX0_isPlan_12 : decode cX0_isPlan 12 = .ok (.iconst 1, 1) := dk_4 (dk_at dksX0_isPlan_0 12 rfl rfl)
theorem dX0_isPlan_13 : decode cX0_isPlan 13 = .ok (.isub, 1) := dk_100 (dk_at dksX0_isPlan_0 13 rfl rfl)
theorem dX0_isPlan_14 : decode cX0_isPlan 14 = .ok (.invokestatic 108, 3) := dk_184 0 108 (dk_at dksX0_isPlan_0 14 rfl rfl)
theorem dX0_isPlan_17 : decode cX0_isPlan 17 = .ok (.ireturn, 1) := dk_172 (dk_at dksX0_isPlan_0 17 rfl rfl)
abbrev cX0_runs : ByteArray := prog_1_method_66_code
def yX0_runs : MethodName := ⟨RX0, "runs", "(LSoleraCellar$Plan;I)V"⟩
def dkwX0_runs_0 : List UInt8 := [42, 182, 1, 154, 3, 62, 29, 28, 162, 0, 14, 42, 43, 182, 1, 157, 132, 3, 1, 167, 255, 243, 177]
abbrev dktX0_runs_0 : List UInt8 := dkwX0_runs_0 ++ []
theorem dksX0_runs_0 : cX0_runs.data.toList.drop 0 = dktX0_runs_0 := by decide +kernel
theorem dX0_runs_0 : decode cX0_runs 0 = .ok (.aload_n 0, 1) := dk_42 (dk_at dksX0_runs_0 0 rfl rfl)
theorem dX0_runs_1 : decode cX0_runs 1 = .ok (.invokevirtual 410, 3) := dk_182 1 154 (dk_at dksX0_runs_0 1 rfl rfl)
theorem dX0_runs_4 : decode cX0_runs 4 = .ok (.iconst 0, 1) := dk_3 (dk_at dksX0_runs_0 4 rfl rfl)
theorem dX0_runs_5 : decode cX0_runs 5 = .ok (.istore_n 3, 1) := dk_62 (dk_at dksX0_runs_0 5 rfl rfl)
theorem dX0_runs_6 : decode cX0_runs 6 = .ok (.iload_n 3, 1) := dk_29 (dk_at dksX0_runs_0 6 rfl rfl)
theorem dX0_runs_7 : decode cX0_runs 7 = .ok (.iload_n 2, 1) := dk_28 (dk_at dksX0_runs_0 7 rfl rfl)
theorem dX0_runs_8 : decode cX0_runs 8 = .ok (.if_icmp .ge 14, 3) := dk_162 0 14 (dk_at dksX0_runs_0 8 rfl rfl)
theorem dX0_runs_11 : decode cX0_runs 11 = .ok (.aload_n 0, 1) := dk_42 (dk_at dksX0_runs_0 11 rfl rfl)
theorem dX0_runs_12 : decode cX0_runs 12 = .ok (.aload_n 1, 1) := dk_43 (dk_at dksX0_runs_0 12 rfl rfl)
theorem dX0_runs_13 : decode cX0_runs 13 = .ok (.invokevirtual 413, 3) := dk_182 1 157 (dk_at dksX0_runs_0 13 rfl rfl)
theorem dX0_runs_16 : decode cX0_runs 16 = .ok (.iinc 3 1, 3) := dk_132 3 1 (dk_at dksX0_runs_0 16 rfl rfl)
theorem dX0_runs_19 : decode cX0_runs 19 = .ok (.goto (-13), 3) := dk_167 255 243 (dk_at dksX0_runs_0 19 rfl rfl)
theorem dX0_runs_22 : decode cX0_runs 22 = .ok (.return_, 1) := dk_177 (dk_at dksX0_runs_0 22 rfl rfl)
abbrev cX0_begins : ByteArray := prog_1_method_63_code
def yX0_begins : MethodName := ⟨RX0, "begins", "()V"⟩
def dkwX0_begins_0 : List UInt8 := [42, 180, 0, 59, 42, 182, 0, 137, 182, 1, 62, 42, 3, 181, 1, 139, 42, 19, 1, 142, 181, 1, 143, 177]
abbrev dktX0_begins_0 : List UInt8 := dkwX0_begins_0 ++ []
theorem dksX0_begins_0 : cX0_begins.data.toList.drop 0 = dktX0_begins_0 := by decide +kernel
theorem dX0_begins_0 : decode cX0_begins 0 = .ok (.aload_n 0, 1) := dk_42 (dk_at dksX0_begins_0 0 rfl rfl)
theorem dX0_begins_1 : decode cX0_begins 1 = .ok (.getfield 59, 3) := dk_180 0 59 (dk_at dksX0_begins_0 1 rfl rfl)
theorem dX0_begins_4 : decode cX0_begins 4 = .ok (.aload_n 0, 1) := dk_42 (dk_at dksX0_begins_0 4 rfl rfl)
theorem dX0_begins_5 : decode cX0_begins 5 = .ok (.invokevirtual 137, 3) := dk_182 0 137 (dk_at dksX0_begins_0 5 rfl rfl)
theorem dX0_begins_8 : decode cX0_begins 8 = .ok (.invokevirtual 318, 3) := dk_182 1 62 (dk_at dksX0_begins_0 8 rfl rfl)
theorem dX0_begins_11 : decode cX0_begins 11 = .ok (.aload_n 0, 1) := dk_42 (dk_at dksX0_begins_0 11 rfl rfl)
theorem dX0_begins_12 : decode cX0_begins 12 = .ok (.iconst 0, 1) := dk_3 (dk_at dksX0_begins_0 12 rfl rfl)
theorem dX0_begins_13 : decode cX0_begins 13 = .ok (.putfield 395, 3) := dk_181 1 139 (dk_at dksX0_begins_0 13 rfl rfl)
theorem dX0_begins_16 : decode cX0_begins 16 = .ok (.aload_n 0, 1) := dk_42 (dk_at dksX0_begins_0 16 rfl rfl)
theorem dX0_begins_17 : decode cX0_begins 17 = .ok (.ldc_w 398, 3) := dk_19 1 142 (dk_at dksX0_begins_0 17 rfl rfl)
theorem dX0_begins_20 : decode cX0_begins 20 = .ok (.putfield 399, 3) := dk_181 1 143 (dk_at dksX0_begins_0 20 rfl rfl)
theorem dX0_begins_23 : decode cX0_begins 23 = .ok (.return_, 1) := dk_177 (dk_at dksX0_begins_0 23 rfl rfl)
abbrev cX0_runsYear : ByteArray := prog_1_method_64_code
def yX0_runsYear : MethodName := ⟨RX0, "runsYear", "(LSoleraCellar$Plan;)V"⟩
def dkwX0_runsYear_7 : List UInt8 := [177]
abbrev dktX0_runsYear_7 : List UInt8 := dkwX0_runsYear_7 ++ []
def dkwX0_runsYear_6 : List UInt8 := [4, 96, 61, 132, 6, 1, 167, 255, 148, 132, 4, 1, 167, 255, 113, 42, 42, 180, 0, 59, 182, 1, 88, 87]
abbrev dktX0_runsYear_6 : List UInt8 := dkwX0_runsYear_6 ++ dktX0_runsYear_7
def dkwX0_runsYear_5 : List UInt8 := [180, 1, 133, 5, 160, 0, 8, 21, 7, 167, 0, 4, 29, 62, 28, 21, 7, 156, 0, 7, 3, 167, 0, 4]
abbrev dktX0_runsYear_5 : List UInt8 := dkwX0_runsYear_5 ++ dktX0_runsYear_6
def dkwX0_runsYear_4 : List UInt8 := [180, 1, 146, 21, 7, 156, 0, 7, 4, 167, 0, 4, 3, 128, 181, 1, 146, 21, 7, 155, 0, 17, 25, 5]
abbrev dktX0_runsYear_4 : List UInt8 := dkwX0_runsYear_4 ++ dktX0_runsYear_5
def dkwX0_runsYear_3 : List UInt8 := [42, 180, 0, 75, 182, 1, 122, 154, 0, 6, 167, 0, 64, 42, 25, 5, 182, 1, 151, 54, 7, 42, 89]
abbrev dktX0_runsYear_3 : List UInt8 := dkwX0_runsYear_3 ++ dktX0_runsYear_4
def dkwX0_runsYear_2 : List UInt8 := [162, 0, 104, 25, 5, 180, 1, 133, 6, 159, 0, 95, 42, 42, 180, 0, 59, 28, 29, 182, 1, 118, 25, 5]
abbrev dktX0_runsYear_2 : List UInt8 := dkwX0_runsYear_2 ++ dktX0_runsYear_3
def dkwX0_runsYear_1 : List UInt8 := [43, 180, 1, 150, 21, 4, 182, 1, 15, 192, 1, 113, 58, 5, 3, 54, 6, 21, 6, 25, 5, 180, 1, 115]
abbrev dktX0_runsYear_1 : List UInt8 := dkwX0_runsYear_1 ++ dktX0_runsYear_2
def dkwX0_runsYear_0 : List UInt8 := [3, 61, 2, 62, 42, 3, 181, 1, 146, 3, 54, 4, 21, 4, 43, 180, 1, 150, 182, 0, 116, 162, 0, 137]
abbrev dktX0_runsYear_0 : List UInt8 := dkwX0_runsYear_0 ++ dktX0_runsYear_1
theorem dksX0_runsYear_0 : cX0_runsYear.data.toList.drop 0 = dktX0_runsYear_0 := by decide +kernel
theorem dksX0_runsYear_1 : cX0_runsYear.data.toList.drop 24 = dktX0_runsYear_1 := dk_seg dksX0_runsYear_0 24 rfl rfl
theorem dksX0_runsYear_2 : cX0_runsYear.data.toList.drop 48 = dktX0_runsYear_2 := dk_seg dksX0_runsYear_1 24 rfl rfl
theorem dksX0_runsYear_3 : cX0_runsYear.data.toList.drop 72 = dktX0_runsYear_3 := dk_seg dksX0_runsYear_2 24 rfl rfl
theorem dksX0_runsYear_4 : cX0_runsYear.data.toList.drop 95 = dktX0_runsYear_4 := dk_seg dksX0_runsYear_3 23 rfl rfl
theorem dksX0_runsYear_5 : cX0_runsYear.data.toList.drop 119 = dktX0_runsYear_5 := dk_seg dksX0_runsYear_4 24 rfl rfl
theorem dksX0_runsYear_6 : cX0_runsYear.data.toList.drop 143 = dktX0_runsYear_6 := dk_seg dksX0_runsYear_5 24 rfl rfl
theorem dksX0_runsYear_7 : cX0_runsYear.data.toList.drop 167 = dktX0_runsYear_7 := dk_seg dksX0_runsYear_6 24 rfl rfl
theorem dX0_runsYear_0 : decode cX0_runsYear 0 = .ok (.iconst 0, 1) := dk_3 (dk_at dksX0_runsYear_0 0 rfl rfl)
theorem dX0_runsYear_1 : decode cX0_runsYear 1 = .ok (.istore_n 2, 1) := dk_61 (dk_at dksX0_runsYear_0 1 rfl rfl)
theorem dX0_runsYear_2 : decode cX0_runsYear 2 = .ok (.iconst (-1), 1) := dk_2 (dk_at dksX0_runsYear_0 2 rfl rfl)
theorem dX0_runsYear_3 : decode cX0_runsYear 3 = .ok (.istore_n 3, 1) := dk_62 (dk_at dksX0_runsYear_0 3 rfl rfl)
theorem dX0_runsYear_4 : decode cX0_runsYear 4 = .ok (.aload_n 0, 1) := dk_42 (dk_at dksX0_runsYear_0 4 rfl rfl)
theorem dX0_runsYear_5 : decode cX0_runsYear 5 = .ok (.iconst 0, 1) := dk_3 (dk_at dksX0_runsYear_0 5 rfl rfl)
theorem dX0_runsYear_6 : decode cX0_runsYear 6 = .ok (.putfield 402, 3) := dk_181 1 146 (dk_at dksX0_runsYear_0 6 rfl rfl)
theorem dX0_runsYear_9 : decode cX0_runsYear 9 = .ok (.iconst 0, 1) := dk_3 (dk_at dksX0_runsYear_0 9 rfl rfl)
theorem dX0_runsYear_10 : decode cX0_runsYear 10 = .ok (.istore 4, 2) := dk_54 4 (dk_at dksX0_runsYear_0 10 rfl rfl)
theorem dX0_runsYear_12 : decode cX0_runsYear 12 = .ok (.iload 4, 2) := dk_21 4 (dk_at dksX0_runsYear_0 12 rfl rfl)
theorem dX0_runsYear_14 : decode cX0_runsYear 14 = .ok (.aload_n 1, 1) := dk_43 (dk_at dksX0_runsYear_0 14 rfl rfl)
theorem dX0_runsYear_15 : decode cX0_runsYear 15 = .ok (.getfield 406, 3) := dk_180 1 150 (dk_at dksX0_runsYear_0 15 rfl rfl)
theorem dX0_runsYear_18 : decode cX0_runsYear 18 = .ok (.invokevirtual 116, 3) := dk_182 0 116 (dk_at dksX0_runsYear_0 18 rfl rfl)
theorem dX0_runsYear_21 : decode cX0_runsYear 21 = .ok (.if_icmp .ge 137, 3) := dk_162 0 137 (dk_at dksX0_runsYear_0 21 rfl rfl)
theorem dX0_runsYear_24 : decode cX0_runsYear 24 = .ok (.aload_n 1, 1) := dk_43 (dk_at dksX0_runsYear_1 0 rfl rfl)
theorem dX0_runsYear_25 : decode cX0_runsYear 25 = .ok (.getfield 406, 3) := dk_180 1 150 (dk_at dksX0_runsYear_1 1 rfl rfl)
theorem dX0_runsYear_28 : decode cX0_runsYear 28 = .ok (.iload 4, 2) := dk_21 4 (dk_at dksX0_runsYear_1 4 rfl rfl)
theorem dX0_runsYear_30 : decode cX0_runsYear 30 = .ok (.invokevirtual 271, 3) := dk_182 1 15 (dk_at dksX0_runsYear_1 6 rfl rfl)
theorem dX0_runsYear_33 : decode cX0_runsYear 33 = .ok (.checkcast 369, 3) := dk_192 1 113 (dk_at dksX0_runsYear_1 9 rfl rfl)
theorem dX0_runsYear_36 : decode cX0_runsYear 36 = .ok (.astore 5, 2) := dk_58 5 (dk_at dksX0_runsYear_1 12 rfl rfl)
theorem dX0_runsYear_38 : decode cX0_runsYear 38 = .ok (.iconst 0, 1) := dk_3 (dk_at dksX0_runsYear_1 14 rfl rfl)
theorem dX0_runsYear_39 : decode cX0_runsYear 39 = .ok (.istore 6, 2) := dk_54 6 (dk_at dksX0_runsYear_1 15 rfl rfl)
theorem dX0_runsYear_41 : decode cX0_runsYear 41 = .ok (.iload 6, 2) := dk_21 6 (dk_at dksX0_runsYear_1 17 rfl rfl)
theorem dX0_runsYear_43 : decode cX0_runsYear 43 = .ok (.aload 5, 2) := dk_25 5 (dk_at dksX0_runsYear_1 19 rfl rfl)
theorem dX0_runsYear_45 : decode cX0_runsYear 45 = .ok (.getfield 371, 3) := dk_180 1 115 (dk_at dksX0_runsYear_1 21 rfl rfl)
theorem dX0_runsYear_48 : decode cX0_runsYear 48 = .ok (.if_icmp .ge 104, 3) := dk_162 0 104 (dk_at dksX0_runsYear_2 0 rfl rfl)
theorem dX0_runsYear_51 : decode cX0_runsYear 51 = .ok (.aload 5, 2) := dk_25 5 (dk_at dksX0_runsYear_2 3 rfl rfl)
theorem dX0_runsYear_53 : decode cX0_runsYear 53 = .ok (.getfield 389, 3) := dk_180 1 133 (dk_at dksX0_runsYear_2 5 rfl rfl)
theorem dX0_runsYear_56 : decode cX0_runsYear 56 = .ok (.iconst 3, 1) := dk_6 (dk_at dksX0_runsYear_2 8 rfl rfl)
theorem dX0_runsYear_57 : decode cX0_runsYear 57 = .ok (.if_icmp .eq 95, 3) := dk_159 0 95 (dk_at dksX0_runsYear_2 9 rfl rfl)
theorem dX0_runsYear_60 : decode cX0_runsYear 60 = .ok (.aload_n 0, 1) := dk_42 (dk_at dksX0_runsYear_2 12 rfl rfl)
theorem dX0_runsYear_61 : decode cX0_runsYear 61 = .ok (.aload_n 0, 1) := dk_42 (dk_at dksX0_runsYear_2 13 rfl rfl)
theorem dX0_runsYear_62 : decode cX0_runsYear 62 = .ok (.getfield 59, 3) := dk_180 0 59 (dk_at dksX0_runsYear_2 14 rfl rfl)
theorem dX0_runsYear_65 : decode cX0_runsYear 65 = .ok (.iload_n 2, 1) := dk_28 (dk_at dksX0_runsYear_2 17 rfl rfl)
theorem dX0_runsYear_66 : decode cX0_runsYear 66 = .ok (.iload_n 3, 1) := dk_29 (dk_at dksX0_runsYear_2 18 rfl rfl)
theorem dX0_runsYear_67 : decode cX0_runsYear 67 = .ok (.invokevirtual 374, 3) := dk_182 1 118 (dk_at dksX0_runsYear_2 19 rfl rfl)
theorem dX0_runsYear_70 : decode cX0_runsYear 70 = .ok (.aload 5, 2) := dk_25 5 (dk_at dksX0_runsYear_2 22 rfl rfl)
theorem dX0_runsYear_72 : decode cX0_runsYear 72 = .ok (.aload_n 0, 1) := dk_42 (dk_at dksX0_runsYear_3 0 rfl rfl)
theorem dX0_runsYear_73 : decode cX0_runsYear 73 = .ok (.getfield 75, 3) := dk_180 0 75 (dk_at dksX0_runsYear_3 1 rfl rfl)
theorem dX0_runsYear_76 : decode cX0_runsYear 76 = .ok (.invokevirtual 378, 3) := dk_182 1 122 (dk_at dksX0_runsYear_3 4 rfl rfl)
theorem dX0_runsYear_79 : decode cX0_runsYear 79 = .ok (.ifCond .ne 6, 3) := dk_154 0 6 (dk_at dksX0_runsYear_3 7 rfl rfl)
theorem dX0_runsYear_82 : decode cX0_runsYear 82 = .ok (.goto 64, 3) := dk_167 0 64 (dk_at dksX0_runsYear_3 10 rfl rfl)
theorem dX0_runsYear_85 : decode cX0_runsYear 85 = .ok (.aload_n 0, 1) := dk_42 (dk_at dksX0_runsYear_3 13 rfl rfl)
theorem dX0_runsYear_86 : decode cX0_runsYear 86 = .ok (.aload 5, 2) := dk_25 5 (dk_at dksX0_runsYear_3 14 rfl rfl)
theorem dX0_runsYear_88 : decode cX0_runsYear 88 = .ok (.invokevirtual 407, 3) := dk_182 1 151 (dk_at dksX0_runsYear_3 16 rfl rfl)
theorem dX0_runsYear_91 : decode cX0_runsYear 91 = .ok (.istore 7, 2) := dk_54 7 (dk_at dksX0_runsYear_3 19 rfl rfl)
theorem dX0_runsYear_93 : decode cX0_runsYear 93 = .ok (.aload_n 0, 1) := dk_42 (dk_at dksX0_runsYear_3 21 rfl rfl)
theorem dX0_runsYear_94 : decode cX0_runsYear 94 = .ok (.dup, 1) := dk_89 (dk_at dksX0_runsYear_3 22 rfl rfl)
theorem dX0_runsYear_95 : decode cX0_runsYear 95 = .ok (.getfield 402, 3) := dk_180 1 146 (dk_at dksX0_runsYear_4 0 rfl rfl)
theorem dX0_runsYear_98 : decode cX0_runsYear 98 = .ok (.iload 7, 2) := dk_21 7 (dk_at dksX0_runsYear_4 3 rfl rfl)
theorem dX0_runsYear_100 : decode cX0_runsYear 100 = .ok (.ifCond .ge 7, 3) := dk_156 0 7 (dk_at dksX0_runsYear_4 5 rfl rfl)
theorem dX0_runsYear_103 : decode cX0_runsYear 103 = .ok (.iconst 1, 1) := dk_4 (dk_at dksX0_runsYear_4 8 rfl rfl)
theorem dX0_runsYear_104 : decode cX0_runsYear 104 = .ok (.goto 4, 3) := dk_167 0 4 (dk_at dksX0_runsYear_4 9 rfl rfl)
theorem dX0_runsYear_107 : decode cX0_runsYear 107 = .ok (.iconst 0, 1) := dk_3 (dk_at dksX0_runsYear_4 12 rfl rfl)
theorem dX0_runsYear_108 : decode cX0_runsYear 108 = .ok (.ior, 1) := dk_128 (dk_at dksX0_runsYear_4 13 rfl rfl)
theorem dX0_runsYear_109 : decode cX0_runsYear 109 = .ok (.putfield 402, 3) := dk_181 1 146 (dk_at dksX0_runsYear_4 14 rfl rfl)
theorem dX0_runsYear_112 : decode cX0_runsYear 112 = .ok (.iload 7, 2) := dk_21 7 (dk_at dksX0_runsYear_4 17 rfl rfl)
theorem dX0_runsYear_114 : decode cX0_runsYear 114 = .ok (.ifCond .lt 17, 3) := dk_155 0 17 (dk_at dksX0_runsYear_4 19 rfl rfl)
theorem dX0_runsYear_117 : decode cX0_runsYear 117 = .ok (.aload 5, 2) := dk_25 5 (dk_at dksX0_runsYear_4 22 rfl rfl)
theorem dX0_runsYear_119 : decode cX0_runsYear 119 = .ok (.getfield 389, 3) := dk_180 1 133 (dk_at dksX0_runsYear_5 0 rfl rfl)
theorem dX0_runsYear_122 : decode cX0_runsYear 122 = .ok (.iconst 2, 1) := dk_5 (dk_at dksX0_runsYear_5 3 rfl rfl)
theorem dX0_runsYear_123 : decode cX0_runsYear 123 = .ok (.if_icmp .ne 8, 3) := dk_160 0 8 (dk_at dksX0_runsYear_5 4 rfl rfl)
theorem dX0_runsYear_126 : decode cX0_runsYear 126 = .ok (.iload 7, 2) := dk_21 7 (dk_at dksX0_runsYear_5 7 rfl rfl)
theorem dX0_runsYear_128 : decode cX0_runsYear 128 = .ok (.goto 4, 3) := dk_167 0 4 (dk_at dksX0_runsYear_5 9 rfl rfl)
theorem dX0_runsYear_131 : decode cX0_runsYear 131 = .ok (.iload_n 3, 1) := dk_29 (dk_at dksX0_runsYear_5 12 rfl rfl)
theorem dX0_runsYear_132 : decode cX0_runsYear 132 = .ok (.istore_n 3, 1) := dk_62 (dk_at dksX0_runsYear_5 13 rfl rfl)
theorem dX0_runsYear_133 : decode cX0_runsYear 133 = .ok (.iload_n 2, 1) := dk_28 (dk_at dksX0_runsYear_5 14 rfl rfl)
theorem dX0_runsYear_134 : decode cX0_runsYear 134 = .ok (.iload 7, 2) := dk_21 7 (dk_at dksX0_runsYear_5 15 rfl rfl)
theorem dX0_runsYear_136 : decode cX0_runsYear 136 = .ok (.ifCond .ge 7, 3) := dk_156 0 7 (dk_at dksX0_runsYear_5 17 rfl rfl)
theorem dX0_runsYear_139 : decode cX0_runsYear 139 = .ok (.iconst 0, 1) := dk_3 (dk_at dksX0_runsYear_5 20 rfl rfl)
theorem dX0_runsYear_140 : decode cX0_runsYear 140 = .ok (.goto 4, 3) := dk_167 0 4 (dk_at dksX0_runsYear_5 21 rfl rfl)
theorem dX0_runsYear_143 : decode cX0_runsYear 143 = .ok (.iconst 1, 1) := dk_4 (dk_at dksX0_runsYear_6 0 rfl rfl)
theorem dX0_runsYear_144 : decode cX0_runsYear 144 = .ok (.iadd, 1) := dk_96 (dk_at dksX0_runsYear_6 1 rfl rfl)
theorem dX0_runsYear_145 : decode cX0_runsYear 145 = .ok (.istore_n 2, 1) := dk_61 (dk_at dksX0_runsYear_6 2 rfl rfl)
theorem dX0_runsYear_146 : decode cX0_runsYear 146 = .ok (.iinc 6 1, 3) := dk_132 6 1 (dk_at dksX0_runsYear_6 3 rfl rfl)
theorem dX0_runsYear_149 : decode cX0_runsYear 149 = .ok (.goto (-108), 3) := dk_167 255 148 (dk_at dksX0_runsYear_6 6 rfl rfl)
theorem dX0_runsYear_152 : decode cX0_runsYear 152 = .ok (.iinc 4 1, 3) := dk_132 4 1 (dk_at dksX0_runsYear_6 9 rfl rfl)
theorem dX0_runsYear_155 : decode cX0_runsYear 155 = .ok (.goto (-143), 3) := dk_167 255 113 (dk_at dksX0_runsYear_6 12 rfl rfl)
theorem dX0_runsYear_158 : decode cX0_runsYear 158 = .ok (.aload_n 0, 1) := dk_42 (dk_at dksX0_runsYear_6 15 rfl rfl)
theorem dX0_runsYear_159 : decode cX0_runsYear 159 = .ok (.aload_n 0, 1) := dk_42 (dk_at dksX0_runsYear_6 16 rfl rfl)
theorem dX0_runsYear_160 : decode cX0_runsYear 160 = .ok (.getfield 59, 3) := dk_180 0 59 (dk_at dksX0_runsYear_6 17 rfl rfl)
theorem dX0_runsYear_163 : decode cX0_runsYear 163 = .ok (.invokevirtual 344, 3) := dk_182 1 88 (dk_at dksX0_runsYear_6 20 rfl rfl)
theorem dX0_runsYear_166 : decode cX0_runsYear 166 = .ok (.pop, 1) := dk_87 (dk_at dksX0_runsYear_6 23 rfl rfl)
theorem dX0_runsYear_167 : decode cX0_runsYear 167 = .ok (.return_, 1) := dk_177 (dk_at dksX0_runsYear_7 0 rfl rfl)
abbrev cX0_triesOrder : ByteArray := prog_1_method_65_code
def yX0_triesOrder : MethodName := ⟨RX0, "triesOrder", "(LSoleraCellar$Order;)I"⟩
def dkwX0_triesOrder_7 : List UInt8 := [28, 96, 181, 1, 139, 42, 42, 180, 1, 143, 21, 6, 184, 1, 53, 181, 1, 143, 21, 6, 172]
abbrev dktX0_triesOrder_7 : List UInt8 := dkwX0_triesOrder_7 ++ []
def dkwX0_triesOrder_6 : List UInt8 := [21, 4, 28, 182, 1, 79, 172, 42, 42, 180, 0, 59, 29, 28, 182, 1, 85, 54, 6, 42, 89, 180, 1, 139]
abbrev dktX0_triesOrder_6 : List UInt8 := dkwX0_triesOrder_6 ++ dktX0_triesOrder_7
def dkwX0_triesOrder_5 : List UInt8 := [180, 0, 59, 29, 28, 182, 1, 72, 172, 43, 180, 1, 133, 4, 160, 0, 16, 42, 42, 180, 0, 59, 29]
abbrev dktX0_triesOrder_5 : List UInt8 := dkwX0_triesOrder_5 ++ dktX0_triesOrder_6
def dkwX0_triesOrder_4 : List UInt8 := [182, 1, 82, 54, 5, 21, 5, 156, 0, 6, 21, 5, 172, 43, 180, 1, 133, 154, 0, 14, 42, 42]
abbrev dktX0_triesOrder_4 : List UInt8 := dkwX0_triesOrder_4 ++ dktX0_triesOrder_5
def dkwX0_triesOrder_3 : List UInt8 := [42, 42, 180, 0, 59, 29, 21, 4, 28, 182, 1, 75, 167, 0, 13, 42, 42, 180, 0, 59, 29, 28]
abbrev dktX0_triesOrder_3 : List UInt8 := dkwX0_triesOrder_3 ++ dktX0_triesOrder_4
def dkwX0_triesOrder_2 : List UInt8 := [154, 0, 16, 42, 42, 180, 0, 59, 29, 28, 182, 1, 65, 167, 0, 36, 43, 180, 1, 133, 4, 160, 0, 18]
abbrev dktX0_triesOrder_2 : List UInt8 := dkwX0_triesOrder_2 ++ dktX0_triesOrder_3
def dkwX0_triesOrder_1 : List UInt8 := [4, 160, 0, 15, 43, 5, 42, 180, 0, 75, 182, 1, 136, 167, 0, 4, 2, 54, 4, 43, 180, 1, 133]
abbrev dktX0_triesOrder_1 : List UInt8 := dkwX0_triesOrder_1 ++ dktX0_triesOrder_2
def dkwX0_triesOrder_0 : List UInt8 := [43, 3, 42, 180, 0, 75, 182, 1, 136, 61, 43, 4, 42, 180, 0, 75, 182, 1, 136, 62, 43, 180, 1, 133]
abbrev dktX0_triesOrder_0 : List UInt8 := dkwX0_triesOrder_0 ++ dktX0_triesOrder_1
theorem dksX0_triesOrder_0 : cX0_triesOrder.data.toList.drop 0 = dktX0_triesOrder_0 := by decide +kernel
theorem dksX0_triesOrder_1 : cX0_triesOrder.data.toList.drop 24 = dktX0_triesOrder_1 := dk_seg dksX0_triesOrder_0 24 rfl rfl
theorem dksX0_triesOrder_2 : cX0_triesOrder.data.toList.drop 47 = dktX0_triesOrder_2 := dk_seg dksX0_triesOrder_1 23 rfl rfl
theorem dksX0_triesOrder_3 : cX0_triesOrder.data.toList.drop 71 = dktX0_triesOrder_3 := dk_seg dksX0_triesOrder_2 24 rfl rfl
theorem dksX0_triesOrder_4 : cX0_triesOrder.data.toList.drop 93 = dktX0_triesOrder_4 := dk_seg dksX0_triesOrder_3 22 rfl rfl
theorem dksX0_triesOrder_5 : cX0_triesOrder.data.toList.drop 115 = dktX0_triesOrder_5 := dk_seg dksX0_triesOrder_4 22 rfl rfl
theorem dksX0_triesOrder_6 : cX0_triesOrder.data.toList.drop 138 = dktX0_triesOrder_6 := dk_seg dksX0_triesOrder_5 23 rfl rfl
theorem dksX0_triesOrder_7 : cX0_triesOrder.data.toList.drop 162 = dktX0_triesOrder_7 := dk_seg dksX0_triesOrder_6 24 rfl rfl
theorem dX0_triesOrder_0 : decode cX0_triesOrder 0 = .ok (.aload_n 1, 1) := dk_43 (dk_at dksX0_triesOrder_0 0 rfl rfl)
theorem dX0_triesOrder_1 : decode cX0_triesOrder 1 = .ok (.iconst 0, 1) := dk_3 (dk_at dksX0_triesOrder_0 1 rfl rfl)
theorem dX0_triesOrder_2 : decode cX0_triesOrder 2 = .ok (.aload_n 0, 1) := dk_42 (dk_at dksX0_triesOrder_0 2 rfl rfl)
theorem dX0_triesOrder_3 : decode cX0_triesOrder 3 = .ok (.getfield 75, 3) := dk_180 0 75 (dk_at dksX0_triesOrder_0 3 rfl rfl)
theorem dX0_triesOrder_6 : decode cX0_triesOrder 6 = .ok (.invokevirtual 392, 3) := dk_182 1 136 (dk_at dksX0_triesOrder_0 6 rfl rfl)
theorem dX0_triesOrder_9 : decode cX0_triesOrder 9 = .ok (.istore_n 2, 1) := dk_61 (dk_at dksX0_triesOrder_0 9 rfl rfl)
theorem dX0_triesOrder_10 : decode cX0_triesOrder 10 = .ok (.aload_n 1, 1) := dk_43 (dk_at dksX0_triesOrder_0 10 rfl rfl)
theorem dX0_triesOrder_11 : decode cX0_triesOrder 11 = .ok (.iconst 1, 1) := dk_4 (dk_at dksX0_triesOrder_0 11 rfl rfl)
theorem dX0_triesOrder_12 : decode cX0_triesOrder 12 = .ok (.aload_n 0, 1) := dk_42 (dk_at dksX0_triesOrder_0 12 rfl rfl)
theorem dX0_triesOrder_13 : decode cX0_triesOrder 13 = .ok (.getfield 75, 3) := dk_180 0 75 (dk_at dksX0_triesOrder_0 13 rfl rfl)
theorem dX0_triesOrder_16 : decode cX0_triesOrder 16 = .ok (.invokevirtual 392, 3) := dk_182 1 136 (dk_at dksX0_triesOrder_0 16 rfl rfl)
theorem dX0_triesOrder_19 : decode cX0_triesOrder 19 = .ok (.istore_n 3, 1) := dk_62 (dk_at dksX0_triesOrder_0 19 rfl rfl)
theorem dX0_triesOrder_20 : decode cX0_triesOrder 20 = .ok (.aload_n 1, 1) := dk_43 (dk_at dksX0_triesOrder_0 20 rfl rfl)
theorem dX0_triesOrder_21 : decode cX0_triesOrder 21 = .ok (.getfield 389, 3) := dk_180 1 133 (dk_at dksX0_triesOrder_0 21 rfl rfl)
theorem dX0_triesOrder_24 : decode cX0_triesOrder 24 = .ok (.iconst 1, 1) := dk_4 (dk_at dksX0_triesOrder_1 0 rfl rfl)
theorem dX0_triesOrder_25 : decode cX0_triesOrder 25 = .ok (.if_icmp .ne 15, 3) := dk_160 0 15 (dk_at dksX0_triesOrder_1 1 rfl rfl)
theorem dX0_triesOrder_28 : decode cX0_triesOrder 28 = .ok (.aload_n 1, 1) := dk_43 (dk_at dksX0_triesOrder_1 4 rfl rfl)
theorem dX0_triesOrder_29 : decode cX0_triesOrder 29 = .ok (.iconst 2, 1) := dk_5 (dk_at dksX0_triesOrder_1 5 rfl rfl)
theorem dX0_triesOrder_30 : decode cX0_triesOrder 30 = .ok (.aload_n 0, 1) := dk_42 (dk_at dksX0_triesOrder_1 6 rfl rfl)
theorem dX0_triesOrder_31 : decode cX0_triesOrder 31 = .ok (.getfield 75, 3) := dk_180 0 75 (dk_at dksX0_triesOrder_1 7 rfl rfl)
theorem dX0_triesOrder_34 : decode cX0_triesOrder 34 = .ok (.invokevirtual 392, 3) := dk_182 1 136 (dk_at dksX0_triesOrder_1 10 rfl rfl)
theorem dX0_triesOrder_37 : decode cX0_triesOrder 37 = .ok (.goto 4, 3) := dk_167 0 4 (dk_at dksX0_triesOrder_1 13 rfl rfl)
theorem dX0_triesOrder_40 : decode cX0_triesOrder 40 = .ok (.iconst (-1), 1) := dk_2 (dk_at dksX0_triesOrder_1 16 rfl rfl)
theorem dX0_triesOrder_41 : decode cX0_triesOrder 41 = .ok (.istore 4, 2) := dk_54 4 (dk_at dksX0_triesOrder_1 17 rfl rfl)
theorem dX0_triesOrder_43 : decode cX0_triesOrder 43 = .ok (.aload_n 1, 1) := dk_43 (dk_at dksX0_triesOrder_1 19 rfl rfl)
theorem dX0_triesOrder_44 : decode cX0_triesOrder 44 = .ok (.getfield 389, 3) := dk_180 1 133 (dk_at dksX0_triesOrder_1 20 rfl rfl)
theorem dX0_triesOrder_47 : decode cX0_triesOrder 47 = .ok (.ifCond .ne 16, 3) := dk_154 0 16 (dk_at dksX0_triesOrder_2 0 rfl rfl)
theorem dX0_triesOrder_50 : decode cX0_triesOrder 50 = .ok (.aload_n 0, 1) := dk_42 (dk_at dksX0_triesOrder_2 3 rfl rfl)
theorem dX0_triesOrder_51 : decode cX0_triesOrder 51 = .ok (.aload_n 0, 1) := dk_42 (dk_at dksX0_triesOrder_2 4 rfl rfl)
theorem dX0_triesOrder_52 : decode cX0_triesOrder 52 = .ok (.getfield 59, 3) := dk_180 0 59 (dk_at dksX0_triesOrder_2 5 rfl rfl)
theorem dX0_triesOrder_55 : decode cX0_triesOrder 55 = .ok (.iload_n 3, 1) := dk_29 (dk_at dksX0_triesOrder_2 8 rfl rfl)
theorem dX0_triesOrder_56 : decode cX0_triesOrder 56 = .ok (.iload_n 2, 1) := dk_28 (dk_at dksX0_triesOrder_2 9 rfl rfl)
theorem dX0_triesOrder_57 : decode cX0_triesOrder 57 = .ok (.invokevirtual 321, 3) := dk_182 1 65 (dk_at dksX0_triesOrder_2 10 rfl rfl)
theorem dX0_triesOrder_60 : decode cX0_triesOrder 60 = .ok (.goto 36, 3) := dk_167 0 36 (dk_at dksX0_triesOrder_2 13 rfl rfl)
theorem dX0_triesOrder_63 : decode cX0_triesOrder 63 = .ok (.aload_n 1, 1) := dk_43 (dk_at dksX0_triesOrder_2 16 rfl rfl)
theorem dX0_triesOrder_64 : decode cX0_triesOrder 64 = .ok (.getfield 389, 3) := dk_180 1 133 (dk_at dksX0_triesOrder_2 17 rfl rfl)
theorem dX0_triesOrder_67 : decode cX0_triesOrder 67 = .ok (.iconst 1, 1) := dk_4 (dk_at dksX0_triesOrder_2 20 rfl rfl)
theorem dX0_triesOrder_68 : decode cX0_triesOrder 68 = .ok (.if_icmp .ne 18, 3) := dk_160 0 18 (dk_at dksX0_triesOrder_2 21 rfl rfl)
theorem dX0_triesOrder_71 : decode cX0_triesOrder 71 = .ok (.aload_n 0, 1) := dk_42 (dk_at dksX0_triesOrder_3 0 rfl rfl)
theorem dX0_triesOrder_72 : decode cX0_triesOrder 72 = .ok (.aload_n 0, 1) := dk_42 (dk_at dksX0_triesOrder_3 1 rfl rfl)
theorem dX0_triesOrder_73 : decode cX0_triesOrder 73 = .ok (.getfield 59, 3) := dk_180 0 59 (dk_at dksX0_triesOrder_3 2 rfl rfl)
theorem dX0_triesOrder_76 : decode cX0_triesOrder 76 = .ok (.iload_n 3, 1) := dk_29 (dk_at dksX0_triesOrder_3 5 rfl rfl)
theorem dX0_triesOrder_77 : decode cX0_triesOrder 77 = .ok (.iload 4, 2) := dk_21 4 (dk_at dksX0_triesOrder_3 6 rfl rfl)
theorem dX0_triesOrder_79 : decode cX0_triesOrder 79 = .ok (.iload_n 2, 1) := dk_28 (dk_at dksX0_triesOrder_3 8 rfl rfl)
theorem dX0_triesOrder_80 : decode cX0_triesOrder 80 = .ok (.invokevirtual 331, 3) := dk_182 1 75 (dk_at dksX0_triesOrder_3 9 rfl rfl)
theorem dX0_triesOrder_83 : decode cX0_triesOrder 83 = .ok (.goto 13, 3) := dk_167 0 13 (dk_at dksX0_triesOrder_3 12 rfl rfl)
theorem dX0_triesOrder_86 : decode cX0_triesOrder 86 = .ok (.aload_n 0, 1) := dk_42 (dk_at dksX0_triesOrder_3 15 rfl rfl)
theorem dX0_triesOrder_87 : decode cX0_triesOrder 87 = .ok (.aload_n 0, 1) := dk_42 (dk_at dksX0_triesOrder_3 16 rfl rfl)
theorem dX0_triesOrder_88 : decode cX0_triesOrder 88 = .ok (.getfield 59, 3) := dk_180 0 59 (dk_at dksX0_triesOrder_3 17 rfl rfl)
theorem dX0_triesOrder_91 : decode cX0_triesOrder 91 = .ok (.iload_n 3, 1) := dk_29 (dk_at dksX0_triesOrder_3 20 rfl rfl)
theorem dX0_triesOrder_92 : decode cX0_triesOrder 92 = .ok (.iload_n 2, 1) := dk_28 (dk_at dksX0_triesOrder_3 21 rfl rfl)
theorem dX0_triesOrder_93 : decode cX0_triesOrder 93 = .ok (.invokevirtual 338, 3) := dk_182 1 82 (dk_at dksX0_triesOrder_4 0 rfl rfl)
theorem dX0_triesOrder_96 : decode cX0_triesOrder 96 = .ok (.istore 5, 2) := dk_54 5 (dk_at dksX0_triesOrder_4 3 rfl rfl)
theorem dX0_triesOrder_98 : decode cX0_triesOrder 98 = .ok (.iload 5, 2) := dk_21 5 (dk_at dksX0_triesOrder_4 5 rfl rfl)
theorem dX0_triesOrder_100 : decode cX0_triesOrder 100 = .ok (.ifCond .ge 6, 3) := dk_156 0 6 (dk_at dksX0_triesOrder_4 7 rfl rfl)
theorem dX0_triesOrder_103 : decode cX0_triesOrder 103 = .ok (.iload 5, 2) := dk_21 5 (dk_at dksX0_triesOrder_4 10 rfl rfl)
theorem dX0_triesOrder_105 : decode cX0_triesOrder 105 = .ok (.ireturn, 1) := dk_172 (dk_at dksX0_triesOrder_4 12 rfl rfl)
theorem dX0_triesOrder_106 : decode cX0_triesOrder 106 = .ok (.aload_n 1, 1) := dk_43 (dk_at dksX0_triesOrder_4 13 rfl rfl)
theorem dX0_triesOrder_107 : decode cX0_triesOrder 107 = .ok (.getfield 389, 3) := dk_180 1 133 (dk_at dksX0_triesOrder_4 14 rfl rfl)
theorem dX0_triesOrder_110 : decode cX0_triesOrder 110 = .ok (.ifCond .ne 14, 3) := dk_154 0 14 (dk_at dksX0_triesOrder_4 17 rfl rfl)
theorem dX0_triesOrder_113 : decode cX0_triesOrder 113 = .ok (.aload_n 0, 1) := dk_42 (dk_at dksX0_triesOrder_4 20 rfl rfl)
theorem dX0_triesOrder_114 : decode cX0_triesOrder 114 = .ok (.aload_n 0, 1) := dk_42 (dk_at dksX0_triesOrder_4 21 rfl rfl)
theorem dX0_triesOrder_115 : decode cX0_triesOrder 115 = .ok (.getfield 59, 3) := dk_180 0 59 (dk_at dksX0_triesOrder_5 0 rfl rfl)
theorem dX0_triesOrder_118 : decode cX0_triesOrder 118 = .ok (.iload_n 3, 1) := dk_29 (dk_at dksX0_triesOrder_5 3 rfl rfl)
theorem dX0_triesOrder_119 : decode cX0_triesOrder 119 = .ok (.iload_n 2, 1) := dk_28 (dk_at dksX0_triesOrder_5 4 rfl rfl)
theorem dX0_triesOrder_120 : decode cX0_triesOrder 120 = .ok (.invokevirtual 328, 3) := dk_182 1 72 (dk_at dksX0_triesOrder_5 5 rfl rfl)
theorem dX0_triesOrder_123 : decode cX0_triesOrder 123 = .ok (.ireturn, 1) := dk_172 (dk_at dksX0_triesOrder_5 8 rfl rfl)
theorem dX0_triesOrder_124 : decode cX0_triesOrder 124 = .ok (.aload_n 1, 1) := dk_43 (dk_at dksX0_triesOrder_5 9 rfl rfl)
theorem dX0_triesOrder_125 : decode cX0_triesOrder 125 = .ok (.getfield 389, 3) := dk_180 1 133 (dk_at dksX0_triesOrder_5 10 rfl rfl)
theorem dX0_triesOrder_128 : decode cX0_triesOrder 128 = .ok (.iconst 1, 1) := dk_4 (dk_at dksX0_triesOrder_5 13 rfl rfl)
theorem dX0_triesOrder_129 : decode cX0_triesOrder 129 = .ok (.if_icmp .ne 16, 3) := dk_160 0 16 (dk_at dksX0_triesOrder_5 14 rfl rfl)
theorem dX0_triesOrder_132 : decode cX0_triesOrder 132 = .ok (.aload_n 0, 1) := dk_42 (dk_at dksX0_triesOrder_5 17 rfl rfl)
theorem dX0_triesOrder_133 : decode cX0_triesOrder 133 = .ok (.aload_n 0, 1) := dk_42 (dk_at dksX0_triesOrder_5 18 rfl rfl)
theorem dX0_triesOrder_134 : decode cX0_triesOrder 134 = .ok (.getfield 59, 3) := dk_180 0 59 (dk_at dksX0_triesOrder_5 19 rfl rfl)
theorem dX0_triesOrder_137 : decode cX0_triesOrder 137 = .ok (.iload_n 3, 1) := dk_29 (dk_at dksX0_triesOrder_5 22 rfl rfl)
theorem dX0_triesOrder_138 : decode cX0_triesOrder 138 = .ok (.iload 4, 2) := dk_21 4 (dk_at dksX0_triesOrder_6 0 rfl rfl)
theorem dX0_triesOrder_140 : decode cX0_triesOrder 140 = .ok (.iload_n 2, 1) := dk_28 (dk_at dksX0_triesOrder_6 2 rfl rfl)
theorem dX0_triesOrder_141 : decode cX0_triesOrder 141 = .ok (.invokevirtual 335, 3) := dk_182 1 79 (dk_at dksX0_triesOrder_6 3 rfl rfl)
theorem dX0_triesOrder_144 : decode cX0_triesOrder 144 = .ok (.ireturn, 1) := dk_172 (dk_at dksX0_triesOrder_6 6 rfl rfl)
theorem dX0_triesOrder_145 : decode cX0_triesOrder 145 = .ok (.aload_n 0, 1) := dk_42 (dk_at dksX0_triesOrder_6 7 rfl rfl)
theorem dX0_triesOrder_146 : decode cX0_triesOrder 146 = .ok (.aload_n 0, 1) := dk_42 (dk_at dksX0_triesOrder_6 8 rfl rfl)
theorem dX0_triesOrder_147 : decode cX0_triesOrder 147 = .ok (.getfield 59, 3) := dk_180 0 59 (dk_at dksX0_triesOrder_6 9 rfl rfl)
theorem dX0_triesOrder_150 : decode cX0_triesOrder 150 = .ok (.iload_n 3, 1) := dk_29 (dk_at dksX0_triesOrder_6 12 rfl rfl)
theorem dX0_triesOrder_151 : decode cX0_triesOrder 151 = .ok (.iload_n 2, 1) := dk_28 (dk_at dksX0_triesOrder_6 13 rfl rfl)
theorem dX0_triesOrder_152 : decode cX0_triesOrder 152 = .ok (.invokevirtual 341, 3) := dk_182 1 85 (dk_at dksX0_triesOrder_6 14 rfl rfl)
theorem dX0_triesOrder_155 : decode cX0_triesOrder 155 = .ok (.istore 6, 2) := dk_54 6 (dk_at dksX0_triesOrder_6 17 rfl rfl)
theorem dX0_triesOrder_157 : decode cX0_triesOrder 157 = .ok (.aload_n 0, 1) := dk_42 (dk_at dksX0_triesOrder_6 19 rfl rfl)
theorem dX0_triesOrder_158 : decode cX0_triesOrder 158 = .ok (.dup, 1) := dk_89 (dk_at dksX0_triesOrder_6 20 rfl rfl)
theorem dX0_triesOrder_159 : decode cX0_triesOrder 159 = .ok (.getfield 395, 3) := dk_180 1 139 (dk_at dksX0_triesOrder_6 21 rfl rfl)
theorem dX0_triesOrder_162 : decode cX0_triesOrder 162 = .ok (.iload_n 2, 1) := dk_28 (dk_at dksX0_triesOrder_7 0 rfl rfl)
theorem dX0_triesOrder_163 : decode cX0_triesOrder 163 = .ok (.iadd, 1) := dk_96 (dk_at dksX0_triesOrder_7 1 rfl rfl)
theorem dX0_triesOrder_164 : decode cX0_triesOrder 164 = .ok (.putfield 395, 3) := dk_181 1 139 (dk_at dksX0_triesOrder_7 2 rfl rfl)
theorem dX0_triesOrder_167 : decode cX0_triesOrder 167 = .ok (.aload_n 0, 1) := dk_42 (dk_at dksX0_triesOrder_7 5 rfl rfl)
theorem dX0_triesOrder_168 : decode cX0_triesOrder 168 = .ok (.aload_n 0, 1) := dk_42 (dk_at dksX0_triesOrder_7 6 rfl rfl)
theorem dX0_triesOrder_169 : decode cX0_triesOrder 169 = .ok (.getfield 399, 3) := dk_180 1 143 (dk_at dksX0_triesOrder_7 7 rfl rfl)
theorem dX0_triesOrder_172 : decode cX0_triesOrder 172 = .ok (.iload 6, 2) := dk_21 6 (dk_at dksX0_triesOrder_7 10 rfl rfl)
theorem dX0_triesOrder_174 : decode cX0_triesOrder 174 = .ok (.invokestatic 309, 3) := dk_184 1 53 (dk_at dksX0_triesOrder_7 12 rfl rfl)
theorem dX0_triesOrder_177 : decode cX0_triesOrder 177 = .ok (.putfield 399, 3) := dk_181 1 143 (dk_at dksX0_triesOrder_7 15 rfl rfl)
theorem dX0_triesOrder_180 : decode cX0_triesOrder 180 = .ok (.iload 6, 2) := dk_21 6 (dk_at dksX0_triesOrder_7 18 rfl rfl)
theorem dX0_triesOrder_182 : decode cX0_triesOrder 182 = .ok (.ireturn, 1) := dk_172 (dk_at dksX0_triesOrder_7 20 rfl rfl)
abbrev cX0_oldEnough : ByteArray := prog_1_method_68_code
def yX0_oldEnough : MethodName := ⟨RX0, "oldEnough", "(III)I"⟩
def dkwX0_oldEnough_3 : List UInt8 := [192, 0, 248, 182, 1, 157, 132, 4, 1, 167, 255, 213, 2, 172]
abbrev dktX0_oldEnough_3 : List UInt8 := dkwX0_oldEnough_3 ++ []
def dkwX0_oldEnough_2 : List UInt8 := [182, 0, 158, 29, 161, 0, 6, 21, 4, 172, 42, 42, 180, 0, 31, 180, 0, 112, 27, 182, 1, 15]
abbrev dktX0_oldEnough_2 : List UInt8 := dkwX0_oldEnough_2 ++ dktX0_oldEnough_3
def dkwX0_oldEnough_1 : List UInt8 := [154, 0, 5, 2, 172, 42, 182, 1, 154, 3, 54, 4, 21, 4, 16, 60, 163, 0, 42, 42, 180, 0, 59, 28]
abbrev dktX0_oldEnough_1 : List UInt8 := dkwX0_oldEnough_1 ++ dktX0_oldEnough_2
def dkwX0_oldEnough_0 : List UInt8 := [42, 27, 182, 1, 161, 153, 0, 22, 42, 28, 182, 0, 151, 153, 0, 14, 29, 3, 17, 74, 56, 184, 0, 108]
abbrev dktX0_oldEnough_0 : List UInt8 := dkwX0_oldEnough_0 ++ dktX0_oldEnough_1
theorem dksX0_oldEnough_0 : cX0_oldEnough.data.toList.drop 0 = dktX0_oldEnough_0 := by decide +kernel
theorem dksX0_oldEnough_1 : cX0_oldEnough.data.toList.drop 24 = dktX0_oldEnough_1 := dk_seg dksX0_oldEnough_0 24 rfl rfl
theorem dksX0_oldEnough_2 : cX0_oldEnough.data.toList.drop 48 = dktX0_oldEnough_2 := dk_seg dksX0_oldEnough_1 24 rfl rfl
theorem dksX0_oldEnough_3 : cX0_oldEnough.data.toList.drop 70 = dktX0_oldEnough_3 := dk_seg dksX0_oldEnough_2 22 rfl rfl
theorem dX0_oldEnough_0 : decode cX0_oldEnough 0 = .ok (.aload_n 0, 1) := dk_42 (dk_at dksX0_oldEnough_0 0 rfl rfl)
theorem dX0_oldEnough_1 : decode cX0_oldEnough 1 = .ok (.iload_n 1, 1) := dk_27 (dk_at dksX0_oldEnough_0 1 rfl rfl)
theorem dX0_oldEnough_2 : decode cX0_oldEnough 2 = .ok (.invokevirtual 417, 3) := dk_182 1 161 (dk_at dksX0_oldEnough_0 2 rfl rfl)
theorem dX0_oldEnough_5 : decode cX0_oldEnough 5 = .ok (.ifCond .eq 22, 3) := dk_153 0 22 (dk_at dksX0_oldEnough_0 5 rfl rfl)
theorem dX0_oldEnough_8 : decode cX0_oldEnough 8 = .ok (.aload_n 0, 1) := dk_42 (dk_at dksX0_oldEnough_0 8 rfl rfl)
theorem dX0_oldEnough_9 : decode cX0_oldEnough 9 = .ok (.iload_n 2, 1) := dk_28 (dk_at dksX0_oldEnough_0 9 rfl rfl)
theorem dX0_oldEnough_10 : decode cX0_oldEnough 10 = .ok (.invokevirtual 151, 3) := dk_182 0 151 (dk_at dksX0_oldEnough_0 10 rfl rfl)
theorem dX0_oldEnough_13 : decode cX0_oldEnough 13 = .ok (.ifCond .eq 14, 3) := dk_153 0 14 (dk_at dksX0_oldEnough_0 13 rfl rfl)
theorem dX0_oldEnough_16 : decode cX0_oldEnough 16 = .ok (.iload_n 3, 1) := dk_29 (dk_at dksX0_oldEnough_0 16 rfl rfl)
theorem dX0_oldEnough_17 : decode cX0_oldEnough 17 = .ok (.iconst 0, 1) := dk_3 (dk_at dksX0_oldEnough_0 17 rfl rfl)
theorem dX0_oldEnough_18 : decode cX0_oldEnough 18 = .ok (.sipush 19000, 3) := dk_17 74 56 (dk_at dksX0_oldEnough_0 18 rfl rfl)
theorem dX0_oldEnough_21 : decode cX0_oldEnough 21 = .ok (.invokestatic 108, 3) := dk_184 0 108 (dk_at dksX0_oldEnough_0 21 rfl rfl)
theorem dX0_oldEnough_24 : decode cX0_oldEnough 24 = .ok (.ifCond .ne 5, 3) := dk_154 0 5 (dk_at dksX0_oldEnough_1 0 rfl rfl)
theorem dX0_oldEnough_27 : decode cX0_oldEnough 27 = .ok (.iconst (-1), 1) := dk_2 (dk_at dksX0_oldEnough_1 3 rfl rfl)
theorem dX0_oldEnough_28 : decode cX0_oldEnough 28 = .ok (.ireturn, 1) := dk_172 (dk_at dksX0_oldEnough_1 4 rfl rfl)
theorem dX0_oldEnough_29 : decode cX0_oldEnough 29 = .ok (.aload_n 0, 1) := dk_42 (dk_at dksX0_oldEnough_1 5 rfl rfl)
theorem dX0_oldEnough_30 : decode cX0_oldEnough 30 = .ok (.invokevirtual 410, 3) := dk_182 1 154 (dk_at dksX0_oldEnough_1 6 rfl rfl)
theorem dX0_oldEnough_33 : decode cX0_oldEnough 33 = .ok (.iconst 0, 1) := dk_3 (dk_at dksX0_oldEnough_1 9 rfl rfl)
theorem dX0_oldEnough_34 : decode cX0_oldEnough 34 = .ok (.istore 4, 2) := dk_54 4 (dk_at dksX0_oldEnough_1 10 rfl rfl)
theorem dX0_oldEnough_36 : decode cX0_oldEnough 36 = .ok (.iload 4, 2) := dk_21 4 (dk_at dksX0_oldEnough_1 12 rfl rfl)
theorem dX0_oldEnough_38 : decode cX0_oldEnough 38 = .ok (.bipush 60, 2) := dk_16 60 (dk_at dksX0_oldEnough_1 14 rfl rfl)
theorem dX0_oldEnough_40 : decode cX0_oldEnough 40 = .ok (.if_icmp .gt 42, 3) := dk_163 0 42 (dk_at dksX0_oldEnough_1 16 rfl rfl)
theorem dX0_oldEnough_43 : decode cX0_oldEnough 43 = .ok (.aload_n 0, 1) := dk_42 (dk_at dksX0_oldEnough_1 19 rfl rfl)
theorem dX0_oldEnough_44 : decode cX0_oldEnough 44 = .ok (.getfield 59, 3) := dk_180 0 59 (dk_at dksX0_oldEnough_1 20 rfl rfl)
theorem dX0_oldEnough_47 : decode cX0_oldEnough 47 = .ok (.iload_n 2, 1) := dk_28 (dk_at dksX0_oldEnough_1 23 rfl rfl)
theorem dX0_oldEnough_48 : decode cX0_oldEnough 48 = .ok (.invokevirtual 158, 3) := dk_182 0 158 (dk_at dksX0_oldEnough_2 0 rfl rfl)
theorem dX0_oldEnough_51 : decode cX0_oldEnough 51 = .ok (.iload_n 3, 1) := dk_29 (dk_at dksX0_oldEnough_2 3 rfl rfl)
theorem dX0_oldEnough_52 : decode cX0_oldEnough 52 = .ok (.if_icmp .lt 6, 3) := dk_161 0 6 (dk_at dksX0_oldEnough_2 4 rfl rfl)
theorem dX0_oldEnough_55 : decode cX0_oldEnough 55 = .ok (.iload 4, 2) := dk_21 4 (dk_at dksX0_oldEnough_2 7 rfl rfl)
theorem dX0_oldEnough_57 : decode cX0_oldEnough 57 = .ok (.ireturn, 1) := dk_172 (dk_at dksX0_oldEnough_2 9 rfl rfl)
theorem dX0_oldEnough_58 : decode cX0_oldEnough 58 = .ok (.aload_n 0, 1) := dk_42 (dk_at dksX0_oldEnough_2 10 rfl rfl)
theorem dX0_oldEnough_59 : decode cX0_oldEnough 59 = .ok (.aload_n 0, 1) := dk_42 (dk_at dksX0_oldEnough_2 11 rfl rfl)
theorem dX0_oldEnough_60 : decode cX0_oldEnough 60 = .ok (.getfield 31, 3) := dk_180 0 31 (dk_at dksX0_oldEnough_2 12 rfl rfl)
theorem dX0_oldEnough_63 : decode cX0_oldEnough 63 = .ok (.getfield 112, 3) := dk_180 0 112 (dk_at dksX0_oldEnough_2 15 rfl rfl)
theorem dX0_oldEnough_66 : decode cX0_oldEnough 66 = .ok (.iload_n 1, 1) := dk_27 (dk_at dksX0_oldEnough_2 18 rfl rfl)
theorem dX0_oldEnough_67 : decode cX0_oldEnough 67 = .ok (.invokevirtual 271, 3) := dk_182 1 15 (dk_at dksX0_oldEnough_2 19 rfl rfl)
theorem dX0_oldEnough_70 : decode cX0_oldEnough 70 = .ok (.checkcast 248, 3) := dk_192 0 248 (dk_at dksX0_oldEnough_3 0 rfl rfl)
theorem dX0_oldEnough_73 : decode cX0_oldEnough 73 = .ok (.invokevirtual 413, 3) := dk_182 1 157 (dk_at dksX0_oldEnough_3 3 rfl rfl)
theorem dX0_oldEnough_76 : decode cX0_oldEnough 76 = .ok (.iinc 4 1, 3) := dk_132 4 1 (dk_at dksX0_oldEnough_3 6 rfl rfl)
theorem dX0_oldEnough_79 : decode cX0_oldEnough 79 = .ok (.goto (-43), 3) := dk_167 255 213 (dk_at dksX0_oldEnough_3 9 rfl rfl)
theorem dX0_oldEnough_82 : decode cX0_oldEnough 82 = .ok (.iconst (-1), 1) := dk_2 (dk_at dksX0_oldEnough_3 12 rfl rfl)
theorem dX0_oldEnough_83 : decode cX0_oldEnough 83 = .ok (.ireturn, 1) := dk_172 (dk_at dksX0_oldEnough_3 13 rfl rfl)
abbrev cX0_settled : ByteArray := prog_1_method_69_code
def yX0_settled : MethodName := ⟨RX0, "settled", "(II)I"⟩
def dkwX0_settled_3 : List UInt8 := [21, 4, 160, 0, 5, 29, 172, 132, 3, 1, 167, 255, 198, 2, 172]
abbrev dktX0_settled_3 : List UInt8 := dkwX0_settled_3 ++ []
def dkwX0_settled_2 : List UInt8 := [27, 182, 1, 15, 192, 0, 248, 182, 1, 157, 21, 4, 2, 159, 0, 18, 42, 180, 0, 59, 28, 182, 0, 158]
abbrev dktX0_settled_2 : List UInt8 := dkwX0_settled_2 ++ dktX0_settled_3
def dkwX0_settled_1 : List UInt8 := [29, 16, 60, 162, 0, 58, 42, 180, 0, 59, 28, 182, 0, 158, 54, 4, 42, 42, 180, 0, 31, 180, 0, 112]
abbrev dktX0_settled_1 : List UInt8 := dkwX0_settled_1 ++ dktX0_settled_2
def dkwX0_settled_0 : List UInt8 := [42, 27, 182, 1, 161, 153, 0, 11, 42, 28, 182, 0, 151, 154, 0, 5, 2, 172, 42, 182, 1, 154, 3, 62]
abbrev dktX0_settled_0 : List UInt8 := dkwX0_settled_0 ++ dktX0_settled_1
theorem dksX0_settled_0 : cX0_settled.data.toList.drop 0 = dktX0_settled_0 := by decide +kernel
theorem dksX0_settled_1 : cX0_settled.data.toList.drop 24 = dktX0_settled_1 := dk_seg dksX0_settled_0 24 rfl rfl
theorem dksX0_settled_2 : cX0_settled.data.toList.drop 48 = dktX0_settled_2 := dk_seg dksX0_settled_1 24 rfl rfl
theorem dksX0_settled_3 : cX0_settled.data.toList.drop 72 = dktX0_settled_3 := dk_seg dksX0_settled_2 24 rfl rfl
theorem dX0_settled_0 : decode cX0_settled 0 = .ok (.aload_n 0, 1) := dk_42 (dk_at dksX0_settled_0 0 rfl rfl)
theorem dX0_settled_1 : decode cX0_settled 1 = .ok (.iload_n 1, 1) := dk_27 (dk_at dksX0_settled_0 1 rfl rfl)
theorem dX0_settled_2 : decode cX0_settled 2 = .ok (.invokevirtual 417, 3) := dk_182 1 161 (dk_at dksX0_settled_0 2 rfl rfl)
theorem dX0_settled_5 : decode cX0_settled 5 = .ok (.ifCond .eq 11, 3) := dk_153 0 11 (dk_at dksX0_settled_0 5 rfl rfl)
theorem dX0_settled_8 : decode cX0_settled 8 = .ok (.aload_n 0, 1) := dk_42 (dk_at dksX0_settled_0 8 rfl rfl)
theorem dX0_settled_9 : decode cX0_settled 9 = .ok (.iload_n 2, 1) := dk_28 (dk_at dksX0_settled_0 9 rfl rfl)
theorem dX0_settled_10 : decode cX0_settled 10 = .ok (.invokevirtual 151, 3) := dk_182 0 151 (dk_at dksX0_settled_0 10 rfl rfl)
theorem dX0_settled_13 : decode cX0_settled 13 = .ok (.ifCond .ne 5, 3) := dk_154 0 5 (dk_at dksX0_settled_0 13 rfl rfl)
theorem dX0_settled_16 : decode cX0_settled 16 = .ok (.iconst (-1), 1) := dk_2 (dk_at dksX0_settled_0 16 rfl rfl)
theorem dX0_settled_17 : decode cX0_settled 17 = .ok (.ireturn, 1) := dk_172 (dk_at dksX0_settled_0 17 rfl rfl)
theorem dX0_settled_18 : decode cX0_settled 18 = .ok (.aload_n 0, 1) := dk_42 (dk_at dksX0_settled_0 18 rfl rfl)
theorem dX0_settled_19 : decode cX0_settled 19 = .ok (.invokevirtual 410, 3) := dk_182 1 154 (dk_at dksX0_settled_0 19 rfl rfl)
theorem dX0_settled_22 : decode cX0_settled 22 = .ok (.iconst 0, 1) := dk_3 (dk_at dksX0_settled_0 22 rfl rfl)
theorem dX0_settled_23 : decode cX0_settled 23 = .ok (.istore_n 3, 1) := dk_62 (dk_at dksX0_settled_0 23 rfl rfl)
theorem dX0_settled_24 : decode cX0_settled 24 = .ok (.iload_n 3, 1) := dk_29 (dk_at dksX0_settled_1 0 rfl rfl)
theorem dX0_settled_25 : decode cX0_settled 25 = .ok (.bipush 60, 2) := dk_16 60 (dk_at dksX0_settled_1 1 rfl rfl)
theorem dX0_settled_27 : decode cX0_settled 27 = .ok (.if_icmp .ge 58, 3) := dk_162 0 58 (dk_at dksX0_settled_1 3 rfl rfl)
theorem dX0_settled_30 : decode cX0_settled 30 = .ok (.aload_n 0, 1) := dk_42 (dk_at dksX0_settled_1 6 rfl rfl)
theorem dX0_settled_31 : decode cX0_settled 31 = .ok (.getfield 59, 3) := dk_180 0 59 (dk_at dksX0_settled_1 7 rfl rfl)
theorem dX0_settled_34 : decode cX0_settled 34 = .ok (.iload_n 2, 1) := dk_28 (dk_at dksX0_settled_1 10 rfl rfl)
theorem dX0_settled_35 : decode cX0_settled 35 = .ok (.invokevirtual 158, 3) := dk_182 0 158 (dk_at dksX0_settled_1 11 rfl rfl)
theorem dX0_settled_38 : decode cX0_settled 38 = .ok (.istore 4, 2) := dk_54 4 (dk_at dksX0_settled_1 14 rfl rfl)
theorem dX0_settled_40 : decode cX0_settled 40 = .ok (.aload_n 0, 1) := dk_42 (dk_at dksX0_settled_1 16 rfl rfl)
theorem dX0_settled_41 : decode cX0_settled 41 = .ok (.aload_n 0, 1) := dk_42 (dk_at dksX0_settled_1 17 rfl rfl)
theorem dX0_settled_42 : decode cX0_settled 42 = .ok (.getfield 31, 3) := dk_180 0 31 (dk_at dksX0_settled_1 18 rfl rfl)
theorem dX0_settled_45 : decode cX0_settled 45 = .ok (.getfield 112, 3) := dk_180 0 112 (dk_at dksX0_settled_1 21 rfl rfl)
theorem dX0_settled_48 : decode cX0_settled 48 = .ok (.iload_n 1, 1) := dk_27 (dk_at dksX0_settled_2 0 rfl rfl)
theorem dX0_settled_49 : decode cX0_settled 49 = .ok (.invokevirtual 271, 3) := dk_182 1 15 (dk_at dksX0_settled_2 1 rfl rfl)
theorem dX0_settled_52 : decode cX0_settled 52 = .ok (.checkcast 248, 3) := dk_192 0 248 (dk_at dksX0_settled_2 4 rfl rfl)
theorem dX0_settled_55 : decode cX0_settled 55 = .ok (.invokevirtual 413, 3) := dk_182 1 157 (dk_at dksX0_settled_2 7 rfl rfl)
theorem dX0_settled_58 : decode cX0_settled 58 = .ok (.iload 4, 2) := dk_21 4 (dk_at dksX0_settled_2 10 rfl rfl)
theorem dX0_settled_60 : decode cX0_settled 60 = .ok (.iconst (-1), 1) := dk_2 (dk_at dksX0_settled_2 12 rfl rfl)
theorem dX0_settled_61 : decode cX0_settled 61 = .ok (.if_icmp .eq 18, 3) := dk_159 0 18 (dk_at dksX0_settled_2 13 rfl rfl)
theorem dX0_settled_64 : decode cX0_settled 64 = .ok (.aload_n 0, 1) := dk_42 (dk_at dksX0_settled_2 16 rfl rfl)
theorem dX0_settled_65 : decode cX0_settled 65 = .ok (.getfield 59, 3) := dk_180 0 59 (dk_at dksX0_settled_2 17 rfl rfl)
theorem dX0_settled_68 : decode cX0_settled 68 = .ok (.iload_n 2, 1) := dk_28 (dk_at dksX0_settled_2 20 rfl rfl)
theorem dX0_settled_69 : decode cX0_settled 69 = .ok (.invokevirtual 158, 3) := dk_182 0 158 (dk_at dksX0_settled_2 21 rfl rfl)
theorem dX0_settled_72 : decode cX0_settled 72 = .ok (.iload 4, 2) := dk_21 4 (dk_at dksX0_settled_3 0 rfl rfl)
theorem dX0_settled_74 : decode cX0_settled 74 = .ok (.if_icmp .ne 5, 3) := dk_160 0 5 (dk_at dksX0_settled_3 2 rfl rfl)
theorem dX0_settled_77 : decode cX0_settled 77 = .ok (.iload_n 3, 1) := dk_29 (dk_at dksX0_settled_3 5 rfl rfl)
theorem dX0_settled_78 : decode cX0_settled 78 = .ok (.ireturn, 1) := dk_172 (dk_at dksX0_settled_3 6 rfl rfl)
theorem dX0_settled_79 : decode cX0_settled 79 = .ok (.iinc 3 1, 3) := dk_132 3 1 (dk_at dksX0_settled_3 7 rfl rfl)
theorem dX0_settled_82 : decode cX0_settled 82 = .ok (.goto (-58), 3) := dk_167 255 198 (dk_at dksX0_settled_3 10 rfl rfl)
theorem dX0_settled_85 : decode cX0_settled 85 = .ok (.iconst (-1), 1) := dk_2 (dk_at dksX0_settled_3 13 rfl rfl)
theorem dX0_settled_86 : decode cX0_settled 86 = .ok (.ireturn, 1) := dk_172 (dk_at dksX0_settled_3 14 rfl rfl)
abbrev cX0_starves : ByteArray := prog_1_method_70_code
def yX0_starves : MethodName := ⟨RX0, "starves", "(I)I"⟩
def dkwX0_starves_2 : List UInt8 := [172, 132, 2, 1, 167, 255, 220, 2, 172]
abbrev dktX0_starves_2 : List UInt8 := dkwX0_starves_2 ++ []
def dkwX0_starves_1 : List UInt8 := [180, 0, 31, 180, 0, 112, 27, 182, 1, 15, 192, 0, 248, 182, 1, 157, 42, 180, 1, 146, 153, 0, 5, 28]
abbrev dktX0_starves_1 : List UInt8 := dkwX0_starves_1 ++ dktX0_starves_2
def dkwX0_starves_0 : List UInt8 := [42, 27, 182, 1, 161, 154, 0, 5, 2, 172, 42, 182, 1, 154, 3, 61, 28, 16, 60, 162, 0, 36, 42, 42]
abbrev dktX0_starves_0 : List UInt8 := dkwX0_starves_0 ++ dktX0_starves_1
theorem dksX0_starves_0 : cX0_starves.data.toList.drop 0 = dktX0_starves_0 := by decide +kernel
theorem dksX0_starves_1 : cX0_starves.data.toList.drop 24 = dktX0_starves_1 := dk_seg dksX0_starves_0 24 rfl rfl
theorem dksX0_starves_2 : cX0_starves.data.toList.drop 48 = dktX0_starves_2 := dk_seg dksX0_starves_1 24 rfl rfl
theorem dX0_starves_0 : decode cX0_starves 0 = .ok (.aload_n 0, 1) := dk_42 (dk_at dksX0_starves_0 0 rfl rfl)
theorem dX0_starves_1 : decode cX0_starves 1 = .ok (.iload_n 1, 1) := dk_27 (dk_at dksX0_starves_0 1 rfl rfl)
theorem dX0_starves_2 : decode cX0_starves 2 = .ok (.invokevirtual 417, 3) := dk_182 1 161 (dk_at dksX0_starves_0 2 rfl rfl)
theorem dX0_starves_5 : decode cX0_starves 5 = .ok (.ifCond .ne 5, 3) := dk_154 0 5 (dk_at dksX0_starves_0 5 rfl rfl)
theorem dX0_starves_8 : decode cX0_starves 8 = .ok (.iconst (-1), 1) := dk_2 (dk_at dksX0_starves_0 8 rfl rfl)
theorem dX0_starves_9 : decode cX0_starves 9 = .ok (.ireturn, 1) := dk_172 (dk_at dksX0_starves_0 9 rfl rfl)
theorem dX0_starves_10 : decode cX0_starves 10 = .ok (.aload_n 0, 1) := dk_42 (dk_at dksX0_starves_0 10 rfl rfl)
theorem dX0_starves_11 : decode cX0_starves 11 = .ok (.invokevirtual 410, 3) := dk_182 1 154 (dk_at dksX0_starves_0 11 rfl rfl)
theorem dX0_starves_14 : decode cX0_starves 14 = .ok (.iconst 0, 1) := dk_3 (dk_at dksX0_starves_0 14 rfl rfl)
theorem dX0_starves_15 : decode cX0_starves 15 = .ok (.istore_n 2, 1) := dk_61 (dk_at dksX0_starves_0 15 rfl rfl)
theorem dX0_starves_16 : decode cX0_starves 16 = .ok (.iload_n 2, 1) := dk_28 (dk_at dksX0_starves_0 16 rfl rfl)
theorem dX0_starves_17 : decode cX0_starves 17 = .ok (.bipush 60, 2) := dk_16 60 (dk_at dksX0_starves_0 17 rfl rfl)
theorem dX0_starves_19 : decode cX0_starves 19 = .ok (.if_icmp .ge 36, 3) := dk_162 0 36 (dk_at dksX0_starves_0 19 rfl rfl)
theorem dX0_starves_22 : decode cX0_starves 22 = .ok (.aload_n 0, 1) := dk_42 (dk_at dksX0_starves_0 22 rfl rfl)
theorem dX0_starves_23 : decode cX0_starves 23 = .ok (.aload_n 0, 1) := dk_42 (dk_at dksX0_starves_0 23 rfl rfl)
theorem dX0_starves_24 : decode cX0_starves 24 = .ok (.getfield 31, 3) := dk_180 0 31 (dk_at dksX0_starves_1 0 rfl rfl)
theorem dX0_starves_27 : decode cX0_starves 27 = .ok (.getfield 112, 3) := dk_180 0 112 (dk_at dksX0_starves_1 3 rfl rfl)
theorem dX0_starves_30 : decode cX0_starves 30 = .ok (.iload_n 1, 1) := dk_27 (dk_at dksX0_starves_1 6 rfl rfl)
theorem dX0_starves_31 : decode cX0_starves 31 = .ok (.invokevirtual 271, 3) := dk_182 1 15 (dk_at dksX0_starves_1 7 rfl rfl)
theorem dX0_starves_34 : decode cX0_starves 34 = .ok (.checkcast 248, 3) := dk_192 0 248 (dk_at dksX0_starves_1 10 rfl rfl)
theorem dX0_starves_37 : decode cX0_starves 37 = .ok (.invokevirtual 413, 3) := dk_182 1 157 (dk_at dksX0_starves_1 13 rfl rfl)
theorem dX0_starves_40 : decode cX0_starves 40 = .ok (.aload_n 0, 1) := dk_42 (dk_at dksX0_starves_1 16 rfl rfl)
theorem dX0_starves_41 : decode cX0_starves 41 = .ok (.getfield 402, 3) := dk_180 1 146 (dk_at dksX0_starves_1 17 rfl rfl)
theorem dX0_starves_44 : decode cX0_starves 44 = .ok (.ifCond .eq 5, 3) := dk_153 0 5 (dk_at dksX0_starves_1 20 rfl rfl)
theorem dX0_starves_47 : decode cX0_starves 47 = .ok (.iload_n 2, 1) := dk_28 (dk_at dksX0_starves_1 23 rfl rfl)
theorem dX0_starves_48 : decode cX0_starves 48 = .ok (.ireturn, 1) := dk_172 (dk_at dksX0_starves_2 0 rfl rfl)
theorem dX0_starves_49 : decode cX0_starves 49 = .ok (.iinc 2 1, 3) := dk_132 2 1 (dk_at dksX0_starves_2 1 rfl rfl)
theorem dX0_starves_52 : decode cX0_starves 52 = .ok (.goto (-36), 3) := dk_167 255 220 (dk_at dksX0_starves_2 4 rfl rfl)
theorem dX0_starves_55 : decode cX0_starves 55 = .ok (.iconst (-1), 1) := dk_2 (dk_at dksX0_starves_2 7 rfl rfl)
theorem dX0_starves_56 : decode cX0_starves 56 = .ok (.ireturn, 1) := dk_172 (dk_at dksX0_starves_2 8 rfl rfl)
abbrev cX0_yields : ByteArray := prog_1_method_71_code
def yX0_yields : MethodName := ⟨RX0, "yields", "(II)I"⟩
def dkwX0_yields_1 : List UInt8 := [180, 0, 31, 180, 0, 112, 27, 182, 1, 15, 192, 0, 248, 28, 182, 1, 164, 42, 180, 1, 139, 172]
abbrev dktX0_yields_1 : List UInt8 := dkwX0_yields_1 ++ []
def dkwX0_yields_0 : List UInt8 := [42, 27, 182, 1, 161, 153, 0, 13, 28, 3, 16, 60, 184, 0, 108, 154, 0, 5, 2, 172, 42, 42]
abbrev dktX0_yields_0 : List UInt8 := dkwX0_yields_0 ++ dktX0_yields_1
theorem dksX0_yields_0 : cX0_yields.data.toList.drop 0 = dktX0_yields_0 := by decide +kernel
theorem dksX0_yields_1 : cX0_yields.data.toList.drop 22 = dktX0_yields_1 := dk_seg dksX0_yields_0 22 rfl rfl
theorem dX0_yields_0 : decode cX0_yields 0 = .ok (.aload_n 0, 1) := dk_42 (dk_at dksX0_yields_0 0 rfl rfl)
theorem dX0_yields_1 : decode cX0_yields 1 = .ok (.iload_n 1, 1) := dk_27 (dk_at dksX0_yields_0 1 rfl rfl)
theorem dX0_yields_2 : decode cX0_yields 2 = .ok (.invokevirtual 417, 3) := dk_182 1 161 (dk_at dksX0_yields_0 2 rfl rfl)
theorem dX0_yields_5 : decode cX0_yields 5 = .ok (.ifCond .eq 13, 3) := dk_153 0 13 (dk_at dksX0_yields_0 5 rfl rfl)
theorem dX0_yields_8 : decode cX0_yields 8 = .ok (.iload_n 2, 1) := dk_28 (dk_at dksX0_yields_0 8 rfl rfl)
theorem dX0_yields_9 : decode cX0_yields 9 = .ok (.iconst 0, 1) := dk_3 (dk_at dksX0_yields_0 9 rfl rfl)
theorem dX0_yields_10 : decode cX0_yields 10 = .ok (.bipush 60, 2) := dk_16 60 (dk_at dksX0_yields_0 10 rfl rfl)
theorem dX0_yields_12 : decode cX0_yields 12 = .ok (.invokestatic 108, 3) := dk_184 0 108 (dk_at dksX0_yields_0 12 rfl rfl)
theorem dX0_yields_15 : decode cX0_yields 15 = .ok (.ifCond .ne 5, 3) := dk_154 0 5 (dk_at dksX0_yields_0 15 rfl rfl)
theorem dX0_yields_18 : decode cX0_yields 18 = .ok (.iconst (-1), 1) := dk_2 (dk_at dksX0_yields_0 18 rfl rfl)
theorem dX0_yields_19 : decode cX0_yields 19 = .ok (.ireturn, 1) := dk_172 (dk_at dksX0_yields_0 19 rfl rfl)
theorem dX0_yields_20 : decode cX0_yields 20 = .ok (.aload_n 0, 1) := dk_42 (dk_at dksX0_yields_0 20 rfl rfl)
theorem dX0_yields_21 : decode cX0_yields 21 = .ok (.aload_n 0, 1) := dk_42 (dk_at dksX0_yields_0 21 rfl rfl)
theorem dX0_yields_22 : decode cX0_yields 22 = .ok (.getfield 31, 3) := dk_180 0 31 (dk_at dksX0_yields_1 0 rfl rfl)
theorem dX0_yields_25 : decode cX0_yields 25 = .ok (.getfield 112, 3) := dk_180 0 112 (dk_at dksX0_yields_1 3 rfl rfl)
theorem dX0_yields_28 : decode cX0_yields 28 = .ok (.iload_n 1, 1) := dk_27 (dk_at dksX0_yields_1 6 rfl rfl)
theorem dX0_yields_29 : decode cX0_yields 29 = .ok (.invokevirtual 271, 3) := dk_182 1 15 (dk_at dksX0_yields_1 7 rfl rfl)
theorem dX0_yields_32 : decode cX0_yields 32 = .ok (.checkcast 248, 3) := dk_192 0 248 (dk_at dksX0_yields_1 10 rfl rfl)
theorem dX0_yields_35 : decode cX0_yields 35 = .ok (.iload_n 2, 1) := dk_28 (dk_at dksX0_yields_1 13 rfl rfl)
theorem dX0_yields_36 : decode cX0_yields 36 = .ok (.invokevirtual 420, 3) := dk_182 1 164 (dk_at dksX0_yields_1 14 rfl rfl)
theorem dX0_yields_39 : decode cX0_yields 39 = .ok (.aload_n 0, 1) := dk_42 (dk_at dksX0_yields_1 17 rfl rfl)
theorem dX0_yields_40 : decode cX0_yields 40 = .ok (.getfield 395, 3) := dk_180 1 139 (dk_at dksX0_yields_1 18 rfl rfl)
theorem dX0_yields_43 : decode cX0_yields 43 = .ok (.ireturn, 1) := dk_172 (dk_at dksX0_yields_1 21 rfl rfl)
abbrev cX0_best : ByteArray := prog_1_method_72_code
def yX0_best : MethodName := ⟨RX0, "best", "(II)I"⟩
def dkwX0_best_4 : List UInt8 := [132, 5, 1, 167, 255, 189, 29, 172]
abbrev dktX0_best_4 : List UInt8 := dkwX0_best_4 ++ []
def dkwX0_best_3 : List UInt8 := [161, 0, 24, 42, 180, 1, 139, 21, 4, 163, 0, 6, 167, 0, 12, 42, 180, 1, 139, 54, 4, 21, 5, 62]
abbrev dktX0_best_3 : List UInt8 := dkwX0_best_3 ++ dktX0_best_4
def dkwX0_best_2 : List UInt8 := [180, 0, 31, 180, 0, 112, 21, 5, 182, 1, 15, 192, 0, 248, 27, 182, 1, 164, 42, 180, 1, 143, 28]
abbrev dktX0_best_2 : List UInt8 := dkwX0_best_2 ++ dktX0_best_3
def dkwX0_best_1 : List UInt8 := [62, 2, 54, 4, 3, 54, 5, 21, 5, 42, 180, 0, 31, 180, 0, 112, 182, 0, 116, 162, 0, 58, 42, 42]
abbrev dktX0_best_1 : List UInt8 := dkwX0_best_1 ++ dktX0_best_2
def dkwX0_best_0 : List UInt8 := [27, 3, 16, 60, 184, 0, 108, 153, 0, 14, 28, 3, 17, 74, 56, 184, 0, 108, 154, 0, 5, 2, 172, 2]
abbrev dktX0_best_0 : List UInt8 := dkwX0_best_0 ++ dktX0_best_1
theorem dksX0_best_0 : cX0_best.data.toList.drop 0 = dktX0_best_0 := by decide +kernel
theorem dksX0_best_1 : cX0_best.data.toList.drop 24 = dktX0_best_1 := dk_seg dksX0_best_0 24 rfl rfl
theorem dksX0_best_2 : cX0_best.data.toList.drop 48 = dktX0_best_2 := dk_seg dksX0_best_1 24 rfl rfl
theorem dksX0_best_3 : cX0_best.data.toList.drop 71 = dktX0_best_3 := dk_seg dksX0_best_2 23 rfl rfl
theorem dksX0_best_4 : cX0_best.data.toList.drop 95 = dktX0_best_4 := dk_seg dksX0_best_3 24 rfl rfl
theorem dX0_best_0 : decode cX0_best 0 = .ok (.iload_n 1, 1) := dk_27 (dk_at dksX0_best_0 0 rfl rfl)
theorem dX0_best_1 : decode cX0_best 1 = .ok (.iconst 0, 1) := dk_3 (dk_at dksX0_best_0 1 rfl rfl)
theorem dX0_best_2 : decode cX0_best 2 = .ok (.bipush 60, 2) := dk_16 60 (dk_at dksX0_best_0 2 rfl rfl)
theorem dX0_best_4 : decode cX0_best 4 = .ok (.invokestatic 108, 3) := dk_184 0 108 (dk_at dksX0_best_0 4 rfl rfl)
theorem dX0_best_7 : decode cX0_best 7 = .ok (.ifCond .eq 14, 3) := dk_153 0 14 (dk_at dksX0_best_0 7 rfl rfl)
theorem dX0_best_10 : decode cX0_best 10 = .ok (.iload_n 2, 1) := dk_28 (dk_at dksX0_best_0 10 rfl rfl)
theorem dX0_best_11 : decode cX0_best 11 = .ok (.iconst 0, 1) := dk_3 (dk_at dksX0_best_0 11 rfl rfl)
theorem dX0_best_12 : decode cX0_best 12 = .ok (.sipush 19000, 3) := dk_17 74 56 (dk_at dksX0_best_0 12 rfl rfl)
theorem dX0_best_15 : decode cX0_best 15 = .ok (.invokestatic 108, 3) := dk_184 0 108 (dk_at dksX0_best_0 15 rfl rfl)
theorem dX0_best_18 : decode cX0_best 18 = .ok (.ifCond .ne 5, 3) := dk_154 0 5 (dk_at dksX0_best_0 18 rfl rfl)
theorem dX0_best_21 : decode cX0_best 21 = .ok (.iconst (-1), 1) := dk_2 (dk_at dksX0_best_0 21 rfl rfl)
theorem dX0_best_22 : decode cX0_best 22 = .ok (.ireturn, 1) := dk_172 (dk_at dksX0_best_0 22 rfl rfl)
theorem dX0_best_23 : decode cX0_best 23 = .ok (.iconst (-1), 1) := dk_2 (dk_at dksX0_best_0 23 rfl rfl)
theorem dX0_best_24 : decode cX0_best 24 = .ok (.istore_n 3, 1) := dk_62 (dk_at dksX0_best_1 0 rfl rfl)
theorem dX0_best_25 : decode cX0_best 25 = .ok (.iconst (-1), 1) := dk_2 (dk_at dksX0_best_1 1 rfl rfl)
theorem dX0_best_26 : decode cX0_best 26 = .ok (.istore 4, 2) := dk_54 4 (dk_at dksX0_best_1 2 rfl rfl)
theorem dX0_best_28 : decode cX0_best 28 = .ok (.iconst 0, 1) := dk_3 (dk_at dksX0_best_1 4 rfl rfl)
theorem dX0_best_29 : decode cX0_best 29 = .ok (.istore 5, 2) := dk_54 5 (dk_at dksX0_best_1 5 rfl rfl)
theorem dX0_best_31 : decode cX0_best 31 = .ok (.iload 5, 2) := dk_21 5 (dk_at dksX0_best_1 7 rfl rfl)
theorem dX0_best_33 : decode cX0_best 33 = .ok (.aload_n 0, 1) := dk_42 (dk_at dksX0_best_1 9 rfl rfl)
theorem dX0_best_34 : decode cX0_best 34 = .ok (.getfield 31, 3) := dk_180 0 31 (dk_at dksX0_best_1 10 rfl rfl)
theorem dX0_best_37 : decode cX0_best 37 = .ok (.getfield 112, 3) := dk_180 0 112 (dk_at dksX0_best_1 13 rfl rfl)
theorem dX0_best_40 : decode cX0_best 40 = .ok (.invokevirtual 116, 3) := dk_182 0 116 (dk_at dksX0_best_1 16 rfl rfl)
theorem dX0_best_43 : decode cX0_best 43 = .ok (.if_icmp .ge 58, 3) := dk_162 0 58 (dk_at dksX0_best_1 19 rfl rfl)
theorem dX0_best_46 : decode cX0_best 46 = .ok (.aload_n 0, 1) := dk_42 (dk_at dksX0_best_1 22 rfl rfl)
theorem dX0_best_47 : decode cX0_best 47 = .ok (.aload_n 0, 1) := dk_42 (dk_at dksX0_best_1 23 rfl rfl)
theorem dX0_best_48 : decode cX0_best 48 = .ok (.getfield 31, 3) := dk_180 0 31 (dk_at dksX0_best_2 0 rfl rfl)
theorem dX0_best_51 : decode cX0_best 51 = .ok (.getfield 112, 3) := dk_180 0 112 (dk_at dksX0_best_2 3 rfl rfl)
theorem dX0_best_54 : decode cX0_best 54 = .ok (.iload 5, 2) := dk_21 5 (dk_at dksX0_best_2 6 rfl rfl)
theorem dX0_best_56 : decode cX0_best 56 = .ok (.invokevirtual 271, 3) := dk_182 1 15 (dk_at dksX0_best_2 8 rfl rfl)
theorem dX0_best_59 : decode cX0_best 59 = .ok (.checkcast 248, 3) := dk_192 0 248 (dk_at dksX0_best_2 11 rfl rfl)
theorem dX0_best_62 : decode cX0_best 62 = .ok (.iload_n 1, 1) := dk_27 (dk_at dksX0_best_2 14 rfl rfl)
theorem dX0_best_63 : decode cX0_best 63 = .ok (.invokevirtual 420, 3) := dk_182 1 164 (dk_at dksX0_best_2 15 rfl rfl)
theorem dX0_best_66 : decode cX0_best 66 = .ok (.aload_n 0, 1) := dk_42 (dk_at dksX0_best_2 18 rfl rfl)
theorem dX0_best_67 : decode cX0_best 67 = .ok (.getfield 399, 3) := dk_180 1 143 (dk_at dksX0_best_2 19 rfl rfl)
theorem dX0_best_70 : decode cX0_best 70 = .ok (.iload_n 2, 1) := dk_28 (dk_at dksX0_best_2 22 rfl rfl)
theorem dX0_best_71 : decode cX0_best 71 = .ok (.if_icmp .lt 24, 3) := dk_161 0 24 (dk_at dksX0_best_3 0 rfl rfl)
theorem dX0_best_74 : decode cX0_best 74 = .ok (.aload_n 0, 1) := dk_42 (dk_at dksX0_best_3 3 rfl rfl)
theorem dX0_best_75 : decode cX0_best 75 = .ok (.getfield 395, 3) := dk_180 1 139 (dk_at dksX0_best_3 4 rfl rfl)
theorem dX0_best_78 : decode cX0_best 78 = .ok (.iload 4, 2) := dk_21 4 (dk_at dksX0_best_3 7 rfl rfl)
theorem dX0_best_80 : decode cX0_best 80 = .ok (.if_icmp .gt 6, 3) := dk_163 0 6 (dk_at dksX0_best_3 9 rfl rfl)
theorem dX0_best_83 : decode cX0_best 83 = .ok (.goto 12, 3) := dk_167 0 12 (dk_at dksX0_best_3 12 rfl rfl)
theorem dX0_best_86 : decode cX0_best 86 = .ok (.aload_n 0, 1) := dk_42 (dk_at dksX0_best_3 15 rfl rfl)
theorem dX0_best_87 : decode cX0_best 87 = .ok (.getfield 395, 3) := dk_180 1 139 (dk_at dksX0_best_3 16 rfl rfl)
theorem dX0_best_90 : decode cX0_best 90 = .ok (.istore 4, 2) := dk_54 4 (dk_at dksX0_best_3 19 rfl rfl)
theorem dX0_best_92 : decode cX0_best 92 = .ok (.iload 5, 2) := dk_21 5 (dk_at dksX0_best_3 21 rfl rfl)
theorem dX0_best_94 : decode cX0_best 94 = .ok (.istore_n 3, 1) := dk_62 (dk_at dksX0_best_3 23 rfl rfl)
theorem dX0_best_95 : decode cX0_best 95 = .ok (.iinc 5 1, 3) := dk_132 5 1 (dk_at dksX0_best_4 0 rfl rfl)
theorem dX0_best_98 : decode cX0_best 98 = .ok (.goto (-67), 3) := dk_167 255 189 (dk_at dksX0_best_4 3 rfl rfl)
theorem dX0_best_101 : decode cX0_best 101 = .ok (.iload_n 3, 1) := dk_29 (dk_at dksX0_best_4 6 rfl rfl)
theorem dX0_best_102 : decode cX0_best 102 = .ok (.ireturn, 1) := dk_172 (dk_at dksX0_best_4 7 rfl rfl)
abbrev cX0_tasted : ByteArray := prog_1_method_74_code
def yX0_tasted : MethodName := ⟨RX0, "tasted", "(II)I"⟩
def dkwX0_tasted_4 : List UInt8 := [181, 1, 168, 42, 42, 180, 0, 31, 180, 1, 168, 182, 0, 101, 172]
abbrev dktX0_tasted_4 : List UInt8 := dkwX0_tasted_4 ++ []
def dkwX0_tasted_3 : List UInt8 := [5, 42, 180, 0, 31, 180, 1, 168, 104, 4, 96, 28, 79, 42, 180, 0, 31, 89, 180, 1, 168, 4, 96]
abbrev dktX0_tasted_3 : List UInt8 := dkwX0_tasted_3 ++ dktX0_tasted_4
def dkwX0_tasted_2 : List UInt8 := [180, 0, 31, 180, 1, 171, 5, 42, 180, 0, 31, 180, 1, 168, 104, 27, 79, 42, 180, 0, 31, 180, 1, 171]
abbrev dktX0_tasted_2 : List UInt8 := dkwX0_tasted_2 ++ dktX0_tasted_3
def dkwX0_tasted_1 : List UInt8 := [182, 0, 122, 172, 42, 180, 0, 31, 180, 1, 168, 16, 6, 160, 0, 10, 42, 16, 251, 182, 0, 122, 172, 42]
abbrev dktX0_tasted_1 : List UInt8 := dkwX0_tasted_1 ++ dktX0_tasted_2
def dkwX0_tasted_0 : List UInt8 := [27, 3, 5, 184, 0, 108, 153, 0, 14, 28, 3, 17, 3, 231, 184, 0, 108, 154, 0, 9, 42, 2]
abbrev dktX0_tasted_0 : List UInt8 := dkwX0_tasted_0 ++ dktX0_tasted_1
theorem dksX0_tasted_0 : cX0_tasted.data.toList.drop 0 = dktX0_tasted_0 := by decide +kernel
theorem dksX0_tasted_1 : cX0_tasted.data.toList.drop 22 = dktX0_tasted_1 := dk_seg dksX0_tasted_0 22 rfl rfl
theorem dksX0_tasted_2 : cX0_tasted.data.toList.drop 46 = dktX0_tasted_2 := dk_seg dksX0_tasted_1 24 rfl rfl
theorem dksX0_tasted_3 : cX0_tasted.data.toList.drop 70 = dktX0_tasted_3 := dk_seg dksX0_tasted_2 24 rfl rfl
theorem dksX0_tasted_4 : cX0_tasted.data.toList.drop 93 = dktX0_tasted_4 := dk_seg dksX0_tasted_3 23 rfl rfl
theorem dX0_tasted_0 : decode cX0_tasted 0 = .ok (.iload_n 1, 1) := dk_27 (dk_at dksX0_tasted_0 0 rfl rfl)
theorem dX0_tasted_1 : decode cX0_tasted 1 = .ok (.iconst 0, 1) := dk_3 (dk_at dksX0_tasted_0 1 rfl rfl)
theorem dX0_tasted_2 : decode cX0_tasted 2 = .ok (.iconst 2, 1) := dk_5 (dk_at dksX0_tasted_0 2 rfl rfl)
theorem dX0_tasted_3 : decode cX0_tasted 3 = .ok (.invokestatic 108, 3) := dk_184 0 108 (dk_at dksX0_tasted_0 3 rfl rfl)
theorem dX0_tasted_6 : decode cX0_tasted 6 = .ok (.ifCond .eq 14, 3) := dk_153 0 14 (dk_at dksX0_tasted_0 6 rfl rfl)
theorem dX0_tasted_9 : decode cX0_tasted 9 = .ok (.iload_n 2, 1) := dk_28 (dk_at dksX0_tasted_0 9 rfl rfl)
theorem dX0_tasted_10 : decode cX0_tasted 10 = .ok (.iconst 0, 1) := dk_3 (dk_at dksX0_tasted_0 10 rfl rfl)
theorem dX0_tasted_11 : decode cX0_tasted 11 = .ok (.sipush 999, 3) := dk_17 3 231 (dk_at dksX0_tasted_0 11 rfl rfl)
theorem dX0_tasted_14 : decode cX0_tasted 14 = .ok (.invokestatic 108, 3) := dk_184 0 108 (dk_at dksX0_tasted_0 14 rfl rfl)
theorem dX0_tasted_17 : decode cX0_tasted 17 = .ok (.ifCond .ne 9, 3) := dk_154 0 9 (dk_at dksX0_tasted_0 17 rfl rfl)
theorem dX0_tasted_20 : decode cX0_tasted 20 = .ok (.aload_n 0, 1) := dk_42 (dk_at dksX0_tasted_0 20 rfl rfl)
theorem dX0_tasted_21 : decode cX0_tasted 21 = .ok (.iconst (-1), 1) := dk_2 (dk_at dksX0_tasted_0 21 rfl rfl)
theorem dX0_tasted_22 : decode cX0_tasted 22 = .ok (.invokevirtual 122, 3) := dk_182 0 122 (dk_at dksX0_tasted_1 0 rfl rfl)
theorem dX0_tasted_25 : decode cX0_tasted 25 = .ok (.ireturn, 1) := dk_172 (dk_at dksX0_tasted_1 3 rfl rfl)
theorem dX0_tasted_26 : decode cX0_tasted 26 = .ok (.aload_n 0, 1) := dk_42 (dk_at dksX0_tasted_1 4 rfl rfl)
theorem dX0_tasted_27 : decode cX0_tasted 27 = .ok (.getfield 31, 3) := dk_180 0 31 (dk_at dksX0_tasted_1 5 rfl rfl)
theorem dX0_tasted_30 : decode cX0_tasted 30 = .ok (.getfield 424, 3) := dk_180 1 168 (dk_at dksX0_tasted_1 8 rfl rfl)
theorem dX0_tasted_33 : decode cX0_tasted 33 = .ok (.bipush 6, 2) := dk_16 6 (dk_at dksX0_tasted_1 11 rfl rfl)
theorem dX0_tasted_35 : decode cX0_tasted 35 = .ok (.if_icmp .ne 10, 3) := dk_160 0 10 (dk_at dksX0_tasted_1 13 rfl rfl)
theorem dX0_tasted_38 : decode cX0_tasted 38 = .ok (.aload_n 0, 1) := dk_42 (dk_at dksX0_tasted_1 16 rfl rfl)
theorem dX0_tasted_39 : decode cX0_tasted 39 = .ok (.bipush (-5), 2) := dk_16 251 (dk_at dksX0_tasted_1 17 rfl rfl)
theorem dX0_tasted_41 : decode cX0_tasted 41 = .ok (.invokevirtual 122, 3) := dk_182 0 122 (dk_at dksX0_tasted_1 19 rfl rfl)
theorem dX0_tasted_44 : decode cX0_tasted 44 = .ok (.ireturn, 1) := dk_172 (dk_at dksX0_tasted_1 22 rfl rfl)
theorem dX0_tasted_45 : decode cX0_tasted 45 = .ok (.aload_n 0, 1) := dk_42 (dk_at dksX0_tasted_1 23 rfl rfl)
theorem dX0_tasted_46 : decode cX0_tasted 46 = .ok (.getfield 31, 3) := dk_180 0 31 (dk_at dksX0_tasted_2 0 rfl rfl)
theorem dX0_tasted_49 : decode cX0_tasted 49 = .ok (.getfield 427, 3) := dk_180 1 171 (dk_at dksX0_tasted_2 3 rfl rfl)
theorem dX0_tasted_52 : decode cX0_tasted 52 = .ok (.iconst 2, 1) := dk_5 (dk_at dksX0_tasted_2 6 rfl rfl)
theorem dX0_tasted_53 : decode cX0_tasted 53 = .ok (.aload_n 0, 1) := dk_42 (dk_at dksX0_tasted_2 7 rfl rfl)
theorem dX0_tasted_54 : decode cX0_tasted 54 = .ok (.getfield 31, 3) := dk_180 0 31 (dk_at dksX0_tasted_2 8 rfl rfl)
theorem dX0_tasted_57 : decode cX0_tasted 57 = .ok (.getfield 424, 3) := dk_180 1 168 (dk_at dksX0_tasted_2 11 rfl rfl)
theorem dX0_tasted_60 : decode cX0_tasted 60 = .ok (.imul, 1) := dk_104 (dk_at dksX0_tasted_2 14 rfl rfl)
theorem dX0_tasted_61 : decode cX0_tasted 61 = .ok (.iload_n 1, 1) := dk_27 (dk_at dksX0_tasted_2 15 rfl rfl)
theorem dX0_tasted_62 : decode cX0_tasted 62 = .ok (.iastore, 1) := dk_79 (dk_at dksX0_tasted_2 16 rfl rfl)
theorem dX0_tasted_63 : decode cX0_tasted 63 = .ok (.aload_n 0, 1) := dk_42 (dk_at dksX0_tasted_2 17 rfl rfl)
theorem dX0_tasted_64 : decode cX0_tasted 64 = .ok (.getfield 31, 3) := dk_180 0 31 (dk_at dksX0_tasted_2 18 rfl rfl)
theorem dX0_tasted_67 : decode cX0_tasted 67 = .ok (.getfield 427, 3) := dk_180 1 171 (dk_at dksX0_tasted_2 21 rfl rfl)
theorem dX0_tasted_70 : decode cX0_tasted 70 = .ok (.iconst 2, 1) := dk_5 (dk_at dksX0_tasted_3 0 rfl rfl)
theorem dX0_tasted_71 : decode cX0_tasted 71 = .ok (.aload_n 0, 1) := dk_42 (dk_at dksX0_tasted_3 1 rfl rfl)
theorem dX0_tasted_72 : decode cX0_tasted 72 = .ok (.getfield 31, 3) := dk_180 0 31 (dk_at dksX0_tasted_3 2 rfl rfl)
theorem dX0_tasted_75 : decode cX0_tasted 75 = .ok (.getfield 424, 3) := dk_180 1 168 (dk_at dksX0_tasted_3 5 rfl rfl)
theorem dX0_tasted_78 : decode cX0_tasted 78 = .ok (.imul, 1) := dk_104 (dk_at dksX0_tasted_3 8 rfl rfl)
theorem dX0_tasted_79 : decode cX0_tasted 79 = .ok (.iconst 1, 1) := dk_4 (dk_at dksX0_tasted_3 9 rfl rfl)
theorem dX0_tasted_80 : decode cX0_tasted 80 = .ok (.iadd, 1) := dk_96 (dk_at dksX0_tasted_3 10 rfl rfl)
theorem dX0_tasted_81 : decode cX0_tasted 81 = .ok (.iload_n 2, 1) := dk_28 (dk_at dksX0_tasted_3 11 rfl rfl)
theorem dX0_tasted_82 : decode cX0_tasted 82 = .ok (.iastore, 1) := dk_79 (dk_at dksX0_tasted_3 12 rfl rfl)
theorem dX0_tasted_83 : decode cX0_tasted 83 = .ok (.aload_n 0, 1) := dk_42 (dk_at dksX0_tasted_3 13 rfl rfl)
theorem dX0_tasted_84 : decode cX0_tasted 84 = .ok (.getfield 31, 3) := dk_180 0 31 (dk_at dksX0_tasted_3 14 rfl rfl)
theorem dX0_tasted_87 : decode cX0_tasted 87 = .ok (.dup, 1) := dk_89 (dk_at dksX0_tasted_3 17 rfl rfl)
theorem dX0_tasted_88 : decode cX0_tasted 88 = .ok (.getfield 424, 3) := dk_180 1 168 (dk_at dksX0_tasted_3 18 rfl rfl)
theorem dX0_tasted_91 : decode cX0_tasted 91 = .ok (.iconst 1, 1) := dk_4 (dk_at dksX0_tasted_3 21 rfl rfl)
theorem dX0_tasted_92 : decode cX0_tasted 92 = .ok (.iadd, 1) := dk_96 (dk_at dksX0_tasted_3 22 rfl rfl)
theorem dX0_tasted_93 : decode cX0_tasted 93 = .ok (.putfield 424, 3) := dk_181 1 168 (dk_at dksX0_tasted_4 0 rfl rfl)
theorem dX0_tasted_96 : decode cX0_tasted 96 = .ok (.aload_n 0, 1) := dk_42 (dk_at dksX0_tasted_4 3 rfl rfl)
theorem dX0_tasted_97 : decode cX0_tasted 97 = .ok (.aload_n 0, 1) := dk_42 (dk_at dksX0_tasted_4 4 rfl rfl)
theorem dX0_tasted_98 : decode cX0_tasted 98 = .ok (.getfield 31, 3) := dk_180 0 31 (dk_at dksX0_tasted_4 5 rfl rfl)
theorem dX0_tasted_101 : decode cX0_tasted 101 = .ok (.getfield 424, 3) := dk_180 1 168 (dk_at dksX0_tasted_4 8 rfl rfl)
theorem dX0_tasted_104 : decode cX0_tasted 104 = .ok (.invokevirtual 101, 3) := dk_182 0 101 (dk_at dksX0_tasted_4 11 rfl rfl)
theorem dX0_tasted_107 : decode cX0_tasted 107 = .ok (.ireturn, 1) := dk_172 (dk_at dksX0_tasted_4 14 rfl rfl)
abbrev cX0_forget : ByteArray := prog_1_method_75_code
def yX0_forget : MethodName := ⟨RX0, "forget", "()I"⟩
def dkwX0_forget_0 : List UInt8 := [42, 180, 0, 31, 180, 1, 168, 60, 42, 180, 0, 31, 3, 181, 1, 168, 27, 172]
abbrev dktX0_forget_0 : List UInt8 := dkwX0_forget_0 ++ []
theorem dksX0_forget_0 : cX0_forget.data.toList.drop 0 = dktX0_forget_0 := by decide +kernel
theorem dX0_forget_0 : decode cX0_forget 0 = .ok (.aload_n 0, 1) := dk_42 (dk_at dksX0_forget_0 0 rfl rfl)
theorem dX0_forget_1 : decode cX0_forget 1 = .ok (.getfield 31, 3) := dk_180 0 31 (dk_at dksX0_forget_0 1 rfl rfl)
theorem dX0_forget_4 : decode cX0_forget 4 = .ok (.getfield 424, 3) := dk_180 1 168 (dk_at dksX0_forget_0 4 rfl rfl)
theorem dX0_forget_7 : decode cX0_forget 7 = .ok (.istore_n 1, 1) := dk_60 (dk_at dksX0_forget_0 7 rfl rfl)
theorem dX0_forget_8 : decode cX0_forget 8 = .ok (.aload_n 0, 1) := dk_42 (dk_at dksX0_forget_0 8 rfl rfl)
theorem dX0_forget_9 : decode cX0_forget 9 = .ok (.getfield 31, 3) := dk_180 0 31 (dk_at dksX0_forget_0 9 rfl rfl)
theorem dX0_forget_12 : decode cX0_forget 12 = .ok (.iconst 0, 1) := dk_3 (dk_at dksX0_forget_0 12 rfl rfl)
theorem dX0_forget_13 : decode cX0_forget 13 = .ok (.putfield 424, 3) := dk_181 1 168 (dk_at dksX0_forget_0 13 rfl rfl)
theorem dX0_forget_16 : decode cX0_forget 16 = .ok (.iload_n 1, 1) := dk_27 (dk_at dksX0_forget_0 16 rfl rfl)
theorem dX0_forget_17 : decode cX0_forget 17 = .ok (.ireturn, 1) := dk_172 (dk_at dksX0_forget_0 17 rfl rfl)
abbrev cX0_canBe : ByteArray := prog_1_method_77_code
def yX0_canBe : MethodName := ⟨RX0, "canBe", "()I"⟩
def dkwX0_canBe_1 : List UInt8 := [4, 28, 120, 167, 0, 4, 3, 128, 60, 132, 2, 1, 167, 255, 224, 27, 172]
abbrev dktX0_canBe_1 : List UInt8 := dkwX0_canBe_1 ++ []
def dkwX0_canBe_0 : List UInt8 := [3, 60, 3, 61, 28, 42, 180, 0, 31, 180, 0, 105, 162, 0, 27, 27, 42, 28, 182, 1, 177, 153, 0, 9]
abbrev dktX0_canBe_0 : List UInt8 := dkwX0_canBe_0 ++ dktX0_canBe_1
theorem dksX0_canBe_0 : cX0_canBe.data.toList.drop 0 = dktX0_canBe_0 := by decide +kernel
theorem dksX0_canBe_1 : cX0_canBe.data.toList.drop 24 = dktX0_canBe_1 := dk_seg dksX0_canBe_0 24 rfl rfl
theorem dX0_canBe_0 : decode cX0_canBe 0 = .ok (.iconst 0, 1) := dk_3 (dk_at dksX0_canBe_0 0 rfl rfl)
theorem dX0_canBe_1 : decode cX0_canBe 1 = .ok (.istore_n 1, 1) := dk_60 (dk_at dksX0_canBe_0 1 rfl rfl)
theorem dX0_canBe_2 : decode cX0_canBe 2 = .ok (.iconst 0, 1) := dk_3 (dk_at dksX0_canBe_0 2 rfl rfl)
theorem dX0_canBe_3 : decode cX0_canBe 3 = .ok (.istore_n 2, 1) := dk_61 (dk_at dksX0_canBe_0 3 rfl rfl)
theorem dX0_canBe_4 : decode cX0_canBe 4 = .ok (.iload_n 2, 1) := dk_28 (dk_at dksX0_canBe_0 4 rfl rfl)
theorem dX0_canBe_5 : decode cX0_canBe 5 = .ok (.aload_n 0, 1) := dk_42 (dk_at dksX0_canBe_0 5 rfl rfl)
theorem dX0_canBe_6 : decode cX0_canBe 6 = .ok (.getfield 31, 3) := dk_180 0 31 (dk_at dksX0_canBe_0 6 rfl rfl)
theorem dX0_canBe_9 : decode cX0_canBe 9 = .ok (.getfield 105, 3) := dk_180 0 105 (dk_at dksX0_canBe_0 9 rfl rfl)
theorem dX0_canBe_12 : decode cX0_canBe 12 = .ok (.if_icmp .ge 27, 3) := dk_162 0 27 (dk_at dksX0_canBe_0 12 rfl rfl)
theorem dX0_canBe_15 : decode cX0_canBe 15 = .ok (.iload_n 1, 1) := dk_27 (dk_at dksX0_canBe_0 15 rfl rfl)
theorem dX0_canBe_16 : decode cX0_canBe 16 = .ok (.aload_n 0, 1) := dk_42 (dk_at dksX0_canBe_0 16 rfl rfl)
theorem dX0_canBe_17 : decode cX0_canBe 17 = .ok (.iload_n 2, 1) := dk_28 (dk_at dksX0_canBe_0 17 rfl rfl)
theorem dX0_canBe_18 : decode cX0_canBe 18 = .ok (.invokevirtual 433, 3) := dk_182 1 177 (dk_at dksX0_canBe_0 18 rfl rfl)
theorem dX0_canBe_21 : decode cX0_canBe 21 = .ok (.ifCond .eq 9, 3) := dk_153 0 9 (dk_at dksX0_canBe_0 21 rfl rfl)
theorem dX0_canBe_24 : decode cX0_canBe 24 = .ok (.iconst 1, 1) := dk_4 (dk_at dksX0_canBe_1 0 rfl rfl)
theorem dX0_canBe_25 : decode cX0_canBe 25 = .ok (.iload_n 2, 1) := dk_28 (dk_at dksX0_canBe_1 1 rfl rfl)
theorem dX0_canBe_26 : decode cX0_canBe 26 = .ok (.ishl, 1) := dk_120 (dk_at dksX0_canBe_1 2 rfl rfl)
theorem dX0_canBe_27 : decode cX0_canBe 27 = .ok (.goto 4, 3) := dk_167 0 4 (dk_at dksX0_canBe_1 3 rfl rfl)
theorem dX0_canBe_30 : decode cX0_canBe 30 = .ok (.iconst 0, 1) := dk_3 (dk_at dksX0_canBe_1 6 rfl rfl)
theorem dX0_canBe_31 : decode cX0_canBe 31 = .ok (.ior, 1) := dk_128 (dk_at dksX0_canBe_1 7 rfl rfl)
theorem dX0_canBe_32 : decode cX0_canBe 32 = .ok (.istore_n 1, 1) := dk_60 (dk_at dksX0_canBe_1 8 rfl rfl)
theorem dX0_canBe_33 : decode cX0_canBe 33 = .ok (.iinc 2 1, 3) := dk_132 2 1 (dk_at dksX0_canBe_1 9 rfl rfl)
theorem dX0_canBe_36 : decode cX0_canBe 36 = .ok (.goto (-32), 3) := dk_167 255 224 (dk_at dksX0_canBe_1 12 rfl rfl)
theorem dX0_canBe_39 : decode cX0_canBe 39 = .ok (.iload_n 1, 1) := dk_27 (dk_at dksX0_canBe_1 15 rfl rfl)
theorem dX0_canBe_40 : decode cX0_canBe 40 = .ok (.ireturn, 1) := dk_172 (dk_at dksX0_canBe_1 16 rfl rfl)
abbrev cX0_isSo : ByteArray := prog_1_method_76_code
def yX0_isSo : MethodName := ⟨RX0, "isSo", "(I)Z"⟩
def dkwX0_isSo_2 : List UInt8 := [167, 255, 210, 4, 172]
abbrev dktX0_isSo_2 : List UInt8 := dkwX0_isSo_2 ++ []
def dkwX0_isSo_1 : List UInt8 := [28, 46, 182, 1, 174, 42, 180, 0, 31, 180, 1, 171, 28, 4, 96, 46, 159, 0, 5, 3, 172, 132, 2, 2]
abbrev dktX0_isSo_1 : List UInt8 := dkwX0_isSo_1 ++ dktX0_isSo_2
def dkwX0_isSo_0 : List UInt8 := [3, 61, 28, 5, 42, 180, 0, 31, 180, 1, 168, 104, 162, 0, 39, 42, 27, 42, 180, 0, 31, 180, 1, 171]
abbrev dktX0_isSo_0 : List UInt8 := dkwX0_isSo_0 ++ dktX0_isSo_1
theorem dksX0_isSo_0 : cX0_isSo.data.toList.drop 0 = dktX0_isSo_0 := by decide +kernel
theorem dksX0_isSo_1 : cX0_isSo.data.toList.drop 24 = dktX0_isSo_1 := dk_seg dksX0_isSo_0 24 rfl rfl
theorem dksX0_isSo_2 : cX0_isSo.data.toList.drop 48 = dktX0_isSo_2 := dk_seg dksX0_isSo_1 24 rfl rfl
theorem dX0_isSo_0 : decode cX0_isSo 0 = .ok (.iconst 0, 1) := dk_3 (dk_at dksX0_isSo_0 0 rfl rfl)
theorem dX0_isSo_1 : decode cX0_isSo 1 = .ok (.istore_n 2, 1) := dk_61 (dk_at dksX0_isSo_0 1 rfl rfl)
theorem dX0_isSo_2 : decode cX0_isSo 2 = .ok (.iload_n 2, 1) := dk_28 (dk_at dksX0_isSo_0 2 rfl rfl)
theorem dX0_isSo_3 : decode cX0_isSo 3 = .ok (.iconst 2, 1) := dk_5 (dk_at dksX0_isSo_0 3 rfl rfl)
theorem dX0_isSo_4 : decode cX0_isSo 4 = .ok (.aload_n 0, 1) := dk_42 (dk_at dksX0_isSo_0 4 rfl rfl)
theorem dX0_isSo_5 : decode cX0_isSo 5 = .ok (.getfield 31, 3) := dk_180 0 31 (dk_at dksX0_isSo_0 5 rfl rfl)
theorem dX0_isSo_8 : decode cX0_isSo 8 = .ok (.getfield 424, 3) := dk_180 1 168 (dk_at dksX0_isSo_0 8 rfl rfl)
theorem dX0_isSo_11 : decode cX0_isSo 11 = .ok (.imul, 1) := dk_104 (dk_at dksX0_isSo_0 11 rfl rfl)
theorem dX0_isSo_12 : decode cX0_isSo 12 = .ok (.if_icmp .ge 39, 3) := dk_162 0 39 (dk_at dksX0_isSo_0 12 rfl rfl)
theorem dX0_isSo_15 : decode cX0_isSo 15 = .ok (.aload_n 0, 1) := dk_42 (dk_at dksX0_isSo_0 15 rfl rfl)
theorem dX0_isSo_16 : decode cX0_isSo 16 = .ok (.iload_n 1, 1) := dk_27 (dk_at dksX0_isSo_0 16 rfl rfl)
theorem dX0_isSo_17 : decode cX0_isSo 17 = .ok (.aload_n 0, 1) := dk_42 (dk_at dksX0_isSo_0 17 rfl rfl)
theorem dX0_isSo_18 : decode cX0_isSo 18 = .ok (.getfield 31, 3) := dk_180 0 31 (dk_at dksX0_isSo_0 18 rfl rfl)
theorem dX0_isSo_21 : decode cX0_isSo 21 = .ok (.getfield 427, 3) := dk_180 1 171 (dk_at dksX0_isSo_0 21 rfl rfl)
theorem dX0_isSo_24 : decode cX0_isSo 24 = .ok (.iload_n 2, 1) := dk_28 (dk_at dksX0_isSo_1 0 rfl rfl)
theorem dX0_isSo_25 : decode cX0_isSo 25 = .ok (.iaload, 1) := dk_46 (dk_at dksX0_isSo_1 1 rfl rfl)
theorem dX0_isSo_26 : decode cX0_isSo 26 = .ok (.invokevirtual 430, 3) := dk_182 1 174 (dk_at dksX0_isSo_1 2 rfl rfl)
theorem dX0_isSo_29 : decode cX0_isSo 29 = .ok (.aload_n 0, 1) := dk_42 (dk_at dksX0_isSo_1 5 rfl rfl)
theorem dX0_isSo_30 : decode cX0_isSo 30 = .ok (.getfield 31, 3) := dk_180 0 31 (dk_at dksX0_isSo_1 6 rfl rfl)
theorem dX0_isSo_33 : decode cX0_isSo 33 = .ok (.getfield 427, 3) := dk_180 1 171 (dk_at dksX0_isSo_1 9 rfl rfl)
theorem dX0_isSo_36 : decode cX0_isSo 36 = .ok (.iload_n 2, 1) := dk_28 (dk_at dksX0_isSo_1 12 rfl rfl)
theorem dX0_isSo_37 : decode cX0_isSo 37 = .ok (.iconst 1, 1) := dk_4 (dk_at dksX0_isSo_1 13 rfl rfl)
theorem dX0_isSo_38 : decode cX0_isSo 38 = .ok (.iadd, 1) := dk_96 (dk_at dksX0_isSo_1 14 rfl rfl)
theorem dX0_isSo_39 : decode cX0_isSo 39 = .ok (.iaload, 1) := dk_46 (dk_at dksX0_isSo_1 15 rfl rfl)
theorem dX0_isSo_40 : decode cX0_isSo 40 = .ok (.if_icmp .eq 5, 3) := dk_159 0 5 (dk_at dksX0_isSo_1 16 rfl rfl)
theorem dX0_isSo_43 : decode cX0_isSo 43 = .ok (.iconst 0, 1) := dk_3 (dk_at dksX0_isSo_1 19 rfl rfl)
theorem dX0_isSo_44 : decode cX0_isSo 44 = .ok (.ireturn, 1) := dk_172 (dk_at dksX0_isSo_1 20 rfl rfl)
theorem dX0_isSo_45 : decode cX0_isSo 45 = .ok (.iinc 2 2, 3) := dk_132 2 2 (dk_at dksX0_isSo_1 21 rfl rfl)
theorem dX0_isSo_48 : decode cX0_isSo 48 = .ok (.goto (-46), 3) := dk_167 255 210 (dk_at dksX0_isSo_2 0 rfl rfl)
theorem dX0_isSo_51 : decode cX0_isSo 51 = .ok (.iconst 1, 1) := dk_4 (dk_at dksX0_isSo_2 3 rfl rfl)
theorem dX0_isSo_52 : decode cX0_isSo 52 = .ok (.ireturn, 1) := dk_172 (dk_at dksX0_isSo_2 4 rfl rfl)
abbrev cX0_factOf : ByteArray := prog_1_method_73_code
def yX0_factOf : MethodName := ⟨RX0, "factOf", "(II)I"⟩
def dkwX0_factOf_2 : List UInt8 := [2, 160, 0, 9, 17, 3, 231, 167, 0, 4, 29, 172]
abbrev dktX0_factOf_2 : List UInt8 := dkwX0_factOf_2 ++ []
def dkwX0_factOf_1 : List UInt8 := [27, 182, 1, 9, 167, 0, 18, 42, 182, 0, 137, 27, 42, 180, 0, 31, 180, 0, 161, 182, 0, 164, 62, 29]
abbrev dktX0_factOf_1 : List UInt8 := dkwX0_factOf_1 ++ dktX0_factOf_2
def dkwX0_factOf_0 : List UInt8 := [28, 154, 0, 14, 42, 182, 0, 137, 27, 182, 1, 12, 167, 0, 34, 28, 4, 160, 0, 14, 42, 182, 0, 137]
abbrev dktX0_factOf_0 : List UInt8 := dkwX0_factOf_0 ++ dktX0_factOf_1
theorem dksX0_factOf_0 : cX0_factOf.data.toList.drop 0 = dktX0_factOf_0 := by decide +kernel
theorem dksX0_factOf_1 : cX0_factOf.data.toList.drop 24 = dktX0_factOf_1 := dk_seg dksX0_factOf_0 24 rfl rfl
theorem dksX0_factOf_2 : cX0_factOf.data.toList.drop 48 = dktX0_factOf_2 := dk_seg dksX0_factOf_1 24 rfl rfl
theorem dX0_factOf_0 : decode cX0_factOf 0 = .ok (.iload_n 2, 1) := dk_28 (dk_at dksX0_factOf_0 0 rfl rfl)
theorem dX0_factOf_1 : decode cX0_factOf 1 = .ok (.ifCond .ne 14, 3) := dk_154 0 14 (dk_at dksX0_factOf_0 1 rfl rfl)
theorem dX0_factOf_4 : decode cX0_factOf 4 = .ok (.aload_n 0, 1) := dk_42 (dk_at dksX0_factOf_0 4 rfl rfl)
theorem dX0_factOf_5 : decode cX0_factOf 5 = .ok (.invokevirtual 137, 3) := dk_182 0 137 (dk_at dksX0_factOf_0 5 rfl rfl)
theorem dX0_factOf_8 : decode cX0_factOf 8 = .ok (.iload_n 1, 1) := dk_27 (dk_at dksX0_factOf_0 8 rfl rfl)
theorem dX0_factOf_9 : decode cX0_factOf 9 = .ok (.invokevirtual 268, 3) := dk_182 1 12 (dk_at dksX0_factOf_0 9 rfl rfl)
theorem dX0_factOf_12 : decode cX0_factOf 12 = .ok (.goto 34, 3) := dk_167 0 34 (dk_at dksX0_factOf_0 12 rfl rfl)
theorem dX0_factOf_15 : decode cX0_factOf 15 = .ok (.iload_n 2, 1) := dk_28 (dk_at dksX0_factOf_0 15 rfl rfl)
theorem dX0_factOf_16 : decode cX0_factOf 16 = .ok (.iconst 1, 1) := dk_4 (dk_at dksX0_factOf_0 16 rfl rfl)
theorem dX0_factOf_17 : decode cX0_factOf 17 = .ok (.if_icmp .ne 14, 3) := dk_160 0 14 (dk_at dksX0_factOf_0 17 rfl rfl)
theorem dX0_factOf_20 : decode cX0_factOf 20 = .ok (.aload_n 0, 1) := dk_42 (dk_at dksX0_factOf_0 20 rfl rfl)
theorem dX0_factOf_21 : decode cX0_factOf 21 = .ok (.invokevirtual 137, 3) := dk_182 0 137 (dk_at dksX0_factOf_0 21 rfl rfl)
theorem dX0_factOf_24 : decode cX0_factOf 24 = .ok (.iload_n 1, 1) := dk_27 (dk_at dksX0_factOf_1 0 rfl rfl)
theorem dX0_factOf_25 : decode cX0_factOf 25 = .ok (.invokevirtual 265, 3) := dk_182 1 9 (dk_at dksX0_factOf_1 1 rfl rfl)
theorem dX0_factOf_28 : decode cX0_factOf 28 = .ok (.goto 18, 3) := dk_167 0 18 (dk_at dksX0_factOf_1 4 rfl rfl)
theorem dX0_factOf_31 : decode cX0_factOf 31 = .ok (.aload_n 0, 1) := dk_42 (dk_at dksX0_factOf_1 7 rfl rfl)
theorem dX0_factOf_32 : decode cX0_factOf 32 = .ok (.invokevirtual 137, 3) := dk_182 0 137 (dk_at dksX0_factOf_1 8 rfl rfl)
theorem dX0_factOf_35 : decode cX0_factOf 35 = .ok (.iload_n 1, 1) := dk_27 (dk_at dksX0_factOf_1 11 rfl rfl)
theorem dX0_factOf_36 : decode cX0_factOf 36 = .ok (.aload_n 0, 1) := dk_42 (dk_at dksX0_factOf_1 12 rfl rfl)
theorem dX0_factOf_37 : decode cX0_factOf 37 = .ok (.getfield 31, 3) := dk_180 0 31 (dk_at dksX0_factOf_1 13 rfl rfl)
theorem dX0_factOf_40 : decode cX0_factOf 40 = .ok (.getfield 161, 3) := dk_180 0 161 (dk_at dksX0_factOf_1 16 rfl rfl)
theorem dX0_factOf_43 : decode cX0_factOf 43 = .ok (.invokevirtual 164, 3) := dk_182 0 164 (dk_at dksX0_factOf_1 19 rfl rfl)
theorem dX0_factOf_46 : decode cX0_factOf 46 = .ok (.istore_n 3, 1) := dk_62 (dk_at dksX0_factOf_1 22 rfl rfl)
theorem dX0_factOf_47 : decode cX0_factOf 47 = .ok (.iload_n 3, 1) := dk_29 (dk_at dksX0_factOf_1 23 rfl rfl)
theorem dX0_factOf_48 : decode cX0_factOf 48 = .ok (.iconst (-1), 1) := dk_2 (dk_at dksX0_factOf_2 0 rfl rfl)
theorem dX0_factOf_49 : decode cX0_factOf 49 = .ok (.if_icmp .ne 9, 3) := dk_160 0 9 (dk_at dksX0_factOf_2 1 rfl rfl)
theorem dX0_factOf_52 : decode cX0_factOf 52 = .ok (.sipush 999, 3) := dk_17 3 231 (dk_at dksX0_factOf_2 4 rfl rfl)
theorem dX0_factOf_55 : decode cX0_factOf 55 = .ok (.goto 4, 3) := dk_167 0 4 (dk_at dksX0_factOf_2 7 rfl rfl)
theorem dX0_factOf_58 : decode cX0_factOf 58 = .ok (.iload_n 3, 1) := dk_29 (dk_at dksX0_factOf_2 10 rfl rfl)
theorem dX0_factOf_59 : decode cX0_factOf 59 = .ok (.ireturn, 1) := dk_172 (dk_at dksX0_factOf_2 11 rfl rfl)
abbrev cX0_taste : ByteArray := prog_1_method_79_code
def yX0_taste : MethodName := ⟨RX0, "taste", "(I)I"⟩
def dkwX0_taste_3 : List UInt8 := [159, 0, 7, 27, 154, 0, 7, 29, 167, 0, 5, 21, 4, 172]
abbrev dktX0_taste_3 : List UInt8 := dkwX0_taste_3 ++ []
def dkwX0_taste_2 : List UInt8 := [21, 4, 161, 0, 6, 167, 0, 10, 21, 6, 54, 4, 21, 5, 62, 132, 5, 1, 167, 255, 217, 29, 2]
abbrev dktX0_taste_2 : List UInt8 := dkwX0_taste_2 ++ dktX0_taste_3
def dkwX0_taste_1 : List UInt8 := [54, 5, 21, 5, 6, 162, 0, 39, 28, 153, 0, 35, 42, 28, 21, 5, 182, 1, 185, 54, 6, 21, 6]
abbrev dktX0_taste_1 : List UInt8 := dkwX0_taste_1 ++ dktX0_taste_2
def dkwX0_taste_0 : List UInt8 := [27, 3, 4, 184, 0, 108, 154, 0, 5, 2, 172, 42, 182, 1, 182, 61, 2, 62, 19, 1, 142, 54, 4, 3]
abbrev dktX0_taste_0 : List UInt8 := dkwX0_taste_0 ++ dktX0_taste_1
theorem dksX0_taste_0 : cX0_taste.data.toList.drop 0 = dktX0_taste_0 := by decide +kernel
theorem dksX0_taste_1 : cX0_taste.data.toList.drop 24 = dktX0_taste_1 := dk_seg dksX0_taste_0 24 rfl rfl
theorem dksX0_taste_2 : cX0_taste.data.toList.drop 47 = dktX0_taste_2 := dk_seg dksX0_taste_1 23 rfl rfl
theorem dksX0_taste_3 : cX0_taste.data.toList.drop 70 = dktX0_taste_3 := dk_seg dksX0_taste_2 23 rfl rfl
theorem dX0_taste_0 : decode cX0_taste 0 = .ok (.iload_n 1, 1) := dk_27 (dk_at dksX0_taste_0 0 rfl rfl)
theorem dX0_taste_1 : decode cX0_taste 1 = .ok (.iconst 0, 1) := dk_3 (dk_at dksX0_taste_0 1 rfl rfl)
theorem dX0_taste_2 : decode cX0_taste 2 = .ok (.iconst 1, 1) := dk_4 (dk_at dksX0_taste_0 2 rfl rfl)
theorem dX0_taste_3 : decode cX0_taste 3 = .ok (.invokestatic 108, 3) := dk_184 0 108 (dk_at dksX0_taste_0 3 rfl rfl)
theorem dX0_taste_6 : decode cX0_taste 6 = .ok (.ifCond .ne 5, 3) := dk_154 0 5 (dk_at dksX0_taste_0 6 rfl rfl)
theorem dX0_taste_9 : decode cX0_taste 9 = .ok (.iconst (-1), 1) := dk_2 (dk_at dksX0_taste_0 9 rfl rfl)
theorem dX0_taste_10 : decode cX0_taste 10 = .ok (.ireturn, 1) := dk_172 (dk_at dksX0_taste_0 10 rfl rfl)
theorem dX0_taste_11 : decode cX0_taste 11 = .ok (.aload_n 0, 1) := dk_42 (dk_at dksX0_taste_0 11 rfl rfl)
theorem dX0_taste_12 : decode cX0_taste 12 = .ok (.invokevirtual 438, 3) := dk_182 1 182 (dk_at dksX0_taste_0 12 rfl rfl)
theorem dX0_taste_15 : decode cX0_taste 15 = .ok (.istore_n 2, 1) := dk_61 (dk_at dksX0_taste_0 15 rfl rfl)
theorem dX0_taste_16 : decode cX0_taste 16 = .ok (.iconst (-1), 1) := dk_2 (dk_at dksX0_taste_0 16 rfl rfl)
theorem dX0_taste_17 : decode cX0_taste 17 = .ok (.istore_n 3, 1) := dk_62 (dk_at dksX0_taste_0 17 rfl rfl)
theorem dX0_taste_18 : decode cX0_taste 18 = .ok (.ldc_w 398, 3) := dk_19 1 142 (dk_at dksX0_taste_0 18 rfl rfl)
theorem dX0_taste_21 : decode cX0_taste 21 = .ok (.istore 4, 2) := dk_54 4 (dk_at dksX0_taste_0 21 rfl rfl)
theorem dX0_taste_23 : decode cX0_taste 23 = .ok (.iconst 0, 1) := dk_3 (dk_at dksX0_taste_0 23 rfl rfl)
theorem dX0_taste_24 : decode cX0_taste 24 = .ok (.istore 5, 2) := dk_54 5 (dk_at dksX0_taste_1 0 rfl rfl)
theorem dX0_taste_26 : decode cX0_taste 26 = .ok (.iload 5, 2) := dk_21 5 (dk_at dksX0_taste_1 2 rfl rfl)
theorem dX0_taste_28 : decode cX0_taste 28 = .ok (.iconst 3, 1) := dk_6 (dk_at dksX0_taste_1 4 rfl rfl)
theorem dX0_taste_29 : decode cX0_taste 29 = .ok (.if_icmp .ge 39, 3) := dk_162 0 39 (dk_at dksX0_taste_1 5 rfl rfl)
theorem dX0_taste_32 : decode cX0_taste 32 = .ok (.iload_n 2, 1) := dk_28 (dk_at dksX0_taste_1 8 rfl rfl)
theorem dX0_taste_33 : decode cX0_taste 33 = .ok (.ifCond .eq 35, 3) := dk_153 0 35 (dk_at dksX0_taste_1 9 rfl rfl)
theorem dX0_taste_36 : decode cX0_taste 36 = .ok (.aload_n 0, 1) := dk_42 (dk_at dksX0_taste_1 12 rfl rfl)
theorem dX0_taste_37 : decode cX0_taste 37 = .ok (.iload_n 2, 1) := dk_28 (dk_at dksX0_taste_1 13 rfl rfl)
theorem dX0_taste_38 : decode cX0_taste 38 = .ok (.iload 5, 2) := dk_21 5 (dk_at dksX0_taste_1 14 rfl rfl)
theorem dX0_taste_40 : decode cX0_taste 40 = .ok (.invokevirtual 441, 3) := dk_182 1 185 (dk_at dksX0_taste_1 16 rfl rfl)
theorem dX0_taste_43 : decode cX0_taste 43 = .ok (.istore 6, 2) := dk_54 6 (dk_at dksX0_taste_1 19 rfl rfl)
theorem dX0_taste_45 : decode cX0_taste 45 = .ok (.iload 6, 2) := dk_21 6 (dk_at dksX0_taste_1 21 rfl rfl)
theorem dX0_taste_47 : decode cX0_taste 47 = .ok (.iload 4, 2) := dk_21 4 (dk_at dksX0_taste_2 0 rfl rfl)
theorem dX0_taste_49 : decode cX0_taste 49 = .ok (.if_icmp .lt 6, 3) := dk_161 0 6 (dk_at dksX0_taste_2 2 rfl rfl)
theorem dX0_taste_52 : decode cX0_taste 52 = .ok (.goto 10, 3) := dk_167 0 10 (dk_at dksX0_taste_2 5 rfl rfl)
theorem dX0_taste_55 : decode cX0_taste 55 = .ok (.iload 6, 2) := dk_21 6 (dk_at dksX0_taste_2 8 rfl rfl)
theorem dX0_taste_57 : decode cX0_taste 57 = .ok (.istore 4, 2) := dk_54 4 (dk_at dksX0_taste_2 10 rfl rfl)
theorem dX0_taste_59 : decode cX0_taste 59 = .ok (.iload 5, 2) := dk_21 5 (dk_at dksX0_taste_2 12 rfl rfl)
theorem dX0_taste_61 : decode cX0_taste 61 = .ok (.istore_n 3, 1) := dk_62 (dk_at dksX0_taste_2 14 rfl rfl)
theorem dX0_taste_62 : decode cX0_taste 62 = .ok (.iinc 5 1, 3) := dk_132 5 1 (dk_at dksX0_taste_2 15 rfl rfl)
theorem dX0_taste_65 : decode cX0_taste 65 = .ok (.goto (-39), 3) := dk_167 255 217 (dk_at dksX0_taste_2 18 rfl rfl)
theorem dX0_taste_68 : decode cX0_taste 68 = .ok (.iload_n 3, 1) := dk_29 (dk_at dksX0_taste_2 21 rfl rfl)
theorem dX0_taste_69 : decode cX0_taste 69 = .ok (.iconst (-1), 1) := dk_2 (dk_at dksX0_taste_2 22 rfl rfl)
theorem dX0_taste_70 : decode cX0_taste 70 = .ok (.if_icmp .eq 7, 3) := dk_159 0 7 (dk_at dksX0_taste_3 0 rfl rfl)
theorem dX0_taste_73 : decode cX0_taste 73 = .ok (.iload_n 1, 1) := dk_27 (dk_at dksX0_taste_3 3 rfl rfl)
theorem dX0_taste_74 : decode cX0_taste 74 = .ok (.ifCond .ne 7, 3) := dk_154 0 7 (dk_at dksX0_taste_3 4 rfl rfl)
theorem dX0_taste_77 : decode cX0_taste 77 = .ok (.iload_n 3, 1) := dk_29 (dk_at dksX0_taste_3 7 rfl rfl)
theorem dX0_taste_78 : decode cX0_taste 78 = .ok (.goto 5, 3) := dk_167 0 5 (dk_at dksX0_taste_3 8 rfl rfl)
theorem dX0_taste_81 : decode cX0_taste 81 = .ok (.iload 4, 2) := dk_21 4 (dk_at dksX0_taste_3 11 rfl rfl)
theorem dX0_taste_83 : decode cX0_taste 83 = .ok (.ireturn, 1) := dk_172 (dk_at dksX0_taste_3 13 rfl rfl)
abbrev cX0_mostAlike : ByteArray := prog_1_method_78_code
def yX0_mostAlike : MethodName := ⟨RX0, "mostAlike", "(II)I"⟩
def dkwX0_mostAlike_4 : List UInt8 := [167, 0, 4, 29, 62, 132, 4, 1, 167, 255, 159, 29, 172]
abbrev dktX0_mostAlike_4 : List UInt8 := dkwX0_mostAlike_4 ++ []
def dkwX0_mostAlike_3 : List UInt8 := [54, 5, 132, 6, 1, 167, 255, 204, 27, 21, 4, 122, 4, 126, 4, 160, 0, 12, 29, 21, 5, 184, 1, 180]
abbrev dktX0_mostAlike_3 : List UInt8 := dkwX0_mostAlike_3 ++ dktX0_mostAlike_4
def dkwX0_mostAlike_2 : List UInt8 := [42, 21, 4, 28, 182, 1, 174, 42, 21, 6, 28, 182, 1, 174, 160, 0, 7, 4, 167, 0, 4, 3, 96]
abbrev dktX0_mostAlike_2 : List UInt8 := dkwX0_mostAlike_2 ++ dktX0_mostAlike_3
def dkwX0_mostAlike_1 : List UInt8 := [21, 6, 42, 180, 0, 31, 180, 0, 105, 162, 0, 46, 21, 5, 27, 21, 6, 122, 4, 126, 4, 160, 0, 24]
abbrev dktX0_mostAlike_1 : List UInt8 := dkwX0_mostAlike_1 ++ dktX0_mostAlike_2
def dkwX0_mostAlike_0 : List UInt8 := [3, 62, 3, 54, 4, 21, 4, 42, 180, 0, 31, 180, 0, 105, 162, 0, 91, 3, 54, 5, 3, 54, 6]
abbrev dktX0_mostAlike_0 : List UInt8 := dkwX0_mostAlike_0 ++ dktX0_mostAlike_1
theorem dksX0_mostAlike_0 : cX0_mostAlike.data.toList.drop 0 = dktX0_mostAlike_0 := by decide +kernel
theorem dksX0_mostAlike_1 : cX0_mostAlike.data.toList.drop 23 = dktX0_mostAlike_1 := dk_seg dksX0_mostAlike_0 23 rfl rfl
theorem dksX0_mostAlike_2 : cX0_mostAlike.data.toList.drop 47 = dktX0_mostAlike_2 := dk_seg dksX0_mostAlike_1 24 rfl rfl
theorem dksX0_mostAlike_3 : cX0_mostAlike.data.toList.drop 70 = dktX0_mostAlike_3 := dk_seg dksX0_mostAlike_2 23 rfl rfl
theorem dksX0_mostAlike_4 : cX0_mostAlike.data.toList.drop 94 = dktX0_mostAlike_4 := dk_seg dksX0_mostAlike_3 24 rfl rfl
theorem dX0_mostAlike_0 : decode cX0_mostAlike 0 = .ok (.iconst 0, 1) := dk_3 (dk_at dksX0_mostAlike_0 0 rfl rfl)
theorem dX0_mostAlike_1 : decode cX0_mostAlike 1 = .ok (.istore_n 3, 1) := dk_62 (dk_at dksX0_mostAlike_0 1 rfl rfl)
theorem dX0_mostAlike_2 : decode cX0_mostAlike 2 = .ok (.iconst 0, 1) := dk_3 (dk_at dksX0_mostAlike_0 2 rfl rfl)
theorem dX0_mostAlike_3 : decode cX0_mostAlike 3 = .ok (.istore 4, 2) := dk_54 4 (dk_at dksX0_mostAlike_0 3 rfl rfl)
theorem dX0_mostAlike_5 : decode cX0_mostAlike 5 = .ok (.iload 4, 2) := dk_21 4 (dk_at dksX0_mostAlike_0 5 rfl rfl)
theorem dX0_mostAlike_7 : decode cX0_mostAlike 7 = .ok (.aload_n 0, 1) := dk_42 (dk_at dksX0_mostAlike_0 7 rfl rfl)
theorem dX0_mostAlike_8 : decode cX0_mostAlike 8 = .ok (.getfield 31, 3) := dk_180 0 31 (dk_at dksX0_mostAlike_0 8 rfl rfl)
theorem dX0_mostAlike_11 : decode cX0_mostAlike 11 = .ok (.getfield 105, 3) := dk_180 0 105 (dk_at dksX0_mostAlike_0 11 rfl rfl)
theorem dX0_mostAlike_14 : decode cX0_mostAlike 14 = .ok (.if_icmp .ge 91, 3) := dk_162 0 91 (dk_at dksX0_mostAlike_0 14 rfl rfl)
theorem dX0_mostAlike_17 : decode cX0_mostAlike 17 = .ok (.iconst 0, 1) := dk_3 (dk_at dksX0_mostAlike_0 17 rfl rfl)
theorem dX0_mostAlike_18 : decode cX0_mostAlike 18 = .ok (.istore 5, 2) := dk_54 5 (dk_at dksX0_mostAlike_0 18 rfl rfl)
theorem dX0_mostAlike_20 : decode cX0_mostAlike 20 = .ok (.iconst 0, 1) := dk_3 (dk_at dksX0_mostAlike_0 20 rfl rfl)
theorem dX0_mostAlike_21 : decode cX0_mostAlike 21 = .ok (.istore 6, 2) := dk_54 6 (dk_at dksX0_mostAlike_0 21 rfl rfl)
theorem dX0_mostAlike_23 : decode cX0_mostAlike 23 = .ok (.iload 6, 2) := dk_21 6 (dk_at dksX0_mostAlike_1 0 rfl rfl)
theorem dX0_mostAlike_25 : decode cX0_mostAlike 25 = .ok (.aload_n 0, 1) := dk_42 (dk_at dksX0_mostAlike_1 2 rfl rfl)
theorem dX0_mostAlike_26 : decode cX0_mostAlike 26 = .ok (.getfield 31, 3) := dk_180 0 31 (dk_at dksX0_mostAlike_1 3 rfl rfl)
theorem dX0_mostAlike_29 : decode cX0_mostAlike 29 = .ok (.getfield 105, 3) := dk_180 0 105 (dk_at dksX0_mostAlike_1 6 rfl rfl)
theorem dX0_mostAlike_32 : decode cX0_mostAlike 32 = .ok (.if_icmp .ge 46, 3) := dk_162 0 46 (dk_at dksX0_mostAlike_1 9 rfl rfl)
theorem dX0_mostAlike_35 : decode cX0_mostAlike 35 = .ok (.iload 5, 2) := dk_21 5 (dk_at dksX0_mostAlike_1 12 rfl rfl)
theorem dX0_mostAlike_37 : decode cX0_mostAlike 37 = .ok (.iload_n 1, 1) := dk_27 (dk_at dksX0_mostAlike_1 14 rfl rfl)
theorem dX0_mostAlike_38 : decode cX0_mostAlike 38 = .ok (.iload 6, 2) := dk_21 6 (dk_at dksX0_mostAlike_1 15 rfl rfl)
theorem dX0_mostAlike_40 : decode cX0_mostAlike 40 = .ok (.ishr, 1) := dk_122 (dk_at dksX0_mostAlike_1 17 rfl rfl)
theorem dX0_mostAlike_41 : decode cX0_mostAlike 41 = .ok (.iconst 1, 1) := dk_4 (dk_at dksX0_mostAlike_1 18 rfl rfl)
theorem dX0_mostAlike_42 : decode cX0_mostAlike 42 = .ok (.iand, 1) := dk_126 (dk_at dksX0_mostAlike_1 19 rfl rfl)
theorem dX0_mostAlike_43 : decode cX0_mostAlike 43 = .ok (.iconst 1, 1) := dk_4 (dk_at dksX0_mostAlike_1 20 rfl rfl)
theorem dX0_mostAlike_44 : decode cX0_mostAlike 44 = .ok (.if_icmp .ne 24, 3) := dk_160 0 24 (dk_at dksX0_mostAlike_1 21 rfl rfl)
theorem dX0_mostAlike_47 : decode cX0_mostAlike 47 = .ok (.aload_n 0, 1) := dk_42 (dk_at dksX0_mostAlike_2 0 rfl rfl)
theorem dX0_mostAlike_48 : decode cX0_mostAlike 48 = .ok (.iload 4, 2) := dk_21 4 (dk_at dksX0_mostAlike_2 1 rfl rfl)
theorem dX0_mostAlike_50 : decode cX0_mostAlike 50 = .ok (.iload_n 2, 1) := dk_28 (dk_at dksX0_mostAlike_2 3 rfl rfl)
theorem dX0_mostAlike_51 : decode cX0_mostAlike 51 = .ok (.invokevirtual 430, 3) := dk_182 1 174 (dk_at dksX0_mostAlike_2 4 rfl rfl)
theorem dX0_mostAlike_54 : decode cX0_mostAlike 54 = .ok (.aload_n 0, 1) := dk_42 (dk_at dksX0_mostAlike_2 7 rfl rfl)
theorem dX0_mostAlike_55 : decode cX0_mostAlike 55 = .ok (.iload 6, 2) := dk_21 6 (dk_at dksX0_mostAlike_2 8 rfl rfl)
theorem dX0_mostAlike_57 : decode cX0_mostAlike 57 = .ok (.iload_n 2, 1) := dk_28 (dk_at dksX0_mostAlike_2 10 rfl rfl)
theorem dX0_mostAlike_58 : decode cX0_mostAlike 58 = .ok (.invokevirtual 430, 3) := dk_182 1 174 (dk_at dksX0_mostAlike_2 11 rfl rfl)
theorem dX0_mostAlike_61 : decode cX0_mostAlike 61 = .ok (.if_icmp .ne 7, 3) := dk_160 0 7 (dk_at dksX0_mostAlike_2 14 rfl rfl)
theorem dX0_mostAlike_64 : decode cX0_mostAlike 64 = .ok (.iconst 1, 1) := dk_4 (dk_at dksX0_mostAlike_2 17 rfl rfl)
theorem dX0_mostAlike_65 : decode cX0_mostAlike 65 = .ok (.goto 4, 3) := dk_167 0 4 (dk_at dksX0_mostAlike_2 18 rfl rfl)
theorem dX0_mostAlike_68 : decode cX0_mostAlike 68 = .ok (.iconst 0, 1) := dk_3 (dk_at dksX0_mostAlike_2 21 rfl rfl)
theorem dX0_mostAlike_69 : decode cX0_mostAlike 69 = .ok (.iadd, 1) := dk_96 (dk_at dksX0_mostAlike_2 22 rfl rfl)
theorem dX0_mostAlike_70 : decode cX0_mostAlike 70 = .ok (.istore 5, 2) := dk_54 5 (dk_at dksX0_mostAlike_3 0 rfl rfl)
theorem dX0_mostAlike_72 : decode cX0_mostAlike 72 = .ok (.iinc 6 1, 3) := dk_132 6 1 (dk_at dksX0_mostAlike_3 2 rfl rfl)
theorem dX0_mostAlike_75 : decode cX0_mostAlike 75 = .ok (.goto (-52), 3) := dk_167 255 204 (dk_at dksX0_mostAlike_3 5 rfl rfl)
theorem dX0_mostAlike_78 : decode cX0_mostAlike 78 = .ok (.iload_n 1, 1) := dk_27 (dk_at dksX0_mostAlike_3 8 rfl rfl)
theorem dX0_mostAlike_79 : decode cX0_mostAlike 79 = .ok (.iload 4, 2) := dk_21 4 (dk_at dksX0_mostAlike_3 9 rfl rfl)
theorem dX0_mostAlike_81 : decode cX0_mostAlike 81 = .ok (.ishr, 1) := dk_122 (dk_at dksX0_mostAlike_3 11 rfl rfl)
theorem dX0_mostAlike_82 : decode cX0_mostAlike 82 = .ok (.iconst 1, 1) := dk_4 (dk_at dksX0_mostAlike_3 12 rfl rfl)
theorem dX0_mostAlike_83 : decode cX0_mostAlike 83 = .ok (.iand, 1) := dk_126 (dk_at dksX0_mostAlike_3 13 rfl rfl)
theorem dX0_mostAlike_84 : decode cX0_mostAlike 84 = .ok (.iconst 1, 1) := dk_4 (dk_at dksX0_mostAlike_3 14 rfl rfl)
theorem dX0_mostAlike_85 : decode cX0_mostAlike 85 = .ok (.if_icmp .ne 12, 3) := dk_160 0 12 (dk_at dksX0_mostAlike_3 15 rfl rfl)
theorem dX0_mostAlike_88 : decode cX0_mostAlike 88 = .ok (.iload_n 3, 1) := dk_29 (dk_at dksX0_mostAlike_3 18 rfl rfl)
theorem dX0_mostAlike_89 : decode cX0_mostAlike 89 = .ok (.iload 5, 2) := dk_21 5 (dk_at dksX0_mostAlike_3 19 rfl rfl)
theorem dX0_mostAlike_91 : decode cX0_mostAlike 91 = .ok (.invokestatic 436, 3) := dk_184 1 180 (dk_at dksX0_mostAlike_3 21 rfl rfl)
theorem dX0_mostAlike_94 : decode cX0_mostAlike 94 = .ok (.goto 4, 3) := dk_167 0 4 (dk_at dksX0_mostAlike_4 0 rfl rfl)
theorem dX0_mostAlike_97 : decode cX0_mostAlike 97 = .ok (.iload_n 3, 1) := dk_29 (dk_at dksX0_mostAlike_4 3 rfl rfl)
theorem dX0_mostAlike_98 : decode cX0_mostAlike 98 = .ok (.istore_n 3, 1) := dk_62 (dk_at dksX0_mostAlike_4 4 rfl rfl)
theorem dX0_mostAlike_99 : decode cX0_mostAlike 99 = .ok (.iinc 4 1, 3) := dk_132 4 1 (dk_at dksX0_mostAlike_4 5 rfl rfl)
theorem dX0_mostAlike_102 : decode cX0_mostAlike 102 = .ok (.goto (-97), 3) := dk_167 255 159 (dk_at dksX0_mostAlike_4 8 rfl rfl)
theorem dX0_mostAlike_105 : decode cX0_mostAlike 105 = .ok (.iload_n 3, 1) := dk_29 (dk_at dksX0_mostAlike_4 11 rfl rfl)
theorem dX0_mostAlike_106 : decode cX0_mostAlike 106 = .ok (.ireturn, 1) := dk_172 (dk_at dksX0_mostAlike_4 12 rfl rfl)
abbrev cX0_few : ByteArray := prog_1_method_80_code
def yX0_few : MethodName := ⟨RX0, "few", "(II)J"⟩
def dkwX0_few_7 : List UInt8 := [132, 5, 1, 167, 255, 237, 33, 173]
abbrev dktX0_few_7 : List UInt8 := dkwX0_few_7 ++ []
def dkwX0_few_6 : List UInt8 := [167, 255, 170, 9, 66, 3, 54, 5, 21, 5, 27, 162, 0, 19, 33, 42, 180, 0, 85, 21, 5, 47, 97, 66]
abbrev dktX0_few_6 : List UInt8 := dkwX0_few_6 ++ dktX0_few_7
def dkwX0_few_5 : List UInt8 := [180, 0, 31, 180, 0, 189, 100, 133, 105, 20, 1, 188, 109, 80, 132, 4, 255, 167, 255, 186, 132, 3, 1]
abbrev dktX0_few_5 : List UInt8 := dkwX0_few_5 ++ dktX0_few_6
def dkwX0_few_4 : List UInt8 := [133, 105, 20, 1, 188, 109, 97, 80, 42, 180, 0, 85, 21, 4, 42, 180, 0, 85, 21, 4, 47, 16, 10, 42]
abbrev dktX0_few_4 : List UInt8 := dkwX0_few_4 ++ dktX0_few_5
def dkwX0_few_3 : List UInt8 := [42, 180, 0, 85, 21, 4, 4, 96, 92, 47, 42, 180, 0, 85, 21, 4, 47, 42, 180, 0, 31, 180, 0, 189]
abbrev dktX0_few_3 : List UInt8 := dkwX0_few_3 ++ dktX0_few_4
def dkwX0_few_2 : List UInt8 := [80, 132, 3, 1, 167, 255, 230, 3, 62, 29, 28, 162, 0, 87, 27, 4, 100, 54, 4, 21, 4, 155, 0, 71]
abbrev dktX0_few_2 : List UInt8 := dkwX0_few_2 ++ dktX0_few_3
def dkwX0_few_1 : List UInt8 := [3, 62, 29, 16, 20, 163, 0, 26, 42, 180, 0, 85, 29, 29, 154, 0, 9, 20, 0, 184, 167, 0, 4, 9]
abbrev dktX0_few_1 : List UInt8 := dkwX0_few_1 ++ dktX0_few_2
def dkwX0_few_0 : List UInt8 := [27, 4, 16, 20, 184, 0, 108, 153, 0, 13, 28, 3, 16, 99, 184, 0, 108, 154, 0, 7, 20, 0, 179, 173]
abbrev dktX0_few_0 : List UInt8 := dkwX0_few_0 ++ dktX0_few_1
theorem dksX0_few_0 : cX0_few.data.toList.drop 0 = dktX0_few_0 := by decide +kernel
theorem dksX0_few_1 : cX0_few.data.toList.drop 24 = dktX0_few_1 := dk_seg dksX0_few_0 24 rfl rfl
theorem dksX0_few_2 : cX0_few.data.toList.drop 48 = dktX0_few_2 := dk_seg dksX0_few_1 24 rfl rfl
theorem dksX0_few_3 : cX0_few.data.toList.drop 72 = dktX0_few_3 := dk_seg dksX0_few_2 24 rfl rfl
theorem dksX0_few_4 : cX0_few.data.toList.drop 96 = dktX0_few_4 := dk_seg dksX0_few_3 24 rfl rfl
theorem dksX0_few_5 : cX0_few.data.toList.drop 120 = dktX0_few_5 := dk_seg dksX0_few_4 24 rfl rfl
theorem dksX0_few_6 : cX0_few.data.toList.drop 143 = dktX0_few_6 := dk_seg dksX0_few_5 23 rfl rfl
theorem dksX0_few_7 : cX0_few.data.toList.drop 167 = dktX0_few_7 := dk_seg dksX0_few_6 24 rfl rfl
theorem dX0_few_0 : decode cX0_few 0 = .ok (.iload_n 1, 1) := dk_27 (dk_at dksX0_few_0 0 rfl rfl)
theorem dX0_few_1 : decode cX0_few 1 = .ok (.iconst 1, 1) := dk_4 (dk_at dksX0_few_0 1 rfl rfl)
theorem dX0_few_2 : decode cX0_few 2 = .ok (.bipush 20, 2) := dk_16 20 (dk_at dksX0_few_0 2 rfl rfl)
theorem dX0_few_4 : decode cX0_few 4 = .ok (.invokestatic 108, 3) := dk_184 0 108 (dk_at dksX0_few_0 4 rfl rfl)
theorem dX0_few_7 : decode cX0_few 7 = .ok (.ifCond .eq 13, 3) := dk_153 0 13 (dk_at dksX0_few_0 7 rfl rfl)
theorem dX0_few_10 : decode cX0_few 10 = .ok (.iload_n 2, 1) := dk_28 (dk_at dksX0_few_0 10 rfl rfl)
theorem dX0_few_11 : decode cX0_few 11 = .ok (.iconst 0, 1) := dk_3 (dk_at dksX0_few_0 11 rfl rfl)
theorem dX0_few_12 : decode cX0_few 12 = .ok (.bipush 99, 2) := dk_16 99 (dk_at dksX0_few_0 12 rfl rfl)
theorem dX0_few_14 : decode cX0_few 14 = .ok (.invokestatic 108, 3) := dk_184 0 108 (dk_at dksX0_few_0 14 rfl rfl)
theorem dX0_few_17 : decode cX0_few 17 = .ok (.ifCond .ne 7, 3) := dk_154 0 7 (dk_at dksX0_few_0 17 rfl rfl)
theorem dX0_few_20 : decode cX0_few 20 = .ok (.ldc2_w 179, 3) := dk_20 0 179 (dk_at dksX0_few_0 20 rfl rfl)
theorem dX0_few_23 : decode cX0_few 23 = .ok (.lreturn, 1) := dk_173 (dk_at dksX0_few_0 23 rfl rfl)
theorem dX0_few_24 : decode cX0_few 24 = .ok (.iconst 0, 1) := dk_3 (dk_at dksX0_few_1 0 rfl rfl)
theorem dX0_few_25 : decode cX0_few 25 = .ok (.istore_n 3, 1) := dk_62 (dk_at dksX0_few_1 1 rfl rfl)
theorem dX0_few_26 : decode cX0_few 26 = .ok (.iload_n 3, 1) := dk_29 (dk_at dksX0_few_1 2 rfl rfl)
theorem dX0_few_27 : decode cX0_few 27 = .ok (.bipush 20, 2) := dk_16 20 (dk_at dksX0_few_1 3 rfl rfl)
theorem dX0_few_29 : decode cX0_few 29 = .ok (.if_icmp .gt 26, 3) := dk_163 0 26 (dk_at dksX0_few_1 5 rfl rfl)
theorem dX0_few_32 : decode cX0_few 32 = .ok (.aload_n 0, 1) := dk_42 (dk_at dksX0_few_1 8 rfl rfl)
theorem dX0_few_33 : decode cX0_few 33 = .ok (.getfield 85, 3) := dk_180 0 85 (dk_at dksX0_few_1 9 rfl rfl)
theorem dX0_few_36 : decode cX0_few 36 = .ok (.iload_n 3, 1) := dk_29 (dk_at dksX0_few_1 12 rfl rfl)
theorem dX0_few_37 : decode cX0_few 37 = .ok (.iload_n 3, 1) := dk_29 (dk_at dksX0_few_1 13 rfl rfl)
theorem dX0_few_38 : decode cX0_few 38 = .ok (.ifCond .ne 9, 3) := dk_154 0 9 (dk_at dksX0_few_1 14 rfl rfl)
theorem dX0_few_41 : decode cX0_few 41 = .ok (.ldc2_w 184, 3) := dk_20 0 184 (dk_at dksX0_few_1 17 rfl rfl)
theorem dX0_few_44 : decode cX0_few 44 = .ok (.goto 4, 3) := dk_167 0 4 (dk_at dksX0_few_1 20 rfl rfl)
theorem dX0_few_47 : decode cX0_few 47 = .ok (.lconst 0, 1) := dk_9 (dk_at dksX0_few_1 23 rfl rfl)
theorem dX0_few_48 : decode cX0_few 48 = .ok (.lastore, 1) := dk_80 (dk_at dksX0_few_2 0 rfl rfl)
theorem dX0_few_49 : decode cX0_few 49 = .ok (.iinc 3 1, 3) := dk_132 3 1 (dk_at dksX0_few_2 1 rfl rfl)
theorem dX0_few_52 : decode cX0_few 52 = .ok (.goto (-26), 3) := dk_167 255 230 (dk_at dksX0_few_2 4 rfl rfl)
theorem dX0_few_55 : decode cX0_few 55 = .ok (.iconst 0, 1) := dk_3 (dk_at dksX0_few_2 7 rfl rfl)
theorem dX0_few_56 : decode cX0_few 56 = .ok (.istore_n 3, 1) := dk_62 (dk_at dksX0_few_2 8 rfl rfl)
theorem dX0_few_57 : decode cX0_few 57 = .ok (.iload_n 3, 1) := dk_29 (dk_at dksX0_few_2 9 rfl rfl)
theorem dX0_few_58 : decode cX0_few 58 = .ok (.iload_n 2, 1) := dk_28 (dk_at dksX0_few_2 10 rfl rfl)
theorem dX0_few_59 : decode cX0_few 59 = .ok (.if_icmp .ge 87, 3) := dk_162 0 87 (dk_at dksX0_few_2 11 rfl rfl)
theorem dX0_few_62 : decode cX0_few 62 = .ok (.iload_n 1, 1) := dk_27 (dk_at dksX0_few_2 14 rfl rfl)
theorem dX0_few_63 : decode cX0_few 63 = .ok (.iconst 1, 1) := dk_4 (dk_at dksX0_few_2 15 rfl rfl)
theorem dX0_few_64 : decode cX0_few 64 = .ok (.isub, 1) := dk_100 (dk_at dksX0_few_2 16 rfl rfl)
theorem dX0_few_65 : decode cX0_few 65 = .ok (.istore 4, 2) := dk_54 4 (dk_at dksX0_few_2 17 rfl rfl)
theorem dX0_few_67 : decode cX0_few 67 = .ok (.iload 4, 2) := dk_21 4 (dk_at dksX0_few_2 19 rfl rfl)
theorem dX0_few_69 : decode cX0_few 69 = .ok (.ifCond .lt 71, 3) := dk_155 0 71 (dk_at dksX0_few_2 21 rfl rfl)
theorem dX0_few_72 : decode cX0_few 72 = .ok (.aload_n 0, 1) := dk_42 (dk_at dksX0_few_3 0 rfl rfl)
theorem dX0_few_73 : decode cX0_few 73 = .ok (.getfield 85, 3) := dk_180 0 85 (dk_at dksX0_few_3 1 rfl rfl)
theorem dX0_few_76 : decode cX0_few 76 = .ok (.iload 4, 2) := dk_21 4 (dk_at dksX0_few_3 4 rfl rfl)
theorem dX0_few_78 : decode cX0_few 78 = .ok (.iconst 1, 1) := dk_4 (dk_at dksX0_few_3 6 rfl rfl)
theorem dX0_few_79 : decode cX0_few 79 = .ok (.iadd, 1) := dk_96 (dk_at dksX0_few_3 7 rfl rfl)
theorem dX0_few_80 : decode cX0_few 80 = .ok (.dup2, 1) := dk_92 (dk_at dksX0_few_3 8 rfl rfl)
theorem dX0_few_81 : decode cX0_few 81 = .ok (.laload, 1) := dk_47 (dk_at dksX0_few_3 9 rfl rfl)
theorem dX0_few_82 : decode cX0_few 82 = .ok (.aload_n 0, 1) := dk_42 (dk_at dksX0_few_3 10 rfl rfl)
theorem dX0_few_83 : decode cX0_few 83 = .ok (.getfield 85, 3) := dk_180 0 85 (dk_at dksX0_few_3 11 rfl rfl)
theorem dX0_few_86 : decode cX0_few 86 = .ok (.iload 4, 2) := dk_21 4 (dk_at dksX0_few_3 14 rfl rfl)
theorem dX0_few_88 : decode cX0_few 88 = .ok (.laload, 1) := dk_47 (dk_at dksX0_few_3 16 rfl rfl)
theorem dX0_few_89 : decode cX0_few 89 = .ok (.aload_n 0, 1) := dk_42 (dk_at dksX0_few_3 17 rfl rfl)
theorem dX0_few_90 : decode cX0_few 90 = .ok (.getfield 31, 3) := dk_180 0 31 (dk_at dksX0_few_3 18 rfl rfl)
theorem dX0_few_93 : decode cX0_few 93 = .ok (.getfield 189, 3) := dk_180 0 189 (dk_at dksX0_few_3 21 rfl rfl)
theorem dX0_few_96 : decode cX0_few 96 = .ok (.i2l, 1) := dk_133 (dk_at dksX0_few_4 0 rfl rfl)
theorem dX0_few_97 : decode cX0_few 97 = .ok (.lmul, 1) := dk_105 (dk_at dksX0_few_4 1 rfl rfl)
theorem dX0_few_98 : decode cX0_few 98 = .ok (.ldc2_w 444, 3) := dk_20 1 188 (dk_at dksX0_few_4 2 rfl rfl)
theorem dX0_few_101 : decode cX0_few 101 = .ok (.ldiv, 1) := dk_109 (dk_at dksX0_few_4 5 rfl rfl)
theorem dX0_few_102 : decode cX0_few 102 = .ok (.ladd, 1) := dk_97 (dk_at dksX0_few_4 6 rfl rfl)
theorem dX0_few_103 : decode cX0_few 103 = .ok (.lastore, 1) := dk_80 (dk_at dksX0_few_4 7 rfl rfl)
theorem dX0_few_104 : decode cX0_few 104 = .ok (.aload_n 0, 1) := dk_42 (dk_at dksX0_few_4 8 rfl rfl)
theorem dX0_few_105 : decode cX0_few 105 = .ok (.getfield 85, 3) := dk_180 0 85 (dk_at dksX0_few_4 9 rfl rfl)
theorem dX0_few_108 : decode cX0_few 108 = .ok (.iload 4, 2) := dk_21 4 (dk_at dksX0_few_4 12 rfl rfl)
theorem dX0_few_110 : decode cX0_few 110 = .ok (.aload_n 0, 1) := dk_42 (dk_at dksX0_few_4 14 rfl rfl)
theorem dX0_few_111 : decode cX0_few 111 = .ok (.getfield 85, 3) := dk_180 0 85 (dk_at dksX0_few_4 15 rfl rfl)
theorem dX0_few_114 : decode cX0_few 114 = .ok (.iload 4, 2) := dk_21 4 (dk_at dksX0_few_4 18 rfl rfl)
theorem dX0_few_116 : decode cX0_few 116 = .ok (.laload, 1) := dk_47 (dk_at dksX0_few_4 20 rfl rfl)
theorem dX0_few_117 : decode cX0_few 117 = .ok (.bipush 10, 2) := dk_16 10 (dk_at dksX0_few_4 21 rfl rfl)
theorem dX0_few_119 : decode cX0_few 119 = .ok (.aload_n 0, 1) := dk_42 (dk_at dksX0_few_4 23 rfl rfl)
theorem dX0_few_120 : decode cX0_few 120 = .ok (.getfield 31, 3) := dk_180 0 31 (dk_at dksX0_few_5 0 rfl rfl)
theorem dX0_few_123 : decode cX0_few 123 = .ok (.getfield 189, 3) := dk_180 0 189 (dk_at dksX0_few_5 3 rfl rfl)
theorem dX0_few_126 : decode cX0_few 126 = .ok (.isub, 1) := dk_100 (dk_at dksX0_few_5 6 rfl rfl)
theorem dX0_few_127 : decode cX0_few 127 = .ok (.i2l, 1) := dk_133 (dk_at dksX0_few_5 7 rfl rfl)
theorem dX0_few_128 : decode cX0_few 128 = .ok (.lmul, 1) := dk_105 (dk_at dksX0_few_5 8 rfl rfl)
theorem dX0_few_129 : decode cX0_few 129 = .ok (.ldc2_w 444, 3) := dk_20 1 188 (dk_at dksX0_few_5 9 rfl rfl)
theorem dX0_few_132 : decode cX0_few 132 = .ok (.ldiv, 1) := dk_109 (dk_at dksX0_few_5 12 rfl rfl)
theorem dX0_few_133 : decode cX0_few 133 = .ok (.lastore, 1) := dk_80 (dk_at dksX0_few_5 13 rfl rfl)
theorem dX0_few_134 : decode cX0_few 134 = .ok (.iinc 4 (-1), 3) := dk_132 4 255 (dk_at dksX0_few_5 14 rfl rfl)
theorem dX0_few_137 : decode cX0_few 137 = .ok (.goto (-70), 3) := dk_167 255 186 (dk_at dksX0_few_5 17 rfl rfl)
theorem dX0_few_140 : decode cX0_few 140 = .ok (.iinc 3 1, 3) := dk_132 3 1 (dk_at dksX0_few_5 20 rfl rfl)
theorem dX0_few_143 : decode cX0_few 143 = .ok (.goto (-86), 3) := dk_167 255 170 (dk_at dksX0_few_6 0 rfl rfl)
theorem dX0_few_146 : decode cX0_few 146 = .ok (.lconst 0, 1) := dk_9 (dk_at dksX0_few_6 3 rfl rfl)
theorem dX0_few_147 : decode cX0_few 147 = .ok (.lstore_n 3, 1) := dk_66 (dk_at dksX0_few_6 4 rfl rfl)
theorem dX0_few_148 : decode cX0_few 148 = .ok (.iconst 0, 1) := dk_3 (dk_at dksX0_few_6 5 rfl rfl)
theorem dX0_few_149 : decode cX0_few 149 = .ok (.istore 5, 2) := dk_54 5 (dk_at dksX0_few_6 6 rfl rfl)
theorem dX0_few_151 : decode cX0_few 151 = .ok (.iload 5, 2) := dk_21 5 (dk_at dksX0_few_6 8 rfl rfl)
theorem dX0_few_153 : decode cX0_few 153 = .ok (.iload_n 1, 1) := dk_27 (dk_at dksX0_few_6 10 rfl rfl)
theorem dX0_few_154 : decode cX0_few 154 = .ok (.if_icmp .ge 19, 3) := dk_162 0 19 (dk_at dksX0_few_6 11 rfl rfl)
theorem dX0_few_157 : decode cX0_few 157 = .ok (.lload_n 3, 1) := dk_33 (dk_at dksX0_few_6 14 rfl rfl)
theorem dX0_few_158 : decode cX0_few 158 = .ok (.aload_n 0, 1) := dk_42 (dk_at dksX0_few_6 15 rfl rfl)
theorem dX0_few_159 : decode cX0_few 159 = .ok (.getfield 85, 3) := dk_180 0 85 (dk_at dksX0_few_6 16 rfl rfl)
theorem dX0_few_162 : decode cX0_few 162 = .ok (.iload 5, 2) := dk_21 5 (dk_at dksX0_few_6 19 rfl rfl)
theorem dX0_few_164 : decode cX0_few 164 = .ok (.laload, 1) := dk_47 (dk_at dksX0_few_6 21 rfl rfl)
theorem dX0_few_165 : decode cX0_few 165 = .ok (.ladd, 1) := dk_97 (dk_at dksX0_few_6 22 rfl rfl)
theorem dX0_few_166 : decode cX0_few 166 = .ok (.lstore_n 3, 1) := dk_66 (dk_at dksX0_few_6 23 rfl rfl)
theorem dX0_few_167 : decode cX0_few 167 = .ok (.iinc 5 1, 3) := dk_132 5 1 (dk_at dksX0_few_7 0 rfl rfl)
theorem dX0_few_170 : decode cX0_few 170 = .ok (.goto (-19), 3) := dk_167 255 237 (dk_at dksX0_few_7 3 rfl rfl)
theorem dX0_few_173 : decode cX0_few 173 = .ok (.lload_n 3, 1) := dk_33 (dk_at dksX0_few_7 6 rfl rfl)
theorem dX0_few_174 : decode cX0_few 174 = .ok (.lreturn, 1) := dk_173 (dk_at dksX0_few_7 7 rfl rfl)
abbrev cX0_compare : ByteArray := prog_1_method_81_code
def yX0_compare : MethodName := ⟨RX0, "compare", "(II)I"⟩
def dkwX0_compare_2 : List UInt8 := [180, 0, 31, 29, 181, 1, 1, 21, 4, 172]
abbrev dktX0_compare_2 : List UInt8 := dkwX0_compare_2 ++ []
def dkwX0_compare_1 : List UInt8 := [180, 1, 1, 62, 42, 180, 0, 31, 27, 181, 1, 1, 42, 42, 182, 0, 137, 28, 182, 1, 190, 54, 4, 42]
abbrev dktX0_compare_1 : List UInt8 := dkwX0_compare_1 ++ dktX0_compare_2
def dkwX0_compare_0 : List UInt8 := [42, 27, 182, 0, 254, 153, 0, 11, 42, 28, 182, 0, 151, 154, 0, 5, 2, 172, 42, 180, 0, 31]
abbrev dktX0_compare_0 : List UInt8 := dkwX0_compare_0 ++ dktX0_compare_1
theorem dksX0_compare_0 : cX0_compare.data.toList.drop 0 = dktX0_compare_0 := by decide +kernel
theorem dksX0_compare_1 : cX0_compare.data.toList.drop 22 = dktX0_compare_1 := dk_seg dksX0_compare_0 22 rfl rfl
theorem dksX0_compare_2 : cX0_compare.data.toList.drop 46 = dktX0_compare_2 := dk_seg dksX0_compare_1 24 rfl rfl
theorem dX0_compare_0 : decode cX0_compare 0 = .ok (.aload_n 0, 1) := dk_42 (dk_at dksX0_compare_0 0 rfl rfl)
theorem dX0_compare_1 : decode cX0_compare 1 = .ok (.iload_n 1, 1) := dk_27 (dk_at dksX0_compare_0 1 rfl rfl)
theorem dX0_compare_2 : decode cX0_compare 2 = .ok (.invokevirtual 254, 3) := dk_182 0 254 (dk_at dksX0_compare_0 2 rfl rfl)
theorem dX0_compare_5 : decode cX0_compare 5 = .ok (.ifCond .eq 11, 3) := dk_153 0 11 (dk_at dksX0_compare_0 5 rfl rfl)
theorem dX0_compare_8 : decode cX0_compare 8 = .ok (.aload_n 0, 1) := dk_42 (dk_at dksX0_compare_0 8 rfl rfl)
theorem dX0_compare_9 : decode cX0_compare 9 = .ok (.iload_n 2, 1) := dk_28 (dk_at dksX0_compare_0 9 rfl rfl)
theorem dX0_compare_10 : decode cX0_compare 10 = .ok (.invokevirtual 151, 3) := dk_182 0 151 (dk_at dksX0_compare_0 10 rfl rfl)
theorem dX0_compare_13 : decode cX0_compare 13 = .ok (.ifCond .ne 5, 3) := dk_154 0 5 (dk_at dksX0_compare_0 13 rfl rfl)
theorem dX0_compare_16 : decode cX0_compare 16 = .ok (.iconst (-1), 1) := dk_2 (dk_at dksX0_compare_0 16 rfl rfl)
theorem dX0_compare_17 : decode cX0_compare 17 = .ok (.ireturn, 1) := dk_172 (dk_at dksX0_compare_0 17 rfl rfl)
theorem dX0_compare_18 : decode cX0_compare 18 = .ok (.aload_n 0, 1) := dk_42 (dk_at dksX0_compare_0 18 rfl rfl)
theorem dX0_compare_19 : decode cX0_compare 19 = .ok (.getfield 31, 3) := dk_180 0 31 (dk_at dksX0_compare_0 19 rfl rfl)
theorem dX0_compare_22 : decode cX0_compare 22 = .ok (.getfield 257, 3) := dk_180 1 1 (dk_at dksX0_compare_1 0 rfl rfl)
theorem dX0_compare_25 : decode cX0_compare 25 = .ok (.istore_n 3, 1) := dk_62 (dk_at dksX0_compare_1 3 rfl rfl)
theorem dX0_compare_26 : decode cX0_compare 26 = .ok (.aload_n 0, 1) := dk_42 (dk_at dksX0_compare_1 4 rfl rfl)
theorem dX0_compare_27 : decode cX0_compare 27 = .ok (.getfield 31, 3) := dk_180 0 31 (dk_at dksX0_compare_1 5 rfl rfl)
theorem dX0_compare_30 : decode cX0_compare 30 = .ok (.iload_n 1, 1) := dk_27 (dk_at dksX0_compare_1 8 rfl rfl)
theorem dX0_compare_31 : decode cX0_compare 31 = .ok (.putfield 257, 3) := dk_181 1 1 (dk_at dksX0_compare_1 9 rfl rfl)
theorem dX0_compare_34 : decode cX0_compare 34 = .ok (.aload_n 0, 1) := dk_42 (dk_at dksX0_compare_1 12 rfl rfl)
theorem dX0_compare_35 : decode cX0_compare 35 = .ok (.aload_n 0, 1) := dk_42 (dk_at dksX0_compare_1 13 rfl rfl)
theorem dX0_compare_36 : decode cX0_compare 36 = .ok (.invokevirtual 137, 3) := dk_182 0 137 (dk_at dksX0_compare_1 14 rfl rfl)
theorem dX0_compare_39 : decode cX0_compare 39 = .ok (.iload_n 2, 1) := dk_28 (dk_at dksX0_compare_1 17 rfl rfl)
theorem dX0_compare_40 : decode cX0_compare 40 = .ok (.invokevirtual 446, 3) := dk_182 1 190 (dk_at dksX0_compare_1 18 rfl rfl)
theorem dX0_compare_43 : decode cX0_compare 43 = .ok (.istore 4, 2) := dk_54 4 (dk_at dksX0_compare_1 21 rfl rfl)
theorem dX0_compare_45 : decode cX0_compare 45 = .ok (.aload_n 0, 1) := dk_42 (dk_at dksX0_compare_1 23 rfl rfl)
theorem dX0_compare_46 : decode cX0_compare 46 = .ok (.getfield 31, 3) := dk_180 0 31 (dk_at dksX0_compare_2 0 rfl rfl)
theorem dX0_compare_49 : decode cX0_compare 49 = .ok (.iload_n 3, 1) := dk_29 (dk_at dksX0_compare_2 3 rfl rfl)
theorem dX0_compare_50 : decode cX0_compare 50 = .ok (.putfield 257, 3) := dk_181 1 1 (dk_at dksX0_compare_2 4 rfl rfl)
theorem dX0_compare_53 : decode cX0_compare 53 = .ok (.iload 4, 2) := dk_21 4 (dk_at dksX0_compare_2 7 rfl rfl)
theorem dX0_compare_55 : decode cX0_compare 55 = .ok (.ireturn, 1) := dk_172 (dk_at dksX0_compare_2 9 rfl rfl)
abbrev cX0_lost : ByteArray := prog_1_method_37_code
def yX0_lost : MethodName := ⟨RX0, "lost", "(LSoleraCellar$Table;I)I"⟩
def dkwX0_lost_2 : List UInt8 := [132, 5, 1, 167, 255, 220, 21, 4, 172]
abbrev dktX0_lost_2 : List UInt8 := dkwX0_lost_2 ++ []
def dkwX0_lost_1 : List UInt8 := [180, 0, 140, 16, 20, 28, 104, 21, 5, 96, 46, 133, 29, 133, 105, 20, 0, 20, 109, 136, 96, 54, 4]
abbrev dktX0_lost_1 : List UInt8 := dkwX0_lost_1 ++ dktX0_lost_2
def dkwX0_lost_0 : List UInt8 := [42, 43, 28, 182, 0, 168, 62, 3, 54, 4, 3, 54, 5, 21, 5, 16, 20, 162, 0, 35, 21, 4, 43]
abbrev dktX0_lost_0 : List UInt8 := dkwX0_lost_0 ++ dktX0_lost_1
theorem dksX0_lost_0 : cX0_lost.data.toList.drop 0 = dktX0_lost_0 := by decide +kernel
theorem dksX0_lost_1 : cX0_lost.data.toList.drop 23 = dktX0_lost_1 := dk_seg dksX0_lost_0 23 rfl rfl
theorem dksX0_lost_2 : cX0_lost.data.toList.drop 46 = dktX0_lost_2 := dk_seg dksX0_lost_1 23 rfl rfl
theorem dX0_lost_0 : decode cX0_lost 0 = .ok (.aload_n 0, 1) := dk_42 (dk_at dksX0_lost_0 0 rfl rfl)
theorem dX0_lost_1 : decode cX0_lost 1 = .ok (.aload_n 1, 1) := dk_43 (dk_at dksX0_lost_0 1 rfl rfl)
theorem dX0_lost_2 : decode cX0_lost 2 = .ok (.iload_n 2, 1) := dk_28 (dk_at dksX0_lost_0 2 rfl rfl)
theorem dX0_lost_3 : decode cX0_lost 3 = .ok (.invokevirtual 168, 3) := dk_182 0 168 (dk_at dksX0_lost_0 3 rfl rfl)
theorem dX0_lost_6 : decode cX0_lost 6 = .ok (.istore_n 3, 1) := dk_62 (dk_at dksX0_lost_0 6 rfl rfl)
theorem dX0_lost_7 : decode cX0_lost 7 = .ok (.iconst 0, 1) := dk_3 (dk_at dksX0_lost_0 7 rfl rfl)
theorem dX0_lost_8 : decode cX0_lost 8 = .ok (.istore 4, 2) := dk_54 4 (dk_at dksX0_lost_0 8 rfl rfl)
theorem dX0_lost_10 : decode cX0_lost 10 = .ok (.iconst 0, 1) := dk_3 (dk_at dksX0_lost_0 10 rfl rfl)
theorem dX0_lost_11 : decode cX0_lost 11 = .ok (.istore 5, 2) := dk_54 5 (dk_at dksX0_lost_0 11 rfl rfl)
theorem dX0_lost_13 : decode cX0_lost 13 = .ok (.iload 5, 2) := dk_21 5 (dk_at dksX0_lost_0 13 rfl rfl)
theorem dX0_lost_15 : decode cX0_lost 15 = .ok (.bipush 20, 2) := dk_16 20 (dk_at dksX0_lost_0 15 rfl rfl)
theorem dX0_lost_17 : decode cX0_lost 17 = .ok (.if_icmp .ge 35, 3) := dk_162 0 35 (dk_at dksX0_lost_0 17 rfl rfl)
theorem dX0_lost_20 : decode cX0_lost 20 = .ok (.iload 4, 2) := dk_21 4 (dk_at dksX0_lost_0 20 rfl rfl)
theorem dX0_lost_22 : decode cX0_lost 22 = .ok (.aload_n 1, 1) := dk_43 (dk_at dksX0_lost_0 22 rfl rfl)
theorem dX0_lost_23 : decode cX0_lost 23 = .ok (.getfield 140, 3) := dk_180 0 140 (dk_at dksX0_lost_1 0 rfl rfl)
theorem dX0_lost_26 : decode cX0_lost 26 = .ok (.bipush 20, 2) := dk_16 20 (dk_at dksX0_lost_1 3 rfl rfl)
theorem dX0_lost_28 : decode cX0_lost 28 = .ok (.iload_n 2, 1) := dk_28 (dk_at dksX0_lost_1 5 rfl rfl)
theorem dX0_lost_29 : decode cX0_lost 29 = .ok (.imul, 1) := dk_104 (dk_at dksX0_lost_1 6 rfl rfl)
theorem dX0_lost_30 : decode cX0_lost 30 = .ok (.iload 5, 2) := dk_21 5 (dk_at dksX0_lost_1 7 rfl rfl)
theorem dX0_lost_32 : decode cX0_lost 32 = .ok (.iadd, 1) := dk_96 (dk_at dksX0_lost_1 9 rfl rfl)
theorem dX0_lost_33 : decode cX0_lost 33 = .ok (.iaload, 1) := dk_46 (dk_at dksX0_lost_1 10 rfl rfl)
theorem dX0_lost_34 : decode cX0_lost 34 = .ok (.i2l, 1) := dk_133 (dk_at dksX0_lost_1 11 rfl rfl)
theorem dX0_lost_35 : decode cX0_lost 35 = .ok (.iload_n 3, 1) := dk_29 (dk_at dksX0_lost_1 12 rfl rfl)
theorem dX0_lost_36 : decode cX0_lost 36 = .ok (.i2l, 1) := dk_133 (dk_at dksX0_lost_1 13 rfl rfl)
theorem dX0_lost_37 : decode cX0_lost 37 = .ok (.lmul, 1) := dk_105 (dk_at dksX0_lost_1 14 rfl rfl)
theorem dX0_lost_38 : decode cX0_lost 38 = .ok (.ldc2_w 20, 3) := dk_20 0 20 (dk_at dksX0_lost_1 15 rfl rfl)
theorem dX0_lost_41 : decode cX0_lost 41 = .ok (.ldiv, 1) := dk_109 (dk_at dksX0_lost_1 18 rfl rfl)
theorem dX0_lost_42 : decode cX0_lost 42 = .ok (.l2i, 1) := dk_136 (dk_at dksX0_lost_1 19 rfl rfl)
theorem dX0_lost_43 : decode cX0_lost 43 = .ok (.iadd, 1) := dk_96 (dk_at dksX0_lost_1 20 rfl rfl)
theorem dX0_lost_44 : decode cX0_lost 44 = .ok (.istore 4, 2) := dk_54 4 (dk_at dksX0_lost_1 21 rfl rfl)
theorem dX0_lost_46 : decode cX0_lost 46 = .ok (.iinc 5 1, 3) := dk_132 5 1 (dk_at dksX0_lost_2 0 rfl rfl)
theorem dX0_lost_49 : decode cX0_lost 49 = .ok (.goto (-36), 3) := dk_167 255 220 (dk_at dksX0_lost_2 3 rfl rfl)
theorem dX0_lost_52 : decode cX0_lost 52 = .ok (.iload 4, 2) := dk_21 4 (dk_at dksX0_lost_2 6 rfl rfl)
theorem dX0_lost_54 : decode cX0_lost 54 = .ok (.ireturn, 1) := dk_172 (dk_at dksX0_lost_2 8 rfl rfl)
abbrev cX0_harvests : ByteArray := prog_1_method_84_code
def yX0_harvests : MethodName := ⟨RX0, "harvests", "(II)I"⟩
def dkwX0_harvests_5 : List UInt8 := [182, 0, 101, 172]
abbrev dktX0_harvests_5 : List UInt8 := dkwX0_harvests_5 ++ []
def dkwX0_harvests_4 : List UInt8 := [162, 0, 20, 29, 42, 42, 180, 0, 89, 182, 1, 205, 96, 62, 132, 4, 1, 167, 255, 223, 42, 29]
abbrev dktX0_harvests_4 : List UInt8 := dkwX0_harvests_4 ++ dktX0_harvests_5
def dkwX0_harvests_3 : List UInt8 := [182, 1, 62, 3, 62, 3, 54, 4, 21, 4, 28, 162, 0, 33, 42, 180, 0, 89, 180, 0, 186, 17, 3, 231]
abbrev dktX0_harvests_3 : List UInt8 := dkwX0_harvests_3 ++ dktX0_harvests_4
def dkwX0_harvests_2 : List UInt8 := [181, 1, 193, 42, 42, 180, 0, 31, 180, 0, 105, 181, 0, 92, 42, 180, 0, 89, 42, 182, 0, 137]
abbrev dktX0_harvests_2 : List UInt8 := dkwX0_harvests_2 ++ dktX0_harvests_3
def dkwX0_harvests_1 : List UInt8 := [182, 0, 122, 172, 42, 180, 0, 31, 180, 0, 105, 154, 0, 10, 42, 16, 253, 182, 0, 122, 172, 42, 27]
abbrev dktX0_harvests_1 : List UInt8 := dkwX0_harvests_1 ++ dktX0_harvests_2
def dkwX0_harvests_0 : List UInt8 := [27, 3, 19, 1, 142, 184, 0, 108, 153, 0, 13, 28, 4, 16, 60, 184, 0, 108, 154, 0, 9, 42, 2]
abbrev dktX0_harvests_0 : List UInt8 := dkwX0_harvests_0 ++ dktX0_harvests_1
theorem dksX0_harvests_0 : cX0_harvests.data.toList.drop 0 = dktX0_harvests_0 := by decide +kernel
theorem dksX0_harvests_1 : cX0_harvests.data.toList.drop 23 = dktX0_harvests_1 := dk_seg dksX0_harvests_0 23 rfl rfl
theorem dksX0_harvests_2 : cX0_harvests.data.toList.drop 46 = dktX0_harvests_2 := dk_seg dksX0_harvests_1 23 rfl rfl
theorem dksX0_harvests_3 : cX0_harvests.data.toList.drop 68 = dktX0_harvests_3 := dk_seg dksX0_harvests_2 22 rfl rfl
theorem dksX0_harvests_4 : cX0_harvests.data.toList.drop 92 = dktX0_harvests_4 := dk_seg dksX0_harvests_3 24 rfl rfl
theorem dksX0_harvests_5 : cX0_harvests.data.toList.drop 114 = dktX0_harvests_5 := dk_seg dksX0_harvests_4 22 rfl rfl
theorem dX0_harvests_0 : decode cX0_harvests 0 = .ok (.iload_n 1, 1) := dk_27 (dk_at dksX0_harvests_0 0 rfl rfl)
theorem dX0_harvests_1 : decode cX0_harvests 1 = .ok (.iconst 0, 1) := dk_3 (dk_at dksX0_harvests_0 1 rfl rfl)
theorem dX0_harvests_2 : decode cX0_harvests 2 = .ok (.ldc_w 398, 3) := dk_19 1 142 (dk_at dksX0_harvests_0 2 rfl rfl)
theorem dX0_harvests_5 : decode cX0_harvests 5 = .ok (.invokestatic 108, 3) := dk_184 0 108 (dk_at dksX0_harvests_0 5 rfl rfl)
theorem dX0_harvests_8 : decode cX0_harvests 8 = .ok (.ifCond .eq 13, 3) := dk_153 0 13 (dk_at dksX0_harvests_0 8 rfl rfl)
theorem dX0_harvests_11 : decode cX0_harvests 11 = .ok (.iload_n 2, 1) := dk_28 (dk_at dksX0_harvests_0 11 rfl rfl)
theorem dX0_harvests_12 : decode cX0_harvests 12 = .ok (.iconst 1, 1) := dk_4 (dk_at dksX0_harvests_0 12 rfl rfl)
theorem dX0_harvests_13 : decode cX0_harvests 13 = .ok (.bipush 60, 2) := dk_16 60 (dk_at dksX0_harvests_0 13 rfl rfl)
theorem dX0_harvests_15 : decode cX0_harvests 15 = .ok (.invokestatic 108, 3) := dk_184 0 108 (dk_at dksX0_harvests_0 15 rfl rfl)
theorem dX0_harvests_18 : decode cX0_harvests 18 = .ok (.ifCond .ne 9, 3) := dk_154 0 9 (dk_at dksX0_harvests_0 18 rfl rfl)
theorem dX0_harvests_21 : decode cX0_harvests 21 = .ok (.aload_n 0, 1) := dk_42 (dk_at dksX0_harvests_0 21 rfl rfl)
theorem dX0_harvests_22 : decode cX0_harvests 22 = .ok (.iconst (-1), 1) := dk_2 (dk_at dksX0_harvests_0 22 rfl rfl)
theorem dX0_harvests_23 : decode cX0_harvests 23 = .ok (.invokevirtual 122, 3) := dk_182 0 122 (dk_at dksX0_harvests_1 0 rfl rfl)
theorem dX0_harvests_26 : decode cX0_harvests 26 = .ok (.ireturn, 1) := dk_172 (dk_at dksX0_harvests_1 3 rfl rfl)
theorem dX0_harvests_27 : decode cX0_harvests 27 = .ok (.aload_n 0, 1) := dk_42 (dk_at dksX0_harvests_1 4 rfl rfl)
theorem dX0_harvests_28 : decode cX0_harvests 28 = .ok (.getfield 31, 3) := dk_180 0 31 (dk_at dksX0_harvests_1 5 rfl rfl)
theorem dX0_harvests_31 : decode cX0_harvests 31 = .ok (.getfield 105, 3) := dk_180 0 105 (dk_at dksX0_harvests_1 8 rfl rfl)
theorem dX0_harvests_34 : decode cX0_harvests 34 = .ok (.ifCond .ne 10, 3) := dk_154 0 10 (dk_at dksX0_harvests_1 11 rfl rfl)
theorem dX0_harvests_37 : decode cX0_harvests 37 = .ok (.aload_n 0, 1) := dk_42 (dk_at dksX0_harvests_1 14 rfl rfl)
theorem dX0_harvests_38 : decode cX0_harvests 38 = .ok (.bipush (-3), 2) := dk_16 253 (dk_at dksX0_harvests_1 15 rfl rfl)
theorem dX0_harvests_40 : decode cX0_harvests 40 = .ok (.invokevirtual 122, 3) := dk_182 0 122 (dk_at dksX0_harvests_1 17 rfl rfl)
theorem dX0_harvests_43 : decode cX0_harvests 43 = .ok (.ireturn, 1) := dk_172 (dk_at dksX0_harvests_1 20 rfl rfl)
theorem dX0_harvests_44 : decode cX0_harvests 44 = .ok (.aload_n 0, 1) := dk_42 (dk_at dksX0_harvests_1 21 rfl rfl)
theorem dX0_harvests_45 : decode cX0_harvests 45 = .ok (.iload_n 1, 1) := dk_27 (dk_at dksX0_harvests_1 22 rfl rfl)
theorem dX0_harvests_46 : decode cX0_harvests 46 = .ok (.putfield 449, 3) := dk_181 1 193 (dk_at dksX0_harvests_2 0 rfl rfl)
theorem dX0_harvests_49 : decode cX0_harvests 49 = .ok (.aload_n 0, 1) := dk_42 (dk_at dksX0_harvests_2 3 rfl rfl)
theorem dX0_harvests_50 : decode cX0_harvests 50 = .ok (.aload_n 0, 1) := dk_42 (dk_at dksX0_harvests_2 4 rfl rfl)
theorem dX0_harvests_51 : decode cX0_harvests 51 = .ok (.getfield 31, 3) := dk_180 0 31 (dk_at dksX0_harvests_2 5 rfl rfl)
theorem dX0_harvests_54 : decode cX0_harvests 54 = .ok (.getfield 105, 3) := dk_180 0 105 (dk_at dksX0_harvests_2 8 rfl rfl)
theorem dX0_harvests_57 : decode cX0_harvests 57 = .ok (.putfield 92, 3) := dk_181 0 92 (dk_at dksX0_harvests_2 11 rfl rfl)
theorem dX0_harvests_60 : decode cX0_harvests 60 = .ok (.aload_n 0, 1) := dk_42 (dk_at dksX0_harvests_2 14 rfl rfl)
theorem dX0_harvests_61 : decode cX0_harvests 61 = .ok (.getfield 89, 3) := dk_180 0 89 (dk_at dksX0_harvests_2 15 rfl rfl)
theorem dX0_harvests_64 : decode cX0_harvests 64 = .ok (.aload_n 0, 1) := dk_42 (dk_at dksX0_harvests_2 18 rfl rfl)
theorem dX0_harvests_65 : decode cX0_harvests 65 = .ok (.invokevirtual 137, 3) := dk_182 0 137 (dk_at dksX0_harvests_2 19 rfl rfl)
theorem dX0_harvests_68 : decode cX0_harvests 68 = .ok (.invokevirtual 318, 3) := dk_182 1 62 (dk_at dksX0_harvests_3 0 rfl rfl)
theorem dX0_harvests_71 : decode cX0_harvests 71 = .ok (.iconst 0, 1) := dk_3 (dk_at dksX0_harvests_3 3 rfl rfl)
theorem dX0_harvests_72 : decode cX0_harvests 72 = .ok (.istore_n 3, 1) := dk_62 (dk_at dksX0_harvests_3 4 rfl rfl)
theorem dX0_harvests_73 : decode cX0_harvests 73 = .ok (.iconst 0, 1) := dk_3 (dk_at dksX0_harvests_3 5 rfl rfl)
theorem dX0_harvests_74 : decode cX0_harvests 74 = .ok (.istore 4, 2) := dk_54 4 (dk_at dksX0_harvests_3 6 rfl rfl)
theorem dX0_harvests_76 : decode cX0_harvests 76 = .ok (.iload 4, 2) := dk_21 4 (dk_at dksX0_harvests_3 8 rfl rfl)
theorem dX0_harvests_78 : decode cX0_harvests 78 = .ok (.iload_n 2, 1) := dk_28 (dk_at dksX0_harvests_3 10 rfl rfl)
theorem dX0_harvests_79 : decode cX0_harvests 79 = .ok (.if_icmp .ge 33, 3) := dk_162 0 33 (dk_at dksX0_harvests_3 11 rfl rfl)
theorem dX0_harvests_82 : decode cX0_harvests 82 = .ok (.aload_n 0, 1) := dk_42 (dk_at dksX0_harvests_3 14 rfl rfl)
theorem dX0_harvests_83 : decode cX0_harvests 83 = .ok (.getfield 89, 3) := dk_180 0 89 (dk_at dksX0_harvests_3 15 rfl rfl)
theorem dX0_harvests_86 : decode cX0_harvests 86 = .ok (.getfield 186, 3) := dk_180 0 186 (dk_at dksX0_harvests_3 18 rfl rfl)
theorem dX0_harvests_89 : decode cX0_harvests 89 = .ok (.sipush 999, 3) := dk_17 3 231 (dk_at dksX0_harvests_3 21 rfl rfl)
theorem dX0_harvests_92 : decode cX0_harvests 92 = .ok (.if_icmp .ge 20, 3) := dk_162 0 20 (dk_at dksX0_harvests_4 0 rfl rfl)
theorem dX0_harvests_95 : decode cX0_harvests 95 = .ok (.iload_n 3, 1) := dk_29 (dk_at dksX0_harvests_4 3 rfl rfl)
theorem dX0_harvests_96 : decode cX0_harvests 96 = .ok (.aload_n 0, 1) := dk_42 (dk_at dksX0_harvests_4 4 rfl rfl)
theorem dX0_harvests_97 : decode cX0_harvests 97 = .ok (.aload_n 0, 1) := dk_42 (dk_at dksX0_harvests_4 5 rfl rfl)
theorem dX0_harvests_98 : decode cX0_harvests 98 = .ok (.getfield 89, 3) := dk_180 0 89 (dk_at dksX0_harvests_4 6 rfl rfl)
theorem dX0_harvests_101 : decode cX0_harvests 101 = .ok (.invokevirtual 461, 3) := dk_182 1 205 (dk_at dksX0_harvests_4 9 rfl rfl)
theorem dX0_harvests_104 : decode cX0_harvests 104 = .ok (.iadd, 1) := dk_96 (dk_at dksX0_harvests_4 12 rfl rfl)
theorem dX0_harvests_105 : decode cX0_harvests 105 = .ok (.istore_n 3, 1) := dk_62 (dk_at dksX0_harvests_4 13 rfl rfl)
theorem dX0_harvests_106 : decode cX0_harvests 106 = .ok (.iinc 4 1, 3) := dk_132 4 1 (dk_at dksX0_harvests_4 14 rfl rfl)
theorem dX0_harvests_109 : decode cX0_harvests 109 = .ok (.goto (-33), 3) := dk_167 255 223 (dk_at dksX0_harvests_4 17 rfl rfl)
theorem dX0_harvests_112 : decode cX0_harvests 112 = .ok (.aload_n 0, 1) := dk_42 (dk_at dksX0_harvests_4 20 rfl rfl)
theorem dX0_harvests_113 : decode cX0_harvests 113 = .ok (.iload_n 3, 1) := dk_29 (dk_at dksX0_harvests_4 21 rfl rfl)
theorem dX0_harvests_114 : decode cX0_harvests 114 = .ok (.invokevirtual 101, 3) := dk_182 0 101 (dk_at dksX0_harvests_5 0 rfl rfl)
theorem dX0_harvests_117 : decode cX0_harvests 117 = .ok (.ireturn, 1) := dk_172 (dk_at dksX0_harvests_5 3 rfl rfl)
abbrev cX0_harvest : ByteArray := prog_1_method_83_code
def yX0_harvest : MethodName := ⟨RX0, "harvest", "(LSoleraCellar$Table;)I"⟩
def dkwX0_harvest_5 : List UInt8 := [21, 4, 182, 1, 85, 87, 21, 4, 54, 6, 42, 43, 182, 1, 88, 87, 21, 6, 172]
abbrev dktX0_harvest_5 : List UInt8 := dkwX0_harvest_5 ++ []
def dkwX0_harvest_4 : List UInt8 := [182, 1, 79, 87, 21, 5, 5, 160, 0, 27, 42, 43, 28, 21, 4, 182, 1, 82, 154, 0, 16, 42, 43, 28]
abbrev dktX0_harvest_4 : List UInt8 := dkwX0_harvest_4 ++ dktX0_harvest_5
def dkwX0_harvest_3 : List UInt8 := [21, 5, 4, 160, 0, 25, 42, 43, 28, 29, 21, 4, 182, 1, 75, 154, 0, 13, 42, 43, 28, 29, 21, 4]
abbrev dktX0_harvest_3 : List UInt8 := dkwX0_harvest_3 ++ dktX0_harvest_4
def dkwX0_harvest_2 : List UInt8 := [154, 0, 23, 42, 43, 28, 21, 4, 182, 1, 65, 154, 0, 12, 42, 43, 28, 21, 4, 182, 1, 72, 87]
abbrev dktX0_harvest_2 : List UInt8 := dkwX0_harvest_2 ++ dktX0_harvest_3
def dkwX0_harvest_1 : List UInt8 := [42, 16, 9, 182, 1, 202, 4, 96, 54, 4, 42, 7, 182, 1, 202, 54, 5, 3, 54, 6, 21, 5]
abbrev dktX0_harvest_1 : List UInt8 := dkwX0_harvest_1 ++ dktX0_harvest_2
def dkwX0_harvest_0 : List UInt8 := [42, 42, 180, 0, 31, 180, 0, 105, 182, 1, 202, 61, 42, 42, 180, 0, 31, 180, 0, 105, 182, 1, 202, 62]
abbrev dktX0_harvest_0 : List UInt8 := dkwX0_harvest_0 ++ dktX0_harvest_1
theorem dksX0_harvest_0 : cX0_harvest.data.toList.drop 0 = dktX0_harvest_0 := by decide +kernel
theorem dksX0_harvest_1 : cX0_harvest.data.toList.drop 24 = dktX0_harvest_1 := dk_seg dksX0_harvest_0 24 rfl rfl
theorem dksX0_harvest_2 : cX0_harvest.data.toList.drop 46 = dktX0_harvest_2 := dk_seg dksX0_harvest_1 22 rfl rfl
theorem dksX0_harvest_3 : cX0_harvest.data.toList.drop 69 = dktX0_harvest_3 := dk_seg dksX0_harvest_2 23 rfl rfl
theorem dksX0_harvest_4 : cX0_harvest.data.toList.drop 93 = dktX0_harvest_4 := dk_seg dksX0_harvest_3 24 rfl rfl
theorem dksX0_harvest_5 : cX0_harvest.data.toList.drop 117 = dktX0_harvest_5 := dk_seg dksX0_harvest_4 24 rfl rfl
theorem dX0_harvest_0 : decode cX0_harvest 0 = .ok (.aload_n 0, 1) := dk_42 (dk_at dksX0_harvest_0 0 rfl rfl)
theorem dX0_harvest_1 : decode cX0_harvest 1 = .ok (.aload_n 0, 1) := dk_42 (dk_at dksX0_harvest_0 1 rfl rfl)
theorem dX0_harvest_2 : decode cX0_harvest 2 = .ok (.getfield 31, 3) := dk_180 0 31 (dk_at dksX0_harvest_0 2 rfl rfl)
theorem dX0_harvest_5 : decode cX0_harvest 5 = .ok (.getfield 105, 3) := dk_180 0 105 (dk_at dksX0_harvest_0 5 rfl rfl)
theorem dX0_harvest_8 : decode cX0_harvest 8 = .ok (.invokevirtual 458, 3) := dk_182 1 202 (dk_at dksX0_harvest_0 8 rfl rfl)
theorem dX0_harvest_11 : decode cX0_harvest 11 = .ok (.istore_n 2, 1) := dk_61 (dk_at dksX0_harvest_0 11 rfl rfl)
theorem dX0_harvest_12 : decode cX0_harvest 12 = .ok (.aload_n 0, 1) := dk_42 (dk_at dksX0_harvest_0 12 rfl rfl)
theorem dX0_harvest_13 : decode cX0_harvest 13 = .ok (.aload_n 0, 1) := dk_42 (dk_at dksX0_harvest_0 13 rfl rfl)
theorem dX0_harvest_14 : decode cX0_harvest 14 = .ok (.getfield 31, 3) := dk_180 0 31 (dk_at dksX0_harvest_0 14 rfl rfl)
theorem dX0_harvest_17 : decode cX0_harvest 17 = .ok (.getfield 105, 3) := dk_180 0 105 (dk_at dksX0_harvest_0 17 rfl rfl)
theorem dX0_harvest_20 : decode cX0_harvest 20 = .ok (.invokevirtual 458, 3) := dk_182 1 202 (dk_at dksX0_harvest_0 20 rfl rfl)
theorem dX0_harvest_23 : decode cX0_harvest 23 = .ok (.istore_n 3, 1) := dk_62 (dk_at dksX0_harvest_0 23 rfl rfl)
theorem dX0_harvest_24 : decode cX0_harvest 24 = .ok (.aload_n 0, 1) := dk_42 (dk_at dksX0_harvest_1 0 rfl rfl)
theorem dX0_harvest_25 : decode cX0_harvest 25 = .ok (.bipush 9, 2) := dk_16 9 (dk_at dksX0_harvest_1 1 rfl rfl)
theorem dX0_harvest_27 : decode cX0_harvest 27 = .ok (.invokevirtual 458, 3) := dk_182 1 202 (dk_at dksX0_harvest_1 3 rfl rfl)
theorem dX0_harvest_30 : decode cX0_harvest 30 = .ok (.iconst 1, 1) := dk_4 (dk_at dksX0_harvest_1 6 rfl rfl)
theorem dX0_harvest_31 : decode cX0_harvest 31 = .ok (.iadd, 1) := dk_96 (dk_at dksX0_harvest_1 7 rfl rfl)
theorem dX0_harvest_32 : decode cX0_harvest 32 = .ok (.istore 4, 2) := dk_54 4 (dk_at dksX0_harvest_1 8 rfl rfl)
theorem dX0_harvest_34 : decode cX0_harvest 34 = .ok (.aload_n 0, 1) := dk_42 (dk_at dksX0_harvest_1 10 rfl rfl)
theorem dX0_harvest_35 : decode cX0_harvest 35 = .ok (.iconst 4, 1) := dk_7 (dk_at dksX0_harvest_1 11 rfl rfl)
theorem dX0_harvest_36 : decode cX0_harvest 36 = .ok (.invokevirtual 458, 3) := dk_182 1 202 (dk_at dksX0_harvest_1 12 rfl rfl)
theorem dX0_harvest_39 : decode cX0_harvest 39 = .ok (.istore 5, 2) := dk_54 5 (dk_at dksX0_harvest_1 15 rfl rfl)
theorem dX0_harvest_41 : decode cX0_harvest 41 = .ok (.iconst 0, 1) := dk_3 (dk_at dksX0_harvest_1 17 rfl rfl)
theorem dX0_harvest_42 : decode cX0_harvest 42 = .ok (.istore 6, 2) := dk_54 6 (dk_at dksX0_harvest_1 18 rfl rfl)
theorem dX0_harvest_44 : decode cX0_harvest 44 = .ok (.iload 5, 2) := dk_21 5 (dk_at dksX0_harvest_1 20 rfl rfl)
theorem dX0_harvest_46 : decode cX0_harvest 46 = .ok (.ifCond .ne 23, 3) := dk_154 0 23 (dk_at dksX0_harvest_2 0 rfl rfl)
theorem dX0_harvest_49 : decode cX0_harvest 49 = .ok (.aload_n 0, 1) := dk_42 (dk_at dksX0_harvest_2 3 rfl rfl)
theorem dX0_harvest_50 : decode cX0_harvest 50 = .ok (.aload_n 1, 1) := dk_43 (dk_at dksX0_harvest_2 4 rfl rfl)
theorem dX0_harvest_51 : decode cX0_harvest 51 = .ok (.iload_n 2, 1) := dk_28 (dk_at dksX0_harvest_2 5 rfl rfl)
theorem dX0_harvest_52 : decode cX0_harvest 52 = .ok (.iload 4, 2) := dk_21 4 (dk_at dksX0_harvest_2 6 rfl rfl)
theorem dX0_harvest_54 : decode cX0_harvest 54 = .ok (.invokevirtual 321, 3) := dk_182 1 65 (dk_at dksX0_harvest_2 8 rfl rfl)
theorem dX0_harvest_57 : decode cX0_harvest 57 = .ok (.ifCond .ne 12, 3) := dk_154 0 12 (dk_at dksX0_harvest_2 11 rfl rfl)
theorem dX0_harvest_60 : decode cX0_harvest 60 = .ok (.aload_n 0, 1) := dk_42 (dk_at dksX0_harvest_2 14 rfl rfl)
theorem dX0_harvest_61 : decode cX0_harvest 61 = .ok (.aload_n 1, 1) := dk_43 (dk_at dksX0_harvest_2 15 rfl rfl)
theorem dX0_harvest_62 : decode cX0_harvest 62 = .ok (.iload_n 2, 1) := dk_28 (dk_at dksX0_harvest_2 16 rfl rfl)
theorem dX0_harvest_63 : decode cX0_harvest 63 = .ok (.iload 4, 2) := dk_21 4 (dk_at dksX0_harvest_2 17 rfl rfl)
theorem dX0_harvest_65 : decode cX0_harvest 65 = .ok (.invokevirtual 328, 3) := dk_182 1 72 (dk_at dksX0_harvest_2 19 rfl rfl)
theorem dX0_harvest_68 : decode cX0_harvest 68 = .ok (.pop, 1) := dk_87 (dk_at dksX0_harvest_2 22 rfl rfl)
theorem dX0_harvest_69 : decode cX0_harvest 69 = .ok (.iload 5, 2) := dk_21 5 (dk_at dksX0_harvest_3 0 rfl rfl)
theorem dX0_harvest_71 : decode cX0_harvest 71 = .ok (.iconst 1, 1) := dk_4 (dk_at dksX0_harvest_3 2 rfl rfl)
theorem dX0_harvest_72 : decode cX0_harvest 72 = .ok (.if_icmp .ne 25, 3) := dk_160 0 25 (dk_at dksX0_harvest_3 3 rfl rfl)
theorem dX0_harvest_75 : decode cX0_harvest 75 = .ok (.aload_n 0, 1) := dk_42 (dk_at dksX0_harvest_3 6 rfl rfl)
theorem dX0_harvest_76 : decode cX0_harvest 76 = .ok (.aload_n 1, 1) := dk_43 (dk_at dksX0_harvest_3 7 rfl rfl)
theorem dX0_harvest_77 : decode cX0_harvest 77 = .ok (.iload_n 2, 1) := dk_28 (dk_at dksX0_harvest_3 8 rfl rfl)
theorem dX0_harvest_78 : decode cX0_harvest 78 = .ok (.iload_n 3, 1) := dk_29 (dk_at dksX0_harvest_3 9 rfl rfl)
theorem dX0_harvest_79 : decode cX0_harvest 79 = .ok (.iload 4, 2) := dk_21 4 (dk_at dksX0_harvest_3 10 rfl rfl)
theorem dX0_harvest_81 : decode cX0_harvest 81 = .ok (.invokevirtual 331, 3) := dk_182 1 75 (dk_at dksX0_harvest_3 12 rfl rfl)
theorem dX0_harvest_84 : decode cX0_harvest 84 = .ok (.ifCond .ne 13, 3) := dk_154 0 13 (dk_at dksX0_harvest_3 15 rfl rfl)
theorem dX0_harvest_87 : decode cX0_harvest 87 = .ok (.aload_n 0, 1) := dk_42 (dk_at dksX0_harvest_3 18 rfl rfl)
theorem dX0_harvest_88 : decode cX0_harvest 88 = .ok (.aload_n 1, 1) := dk_43 (dk_at dksX0_harvest_3 19 rfl rfl)
theorem dX0_harvest_89 : decode cX0_harvest 89 = .ok (.iload_n 2, 1) := dk_28 (dk_at dksX0_harvest_3 20 rfl rfl)
theorem dX0_harvest_90 : decode cX0_harvest 90 = .ok (.iload_n 3, 1) := dk_29 (dk_at dksX0_harvest_3 21 rfl rfl)
theorem dX0_harvest_91 : decode cX0_harvest 91 = .ok (.iload 4, 2) := dk_21 4 (dk_at dksX0_harvest_3 22 rfl rfl)
theorem dX0_harvest_93 : decode cX0_harvest 93 = .ok (.invokevirtual 335, 3) := dk_182 1 79 (dk_at dksX0_harvest_4 0 rfl rfl)
theorem dX0_harvest_96 : decode cX0_harvest 96 = .ok (.pop, 1) := dk_87 (dk_at dksX0_harvest_4 3 rfl rfl)
theorem dX0_harvest_97 : decode cX0_harvest 97 = .ok (.iload 5, 2) := dk_21 5 (dk_at dksX0_harvest_4 4 rfl rfl)
theorem dX0_harvest_99 : decode cX0_harvest 99 = .ok (.iconst 2, 1) := dk_5 (dk_at dksX0_harvest_4 6 rfl rfl)
theorem dX0_harvest_100 : decode cX0_harvest 100 = .ok (.if_icmp .ne 27, 3) := dk_160 0 27 (dk_at dksX0_harvest_4 7 rfl rfl)
theorem dX0_harvest_103 : decode cX0_harvest 103 = .ok (.aload_n 0, 1) := dk_42 (dk_at dksX0_harvest_4 10 rfl rfl)
theorem dX0_harvest_104 : decode cX0_harvest 104 = .ok (.aload_n 1, 1) := dk_43 (dk_at dksX0_harvest_4 11 rfl rfl)
theorem dX0_harvest_105 : decode cX0_harvest 105 = .ok (.iload_n 2, 1) := dk_28 (dk_at dksX0_harvest_4 12 rfl rfl)
theorem dX0_harvest_106 : decode cX0_harvest 106 = .ok (.iload 4, 2) := dk_21 4 (dk_at dksX0_harvest_4 13 rfl rfl)
theorem dX0_harvest_108 : decode cX0_harvest 108 = .ok (.invokevirtual 338, 3) := dk_182 1 82 (dk_at dksX0_harvest_4 15 rfl rfl)
theorem dX0_harvest_111 : decode cX0_harvest 111 = .ok (.ifCond .ne 16, 3) := dk_154 0 16 (dk_at dksX0_harvest_4 18 rfl rfl)
theorem dX0_harvest_114 : decode cX0_harvest 114 = .ok (.aload_n 0, 1) := dk_42 (dk_at dksX0_harvest_4 21 rfl rfl)
theorem dX0_harvest_115 : decode cX0_harvest 115 = .ok (.aload_n 1, 1) := dk_43 (dk_at dksX0_harvest_4 22 rfl rfl)
theorem dX0_harvest_116 : decode cX0_harvest 116 = .ok (.iload_n 2, 1) := dk_28 (dk_at dksX0_harvest_4 23 rfl rfl)
theorem dX0_harvest_117 : decode cX0_harvest 117 = .ok (.iload 4, 2) := dk_21 4 (dk_at dksX0_harvest_5 0 rfl rfl)
theorem dX0_harvest_119 : decode cX0_harvest 119 = .ok (.invokevirtual 341, 3) := dk_182 1 85 (dk_at dksX0_harvest_5 2 rfl rfl)
theorem dX0_harvest_122 : decode cX0_harvest 122 = .ok (.pop, 1) := dk_87 (dk_at dksX0_harvest_5 5 rfl rfl)
theorem dX0_harvest_123 : decode cX0_harvest 123 = .ok (.iload 4, 2) := dk_21 4 (dk_at dksX0_harvest_5 6 rfl rfl)
theorem dX0_harvest_125 : decode cX0_harvest 125 = .ok (.istore 6, 2) := dk_54 6 (dk_at dksX0_harvest_5 8 rfl rfl)
theorem dX0_harvest_127 : decode cX0_harvest 127 = .ok (.aload_n 0, 1) := dk_42 (dk_at dksX0_harvest_5 10 rfl rfl)
theorem dX0_harvest_128 : decode cX0_harvest 128 = .ok (.aload_n 1, 1) := dk_43 (dk_at dksX0_harvest_5 11 rfl rfl)
theorem dX0_harvest_129 : decode cX0_harvest 129 = .ok (.invokevirtual 344, 3) := dk_182 1 88 (dk_at dksX0_harvest_5 12 rfl rfl)
theorem dX0_harvest_132 : decode cX0_harvest 132 = .ok (.pop, 1) := dk_87 (dk_at dksX0_harvest_5 15 rfl rfl)
theorem dX0_harvest_133 : decode cX0_harvest 133 = .ok (.iload 6, 2) := dk_21 6 (dk_at dksX0_harvest_5 16 rfl rfl)
theorem dX0_harvest_135 : decode cX0_harvest 135 = .ok (.ireturn, 1) := dk_172 (dk_at dksX0_harvest_5 18 rfl rfl)
abbrev cX0_draw : ByteArray := prog_1_method_82_code
def yX0_draw : MethodName := ⟨RX0, "draw", "(I)I"⟩
def dkwX0_draw_1 : List UInt8 := [180, 1, 193, 27, 112, 172]
abbrev dktX0_draw_1 : List UInt8 := dkwX0_draw_1 ++ []
def dkwX0_draw_0 : List UInt8 := [42, 42, 180, 1, 193, 133, 20, 1, 196, 105, 20, 1, 198, 97, 20, 1, 200, 113, 136, 181, 1, 193, 42]
abbrev dktX0_draw_0 : List UInt8 := dkwX0_draw_0 ++ dktX0_draw_1
theorem dksX0_draw_0 : cX0_draw.data.toList.drop 0 = dktX0_draw_0 := by decide +kernel
theorem dksX0_draw_1 : cX0_draw.data.toList.drop 23 = dktX0_draw_1 := dk_seg dksX0_draw_0 23 rfl rfl
theorem dX0_draw_0 : decode cX0_draw 0 = .ok (.aload_n 0, 1) := dk_42 (dk_at dksX0_draw_0 0 rfl rfl)
theorem dX0_draw_1 : decode cX0_draw 1 = .ok (.aload_n 0, 1) := dk_42 (dk_at dksX0_draw_0 1 rfl rfl)
theorem dX0_draw_2 : decode cX0_draw 2 = .ok (.getfield 449, 3) := dk_180 1 193 (dk_at dksX0_draw_0 2 rfl rfl)
theorem dX0_draw_5 : decode cX0_draw 5 = .ok (.i2l, 1) := dk_133 (dk_at dksX0_draw_0 5 rfl rfl)
theorem dX0_draw_6 : decode cX0_draw 6 = .ok (.ldc2_w 452, 3) := dk_20 1 196 (dk_at dksX0_draw_0 6 rfl rfl)
theorem dX0_draw_9 : decode cX0_draw 9 = .ok (.lmul, 1) := dk_105 (dk_at dksX0_draw_0 9 rfl rfl)
theorem dX0_draw_10 : decode cX0_draw 10 = .ok (.ldc2_w 454, 3) := dk_20 1 198 (dk_at dksX0_draw_0 10 rfl rfl)
theorem dX0_draw_13 : decode cX0_draw 13 = .ok (.ladd, 1) := dk_97 (dk_at dksX0_draw_0 13 rfl rfl)
theorem dX0_draw_14 : decode cX0_draw 14 = .ok (.ldc2_w 456, 3) := dk_20 1 200 (dk_at dksX0_draw_0 14 rfl rfl)
theorem dX0_draw_17 : decode cX0_draw 17 = .ok (.lrem, 1) := dk_113 (dk_at dksX0_draw_0 17 rfl rfl)
theorem dX0_draw_18 : decode cX0_draw 18 = .ok (.l2i, 1) := dk_136 (dk_at dksX0_draw_0 18 rfl rfl)
theorem dX0_draw_19 : decode cX0_draw 19 = .ok (.putfield 449, 3) := dk_181 1 193 (dk_at dksX0_draw_0 19 rfl rfl)
theorem dX0_draw_22 : decode cX0_draw 22 = .ok (.aload_n 0, 1) := dk_42 (dk_at dksX0_draw_0 22 rfl rfl)
theorem dX0_draw_23 : decode cX0_draw 23 = .ok (.getfield 449, 3) := dk_180 1 193 (dk_at dksX0_draw_1 0 rfl rfl)
theorem dX0_draw_26 : decode cX0_draw 26 = .ok (.iload_n 1, 1) := dk_27 (dk_at dksX0_draw_1 3 rfl rfl)
theorem dX0_draw_27 : decode cX0_draw 27 = .ok (.irem, 1) := dk_112 (dk_at dksX0_draw_1 4 rfl rfl)
theorem dX0_draw_28 : decode cX0_draw 28 = .ok (.ireturn, 1) := dk_172 (dk_at dksX0_draw_1 5 rfl rfl)
abbrev cX0_drawn : ByteArray := prog_1_method_85_code
def yX0_drawn : MethodName := ⟨RX0, "drawn", "(II)I"⟩
def dkwX0_drawn_2 : List UInt8 := [42, 180, 0, 89, 27, 182, 0, 158, 172]
abbrev dktX0_drawn_2 : List UInt8 := dkwX0_drawn_2 ++ []
def dkwX0_drawn_1 : List UInt8 := [4, 184, 0, 108, 154, 0, 5, 2, 172, 28, 154, 0, 14, 42, 180, 0, 89, 27, 182, 0, 155, 167, 0, 11]
abbrev dktX0_drawn_1 : List UInt8 := dkwX0_drawn_1 ++ dktX0_drawn_2
def dkwX0_drawn_0 : List UInt8 := [42, 180, 0, 92, 2, 159, 0, 26, 27, 3, 42, 180, 0, 92, 4, 100, 184, 0, 108, 153, 0, 12, 28, 3]
abbrev dktX0_drawn_0 : List UInt8 := dkwX0_drawn_0 ++ dktX0_drawn_1
theorem dksX0_drawn_0 : cX0_drawn.data.toList.drop 0 = dktX0_drawn_0 := by decide +kernel
theorem dksX0_drawn_1 : cX0_drawn.data.toList.drop 24 = dktX0_drawn_1 := dk_seg dksX0_drawn_0 24 rfl rfl
theorem dksX0_drawn_2 : cX0_drawn.data.toList.drop 48 = dktX0_drawn_2 := dk_seg dksX0_drawn_1 24 rfl rfl
theorem dX0_drawn_0 : decode cX0_drawn 0 = .ok (.aload_n 0, 1) := dk_42 (dk_at dksX0_drawn_0 0 rfl rfl)
theorem dX0_drawn_1 : decode cX0_drawn 1 = .ok (.getfield 92, 3) := dk_180 0 92 (dk_at dksX0_drawn_0 1 rfl rfl)
theorem dX0_drawn_4 : decode cX0_drawn 4 = .ok (.iconst (-1), 1) := dk_2 (dk_at dksX0_drawn_0 4 rfl rfl)
theorem dX0_drawn_5 : decode cX0_drawn 5 = .ok (.if_icmp .eq 26, 3) := dk_159 0 26 (dk_at dksX0_drawn_0 5 rfl rfl)
theorem dX0_drawn_8 : decode cX0_drawn 8 = .ok (.iload_n 1, 1) := dk_27 (dk_at dksX0_drawn_0 8 rfl rfl)
theorem dX0_drawn_9 : decode cX0_drawn 9 = .ok (.iconst 0, 1) := dk_3 (dk_at dksX0_drawn_0 9 rfl rfl)
theorem dX0_drawn_10 : decode cX0_drawn 10 = .ok (.aload_n 0, 1) := dk_42 (dk_at dksX0_drawn_0 10 rfl rfl)
theorem dX0_drawn_11 : decode cX0_drawn 11 = .ok (.getfield 92, 3) := dk_180 0 92 (dk_at dksX0_drawn_0 11 rfl rfl)
theorem dX0_drawn_14 : decode cX0_drawn 14 = .ok (.iconst 1, 1) := dk_4 (dk_at dksX0_drawn_0 14 rfl rfl)
theorem dX0_drawn_15 : decode cX0_drawn 15 = .ok (.isub, 1) := dk_100 (dk_at dksX0_drawn_0 15 rfl rfl)
theorem dX0_drawn_16 : decode cX0_drawn 16 = .ok (.invokestatic 108, 3) := dk_184 0 108 (dk_at dksX0_drawn_0 16 rfl rfl)
theorem dX0_drawn_19 : decode cX0_drawn 19 = .ok (.ifCond .eq 12, 3) := dk_153 0 12 (dk_at dksX0_drawn_0 19 rfl rfl)
theorem dX0_drawn_22 : decode cX0_drawn 22 = .ok (.iload_n 2, 1) := dk_28 (dk_at dksX0_drawn_0 22 rfl rfl)
theorem dX0_drawn_23 : decode cX0_drawn 23 = .ok (.iconst 0, 1) := dk_3 (dk_at dksX0_drawn_0 23 rfl rfl)
theorem dX0_drawn_24 : decode cX0_drawn 24 = .ok (.iconst 1, 1) := dk_4 (dk_at dksX0_drawn_1 0 rfl rfl)
theorem dX0_drawn_25 : decode cX0_drawn 25 = .ok (.invokestatic 108, 3) := dk_184 0 108 (dk_at dksX0_drawn_1 1 rfl rfl)
theorem dX0_drawn_28 : decode cX0_drawn 28 = .ok (.ifCond .ne 5, 3) := dk_154 0 5 (dk_at dksX0_drawn_1 4 rfl rfl)
theorem dX0_drawn_31 : decode cX0_drawn 31 = .ok (.iconst (-1), 1) := dk_2 (dk_at dksX0_drawn_1 7 rfl rfl)
theorem dX0_drawn_32 : decode cX0_drawn 32 = .ok (.ireturn, 1) := dk_172 (dk_at dksX0_drawn_1 8 rfl rfl)
theorem dX0_drawn_33 : decode cX0_drawn 33 = .ok (.iload_n 2, 1) := dk_28 (dk_at dksX0_drawn_1 9 rfl rfl)
theorem dX0_drawn_34 : decode cX0_drawn 34 = .ok (.ifCond .ne 14, 3) := dk_154 0 14 (dk_at dksX0_drawn_1 10 rfl rfl)
theorem dX0_drawn_37 : decode cX0_drawn 37 = .ok (.aload_n 0, 1) := dk_42 (dk_at dksX0_drawn_1 13 rfl rfl)
theorem dX0_drawn_38 : decode cX0_drawn 38 = .ok (.getfield 89, 3) := dk_180 0 89 (dk_at dksX0_drawn_1 14 rfl rfl)
theorem dX0_drawn_41 : decode cX0_drawn 41 = .ok (.iload_n 1, 1) := dk_27 (dk_at dksX0_drawn_1 17 rfl rfl)
theorem dX0_drawn_42 : decode cX0_drawn 42 = .ok (.invokevirtual 155, 3) := dk_182 0 155 (dk_at dksX0_drawn_1 18 rfl rfl)
theorem dX0_drawn_45 : decode cX0_drawn 45 = .ok (.goto 11, 3) := dk_167 0 11 (dk_at dksX0_drawn_1 21 rfl rfl)
theorem dX0_drawn_48 : decode cX0_drawn 48 = .ok (.aload_n 0, 1) := dk_42 (dk_at dksX0_drawn_2 0 rfl rfl)
theorem dX0_drawn_49 : decode cX0_drawn 49 = .ok (.getfield 89, 3) := dk_180 0 89 (dk_at dksX0_drawn_2 1 rfl rfl)
theorem dX0_drawn_52 : decode cX0_drawn 52 = .ok (.iload_n 1, 1) := dk_27 (dk_at dksX0_drawn_2 4 rfl rfl)
theorem dX0_drawn_53 : decode cX0_drawn 53 = .ok (.invokevirtual 158, 3) := dk_182 0 158 (dk_at dksX0_drawn_2 5 rfl rfl)
theorem dX0_drawn_56 : decode cX0_drawn 56 = .ok (.ireturn, 1) := dk_172 (dk_at dksX0_drawn_2 8 rfl rfl)
abbrev cX0_count : ByteArray := prog_1_method_86_code
def yX0_count : MethodName := ⟨RX0, "count", "(I)I"⟩
def dkwX0_count_6 : List UInt8 := [42, 180, 0, 31, 180, 1, 1, 172, 2, 172]
abbrev dktX0_count_6 : List UInt8 := dkwX0_count_6 ++ []
def dkwX0_count_5 : List UInt8 := [180, 0, 98, 172, 42, 180, 0, 201, 172, 42, 180, 0, 7, 8, 46, 172, 42, 180, 0, 7, 16, 6, 46, 172]
abbrev dktX0_count_5 : List UInt8 := dkwX0_count_5 ++ dktX0_count_6
def dkwX0_count_4 : List UInt8 := [42, 180, 0, 31, 180, 0, 221, 182, 0, 116, 172, 42, 180, 0, 31, 180, 0, 112, 182, 0, 116, 172, 42]
abbrev dktX0_count_4 : List UInt8 := dkwX0_count_4 ++ dktX0_count_5
def dkwX0_count_3 : List UInt8 := [42, 180, 0, 31, 180, 0, 105, 172, 42, 182, 0, 137, 180, 1, 50, 172, 42, 180, 0, 31, 180, 1, 168, 172]
abbrev dktX0_count_3 : List UInt8 := dkwX0_count_3 ++ dktX0_count_4
def dkwX0_count_2 : List UInt8 := [170, 0, 0, 0, 0, 145, 0, 0, 0, 0, 0, 0, 0, 12, 0, 0, 0, 66, 0, 0, 0, 74, 0, 0, 0, 82, 0, 0, 0, 90, 0, 0, 0, 101, 0, 0, 0, 112, 0, 0, 0, 117, 0, 0, 0, 145, 0, 0, 0, 145, 0, 0, 0, 145, 0, 0, 0, 122, 0, 0, 0, 129, 0, 0, 0, 137]
abbrev dktX0_count_2 : List UInt8 := dkwX0_count_2 ++ dktX0_count_3
def dkwX0_count_1 : List UInt8 := [16, 9, 184, 0, 108, 153, 0, 13, 42, 180, 0, 7, 27, 16, 6, 100, 46, 172, 27]
abbrev dktX0_count_1 : List UInt8 := dkwX0_count_1 ++ dktX0_count_2
def dkwX0_count_0 : List UInt8 := [27, 16, 13, 16, 16, 184, 0, 108, 153, 0, 12, 42, 27, 16, 13, 100, 182, 0, 198, 172, 27, 16, 7]
abbrev dktX0_count_0 : List UInt8 := dkwX0_count_0 ++ dktX0_count_1
theorem dksX0_count_0 : cX0_count.data.toList.drop 0 = dktX0_count_0 := by decide +kernel
theorem dksX0_count_1 : cX0_count.data.toList.drop 23 = dktX0_count_1 := dk_seg dksX0_count_0 23 rfl rfl
theorem dksX0_count_2 : cX0_count.data.toList.drop 42 = dktX0_count_2 := dk_seg dksX0_count_1 19 rfl rfl
theorem dksX0_count_3 : cX0_count.data.toList.drop 108 = dktX0_count_3 := dk_seg dksX0_count_2 66 rfl rfl
theorem dksX0_count_4 : cX0_count.data.toList.drop 132 = dktX0_count_4 := dk_seg dksX0_count_3 24 rfl rfl
theorem dksX0_count_5 : cX0_count.data.toList.drop 155 = dktX0_count_5 := dk_seg dksX0_count_4 23 rfl rfl
theorem dksX0_count_6 : cX0_count.data.toList.drop 179 = dktX0_count_6 := dk_seg dksX0_count_5 24 rfl rfl
theorem dX0_count_0 : decode cX0_count 0 = .ok (.iload_n 1, 1) := dk_27 (dk_at dksX0_count_0 0 rfl rfl)
theorem dX0_count_1 : decode cX0_count 1 = .ok (.bipush 13, 2) := dk_16 13 (dk_at dksX0_count_0 1 rfl rfl)
theorem dX0_count_3 : decode cX0_count 3 = .ok (.bipush 16, 2) := dk_16 16 (dk_at dksX0_count_0 3 rfl rfl)
theorem dX0_count_5 : decode cX0_count 5 = .ok (.invokestatic 108, 3) := dk_184 0 108 (dk_at dksX0_count_0 5 rfl rfl)
theorem dX0_count_8 : decode cX0_count 8 = .ok (.ifCond .eq 12, 3) := dk_153 0 12 (dk_at dksX0_count_0 8 rfl rfl)
theorem dX0_count_11 : decode cX0_count 11 = .ok (.aload_n 0, 1) := dk_42 (dk_at dksX0_count_0 11 rfl rfl)
theorem dX0_count_12 : decode cX0_count 12 = .ok (.iload_n 1, 1) := dk_27 (dk_at dksX0_count_0 12 rfl rfl)
theorem dX0_count_13 : decode cX0_count 13 = .ok (.bipush 13, 2) := dk_16 13 (dk_at dksX0_count_0 13 rfl rfl)
theorem dX0_count_15 : decode cX0_count 15 = .ok (.isub, 1) := dk_100 (dk_at dksX0_count_0 15 rfl rfl)
theorem dX0_count_16 : decode cX0_count 16 = .ok (.invokevirtual 198, 3) := dk_182 0 198 (dk_at dksX0_count_0 16 rfl rfl)
theorem dX0_count_19 : decode cX0_count 19 = .ok (.ireturn, 1) := dk_172 (dk_at dksX0_count_0 19 rfl rfl)
theorem dX0_count_20 : decode cX0_count 20 = .ok (.iload_n 1, 1) := dk_27 (dk_at dksX0_count_0 20 rfl rfl)
theorem dX0_count_21 : decode cX0_count 21 = .ok (.bipush 7, 2) := dk_16 7 (dk_at dksX0_count_0 21 rfl rfl)
theorem dX0_count_23 : decode cX0_count 23 = .ok (.bipush 9, 2) := dk_16 9 (dk_at dksX0_count_1 0 rfl rfl)
theorem dX0_count_25 : decode cX0_count 25 = .ok (.invokestatic 108, 3) := dk_184 0 108 (dk_at dksX0_count_1 2 rfl rfl)
theorem dX0_count_28 : decode cX0_count 28 = .ok (.ifCond .eq 13, 3) := dk_153 0 13 (dk_at dksX0_count_1 5 rfl rfl)
theorem dX0_count_31 : decode cX0_count 31 = .ok (.aload_n 0, 1) := dk_42 (dk_at dksX0_count_1 8 rfl rfl)
theorem dX0_count_32 : decode cX0_count 32 = .ok (.getfield 7, 3) := dk_180 0 7 (dk_at dksX0_count_1 9 rfl rfl)
theorem dX0_count_35 : decode cX0_count 35 = .ok (.iload_n 1, 1) := dk_27 (dk_at dksX0_count_1 12 rfl rfl)
theorem dX0_count_36 : decode cX0_count 36 = .ok (.bipush 6, 2) := dk_16 6 (dk_at dksX0_count_1 13 rfl rfl)
theorem dX0_count_38 : decode cX0_count 38 = .ok (.isub, 1) := dk_100 (dk_at dksX0_count_1 15 rfl rfl)
theorem dX0_count_39 : decode cX0_count 39 = .ok (.iaload, 1) := dk_46 (dk_at dksX0_count_1 16 rfl rfl)
theorem dX0_count_40 : decode cX0_count 40 = .ok (.ireturn, 1) := dk_172 (dk_at dksX0_count_1 17 rfl rfl)
theorem dX0_count_41 : decode cX0_count 41 = .ok (.iload_n 1, 1) := dk_27 (dk_at dksX0_count_1 18 rfl rfl)
theorem dX0_count_42 : decode cX0_count 42 = .ok (.tableswitch 145 0 12 #[66, 74, 82, 90, 101, 112, 117, 145, 145, 145, 122, 129, 137], 66) := by decide +kernel
theorem dX0_count_108 : decode cX0_count 108 = .ok (.aload_n 0, 1) := dk_42 (dk_at dksX0_count_3 0 rfl rfl)
theorem dX0_count_109 : decode cX0_count 109 = .ok (.getfield 31, 3) := dk_180 0 31 (dk_at dksX0_count_3 1 rfl rfl)
theorem dX0_count_112 : decode cX0_count 112 = .ok (.getfield 105, 3) := dk_180 0 105 (dk_at dksX0_count_3 4 rfl rfl)
theorem dX0_count_115 : decode cX0_count 115 = .ok (.ireturn, 1) := dk_172 (dk_at dksX0_count_3 7 rfl rfl)
theorem dX0_count_116 : decode cX0_count 116 = .ok (.aload_n 0, 1) := dk_42 (dk_at dksX0_count_3 8 rfl rfl)
theorem dX0_count_117 : decode cX0_count 117 = .ok (.invokevirtual 137, 3) := dk_182 0 137 (dk_at dksX0_count_3 9 rfl rfl)
theorem dX0_count_120 : decode cX0_count 120 = .ok (.getfield 306, 3) := dk_180 1 50 (dk_at dksX0_count_3 12 rfl rfl)
theorem dX0_count_123 : decode cX0_count 123 = .ok (.ireturn, 1) := dk_172 (dk_at dksX0_count_3 15 rfl rfl)
theorem dX0_count_124 : decode cX0_count 124 = .ok (.aload_n 0, 1) := dk_42 (dk_at dksX0_count_3 16 rfl rfl)
theorem dX0_count_125 : decode cX0_count 125 = .ok (.getfield 31, 3) := dk_180 0 31 (dk_at dksX0_count_3 17 rfl rfl)
theorem dX0_count_128 : decode cX0_count 128 = .ok (.getfield 424, 3) := dk_180 1 168 (dk_at dksX0_count_3 20 rfl rfl)
theorem dX0_count_131 : decode cX0_count 131 = .ok (.ireturn, 1) := dk_172 (dk_at dksX0_count_3 23 rfl rfl)
theorem dX0_count_132 : decode cX0_count 132 = .ok (.aload_n 0, 1) := dk_42 (dk_at dksX0_count_4 0 rfl rfl)
theorem dX0_count_133 : decode cX0_count 133 = .ok (.getfield 31, 3) := dk_180 0 31 (dk_at dksX0_count_4 1 rfl rfl)
theorem dX0_count_136 : decode cX0_count 136 = .ok (.getfield 221, 3) := dk_180 0 221 (dk_at dksX0_count_4 4 rfl rfl)
theorem dX0_count_139 : decode cX0_count 139 = .ok (.invokevirtual 116, 3) := dk_182 0 116 (dk_at dksX0_count_4 7 rfl rfl)
theorem dX0_count_142 : decode cX0_count 142 = .ok (.ireturn, 1) := dk_172 (dk_at dksX0_count_4 10 rfl rfl)
theorem dX0_count_143 : decode cX0_count 143 = .ok (.aload_n 0, 1) := dk_42 (dk_at dksX0_count_4 11 rfl rfl)
theorem dX0_count_144 : decode cX0_count 144 = .ok (.getfield 31, 3) := dk_180 0 31 (dk_at dksX0_count_4 12 rfl rfl)
theorem dX0_count_147 : decode cX0_count 147 = .ok (.getfield 112, 3) := dk_180 0 112 (dk_at dksX0_count_4 15 rfl rfl)
theorem dX0_count_150 : decode cX0_count 150 = .ok (.invokevirtual 116, 3) := dk_182 0 116 (dk_at dksX0_count_4 18 rfl rfl)
theorem dX0_count_153 : decode cX0_count 153 = .ok (.ireturn, 1) := dk_172 (dk_at dksX0_count_4 21 rfl rfl)
theorem dX0_count_154 : decode cX0_count 154 = .ok (.aload_n 0, 1) := dk_42 (dk_at dksX0_count_4 22 rfl rfl)
theorem dX0_count_155 : decode cX0_count 155 = .ok (.getfield 98, 3) := dk_180 0 98 (dk_at dksX0_count_5 0 rfl rfl)
theorem dX0_count_158 : decode cX0_count 158 = .ok (.ireturn, 1) := dk_172 (dk_at dksX0_count_5 3 rfl rfl)
theorem dX0_count_159 : decode cX0_count 159 = .ok (.aload_n 0, 1) := dk_42 (dk_at dksX0_count_5 4 rfl rfl)
theorem dX0_count_160 : decode cX0_count 160 = .ok (.getfield 201, 3) := dk_180 0 201 (dk_at dksX0_count_5 5 rfl rfl)
theorem dX0_count_163 : decode cX0_count 163 = .ok (.ireturn, 1) := dk_172 (dk_at dksX0_count_5 8 rfl rfl)
theorem dX0_count_164 : decode cX0_count 164 = .ok (.aload_n 0, 1) := dk_42 (dk_at dksX0_count_5 9 rfl rfl)
theorem dX0_count_165 : decode cX0_count 165 = .ok (.getfield 7, 3) := dk_180 0 7 (dk_at dksX0_count_5 10 rfl rfl)
theorem dX0_count_168 : decode cX0_count 168 = .ok (.iconst 5, 1) := dk_8 (dk_at dksX0_count_5 13 rfl rfl)
theorem dX0_count_169 : decode cX0_count 169 = .ok (.iaload, 1) := dk_46 (dk_at dksX0_count_5 14 rfl rfl)
theorem dX0_count_170 : decode cX0_count 170 = .ok (.ireturn, 1) := dk_172 (dk_at dksX0_count_5 15 rfl rfl)
theorem dX0_count_171 : decode cX0_count 171 = .ok (.aload_n 0, 1) := dk_42 (dk_at dksX0_count_5 16 rfl rfl)
theorem dX0_count_172 : decode cX0_count 172 = .ok (.getfield 7, 3) := dk_180 0 7 (dk_at dksX0_count_5 17 rfl rfl)
theorem dX0_count_175 : decode cX0_count 175 = .ok (.bipush 6, 2) := dk_16 6 (dk_at dksX0_count_5 20 rfl rfl)
theorem dX0_count_177 : decode cX0_count 177 = .ok (.iaload, 1) := dk_46 (dk_at dksX0_count_5 22 rfl rfl)
theorem dX0_count_178 : decode cX0_count 178 = .ok (.ireturn, 1) := dk_172 (dk_at dksX0_count_5 23 rfl rfl)
theorem dX0_count_179 : decode cX0_count 179 = .ok (.aload_n 0, 1) := dk_42 (dk_at dksX0_count_6 0 rfl rfl)
theorem dX0_count_180 : decode cX0_count 180 = .ok (.getfield 31, 3) := dk_180 0 31 (dk_at dksX0_count_6 1 rfl rfl)
theorem dX0_count_183 : decode cX0_count 183 = .ok (.getfield 257, 3) := dk_180 1 1 (dk_at dksX0_count_6 4 rfl rfl)
theorem dX0_count_186 : decode cX0_count 186 = .ok (.ireturn, 1) := dk_172 (dk_at dksX0_count_6 7 rfl rfl)
theorem dX0_count_187 : decode cX0_count 187 = .ok (.iconst (-1), 1) := dk_2 (dk_at dksX0_count_6 8 rfl rfl)
theorem dX0_count_188 : decode cX0_count 188 = .ok (.ireturn, 1) := dk_172 (dk_at dksX0_count_6 9 rfl rfl)
abbrev cX0_status : ByteArray := prog_1_method_87_code
def yX0_status : MethodName := ⟨RX0, "status", "()I"⟩
theorem dX0_status_0 : decode cX0_status 0 = .ok (.aload_n 0, 1) := by decide +kernel
theorem dX0_status_1 : decode cX0_status 1 = .ok (.getfield 1, 3) := by decide +kernel
theorem dX0_status_4 : decode cX0_status 4 = .ok (.ireturn, 1) := by decide +kernel
theorem q132 : (Jvm.Cond.initialized "SoleraCellar") ∈ lw_all := lw_g (lw_at lw_m1 1 rfl) rfl
theorem q169 : (Jvm.Cond.instantiable "SoleraCellar" (26 : Nat)) ∈ lw_all := lw_g (lw_at lw_m1 38 rfl) rfl
theorem q171 : (Jvm.Cond.instanceMethod ({ cls := "SoleraCellar", name := "<init>", desc := "()V" } : Jvm.MethodName)) ∈ lw_all := lw_g (lw_at lw_m1 40 rfl) rfl
theorem q172 : (Jvm.Cond.code ({ cls := "SoleraCellar", name := "<init>", desc := "()V" } : Jvm.MethodName) prog_1_method_6_code (2 : Nat) (Option.none : Option Jvm.ClassFile.FieldType)) ∈ lw_all := lw_g (lw_at lw_m1 41 rfl) rfl
theorem q173 : (Jvm.Cond.methodLink "SoleraCellar" (22 : Nat) ({ cls := "java/lang/Object", name := "<init>", desc := "()V" } : Jvm.MethodName)) ∈ lw_all := lw_g (lw_at lw_m1 42 rfl) rfl
theorem q176 : (Jvm.Cond.classLink "SoleraCellar" (28 : Nat) "SoleraCellar$State") ∈ lw_all := lw_g (lw_at lw_m1 45 rfl) rfl
theorem q178 : (Jvm.Cond.methodLinkNest "SoleraCellar" (30 : Nat) ({ cls := "SoleraCellar$State", name := "<init>", desc := "()V" } : Jvm.MethodName) "SoleraCellar") ∈ lw_tbl := lw_at lw_m1 47 rfl
theorem q189 : (Jvm.Cond.fieldLinkNest "SoleraCellar" (140 : Nat) "SoleraCellar$Table" "drops" "[I" "SoleraCellar") ∈ lw_tbl := lw_at lw_m1 58 rfl
theorem q191 : (Jvm.Cond.fieldLinkNest "SoleraCellar" (306 : Nat) "SoleraCellar$Table" "bottled" "I" "SoleraCellar") ∈ lw_tbl := lw_at lw_m1 60 rfl
theorem q193 : (Jvm.Cond.fieldLinkNest "SoleraCellar" (186 : Nat) "SoleraCellar$Table" "year" "I" "SoleraCellar") ∈ lw_tbl := lw_at lw_m1 62 rfl
theorem q231 : (Jvm.Cond.fieldLinkNest "SoleraCellar" (95 : Nat) "SoleraCellar$State" "table" "LSoleraCellar$Table;" "SoleraCellar") ∈ lw_tbl := lw_at lw_m1 100 rfl
theorem q233 : (Jvm.Cond.fieldLinkNest "SoleraCellar" (132 : Nat) "SoleraCellar$State" "tier" "[I" "SoleraCellar") ∈ lw_tbl := lw_at lw_m1 102 rfl
theorem q235 : (Jvm.Cond.fieldLinkNest "SoleraCellar" (135 : Nat) "SoleraCellar$State" "size" "[I" "SoleraCellar") ∈ lw_tbl := lw_at lw_m1 104 rfl
theorem q237 : (Jvm.Cond.fieldLinkNest "SoleraCellar" (427 : Nat) "SoleraCellar$State" "tasted" "[I" "SoleraCellar") ∈ lw_tbl := lw_at lw_m1 106 rfl
theorem q239 : (Jvm.Cond.fieldLinkNest "SoleraCellar" (221 : Nat) "SoleraCellar$State" "laws" "Ljava/util/ArrayList;" "SoleraCellar") ∈ lw_tbl := lw_at lw_m1 108 rfl
theorem q241 : (Jvm.Cond.fieldLinkNest "SoleraCellar" (112 : Nat) "SoleraCellar$State" "plans" "Ljava/util/ArrayList;" "SoleraCellar") ∈ lw_tbl := lw_at lw_m1 110 rfl
theorem q243 : (Jvm.Cond.fieldLinkNest "SoleraCellar" (105 : Nat) "SoleraCellar$State" "casks" "I" "SoleraCellar") ∈ lw_tbl := lw_at lw_m1 112 rfl
theorem q245 : (Jvm.Cond.fieldLinkNest "SoleraCellar" (424 : Nat) "SoleraCellar$State" "tastedMany" "I" "SoleraCellar") ∈ lw_tbl := lw_at lw_m1 114 rfl
theorem q247 : (Jvm.Cond.fieldLinkNest "SoleraCellar" (189 : Nat) "SoleraCellar$State" "corked" "I" "SoleraCellar") ∈ lw_tbl := lw_at lw_m1 116 rfl
theorem q249 : (Jvm.Cond.fieldLinkNest "SoleraCellar" (192 : Nat) "SoleraCellar$State" "mood" "I" "SoleraCellar") ∈ lw_tbl := lw_at lw_m1 118 rfl
theorem q251 : (Jvm.Cond.fieldLinkNest "SoleraCellar" (161 : Nat) "SoleraCellar$State" "part" "I" "SoleraCellar") ∈ lw_tbl := lw_at lw_m1 120 rfl
theorem q253 : (Jvm.Cond.fieldLinkNest "SoleraCellar" (257 : Nat) "SoleraCellar$State" "force" "I" "SoleraCellar") ∈ lw_tbl := lw_at lw_m1 122 rfl
theorem q280 : (Jvm.Cond.classLink "SoleraCellar" (39 : Nat) "SoleraCellar$Table") ∈ lw_all := lw_g (lw_at lw_m1 149 rfl) rfl
theorem q282 : (Jvm.Cond.methodLinkNest "SoleraCellar" (54 : Nat) ({ cls := "SoleraCellar$Table", name := "<init>", desc := "()V" } : Jvm.MethodName) "SoleraCellar") ∈ lw_tbl := lw_at lw_m1 151 rfl
theorem q283 : (Jvm.Cond.classLink "SoleraCellar" (72 : Nat) "SoleraCellar$Setting") ∈ lw_all := lw_g (lw_at lw_m1 152 rfl) rfl
theorem q285 : (Jvm.Cond.methodLinkNest "SoleraCellar" (74 : Nat) ({ cls := "SoleraCellar$Setting", name := "<init>", desc := "()V" } : Jvm.MethodName) "SoleraCellar") ∈ lw_tbl := lw_at lw_m1 154 rfl
theorem q354 : (Jvm.Cond.fieldLinkNest "SoleraCellar" (262 : Nat) "SoleraCellar$Setting" "values" "[J" "SoleraCellar") ∈ lw_tbl := lw_at lw_m1 223 rfl
theorem q361 : (Jvm.Cond.fieldLink "SoleraCellar" (1 : Nat) "SoleraCellar" "status" "I") ∈ lw_all := lw_g (lw_at lw_m1 230 rfl) rfl
theorem q362 : (Jvm.Cond.fieldLink "SoleraCellar" (7 : Nat) "SoleraCellar" "refused" "[I") ∈ lw_all := lw_g (lw_at lw_m1 231 rfl) rfl
theorem q363 : (Jvm.Cond.fieldLink "SoleraCellar" (31 : Nat) "SoleraCellar" "state" "LSoleraCellar$State;") ∈ lw_all := lw_g (lw_at lw_m1 232 rfl) rfl
theorem q364 : (Jvm.Cond.fieldLink "SoleraCellar" (35 : Nat) "SoleraCellar" "images" "[LSoleraCellar$State;") ∈ lw_all := lw_g (lw_at lw_m1 233 rfl) rfl
theorem q365 : (Jvm.Cond.fieldLink "SoleraCellar" (41 : Nat) "SoleraCellar" "undone" "[LSoleraCellar$Table;") ∈ lw_all := lw_g (lw_at lw_m1 234 rfl) rfl
theorem q366 : (Jvm.Cond.fieldLink "SoleraCellar" (45 : Nat) "SoleraCellar" "ordersUndone" "[LSoleraCellar$Table;") ∈ lw_all := lw_g (lw_at lw_m1 235 rfl) rfl
theorem q367 : (Jvm.Cond.fieldLink "SoleraCellar" (48 : Nat) "SoleraCellar" "undoneWhat" "[I") ∈ lw_all := lw_g (lw_at lw_m1 236 rfl) rfl
theorem q368 : (Jvm.Cond.fieldLink "SoleraCellar" (51 : Nat) "SoleraCellar" "ordersWhat" "[I") ∈ lw_all := lw_g (lw_at lw_m1 237 rfl) rfl
theorem q369 : (Jvm.Cond.fieldLink "SoleraCellar" (55 : Nat) "SoleraCellar" "ahead" "LSoleraCellar$Table;") ∈ lw_all := lw_g (lw_at lw_m1 238 rfl) rfl
theorem q370 : (Jvm.Cond.fieldLink "SoleraCellar" (59 : Nat) "SoleraCellar" "tried" "LSoleraCellar$Table;") ∈ lw_all := lw_g (lw_at lw_m1 239 rfl) rfl
theorem q371 : (Jvm.Cond.fieldLink "SoleraCellar" (62 : Nat) "SoleraCellar" "tape" "[B") ∈ lw_all := lw_g (lw_at lw_m2 0 rfl) rfl
theorem q372 : (Jvm.Cond.fieldLink "SoleraCellar" (201 : Nat) "SoleraCellar" "taped" "I") ∈ lw_all := lw_g (lw_at lw_m2 1 rfl) rfl
theorem q373 : (Jvm.Cond.fieldLink "SoleraCellar" (66 : Nat) "SoleraCellar" "fault" "I") ∈ lw_all := lw_g (lw_at lw_m2 2 rfl) rfl
theorem q374 : (Jvm.Cond.fieldLink "SoleraCellar" (208 : Nat) "SoleraCellar" "leaks" "I") ∈ lw_all := lw_g (lw_at lw_m2 3 rfl) rfl
theorem q375 : (Jvm.Cond.fieldLink "SoleraCellar" (69 : Nat) "SoleraCellar" "stopped" "I") ∈ lw_all := lw_g (lw_at lw_m2 4 rfl) rfl
theorem q376 : (Jvm.Cond.fieldLink "SoleraCellar" (98 : Nat) "SoleraCellar" "undoMany" "I") ∈ lw_all := lw_g (lw_at lw_m2 5 rfl) rfl
theorem q377 : (Jvm.Cond.fieldLink "SoleraCellar" (75 : Nat) "SoleraCellar" "setting" "LSoleraCellar$Setting;") ∈ lw_all := lw_g (lw_at lw_m2 6 rfl) rfl
theorem q378 : (Jvm.Cond.fieldLink "SoleraCellar" (79 : Nat) "SoleraCellar" "out" "[I") ∈ lw_all := lw_g (lw_at lw_m2 7 rfl) rfl
theorem q379 : (Jvm.Cond.fieldLink "SoleraCellar" (82 : Nat) "SoleraCellar" "losing" "[I") ∈ lw_all := lw_g (lw_at lw_m2 8 rfl) rfl
theorem q380 : (Jvm.Cond.fieldLink "SoleraCellar" (395 : Nat) "SoleraCellar" "yielded" "I") ∈ lw_all := lw_g (lw_at lw_m2 9 rfl) rfl
theorem q381 : (Jvm.Cond.fieldLink "SoleraCellar" (399 : Nat) "SoleraCellar" "leastMean" "I") ∈ lw_all := lw_g (lw_at lw_m2 10 rfl) rfl
theorem q382 : (Jvm.Cond.fieldLink "SoleraCellar" (402 : Nat) "SoleraCellar" "skipped" "Z") ∈ lw_all := lw_g (lw_at lw_m2 11 rfl) rfl
theorem q383 : (Jvm.Cond.fieldLink "SoleraCellar" (85 : Nat) "SoleraCellar" "parts" "[J") ∈ lw_all := lw_g (lw_at lw_m2 12 rfl) rfl
theorem q384 : (Jvm.Cond.fieldLink "SoleraCellar" (89 : Nat) "SoleraCellar" "drawnTable" "LSoleraCellar$Table;") ∈ lw_all := lw_g (lw_at lw_m2 13 rfl) rfl
theorem q385 : (Jvm.Cond.fieldLink "SoleraCellar" (92 : Nat) "SoleraCellar" "drawnMany" "I") ∈ lw_all := lw_g (lw_at lw_m2 14 rfl) rfl
theorem q386 : (Jvm.Cond.fieldLink "SoleraCellar" (449 : Nat) "SoleraCellar" "drawn0" "I") ∈ lw_all := lw_g (lw_at lw_m2 15 rfl) rfl
theorem q387 : (Jvm.Cond.lays "SoleraCellar" "SoleraCellar" "status" "I") ∈ lw_all := lw_g (lw_at lw_m2 16 rfl) rfl
theorem q388 : (Jvm.Cond.soleField "SoleraCellar" "status") ∈ lw_all := lw_g (lw_at lw_m2 17 rfl) rfl
theorem q389 : (Jvm.Cond.laysFinal "SoleraCellar" "SoleraCellar" "refused" "[I") ∈ lw_all := lw_g (lw_at lw_m2 18 rfl) rfl
theorem q390 : (Jvm.Cond.soleField "SoleraCellar" "refused") ∈ lw_all := lw_g (lw_at lw_m2 19 rfl) rfl
theorem q391 : (Jvm.Cond.laysFinal "SoleraCellar" "SoleraCellar" "state" "LSoleraCellar$State;") ∈ lw_all := lw_g (lw_at lw_m2 20 rfl) rfl
theorem q392 : (Jvm.Cond.soleField "SoleraCellar" "state") ∈ lw_all := lw_g (lw_at lw_m2 21 rfl) rfl
theorem q393 : (Jvm.Cond.laysFinal "SoleraCellar" "SoleraCellar" "images" "[LSoleraCellar$State;") ∈ lw_all := lw_g (lw_at lw_m2 22 rfl) rfl
theorem q394 : (Jvm.Cond.soleField "SoleraCellar" "images") ∈ lw_all := lw_g (lw_at lw_m2 23 rfl) rfl
theorem q395 : (Jvm.Cond.laysFinal "SoleraCellar" "SoleraCellar" "undone" "[LSoleraCellar$Table;") ∈ lw_all := lw_g (lw_at lw_m2 24 rfl) rfl
theorem q396 : (Jvm.Cond.soleField "SoleraCellar" "undone") ∈ lw_all := lw_g (lw_at lw_m2 25 rfl) rfl
theorem q397 : (Jvm.Cond.laysFinal "SoleraCellar" "SoleraCellar" "ordersUndone" "[LSoleraCellar$Table;") ∈ lw_all := lw_g (lw_at lw_m2 26 rfl) rfl
theorem q398 : (Jvm.Cond.soleField "SoleraCellar" "ordersUndone") ∈ lw_all := lw_g (lw_at lw_m2 27 rfl) rfl
theorem q399 : (Jvm.Cond.laysFinal "SoleraCellar" "SoleraCellar" "undoneWhat" "[I") ∈ lw_all := lw_g (lw_at lw_m2 28 rfl) rfl
theorem q400 : (Jvm.Cond.soleField "SoleraCellar" "undoneWhat") ∈ lw_all := lw_g (lw_at lw_m2 29 rfl) rfl
theorem q401 : (Jvm.Cond.laysFinal "SoleraCellar" "SoleraCellar" "ordersWhat" "[I") ∈ lw_all := lw_g (lw_at lw_m2 30 rfl) rfl
theorem q402 : (Jvm.Cond.soleField "SoleraCellar" "ordersWhat") ∈ lw_all := lw_g (lw_at lw_m2 31 rfl) rfl
theorem q403 : (Jvm.Cond.laysFinal "SoleraCellar" "SoleraCellar" "ahead" "LSoleraCellar$Table;") ∈ lw_all := lw_g (lw_at lw_m2 32 rfl) rfl
theorem q404 : (Jvm.Cond.soleField "SoleraCellar" "ahead") ∈ lw_all := lw_g (lw_at lw_m2 33 rfl) rfl
theorem q405 : (Jvm.Cond.laysFinal "SoleraCellar" "SoleraCellar" "tried" "LSoleraCellar$Table;") ∈ lw_all := lw_g (lw_at lw_m2 34 rfl) rfl
theorem q406 : (Jvm.Cond.soleField "SoleraCellar" "tried") ∈ lw_all := lw_g (lw_at lw_m2 35 rfl) rfl
theorem q407 : (Jvm.Cond.laysFinal "SoleraCellar" "SoleraCellar" "tape" "[B") ∈ lw_all := lw_g (lw_at lw_m2 36 rfl) rfl
theorem q408 : (Jvm.Cond.soleField "SoleraCellar" "tape") ∈ lw_all := lw_g (lw_at lw_m2 37 rfl) rfl
theorem q409 : (Jvm.Cond.lays "SoleraCellar" "SoleraCellar" "taped" "I") ∈ lw_all := lw_g (lw_at lw_m2 38 rfl) rfl
theorem q410 : (Jvm.Cond.soleField "SoleraCellar" "taped") ∈ lw_all := lw_g (lw_at lw_m2 39 rfl) rfl
theorem q411 : (Jvm.Cond.lays "SoleraCellar" "SoleraCellar" "fault" "I") ∈ lw_all := lw_g (lw_at lw_m2 40 rfl) rfl
theorem q412 : (Jvm.Cond.soleField "SoleraCellar" "fault") ∈ lw_all := lw_g (lw_at lw_m2 41 rfl) rfl
theorem q413 : (Jvm.Cond.lays "SoleraCellar" "SoleraCellar" "leaks" "I") ∈ lw_all := lw_g (lw_at lw_m2 42 rfl) rfl
theorem q414 : (Jvm.Cond.soleField "SoleraCellar" "leaks") ∈ lw_all := lw_g (lw_at lw_m2 43 rfl) rfl
theorem q415 : (Jvm.Cond.lays "SoleraCellar" "SoleraCellar" "stopped" "I") ∈ lw_all := lw_g (lw_at lw_m2 44 rfl) rfl
theorem q416 : (Jvm.Cond.soleField "SoleraCellar" "stopped") ∈ lw_all := lw_g (lw_at lw_m2 45 rfl) rfl
theorem q417 : (Jvm.Cond.lays "SoleraCellar" "SoleraCellar" "undoMany" "I") ∈ lw_all := lw_g (lw_at lw_m2 46 rfl) rfl
theorem q418 : (Jvm.Cond.soleField "SoleraCellar" "undoMany") ∈ lw_all := lw_g (lw_at lw_m2 47 rfl) rfl
theorem q419 : (Jvm.Cond.laysFinal "SoleraCellar" "SoleraCellar" "setting" "LSoleraCellar$Setting;") ∈ lw_all := lw_g (lw_at lw_m2 48 rfl) rfl
theorem q420 : (Jvm.Cond.soleField "SoleraCellar" "setting") ∈ lw_all := lw_g (lw_at lw_m2 49 rfl) rfl
theorem q421 : (Jvm.Cond.laysFinal "SoleraCellar" "SoleraCellar" "out" "[I") ∈ lw_all := lw_g (lw_at lw_m2 50 rfl) rfl
theorem q422 : (Jvm.Cond.soleField "SoleraCellar" "out") ∈ lw_all := lw_g (lw_at lw_m2 51 rfl) rfl
theorem q423 : (Jvm.Cond.laysFinal "SoleraCellar" "SoleraCellar" "losing" "[I") ∈ lw_all := lw_g (lw_at lw_m2 52 rfl) rfl
theorem q424 : (Jvm.Cond.soleField "SoleraCellar" "losing") ∈ lw_all := lw_g (lw_at lw_m2 53 rfl) rfl
theorem q425 : (Jvm.Cond.lays "SoleraCellar" "SoleraCellar" "yielded" "I") ∈ lw_all := lw_g (lw_at lw_m2 54 rfl) rfl
theorem q426 : (Jvm.Cond.soleField "SoleraCellar" "yielded") ∈ lw_all := lw_g (lw_at lw_m2 55 rfl) rfl
theorem q427 : (Jvm.Cond.lays "SoleraCellar" "SoleraCellar" "leastMean" "I") ∈ lw_all := lw_g (lw_at lw_m2 56 rfl) rfl
theorem q428 : (Jvm.Cond.soleField "SoleraCellar" "leastMean") ∈ lw_all := lw_g (lw_at lw_m2 57 rfl) rfl
theorem q429 : (Jvm.Cond.lays "SoleraCellar" "SoleraCellar" "skipped" "Z") ∈ lw_all := lw_g (lw_at lw_m2 58 rfl) rfl
theorem q430 : (Jvm.Cond.soleField "SoleraCellar" "skipped") ∈ lw_all := lw_g (lw_at lw_m2 59 rfl) rfl
theorem q431 : (Jvm.Cond.laysFinal "SoleraCellar" "SoleraCellar" "parts" "[J") ∈ lw_all := lw_g (lw_at lw_m2 60 rfl) rfl
theorem q432 : (Jvm.Cond.soleField "SoleraCellar" "parts") ∈ lw_all := lw_g (lw_at lw_m2 61 rfl) rfl
theorem q433 : (Jvm.Cond.laysFinal "SoleraCellar" "SoleraCellar" "drawnTable" "LSoleraCellar$Table;") ∈ lw_all := lw_g (lw_at lw_m2 62 rfl) rfl
theorem q434 : (Jvm.Cond.soleField "SoleraCellar" "drawnTable") ∈ lw_all := lw_g (lw_at lw_m2 63 rfl) rfl
theorem q435 : (Jvm.Cond.lays "SoleraCellar" "SoleraCellar" "drawnMany" "I") ∈ lw_all := lw_g (lw_at lw_m2 64 rfl) rfl
theorem q436 : (Jvm.Cond.soleField "SoleraCellar" "drawnMany") ∈ lw_all := lw_g (lw_at lw_m2 65 rfl) rfl
theorem q437 : (Jvm.Cond.lays "SoleraCellar" "SoleraCellar" "drawn0" "I") ∈ lw_all := lw_g (lw_at lw_m2 66 rfl) rfl
theorem q438 : (Jvm.Cond.soleField "SoleraCellar" "drawn0") ∈ lw_all := lw_g (lw_at lw_m2 67 rfl) rfl
theorem q439 : (Jvm.Cond.superclass "SoleraCellar" "java/lang/Object") ∈ lw_all := lw_g (lw_at lw_m2 68 rfl) rfl
theorem q441 : (Jvm.Cond.instanceMethod ({ cls := "SoleraCellar", name := "image", desc := "(I)I" } : Jvm.MethodName)) ∈ lw_all := lw_g (lw_at lw_m2 70 rfl) rfl
theorem q442 : (Jvm.Cond.selects "SoleraCellar" ({ cls := "SoleraCellar", name := "image", desc := "(I)I" } : Jvm.MethodName) ({ cls := "SoleraCellar", name := "image", desc := "(I)I" } : Jvm.MethodName)) ∈ lw_all := lw_g (lw_at lw_m2 71 rfl) rfl
theorem q443 : (Jvm.Cond.code ({ cls := "SoleraCellar", name := "image", desc := "(I)I" } : Jvm.MethodName) prog_1_method_11_code (2 : Nat) (Option.some Jvm.ClassFile.FieldType.int)) ∈ lw_all := lw_g (lw_at lw_m2 72 rfl) rfl
theorem q444 : (Jvm.Cond.methodLink "SoleraCellar" (108 : Nat) ({ cls := "SoleraCellar", name := "in", desc := "(III)Z" } : Jvm.MethodName)) ∈ lw_all := lw_g (lw_at lw_m2 73 rfl) rfl
theorem q445 : (Jvm.Cond.static ({ cls := "SoleraCellar", name := "in", desc := "(III)Z" } : Jvm.MethodName)) ∈ lw_all := lw_g (lw_at lw_m2 74 rfl) rfl
theorem q446 : (Jvm.Cond.code ({ cls := "SoleraCellar", name := "in", desc := "(III)Z" } : Jvm.MethodName) prog_1_method_3_code (3 : Nat) (Option.some Jvm.ClassFile.FieldType.boolean)) ∈ lw_all := lw_g (lw_at lw_m2 75 rfl) rfl
theorem q447 : (Jvm.Cond.methodLink "SoleraCellar" (122 : Nat) ({ cls := "SoleraCellar", name := "refuse", desc := "(I)I" } : Jvm.MethodName)) ∈ lw_all := lw_g (lw_at lw_m2 76 rfl) rfl
theorem q448 : (Jvm.Cond.privateMethod ({ cls := "SoleraCellar", name := "refuse", desc := "(I)I" } : Jvm.MethodName)) ∈ lw_tbl := lw_at lw_m2 77 rfl
theorem q449 : (Jvm.Cond.instanceMethod ({ cls := "SoleraCellar", name := "refuse", desc := "(I)I" } : Jvm.MethodName)) ∈ lw_all := lw_g (lw_at lw_m2 78 rfl) rfl
theorem q450 : (Jvm.Cond.code ({ cls := "SoleraCellar", name := "refuse", desc := "(I)I" } : Jvm.MethodName) prog_1_method_1_code (2 : Nat) (Option.some Jvm.ClassFile.FieldType.int)) ∈ lw_all := lw_g (lw_at lw_m2 79 rfl) rfl
theorem q451 : (Jvm.Cond.methodLink "SoleraCellar" (125 : Nat) ({ cls := "SoleraCellar$State", name := "takes", desc := "(LSoleraCellar$State;)V" } : Jvm.MethodName)) ∈ lw_all := lw_g (lw_at lw_m2 80 rfl) rfl
theorem q487 : (Jvm.Cond.selects "SoleraCellar" ({ cls := "java/lang/Object", name := "getClass", desc := "()Ljava/lang/Class;" } : Jvm.MethodName) ({ cls := "java/lang/Object", name := "getClass", desc := "()Ljava/lang/Class;" } : Jvm.MethodName)) ∈ lw_all := lw_g (lw_at lw_m2 116 rfl) rfl
theorem q535 : (Jvm.Cond.methodLink "SoleraCellar" (101 : Nat) ({ cls := "SoleraCellar", name := "done", desc := "(I)I" } : Jvm.MethodName)) ∈ lw_all := lw_g (lw_at lw_m2 164 rfl) rfl
theorem q536 : (Jvm.Cond.privateMethod ({ cls := "SoleraCellar", name := "done", desc := "(I)I" } : Jvm.MethodName)) ∈ lw_tbl := lw_at lw_m2 165 rfl
theorem q537 : (Jvm.Cond.instanceMethod ({ cls := "SoleraCellar", name := "done", desc := "(I)I" } : Jvm.MethodName)) ∈ lw_all := lw_g (lw_at lw_m2 166 rfl) rfl
theorem q538 : (Jvm.Cond.code ({ cls := "SoleraCellar", name := "done", desc := "(I)I" } : Jvm.MethodName) prog_1_method_2_code (2 : Nat) (Option.some Jvm.ClassFile.FieldType.int)) ∈ lw_all := lw_g (lw_at lw_m2 167 rfl) rfl
theorem q540 : (Jvm.Cond.instanceMethod ({ cls := "SoleraCellar", name := "back", desc := "(I)I" } : Jvm.MethodName)) ∈ lw_all := lw_g (lw_at lw_m2 169 rfl) rfl
theorem q541 : (Jvm.Cond.selects "SoleraCellar" ({ cls := "SoleraCellar", name := "back", desc := "(I)I" } : Jvm.MethodName) ({ cls := "SoleraCellar", name := "back", desc := "(I)I" } : Jvm.MethodName)) ∈ lw_all := lw_g (lw_at lw_m2 170 rfl) rfl
theorem q542 : (Jvm.Cond.code ({ cls := "SoleraCellar", name := "back", desc := "(I)I" } : Jvm.MethodName) prog_1_method_12_code (2 : Nat) (Option.some Jvm.ClassFile.FieldType.int)) ∈ lw_all := lw_g (lw_at lw_m2 171 rfl) rfl
theorem q543 : (Jvm.Cond.methodLink "SoleraCellar" (129 : Nat) ({ cls := "SoleraCellar", name := "settles", desc := "(I)I" } : Jvm.MethodName)) ∈ lw_all := lw_g (lw_at lw_m2 172 rfl) rfl
theorem q544 : (Jvm.Cond.privateMethod ({ cls := "SoleraCellar", name := "settles", desc := "(I)I" } : Jvm.MethodName)) ∈ lw_tbl := lw_at lw_m2 173 rfl
theorem q545 : (Jvm.Cond.instanceMethod ({ cls := "SoleraCellar", name := "settles", desc := "(I)I" } : Jvm.MethodName)) ∈ lw_all := lw_g (lw_at lw_m2 174 rfl) rfl
theorem q546 : (Jvm.Cond.code ({ cls := "SoleraCellar", name := "settles", desc := "(I)I" } : Jvm.MethodName) prog_1_method_8_code (2 : Nat) (Option.some Jvm.ClassFile.FieldType.int)) ∈ lw_all := lw_g (lw_at lw_m2 175 rfl) rfl
theorem q548 : (Jvm.Cond.instanceMethod ({ cls := "SoleraCellar", name := "cask", desc := "(II)I" } : Jvm.MethodName)) ∈ lw_all := lw_g (lw_at lw_m2 177 rfl) rfl
theorem q549 : (Jvm.Cond.selects "SoleraCellar" ({ cls := "SoleraCellar", name := "cask", desc := "(II)I" } : Jvm.MethodName) ({ cls := "SoleraCellar", name := "cask", desc := "(II)I" } : Jvm.MethodName)) ∈ lw_all := lw_g (lw_at lw_m2 178 rfl) rfl
theorem q550 : (Jvm.Cond.code ({ cls := "SoleraCellar", name := "cask", desc := "(II)I" } : Jvm.MethodName) prog_1_method_15_code (3 : Nat) (Option.some Jvm.ClassFile.FieldType.int)) ∈ lw_all := lw_g (lw_at lw_m2 179 rfl) rfl
theorem q551 : (Jvm.Cond.methodLink "SoleraCellar" (143 : Nat) ({ cls := "SoleraCellar", name := "canCask", desc := "(II)Z" } : Jvm.MethodName)) ∈ lw_all := lw_g (lw_at lw_m2 180 rfl) rfl
theorem q552 : (Jvm.Cond.static ({ cls := "SoleraCellar", name := "canCask", desc := "(II)Z" } : Jvm.MethodName)) ∈ lw_all := lw_g (lw_at lw_m2 181 rfl) rfl
theorem q553 : (Jvm.Cond.code ({ cls := "SoleraCellar", name := "canCask", desc := "(II)Z" } : Jvm.MethodName) prog_1_method_13_code (2 : Nat) (Option.some Jvm.ClassFile.FieldType.boolean)) ∈ lw_all := lw_g (lw_at lw_m2 182 rfl) rfl
theorem q554 : (Jvm.Cond.methodLink "SoleraCellar" (147 : Nat) ({ cls := "SoleraCellar", name := "adds", desc := "(III)I" } : Jvm.MethodName)) ∈ lw_all := lw_g (lw_at lw_m2 183 rfl) rfl
theorem q555 : (Jvm.Cond.privateMethod ({ cls := "SoleraCellar", name := "adds", desc := "(III)I" } : Jvm.MethodName)) ∈ lw_tbl := lw_at lw_m2 184 rfl
theorem q556 : (Jvm.Cond.instanceMethod ({ cls := "SoleraCellar", name := "adds", desc := "(III)I" } : Jvm.MethodName)) ∈ lw_all := lw_g (lw_at lw_m2 185 rfl) rfl
theorem q557 : (Jvm.Cond.code ({ cls := "SoleraCellar", name := "adds", desc := "(III)I" } : Jvm.MethodName) prog_1_method_14_code (6 : Nat) (Option.some Jvm.ClassFile.FieldType.int)) ∈ lw_all := lw_g (lw_at lw_m2 186 rfl) rfl
theorem q558 : (Jvm.Cond.methodLink "SoleraCellar" (137 : Nat) ({ cls := "SoleraCellar", name := "table", desc := "()LSoleraCellar$Table;" } : Jvm.MethodName)) ∈ lw_all := lw_g (lw_at lw_m2 187 rfl) rfl
theorem q559 : (Jvm.Cond.privateMethod ({ cls := "SoleraCellar", name := "table", desc := "()LSoleraCellar$Table;" } : Jvm.MethodName)) ∈ lw_tbl := lw_at lw_m2 188 rfl
theorem q560 : (Jvm.Cond.instanceMethod ({ cls := "SoleraCellar", name := "table", desc := "()LSoleraCellar$Table;" } : Jvm.MethodName)) ∈ lw_all := lw_g (lw_at lw_m2 189 rfl) rfl
theorem q561 : (Jvm.Cond.code ({ cls := "SoleraCellar", name := "table", desc := "()LSoleraCellar$Table;" } : Jvm.MethodName) prog_1_method_7_code (1 : Nat) (Option.some (Jvm.ClassFile.FieldType.object "SoleraCellar$Table"))) ∈ lw_all := lw_g (lw_at lw_m2 190 rfl) rfl
theorem q563 : (Jvm.Cond.instanceMethod ({ cls := "SoleraCellar", name := "of", desc := "(II)I" } : Jvm.MethodName)) ∈ lw_all := lw_g (lw_at lw_m2 192 rfl) rfl
theorem q564 : (Jvm.Cond.selects "SoleraCellar" ({ cls := "SoleraCellar", name := "of", desc := "(II)I" } : Jvm.MethodName) ({ cls := "SoleraCellar", name := "of", desc := "(II)I" } : Jvm.MethodName)) ∈ lw_all := lw_g (lw_at lw_m2 193 rfl) rfl
theorem q565 : (Jvm.Cond.code ({ cls := "SoleraCellar", name := "of", desc := "(II)I" } : Jvm.MethodName) prog_1_method_16_code (4 : Nat) (Option.some Jvm.ClassFile.FieldType.int)) ∈ lw_all := lw_g (lw_at lw_m2 194 rfl) rfl
theorem q566 : (Jvm.Cond.methodLink "SoleraCellar" (151 : Nat) ({ cls := "SoleraCellar", name := "isCask", desc := "(I)Z" } : Jvm.MethodName)) ∈ lw_all := lw_g (lw_at lw_m2 195 rfl) rfl
theorem q567 : (Jvm.Cond.privateMethod ({ cls := "SoleraCellar", name := "isCask", desc := "(I)Z" } : Jvm.MethodName)) ∈ lw_tbl := lw_at lw_m2 196 rfl
theorem q568 : (Jvm.Cond.instanceMethod ({ cls := "SoleraCellar", name := "isCask", desc := "(I)Z" } : Jvm.MethodName)) ∈ lw_all := lw_g (lw_at lw_m2 197 rfl) rfl
theorem q569 : (Jvm.Cond.code ({ cls := "SoleraCellar", name := "isCask", desc := "(I)Z" } : Jvm.MethodName) prog_1_method_9_code (2 : Nat) (Option.some Jvm.ClassFile.FieldType.boolean)) ∈ lw_all := lw_g (lw_at lw_m2 198 rfl) rfl
theorem q570 : (Jvm.Cond.methodLink "SoleraCellar" (155 : Nat) ({ cls := "SoleraCellar$Table", name := "all", desc := "(I)I" } : Jvm.MethodName)) ∈ lw_all := lw_g (lw_at lw_m2 199 rfl) rfl
theorem q574 : (Jvm.Cond.methodLink "SoleraCellar" (158 : Nat) ({ cls := "SoleraCellar$Table", name := "mean", desc := "(I)I" } : Jvm.MethodName)) ∈ lw_all := lw_g (lw_at lw_m2 203 rfl) rfl
theorem q579 : (Jvm.Cond.static ({ cls := "SoleraCellar", name := "meanOf", desc := "([II)I" } : Jvm.MethodName)) ∈ lw_all := lw_g (lw_at lw_m2 208 rfl) rfl
theorem q580 : (Jvm.Cond.code ({ cls := "SoleraCellar", name := "meanOf", desc := "([II)I" } : Jvm.MethodName) prog_1_method_5_code (7 : Nat) (Option.some Jvm.ClassFile.FieldType.int)) ∈ lw_all := lw_g (lw_at lw_m2 209 rfl) rfl
theorem q581 : (Jvm.Cond.constantLong "SoleraCellar" (20 : Nat) (1000 : Int64)) ∈ lw_all := lw_g (lw_at lw_m2 210 rfl) rfl
theorem q582 : (Jvm.Cond.methodLink "SoleraCellar" (164 : Nat) ({ cls := "SoleraCellar$Table", name := "label", desc := "(II)I" } : Jvm.MethodName)) ∈ lw_all := lw_g (lw_at lw_m2 211 rfl) rfl
theorem q592 : (Jvm.Cond.methodLink "SoleraCellar" (168 : Nat) ({ cls := "SoleraCellar", name := "losesOf", desc := "(LSoleraCellar$Table;I)I" } : Jvm.MethodName)) ∈ lw_all := lw_g (lw_at lw_m2 221 rfl) rfl
theorem q593 : (Jvm.Cond.privateMethod ({ cls := "SoleraCellar", name := "losesOf", desc := "(LSoleraCellar$Table;I)I" } : Jvm.MethodName)) ∈ lw_tbl := lw_at lw_m2 222 rfl
theorem q594 : (Jvm.Cond.instanceMethod ({ cls := "SoleraCellar", name := "losesOf", desc := "(LSoleraCellar$Table;I)I" } : Jvm.MethodName)) ∈ lw_all := lw_g (lw_at lw_m2 223 rfl) rfl
theorem q595 : (Jvm.Cond.code ({ cls := "SoleraCellar", name := "losesOf", desc := "(LSoleraCellar$Table;I)I" } : Jvm.MethodName) prog_1_method_34_code (5 : Nat) (Option.some Jvm.ClassFile.FieldType.int)) ∈ lw_all := lw_g (lw_at lw_m2 224 rfl) rfl
theorem q596 : (Jvm.Cond.methodLink "SoleraCellar" (279 : Nat) ({ cls := "SoleraCellar", name := "says", desc := "(ILSoleraCellar$Table;I)J" } : Jvm.MethodName)) ∈ lw_all := lw_g (lw_at lw_m2 225 rfl) rfl
theorem q597 : (Jvm.Cond.privateMethod ({ cls := "SoleraCellar", name := "says", desc := "(ILSoleraCellar$Table;I)J" } : Jvm.MethodName)) ∈ lw_tbl := lw_at lw_m2 226 rfl
theorem q598 : (Jvm.Cond.instanceMethod ({ cls := "SoleraCellar", name := "says", desc := "(ILSoleraCellar$Table;I)J" } : Jvm.MethodName)) ∈ lw_all := lw_g (lw_at lw_m2 227 rfl) rfl
theorem q599 : (Jvm.Cond.code ({ cls := "SoleraCellar", name := "says", desc := "(ILSoleraCellar$Table;I)J" } : Jvm.MethodName) prog_1_method_33_code (5 : Nat) (Option.some Jvm.ClassFile.FieldType.long)) ∈ lw_all := lw_g (lw_at lw_m2 228 rfl) rfl
theorem q600 : (Jvm.Cond.constantLong "SoleraCellar" (260 : Nat) (-4000000000 : Int64)) ∈ lw_all := lw_g (lw_at lw_m2 229 rfl) rfl
theorem q601 : (Jvm.Cond.methodLink "SoleraCellar" (265 : Nat) ({ cls := "SoleraCellar$Table", name := "full", desc := "(I)I" } : Jvm.MethodName)) ∈ lw_all := lw_g (lw_at lw_m2 230 rfl) rfl
theorem q605 : (Jvm.Cond.methodLink "SoleraCellar" (268 : Nat) ({ cls := "SoleraCellar$Table", name := "years", desc := "(I)I" } : Jvm.MethodName)) ∈ lw_all := lw_g (lw_at lw_m2 234 rfl) rfl
theorem q610 : (Jvm.Cond.methodLink "SoleraCellar" (271 : Nat) ({ cls := "java/util/ArrayList", name := "get", desc := "(I)Ljava/lang/Object;" } : Jvm.MethodName)) ∈ lw_all := lw_g (lw_at lw_m2 239 rfl) rfl
theorem q624 : (Jvm.Cond.classLink "SoleraCellar" (233 : Nat) "SoleraCellar$Law") ∈ lw_all := lw_g (lw_at lw_m3 13 rfl) rfl
theorem q625 : (Jvm.Cond.methodLink "SoleraCellar" (275 : Nat) ({ cls := "SoleraCellar$Law", name := "told", desc := "(ILSoleraCellar$Setting;)J" } : Jvm.MethodName)) ∈ lw_all := lw_g (lw_at lw_m3 14 rfl) rfl
theorem q675 : (Jvm.Cond.methodLink "SoleraCellar" (283 : Nat) ({ cls := "SoleraCellar", name := "within", desc := "(JI)I" } : Jvm.MethodName)) ∈ lw_all := lw_g (lw_at lw_m3 64 rfl) rfl
theorem q676 : (Jvm.Cond.static ({ cls := "SoleraCellar", name := "within", desc := "(JI)I" } : Jvm.MethodName)) ∈ lw_all := lw_g (lw_at lw_m3 65 rfl) rfl
theorem q677 : (Jvm.Cond.code ({ cls := "SoleraCellar", name := "within", desc := "(JI)I" } : Jvm.MethodName) prog_1_method_4_code (3 : Nat) (Option.some Jvm.ClassFile.FieldType.int)) ∈ lw_all := lw_g (lw_at lw_m3 66 rfl) rfl
theorem q678 : (Jvm.Cond.methodLink "SoleraCellar" (11 : Nat) ({ cls := "java/lang/Math", name := "min", desc := "(JJ)J" } : Jvm.MethodName)) ∈ lw_all := lw_g (lw_at lw_m3 67 rfl) rfl
theorem q681 : (Jvm.Cond.methodLink "SoleraCellar" (17 : Nat) ({ cls := "java/lang/Math", name := "max", desc := "(JJ)J" } : Jvm.MethodName)) ∈ lw_all := lw_g (lw_at lw_m3 70 rfl) rfl
theorem q684 : (Jvm.Cond.methodLink "SoleraCellar" (172 : Nat) ({ cls := "SoleraCellar", name := "yieldOf", desc := "(LSoleraCellar$Table;I)I" } : Jvm.MethodName)) ∈ lw_all := lw_g (lw_at lw_m3 73 rfl) rfl
theorem q685 : (Jvm.Cond.privateMethod ({ cls := "SoleraCellar", name := "yieldOf", desc := "(LSoleraCellar$Table;I)I" } : Jvm.MethodName)) ∈ lw_tbl := lw_at lw_m3 74 rfl
theorem q686 : (Jvm.Cond.instanceMethod ({ cls := "SoleraCellar", name := "yieldOf", desc := "(LSoleraCellar$Table;I)I" } : Jvm.MethodName)) ∈ lw_all := lw_g (lw_at lw_m3 75 rfl) rfl
theorem q687 : (Jvm.Cond.code ({ cls := "SoleraCellar", name := "yieldOf", desc := "(LSoleraCellar$Table;I)I" } : Jvm.MethodName) prog_1_method_35_code (5 : Nat) (Option.some Jvm.ClassFile.FieldType.int)) ∈ lw_all := lw_g (lw_at lw_m3 76 rfl) rfl
theorem q688 : (Jvm.Cond.methodLink "SoleraCellar" (175 : Nat) ({ cls := "SoleraCellar", name := "isBarred", desc := "(LSoleraCellar$Table;I)Z" } : Jvm.MethodName)) ∈ lw_all := lw_g (lw_at lw_m3 77 rfl) rfl
theorem q689 : (Jvm.Cond.privateMethod ({ cls := "SoleraCellar", name := "isBarred", desc := "(LSoleraCellar$Table;I)Z" } : Jvm.MethodName)) ∈ lw_tbl := lw_at lw_m3 78 rfl
theorem q690 : (Jvm.Cond.instanceMethod ({ cls := "SoleraCellar", name := "isBarred", desc := "(LSoleraCellar$Table;I)Z" } : Jvm.MethodName)) ∈ lw_all := lw_g (lw_at lw_m3 79 rfl) rfl
theorem q691 : (Jvm.Cond.code ({ cls := "SoleraCellar", name := "isBarred", desc := "(LSoleraCellar$Table;I)Z" } : Jvm.MethodName) prog_1_method_36_code (3 : Nat) (Option.some Jvm.ClassFile.FieldType.boolean)) ∈ lw_all := lw_g (lw_at lw_m3 80 rfl) rfl
theorem q693 : (Jvm.Cond.instanceMethod ({ cls := "SoleraCellar", name := "old", desc := "(II)J" } : Jvm.MethodName)) ∈ lw_all := lw_g (lw_at lw_m3 82 rfl) rfl
theorem q694 : (Jvm.Cond.selects "SoleraCellar" ({ cls := "SoleraCellar", name := "old", desc := "(II)J" } : Jvm.MethodName) ({ cls := "SoleraCellar", name := "old", desc := "(II)J" } : Jvm.MethodName)) ∈ lw_all := lw_g (lw_at lw_m3 83 rfl) rfl
theorem q695 : (Jvm.Cond.code ({ cls := "SoleraCellar", name := "old", desc := "(II)J" } : Jvm.MethodName) prog_1_method_17_code (3 : Nat) (Option.some Jvm.ClassFile.FieldType.long)) ∈ lw_all := lw_g (lw_at lw_m3 84 rfl) rfl
theorem q696 : (Jvm.Cond.constantLong "SoleraCellar" (179 : Nat) (-1 : Int64)) ∈ lw_all := lw_g (lw_at lw_m3 85 rfl) rfl
theorem q697 : (Jvm.Cond.methodLink "SoleraCellar" (181 : Nat) ({ cls := "SoleraCellar$Table", name := "older", desc := "(II)I" } : Jvm.MethodName)) ∈ lw_all := lw_g (lw_at lw_m3 86 rfl) rfl
theorem q698 : (Jvm.Cond.constantLong "SoleraCellar" (184 : Nat) (1000000000000 : Int64)) ∈ lw_all := lw_g (lw_at lw_m3 87 rfl) rfl
theorem q700 : (Jvm.Cond.instanceMethod ({ cls := "SoleraCellar", name := "terms", desc := "(II)I" } : Jvm.MethodName)) ∈ lw_all := lw_g (lw_at lw_m3 89 rfl) rfl
theorem q701 : (Jvm.Cond.selects "SoleraCellar" ({ cls := "SoleraCellar", name := "terms", desc := "(II)I" } : Jvm.MethodName) ({ cls := "SoleraCellar", name := "terms", desc := "(II)I" } : Jvm.MethodName)) ∈ lw_all := lw_g (lw_at lw_m3 90 rfl) rfl
theorem q702 : (Jvm.Cond.code ({ cls := "SoleraCellar", name := "terms", desc := "(II)I" } : Jvm.MethodName) prog_1_method_20_code (4 : Nat) (Option.some Jvm.ClassFile.FieldType.int)) ∈ lw_all := lw_g (lw_at lw_m3 91 rfl) rfl
theorem q703 : (Jvm.Cond.methodLink "SoleraCellar" (195 : Nat) ({ cls := "SoleraCellar", name := "isTerm", desc := "(II)Z" } : Jvm.MethodName)) ∈ lw_all := lw_g (lw_at lw_m3 92 rfl) rfl
theorem q704 : (Jvm.Cond.static ({ cls := "SoleraCellar", name := "isTerm", desc := "(II)Z" } : Jvm.MethodName)) ∈ lw_all := lw_g (lw_at lw_m3 93 rfl) rfl
theorem q705 : (Jvm.Cond.code ({ cls := "SoleraCellar", name := "isTerm", desc := "(II)Z" } : Jvm.MethodName) prog_1_method_18_code (2 : Nat) (Option.some Jvm.ClassFile.FieldType.boolean)) ∈ lw_all := lw_g (lw_at lw_m3 94 rfl) rfl
theorem q706 : (Jvm.Cond.methodLink "SoleraCellar" (198 : Nat) ({ cls := "SoleraCellar", name := "termNow", desc := "(I)I" } : Jvm.MethodName)) ∈ lw_all := lw_g (lw_at lw_m3 95 rfl) rfl
theorem q707 : (Jvm.Cond.privateMethod ({ cls := "SoleraCellar", name := "termNow", desc := "(I)I" } : Jvm.MethodName)) ∈ lw_tbl := lw_at lw_m3 96 rfl
theorem q708 : (Jvm.Cond.instanceMethod ({ cls := "SoleraCellar", name := "termNow", desc := "(I)I" } : Jvm.MethodName)) ∈ lw_all := lw_g (lw_at lw_m3 97 rfl) rfl
theorem q709 : (Jvm.Cond.code ({ cls := "SoleraCellar", name := "termNow", desc := "(I)I" } : Jvm.MethodName) prog_1_method_19_code (2 : Nat) (Option.some Jvm.ClassFile.FieldType.int)) ∈ lw_all := lw_g (lw_at lw_m3 98 rfl) rfl
theorem q711 : (Jvm.Cond.instanceMethod ({ cls := "SoleraCellar", name := "feed", desc := "(IIIII)I" } : Jvm.MethodName)) ∈ lw_all := lw_g (lw_at lw_m3 100 rfl) rfl
theorem q712 : (Jvm.Cond.selects "SoleraCellar" ({ cls := "SoleraCellar", name := "feed", desc := "(IIIII)I" } : Jvm.MethodName) ({ cls := "SoleraCellar", name := "feed", desc := "(IIIII)I" } : Jvm.MethodName)) ∈ lw_all := lw_g (lw_at lw_m3 101 rfl) rfl
theorem q713 : (Jvm.Cond.code ({ cls := "SoleraCellar", name := "feed", desc := "(IIIII)I" } : Jvm.MethodName) prog_1_method_21_code (6 : Nat) (Option.some Jvm.ClassFile.FieldType.int)) ∈ lw_all := lw_g (lw_at lw_m3 102 rfl) rfl
theorem q714 : (Jvm.Cond.methodLink "SoleraCellar" (204 : Nat) ({ cls := "SoleraCellar", name := "four", desc := "(I)V" } : Jvm.MethodName)) ∈ lw_all := lw_g (lw_at lw_m3 103 rfl) rfl
theorem q715 : (Jvm.Cond.privateMethod ({ cls := "SoleraCellar", name := "four", desc := "(I)V" } : Jvm.MethodName)) ∈ lw_tbl := lw_at lw_m3 104 rfl
theorem q716 : (Jvm.Cond.instanceMethod ({ cls := "SoleraCellar", name := "four", desc := "(I)V" } : Jvm.MethodName)) ∈ lw_all := lw_g (lw_at lw_m3 105 rfl) rfl
theorem q717 : (Jvm.Cond.code ({ cls := "SoleraCellar", name := "four", desc := "(I)V" } : Jvm.MethodName) prog_1_method_22_code (3 : Nat) (Option.none : Option Jvm.ClassFile.FieldType)) ∈ lw_all := lw_g (lw_at lw_m3 106 rfl) rfl
theorem q719 : (Jvm.Cond.instanceMethod ({ cls := "SoleraCellar", name := "end", desc := "(I)I" } : Jvm.MethodName)) ∈ lw_all := lw_g (lw_at lw_m3 108 rfl) rfl
theorem q720 : (Jvm.Cond.selects "SoleraCellar" ({ cls := "SoleraCellar", name := "end", desc := "(I)I" } : Jvm.MethodName) ({ cls := "SoleraCellar", name := "end", desc := "(I)I" } : Jvm.MethodName)) ∈ lw_all := lw_g (lw_at lw_m3 109 rfl) rfl
theorem q721 : (Jvm.Cond.code ({ cls := "SoleraCellar", name := "end", desc := "(I)I" } : Jvm.MethodName) prog_1_method_23_code (2 : Nat) (Option.some Jvm.ClassFile.FieldType.int)) ∈ lw_all := lw_g (lw_at lw_m3 110 rfl) rfl
theorem q723 : (Jvm.Cond.instanceMethod ({ cls := "SoleraCellar", name := "row", desc := "()I" } : Jvm.MethodName)) ∈ lw_all := lw_g (lw_at lw_m3 112 rfl) rfl
theorem q724 : (Jvm.Cond.selects "SoleraCellar" ({ cls := "SoleraCellar", name := "row", desc := "()I" } : Jvm.MethodName) ({ cls := "SoleraCellar", name := "row", desc := "()I" } : Jvm.MethodName)) ∈ lw_all := lw_g (lw_at lw_m3 113 rfl) rfl
theorem q725 : (Jvm.Cond.code ({ cls := "SoleraCellar", name := "row", desc := "()I" } : Jvm.MethodName) prog_1_method_24_code (7 : Nat) (Option.some Jvm.ClassFile.FieldType.int)) ∈ lw_all := lw_g (lw_at lw_m3 114 rfl) rfl
theorem q727 : (Jvm.Cond.instanceMethod ({ cls := "SoleraCellar", name := "leaks", desc := "()I" } : Jvm.MethodName)) ∈ lw_all := lw_g (lw_at lw_m3 116 rfl) rfl
theorem q728 : (Jvm.Cond.selects "SoleraCellar" ({ cls := "SoleraCellar", name := "leaks", desc := "()I" } : Jvm.MethodName) ({ cls := "SoleraCellar", name := "leaks", desc := "()I" } : Jvm.MethodName)) ∈ lw_all := lw_g (lw_at lw_m3 117 rfl) rfl
theorem q729 : (Jvm.Cond.code ({ cls := "SoleraCellar", name := "leaks", desc := "()I" } : Jvm.MethodName) prog_1_method_25_code (1 : Nat) (Option.some Jvm.ClassFile.FieldType.int)) ∈ lw_all := lw_g (lw_at lw_m3 118 rfl) rfl
theorem q731 : (Jvm.Cond.instanceMethod ({ cls := "SoleraCellar", name := "law", desc := "()I" } : Jvm.MethodName)) ∈ lw_all := lw_g (lw_at lw_m3 120 rfl) rfl
theorem q732 : (Jvm.Cond.selects "SoleraCellar" ({ cls := "SoleraCellar", name := "law", desc := "()I" } : Jvm.MethodName) ({ cls := "SoleraCellar", name := "law", desc := "()I" } : Jvm.MethodName)) ∈ lw_all := lw_g (lw_at lw_m3 121 rfl) rfl
theorem q733 : (Jvm.Cond.code ({ cls := "SoleraCellar", name := "law", desc := "()I" } : Jvm.MethodName) prog_1_method_27_code (3 : Nat) (Option.some Jvm.ClassFile.FieldType.int)) ∈ lw_all := lw_g (lw_at lw_m3 122 rfl) rfl
theorem q734 : (Jvm.Cond.methodLink "SoleraCellar" (116 : Nat) ({ cls := "java/util/ArrayList", name := "size", desc := "()I" } : Jvm.MethodName)) ∈ lw_all := lw_g (lw_at lw_m3 123 rfl) rfl
theorem q735 : (Jvm.Cond.classLink "SoleraCellar" (224 : Nat) "SoleraCellar$LawReader") ∈ lw_all := lw_g (lw_at lw_m3 124 rfl) rfl
theorem q737 : (Jvm.Cond.methodLink "SoleraCellar" (226 : Nat) ({ cls := "SoleraCellar$LawReader", name := "<init>", desc := "([BI)V" } : Jvm.MethodName)) ∈ lw_all := lw_g (lw_at lw_m3 126 rfl) rfl
theorem q747 : (Jvm.Cond.fieldLinkNest "SoleraCellar" (235 : Nat) "SoleraCellar$LawReader" "clauses" "Ljava/util/ArrayList;" "SoleraCellar") ∈ lw_tbl := lw_at lw_m3 136 rfl
theorem q772 : (Jvm.Cond.methodLink "SoleraCellar" (229 : Nat) ({ cls := "SoleraCellar", name := "reads", desc := "(LSoleraCellar$Reader;)Z" } : Jvm.MethodName)) ∈ lw_all := lw_g (lw_at lw_m3 161 rfl) rfl
theorem q773 : (Jvm.Cond.privateMethod ({ cls := "SoleraCellar", name := "reads", desc := "(LSoleraCellar$Reader;)Z" } : Jvm.MethodName)) ∈ lw_tbl := lw_at lw_m3 162 rfl
theorem q774 : (Jvm.Cond.instanceMethod ({ cls := "SoleraCellar", name := "reads", desc := "(LSoleraCellar$Reader;)Z" } : Jvm.MethodName)) ∈ lw_all := lw_g (lw_at lw_m3 163 rfl) rfl
theorem q775 : (Jvm.Cond.codeWith ({ cls := "SoleraCellar", name := "reads", desc := "(LSoleraCellar$Reader;)Z" } : Jvm.MethodName) prog_1_method_26_code (3 : Nat) (Option.some Jvm.ClassFile.FieldType.boolean) [((0 : Nat), (4 : Nat), (7 : Nat), (216 : Nat))]) ∈ lw_all := lw_g (lw_at lw_m3 164 rfl) rfl
theorem q776 : (Jvm.Cond.classLink "SoleraCellar" (216 : Nat) "SoleraCellar$Fault") ∈ lw_all := lw_g (lw_at lw_m3 165 rfl) rfl
theorem q777 : (Jvm.Cond.methodLink "SoleraCellar" (211 : Nat) ({ cls := "SoleraCellar$Reader", name := "read", desc := "()V" } : Jvm.MethodName)) ∈ lw_all := lw_g (lw_at lw_m3 166 rfl) rfl
theorem q876 : (Jvm.Cond.fieldLinkNest "SoleraCellar" (218 : Nat) "SoleraCellar$Fault" "place" "I" "SoleraCellar") ∈ lw_tbl := lw_at lw_m4 25 rfl
theorem q1157 : (Jvm.Cond.fieldLinkNest "SoleraCellar" (389 : Nat) "SoleraCellar$Order" "head" "I" "SoleraCellar") ∈ lw_tbl := lw_at lw_m5 66 rfl
theorem q1162 : (Jvm.Cond.fieldLinkNest "SoleraCellar" (371 : Nat) "SoleraCellar$Order" "times" "I" "SoleraCellar") ∈ lw_tbl := lw_at lw_m5 71 rfl
theorem q1196 : (Jvm.Cond.methodLink "SoleraCellar" (238 : Nat) ({ cls := "SoleraCellar$Law", name := "<init>", desc := "(Ljava/util/ArrayList;)V" } : Jvm.MethodName)) ∈ lw_all := lw_g (lw_at lw_m5 105 rfl) rfl
theorem q1204 : (Jvm.Cond.methodLink "SoleraCellar" (241 : Nat) ({ cls := "java/util/ArrayList", name := "add", desc := "(Ljava/lang/Object;)Z" } : Jvm.MethodName)) ∈ lw_all := lw_g (lw_at lw_m5 113 rfl) rfl
theorem q1206 : (Jvm.Cond.instanceMethod ({ cls := "SoleraCellar", name := "plan", desc := "()I" } : Jvm.MethodName)) ∈ lw_all := lw_g (lw_at lw_m5 115 rfl) rfl
theorem q1207 : (Jvm.Cond.selects "SoleraCellar" ({ cls := "SoleraCellar", name := "plan", desc := "()I" } : Jvm.MethodName) ({ cls := "SoleraCellar", name := "plan", desc := "()I" } : Jvm.MethodName)) ∈ lw_all := lw_g (lw_at lw_m5 116 rfl) rfl
theorem q1208 : (Jvm.Cond.code ({ cls := "SoleraCellar", name := "plan", desc := "()I" } : Jvm.MethodName) prog_1_method_28_code (3 : Nat) (Option.some Jvm.ClassFile.FieldType.int)) ∈ lw_all := lw_g (lw_at lw_m5 117 rfl) rfl
theorem q1209 : (Jvm.Cond.classLink "SoleraCellar" (245 : Nat) "SoleraCellar$OrderReader") ∈ lw_all := lw_g (lw_at lw_m5 118 rfl) rfl
theorem q1211 : (Jvm.Cond.methodLink "SoleraCellar" (247 : Nat) ({ cls := "SoleraCellar$OrderReader", name := "<init>", desc := "([BI)V" } : Jvm.MethodName)) ∈ lw_all := lw_g (lw_at lw_m5 120 rfl) rfl
theorem q1218 : (Jvm.Cond.fieldLinkNest "SoleraCellar" (250 : Nat) "SoleraCellar$OrderReader" "orders" "Ljava/util/ArrayList;" "SoleraCellar") ∈ lw_tbl := lw_at lw_m5 127 rfl
theorem q1229 : (Jvm.Cond.classLink "SoleraCellar" (248 : Nat) "SoleraCellar$Plan") ∈ lw_all := lw_g (lw_at lw_m5 138 rfl) rfl
theorem q1231 : (Jvm.Cond.methodLink "SoleraCellar" (253 : Nat) ({ cls := "SoleraCellar$Plan", name := "<init>", desc := "(Ljava/util/ArrayList;)V" } : Jvm.MethodName)) ∈ lw_all := lw_g (lw_at lw_m5 140 rfl) rfl
theorem q1236 : (Jvm.Cond.fieldLinkNest "SoleraCellar" (406 : Nat) "SoleraCellar$Plan" "orders" "Ljava/util/ArrayList;" "SoleraCellar") ∈ lw_tbl := lw_at lw_m5 145 rfl
theorem q1241 : (Jvm.Cond.instanceMethod ({ cls := "SoleraCellar", name := "fault", desc := "()I" } : Jvm.MethodName)) ∈ lw_all := lw_g (lw_at lw_m5 150 rfl) rfl
theorem q1242 : (Jvm.Cond.selects "SoleraCellar" ({ cls := "SoleraCellar", name := "fault", desc := "()I" } : Jvm.MethodName) ({ cls := "SoleraCellar", name := "fault", desc := "()I" } : Jvm.MethodName)) ∈ lw_all := lw_g (lw_at lw_m5 151 rfl) rfl
theorem q1243 : (Jvm.Cond.code ({ cls := "SoleraCellar", name := "fault", desc := "()I" } : Jvm.MethodName) prog_1_method_29_code (1 : Nat) (Option.some Jvm.ClassFile.FieldType.int)) ∈ lw_all := lw_g (lw_at lw_m5 152 rfl) rfl
theorem q1245 : (Jvm.Cond.instanceMethod ({ cls := "SoleraCellar", name := "stopped", desc := "()I" } : Jvm.MethodName)) ∈ lw_all := lw_g (lw_at lw_m5 154 rfl) rfl
theorem q1246 : (Jvm.Cond.selects "SoleraCellar" ({ cls := "SoleraCellar", name := "stopped", desc := "()I" } : Jvm.MethodName) ({ cls := "SoleraCellar", name := "stopped", desc := "()I" } : Jvm.MethodName)) ∈ lw_all := lw_g (lw_at lw_m5 155 rfl) rfl
theorem q1247 : (Jvm.Cond.code ({ cls := "SoleraCellar", name := "stopped", desc := "()I" } : Jvm.MethodName) prog_1_method_30_code (1 : Nat) (Option.some Jvm.ClassFile.FieldType.int)) ∈ lw_all := lw_g (lw_at lw_m5 156 rfl) rfl
theorem q1249 : (Jvm.Cond.instanceMethod ({ cls := "SoleraCellar", name := "force", desc := "(I)I" } : Jvm.MethodName)) ∈ lw_all := lw_g (lw_at lw_m5 158 rfl) rfl
theorem q1250 : (Jvm.Cond.selects "SoleraCellar" ({ cls := "SoleraCellar", name := "force", desc := "(I)I" } : Jvm.MethodName) ({ cls := "SoleraCellar", name := "force", desc := "(I)I" } : Jvm.MethodName)) ∈ lw_all := lw_g (lw_at lw_m5 159 rfl) rfl
theorem q1251 : (Jvm.Cond.code ({ cls := "SoleraCellar", name := "force", desc := "(I)I" } : Jvm.MethodName) prog_1_method_32_code (3 : Nat) (Option.some Jvm.ClassFile.FieldType.int)) ∈ lw_all := lw_g (lw_at lw_m5 160 rfl) rfl
theorem q1252 : (Jvm.Cond.methodLink "SoleraCellar" (254 : Nat) ({ cls := "SoleraCellar", name := "isLaw", desc := "(I)Z" } : Jvm.MethodName)) ∈ lw_all := lw_g (lw_at lw_m5 161 rfl) rfl
theorem q1253 : (Jvm.Cond.privateMethod ({ cls := "SoleraCellar", name := "isLaw", desc := "(I)Z" } : Jvm.MethodName)) ∈ lw_tbl := lw_at lw_m5 162 rfl
theorem q1254 : (Jvm.Cond.instanceMethod ({ cls := "SoleraCellar", name := "isLaw", desc := "(I)Z" } : Jvm.MethodName)) ∈ lw_all := lw_g (lw_at lw_m5 163 rfl) rfl
theorem q1255 : (Jvm.Cond.code ({ cls := "SoleraCellar", name := "isLaw", desc := "(I)Z" } : Jvm.MethodName) prog_1_method_31_code (2 : Nat) (Option.some Jvm.ClassFile.FieldType.boolean)) ∈ lw_all := lw_g (lw_at lw_m5 164 rfl) rfl
theorem q1257 : (Jvm.Cond.instanceMethod ({ cls := "SoleraCellar", name := "pour", desc := "(II)I" } : Jvm.MethodName)) ∈ lw_all := lw_g (lw_at lw_m5 166 rfl) rfl
theorem q1258 : (Jvm.Cond.selects "SoleraCellar" ({ cls := "SoleraCellar", name := "pour", desc := "(II)I" } : Jvm.MethodName) ({ cls := "SoleraCellar", name := "pour", desc := "(II)I" } : Jvm.MethodName)) ∈ lw_all := lw_g (lw_at lw_m5 167 rfl) rfl
theorem q1259 : (Jvm.Cond.code ({ cls := "SoleraCellar", name := "pour", desc := "(II)I" } : Jvm.MethodName) prog_1_method_54_code (3 : Nat) (Option.some Jvm.ClassFile.FieldType.int)) ∈ lw_all := lw_g (lw_at lw_m5 168 rfl) rfl
theorem q1260 : (Jvm.Cond.methodLink "SoleraCellar" (348 : Nat) ({ cls := "SoleraCellar", name := "poursKept", desc := "(II)I" } : Jvm.MethodName)) ∈ lw_all := lw_g (lw_at lw_m5 169 rfl) rfl
theorem q1261 : (Jvm.Cond.privateMethod ({ cls := "SoleraCellar", name := "poursKept", desc := "(II)I" } : Jvm.MethodName)) ∈ lw_tbl := lw_at lw_m5 170 rfl
theorem q1262 : (Jvm.Cond.instanceMethod ({ cls := "SoleraCellar", name := "poursKept", desc := "(II)I" } : Jvm.MethodName)) ∈ lw_all := lw_g (lw_at lw_m5 171 rfl) rfl
theorem q1263 : (Jvm.Cond.code ({ cls := "SoleraCellar", name := "poursKept", desc := "(II)I" } : Jvm.MethodName) prog_1_method_49_code (4 : Nat) (Option.some Jvm.ClassFile.FieldType.int)) ∈ lw_all := lw_g (lw_at lw_m5 172 rfl) rfl
theorem q1264 : (Jvm.Cond.methodLink "SoleraCellar" (321 : Nat) ({ cls := "SoleraCellar", name := "canPour", desc := "(LSoleraCellar$Table;II)I" } : Jvm.MethodName)) ∈ lw_all := lw_g (lw_at lw_m5 173 rfl) rfl
theorem q1265 : (Jvm.Cond.privateMethod ({ cls := "SoleraCellar", name := "canPour", desc := "(LSoleraCellar$Table;II)I" } : Jvm.MethodName)) ∈ lw_tbl := lw_at lw_m5 174 rfl
theorem q1266 : (Jvm.Cond.instanceMethod ({ cls := "SoleraCellar", name := "canPour", desc := "(LSoleraCellar$Table;II)I" } : Jvm.MethodName)) ∈ lw_all := lw_g (lw_at lw_m5 175 rfl) rfl
theorem q1267 : (Jvm.Cond.code ({ cls := "SoleraCellar", name := "canPour", desc := "(LSoleraCellar$Table;II)I" } : Jvm.MethodName) prog_1_method_41_code (5 : Nat) (Option.some Jvm.ClassFile.FieldType.int)) ∈ lw_all := lw_g (lw_at lw_m5 176 rfl) rfl
theorem q1268 : (Jvm.Cond.methodLink "SoleraCellar" (287 : Nat) ({ cls := "SoleraCellar", name := "checks", desc := "(II)I" } : Jvm.MethodName)) ∈ lw_all := lw_g (lw_at lw_m5 177 rfl) rfl
theorem q1269 : (Jvm.Cond.privateMethod ({ cls := "SoleraCellar", name := "checks", desc := "(II)I" } : Jvm.MethodName)) ∈ lw_tbl := lw_at lw_m5 178 rfl
theorem q1270 : (Jvm.Cond.instanceMethod ({ cls := "SoleraCellar", name := "checks", desc := "(II)I" } : Jvm.MethodName)) ∈ lw_all := lw_g (lw_at lw_m5 179 rfl) rfl
theorem q1271 : (Jvm.Cond.code ({ cls := "SoleraCellar", name := "checks", desc := "(II)I" } : Jvm.MethodName) prog_1_method_40_code (3 : Nat) (Option.some Jvm.ClassFile.FieldType.int)) ∈ lw_all := lw_g (lw_at lw_m5 180 rfl) rfl
theorem q1272 : (Jvm.Cond.methodLink "SoleraCellar" (290 : Nat) ({ cls := "SoleraCellar", name := "hasRoom", desc := "(LSoleraCellar$Table;II)Z" } : Jvm.MethodName)) ∈ lw_all := lw_g (lw_at lw_m5 181 rfl) rfl
theorem q1273 : (Jvm.Cond.privateMethod ({ cls := "SoleraCellar", name := "hasRoom", desc := "(LSoleraCellar$Table;II)Z" } : Jvm.MethodName)) ∈ lw_tbl := lw_at lw_m5 182 rfl
theorem q1274 : (Jvm.Cond.instanceMethod ({ cls := "SoleraCellar", name := "hasRoom", desc := "(LSoleraCellar$Table;II)Z" } : Jvm.MethodName)) ∈ lw_all := lw_g (lw_at lw_m5 183 rfl) rfl
theorem q1275 : (Jvm.Cond.code ({ cls := "SoleraCellar", name := "hasRoom", desc := "(LSoleraCellar$Table;II)Z" } : Jvm.MethodName) prog_1_method_38_code (4 : Nat) (Option.some Jvm.ClassFile.FieldType.boolean)) ∈ lw_all := lw_g (lw_at lw_m5 184 rfl) rfl
theorem q1276 : (Jvm.Cond.methodLink "SoleraCellar" (325 : Nat) ({ cls := "SoleraCellar", name := "keeps", desc := "(I)V" } : Jvm.MethodName)) ∈ lw_all := lw_g (lw_at lw_m5 185 rfl) rfl
theorem q1277 : (Jvm.Cond.privateMethod ({ cls := "SoleraCellar", name := "keeps", desc := "(I)V" } : Jvm.MethodName)) ∈ lw_tbl := lw_at lw_m5 186 rfl
theorem q1278 : (Jvm.Cond.instanceMethod ({ cls := "SoleraCellar", name := "keeps", desc := "(I)V" } : Jvm.MethodName)) ∈ lw_all := lw_g (lw_at lw_m5 187 rfl) rfl
theorem q1279 : (Jvm.Cond.code ({ cls := "SoleraCellar", name := "keeps", desc := "(I)V" } : Jvm.MethodName) prog_1_method_48_code (4 : Nat) (Option.none : Option Jvm.ClassFile.FieldType)) ∈ lw_all := lw_g (lw_at lw_m5 188 rfl) rfl
theorem q1280 : (Jvm.Cond.methodLink "SoleraCellar" (318 : Nat) ({ cls := "SoleraCellar$Table", name := "takes", desc := "(LSoleraCellar$Table;)V" } : Jvm.MethodName)) ∈ lw_all := lw_g (lw_at lw_m5 189 rfl) rfl
theorem q1281 : (Jvm.Cond.methodLink "SoleraCellar" (328 : Nat) ({ cls := "SoleraCellar", name := "pours", desc := "(LSoleraCellar$Table;II)I" } : Jvm.MethodName)) ∈ lw_all := lw_g (lw_at lw_m5 190 rfl) rfl
theorem q1282 : (Jvm.Cond.privateMethod ({ cls := "SoleraCellar", name := "pours", desc := "(LSoleraCellar$Table;II)I" } : Jvm.MethodName)) ∈ lw_tbl := lw_at lw_m5 191 rfl
theorem q1283 : (Jvm.Cond.instanceMethod ({ cls := "SoleraCellar", name := "pours", desc := "(LSoleraCellar$Table;II)I" } : Jvm.MethodName)) ∈ lw_all := lw_g (lw_at lw_m5 192 rfl) rfl
theorem q1284 : (Jvm.Cond.code ({ cls := "SoleraCellar", name := "pours", desc := "(LSoleraCellar$Table;II)I" } : Jvm.MethodName) prog_1_method_44_code (4 : Nat) (Option.some Jvm.ClassFile.FieldType.int)) ∈ lw_all := lw_g (lw_at lw_m5 193 rfl) rfl
theorem q1285 : (Jvm.Cond.methodLink "SoleraCellar" (351 : Nat) ({ cls := "SoleraCellar", name := "doneOr", desc := "(I)I" } : Jvm.MethodName)) ∈ lw_all := lw_g (lw_at lw_m5 194 rfl) rfl
theorem q1286 : (Jvm.Cond.privateMethod ({ cls := "SoleraCellar", name := "doneOr", desc := "(I)I" } : Jvm.MethodName)) ∈ lw_tbl := lw_at lw_m5 195 rfl
theorem q1287 : (Jvm.Cond.instanceMethod ({ cls := "SoleraCellar", name := "doneOr", desc := "(I)I" } : Jvm.MethodName)) ∈ lw_all := lw_g (lw_at lw_m5 196 rfl) rfl
theorem q1288 : (Jvm.Cond.code ({ cls := "SoleraCellar", name := "doneOr", desc := "(I)I" } : Jvm.MethodName) prog_1_method_53_code (2 : Nat) (Option.some Jvm.ClassFile.FieldType.int)) ∈ lw_all := lw_g (lw_at lw_m5 197 rfl) rfl
theorem q1290 : (Jvm.Cond.instanceMethod ({ cls := "SoleraCellar", name := "rack", desc := "(III)I" } : Jvm.MethodName)) ∈ lw_all := lw_g (lw_at lw_m5 199 rfl) rfl
theorem q1291 : (Jvm.Cond.selects "SoleraCellar" ({ cls := "SoleraCellar", name := "rack", desc := "(III)I" } : Jvm.MethodName) ({ cls := "SoleraCellar", name := "rack", desc := "(III)I" } : Jvm.MethodName)) ∈ lw_all := lw_g (lw_at lw_m5 200 rfl) rfl
theorem q1292 : (Jvm.Cond.code ({ cls := "SoleraCellar", name := "rack", desc := "(III)I" } : Jvm.MethodName) prog_1_method_55_code (4 : Nat) (Option.some Jvm.ClassFile.FieldType.int)) ∈ lw_all := lw_g (lw_at lw_m5 201 rfl) rfl
theorem q1293 : (Jvm.Cond.methodLink "SoleraCellar" (354 : Nat) ({ cls := "SoleraCellar", name := "racksKept", desc := "(III)I" } : Jvm.MethodName)) ∈ lw_all := lw_g (lw_at lw_m5 202 rfl) rfl
theorem q1294 : (Jvm.Cond.privateMethod ({ cls := "SoleraCellar", name := "racksKept", desc := "(III)I" } : Jvm.MethodName)) ∈ lw_tbl := lw_at lw_m5 203 rfl
theorem q1295 : (Jvm.Cond.instanceMethod ({ cls := "SoleraCellar", name := "racksKept", desc := "(III)I" } : Jvm.MethodName)) ∈ lw_all := lw_g (lw_at lw_m5 204 rfl) rfl
theorem q1296 : (Jvm.Cond.code ({ cls := "SoleraCellar", name := "racksKept", desc := "(III)I" } : Jvm.MethodName) prog_1_method_50_code (5 : Nat) (Option.some Jvm.ClassFile.FieldType.int)) ∈ lw_all := lw_g (lw_at lw_m5 205 rfl) rfl
theorem q1297 : (Jvm.Cond.methodLink "SoleraCellar" (331 : Nat) ({ cls := "SoleraCellar", name := "canRack", desc := "(LSoleraCellar$Table;III)I" } : Jvm.MethodName)) ∈ lw_all := lw_g (lw_at lw_m5 206 rfl) rfl
theorem q1298 : (Jvm.Cond.privateMethod ({ cls := "SoleraCellar", name := "canRack", desc := "(LSoleraCellar$Table;III)I" } : Jvm.MethodName)) ∈ lw_tbl := lw_at lw_m5 207 rfl
theorem q1299 : (Jvm.Cond.instanceMethod ({ cls := "SoleraCellar", name := "canRack", desc := "(LSoleraCellar$Table;III)I" } : Jvm.MethodName)) ∈ lw_all := lw_g (lw_at lw_m5 208 rfl) rfl
theorem q1300 : (Jvm.Cond.code ({ cls := "SoleraCellar", name := "canRack", desc := "(LSoleraCellar$Table;III)I" } : Jvm.MethodName) prog_1_method_42_code (6 : Nat) (Option.some Jvm.ClassFile.FieldType.int)) ∈ lw_all := lw_g (lw_at lw_m5 209 rfl) rfl
theorem q1301 : (Jvm.Cond.methodLink "SoleraCellar" (294 : Nat) ({ cls := "SoleraCellar", name := "gives", desc := "(LSoleraCellar$Table;II)Z" } : Jvm.MethodName)) ∈ lw_all := lw_g (lw_at lw_m5 210 rfl) rfl
theorem q1302 : (Jvm.Cond.privateMethod ({ cls := "SoleraCellar", name := "gives", desc := "(LSoleraCellar$Table;II)Z" } : Jvm.MethodName)) ∈ lw_tbl := lw_at lw_m5 211 rfl
theorem q1303 : (Jvm.Cond.instanceMethod ({ cls := "SoleraCellar", name := "gives", desc := "(LSoleraCellar$Table;II)Z" } : Jvm.MethodName)) ∈ lw_all := lw_g (lw_at lw_m5 212 rfl) rfl
theorem q1304 : (Jvm.Cond.code ({ cls := "SoleraCellar", name := "gives", desc := "(LSoleraCellar$Table;II)Z" } : Jvm.MethodName) prog_1_method_39_code (4 : Nat) (Option.some Jvm.ClassFile.FieldType.boolean)) ∈ lw_all := lw_g (lw_at lw_m5 213 rfl) rfl
theorem q1305 : (Jvm.Cond.methodLink "SoleraCellar" (335 : Nat) ({ cls := "SoleraCellar", name := "racks", desc := "(LSoleraCellar$Table;III)I" } : Jvm.MethodName)) ∈ lw_all := lw_g (lw_at lw_m5 214 rfl) rfl
theorem q1306 : (Jvm.Cond.privateMethod ({ cls := "SoleraCellar", name := "racks", desc := "(LSoleraCellar$Table;III)I" } : Jvm.MethodName)) ∈ lw_tbl := lw_at lw_m5 215 rfl
theorem q1307 : (Jvm.Cond.instanceMethod ({ cls := "SoleraCellar", name := "racks", desc := "(LSoleraCellar$Table;III)I" } : Jvm.MethodName)) ∈ lw_all := lw_g (lw_at lw_m5 216 rfl) rfl
theorem q1308 : (Jvm.Cond.code ({ cls := "SoleraCellar", name := "racks", desc := "(LSoleraCellar$Table;III)I" } : Jvm.MethodName) prog_1_method_45_code (5 : Nat) (Option.some Jvm.ClassFile.FieldType.int)) ∈ lw_all := lw_g (lw_at lw_m5 217 rfl) rfl
theorem q1309 : (Jvm.Cond.methodLink "SoleraCellar" (297 : Nat) ({ cls := "SoleraCellar$Table", name := "draws", desc := "(II[I)V" } : Jvm.MethodName)) ∈ lw_all := lw_g (lw_at lw_m5 218 rfl) rfl
theorem q1314 : (Jvm.Cond.methodLink "SoleraCellar" (301 : Nat) ({ cls := "SoleraCellar$Table", name := "comes", desc := "(I[I)V" } : Jvm.MethodName)) ∈ lw_all := lw_g (lw_at lw_m5 223 rfl) rfl
theorem q1319 : (Jvm.Cond.instanceMethod ({ cls := "SoleraCellar", name := "bottle", desc := "(II)I" } : Jvm.MethodName)) ∈ lw_all := lw_g (lw_at lw_m5 228 rfl) rfl
theorem q1320 : (Jvm.Cond.selects "SoleraCellar" ({ cls := "SoleraCellar", name := "bottle", desc := "(II)I" } : Jvm.MethodName) ({ cls := "SoleraCellar", name := "bottle", desc := "(II)I" } : Jvm.MethodName)) ∈ lw_all := lw_g (lw_at lw_m5 229 rfl) rfl
theorem q1321 : (Jvm.Cond.code ({ cls := "SoleraCellar", name := "bottle", desc := "(II)I" } : Jvm.MethodName) prog_1_method_56_code (3 : Nat) (Option.some Jvm.ClassFile.FieldType.int)) ∈ lw_all := lw_g (lw_at lw_m5 230 rfl) rfl
theorem q1322 : (Jvm.Cond.methodLink "SoleraCellar" (357 : Nat) ({ cls := "SoleraCellar", name := "bottlesKept", desc := "(II)I" } : Jvm.MethodName)) ∈ lw_all := lw_g (lw_at lw_m5 231 rfl) rfl
theorem q1323 : (Jvm.Cond.privateMethod ({ cls := "SoleraCellar", name := "bottlesKept", desc := "(II)I" } : Jvm.MethodName)) ∈ lw_tbl := lw_at lw_m5 232 rfl
theorem q1324 : (Jvm.Cond.instanceMethod ({ cls := "SoleraCellar", name := "bottlesKept", desc := "(II)I" } : Jvm.MethodName)) ∈ lw_all := lw_g (lw_at lw_m5 233 rfl) rfl
theorem q1325 : (Jvm.Cond.code ({ cls := "SoleraCellar", name := "bottlesKept", desc := "(II)I" } : Jvm.MethodName) prog_1_method_51_code (4 : Nat) (Option.some Jvm.ClassFile.FieldType.int)) ∈ lw_all := lw_g (lw_at lw_m5 234 rfl) rfl
theorem q1326 : (Jvm.Cond.methodLink "SoleraCellar" (338 : Nat) ({ cls := "SoleraCellar", name := "canBottle", desc := "(LSoleraCellar$Table;II)I" } : Jvm.MethodName)) ∈ lw_all := lw_g (lw_at lw_m5 235 rfl) rfl
theorem q1327 : (Jvm.Cond.privateMethod ({ cls := "SoleraCellar", name := "canBottle", desc := "(LSoleraCellar$Table;II)I" } : Jvm.MethodName)) ∈ lw_tbl := lw_at lw_m5 236 rfl
theorem q1328 : (Jvm.Cond.instanceMethod ({ cls := "SoleraCellar", name := "canBottle", desc := "(LSoleraCellar$Table;II)I" } : Jvm.MethodName)) ∈ lw_all := lw_g (lw_at lw_m5 237 rfl) rfl
theorem q1329 : (Jvm.Cond.code ({ cls := "SoleraCellar", name := "canBottle", desc := "(LSoleraCellar$Table;II)I" } : Jvm.MethodName) prog_1_method_43_code (5 : Nat) (Option.some Jvm.ClassFile.FieldType.int)) ∈ lw_all := lw_g (lw_at lw_m5 238 rfl) rfl
theorem q1330 : (Jvm.Cond.methodLink "SoleraCellar" (341 : Nat) ({ cls := "SoleraCellar", name := "bottles", desc := "(LSoleraCellar$Table;II)I" } : Jvm.MethodName)) ∈ lw_all := lw_g (lw_at lw_m5 239 rfl) rfl
theorem q1331 : (Jvm.Cond.privateMethod ({ cls := "SoleraCellar", name := "bottles", desc := "(LSoleraCellar$Table;II)I" } : Jvm.MethodName)) ∈ lw_tbl := lw_at lw_m6 0 rfl
theorem q1332 : (Jvm.Cond.instanceMethod ({ cls := "SoleraCellar", name := "bottles", desc := "(LSoleraCellar$Table;II)I" } : Jvm.MethodName)) ∈ lw_all := lw_g (lw_at lw_m6 1 rfl) rfl
theorem q1333 : (Jvm.Cond.code ({ cls := "SoleraCellar", name := "bottles", desc := "(LSoleraCellar$Table;II)I" } : Jvm.MethodName) prog_1_method_46_code (4 : Nat) (Option.some Jvm.ClassFile.FieldType.int)) ∈ lw_all := lw_g (lw_at lw_m6 2 rfl) rfl
theorem q1334 : (Jvm.Cond.constant "SoleraCellar" (305 : Nat) (999999 : Int32)) ∈ lw_all := lw_g (lw_at lw_m6 3 rfl) rfl
theorem q1335 : (Jvm.Cond.methodLink "SoleraCellar" (309 : Nat) ({ cls := "java/lang/Math", name := "min", desc := "(II)I" } : Jvm.MethodName)) ∈ lw_all := lw_g (lw_at lw_m6 4 rfl) rfl
theorem q1336 : (Jvm.Cond.methodLink "SoleraCellar" (311 : Nat) ({ cls := "SoleraCellar", name := "meanOf", desc := "([II)I" } : Jvm.MethodName)) ∈ lw_all := lw_g (lw_at lw_m6 5 rfl) rfl
theorem q1338 : (Jvm.Cond.instanceMethod ({ cls := "SoleraCellar", name := "pass", desc := "()I" } : Jvm.MethodName)) ∈ lw_all := lw_g (lw_at lw_m6 7 rfl) rfl
theorem q1339 : (Jvm.Cond.selects "SoleraCellar" ({ cls := "SoleraCellar", name := "pass", desc := "()I" } : Jvm.MethodName) ({ cls := "SoleraCellar", name := "pass", desc := "()I" } : Jvm.MethodName)) ∈ lw_all := lw_g (lw_at lw_m6 8 rfl) rfl
theorem q1340 : (Jvm.Cond.code ({ cls := "SoleraCellar", name := "pass", desc := "()I" } : Jvm.MethodName) prog_1_method_57_code (1 : Nat) (Option.some Jvm.ClassFile.FieldType.int)) ∈ lw_all := lw_g (lw_at lw_m6 9 rfl) rfl
theorem q1341 : (Jvm.Cond.methodLink "SoleraCellar" (360 : Nat) ({ cls := "SoleraCellar", name := "passesKept", desc := "()I" } : Jvm.MethodName)) ∈ lw_all := lw_g (lw_at lw_m6 10 rfl) rfl
theorem q1342 : (Jvm.Cond.privateMethod ({ cls := "SoleraCellar", name := "passesKept", desc := "()I" } : Jvm.MethodName)) ∈ lw_tbl := lw_at lw_m6 11 rfl
theorem q1343 : (Jvm.Cond.instanceMethod ({ cls := "SoleraCellar", name := "passesKept", desc := "()I" } : Jvm.MethodName)) ∈ lw_all := lw_g (lw_at lw_m6 12 rfl) rfl
theorem q1344 : (Jvm.Cond.code ({ cls := "SoleraCellar", name := "passesKept", desc := "()I" } : Jvm.MethodName) prog_1_method_52_code (1 : Nat) (Option.some Jvm.ClassFile.FieldType.int)) ∈ lw_all := lw_g (lw_at lw_m6 13 rfl) rfl
theorem q1345 : (Jvm.Cond.methodLink "SoleraCellar" (344 : Nat) ({ cls := "SoleraCellar", name := "ends", desc := "(LSoleraCellar$Table;)I" } : Jvm.MethodName)) ∈ lw_all := lw_g (lw_at lw_m6 14 rfl) rfl
theorem q1346 : (Jvm.Cond.privateMethod ({ cls := "SoleraCellar", name := "ends", desc := "(LSoleraCellar$Table;)I" } : Jvm.MethodName)) ∈ lw_tbl := lw_at lw_m6 15 rfl
theorem q1347 : (Jvm.Cond.instanceMethod ({ cls := "SoleraCellar", name := "ends", desc := "(LSoleraCellar$Table;)I" } : Jvm.MethodName)) ∈ lw_all := lw_g (lw_at lw_m6 16 rfl) rfl
theorem q1348 : (Jvm.Cond.code ({ cls := "SoleraCellar", name := "ends", desc := "(LSoleraCellar$Table;)I" } : Jvm.MethodName) prog_1_method_47_code (6 : Nat) (Option.some Jvm.ClassFile.FieldType.int)) ∈ lw_all := lw_g (lw_at lw_m6 17 rfl) rfl
theorem q1349 : (Jvm.Cond.methodLink "SoleraCellar" (315 : Nat) ({ cls := "SoleraCellar$Table", name := "ages", desc := "(I)V" } : Jvm.MethodName)) ∈ lw_all := lw_g (lw_at lw_m6 18 rfl) rfl
theorem q1354 : (Jvm.Cond.instanceMethod ({ cls := "SoleraCellar", name := "undo", desc := "()I" } : Jvm.MethodName)) ∈ lw_all := lw_g (lw_at lw_m6 23 rfl) rfl
theorem q1355 : (Jvm.Cond.selects "SoleraCellar" ({ cls := "SoleraCellar", name := "undo", desc := "()I" } : Jvm.MethodName) ({ cls := "SoleraCellar", name := "undo", desc := "()I" } : Jvm.MethodName)) ∈ lw_all := lw_g (lw_at lw_m6 24 rfl) rfl
theorem q1356 : (Jvm.Cond.code ({ cls := "SoleraCellar", name := "undo", desc := "()I" } : Jvm.MethodName) prog_1_method_58_code (1 : Nat) (Option.some Jvm.ClassFile.FieldType.int)) ∈ lw_all := lw_g (lw_at lw_m6 25 rfl) rfl
theorem q1358 : (Jvm.Cond.instanceMethod ({ cls := "SoleraCellar", name := "orders", desc := "()I" } : Jvm.MethodName)) ∈ lw_all := lw_g (lw_at lw_m6 27 rfl) rfl
theorem q1359 : (Jvm.Cond.selects "SoleraCellar" ({ cls := "SoleraCellar", name := "orders", desc := "()I" } : Jvm.MethodName) ({ cls := "SoleraCellar", name := "orders", desc := "()I" } : Jvm.MethodName)) ∈ lw_all := lw_g (lw_at lw_m6 28 rfl) rfl
theorem q1360 : (Jvm.Cond.code ({ cls := "SoleraCellar", name := "orders", desc := "()I" } : Jvm.MethodName) prog_1_method_59_code (10 : Nat) (Option.some Jvm.ClassFile.FieldType.int)) ∈ lw_all := lw_g (lw_at lw_m6 29 rfl) rfl
theorem q1361 : (Jvm.Cond.methodLink "SoleraCellar" (363 : Nat) ({ cls := "java/lang/System", name := "arraycopy", desc := "(Ljava/lang/Object;ILjava/lang/Object;II)V" } : Jvm.MethodName)) ∈ lw_all := lw_g (lw_at lw_m6 30 rfl) rfl
theorem q1362 : (Jvm.Cond.classLink "SoleraCellar" (369 : Nat) "SoleraCellar$Order") ∈ lw_all := lw_g (lw_at lw_m6 31 rfl) rfl
theorem q1363 : (Jvm.Cond.methodLink "SoleraCellar" (374 : Nat) ({ cls := "SoleraCellar", name := "tellsOrder", desc := "(LSoleraCellar$Table;II)V" } : Jvm.MethodName)) ∈ lw_all := lw_g (lw_at lw_m6 32 rfl) rfl
theorem q1364 : (Jvm.Cond.privateMethod ({ cls := "SoleraCellar", name := "tellsOrder", desc := "(LSoleraCellar$Table;II)V" } : Jvm.MethodName)) ∈ lw_tbl := lw_at lw_m6 33 rfl
theorem q1365 : (Jvm.Cond.instanceMethod ({ cls := "SoleraCellar", name := "tellsOrder", desc := "(LSoleraCellar$Table;II)V" } : Jvm.MethodName)) ∈ lw_all := lw_g (lw_at lw_m6 34 rfl) rfl
theorem q1366 : (Jvm.Cond.code ({ cls := "SoleraCellar", name := "tellsOrder", desc := "(LSoleraCellar$Table;II)V" } : Jvm.MethodName) prog_1_method_62_code (6 : Nat) (Option.none : Option Jvm.ClassFile.FieldType)) ∈ lw_all := lw_g (lw_at lw_m6 35 rfl) rfl
theorem q1367 : (Jvm.Cond.methodLink "SoleraCellar" (378 : Nat) ({ cls := "SoleraCellar$Order", name := "isNow", desc := "(LSoleraCellar$Setting;)Z" } : Jvm.MethodName)) ∈ lw_all := lw_g (lw_at lw_m6 36 rfl) rfl
theorem q1373 : (Jvm.Cond.methodLink "SoleraCellar" (382 : Nat) ({ cls := "SoleraCellar", name := "runsOrder", desc := "(LSoleraCellar$Order;)I" } : Jvm.MethodName)) ∈ lw_all := lw_g (lw_at lw_m6 42 rfl) rfl
theorem q1374 : (Jvm.Cond.privateMethod ({ cls := "SoleraCellar", name := "runsOrder", desc := "(LSoleraCellar$Order;)I" } : Jvm.MethodName)) ∈ lw_tbl := lw_at lw_m6 43 rfl
theorem q1375 : (Jvm.Cond.instanceMethod ({ cls := "SoleraCellar", name := "runsOrder", desc := "(LSoleraCellar$Order;)I" } : Jvm.MethodName)) ∈ lw_all := lw_g (lw_at lw_m6 44 rfl) rfl
theorem q1376 : (Jvm.Cond.code ({ cls := "SoleraCellar", name := "runsOrder", desc := "(LSoleraCellar$Order;)I" } : Jvm.MethodName) prog_1_method_60_code (4 : Nat) (Option.some Jvm.ClassFile.FieldType.int)) ∈ lw_all := lw_g (lw_at lw_m6 45 rfl) rfl
theorem q1377 : (Jvm.Cond.methodLink "SoleraCellar" (392 : Nat) ({ cls := "SoleraCellar$Order", name := "told", desc := "(ILSoleraCellar$Setting;)I" } : Jvm.MethodName)) ∈ lw_all := lw_g (lw_at lw_m6 46 rfl) rfl
theorem q1383 : (Jvm.Cond.methodLink "SoleraCellar" (386 : Nat) ({ cls := "SoleraCellar", name := "putsBack", desc := "(I)V" } : Jvm.MethodName)) ∈ lw_all := lw_g (lw_at lw_m6 52 rfl) rfl
theorem q1384 : (Jvm.Cond.privateMethod ({ cls := "SoleraCellar", name := "putsBack", desc := "(I)V" } : Jvm.MethodName)) ∈ lw_tbl := lw_at lw_m6 53 rfl
theorem q1385 : (Jvm.Cond.instanceMethod ({ cls := "SoleraCellar", name := "putsBack", desc := "(I)V" } : Jvm.MethodName)) ∈ lw_all := lw_g (lw_at lw_m6 54 rfl) rfl
theorem q1386 : (Jvm.Cond.code ({ cls := "SoleraCellar", name := "putsBack", desc := "(I)V" } : Jvm.MethodName) prog_1_method_61_code (3 : Nat) (Option.none : Option Jvm.ClassFile.FieldType)) ∈ lw_all := lw_g (lw_at lw_m6 55 rfl) rfl
theorem q1388 : (Jvm.Cond.instanceMethod ({ cls := "SoleraCellar", name := "byPlan", desc := "(IIII)I" } : Jvm.MethodName)) ∈ lw_all := lw_g (lw_at lw_m6 57 rfl) rfl
theorem q1389 : (Jvm.Cond.selects "SoleraCellar" ({ cls := "SoleraCellar", name := "byPlan", desc := "(IIII)I" } : Jvm.MethodName) ({ cls := "SoleraCellar", name := "byPlan", desc := "(IIII)I" } : Jvm.MethodName)) ∈ lw_all := lw_g (lw_at lw_m6 58 rfl) rfl
theorem q1390 : (Jvm.Cond.code ({ cls := "SoleraCellar", name := "byPlan", desc := "(IIII)I" } : Jvm.MethodName) prog_1_method_67_code (5 : Nat) (Option.some Jvm.ClassFile.FieldType.int)) ∈ lw_all := lw_g (lw_at lw_m6 59 rfl) rfl
theorem q1391 : (Jvm.Cond.methodLink "SoleraCellar" (417 : Nat) ({ cls := "SoleraCellar", name := "isPlan", desc := "(I)Z" } : Jvm.MethodName)) ∈ lw_all := lw_g (lw_at lw_m6 60 rfl) rfl
theorem q1392 : (Jvm.Cond.privateMethod ({ cls := "SoleraCellar", name := "isPlan", desc := "(I)Z" } : Jvm.MethodName)) ∈ lw_tbl := lw_at lw_m6 61 rfl
theorem q1393 : (Jvm.Cond.instanceMethod ({ cls := "SoleraCellar", name := "isPlan", desc := "(I)Z" } : Jvm.MethodName)) ∈ lw_all := lw_g (lw_at lw_m6 62 rfl) rfl
theorem q1394 : (Jvm.Cond.code ({ cls := "SoleraCellar", name := "isPlan", desc := "(I)Z" } : Jvm.MethodName) prog_1_method_10_code (2 : Nat) (Option.some Jvm.ClassFile.FieldType.boolean)) ∈ lw_all := lw_g (lw_at lw_m6 63 rfl) rfl
theorem q1395 : (Jvm.Cond.methodLink "SoleraCellar" (420 : Nat) ({ cls := "SoleraCellar", name := "runs", desc := "(LSoleraCellar$Plan;I)V" } : Jvm.MethodName)) ∈ lw_all := lw_g (lw_at lw_m6 64 rfl) rfl
theorem q1396 : (Jvm.Cond.privateMethod ({ cls := "SoleraCellar", name := "runs", desc := "(LSoleraCellar$Plan;I)V" } : Jvm.MethodName)) ∈ lw_tbl := lw_at lw_m6 65 rfl
theorem q1397 : (Jvm.Cond.instanceMethod ({ cls := "SoleraCellar", name := "runs", desc := "(LSoleraCellar$Plan;I)V" } : Jvm.MethodName)) ∈ lw_all := lw_g (lw_at lw_m6 66 rfl) rfl
theorem q1398 : (Jvm.Cond.code ({ cls := "SoleraCellar", name := "runs", desc := "(LSoleraCellar$Plan;I)V" } : Jvm.MethodName) prog_1_method_66_code (4 : Nat) (Option.none : Option Jvm.ClassFile.FieldType)) ∈ lw_all := lw_g (lw_at lw_m6 67 rfl) rfl
theorem q1399 : (Jvm.Cond.methodLink "SoleraCellar" (410 : Nat) ({ cls := "SoleraCellar", name := "begins", desc := "()V" } : Jvm.MethodName)) ∈ lw_all := lw_g (lw_at lw_m6 68 rfl) rfl
theorem q1400 : (Jvm.Cond.privateMethod ({ cls := "SoleraCellar", name := "begins", desc := "()V" } : Jvm.MethodName)) ∈ lw_tbl := lw_at lw_m6 69 rfl
theorem q1401 : (Jvm.Cond.instanceMethod ({ cls := "SoleraCellar", name := "begins", desc := "()V" } : Jvm.MethodName)) ∈ lw_all := lw_g (lw_at lw_m6 70 rfl) rfl
theorem q1402 : (Jvm.Cond.code ({ cls := "SoleraCellar", name := "begins", desc := "()V" } : Jvm.MethodName) prog_1_method_63_code (1 : Nat) (Option.none : Option Jvm.ClassFile.FieldType)) ∈ lw_all := lw_g (lw_at lw_m6 71 rfl) rfl
theorem q1403 : (Jvm.Cond.constant "SoleraCellar" (398 : Nat) (1000000 : Int32)) ∈ lw_all := lw_g (lw_at lw_m6 72 rfl) rfl
theorem q1404 : (Jvm.Cond.methodLink "SoleraCellar" (413 : Nat) ({ cls := "SoleraCellar", name := "runsYear", desc := "(LSoleraCellar$Plan;)V" } : Jvm.MethodName)) ∈ lw_all := lw_g (lw_at lw_m6 73 rfl) rfl
theorem q1405 : (Jvm.Cond.privateMethod ({ cls := "SoleraCellar", name := "runsYear", desc := "(LSoleraCellar$Plan;)V" } : Jvm.MethodName)) ∈ lw_tbl := lw_at lw_m6 74 rfl
theorem q1406 : (Jvm.Cond.instanceMethod ({ cls := "SoleraCellar", name := "runsYear", desc := "(LSoleraCellar$Plan;)V" } : Jvm.MethodName)) ∈ lw_all := lw_g (lw_at lw_m6 75 rfl) rfl
theorem q1407 : (Jvm.Cond.code ({ cls := "SoleraCellar", name := "runsYear", desc := "(LSoleraCellar$Plan;)V" } : Jvm.MethodName) prog_1_method_64_code (8 : Nat) (Option.none : Option Jvm.ClassFile.FieldType)) ∈ lw_all := lw_g (lw_at lw_m6 76 rfl) rfl
theorem q1408 : (Jvm.Cond.methodLink "SoleraCellar" (407 : Nat) ({ cls := "SoleraCellar", name := "triesOrder", desc := "(LSoleraCellar$Order;)I" } : Jvm.MethodName)) ∈ lw_all := lw_g (lw_at lw_m6 77 rfl) rfl
theorem q1409 : (Jvm.Cond.privateMethod ({ cls := "SoleraCellar", name := "triesOrder", desc := "(LSoleraCellar$Order;)I" } : Jvm.MethodName)) ∈ lw_tbl := lw_at lw_m6 78 rfl
theorem q1410 : (Jvm.Cond.instanceMethod ({ cls := "SoleraCellar", name := "triesOrder", desc := "(LSoleraCellar$Order;)I" } : Jvm.MethodName)) ∈ lw_all := lw_g (lw_at lw_m6 79 rfl) rfl
theorem q1411 : (Jvm.Cond.code ({ cls := "SoleraCellar", name := "triesOrder", desc := "(LSoleraCellar$Order;)I" } : Jvm.MethodName) prog_1_method_65_code (7 : Nat) (Option.some Jvm.ClassFile.FieldType.int)) ∈ lw_all := lw_g (lw_at lw_m6 80 rfl) rfl
theorem q1413 : (Jvm.Cond.instanceMethod ({ cls := "SoleraCellar", name := "oldEnough", desc := "(III)I" } : Jvm.MethodName)) ∈ lw_all := lw_g (lw_at lw_m6 82 rfl) rfl
theorem q1414 : (Jvm.Cond.selects "SoleraCellar" ({ cls := "SoleraCellar", name := "oldEnough", desc := "(III)I" } : Jvm.MethodName) ({ cls := "SoleraCellar", name := "oldEnough", desc := "(III)I" } : Jvm.MethodName)) ∈ lw_all := lw_g (lw_at lw_m6 83 rfl) rfl
theorem q1415 : (Jvm.Cond.code ({ cls := "SoleraCellar", name := "oldEnough", desc := "(III)I" } : Jvm.MethodName) prog_1_method_68_code (5 : Nat) (Option.some Jvm.ClassFile.FieldType.int)) ∈ lw_all := lw_g (lw_at lw_m6 84 rfl) rfl
theorem q1417 : (Jvm.Cond.instanceMethod ({ cls := "SoleraCellar", name := "settled", desc := "(II)I" } : Jvm.MethodName)) ∈ lw_all := lw_g (lw_at lw_m6 86 rfl) rfl
theorem q1418 : (Jvm.Cond.selects "SoleraCellar" ({ cls := "SoleraCellar", name := "settled", desc := "(II)I" } : Jvm.MethodName) ({ cls := "SoleraCellar", name := "settled", desc := "(II)I" } : Jvm.MethodName)) ∈ lw_all := lw_g (lw_at lw_m6 87 rfl) rfl
theorem q1419 : (Jvm.Cond.code ({ cls := "SoleraCellar", name := "settled", desc := "(II)I" } : Jvm.MethodName) prog_1_method_69_code (5 : Nat) (Option.some Jvm.ClassFile.FieldType.int)) ∈ lw_all := lw_g (lw_at lw_m6 88 rfl) rfl
theorem q1421 : (Jvm.Cond.instanceMethod ({ cls := "SoleraCellar", name := "starves", desc := "(I)I" } : Jvm.MethodName)) ∈ lw_all := lw_g (lw_at lw_m6 90 rfl) rfl
theorem q1422 : (Jvm.Cond.selects "SoleraCellar" ({ cls := "SoleraCellar", name := "starves", desc := "(I)I" } : Jvm.MethodName) ({ cls := "SoleraCellar", name := "starves", desc := "(I)I" } : Jvm.MethodName)) ∈ lw_all := lw_g (lw_at lw_m6 91 rfl) rfl
theorem q1423 : (Jvm.Cond.code ({ cls := "SoleraCellar", name := "starves", desc := "(I)I" } : Jvm.MethodName) prog_1_method_70_code (3 : Nat) (Option.some Jvm.ClassFile.FieldType.int)) ∈ lw_all := lw_g (lw_at lw_m6 92 rfl) rfl
theorem q1425 : (Jvm.Cond.instanceMethod ({ cls := "SoleraCellar", name := "yields", desc := "(II)I" } : Jvm.MethodName)) ∈ lw_all := lw_g (lw_at lw_m6 94 rfl) rfl
theorem q1426 : (Jvm.Cond.selects "SoleraCellar" ({ cls := "SoleraCellar", name := "yields", desc := "(II)I" } : Jvm.MethodName) ({ cls := "SoleraCellar", name := "yields", desc := "(II)I" } : Jvm.MethodName)) ∈ lw_all := lw_g (lw_at lw_m6 95 rfl) rfl
theorem q1427 : (Jvm.Cond.code ({ cls := "SoleraCellar", name := "yields", desc := "(II)I" } : Jvm.MethodName) prog_1_method_71_code (3 : Nat) (Option.some Jvm.ClassFile.FieldType.int)) ∈ lw_all := lw_g (lw_at lw_m6 96 rfl) rfl
theorem q1429 : (Jvm.Cond.instanceMethod ({ cls := "SoleraCellar", name := "best", desc := "(II)I" } : Jvm.MethodName)) ∈ lw_all := lw_g (lw_at lw_m6 98 rfl) rfl
theorem q1430 : (Jvm.Cond.selects "SoleraCellar" ({ cls := "SoleraCellar", name := "best", desc := "(II)I" } : Jvm.MethodName) ({ cls := "SoleraCellar", name := "best", desc := "(II)I" } : Jvm.MethodName)) ∈ lw_all := lw_g (lw_at lw_m6 99 rfl) rfl
theorem q1431 : (Jvm.Cond.code ({ cls := "SoleraCellar", name := "best", desc := "(II)I" } : Jvm.MethodName) prog_1_method_72_code (6 : Nat) (Option.some Jvm.ClassFile.FieldType.int)) ∈ lw_all := lw_g (lw_at lw_m6 100 rfl) rfl
theorem q1433 : (Jvm.Cond.instanceMethod ({ cls := "SoleraCellar", name := "tasted", desc := "(II)I" } : Jvm.MethodName)) ∈ lw_all := lw_g (lw_at lw_m6 102 rfl) rfl
theorem q1434 : (Jvm.Cond.selects "SoleraCellar" ({ cls := "SoleraCellar", name := "tasted", desc := "(II)I" } : Jvm.MethodName) ({ cls := "SoleraCellar", name := "tasted", desc := "(II)I" } : Jvm.MethodName)) ∈ lw_all := lw_g (lw_at lw_m6 103 rfl) rfl
theorem q1435 : (Jvm.Cond.code ({ cls := "SoleraCellar", name := "tasted", desc := "(II)I" } : Jvm.MethodName) prog_1_method_74_code (3 : Nat) (Option.some Jvm.ClassFile.FieldType.int)) ∈ lw_all := lw_g (lw_at lw_m6 104 rfl) rfl
theorem q1437 : (Jvm.Cond.instanceMethod ({ cls := "SoleraCellar", name := "forget", desc := "()I" } : Jvm.MethodName)) ∈ lw_all := lw_g (lw_at lw_m6 106 rfl) rfl
theorem q1438 : (Jvm.Cond.selects "SoleraCellar" ({ cls := "SoleraCellar", name := "forget", desc := "()I" } : Jvm.MethodName) ({ cls := "SoleraCellar", name := "forget", desc := "()I" } : Jvm.MethodName)) ∈ lw_all := lw_g (lw_at lw_m6 107 rfl) rfl
theorem q1439 : (Jvm.Cond.code ({ cls := "SoleraCellar", name := "forget", desc := "()I" } : Jvm.MethodName) prog_1_method_75_code (2 : Nat) (Option.some Jvm.ClassFile.FieldType.int)) ∈ lw_all := lw_g (lw_at lw_m6 108 rfl) rfl
theorem q1441 : (Jvm.Cond.instanceMethod ({ cls := "SoleraCellar", name := "canBe", desc := "()I" } : Jvm.MethodName)) ∈ lw_all := lw_g (lw_at lw_m6 110 rfl) rfl
theorem q1442 : (Jvm.Cond.selects "SoleraCellar" ({ cls := "SoleraCellar", name := "canBe", desc := "()I" } : Jvm.MethodName) ({ cls := "SoleraCellar", name := "canBe", desc := "()I" } : Jvm.MethodName)) ∈ lw_all := lw_g (lw_at lw_m6 111 rfl) rfl
theorem q1443 : (Jvm.Cond.code ({ cls := "SoleraCellar", name := "canBe", desc := "()I" } : Jvm.MethodName) prog_1_method_77_code (3 : Nat) (Option.some Jvm.ClassFile.FieldType.int)) ∈ lw_all := lw_g (lw_at lw_m6 112 rfl) rfl
theorem q1444 : (Jvm.Cond.methodLink "SoleraCellar" (433 : Nat) ({ cls := "SoleraCellar", name := "isSo", desc := "(I)Z" } : Jvm.MethodName)) ∈ lw_all := lw_g (lw_at lw_m6 113 rfl) rfl
theorem q1445 : (Jvm.Cond.privateMethod ({ cls := "SoleraCellar", name := "isSo", desc := "(I)Z" } : Jvm.MethodName)) ∈ lw_tbl := lw_at lw_m6 114 rfl
theorem q1446 : (Jvm.Cond.instanceMethod ({ cls := "SoleraCellar", name := "isSo", desc := "(I)Z" } : Jvm.MethodName)) ∈ lw_all := lw_g (lw_at lw_m6 115 rfl) rfl
theorem q1447 : (Jvm.Cond.code ({ cls := "SoleraCellar", name := "isSo", desc := "(I)Z" } : Jvm.MethodName) prog_1_method_76_code (3 : Nat) (Option.some Jvm.ClassFile.FieldType.boolean)) ∈ lw_all := lw_g (lw_at lw_m6 116 rfl) rfl
theorem q1448 : (Jvm.Cond.methodLink "SoleraCellar" (430 : Nat) ({ cls := "SoleraCellar", name := "factOf", desc := "(II)I" } : Jvm.MethodName)) ∈ lw_all := lw_g (lw_at lw_m6 117 rfl) rfl
theorem q1449 : (Jvm.Cond.privateMethod ({ cls := "SoleraCellar", name := "factOf", desc := "(II)I" } : Jvm.MethodName)) ∈ lw_tbl := lw_at lw_m6 118 rfl
theorem q1450 : (Jvm.Cond.instanceMethod ({ cls := "SoleraCellar", name := "factOf", desc := "(II)I" } : Jvm.MethodName)) ∈ lw_all := lw_g (lw_at lw_m6 119 rfl) rfl
theorem q1451 : (Jvm.Cond.code ({ cls := "SoleraCellar", name := "factOf", desc := "(II)I" } : Jvm.MethodName) prog_1_method_73_code (4 : Nat) (Option.some Jvm.ClassFile.FieldType.int)) ∈ lw_all := lw_g (lw_at lw_m6 120 rfl) rfl
theorem q1453 : (Jvm.Cond.instanceMethod ({ cls := "SoleraCellar", name := "taste", desc := "(I)I" } : Jvm.MethodName)) ∈ lw_all := lw_g (lw_at lw_m6 122 rfl) rfl
theorem q1454 : (Jvm.Cond.selects "SoleraCellar" ({ cls := "SoleraCellar", name := "taste", desc := "(I)I" } : Jvm.MethodName) ({ cls := "SoleraCellar", name := "taste", desc := "(I)I" } : Jvm.MethodName)) ∈ lw_all := lw_g (lw_at lw_m6 123 rfl) rfl
theorem q1455 : (Jvm.Cond.code ({ cls := "SoleraCellar", name := "taste", desc := "(I)I" } : Jvm.MethodName) prog_1_method_79_code (7 : Nat) (Option.some Jvm.ClassFile.FieldType.int)) ∈ lw_all := lw_g (lw_at lw_m6 124 rfl) rfl
theorem q1456 : (Jvm.Cond.methodLink "SoleraCellar" (438 : Nat) ({ cls := "SoleraCellar", name := "canBe", desc := "()I" } : Jvm.MethodName)) ∈ lw_all := lw_g (lw_at lw_m6 125 rfl) rfl
theorem q1457 : (Jvm.Cond.methodLink "SoleraCellar" (441 : Nat) ({ cls := "SoleraCellar", name := "mostAlike", desc := "(II)I" } : Jvm.MethodName)) ∈ lw_all := lw_g (lw_at lw_m6 126 rfl) rfl
theorem q1458 : (Jvm.Cond.privateMethod ({ cls := "SoleraCellar", name := "mostAlike", desc := "(II)I" } : Jvm.MethodName)) ∈ lw_tbl := lw_at lw_m6 127 rfl
theorem q1459 : (Jvm.Cond.instanceMethod ({ cls := "SoleraCellar", name := "mostAlike", desc := "(II)I" } : Jvm.MethodName)) ∈ lw_all := lw_g (lw_at lw_m6 128 rfl) rfl
theorem q1460 : (Jvm.Cond.code ({ cls := "SoleraCellar", name := "mostAlike", desc := "(II)I" } : Jvm.MethodName) prog_1_method_78_code (7 : Nat) (Option.some Jvm.ClassFile.FieldType.int)) ∈ lw_all := lw_g (lw_at lw_m6 129 rfl) rfl
theorem q1461 : (Jvm.Cond.methodLink "SoleraCellar" (436 : Nat) ({ cls := "java/lang/Math", name := "max", desc := "(II)I" } : Jvm.MethodName)) ∈ lw_all := lw_g (lw_at lw_m6 130 rfl) rfl
theorem q1463 : (Jvm.Cond.instanceMethod ({ cls := "SoleraCellar", name := "few", desc := "(II)J" } : Jvm.MethodName)) ∈ lw_all := lw_g (lw_at lw_m6 132 rfl) rfl
theorem q1464 : (Jvm.Cond.selects "SoleraCellar" ({ cls := "SoleraCellar", name := "few", desc := "(II)J" } : Jvm.MethodName) ({ cls := "SoleraCellar", name := "few", desc := "(II)J" } : Jvm.MethodName)) ∈ lw_all := lw_g (lw_at lw_m6 133 rfl) rfl
theorem q1465 : (Jvm.Cond.code ({ cls := "SoleraCellar", name := "few", desc := "(II)J" } : Jvm.MethodName) prog_1_method_80_code (6 : Nat) (Option.some Jvm.ClassFile.FieldType.long)) ∈ lw_all := lw_g (lw_at lw_m6 134 rfl) rfl
theorem q1466 : (Jvm.Cond.constantLong "SoleraCellar" (444 : Nat) (10 : Int64)) ∈ lw_all := lw_g (lw_at lw_m6 135 rfl) rfl
theorem q1468 : (Jvm.Cond.instanceMethod ({ cls := "SoleraCellar", name := "compare", desc := "(II)I" } : Jvm.MethodName)) ∈ lw_all := lw_g (lw_at lw_m6 137 rfl) rfl
theorem q1469 : (Jvm.Cond.selects "SoleraCellar" ({ cls := "SoleraCellar", name := "compare", desc := "(II)I" } : Jvm.MethodName) ({ cls := "SoleraCellar", name := "compare", desc := "(II)I" } : Jvm.MethodName)) ∈ lw_all := lw_g (lw_at lw_m6 138 rfl) rfl
theorem q1470 : (Jvm.Cond.code ({ cls := "SoleraCellar", name := "compare", desc := "(II)I" } : Jvm.MethodName) prog_1_method_81_code (5 : Nat) (Option.some Jvm.ClassFile.FieldType.int)) ∈ lw_all := lw_g (lw_at lw_m6 139 rfl) rfl
theorem q1471 : (Jvm.Cond.methodLink "SoleraCellar" (446 : Nat) ({ cls := "SoleraCellar", name := "lost", desc := "(LSoleraCellar$Table;I)I" } : Jvm.MethodName)) ∈ lw_all := lw_g (lw_at lw_m6 140 rfl) rfl
theorem q1472 : (Jvm.Cond.privateMethod ({ cls := "SoleraCellar", name := "lost", desc := "(LSoleraCellar$Table;I)I" } : Jvm.MethodName)) ∈ lw_tbl := lw_at lw_m6 141 rfl
theorem q1473 : (Jvm.Cond.instanceMethod ({ cls := "SoleraCellar", name := "lost", desc := "(LSoleraCellar$Table;I)I" } : Jvm.MethodName)) ∈ lw_all := lw_g (lw_at lw_m6 142 rfl) rfl
theorem q1474 : (Jvm.Cond.code ({ cls := "SoleraCellar", name := "lost", desc := "(LSoleraCellar$Table;I)I" } : Jvm.MethodName) prog_1_method_37_code (6 : Nat) (Option.some Jvm.ClassFile.FieldType.int)) ∈ lw_all := lw_g (lw_at lw_m6 143 rfl) rfl
theorem q1476 : (Jvm.Cond.instanceMethod ({ cls := "SoleraCellar", name := "harvests", desc := "(II)I" } : Jvm.MethodName)) ∈ lw_all := lw_g (lw_at lw_m6 145 rfl) rfl
theorem q1477 : (Jvm.Cond.selects "SoleraCellar" ({ cls := "SoleraCellar", name := "harvests", desc := "(II)I" } : Jvm.MethodName) ({ cls := "SoleraCellar", name := "harvests", desc := "(II)I" } : Jvm.MethodName)) ∈ lw_all := lw_g (lw_at lw_m6 146 rfl) rfl
theorem q1478 : (Jvm.Cond.code ({ cls := "SoleraCellar", name := "harvests", desc := "(II)I" } : Jvm.MethodName) prog_1_method_84_code (5 : Nat) (Option.some Jvm.ClassFile.FieldType.int)) ∈ lw_all := lw_g (lw_at lw_m6 147 rfl) rfl
theorem q1479 : (Jvm.Cond.methodLink "SoleraCellar" (461 : Nat) ({ cls := "SoleraCellar", name := "harvest", desc := "(LSoleraCellar$Table;)I" } : Jvm.MethodName)) ∈ lw_all := lw_g (lw_at lw_m6 148 rfl) rfl
theorem q1480 : (Jvm.Cond.privateMethod ({ cls := "SoleraCellar", name := "harvest", desc := "(LSoleraCellar$Table;)I" } : Jvm.MethodName)) ∈ lw_tbl := lw_at lw_m6 149 rfl
theorem q1481 : (Jvm.Cond.instanceMethod ({ cls := "SoleraCellar", name := "harvest", desc := "(LSoleraCellar$Table;)I" } : Jvm.MethodName)) ∈ lw_all := lw_g (lw_at lw_m6 150 rfl) rfl
theorem q1482 : (Jvm.Cond.code ({ cls := "SoleraCellar", name := "harvest", desc := "(LSoleraCellar$Table;)I" } : Jvm.MethodName) prog_1_method_83_code (7 : Nat) (Option.some Jvm.ClassFile.FieldType.int)) ∈ lw_all := lw_g (lw_at lw_m6 151 rfl) rfl
theorem q1483 : (Jvm.Cond.methodLink "SoleraCellar" (458 : Nat) ({ cls := "SoleraCellar", name := "draw", desc := "(I)I" } : Jvm.MethodName)) ∈ lw_all := lw_g (lw_at lw_m6 152 rfl) rfl
theorem q1484 : (Jvm.Cond.privateMethod ({ cls := "SoleraCellar", name := "draw", desc := "(I)I" } : Jvm.MethodName)) ∈ lw_tbl := lw_at lw_m6 153 rfl
theorem q1485 : (Jvm.Cond.instanceMethod ({ cls := "SoleraCellar", name := "draw", desc := "(I)I" } : Jvm.MethodName)) ∈ lw_all := lw_g (lw_at lw_m6 154 rfl) rfl
theorem q1486 : (Jvm.Cond.code ({ cls := "SoleraCellar", name := "draw", desc := "(I)I" } : Jvm.MethodName) prog_1_method_82_code (2 : Nat) (Option.some Jvm.ClassFile.FieldType.int)) ∈ lw_all := lw_g (lw_at lw_m6 155 rfl) rfl
theorem q1487 : (Jvm.Cond.constantLong "SoleraCellar" (452 : Nat) (1103 : Int64)) ∈ lw_all := lw_g (lw_at lw_m6 156 rfl) rfl
theorem q1488 : (Jvm.Cond.constantLong "SoleraCellar" (454 : Nat) (12345 : Int64)) ∈ lw_all := lw_g (lw_at lw_m6 157 rfl) rfl
theorem q1489 : (Jvm.Cond.constantLong "SoleraCellar" (456 : Nat) (1000003 : Int64)) ∈ lw_all := lw_g (lw_at lw_m6 158 rfl) rfl
theorem q1491 : (Jvm.Cond.instanceMethod ({ cls := "SoleraCellar", name := "drawn", desc := "(II)I" } : Jvm.MethodName)) ∈ lw_all := lw_g (lw_at lw_m6 160 rfl) rfl
theorem q1492 : (Jvm.Cond.selects "SoleraCellar" ({ cls := "SoleraCellar", name := "drawn", desc := "(II)I" } : Jvm.MethodName) ({ cls := "SoleraCellar", name := "drawn", desc := "(II)I" } : Jvm.MethodName)) ∈ lw_all := lw_g (lw_at lw_m6 161 rfl) rfl
theorem q1493 : (Jvm.Cond.code ({ cls := "SoleraCellar", name := "drawn", desc := "(II)I" } : Jvm.MethodName) prog_1_method_85_code (3 : Nat) (Option.some Jvm.ClassFile.FieldType.int)) ∈ lw_all := lw_g (lw_at lw_m6 162 rfl) rfl
theorem q1495 : (Jvm.Cond.instanceMethod ({ cls := "SoleraCellar", name := "count", desc := "(I)I" } : Jvm.MethodName)) ∈ lw_all := lw_g (lw_at lw_m6 164 rfl) rfl
theorem q1496 : (Jvm.Cond.selects "SoleraCellar" ({ cls := "SoleraCellar", name := "count", desc := "(I)I" } : Jvm.MethodName) ({ cls := "SoleraCellar", name := "count", desc := "(I)I" } : Jvm.MethodName)) ∈ lw_all := lw_g (lw_at lw_m6 165 rfl) rfl
theorem q1497 : (Jvm.Cond.code ({ cls := "SoleraCellar", name := "count", desc := "(I)I" } : Jvm.MethodName) prog_1_method_86_code (2 : Nat) (Option.some Jvm.ClassFile.FieldType.int)) ∈ lw_all := lw_g (lw_at lw_m6 166 rfl) rfl
theorem q1499 : (Jvm.Cond.instanceMethod ({ cls := "SoleraCellar", name := "status", desc := "()I" } : Jvm.MethodName)) ∈ lw_all := lw_g (lw_at lw_m6 168 rfl) rfl
theorem q1500 : (Jvm.Cond.selects "SoleraCellar" ({ cls := "SoleraCellar", name := "status", desc := "()I" } : Jvm.MethodName) ({ cls := "SoleraCellar", name := "status", desc := "()I" } : Jvm.MethodName)) ∈ lw_all := lw_g (lw_at lw_m6 169 rfl) rfl
theorem q1501 : (Jvm.Cond.code ({ cls := "SoleraCellar", name := "status", desc := "()I" } : Jvm.MethodName) prog_1_method_87_code (1 : Nat) (Option.some Jvm.ClassFile.FieldType.int)) ∈ lw_all := lw_g (lw_at lw_m6 170 rfl) rfl
theorem q2247 : (Jvm.Cond.castable "SoleraCellar" "java/lang/Object") ∈ lw_tbl := lw_at lw_m9 196 rfl
theorem in_X0 : ∀ w ∈ wsX00, w ∈ lw_all := lw_in wsX00 [387, 389, 391, 393, 395, 397, 399, 401, 403, 405, 407, 409, 411, 413, 415, 417, 419, 421, 423, 425, 427, 429, 431, 433, 435, 437] (by decide +kernel) (by decide +kernel)
