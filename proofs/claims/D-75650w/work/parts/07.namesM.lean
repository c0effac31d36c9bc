/-! SoleraCellarModel -/
set_option maxRecDepth 100000
def RX5 : String := "SoleraCellarModel"
def TX5 : u_T := fun k => match k with
  | 0 => ("SoleraCellarModel", "thrown", "I", false)
  | 1 => ("SoleraCellarModel", "status", "I", false)
  | 2 => ("SoleraCellarModel", "refusals", "[I", true)
  | 3 => ("SoleraCellarModel", "row", "[I", true)
  | 4 => ("SoleraCellarModel", "images", "[I", true)
  | 5 => ("SoleraCellarModel", "isKept", "[Z", true)
  | 6 => ("SoleraCellarModel", "undos", "[I", true)
  | 7 => ("SoleraCellarModel", "sorts", "[I", true)
  | 8 => ("SoleraCellarModel", "nUndo", "I", false)
  | 9 => ("SoleraCellarModel", "undosBefore", "[I", true)
  | 10 => ("SoleraCellarModel", "sortsBefore", "[I", true)
  | 11 => ("SoleraCellarModel", "leaks", "I", false)
  | 12 => ("SoleraCellarModel", "tape", "[I", true)
  | 13 => ("SoleraCellarModel", "taped", "I", false)
  | 14 => ("SoleraCellarModel", "from", "I", false)
  | 15 => ("SoleraCellarModel", "to", "I", false)
  | 16 => ("SoleraCellarModel", "sort", "I", false)
  | 17 => ("SoleraCellarModel", "worth", "J", false)
  | 18 => ("SoleraCellarModel", "fault", "I", false)
  | 19 => ("SoleraCellarModel", "bad", "Z", false)
  | 20 => ("SoleraCellarModel", "ordered", "Z", false)
  | 21 => ("SoleraCellarModel", "nClauses", "I", false)
  | 22 => ("SoleraCellarModel", "nClause", "[I", true)
  | 23 => ("SoleraCellarModel", "nCode", "I", false)
  | 24 => ("SoleraCellarModel", "nOp", "[I", true)
  | 25 => ("SoleraCellarModel", "nArg", "[I", true)
  | 26 => ("SoleraCellarModel", "nLeaves", "I", false)
  | 27 => ("SoleraCellarModel", "pile", "[I", true)
  | 28 => ("SoleraCellarModel", "pileAt", "[I", true)
  | 29 => ("SoleraCellarModel", "piled", "I", false)
  | 30 => ("SoleraCellarModel", "opened", "I", false)
  | 31 => ("SoleraCellarModel", "words", "[J", true)
  | 32 => ("SoleraCellarModel", "orderWords", "[J", true)
  | 33 => ("SoleraCellarModel", "heads", "[J", true)
  | 34 => ("SoleraCellarModel", "law", "I", false)
  | 35 => ("SoleraCellarModel", "set", "[J", true)
  | 36 => ("SoleraCellarModel", "now", "[J", true)
  | 37 => ("SoleraCellarModel", "rest", "[J", true)
  | 38 => ("SoleraCellarModel", "broken", "Z", false)
  | 39 => ("SoleraCellarModel", "value", "J", false)
  | 40 => ("SoleraCellarModel", "sum", "J", false)
  | 41 => ("SoleraCellarModel", "taken", "[I", true)
  | 42 => ("SoleraCellarModel", "yielded", "I", false)
  | 43 => ("SoleraCellarModel", "leastMean", "I", false)
  | 44 => ("SoleraCellarModel", "acts", "[J", true)
  | 45 => ("SoleraCellarModel", "nOrder", "[I", true)
  | 46 => ("SoleraCellarModel", "done", "I", false)
  | 47 => ("SoleraCellarModel", "latest", "I", false)
  | 48 => ("SoleraCellarModel", "stopped", "I", false)
  | 49 => ("SoleraCellarModel", "off", "Z", false)
  | 50 => ("SoleraCellarModel", "skipped", "Z", false)
  | 51 => ("SoleraCellarModel", "parts", "[J", true)
  | 52 => ("SoleraCellarModel", "state", "J", false)
  | 53 => ("SoleraCellarModel", "drawn", "[I", true)
  | _ => ("SoleraCellarModel", "drawnCasks", "I", false)
def tyX5 : Nat → FieldType := fun k => match k with
  | 0 => .int
  | 1 => .int
  | 2 => .array .int
  | 3 => .array .int
  | 4 => .array .int
  | 5 => .array .boolean
  | 6 => .array .int
  | 7 => .array .int
  | 8 => .int
  | 9 => .array .int
  | 10 => .array .int
  | 11 => .int
  | 12 => .array .int
  | 13 => .int
  | 14 => .int
  | 15 => .int
  | 16 => .int
  | 17 => .long
  | 18 => .int
  | 19 => .boolean
  | 20 => .boolean
  | 21 => .int
  | 22 => .array .int
  | 23 => .int
  | 24 => .array .int
  | 25 => .array .int
  | 26 => .int
  | 27 => .array .int
  | 28 => .array .int
  | 29 => .int
  | 30 => .int
  | 31 => .array .long
  | 32 => .array .long
  | 33 => .array .long
  | 34 => .int
  | 35 => .array .long
  | 36 => .array .long
  | 37 => .array .long
  | 38 => .boolean
  | 39 => .long
  | 40 => .long
  | 41 => .array .int
  | 42 => .int
  | 43 => .int
  | 44 => .array .long
  | 45 => .array .int
  | 46 => .int
  | 47 => .int
  | 48 => .int
  | 49 => .boolean
  | 50 => .boolean
  | 51 => .array .long
  | 52 => .long
  | 53 => .array .int
  | _ => .int
abbrev wsX50 : List Cond := u_ws RX5 TX5 55
set_option maxRecDepth 100000 in
theorem nmX5 : ∀ a, a < 55 → ∀ b, b < 55 → a ≠ b → (TX5 a).2.1 ≠ (TX5 b).2.1 := by decide +kernel
set_option maxRecDepth 100000 in
theorem tyX5_ok : ∀ k, k < 55 → parseFieldDescriptor (TX5 k).2.2.1 = some (tyX5 k) := by decide +kernel
abbrev cX5_init : ByteArray := prog_23_method_1_code
def yX5_init : MethodName := ⟨RX5, "<init>", "()V"⟩
def dkwX5_init_16 : List UInt8 := [180, 0, 13, 16, 8, 16, 85, 79, 177]
abbrev dktX5_init_16 : List UInt8 := dkwX5_init_16 ++ []
def dkwX5_init_15 : List UInt8 := [181, 0, 127, 42, 2, 181, 0, 130, 42, 180, 0, 13, 7, 2, 79, 42, 180, 0, 13, 16, 6, 4, 79, 42]
abbrev dktX5_init_15 : List UInt8 := dkwX5_init_15 ++ dktX5_init_16
def dkwX5_init_14 : List UInt8 := [188, 10, 181, 0, 118, 42, 2, 181, 0, 121, 42, 16, 21, 188, 11, 181, 0, 124, 42, 17, 0, 160, 188, 10]
abbrev dktX5_init_14 : List UInt8 := dkwX5_init_14 ++ dktX5_init_15
def dkwX5_init_13 : List UInt8 := [4, 20, 0, 109, 80, 89, 5, 20, 0, 111, 80, 89, 6, 20, 0, 113, 80, 181, 0, 115, 42, 16, 120]
abbrev dktX5_init_13 : List UInt8 := dkwX5_init_13 ++ dktX5_init_14
def dkwX5_init_12 : List UInt8 := [188, 11, 181, 0, 101, 42, 16, 20, 188, 10, 181, 0, 104, 42, 7, 188, 11, 89, 3, 20, 0, 107, 80, 89]
abbrev dktX5_init_12 : List UInt8 := dkwX5_init_12 ++ dktX5_init_13
def dkwX5_init_11 : List UInt8 := [80, 181, 0, 92, 42, 16, 13, 188, 11, 181, 0, 95, 42, 16, 13, 188, 11, 181, 0, 98, 42, 17, 1, 144]
abbrev dktX5_init_11 : List UInt8 := dkwX5_init_11 ++ dktX5_init_12
def dkwX5_init_10 : List UInt8 := [181, 0, 83, 42, 6, 188, 11, 89, 3, 20, 0, 86, 80, 89, 4, 20, 0, 88, 80, 89, 5, 20, 0, 90]
abbrev dktX5_init_10 : List UInt8 := dkwX5_init_10 ++ dktX5_init_11
def dkwX5_init_9 : List UInt8 := [20, 0, 79, 80, 89, 7, 20, 0, 63, 80, 89, 8, 20, 0, 81, 80, 89, 16, 6, 20, 0, 65, 80]
abbrev dktX5_init_9 : List UInt8 := dkwX5_init_9 ++ dktX5_init_10
def dkwX5_init_8 : List UInt8 := [188, 11, 89, 3, 20, 0, 67, 80, 89, 4, 20, 0, 75, 80, 89, 5, 20, 0, 77, 80, 89, 6]
abbrev dktX5_init_8 : List UInt8 := dkwX5_init_8 ++ dktX5_init_9
def dkwX5_init_7 : List UInt8 := [20, 0, 65, 80, 89, 8, 20, 0, 67, 80, 89, 16, 6, 20, 0, 69, 80, 181, 0, 71, 42, 16, 7]
abbrev dktX5_init_7 : List UInt8 := dkwX5_init_7 ++ dktX5_init_8
def dkwX5_init_6 : List UInt8 := [20, 0, 57, 80, 89, 4, 20, 0, 59, 80, 89, 5, 20, 0, 61, 80, 89, 6, 20, 0, 63, 80, 89, 7]
abbrev dktX5_init_6 : List UInt8 := dkwX5_init_6 ++ dktX5_init_7
def dkwX5_init_5 : List UInt8 := [17, 1, 144, 188, 10, 181, 0, 51, 42, 17, 1, 144, 188, 10, 181, 0, 54, 42, 16, 7, 188, 11, 89, 3]
abbrev dktX5_init_5 : List UInt8 := dkwX5_init_5 ++ dktX5_init_6
def dkwX5_init_4 : List UInt8 := [181, 0, 42, 42, 17, 1, 144, 188, 10, 181, 0, 45, 42, 17, 1, 144, 188, 10, 181, 0, 48, 42]
abbrev dktX5_init_4 : List UInt8 := dkwX5_init_4 ++ dktX5_init_5
def dkwX5_init_3 : List UInt8 := [181, 0, 32, 42, 17, 1, 144, 188, 10, 181, 0, 35, 42, 2, 181, 0, 38, 42, 16, 96, 188, 10]
abbrev dktX5_init_3 : List UInt8 := dkwX5_init_3 ++ dktX5_init_4
def dkwX5_init_2 : List UInt8 := [42, 16, 16, 188, 10, 181, 0, 26, 42, 17, 10, 80, 188, 10, 181, 0, 29, 42, 16, 16, 188, 10]
abbrev dktX5_init_2 : List UInt8 := dkwX5_init_2 ++ dktX5_init_3
def dkwX5_init_1 : List UInt8 := [17, 73, 92, 188, 10, 181, 0, 16, 42, 5, 188, 4, 181, 0, 19, 42, 17, 11, 154, 188, 10, 181, 0, 23]
abbrev dktX5_init_1 : List UInt8 := dkwX5_init_1 ++ dktX5_init_2
def dkwX5_init_0 : List UInt8 := [42, 183, 0, 1, 42, 16, 7, 188, 10, 181, 0, 7, 42, 17, 36, 174, 188, 10, 181, 0, 13, 42]
abbrev dktX5_init_0 : List UInt8 := dkwX5_init_0 ++ dktX5_init_1
theorem dksX5_init_0 : cX5_init.data.toList.drop 0 = dktX5_init_0 := by decide +kernel
theorem dksX5_init_1 : cX5_init.data.toList.drop 22 = dktX5_init_1 := dk_seg dksX5_init_0 22 rfl rfl
theorem dksX5_init_2 : cX5_init.data.toList.drop 46 = dktX5_init_2 := dk_seg dksX5_init_1 24 rfl rfl
theorem dksX5_init_3 : cX5_init.data.toList.drop 68 = dktX5_init_3 := dk_seg dksX5_init_2 22 rfl rfl
theorem dksX5_init_4 : cX5_init.data.toList.drop 90 = dktX5_init_4 := dk_seg dksX5_init_3 22 rfl rfl
theorem dksX5_init_5 : cX5_init.data.toList.drop 112 = dktX5_init_5 := dk_seg dksX5_init_4 22 rfl rfl
theorem dksX5_init_6 : cX5_init.data.toList.drop 136 = dktX5_init_6 := dk_seg dksX5_init_5 24 rfl rfl
theorem dksX5_init_7 : cX5_init.data.toList.drop 160 = dktX5_init_7 := dk_seg dksX5_init_6 24 rfl rfl
theorem dksX5_init_8 : cX5_init.data.toList.drop 183 = dktX5_init_8 := dk_seg dksX5_init_7 23 rfl rfl
theorem dksX5_init_9 : cX5_init.data.toList.drop 205 = dktX5_init_9 := dk_seg dksX5_init_8 22 rfl rfl
theorem dksX5_init_10 : cX5_init.data.toList.drop 228 = dktX5_init_10 := dk_seg dksX5_init_9 23 rfl rfl
theorem dksX5_init_11 : cX5_init.data.toList.drop 252 = dktX5_init_11 := dk_seg dksX5_init_10 24 rfl rfl
theorem dksX5_init_12 : cX5_init.data.toList.drop 276 = dktX5_init_12 := dk_seg dksX5_init_11 24 rfl rfl
theorem dksX5_init_13 : cX5_init.data.toList.drop 300 = dktX5_init_13 := dk_seg dksX5_init_12 24 rfl rfl
theorem dksX5_init_14 : cX5_init.data.toList.drop 323 = dktX5_init_14 := dk_seg dksX5_init_13 23 rfl rfl
theorem dksX5_init_15 : cX5_init.data.toList.drop 347 = dktX5_init_15 := dk_seg dksX5_init_14 24 rfl rfl
theorem dksX5_init_16 : cX5_init.data.toList.drop 371 = dktX5_init_16 := dk_seg dksX5_init_15 24 rfl rfl
theorem dX5_init_0 : decode cX5_init 0 = .ok (.aload_n 0, 1) := dk_42 (dk_at dksX5_init_0 0 rfl rfl)
theorem dX5_init_1 : decode cX5_init 1 = .ok (.invokespecial 1, 3) := dk_183 0 1 (dk_at dksX5_init_0 1 rfl rfl)
theorem dX5_init_4 : decode cX5_init 4 = .ok (.aload_n 0, 1) := dk_42 (dk_at dksX5_init_0 4 rfl rfl)
theorem dX5_init_5 : decode cX5_init 5 = .ok (.bipush 7, 2) := dk_16 7 (dk_at dksX5_init_0 5 rfl rfl)
theorem dX5_init_7 : decode cX5_init 7 = .ok (.newarray .int, 2) := dk_188_10 (dk_at dksX5_init_0 7 rfl rfl)
theorem dX5_init_9 : decode cX5_init 9 = .ok (.putfield 7, 3) := dk_181 0 7 (dk_at dksX5_init_0 9 rfl rfl)
theorem dX5_init_12 : decode cX5_init 12 = .ok (.aload_n 0, 1) := dk_42 (dk_at dksX5_init_0 12 rfl rfl)
theorem dX5_init_13 : decode cX5_init 13 = .ok (.sipush 9390, 3) := dk_17 36 174 (dk_at dksX5_init_0 13 rfl rfl)
theorem dX5_init_16 : decode cX5_init 16 = .ok (.newarray .int, 2) := dk_188_10 (dk_at dksX5_init_0 16 rfl rfl)
theorem dX5_init_18 : decode cX5_init 18 = .ok (.putfield 13, 3) := dk_181 0 13 (dk_at dksX5_init_0 18 rfl rfl)
theorem dX5_init_21 : decode cX5_init 21 = .ok (.aload_n 0, 1) := dk_42 (dk_at dksX5_init_0 21 rfl rfl)
theorem dX5_init_22 : decode cX5_init 22 = .ok (.sipush 18780, 3) := dk_17 73 92 (dk_at dksX5_init_1 0 rfl rfl)
theorem dX5_init_25 : decode cX5_init 25 = .ok (.newarray .int, 2) := dk_188_10 (dk_at dksX5_init_1 3 rfl rfl)
theorem dX5_init_27 : decode cX5_init 27 = .ok (.putfield 16, 3) := dk_181 0 16 (dk_at dksX5_init_1 5 rfl rfl)
theorem dX5_init_30 : decode cX5_init 30 = .ok (.aload_n 0, 1) := dk_42 (dk_at dksX5_init_1 8 rfl rfl)
theorem dX5_init_31 : decode cX5_init 31 = .ok (.iconst 2, 1) := dk_5 (dk_at dksX5_init_1 9 rfl rfl)
theorem dX5_init_32 : decode cX5_init 32 = .ok (.newarray .boolean, 2) := dk_188_4 (dk_at dksX5_init_1 10 rfl rfl)
theorem dX5_init_34 : decode cX5_init 34 = .ok (.putfield 19, 3) := dk_181 0 19 (dk_at dksX5_init_1 12 rfl rfl)
theorem dX5_init_37 : decode cX5_init 37 = .ok (.aload_n 0, 1) := dk_42 (dk_at dksX5_init_1 15 rfl rfl)
theorem dX5_init_38 : decode cX5_init 38 = .ok (.sipush 2970, 3) := dk_17 11 154 (dk_at dksX5_init_1 16 rfl rfl)
theorem dX5_init_41 : decode cX5_init 41 = .ok (.newarray .int, 2) := dk_188_10 (dk_at dksX5_init_1 19 rfl rfl)
theorem dX5_init_43 : decode cX5_init 43 = .ok (.putfield 23, 3) := dk_181 0 23 (dk_at dksX5_init_1 21 rfl rfl)
theorem dX5_init_46 : decode cX5_init 46 = .ok (.aload_n 0, 1) := dk_42 (dk_at dksX5_init_2 0 rfl rfl)
theorem dX5_init_47 : decode cX5_init 47 = .ok (.bipush 16, 2) := dk_16 16 (dk_at dksX5_init_2 1 rfl rfl)
theorem dX5_init_49 : decode cX5_init 49 = .ok (.newarray .int, 2) := dk_188_10 (dk_at dksX5_init_2 3 rfl rfl)
theorem dX5_init_51 : decode cX5_init 51 = .ok (.putfield 26, 3) := dk_181 0 26 (dk_at dksX5_init_2 5 rfl rfl)
theorem dX5_init_54 : decode cX5_init 54 = .ok (.aload_n 0, 1) := dk_42 (dk_at dksX5_init_2 8 rfl rfl)
theorem dX5_init_55 : decode cX5_init 55 = .ok (.sipush 2640, 3) := dk_17 10 80 (dk_at dksX5_init_2 9 rfl rfl)
theorem dX5_init_58 : decode cX5_init 58 = .ok (.newarray .int, 2) := dk_188_10 (dk_at dksX5_init_2 12 rfl rfl)
theorem dX5_init_60 : decode cX5_init 60 = .ok (.putfield 29, 3) := dk_181 0 29 (dk_at dksX5_init_2 14 rfl rfl)
theorem dX5_init_63 : decode cX5_init 63 = .ok (.aload_n 0, 1) := dk_42 (dk_at dksX5_init_2 17 rfl rfl)
theorem dX5_init_64 : decode cX5_init 64 = .ok (.bipush 16, 2) := dk_16 16 (dk_at dksX5_init_2 18 rfl rfl)
theorem dX5_init_66 : decode cX5_init 66 = .ok (.newarray .int, 2) := dk_188_10 (dk_at dksX5_init_2 20 rfl rfl)
theorem dX5_init_68 : decode cX5_init 68 = .ok (.putfield 32, 3) := dk_181 0 32 (dk_at dksX5_init_3 0 rfl rfl)
theorem dX5_init_71 : decode cX5_init 71 = .ok (.aload_n 0, 1) := dk_42 (dk_at dksX5_init_3 3 rfl rfl)
theorem dX5_init_72 : decode cX5_init 72 = .ok (.sipush 400, 3) := dk_17 1 144 (dk_at dksX5_init_3 4 rfl rfl)
theorem dX5_init_75 : decode cX5_init 75 = .ok (.newarray .int, 2) := dk_188_10 (dk_at dksX5_init_3 7 rfl rfl)
theorem dX5_init_77 : decode cX5_init 77 = .ok (.putfield 35, 3) := dk_181 0 35 (dk_at dksX5_init_3 9 rfl rfl)
theorem dX5_init_80 : decode cX5_init 80 = .ok (.aload_n 0, 1) := dk_42 (dk_at dksX5_init_3 12 rfl rfl)
theorem dX5_init_81 : decode cX5_init 81 = .ok (.iconst (-1), 1) := dk_2 (dk_at dksX5_init_3 13 rfl rfl)
theorem dX5_init_82 : decode cX5_init 82 = .ok (.putfield 38, 3) := dk_181 0 38 (dk_at dksX5_init_3 14 rfl rfl)
theorem dX5_init_85 : decode cX5_init 85 = .ok (.aload_n 0, 1) := dk_42 (dk_at dksX5_init_3 17 rfl rfl)
theorem dX5_init_86 : decode cX5_init 86 = .ok (.bipush 96, 2) := dk_16 96 (dk_at dksX5_init_3 18 rfl rfl)
theorem dX5_init_88 : decode cX5_init 88 = .ok (.newarray .int, 2) := dk_188_10 (dk_at dksX5_init_3 20 rfl rfl)
theorem dX5_init_90 : decode cX5_init 90 = .ok (.putfield 42, 3) := dk_181 0 42 (dk_at dksX5_init_4 0 rfl rfl)
theorem dX5_init_93 : decode cX5_init 93 = .ok (.aload_n 0, 1) := dk_42 (dk_at dksX5_init_4 3 rfl rfl)
theorem dX5_init_94 : decode cX5_init 94 = .ok (.sipush 400, 3) := dk_17 1 144 (dk_at dksX5_init_4 4 rfl rfl)
theorem dX5_init_97 : decode cX5_init 97 = .ok (.newarray .int, 2) := dk_188_10 (dk_at dksX5_init_4 7 rfl rfl)
theorem dX5_init_99 : decode cX5_init 99 = .ok (.putfield 45, 3) := dk_181 0 45 (dk_at dksX5_init_4 9 rfl rfl)
theorem dX5_init_102 : decode cX5_init 102 = .ok (.aload_n 0, 1) := dk_42 (dk_at dksX5_init_4 12 rfl rfl)
theorem dX5_init_103 : decode cX5_init 103 = .ok (.sipush 400, 3) := dk_17 1 144 (dk_at dksX5_init_4 13 rfl rfl)
theorem dX5_init_106 : decode cX5_init 106 = .ok (.newarray .int, 2) := dk_188_10 (dk_at dksX5_init_4 16 rfl rfl)
theorem dX5_init_108 : decode cX5_init 108 = .ok (.putfield 48, 3) := dk_181 0 48 (dk_at dksX5_init_4 18 rfl rfl)
theorem dX5_init_111 : decode cX5_init 111 = .ok (.aload_n 0, 1) := dk_42 (dk_at dksX5_init_4 21 rfl rfl)
theorem dX5_init_112 : decode cX5_init 112 = .ok (.sipush 400, 3) := dk_17 1 144 (dk_at dksX5_init_5 0 rfl rfl)
theorem dX5_init_115 : decode cX5_init 115 = .ok (.newarray .int, 2) := dk_188_10 (dk_at dksX5_init_5 3 rfl rfl)
theorem dX5_init_117 : decode cX5_init 117 = .ok (.putfield 51, 3) := dk_181 0 51 (dk_at dksX5_init_5 5 rfl rfl)
theorem dX5_init_120 : decode cX5_init 120 = .ok (.aload_n 0, 1) := dk_42 (dk_at dksX5_init_5 8 rfl rfl)
theorem dX5_init_121 : decode cX5_init 121 = .ok (.sipush 400, 3) := dk_17 1 144 (dk_at dksX5_init_5 9 rfl rfl)
theorem dX5_init_124 : decode cX5_init 124 = .ok (.newarray .int, 2) := dk_188_10 (dk_at dksX5_init_5 12 rfl rfl)
theorem dX5_init_126 : decode cX5_init 126 = .ok (.putfield 54, 3) := dk_181 0 54 (dk_at dksX5_init_5 14 rfl rfl)
theorem dX5_init_129 : decode cX5_init 129 = .ok (.aload_n 0, 1) := dk_42 (dk_at dksX5_init_5 17 rfl rfl)
theorem dX5_init_130 : decode cX5_init 130 = .ok (.bipush 7, 2) := dk_16 7 (dk_at dksX5_init_5 18 rfl rfl)
theorem dX5_init_132 : decode cX5_init 132 = .ok (.newarray .long, 2) := dk_188_11 (dk_at dksX5_init_5 20 rfl rfl)
theorem dX5_init_134 : decode cX5_init 134 = .ok (.dup, 1) := dk_89 (dk_at dksX5_init_5 22 rfl rfl)
theorem dX5_init_135 : decode cX5_init 135 = .ok (.iconst 0, 1) := dk_3 (dk_at dksX5_init_5 23 rfl rfl)
theorem dX5_init_136 : decode cX5_init 136 = .ok (.ldc2_w 57, 3) := dk_20 0 57 (dk_at dksX5_init_6 0 rfl rfl)
theorem dX5_init_139 : decode cX5_init 139 = .ok (.lastore, 1) := dk_80 (dk_at dksX5_init_6 3 rfl rfl)
theorem dX5_init_140 : decode cX5_init 140 = .ok (.dup, 1) := dk_89 (dk_at dksX5_init_6 4 rfl rfl)
theorem dX5_init_141 : decode cX5_init 141 = .ok (.iconst 1, 1) := dk_4 (dk_at dksX5_init_6 5 rfl rfl)
theorem dX5_init_142 : decode cX5_init 142 = .ok (.ldc2_w 59, 3) := dk_20 0 59 (dk_at dksX5_init_6 6 rfl rfl)
theorem dX5_init_145 : decode cX5_init 145 = .ok (.lastore, 1) := dk_80 (dk_at dksX5_init_6 9 rfl rfl)
theorem dX5_init_146 : decode cX5_init 146 = .ok (.dup, 1) := dk_89 (dk_at dksX5_init_6 10 rfl rfl)
theorem dX5_init_147 : decode cX5_init 147 = .ok (.iconst 2, 1) := dk_5 (dk_at dksX5_init_6 11 rfl rfl)
theorem dX5_init_148 : decode cX5_init 148 = .ok (.ldc2_w 61, 3) := dk_20 0 61 (dk_at dksX5_init_6 12 rfl rfl)
theorem dX5_init_151 : decode cX5_init 151 = .ok (.lastore, 1) := dk_80 (dk_at dksX5_init_6 15 rfl rfl)
theorem dX5_init_152 : decode cX5_init 152 = .ok (.dup, 1) := dk_89 (dk_at dksX5_init_6 16 rfl rfl)
theorem dX5_init_153 : decode cX5_init 153 = .ok (.iconst 3, 1) := dk_6 (dk_at dksX5_init_6 17 rfl rfl)
theorem dX5_init_154 : decode cX5_init 154 = .ok (.ldc2_w 63, 3) := dk_20 0 63 (dk_at dksX5_init_6 18 rfl rfl)
theorem dX5_init_157 : decode cX5_init 157 = .ok (.lastore, 1) := dk_80 (dk_at dksX5_init_6 21 rfl rfl)
theorem dX5_init_158 : decode cX5_init 158 = .ok (.dup, 1) := dk_89 (dk_at dksX5_init_6 22 rfl rfl)
theorem dX5_init_159 : decode cX5_init 159 = .ok (.iconst 4, 1) := dk_7 (dk_at dksX5_init_6 23 rfl rfl)
theorem dX5_init_160 : decode cX5_init 160 = .ok (.ldc2_w 65, 3) := dk_20 0 65 (dk_at dksX5_init_7 0 rfl rfl)
theorem dX5_init_163 : decode cX5_init 163 = .ok (.lastore, 1) := dk_80 (dk_at dksX5_init_7 3 rfl rfl)
theorem dX5_init_164 : decode cX5_init 164 = .ok (.dup, 1) := dk_89 (dk_at dksX5_init_7 4 rfl rfl)
theorem dX5_init_165 : decode cX5_init 165 = .ok (.iconst 5, 1) := dk_8 (dk_at dksX5_init_7 5 rfl rfl)
theorem dX5_init_166 : decode cX5_init 166 = .ok (.ldc2_w 67, 3) := dk_20 0 67 (dk_at dksX5_init_7 6 rfl rfl)
theorem dX5_init_169 : decode cX5_init 169 = .ok (.lastore, 1) := dk_80 (dk_at dksX5_init_7 9 rfl rfl)
theorem dX5_init_170 : decode cX5_init 170 = .ok (.dup, 1) := dk_89 (dk_at dksX5_init_7 10 rfl rfl)
theorem dX5_init_171 : decode cX5_init 171 = .ok (.bipush 6, 2) := dk_16 6 (dk_at dksX5_init_7 11 rfl rfl)
theorem dX5_init_173 : decode cX5_init 173 = .ok (.ldc2_w 69, 3) := dk_20 0 69 (dk_at dksX5_init_7 13 rfl rfl)
theorem dX5_init_176 : decode cX5_init 176 = .ok (.lastore, 1) := dk_80 (dk_at dksX5_init_7 16 rfl rfl)
theorem dX5_init_177 : decode cX5_init 177 = .ok (.putfield 71, 3) := dk_181 0 71 (dk_at dksX5_init_7 17 rfl rfl)
theorem dX5_init_180 : decode cX5_init 180 = .ok (.aload_n 0, 1) := dk_42 (dk_at dksX5_init_7 20 rfl rfl)
theorem dX5_init_181 : decode cX5_init 181 = .ok (.bipush 7, 2) := dk_16 7 (dk_at dksX5_init_7 21 rfl rfl)
theorem dX5_init_183 : decode cX5_init 183 = .ok (.newarray .long, 2) := dk_188_11 (dk_at dksX5_init_8 0 rfl rfl)
theorem dX5_init_185 : decode cX5_init 185 = .ok (.dup, 1) := dk_89 (dk_at dksX5_init_8 2 rfl rfl)
theorem dX5_init_186 : decode cX5_init 186 = .ok (.iconst 0, 1) := dk_3 (dk_at dksX5_init_8 3 rfl rfl)
theorem dX5_init_187 : decode cX5_init 187 = .ok (.ldc2_w 67, 3) := dk_20 0 67 (dk_at dksX5_init_8 4 rfl rfl)
theorem dX5_init_190 : decode cX5_init 190 = .ok (.lastore, 1) := dk_80 (dk_at dksX5_init_8 7 rfl rfl)
theorem dX5_init_191 : decode cX5_init 191 = .ok (.dup, 1) := dk_89 (dk_at dksX5_init_8 8 rfl rfl)
theorem dX5_init_192 : decode cX5_init 192 = .ok (.iconst 1, 1) := dk_4 (dk_at dksX5_init_8 9 rfl rfl)
theorem dX5_init_193 : decode cX5_init 193 = .ok (.ldc2_w 75, 3) := dk_20 0 75 (dk_at dksX5_init_8 10 rfl rfl)
theorem dX5_init_196 : decode cX5_init 196 = .ok (.lastore, 1) := dk_80 (dk_at dksX5_init_8 13 rfl rfl)
theorem dX5_init_197 : decode cX5_init 197 = .ok (.dup, 1) := dk_89 (dk_at dksX5_init_8 14 rfl rfl)
theorem dX5_init_198 : decode cX5_init 198 = .ok (.iconst 2, 1) := dk_5 (dk_at dksX5_init_8 15 rfl rfl)
theorem dX5_init_199 : decode cX5_init 199 = .ok (.ldc2_w 77, 3) := dk_20 0 77 (dk_at dksX5_init_8 16 rfl rfl)
theorem dX5_init_202 : decode cX5_init 202 = .ok (.lastore, 1) := dk_80 (dk_at dksX5_init_8 19 rfl rfl)
theorem dX5_init_203 : decode cX5_init 203 = .ok (.dup, 1) := dk_89 (dk_at dksX5_init_8 20 rfl rfl)
theorem dX5_init_204 : decode cX5_init 204 = .ok (.iconst 3, 1) := dk_6 (dk_at dksX5_init_8 21 rfl rfl)
theorem dX5_init_205 : decode cX5_init 205 = .ok (.ldc2_w 79, 3) := dk_20 0 79 (dk_at dksX5_init_9 0 rfl rfl)
theorem dX5_init_208 : decode cX5_init 208 = .ok (.lastore, 1) := dk_80 (dk_at dksX5_init_9 3 rfl rfl)
theorem dX5_init_209 : decode cX5_init 209 = .ok (.dup, 1) := dk_89 (dk_at dksX5_init_9 4 rfl rfl)
theorem dX5_init_210 : decode cX5_init 210 = .ok (.iconst 4, 1) := dk_7 (dk_at dksX5_init_9 5 rfl rfl)
theorem dX5_init_211 : decode cX5_init 211 = .ok (.ldc2_w 63, 3) := dk_20 0 63 (dk_at dksX5_init_9 6 rfl rfl)
theorem dX5_init_214 : decode cX5_init 214 = .ok (.lastore, 1) := dk_80 (dk_at dksX5_init_9 9 rfl rfl)
theorem dX5_init_215 : decode cX5_init 215 = .ok (.dup, 1) := dk_89 (dk_at dksX5_init_9 10 rfl rfl)
theorem dX5_init_216 : decode cX5_init 216 = .ok (.iconst 5, 1) := dk_8 (dk_at dksX5_init_9 11 rfl rfl)
theorem dX5_init_217 : decode cX5_init 217 = .ok (.ldc2_w 81, 3) := dk_20 0 81 (dk_at dksX5_init_9 12 rfl rfl)
theorem dX5_init_220 : decode cX5_init 220 = .ok (.lastore, 1) := dk_80 (dk_at dksX5_init_9 15 rfl rfl)
theorem dX5_init_221 : decode cX5_init 221 = .ok (.dup, 1) := dk_89 (dk_at dksX5_init_9 16 rfl rfl)
theorem dX5_init_222 : decode cX5_init 222 = .ok (.bipush 6, 2) := dk_16 6 (dk_at dksX5_init_9 17 rfl rfl)
theorem dX5_init_224 : decode cX5_init 224 = .ok (.ldc2_w 65, 3) := dk_20 0 65 (dk_at dksX5_init_9 19 rfl rfl)
theorem dX5_init_227 : decode cX5_init 227 = .ok (.lastore, 1) := dk_80 (dk_at dksX5_init_9 22 rfl rfl)
theorem dX5_init_228 : decode cX5_init 228 = .ok (.putfield 83, 3) := dk_181 0 83 (dk_at dksX5_init_10 0 rfl rfl)
theorem dX5_init_231 : decode cX5_init 231 = .ok (.aload_n 0, 1) := dk_42 (dk_at dksX5_init_10 3 rfl rfl)
theorem dX5_init_232 : decode cX5_init 232 = .ok (.iconst 3, 1) := dk_6 (dk_at dksX5_init_10 4 rfl rfl)
theorem dX5_init_233 : decode cX5_init 233 = .ok (.newarray .long, 2) := dk_188_11 (dk_at dksX5_init_10 5 rfl rfl)
theorem dX5_init_235 : decode cX5_init 235 = .ok (.dup, 1) := dk_89 (dk_at dksX5_init_10 7 rfl rfl)
theorem dX5_init_236 : decode cX5_init 236 = .ok (.iconst 0, 1) := dk_3 (dk_at dksX5_init_10 8 rfl rfl)
theorem dX5_init_237 : decode cX5_init 237 = .ok (.ldc2_w 86, 3) := dk_20 0 86 (dk_at dksX5_init_10 9 rfl rfl)
theorem dX5_init_240 : decode cX5_init 240 = .ok (.lastore, 1) := dk_80 (dk_at dksX5_init_10 12 rfl rfl)
theorem dX5_init_241 : decode cX5_init 241 = .ok (.dup, 1) := dk_89 (dk_at dksX5_init_10 13 rfl rfl)
theorem dX5_init_242 : decode cX5_init 242 = .ok (.iconst 1, 1) := dk_4 (dk_at dksX5_init_10 14 rfl rfl)
theorem dX5_init_243 : decode cX5_init 243 = .ok (.ldc2_w 88, 3) := dk_20 0 88 (dk_at dksX5_init_10 15 rfl rfl)
theorem dX5_init_246 : decode cX5_init 246 = .ok (.lastore, 1) := dk_80 (dk_at dksX5_init_10 18 rfl rfl)
theorem dX5_init_247 : decode cX5_init 247 = .ok (.dup, 1) := dk_89 (dk_at dksX5_init_10 19 rfl rfl)
theorem dX5_init_248 : decode cX5_init 248 = .ok (.iconst 2, 1) := dk_5 (dk_at dksX5_init_10 20 rfl rfl)
theorem dX5_init_249 : decode cX5_init 249 = .ok (.ldc2_w 90, 3) := dk_20 0 90 (dk_at dksX5_init_10 21 rfl rfl)
theorem dX5_init_252 : decode cX5_init 252 = .ok (.lastore, 1) := dk_80 (dk_at dksX5_init_11 0 rfl rfl)
theorem dX5_init_253 : decode cX5_init 253 = .ok (.putfield 92, 3) := dk_181 0 92 (dk_at dksX5_init_11 1 rfl rfl)
theorem dX5_init_256 : decode cX5_init 256 = .ok (.aload_n 0, 1) := dk_42 (dk_at dksX5_init_11 4 rfl rfl)
theorem dX5_init_257 : decode cX5_init 257 = .ok (.bipush 13, 2) := dk_16 13 (dk_at dksX5_init_11 5 rfl rfl)
theorem dX5_init_259 : decode cX5_init 259 = .ok (.newarray .long, 2) := dk_188_11 (dk_at dksX5_init_11 7 rfl rfl)
theorem dX5_init_261 : decode cX5_init 261 = .ok (.putfield 95, 3) := dk_181 0 95 (dk_at dksX5_init_11 9 rfl rfl)
theorem dX5_init_264 : decode cX5_init 264 = .ok (.aload_n 0, 1) := dk_42 (dk_at dksX5_init_11 12 rfl rfl)
theorem dX5_init_265 : decode cX5_init 265 = .ok (.bipush 13, 2) := dk_16 13 (dk_at dksX5_init_11 13 rfl rfl)
theorem dX5_init_267 : decode cX5_init 267 = .ok (.newarray .long, 2) := dk_188_11 (dk_at dksX5_init_11 15 rfl rfl)
theorem dX5_init_269 : decode cX5_init 269 = .ok (.putfield 98, 3) := dk_181 0 98 (dk_at dksX5_init_11 17 rfl rfl)
theorem dX5_init_272 : decode cX5_init 272 = .ok (.aload_n 0, 1) := dk_42 (dk_at dksX5_init_11 20 rfl rfl)
theorem dX5_init_273 : decode cX5_init 273 = .ok (.sipush 400, 3) := dk_17 1 144 (dk_at dksX5_init_11 21 rfl rfl)
theorem dX5_init_276 : decode cX5_init 276 = .ok (.newarray .long, 2) := dk_188_11 (dk_at dksX5_init_12 0 rfl rfl)
theorem dX5_init_278 : decode cX5_init 278 = .ok (.putfield 101, 3) := dk_181 0 101 (dk_at dksX5_init_12 2 rfl rfl)
theorem dX5_init_281 : decode cX5_init 281 = .ok (.aload_n 0, 1) := dk_42 (dk_at dksX5_init_12 5 rfl rfl)
theorem dX5_init_282 : decode cX5_init 282 = .ok (.bipush 20, 2) := dk_16 20 (dk_at dksX5_init_12 6 rfl rfl)
theorem dX5_init_284 : decode cX5_init 284 = .ok (.newarray .int, 2) := dk_188_10 (dk_at dksX5_init_12 8 rfl rfl)
theorem dX5_init_286 : decode cX5_init 286 = .ok (.putfield 104, 3) := dk_181 0 104 (dk_at dksX5_init_12 10 rfl rfl)
theorem dX5_init_289 : decode cX5_init 289 = .ok (.aload_n 0, 1) := dk_42 (dk_at dksX5_init_12 13 rfl rfl)
theorem dX5_init_290 : decode cX5_init 290 = .ok (.iconst 4, 1) := dk_7 (dk_at dksX5_init_12 14 rfl rfl)
theorem dX5_init_291 : decode cX5_init 291 = .ok (.newarray .long, 2) := dk_188_11 (dk_at dksX5_init_12 15 rfl rfl)
theorem dX5_init_293 : decode cX5_init 293 = .ok (.dup, 1) := dk_89 (dk_at dksX5_init_12 17 rfl rfl)
theorem dX5_init_294 : decode cX5_init 294 = .ok (.iconst 0, 1) := dk_3 (dk_at dksX5_init_12 18 rfl rfl)
theorem dX5_init_295 : decode cX5_init 295 = .ok (.ldc2_w 107, 3) := dk_20 0 107 (dk_at dksX5_init_12 19 rfl rfl)
theorem dX5_init_298 : decode cX5_init 298 = .ok (.lastore, 1) := dk_80 (dk_at dksX5_init_12 22 rfl rfl)
theorem dX5_init_299 : decode cX5_init 299 = .ok (.dup, 1) := dk_89 (dk_at dksX5_init_12 23 rfl rfl)
theorem dX5_init_300 : decode cX5_init 300 = .ok (.iconst 1, 1) := dk_4 (dk_at dksX5_init_13 0 rfl rfl)
theorem dX5_init_301 : decode cX5_init 301 = .ok (.ldc2_w 109, 3) := dk_20 0 109 (dk_at dksX5_init_13 1 rfl rfl)
theorem dX5_init_304 : decode cX5_init 304 = .ok (.lastore, 1) := dk_80 (dk_at dksX5_init_13 4 rfl rfl)
theorem dX5_init_305 : decode cX5_init 305 = .ok (.dup, 1) := dk_89 (dk_at dksX5_init_13 5 rfl rfl)
theorem dX5_init_306 : decode cX5_init 306 = .ok (.iconst 2, 1) := dk_5 (dk_at dksX5_init_13 6 rfl rfl)
theorem dX5_init_307 : decode cX5_init 307 = .ok (.ldc2_w 111, 3) := dk_20 0 111 (dk_at dksX5_init_13 7 rfl rfl)
theorem dX5_init_310 : decode cX5_init 310 = .ok (.lastore, 1) := dk_80 (dk_at dksX5_init_13 10 rfl rfl)
theorem dX5_init_311 : decode cX5_init 311 = .ok (.dup, 1) := dk_89 (dk_at dksX5_init_13 11 rfl rfl)
theorem dX5_init_312 : decode cX5_init 312 = .ok (.iconst 3, 1) := dk_6 (dk_at dksX5_init_13 12 rfl rfl)
theorem dX5_init_313 : decode cX5_init 313 = .ok (.ldc2_w 113, 3) := dk_20 0 113 (dk_at dksX5_init_13 13 rfl rfl)
theorem dX5_init_316 : decode cX5_init 316 = .ok (.lastore, 1) := dk_80 (dk_at dksX5_init_13 16 rfl rfl)
theorem dX5_init_317 : decode cX5_init 317 = .ok (.putfield 115, 3) := dk_181 0 115 (dk_at dksX5_init_13 17 rfl rfl)
theorem dX5_init_320 : decode cX5_init 320 = .ok (.aload_n 0, 1) := dk_42 (dk_at dksX5_init_13 20 rfl rfl)
theorem dX5_init_321 : decode cX5_init 321 = .ok (.bipush 120, 2) := dk_16 120 (dk_at dksX5_init_13 21 rfl rfl)
theorem dX5_init_323 : decode cX5_init 323 = .ok (.newarray .int, 2) := dk_188_10 (dk_at dksX5_init_14 0 rfl rfl)
theorem dX5_init_325 : decode cX5_init 325 = .ok (.putfield 118, 3) := dk_181 0 118 (dk_at dksX5_init_14 2 rfl rfl)
theorem dX5_init_328 : decode cX5_init 328 = .ok (.aload_n 0, 1) := dk_42 (dk_at dksX5_init_14 5 rfl rfl)
theorem dX5_init_329 : decode cX5_init 329 = .ok (.iconst (-1), 1) := dk_2 (dk_at dksX5_init_14 6 rfl rfl)
theorem dX5_init_330 : decode cX5_init 330 = .ok (.putfield 121, 3) := dk_181 0 121 (dk_at dksX5_init_14 7 rfl rfl)
theorem dX5_init_333 : decode cX5_init 333 = .ok (.aload_n 0, 1) := dk_42 (dk_at dksX5_init_14 10 rfl rfl)
theorem dX5_init_334 : decode cX5_init 334 = .ok (.bipush 21, 2) := dk_16 21 (dk_at dksX5_init_14 11 rfl rfl)
theorem dX5_init_336 : decode cX5_init 336 = .ok (.newarray .long, 2) := dk_188_11 (dk_at dksX5_init_14 13 rfl rfl)
theorem dX5_init_338 : decode cX5_init 338 = .ok (.putfield 124, 3) := dk_181 0 124 (dk_at dksX5_init_14 15 rfl rfl)
theorem dX5_init_341 : decode cX5_init 341 = .ok (.aload_n 0, 1) := dk_42 (dk_at dksX5_init_14 18 rfl rfl)
theorem dX5_init_342 : decode cX5_init 342 = .ok (.sipush 160, 3) := dk_17 0 160 (dk_at dksX5_init_14 19 rfl rfl)
theorem dX5_init_345 : decode cX5_init 345 = .ok (.newarray .int, 2) := dk_188_10 (dk_at dksX5_init_14 22 rfl rfl)
theorem dX5_init_347 : decode cX5_init 347 = .ok (.putfield 127, 3) := dk_181 0 127 (dk_at dksX5_init_15 0 rfl rfl)
theorem dX5_init_350 : decode cX5_init 350 = .ok (.aload_n 0, 1) := dk_42 (dk_at dksX5_init_15 3 rfl rfl)
theorem dX5_init_351 : decode cX5_init 351 = .ok (.iconst (-1), 1) := dk_2 (dk_at dksX5_init_15 4 rfl rfl)
theorem dX5_init_352 : decode cX5_init 352 = .ok (.putfield 130, 3) := dk_181 0 130 (dk_at dksX5_init_15 5 rfl rfl)
theorem dX5_init_355 : decode cX5_init 355 = .ok (.aload_n 0, 1) := dk_42 (dk_at dksX5_init_15 8 rfl rfl)
theorem dX5_init_356 : decode cX5_init 356 = .ok (.getfield 13, 3) := dk_180 0 13 (dk_at dksX5_init_15 9 rfl rfl)
theorem dX5_init_359 : decode cX5_init 359 = .ok (.iconst 4, 1) := dk_7 (dk_at dksX5_init_15 12 rfl rfl)
theorem dX5_init_360 : decode cX5_init 360 = .ok (.iconst (-1), 1) := dk_2 (dk_at dksX5_init_15 13 rfl rfl)
theorem dX5_init_361 : decode cX5_init 361 = .ok (.iastore, 1) := dk_79 (dk_at dksX5_init_15 14 rfl rfl)
theorem dX5_init_362 : decode cX5_init 362 = .ok (.aload_n 0, 1) := dk_42 (dk_at dksX5_init_15 15 rfl rfl)
theorem dX5_init_363 : decode cX5_init 363 = .ok (.getfield 13, 3) := dk_180 0 13 (dk_at dksX5_init_15 16 rfl rfl)
theorem dX5_init_366 : decode cX5_init 366 = .ok (.bipush 6, 2) := dk_16 6 (dk_at dksX5_init_15 19 rfl rfl)
theorem dX5_init_368 : decode cX5_init 368 = .ok (.iconst 1, 1) := dk_4 (dk_at dksX5_init_15 21 rfl rfl)
theorem dX5_init_369 : decode cX5_init 369 = .ok (.iastore, 1) := dk_79 (dk_at dksX5_init_15 22 rfl rfl)
theorem dX5_init_370 : decode cX5_init 370 = .ok (.aload_n 0, 1) := dk_42 (dk_at dksX5_init_15 23 rfl rfl)
theorem dX5_init_371 : decode cX5_init 371 = .ok (.getfield 13, 3) := dk_180 0 13 (dk_at dksX5_init_16 0 rfl rfl)
theorem dX5_init_374 : decode cX5_init 374 = .ok (.bipush 8, 2) := dk_16 8 (dk_at dksX5_init_16 3 rfl rfl)
theorem dX5_init_376 : decode cX5_init 376 = .ok (.bipush 85, 2) := dk_16 85 (dk_at dksX5_init_16 5 rfl rfl)
theorem dX5_init_378 : decode cX5_init 378 = .ok (.iastore, 1) := dk_79 (dk_at dksX5_init_16 7 rfl rfl)
theorem dX5_init_379 : decode cX5_init 379 = .ok (.return_, 1) := dk_177 (dk_at dksX5_init_16 8 rfl rfl)
abbrev cX5_undo : ByteArray := prog_23_method_12_code
def yX5_undo : MethodName := ⟨RX5, "undo", "()I"⟩
def dkwX5_undo_2 : List UInt8 := [182, 0, 142, 172]
abbrev dktX5_undo_2 : List UInt8 := dkwX5_undo_2 ++ []
def dkwX5_undo_1 : List UInt8 := [4, 100, 181, 0, 139, 42, 42, 180, 0, 139, 182, 0, 150, 42, 42, 180, 0, 26, 42, 180, 0, 139, 46]
abbrev dktX5_undo_1 : List UInt8 := dkwX5_undo_1 ++ dktX5_undo_2
def dkwX5_undo_0 : List UInt8 := [42, 3, 181, 0, 133, 42, 180, 0, 139, 154, 0, 10, 42, 16, 253, 182, 0, 142, 172, 42, 89, 180, 0, 139]
abbrev dktX5_undo_0 : List UInt8 := dkwX5_undo_0 ++ dktX5_undo_1
theorem dksX5_undo_0 : cX5_undo.data.toList.drop 0 = dktX5_undo_0 := by decide +kernel
theorem dksX5_undo_1 : cX5_undo.data.toList.drop 24 = dktX5_undo_1 := dk_seg dksX5_undo_0 24 rfl rfl
theorem dksX5_undo_2 : cX5_undo.data.toList.drop 47 = dktX5_undo_2 := dk_seg dksX5_undo_1 23 rfl rfl
theorem dX5_undo_0 : decode cX5_undo 0 = .ok (.aload_n 0, 1) := dk_42 (dk_at dksX5_undo_0 0 rfl rfl)
theorem dX5_undo_1 : decode cX5_undo 1 = .ok (.iconst 0, 1) := dk_3 (dk_at dksX5_undo_0 1 rfl rfl)
theorem dX5_undo_2 : decode cX5_undo 2 = .ok (.putfield 133, 3) := dk_181 0 133 (dk_at dksX5_undo_0 2 rfl rfl)
theorem dX5_undo_5 : decode cX5_undo 5 = .ok (.aload_n 0, 1) := dk_42 (dk_at dksX5_undo_0 5 rfl rfl)
theorem dX5_undo_6 : decode cX5_undo 6 = .ok (.getfield 139, 3) := dk_180 0 139 (dk_at dksX5_undo_0 6 rfl rfl)
theorem dX5_undo_9 : decode cX5_undo 9 = .ok (.ifCond .ne 10, 3) := dk_154 0 10 (dk_at dksX5_undo_0 9 rfl rfl)
theorem dX5_undo_12 : decode cX5_undo 12 = .ok (.aload_n 0, 1) := dk_42 (dk_at dksX5_undo_0 12 rfl rfl)
theorem dX5_undo_13 : decode cX5_undo 13 = .ok (.bipush (-3), 2) := dk_16 253 (dk_at dksX5_undo_0 13 rfl rfl)
theorem dX5_undo_15 : decode cX5_undo 15 = .ok (.invokevirtual 142, 3) := dk_182 0 142 (dk_at dksX5_undo_0 15 rfl rfl)
theorem dX5_undo_18 : decode cX5_undo 18 = .ok (.ireturn, 1) := dk_172 (dk_at dksX5_undo_0 18 rfl rfl)
theorem dX5_undo_19 : decode cX5_undo 19 = .ok (.aload_n 0, 1) := dk_42 (dk_at dksX5_undo_0 19 rfl rfl)
theorem dX5_undo_20 : decode cX5_undo 20 = .ok (.dup, 1) := dk_89 (dk_at dksX5_undo_0 20 rfl rfl)
theorem dX5_undo_21 : decode cX5_undo 21 = .ok (.getfield 139, 3) := dk_180 0 139 (dk_at dksX5_undo_0 21 rfl rfl)
theorem dX5_undo_24 : decode cX5_undo 24 = .ok (.iconst 1, 1) := dk_4 (dk_at dksX5_undo_1 0 rfl rfl)
theorem dX5_undo_25 : decode cX5_undo 25 = .ok (.isub, 1) := dk_100 (dk_at dksX5_undo_1 1 rfl rfl)
theorem dX5_undo_26 : decode cX5_undo 26 = .ok (.putfield 139, 3) := dk_181 0 139 (dk_at dksX5_undo_1 2 rfl rfl)
theorem dX5_undo_29 : decode cX5_undo 29 = .ok (.aload_n 0, 1) := dk_42 (dk_at dksX5_undo_1 5 rfl rfl)
theorem dX5_undo_30 : decode cX5_undo 30 = .ok (.aload_n 0, 1) := dk_42 (dk_at dksX5_undo_1 6 rfl rfl)
theorem dX5_undo_31 : decode cX5_undo 31 = .ok (.getfield 139, 3) := dk_180 0 139 (dk_at dksX5_undo_1 7 rfl rfl)
theorem dX5_undo_34 : decode cX5_undo 34 = .ok (.invokevirtual 150, 3) := dk_182 0 150 (dk_at dksX5_undo_1 10 rfl rfl)
theorem dX5_undo_37 : decode cX5_undo 37 = .ok (.aload_n 0, 1) := dk_42 (dk_at dksX5_undo_1 13 rfl rfl)
theorem dX5_undo_38 : decode cX5_undo 38 = .ok (.aload_n 0, 1) := dk_42 (dk_at dksX5_undo_1 14 rfl rfl)
theorem dX5_undo_39 : decode cX5_undo 39 = .ok (.getfield 26, 3) := dk_180 0 26 (dk_at dksX5_undo_1 15 rfl rfl)
theorem dX5_undo_42 : decode cX5_undo 42 = .ok (.aload_n 0, 1) := dk_42 (dk_at dksX5_undo_1 18 rfl rfl)
theorem dX5_undo_43 : decode cX5_undo 43 = .ok (.getfield 139, 3) := dk_180 0 139 (dk_at dksX5_undo_1 19 rfl rfl)
theorem dX5_undo_46 : decode cX5_undo 46 = .ok (.iaload, 1) := dk_46 (dk_at dksX5_undo_1 22 rfl rfl)
theorem dX5_undo_47 : decode cX5_undo 47 = .ok (.invokevirtual 142, 3) := dk_182 0 142 (dk_at dksX5_undo_2 0 rfl rfl)
theorem dX5_undo_50 : decode cX5_undo 50 = .ok (.ireturn, 1) := dk_172 (dk_at dksX5_undo_2 3 rfl rfl)
abbrev cX5_tell : ByteArray := prog_23_method_6_code
def yX5_tell : MethodName := ⟨RX5, "tell", "(I)I"⟩
def dkwX5_tell_1 : List UInt8 := [46, 4, 96, 79, 27, 172]
abbrev dktX5_tell_1 : List UInt8 := dkwX5_tell_1 ++ []
def dkwX5_tell_0 : List UInt8 := [42, 27, 156, 0, 7, 27, 167, 0, 4, 3, 181, 0, 136, 27, 156, 0, 14, 42, 180, 0, 7, 27, 116, 92]
abbrev dktX5_tell_0 : List UInt8 := dkwX5_tell_0 ++ dktX5_tell_1
theorem dksX5_tell_0 : cX5_tell.data.toList.drop 0 = dktX5_tell_0 := by decide +kernel
theorem dksX5_tell_1 : cX5_tell.data.toList.drop 24 = dktX5_tell_1 := dk_seg dksX5_tell_0 24 rfl rfl
theorem dX5_tell_0 : decode cX5_tell 0 = .ok (.aload_n 0, 1) := dk_42 (dk_at dksX5_tell_0 0 rfl rfl)
theorem dX5_tell_1 : decode cX5_tell 1 = .ok (.iload_n 1, 1) := dk_27 (dk_at dksX5_tell_0 1 rfl rfl)
theorem dX5_tell_2 : decode cX5_tell 2 = .ok (.ifCond .ge 7, 3) := dk_156 0 7 (dk_at dksX5_tell_0 2 rfl rfl)
theorem dX5_tell_5 : decode cX5_tell 5 = .ok (.iload_n 1, 1) := dk_27 (dk_at dksX5_tell_0 5 rfl rfl)
theorem dX5_tell_6 : decode cX5_tell 6 = .ok (.goto 4, 3) := dk_167 0 4 (dk_at dksX5_tell_0 6 rfl rfl)
theorem dX5_tell_9 : decode cX5_tell 9 = .ok (.iconst 0, 1) := dk_3 (dk_at dksX5_tell_0 9 rfl rfl)
theorem dX5_tell_10 : decode cX5_tell 10 = .ok (.putfield 136, 3) := dk_181 0 136 (dk_at dksX5_tell_0 10 rfl rfl)
theorem dX5_tell_13 : decode cX5_tell 13 = .ok (.iload_n 1, 1) := dk_27 (dk_at dksX5_tell_0 13 rfl rfl)
theorem dX5_tell_14 : decode cX5_tell 14 = .ok (.ifCond .ge 14, 3) := dk_156 0 14 (dk_at dksX5_tell_0 14 rfl rfl)
theorem dX5_tell_17 : decode cX5_tell 17 = .ok (.aload_n 0, 1) := dk_42 (dk_at dksX5_tell_0 17 rfl rfl)
theorem dX5_tell_18 : decode cX5_tell 18 = .ok (.getfield 7, 3) := dk_180 0 7 (dk_at dksX5_tell_0 18 rfl rfl)
theorem dX5_tell_21 : decode cX5_tell 21 = .ok (.iload_n 1, 1) := dk_27 (dk_at dksX5_tell_0 21 rfl rfl)
theorem dX5_tell_22 : decode cX5_tell 22 = .ok (.ineg, 1) := dk_116 (dk_at dksX5_tell_0 22 rfl rfl)
theorem dX5_tell_23 : decode cX5_tell 23 = .ok (.dup2, 1) := dk_92 (dk_at dksX5_tell_0 23 rfl rfl)
theorem dX5_tell_24 : decode cX5_tell 24 = .ok (.iaload, 1) := dk_46 (dk_at dksX5_tell_1 0 rfl rfl)
theorem dX5_tell_25 : decode cX5_tell 25 = .ok (.iconst 1, 1) := dk_4 (dk_at dksX5_tell_1 1 rfl rfl)
theorem dX5_tell_26 : decode cX5_tell 26 = .ok (.iadd, 1) := dk_96 (dk_at dksX5_tell_1 2 rfl rfl)
theorem dX5_tell_27 : decode cX5_tell 27 = .ok (.iastore, 1) := dk_79 (dk_at dksX5_tell_1 3 rfl rfl)
theorem dX5_tell_28 : decode cX5_tell 28 = .ok (.iload_n 1, 1) := dk_27 (dk_at dksX5_tell_1 4 rfl rfl)
theorem dX5_tell_29 : decode cX5_tell 29 = .ok (.ireturn, 1) := dk_172 (dk_at dksX5_tell_1 5 rfl rfl)
abbrev cX5_putBack : ByteArray := prog_23_method_10_code
def yX5_putBack : MethodName := ⟨RX5, "putBack", "(I)V"⟩
def dkwX5_putBack_1 : List UInt8 := [104, 28, 96, 46, 79, 132, 2, 1, 167, 255, 226, 177]
abbrev dktX5_putBack_1 : List UInt8 := dkwX5_putBack_1 ++ []
def dkwX5_putBack_0 : List UInt8 := [3, 61, 28, 17, 0, 165, 162, 0, 29, 42, 180, 0, 13, 8, 28, 96, 42, 180, 0, 23, 17, 0, 165, 27]
abbrev dktX5_putBack_0 : List UInt8 := dkwX5_putBack_0 ++ dktX5_putBack_1
theorem dksX5_putBack_0 : cX5_putBack.data.toList.drop 0 = dktX5_putBack_0 := by decide +kernel
theorem dksX5_putBack_1 : cX5_putBack.data.toList.drop 24 = dktX5_putBack_1 := dk_seg dksX5_putBack_0 24 rfl rfl
theorem dX5_putBack_0 : decode cX5_putBack 0 = .ok (.iconst 0, 1) := dk_3 (dk_at dksX5_putBack_0 0 rfl rfl)
theorem dX5_putBack_1 : decode cX5_putBack 1 = .ok (.istore_n 2, 1) := dk_61 (dk_at dksX5_putBack_0 1 rfl rfl)
theorem dX5_putBack_2 : decode cX5_putBack 2 = .ok (.iload_n 2, 1) := dk_28 (dk_at dksX5_putBack_0 2 rfl rfl)
theorem dX5_putBack_3 : decode cX5_putBack 3 = .ok (.sipush 165, 3) := dk_17 0 165 (dk_at dksX5_putBack_0 3 rfl rfl)
theorem dX5_putBack_6 : decode cX5_putBack 6 = .ok (.if_icmp .ge 29, 3) := dk_162 0 29 (dk_at dksX5_putBack_0 6 rfl rfl)
theorem dX5_putBack_9 : decode cX5_putBack 9 = .ok (.aload_n 0, 1) := dk_42 (dk_at dksX5_putBack_0 9 rfl rfl)
theorem dX5_putBack_10 : decode cX5_putBack 10 = .ok (.getfield 13, 3) := dk_180 0 13 (dk_at dksX5_putBack_0 10 rfl rfl)
theorem dX5_putBack_13 : decode cX5_putBack 13 = .ok (.iconst 5, 1) := dk_8 (dk_at dksX5_putBack_0 13 rfl rfl)
theorem dX5_putBack_14 : decode cX5_putBack 14 = .ok (.iload_n 2, 1) := dk_28 (dk_at dksX5_putBack_0 14 rfl rfl)
theorem dX5_putBack_15 : decode cX5_putBack 15 = .ok (.iadd, 1) := dk_96 (dk_at dksX5_putBack_0 15 rfl rfl)
theorem dX5_putBack_16 : decode cX5_putBack 16 = .ok (.aload_n 0, 1) := dk_42 (dk_at dksX5_putBack_0 16 rfl rfl)
theorem dX5_putBack_17 : decode cX5_putBack 17 = .ok (.getfield 23, 3) := dk_180 0 23 (dk_at dksX5_putBack_0 17 rfl rfl)
theorem dX5_putBack_20 : decode cX5_putBack 20 = .ok (.sipush 165, 3) := dk_17 0 165 (dk_at dksX5_putBack_0 20 rfl rfl)
theorem dX5_putBack_23 : decode cX5_putBack 23 = .ok (.iload_n 1, 1) := dk_27 (dk_at dksX5_putBack_0 23 rfl rfl)
theorem dX5_putBack_24 : decode cX5_putBack 24 = .ok (.imul, 1) := dk_104 (dk_at dksX5_putBack_1 0 rfl rfl)
theorem dX5_putBack_25 : decode cX5_putBack 25 = .ok (.iload_n 2, 1) := dk_28 (dk_at dksX5_putBack_1 1 rfl rfl)
theorem dX5_putBack_26 : decode cX5_putBack 26 = .ok (.iadd, 1) := dk_96 (dk_at dksX5_putBack_1 2 rfl rfl)
theorem dX5_putBack_27 : decode cX5_putBack 27 = .ok (.iaload, 1) := dk_46 (dk_at dksX5_putBack_1 3 rfl rfl)
theorem dX5_putBack_28 : decode cX5_putBack 28 = .ok (.iastore, 1) := dk_79 (dk_at dksX5_putBack_1 4 rfl rfl)
theorem dX5_putBack_29 : decode cX5_putBack 29 = .ok (.iinc 2 1, 3) := dk_132 2 1 (dk_at dksX5_putBack_1 5 rfl rfl)
theorem dX5_putBack_32 : decode cX5_putBack 32 = .ok (.goto (-30), 3) := dk_167 255 226 (dk_at dksX5_putBack_1 8 rfl rfl)
theorem dX5_putBack_35 : decode cX5_putBack 35 = .ok (.return_, 1) := dk_177 (dk_at dksX5_putBack_1 11 rfl rfl)
abbrev cX5_image : ByteArray := prog_23_method_13_code
def yX5_image : MethodName := ⟨RX5, "image", "(I)I"⟩
def dkwX5_image_2 : List UInt8 := [132, 2, 1, 167, 255, 228, 42, 180, 0, 19, 27, 4, 84, 42, 3, 182, 0, 142, 172]
abbrev dktX5_image_2 : List UInt8 := dkwX5_image_2 ++ []
def dkwX5_image_1 : List UInt8 := [17, 36, 174, 162, 0, 27, 42, 180, 0, 16, 17, 36, 174, 27, 104, 28, 96, 42, 180, 0, 13, 28, 46, 79]
abbrev dktX5_image_1 : List UInt8 := dkwX5_image_1 ++ dktX5_image_2
def dkwX5_image_0 : List UInt8 := [42, 3, 181, 0, 133, 27, 133, 9, 10, 184, 0, 153, 154, 0, 9, 42, 2, 182, 0, 142, 172, 3, 61, 28]
abbrev dktX5_image_0 : List UInt8 := dkwX5_image_0 ++ dktX5_image_1
theorem dksX5_image_0 : cX5_image.data.toList.drop 0 = dktX5_image_0 := by decide +kernel
theorem dksX5_image_1 : cX5_image.data.toList.drop 24 = dktX5_image_1 := dk_seg dksX5_image_0 24 rfl rfl
theorem dksX5_image_2 : cX5_image.data.toList.drop 48 = dktX5_image_2 := dk_seg dksX5_image_1 24 rfl rfl
theorem dX5_image_0 : decode cX5_image 0 = .ok (.aload_n 0, 1) := dk_42 (dk_at dksX5_image_0 0 rfl rfl)
theorem dX5_image_1 : decode cX5_image 1 = .ok (.iconst 0, 1) := dk_3 (dk_at dksX5_image_0 1 rfl rfl)
theorem dX5_image_2 : decode cX5_image 2 = .ok (.putfield 133, 3) := dk_181 0 133 (dk_at dksX5_image_0 2 rfl rfl)
theorem dX5_image_5 : decode cX5_image 5 = .ok (.iload_n 1, 1) := dk_27 (dk_at dksX5_image_0 5 rfl rfl)
theorem dX5_image_6 : decode cX5_image 6 = .ok (.i2l, 1) := dk_133 (dk_at dksX5_image_0 6 rfl rfl)
theorem dX5_image_7 : decode cX5_image 7 = .ok (.lconst 0, 1) := dk_9 (dk_at dksX5_image_0 7 rfl rfl)
theorem dX5_image_8 : decode cX5_image 8 = .ok (.lconst 1, 1) := dk_10 (dk_at dksX5_image_0 8 rfl rfl)
theorem dX5_image_9 : decode cX5_image 9 = .ok (.invokestatic 153, 3) := dk_184 0 153 (dk_at dksX5_image_0 9 rfl rfl)
theorem dX5_image_12 : decode cX5_image 12 = .ok (.ifCond .ne 9, 3) := dk_154 0 9 (dk_at dksX5_image_0 12 rfl rfl)
theorem dX5_image_15 : decode cX5_image 15 = .ok (.aload_n 0, 1) := dk_42 (dk_at dksX5_image_0 15 rfl rfl)
theorem dX5_image_16 : decode cX5_image 16 = .ok (.iconst (-1), 1) := dk_2 (dk_at dksX5_image_0 16 rfl rfl)
theorem dX5_image_17 : decode cX5_image 17 = .ok (.invokevirtual 142, 3) := dk_182 0 142 (dk_at dksX5_image_0 17 rfl rfl)
theorem dX5_image_20 : decode cX5_image 20 = .ok (.ireturn, 1) := dk_172 (dk_at dksX5_image_0 20 rfl rfl)
theorem dX5_image_21 : decode cX5_image 21 = .ok (.iconst 0, 1) := dk_3 (dk_at dksX5_image_0 21 rfl rfl)
theorem dX5_image_22 : decode cX5_image 22 = .ok (.istore_n 2, 1) := dk_61 (dk_at dksX5_image_0 22 rfl rfl)
theorem dX5_image_23 : decode cX5_image 23 = .ok (.iload_n 2, 1) := dk_28 (dk_at dksX5_image_0 23 rfl rfl)
theorem dX5_image_24 : decode cX5_image 24 = .ok (.sipush 9390, 3) := dk_17 36 174 (dk_at dksX5_image_1 0 rfl rfl)
theorem dX5_image_27 : decode cX5_image 27 = .ok (.if_icmp .ge 27, 3) := dk_162 0 27 (dk_at dksX5_image_1 3 rfl rfl)
theorem dX5_image_30 : decode cX5_image 30 = .ok (.aload_n 0, 1) := dk_42 (dk_at dksX5_image_1 6 rfl rfl)
theorem dX5_image_31 : decode cX5_image 31 = .ok (.getfield 16, 3) := dk_180 0 16 (dk_at dksX5_image_1 7 rfl rfl)
theorem dX5_image_34 : decode cX5_image 34 = .ok (.sipush 9390, 3) := dk_17 36 174 (dk_at dksX5_image_1 10 rfl rfl)
theorem dX5_image_37 : decode cX5_image 37 = .ok (.iload_n 1, 1) := dk_27 (dk_at dksX5_image_1 13 rfl rfl)
theorem dX5_image_38 : decode cX5_image 38 = .ok (.imul, 1) := dk_104 (dk_at dksX5_image_1 14 rfl rfl)
theorem dX5_image_39 : decode cX5_image 39 = .ok (.iload_n 2, 1) := dk_28 (dk_at dksX5_image_1 15 rfl rfl)
theorem dX5_image_40 : decode cX5_image 40 = .ok (.iadd, 1) := dk_96 (dk_at dksX5_image_1 16 rfl rfl)
theorem dX5_image_41 : decode cX5_image 41 = .ok (.aload_n 0, 1) := dk_42 (dk_at dksX5_image_1 17 rfl rfl)
theorem dX5_image_42 : decode cX5_image 42 = .ok (.getfield 13, 3) := dk_180 0 13 (dk_at dksX5_image_1 18 rfl rfl)
theorem dX5_image_45 : decode cX5_image 45 = .ok (.iload_n 2, 1) := dk_28 (dk_at dksX5_image_1 21 rfl rfl)
theorem dX5_image_46 : decode cX5_image 46 = .ok (.iaload, 1) := dk_46 (dk_at dksX5_image_1 22 rfl rfl)
theorem dX5_image_47 : decode cX5_image 47 = .ok (.iastore, 1) := dk_79 (dk_at dksX5_image_1 23 rfl rfl)
theorem dX5_image_48 : decode cX5_image 48 = .ok (.iinc 2 1, 3) := dk_132 2 1 (dk_at dksX5_image_2 0 rfl rfl)
theorem dX5_image_51 : decode cX5_image 51 = .ok (.goto (-28), 3) := dk_167 255 228 (dk_at dksX5_image_2 3 rfl rfl)
theorem dX5_image_54 : decode cX5_image 54 = .ok (.aload_n 0, 1) := dk_42 (dk_at dksX5_image_2 6 rfl rfl)
theorem dX5_image_55 : decode cX5_image 55 = .ok (.getfield 19, 3) := dk_180 0 19 (dk_at dksX5_image_2 7 rfl rfl)
theorem dX5_image_58 : decode cX5_image 58 = .ok (.iload_n 1, 1) := dk_27 (dk_at dksX5_image_2 10 rfl rfl)
theorem dX5_image_59 : decode cX5_image 59 = .ok (.iconst 1, 1) := dk_4 (dk_at dksX5_image_2 11 rfl rfl)
theorem dX5_image_60 : decode cX5_image 60 = .ok (.bastore, 1) := dk_84 (dk_at dksX5_image_2 12 rfl rfl)
theorem dX5_image_61 : decode cX5_image 61 = .ok (.aload_n 0, 1) := dk_42 (dk_at dksX5_image_2 13 rfl rfl)
theorem dX5_image_62 : decode cX5_image 62 = .ok (.iconst 0, 1) := dk_3 (dk_at dksX5_image_2 14 rfl rfl)
theorem dX5_image_63 : decode cX5_image 63 = .ok (.invokevirtual 142, 3) := dk_182 0 142 (dk_at dksX5_image_2 15 rfl rfl)
theorem dX5_image_66 : decode cX5_image 66 = .ok (.ireturn, 1) := dk_172 (dk_at dksX5_image_2 18 rfl rfl)
abbrev cX5_in : ByteArray := prog_23_method_3_code
def yX5_in : MethodName := ⟨RX5, "in", "(JJJ)Z"⟩
def dkwX5_in_0 : List UInt8 := [30, 32, 148, 155, 0, 14, 30, 22, 4, 148, 157, 0, 7, 4, 167, 0, 4, 3, 172]
abbrev dktX5_in_0 : List UInt8 := dkwX5_in_0 ++ []
theorem dksX5_in_0 : cX5_in.data.toList.drop 0 = dktX5_in_0 := by decide +kernel
theorem dX5_in_0 : decode cX5_in 0 = .ok (.lload_n 0, 1) := dk_30 (dk_at dksX5_in_0 0 rfl rfl)
theorem dX5_in_1 : decode cX5_in 1 = .ok (.lload_n 2, 1) := dk_32 (dk_at dksX5_in_0 1 rfl rfl)
theorem dX5_in_2 : decode cX5_in 2 = .ok (.lcmp, 1) := dk_148 (dk_at dksX5_in_0 2 rfl rfl)
theorem dX5_in_3 : decode cX5_in 3 = .ok (.ifCond .lt 14, 3) := dk_155 0 14 (dk_at dksX5_in_0 3 rfl rfl)
theorem dX5_in_6 : decode cX5_in 6 = .ok (.lload_n 0, 1) := dk_30 (dk_at dksX5_in_0 6 rfl rfl)
theorem dX5_in_7 : decode cX5_in 7 = .ok (.lload 4, 2) := dk_22 4 (dk_at dksX5_in_0 7 rfl rfl)
theorem dX5_in_9 : decode cX5_in 9 = .ok (.lcmp, 1) := dk_148 (dk_at dksX5_in_0 9 rfl rfl)
theorem dX5_in_10 : decode cX5_in 10 = .ok (.ifCond .gt 7, 3) := dk_157 0 7 (dk_at dksX5_in_0 10 rfl rfl)
theorem dX5_in_13 : decode cX5_in 13 = .ok (.iconst 1, 1) := dk_4 (dk_at dksX5_in_0 13 rfl rfl)
theorem dX5_in_14 : decode cX5_in 14 = .ok (.goto 4, 3) := dk_167 0 4 (dk_at dksX5_in_0 14 rfl rfl)
theorem dX5_in_17 : decode cX5_in 17 = .ok (.iconst 0, 1) := dk_3 (dk_at dksX5_in_0 17 rfl rfl)
theorem dX5_in_18 : decode cX5_in 18 = .ok (.ireturn, 1) := dk_172 (dk_at dksX5_in_0 18 rfl rfl)
abbrev cX5_back : ByteArray := prog_23_method_14_code
def yX5_back : MethodName := ⟨RX5, "back", "(I)I"⟩
def dkwX5_back_3 : List UInt8 := [42, 3, 182, 0, 157, 172]
abbrev dktX5_back_3 : List UInt8 := dkwX5_back_3 ++ []
def dkwX5_back_2 : List UInt8 := [42, 180, 0, 13, 28, 42, 180, 0, 16, 17, 36, 174, 27, 104, 28, 96, 46, 79, 132, 2, 1, 167, 255, 228]
abbrev dktX5_back_2 : List UInt8 := dkwX5_back_2 ++ dktX5_back_3
def dkwX5_back_1 : List UInt8 := [180, 0, 19, 27, 51, 154, 0, 10, 42, 16, 254, 182, 0, 142, 172, 3, 61, 28, 17, 36, 174, 162, 0, 27]
abbrev dktX5_back_1 : List UInt8 := dkwX5_back_1 ++ dktX5_back_2
def dkwX5_back_0 : List UInt8 := [42, 3, 181, 0, 133, 27, 133, 9, 10, 184, 0, 153, 154, 0, 9, 42, 2, 182, 0, 142, 172, 42]
abbrev dktX5_back_0 : List UInt8 := dkwX5_back_0 ++ dktX5_back_1
theorem dksX5_back_0 : cX5_back.data.toList.drop 0 = dktX5_back_0 := by decide +kernel
theorem dksX5_back_1 : cX5_back.data.toList.drop 22 = dktX5_back_1 := dk_seg dksX5_back_0 22 rfl rfl
theorem dksX5_back_2 : cX5_back.data.toList.drop 46 = dktX5_back_2 := dk_seg dksX5_back_1 24 rfl rfl
theorem dksX5_back_3 : cX5_back.data.toList.drop 70 = dktX5_back_3 := dk_seg dksX5_back_2 24 rfl rfl
theorem dX5_back_0 : decode cX5_back 0 = .ok (.aload_n 0, 1) := dk_42 (dk_at dksX5_back_0 0 rfl rfl)
theorem dX5_back_1 : decode cX5_back 1 = .ok (.iconst 0, 1) := dk_3 (dk_at dksX5_back_0 1 rfl rfl)
theorem dX5_back_2 : decode cX5_back 2 = .ok (.putfield 133, 3) := dk_181 0 133 (dk_at dksX5_back_0 2 rfl rfl)
theorem dX5_back_5 : decode cX5_back 5 = .ok (.iload_n 1, 1) := dk_27 (dk_at dksX5_back_0 5 rfl rfl)
theorem dX5_back_6 : decode cX5_back 6 = .ok (.i2l, 1) := dk_133 (dk_at dksX5_back_0 6 rfl rfl)
theorem dX5_back_7 : decode cX5_back 7 = .ok (.lconst 0, 1) := dk_9 (dk_at dksX5_back_0 7 rfl rfl)
theorem dX5_back_8 : decode cX5_back 8 = .ok (.lconst 1, 1) := dk_10 (dk_at dksX5_back_0 8 rfl rfl)
theorem dX5_back_9 : decode cX5_back 9 = .ok (.invokestatic 153, 3) := dk_184 0 153 (dk_at dksX5_back_0 9 rfl rfl)
theorem dX5_back_12 : decode cX5_back 12 = .ok (.ifCond .ne 9, 3) := dk_154 0 9 (dk_at dksX5_back_0 12 rfl rfl)
theorem dX5_back_15 : decode cX5_back 15 = .ok (.aload_n 0, 1) := dk_42 (dk_at dksX5_back_0 15 rfl rfl)
theorem dX5_back_16 : decode cX5_back 16 = .ok (.iconst (-1), 1) := dk_2 (dk_at dksX5_back_0 16 rfl rfl)
theorem dX5_back_17 : decode cX5_back 17 = .ok (.invokevirtual 142, 3) := dk_182 0 142 (dk_at dksX5_back_0 17 rfl rfl)
theorem dX5_back_20 : decode cX5_back 20 = .ok (.ireturn, 1) := dk_172 (dk_at dksX5_back_0 20 rfl rfl)
theorem dX5_back_21 : decode cX5_back 21 = .ok (.aload_n 0, 1) := dk_42 (dk_at dksX5_back_0 21 rfl rfl)
theorem dX5_back_22 : decode cX5_back 22 = .ok (.getfield 19, 3) := dk_180 0 19 (dk_at dksX5_back_1 0 rfl rfl)
theorem dX5_back_25 : decode cX5_back 25 = .ok (.iload_n 1, 1) := dk_27 (dk_at dksX5_back_1 3 rfl rfl)
theorem dX5_back_26 : decode cX5_back 26 = .ok (.baload, 1) := dk_51 (dk_at dksX5_back_1 4 rfl rfl)
theorem dX5_back_27 : decode cX5_back 27 = .ok (.ifCond .ne 10, 3) := dk_154 0 10 (dk_at dksX5_back_1 5 rfl rfl)
theorem dX5_back_30 : decode cX5_back 30 = .ok (.aload_n 0, 1) := dk_42 (dk_at dksX5_back_1 8 rfl rfl)
theorem dX5_back_31 : decode cX5_back 31 = .ok (.bipush (-2), 2) := dk_16 254 (dk_at dksX5_back_1 9 rfl rfl)
theorem dX5_back_33 : decode cX5_back 33 = .ok (.invokevirtual 142, 3) := dk_182 0 142 (dk_at dksX5_back_1 11 rfl rfl)
theorem dX5_back_36 : decode cX5_back 36 = .ok (.ireturn, 1) := dk_172 (dk_at dksX5_back_1 14 rfl rfl)
theorem dX5_back_37 : decode cX5_back 37 = .ok (.iconst 0, 1) := dk_3 (dk_at dksX5_back_1 15 rfl rfl)
theorem dX5_back_38 : decode cX5_back 38 = .ok (.istore_n 2, 1) := dk_61 (dk_at dksX5_back_1 16 rfl rfl)
theorem dX5_back_39 : decode cX5_back 39 = .ok (.iload_n 2, 1) := dk_28 (dk_at dksX5_back_1 17 rfl rfl)
theorem dX5_back_40 : decode cX5_back 40 = .ok (.sipush 9390, 3) := dk_17 36 174 (dk_at dksX5_back_1 18 rfl rfl)
theorem dX5_back_43 : decode cX5_back 43 = .ok (.if_icmp .ge 27, 3) := dk_162 0 27 (dk_at dksX5_back_1 21 rfl rfl)
theorem dX5_back_46 : decode cX5_back 46 = .ok (.aload_n 0, 1) := dk_42 (dk_at dksX5_back_2 0 rfl rfl)
theorem dX5_back_47 : decode cX5_back 47 = .ok (.getfield 13, 3) := dk_180 0 13 (dk_at dksX5_back_2 1 rfl rfl)
theorem dX5_back_50 : decode cX5_back 50 = .ok (.iload_n 2, 1) := dk_28 (dk_at dksX5_back_2 4 rfl rfl)
theorem dX5_back_51 : decode cX5_back 51 = .ok (.aload_n 0, 1) := dk_42 (dk_at dksX5_back_2 5 rfl rfl)
theorem dX5_back_52 : decode cX5_back 52 = .ok (.getfield 16, 3) := dk_180 0 16 (dk_at dksX5_back_2 6 rfl rfl)
theorem dX5_back_55 : decode cX5_back 55 = .ok (.sipush 9390, 3) := dk_17 36 174 (dk_at dksX5_back_2 9 rfl rfl)
theorem dX5_back_58 : decode cX5_back 58 = .ok (.iload_n 1, 1) := dk_27 (dk_at dksX5_back_2 12 rfl rfl)
theorem dX5_back_59 : decode cX5_back 59 = .ok (.imul, 1) := dk_104 (dk_at dksX5_back_2 13 rfl rfl)
theorem dX5_back_60 : decode cX5_back 60 = .ok (.iload_n 2, 1) := dk_28 (dk_at dksX5_back_2 14 rfl rfl)
theorem dX5_back_61 : decode cX5_back 61 = .ok (.iadd, 1) := dk_96 (dk_at dksX5_back_2 15 rfl rfl)
theorem dX5_back_62 : decode cX5_back 62 = .ok (.iaload, 1) := dk_46 (dk_at dksX5_back_2 16 rfl rfl)
theorem dX5_back_63 : decode cX5_back 63 = .ok (.iastore, 1) := dk_79 (dk_at dksX5_back_2 17 rfl rfl)
theorem dX5_back_64 : decode cX5_back 64 = .ok (.iinc 2 1, 3) := dk_132 2 1 (dk_at dksX5_back_2 18 rfl rfl)
theorem dX5_back_67 : decode cX5_back 67 = .ok (.goto (-28), 3) := dk_167 255 228 (dk_at dksX5_back_2 21 rfl rfl)
theorem dX5_back_70 : decode cX5_back 70 = .ok (.aload_n 0, 1) := dk_42 (dk_at dksX5_back_3 0 rfl rfl)
theorem dX5_back_71 : decode cX5_back 71 = .ok (.iconst 0, 1) := dk_3 (dk_at dksX5_back_3 1 rfl rfl)
theorem dX5_back_72 : decode cX5_back 72 = .ok (.invokevirtual 157, 3) := dk_182 0 157 (dk_at dksX5_back_3 2 rfl rfl)
theorem dX5_back_75 : decode cX5_back 75 = .ok (.ireturn, 1) := dk_172 (dk_at dksX5_back_3 5 rfl rfl)
abbrev cX5_lasting : ByteArray := prog_23_method_8_code
def yX5_lasting : MethodName := ⟨RX5, "lasting", "(I)I"⟩
def dkwX5_lasting_0 : List UInt8 := [42, 27, 156, 0, 10, 42, 180, 0, 139, 167, 0, 4, 3, 181, 0, 139, 42, 27, 182, 0, 142, 172]
abbrev dktX5_lasting_0 : List UInt8 := dkwX5_lasting_0 ++ []
theorem dksX5_lasting_0 : cX5_lasting.data.toList.drop 0 = dktX5_lasting_0 := by decide +kernel
theorem dX5_lasting_0 : decode cX5_lasting 0 = .ok (.aload_n 0, 1) := dk_42 (dk_at dksX5_lasting_0 0 rfl rfl)
theorem dX5_lasting_1 : decode cX5_lasting 1 = .ok (.iload_n 1, 1) := dk_27 (dk_at dksX5_lasting_0 1 rfl rfl)
theorem dX5_lasting_2 : decode cX5_lasting 2 = .ok (.ifCond .ge 10, 3) := dk_156 0 10 (dk_at dksX5_lasting_0 2 rfl rfl)
theorem dX5_lasting_5 : decode cX5_lasting 5 = .ok (.aload_n 0, 1) := dk_42 (dk_at dksX5_lasting_0 5 rfl rfl)
theorem dX5_lasting_6 : decode cX5_lasting 6 = .ok (.getfield 139, 3) := dk_180 0 139 (dk_at dksX5_lasting_0 6 rfl rfl)
theorem dX5_lasting_9 : decode cX5_lasting 9 = .ok (.goto 4, 3) := dk_167 0 4 (dk_at dksX5_lasting_0 9 rfl rfl)
theorem dX5_lasting_12 : decode cX5_lasting 12 = .ok (.iconst 0, 1) := dk_3 (dk_at dksX5_lasting_0 12 rfl rfl)
theorem dX5_lasting_13 : decode cX5_lasting 13 = .ok (.putfield 139, 3) := dk_181 0 139 (dk_at dksX5_lasting_0 13 rfl rfl)
theorem dX5_lasting_16 : decode cX5_lasting 16 = .ok (.aload_n 0, 1) := dk_42 (dk_at dksX5_lasting_0 16 rfl rfl)
theorem dX5_lasting_17 : decode cX5_lasting 17 = .ok (.iload_n 1, 1) := dk_27 (dk_at dksX5_lasting_0 17 rfl rfl)
theorem dX5_lasting_18 : decode cX5_lasting 18 = .ok (.invokevirtual 142, 3) := dk_182 0 142 (dk_at dksX5_lasting_0 18 rfl rfl)
theorem dX5_lasting_21 : decode cX5_lasting 21 = .ok (.ireturn, 1) := dk_172 (dk_at dksX5_lasting_0 21 rfl rfl)
abbrev cX5_cask : ByteArray := prog_23_method_24_code
def yX5_cask : MethodName := ⟨RX5, "cask", "(II)I"⟩
def dkwX5_cask_0 : List UInt8 := [42, 3, 181, 0, 133, 42, 42, 27, 28, 182, 0, 181, 182, 0, 157, 172]
abbrev dktX5_cask_0 : List UInt8 := dkwX5_cask_0 ++ []
theorem dksX5_cask_0 : cX5_cask.data.toList.drop 0 = dktX5_cask_0 := by decide +kernel
theorem dX5_cask_0 : decode cX5_cask 0 = .ok (.aload_n 0, 1) := dk_42 (dk_at dksX5_cask_0 0 rfl rfl)
theorem dX5_cask_1 : decode cX5_cask 1 = .ok (.iconst 0, 1) := dk_3 (dk_at dksX5_cask_0 1 rfl rfl)
theorem dX5_cask_2 : decode cX5_cask 2 = .ok (.putfield 133, 3) := dk_181 0 133 (dk_at dksX5_cask_0 2 rfl rfl)
theorem dX5_cask_5 : decode cX5_cask 5 = .ok (.aload_n 0, 1) := dk_42 (dk_at dksX5_cask_0 5 rfl rfl)
theorem dX5_cask_6 : decode cX5_cask 6 = .ok (.aload_n 0, 1) := dk_42 (dk_at dksX5_cask_0 6 rfl rfl)
theorem dX5_cask_7 : decode cX5_cask 7 = .ok (.iload_n 1, 1) := dk_27 (dk_at dksX5_cask_0 7 rfl rfl)
theorem dX5_cask_8 : decode cX5_cask 8 = .ok (.iload_n 2, 1) := dk_28 (dk_at dksX5_cask_0 8 rfl rfl)
theorem dX5_cask_9 : decode cX5_cask 9 = .ok (.invokevirtual 181, 3) := dk_182 0 181 (dk_at dksX5_cask_0 9 rfl rfl)
theorem dX5_cask_12 : decode cX5_cask 12 = .ok (.invokevirtual 157, 3) := dk_182 0 157 (dk_at dksX5_cask_0 12 rfl rfl)
theorem dX5_cask_15 : decode cX5_cask 15 = .ok (.ireturn, 1) := dk_172 (dk_at dksX5_cask_0 15 rfl rfl)
abbrev cX5_comes : ByteArray := prog_23_method_23_code
def yX5_comes : MethodName := ⟨RX5, "comes", "(II)I"⟩
def dkwX5_comes_4 : List UInt8 := [167, 255, 230, 42, 180, 0, 13, 3, 92, 46, 4, 96, 79, 29, 172]
abbrev dktX5_comes_4 : List UInt8 := dkwX5_comes_4 ++ []
def dkwX5_comes_3 : List UInt8 := [16, 20, 162, 0, 25, 42, 180, 0, 13, 16, 10, 16, 20, 29, 104, 96, 21, 4, 96, 3, 79, 132, 4, 1]
abbrev dktX5_comes_3 : List UInt8 := dkwX5_comes_3 ++ dktX5_comes_4
def dkwX5_comes_2 : List UInt8 := [17, 0, 170, 29, 96, 27, 79, 42, 180, 0, 13, 17, 0, 178, 29, 96, 28, 79, 3, 54, 4, 21, 4]
abbrev dktX5_comes_2 : List UInt8 := dkwX5_comes_2 ++ dktX5_comes_3
def dkwX5_comes_1 : List UInt8 := [2, 172, 42, 180, 0, 13, 3, 46, 62, 29, 16, 8, 160, 0, 6, 16, 251, 172, 42, 180, 0, 13]
abbrev dktX5_comes_1 : List UInt8 := dkwX5_comes_1 ++ dktX5_comes_2
def dkwX5_comes_0 : List UInt8 := [27, 133, 9, 20, 0, 177, 184, 0, 153, 153, 0, 15, 28, 133, 10, 20, 0, 179, 184, 0, 153, 154, 0, 5]
abbrev dktX5_comes_0 : List UInt8 := dkwX5_comes_0 ++ dktX5_comes_1
theorem dksX5_comes_0 : cX5_comes.data.toList.drop 0 = dktX5_comes_0 := by decide +kernel
theorem dksX5_comes_1 : cX5_comes.data.toList.drop 24 = dktX5_comes_1 := dk_seg dksX5_comes_0 24 rfl rfl
theorem dksX5_comes_2 : cX5_comes.data.toList.drop 46 = dktX5_comes_2 := dk_seg dksX5_comes_1 22 rfl rfl
theorem dksX5_comes_3 : cX5_comes.data.toList.drop 69 = dktX5_comes_3 := dk_seg dksX5_comes_2 23 rfl rfl
theorem dksX5_comes_4 : cX5_comes.data.toList.drop 93 = dktX5_comes_4 := dk_seg dksX5_comes_3 24 rfl rfl
theorem dX5_comes_0 : decode cX5_comes 0 = .ok (.iload_n 1, 1) := dk_27 (dk_at dksX5_comes_0 0 rfl rfl)
theorem dX5_comes_1 : decode cX5_comes 1 = .ok (.i2l, 1) := dk_133 (dk_at dksX5_comes_0 1 rfl rfl)
theorem dX5_comes_2 : decode cX5_comes 2 = .ok (.lconst 0, 1) := dk_9 (dk_at dksX5_comes_0 2 rfl rfl)
theorem dX5_comes_3 : decode cX5_comes 3 = .ok (.ldc2_w 177, 3) := dk_20 0 177 (dk_at dksX5_comes_0 3 rfl rfl)
theorem dX5_comes_6 : decode cX5_comes 6 = .ok (.invokestatic 153, 3) := dk_184 0 153 (dk_at dksX5_comes_0 6 rfl rfl)
theorem dX5_comes_9 : decode cX5_comes 9 = .ok (.ifCond .eq 15, 3) := dk_153 0 15 (dk_at dksX5_comes_0 9 rfl rfl)
theorem dX5_comes_12 : decode cX5_comes 12 = .ok (.iload_n 2, 1) := dk_28 (dk_at dksX5_comes_0 12 rfl rfl)
theorem dX5_comes_13 : decode cX5_comes 13 = .ok (.i2l, 1) := dk_133 (dk_at dksX5_comes_0 13 rfl rfl)
theorem dX5_comes_14 : decode cX5_comes 14 = .ok (.lconst 1, 1) := dk_10 (dk_at dksX5_comes_0 14 rfl rfl)
theorem dX5_comes_15 : decode cX5_comes 15 = .ok (.ldc2_w 179, 3) := dk_20 0 179 (dk_at dksX5_comes_0 15 rfl rfl)
theorem dX5_comes_18 : decode cX5_comes 18 = .ok (.invokestatic 153, 3) := dk_184 0 153 (dk_at dksX5_comes_0 18 rfl rfl)
theorem dX5_comes_21 : decode cX5_comes 21 = .ok (.ifCond .ne 5, 3) := dk_154 0 5 (dk_at dksX5_comes_0 21 rfl rfl)
theorem dX5_comes_24 : decode cX5_comes 24 = .ok (.iconst (-1), 1) := dk_2 (dk_at dksX5_comes_1 0 rfl rfl)
theorem dX5_comes_25 : decode cX5_comes 25 = .ok (.ireturn, 1) := dk_172 (dk_at dksX5_comes_1 1 rfl rfl)
theorem dX5_comes_26 : decode cX5_comes 26 = .ok (.aload_n 0, 1) := dk_42 (dk_at dksX5_comes_1 2 rfl rfl)
theorem dX5_comes_27 : decode cX5_comes 27 = .ok (.getfield 13, 3) := dk_180 0 13 (dk_at dksX5_comes_1 3 rfl rfl)
theorem dX5_comes_30 : decode cX5_comes 30 = .ok (.iconst 0, 1) := dk_3 (dk_at dksX5_comes_1 6 rfl rfl)
theorem dX5_comes_31 : decode cX5_comes 31 = .ok (.iaload, 1) := dk_46 (dk_at dksX5_comes_1 7 rfl rfl)
theorem dX5_comes_32 : decode cX5_comes 32 = .ok (.istore_n 3, 1) := dk_62 (dk_at dksX5_comes_1 8 rfl rfl)
theorem dX5_comes_33 : decode cX5_comes 33 = .ok (.iload_n 3, 1) := dk_29 (dk_at dksX5_comes_1 9 rfl rfl)
theorem dX5_comes_34 : decode cX5_comes 34 = .ok (.bipush 8, 2) := dk_16 8 (dk_at dksX5_comes_1 10 rfl rfl)
theorem dX5_comes_36 : decode cX5_comes 36 = .ok (.if_icmp .ne 6, 3) := dk_160 0 6 (dk_at dksX5_comes_1 12 rfl rfl)
theorem dX5_comes_39 : decode cX5_comes 39 = .ok (.bipush (-5), 2) := dk_16 251 (dk_at dksX5_comes_1 15 rfl rfl)
theorem dX5_comes_41 : decode cX5_comes 41 = .ok (.ireturn, 1) := dk_172 (dk_at dksX5_comes_1 17 rfl rfl)
theorem dX5_comes_42 : decode cX5_comes 42 = .ok (.aload_n 0, 1) := dk_42 (dk_at dksX5_comes_1 18 rfl rfl)
theorem dX5_comes_43 : decode cX5_comes 43 = .ok (.getfield 13, 3) := dk_180 0 13 (dk_at dksX5_comes_1 19 rfl rfl)
theorem dX5_comes_46 : decode cX5_comes 46 = .ok (.sipush 170, 3) := dk_17 0 170 (dk_at dksX5_comes_2 0 rfl rfl)
theorem dX5_comes_49 : decode cX5_comes 49 = .ok (.iload_n 3, 1) := dk_29 (dk_at dksX5_comes_2 3 rfl rfl)
theorem dX5_comes_50 : decode cX5_comes 50 = .ok (.iadd, 1) := dk_96 (dk_at dksX5_comes_2 4 rfl rfl)
theorem dX5_comes_51 : decode cX5_comes 51 = .ok (.iload_n 1, 1) := dk_27 (dk_at dksX5_comes_2 5 rfl rfl)
theorem dX5_comes_52 : decode cX5_comes 52 = .ok (.iastore, 1) := dk_79 (dk_at dksX5_comes_2 6 rfl rfl)
theorem dX5_comes_53 : decode cX5_comes 53 = .ok (.aload_n 0, 1) := dk_42 (dk_at dksX5_comes_2 7 rfl rfl)
theorem dX5_comes_54 : decode cX5_comes 54 = .ok (.getfield 13, 3) := dk_180 0 13 (dk_at dksX5_comes_2 8 rfl rfl)
theorem dX5_comes_57 : decode cX5_comes 57 = .ok (.sipush 178, 3) := dk_17 0 178 (dk_at dksX5_comes_2 11 rfl rfl)
theorem dX5_comes_60 : decode cX5_comes 60 = .ok (.iload_n 3, 1) := dk_29 (dk_at dksX5_comes_2 14 rfl rfl)
theorem dX5_comes_61 : decode cX5_comes 61 = .ok (.iadd, 1) := dk_96 (dk_at dksX5_comes_2 15 rfl rfl)
theorem dX5_comes_62 : decode cX5_comes 62 = .ok (.iload_n 2, 1) := dk_28 (dk_at dksX5_comes_2 16 rfl rfl)
theorem dX5_comes_63 : decode cX5_comes 63 = .ok (.iastore, 1) := dk_79 (dk_at dksX5_comes_2 17 rfl rfl)
theorem dX5_comes_64 : decode cX5_comes 64 = .ok (.iconst 0, 1) := dk_3 (dk_at dksX5_comes_2 18 rfl rfl)
theorem dX5_comes_65 : decode cX5_comes 65 = .ok (.istore 4, 2) := dk_54 4 (dk_at dksX5_comes_2 19 rfl rfl)
theorem dX5_comes_67 : decode cX5_comes 67 = .ok (.iload 4, 2) := dk_21 4 (dk_at dksX5_comes_2 21 rfl rfl)
theorem dX5_comes_69 : decode cX5_comes 69 = .ok (.bipush 20, 2) := dk_16 20 (dk_at dksX5_comes_3 0 rfl rfl)
theorem dX5_comes_71 : decode cX5_comes 71 = .ok (.if_icmp .ge 25, 3) := dk_162 0 25 (dk_at dksX5_comes_3 2 rfl rfl)
theorem dX5_comes_74 : decode cX5_comes 74 = .ok (.aload_n 0, 1) := dk_42 (dk_at dksX5_comes_3 5 rfl rfl)
theorem dX5_comes_75 : decode cX5_comes 75 = .ok (.getfield 13, 3) := dk_180 0 13 (dk_at dksX5_comes_3 6 rfl rfl)
theorem dX5_comes_78 : decode cX5_comes 78 = .ok (.bipush 10, 2) := dk_16 10 (dk_at dksX5_comes_3 9 rfl rfl)
theorem dX5_comes_80 : decode cX5_comes 80 = .ok (.bipush 20, 2) := dk_16 20 (dk_at dksX5_comes_3 11 rfl rfl)
theorem dX5_comes_82 : decode cX5_comes 82 = .ok (.iload_n 3, 1) := dk_29 (dk_at dksX5_comes_3 13 rfl rfl)
theorem dX5_comes_83 : decode cX5_comes 83 = .ok (.imul, 1) := dk_104 (dk_at dksX5_comes_3 14 rfl rfl)
theorem dX5_comes_84 : decode cX5_comes 84 = .ok (.iadd, 1) := dk_96 (dk_at dksX5_comes_3 15 rfl rfl)
theorem dX5_comes_85 : decode cX5_comes 85 = .ok (.iload 4, 2) := dk_21 4 (dk_at dksX5_comes_3 16 rfl rfl)
theorem dX5_comes_87 : decode cX5_comes 87 = .ok (.iadd, 1) := dk_96 (dk_at dksX5_comes_3 18 rfl rfl)
theorem dX5_comes_88 : decode cX5_comes 88 = .ok (.iconst 0, 1) := dk_3 (dk_at dksX5_comes_3 19 rfl rfl)
theorem dX5_comes_89 : decode cX5_comes 89 = .ok (.iastore, 1) := dk_79 (dk_at dksX5_comes_3 20 rfl rfl)
theorem dX5_comes_90 : decode cX5_comes 90 = .ok (.iinc 4 1, 3) := dk_132 4 1 (dk_at dksX5_comes_3 21 rfl rfl)
theorem dX5_comes_93 : decode cX5_comes 93 = .ok (.goto (-26), 3) := dk_167 255 230 (dk_at dksX5_comes_4 0 rfl rfl)
theorem dX5_comes_96 : decode cX5_comes 96 = .ok (.aload_n 0, 1) := dk_42 (dk_at dksX5_comes_4 3 rfl rfl)
theorem dX5_comes_97 : decode cX5_comes 97 = .ok (.getfield 13, 3) := dk_180 0 13 (dk_at dksX5_comes_4 4 rfl rfl)
theorem dX5_comes_100 : decode cX5_comes 100 = .ok (.iconst 0, 1) := dk_3 (dk_at dksX5_comes_4 7 rfl rfl)
theorem dX5_comes_101 : decode cX5_comes 101 = .ok (.dup2, 1) := dk_92 (dk_at dksX5_comes_4 8 rfl rfl)
theorem dX5_comes_102 : decode cX5_comes 102 = .ok (.iaload, 1) := dk_46 (dk_at dksX5_comes_4 9 rfl rfl)
theorem dX5_comes_103 : decode cX5_comes 103 = .ok (.iconst 1, 1) := dk_4 (dk_at dksX5_comes_4 10 rfl rfl)
theorem dX5_comes_104 : decode cX5_comes 104 = .ok (.iadd, 1) := dk_96 (dk_at dksX5_comes_4 11 rfl rfl)
theorem dX5_comes_105 : decode cX5_comes 105 = .ok (.iastore, 1) := dk_79 (dk_at dksX5_comes_4 12 rfl rfl)
theorem dX5_comes_106 : decode cX5_comes 106 = .ok (.iload_n 3, 1) := dk_29 (dk_at dksX5_comes_4 13 rfl rfl)
theorem dX5_comes_107 : decode cX5_comes 107 = .ok (.ireturn, 1) := dk_172 (dk_at dksX5_comes_4 14 rfl rfl)
abbrev cX5_of : ByteArray := prog_23_method_25_code
def yX5_of : MethodName := ⟨RX5, "of", "(II)I"⟩
def dkwX5_of_5 : List UInt8 := [20, 0, 202, 184, 0, 153, 153, 0, 15, 42, 27, 28, 16, 8, 100, 182, 0, 160, 167, 0, 4, 2, 172]
abbrev dktX5_of_5 : List UInt8 := dkwX5_of_5 ++ []
def dkwX5_of_4 : List UInt8 := [182, 0, 194, 172, 42, 27, 182, 0, 197, 153, 0, 7, 4, 167, 0, 4, 3, 172, 28, 133, 20, 0, 200]
abbrev dktX5_of_4 : List UInt8 := dkwX5_of_4 ++ dktX5_of_5
def dkwX5_of_3 : List UInt8 := [182, 0, 166, 172, 42, 27, 182, 0, 169, 172, 42, 27, 182, 0, 188, 172, 42, 27, 182, 0, 191, 172, 42, 27]
abbrev dktX5_of_3 : List UInt8 := dkwX5_of_3 ++ dktX5_of_4
def dkwX5_of_2 : List UInt8 := [42, 180, 0, 13, 17, 0, 170, 27, 96, 46, 172, 42, 180, 0, 13, 17, 0, 178, 27, 96, 46, 172, 42, 27]
abbrev dktX5_of_2 : List UInt8 := dkwX5_of_2 ++ dktX5_of_3
def dkwX5_of_1 : List UInt8 := [170, 0, 0, 0, 0, 0, 0, 114, 0, 0, 0, 0, 0, 0, 0, 7, 0, 0, 0, 48, 0, 0, 0, 59, 0, 0, 0, 70, 0, 0, 0, 76, 0, 0, 0, 82, 0, 0, 0, 88, 0, 0, 0, 94, 0, 0, 0, 100]
abbrev dktX5_of_1 : List UInt8 := dkwX5_of_1 ++ dktX5_of_2
def dkwX5_of_0 : List UInt8 := [42, 3, 181, 0, 133, 42, 27, 182, 0, 184, 154, 0, 5, 2, 172, 28]
abbrev dktX5_of_0 : List UInt8 := dkwX5_of_0 ++ dktX5_of_1
theorem dksX5_of_0 : cX5_of.data.toList.drop 0 = dktX5_of_0 := by decide +kernel
theorem dksX5_of_1 : cX5_of.data.toList.drop 16 = dktX5_of_1 := dk_seg dksX5_of_0 16 rfl rfl
theorem dksX5_of_2 : cX5_of.data.toList.drop 64 = dktX5_of_2 := dk_seg dksX5_of_1 48 rfl rfl
theorem dksX5_of_3 : cX5_of.data.toList.drop 88 = dktX5_of_3 := dk_seg dksX5_of_2 24 rfl rfl
theorem dksX5_of_4 : cX5_of.data.toList.drop 112 = dktX5_of_4 := dk_seg dksX5_of_3 24 rfl rfl
theorem dksX5_of_5 : cX5_of.data.toList.drop 135 = dktX5_of_5 := dk_seg dksX5_of_4 23 rfl rfl
theorem dX5_of_0 : decode cX5_of 0 = .ok (.aload_n 0, 1) := dk_42 (dk_at dksX5_of_0 0 rfl rfl)
theorem dX5_of_1 : decode cX5_of 1 = .ok (.iconst 0, 1) := dk_3 (dk_at dksX5_of_0 1 rfl rfl)
theorem dX5_of_2 : decode cX5_of 2 = .ok (.putfield 133, 3) := dk_181 0 133 (dk_at dksX5_of_0 2 rfl rfl)
theorem dX5_of_5 : decode cX5_of 5 = .ok (.aload_n 0, 1) := dk_42 (dk_at dksX5_of_0 5 rfl rfl)
theorem dX5_of_6 : decode cX5_of 6 = .ok (.iload_n 1, 1) := dk_27 (dk_at dksX5_of_0 6 rfl rfl)
theorem dX5_of_7 : decode cX5_of 7 = .ok (.invokevirtual 184, 3) := dk_182 0 184 (dk_at dksX5_of_0 7 rfl rfl)
theorem dX5_of_10 : decode cX5_of 10 = .ok (.ifCond .ne 5, 3) := dk_154 0 5 (dk_at dksX5_of_0 10 rfl rfl)
theorem dX5_of_13 : decode cX5_of 13 = .ok (.iconst (-1), 1) := dk_2 (dk_at dksX5_of_0 13 rfl rfl)
theorem dX5_of_14 : decode cX5_of 14 = .ok (.ireturn, 1) := dk_172 (dk_at dksX5_of_0 14 rfl rfl)
theorem dX5_of_15 : decode cX5_of 15 = .ok (.iload_n 2, 1) := dk_28 (dk_at dksX5_of_0 15 rfl rfl)
theorem dX5_of_16 : decode cX5_of 16 = .ok (.tableswitch 114 0 7 #[48, 59, 70, 76, 82, 88, 94, 100], 48) := by decide +kernel
theorem dX5_of_64 : decode cX5_of 64 = .ok (.aload_n 0, 1) := dk_42 (dk_at dksX5_of_2 0 rfl rfl)
theorem dX5_of_65 : decode cX5_of 65 = .ok (.getfield 13, 3) := dk_180 0 13 (dk_at dksX5_of_2 1 rfl rfl)
theorem dX5_of_68 : decode cX5_of 68 = .ok (.sipush 170, 3) := dk_17 0 170 (dk_at dksX5_of_2 4 rfl rfl)
theorem dX5_of_71 : decode cX5_of 71 = .ok (.iload_n 1, 1) := dk_27 (dk_at dksX5_of_2 7 rfl rfl)
theorem dX5_of_72 : decode cX5_of 72 = .ok (.iadd, 1) := dk_96 (dk_at dksX5_of_2 8 rfl rfl)
theorem dX5_of_73 : decode cX5_of 73 = .ok (.iaload, 1) := dk_46 (dk_at dksX5_of_2 9 rfl rfl)
theorem dX5_of_74 : decode cX5_of 74 = .ok (.ireturn, 1) := dk_172 (dk_at dksX5_of_2 10 rfl rfl)
theorem dX5_of_75 : decode cX5_of 75 = .ok (.aload_n 0, 1) := dk_42 (dk_at dksX5_of_2 11 rfl rfl)
theorem dX5_of_76 : decode cX5_of 76 = .ok (.getfield 13, 3) := dk_180 0 13 (dk_at dksX5_of_2 12 rfl rfl)
theorem dX5_of_79 : decode cX5_of 79 = .ok (.sipush 178, 3) := dk_17 0 178 (dk_at dksX5_of_2 15 rfl rfl)
theorem dX5_of_82 : decode cX5_of 82 = .ok (.iload_n 1, 1) := dk_27 (dk_at dksX5_of_2 18 rfl rfl)
theorem dX5_of_83 : decode cX5_of 83 = .ok (.iadd, 1) := dk_96 (dk_at dksX5_of_2 19 rfl rfl)
theorem dX5_of_84 : decode cX5_of 84 = .ok (.iaload, 1) := dk_46 (dk_at dksX5_of_2 20 rfl rfl)
theorem dX5_of_85 : decode cX5_of 85 = .ok (.ireturn, 1) := dk_172 (dk_at dksX5_of_2 21 rfl rfl)
theorem dX5_of_86 : decode cX5_of 86 = .ok (.aload_n 0, 1) := dk_42 (dk_at dksX5_of_2 22 rfl rfl)
theorem dX5_of_87 : decode cX5_of 87 = .ok (.iload_n 1, 1) := dk_27 (dk_at dksX5_of_2 23 rfl rfl)
theorem dX5_of_88 : decode cX5_of 88 = .ok (.invokevirtual 166, 3) := dk_182 0 166 (dk_at dksX5_of_3 0 rfl rfl)
theorem dX5_of_91 : decode cX5_of 91 = .ok (.ireturn, 1) := dk_172 (dk_at dksX5_of_3 3 rfl rfl)
theorem dX5_of_92 : decode cX5_of 92 = .ok (.aload_n 0, 1) := dk_42 (dk_at dksX5_of_3 4 rfl rfl)
theorem dX5_of_93 : decode cX5_of 93 = .ok (.iload_n 1, 1) := dk_27 (dk_at dksX5_of_3 5 rfl rfl)
theorem dX5_of_94 : decode cX5_of 94 = .ok (.invokevirtual 169, 3) := dk_182 0 169 (dk_at dksX5_of_3 6 rfl rfl)
theorem dX5_of_97 : decode cX5_of 97 = .ok (.ireturn, 1) := dk_172 (dk_at dksX5_of_3 9 rfl rfl)
theorem dX5_of_98 : decode cX5_of 98 = .ok (.aload_n 0, 1) := dk_42 (dk_at dksX5_of_3 10 rfl rfl)
theorem dX5_of_99 : decode cX5_of 99 = .ok (.iload_n 1, 1) := dk_27 (dk_at dksX5_of_3 11 rfl rfl)
theorem dX5_of_100 : decode cX5_of 100 = .ok (.invokevirtual 188, 3) := dk_182 0 188 (dk_at dksX5_of_3 12 rfl rfl)
theorem dX5_of_103 : decode cX5_of 103 = .ok (.ireturn, 1) := dk_172 (dk_at dksX5_of_3 15 rfl rfl)
theorem dX5_of_104 : decode cX5_of 104 = .ok (.aload_n 0, 1) := dk_42 (dk_at dksX5_of_3 16 rfl rfl)
theorem dX5_of_105 : decode cX5_of 105 = .ok (.iload_n 1, 1) := dk_27 (dk_at dksX5_of_3 17 rfl rfl)
theorem dX5_of_106 : decode cX5_of 106 = .ok (.invokevirtual 191, 3) := dk_182 0 191 (dk_at dksX5_of_3 18 rfl rfl)
theorem dX5_of_109 : decode cX5_of 109 = .ok (.ireturn, 1) := dk_172 (dk_at dksX5_of_3 21 rfl rfl)
theorem dX5_of_110 : decode cX5_of 110 = .ok (.aload_n 0, 1) := dk_42 (dk_at dksX5_of_3 22 rfl rfl)
theorem dX5_of_111 : decode cX5_of 111 = .ok (.iload_n 1, 1) := dk_27 (dk_at dksX5_of_3 23 rfl rfl)
theorem dX5_of_112 : decode cX5_of 112 = .ok (.invokevirtual 194, 3) := dk_182 0 194 (dk_at dksX5_of_4 0 rfl rfl)
theorem dX5_of_115 : decode cX5_of 115 = .ok (.ireturn, 1) := dk_172 (dk_at dksX5_of_4 3 rfl rfl)
theorem dX5_of_116 : decode cX5_of 116 = .ok (.aload_n 0, 1) := dk_42 (dk_at dksX5_of_4 4 rfl rfl)
theorem dX5_of_117 : decode cX5_of 117 = .ok (.iload_n 1, 1) := dk_27 (dk_at dksX5_of_4 5 rfl rfl)
theorem dX5_of_118 : decode cX5_of 118 = .ok (.invokevirtual 197, 3) := dk_182 0 197 (dk_at dksX5_of_4 6 rfl rfl)
theorem dX5_of_121 : decode cX5_of 121 = .ok (.ifCond .eq 7, 3) := dk_153 0 7 (dk_at dksX5_of_4 9 rfl rfl)
theorem dX5_of_124 : decode cX5_of 124 = .ok (.iconst 1, 1) := dk_4 (dk_at dksX5_of_4 12 rfl rfl)
theorem dX5_of_125 : decode cX5_of 125 = .ok (.goto 4, 3) := dk_167 0 4 (dk_at dksX5_of_4 13 rfl rfl)
theorem dX5_of_128 : decode cX5_of 128 = .ok (.iconst 0, 1) := dk_3 (dk_at dksX5_of_4 16 rfl rfl)
theorem dX5_of_129 : decode cX5_of 129 = .ok (.ireturn, 1) := dk_172 (dk_at dksX5_of_4 17 rfl rfl)
theorem dX5_of_130 : decode cX5_of 130 = .ok (.iload_n 2, 1) := dk_28 (dk_at dksX5_of_4 18 rfl rfl)
theorem dX5_of_131 : decode cX5_of 131 = .ok (.i2l, 1) := dk_133 (dk_at dksX5_of_4 19 rfl rfl)
theorem dX5_of_132 : decode cX5_of 132 = .ok (.ldc2_w 200, 3) := dk_20 0 200 (dk_at dksX5_of_4 20 rfl rfl)
theorem dX5_of_135 : decode cX5_of 135 = .ok (.ldc2_w 202, 3) := dk_20 0 202 (dk_at dksX5_of_5 0 rfl rfl)
theorem dX5_of_138 : decode cX5_of 138 = .ok (.invokestatic 153, 3) := dk_184 0 153 (dk_at dksX5_of_5 3 rfl rfl)
theorem dX5_of_141 : decode cX5_of 141 = .ok (.ifCond .eq 15, 3) := dk_153 0 15 (dk_at dksX5_of_5 6 rfl rfl)
theorem dX5_of_144 : decode cX5_of 144 = .ok (.aload_n 0, 1) := dk_42 (dk_at dksX5_of_5 9 rfl rfl)
theorem dX5_of_145 : decode cX5_of 145 = .ok (.iload_n 1, 1) := dk_27 (dk_at dksX5_of_5 10 rfl rfl)
theorem dX5_of_146 : decode cX5_of 146 = .ok (.iload_n 2, 1) := dk_28 (dk_at dksX5_of_5 11 rfl rfl)
theorem dX5_of_147 : decode cX5_of 147 = .ok (.bipush 8, 2) := dk_16 8 (dk_at dksX5_of_5 12 rfl rfl)
theorem dX5_of_149 : decode cX5_of 149 = .ok (.isub, 1) := dk_100 (dk_at dksX5_of_5 14 rfl rfl)
theorem dX5_of_150 : decode cX5_of 150 = .ok (.invokevirtual 160, 3) := dk_182 0 160 (dk_at dksX5_of_5 15 rfl rfl)
theorem dX5_of_153 : decode cX5_of 153 = .ok (.goto 4, 3) := dk_167 0 4 (dk_at dksX5_of_5 18 rfl rfl)
theorem dX5_of_156 : decode cX5_of 156 = .ok (.iconst (-1), 1) := dk_2 (dk_at dksX5_of_5 21 rfl rfl)
theorem dX5_of_157 : decode cX5_of 157 = .ok (.ireturn, 1) := dk_172 (dk_at dksX5_of_5 22 rfl rfl)
abbrev cX5_isCask : ByteArray := prog_23_method_15_code
def yX5_isCask : MethodName := ⟨RX5, "isCask", "(I)Z"⟩
def dkwX5_isCask_0 : List UInt8 := [27, 133, 9, 42, 180, 0, 13, 3, 46, 133, 10, 101, 184, 0, 153, 172]
abbrev dktX5_isCask_0 : List UInt8 := dkwX5_isCask_0 ++ []
theorem dksX5_isCask_0 : cX5_isCask.data.toList.drop 0 = dktX5_isCask_0 := by decide +kernel
theorem dX5_isCask_0 : decode cX5_isCask 0 = .ok (.iload_n 1, 1) := dk_27 (dk_at dksX5_isCask_0 0 rfl rfl)
theorem dX5_isCask_1 : decode cX5_isCask 1 = .ok (.i2l, 1) := dk_133 (dk_at dksX5_isCask_0 1 rfl rfl)
theorem dX5_isCask_2 : decode cX5_isCask 2 = .ok (.lconst 0, 1) := dk_9 (dk_at dksX5_isCask_0 2 rfl rfl)
theorem dX5_isCask_3 : decode cX5_isCask 3 = .ok (.aload_n 0, 1) := dk_42 (dk_at dksX5_isCask_0 3 rfl rfl)
theorem dX5_isCask_4 : decode cX5_isCask 4 = .ok (.getfield 13, 3) := dk_180 0 13 (dk_at dksX5_isCask_0 4 rfl rfl)
theorem dX5_isCask_7 : decode cX5_isCask 7 = .ok (.iconst 0, 1) := dk_3 (dk_at dksX5_isCask_0 7 rfl rfl)
theorem dX5_isCask_8 : decode cX5_isCask 8 = .ok (.iaload, 1) := dk_46 (dk_at dksX5_isCask_0 8 rfl rfl)
theorem dX5_isCask_9 : decode cX5_isCask 9 = .ok (.i2l, 1) := dk_133 (dk_at dksX5_isCask_0 9 rfl rfl)
theorem dX5_isCask_10 : decode cX5_isCask 10 = .ok (.lconst 1, 1) := dk_10 (dk_at dksX5_isCask_0 10 rfl rfl)
theorem dX5_isCask_11 : decode cX5_isCask 11 = .ok (.lsub, 1) := dk_101 (dk_at dksX5_isCask_0 11 rfl rfl)
theorem dX5_isCask_12 : decode cX5_isCask 12 = .ok (.invokestatic 153, 3) := dk_184 0 153 (dk_at dksX5_isCask_0 12 rfl rfl)
theorem dX5_isCask_15 : decode cX5_isCask 15 = .ok (.ireturn, 1) := dk_172 (dk_at dksX5_isCask_0 15 rfl rfl)
abbrev cX5_allOf : ByteArray := prog_23_method_17_code
def yX5_allOf : MethodName := ⟨RX5, "allOf", "(I)I"⟩
def dkwX5_allOf_1 : List UInt8 := [167, 255, 238, 28, 172]
abbrev dktX5_allOf_1 : List UInt8 := dkwX5_allOf_1 ++ []
def dkwX5_allOf_0 : List UInt8 := [3, 61, 3, 62, 29, 16, 20, 162, 0, 18, 28, 42, 27, 29, 182, 0, 160, 96, 61, 132, 3, 1]
abbrev dktX5_allOf_0 : List UInt8 := dkwX5_allOf_0 ++ dktX5_allOf_1
theorem dksX5_allOf_0 : cX5_allOf.data.toList.drop 0 = dktX5_allOf_0 := by decide +kernel
theorem dksX5_allOf_1 : cX5_allOf.data.toList.drop 22 = dktX5_allOf_1 := dk_seg dksX5_allOf_0 22 rfl rfl
theorem dX5_allOf_0 : decode cX5_allOf 0 = .ok (.iconst 0, 1) := dk_3 (dk_at dksX5_allOf_0 0 rfl rfl)
theorem dX5_allOf_1 : decode cX5_allOf 1 = .ok (.istore_n 2, 1) := dk_61 (dk_at dksX5_allOf_0 1 rfl rfl)
theorem dX5_allOf_2 : decode cX5_allOf 2 = .ok (.iconst 0, 1) := dk_3 (dk_at dksX5_allOf_0 2 rfl rfl)
theorem dX5_allOf_3 : decode cX5_allOf 3 = .ok (.istore_n 3, 1) := dk_62 (dk_at dksX5_allOf_0 3 rfl rfl)
theorem dX5_allOf_4 : decode cX5_allOf 4 = .ok (.iload_n 3, 1) := dk_29 (dk_at dksX5_allOf_0 4 rfl rfl)
theorem dX5_allOf_5 : decode cX5_allOf 5 = .ok (.bipush 20, 2) := dk_16 20 (dk_at dksX5_allOf_0 5 rfl rfl)
theorem dX5_allOf_7 : decode cX5_allOf 7 = .ok (.if_icmp .ge 18, 3) := dk_162 0 18 (dk_at dksX5_allOf_0 7 rfl rfl)
theorem dX5_allOf_10 : decode cX5_allOf 10 = .ok (.iload_n 2, 1) := dk_28 (dk_at dksX5_allOf_0 10 rfl rfl)
theorem dX5_allOf_11 : decode cX5_allOf 11 = .ok (.aload_n 0, 1) := dk_42 (dk_at dksX5_allOf_0 11 rfl rfl)
theorem dX5_allOf_12 : decode cX5_allOf 12 = .ok (.iload_n 1, 1) := dk_27 (dk_at dksX5_allOf_0 12 rfl rfl)
theorem dX5_allOf_13 : decode cX5_allOf 13 = .ok (.iload_n 3, 1) := dk_29 (dk_at dksX5_allOf_0 13 rfl rfl)
theorem dX5_allOf_14 : decode cX5_allOf 14 = .ok (.invokevirtual 160, 3) := dk_182 0 160 (dk_at dksX5_allOf_0 14 rfl rfl)
theorem dX5_allOf_17 : decode cX5_allOf 17 = .ok (.iadd, 1) := dk_96 (dk_at dksX5_allOf_0 17 rfl rfl)
theorem dX5_allOf_18 : decode cX5_allOf 18 = .ok (.istore_n 2, 1) := dk_61 (dk_at dksX5_allOf_0 18 rfl rfl)
theorem dX5_allOf_19 : decode cX5_allOf 19 = .ok (.iinc 3 1, 3) := dk_132 3 1 (dk_at dksX5_allOf_0 19 rfl rfl)
theorem dX5_allOf_22 : decode cX5_allOf 22 = .ok (.goto (-18), 3) := dk_167 255 238 (dk_at dksX5_allOf_1 0 rfl rfl)
theorem dX5_allOf_25 : decode cX5_allOf 25 = .ok (.iload_n 2, 1) := dk_28 (dk_at dksX5_allOf_1 3 rfl rfl)
theorem dX5_allOf_26 : decode cX5_allOf 26 = .ok (.ireturn, 1) := dk_172 (dk_at dksX5_allOf_1 4 rfl rfl)
abbrev cX5_dropsOf : ByteArray := prog_23_method_16_code
def yX5_dropsOf : MethodName := ⟨RX5, "dropsOf", "(II)I"⟩
def dkwX5_dropsOf_0 : List UInt8 := [42, 180, 0, 13, 16, 10, 16, 20, 27, 104, 96, 28, 96, 46, 172]
abbrev dktX5_dropsOf_0 : List UInt8 := dkwX5_dropsOf_0 ++ []
theorem dksX5_dropsOf_0 : cX5_dropsOf.data.toList.drop 0 = dktX5_dropsOf_0 := by decide +kernel
theorem dX5_dropsOf_0 : decode cX5_dropsOf 0 = .ok (.aload_n 0, 1) := dk_42 (dk_at dksX5_dropsOf_0 0 rfl rfl)
theorem dX5_dropsOf_1 : decode cX5_dropsOf 1 = .ok (.getfield 13, 3) := dk_180 0 13 (dk_at dksX5_dropsOf_0 1 rfl rfl)
theorem dX5_dropsOf_4 : decode cX5_dropsOf 4 = .ok (.bipush 10, 2) := dk_16 10 (dk_at dksX5_dropsOf_0 4 rfl rfl)
theorem dX5_dropsOf_6 : decode cX5_dropsOf 6 = .ok (.bipush 20, 2) := dk_16 20 (dk_at dksX5_dropsOf_0 6 rfl rfl)
theorem dX5_dropsOf_8 : decode cX5_dropsOf 8 = .ok (.iload_n 1, 1) := dk_27 (dk_at dksX5_dropsOf_0 8 rfl rfl)
theorem dX5_dropsOf_9 : decode cX5_dropsOf 9 = .ok (.imul, 1) := dk_104 (dk_at dksX5_dropsOf_0 9 rfl rfl)
theorem dX5_dropsOf_10 : decode cX5_dropsOf 10 = .ok (.iadd, 1) := dk_96 (dk_at dksX5_dropsOf_0 10 rfl rfl)
theorem dX5_dropsOf_11 : decode cX5_dropsOf 11 = .ok (.iload_n 2, 1) := dk_28 (dk_at dksX5_dropsOf_0 11 rfl rfl)
theorem dX5_dropsOf_12 : decode cX5_dropsOf 12 = .ok (.iadd, 1) := dk_96 (dk_at dksX5_dropsOf_0 12 rfl rfl)
theorem dX5_dropsOf_13 : decode cX5_dropsOf 13 = .ok (.iaload, 1) := dk_46 (dk_at dksX5_dropsOf_0 13 rfl rfl)
theorem dX5_dropsOf_14 : decode cX5_dropsOf 14 = .ok (.ireturn, 1) := dk_172 (dk_at dksX5_dropsOf_0 14 rfl rfl)
abbrev cX5_meanOf : ByteArray := prog_23_method_18_code
def yX5_meanOf : MethodName := ⟨RX5, "meanOf", "(I)I"⟩
def dkwX5_meanOf_2 : List UInt8 := [154, 0, 7, 2, 167, 0, 9, 32, 21, 4, 133, 109, 136, 172]
abbrev dktX5_meanOf_2 : List UInt8 := dkwX5_meanOf_2 ++ []
def dkwX5_meanOf_1 : List UInt8 := [182, 0, 160, 133, 105, 97, 65, 132, 4, 1, 167, 255, 227, 42, 27, 182, 0, 166, 54, 4, 21, 4]
abbrev dktX5_meanOf_1 : List UInt8 := dkwX5_meanOf_1 ++ dktX5_meanOf_2
def dkwX5_meanOf_0 : List UInt8 := [9, 65, 3, 54, 4, 21, 4, 16, 20, 162, 0, 28, 32, 20, 0, 164, 21, 4, 133, 105, 42, 27, 21, 4]
abbrev dktX5_meanOf_0 : List UInt8 := dkwX5_meanOf_0 ++ dktX5_meanOf_1
theorem dksX5_meanOf_0 : cX5_meanOf.data.toList.drop 0 = dktX5_meanOf_0 := by decide +kernel
theorem dksX5_meanOf_1 : cX5_meanOf.data.toList.drop 24 = dktX5_meanOf_1 := dk_seg dksX5_meanOf_0 24 rfl rfl
theorem dksX5_meanOf_2 : cX5_meanOf.data.toList.drop 46 = dktX5_meanOf_2 := dk_seg dksX5_meanOf_1 22 rfl rfl
theorem dX5_meanOf_0 : decode cX5_meanOf 0 = .ok (.lconst 0, 1) := dk_9 (dk_at dksX5_meanOf_0 0 rfl rfl)
theorem dX5_meanOf_1 : decode cX5_meanOf 1 = .ok (.lstore_n 2, 1) := dk_65 (dk_at dksX5_meanOf_0 1 rfl rfl)
theorem dX5_meanOf_2 : decode cX5_meanOf 2 = .ok (.iconst 0, 1) := dk_3 (dk_at dksX5_meanOf_0 2 rfl rfl)
theorem dX5_meanOf_3 : decode cX5_meanOf 3 = .ok (.istore 4, 2) := dk_54 4 (dk_at dksX5_meanOf_0 3 rfl rfl)
theorem dX5_meanOf_5 : decode cX5_meanOf 5 = .ok (.iload 4, 2) := dk_21 4 (dk_at dksX5_meanOf_0 5 rfl rfl)
theorem dX5_meanOf_7 : decode cX5_meanOf 7 = .ok (.bipush 20, 2) := dk_16 20 (dk_at dksX5_meanOf_0 7 rfl rfl)
theorem dX5_meanOf_9 : decode cX5_meanOf 9 = .ok (.if_icmp .ge 28, 3) := dk_162 0 28 (dk_at dksX5_meanOf_0 9 rfl rfl)
theorem dX5_meanOf_12 : decode cX5_meanOf 12 = .ok (.lload_n 2, 1) := dk_32 (dk_at dksX5_meanOf_0 12 rfl rfl)
theorem dX5_meanOf_13 : decode cX5_meanOf 13 = .ok (.ldc2_w 164, 3) := dk_20 0 164 (dk_at dksX5_meanOf_0 13 rfl rfl)
theorem dX5_meanOf_16 : decode cX5_meanOf 16 = .ok (.iload 4, 2) := dk_21 4 (dk_at dksX5_meanOf_0 16 rfl rfl)
theorem dX5_meanOf_18 : decode cX5_meanOf 18 = .ok (.i2l, 1) := dk_133 (dk_at dksX5_meanOf_0 18 rfl rfl)
theorem dX5_meanOf_19 : decode cX5_meanOf 19 = .ok (.lmul, 1) := dk_105 (dk_at dksX5_meanOf_0 19 rfl rfl)
theorem dX5_meanOf_20 : decode cX5_meanOf 20 = .ok (.aload_n 0, 1) := dk_42 (dk_at dksX5_meanOf_0 20 rfl rfl)
theorem dX5_meanOf_21 : decode cX5_meanOf 21 = .ok (.iload_n 1, 1) := dk_27 (dk_at dksX5_meanOf_0 21 rfl rfl)
theorem dX5_meanOf_22 : decode cX5_meanOf 22 = .ok (.iload 4, 2) := dk_21 4 (dk_at dksX5_meanOf_0 22 rfl rfl)
theorem dX5_meanOf_24 : decode cX5_meanOf 24 = .ok (.invokevirtual 160, 3) := dk_182 0 160 (dk_at dksX5_meanOf_1 0 rfl rfl)
theorem dX5_meanOf_27 : decode cX5_meanOf 27 = .ok (.i2l, 1) := dk_133 (dk_at dksX5_meanOf_1 3 rfl rfl)
theorem dX5_meanOf_28 : decode cX5_meanOf 28 = .ok (.lmul, 1) := dk_105 (dk_at dksX5_meanOf_1 4 rfl rfl)
theorem dX5_meanOf_29 : decode cX5_meanOf 29 = .ok (.ladd, 1) := dk_97 (dk_at dksX5_meanOf_1 5 rfl rfl)
theorem dX5_meanOf_30 : decode cX5_meanOf 30 = .ok (.lstore_n 2, 1) := dk_65 (dk_at dksX5_meanOf_1 6 rfl rfl)
theorem dX5_meanOf_31 : decode cX5_meanOf 31 = .ok (.iinc 4 1, 3) := dk_132 4 1 (dk_at dksX5_meanOf_1 7 rfl rfl)
theorem dX5_meanOf_34 : decode cX5_meanOf 34 = .ok (.goto (-29), 3) := dk_167 255 227 (dk_at dksX5_meanOf_1 10 rfl rfl)
theorem dX5_meanOf_37 : decode cX5_meanOf 37 = .ok (.aload_n 0, 1) := dk_42 (dk_at dksX5_meanOf_1 13 rfl rfl)
theorem dX5_meanOf_38 : decode cX5_meanOf 38 = .ok (.iload_n 1, 1) := dk_27 (dk_at dksX5_meanOf_1 14 rfl rfl)
theorem dX5_meanOf_39 : decode cX5_meanOf 39 = .ok (.invokevirtual 166, 3) := dk_182 0 166 (dk_at dksX5_meanOf_1 15 rfl rfl)
theorem dX5_meanOf_42 : decode cX5_meanOf 42 = .ok (.istore 4, 2) := dk_54 4 (dk_at dksX5_meanOf_1 18 rfl rfl)
theorem dX5_meanOf_44 : decode cX5_meanOf 44 = .ok (.iload 4, 2) := dk_21 4 (dk_at dksX5_meanOf_1 20 rfl rfl)
theorem dX5_meanOf_46 : decode cX5_meanOf 46 = .ok (.ifCond .ne 7, 3) := dk_154 0 7 (dk_at dksX5_meanOf_2 0 rfl rfl)
theorem dX5_meanOf_49 : decode cX5_meanOf 49 = .ok (.iconst (-1), 1) := dk_2 (dk_at dksX5_meanOf_2 3 rfl rfl)
theorem dX5_meanOf_50 : decode cX5_meanOf 50 = .ok (.goto 9, 3) := dk_167 0 9 (dk_at dksX5_meanOf_2 4 rfl rfl)
theorem dX5_meanOf_53 : decode cX5_meanOf 53 = .ok (.lload_n 2, 1) := dk_32 (dk_at dksX5_meanOf_2 7 rfl rfl)
theorem dX5_meanOf_54 : decode cX5_meanOf 54 = .ok (.iload 4, 2) := dk_21 4 (dk_at dksX5_meanOf_2 8 rfl rfl)
theorem dX5_meanOf_56 : decode cX5_meanOf 56 = .ok (.i2l, 1) := dk_133 (dk_at dksX5_meanOf_2 10 rfl rfl)
theorem dX5_meanOf_57 : decode cX5_meanOf 57 = .ok (.ldiv, 1) := dk_109 (dk_at dksX5_meanOf_2 11 rfl rfl)
theorem dX5_meanOf_58 : decode cX5_meanOf 58 = .ok (.l2i, 1) := dk_136 (dk_at dksX5_meanOf_2 12 rfl rfl)
theorem dX5_meanOf_59 : decode cX5_meanOf 59 = .ok (.ireturn, 1) := dk_172 (dk_at dksX5_meanOf_2 13 rfl rfl)
abbrev cX5_labelOf : ByteArray := prog_23_method_21_code
def yX5_labelOf : MethodName := ⟨RX5, "labelOf", "(I)I"⟩
def dkwX5_labelOf_2 : List UInt8 := [155, 0, 8, 21, 4, 167, 0, 4, 29, 62, 132, 4, 1, 167, 255, 208, 29, 172]
abbrev dktX5_labelOf_2 : List UInt8 := dkwX5_labelOf_2 ++ []
def dkwX5_labelOf_1 : List UInt8 := [20, 0, 172, 42, 27, 21, 4, 182, 0, 174, 133, 105, 28, 133, 42, 180, 0, 13, 16, 8, 46, 133, 105, 148]
abbrev dktX5_labelOf_1 : List UInt8 := dkwX5_labelOf_1 ++ dktX5_labelOf_2
def dkwX5_labelOf_0 : List UInt8 := [42, 27, 182, 0, 166, 61, 2, 62, 3, 54, 4, 21, 4, 16, 20, 162, 0, 47, 28, 158, 0, 43]
abbrev dktX5_labelOf_0 : List UInt8 := dkwX5_labelOf_0 ++ dktX5_labelOf_1
theorem dksX5_labelOf_0 : cX5_labelOf.data.toList.drop 0 = dktX5_labelOf_0 := by decide +kernel
theorem dksX5_labelOf_1 : cX5_labelOf.data.toList.drop 22 = dktX5_labelOf_1 := dk_seg dksX5_labelOf_0 22 rfl rfl
theorem dksX5_labelOf_2 : cX5_labelOf.data.toList.drop 46 = dktX5_labelOf_2 := dk_seg dksX5_labelOf_1 24 rfl rfl
theorem dX5_labelOf_0 : decode cX5_labelOf 0 = .ok (.aload_n 0, 1) := dk_42 (dk_at dksX5_labelOf_0 0 rfl rfl)
theorem dX5_labelOf_1 : decode cX5_labelOf 1 = .ok (.iload_n 1, 1) := dk_27 (dk_at dksX5_labelOf_0 1 rfl rfl)
theorem dX5_labelOf_2 : decode cX5_labelOf 2 = .ok (.invokevirtual 166, 3) := dk_182 0 166 (dk_at dksX5_labelOf_0 2 rfl rfl)
theorem dX5_labelOf_5 : decode cX5_labelOf 5 = .ok (.istore_n 2, 1) := dk_61 (dk_at dksX5_labelOf_0 5 rfl rfl)
theorem dX5_labelOf_6 : decode cX5_labelOf 6 = .ok (.iconst (-1), 1) := dk_2 (dk_at dksX5_labelOf_0 6 rfl rfl)
theorem dX5_labelOf_7 : decode cX5_labelOf 7 = .ok (.istore_n 3, 1) := dk_62 (dk_at dksX5_labelOf_0 7 rfl rfl)
theorem dX5_labelOf_8 : decode cX5_labelOf 8 = .ok (.iconst 0, 1) := dk_3 (dk_at dksX5_labelOf_0 8 rfl rfl)
theorem dX5_labelOf_9 : decode cX5_labelOf 9 = .ok (.istore 4, 2) := dk_54 4 (dk_at dksX5_labelOf_0 9 rfl rfl)
theorem dX5_labelOf_11 : decode cX5_labelOf 11 = .ok (.iload 4, 2) := dk_21 4 (dk_at dksX5_labelOf_0 11 rfl rfl)
theorem dX5_labelOf_13 : decode cX5_labelOf 13 = .ok (.bipush 20, 2) := dk_16 20 (dk_at dksX5_labelOf_0 13 rfl rfl)
theorem dX5_labelOf_15 : decode cX5_labelOf 15 = .ok (.if_icmp .ge 47, 3) := dk_162 0 47 (dk_at dksX5_labelOf_0 15 rfl rfl)
theorem dX5_labelOf_18 : decode cX5_labelOf 18 = .ok (.iload_n 2, 1) := dk_28 (dk_at dksX5_labelOf_0 18 rfl rfl)
theorem dX5_labelOf_19 : decode cX5_labelOf 19 = .ok (.ifCond .le 43, 3) := dk_158 0 43 (dk_at dksX5_labelOf_0 19 rfl rfl)
theorem dX5_labelOf_22 : decode cX5_labelOf 22 = .ok (.ldc2_w 172, 3) := dk_20 0 172 (dk_at dksX5_labelOf_1 0 rfl rfl)
theorem dX5_labelOf_25 : decode cX5_labelOf 25 = .ok (.aload_n 0, 1) := dk_42 (dk_at dksX5_labelOf_1 3 rfl rfl)
theorem dX5_labelOf_26 : decode cX5_labelOf 26 = .ok (.iload_n 1, 1) := dk_27 (dk_at dksX5_labelOf_1 4 rfl rfl)
theorem dX5_labelOf_27 : decode cX5_labelOf 27 = .ok (.iload 4, 2) := dk_21 4 (dk_at dksX5_labelOf_1 5 rfl rfl)
theorem dX5_labelOf_29 : decode cX5_labelOf 29 = .ok (.invokevirtual 174, 3) := dk_182 0 174 (dk_at dksX5_labelOf_1 7 rfl rfl)
theorem dX5_labelOf_32 : decode cX5_labelOf 32 = .ok (.i2l, 1) := dk_133 (dk_at dksX5_labelOf_1 10 rfl rfl)
theorem dX5_labelOf_33 : decode cX5_labelOf 33 = .ok (.lmul, 1) := dk_105 (dk_at dksX5_labelOf_1 11 rfl rfl)
theorem dX5_labelOf_34 : decode cX5_labelOf 34 = .ok (.iload_n 2, 1) := dk_28 (dk_at dksX5_labelOf_1 12 rfl rfl)
theorem dX5_labelOf_35 : decode cX5_labelOf 35 = .ok (.i2l, 1) := dk_133 (dk_at dksX5_labelOf_1 13 rfl rfl)
theorem dX5_labelOf_36 : decode cX5_labelOf 36 = .ok (.aload_n 0, 1) := dk_42 (dk_at dksX5_labelOf_1 14 rfl rfl)
theorem dX5_labelOf_37 : decode cX5_labelOf 37 = .ok (.getfield 13, 3) := dk_180 0 13 (dk_at dksX5_labelOf_1 15 rfl rfl)
theorem dX5_labelOf_40 : decode cX5_labelOf 40 = .ok (.bipush 8, 2) := dk_16 8 (dk_at dksX5_labelOf_1 18 rfl rfl)
theorem dX5_labelOf_42 : decode cX5_labelOf 42 = .ok (.iaload, 1) := dk_46 (dk_at dksX5_labelOf_1 20 rfl rfl)
theorem dX5_labelOf_43 : decode cX5_labelOf 43 = .ok (.i2l, 1) := dk_133 (dk_at dksX5_labelOf_1 21 rfl rfl)
theorem dX5_labelOf_44 : decode cX5_labelOf 44 = .ok (.lmul, 1) := dk_105 (dk_at dksX5_labelOf_1 22 rfl rfl)
theorem dX5_labelOf_45 : decode cX5_labelOf 45 = .ok (.lcmp, 1) := dk_148 (dk_at dksX5_labelOf_1 23 rfl rfl)
theorem dX5_labelOf_46 : decode cX5_labelOf 46 = .ok (.ifCond .lt 8, 3) := dk_155 0 8 (dk_at dksX5_labelOf_2 0 rfl rfl)
theorem dX5_labelOf_49 : decode cX5_labelOf 49 = .ok (.iload 4, 2) := dk_21 4 (dk_at dksX5_labelOf_2 3 rfl rfl)
theorem dX5_labelOf_51 : decode cX5_labelOf 51 = .ok (.goto 4, 3) := dk_167 0 4 (dk_at dksX5_labelOf_2 5 rfl rfl)
theorem dX5_labelOf_54 : decode cX5_labelOf 54 = .ok (.iload_n 3, 1) := dk_29 (dk_at dksX5_labelOf_2 8 rfl rfl)
theorem dX5_labelOf_55 : decode cX5_labelOf 55 = .ok (.istore_n 3, 1) := dk_62 (dk_at dksX5_labelOf_2 9 rfl rfl)
theorem dX5_labelOf_56 : decode cX5_labelOf 56 = .ok (.iinc 4 1, 3) := dk_132 4 1 (dk_at dksX5_labelOf_2 10 rfl rfl)
theorem dX5_labelOf_59 : decode cX5_labelOf 59 = .ok (.goto (-48), 3) := dk_167 255 208 (dk_at dksX5_labelOf_2 13 rfl rfl)
theorem dX5_labelOf_62 : decode cX5_labelOf 62 = .ok (.iload_n 3, 1) := dk_29 (dk_at dksX5_labelOf_2 16 rfl rfl)
theorem dX5_labelOf_63 : decode cX5_labelOf 63 = .ok (.ireturn, 1) := dk_172 (dk_at dksX5_labelOf_2 17 rfl rfl)
abbrev cX5_olderThan : ByteArray := prog_23_method_20_code
def yX5_olderThan : MethodName := ⟨RX5, "olderThan", "(II)I"⟩
def dkwX5_olderThan_1 : List UInt8 := [132, 4, 1, 167, 255, 236, 29, 172]
abbrev dktX5_olderThan_1 : List UInt8 := dkwX5_olderThan_1 ++ []
def dkwX5_olderThan_0 : List UInt8 := [3, 62, 28, 54, 4, 21, 4, 16, 20, 162, 0, 19, 29, 42, 27, 21, 4, 182, 0, 160, 96, 62]
abbrev dktX5_olderThan_0 : List UInt8 := dkwX5_olderThan_0 ++ dktX5_olderThan_1
theorem dksX5_olderThan_0 : cX5_olderThan.data.toList.drop 0 = dktX5_olderThan_0 := by decide +kernel
theorem dksX5_olderThan_1 : cX5_olderThan.data.toList.drop 22 = dktX5_olderThan_1 := dk_seg dksX5_olderThan_0 22 rfl rfl
theorem dX5_olderThan_0 : decode cX5_olderThan 0 = .ok (.iconst 0, 1) := dk_3 (dk_at dksX5_olderThan_0 0 rfl rfl)
theorem dX5_olderThan_1 : decode cX5_olderThan 1 = .ok (.istore_n 3, 1) := dk_62 (dk_at dksX5_olderThan_0 1 rfl rfl)
theorem dX5_olderThan_2 : decode cX5_olderThan 2 = .ok (.iload_n 2, 1) := dk_28 (dk_at dksX5_olderThan_0 2 rfl rfl)
theorem dX5_olderThan_3 : decode cX5_olderThan 3 = .ok (.istore 4, 2) := dk_54 4 (dk_at dksX5_olderThan_0 3 rfl rfl)
theorem dX5_olderThan_5 : decode cX5_olderThan 5 = .ok (.iload 4, 2) := dk_21 4 (dk_at dksX5_olderThan_0 5 rfl rfl)
theorem dX5_olderThan_7 : decode cX5_olderThan 7 = .ok (.bipush 20, 2) := dk_16 20 (dk_at dksX5_olderThan_0 7 rfl rfl)
theorem dX5_olderThan_9 : decode cX5_olderThan 9 = .ok (.if_icmp .ge 19, 3) := dk_162 0 19 (dk_at dksX5_olderThan_0 9 rfl rfl)
theorem dX5_olderThan_12 : decode cX5_olderThan 12 = .ok (.iload_n 3, 1) := dk_29 (dk_at dksX5_olderThan_0 12 rfl rfl)
theorem dX5_olderThan_13 : decode cX5_olderThan 13 = .ok (.aload_n 0, 1) := dk_42 (dk_at dksX5_olderThan_0 13 rfl rfl)
theorem dX5_olderThan_14 : decode cX5_olderThan 14 = .ok (.iload_n 1, 1) := dk_27 (dk_at dksX5_olderThan_0 14 rfl rfl)
theorem dX5_olderThan_15 : decode cX5_olderThan 15 = .ok (.iload 4, 2) := dk_21 4 (dk_at dksX5_olderThan_0 15 rfl rfl)
theorem dX5_olderThan_17 : decode cX5_olderThan 17 = .ok (.invokevirtual 160, 3) := dk_182 0 160 (dk_at dksX5_olderThan_0 17 rfl rfl)
theorem dX5_olderThan_20 : decode cX5_olderThan 20 = .ok (.iadd, 1) := dk_96 (dk_at dksX5_olderThan_0 20 rfl rfl)
theorem dX5_olderThan_21 : decode cX5_olderThan 21 = .ok (.istore_n 3, 1) := dk_62 (dk_at dksX5_olderThan_0 21 rfl rfl)
theorem dX5_olderThan_22 : decode cX5_olderThan 22 = .ok (.iinc 4 1, 3) := dk_132 4 1 (dk_at dksX5_olderThan_1 0 rfl rfl)
theorem dX5_olderThan_25 : decode cX5_olderThan 25 = .ok (.goto (-20), 3) := dk_167 255 236 (dk_at dksX5_olderThan_1 3 rfl rfl)
theorem dX5_olderThan_28 : decode cX5_olderThan 28 = .ok (.iload_n 3, 1) := dk_29 (dk_at dksX5_olderThan_1 6 rfl rfl)
theorem dX5_olderThan_29 : decode cX5_olderThan 29 = .ok (.ireturn, 1) := dk_172 (dk_at dksX5_olderThan_1 7 rfl rfl)
abbrev cX5_losesOf : ByteArray := prog_23_method_68_code
def yX5_losesOf : MethodName := ⟨RX5, "losesOf", "(I)I"⟩
def dkwX5_losesOf_0 : List UInt8 := [42, 3, 27, 9, 182, 1, 154, 3, 16, 99, 184, 1, 158, 172]
abbrev dktX5_losesOf_0 : List UInt8 := dkwX5_losesOf_0 ++ []
theorem dksX5_losesOf_0 : cX5_losesOf.data.toList.drop 0 = dktX5_losesOf_0 := by decide +kernel
theorem dX5_losesOf_0 : decode cX5_losesOf 0 = .ok (.aload_n 0, 1) := dk_42 (dk_at dksX5_losesOf_0 0 rfl rfl)
theorem dX5_losesOf_1 : decode cX5_losesOf 1 = .ok (.iconst 0, 1) := dk_3 (dk_at dksX5_losesOf_0 1 rfl rfl)
theorem dX5_losesOf_2 : decode cX5_losesOf 2 = .ok (.iload_n 1, 1) := dk_27 (dk_at dksX5_losesOf_0 2 rfl rfl)
theorem dX5_losesOf_3 : decode cX5_losesOf 3 = .ok (.lconst 0, 1) := dk_9 (dk_at dksX5_losesOf_0 3 rfl rfl)
theorem dX5_losesOf_4 : decode cX5_losesOf 4 = .ok (.invokevirtual 410, 3) := dk_182 1 154 (dk_at dksX5_losesOf_0 4 rfl rfl)
theorem dX5_losesOf_7 : decode cX5_losesOf 7 = .ok (.iconst 0, 1) := dk_3 (dk_at dksX5_losesOf_0 7 rfl rfl)
theorem dX5_losesOf_8 : decode cX5_losesOf 8 = .ok (.bipush 99, 2) := dk_16 99 (dk_at dksX5_losesOf_0 8 rfl rfl)
theorem dX5_losesOf_10 : decode cX5_losesOf 10 = .ok (.invokestatic 414, 3) := dk_184 1 158 (dk_at dksX5_losesOf_0 10 rfl rfl)
theorem dX5_losesOf_13 : decode cX5_losesOf 13 = .ok (.ireturn, 1) := dk_172 (dk_at dksX5_losesOf_0 13 rfl rfl)
abbrev cX5_tells : ByteArray := prog_23_method_67_code
def yX5_tells : MethodName := ⟨RX5, "tells", "(IIJ)J"⟩
def dkwX5_tells_9 : List UInt8 := [132, 8, 1, 167, 255, 188, 42, 21, 5, 181, 1, 46, 22, 6, 173]
abbrev dktX5_tells_9 : List UInt8 := dkwX5_tells_9 ++ []
def dkwX5_tells_8 : List UInt8 := [42, 21, 9, 182, 1, 151, 153, 0, 18, 27, 5, 160, 0, 7, 10, 167, 0, 7, 42, 180, 1, 148, 55, 6]
abbrev dktX5_tells_8 : List UInt8 := dkwX5_tells_8 ++ dktX5_tells_9
def dkwX5_tells_7 : List UInt8 := [180, 1, 127, 5, 96, 16, 8, 21, 8, 104, 96, 54, 9, 42, 180, 0, 13, 21, 9, 46, 27, 160, 0, 27]
abbrev dktX5_tells_7 : List UInt8 := dkwX5_tells_7 ++ dktX5_tells_8
def dkwX5_tells_6 : List UInt8 := [55, 6, 3, 54, 8, 21, 8, 42, 180, 0, 13, 42, 180, 1, 127, 4, 96, 46, 162, 0, 58, 42]
abbrev dktX5_tells_6 : List UInt8 := dkwX5_tells_6 ++ dktX5_tells_7
def dkwX5_tells_5 : List UInt8 := [180, 0, 13, 8, 46, 133, 80, 42, 180, 0, 95, 16, 7, 42, 180, 0, 13, 16, 7, 46, 133, 80, 33]
abbrev dktX5_tells_5 : List UInt8 := dkwX5_tells_5 ++ dktX5_tells_6
def dkwX5_tells_4 : List UInt8 := [108, 133, 80, 42, 180, 0, 95, 8, 42, 28, 182, 1, 121, 133, 80, 42, 180, 0, 95, 16, 6, 42]
abbrev dktX5_tells_4 : List UInt8 := dkwX5_tells_4 ++ dktX5_tells_5
def dkwX5_tells_3 : List UInt8 := [180, 0, 13, 17, 0, 178, 28, 96, 46, 133, 80, 42, 180, 0, 95, 7, 42, 28, 182, 0, 166, 17, 3, 232]
abbrev dktX5_tells_3 : List UInt8 := dkwX5_tells_3 ++ dktX5_tells_4
def dkwX5_tells_2 : List UInt8 := [80, 42, 180, 0, 95, 5, 42, 180, 0, 13, 17, 0, 170, 28, 96, 46, 133, 80, 42, 180, 0, 95, 6, 42]
abbrev dktX5_tells_2 : List UInt8 := dkwX5_tells_2 ++ dktX5_tells_3
def dkwX5_tells_1 : List UInt8 := [17, 15, 150, 17, 3, 132, 42, 180, 0, 13, 7, 46, 104, 96, 181, 1, 127, 42, 180, 0, 95, 4, 28, 133]
abbrev dktX5_tells_1 : List UInt8 := dkwX5_tells_1 ++ dktX5_tells_2
def dkwX5_tells_0 : List UInt8 := [42, 180, 0, 13, 7, 46, 2, 160, 0, 5, 33, 173, 42, 180, 1, 46, 54, 5, 42, 3, 181, 1, 46, 42]
abbrev dktX5_tells_0 : List UInt8 := dkwX5_tells_0 ++ dktX5_tells_1
theorem dksX5_tells_0 : cX5_tells.data.toList.drop 0 = dktX5_tells_0 := by decide +kernel
theorem dksX5_tells_1 : cX5_tells.data.toList.drop 24 = dktX5_tells_1 := dk_seg dksX5_tells_0 24 rfl rfl
theorem dksX5_tells_2 : cX5_tells.data.toList.drop 48 = dktX5_tells_2 := dk_seg dksX5_tells_1 24 rfl rfl
theorem dksX5_tells_3 : cX5_tells.data.toList.drop 72 = dktX5_tells_3 := dk_seg dksX5_tells_2 24 rfl rfl
theorem dksX5_tells_4 : cX5_tells.data.toList.drop 96 = dktX5_tells_4 := dk_seg dksX5_tells_3 24 rfl rfl
theorem dksX5_tells_5 : cX5_tells.data.toList.drop 118 = dktX5_tells_5 := dk_seg dksX5_tells_4 22 rfl rfl
theorem dksX5_tells_6 : cX5_tells.data.toList.drop 141 = dktX5_tells_6 := dk_seg dksX5_tells_5 23 rfl rfl
theorem dksX5_tells_7 : cX5_tells.data.toList.drop 163 = dktX5_tells_7 := dk_seg dksX5_tells_6 22 rfl rfl
theorem dksX5_tells_8 : cX5_tells.data.toList.drop 187 = dktX5_tells_8 := dk_seg dksX5_tells_7 24 rfl rfl
theorem dksX5_tells_9 : cX5_tells.data.toList.drop 211 = dktX5_tells_9 := dk_seg dksX5_tells_8 24 rfl rfl
theorem dX5_tells_0 : decode cX5_tells 0 = .ok (.aload_n 0, 1) := dk_42 (dk_at dksX5_tells_0 0 rfl rfl)
theorem dX5_tells_1 : decode cX5_tells 1 = .ok (.getfield 13, 3) := dk_180 0 13 (dk_at dksX5_tells_0 1 rfl rfl)
theorem dX5_tells_4 : decode cX5_tells 4 = .ok (.iconst 4, 1) := dk_7 (dk_at dksX5_tells_0 4 rfl rfl)
theorem dX5_tells_5 : decode cX5_tells 5 = .ok (.iaload, 1) := dk_46 (dk_at dksX5_tells_0 5 rfl rfl)
theorem dX5_tells_6 : decode cX5_tells 6 = .ok (.iconst (-1), 1) := dk_2 (dk_at dksX5_tells_0 6 rfl rfl)
theorem dX5_tells_7 : decode cX5_tells 7 = .ok (.if_icmp .ne 5, 3) := dk_160 0 5 (dk_at dksX5_tells_0 7 rfl rfl)
theorem dX5_tells_10 : decode cX5_tells 10 = .ok (.lload_n 3, 1) := dk_33 (dk_at dksX5_tells_0 10 rfl rfl)
theorem dX5_tells_11 : decode cX5_tells 11 = .ok (.lreturn, 1) := dk_173 (dk_at dksX5_tells_0 11 rfl rfl)
theorem dX5_tells_12 : decode cX5_tells 12 = .ok (.aload_n 0, 1) := dk_42 (dk_at dksX5_tells_0 12 rfl rfl)
theorem dX5_tells_13 : decode cX5_tells 13 = .ok (.getfield 302, 3) := dk_180 1 46 (dk_at dksX5_tells_0 13 rfl rfl)
theorem dX5_tells_16 : decode cX5_tells 16 = .ok (.istore 5, 2) := dk_54 5 (dk_at dksX5_tells_0 16 rfl rfl)
theorem dX5_tells_18 : decode cX5_tells 18 = .ok (.aload_n 0, 1) := dk_42 (dk_at dksX5_tells_0 18 rfl rfl)
theorem dX5_tells_19 : decode cX5_tells 19 = .ok (.iconst 0, 1) := dk_3 (dk_at dksX5_tells_0 19 rfl rfl)
theorem dX5_tells_20 : decode cX5_tells 20 = .ok (.putfield 302, 3) := dk_181 1 46 (dk_at dksX5_tells_0 20 rfl rfl)
theorem dX5_tells_23 : decode cX5_tells 23 = .ok (.aload_n 0, 1) := dk_42 (dk_at dksX5_tells_0 23 rfl rfl)
theorem dX5_tells_24 : decode cX5_tells 24 = .ok (.sipush 3990, 3) := dk_17 15 150 (dk_at dksX5_tells_1 0 rfl rfl)
theorem dX5_tells_27 : decode cX5_tells 27 = .ok (.sipush 900, 3) := dk_17 3 132 (dk_at dksX5_tells_1 3 rfl rfl)
theorem dX5_tells_30 : decode cX5_tells 30 = .ok (.aload_n 0, 1) := dk_42 (dk_at dksX5_tells_1 6 rfl rfl)
theorem dX5_tells_31 : decode cX5_tells 31 = .ok (.getfield 13, 3) := dk_180 0 13 (dk_at dksX5_tells_1 7 rfl rfl)
theorem dX5_tells_34 : decode cX5_tells 34 = .ok (.iconst 4, 1) := dk_7 (dk_at dksX5_tells_1 10 rfl rfl)
theorem dX5_tells_35 : decode cX5_tells 35 = .ok (.iaload, 1) := dk_46 (dk_at dksX5_tells_1 11 rfl rfl)
theorem dX5_tells_36 : decode cX5_tells 36 = .ok (.imul, 1) := dk_104 (dk_at dksX5_tells_1 12 rfl rfl)
theorem dX5_tells_37 : decode cX5_tells 37 = .ok (.iadd, 1) := dk_96 (dk_at dksX5_tells_1 13 rfl rfl)
theorem dX5_tells_38 : decode cX5_tells 38 = .ok (.putfield 383, 3) := dk_181 1 127 (dk_at dksX5_tells_1 14 rfl rfl)
theorem dX5_tells_41 : decode cX5_tells 41 = .ok (.aload_n 0, 1) := dk_42 (dk_at dksX5_tells_1 17 rfl rfl)
theorem dX5_tells_42 : decode cX5_tells 42 = .ok (.getfield 95, 3) := dk_180 0 95 (dk_at dksX5_tells_1 18 rfl rfl)
theorem dX5_tells_45 : decode cX5_tells 45 = .ok (.iconst 1, 1) := dk_4 (dk_at dksX5_tells_1 21 rfl rfl)
theorem dX5_tells_46 : decode cX5_tells 46 = .ok (.iload_n 2, 1) := dk_28 (dk_at dksX5_tells_1 22 rfl rfl)
theorem dX5_tells_47 : decode cX5_tells 47 = .ok (.i2l, 1) := dk_133 (dk_at dksX5_tells_1 23 rfl rfl)
theorem dX5_tells_48 : decode cX5_tells 48 = .ok (.lastore, 1) := dk_80 (dk_at dksX5_tells_2 0 rfl rfl)
theorem dX5_tells_49 : decode cX5_tells 49 = .ok (.aload_n 0, 1) := dk_42 (dk_at dksX5_tells_2 1 rfl rfl)
theorem dX5_tells_50 : decode cX5_tells 50 = .ok (.getfield 95, 3) := dk_180 0 95 (dk_at dksX5_tells_2 2 rfl rfl)
theorem dX5_tells_53 : decode cX5_tells 53 = .ok (.iconst 2, 1) := dk_5 (dk_at dksX5_tells_2 5 rfl rfl)
theorem dX5_tells_54 : decode cX5_tells 54 = .ok (.aload_n 0, 1) := dk_42 (dk_at dksX5_tells_2 6 rfl rfl)
theorem dX5_tells_55 : decode cX5_tells 55 = .ok (.getfield 13, 3) := dk_180 0 13 (dk_at dksX5_tells_2 7 rfl rfl)
theorem dX5_tells_58 : decode cX5_tells 58 = .ok (.sipush 170, 3) := dk_17 0 170 (dk_at dksX5_tells_2 10 rfl rfl)
theorem dX5_tells_61 : decode cX5_tells 61 = .ok (.iload_n 2, 1) := dk_28 (dk_at dksX5_tells_2 13 rfl rfl)
theorem dX5_tells_62 : decode cX5_tells 62 = .ok (.iadd, 1) := dk_96 (dk_at dksX5_tells_2 14 rfl rfl)
theorem dX5_tells_63 : decode cX5_tells 63 = .ok (.iaload, 1) := dk_46 (dk_at dksX5_tells_2 15 rfl rfl)
theorem dX5_tells_64 : decode cX5_tells 64 = .ok (.i2l, 1) := dk_133 (dk_at dksX5_tells_2 16 rfl rfl)
theorem dX5_tells_65 : decode cX5_tells 65 = .ok (.lastore, 1) := dk_80 (dk_at dksX5_tells_2 17 rfl rfl)
theorem dX5_tells_66 : decode cX5_tells 66 = .ok (.aload_n 0, 1) := dk_42 (dk_at dksX5_tells_2 18 rfl rfl)
theorem dX5_tells_67 : decode cX5_tells 67 = .ok (.getfield 95, 3) := dk_180 0 95 (dk_at dksX5_tells_2 19 rfl rfl)
theorem dX5_tells_70 : decode cX5_tells 70 = .ok (.iconst 3, 1) := dk_6 (dk_at dksX5_tells_2 22 rfl rfl)
theorem dX5_tells_71 : decode cX5_tells 71 = .ok (.aload_n 0, 1) := dk_42 (dk_at dksX5_tells_2 23 rfl rfl)
theorem dX5_tells_72 : decode cX5_tells 72 = .ok (.getfield 13, 3) := dk_180 0 13 (dk_at dksX5_tells_3 0 rfl rfl)
theorem dX5_tells_75 : decode cX5_tells 75 = .ok (.sipush 178, 3) := dk_17 0 178 (dk_at dksX5_tells_3 3 rfl rfl)
theorem dX5_tells_78 : decode cX5_tells 78 = .ok (.iload_n 2, 1) := dk_28 (dk_at dksX5_tells_3 6 rfl rfl)
theorem dX5_tells_79 : decode cX5_tells 79 = .ok (.iadd, 1) := dk_96 (dk_at dksX5_tells_3 7 rfl rfl)
theorem dX5_tells_80 : decode cX5_tells 80 = .ok (.iaload, 1) := dk_46 (dk_at dksX5_tells_3 8 rfl rfl)
theorem dX5_tells_81 : decode cX5_tells 81 = .ok (.i2l, 1) := dk_133 (dk_at dksX5_tells_3 9 rfl rfl)
theorem dX5_tells_82 : decode cX5_tells 82 = .ok (.lastore, 1) := dk_80 (dk_at dksX5_tells_3 10 rfl rfl)
theorem dX5_tells_83 : decode cX5_tells 83 = .ok (.aload_n 0, 1) := dk_42 (dk_at dksX5_tells_3 11 rfl rfl)
theorem dX5_tells_84 : decode cX5_tells 84 = .ok (.getfield 95, 3) := dk_180 0 95 (dk_at dksX5_tells_3 12 rfl rfl)
theorem dX5_tells_87 : decode cX5_tells 87 = .ok (.iconst 4, 1) := dk_7 (dk_at dksX5_tells_3 15 rfl rfl)
theorem dX5_tells_88 : decode cX5_tells 88 = .ok (.aload_n 0, 1) := dk_42 (dk_at dksX5_tells_3 16 rfl rfl)
theorem dX5_tells_89 : decode cX5_tells 89 = .ok (.iload_n 2, 1) := dk_28 (dk_at dksX5_tells_3 17 rfl rfl)
theorem dX5_tells_90 : decode cX5_tells 90 = .ok (.invokevirtual 166, 3) := dk_182 0 166 (dk_at dksX5_tells_3 18 rfl rfl)
theorem dX5_tells_93 : decode cX5_tells 93 = .ok (.sipush 1000, 3) := dk_17 3 232 (dk_at dksX5_tells_3 21 rfl rfl)
theorem dX5_tells_96 : decode cX5_tells 96 = .ok (.idiv, 1) := dk_108 (dk_at dksX5_tells_4 0 rfl rfl)
theorem dX5_tells_97 : decode cX5_tells 97 = .ok (.i2l, 1) := dk_133 (dk_at dksX5_tells_4 1 rfl rfl)
theorem dX5_tells_98 : decode cX5_tells 98 = .ok (.lastore, 1) := dk_80 (dk_at dksX5_tells_4 2 rfl rfl)
theorem dX5_tells_99 : decode cX5_tells 99 = .ok (.aload_n 0, 1) := dk_42 (dk_at dksX5_tells_4 3 rfl rfl)
theorem dX5_tells_100 : decode cX5_tells 100 = .ok (.getfield 95, 3) := dk_180 0 95 (dk_at dksX5_tells_4 4 rfl rfl)
theorem dX5_tells_103 : decode cX5_tells 103 = .ok (.iconst 5, 1) := dk_8 (dk_at dksX5_tells_4 7 rfl rfl)
theorem dX5_tells_104 : decode cX5_tells 104 = .ok (.aload_n 0, 1) := dk_42 (dk_at dksX5_tells_4 8 rfl rfl)
theorem dX5_tells_105 : decode cX5_tells 105 = .ok (.iload_n 2, 1) := dk_28 (dk_at dksX5_tells_4 9 rfl rfl)
theorem dX5_tells_106 : decode cX5_tells 106 = .ok (.invokevirtual 377, 3) := dk_182 1 121 (dk_at dksX5_tells_4 10 rfl rfl)
theorem dX5_tells_109 : decode cX5_tells 109 = .ok (.i2l, 1) := dk_133 (dk_at dksX5_tells_4 13 rfl rfl)
theorem dX5_tells_110 : decode cX5_tells 110 = .ok (.lastore, 1) := dk_80 (dk_at dksX5_tells_4 14 rfl rfl)
theorem dX5_tells_111 : decode cX5_tells 111 = .ok (.aload_n 0, 1) := dk_42 (dk_at dksX5_tells_4 15 rfl rfl)
theorem dX5_tells_112 : decode cX5_tells 112 = .ok (.getfield 95, 3) := dk_180 0 95 (dk_at dksX5_tells_4 16 rfl rfl)
theorem dX5_tells_115 : decode cX5_tells 115 = .ok (.bipush 6, 2) := dk_16 6 (dk_at dksX5_tells_4 19 rfl rfl)
theorem dX5_tells_117 : decode cX5_tells 117 = .ok (.aload_n 0, 1) := dk_42 (dk_at dksX5_tells_4 21 rfl rfl)
theorem dX5_tells_118 : decode cX5_tells 118 = .ok (.getfield 13, 3) := dk_180 0 13 (dk_at dksX5_tells_5 0 rfl rfl)
theorem dX5_tells_121 : decode cX5_tells 121 = .ok (.iconst 5, 1) := dk_8 (dk_at dksX5_tells_5 3 rfl rfl)
theorem dX5_tells_122 : decode cX5_tells 122 = .ok (.iaload, 1) := dk_46 (dk_at dksX5_tells_5 4 rfl rfl)
theorem dX5_tells_123 : decode cX5_tells 123 = .ok (.i2l, 1) := dk_133 (dk_at dksX5_tells_5 5 rfl rfl)
theorem dX5_tells_124 : decode cX5_tells 124 = .ok (.lastore, 1) := dk_80 (dk_at dksX5_tells_5 6 rfl rfl)
theorem dX5_tells_125 : decode cX5_tells 125 = .ok (.aload_n 0, 1) := dk_42 (dk_at dksX5_tells_5 7 rfl rfl)
theorem dX5_tells_126 : decode cX5_tells 126 = .ok (.getfield 95, 3) := dk_180 0 95 (dk_at dksX5_tells_5 8 rfl rfl)
theorem dX5_tells_129 : decode cX5_tells 129 = .ok (.bipush 7, 2) := dk_16 7 (dk_at dksX5_tells_5 11 rfl rfl)
theorem dX5_tells_131 : decode cX5_tells 131 = .ok (.aload_n 0, 1) := dk_42 (dk_at dksX5_tells_5 13 rfl rfl)
theorem dX5_tells_132 : decode cX5_tells 132 = .ok (.getfield 13, 3) := dk_180 0 13 (dk_at dksX5_tells_5 14 rfl rfl)
theorem dX5_tells_135 : decode cX5_tells 135 = .ok (.bipush 7, 2) := dk_16 7 (dk_at dksX5_tells_5 17 rfl rfl)
theorem dX5_tells_137 : decode cX5_tells 137 = .ok (.iaload, 1) := dk_46 (dk_at dksX5_tells_5 19 rfl rfl)
theorem dX5_tells_138 : decode cX5_tells 138 = .ok (.i2l, 1) := dk_133 (dk_at dksX5_tells_5 20 rfl rfl)
theorem dX5_tells_139 : decode cX5_tells 139 = .ok (.lastore, 1) := dk_80 (dk_at dksX5_tells_5 21 rfl rfl)
theorem dX5_tells_140 : decode cX5_tells 140 = .ok (.lload_n 3, 1) := dk_33 (dk_at dksX5_tells_5 22 rfl rfl)
theorem dX5_tells_141 : decode cX5_tells 141 = .ok (.lstore 6, 2) := dk_55 6 (dk_at dksX5_tells_6 0 rfl rfl)
theorem dX5_tells_143 : decode cX5_tells 143 = .ok (.iconst 0, 1) := dk_3 (dk_at dksX5_tells_6 2 rfl rfl)
theorem dX5_tells_144 : decode cX5_tells 144 = .ok (.istore 8, 2) := dk_54 8 (dk_at dksX5_tells_6 3 rfl rfl)
theorem dX5_tells_146 : decode cX5_tells 146 = .ok (.iload 8, 2) := dk_21 8 (dk_at dksX5_tells_6 5 rfl rfl)
theorem dX5_tells_148 : decode cX5_tells 148 = .ok (.aload_n 0, 1) := dk_42 (dk_at dksX5_tells_6 7 rfl rfl)
theorem dX5_tells_149 : decode cX5_tells 149 = .ok (.getfield 13, 3) := dk_180 0 13 (dk_at dksX5_tells_6 8 rfl rfl)
theorem dX5_tells_152 : decode cX5_tells 152 = .ok (.aload_n 0, 1) := dk_42 (dk_at dksX5_tells_6 11 rfl rfl)
theorem dX5_tells_153 : decode cX5_tells 153 = .ok (.getfield 383, 3) := dk_180 1 127 (dk_at dksX5_tells_6 12 rfl rfl)
theorem dX5_tells_156 : decode cX5_tells 156 = .ok (.iconst 1, 1) := dk_4 (dk_at dksX5_tells_6 15 rfl rfl)
theorem dX5_tells_157 : decode cX5_tells 157 = .ok (.iadd, 1) := dk_96 (dk_at dksX5_tells_6 16 rfl rfl)
theorem dX5_tells_158 : decode cX5_tells 158 = .ok (.iaload, 1) := dk_46 (dk_at dksX5_tells_6 17 rfl rfl)
theorem dX5_tells_159 : decode cX5_tells 159 = .ok (.if_icmp .ge 58, 3) := dk_162 0 58 (dk_at dksX5_tells_6 18 rfl rfl)
theorem dX5_tells_162 : decode cX5_tells 162 = .ok (.aload_n 0, 1) := dk_42 (dk_at dksX5_tells_6 21 rfl rfl)
theorem dX5_tells_163 : decode cX5_tells 163 = .ok (.getfield 383, 3) := dk_180 1 127 (dk_at dksX5_tells_7 0 rfl rfl)
theorem dX5_tells_166 : decode cX5_tells 166 = .ok (.iconst 2, 1) := dk_5 (dk_at dksX5_tells_7 3 rfl rfl)
theorem dX5_tells_167 : decode cX5_tells 167 = .ok (.iadd, 1) := dk_96 (dk_at dksX5_tells_7 4 rfl rfl)
theorem dX5_tells_168 : decode cX5_tells 168 = .ok (.bipush 8, 2) := dk_16 8 (dk_at dksX5_tells_7 5 rfl rfl)
theorem dX5_tells_170 : decode cX5_tells 170 = .ok (.iload 8, 2) := dk_21 8 (dk_at dksX5_tells_7 7 rfl rfl)
theorem dX5_tells_172 : decode cX5_tells 172 = .ok (.imul, 1) := dk_104 (dk_at dksX5_tells_7 9 rfl rfl)
theorem dX5_tells_173 : decode cX5_tells 173 = .ok (.iadd, 1) := dk_96 (dk_at dksX5_tells_7 10 rfl rfl)
theorem dX5_tells_174 : decode cX5_tells 174 = .ok (.istore 9, 2) := dk_54 9 (dk_at dksX5_tells_7 11 rfl rfl)
theorem dX5_tells_176 : decode cX5_tells 176 = .ok (.aload_n 0, 1) := dk_42 (dk_at dksX5_tells_7 13 rfl rfl)
theorem dX5_tells_177 : decode cX5_tells 177 = .ok (.getfield 13, 3) := dk_180 0 13 (dk_at dksX5_tells_7 14 rfl rfl)
theorem dX5_tells_180 : decode cX5_tells 180 = .ok (.iload 9, 2) := dk_21 9 (dk_at dksX5_tells_7 17 rfl rfl)
theorem dX5_tells_182 : decode cX5_tells 182 = .ok (.iaload, 1) := dk_46 (dk_at dksX5_tells_7 19 rfl rfl)
theorem dX5_tells_183 : decode cX5_tells 183 = .ok (.iload_n 1, 1) := dk_27 (dk_at dksX5_tells_7 20 rfl rfl)
theorem dX5_tells_184 : decode cX5_tells 184 = .ok (.if_icmp .ne 27, 3) := dk_160 0 27 (dk_at dksX5_tells_7 21 rfl rfl)
theorem dX5_tells_187 : decode cX5_tells 187 = .ok (.aload_n 0, 1) := dk_42 (dk_at dksX5_tells_8 0 rfl rfl)
theorem dX5_tells_188 : decode cX5_tells 188 = .ok (.iload 9, 2) := dk_21 9 (dk_at dksX5_tells_8 1 rfl rfl)
theorem dX5_tells_190 : decode cX5_tells 190 = .ok (.invokevirtual 407, 3) := dk_182 1 151 (dk_at dksX5_tells_8 3 rfl rfl)
theorem dX5_tells_193 : decode cX5_tells 193 = .ok (.ifCond .eq 18, 3) := dk_153 0 18 (dk_at dksX5_tells_8 6 rfl rfl)
theorem dX5_tells_196 : decode cX5_tells 196 = .ok (.iload_n 1, 1) := dk_27 (dk_at dksX5_tells_8 9 rfl rfl)
theorem dX5_tells_197 : decode cX5_tells 197 = .ok (.iconst 2, 1) := dk_5 (dk_at dksX5_tells_8 10 rfl rfl)
theorem dX5_tells_198 : decode cX5_tells 198 = .ok (.if_icmp .ne 7, 3) := dk_160 0 7 (dk_at dksX5_tells_8 11 rfl rfl)
theorem dX5_tells_201 : decode cX5_tells 201 = .ok (.lconst 1, 1) := dk_10 (dk_at dksX5_tells_8 14 rfl rfl)
theorem dX5_tells_202 : decode cX5_tells 202 = .ok (.goto 7, 3) := dk_167 0 7 (dk_at dksX5_tells_8 15 rfl rfl)
theorem dX5_tells_205 : decode cX5_tells 205 = .ok (.aload_n 0, 1) := dk_42 (dk_at dksX5_tells_8 18 rfl rfl)
theorem dX5_tells_206 : decode cX5_tells 206 = .ok (.getfield 404, 3) := dk_180 1 148 (dk_at dksX5_tells_8 19 rfl rfl)
theorem dX5_tells_209 : decode cX5_tells 209 = .ok (.lstore 6, 2) := dk_55 6 (dk_at dksX5_tells_8 22 rfl rfl)
theorem dX5_tells_211 : decode cX5_tells 211 = .ok (.iinc 8 1, 3) := dk_132 8 1 (dk_at dksX5_tells_9 0 rfl rfl)
theorem dX5_tells_214 : decode cX5_tells 214 = .ok (.goto (-68), 3) := dk_167 255 188 (dk_at dksX5_tells_9 3 rfl rfl)
theorem dX5_tells_217 : decode cX5_tells 217 = .ok (.aload_n 0, 1) := dk_42 (dk_at dksX5_tells_9 6 rfl rfl)
theorem dX5_tells_218 : decode cX5_tells 218 = .ok (.iload 5, 2) := dk_21 5 (dk_at dksX5_tells_9 7 rfl rfl)
theorem dX5_tells_220 : decode cX5_tells 220 = .ok (.putfield 302, 3) := dk_181 1 46 (dk_at dksX5_tells_9 9 rfl rfl)
theorem dX5_tells_223 : decode cX5_tells 223 = .ok (.lload 6, 2) := dk_22 6 (dk_at dksX5_tells_9 12 rfl rfl)
theorem dX5_tells_225 : decode cX5_tells 225 = .ok (.lreturn, 1) := dk_173 (dk_at dksX5_tells_9 14 rfl rfl)
abbrev cX5_wholeMean : ByteArray := prog_23_method_19_code
def yX5_wholeMean : MethodName := ⟨RX5, "wholeMean", "(I)I"⟩
def dkwX5_wholeMean_0 : List UInt8 := [42, 27, 182, 0, 169, 61, 28, 2, 160, 0, 7, 2, 167, 0, 8, 28, 17, 3, 232, 108, 172]
abbrev dktX5_wholeMean_0 : List UInt8 := dkwX5_wholeMean_0 ++ []
theorem dksX5_wholeMean_0 : cX5_wholeMean.data.toList.drop 0 = dktX5_wholeMean_0 := by decide +kernel
theorem dX5_wholeMean_0 : decode cX5_wholeMean 0 = .ok (.aload_n 0, 1) := dk_42 (dk_at dksX5_wholeMean_0 0 rfl rfl)
theorem dX5_wholeMean_1 : decode cX5_wholeMean 1 = .ok (.iload_n 1, 1) := dk_27 (dk_at dksX5_wholeMean_0 1 rfl rfl)
theorem dX5_wholeMean_2 : decode cX5_wholeMean 2 = .ok (.invokevirtual 169, 3) := dk_182 0 169 (dk_at dksX5_wholeMean_0 2 rfl rfl)
theorem dX5_wholeMean_5 : decode cX5_wholeMean 5 = .ok (.istore_n 2, 1) := dk_61 (dk_at dksX5_wholeMean_0 5 rfl rfl)
theorem dX5_wholeMean_6 : decode cX5_wholeMean 6 = .ok (.iload_n 2, 1) := dk_28 (dk_at dksX5_wholeMean_0 6 rfl rfl)
theorem dX5_wholeMean_7 : decode cX5_wholeMean 7 = .ok (.iconst (-1), 1) := dk_2 (dk_at dksX5_wholeMean_0 7 rfl rfl)
theorem dX5_wholeMean_8 : decode cX5_wholeMean 8 = .ok (.if_icmp .ne 7, 3) := dk_160 0 7 (dk_at dksX5_wholeMean_0 8 rfl rfl)
theorem dX5_wholeMean_11 : decode cX5_wholeMean 11 = .ok (.iconst (-1), 1) := dk_2 (dk_at dksX5_wholeMean_0 11 rfl rfl)
theorem dX5_wholeMean_12 : decode cX5_wholeMean 12 = .ok (.goto 8, 3) := dk_167 0 8 (dk_at dksX5_wholeMean_0 12 rfl rfl)
theorem dX5_wholeMean_15 : decode cX5_wholeMean 15 = .ok (.iload_n 2, 1) := dk_28 (dk_at dksX5_wholeMean_0 15 rfl rfl)
theorem dX5_wholeMean_16 : decode cX5_wholeMean 16 = .ok (.sipush 1000, 3) := dk_17 3 232 (dk_at dksX5_wholeMean_0 16 rfl rfl)
theorem dX5_wholeMean_19 : decode cX5_wholeMean 19 = .ok (.idiv, 1) := dk_108 (dk_at dksX5_wholeMean_0 19 rfl rfl)
theorem dX5_wholeMean_20 : decode cX5_wholeMean 20 = .ok (.ireturn, 1) := dk_172 (dk_at dksX5_wholeMean_0 20 rfl rfl)
abbrev cX5_isSo : ByteArray := prog_23_method_66_code
def yX5_isSo : MethodName := ⟨RX5, "isSo", "(I)Z"⟩
def dkwX5_isSo_4 : List UInt8 := [180, 1, 142, 181, 1, 148, 42, 180, 1, 124, 154, 0, 7, 4, 167, 0, 4, 3, 172, 4, 172]
abbrev dktX5_isSo_4 : List UInt8 := dkwX5_isSo_4 ++ []
def dkwX5_isSo_3 : List UInt8 := [42, 42, 180, 0, 13, 27, 6, 96, 46, 42, 180, 0, 13, 27, 7, 96, 46, 182, 1, 145, 42, 42]
abbrev dktX5_isSo_3 : List UInt8 := dkwX5_isSo_3 ++ dktX5_isSo_4
def dkwX5_isSo_2 : List UInt8 := [154, 0, 12, 42, 180, 1, 142, 9, 148, 154, 0, 5, 3, 172, 42, 180, 0, 13, 27, 46, 5, 159, 0, 44]
abbrev dktX5_isSo_2 : List UInt8 := dkwX5_isSo_2 ++ dktX5_isSo_3
def dkwX5_isSo_1 : List UInt8 := [180, 0, 13, 27, 8, 96, 46, 42, 180, 0, 13, 27, 16, 6, 96, 46, 182, 1, 145, 42, 180, 1, 124]
abbrev dktX5_isSo_1 : List UInt8 := dkwX5_isSo_1 ++ dktX5_isSo_2
def dkwX5_isSo_0 : List UInt8 := [42, 180, 0, 13, 27, 8, 96, 46, 42, 180, 0, 13, 27, 16, 6, 96, 46, 162, 0, 42, 42, 42]
abbrev dktX5_isSo_0 : List UInt8 := dkwX5_isSo_0 ++ dktX5_isSo_1
theorem dksX5_isSo_0 : cX5_isSo.data.toList.drop 0 = dktX5_isSo_0 := by decide +kernel
theorem dksX5_isSo_1 : cX5_isSo.data.toList.drop 22 = dktX5_isSo_1 := dk_seg dksX5_isSo_0 22 rfl rfl
theorem dksX5_isSo_2 : cX5_isSo.data.toList.drop 45 = dktX5_isSo_2 := dk_seg dksX5_isSo_1 23 rfl rfl
theorem dksX5_isSo_3 : cX5_isSo.data.toList.drop 69 = dktX5_isSo_3 := dk_seg dksX5_isSo_2 24 rfl rfl
theorem dksX5_isSo_4 : cX5_isSo.data.toList.drop 91 = dktX5_isSo_4 := dk_seg dksX5_isSo_3 22 rfl rfl
theorem dX5_isSo_0 : decode cX5_isSo 0 = .ok (.aload_n 0, 1) := dk_42 (dk_at dksX5_isSo_0 0 rfl rfl)
theorem dX5_isSo_1 : decode cX5_isSo 1 = .ok (.getfield 13, 3) := dk_180 0 13 (dk_at dksX5_isSo_0 1 rfl rfl)
theorem dX5_isSo_4 : decode cX5_isSo 4 = .ok (.iload_n 1, 1) := dk_27 (dk_at dksX5_isSo_0 4 rfl rfl)
theorem dX5_isSo_5 : decode cX5_isSo 5 = .ok (.iconst 5, 1) := dk_8 (dk_at dksX5_isSo_0 5 rfl rfl)
theorem dX5_isSo_6 : decode cX5_isSo 6 = .ok (.iadd, 1) := dk_96 (dk_at dksX5_isSo_0 6 rfl rfl)
theorem dX5_isSo_7 : decode cX5_isSo 7 = .ok (.iaload, 1) := dk_46 (dk_at dksX5_isSo_0 7 rfl rfl)
theorem dX5_isSo_8 : decode cX5_isSo 8 = .ok (.aload_n 0, 1) := dk_42 (dk_at dksX5_isSo_0 8 rfl rfl)
theorem dX5_isSo_9 : decode cX5_isSo 9 = .ok (.getfield 13, 3) := dk_180 0 13 (dk_at dksX5_isSo_0 9 rfl rfl)
theorem dX5_isSo_12 : decode cX5_isSo 12 = .ok (.iload_n 1, 1) := dk_27 (dk_at dksX5_isSo_0 12 rfl rfl)
theorem dX5_isSo_13 : decode cX5_isSo 13 = .ok (.bipush 6, 2) := dk_16 6 (dk_at dksX5_isSo_0 13 rfl rfl)
theorem dX5_isSo_15 : decode cX5_isSo 15 = .ok (.iadd, 1) := dk_96 (dk_at dksX5_isSo_0 15 rfl rfl)
theorem dX5_isSo_16 : decode cX5_isSo 16 = .ok (.iaload, 1) := dk_46 (dk_at dksX5_isSo_0 16 rfl rfl)
theorem dX5_isSo_17 : decode cX5_isSo 17 = .ok (.if_icmp .ge 42, 3) := dk_162 0 42 (dk_at dksX5_isSo_0 17 rfl rfl)
theorem dX5_isSo_20 : decode cX5_isSo 20 = .ok (.aload_n 0, 1) := dk_42 (dk_at dksX5_isSo_0 20 rfl rfl)
theorem dX5_isSo_21 : decode cX5_isSo 21 = .ok (.aload_n 0, 1) := dk_42 (dk_at dksX5_isSo_0 21 rfl rfl)
theorem dX5_isSo_22 : decode cX5_isSo 22 = .ok (.getfield 13, 3) := dk_180 0 13 (dk_at dksX5_isSo_1 0 rfl rfl)
theorem dX5_isSo_25 : decode cX5_isSo 25 = .ok (.iload_n 1, 1) := dk_27 (dk_at dksX5_isSo_1 3 rfl rfl)
theorem dX5_isSo_26 : decode cX5_isSo 26 = .ok (.iconst 5, 1) := dk_8 (dk_at dksX5_isSo_1 4 rfl rfl)
theorem dX5_isSo_27 : decode cX5_isSo 27 = .ok (.iadd, 1) := dk_96 (dk_at dksX5_isSo_1 5 rfl rfl)
theorem dX5_isSo_28 : decode cX5_isSo 28 = .ok (.iaload, 1) := dk_46 (dk_at dksX5_isSo_1 6 rfl rfl)
theorem dX5_isSo_29 : decode cX5_isSo 29 = .ok (.aload_n 0, 1) := dk_42 (dk_at dksX5_isSo_1 7 rfl rfl)
theorem dX5_isSo_30 : decode cX5_isSo 30 = .ok (.getfield 13, 3) := dk_180 0 13 (dk_at dksX5_isSo_1 8 rfl rfl)
theorem dX5_isSo_33 : decode cX5_isSo 33 = .ok (.iload_n 1, 1) := dk_27 (dk_at dksX5_isSo_1 11 rfl rfl)
theorem dX5_isSo_34 : decode cX5_isSo 34 = .ok (.bipush 6, 2) := dk_16 6 (dk_at dksX5_isSo_1 12 rfl rfl)
theorem dX5_isSo_36 : decode cX5_isSo 36 = .ok (.iadd, 1) := dk_96 (dk_at dksX5_isSo_1 14 rfl rfl)
theorem dX5_isSo_37 : decode cX5_isSo 37 = .ok (.iaload, 1) := dk_46 (dk_at dksX5_isSo_1 15 rfl rfl)
theorem dX5_isSo_38 : decode cX5_isSo 38 = .ok (.invokevirtual 401, 3) := dk_182 1 145 (dk_at dksX5_isSo_1 16 rfl rfl)
theorem dX5_isSo_41 : decode cX5_isSo 41 = .ok (.aload_n 0, 1) := dk_42 (dk_at dksX5_isSo_1 19 rfl rfl)
theorem dX5_isSo_42 : decode cX5_isSo 42 = .ok (.getfield 380, 3) := dk_180 1 124 (dk_at dksX5_isSo_1 20 rfl rfl)
theorem dX5_isSo_45 : decode cX5_isSo 45 = .ok (.ifCond .ne 12, 3) := dk_154 0 12 (dk_at dksX5_isSo_2 0 rfl rfl)
theorem dX5_isSo_48 : decode cX5_isSo 48 = .ok (.aload_n 0, 1) := dk_42 (dk_at dksX5_isSo_2 3 rfl rfl)
theorem dX5_isSo_49 : decode cX5_isSo 49 = .ok (.getfield 398, 3) := dk_180 1 142 (dk_at dksX5_isSo_2 4 rfl rfl)
theorem dX5_isSo_52 : decode cX5_isSo 52 = .ok (.lconst 0, 1) := dk_9 (dk_at dksX5_isSo_2 7 rfl rfl)
theorem dX5_isSo_53 : decode cX5_isSo 53 = .ok (.lcmp, 1) := dk_148 (dk_at dksX5_isSo_2 8 rfl rfl)
theorem dX5_isSo_54 : decode cX5_isSo 54 = .ok (.ifCond .ne 5, 3) := dk_154 0 5 (dk_at dksX5_isSo_2 9 rfl rfl)
theorem dX5_isSo_57 : decode cX5_isSo 57 = .ok (.iconst 0, 1) := dk_3 (dk_at dksX5_isSo_2 12 rfl rfl)
theorem dX5_isSo_58 : decode cX5_isSo 58 = .ok (.ireturn, 1) := dk_172 (dk_at dksX5_isSo_2 13 rfl rfl)
theorem dX5_isSo_59 : decode cX5_isSo 59 = .ok (.aload_n 0, 1) := dk_42 (dk_at dksX5_isSo_2 14 rfl rfl)
theorem dX5_isSo_60 : decode cX5_isSo 60 = .ok (.getfield 13, 3) := dk_180 0 13 (dk_at dksX5_isSo_2 15 rfl rfl)
theorem dX5_isSo_63 : decode cX5_isSo 63 = .ok (.iload_n 1, 1) := dk_27 (dk_at dksX5_isSo_2 18 rfl rfl)
theorem dX5_isSo_64 : decode cX5_isSo 64 = .ok (.iaload, 1) := dk_46 (dk_at dksX5_isSo_2 19 rfl rfl)
theorem dX5_isSo_65 : decode cX5_isSo 65 = .ok (.iconst 2, 1) := dk_5 (dk_at dksX5_isSo_2 20 rfl rfl)
theorem dX5_isSo_66 : decode cX5_isSo 66 = .ok (.if_icmp .eq 44, 3) := dk_159 0 44 (dk_at dksX5_isSo_2 21 rfl rfl)
theorem dX5_isSo_69 : decode cX5_isSo 69 = .ok (.aload_n 0, 1) := dk_42 (dk_at dksX5_isSo_3 0 rfl rfl)
theorem dX5_isSo_70 : decode cX5_isSo 70 = .ok (.aload_n 0, 1) := dk_42 (dk_at dksX5_isSo_3 1 rfl rfl)
theorem dX5_isSo_71 : decode cX5_isSo 71 = .ok (.getfield 13, 3) := dk_180 0 13 (dk_at dksX5_isSo_3 2 rfl rfl)
theorem dX5_isSo_74 : decode cX5_isSo 74 = .ok (.iload_n 1, 1) := dk_27 (dk_at dksX5_isSo_3 5 rfl rfl)
theorem dX5_isSo_75 : decode cX5_isSo 75 = .ok (.iconst 3, 1) := dk_6 (dk_at dksX5_isSo_3 6 rfl rfl)
theorem dX5_isSo_76 : decode cX5_isSo 76 = .ok (.iadd, 1) := dk_96 (dk_at dksX5_isSo_3 7 rfl rfl)
theorem dX5_isSo_77 : decode cX5_isSo 77 = .ok (.iaload, 1) := dk_46 (dk_at dksX5_isSo_3 8 rfl rfl)
theorem dX5_isSo_78 : decode cX5_isSo 78 = .ok (.aload_n 0, 1) := dk_42 (dk_at dksX5_isSo_3 9 rfl rfl)
theorem dX5_isSo_79 : decode cX5_isSo 79 = .ok (.getfield 13, 3) := dk_180 0 13 (dk_at dksX5_isSo_3 10 rfl rfl)
theorem dX5_isSo_82 : decode cX5_isSo 82 = .ok (.iload_n 1, 1) := dk_27 (dk_at dksX5_isSo_3 13 rfl rfl)
theorem dX5_isSo_83 : decode cX5_isSo 83 = .ok (.iconst 4, 1) := dk_7 (dk_at dksX5_isSo_3 14 rfl rfl)
theorem dX5_isSo_84 : decode cX5_isSo 84 = .ok (.iadd, 1) := dk_96 (dk_at dksX5_isSo_3 15 rfl rfl)
theorem dX5_isSo_85 : decode cX5_isSo 85 = .ok (.iaload, 1) := dk_46 (dk_at dksX5_isSo_3 16 rfl rfl)
theorem dX5_isSo_86 : decode cX5_isSo 86 = .ok (.invokevirtual 401, 3) := dk_182 1 145 (dk_at dksX5_isSo_3 17 rfl rfl)
theorem dX5_isSo_89 : decode cX5_isSo 89 = .ok (.aload_n 0, 1) := dk_42 (dk_at dksX5_isSo_3 20 rfl rfl)
theorem dX5_isSo_90 : decode cX5_isSo 90 = .ok (.aload_n 0, 1) := dk_42 (dk_at dksX5_isSo_3 21 rfl rfl)
theorem dX5_isSo_91 : decode cX5_isSo 91 = .ok (.getfield 398, 3) := dk_180 1 142 (dk_at dksX5_isSo_4 0 rfl rfl)
theorem dX5_isSo_94 : decode cX5_isSo 94 = .ok (.putfield 404, 3) := dk_181 1 148 (dk_at dksX5_isSo_4 3 rfl rfl)
theorem dX5_isSo_97 : decode cX5_isSo 97 = .ok (.aload_n 0, 1) := dk_42 (dk_at dksX5_isSo_4 6 rfl rfl)
theorem dX5_isSo_98 : decode cX5_isSo 98 = .ok (.getfield 380, 3) := dk_180 1 124 (dk_at dksX5_isSo_4 7 rfl rfl)
theorem dX5_isSo_101 : decode cX5_isSo 101 = .ok (.ifCond .ne 7, 3) := dk_154 0 7 (dk_at dksX5_isSo_4 10 rfl rfl)
theorem dX5_isSo_104 : decode cX5_isSo 104 = .ok (.iconst 1, 1) := dk_4 (dk_at dksX5_isSo_4 13 rfl rfl)
theorem dX5_isSo_105 : decode cX5_isSo 105 = .ok (.goto 4, 3) := dk_167 0 4 (dk_at dksX5_isSo_4 14 rfl rfl)
theorem dX5_isSo_108 : decode cX5_isSo 108 = .ok (.iconst 0, 1) := dk_3 (dk_at dksX5_isSo_4 17 rfl rfl)
theorem dX5_isSo_109 : decode cX5_isSo 109 = .ok (.ireturn, 1) := dk_172 (dk_at dksX5_isSo_4 18 rfl rfl)
theorem dX5_isSo_110 : decode cX5_isSo 110 = .ok (.iconst 1, 1) := dk_4 (dk_at dksX5_isSo_4 19 rfl rfl)
theorem dX5_isSo_111 : decode cX5_isSo 111 = .ok (.ireturn, 1) := dk_172 (dk_at dksX5_isSo_4 20 rfl rfl)
abbrev cX5_reckonAll : ByteArray := prog_23_method_65_code
def yX5_reckonAll : MethodName := ⟨RX5, "reckonAll", "(II)V"⟩
def dkwX5_reckonAll_14 : List UInt8 := [181, 1, 142, 177]
abbrev dktX5_reckonAll_14 : List UInt8 := dkwX5_reckonAll_14 ++ []
def dkwX5_reckonAll_13 : List UInt8 := [167, 0, 6, 132, 3, 255, 167, 254, 212, 42, 29, 158, 0, 12, 42, 180, 0, 101, 3, 47, 167, 0, 4, 9]
abbrev dktX5_reckonAll_13 : List UInt8 := dkwX5_reckonAll_13 ++ dktX5_reckonAll_14
def dkwX5_reckonAll_12 : List UInt8 := [29, 4, 100, 47, 21, 5, 16, 29, 160, 0, 7, 9, 167, 0, 4, 10, 148, 154, 0, 10, 21, 6, 54, 4]
abbrev dktX5_reckonAll_12 : List UInt8 := dkwX5_reckonAll_12 ++ dktX5_reckonAll_13
def dkwX5_reckonAll_11 : List UInt8 := [180, 0, 101, 29, 4, 100, 10, 42, 180, 0, 101, 29, 4, 100, 47, 101, 80, 167, 0, 37, 42, 180, 0, 101]
abbrev dktX5_reckonAll_11 : List UInt8 := dkwX5_reckonAll_11 ++ dktX5_reckonAll_12
def dkwX5_reckonAll_10 : List UInt8 := [154, 0, 7, 4, 167, 0, 4, 3, 181, 1, 124, 167, 0, 65, 21, 5, 16, 28, 160, 0, 24, 42]
abbrev dktX5_reckonAll_10 : List UInt8 := dkwX5_reckonAll_10 ++ dktX5_reckonAll_11
def dkwX5_reckonAll_9 : List UInt8 := [180, 1, 124, 154, 0, 23, 42, 180, 0, 101, 29, 4, 100, 47, 20, 1, 138, 20, 1, 140, 184, 0, 153]
abbrev dktX5_reckonAll_9 : List UInt8 := dkwX5_reckonAll_9 ++ dktX5_reckonAll_10
def dkwX5_reckonAll_8 : List UInt8 := [21, 5, 42, 180, 0, 101, 29, 4, 100, 47, 42, 180, 0, 101, 29, 47, 182, 1, 134, 80, 42, 42]
abbrev dktX5_reckonAll_8 : List UInt8 := dkwX5_reckonAll_8 ++ dktX5_reckonAll_9
def dkwX5_reckonAll_7 : List UInt8 := [132, 3, 1, 167, 0, 142, 21, 5, 16, 28, 162, 0, 73, 132, 3, 255, 42, 180, 0, 101, 29, 4, 100, 42]
abbrev dktX5_reckonAll_7 : List UInt8 := dkwX5_reckonAll_7 ++ dktX5_reckonAll_8
def dkwX5_reckonAll_6 : List UInt8 := [162, 0, 13, 42, 180, 0, 98, 21, 5, 47, 167, 0, 11, 42, 21, 5, 21, 6, 182, 1, 130, 80]
abbrev dktX5_reckonAll_6 : List UInt8 := dkwX5_reckonAll_6 ++ dktX5_reckonAll_7
def dkwX5_reckonAll_5 : List UInt8 := [133, 167, 0, 44, 42, 180, 1, 46, 154, 0, 13, 42, 180, 0, 95, 21, 5, 47, 167, 0, 27, 21, 5, 8]
abbrev dktX5_reckonAll_5 : List UInt8 := dkwX5_reckonAll_5 ++ dktX5_reckonAll_6
def dkwX5_reckonAll_4 : List UInt8 := [54, 6, 132, 4, 1, 21, 5, 16, 20, 162, 0, 67, 42, 180, 0, 101, 29, 21, 5, 154, 0, 9, 21, 6]
abbrev dktX5_reckonAll_4 : List UInt8 := dkwX5_reckonAll_4 ++ dktX5_reckonAll_5
def dkwX5_reckonAll_3 : List UInt8 := [46, 167, 0, 22, 42, 180, 0, 13, 42, 180, 1, 127, 16, 98, 96, 5, 21, 4, 104, 96, 4, 96, 46]
abbrev dktX5_reckonAll_3 : List UInt8 := dkwX5_reckonAll_3 ++ dktX5_reckonAll_4
def dkwX5_reckonAll_2 : List UInt8 := [16, 98, 96, 5, 21, 4, 104, 96, 46, 54, 5, 42, 180, 1, 46, 153, 0, 13, 42, 180, 0, 48, 21, 4]
abbrev dktX5_reckonAll_2 : List UInt8 := dkwX5_reckonAll_2 ++ dktX5_reckonAll_3
def dkwX5_reckonAll_1 : List UInt8 := [180, 1, 46, 153, 0, 13, 42, 180, 0, 45, 21, 4, 46, 167, 0, 20, 42, 180, 0, 13, 42, 180, 1, 127]
abbrev dktX5_reckonAll_1 : List UInt8 := dkwX5_reckonAll_1 ++ dktX5_reckonAll_2
def dkwX5_reckonAll_0 : List UInt8 := [42, 3, 181, 1, 124, 3, 62, 27, 54, 4, 21, 4, 28, 162, 1, 44, 42, 180, 1, 124, 154, 1, 37, 42]
abbrev dktX5_reckonAll_0 : List UInt8 := dkwX5_reckonAll_0 ++ dktX5_reckonAll_1
theorem dksX5_reckonAll_0 : cX5_reckonAll.data.toList.drop 0 = dktX5_reckonAll_0 := by decide +kernel
theorem dksX5_reckonAll_1 : cX5_reckonAll.data.toList.drop 24 = dktX5_reckonAll_1 := dk_seg dksX5_reckonAll_0 24 rfl rfl
theorem dksX5_reckonAll_2 : cX5_reckonAll.data.toList.drop 48 = dktX5_reckonAll_2 := dk_seg dksX5_reckonAll_1 24 rfl rfl
theorem dksX5_reckonAll_3 : cX5_reckonAll.data.toList.drop 72 = dktX5_reckonAll_3 := dk_seg dksX5_reckonAll_2 24 rfl rfl
theorem dksX5_reckonAll_4 : cX5_reckonAll.data.toList.drop 95 = dktX5_reckonAll_4 := dk_seg dksX5_reckonAll_3 23 rfl rfl
theorem dksX5_reckonAll_5 : cX5_reckonAll.data.toList.drop 119 = dktX5_reckonAll_5 := dk_seg dksX5_reckonAll_4 24 rfl rfl
theorem dksX5_reckonAll_6 : cX5_reckonAll.data.toList.drop 143 = dktX5_reckonAll_6 := dk_seg dksX5_reckonAll_5 24 rfl rfl
theorem dksX5_reckonAll_7 : cX5_reckonAll.data.toList.drop 165 = dktX5_reckonAll_7 := dk_seg dksX5_reckonAll_6 22 rfl rfl
theorem dksX5_reckonAll_8 : cX5_reckonAll.data.toList.drop 189 = dktX5_reckonAll_8 := dk_seg dksX5_reckonAll_7 24 rfl rfl
theorem dksX5_reckonAll_9 : cX5_reckonAll.data.toList.drop 211 = dktX5_reckonAll_9 := dk_seg dksX5_reckonAll_8 22 rfl rfl
theorem dksX5_reckonAll_10 : cX5_reckonAll.data.toList.drop 234 = dktX5_reckonAll_10 := dk_seg dksX5_reckonAll_9 23 rfl rfl
theorem dksX5_reckonAll_11 : cX5_reckonAll.data.toList.drop 256 = dktX5_reckonAll_11 := dk_seg dksX5_reckonAll_10 22 rfl rfl
theorem dksX5_reckonAll_12 : cX5_reckonAll.data.toList.drop 280 = dktX5_reckonAll_12 := dk_seg dksX5_reckonAll_11 24 rfl rfl
theorem dksX5_reckonAll_13 : cX5_reckonAll.data.toList.drop 304 = dktX5_reckonAll_13 := dk_seg dksX5_reckonAll_12 24 rfl rfl
theorem dksX5_reckonAll_14 : cX5_reckonAll.data.toList.drop 328 = dktX5_reckonAll_14 := dk_seg dksX5_reckonAll_13 24 rfl rfl
theorem dX5_reckonAll_0 : decode cX5_reckonAll 0 = .ok (.aload_n 0, 1) := dk_42 (dk_at dksX5_reckonAll_0 0 rfl rfl)
theorem dX5_reckonAll_1 : decode cX5_reckonAll 1 = .ok (.iconst 0, 1) := dk_3 (dk_at dksX5_reckonAll_0 1 rfl rfl)
theorem dX5_reckonAll_2 : decode cX5_reckonAll 2 = .ok (.putfield 380, 3) := dk_181 1 124 (dk_at dksX5_reckonAll_0 2 rfl rfl)
theorem dX5_reckonAll_5 : decode cX5_reckonAll 5 = .ok (.iconst 0, 1) := dk_3 (dk_at dksX5_reckonAll_0 5 rfl rfl)
theorem dX5_reckonAll_6 : decode cX5_reckonAll 6 = .ok (.istore_n 3, 1) := dk_62 (dk_at dksX5_reckonAll_0 6 rfl rfl)
theorem dX5_reckonAll_7 : decode cX5_reckonAll 7 = .ok (.iload_n 1, 1) := dk_27 (dk_at dksX5_reckonAll_0 7 rfl rfl)
theorem dX5_reckonAll_8 : decode cX5_reckonAll 8 = .ok (.istore 4, 2) := dk_54 4 (dk_at dksX5_reckonAll_0 8 rfl rfl)
theorem dX5_reckonAll_10 : decode cX5_reckonAll 10 = .ok (.iload 4, 2) := dk_21 4 (dk_at dksX5_reckonAll_0 10 rfl rfl)
theorem dX5_reckonAll_12 : decode cX5_reckonAll 12 = .ok (.iload_n 2, 1) := dk_28 (dk_at dksX5_reckonAll_0 12 rfl rfl)
theorem dX5_reckonAll_13 : decode cX5_reckonAll 13 = .ok (.if_icmp .ge 300, 3) := dk_162 1 44 (dk_at dksX5_reckonAll_0 13 rfl rfl)
theorem dX5_reckonAll_16 : decode cX5_reckonAll 16 = .ok (.aload_n 0, 1) := dk_42 (dk_at dksX5_reckonAll_0 16 rfl rfl)
theorem dX5_reckonAll_17 : decode cX5_reckonAll 17 = .ok (.getfield 380, 3) := dk_180 1 124 (dk_at dksX5_reckonAll_0 17 rfl rfl)
theorem dX5_reckonAll_20 : decode cX5_reckonAll 20 = .ok (.ifCond .ne 293, 3) := dk_154 1 37 (dk_at dksX5_reckonAll_0 20 rfl rfl)
theorem dX5_reckonAll_23 : decode cX5_reckonAll 23 = .ok (.aload_n 0, 1) := dk_42 (dk_at dksX5_reckonAll_0 23 rfl rfl)
theorem dX5_reckonAll_24 : decode cX5_reckonAll 24 = .ok (.getfield 302, 3) := dk_180 1 46 (dk_at dksX5_reckonAll_1 0 rfl rfl)
theorem dX5_reckonAll_27 : decode cX5_reckonAll 27 = .ok (.ifCond .eq 13, 3) := dk_153 0 13 (dk_at dksX5_reckonAll_1 3 rfl rfl)
theorem dX5_reckonAll_30 : decode cX5_reckonAll 30 = .ok (.aload_n 0, 1) := dk_42 (dk_at dksX5_reckonAll_1 6 rfl rfl)
theorem dX5_reckonAll_31 : decode cX5_reckonAll 31 = .ok (.getfield 45, 3) := dk_180 0 45 (dk_at dksX5_reckonAll_1 7 rfl rfl)
theorem dX5_reckonAll_34 : decode cX5_reckonAll 34 = .ok (.iload 4, 2) := dk_21 4 (dk_at dksX5_reckonAll_1 10 rfl rfl)
theorem dX5_reckonAll_36 : decode cX5_reckonAll 36 = .ok (.iaload, 1) := dk_46 (dk_at dksX5_reckonAll_1 12 rfl rfl)
theorem dX5_reckonAll_37 : decode cX5_reckonAll 37 = .ok (.goto 20, 3) := dk_167 0 20 (dk_at dksX5_reckonAll_1 13 rfl rfl)
theorem dX5_reckonAll_40 : decode cX5_reckonAll 40 = .ok (.aload_n 0, 1) := dk_42 (dk_at dksX5_reckonAll_1 16 rfl rfl)
theorem dX5_reckonAll_41 : decode cX5_reckonAll 41 = .ok (.getfield 13, 3) := dk_180 0 13 (dk_at dksX5_reckonAll_1 17 rfl rfl)
theorem dX5_reckonAll_44 : decode cX5_reckonAll 44 = .ok (.aload_n 0, 1) := dk_42 (dk_at dksX5_reckonAll_1 20 rfl rfl)
theorem dX5_reckonAll_45 : decode cX5_reckonAll 45 = .ok (.getfield 383, 3) := dk_180 1 127 (dk_at dksX5_reckonAll_1 21 rfl rfl)
theorem dX5_reckonAll_48 : decode cX5_reckonAll 48 = .ok (.bipush 98, 2) := dk_16 98 (dk_at dksX5_reckonAll_2 0 rfl rfl)
theorem dX5_reckonAll_50 : decode cX5_reckonAll 50 = .ok (.iadd, 1) := dk_96 (dk_at dksX5_reckonAll_2 2 rfl rfl)
theorem dX5_reckonAll_51 : decode cX5_reckonAll 51 = .ok (.iconst 2, 1) := dk_5 (dk_at dksX5_reckonAll_2 3 rfl rfl)
theorem dX5_reckonAll_52 : decode cX5_reckonAll 52 = .ok (.iload 4, 2) := dk_21 4 (dk_at dksX5_reckonAll_2 4 rfl rfl)
theorem dX5_reckonAll_54 : decode cX5_reckonAll 54 = .ok (.imul, 1) := dk_104 (dk_at dksX5_reckonAll_2 6 rfl rfl)
theorem dX5_reckonAll_55 : decode cX5_reckonAll 55 = .ok (.iadd, 1) := dk_96 (dk_at dksX5_reckonAll_2 7 rfl rfl)
theorem dX5_reckonAll_56 : decode cX5_reckonAll 56 = .ok (.iaload, 1) := dk_46 (dk_at dksX5_reckonAll_2 8 rfl rfl)
theorem dX5_reckonAll_57 : decode cX5_reckonAll 57 = .ok (.istore 5, 2) := dk_54 5 (dk_at dksX5_reckonAll_2 9 rfl rfl)
theorem dX5_reckonAll_59 : decode cX5_reckonAll 59 = .ok (.aload_n 0, 1) := dk_42 (dk_at dksX5_reckonAll_2 11 rfl rfl)
theorem dX5_reckonAll_60 : decode cX5_reckonAll 60 = .ok (.getfield 302, 3) := dk_180 1 46 (dk_at dksX5_reckonAll_2 12 rfl rfl)
theorem dX5_reckonAll_63 : decode cX5_reckonAll 63 = .ok (.ifCond .eq 13, 3) := dk_153 0 13 (dk_at dksX5_reckonAll_2 15 rfl rfl)
theorem dX5_reckonAll_66 : decode cX5_reckonAll 66 = .ok (.aload_n 0, 1) := dk_42 (dk_at dksX5_reckonAll_2 18 rfl rfl)
theorem dX5_reckonAll_67 : decode cX5_reckonAll 67 = .ok (.getfield 48, 3) := dk_180 0 48 (dk_at dksX5_reckonAll_2 19 rfl rfl)
theorem dX5_reckonAll_70 : decode cX5_reckonAll 70 = .ok (.iload 4, 2) := dk_21 4 (dk_at dksX5_reckonAll_2 22 rfl rfl)
theorem dX5_reckonAll_72 : decode cX5_reckonAll 72 = .ok (.iaload, 1) := dk_46 (dk_at dksX5_reckonAll_3 0 rfl rfl)
theorem dX5_reckonAll_73 : decode cX5_reckonAll 73 = .ok (.goto 22, 3) := dk_167 0 22 (dk_at dksX5_reckonAll_3 1 rfl rfl)
theorem dX5_reckonAll_76 : decode cX5_reckonAll 76 = .ok (.aload_n 0, 1) := dk_42 (dk_at dksX5_reckonAll_3 4 rfl rfl)
theorem dX5_reckonAll_77 : decode cX5_reckonAll 77 = .ok (.getfield 13, 3) := dk_180 0 13 (dk_at dksX5_reckonAll_3 5 rfl rfl)
theorem dX5_reckonAll_80 : decode cX5_reckonAll 80 = .ok (.aload_n 0, 1) := dk_42 (dk_at dksX5_reckonAll_3 8 rfl rfl)
theorem dX5_reckonAll_81 : decode cX5_reckonAll 81 = .ok (.getfield 383, 3) := dk_180 1 127 (dk_at dksX5_reckonAll_3 9 rfl rfl)
theorem dX5_reckonAll_84 : decode cX5_reckonAll 84 = .ok (.bipush 98, 2) := dk_16 98 (dk_at dksX5_reckonAll_3 12 rfl rfl)
theorem dX5_reckonAll_86 : decode cX5_reckonAll 86 = .ok (.iadd, 1) := dk_96 (dk_at dksX5_reckonAll_3 14 rfl rfl)
theorem dX5_reckonAll_87 : decode cX5_reckonAll 87 = .ok (.iconst 2, 1) := dk_5 (dk_at dksX5_reckonAll_3 15 rfl rfl)
theorem dX5_reckonAll_88 : decode cX5_reckonAll 88 = .ok (.iload 4, 2) := dk_21 4 (dk_at dksX5_reckonAll_3 16 rfl rfl)
theorem dX5_reckonAll_90 : decode cX5_reckonAll 90 = .ok (.imul, 1) := dk_104 (dk_at dksX5_reckonAll_3 18 rfl rfl)
theorem dX5_reckonAll_91 : decode cX5_reckonAll 91 = .ok (.iadd, 1) := dk_96 (dk_at dksX5_reckonAll_3 19 rfl rfl)
theorem dX5_reckonAll_92 : decode cX5_reckonAll 92 = .ok (.iconst 1, 1) := dk_4 (dk_at dksX5_reckonAll_3 20 rfl rfl)
theorem dX5_reckonAll_93 : decode cX5_reckonAll 93 = .ok (.iadd, 1) := dk_96 (dk_at dksX5_reckonAll_3 21 rfl rfl)
theorem dX5_reckonAll_94 : decode cX5_reckonAll 94 = .ok (.iaload, 1) := dk_46 (dk_at dksX5_reckonAll_3 22 rfl rfl)
theorem dX5_reckonAll_95 : decode cX5_reckonAll 95 = .ok (.istore 6, 2) := dk_54 6 (dk_at dksX5_reckonAll_4 0 rfl rfl)
theorem dX5_reckonAll_97 : decode cX5_reckonAll 97 = .ok (.iinc 4 1, 3) := dk_132 4 1 (dk_at dksX5_reckonAll_4 2 rfl rfl)
theorem dX5_reckonAll_100 : decode cX5_reckonAll 100 = .ok (.iload 5, 2) := dk_21 5 (dk_at dksX5_reckonAll_4 5 rfl rfl)
theorem dX5_reckonAll_102 : decode cX5_reckonAll 102 = .ok (.bipush 20, 2) := dk_16 20 (dk_at dksX5_reckonAll_4 7 rfl rfl)
theorem dX5_reckonAll_104 : decode cX5_reckonAll 104 = .ok (.if_icmp .ge 67, 3) := dk_162 0 67 (dk_at dksX5_reckonAll_4 9 rfl rfl)
theorem dX5_reckonAll_107 : decode cX5_reckonAll 107 = .ok (.aload_n 0, 1) := dk_42 (dk_at dksX5_reckonAll_4 12 rfl rfl)
theorem dX5_reckonAll_108 : decode cX5_reckonAll 108 = .ok (.getfield 101, 3) := dk_180 0 101 (dk_at dksX5_reckonAll_4 13 rfl rfl)
theorem dX5_reckonAll_111 : decode cX5_reckonAll 111 = .ok (.iload_n 3, 1) := dk_29 (dk_at dksX5_reckonAll_4 16 rfl rfl)
theorem dX5_reckonAll_112 : decode cX5_reckonAll 112 = .ok (.iload 5, 2) := dk_21 5 (dk_at dksX5_reckonAll_4 17 rfl rfl)
theorem dX5_reckonAll_114 : decode cX5_reckonAll 114 = .ok (.ifCond .ne 9, 3) := dk_154 0 9 (dk_at dksX5_reckonAll_4 19 rfl rfl)
theorem dX5_reckonAll_117 : decode cX5_reckonAll 117 = .ok (.iload 6, 2) := dk_21 6 (dk_at dksX5_reckonAll_4 22 rfl rfl)
theorem dX5_reckonAll_119 : decode cX5_reckonAll 119 = .ok (.i2l, 1) := dk_133 (dk_at dksX5_reckonAll_5 0 rfl rfl)
theorem dX5_reckonAll_120 : decode cX5_reckonAll 120 = .ok (.goto 44, 3) := dk_167 0 44 (dk_at dksX5_reckonAll_5 1 rfl rfl)
theorem dX5_reckonAll_123 : decode cX5_reckonAll 123 = .ok (.aload_n 0, 1) := dk_42 (dk_at dksX5_reckonAll_5 4 rfl rfl)
theorem dX5_reckonAll_124 : decode cX5_reckonAll 124 = .ok (.getfield 302, 3) := dk_180 1 46 (dk_at dksX5_reckonAll_5 5 rfl rfl)
theorem dX5_reckonAll_127 : decode cX5_reckonAll 127 = .ok (.ifCond .ne 13, 3) := dk_154 0 13 (dk_at dksX5_reckonAll_5 8 rfl rfl)
theorem dX5_reckonAll_130 : decode cX5_reckonAll 130 = .ok (.aload_n 0, 1) := dk_42 (dk_at dksX5_reckonAll_5 11 rfl rfl)
theorem dX5_reckonAll_131 : decode cX5_reckonAll 131 = .ok (.getfield 95, 3) := dk_180 0 95 (dk_at dksX5_reckonAll_5 12 rfl rfl)
theorem dX5_reckonAll_134 : decode cX5_reckonAll 134 = .ok (.iload 5, 2) := dk_21 5 (dk_at dksX5_reckonAll_5 15 rfl rfl)
theorem dX5_reckonAll_136 : decode cX5_reckonAll 136 = .ok (.laload, 1) := dk_47 (dk_at dksX5_reckonAll_5 17 rfl rfl)
theorem dX5_reckonAll_137 : decode cX5_reckonAll 137 = .ok (.goto 27, 3) := dk_167 0 27 (dk_at dksX5_reckonAll_5 18 rfl rfl)
theorem dX5_reckonAll_140 : decode cX5_reckonAll 140 = .ok (.iload 5, 2) := dk_21 5 (dk_at dksX5_reckonAll_5 21 rfl rfl)
theorem dX5_reckonAll_142 : decode cX5_reckonAll 142 = .ok (.iconst 5, 1) := dk_8 (dk_at dksX5_reckonAll_5 23 rfl rfl)
theorem dX5_reckonAll_143 : decode cX5_reckonAll 143 = .ok (.if_icmp .ge 13, 3) := dk_162 0 13 (dk_at dksX5_reckonAll_6 0 rfl rfl)
theorem dX5_reckonAll_146 : decode cX5_reckonAll 146 = .ok (.aload_n 0, 1) := dk_42 (dk_at dksX5_reckonAll_6 3 rfl rfl)
theorem dX5_reckonAll_147 : decode cX5_reckonAll 147 = .ok (.getfield 98, 3) := dk_180 0 98 (dk_at dksX5_reckonAll_6 4 rfl rfl)
theorem dX5_reckonAll_150 : decode cX5_reckonAll 150 = .ok (.iload 5, 2) := dk_21 5 (dk_at dksX5_reckonAll_6 7 rfl rfl)
theorem dX5_reckonAll_152 : decode cX5_reckonAll 152 = .ok (.laload, 1) := dk_47 (dk_at dksX5_reckonAll_6 9 rfl rfl)
theorem dX5_reckonAll_153 : decode cX5_reckonAll 153 = .ok (.goto 11, 3) := dk_167 0 11 (dk_at dksX5_reckonAll_6 10 rfl rfl)
theorem dX5_reckonAll_156 : decode cX5_reckonAll 156 = .ok (.aload_n 0, 1) := dk_42 (dk_at dksX5_reckonAll_6 13 rfl rfl)
theorem dX5_reckonAll_157 : decode cX5_reckonAll 157 = .ok (.iload 5, 2) := dk_21 5 (dk_at dksX5_reckonAll_6 14 rfl rfl)
theorem dX5_reckonAll_159 : decode cX5_reckonAll 159 = .ok (.iload 6, 2) := dk_21 6 (dk_at dksX5_reckonAll_6 16 rfl rfl)
theorem dX5_reckonAll_161 : decode cX5_reckonAll 161 = .ok (.invokevirtual 386, 3) := dk_182 1 130 (dk_at dksX5_reckonAll_6 18 rfl rfl)
theorem dX5_reckonAll_164 : decode cX5_reckonAll 164 = .ok (.lastore, 1) := dk_80 (dk_at dksX5_reckonAll_6 21 rfl rfl)
theorem dX5_reckonAll_165 : decode cX5_reckonAll 165 = .ok (.iinc 3 1, 3) := dk_132 3 1 (dk_at dksX5_reckonAll_7 0 rfl rfl)
theorem dX5_reckonAll_168 : decode cX5_reckonAll 168 = .ok (.goto 142, 3) := dk_167 0 142 (dk_at dksX5_reckonAll_7 3 rfl rfl)
theorem dX5_reckonAll_171 : decode cX5_reckonAll 171 = .ok (.iload 5, 2) := dk_21 5 (dk_at dksX5_reckonAll_7 6 rfl rfl)
theorem dX5_reckonAll_173 : decode cX5_reckonAll 173 = .ok (.bipush 28, 2) := dk_16 28 (dk_at dksX5_reckonAll_7 8 rfl rfl)
theorem dX5_reckonAll_175 : decode cX5_reckonAll 175 = .ok (.if_icmp .ge 73, 3) := dk_162 0 73 (dk_at dksX5_reckonAll_7 10 rfl rfl)
theorem dX5_reckonAll_178 : decode cX5_reckonAll 178 = .ok (.iinc 3 (-1), 3) := dk_132 3 255 (dk_at dksX5_reckonAll_7 13 rfl rfl)
theorem dX5_reckonAll_181 : decode cX5_reckonAll 181 = .ok (.aload_n 0, 1) := dk_42 (dk_at dksX5_reckonAll_7 16 rfl rfl)
theorem dX5_reckonAll_182 : decode cX5_reckonAll 182 = .ok (.getfield 101, 3) := dk_180 0 101 (dk_at dksX5_reckonAll_7 17 rfl rfl)
theorem dX5_reckonAll_185 : decode cX5_reckonAll 185 = .ok (.iload_n 3, 1) := dk_29 (dk_at dksX5_reckonAll_7 20 rfl rfl)
theorem dX5_reckonAll_186 : decode cX5_reckonAll 186 = .ok (.iconst 1, 1) := dk_4 (dk_at dksX5_reckonAll_7 21 rfl rfl)
theorem dX5_reckonAll_187 : decode cX5_reckonAll 187 = .ok (.isub, 1) := dk_100 (dk_at dksX5_reckonAll_7 22 rfl rfl)
theorem dX5_reckonAll_188 : decode cX5_reckonAll 188 = .ok (.aload_n 0, 1) := dk_42 (dk_at dksX5_reckonAll_7 23 rfl rfl)
theorem dX5_reckonAll_189 : decode cX5_reckonAll 189 = .ok (.iload 5, 2) := dk_21 5 (dk_at dksX5_reckonAll_8 0 rfl rfl)
theorem dX5_reckonAll_191 : decode cX5_reckonAll 191 = .ok (.aload_n 0, 1) := dk_42 (dk_at dksX5_reckonAll_8 2 rfl rfl)
theorem dX5_reckonAll_192 : decode cX5_reckonAll 192 = .ok (.getfield 101, 3) := dk_180 0 101 (dk_at dksX5_reckonAll_8 3 rfl rfl)
theorem dX5_reckonAll_195 : decode cX5_reckonAll 195 = .ok (.iload_n 3, 1) := dk_29 (dk_at dksX5_reckonAll_8 6 rfl rfl)
theorem dX5_reckonAll_196 : decode cX5_reckonAll 196 = .ok (.iconst 1, 1) := dk_4 (dk_at dksX5_reckonAll_8 7 rfl rfl)
theorem dX5_reckonAll_197 : decode cX5_reckonAll 197 = .ok (.isub, 1) := dk_100 (dk_at dksX5_reckonAll_8 8 rfl rfl)
theorem dX5_reckonAll_198 : decode cX5_reckonAll 198 = .ok (.laload, 1) := dk_47 (dk_at dksX5_reckonAll_8 9 rfl rfl)
theorem dX5_reckonAll_199 : decode cX5_reckonAll 199 = .ok (.aload_n 0, 1) := dk_42 (dk_at dksX5_reckonAll_8 10 rfl rfl)
theorem dX5_reckonAll_200 : decode cX5_reckonAll 200 = .ok (.getfield 101, 3) := dk_180 0 101 (dk_at dksX5_reckonAll_8 11 rfl rfl)
theorem dX5_reckonAll_203 : decode cX5_reckonAll 203 = .ok (.iload_n 3, 1) := dk_29 (dk_at dksX5_reckonAll_8 14 rfl rfl)
theorem dX5_reckonAll_204 : decode cX5_reckonAll 204 = .ok (.laload, 1) := dk_47 (dk_at dksX5_reckonAll_8 15 rfl rfl)
theorem dX5_reckonAll_205 : decode cX5_reckonAll 205 = .ok (.invokevirtual 390, 3) := dk_182 1 134 (dk_at dksX5_reckonAll_8 16 rfl rfl)
theorem dX5_reckonAll_208 : decode cX5_reckonAll 208 = .ok (.lastore, 1) := dk_80 (dk_at dksX5_reckonAll_8 19 rfl rfl)
theorem dX5_reckonAll_209 : decode cX5_reckonAll 209 = .ok (.aload_n 0, 1) := dk_42 (dk_at dksX5_reckonAll_8 20 rfl rfl)
theorem dX5_reckonAll_210 : decode cX5_reckonAll 210 = .ok (.aload_n 0, 1) := dk_42 (dk_at dksX5_reckonAll_8 21 rfl rfl)
theorem dX5_reckonAll_211 : decode cX5_reckonAll 211 = .ok (.getfield 380, 3) := dk_180 1 124 (dk_at dksX5_reckonAll_9 0 rfl rfl)
theorem dX5_reckonAll_214 : decode cX5_reckonAll 214 = .ok (.ifCond .ne 23, 3) := dk_154 0 23 (dk_at dksX5_reckonAll_9 3 rfl rfl)
theorem dX5_reckonAll_217 : decode cX5_reckonAll 217 = .ok (.aload_n 0, 1) := dk_42 (dk_at dksX5_reckonAll_9 6 rfl rfl)
theorem dX5_reckonAll_218 : decode cX5_reckonAll 218 = .ok (.getfield 101, 3) := dk_180 0 101 (dk_at dksX5_reckonAll_9 7 rfl rfl)
theorem dX5_reckonAll_221 : decode cX5_reckonAll 221 = .ok (.iload_n 3, 1) := dk_29 (dk_at dksX5_reckonAll_9 10 rfl rfl)
theorem dX5_reckonAll_222 : decode cX5_reckonAll 222 = .ok (.iconst 1, 1) := dk_4 (dk_at dksX5_reckonAll_9 11 rfl rfl)
theorem dX5_reckonAll_223 : decode cX5_reckonAll 223 = .ok (.isub, 1) := dk_100 (dk_at dksX5_reckonAll_9 12 rfl rfl)
theorem dX5_reckonAll_224 : decode cX5_reckonAll 224 = .ok (.laload, 1) := dk_47 (dk_at dksX5_reckonAll_9 13 rfl rfl)
theorem dX5_reckonAll_225 : decode cX5_reckonAll 225 = .ok (.ldc2_w 394, 3) := dk_20 1 138 (dk_at dksX5_reckonAll_9 14 rfl rfl)
theorem dX5_reckonAll_228 : decode cX5_reckonAll 228 = .ok (.ldc2_w 396, 3) := dk_20 1 140 (dk_at dksX5_reckonAll_9 17 rfl rfl)
theorem dX5_reckonAll_231 : decode cX5_reckonAll 231 = .ok (.invokestatic 153, 3) := dk_184 0 153 (dk_at dksX5_reckonAll_9 20 rfl rfl)
theorem dX5_reckonAll_234 : decode cX5_reckonAll 234 = .ok (.ifCond .ne 7, 3) := dk_154 0 7 (dk_at dksX5_reckonAll_10 0 rfl rfl)
theorem dX5_reckonAll_237 : decode cX5_reckonAll 237 = .ok (.iconst 1, 1) := dk_4 (dk_at dksX5_reckonAll_10 3 rfl rfl)
theorem dX5_reckonAll_238 : decode cX5_reckonAll 238 = .ok (.goto 4, 3) := dk_167 0 4 (dk_at dksX5_reckonAll_10 4 rfl rfl)
theorem dX5_reckonAll_241 : decode cX5_reckonAll 241 = .ok (.iconst 0, 1) := dk_3 (dk_at dksX5_reckonAll_10 7 rfl rfl)
theorem dX5_reckonAll_242 : decode cX5_reckonAll 242 = .ok (.putfield 380, 3) := dk_181 1 124 (dk_at dksX5_reckonAll_10 8 rfl rfl)
theorem dX5_reckonAll_245 : decode cX5_reckonAll 245 = .ok (.goto 65, 3) := dk_167 0 65 (dk_at dksX5_reckonAll_10 11 rfl rfl)
theorem dX5_reckonAll_248 : decode cX5_reckonAll 248 = .ok (.iload 5, 2) := dk_21 5 (dk_at dksX5_reckonAll_10 14 rfl rfl)
theorem dX5_reckonAll_250 : decode cX5_reckonAll 250 = .ok (.bipush 28, 2) := dk_16 28 (dk_at dksX5_reckonAll_10 16 rfl rfl)
theorem dX5_reckonAll_252 : decode cX5_reckonAll 252 = .ok (.if_icmp .ne 24, 3) := dk_160 0 24 (dk_at dksX5_reckonAll_10 18 rfl rfl)
theorem dX5_reckonAll_255 : decode cX5_reckonAll 255 = .ok (.aload_n 0, 1) := dk_42 (dk_at dksX5_reckonAll_10 21 rfl rfl)
theorem dX5_reckonAll_256 : decode cX5_reckonAll 256 = .ok (.getfield 101, 3) := dk_180 0 101 (dk_at dksX5_reckonAll_11 0 rfl rfl)
theorem dX5_reckonAll_259 : decode cX5_reckonAll 259 = .ok (.iload_n 3, 1) := dk_29 (dk_at dksX5_reckonAll_11 3 rfl rfl)
theorem dX5_reckonAll_260 : decode cX5_reckonAll 260 = .ok (.iconst 1, 1) := dk_4 (dk_at dksX5_reckonAll_11 4 rfl rfl)
theorem dX5_reckonAll_261 : decode cX5_reckonAll 261 = .ok (.isub, 1) := dk_100 (dk_at dksX5_reckonAll_11 5 rfl rfl)
theorem dX5_reckonAll_262 : decode cX5_reckonAll 262 = .ok (.lconst 1, 1) := dk_10 (dk_at dksX5_reckonAll_11 6 rfl rfl)
theorem dX5_reckonAll_263 : decode cX5_reckonAll 263 = .ok (.aload_n 0, 1) := dk_42 (dk_at dksX5_reckonAll_11 7 rfl rfl)
theorem dX5_reckonAll_264 : decode cX5_reckonAll 264 = .ok (.getfield 101, 3) := dk_180 0 101 (dk_at dksX5_reckonAll_11 8 rfl rfl)
theorem dX5_reckonAll_267 : decode cX5_reckonAll 267 = .ok (.iload_n 3, 1) := dk_29 (dk_at dksX5_reckonAll_11 11 rfl rfl)
theorem dX5_reckonAll_268 : decode cX5_reckonAll 268 = .ok (.iconst 1, 1) := dk_4 (dk_at dksX5_reckonAll_11 12 rfl rfl)
theorem dX5_reckonAll_269 : decode cX5_reckonAll 269 = .ok (.isub, 1) := dk_100 (dk_at dksX5_reckonAll_11 13 rfl rfl)
theorem dX5_reckonAll_270 : decode cX5_reckonAll 270 = .ok (.laload, 1) := dk_47 (dk_at dksX5_reckonAll_11 14 rfl rfl)
theorem dX5_reckonAll_271 : decode cX5_reckonAll 271 = .ok (.lsub, 1) := dk_101 (dk_at dksX5_reckonAll_11 15 rfl rfl)
theorem dX5_reckonAll_272 : decode cX5_reckonAll 272 = .ok (.lastore, 1) := dk_80 (dk_at dksX5_reckonAll_11 16 rfl rfl)
theorem dX5_reckonAll_273 : decode cX5_reckonAll 273 = .ok (.goto 37, 3) := dk_167 0 37 (dk_at dksX5_reckonAll_11 17 rfl rfl)
theorem dX5_reckonAll_276 : decode cX5_reckonAll 276 = .ok (.aload_n 0, 1) := dk_42 (dk_at dksX5_reckonAll_11 20 rfl rfl)
theorem dX5_reckonAll_277 : decode cX5_reckonAll 277 = .ok (.getfield 101, 3) := dk_180 0 101 (dk_at dksX5_reckonAll_11 21 rfl rfl)
theorem dX5_reckonAll_280 : decode cX5_reckonAll 280 = .ok (.iload_n 3, 1) := dk_29 (dk_at dksX5_reckonAll_12 0 rfl rfl)
theorem dX5_reckonAll_281 : decode cX5_reckonAll 281 = .ok (.iconst 1, 1) := dk_4 (dk_at dksX5_reckonAll_12 1 rfl rfl)
theorem dX5_reckonAll_282 : decode cX5_reckonAll 282 = .ok (.isub, 1) := dk_100 (dk_at dksX5_reckonAll_12 2 rfl rfl)
theorem dX5_reckonAll_283 : decode cX5_reckonAll 283 = .ok (.laload, 1) := dk_47 (dk_at dksX5_reckonAll_12 3 rfl rfl)
theorem dX5_reckonAll_284 : decode cX5_reckonAll 284 = .ok (.iload 5, 2) := dk_21 5 (dk_at dksX5_reckonAll_12 4 rfl rfl)
theorem dX5_reckonAll_286 : decode cX5_reckonAll 286 = .ok (.bipush 29, 2) := dk_16 29 (dk_at dksX5_reckonAll_12 6 rfl rfl)
theorem dX5_reckonAll_288 : decode cX5_reckonAll 288 = .ok (.if_icmp .ne 7, 3) := dk_160 0 7 (dk_at dksX5_reckonAll_12 8 rfl rfl)
theorem dX5_reckonAll_291 : decode cX5_reckonAll 291 = .ok (.lconst 0, 1) := dk_9 (dk_at dksX5_reckonAll_12 11 rfl rfl)
theorem dX5_reckonAll_292 : decode cX5_reckonAll 292 = .ok (.goto 4, 3) := dk_167 0 4 (dk_at dksX5_reckonAll_12 12 rfl rfl)
theorem dX5_reckonAll_295 : decode cX5_reckonAll 295 = .ok (.lconst 1, 1) := dk_10 (dk_at dksX5_reckonAll_12 15 rfl rfl)
theorem dX5_reckonAll_296 : decode cX5_reckonAll 296 = .ok (.lcmp, 1) := dk_148 (dk_at dksX5_reckonAll_12 16 rfl rfl)
theorem dX5_reckonAll_297 : decode cX5_reckonAll 297 = .ok (.ifCond .ne 10, 3) := dk_154 0 10 (dk_at dksX5_reckonAll_12 17 rfl rfl)
theorem dX5_reckonAll_300 : decode cX5_reckonAll 300 = .ok (.iload 6, 2) := dk_21 6 (dk_at dksX5_reckonAll_12 20 rfl rfl)
theorem dX5_reckonAll_302 : decode cX5_reckonAll 302 = .ok (.istore 4, 2) := dk_54 4 (dk_at dksX5_reckonAll_12 22 rfl rfl)
theorem dX5_reckonAll_304 : decode cX5_reckonAll 304 = .ok (.goto 6, 3) := dk_167 0 6 (dk_at dksX5_reckonAll_13 0 rfl rfl)
theorem dX5_reckonAll_307 : decode cX5_reckonAll 307 = .ok (.iinc 3 (-1), 3) := dk_132 3 255 (dk_at dksX5_reckonAll_13 3 rfl rfl)
theorem dX5_reckonAll_310 : decode cX5_reckonAll 310 = .ok (.goto (-300), 3) := dk_167 254 212 (dk_at dksX5_reckonAll_13 6 rfl rfl)
theorem dX5_reckonAll_313 : decode cX5_reckonAll 313 = .ok (.aload_n 0, 1) := dk_42 (dk_at dksX5_reckonAll_13 9 rfl rfl)
theorem dX5_reckonAll_314 : decode cX5_reckonAll 314 = .ok (.iload_n 3, 1) := dk_29 (dk_at dksX5_reckonAll_13 10 rfl rfl)
theorem dX5_reckonAll_315 : decode cX5_reckonAll 315 = .ok (.ifCond .le 12, 3) := dk_158 0 12 (dk_at dksX5_reckonAll_13 11 rfl rfl)
theorem dX5_reckonAll_318 : decode cX5_reckonAll 318 = .ok (.aload_n 0, 1) := dk_42 (dk_at dksX5_reckonAll_13 14 rfl rfl)
theorem dX5_reckonAll_319 : decode cX5_reckonAll 319 = .ok (.getfield 101, 3) := dk_180 0 101 (dk_at dksX5_reckonAll_13 15 rfl rfl)
theorem dX5_reckonAll_322 : decode cX5_reckonAll 322 = .ok (.iconst 0, 1) := dk_3 (dk_at dksX5_reckonAll_13 18 rfl rfl)
theorem dX5_reckonAll_323 : decode cX5_reckonAll 323 = .ok (.laload, 1) := dk_47 (dk_at dksX5_reckonAll_13 19 rfl rfl)
theorem dX5_reckonAll_324 : decode cX5_reckonAll 324 = .ok (.goto 4, 3) := dk_167 0 4 (dk_at dksX5_reckonAll_13 20 rfl rfl)
theorem dX5_reckonAll_327 : decode cX5_reckonAll 327 = .ok (.lconst 0, 1) := dk_9 (dk_at dksX5_reckonAll_13 23 rfl rfl)
theorem dX5_reckonAll_328 : decode cX5_reckonAll 328 = .ok (.putfield 398, 3) := dk_181 1 142 (dk_at dksX5_reckonAll_14 0 rfl rfl)
theorem dX5_reckonAll_331 : decode cX5_reckonAll 331 = .ok (.return_, 1) := dk_177 (dk_at dksX5_reckonAll_14 3 rfl rfl)
abbrev cX5_factOf : ByteArray := prog_23_method_63_code
def yX5_factOf : MethodName := ⟨RX5, "factOf", "(II)J"⟩
def dkwX5_factOf_2 : List UInt8 := [167, 0, 9, 42, 28, 182, 1, 121, 133, 173]
abbrev dktX5_factOf_2 : List UInt8 := dkwX5_factOf_2 ++ []
def dkwX5_factOf_1 : List UInt8 := [17, 3, 232, 108, 133, 167, 0, 28, 27, 16, 6, 160, 0, 16, 42, 28, 182, 1, 118, 17, 3, 232, 108, 133]
abbrev dktX5_factOf_1 : List UInt8 := dkwX5_factOf_1 ++ dktX5_factOf_2
def dkwX5_factOf_0 : List UInt8 := [42, 28, 182, 0, 184, 154, 0, 7, 20, 0, 206, 173, 27, 8, 160, 0, 16, 42, 28, 182, 0, 166]
abbrev dktX5_factOf_0 : List UInt8 := dkwX5_factOf_0 ++ dktX5_factOf_1
theorem dksX5_factOf_0 : cX5_factOf.data.toList.drop 0 = dktX5_factOf_0 := by decide +kernel
theorem dksX5_factOf_1 : cX5_factOf.data.toList.drop 22 = dktX5_factOf_1 := dk_seg dksX5_factOf_0 22 rfl rfl
theorem dksX5_factOf_2 : cX5_factOf.data.toList.drop 46 = dktX5_factOf_2 := dk_seg dksX5_factOf_1 24 rfl rfl
theorem dX5_factOf_0 : decode cX5_factOf 0 = .ok (.aload_n 0, 1) := dk_42 (dk_at dksX5_factOf_0 0 rfl rfl)
theorem dX5_factOf_1 : decode cX5_factOf 1 = .ok (.iload_n 2, 1) := dk_28 (dk_at dksX5_factOf_0 1 rfl rfl)
theorem dX5_factOf_2 : decode cX5_factOf 2 = .ok (.invokevirtual 184, 3) := dk_182 0 184 (dk_at dksX5_factOf_0 2 rfl rfl)
theorem dX5_factOf_5 : decode cX5_factOf 5 = .ok (.ifCond .ne 7, 3) := dk_154 0 7 (dk_at dksX5_factOf_0 5 rfl rfl)
theorem dX5_factOf_8 : decode cX5_factOf 8 = .ok (.ldc2_w 206, 3) := dk_20 0 206 (dk_at dksX5_factOf_0 8 rfl rfl)
theorem dX5_factOf_11 : decode cX5_factOf 11 = .ok (.lreturn, 1) := dk_173 (dk_at dksX5_factOf_0 11 rfl rfl)
theorem dX5_factOf_12 : decode cX5_factOf 12 = .ok (.iload_n 1, 1) := dk_27 (dk_at dksX5_factOf_0 12 rfl rfl)
theorem dX5_factOf_13 : decode cX5_factOf 13 = .ok (.iconst 5, 1) := dk_8 (dk_at dksX5_factOf_0 13 rfl rfl)
theorem dX5_factOf_14 : decode cX5_factOf 14 = .ok (.if_icmp .ne 16, 3) := dk_160 0 16 (dk_at dksX5_factOf_0 14 rfl rfl)
theorem dX5_factOf_17 : decode cX5_factOf 17 = .ok (.aload_n 0, 1) := dk_42 (dk_at dksX5_factOf_0 17 rfl rfl)
theorem dX5_factOf_18 : decode cX5_factOf 18 = .ok (.iload_n 2, 1) := dk_28 (dk_at dksX5_factOf_0 18 rfl rfl)
theorem dX5_factOf_19 : decode cX5_factOf 19 = .ok (.invokevirtual 166, 3) := dk_182 0 166 (dk_at dksX5_factOf_0 19 rfl rfl)
theorem dX5_factOf_22 : decode cX5_factOf 22 = .ok (.sipush 1000, 3) := dk_17 3 232 (dk_at dksX5_factOf_1 0 rfl rfl)
theorem dX5_factOf_25 : decode cX5_factOf 25 = .ok (.idiv, 1) := dk_108 (dk_at dksX5_factOf_1 3 rfl rfl)
theorem dX5_factOf_26 : decode cX5_factOf 26 = .ok (.i2l, 1) := dk_133 (dk_at dksX5_factOf_1 4 rfl rfl)
theorem dX5_factOf_27 : decode cX5_factOf 27 = .ok (.goto 28, 3) := dk_167 0 28 (dk_at dksX5_factOf_1 5 rfl rfl)
theorem dX5_factOf_30 : decode cX5_factOf 30 = .ok (.iload_n 1, 1) := dk_27 (dk_at dksX5_factOf_1 8 rfl rfl)
theorem dX5_factOf_31 : decode cX5_factOf 31 = .ok (.bipush 6, 2) := dk_16 6 (dk_at dksX5_factOf_1 9 rfl rfl)
theorem dX5_factOf_33 : decode cX5_factOf 33 = .ok (.if_icmp .ne 16, 3) := dk_160 0 16 (dk_at dksX5_factOf_1 11 rfl rfl)
theorem dX5_factOf_36 : decode cX5_factOf 36 = .ok (.aload_n 0, 1) := dk_42 (dk_at dksX5_factOf_1 14 rfl rfl)
theorem dX5_factOf_37 : decode cX5_factOf 37 = .ok (.iload_n 2, 1) := dk_28 (dk_at dksX5_factOf_1 15 rfl rfl)
theorem dX5_factOf_38 : decode cX5_factOf 38 = .ok (.invokevirtual 374, 3) := dk_182 1 118 (dk_at dksX5_factOf_1 16 rfl rfl)
theorem dX5_factOf_41 : decode cX5_factOf 41 = .ok (.sipush 1000, 3) := dk_17 3 232 (dk_at dksX5_factOf_1 19 rfl rfl)
theorem dX5_factOf_44 : decode cX5_factOf 44 = .ok (.idiv, 1) := dk_108 (dk_at dksX5_factOf_1 22 rfl rfl)
theorem dX5_factOf_45 : decode cX5_factOf 45 = .ok (.i2l, 1) := dk_133 (dk_at dksX5_factOf_1 23 rfl rfl)
theorem dX5_factOf_46 : decode cX5_factOf 46 = .ok (.goto 9, 3) := dk_167 0 9 (dk_at dksX5_factOf_2 0 rfl rfl)
theorem dX5_factOf_49 : decode cX5_factOf 49 = .ok (.aload_n 0, 1) := dk_42 (dk_at dksX5_factOf_2 3 rfl rfl)
theorem dX5_factOf_50 : decode cX5_factOf 50 = .ok (.iload_n 2, 1) := dk_28 (dk_at dksX5_factOf_2 4 rfl rfl)
theorem dX5_factOf_51 : decode cX5_factOf 51 = .ok (.invokevirtual 377, 3) := dk_182 1 121 (dk_at dksX5_factOf_2 5 rfl rfl)
theorem dX5_factOf_54 : decode cX5_factOf 54 = .ok (.i2l, 1) := dk_133 (dk_at dksX5_factOf_2 8 rfl rfl)
theorem dX5_factOf_55 : decode cX5_factOf 55 = .ok (.lreturn, 1) := dk_173 (dk_at dksX5_factOf_2 9 rfl rfl)
abbrev cX5_roomOf : ByteArray := prog_23_method_22_code
def yX5_roomOf : MethodName := ⟨RX5, "roomOf", "(I)I"⟩
def dkwX5_roomOf_0 : List UInt8 := [17, 3, 232, 42, 180, 0, 13, 17, 0, 178, 27, 96, 46, 104, 42, 27, 182, 0, 166, 100, 172]
abbrev dktX5_roomOf_0 : List UInt8 := dkwX5_roomOf_0 ++ []
theorem dksX5_roomOf_0 : cX5_roomOf.data.toList.drop 0 = dktX5_roomOf_0 := by decide +kernel
theorem dX5_roomOf_0 : decode cX5_roomOf 0 = .ok (.sipush 1000, 3) := dk_17 3 232 (dk_at dksX5_roomOf_0 0 rfl rfl)
theorem dX5_roomOf_3 : decode cX5_roomOf 3 = .ok (.aload_n 0, 1) := dk_42 (dk_at dksX5_roomOf_0 3 rfl rfl)
theorem dX5_roomOf_4 : decode cX5_roomOf 4 = .ok (.getfield 13, 3) := dk_180 0 13 (dk_at dksX5_roomOf_0 4 rfl rfl)
theorem dX5_roomOf_7 : decode cX5_roomOf 7 = .ok (.sipush 178, 3) := dk_17 0 178 (dk_at dksX5_roomOf_0 7 rfl rfl)
theorem dX5_roomOf_10 : decode cX5_roomOf 10 = .ok (.iload_n 1, 1) := dk_27 (dk_at dksX5_roomOf_0 10 rfl rfl)
theorem dX5_roomOf_11 : decode cX5_roomOf 11 = .ok (.iadd, 1) := dk_96 (dk_at dksX5_roomOf_0 11 rfl rfl)
theorem dX5_roomOf_12 : decode cX5_roomOf 12 = .ok (.iaload, 1) := dk_46 (dk_at dksX5_roomOf_0 12 rfl rfl)
theorem dX5_roomOf_13 : decode cX5_roomOf 13 = .ok (.imul, 1) := dk_104 (dk_at dksX5_roomOf_0 13 rfl rfl)
theorem dX5_roomOf_14 : decode cX5_roomOf 14 = .ok (.aload_n 0, 1) := dk_42 (dk_at dksX5_roomOf_0 14 rfl rfl)
theorem dX5_roomOf_15 : decode cX5_roomOf 15 = .ok (.iload_n 1, 1) := dk_27 (dk_at dksX5_roomOf_0 15 rfl rfl)
theorem dX5_roomOf_16 : decode cX5_roomOf 16 = .ok (.invokevirtual 166, 3) := dk_182 0 166 (dk_at dksX5_roomOf_0 16 rfl rfl)
theorem dX5_roomOf_19 : decode cX5_roomOf 19 = .ok (.isub, 1) := dk_100 (dk_at dksX5_roomOf_0 19 rfl rfl)
theorem dX5_roomOf_20 : decode cX5_roomOf 20 = .ok (.ireturn, 1) := dk_172 (dk_at dksX5_roomOf_0 20 rfl rfl)
abbrev cX5_reckon : ByteArray := prog_23_method_64_code
def yX5_reckon : MethodName := ⟨RX5, "reckon", "(IJJ)J"⟩
def dkwX5_reckon_6 : List UInt8 := [148, 158, 0, 7, 10, 167, 0, 4, 9, 173, 32, 22, 4, 148, 154, 0, 7, 10, 167, 0, 4, 9, 173]
abbrev dktX5_reckon_6 : List UInt8 := dkwX5_reckon_6 ++ []
def dkwX5_reckon_5 : List UInt8 := [167, 0, 7, 32, 22, 4, 113, 173, 32, 22, 4, 148, 156, 0, 7, 10, 167, 0, 4, 9, 173, 32, 22, 4]
abbrev dktX5_reckon_5 : List UInt8 := dkwX5_reckon_5 ++ dktX5_reckon_6
def dkwX5_reckon_4 : List UInt8 := [22, 4, 9, 148, 154, 0, 7, 4, 167, 0, 4, 3, 181, 1, 124, 42, 180, 1, 124, 153, 0, 7, 9]
abbrev dktX5_reckon_4 : List UInt8 := dkwX5_reckon_4 ++ dktX5_reckon_5
def dkwX5_reckon_3 : List UInt8 := [167, 0, 4, 3, 181, 1, 124, 42, 180, 1, 124, 153, 0, 7, 9, 167, 0, 7, 32, 22, 4, 109, 173, 42]
abbrev dktX5_reckon_3 : List UInt8 := dkwX5_reckon_3 ++ dktX5_reckon_4
def dkwX5_reckon_2 : List UInt8 := [32, 22, 4, 97, 173, 32, 22, 4, 101, 173, 32, 22, 4, 105, 173, 42, 22, 4, 9, 148, 154, 0, 7, 4]
abbrev dktX5_reckon_2 : List UInt8 := dkwX5_reckon_2 ++ dktX5_reckon_3
def dkwX5_reckon_1 : List UInt8 := [170, 0, 0, 0, 0, 0, 148, 0, 0, 0, 20, 0, 0, 0, 26, 0, 0, 0, 43, 0, 0, 0, 48, 0, 0, 0, 53, 0, 0, 0, 58, 0, 0, 0, 90, 0, 0, 0, 122, 0, 0, 0, 135]
abbrev dktX5_reckon_1 : List UInt8 := dkwX5_reckon_1 ++ dktX5_reckon_2
def dkwX5_reckon_0 : List UInt8 := [27]
abbrev dktX5_reckon_0 : List UInt8 := dkwX5_reckon_0 ++ dktX5_reckon_1
theorem dksX5_reckon_0 : cX5_reckon.data.toList.drop 0 = dktX5_reckon_0 := by decide +kernel
theorem dksX5_reckon_1 : cX5_reckon.data.toList.drop 1 = dktX5_reckon_1 := dk_seg dksX5_reckon_0 1 rfl rfl
theorem dksX5_reckon_2 : cX5_reckon.data.toList.drop 44 = dktX5_reckon_2 := dk_seg dksX5_reckon_1 43 rfl rfl
theorem dksX5_reckon_3 : cX5_reckon.data.toList.drop 68 = dktX5_reckon_3 := dk_seg dksX5_reckon_2 24 rfl rfl
theorem dksX5_reckon_4 : cX5_reckon.data.toList.drop 92 = dktX5_reckon_4 := dk_seg dksX5_reckon_3 24 rfl rfl
theorem dksX5_reckon_5 : cX5_reckon.data.toList.drop 115 = dktX5_reckon_5 := dk_seg dksX5_reckon_4 23 rfl rfl
theorem dksX5_reckon_6 : cX5_reckon.data.toList.drop 139 = dktX5_reckon_6 := dk_seg dksX5_reckon_5 24 rfl rfl
theorem dX5_reckon_0 : decode cX5_reckon 0 = .ok (.iload_n 1, 1) := dk_27 (dk_at dksX5_reckon_0 0 rfl rfl)
theorem dX5_reckon_1 : decode cX5_reckon 1 = .ok (.tableswitch 148 20 26 #[43, 48, 53, 58, 90, 122, 135], 43) := by decide +kernel
theorem dX5_reckon_44 : decode cX5_reckon 44 = .ok (.lload_n 2, 1) := dk_32 (dk_at dksX5_reckon_2 0 rfl rfl)
theorem dX5_reckon_45 : decode cX5_reckon 45 = .ok (.lload 4, 2) := dk_22 4 (dk_at dksX5_reckon_2 1 rfl rfl)
theorem dX5_reckon_47 : decode cX5_reckon 47 = .ok (.ladd, 1) := dk_97 (dk_at dksX5_reckon_2 3 rfl rfl)
theorem dX5_reckon_48 : decode cX5_reckon 48 = .ok (.lreturn, 1) := dk_173 (dk_at dksX5_reckon_2 4 rfl rfl)
theorem dX5_reckon_49 : decode cX5_reckon 49 = .ok (.lload_n 2, 1) := dk_32 (dk_at dksX5_reckon_2 5 rfl rfl)
theorem dX5_reckon_50 : decode cX5_reckon 50 = .ok (.lload 4, 2) := dk_22 4 (dk_at dksX5_reckon_2 6 rfl rfl)
theorem dX5_reckon_52 : decode cX5_reckon 52 = .ok (.lsub, 1) := dk_101 (dk_at dksX5_reckon_2 8 rfl rfl)
theorem dX5_reckon_53 : decode cX5_reckon 53 = .ok (.lreturn, 1) := dk_173 (dk_at dksX5_reckon_2 9 rfl rfl)
theorem dX5_reckon_54 : decode cX5_reckon 54 = .ok (.lload_n 2, 1) := dk_32 (dk_at dksX5_reckon_2 10 rfl rfl)
theorem dX5_reckon_55 : decode cX5_reckon 55 = .ok (.lload 4, 2) := dk_22 4 (dk_at dksX5_reckon_2 11 rfl rfl)
theorem dX5_reckon_57 : decode cX5_reckon 57 = .ok (.lmul, 1) := dk_105 (dk_at dksX5_reckon_2 13 rfl rfl)
theorem dX5_reckon_58 : decode cX5_reckon 58 = .ok (.lreturn, 1) := dk_173 (dk_at dksX5_reckon_2 14 rfl rfl)
theorem dX5_reckon_59 : decode cX5_reckon 59 = .ok (.aload_n 0, 1) := dk_42 (dk_at dksX5_reckon_2 15 rfl rfl)
theorem dX5_reckon_60 : decode cX5_reckon 60 = .ok (.lload 4, 2) := dk_22 4 (dk_at dksX5_reckon_2 16 rfl rfl)
theorem dX5_reckon_62 : decode cX5_reckon 62 = .ok (.lconst 0, 1) := dk_9 (dk_at dksX5_reckon_2 18 rfl rfl)
theorem dX5_reckon_63 : decode cX5_reckon 63 = .ok (.lcmp, 1) := dk_148 (dk_at dksX5_reckon_2 19 rfl rfl)
theorem dX5_reckon_64 : decode cX5_reckon 64 = .ok (.ifCond .ne 7, 3) := dk_154 0 7 (dk_at dksX5_reckon_2 20 rfl rfl)
theorem dX5_reckon_67 : decode cX5_reckon 67 = .ok (.iconst 1, 1) := dk_4 (dk_at dksX5_reckon_2 23 rfl rfl)
theorem dX5_reckon_68 : decode cX5_reckon 68 = .ok (.goto 4, 3) := dk_167 0 4 (dk_at dksX5_reckon_3 0 rfl rfl)
theorem dX5_reckon_71 : decode cX5_reckon 71 = .ok (.iconst 0, 1) := dk_3 (dk_at dksX5_reckon_3 3 rfl rfl)
theorem dX5_reckon_72 : decode cX5_reckon 72 = .ok (.putfield 380, 3) := dk_181 1 124 (dk_at dksX5_reckon_3 4 rfl rfl)
theorem dX5_reckon_75 : decode cX5_reckon 75 = .ok (.aload_n 0, 1) := dk_42 (dk_at dksX5_reckon_3 7 rfl rfl)
theorem dX5_reckon_76 : decode cX5_reckon 76 = .ok (.getfield 380, 3) := dk_180 1 124 (dk_at dksX5_reckon_3 8 rfl rfl)
theorem dX5_reckon_79 : decode cX5_reckon 79 = .ok (.ifCond .eq 7, 3) := dk_153 0 7 (dk_at dksX5_reckon_3 11 rfl rfl)
theorem dX5_reckon_82 : decode cX5_reckon 82 = .ok (.lconst 0, 1) := dk_9 (dk_at dksX5_reckon_3 14 rfl rfl)
theorem dX5_reckon_83 : decode cX5_reckon 83 = .ok (.goto 7, 3) := dk_167 0 7 (dk_at dksX5_reckon_3 15 rfl rfl)
theorem dX5_reckon_86 : decode cX5_reckon 86 = .ok (.lload_n 2, 1) := dk_32 (dk_at dksX5_reckon_3 18 rfl rfl)
theorem dX5_reckon_87 : decode cX5_reckon 87 = .ok (.lload 4, 2) := dk_22 4 (dk_at dksX5_reckon_3 19 rfl rfl)
theorem dX5_reckon_89 : decode cX5_reckon 89 = .ok (.ldiv, 1) := dk_109 (dk_at dksX5_reckon_3 21 rfl rfl)
theorem dX5_reckon_90 : decode cX5_reckon 90 = .ok (.lreturn, 1) := dk_173 (dk_at dksX5_reckon_3 22 rfl rfl)
theorem dX5_reckon_91 : decode cX5_reckon 91 = .ok (.aload_n 0, 1) := dk_42 (dk_at dksX5_reckon_3 23 rfl rfl)
theorem dX5_reckon_92 : decode cX5_reckon 92 = .ok (.lload 4, 2) := dk_22 4 (dk_at dksX5_reckon_4 0 rfl rfl)
theorem dX5_reckon_94 : decode cX5_reckon 94 = .ok (.lconst 0, 1) := dk_9 (dk_at dksX5_reckon_4 2 rfl rfl)
theorem dX5_reckon_95 : decode cX5_reckon 95 = .ok (.lcmp, 1) := dk_148 (dk_at dksX5_reckon_4 3 rfl rfl)
theorem dX5_reckon_96 : decode cX5_reckon 96 = .ok (.ifCond .ne 7, 3) := dk_154 0 7 (dk_at dksX5_reckon_4 4 rfl rfl)
theorem dX5_reckon_99 : decode cX5_reckon 99 = .ok (.iconst 1, 1) := dk_4 (dk_at dksX5_reckon_4 7 rfl rfl)
theorem dX5_reckon_100 : decode cX5_reckon 100 = .ok (.goto 4, 3) := dk_167 0 4 (dk_at dksX5_reckon_4 8 rfl rfl)
theorem dX5_reckon_103 : decode cX5_reckon 103 = .ok (.iconst 0, 1) := dk_3 (dk_at dksX5_reckon_4 11 rfl rfl)
theorem dX5_reckon_104 : decode cX5_reckon 104 = .ok (.putfield 380, 3) := dk_181 1 124 (dk_at dksX5_reckon_4 12 rfl rfl)
theorem dX5_reckon_107 : decode cX5_reckon 107 = .ok (.aload_n 0, 1) := dk_42 (dk_at dksX5_reckon_4 15 rfl rfl)
theorem dX5_reckon_108 : decode cX5_reckon 108 = .ok (.getfield 380, 3) := dk_180 1 124 (dk_at dksX5_reckon_4 16 rfl rfl)
theorem dX5_reckon_111 : decode cX5_reckon 111 = .ok (.ifCond .eq 7, 3) := dk_153 0 7 (dk_at dksX5_reckon_4 19 rfl rfl)
theorem dX5_reckon_114 : decode cX5_reckon 114 = .ok (.lconst 0, 1) := dk_9 (dk_at dksX5_reckon_4 22 rfl rfl)
theorem dX5_reckon_115 : decode cX5_reckon 115 = .ok (.goto 7, 3) := dk_167 0 7 (dk_at dksX5_reckon_5 0 rfl rfl)
theorem dX5_reckon_118 : decode cX5_reckon 118 = .ok (.lload_n 2, 1) := dk_32 (dk_at dksX5_reckon_5 3 rfl rfl)
theorem dX5_reckon_119 : decode cX5_reckon 119 = .ok (.lload 4, 2) := dk_22 4 (dk_at dksX5_reckon_5 4 rfl rfl)
theorem dX5_reckon_121 : decode cX5_reckon 121 = .ok (.lrem, 1) := dk_113 (dk_at dksX5_reckon_5 6 rfl rfl)
theorem dX5_reckon_122 : decode cX5_reckon 122 = .ok (.lreturn, 1) := dk_173 (dk_at dksX5_reckon_5 7 rfl rfl)
theorem dX5_reckon_123 : decode cX5_reckon 123 = .ok (.lload_n 2, 1) := dk_32 (dk_at dksX5_reckon_5 8 rfl rfl)
theorem dX5_reckon_124 : decode cX5_reckon 124 = .ok (.lload 4, 2) := dk_22 4 (dk_at dksX5_reckon_5 9 rfl rfl)
theorem dX5_reckon_126 : decode cX5_reckon 126 = .ok (.lcmp, 1) := dk_148 (dk_at dksX5_reckon_5 11 rfl rfl)
theorem dX5_reckon_127 : decode cX5_reckon 127 = .ok (.ifCond .ge 7, 3) := dk_156 0 7 (dk_at dksX5_reckon_5 12 rfl rfl)
theorem dX5_reckon_130 : decode cX5_reckon 130 = .ok (.lconst 1, 1) := dk_10 (dk_at dksX5_reckon_5 15 rfl rfl)
theorem dX5_reckon_131 : decode cX5_reckon 131 = .ok (.goto 4, 3) := dk_167 0 4 (dk_at dksX5_reckon_5 16 rfl rfl)
theorem dX5_reckon_134 : decode cX5_reckon 134 = .ok (.lconst 0, 1) := dk_9 (dk_at dksX5_reckon_5 19 rfl rfl)
theorem dX5_reckon_135 : decode cX5_reckon 135 = .ok (.lreturn, 1) := dk_173 (dk_at dksX5_reckon_5 20 rfl rfl)
theorem dX5_reckon_136 : decode cX5_reckon 136 = .ok (.lload_n 2, 1) := dk_32 (dk_at dksX5_reckon_5 21 rfl rfl)
theorem dX5_reckon_137 : decode cX5_reckon 137 = .ok (.lload 4, 2) := dk_22 4 (dk_at dksX5_reckon_5 22 rfl rfl)
theorem dX5_reckon_139 : decode cX5_reckon 139 = .ok (.lcmp, 1) := dk_148 (dk_at dksX5_reckon_6 0 rfl rfl)
theorem dX5_reckon_140 : decode cX5_reckon 140 = .ok (.ifCond .le 7, 3) := dk_158 0 7 (dk_at dksX5_reckon_6 1 rfl rfl)
theorem dX5_reckon_143 : decode cX5_reckon 143 = .ok (.lconst 1, 1) := dk_10 (dk_at dksX5_reckon_6 4 rfl rfl)
theorem dX5_reckon_144 : decode cX5_reckon 144 = .ok (.goto 4, 3) := dk_167 0 4 (dk_at dksX5_reckon_6 5 rfl rfl)
theorem dX5_reckon_147 : decode cX5_reckon 147 = .ok (.lconst 0, 1) := dk_9 (dk_at dksX5_reckon_6 8 rfl rfl)
theorem dX5_reckon_148 : decode cX5_reckon 148 = .ok (.lreturn, 1) := dk_173 (dk_at dksX5_reckon_6 9 rfl rfl)
theorem dX5_reckon_149 : decode cX5_reckon 149 = .ok (.lload_n 2, 1) := dk_32 (dk_at dksX5_reckon_6 10 rfl rfl)
theorem dX5_reckon_150 : decode cX5_reckon 150 = .ok (.lload 4, 2) := dk_22 4 (dk_at dksX5_reckon_6 11 rfl rfl)
theorem dX5_reckon_152 : decode cX5_reckon 152 = .ok (.lcmp, 1) := dk_148 (dk_at dksX5_reckon_6 13 rfl rfl)
theorem dX5_reckon_153 : decode cX5_reckon 153 = .ok (.ifCond .ne 7, 3) := dk_154 0 7 (dk_at dksX5_reckon_6 14 rfl rfl)
theorem dX5_reckon_156 : decode cX5_reckon 156 = .ok (.lconst 1, 1) := dk_10 (dk_at dksX5_reckon_6 17 rfl rfl)
theorem dX5_reckon_157 : decode cX5_reckon 157 = .ok (.goto 4, 3) := dk_167 0 4 (dk_at dksX5_reckon_6 18 rfl rfl)
theorem dX5_reckon_160 : decode cX5_reckon 160 = .ok (.lconst 0, 1) := dk_9 (dk_at dksX5_reckon_6 21 rfl rfl)
theorem dX5_reckon_161 : decode cX5_reckon 161 = .ok (.lreturn, 1) := dk_173 (dk_at dksX5_reckon_6 22 rfl rfl)
abbrev cX5_bounded : ByteArray := prog_23_method_5_code
def yX5_bounded : MethodName := ⟨RX5, "bounded", "(JII)I"⟩
def dkwX5_bounded_1 : List UInt8 := [172]
abbrev dktX5_bounded_1 : List UInt8 := dkwX5_bounded_1 ++ []
def dkwX5_bounded_0 : List UInt8 := [30, 28, 133, 148, 156, 0, 7, 28, 167, 0, 16, 30, 29, 133, 148, 158, 0, 7, 29, 167, 0, 5, 30, 136]
abbrev dktX5_bounded_0 : List UInt8 := dkwX5_bounded_0 ++ dktX5_bounded_1
theorem dksX5_bounded_0 : cX5_bounded.data.toList.drop 0 = dktX5_bounded_0 := by decide +kernel
theorem dksX5_bounded_1 : cX5_bounded.data.toList.drop 24 = dktX5_bounded_1 := dk_seg dksX5_bounded_0 24 rfl rfl
theorem dX5_bounded_0 : decode cX5_bounded 0 = .ok (.lload_n 0, 1) := dk_30 (dk_at dksX5_bounded_0 0 rfl rfl)
theorem dX5_bounded_1 : decode cX5_bounded 1 = .ok (.iload_n 2, 1) := dk_28 (dk_at dksX5_bounded_0 1 rfl rfl)
theorem dX5_bounded_2 : decode cX5_bounded 2 = .ok (.i2l, 1) := dk_133 (dk_at dksX5_bounded_0 2 rfl rfl)
theorem dX5_bounded_3 : decode cX5_bounded 3 = .ok (.lcmp, 1) := dk_148 (dk_at dksX5_bounded_0 3 rfl rfl)
theorem dX5_bounded_4 : decode cX5_bounded 4 = .ok (.ifCond .ge 7, 3) := dk_156 0 7 (dk_at dksX5_bounded_0 4 rfl rfl)
theorem dX5_bounded_7 : decode cX5_bounded 7 = .ok (.iload_n 2, 1) := dk_28 (dk_at dksX5_bounded_0 7 rfl rfl)
theorem dX5_bounded_8 : decode cX5_bounded 8 = .ok (.goto 16, 3) := dk_167 0 16 (dk_at dksX5_bounded_0 8 rfl rfl)
theorem dX5_bounded_11 : decode cX5_bounded 11 = .ok (.lload_n 0, 1) := dk_30 (dk_at dksX5_bounded_0 11 rfl rfl)
theorem dX5_bounded_12 : decode cX5_bounded 12 = .ok (.iload_n 3, 1) := dk_29 (dk_at dksX5_bounded_0 12 rfl rfl)
theorem dX5_bounded_13 : decode cX5_bounded 13 = .ok (.i2l, 1) := dk_133 (dk_at dksX5_bounded_0 13 rfl rfl)
theorem dX5_bounded_14 : decode cX5_bounded 14 = .ok (.lcmp, 1) := dk_148 (dk_at dksX5_bounded_0 14 rfl rfl)
theorem dX5_bounded_15 : decode cX5_bounded 15 = .ok (.ifCond .le 7, 3) := dk_158 0 7 (dk_at dksX5_bounded_0 15 rfl rfl)
theorem dX5_bounded_18 : decode cX5_bounded 18 = .ok (.iload_n 3, 1) := dk_29 (dk_at dksX5_bounded_0 18 rfl rfl)
theorem dX5_bounded_19 : decode cX5_bounded 19 = .ok (.goto 5, 3) := dk_167 0 5 (dk_at dksX5_bounded_0 19 rfl rfl)
theorem dX5_bounded_22 : decode cX5_bounded 22 = .ok (.lload_n 0, 1) := dk_30 (dk_at dksX5_bounded_0 22 rfl rfl)
theorem dX5_bounded_23 : decode cX5_bounded 23 = .ok (.l2i, 1) := dk_136 (dk_at dksX5_bounded_0 23 rfl rfl)
theorem dX5_bounded_24 : decode cX5_bounded 24 = .ok (.ireturn, 1) := dk_172 (dk_at dksX5_bounded_1 0 rfl rfl)
abbrev cX5_yieldsOf : ByteArray := prog_23_method_69_code
def yX5_yieldsOf : MethodName := ⟨RX5, "yieldsOf", "(I)I"⟩
def dkwX5_yieldsOf_0 : List UInt8 := [42, 4, 27, 20, 0, 179, 182, 1, 154, 3, 17, 3, 231, 184, 1, 158, 172]
abbrev dktX5_yieldsOf_0 : List UInt8 := dkwX5_yieldsOf_0 ++ []
theorem dksX5_yieldsOf_0 : cX5_yieldsOf.data.toList.drop 0 = dktX5_yieldsOf_0 := by decide +kernel
theorem dX5_yieldsOf_0 : decode cX5_yieldsOf 0 = .ok (.aload_n 0, 1) := dk_42 (dk_at dksX5_yieldsOf_0 0 rfl rfl)
theorem dX5_yieldsOf_1 : decode cX5_yieldsOf 1 = .ok (.iconst 1, 1) := dk_4 (dk_at dksX5_yieldsOf_0 1 rfl rfl)
theorem dX5_yieldsOf_2 : decode cX5_yieldsOf 2 = .ok (.iload_n 1, 1) := dk_27 (dk_at dksX5_yieldsOf_0 2 rfl rfl)
theorem dX5_yieldsOf_3 : decode cX5_yieldsOf 3 = .ok (.ldc2_w 179, 3) := dk_20 0 179 (dk_at dksX5_yieldsOf_0 3 rfl rfl)
theorem dX5_yieldsOf_6 : decode cX5_yieldsOf 6 = .ok (.invokevirtual 410, 3) := dk_182 1 154 (dk_at dksX5_yieldsOf_0 6 rfl rfl)
theorem dX5_yieldsOf_9 : decode cX5_yieldsOf 9 = .ok (.iconst 0, 1) := dk_3 (dk_at dksX5_yieldsOf_0 9 rfl rfl)
theorem dX5_yieldsOf_10 : decode cX5_yieldsOf 10 = .ok (.sipush 999, 3) := dk_17 3 231 (dk_at dksX5_yieldsOf_0 10 rfl rfl)
theorem dX5_yieldsOf_13 : decode cX5_yieldsOf 13 = .ok (.invokestatic 414, 3) := dk_184 1 158 (dk_at dksX5_yieldsOf_0 13 rfl rfl)
theorem dX5_yieldsOf_16 : decode cX5_yieldsOf 16 = .ok (.ireturn, 1) := dk_172 (dk_at dksX5_yieldsOf_0 16 rfl rfl)
abbrev cX5_isBarred : ByteArray := prog_23_method_70_code
def yX5_isBarred : MethodName := ⟨RX5, "isBarred", "(I)Z"⟩
def dkwX5_isBarred_0 : List UInt8 := [42, 5, 27, 9, 182, 1, 154, 10, 148, 154, 0, 7, 4, 167, 0, 4, 3, 172]
abbrev dktX5_isBarred_0 : List UInt8 := dkwX5_isBarred_0 ++ []
theorem dksX5_isBarred_0 : cX5_isBarred.data.toList.drop 0 = dktX5_isBarred_0 := by decide +kernel
theorem dX5_isBarred_0 : decode cX5_isBarred 0 = .ok (.aload_n 0, 1) := dk_42 (dk_at dksX5_isBarred_0 0 rfl rfl)
theorem dX5_isBarred_1 : decode cX5_isBarred 1 = .ok (.iconst 2, 1) := dk_5 (dk_at dksX5_isBarred_0 1 rfl rfl)
theorem dX5_isBarred_2 : decode cX5_isBarred 2 = .ok (.iload_n 1, 1) := dk_27 (dk_at dksX5_isBarred_0 2 rfl rfl)
theorem dX5_isBarred_3 : decode cX5_isBarred 3 = .ok (.lconst 0, 1) := dk_9 (dk_at dksX5_isBarred_0 3 rfl rfl)
theorem dX5_isBarred_4 : decode cX5_isBarred 4 = .ok (.invokevirtual 410, 3) := dk_182 1 154 (dk_at dksX5_isBarred_0 4 rfl rfl)
theorem dX5_isBarred_7 : decode cX5_isBarred 7 = .ok (.lconst 1, 1) := dk_10 (dk_at dksX5_isBarred_0 7 rfl rfl)
theorem dX5_isBarred_8 : decode cX5_isBarred 8 = .ok (.lcmp, 1) := dk_148 (dk_at dksX5_isBarred_0 8 rfl rfl)
theorem dX5_isBarred_9 : decode cX5_isBarred 9 = .ok (.ifCond .ne 7, 3) := dk_154 0 7 (dk_at dksX5_isBarred_0 9 rfl rfl)
theorem dX5_isBarred_12 : decode cX5_isBarred 12 = .ok (.iconst 1, 1) := dk_4 (dk_at dksX5_isBarred_0 12 rfl rfl)
theorem dX5_isBarred_13 : decode cX5_isBarred 13 = .ok (.goto 4, 3) := dk_167 0 4 (dk_at dksX5_isBarred_0 13 rfl rfl)
theorem dX5_isBarred_16 : decode cX5_isBarred 16 = .ok (.iconst 0, 1) := dk_3 (dk_at dksX5_isBarred_0 16 rfl rfl)
theorem dX5_isBarred_17 : decode cX5_isBarred 17 = .ok (.ireturn, 1) := dk_172 (dk_at dksX5_isBarred_0 17 rfl rfl)
abbrev cX5_old : ByteArray := prog_23_method_26_code
def yX5_old : MethodName := ⟨RX5, "old", "(II)J"⟩
def dkwX5_old_2 : List UInt8 := [133, 105, 42, 27, 182, 0, 166, 133, 109, 173]
abbrev dktX5_old_2 : List UInt8 := dkwX5_old_2 ++ []
def dkwX5_old_1 : List UInt8 := [153, 0, 11, 42, 27, 182, 0, 166, 154, 0, 7, 20, 0, 206, 173, 20, 0, 208, 42, 27, 28, 182, 0, 174]
abbrev dktX5_old_1 : List UInt8 := dkwX5_old_1 ++ dktX5_old_2
def dkwX5_old_0 : List UInt8 := [42, 3, 181, 0, 133, 42, 27, 182, 0, 184, 153, 0, 23, 28, 133, 9, 20, 0, 204, 184, 0, 153]
abbrev dktX5_old_0 : List UInt8 := dkwX5_old_0 ++ dktX5_old_1
theorem dksX5_old_0 : cX5_old.data.toList.drop 0 = dktX5_old_0 := by decide +kernel
theorem dksX5_old_1 : cX5_old.data.toList.drop 22 = dktX5_old_1 := dk_seg dksX5_old_0 22 rfl rfl
theorem dksX5_old_2 : cX5_old.data.toList.drop 46 = dktX5_old_2 := dk_seg dksX5_old_1 24 rfl rfl
theorem dX5_old_0 : decode cX5_old 0 = .ok (.aload_n 0, 1) := dk_42 (dk_at dksX5_old_0 0 rfl rfl)
theorem dX5_old_1 : decode cX5_old 1 = .ok (.iconst 0, 1) := dk_3 (dk_at dksX5_old_0 1 rfl rfl)
theorem dX5_old_2 : decode cX5_old 2 = .ok (.putfield 133, 3) := dk_181 0 133 (dk_at dksX5_old_0 2 rfl rfl)
theorem dX5_old_5 : decode cX5_old 5 = .ok (.aload_n 0, 1) := dk_42 (dk_at dksX5_old_0 5 rfl rfl)
theorem dX5_old_6 : decode cX5_old 6 = .ok (.iload_n 1, 1) := dk_27 (dk_at dksX5_old_0 6 rfl rfl)
theorem dX5_old_7 : decode cX5_old 7 = .ok (.invokevirtual 184, 3) := dk_182 0 184 (dk_at dksX5_old_0 7 rfl rfl)
theorem dX5_old_10 : decode cX5_old 10 = .ok (.ifCond .eq 23, 3) := dk_153 0 23 (dk_at dksX5_old_0 10 rfl rfl)
theorem dX5_old_13 : decode cX5_old 13 = .ok (.iload_n 2, 1) := dk_28 (dk_at dksX5_old_0 13 rfl rfl)
theorem dX5_old_14 : decode cX5_old 14 = .ok (.i2l, 1) := dk_133 (dk_at dksX5_old_0 14 rfl rfl)
theorem dX5_old_15 : decode cX5_old 15 = .ok (.lconst 0, 1) := dk_9 (dk_at dksX5_old_0 15 rfl rfl)
theorem dX5_old_16 : decode cX5_old 16 = .ok (.ldc2_w 204, 3) := dk_20 0 204 (dk_at dksX5_old_0 16 rfl rfl)
theorem dX5_old_19 : decode cX5_old 19 = .ok (.invokestatic 153, 3) := dk_184 0 153 (dk_at dksX5_old_0 19 rfl rfl)
theorem dX5_old_22 : decode cX5_old 22 = .ok (.ifCond .eq 11, 3) := dk_153 0 11 (dk_at dksX5_old_1 0 rfl rfl)
theorem dX5_old_25 : decode cX5_old 25 = .ok (.aload_n 0, 1) := dk_42 (dk_at dksX5_old_1 3 rfl rfl)
theorem dX5_old_26 : decode cX5_old 26 = .ok (.iload_n 1, 1) := dk_27 (dk_at dksX5_old_1 4 rfl rfl)
theorem dX5_old_27 : decode cX5_old 27 = .ok (.invokevirtual 166, 3) := dk_182 0 166 (dk_at dksX5_old_1 5 rfl rfl)
theorem dX5_old_30 : decode cX5_old 30 = .ok (.ifCond .ne 7, 3) := dk_154 0 7 (dk_at dksX5_old_1 8 rfl rfl)
theorem dX5_old_33 : decode cX5_old 33 = .ok (.ldc2_w 206, 3) := dk_20 0 206 (dk_at dksX5_old_1 11 rfl rfl)
theorem dX5_old_36 : decode cX5_old 36 = .ok (.lreturn, 1) := dk_173 (dk_at dksX5_old_1 14 rfl rfl)
theorem dX5_old_37 : decode cX5_old 37 = .ok (.ldc2_w 208, 3) := dk_20 0 208 (dk_at dksX5_old_1 15 rfl rfl)
theorem dX5_old_40 : decode cX5_old 40 = .ok (.aload_n 0, 1) := dk_42 (dk_at dksX5_old_1 18 rfl rfl)
theorem dX5_old_41 : decode cX5_old 41 = .ok (.iload_n 1, 1) := dk_27 (dk_at dksX5_old_1 19 rfl rfl)
theorem dX5_old_42 : decode cX5_old 42 = .ok (.iload_n 2, 1) := dk_28 (dk_at dksX5_old_1 20 rfl rfl)
theorem dX5_old_43 : decode cX5_old 43 = .ok (.invokevirtual 174, 3) := dk_182 0 174 (dk_at dksX5_old_1 21 rfl rfl)
theorem dX5_old_46 : decode cX5_old 46 = .ok (.i2l, 1) := dk_133 (dk_at dksX5_old_2 0 rfl rfl)
theorem dX5_old_47 : decode cX5_old 47 = .ok (.lmul, 1) := dk_105 (dk_at dksX5_old_2 1 rfl rfl)
theorem dX5_old_48 : decode cX5_old 48 = .ok (.aload_n 0, 1) := dk_42 (dk_at dksX5_old_2 2 rfl rfl)
theorem dX5_old_49 : decode cX5_old 49 = .ok (.iload_n 1, 1) := dk_27 (dk_at dksX5_old_2 3 rfl rfl)
theorem dX5_old_50 : decode cX5_old 50 = .ok (.invokevirtual 166, 3) := dk_182 0 166 (dk_at dksX5_old_2 4 rfl rfl)
theorem dX5_old_53 : decode cX5_old 53 = .ok (.i2l, 1) := dk_133 (dk_at dksX5_old_2 7 rfl rfl)
theorem dX5_old_54 : decode cX5_old 54 = .ok (.ldiv, 1) := dk_109 (dk_at dksX5_old_2 8 rfl rfl)
theorem dX5_old_55 : decode cX5_old 55 = .ok (.lreturn, 1) := dk_173 (dk_at dksX5_old_2 9 rfl rfl)
abbrev cX5_terms : ByteArray := prog_23_method_27_code
def yX5_terms : MethodName := ⟨RX5, "terms", "(II)I"⟩
def dkwX5_terms_4 : List UInt8 := [42, 8, 27, 96, 28, 182, 0, 214, 172]
abbrev dktX5_terms_4 : List UInt8 := dkwX5_terms_4 ++ []
def dkwX5_terms_3 : List UInt8 := [153, 0, 7, 4, 167, 0, 4, 3, 62, 29, 154, 0, 9, 42, 2, 182, 0, 142, 172, 42, 3, 181, 0, 139]
abbrev dktX5_terms_3 : List UInt8 := dkwX5_terms_3 ++ dktX5_terms_4
def dkwX5_terms_2 : List UInt8 := [20, 0, 212, 184, 0, 153, 167, 0, 25, 27, 6, 160, 0, 19, 28, 133, 10, 20, 0, 172, 184, 0, 153]
abbrev dktX5_terms_2 : List UInt8 := dkwX5_terms_2 ++ dktX5_terms_3
def dkwX5_terms_1 : List UInt8 := [160, 0, 15, 28, 133, 9, 20, 0, 210, 184, 0, 153, 167, 0, 42, 27, 5, 160, 0, 15, 28, 133, 9]
abbrev dktX5_terms_1 : List UInt8 := dkwX5_terms_1 ++ dktX5_terms_2
def dkwX5_terms_0 : List UInt8 := [42, 3, 181, 0, 133, 27, 154, 0, 15, 28, 133, 9, 20, 0, 179, 184, 0, 153, 167, 0, 59, 27, 4]
abbrev dktX5_terms_0 : List UInt8 := dkwX5_terms_0 ++ dktX5_terms_1
theorem dksX5_terms_0 : cX5_terms.data.toList.drop 0 = dktX5_terms_0 := by decide +kernel
theorem dksX5_terms_1 : cX5_terms.data.toList.drop 23 = dktX5_terms_1 := dk_seg dksX5_terms_0 23 rfl rfl
theorem dksX5_terms_2 : cX5_terms.data.toList.drop 46 = dktX5_terms_2 := dk_seg dksX5_terms_1 23 rfl rfl
theorem dksX5_terms_3 : cX5_terms.data.toList.drop 69 = dktX5_terms_3 := dk_seg dksX5_terms_2 23 rfl rfl
theorem dksX5_terms_4 : cX5_terms.data.toList.drop 93 = dktX5_terms_4 := dk_seg dksX5_terms_3 24 rfl rfl
theorem dX5_terms_0 : decode cX5_terms 0 = .ok (.aload_n 0, 1) := dk_42 (dk_at dksX5_terms_0 0 rfl rfl)
theorem dX5_terms_1 : decode cX5_terms 1 = .ok (.iconst 0, 1) := dk_3 (dk_at dksX5_terms_0 1 rfl rfl)
theorem dX5_terms_2 : decode cX5_terms 2 = .ok (.putfield 133, 3) := dk_181 0 133 (dk_at dksX5_terms_0 2 rfl rfl)
theorem dX5_terms_5 : decode cX5_terms 5 = .ok (.iload_n 1, 1) := dk_27 (dk_at dksX5_terms_0 5 rfl rfl)
theorem dX5_terms_6 : decode cX5_terms 6 = .ok (.ifCond .ne 15, 3) := dk_154 0 15 (dk_at dksX5_terms_0 6 rfl rfl)
theorem dX5_terms_9 : decode cX5_terms 9 = .ok (.iload_n 2, 1) := dk_28 (dk_at dksX5_terms_0 9 rfl rfl)
theorem dX5_terms_10 : decode cX5_terms 10 = .ok (.i2l, 1) := dk_133 (dk_at dksX5_terms_0 10 rfl rfl)
theorem dX5_terms_11 : decode cX5_terms 11 = .ok (.lconst 0, 1) := dk_9 (dk_at dksX5_terms_0 11 rfl rfl)
theorem dX5_terms_12 : decode cX5_terms 12 = .ok (.ldc2_w 179, 3) := dk_20 0 179 (dk_at dksX5_terms_0 12 rfl rfl)
theorem dX5_terms_15 : decode cX5_terms 15 = .ok (.invokestatic 153, 3) := dk_184 0 153 (dk_at dksX5_terms_0 15 rfl rfl)
theorem dX5_terms_18 : decode cX5_terms 18 = .ok (.goto 59, 3) := dk_167 0 59 (dk_at dksX5_terms_0 18 rfl rfl)
theorem dX5_terms_21 : decode cX5_terms 21 = .ok (.iload_n 1, 1) := dk_27 (dk_at dksX5_terms_0 21 rfl rfl)
theorem dX5_terms_22 : decode cX5_terms 22 = .ok (.iconst 1, 1) := dk_4 (dk_at dksX5_terms_0 22 rfl rfl)
theorem dX5_terms_23 : decode cX5_terms 23 = .ok (.if_icmp .ne 15, 3) := dk_160 0 15 (dk_at dksX5_terms_1 0 rfl rfl)
theorem dX5_terms_26 : decode cX5_terms 26 = .ok (.iload_n 2, 1) := dk_28 (dk_at dksX5_terms_1 3 rfl rfl)
theorem dX5_terms_27 : decode cX5_terms 27 = .ok (.i2l, 1) := dk_133 (dk_at dksX5_terms_1 4 rfl rfl)
theorem dX5_terms_28 : decode cX5_terms 28 = .ok (.lconst 0, 1) := dk_9 (dk_at dksX5_terms_1 5 rfl rfl)
theorem dX5_terms_29 : decode cX5_terms 29 = .ok (.ldc2_w 210, 3) := dk_20 0 210 (dk_at dksX5_terms_1 6 rfl rfl)
theorem dX5_terms_32 : decode cX5_terms 32 = .ok (.invokestatic 153, 3) := dk_184 0 153 (dk_at dksX5_terms_1 9 rfl rfl)
theorem dX5_terms_35 : decode cX5_terms 35 = .ok (.goto 42, 3) := dk_167 0 42 (dk_at dksX5_terms_1 12 rfl rfl)
theorem dX5_terms_38 : decode cX5_terms 38 = .ok (.iload_n 1, 1) := dk_27 (dk_at dksX5_terms_1 15 rfl rfl)
theorem dX5_terms_39 : decode cX5_terms 39 = .ok (.iconst 2, 1) := dk_5 (dk_at dksX5_terms_1 16 rfl rfl)
theorem dX5_terms_40 : decode cX5_terms 40 = .ok (.if_icmp .ne 15, 3) := dk_160 0 15 (dk_at dksX5_terms_1 17 rfl rfl)
theorem dX5_terms_43 : decode cX5_terms 43 = .ok (.iload_n 2, 1) := dk_28 (dk_at dksX5_terms_1 20 rfl rfl)
theorem dX5_terms_44 : decode cX5_terms 44 = .ok (.i2l, 1) := dk_133 (dk_at dksX5_terms_1 21 rfl rfl)
theorem dX5_terms_45 : decode cX5_terms 45 = .ok (.lconst 0, 1) := dk_9 (dk_at dksX5_terms_1 22 rfl rfl)
theorem dX5_terms_46 : decode cX5_terms 46 = .ok (.ldc2_w 212, 3) := dk_20 0 212 (dk_at dksX5_terms_2 0 rfl rfl)
theorem dX5_terms_49 : decode cX5_terms 49 = .ok (.invokestatic 153, 3) := dk_184 0 153 (dk_at dksX5_terms_2 3 rfl rfl)
theorem dX5_terms_52 : decode cX5_terms 52 = .ok (.goto 25, 3) := dk_167 0 25 (dk_at dksX5_terms_2 6 rfl rfl)
theorem dX5_terms_55 : decode cX5_terms 55 = .ok (.iload_n 1, 1) := dk_27 (dk_at dksX5_terms_2 9 rfl rfl)
theorem dX5_terms_56 : decode cX5_terms 56 = .ok (.iconst 3, 1) := dk_6 (dk_at dksX5_terms_2 10 rfl rfl)
theorem dX5_terms_57 : decode cX5_terms 57 = .ok (.if_icmp .ne 19, 3) := dk_160 0 19 (dk_at dksX5_terms_2 11 rfl rfl)
theorem dX5_terms_60 : decode cX5_terms 60 = .ok (.iload_n 2, 1) := dk_28 (dk_at dksX5_terms_2 14 rfl rfl)
theorem dX5_terms_61 : decode cX5_terms 61 = .ok (.i2l, 1) := dk_133 (dk_at dksX5_terms_2 15 rfl rfl)
theorem dX5_terms_62 : decode cX5_terms 62 = .ok (.lconst 1, 1) := dk_10 (dk_at dksX5_terms_2 16 rfl rfl)
theorem dX5_terms_63 : decode cX5_terms 63 = .ok (.ldc2_w 172, 3) := dk_20 0 172 (dk_at dksX5_terms_2 17 rfl rfl)
theorem dX5_terms_66 : decode cX5_terms 66 = .ok (.invokestatic 153, 3) := dk_184 0 153 (dk_at dksX5_terms_2 20 rfl rfl)
theorem dX5_terms_69 : decode cX5_terms 69 = .ok (.ifCond .eq 7, 3) := dk_153 0 7 (dk_at dksX5_terms_3 0 rfl rfl)
theorem dX5_terms_72 : decode cX5_terms 72 = .ok (.iconst 1, 1) := dk_4 (dk_at dksX5_terms_3 3 rfl rfl)
theorem dX5_terms_73 : decode cX5_terms 73 = .ok (.goto 4, 3) := dk_167 0 4 (dk_at dksX5_terms_3 4 rfl rfl)
theorem dX5_terms_76 : decode cX5_terms 76 = .ok (.iconst 0, 1) := dk_3 (dk_at dksX5_terms_3 7 rfl rfl)
theorem dX5_terms_77 : decode cX5_terms 77 = .ok (.istore_n 3, 1) := dk_62 (dk_at dksX5_terms_3 8 rfl rfl)
theorem dX5_terms_78 : decode cX5_terms 78 = .ok (.iload_n 3, 1) := dk_29 (dk_at dksX5_terms_3 9 rfl rfl)
theorem dX5_terms_79 : decode cX5_terms 79 = .ok (.ifCond .ne 9, 3) := dk_154 0 9 (dk_at dksX5_terms_3 10 rfl rfl)
theorem dX5_terms_82 : decode cX5_terms 82 = .ok (.aload_n 0, 1) := dk_42 (dk_at dksX5_terms_3 13 rfl rfl)
theorem dX5_terms_83 : decode cX5_terms 83 = .ok (.iconst (-1), 1) := dk_2 (dk_at dksX5_terms_3 14 rfl rfl)
theorem dX5_terms_84 : decode cX5_terms 84 = .ok (.invokevirtual 142, 3) := dk_182 0 142 (dk_at dksX5_terms_3 15 rfl rfl)
theorem dX5_terms_87 : decode cX5_terms 87 = .ok (.ireturn, 1) := dk_172 (dk_at dksX5_terms_3 18 rfl rfl)
theorem dX5_terms_88 : decode cX5_terms 88 = .ok (.aload_n 0, 1) := dk_42 (dk_at dksX5_terms_3 19 rfl rfl)
theorem dX5_terms_89 : decode cX5_terms 89 = .ok (.iconst 0, 1) := dk_3 (dk_at dksX5_terms_3 20 rfl rfl)
theorem dX5_terms_90 : decode cX5_terms 90 = .ok (.putfield 139, 3) := dk_181 0 139 (dk_at dksX5_terms_3 21 rfl rfl)
theorem dX5_terms_93 : decode cX5_terms 93 = .ok (.aload_n 0, 1) := dk_42 (dk_at dksX5_terms_4 0 rfl rfl)
theorem dX5_terms_94 : decode cX5_terms 94 = .ok (.iconst 5, 1) := dk_8 (dk_at dksX5_terms_4 1 rfl rfl)
theorem dX5_terms_95 : decode cX5_terms 95 = .ok (.iload_n 1, 1) := dk_27 (dk_at dksX5_terms_4 2 rfl rfl)
theorem dX5_terms_96 : decode cX5_terms 96 = .ok (.iadd, 1) := dk_96 (dk_at dksX5_terms_4 3 rfl rfl)
theorem dX5_terms_97 : decode cX5_terms 97 = .ok (.iload_n 2, 1) := dk_28 (dk_at dksX5_terms_4 4 rfl rfl)
theorem dX5_terms_98 : decode cX5_terms 98 = .ok (.invokevirtual 214, 3) := dk_182 0 214 (dk_at dksX5_terms_4 5 rfl rfl)
theorem dX5_terms_101 : decode cX5_terms 101 = .ok (.ireturn, 1) := dk_172 (dk_at dksX5_terms_4 8 rfl rfl)
abbrev cX5_change : ByteArray := prog_23_method_7_code
def yX5_change : MethodName := ⟨RX5, "change", "(II)I"⟩
def dkwX5_change_0 : List UInt8 := [42, 180, 0, 13, 27, 46, 62, 42, 180, 0, 13, 27, 28, 79, 42, 3, 181, 0, 136, 29, 172]
abbrev dktX5_change_0 : List UInt8 := dkwX5_change_0 ++ []
theorem dksX5_change_0 : cX5_change.data.toList.drop 0 = dktX5_change_0 := by decide +kernel
theorem dX5_change_0 : decode cX5_change 0 = .ok (.aload_n 0, 1) := dk_42 (dk_at dksX5_change_0 0 rfl rfl)
theorem dX5_change_1 : decode cX5_change 1 = .ok (.getfield 13, 3) := dk_180 0 13 (dk_at dksX5_change_0 1 rfl rfl)
theorem dX5_change_4 : decode cX5_change 4 = .ok (.iload_n 1, 1) := dk_27 (dk_at dksX5_change_0 4 rfl rfl)
theorem dX5_change_5 : decode cX5_change 5 = .ok (.iaload, 1) := dk_46 (dk_at dksX5_change_0 5 rfl rfl)
theorem dX5_change_6 : decode cX5_change 6 = .ok (.istore_n 3, 1) := dk_62 (dk_at dksX5_change_0 6 rfl rfl)
theorem dX5_change_7 : decode cX5_change 7 = .ok (.aload_n 0, 1) := dk_42 (dk_at dksX5_change_0 7 rfl rfl)
theorem dX5_change_8 : decode cX5_change 8 = .ok (.getfield 13, 3) := dk_180 0 13 (dk_at dksX5_change_0 8 rfl rfl)
theorem dX5_change_11 : decode cX5_change 11 = .ok (.iload_n 1, 1) := dk_27 (dk_at dksX5_change_0 11 rfl rfl)
theorem dX5_change_12 : decode cX5_change 12 = .ok (.iload_n 2, 1) := dk_28 (dk_at dksX5_change_0 12 rfl rfl)
theorem dX5_change_13 : decode cX5_change 13 = .ok (.iastore, 1) := dk_79 (dk_at dksX5_change_0 13 rfl rfl)
theorem dX5_change_14 : decode cX5_change 14 = .ok (.aload_n 0, 1) := dk_42 (dk_at dksX5_change_0 14 rfl rfl)
theorem dX5_change_15 : decode cX5_change 15 = .ok (.iconst 0, 1) := dk_3 (dk_at dksX5_change_0 15 rfl rfl)
theorem dX5_change_16 : decode cX5_change 16 = .ok (.putfield 136, 3) := dk_181 0 136 (dk_at dksX5_change_0 16 rfl rfl)
theorem dX5_change_19 : decode cX5_change 19 = .ok (.iload_n 3, 1) := dk_29 (dk_at dksX5_change_0 19 rfl rfl)
theorem dX5_change_20 : decode cX5_change 20 = .ok (.ireturn, 1) := dk_172 (dk_at dksX5_change_0 20 rfl rfl)
abbrev cX5_row : ByteArray := prog_23_method_28_code
def yX5_row : MethodName := ⟨RX5, "row", "()I"⟩
def dkwX5_row_6 : List UInt8 := [167, 255, 152, 42, 28, 182, 0, 157, 172]
abbrev dktX5_row_6 : List UInt8 := dkwX5_row_6 ++ []
def dkwX5_row_5 : List UInt8 := [96, 46, 104, 79, 132, 2, 1, 167, 0, 13, 42, 89, 180, 0, 220, 4, 96, 181, 0, 220, 132, 3, 3]
abbrev dktX5_row_5 : List UInt8 := dkwX5_row_5 ++ dktX5_row_6
def dkwX5_row_4 : List UInt8 := [155, 0, 34, 42, 180, 0, 13, 16, 10, 16, 20, 21, 4, 104, 96, 17, 3, 232, 42, 180, 0, 35, 29, 5]
abbrev dktX5_row_4 : List UInt8 := dkwX5_row_4 ++ dktX5_row_5
def dkwX5_row_3 : List UInt8 := [180, 0, 35, 29, 46, 42, 180, 0, 35, 29, 4, 96, 46, 182, 0, 181, 167, 0, 4, 2, 54, 4, 21, 4]
abbrev dktX5_row_3 : List UInt8 := dkwX5_row_3 ++ dktX5_row_4
def dkwX5_row_2 : List UInt8 := [162, 0, 43, 42, 180, 0, 35, 29, 5, 96, 46, 42, 180, 0, 35, 29, 4, 96, 46, 163, 0, 24, 42, 42]
abbrev dktX5_row_2 : List UInt8 := dkwX5_row_2 ++ dktX5_row_3
def dkwX5_row_1 : List UInt8 := [182, 0, 142, 172, 42, 3, 181, 0, 220, 3, 61, 3, 62, 29, 27, 162, 0, 105, 29, 5, 96, 27]
abbrev dktX5_row_1 : List UInt8 := dkwX5_row_1 ++ dktX5_row_2
def dkwX5_row_0 : List UInt8 := [42, 3, 181, 0, 133, 42, 180, 0, 217, 60, 42, 3, 181, 0, 217, 27, 154, 0, 10, 42, 16, 250]
abbrev dktX5_row_0 : List UInt8 := dkwX5_row_0 ++ dktX5_row_1
theorem dksX5_row_0 : cX5_row.data.toList.drop 0 = dktX5_row_0 := by decide +kernel
theorem dksX5_row_1 : cX5_row.data.toList.drop 22 = dktX5_row_1 := dk_seg dksX5_row_0 22 rfl rfl
theorem dksX5_row_2 : cX5_row.data.toList.drop 44 = dktX5_row_2 := dk_seg dksX5_row_1 22 rfl rfl
theorem dksX5_row_3 : cX5_row.data.toList.drop 68 = dktX5_row_3 := dk_seg dksX5_row_2 24 rfl rfl
theorem dksX5_row_4 : cX5_row.data.toList.drop 92 = dktX5_row_4 := dk_seg dksX5_row_3 24 rfl rfl
theorem dksX5_row_5 : cX5_row.data.toList.drop 116 = dktX5_row_5 := dk_seg dksX5_row_4 24 rfl rfl
theorem dksX5_row_6 : cX5_row.data.toList.drop 139 = dktX5_row_6 := dk_seg dksX5_row_5 23 rfl rfl
theorem dX5_row_0 : decode cX5_row 0 = .ok (.aload_n 0, 1) := dk_42 (dk_at dksX5_row_0 0 rfl rfl)
theorem dX5_row_1 : decode cX5_row 1 = .ok (.iconst 0, 1) := dk_3 (dk_at dksX5_row_0 1 rfl rfl)
theorem dX5_row_2 : decode cX5_row 2 = .ok (.putfield 133, 3) := dk_181 0 133 (dk_at dksX5_row_0 2 rfl rfl)
theorem dX5_row_5 : decode cX5_row 5 = .ok (.aload_n 0, 1) := dk_42 (dk_at dksX5_row_0 5 rfl rfl)
theorem dX5_row_6 : decode cX5_row 6 = .ok (.getfield 217, 3) := dk_180 0 217 (dk_at dksX5_row_0 6 rfl rfl)
theorem dX5_row_9 : decode cX5_row 9 = .ok (.istore_n 1, 1) := dk_60 (dk_at dksX5_row_0 9 rfl rfl)
theorem dX5_row_10 : decode cX5_row 10 = .ok (.aload_n 0, 1) := dk_42 (dk_at dksX5_row_0 10 rfl rfl)
theorem dX5_row_11 : decode cX5_row 11 = .ok (.iconst 0, 1) := dk_3 (dk_at dksX5_row_0 11 rfl rfl)
theorem dX5_row_12 : decode cX5_row 12 = .ok (.putfield 217, 3) := dk_181 0 217 (dk_at dksX5_row_0 12 rfl rfl)
theorem dX5_row_15 : decode cX5_row 15 = .ok (.iload_n 1, 1) := dk_27 (dk_at dksX5_row_0 15 rfl rfl)
theorem dX5_row_16 : decode cX5_row 16 = .ok (.ifCond .ne 10, 3) := dk_154 0 10 (dk_at dksX5_row_0 16 rfl rfl)
theorem dX5_row_19 : decode cX5_row 19 = .ok (.aload_n 0, 1) := dk_42 (dk_at dksX5_row_0 19 rfl rfl)
theorem dX5_row_20 : decode cX5_row 20 = .ok (.bipush (-6), 2) := dk_16 250 (dk_at dksX5_row_0 20 rfl rfl)
theorem dX5_row_22 : decode cX5_row 22 = .ok (.invokevirtual 142, 3) := dk_182 0 142 (dk_at dksX5_row_1 0 rfl rfl)
theorem dX5_row_25 : decode cX5_row 25 = .ok (.ireturn, 1) := dk_172 (dk_at dksX5_row_1 3 rfl rfl)
theorem dX5_row_26 : decode cX5_row 26 = .ok (.aload_n 0, 1) := dk_42 (dk_at dksX5_row_1 4 rfl rfl)
theorem dX5_row_27 : decode cX5_row 27 = .ok (.iconst 0, 1) := dk_3 (dk_at dksX5_row_1 5 rfl rfl)
theorem dX5_row_28 : decode cX5_row 28 = .ok (.putfield 220, 3) := dk_181 0 220 (dk_at dksX5_row_1 6 rfl rfl)
theorem dX5_row_31 : decode cX5_row 31 = .ok (.iconst 0, 1) := dk_3 (dk_at dksX5_row_1 9 rfl rfl)
theorem dX5_row_32 : decode cX5_row 32 = .ok (.istore_n 2, 1) := dk_61 (dk_at dksX5_row_1 10 rfl rfl)
theorem dX5_row_33 : decode cX5_row 33 = .ok (.iconst 0, 1) := dk_3 (dk_at dksX5_row_1 11 rfl rfl)
theorem dX5_row_34 : decode cX5_row 34 = .ok (.istore_n 3, 1) := dk_62 (dk_at dksX5_row_1 12 rfl rfl)
theorem dX5_row_35 : decode cX5_row 35 = .ok (.iload_n 3, 1) := dk_29 (dk_at dksX5_row_1 13 rfl rfl)
theorem dX5_row_36 : decode cX5_row 36 = .ok (.iload_n 1, 1) := dk_27 (dk_at dksX5_row_1 14 rfl rfl)
theorem dX5_row_37 : decode cX5_row 37 = .ok (.if_icmp .ge 105, 3) := dk_162 0 105 (dk_at dksX5_row_1 15 rfl rfl)
theorem dX5_row_40 : decode cX5_row 40 = .ok (.iload_n 3, 1) := dk_29 (dk_at dksX5_row_1 18 rfl rfl)
theorem dX5_row_41 : decode cX5_row 41 = .ok (.iconst 2, 1) := dk_5 (dk_at dksX5_row_1 19 rfl rfl)
theorem dX5_row_42 : decode cX5_row 42 = .ok (.iadd, 1) := dk_96 (dk_at dksX5_row_1 20 rfl rfl)
theorem dX5_row_43 : decode cX5_row 43 = .ok (.iload_n 1, 1) := dk_27 (dk_at dksX5_row_1 21 rfl rfl)
theorem dX5_row_44 : decode cX5_row 44 = .ok (.if_icmp .ge 43, 3) := dk_162 0 43 (dk_at dksX5_row_2 0 rfl rfl)
theorem dX5_row_47 : decode cX5_row 47 = .ok (.aload_n 0, 1) := dk_42 (dk_at dksX5_row_2 3 rfl rfl)
theorem dX5_row_48 : decode cX5_row 48 = .ok (.getfield 35, 3) := dk_180 0 35 (dk_at dksX5_row_2 4 rfl rfl)
theorem dX5_row_51 : decode cX5_row 51 = .ok (.iload_n 3, 1) := dk_29 (dk_at dksX5_row_2 7 rfl rfl)
theorem dX5_row_52 : decode cX5_row 52 = .ok (.iconst 2, 1) := dk_5 (dk_at dksX5_row_2 8 rfl rfl)
theorem dX5_row_53 : decode cX5_row 53 = .ok (.iadd, 1) := dk_96 (dk_at dksX5_row_2 9 rfl rfl)
theorem dX5_row_54 : decode cX5_row 54 = .ok (.iaload, 1) := dk_46 (dk_at dksX5_row_2 10 rfl rfl)
theorem dX5_row_55 : decode cX5_row 55 = .ok (.aload_n 0, 1) := dk_42 (dk_at dksX5_row_2 11 rfl rfl)
theorem dX5_row_56 : decode cX5_row 56 = .ok (.getfield 35, 3) := dk_180 0 35 (dk_at dksX5_row_2 12 rfl rfl)
theorem dX5_row_59 : decode cX5_row 59 = .ok (.iload_n 3, 1) := dk_29 (dk_at dksX5_row_2 15 rfl rfl)
theorem dX5_row_60 : decode cX5_row 60 = .ok (.iconst 1, 1) := dk_4 (dk_at dksX5_row_2 16 rfl rfl)
theorem dX5_row_61 : decode cX5_row 61 = .ok (.iadd, 1) := dk_96 (dk_at dksX5_row_2 17 rfl rfl)
theorem dX5_row_62 : decode cX5_row 62 = .ok (.iaload, 1) := dk_46 (dk_at dksX5_row_2 18 rfl rfl)
theorem dX5_row_63 : decode cX5_row 63 = .ok (.if_icmp .gt 24, 3) := dk_163 0 24 (dk_at dksX5_row_2 19 rfl rfl)
theorem dX5_row_66 : decode cX5_row 66 = .ok (.aload_n 0, 1) := dk_42 (dk_at dksX5_row_2 22 rfl rfl)
theorem dX5_row_67 : decode cX5_row 67 = .ok (.aload_n 0, 1) := dk_42 (dk_at dksX5_row_2 23 rfl rfl)
theorem dX5_row_68 : decode cX5_row 68 = .ok (.getfield 35, 3) := dk_180 0 35 (dk_at dksX5_row_3 0 rfl rfl)
theorem dX5_row_71 : decode cX5_row 71 = .ok (.iload_n 3, 1) := dk_29 (dk_at dksX5_row_3 3 rfl rfl)
theorem dX5_row_72 : decode cX5_row 72 = .ok (.iaload, 1) := dk_46 (dk_at dksX5_row_3 4 rfl rfl)
theorem dX5_row_73 : decode cX5_row 73 = .ok (.aload_n 0, 1) := dk_42 (dk_at dksX5_row_3 5 rfl rfl)
theorem dX5_row_74 : decode cX5_row 74 = .ok (.getfield 35, 3) := dk_180 0 35 (dk_at dksX5_row_3 6 rfl rfl)
theorem dX5_row_77 : decode cX5_row 77 = .ok (.iload_n 3, 1) := dk_29 (dk_at dksX5_row_3 9 rfl rfl)
theorem dX5_row_78 : decode cX5_row 78 = .ok (.iconst 1, 1) := dk_4 (dk_at dksX5_row_3 10 rfl rfl)
theorem dX5_row_79 : decode cX5_row 79 = .ok (.iadd, 1) := dk_96 (dk_at dksX5_row_3 11 rfl rfl)
theorem dX5_row_80 : decode cX5_row 80 = .ok (.iaload, 1) := dk_46 (dk_at dksX5_row_3 12 rfl rfl)
theorem dX5_row_81 : decode cX5_row 81 = .ok (.invokevirtual 181, 3) := dk_182 0 181 (dk_at dksX5_row_3 13 rfl rfl)
theorem dX5_row_84 : decode cX5_row 84 = .ok (.goto 4, 3) := dk_167 0 4 (dk_at dksX5_row_3 16 rfl rfl)
theorem dX5_row_87 : decode cX5_row 87 = .ok (.iconst (-1), 1) := dk_2 (dk_at dksX5_row_3 19 rfl rfl)
theorem dX5_row_88 : decode cX5_row 88 = .ok (.istore 4, 2) := dk_54 4 (dk_at dksX5_row_3 20 rfl rfl)
theorem dX5_row_90 : decode cX5_row 90 = .ok (.iload 4, 2) := dk_21 4 (dk_at dksX5_row_3 22 rfl rfl)
theorem dX5_row_92 : decode cX5_row 92 = .ok (.ifCond .lt 34, 3) := dk_155 0 34 (dk_at dksX5_row_4 0 rfl rfl)
theorem dX5_row_95 : decode cX5_row 95 = .ok (.aload_n 0, 1) := dk_42 (dk_at dksX5_row_4 3 rfl rfl)
theorem dX5_row_96 : decode cX5_row 96 = .ok (.getfield 13, 3) := dk_180 0 13 (dk_at dksX5_row_4 4 rfl rfl)
theorem dX5_row_99 : decode cX5_row 99 = .ok (.bipush 10, 2) := dk_16 10 (dk_at dksX5_row_4 7 rfl rfl)
theorem dX5_row_101 : decode cX5_row 101 = .ok (.bipush 20, 2) := dk_16 20 (dk_at dksX5_row_4 9 rfl rfl)
theorem dX5_row_103 : decode cX5_row 103 = .ok (.iload 4, 2) := dk_21 4 (dk_at dksX5_row_4 11 rfl rfl)
theorem dX5_row_105 : decode cX5_row 105 = .ok (.imul, 1) := dk_104 (dk_at dksX5_row_4 13 rfl rfl)
theorem dX5_row_106 : decode cX5_row 106 = .ok (.iadd, 1) := dk_96 (dk_at dksX5_row_4 14 rfl rfl)
theorem dX5_row_107 : decode cX5_row 107 = .ok (.sipush 1000, 3) := dk_17 3 232 (dk_at dksX5_row_4 15 rfl rfl)
theorem dX5_row_110 : decode cX5_row 110 = .ok (.aload_n 0, 1) := dk_42 (dk_at dksX5_row_4 18 rfl rfl)
theorem dX5_row_111 : decode cX5_row 111 = .ok (.getfield 35, 3) := dk_180 0 35 (dk_at dksX5_row_4 19 rfl rfl)
theorem dX5_row_114 : decode cX5_row 114 = .ok (.iload_n 3, 1) := dk_29 (dk_at dksX5_row_4 22 rfl rfl)
theorem dX5_row_115 : decode cX5_row 115 = .ok (.iconst 2, 1) := dk_5 (dk_at dksX5_row_4 23 rfl rfl)
theorem dX5_row_116 : decode cX5_row 116 = .ok (.iadd, 1) := dk_96 (dk_at dksX5_row_5 0 rfl rfl)
theorem dX5_row_117 : decode cX5_row 117 = .ok (.iaload, 1) := dk_46 (dk_at dksX5_row_5 1 rfl rfl)
theorem dX5_row_118 : decode cX5_row 118 = .ok (.imul, 1) := dk_104 (dk_at dksX5_row_5 2 rfl rfl)
theorem dX5_row_119 : decode cX5_row 119 = .ok (.iastore, 1) := dk_79 (dk_at dksX5_row_5 3 rfl rfl)
theorem dX5_row_120 : decode cX5_row 120 = .ok (.iinc 2 1, 3) := dk_132 2 1 (dk_at dksX5_row_5 4 rfl rfl)
theorem dX5_row_123 : decode cX5_row 123 = .ok (.goto 13, 3) := dk_167 0 13 (dk_at dksX5_row_5 7 rfl rfl)
theorem dX5_row_126 : decode cX5_row 126 = .ok (.aload_n 0, 1) := dk_42 (dk_at dksX5_row_5 10 rfl rfl)
theorem dX5_row_127 : decode cX5_row 127 = .ok (.dup, 1) := dk_89 (dk_at dksX5_row_5 11 rfl rfl)
theorem dX5_row_128 : decode cX5_row 128 = .ok (.getfield 220, 3) := dk_180 0 220 (dk_at dksX5_row_5 12 rfl rfl)
theorem dX5_row_131 : decode cX5_row 131 = .ok (.iconst 1, 1) := dk_4 (dk_at dksX5_row_5 15 rfl rfl)
theorem dX5_row_132 : decode cX5_row 132 = .ok (.iadd, 1) := dk_96 (dk_at dksX5_row_5 16 rfl rfl)
theorem dX5_row_133 : decode cX5_row 133 = .ok (.putfield 220, 3) := dk_181 0 220 (dk_at dksX5_row_5 17 rfl rfl)
theorem dX5_row_136 : decode cX5_row 136 = .ok (.iinc 3 3, 3) := dk_132 3 3 (dk_at dksX5_row_5 20 rfl rfl)
theorem dX5_row_139 : decode cX5_row 139 = .ok (.goto (-104), 3) := dk_167 255 152 (dk_at dksX5_row_6 0 rfl rfl)
theorem dX5_row_142 : decode cX5_row 142 = .ok (.aload_n 0, 1) := dk_42 (dk_at dksX5_row_6 3 rfl rfl)
theorem dX5_row_143 : decode cX5_row 143 = .ok (.iload_n 2, 1) := dk_28 (dk_at dksX5_row_6 4 rfl rfl)
theorem dX5_row_144 : decode cX5_row 144 = .ok (.invokevirtual 157, 3) := dk_182 0 157 (dk_at dksX5_row_6 5 rfl rfl)
theorem dX5_row_147 : decode cX5_row 147 = .ok (.ireturn, 1) := dk_172 (dk_at dksX5_row_6 8 rfl rfl)
abbrev cX5_leaks : ByteArray := prog_23_method_29_code
def yX5_leaks : MethodName := ⟨RX5, "leaks", "()I"⟩
def dkwX5_leaks_0 : List UInt8 := [42, 3, 181, 0, 133, 42, 180, 0, 220, 172]
abbrev dktX5_leaks_0 : List UInt8 := dkwX5_leaks_0 ++ []
theorem dksX5_leaks_0 : cX5_leaks.data.toList.drop 0 = dktX5_leaks_0 := by decide +kernel
theorem dX5_leaks_0 : decode cX5_leaks 0 = .ok (.aload_n 0, 1) := dk_42 (dk_at dksX5_leaks_0 0 rfl rfl)
theorem dX5_leaks_1 : decode cX5_leaks 1 = .ok (.iconst 0, 1) := dk_3 (dk_at dksX5_leaks_0 1 rfl rfl)
theorem dX5_leaks_2 : decode cX5_leaks 2 = .ok (.putfield 133, 3) := dk_181 0 133 (dk_at dksX5_leaks_0 2 rfl rfl)
theorem dX5_leaks_5 : decode cX5_leaks 5 = .ok (.aload_n 0, 1) := dk_42 (dk_at dksX5_leaks_0 5 rfl rfl)
theorem dX5_leaks_6 : decode cX5_leaks 6 = .ok (.getfield 220, 3) := dk_180 0 220 (dk_at dksX5_leaks_0 6 rfl rfl)
theorem dX5_leaks_9 : decode cX5_leaks 9 = .ok (.ireturn, 1) := dk_172 (dk_at dksX5_leaks_0 9 rfl rfl)
abbrev cX5_feed : ByteArray := prog_23_method_31_code
def yX5_feed : MethodName := ⟨RX5, "feed", "(IIIII)I"⟩
def dkwX5_feed_2 : List UInt8 := [182, 0, 223, 42, 180, 0, 217, 172]
abbrev dktX5_feed_2 : List UInt8 := dkwX5_feed_2 ++ []
def dkwX5_feed_1 : List UInt8 := [182, 0, 223, 42, 28, 182, 0, 223, 42, 29, 182, 0, 223, 42, 21, 4, 182, 0, 223, 42, 21, 5]
abbrev dktX5_feed_1 : List UInt8 := dkwX5_feed_1 ++ dktX5_feed_2
def dkwX5_feed_0 : List UInt8 := [42, 3, 181, 0, 133, 42, 180, 0, 217, 16, 20, 96, 17, 1, 144, 164, 0, 5, 2, 172, 42, 27]
abbrev dktX5_feed_0 : List UInt8 := dkwX5_feed_0 ++ dktX5_feed_1
theorem dksX5_feed_0 : cX5_feed.data.toList.drop 0 = dktX5_feed_0 := by decide +kernel
theorem dksX5_feed_1 : cX5_feed.data.toList.drop 22 = dktX5_feed_1 := dk_seg dksX5_feed_0 22 rfl rfl
theorem dksX5_feed_2 : cX5_feed.data.toList.drop 44 = dktX5_feed_2 := dk_seg dksX5_feed_1 22 rfl rfl
theorem dX5_feed_0 : decode cX5_feed 0 = .ok (.aload_n 0, 1) := dk_42 (dk_at dksX5_feed_0 0 rfl rfl)
theorem dX5_feed_1 : decode cX5_feed 1 = .ok (.iconst 0, 1) := dk_3 (dk_at dksX5_feed_0 1 rfl rfl)
theorem dX5_feed_2 : decode cX5_feed 2 = .ok (.putfield 133, 3) := dk_181 0 133 (dk_at dksX5_feed_0 2 rfl rfl)
theorem dX5_feed_5 : decode cX5_feed 5 = .ok (.aload_n 0, 1) := dk_42 (dk_at dksX5_feed_0 5 rfl rfl)
theorem dX5_feed_6 : decode cX5_feed 6 = .ok (.getfield 217, 3) := dk_180 0 217 (dk_at dksX5_feed_0 6 rfl rfl)
theorem dX5_feed_9 : decode cX5_feed 9 = .ok (.bipush 20, 2) := dk_16 20 (dk_at dksX5_feed_0 9 rfl rfl)
theorem dX5_feed_11 : decode cX5_feed 11 = .ok (.iadd, 1) := dk_96 (dk_at dksX5_feed_0 11 rfl rfl)
theorem dX5_feed_12 : decode cX5_feed 12 = .ok (.sipush 400, 3) := dk_17 1 144 (dk_at dksX5_feed_0 12 rfl rfl)
theorem dX5_feed_15 : decode cX5_feed 15 = .ok (.if_icmp .le 5, 3) := dk_164 0 5 (dk_at dksX5_feed_0 15 rfl rfl)
theorem dX5_feed_18 : decode cX5_feed 18 = .ok (.iconst (-1), 1) := dk_2 (dk_at dksX5_feed_0 18 rfl rfl)
theorem dX5_feed_19 : decode cX5_feed 19 = .ok (.ireturn, 1) := dk_172 (dk_at dksX5_feed_0 19 rfl rfl)
theorem dX5_feed_20 : decode cX5_feed 20 = .ok (.aload_n 0, 1) := dk_42 (dk_at dksX5_feed_0 20 rfl rfl)
theorem dX5_feed_21 : decode cX5_feed 21 = .ok (.iload_n 1, 1) := dk_27 (dk_at dksX5_feed_0 21 rfl rfl)
theorem dX5_feed_22 : decode cX5_feed 22 = .ok (.invokevirtual 223, 3) := dk_182 0 223 (dk_at dksX5_feed_1 0 rfl rfl)
theorem dX5_feed_25 : decode cX5_feed 25 = .ok (.aload_n 0, 1) := dk_42 (dk_at dksX5_feed_1 3 rfl rfl)
theorem dX5_feed_26 : decode cX5_feed 26 = .ok (.iload_n 2, 1) := dk_28 (dk_at dksX5_feed_1 4 rfl rfl)
theorem dX5_feed_27 : decode cX5_feed 27 = .ok (.invokevirtual 223, 3) := dk_182 0 223 (dk_at dksX5_feed_1 5 rfl rfl)
theorem dX5_feed_30 : decode cX5_feed 30 = .ok (.aload_n 0, 1) := dk_42 (dk_at dksX5_feed_1 8 rfl rfl)
theorem dX5_feed_31 : decode cX5_feed 31 = .ok (.iload_n 3, 1) := dk_29 (dk_at dksX5_feed_1 9 rfl rfl)
theorem dX5_feed_32 : decode cX5_feed 32 = .ok (.invokevirtual 223, 3) := dk_182 0 223 (dk_at dksX5_feed_1 10 rfl rfl)
theorem dX5_feed_35 : decode cX5_feed 35 = .ok (.aload_n 0, 1) := dk_42 (dk_at dksX5_feed_1 13 rfl rfl)
theorem dX5_feed_36 : decode cX5_feed 36 = .ok (.iload 4, 2) := dk_21 4 (dk_at dksX5_feed_1 14 rfl rfl)
theorem dX5_feed_38 : decode cX5_feed 38 = .ok (.invokevirtual 223, 3) := dk_182 0 223 (dk_at dksX5_feed_1 16 rfl rfl)
theorem dX5_feed_41 : decode cX5_feed 41 = .ok (.aload_n 0, 1) := dk_42 (dk_at dksX5_feed_1 19 rfl rfl)
theorem dX5_feed_42 : decode cX5_feed 42 = .ok (.iload 5, 2) := dk_21 5 (dk_at dksX5_feed_1 20 rfl rfl)
theorem dX5_feed_44 : decode cX5_feed 44 = .ok (.invokevirtual 223, 3) := dk_182 0 223 (dk_at dksX5_feed_2 0 rfl rfl)
theorem dX5_feed_47 : decode cX5_feed 47 = .ok (.aload_n 0, 1) := dk_42 (dk_at dksX5_feed_2 3 rfl rfl)
theorem dX5_feed_48 : decode cX5_feed 48 = .ok (.getfield 217, 3) := dk_180 0 217 (dk_at dksX5_feed_2 4 rfl rfl)
theorem dX5_feed_51 : decode cX5_feed 51 = .ok (.ireturn, 1) := dk_172 (dk_at dksX5_feed_2 7 rfl rfl)
abbrev cX5_four : ByteArray := prog_23_method_30_code
def yX5_four : MethodName := ⟨RX5, "four", "(I)V"⟩
def dkwX5_four_1 : List UInt8 := [89, 180, 0, 217, 4, 96, 181, 0, 217, 132, 2, 248, 167, 255, 223, 177]
abbrev dktX5_four_1 : List UInt8 := dkwX5_four_1 ++ []
def dkwX5_four_0 : List UInt8 := [16, 24, 61, 28, 155, 0, 35, 42, 180, 0, 35, 42, 180, 0, 217, 27, 28, 122, 17, 0, 255, 126, 79, 42]
abbrev dktX5_four_0 : List UInt8 := dkwX5_four_0 ++ dktX5_four_1
theorem dksX5_four_0 : cX5_four.data.toList.drop 0 = dktX5_four_0 := by decide +kernel
theorem dksX5_four_1 : cX5_four.data.toList.drop 24 = dktX5_four_1 := dk_seg dksX5_four_0 24 rfl rfl
theorem dX5_four_0 : decode cX5_four 0 = .ok (.bipush 24, 2) := dk_16 24 (dk_at dksX5_four_0 0 rfl rfl)
theorem dX5_four_2 : decode cX5_four 2 = .ok (.istore_n 2, 1) := dk_61 (dk_at dksX5_four_0 2 rfl rfl)
theorem dX5_four_3 : decode cX5_four 3 = .ok (.iload_n 2, 1) := dk_28 (dk_at dksX5_four_0 3 rfl rfl)
theorem dX5_four_4 : decode cX5_four 4 = .ok (.ifCond .lt 35, 3) := dk_155 0 35 (dk_at dksX5_four_0 4 rfl rfl)
theorem dX5_four_7 : decode cX5_four 7 = .ok (.aload_n 0, 1) := dk_42 (dk_at dksX5_four_0 7 rfl rfl)
theorem dX5_four_8 : decode cX5_four 8 = .ok (.getfield 35, 3) := dk_180 0 35 (dk_at dksX5_four_0 8 rfl rfl)
theorem dX5_four_11 : decode cX5_four 11 = .ok (.aload_n 0, 1) := dk_42 (dk_at dksX5_four_0 11 rfl rfl)
theorem dX5_four_12 : decode cX5_four 12 = .ok (.getfield 217, 3) := dk_180 0 217 (dk_at dksX5_four_0 12 rfl rfl)
theorem dX5_four_15 : decode cX5_four 15 = .ok (.iload_n 1, 1) := dk_27 (dk_at dksX5_four_0 15 rfl rfl)
theorem dX5_four_16 : decode cX5_four 16 = .ok (.iload_n 2, 1) := dk_28 (dk_at dksX5_four_0 16 rfl rfl)
theorem dX5_four_17 : decode cX5_four 17 = .ok (.ishr, 1) := dk_122 (dk_at dksX5_four_0 17 rfl rfl)
theorem dX5_four_18 : decode cX5_four 18 = .ok (.sipush 255, 3) := dk_17 0 255 (dk_at dksX5_four_0 18 rfl rfl)
theorem dX5_four_21 : decode cX5_four 21 = .ok (.iand, 1) := dk_126 (dk_at dksX5_four_0 21 rfl rfl)
theorem dX5_four_22 : decode cX5_four 22 = .ok (.iastore, 1) := dk_79 (dk_at dksX5_four_0 22 rfl rfl)
theorem dX5_four_23 : decode cX5_four 23 = .ok (.aload_n 0, 1) := dk_42 (dk_at dksX5_four_0 23 rfl rfl)
theorem dX5_four_24 : decode cX5_four 24 = .ok (.dup, 1) := dk_89 (dk_at dksX5_four_1 0 rfl rfl)
theorem dX5_four_25 : decode cX5_four 25 = .ok (.getfield 217, 3) := dk_180 0 217 (dk_at dksX5_four_1 1 rfl rfl)
theorem dX5_four_28 : decode cX5_four 28 = .ok (.iconst 1, 1) := dk_4 (dk_at dksX5_four_1 4 rfl rfl)
theorem dX5_four_29 : decode cX5_four 29 = .ok (.iadd, 1) := dk_96 (dk_at dksX5_four_1 5 rfl rfl)
theorem dX5_four_30 : decode cX5_four 30 = .ok (.putfield 217, 3) := dk_181 0 217 (dk_at dksX5_four_1 6 rfl rfl)
theorem dX5_four_33 : decode cX5_four 33 = .ok (.iinc 2 (-8), 3) := dk_132 2 248 (dk_at dksX5_four_1 9 rfl rfl)
theorem dX5_four_36 : decode cX5_four 36 = .ok (.goto (-33), 3) := dk_167 255 223 (dk_at dksX5_four_1 12 rfl rfl)
theorem dX5_four_39 : decode cX5_four 39 = .ok (.return_, 1) := dk_177 (dk_at dksX5_four_1 15 rfl rfl)
abbrev cX5_end : ByteArray := prog_23_method_32_code
def yX5_end : MethodName := ⟨RX5, "end", "(I)I"⟩
def dkwX5_end_1 : List UInt8 := [27, 172]
abbrev dktX5_end_1 : List UInt8 := dkwX5_end_1 ++ []
def dkwX5_end_0 : List UInt8 := [42, 3, 181, 0, 133, 27, 155, 0, 11, 27, 42, 180, 0, 217, 164, 0, 5, 2, 172, 42, 27, 181, 0, 217]
abbrev dktX5_end_0 : List UInt8 := dkwX5_end_0 ++ dktX5_end_1
theorem dksX5_end_0 : cX5_end.data.toList.drop 0 = dktX5_end_0 := by decide +kernel
theorem dksX5_end_1 : cX5_end.data.toList.drop 24 = dktX5_end_1 := dk_seg dksX5_end_0 24 rfl rfl
theorem dX5_end_0 : decode cX5_end 0 = .ok (.aload_n 0, 1) := dk_42 (dk_at dksX5_end_0 0 rfl rfl)
theorem dX5_end_1 : decode cX5_end 1 = .ok (.iconst 0, 1) := dk_3 (dk_at dksX5_end_0 1 rfl rfl)
theorem dX5_end_2 : decode cX5_end 2 = .ok (.putfield 133, 3) := dk_181 0 133 (dk_at dksX5_end_0 2 rfl rfl)
theorem dX5_end_5 : decode cX5_end 5 = .ok (.iload_n 1, 1) := dk_27 (dk_at dksX5_end_0 5 rfl rfl)
theorem dX5_end_6 : decode cX5_end 6 = .ok (.ifCond .lt 11, 3) := dk_155 0 11 (dk_at dksX5_end_0 6 rfl rfl)
theorem dX5_end_9 : decode cX5_end 9 = .ok (.iload_n 1, 1) := dk_27 (dk_at dksX5_end_0 9 rfl rfl)
theorem dX5_end_10 : decode cX5_end 10 = .ok (.aload_n 0, 1) := dk_42 (dk_at dksX5_end_0 10 rfl rfl)
theorem dX5_end_11 : decode cX5_end 11 = .ok (.getfield 217, 3) := dk_180 0 217 (dk_at dksX5_end_0 11 rfl rfl)
theorem dX5_end_14 : decode cX5_end 14 = .ok (.if_icmp .le 5, 3) := dk_164 0 5 (dk_at dksX5_end_0 14 rfl rfl)
theorem dX5_end_17 : decode cX5_end 17 = .ok (.iconst (-1), 1) := dk_2 (dk_at dksX5_end_0 17 rfl rfl)
theorem dX5_end_18 : decode cX5_end 18 = .ok (.ireturn, 1) := dk_172 (dk_at dksX5_end_0 18 rfl rfl)
theorem dX5_end_19 : decode cX5_end 19 = .ok (.aload_n 0, 1) := dk_42 (dk_at dksX5_end_0 19 rfl rfl)
theorem dX5_end_20 : decode cX5_end 20 = .ok (.iload_n 1, 1) := dk_27 (dk_at dksX5_end_0 20 rfl rfl)
theorem dX5_end_21 : decode cX5_end 21 = .ok (.putfield 217, 3) := dk_181 0 217 (dk_at dksX5_end_0 21 rfl rfl)
theorem dX5_end_24 : decode cX5_end 24 = .ok (.iload_n 1, 1) := dk_27 (dk_at dksX5_end_1 0 rfl rfl)
theorem dX5_end_25 : decode cX5_end 25 = .ok (.ireturn, 1) := dk_172 (dk_at dksX5_end_1 1 rfl rfl)
abbrev cX5_fault : ByteArray := prog_23_method_41_code
def yX5_fault : MethodName := ⟨RX5, "fault", "()I"⟩
def dkwX5_fault_0 : List UInt8 := [42, 3, 181, 0, 133, 42, 180, 0, 38, 172]
abbrev dktX5_fault_0 : List UInt8 := dkwX5_fault_0 ++ []
theorem dksX5_fault_0 : cX5_fault.data.toList.drop 0 = dktX5_fault_0 := by decide +kernel
theorem dX5_fault_0 : decode cX5_fault 0 = .ok (.aload_n 0, 1) := dk_42 (dk_at dksX5_fault_0 0 rfl rfl)
theorem dX5_fault_1 : decode cX5_fault 1 = .ok (.iconst 0, 1) := dk_3 (dk_at dksX5_fault_0 1 rfl rfl)
theorem dX5_fault_2 : decode cX5_fault 2 = .ok (.putfield 133, 3) := dk_181 0 133 (dk_at dksX5_fault_0 2 rfl rfl)
theorem dX5_fault_5 : decode cX5_fault 5 = .ok (.aload_n 0, 1) := dk_42 (dk_at dksX5_fault_0 5 rfl rfl)
theorem dX5_fault_6 : decode cX5_fault 6 = .ok (.getfield 38, 3) := dk_180 0 38 (dk_at dksX5_fault_0 6 rfl rfl)
theorem dX5_fault_9 : decode cX5_fault 9 = .ok (.ireturn, 1) := dk_172 (dk_at dksX5_fault_0 9 rfl rfl)
abbrev cX5_law : ByteArray := prog_23_method_60_code
def yX5_law : MethodName := ⟨RX5, "law", "()I"⟩
def dkwX5_law_9 : List UInt8 := [42, 42, 180, 0, 13, 5, 46, 4, 100, 182, 0, 142, 172]
abbrev dktX5_law_9 : List UInt8 := dkwX5_law_9 ++ []
def dkwX5_law_8 : List UInt8 := [96, 42, 180, 0, 48, 28, 46, 79, 132, 2, 1, 167, 255, 205, 42, 180, 0, 13, 5, 92, 46, 4, 96, 79]
abbrev dktX5_law_8 : List UInt8 := dkwX5_law_8 ++ dktX5_law_9
def dkwX5_law_7 : List UInt8 := [5, 28, 104, 96, 42, 180, 0, 45, 28, 46, 79, 42, 180, 0, 13, 27, 16, 98, 96, 5, 28, 104, 96, 4]
abbrev dktX5_law_7 : List UInt8 := dkwX5_law_7 ++ dktX5_law_8
def dkwX5_law_6 : List UInt8 := [132, 2, 1, 167, 255, 226, 3, 61, 28, 42, 180, 1, 8, 162, 0, 49, 42, 180, 0, 13, 27, 16, 98, 96]
abbrev dktX5_law_6 : List UInt8 := dkwX5_law_6 ++ dktX5_law_7
def dkwX5_law_5 : List UInt8 := [180, 1, 98, 104, 162, 0, 25, 42, 180, 0, 13, 27, 5, 96, 28, 96, 42, 180, 0, 42, 28, 46, 79]
abbrev dktX5_law_5 : List UInt8 := dkwX5_law_5 ++ dktX5_law_6
def dkwX5_law_4 : List UInt8 := [46, 104, 96, 60, 42, 180, 0, 13, 27, 4, 96, 42, 180, 1, 98, 79, 3, 61, 28, 16, 8, 42]
abbrev dktX5_law_4 : List UInt8 := dkwX5_law_4 ++ dktX5_law_5
def dkwX5_law_3 : List UInt8 := [180, 0, 229, 153, 0, 10, 42, 16, 250, 182, 0, 142, 172, 17, 15, 150, 17, 3, 132, 42, 180, 0, 13, 5]
abbrev dktX5_law_3 : List UInt8 := dkwX5_law_3 ++ dktX5_law_4
def dkwX5_law_2 : List UInt8 := [182, 1, 40, 153, 0, 14, 42, 182, 0, 233, 42, 182, 1, 109, 167, 255, 232, 42, 182, 1, 112, 42]
abbrev dktX5_law_2 : List UInt8 := dkwX5_law_2 ++ dktX5_law_3
def dkwX5_law_1 : List UInt8 := [182, 0, 142, 172, 42, 3, 182, 1, 106, 42, 182, 1, 109, 42, 180, 0, 229, 154, 0, 23, 42, 16, 59]
abbrev dktX5_law_1 : List UInt8 := dkwX5_law_1 ++ dktX5_law_2
def dkwX5_law_0 : List UInt8 := [42, 3, 181, 0, 133, 42, 180, 0, 13, 5, 46, 16, 6, 160, 0, 15, 42, 3, 181, 0, 217, 42, 16, 251]
abbrev dktX5_law_0 : List UInt8 := dkwX5_law_0 ++ dktX5_law_1
theorem dksX5_law_0 : cX5_law.data.toList.drop 0 = dktX5_law_0 := by decide +kernel
theorem dksX5_law_1 : cX5_law.data.toList.drop 24 = dktX5_law_1 := dk_seg dksX5_law_0 24 rfl rfl
theorem dksX5_law_2 : cX5_law.data.toList.drop 47 = dktX5_law_2 := dk_seg dksX5_law_1 23 rfl rfl
theorem dksX5_law_3 : cX5_law.data.toList.drop 69 = dktX5_law_3 := dk_seg dksX5_law_2 22 rfl rfl
theorem dksX5_law_4 : cX5_law.data.toList.drop 93 = dktX5_law_4 := dk_seg dksX5_law_3 24 rfl rfl
theorem dksX5_law_5 : cX5_law.data.toList.drop 115 = dktX5_law_5 := dk_seg dksX5_law_4 22 rfl rfl
theorem dksX5_law_6 : cX5_law.data.toList.drop 138 = dktX5_law_6 := dk_seg dksX5_law_5 23 rfl rfl
theorem dksX5_law_7 : cX5_law.data.toList.drop 162 = dktX5_law_7 := dk_seg dksX5_law_6 24 rfl rfl
theorem dksX5_law_8 : cX5_law.data.toList.drop 186 = dktX5_law_8 := dk_seg dksX5_law_7 24 rfl rfl
theorem dksX5_law_9 : cX5_law.data.toList.drop 210 = dktX5_law_9 := dk_seg dksX5_law_8 24 rfl rfl
theorem dX5_law_0 : decode cX5_law 0 = .ok (.aload_n 0, 1) := dk_42 (dk_at dksX5_law_0 0 rfl rfl)
theorem dX5_law_1 : decode cX5_law 1 = .ok (.iconst 0, 1) := dk_3 (dk_at dksX5_law_0 1 rfl rfl)
theorem dX5_law_2 : decode cX5_law 2 = .ok (.putfield 133, 3) := dk_181 0 133 (dk_at dksX5_law_0 2 rfl rfl)
theorem dX5_law_5 : decode cX5_law 5 = .ok (.aload_n 0, 1) := dk_42 (dk_at dksX5_law_0 5 rfl rfl)
theorem dX5_law_6 : decode cX5_law 6 = .ok (.getfield 13, 3) := dk_180 0 13 (dk_at dksX5_law_0 6 rfl rfl)
theorem dX5_law_9 : decode cX5_law 9 = .ok (.iconst 2, 1) := dk_5 (dk_at dksX5_law_0 9 rfl rfl)
theorem dX5_law_10 : decode cX5_law 10 = .ok (.iaload, 1) := dk_46 (dk_at dksX5_law_0 10 rfl rfl)
theorem dX5_law_11 : decode cX5_law 11 = .ok (.bipush 6, 2) := dk_16 6 (dk_at dksX5_law_0 11 rfl rfl)
theorem dX5_law_13 : decode cX5_law 13 = .ok (.if_icmp .ne 15, 3) := dk_160 0 15 (dk_at dksX5_law_0 13 rfl rfl)
theorem dX5_law_16 : decode cX5_law 16 = .ok (.aload_n 0, 1) := dk_42 (dk_at dksX5_law_0 16 rfl rfl)
theorem dX5_law_17 : decode cX5_law 17 = .ok (.iconst 0, 1) := dk_3 (dk_at dksX5_law_0 17 rfl rfl)
theorem dX5_law_18 : decode cX5_law 18 = .ok (.putfield 217, 3) := dk_181 0 217 (dk_at dksX5_law_0 18 rfl rfl)
theorem dX5_law_21 : decode cX5_law 21 = .ok (.aload_n 0, 1) := dk_42 (dk_at dksX5_law_0 21 rfl rfl)
theorem dX5_law_22 : decode cX5_law 22 = .ok (.bipush (-5), 2) := dk_16 251 (dk_at dksX5_law_0 22 rfl rfl)
theorem dX5_law_24 : decode cX5_law 24 = .ok (.invokevirtual 142, 3) := dk_182 0 142 (dk_at dksX5_law_1 0 rfl rfl)
theorem dX5_law_27 : decode cX5_law 27 = .ok (.ireturn, 1) := dk_172 (dk_at dksX5_law_1 3 rfl rfl)
theorem dX5_law_28 : decode cX5_law 28 = .ok (.aload_n 0, 1) := dk_42 (dk_at dksX5_law_1 4 rfl rfl)
theorem dX5_law_29 : decode cX5_law 29 = .ok (.iconst 0, 1) := dk_3 (dk_at dksX5_law_1 5 rfl rfl)
theorem dX5_law_30 : decode cX5_law 30 = .ok (.invokevirtual 362, 3) := dk_182 1 106 (dk_at dksX5_law_1 6 rfl rfl)
theorem dX5_law_33 : decode cX5_law 33 = .ok (.aload_n 0, 1) := dk_42 (dk_at dksX5_law_1 9 rfl rfl)
theorem dX5_law_34 : decode cX5_law 34 = .ok (.invokevirtual 365, 3) := dk_182 1 109 (dk_at dksX5_law_1 10 rfl rfl)
theorem dX5_law_37 : decode cX5_law 37 = .ok (.aload_n 0, 1) := dk_42 (dk_at dksX5_law_1 13 rfl rfl)
theorem dX5_law_38 : decode cX5_law 38 = .ok (.getfield 229, 3) := dk_180 0 229 (dk_at dksX5_law_1 14 rfl rfl)
theorem dX5_law_41 : decode cX5_law 41 = .ok (.ifCond .ne 23, 3) := dk_154 0 23 (dk_at dksX5_law_1 17 rfl rfl)
theorem dX5_law_44 : decode cX5_law 44 = .ok (.aload_n 0, 1) := dk_42 (dk_at dksX5_law_1 20 rfl rfl)
theorem dX5_law_45 : decode cX5_law 45 = .ok (.bipush 59, 2) := dk_16 59 (dk_at dksX5_law_1 21 rfl rfl)
theorem dX5_law_47 : decode cX5_law 47 = .ok (.invokevirtual 296, 3) := dk_182 1 40 (dk_at dksX5_law_2 0 rfl rfl)
theorem dX5_law_50 : decode cX5_law 50 = .ok (.ifCond .eq 14, 3) := dk_153 0 14 (dk_at dksX5_law_2 3 rfl rfl)
theorem dX5_law_53 : decode cX5_law 53 = .ok (.aload_n 0, 1) := dk_42 (dk_at dksX5_law_2 6 rfl rfl)
theorem dX5_law_54 : decode cX5_law 54 = .ok (.invokevirtual 233, 3) := dk_182 0 233 (dk_at dksX5_law_2 7 rfl rfl)
theorem dX5_law_57 : decode cX5_law 57 = .ok (.aload_n 0, 1) := dk_42 (dk_at dksX5_law_2 10 rfl rfl)
theorem dX5_law_58 : decode cX5_law 58 = .ok (.invokevirtual 365, 3) := dk_182 1 109 (dk_at dksX5_law_2 11 rfl rfl)
theorem dX5_law_61 : decode cX5_law 61 = .ok (.goto (-24), 3) := dk_167 255 232 (dk_at dksX5_law_2 14 rfl rfl)
theorem dX5_law_64 : decode cX5_law 64 = .ok (.aload_n 0, 1) := dk_42 (dk_at dksX5_law_2 17 rfl rfl)
theorem dX5_law_65 : decode cX5_law 65 = .ok (.invokevirtual 368, 3) := dk_182 1 112 (dk_at dksX5_law_2 18 rfl rfl)
theorem dX5_law_68 : decode cX5_law 68 = .ok (.aload_n 0, 1) := dk_42 (dk_at dksX5_law_2 21 rfl rfl)
theorem dX5_law_69 : decode cX5_law 69 = .ok (.getfield 229, 3) := dk_180 0 229 (dk_at dksX5_law_3 0 rfl rfl)
theorem dX5_law_72 : decode cX5_law 72 = .ok (.ifCond .eq 10, 3) := dk_153 0 10 (dk_at dksX5_law_3 3 rfl rfl)
theorem dX5_law_75 : decode cX5_law 75 = .ok (.aload_n 0, 1) := dk_42 (dk_at dksX5_law_3 6 rfl rfl)
theorem dX5_law_76 : decode cX5_law 76 = .ok (.bipush (-6), 2) := dk_16 250 (dk_at dksX5_law_3 7 rfl rfl)
theorem dX5_law_78 : decode cX5_law 78 = .ok (.invokevirtual 142, 3) := dk_182 0 142 (dk_at dksX5_law_3 9 rfl rfl)
theorem dX5_law_81 : decode cX5_law 81 = .ok (.ireturn, 1) := dk_172 (dk_at dksX5_law_3 12 rfl rfl)
theorem dX5_law_82 : decode cX5_law 82 = .ok (.sipush 3990, 3) := dk_17 15 150 (dk_at dksX5_law_3 13 rfl rfl)
theorem dX5_law_85 : decode cX5_law 85 = .ok (.sipush 900, 3) := dk_17 3 132 (dk_at dksX5_law_3 16 rfl rfl)
theorem dX5_law_88 : decode cX5_law 88 = .ok (.aload_n 0, 1) := dk_42 (dk_at dksX5_law_3 19 rfl rfl)
theorem dX5_law_89 : decode cX5_law 89 = .ok (.getfield 13, 3) := dk_180 0 13 (dk_at dksX5_law_3 20 rfl rfl)
theorem dX5_law_92 : decode cX5_law 92 = .ok (.iconst 2, 1) := dk_5 (dk_at dksX5_law_3 23 rfl rfl)
theorem dX5_law_93 : decode cX5_law 93 = .ok (.iaload, 1) := dk_46 (dk_at dksX5_law_4 0 rfl rfl)
theorem dX5_law_94 : decode cX5_law 94 = .ok (.imul, 1) := dk_104 (dk_at dksX5_law_4 1 rfl rfl)
theorem dX5_law_95 : decode cX5_law 95 = .ok (.iadd, 1) := dk_96 (dk_at dksX5_law_4 2 rfl rfl)
theorem dX5_law_96 : decode cX5_law 96 = .ok (.istore_n 1, 1) := dk_60 (dk_at dksX5_law_4 3 rfl rfl)
theorem dX5_law_97 : decode cX5_law 97 = .ok (.aload_n 0, 1) := dk_42 (dk_at dksX5_law_4 4 rfl rfl)
theorem dX5_law_98 : decode cX5_law 98 = .ok (.getfield 13, 3) := dk_180 0 13 (dk_at dksX5_law_4 5 rfl rfl)
theorem dX5_law_101 : decode cX5_law 101 = .ok (.iload_n 1, 1) := dk_27 (dk_at dksX5_law_4 8 rfl rfl)
theorem dX5_law_102 : decode cX5_law 102 = .ok (.iconst 1, 1) := dk_4 (dk_at dksX5_law_4 9 rfl rfl)
theorem dX5_law_103 : decode cX5_law 103 = .ok (.iadd, 1) := dk_96 (dk_at dksX5_law_4 10 rfl rfl)
theorem dX5_law_104 : decode cX5_law 104 = .ok (.aload_n 0, 1) := dk_42 (dk_at dksX5_law_4 11 rfl rfl)
theorem dX5_law_105 : decode cX5_law 105 = .ok (.getfield 354, 3) := dk_180 1 98 (dk_at dksX5_law_4 12 rfl rfl)
theorem dX5_law_108 : decode cX5_law 108 = .ok (.iastore, 1) := dk_79 (dk_at dksX5_law_4 15 rfl rfl)
theorem dX5_law_109 : decode cX5_law 109 = .ok (.iconst 0, 1) := dk_3 (dk_at dksX5_law_4 16 rfl rfl)
theorem dX5_law_110 : decode cX5_law 110 = .ok (.istore_n 2, 1) := dk_61 (dk_at dksX5_law_4 17 rfl rfl)
theorem dX5_law_111 : decode cX5_law 111 = .ok (.iload_n 2, 1) := dk_28 (dk_at dksX5_law_4 18 rfl rfl)
theorem dX5_law_112 : decode cX5_law 112 = .ok (.bipush 8, 2) := dk_16 8 (dk_at dksX5_law_4 19 rfl rfl)
theorem dX5_law_114 : decode cX5_law 114 = .ok (.aload_n 0, 1) := dk_42 (dk_at dksX5_law_4 21 rfl rfl)
theorem dX5_law_115 : decode cX5_law 115 = .ok (.getfield 354, 3) := dk_180 1 98 (dk_at dksX5_law_5 0 rfl rfl)
theorem dX5_law_118 : decode cX5_law 118 = .ok (.imul, 1) := dk_104 (dk_at dksX5_law_5 3 rfl rfl)
theorem dX5_law_119 : decode cX5_law 119 = .ok (.if_icmp .ge 25, 3) := dk_162 0 25 (dk_at dksX5_law_5 4 rfl rfl)
theorem dX5_law_122 : decode cX5_law 122 = .ok (.aload_n 0, 1) := dk_42 (dk_at dksX5_law_5 7 rfl rfl)
theorem dX5_law_123 : decode cX5_law 123 = .ok (.getfield 13, 3) := dk_180 0 13 (dk_at dksX5_law_5 8 rfl rfl)
theorem dX5_law_126 : decode cX5_law 126 = .ok (.iload_n 1, 1) := dk_27 (dk_at dksX5_law_5 11 rfl rfl)
theorem dX5_law_127 : decode cX5_law 127 = .ok (.iconst 2, 1) := dk_5 (dk_at dksX5_law_5 12 rfl rfl)
theorem dX5_law_128 : decode cX5_law 128 = .ok (.iadd, 1) := dk_96 (dk_at dksX5_law_5 13 rfl rfl)
theorem dX5_law_129 : decode cX5_law 129 = .ok (.iload_n 2, 1) := dk_28 (dk_at dksX5_law_5 14 rfl rfl)
theorem dX5_law_130 : decode cX5_law 130 = .ok (.iadd, 1) := dk_96 (dk_at dksX5_law_5 15 rfl rfl)
theorem dX5_law_131 : decode cX5_law 131 = .ok (.aload_n 0, 1) := dk_42 (dk_at dksX5_law_5 16 rfl rfl)
theorem dX5_law_132 : decode cX5_law 132 = .ok (.getfield 42, 3) := dk_180 0 42 (dk_at dksX5_law_5 17 rfl rfl)
theorem dX5_law_135 : decode cX5_law 135 = .ok (.iload_n 2, 1) := dk_28 (dk_at dksX5_law_5 20 rfl rfl)
theorem dX5_law_136 : decode cX5_law 136 = .ok (.iaload, 1) := dk_46 (dk_at dksX5_law_5 21 rfl rfl)
theorem dX5_law_137 : decode cX5_law 137 = .ok (.iastore, 1) := dk_79 (dk_at dksX5_law_5 22 rfl rfl)
theorem dX5_law_138 : decode cX5_law 138 = .ok (.iinc 2 1, 3) := dk_132 2 1 (dk_at dksX5_law_6 0 rfl rfl)
theorem dX5_law_141 : decode cX5_law 141 = .ok (.goto (-30), 3) := dk_167 255 226 (dk_at dksX5_law_6 3 rfl rfl)
theorem dX5_law_144 : decode cX5_law 144 = .ok (.iconst 0, 1) := dk_3 (dk_at dksX5_law_6 6 rfl rfl)
theorem dX5_law_145 : decode cX5_law 145 = .ok (.istore_n 2, 1) := dk_61 (dk_at dksX5_law_6 7 rfl rfl)
theorem dX5_law_146 : decode cX5_law 146 = .ok (.iload_n 2, 1) := dk_28 (dk_at dksX5_law_6 8 rfl rfl)
theorem dX5_law_147 : decode cX5_law 147 = .ok (.aload_n 0, 1) := dk_42 (dk_at dksX5_law_6 9 rfl rfl)
theorem dX5_law_148 : decode cX5_law 148 = .ok (.getfield 264, 3) := dk_180 1 8 (dk_at dksX5_law_6 10 rfl rfl)
theorem dX5_law_151 : decode cX5_law 151 = .ok (.if_icmp .ge 49, 3) := dk_162 0 49 (dk_at dksX5_law_6 13 rfl rfl)
theorem dX5_law_154 : decode cX5_law 154 = .ok (.aload_n 0, 1) := dk_42 (dk_at dksX5_law_6 16 rfl rfl)
theorem dX5_law_155 : decode cX5_law 155 = .ok (.getfield 13, 3) := dk_180 0 13 (dk_at dksX5_law_6 17 rfl rfl)
theorem dX5_law_158 : decode cX5_law 158 = .ok (.iload_n 1, 1) := dk_27 (dk_at dksX5_law_6 20 rfl rfl)
theorem dX5_law_159 : decode cX5_law 159 = .ok (.bipush 98, 2) := dk_16 98 (dk_at dksX5_law_6 21 rfl rfl)
theorem dX5_law_161 : decode cX5_law 161 = .ok (.iadd, 1) := dk_96 (dk_at dksX5_law_6 23 rfl rfl)
theorem dX5_law_162 : decode cX5_law 162 = .ok (.iconst 2, 1) := dk_5 (dk_at dksX5_law_7 0 rfl rfl)
theorem dX5_law_163 : decode cX5_law 163 = .ok (.iload_n 2, 1) := dk_28 (dk_at dksX5_law_7 1 rfl rfl)
theorem dX5_law_164 : decode cX5_law 164 = .ok (.imul, 1) := dk_104 (dk_at dksX5_law_7 2 rfl rfl)
theorem dX5_law_165 : decode cX5_law 165 = .ok (.iadd, 1) := dk_96 (dk_at dksX5_law_7 3 rfl rfl)
theorem dX5_law_166 : decode cX5_law 166 = .ok (.aload_n 0, 1) := dk_42 (dk_at dksX5_law_7 4 rfl rfl)
theorem dX5_law_167 : decode cX5_law 167 = .ok (.getfield 45, 3) := dk_180 0 45 (dk_at dksX5_law_7 5 rfl rfl)
theorem dX5_law_170 : decode cX5_law 170 = .ok (.iload_n 2, 1) := dk_28 (dk_at dksX5_law_7 8 rfl rfl)
theorem dX5_law_171 : decode cX5_law 171 = .ok (.iaload, 1) := dk_46 (dk_at dksX5_law_7 9 rfl rfl)
theorem dX5_law_172 : decode cX5_law 172 = .ok (.iastore, 1) := dk_79 (dk_at dksX5_law_7 10 rfl rfl)
theorem dX5_law_173 : decode cX5_law 173 = .ok (.aload_n 0, 1) := dk_42 (dk_at dksX5_law_7 11 rfl rfl)
theorem dX5_law_174 : decode cX5_law 174 = .ok (.getfield 13, 3) := dk_180 0 13 (dk_at dksX5_law_7 12 rfl rfl)
theorem dX5_law_177 : decode cX5_law 177 = .ok (.iload_n 1, 1) := dk_27 (dk_at dksX5_law_7 15 rfl rfl)
theorem dX5_law_178 : decode cX5_law 178 = .ok (.bipush 98, 2) := dk_16 98 (dk_at dksX5_law_7 16 rfl rfl)
theorem dX5_law_180 : decode cX5_law 180 = .ok (.iadd, 1) := dk_96 (dk_at dksX5_law_7 18 rfl rfl)
theorem dX5_law_181 : decode cX5_law 181 = .ok (.iconst 2, 1) := dk_5 (dk_at dksX5_law_7 19 rfl rfl)
theorem dX5_law_182 : decode cX5_law 182 = .ok (.iload_n 2, 1) := dk_28 (dk_at dksX5_law_7 20 rfl rfl)
theorem dX5_law_183 : decode cX5_law 183 = .ok (.imul, 1) := dk_104 (dk_at dksX5_law_7 21 rfl rfl)
theorem dX5_law_184 : decode cX5_law 184 = .ok (.iadd, 1) := dk_96 (dk_at dksX5_law_7 22 rfl rfl)
theorem dX5_law_185 : decode cX5_law 185 = .ok (.iconst 1, 1) := dk_4 (dk_at dksX5_law_7 23 rfl rfl)
theorem dX5_law_186 : decode cX5_law 186 = .ok (.iadd, 1) := dk_96 (dk_at dksX5_law_8 0 rfl rfl)
theorem dX5_law_187 : decode cX5_law 187 = .ok (.aload_n 0, 1) := dk_42 (dk_at dksX5_law_8 1 rfl rfl)
theorem dX5_law_188 : decode cX5_law 188 = .ok (.getfield 48, 3) := dk_180 0 48 (dk_at dksX5_law_8 2 rfl rfl)
theorem dX5_law_191 : decode cX5_law 191 = .ok (.iload_n 2, 1) := dk_28 (dk_at dksX5_law_8 5 rfl rfl)
theorem dX5_law_192 : decode cX5_law 192 = .ok (.iaload, 1) := dk_46 (dk_at dksX5_law_8 6 rfl rfl)
theorem dX5_law_193 : decode cX5_law 193 = .ok (.iastore, 1) := dk_79 (dk_at dksX5_law_8 7 rfl rfl)
theorem dX5_law_194 : decode cX5_law 194 = .ok (.iinc 2 1, 3) := dk_132 2 1 (dk_at dksX5_law_8 8 rfl rfl)
theorem dX5_law_197 : decode cX5_law 197 = .ok (.goto (-51), 3) := dk_167 255 205 (dk_at dksX5_law_8 11 rfl rfl)
theorem dX5_law_200 : decode cX5_law 200 = .ok (.aload_n 0, 1) := dk_42 (dk_at dksX5_law_8 14 rfl rfl)
theorem dX5_law_201 : decode cX5_law 201 = .ok (.getfield 13, 3) := dk_180 0 13 (dk_at dksX5_law_8 15 rfl rfl)
theorem dX5_law_204 : decode cX5_law 204 = .ok (.iconst 2, 1) := dk_5 (dk_at dksX5_law_8 18 rfl rfl)
theorem dX5_law_205 : decode cX5_law 205 = .ok (.dup2, 1) := dk_92 (dk_at dksX5_law_8 19 rfl rfl)
theorem dX5_law_206 : decode cX5_law 206 = .ok (.iaload, 1) := dk_46 (dk_at dksX5_law_8 20 rfl rfl)
theorem dX5_law_207 : decode cX5_law 207 = .ok (.iconst 1, 1) := dk_4 (dk_at dksX5_law_8 21 rfl rfl)
theorem dX5_law_208 : decode cX5_law 208 = .ok (.iadd, 1) := dk_96 (dk_at dksX5_law_8 22 rfl rfl)
theorem dX5_law_209 : decode cX5_law 209 = .ok (.iastore, 1) := dk_79 (dk_at dksX5_law_8 23 rfl rfl)
theorem dX5_law_210 : decode cX5_law 210 = .ok (.aload_n 0, 1) := dk_42 (dk_at dksX5_law_9 0 rfl rfl)
theorem dX5_law_211 : decode cX5_law 211 = .ok (.aload_n 0, 1) := dk_42 (dk_at dksX5_law_9 1 rfl rfl)
theorem dX5_law_212 : decode cX5_law 212 = .ok (.getfield 13, 3) := dk_180 0 13 (dk_at dksX5_law_9 2 rfl rfl)
theorem dX5_law_215 : decode cX5_law 215 = .ok (.iconst 2, 1) := dk_5 (dk_at dksX5_law_9 5 rfl rfl)
theorem dX5_law_216 : decode cX5_law 216 = .ok (.iaload, 1) := dk_46 (dk_at dksX5_law_9 6 rfl rfl)
theorem dX5_law_217 : decode cX5_law 217 = .ok (.iconst 1, 1) := dk_4 (dk_at dksX5_law_9 7 rfl rfl)
theorem dX5_law_218 : decode cX5_law 218 = .ok (.isub, 1) := dk_100 (dk_at dksX5_law_9 8 rfl rfl)
theorem dX5_law_219 : decode cX5_law 219 = .ok (.invokevirtual 142, 3) := dk_182 0 142 (dk_at dksX5_law_9 9 rfl rfl)
theorem dX5_law_222 : decode cX5_law 222 = .ok (.ireturn, 1) := dk_172 (dk_at dksX5_law_9 12 rfl rfl)
abbrev cX5_beginText : ByteArray := prog_23_method_57_code
def yX5_beginText : MethodName := ⟨RX5, "beginText", "(Z)V"⟩
def dkwX5_beginText_1 : List UInt8 := [177]
abbrev dktX5_beginText_1 : List UInt8 := dkwX5_beginText_1 ++ []
def dkwX5_beginText_0 : List UInt8 := [42, 27, 181, 1, 46, 42, 182, 1, 95, 42, 3, 181, 1, 98, 42, 3, 181, 1, 8, 42, 3, 181, 1, 37]
abbrev dktX5_beginText_0 : List UInt8 := dkwX5_beginText_0 ++ dktX5_beginText_1
theorem dksX5_beginText_0 : cX5_beginText.data.toList.drop 0 = dktX5_beginText_0 := by decide +kernel
theorem dksX5_beginText_1 : cX5_beginText.data.toList.drop 24 = dktX5_beginText_1 := dk_seg dksX5_beginText_0 24 rfl rfl
theorem dX5_beginText_0 : decode cX5_beginText 0 = .ok (.aload_n 0, 1) := dk_42 (dk_at dksX5_beginText_0 0 rfl rfl)
theorem dX5_beginText_1 : decode cX5_beginText 1 = .ok (.iload_n 1, 1) := dk_27 (dk_at dksX5_beginText_0 1 rfl rfl)
theorem dX5_beginText_2 : decode cX5_beginText 2 = .ok (.putfield 302, 3) := dk_181 1 46 (dk_at dksX5_beginText_0 2 rfl rfl)
theorem dX5_beginText_5 : decode cX5_beginText 5 = .ok (.aload_n 0, 1) := dk_42 (dk_at dksX5_beginText_0 5 rfl rfl)
theorem dX5_beginText_6 : decode cX5_beginText 6 = .ok (.invokevirtual 351, 3) := dk_182 1 95 (dk_at dksX5_beginText_0 6 rfl rfl)
theorem dX5_beginText_9 : decode cX5_beginText 9 = .ok (.aload_n 0, 1) := dk_42 (dk_at dksX5_beginText_0 9 rfl rfl)
theorem dX5_beginText_10 : decode cX5_beginText 10 = .ok (.iconst 0, 1) := dk_3 (dk_at dksX5_beginText_0 10 rfl rfl)
theorem dX5_beginText_11 : decode cX5_beginText 11 = .ok (.putfield 354, 3) := dk_181 1 98 (dk_at dksX5_beginText_0 11 rfl rfl)
theorem dX5_beginText_14 : decode cX5_beginText 14 = .ok (.aload_n 0, 1) := dk_42 (dk_at dksX5_beginText_0 14 rfl rfl)
theorem dX5_beginText_15 : decode cX5_beginText 15 = .ok (.iconst 0, 1) := dk_3 (dk_at dksX5_beginText_0 15 rfl rfl)
theorem dX5_beginText_16 : decode cX5_beginText 16 = .ok (.putfield 264, 3) := dk_181 1 8 (dk_at dksX5_beginText_0 16 rfl rfl)
theorem dX5_beginText_19 : decode cX5_beginText 19 = .ok (.aload_n 0, 1) := dk_42 (dk_at dksX5_beginText_0 19 rfl rfl)
theorem dX5_beginText_20 : decode cX5_beginText 20 = .ok (.iconst 0, 1) := dk_3 (dk_at dksX5_beginText_0 20 rfl rfl)
theorem dX5_beginText_21 : decode cX5_beginText 21 = .ok (.putfield 293, 3) := dk_181 1 37 (dk_at dksX5_beginText_0 21 rfl rfl)
theorem dX5_beginText_24 : decode cX5_beginText 24 = .ok (.return_, 1) := dk_177 (dk_at dksX5_beginText_1 0 rfl rfl)
abbrev cX5_begin : ByteArray := prog_23_method_35_code
def yX5_begin : MethodName := ⟨RX5, "begin", "()V"⟩
def dkwX5_begin_0 : List UInt8 := [42, 3, 181, 0, 226, 42, 3, 181, 0, 229, 42, 2, 181, 0, 38, 42, 182, 0, 233, 177]
abbrev dktX5_begin_0 : List UInt8 := dkwX5_begin_0 ++ []
theorem dksX5_begin_0 : cX5_begin.data.toList.drop 0 = dktX5_begin_0 := by decide +kernel
theorem dX5_begin_0 : decode cX5_begin 0 = .ok (.aload_n 0, 1) := dk_42 (dk_at dksX5_begin_0 0 rfl rfl)
theorem dX5_begin_1 : decode cX5_begin 1 = .ok (.iconst 0, 1) := dk_3 (dk_at dksX5_begin_0 1 rfl rfl)
theorem dX5_begin_2 : decode cX5_begin 2 = .ok (.putfield 226, 3) := dk_181 0 226 (dk_at dksX5_begin_0 2 rfl rfl)
theorem dX5_begin_5 : decode cX5_begin 5 = .ok (.aload_n 0, 1) := dk_42 (dk_at dksX5_begin_0 5 rfl rfl)
theorem dX5_begin_6 : decode cX5_begin 6 = .ok (.iconst 0, 1) := dk_3 (dk_at dksX5_begin_0 6 rfl rfl)
theorem dX5_begin_7 : decode cX5_begin 7 = .ok (.putfield 229, 3) := dk_181 0 229 (dk_at dksX5_begin_0 7 rfl rfl)
theorem dX5_begin_10 : decode cX5_begin 10 = .ok (.aload_n 0, 1) := dk_42 (dk_at dksX5_begin_0 10 rfl rfl)
theorem dX5_begin_11 : decode cX5_begin 11 = .ok (.iconst (-1), 1) := dk_2 (dk_at dksX5_begin_0 11 rfl rfl)
theorem dX5_begin_12 : decode cX5_begin 12 = .ok (.putfield 38, 3) := dk_181 0 38 (dk_at dksX5_begin_0 12 rfl rfl)
theorem dX5_begin_15 : decode cX5_begin 15 = .ok (.aload_n 0, 1) := dk_42 (dk_at dksX5_begin_0 15 rfl rfl)
theorem dX5_begin_16 : decode cX5_begin 16 = .ok (.invokevirtual 233, 3) := dk_182 0 233 (dk_at dksX5_begin_0 16 rfl rfl)
theorem dX5_begin_19 : decode cX5_begin 19 = .ok (.return_, 1) := dk_177 (dk_at dksX5_begin_0 19 rfl rfl)
abbrev cX5_next : ByteArray := prog_23_method_36_code
def yX5_next : MethodName := ⟨RX5, "next", "()V"⟩
def dkwX5_next_14 : List UInt8 := [181, 0, 226, 167, 255, 167, 177]
abbrev dktX5_next_14 : List UInt8 := dkwX5_next_14 ++ []
def dkwX5_next_13 : List UInt8 := [180, 0, 35, 42, 180, 0, 226, 46, 133, 97, 20, 1, 2, 101, 181, 0, 239, 42, 89, 180, 0, 226, 4, 96]
abbrev dktX5_next_13 : List UInt8 := dkwX5_next_13 ++ dktX5_next_14
def dkwX5_next_12 : List UInt8 := [20, 1, 0, 148, 158, 0, 10, 42, 180, 0, 239, 167, 0, 26, 42, 180, 0, 239, 20, 0, 210, 105, 42]
abbrev dktX5_next_12 : List UInt8 := dkwX5_next_12 ++ dktX5_next_13
def dkwX5_next_11 : List UInt8 := [162, 0, 76, 42, 180, 0, 35, 42, 180, 0, 226, 46, 184, 0, 246, 153, 0, 61, 42, 42, 180, 0, 239]
abbrev dktX5_next_11 : List UInt8 := dkwX5_next_11 ++ dktX5_next_12
def dkwX5_next_10 : List UInt8 := [4, 96, 181, 0, 226, 167, 255, 165, 42, 180, 0, 249, 5, 160, 0, 87, 42, 180, 0, 226, 42, 180, 0, 217]
abbrev dktX5_next_10 : List UInt8 := dkwX5_next_10 ++ dktX5_next_11
def dkwX5_next_9 : List UInt8 := [180, 0, 226, 46, 133, 97, 20, 0, 254, 101, 167, 0, 6, 20, 0, 206, 181, 0, 239, 42, 89, 180, 0, 226]
abbrev dktX5_next_9 : List UInt8 := dkwX5_next_9 ++ dktX5_next_10
def dkwX5_next_8 : List UInt8 := [180, 0, 236, 100, 16, 10, 162, 0, 29, 42, 180, 0, 239, 20, 0, 252, 105, 42, 180, 0, 35, 42]
abbrev dktX5_next_8 : List UInt8 := dkwX5_next_8 ++ dktX5_next_9
def dkwX5_next_7 : List UInt8 := [162, 0, 78, 42, 180, 0, 35, 42, 180, 0, 226, 46, 184, 0, 243, 153, 0, 63, 42, 42, 180, 0, 226, 42]
abbrev dktX5_next_7 : List UInt8 := dkwX5_next_7 ++ dktX5_next_8
def dkwX5_next_6 : List UInt8 := [180, 0, 226, 4, 96, 181, 0, 226, 42, 180, 0, 249, 4, 160, 0, 89, 42, 180, 0, 226, 42, 180, 0, 217]
abbrev dktX5_next_6 : List UInt8 := dkwX5_next_6 ++ dktX5_next_7
def dkwX5_next_5 : List UInt8 := [180, 0, 249, 6, 160, 0, 27, 42, 42, 180, 0, 35, 42, 180, 0, 236, 46, 133, 181, 0, 239, 42, 89]
abbrev dktX5_next_5 : List UInt8 := dkwX5_next_5 ++ dktX5_next_6
def dkwX5_next_4 : List UInt8 := [180, 0, 35, 42, 180, 0, 236, 46, 184, 0, 246, 153, 0, 7, 5, 167, 0, 4, 6, 181, 0, 249, 42]
abbrev dktX5_next_4 : List UInt8 := dkwX5_next_4 ++ dktX5_next_5
def dkwX5_next_3 : List UInt8 := [167, 0, 42, 42, 180, 0, 35, 42, 180, 0, 236, 46, 184, 0, 243, 153, 0, 7, 4, 167, 0, 23, 42]
abbrev dktX5_next_3 : List UInt8 := dkwX5_next_3 ++ dktX5_next_4
def dkwX5_next_2 : List UInt8 := [180, 0, 236, 181, 0, 226, 42, 9, 181, 0, 239, 42, 42, 180, 0, 236, 42, 180, 0, 217, 160, 0, 7, 3]
abbrev dktX5_next_2 : List UInt8 := dkwX5_next_2 ++ dktX5_next_3
def dkwX5_next_1 : List UInt8 := [180, 0, 236, 46, 16, 32, 160, 0, 16, 42, 89, 180, 0, 236, 4, 96, 181, 0, 236, 167, 255, 221, 42, 42]
abbrev dktX5_next_1 : List UInt8 := dkwX5_next_1 ++ dktX5_next_2
def dkwX5_next_0 : List UInt8 := [42, 42, 180, 0, 226, 181, 0, 236, 42, 180, 0, 236, 42, 180, 0, 217, 162, 0, 30, 42, 180, 0, 35, 42]
abbrev dktX5_next_0 : List UInt8 := dkwX5_next_0 ++ dktX5_next_1
theorem dksX5_next_0 : cX5_next.data.toList.drop 0 = dktX5_next_0 := by decide +kernel
theorem dksX5_next_1 : cX5_next.data.toList.drop 24 = dktX5_next_1 := dk_seg dksX5_next_0 24 rfl rfl
theorem dksX5_next_2 : cX5_next.data.toList.drop 48 = dktX5_next_2 := dk_seg dksX5_next_1 24 rfl rfl
theorem dksX5_next_3 : cX5_next.data.toList.drop 72 = dktX5_next_3 := dk_seg dksX5_next_2 24 rfl rfl
theorem dksX5_next_4 : cX5_next.data.toList.drop 95 = dktX5_next_4 := dk_seg dksX5_next_3 23 rfl rfl
theorem dksX5_next_5 : cX5_next.data.toList.drop 118 = dktX5_next_5 := dk_seg dksX5_next_4 23 rfl rfl
theorem dksX5_next_6 : cX5_next.data.toList.drop 141 = dktX5_next_6 := dk_seg dksX5_next_5 23 rfl rfl
theorem dksX5_next_7 : cX5_next.data.toList.drop 165 = dktX5_next_7 := dk_seg dksX5_next_6 24 rfl rfl
theorem dksX5_next_8 : cX5_next.data.toList.drop 189 = dktX5_next_8 := dk_seg dksX5_next_7 24 rfl rfl
theorem dksX5_next_9 : cX5_next.data.toList.drop 211 = dktX5_next_9 := dk_seg dksX5_next_8 22 rfl rfl
theorem dksX5_next_10 : cX5_next.data.toList.drop 235 = dktX5_next_10 := dk_seg dksX5_next_9 24 rfl rfl
theorem dksX5_next_11 : cX5_next.data.toList.drop 259 = dktX5_next_11 := dk_seg dksX5_next_10 24 rfl rfl
theorem dksX5_next_12 : cX5_next.data.toList.drop 282 = dktX5_next_12 := dk_seg dksX5_next_11 23 rfl rfl
theorem dksX5_next_13 : cX5_next.data.toList.drop 305 = dktX5_next_13 := dk_seg dksX5_next_12 23 rfl rfl
theorem dksX5_next_14 : cX5_next.data.toList.drop 329 = dktX5_next_14 := dk_seg dksX5_next_13 24 rfl rfl
theorem dX5_next_0 : decode cX5_next 0 = .ok (.aload_n 0, 1) := dk_42 (dk_at dksX5_next_0 0 rfl rfl)
theorem dX5_next_1 : decode cX5_next 1 = .ok (.aload_n 0, 1) := dk_42 (dk_at dksX5_next_0 1 rfl rfl)
theorem dX5_next_2 : decode cX5_next 2 = .ok (.getfield 226, 3) := dk_180 0 226 (dk_at dksX5_next_0 2 rfl rfl)
theorem dX5_next_5 : decode cX5_next 5 = .ok (.putfield 236, 3) := dk_181 0 236 (dk_at dksX5_next_0 5 rfl rfl)
theorem dX5_next_8 : decode cX5_next 8 = .ok (.aload_n 0, 1) := dk_42 (dk_at dksX5_next_0 8 rfl rfl)
theorem dX5_next_9 : decode cX5_next 9 = .ok (.getfield 236, 3) := dk_180 0 236 (dk_at dksX5_next_0 9 rfl rfl)
theorem dX5_next_12 : decode cX5_next 12 = .ok (.aload_n 0, 1) := dk_42 (dk_at dksX5_next_0 12 rfl rfl)
theorem dX5_next_13 : decode cX5_next 13 = .ok (.getfield 217, 3) := dk_180 0 217 (dk_at dksX5_next_0 13 rfl rfl)
theorem dX5_next_16 : decode cX5_next 16 = .ok (.if_icmp .ge 30, 3) := dk_162 0 30 (dk_at dksX5_next_0 16 rfl rfl)
theorem dX5_next_19 : decode cX5_next 19 = .ok (.aload_n 0, 1) := dk_42 (dk_at dksX5_next_0 19 rfl rfl)
theorem dX5_next_20 : decode cX5_next 20 = .ok (.getfield 35, 3) := dk_180 0 35 (dk_at dksX5_next_0 20 rfl rfl)
theorem dX5_next_23 : decode cX5_next 23 = .ok (.aload_n 0, 1) := dk_42 (dk_at dksX5_next_0 23 rfl rfl)
theorem dX5_next_24 : decode cX5_next 24 = .ok (.getfield 236, 3) := dk_180 0 236 (dk_at dksX5_next_1 0 rfl rfl)
theorem dX5_next_27 : decode cX5_next 27 = .ok (.iaload, 1) := dk_46 (dk_at dksX5_next_1 3 rfl rfl)
theorem dX5_next_28 : decode cX5_next 28 = .ok (.bipush 32, 2) := dk_16 32 (dk_at dksX5_next_1 4 rfl rfl)
theorem dX5_next_30 : decode cX5_next 30 = .ok (.if_icmp .ne 16, 3) := dk_160 0 16 (dk_at dksX5_next_1 6 rfl rfl)
theorem dX5_next_33 : decode cX5_next 33 = .ok (.aload_n 0, 1) := dk_42 (dk_at dksX5_next_1 9 rfl rfl)
theorem dX5_next_34 : decode cX5_next 34 = .ok (.dup, 1) := dk_89 (dk_at dksX5_next_1 10 rfl rfl)
theorem dX5_next_35 : decode cX5_next 35 = .ok (.getfield 236, 3) := dk_180 0 236 (dk_at dksX5_next_1 11 rfl rfl)
theorem dX5_next_38 : decode cX5_next 38 = .ok (.iconst 1, 1) := dk_4 (dk_at dksX5_next_1 14 rfl rfl)
theorem dX5_next_39 : decode cX5_next 39 = .ok (.iadd, 1) := dk_96 (dk_at dksX5_next_1 15 rfl rfl)
theorem dX5_next_40 : decode cX5_next 40 = .ok (.putfield 236, 3) := dk_181 0 236 (dk_at dksX5_next_1 16 rfl rfl)
theorem dX5_next_43 : decode cX5_next 43 = .ok (.goto (-35), 3) := dk_167 255 221 (dk_at dksX5_next_1 19 rfl rfl)
theorem dX5_next_46 : decode cX5_next 46 = .ok (.aload_n 0, 1) := dk_42 (dk_at dksX5_next_1 22 rfl rfl)
theorem dX5_next_47 : decode cX5_next 47 = .ok (.aload_n 0, 1) := dk_42 (dk_at dksX5_next_1 23 rfl rfl)
theorem dX5_next_48 : decode cX5_next 48 = .ok (.getfield 236, 3) := dk_180 0 236 (dk_at dksX5_next_2 0 rfl rfl)
theorem dX5_next_51 : decode cX5_next 51 = .ok (.putfield 226, 3) := dk_181 0 226 (dk_at dksX5_next_2 3 rfl rfl)
theorem dX5_next_54 : decode cX5_next 54 = .ok (.aload_n 0, 1) := dk_42 (dk_at dksX5_next_2 6 rfl rfl)
theorem dX5_next_55 : decode cX5_next 55 = .ok (.lconst 0, 1) := dk_9 (dk_at dksX5_next_2 7 rfl rfl)
theorem dX5_next_56 : decode cX5_next 56 = .ok (.putfield 239, 3) := dk_181 0 239 (dk_at dksX5_next_2 8 rfl rfl)
theorem dX5_next_59 : decode cX5_next 59 = .ok (.aload_n 0, 1) := dk_42 (dk_at dksX5_next_2 11 rfl rfl)
theorem dX5_next_60 : decode cX5_next 60 = .ok (.aload_n 0, 1) := dk_42 (dk_at dksX5_next_2 12 rfl rfl)
theorem dX5_next_61 : decode cX5_next 61 = .ok (.getfield 236, 3) := dk_180 0 236 (dk_at dksX5_next_2 13 rfl rfl)
theorem dX5_next_64 : decode cX5_next 64 = .ok (.aload_n 0, 1) := dk_42 (dk_at dksX5_next_2 16 rfl rfl)
theorem dX5_next_65 : decode cX5_next 65 = .ok (.getfield 217, 3) := dk_180 0 217 (dk_at dksX5_next_2 17 rfl rfl)
theorem dX5_next_68 : decode cX5_next 68 = .ok (.if_icmp .ne 7, 3) := dk_160 0 7 (dk_at dksX5_next_2 20 rfl rfl)
theorem dX5_next_71 : decode cX5_next 71 = .ok (.iconst 0, 1) := dk_3 (dk_at dksX5_next_2 23 rfl rfl)
theorem dX5_next_72 : decode cX5_next 72 = .ok (.goto 42, 3) := dk_167 0 42 (dk_at dksX5_next_3 0 rfl rfl)
theorem dX5_next_75 : decode cX5_next 75 = .ok (.aload_n 0, 1) := dk_42 (dk_at dksX5_next_3 3 rfl rfl)
theorem dX5_next_76 : decode cX5_next 76 = .ok (.getfield 35, 3) := dk_180 0 35 (dk_at dksX5_next_3 4 rfl rfl)
theorem dX5_next_79 : decode cX5_next 79 = .ok (.aload_n 0, 1) := dk_42 (dk_at dksX5_next_3 7 rfl rfl)
theorem dX5_next_80 : decode cX5_next 80 = .ok (.getfield 236, 3) := dk_180 0 236 (dk_at dksX5_next_3 8 rfl rfl)
theorem dX5_next_83 : decode cX5_next 83 = .ok (.iaload, 1) := dk_46 (dk_at dksX5_next_3 11 rfl rfl)
theorem dX5_next_84 : decode cX5_next 84 = .ok (.invokestatic 243, 3) := dk_184 0 243 (dk_at dksX5_next_3 12 rfl rfl)
theorem dX5_next_87 : decode cX5_next 87 = .ok (.ifCond .eq 7, 3) := dk_153 0 7 (dk_at dksX5_next_3 15 rfl rfl)
theorem dX5_next_90 : decode cX5_next 90 = .ok (.iconst 1, 1) := dk_4 (dk_at dksX5_next_3 18 rfl rfl)
theorem dX5_next_91 : decode cX5_next 91 = .ok (.goto 23, 3) := dk_167 0 23 (dk_at dksX5_next_3 19 rfl rfl)
theorem dX5_next_94 : decode cX5_next 94 = .ok (.aload_n 0, 1) := dk_42 (dk_at dksX5_next_3 22 rfl rfl)
theorem dX5_next_95 : decode cX5_next 95 = .ok (.getfield 35, 3) := dk_180 0 35 (dk_at dksX5_next_4 0 rfl rfl)
theorem dX5_next_98 : decode cX5_next 98 = .ok (.aload_n 0, 1) := dk_42 (dk_at dksX5_next_4 3 rfl rfl)
theorem dX5_next_99 : decode cX5_next 99 = .ok (.getfield 236, 3) := dk_180 0 236 (dk_at dksX5_next_4 4 rfl rfl)
theorem dX5_next_102 : decode cX5_next 102 = .ok (.iaload, 1) := dk_46 (dk_at dksX5_next_4 7 rfl rfl)
theorem dX5_next_103 : decode cX5_next 103 = .ok (.invokestatic 246, 3) := dk_184 0 246 (dk_at dksX5_next_4 8 rfl rfl)
theorem dX5_next_106 : decode cX5_next 106 = .ok (.ifCond .eq 7, 3) := dk_153 0 7 (dk_at dksX5_next_4 11 rfl rfl)
theorem dX5_next_109 : decode cX5_next 109 = .ok (.iconst 2, 1) := dk_5 (dk_at dksX5_next_4 14 rfl rfl)
theorem dX5_next_110 : decode cX5_next 110 = .ok (.goto 4, 3) := dk_167 0 4 (dk_at dksX5_next_4 15 rfl rfl)
theorem dX5_next_113 : decode cX5_next 113 = .ok (.iconst 3, 1) := dk_6 (dk_at dksX5_next_4 18 rfl rfl)
theorem dX5_next_114 : decode cX5_next 114 = .ok (.putfield 249, 3) := dk_181 0 249 (dk_at dksX5_next_4 19 rfl rfl)
theorem dX5_next_117 : decode cX5_next 117 = .ok (.aload_n 0, 1) := dk_42 (dk_at dksX5_next_4 22 rfl rfl)
theorem dX5_next_118 : decode cX5_next 118 = .ok (.getfield 249, 3) := dk_180 0 249 (dk_at dksX5_next_5 0 rfl rfl)
theorem dX5_next_121 : decode cX5_next 121 = .ok (.iconst 3, 1) := dk_6 (dk_at dksX5_next_5 3 rfl rfl)
theorem dX5_next_122 : decode cX5_next 122 = .ok (.if_icmp .ne 27, 3) := dk_160 0 27 (dk_at dksX5_next_5 4 rfl rfl)
theorem dX5_next_125 : decode cX5_next 125 = .ok (.aload_n 0, 1) := dk_42 (dk_at dksX5_next_5 7 rfl rfl)
theorem dX5_next_126 : decode cX5_next 126 = .ok (.aload_n 0, 1) := dk_42 (dk_at dksX5_next_5 8 rfl rfl)
theorem dX5_next_127 : decode cX5_next 127 = .ok (.getfield 35, 3) := dk_180 0 35 (dk_at dksX5_next_5 9 rfl rfl)
theorem dX5_next_130 : decode cX5_next 130 = .ok (.aload_n 0, 1) := dk_42 (dk_at dksX5_next_5 12 rfl rfl)
theorem dX5_next_131 : decode cX5_next 131 = .ok (.getfield 236, 3) := dk_180 0 236 (dk_at dksX5_next_5 13 rfl rfl)
theorem dX5_next_134 : decode cX5_next 134 = .ok (.iaload, 1) := dk_46 (dk_at dksX5_next_5 16 rfl rfl)
theorem dX5_next_135 : decode cX5_next 135 = .ok (.i2l, 1) := dk_133 (dk_at dksX5_next_5 17 rfl rfl)
theorem dX5_next_136 : decode cX5_next 136 = .ok (.putfield 239, 3) := dk_181 0 239 (dk_at dksX5_next_5 18 rfl rfl)
theorem dX5_next_139 : decode cX5_next 139 = .ok (.aload_n 0, 1) := dk_42 (dk_at dksX5_next_5 21 rfl rfl)
theorem dX5_next_140 : decode cX5_next 140 = .ok (.dup, 1) := dk_89 (dk_at dksX5_next_5 22 rfl rfl)
theorem dX5_next_141 : decode cX5_next 141 = .ok (.getfield 226, 3) := dk_180 0 226 (dk_at dksX5_next_6 0 rfl rfl)
theorem dX5_next_144 : decode cX5_next 144 = .ok (.iconst 1, 1) := dk_4 (dk_at dksX5_next_6 3 rfl rfl)
theorem dX5_next_145 : decode cX5_next 145 = .ok (.iadd, 1) := dk_96 (dk_at dksX5_next_6 4 rfl rfl)
theorem dX5_next_146 : decode cX5_next 146 = .ok (.putfield 226, 3) := dk_181 0 226 (dk_at dksX5_next_6 5 rfl rfl)
theorem dX5_next_149 : decode cX5_next 149 = .ok (.aload_n 0, 1) := dk_42 (dk_at dksX5_next_6 8 rfl rfl)
theorem dX5_next_150 : decode cX5_next 150 = .ok (.getfield 249, 3) := dk_180 0 249 (dk_at dksX5_next_6 9 rfl rfl)
theorem dX5_next_153 : decode cX5_next 153 = .ok (.iconst 1, 1) := dk_4 (dk_at dksX5_next_6 12 rfl rfl)
theorem dX5_next_154 : decode cX5_next 154 = .ok (.if_icmp .ne 89, 3) := dk_160 0 89 (dk_at dksX5_next_6 13 rfl rfl)
theorem dX5_next_157 : decode cX5_next 157 = .ok (.aload_n 0, 1) := dk_42 (dk_at dksX5_next_6 16 rfl rfl)
theorem dX5_next_158 : decode cX5_next 158 = .ok (.getfield 226, 3) := dk_180 0 226 (dk_at dksX5_next_6 17 rfl rfl)
theorem dX5_next_161 : decode cX5_next 161 = .ok (.aload_n 0, 1) := dk_42 (dk_at dksX5_next_6 20 rfl rfl)
theorem dX5_next_162 : decode cX5_next 162 = .ok (.getfield 217, 3) := dk_180 0 217 (dk_at dksX5_next_6 21 rfl rfl)
theorem dX5_next_165 : decode cX5_next 165 = .ok (.if_icmp .ge 78, 3) := dk_162 0 78 (dk_at dksX5_next_7 0 rfl rfl)
theorem dX5_next_168 : decode cX5_next 168 = .ok (.aload_n 0, 1) := dk_42 (dk_at dksX5_next_7 3 rfl rfl)
theorem dX5_next_169 : decode cX5_next 169 = .ok (.getfield 35, 3) := dk_180 0 35 (dk_at dksX5_next_7 4 rfl rfl)
theorem dX5_next_172 : decode cX5_next 172 = .ok (.aload_n 0, 1) := dk_42 (dk_at dksX5_next_7 7 rfl rfl)
theorem dX5_next_173 : decode cX5_next 173 = .ok (.getfield 226, 3) := dk_180 0 226 (dk_at dksX5_next_7 8 rfl rfl)
theorem dX5_next_176 : decode cX5_next 176 = .ok (.iaload, 1) := dk_46 (dk_at dksX5_next_7 11 rfl rfl)
theorem dX5_next_177 : decode cX5_next 177 = .ok (.invokestatic 243, 3) := dk_184 0 243 (dk_at dksX5_next_7 12 rfl rfl)
theorem dX5_next_180 : decode cX5_next 180 = .ok (.ifCond .eq 63, 3) := dk_153 0 63 (dk_at dksX5_next_7 15 rfl rfl)
theorem dX5_next_183 : decode cX5_next 183 = .ok (.aload_n 0, 1) := dk_42 (dk_at dksX5_next_7 18 rfl rfl)
theorem dX5_next_184 : decode cX5_next 184 = .ok (.aload_n 0, 1) := dk_42 (dk_at dksX5_next_7 19 rfl rfl)
theorem dX5_next_185 : decode cX5_next 185 = .ok (.getfield 226, 3) := dk_180 0 226 (dk_at dksX5_next_7 20 rfl rfl)
theorem dX5_next_188 : decode cX5_next 188 = .ok (.aload_n 0, 1) := dk_42 (dk_at dksX5_next_7 23 rfl rfl)
theorem dX5_next_189 : decode cX5_next 189 = .ok (.getfield 236, 3) := dk_180 0 236 (dk_at dksX5_next_8 0 rfl rfl)
theorem dX5_next_192 : decode cX5_next 192 = .ok (.isub, 1) := dk_100 (dk_at dksX5_next_8 3 rfl rfl)
theorem dX5_next_193 : decode cX5_next 193 = .ok (.bipush 10, 2) := dk_16 10 (dk_at dksX5_next_8 4 rfl rfl)
theorem dX5_next_195 : decode cX5_next 195 = .ok (.if_icmp .ge 29, 3) := dk_162 0 29 (dk_at dksX5_next_8 6 rfl rfl)
theorem dX5_next_198 : decode cX5_next 198 = .ok (.aload_n 0, 1) := dk_42 (dk_at dksX5_next_8 9 rfl rfl)
theorem dX5_next_199 : decode cX5_next 199 = .ok (.getfield 239, 3) := dk_180 0 239 (dk_at dksX5_next_8 10 rfl rfl)
theorem dX5_next_202 : decode cX5_next 202 = .ok (.ldc2_w 252, 3) := dk_20 0 252 (dk_at dksX5_next_8 13 rfl rfl)
theorem dX5_next_205 : decode cX5_next 205 = .ok (.lmul, 1) := dk_105 (dk_at dksX5_next_8 16 rfl rfl)
theorem dX5_next_206 : decode cX5_next 206 = .ok (.aload_n 0, 1) := dk_42 (dk_at dksX5_next_8 17 rfl rfl)
theorem dX5_next_207 : decode cX5_next 207 = .ok (.getfield 35, 3) := dk_180 0 35 (dk_at dksX5_next_8 18 rfl rfl)
theorem dX5_next_210 : decode cX5_next 210 = .ok (.aload_n 0, 1) := dk_42 (dk_at dksX5_next_8 21 rfl rfl)
theorem dX5_next_211 : decode cX5_next 211 = .ok (.getfield 226, 3) := dk_180 0 226 (dk_at dksX5_next_9 0 rfl rfl)
theorem dX5_next_214 : decode cX5_next 214 = .ok (.iaload, 1) := dk_46 (dk_at dksX5_next_9 3 rfl rfl)
theorem dX5_next_215 : decode cX5_next 215 = .ok (.i2l, 1) := dk_133 (dk_at dksX5_next_9 4 rfl rfl)
theorem dX5_next_216 : decode cX5_next 216 = .ok (.ladd, 1) := dk_97 (dk_at dksX5_next_9 5 rfl rfl)
theorem dX5_next_217 : decode cX5_next 217 = .ok (.ldc2_w 254, 3) := dk_20 0 254 (dk_at dksX5_next_9 6 rfl rfl)
theorem dX5_next_220 : decode cX5_next 220 = .ok (.lsub, 1) := dk_101 (dk_at dksX5_next_9 9 rfl rfl)
theorem dX5_next_221 : decode cX5_next 221 = .ok (.goto 6, 3) := dk_167 0 6 (dk_at dksX5_next_9 10 rfl rfl)
theorem dX5_next_224 : decode cX5_next 224 = .ok (.ldc2_w 206, 3) := dk_20 0 206 (dk_at dksX5_next_9 13 rfl rfl)
theorem dX5_next_227 : decode cX5_next 227 = .ok (.putfield 239, 3) := dk_181 0 239 (dk_at dksX5_next_9 16 rfl rfl)
theorem dX5_next_230 : decode cX5_next 230 = .ok (.aload_n 0, 1) := dk_42 (dk_at dksX5_next_9 19 rfl rfl)
theorem dX5_next_231 : decode cX5_next 231 = .ok (.dup, 1) := dk_89 (dk_at dksX5_next_9 20 rfl rfl)
theorem dX5_next_232 : decode cX5_next 232 = .ok (.getfield 226, 3) := dk_180 0 226 (dk_at dksX5_next_9 21 rfl rfl)
theorem dX5_next_235 : decode cX5_next 235 = .ok (.iconst 1, 1) := dk_4 (dk_at dksX5_next_10 0 rfl rfl)
theorem dX5_next_236 : decode cX5_next 236 = .ok (.iadd, 1) := dk_96 (dk_at dksX5_next_10 1 rfl rfl)
theorem dX5_next_237 : decode cX5_next 237 = .ok (.putfield 226, 3) := dk_181 0 226 (dk_at dksX5_next_10 2 rfl rfl)
theorem dX5_next_240 : decode cX5_next 240 = .ok (.goto (-91), 3) := dk_167 255 165 (dk_at dksX5_next_10 5 rfl rfl)
theorem dX5_next_243 : decode cX5_next 243 = .ok (.aload_n 0, 1) := dk_42 (dk_at dksX5_next_10 8 rfl rfl)
theorem dX5_next_244 : decode cX5_next 244 = .ok (.getfield 249, 3) := dk_180 0 249 (dk_at dksX5_next_10 9 rfl rfl)
theorem dX5_next_247 : decode cX5_next 247 = .ok (.iconst 2, 1) := dk_5 (dk_at dksX5_next_10 12 rfl rfl)
theorem dX5_next_248 : decode cX5_next 248 = .ok (.if_icmp .ne 87, 3) := dk_160 0 87 (dk_at dksX5_next_10 13 rfl rfl)
theorem dX5_next_251 : decode cX5_next 251 = .ok (.aload_n 0, 1) := dk_42 (dk_at dksX5_next_10 16 rfl rfl)
theorem dX5_next_252 : decode cX5_next 252 = .ok (.getfield 226, 3) := dk_180 0 226 (dk_at dksX5_next_10 17 rfl rfl)
theorem dX5_next_255 : decode cX5_next 255 = .ok (.aload_n 0, 1) := dk_42 (dk_at dksX5_next_10 20 rfl rfl)
theorem dX5_next_256 : decode cX5_next 256 = .ok (.getfield 217, 3) := dk_180 0 217 (dk_at dksX5_next_10 21 rfl rfl)
theorem dX5_next_259 : decode cX5_next 259 = .ok (.if_icmp .ge 76, 3) := dk_162 0 76 (dk_at dksX5_next_11 0 rfl rfl)
theorem dX5_next_262 : decode cX5_next 262 = .ok (.aload_n 0, 1) := dk_42 (dk_at dksX5_next_11 3 rfl rfl)
theorem dX5_next_263 : decode cX5_next 263 = .ok (.getfield 35, 3) := dk_180 0 35 (dk_at dksX5_next_11 4 rfl rfl)
theorem dX5_next_266 : decode cX5_next 266 = .ok (.aload_n 0, 1) := dk_42 (dk_at dksX5_next_11 7 rfl rfl)
theorem dX5_next_267 : decode cX5_next 267 = .ok (.getfield 226, 3) := dk_180 0 226 (dk_at dksX5_next_11 8 rfl rfl)
theorem dX5_next_270 : decode cX5_next 270 = .ok (.iaload, 1) := dk_46 (dk_at dksX5_next_11 11 rfl rfl)
theorem dX5_next_271 : decode cX5_next 271 = .ok (.invokestatic 246, 3) := dk_184 0 246 (dk_at dksX5_next_11 12 rfl rfl)
theorem dX5_next_274 : decode cX5_next 274 = .ok (.ifCond .eq 61, 3) := dk_153 0 61 (dk_at dksX5_next_11 15 rfl rfl)
theorem dX5_next_277 : decode cX5_next 277 = .ok (.aload_n 0, 1) := dk_42 (dk_at dksX5_next_11 18 rfl rfl)
theorem dX5_next_278 : decode cX5_next 278 = .ok (.aload_n 0, 1) := dk_42 (dk_at dksX5_next_11 19 rfl rfl)
theorem dX5_next_279 : decode cX5_next 279 = .ok (.getfield 239, 3) := dk_180 0 239 (dk_at dksX5_next_11 20 rfl rfl)
theorem dX5_next_282 : decode cX5_next 282 = .ok (.ldc2_w 256, 3) := dk_20 1 0 (dk_at dksX5_next_12 0 rfl rfl)
theorem dX5_next_285 : decode cX5_next 285 = .ok (.lcmp, 1) := dk_148 (dk_at dksX5_next_12 3 rfl rfl)
theorem dX5_next_286 : decode cX5_next 286 = .ok (.ifCond .le 10, 3) := dk_158 0 10 (dk_at dksX5_next_12 4 rfl rfl)
theorem dX5_next_289 : decode cX5_next 289 = .ok (.aload_n 0, 1) := dk_42 (dk_at dksX5_next_12 7 rfl rfl)
theorem dX5_next_290 : decode cX5_next 290 = .ok (.getfield 239, 3) := dk_180 0 239 (dk_at dksX5_next_12 8 rfl rfl)
theorem dX5_next_293 : decode cX5_next 293 = .ok (.goto 26, 3) := dk_167 0 26 (dk_at dksX5_next_12 11 rfl rfl)
theorem dX5_next_296 : decode cX5_next 296 = .ok (.aload_n 0, 1) := dk_42 (dk_at dksX5_next_12 14 rfl rfl)
theorem dX5_next_297 : decode cX5_next 297 = .ok (.getfield 239, 3) := dk_180 0 239 (dk_at dksX5_next_12 15 rfl rfl)
theorem dX5_next_300 : decode cX5_next 300 = .ok (.ldc2_w 210, 3) := dk_20 0 210 (dk_at dksX5_next_12 18 rfl rfl)
theorem dX5_next_303 : decode cX5_next 303 = .ok (.lmul, 1) := dk_105 (dk_at dksX5_next_12 21 rfl rfl)
theorem dX5_next_304 : decode cX5_next 304 = .ok (.aload_n 0, 1) := dk_42 (dk_at dksX5_next_12 22 rfl rfl)
theorem dX5_next_305 : decode cX5_next 305 = .ok (.getfield 35, 3) := dk_180 0 35 (dk_at dksX5_next_13 0 rfl rfl)
theorem dX5_next_308 : decode cX5_next 308 = .ok (.aload_n 0, 1) := dk_42 (dk_at dksX5_next_13 3 rfl rfl)
theorem dX5_next_309 : decode cX5_next 309 = .ok (.getfield 226, 3) := dk_180 0 226 (dk_at dksX5_next_13 4 rfl rfl)
theorem dX5_next_312 : decode cX5_next 312 = .ok (.iaload, 1) := dk_46 (dk_at dksX5_next_13 7 rfl rfl)
theorem dX5_next_313 : decode cX5_next 313 = .ok (.i2l, 1) := dk_133 (dk_at dksX5_next_13 8 rfl rfl)
theorem dX5_next_314 : decode cX5_next 314 = .ok (.ladd, 1) := dk_97 (dk_at dksX5_next_13 9 rfl rfl)
theorem dX5_next_315 : decode cX5_next 315 = .ok (.ldc2_w 258, 3) := dk_20 1 2 (dk_at dksX5_next_13 10 rfl rfl)
theorem dX5_next_318 : decode cX5_next 318 = .ok (.lsub, 1) := dk_101 (dk_at dksX5_next_13 13 rfl rfl)
theorem dX5_next_319 : decode cX5_next 319 = .ok (.putfield 239, 3) := dk_181 0 239 (dk_at dksX5_next_13 14 rfl rfl)
theorem dX5_next_322 : decode cX5_next 322 = .ok (.aload_n 0, 1) := dk_42 (dk_at dksX5_next_13 17 rfl rfl)
theorem dX5_next_323 : decode cX5_next 323 = .ok (.dup, 1) := dk_89 (dk_at dksX5_next_13 18 rfl rfl)
theorem dX5_next_324 : decode cX5_next 324 = .ok (.getfield 226, 3) := dk_180 0 226 (dk_at dksX5_next_13 19 rfl rfl)
theorem dX5_next_327 : decode cX5_next 327 = .ok (.iconst 1, 1) := dk_4 (dk_at dksX5_next_13 22 rfl rfl)
theorem dX5_next_328 : decode cX5_next 328 = .ok (.iadd, 1) := dk_96 (dk_at dksX5_next_13 23 rfl rfl)
theorem dX5_next_329 : decode cX5_next 329 = .ok (.putfield 226, 3) := dk_181 0 226 (dk_at dksX5_next_14 0 rfl rfl)
theorem dX5_next_332 : decode cX5_next 332 = .ok (.goto (-89), 3) := dk_167 255 167 (dk_at dksX5_next_14 3 rfl rfl)
theorem dX5_next_335 : decode cX5_next 335 = .ok (.return_, 1) := dk_177 (dk_at dksX5_next_14 6 rfl rfl)
abbrev cX5_isSmall : ByteArray := prog_23_method_33_code
def yX5_isSmall : MethodName := ⟨RX5, "isSmall", "(I)Z"⟩
def dkwX5_isSmall_0 : List UInt8 := [26, 16, 97, 161, 0, 13, 26, 16, 122, 163, 0, 7, 4, 167, 0, 4, 3, 172]
abbrev dktX5_isSmall_0 : List UInt8 := dkwX5_isSmall_0 ++ []
theorem dksX5_isSmall_0 : cX5_isSmall.data.toList.drop 0 = dktX5_isSmall_0 := by decide +kernel
theorem dX5_isSmall_0 : decode cX5_isSmall 0 = .ok (.iload_n 0, 1) := dk_26 (dk_at dksX5_isSmall_0 0 rfl rfl)
theorem dX5_isSmall_1 : decode cX5_isSmall 1 = .ok (.bipush 97, 2) := dk_16 97 (dk_at dksX5_isSmall_0 1 rfl rfl)
theorem dX5_isSmall_3 : decode cX5_isSmall 3 = .ok (.if_icmp .lt 13, 3) := dk_161 0 13 (dk_at dksX5_isSmall_0 3 rfl rfl)
theorem dX5_isSmall_6 : decode cX5_isSmall 6 = .ok (.iload_n 0, 1) := dk_26 (dk_at dksX5_isSmall_0 6 rfl rfl)
theorem dX5_isSmall_7 : decode cX5_isSmall 7 = .ok (.bipush 122, 2) := dk_16 122 (dk_at dksX5_isSmall_0 7 rfl rfl)
theorem dX5_isSmall_9 : decode cX5_isSmall 9 = .ok (.if_icmp .gt 7, 3) := dk_163 0 7 (dk_at dksX5_isSmall_0 9 rfl rfl)
theorem dX5_isSmall_12 : decode cX5_isSmall 12 = .ok (.iconst 1, 1) := dk_4 (dk_at dksX5_isSmall_0 12 rfl rfl)
theorem dX5_isSmall_13 : decode cX5_isSmall 13 = .ok (.goto 4, 3) := dk_167 0 4 (dk_at dksX5_isSmall_0 13 rfl rfl)
theorem dX5_isSmall_16 : decode cX5_isSmall 16 = .ok (.iconst 0, 1) := dk_3 (dk_at dksX5_isSmall_0 16 rfl rfl)
theorem dX5_isSmall_17 : decode cX5_isSmall 17 = .ok (.ireturn, 1) := dk_172 (dk_at dksX5_isSmall_0 17 rfl rfl)
abbrev cX5_isDigit : ByteArray := prog_23_method_34_code
def yX5_isDigit : MethodName := ⟨RX5, "isDigit", "(I)Z"⟩
def dkwX5_isDigit_0 : List UInt8 := [26, 16, 48, 161, 0, 13, 26, 16, 57, 163, 0, 7, 4, 167, 0, 4, 3, 172]
abbrev dktX5_isDigit_0 : List UInt8 := dkwX5_isDigit_0 ++ []
theorem dksX5_isDigit_0 : cX5_isDigit.data.toList.drop 0 = dktX5_isDigit_0 := by decide +kernel
theorem dX5_isDigit_0 : decode cX5_isDigit 0 = .ok (.iload_n 0, 1) := dk_26 (dk_at dksX5_isDigit_0 0 rfl rfl)
theorem dX5_isDigit_1 : decode cX5_isDigit 1 = .ok (.bipush 48, 2) := dk_16 48 (dk_at dksX5_isDigit_0 1 rfl rfl)
theorem dX5_isDigit_3 : decode cX5_isDigit 3 = .ok (.if_icmp .lt 13, 3) := dk_161 0 13 (dk_at dksX5_isDigit_0 3 rfl rfl)
theorem dX5_isDigit_6 : decode cX5_isDigit 6 = .ok (.iload_n 0, 1) := dk_26 (dk_at dksX5_isDigit_0 6 rfl rfl)
theorem dX5_isDigit_7 : decode cX5_isDigit 7 = .ok (.bipush 57, 2) := dk_16 57 (dk_at dksX5_isDigit_0 7 rfl rfl)
theorem dX5_isDigit_9 : decode cX5_isDigit 9 = .ok (.if_icmp .gt 7, 3) := dk_163 0 7 (dk_at dksX5_isDigit_0 9 rfl rfl)
theorem dX5_isDigit_12 : decode cX5_isDigit 12 = .ok (.iconst 1, 1) := dk_4 (dk_at dksX5_isDigit_0 12 rfl rfl)
theorem dX5_isDigit_13 : decode cX5_isDigit 13 = .ok (.goto 4, 3) := dk_167 0 4 (dk_at dksX5_isDigit_0 13 rfl rfl)
theorem dX5_isDigit_16 : decode cX5_isDigit 16 = .ok (.iconst 0, 1) := dk_3 (dk_at dksX5_isDigit_0 16 rfl rfl)
theorem dX5_isDigit_17 : decode cX5_isDigit 17 = .ok (.ireturn, 1) := dk_172 (dk_at dksX5_isDigit_0 17 rfl rfl)
abbrev cX5_readLaw : ByteArray := prog_23_method_59_code
def yX5_readLaw : MethodName := ⟨RX5, "readLaw", "()V"⟩
def dkwX5_readLaw_8 : List UInt8 := [182, 1, 101, 42, 180, 0, 42, 28, 16, 6, 96, 42, 180, 1, 8, 79, 177]
abbrev dktX5_readLaw_8 : List UInt8 := dkwX5_readLaw_8 ++ []
def dkwX5_readLaw_7 : List UInt8 := [180, 0, 229, 154, 0, 22, 42, 20, 1, 104, 182, 1, 27, 153, 0, 12, 42, 182, 0, 233, 42, 4]
abbrev dktX5_readLaw_7 : List UInt8 := dkwX5_readLaw_7 ++ dktX5_readLaw_8
def dkwX5_readLaw_6 : List UInt8 := [180, 0, 42, 28, 7, 96, 42, 180, 1, 8, 79, 42, 180, 0, 42, 28, 8, 96, 42, 180, 1, 8, 79, 42]
abbrev dktX5_readLaw_6 : List UInt8 := dkwX5_readLaw_6 ++ dktX5_readLaw_7
def dkwX5_readLaw_5 : List UInt8 := [180, 0, 42, 28, 6, 96, 42, 180, 1, 8, 79, 27, 5, 159, 0, 8, 42, 3, 182, 1, 101, 42]
abbrev dktX5_readLaw_5 : List UInt8 := dkwX5_readLaw_5 ++ dktX5_readLaw_6
def dkwX5_readLaw_4 : List UInt8 := [132, 3, 1, 167, 255, 238, 42, 180, 0, 42, 28, 27, 79, 42, 89, 180, 1, 98, 4, 96, 181, 1, 98, 42]
abbrev dktX5_readLaw_4 : List UInt8 := dkwX5_readLaw_4 ++ dktX5_readLaw_5
def dkwX5_readLaw_3 : List UInt8 := [180, 1, 98, 104, 61, 3, 62, 29, 16, 8, 162, 0, 18, 42, 180, 0, 42, 28, 29, 96, 3, 79]
abbrev dktX5_readLaw_3 : List UInt8 := dkwX5_readLaw_3 ++ dktX5_readLaw_4
def dkwX5_readLaw_2 : List UInt8 := [162, 0, 7, 4, 167, 0, 4, 3, 182, 1, 4, 42, 180, 0, 229, 153, 0, 4, 177, 16, 8, 42]
abbrev dktX5_readLaw_2 : List UInt8 := dkwX5_readLaw_2 ++ dktX5_readLaw_3
def dkwX5_readLaw_1 : List UInt8 := [167, 0, 4, 27, 60, 132, 2, 1, 167, 255, 229, 42, 27, 2, 159, 0, 16, 42, 180, 1, 98, 16, 12]
abbrev dktX5_readLaw_1 : List UInt8 := dkwX5_readLaw_1 ++ dktX5_readLaw_2
def dkwX5_readLaw_0 : List UInt8 := [2, 60, 3, 61, 28, 6, 162, 0, 28, 42, 42, 180, 0, 92, 28, 47, 182, 1, 27, 153, 0, 7, 28]
abbrev dktX5_readLaw_0 : List UInt8 := dkwX5_readLaw_0 ++ dktX5_readLaw_1
theorem dksX5_readLaw_0 : cX5_readLaw.data.toList.drop 0 = dktX5_readLaw_0 := by decide +kernel
theorem dksX5_readLaw_1 : cX5_readLaw.data.toList.drop 23 = dktX5_readLaw_1 := dk_seg dksX5_readLaw_0 23 rfl rfl
theorem dksX5_readLaw_2 : cX5_readLaw.data.toList.drop 46 = dktX5_readLaw_2 := dk_seg dksX5_readLaw_1 23 rfl rfl
theorem dksX5_readLaw_3 : cX5_readLaw.data.toList.drop 68 = dktX5_readLaw_3 := dk_seg dksX5_readLaw_2 22 rfl rfl
theorem dksX5_readLaw_4 : cX5_readLaw.data.toList.drop 90 = dktX5_readLaw_4 := dk_seg dksX5_readLaw_3 22 rfl rfl
theorem dksX5_readLaw_5 : cX5_readLaw.data.toList.drop 114 = dktX5_readLaw_5 := dk_seg dksX5_readLaw_4 24 rfl rfl
theorem dksX5_readLaw_6 : cX5_readLaw.data.toList.drop 136 = dktX5_readLaw_6 := dk_seg dksX5_readLaw_5 22 rfl rfl
theorem dksX5_readLaw_7 : cX5_readLaw.data.toList.drop 160 = dktX5_readLaw_7 := dk_seg dksX5_readLaw_6 24 rfl rfl
theorem dksX5_readLaw_8 : cX5_readLaw.data.toList.drop 182 = dktX5_readLaw_8 := dk_seg dksX5_readLaw_7 22 rfl rfl
theorem dX5_readLaw_0 : decode cX5_readLaw 0 = .ok (.iconst (-1), 1) := dk_2 (dk_at dksX5_readLaw_0 0 rfl rfl)
theorem dX5_readLaw_1 : decode cX5_readLaw 1 = .ok (.istore_n 1, 1) := dk_60 (dk_at dksX5_readLaw_0 1 rfl rfl)
theorem dX5_readLaw_2 : decode cX5_readLaw 2 = .ok (.iconst 0, 1) := dk_3 (dk_at dksX5_readLaw_0 2 rfl rfl)
theorem dX5_readLaw_3 : decode cX5_readLaw 3 = .ok (.istore_n 2, 1) := dk_61 (dk_at dksX5_readLaw_0 3 rfl rfl)
theorem dX5_readLaw_4 : decode cX5_readLaw 4 = .ok (.iload_n 2, 1) := dk_28 (dk_at dksX5_readLaw_0 4 rfl rfl)
theorem dX5_readLaw_5 : decode cX5_readLaw 5 = .ok (.iconst 3, 1) := dk_6 (dk_at dksX5_readLaw_0 5 rfl rfl)
theorem dX5_readLaw_6 : decode cX5_readLaw 6 = .ok (.if_icmp .ge 28, 3) := dk_162 0 28 (dk_at dksX5_readLaw_0 6 rfl rfl)
theorem dX5_readLaw_9 : decode cX5_readLaw 9 = .ok (.aload_n 0, 1) := dk_42 (dk_at dksX5_readLaw_0 9 rfl rfl)
theorem dX5_readLaw_10 : decode cX5_readLaw 10 = .ok (.aload_n 0, 1) := dk_42 (dk_at dksX5_readLaw_0 10 rfl rfl)
theorem dX5_readLaw_11 : decode cX5_readLaw 11 = .ok (.getfield 92, 3) := dk_180 0 92 (dk_at dksX5_readLaw_0 11 rfl rfl)
theorem dX5_readLaw_14 : decode cX5_readLaw 14 = .ok (.iload_n 2, 1) := dk_28 (dk_at dksX5_readLaw_0 14 rfl rfl)
theorem dX5_readLaw_15 : decode cX5_readLaw 15 = .ok (.laload, 1) := dk_47 (dk_at dksX5_readLaw_0 15 rfl rfl)
theorem dX5_readLaw_16 : decode cX5_readLaw 16 = .ok (.invokevirtual 283, 3) := dk_182 1 27 (dk_at dksX5_readLaw_0 16 rfl rfl)
theorem dX5_readLaw_19 : decode cX5_readLaw 19 = .ok (.ifCond .eq 7, 3) := dk_153 0 7 (dk_at dksX5_readLaw_0 19 rfl rfl)
theorem dX5_readLaw_22 : decode cX5_readLaw 22 = .ok (.iload_n 2, 1) := dk_28 (dk_at dksX5_readLaw_0 22 rfl rfl)
theorem dX5_readLaw_23 : decode cX5_readLaw 23 = .ok (.goto 4, 3) := dk_167 0 4 (dk_at dksX5_readLaw_1 0 rfl rfl)
theorem dX5_readLaw_26 : decode cX5_readLaw 26 = .ok (.iload_n 1, 1) := dk_27 (dk_at dksX5_readLaw_1 3 rfl rfl)
theorem dX5_readLaw_27 : decode cX5_readLaw 27 = .ok (.istore_n 1, 1) := dk_60 (dk_at dksX5_readLaw_1 4 rfl rfl)
theorem dX5_readLaw_28 : decode cX5_readLaw 28 = .ok (.iinc 2 1, 3) := dk_132 2 1 (dk_at dksX5_readLaw_1 5 rfl rfl)
theorem dX5_readLaw_31 : decode cX5_readLaw 31 = .ok (.goto (-27), 3) := dk_167 255 229 (dk_at dksX5_readLaw_1 8 rfl rfl)
theorem dX5_readLaw_34 : decode cX5_readLaw 34 = .ok (.aload_n 0, 1) := dk_42 (dk_at dksX5_readLaw_1 11 rfl rfl)
theorem dX5_readLaw_35 : decode cX5_readLaw 35 = .ok (.iload_n 1, 1) := dk_27 (dk_at dksX5_readLaw_1 12 rfl rfl)
theorem dX5_readLaw_36 : decode cX5_readLaw 36 = .ok (.iconst (-1), 1) := dk_2 (dk_at dksX5_readLaw_1 13 rfl rfl)
theorem dX5_readLaw_37 : decode cX5_readLaw 37 = .ok (.if_icmp .eq 16, 3) := dk_159 0 16 (dk_at dksX5_readLaw_1 14 rfl rfl)
theorem dX5_readLaw_40 : decode cX5_readLaw 40 = .ok (.aload_n 0, 1) := dk_42 (dk_at dksX5_readLaw_1 17 rfl rfl)
theorem dX5_readLaw_41 : decode cX5_readLaw 41 = .ok (.getfield 354, 3) := dk_180 1 98 (dk_at dksX5_readLaw_1 18 rfl rfl)
theorem dX5_readLaw_44 : decode cX5_readLaw 44 = .ok (.bipush 12, 2) := dk_16 12 (dk_at dksX5_readLaw_1 21 rfl rfl)
theorem dX5_readLaw_46 : decode cX5_readLaw 46 = .ok (.if_icmp .ge 7, 3) := dk_162 0 7 (dk_at dksX5_readLaw_2 0 rfl rfl)
theorem dX5_readLaw_49 : decode cX5_readLaw 49 = .ok (.iconst 1, 1) := dk_4 (dk_at dksX5_readLaw_2 3 rfl rfl)
theorem dX5_readLaw_50 : decode cX5_readLaw 50 = .ok (.goto 4, 3) := dk_167 0 4 (dk_at dksX5_readLaw_2 4 rfl rfl)
theorem dX5_readLaw_53 : decode cX5_readLaw 53 = .ok (.iconst 0, 1) := dk_3 (dk_at dksX5_readLaw_2 7 rfl rfl)
theorem dX5_readLaw_54 : decode cX5_readLaw 54 = .ok (.invokevirtual 260, 3) := dk_182 1 4 (dk_at dksX5_readLaw_2 8 rfl rfl)
theorem dX5_readLaw_57 : decode cX5_readLaw 57 = .ok (.aload_n 0, 1) := dk_42 (dk_at dksX5_readLaw_2 11 rfl rfl)
theorem dX5_readLaw_58 : decode cX5_readLaw 58 = .ok (.getfield 229, 3) := dk_180 0 229 (dk_at dksX5_readLaw_2 12 rfl rfl)
theorem dX5_readLaw_61 : decode cX5_readLaw 61 = .ok (.ifCond .eq 4, 3) := dk_153 0 4 (dk_at dksX5_readLaw_2 15 rfl rfl)
theorem dX5_readLaw_64 : decode cX5_readLaw 64 = .ok (.return_, 1) := dk_177 (dk_at dksX5_readLaw_2 18 rfl rfl)
theorem dX5_readLaw_65 : decode cX5_readLaw 65 = .ok (.bipush 8, 2) := dk_16 8 (dk_at dksX5_readLaw_2 19 rfl rfl)
theorem dX5_readLaw_67 : decode cX5_readLaw 67 = .ok (.aload_n 0, 1) := dk_42 (dk_at dksX5_readLaw_2 21 rfl rfl)
theorem dX5_readLaw_68 : decode cX5_readLaw 68 = .ok (.getfield 354, 3) := dk_180 1 98 (dk_at dksX5_readLaw_3 0 rfl rfl)
theorem dX5_readLaw_71 : decode cX5_readLaw 71 = .ok (.imul, 1) := dk_104 (dk_at dksX5_readLaw_3 3 rfl rfl)
theorem dX5_readLaw_72 : decode cX5_readLaw 72 = .ok (.istore_n 2, 1) := dk_61 (dk_at dksX5_readLaw_3 4 rfl rfl)
theorem dX5_readLaw_73 : decode cX5_readLaw 73 = .ok (.iconst 0, 1) := dk_3 (dk_at dksX5_readLaw_3 5 rfl rfl)
theorem dX5_readLaw_74 : decode cX5_readLaw 74 = .ok (.istore_n 3, 1) := dk_62 (dk_at dksX5_readLaw_3 6 rfl rfl)
theorem dX5_readLaw_75 : decode cX5_readLaw 75 = .ok (.iload_n 3, 1) := dk_29 (dk_at dksX5_readLaw_3 7 rfl rfl)
theorem dX5_readLaw_76 : decode cX5_readLaw 76 = .ok (.bipush 8, 2) := dk_16 8 (dk_at dksX5_readLaw_3 8 rfl rfl)
theorem dX5_readLaw_78 : decode cX5_readLaw 78 = .ok (.if_icmp .ge 18, 3) := dk_162 0 18 (dk_at dksX5_readLaw_3 10 rfl rfl)
theorem dX5_readLaw_81 : decode cX5_readLaw 81 = .ok (.aload_n 0, 1) := dk_42 (dk_at dksX5_readLaw_3 13 rfl rfl)
theorem dX5_readLaw_82 : decode cX5_readLaw 82 = .ok (.getfield 42, 3) := dk_180 0 42 (dk_at dksX5_readLaw_3 14 rfl rfl)
theorem dX5_readLaw_85 : decode cX5_readLaw 85 = .ok (.iload_n 2, 1) := dk_28 (dk_at dksX5_readLaw_3 17 rfl rfl)
theorem dX5_readLaw_86 : decode cX5_readLaw 86 = .ok (.iload_n 3, 1) := dk_29 (dk_at dksX5_readLaw_3 18 rfl rfl)
theorem dX5_readLaw_87 : decode cX5_readLaw 87 = .ok (.iadd, 1) := dk_96 (dk_at dksX5_readLaw_3 19 rfl rfl)
theorem dX5_readLaw_88 : decode cX5_readLaw 88 = .ok (.iconst 0, 1) := dk_3 (dk_at dksX5_readLaw_3 20 rfl rfl)
theorem dX5_readLaw_89 : decode cX5_readLaw 89 = .ok (.iastore, 1) := dk_79 (dk_at dksX5_readLaw_3 21 rfl rfl)
theorem dX5_readLaw_90 : decode cX5_readLaw 90 = .ok (.iinc 3 1, 3) := dk_132 3 1 (dk_at dksX5_readLaw_4 0 rfl rfl)
theorem dX5_readLaw_93 : decode cX5_readLaw 93 = .ok (.goto (-18), 3) := dk_167 255 238 (dk_at dksX5_readLaw_4 3 rfl rfl)
theorem dX5_readLaw_96 : decode cX5_readLaw 96 = .ok (.aload_n 0, 1) := dk_42 (dk_at dksX5_readLaw_4 6 rfl rfl)
theorem dX5_readLaw_97 : decode cX5_readLaw 97 = .ok (.getfield 42, 3) := dk_180 0 42 (dk_at dksX5_readLaw_4 7 rfl rfl)
theorem dX5_readLaw_100 : decode cX5_readLaw 100 = .ok (.iload_n 2, 1) := dk_28 (dk_at dksX5_readLaw_4 10 rfl rfl)
theorem dX5_readLaw_101 : decode cX5_readLaw 101 = .ok (.iload_n 1, 1) := dk_27 (dk_at dksX5_readLaw_4 11 rfl rfl)
theorem dX5_readLaw_102 : decode cX5_readLaw 102 = .ok (.iastore, 1) := dk_79 (dk_at dksX5_readLaw_4 12 rfl rfl)
theorem dX5_readLaw_103 : decode cX5_readLaw 103 = .ok (.aload_n 0, 1) := dk_42 (dk_at dksX5_readLaw_4 13 rfl rfl)
theorem dX5_readLaw_104 : decode cX5_readLaw 104 = .ok (.dup, 1) := dk_89 (dk_at dksX5_readLaw_4 14 rfl rfl)
theorem dX5_readLaw_105 : decode cX5_readLaw 105 = .ok (.getfield 354, 3) := dk_180 1 98 (dk_at dksX5_readLaw_4 15 rfl rfl)
theorem dX5_readLaw_108 : decode cX5_readLaw 108 = .ok (.iconst 1, 1) := dk_4 (dk_at dksX5_readLaw_4 18 rfl rfl)
theorem dX5_readLaw_109 : decode cX5_readLaw 109 = .ok (.iadd, 1) := dk_96 (dk_at dksX5_readLaw_4 19 rfl rfl)
theorem dX5_readLaw_110 : decode cX5_readLaw 110 = .ok (.putfield 354, 3) := dk_181 1 98 (dk_at dksX5_readLaw_4 20 rfl rfl)
theorem dX5_readLaw_113 : decode cX5_readLaw 113 = .ok (.aload_n 0, 1) := dk_42 (dk_at dksX5_readLaw_4 23 rfl rfl)
theorem dX5_readLaw_114 : decode cX5_readLaw 114 = .ok (.getfield 42, 3) := dk_180 0 42 (dk_at dksX5_readLaw_5 0 rfl rfl)
theorem dX5_readLaw_117 : decode cX5_readLaw 117 = .ok (.iload_n 2, 1) := dk_28 (dk_at dksX5_readLaw_5 3 rfl rfl)
theorem dX5_readLaw_118 : decode cX5_readLaw 118 = .ok (.iconst 3, 1) := dk_6 (dk_at dksX5_readLaw_5 4 rfl rfl)
theorem dX5_readLaw_119 : decode cX5_readLaw 119 = .ok (.iadd, 1) := dk_96 (dk_at dksX5_readLaw_5 5 rfl rfl)
theorem dX5_readLaw_120 : decode cX5_readLaw 120 = .ok (.aload_n 0, 1) := dk_42 (dk_at dksX5_readLaw_5 6 rfl rfl)
theorem dX5_readLaw_121 : decode cX5_readLaw 121 = .ok (.getfield 264, 3) := dk_180 1 8 (dk_at dksX5_readLaw_5 7 rfl rfl)
theorem dX5_readLaw_124 : decode cX5_readLaw 124 = .ok (.iastore, 1) := dk_79 (dk_at dksX5_readLaw_5 10 rfl rfl)
theorem dX5_readLaw_125 : decode cX5_readLaw 125 = .ok (.iload_n 1, 1) := dk_27 (dk_at dksX5_readLaw_5 11 rfl rfl)
theorem dX5_readLaw_126 : decode cX5_readLaw 126 = .ok (.iconst 2, 1) := dk_5 (dk_at dksX5_readLaw_5 12 rfl rfl)
theorem dX5_readLaw_127 : decode cX5_readLaw 127 = .ok (.if_icmp .eq 8, 3) := dk_159 0 8 (dk_at dksX5_readLaw_5 13 rfl rfl)
theorem dX5_readLaw_130 : decode cX5_readLaw 130 = .ok (.aload_n 0, 1) := dk_42 (dk_at dksX5_readLaw_5 16 rfl rfl)
theorem dX5_readLaw_131 : decode cX5_readLaw 131 = .ok (.iconst 0, 1) := dk_3 (dk_at dksX5_readLaw_5 17 rfl rfl)
theorem dX5_readLaw_132 : decode cX5_readLaw 132 = .ok (.invokevirtual 357, 3) := dk_182 1 101 (dk_at dksX5_readLaw_5 18 rfl rfl)
theorem dX5_readLaw_135 : decode cX5_readLaw 135 = .ok (.aload_n 0, 1) := dk_42 (dk_at dksX5_readLaw_5 21 rfl rfl)
theorem dX5_readLaw_136 : decode cX5_readLaw 136 = .ok (.getfield 42, 3) := dk_180 0 42 (dk_at dksX5_readLaw_6 0 rfl rfl)
theorem dX5_readLaw_139 : decode cX5_readLaw 139 = .ok (.iload_n 2, 1) := dk_28 (dk_at dksX5_readLaw_6 3 rfl rfl)
theorem dX5_readLaw_140 : decode cX5_readLaw 140 = .ok (.iconst 4, 1) := dk_7 (dk_at dksX5_readLaw_6 4 rfl rfl)
theorem dX5_readLaw_141 : decode cX5_readLaw 141 = .ok (.iadd, 1) := dk_96 (dk_at dksX5_readLaw_6 5 rfl rfl)
theorem dX5_readLaw_142 : decode cX5_readLaw 142 = .ok (.aload_n 0, 1) := dk_42 (dk_at dksX5_readLaw_6 6 rfl rfl)
theorem dX5_readLaw_143 : decode cX5_readLaw 143 = .ok (.getfield 264, 3) := dk_180 1 8 (dk_at dksX5_readLaw_6 7 rfl rfl)
theorem dX5_readLaw_146 : decode cX5_readLaw 146 = .ok (.iastore, 1) := dk_79 (dk_at dksX5_readLaw_6 10 rfl rfl)
theorem dX5_readLaw_147 : decode cX5_readLaw 147 = .ok (.aload_n 0, 1) := dk_42 (dk_at dksX5_readLaw_6 11 rfl rfl)
theorem dX5_readLaw_148 : decode cX5_readLaw 148 = .ok (.getfield 42, 3) := dk_180 0 42 (dk_at dksX5_readLaw_6 12 rfl rfl)
theorem dX5_readLaw_151 : decode cX5_readLaw 151 = .ok (.iload_n 2, 1) := dk_28 (dk_at dksX5_readLaw_6 15 rfl rfl)
theorem dX5_readLaw_152 : decode cX5_readLaw 152 = .ok (.iconst 5, 1) := dk_8 (dk_at dksX5_readLaw_6 16 rfl rfl)
theorem dX5_readLaw_153 : decode cX5_readLaw 153 = .ok (.iadd, 1) := dk_96 (dk_at dksX5_readLaw_6 17 rfl rfl)
theorem dX5_readLaw_154 : decode cX5_readLaw 154 = .ok (.aload_n 0, 1) := dk_42 (dk_at dksX5_readLaw_6 18 rfl rfl)
theorem dX5_readLaw_155 : decode cX5_readLaw 155 = .ok (.getfield 264, 3) := dk_180 1 8 (dk_at dksX5_readLaw_6 19 rfl rfl)
theorem dX5_readLaw_158 : decode cX5_readLaw 158 = .ok (.iastore, 1) := dk_79 (dk_at dksX5_readLaw_6 22 rfl rfl)
theorem dX5_readLaw_159 : decode cX5_readLaw 159 = .ok (.aload_n 0, 1) := dk_42 (dk_at dksX5_readLaw_6 23 rfl rfl)
theorem dX5_readLaw_160 : decode cX5_readLaw 160 = .ok (.getfield 229, 3) := dk_180 0 229 (dk_at dksX5_readLaw_7 0 rfl rfl)
theorem dX5_readLaw_163 : decode cX5_readLaw 163 = .ok (.ifCond .ne 22, 3) := dk_154 0 22 (dk_at dksX5_readLaw_7 3 rfl rfl)
theorem dX5_readLaw_166 : decode cX5_readLaw 166 = .ok (.aload_n 0, 1) := dk_42 (dk_at dksX5_readLaw_7 6 rfl rfl)
theorem dX5_readLaw_167 : decode cX5_readLaw 167 = .ok (.ldc2_w 360, 3) := dk_20 1 104 (dk_at dksX5_readLaw_7 7 rfl rfl)
theorem dX5_readLaw_170 : decode cX5_readLaw 170 = .ok (.invokevirtual 283, 3) := dk_182 1 27 (dk_at dksX5_readLaw_7 10 rfl rfl)
theorem dX5_readLaw_173 : decode cX5_readLaw 173 = .ok (.ifCond .eq 12, 3) := dk_153 0 12 (dk_at dksX5_readLaw_7 13 rfl rfl)
theorem dX5_readLaw_176 : decode cX5_readLaw 176 = .ok (.aload_n 0, 1) := dk_42 (dk_at dksX5_readLaw_7 16 rfl rfl)
theorem dX5_readLaw_177 : decode cX5_readLaw 177 = .ok (.invokevirtual 233, 3) := dk_182 0 233 (dk_at dksX5_readLaw_7 17 rfl rfl)
theorem dX5_readLaw_180 : decode cX5_readLaw 180 = .ok (.aload_n 0, 1) := dk_42 (dk_at dksX5_readLaw_7 20 rfl rfl)
theorem dX5_readLaw_181 : decode cX5_readLaw 181 = .ok (.iconst 1, 1) := dk_4 (dk_at dksX5_readLaw_7 21 rfl rfl)
theorem dX5_readLaw_182 : decode cX5_readLaw 182 = .ok (.invokevirtual 357, 3) := dk_182 1 101 (dk_at dksX5_readLaw_8 0 rfl rfl)
theorem dX5_readLaw_185 : decode cX5_readLaw 185 = .ok (.aload_n 0, 1) := dk_42 (dk_at dksX5_readLaw_8 3 rfl rfl)
theorem dX5_readLaw_186 : decode cX5_readLaw 186 = .ok (.getfield 42, 3) := dk_180 0 42 (dk_at dksX5_readLaw_8 4 rfl rfl)
theorem dX5_readLaw_189 : decode cX5_readLaw 189 = .ok (.iload_n 2, 1) := dk_28 (dk_at dksX5_readLaw_8 7 rfl rfl)
theorem dX5_readLaw_190 : decode cX5_readLaw 190 = .ok (.bipush 6, 2) := dk_16 6 (dk_at dksX5_readLaw_8 8 rfl rfl)
theorem dX5_readLaw_192 : decode cX5_readLaw 192 = .ok (.iadd, 1) := dk_96 (dk_at dksX5_readLaw_8 10 rfl rfl)
theorem dX5_readLaw_193 : decode cX5_readLaw 193 = .ok (.aload_n 0, 1) := dk_42 (dk_at dksX5_readLaw_8 11 rfl rfl)
theorem dX5_readLaw_194 : decode cX5_readLaw 194 = .ok (.getfield 264, 3) := dk_180 1 8 (dk_at dksX5_readLaw_8 12 rfl rfl)
theorem dX5_readLaw_197 : decode cX5_readLaw 197 = .ok (.iastore, 1) := dk_79 (dk_at dksX5_readLaw_8 15 rfl rfl)
theorem dX5_readLaw_198 : decode cX5_readLaw 198 = .ok (.return_, 1) := dk_177 (dk_at dksX5_readLaw_8 16 rfl rfl)
abbrev cX5_isWord : ByteArray := prog_23_method_37_code
def yX5_isWord : MethodName := ⟨RX5, "isWord", "(J)Z"⟩
def dkwX5_isWord_0 : List UInt8 := [42, 180, 0, 249, 4, 160, 0, 16, 42, 180, 0, 239, 31, 148, 154, 0, 7, 4, 167, 0, 4, 3, 172]
abbrev dktX5_isWord_0 : List UInt8 := dkwX5_isWord_0 ++ []
theorem dksX5_isWord_0 : cX5_isWord.data.toList.drop 0 = dktX5_isWord_0 := by decide +kernel
theorem dX5_isWord_0 : decode cX5_isWord 0 = .ok (.aload_n 0, 1) := dk_42 (dk_at dksX5_isWord_0 0 rfl rfl)
theorem dX5_isWord_1 : decode cX5_isWord 1 = .ok (.getfield 249, 3) := dk_180 0 249 (dk_at dksX5_isWord_0 1 rfl rfl)
theorem dX5_isWord_4 : decode cX5_isWord 4 = .ok (.iconst 1, 1) := dk_4 (dk_at dksX5_isWord_0 4 rfl rfl)
theorem dX5_isWord_5 : decode cX5_isWord 5 = .ok (.if_icmp .ne 16, 3) := dk_160 0 16 (dk_at dksX5_isWord_0 5 rfl rfl)
theorem dX5_isWord_8 : decode cX5_isWord 8 = .ok (.aload_n 0, 1) := dk_42 (dk_at dksX5_isWord_0 8 rfl rfl)
theorem dX5_isWord_9 : decode cX5_isWord 9 = .ok (.getfield 239, 3) := dk_180 0 239 (dk_at dksX5_isWord_0 9 rfl rfl)
theorem dX5_isWord_12 : decode cX5_isWord 12 = .ok (.lload_n 1, 1) := dk_31 (dk_at dksX5_isWord_0 12 rfl rfl)
theorem dX5_isWord_13 : decode cX5_isWord 13 = .ok (.lcmp, 1) := dk_148 (dk_at dksX5_isWord_0 13 rfl rfl)
theorem dX5_isWord_14 : decode cX5_isWord 14 = .ok (.ifCond .ne 7, 3) := dk_154 0 7 (dk_at dksX5_isWord_0 14 rfl rfl)
theorem dX5_isWord_17 : decode cX5_isWord 17 = .ok (.iconst 1, 1) := dk_4 (dk_at dksX5_isWord_0 17 rfl rfl)
theorem dX5_isWord_18 : decode cX5_isWord 18 = .ok (.goto 4, 3) := dk_167 0 4 (dk_at dksX5_isWord_0 18 rfl rfl)
theorem dX5_isWord_21 : decode cX5_isWord 21 = .ok (.iconst 0, 1) := dk_3 (dk_at dksX5_isWord_0 21 rfl rfl)
theorem dX5_isWord_22 : decode cX5_isWord 22 = .ok (.ireturn, 1) := dk_172 (dk_at dksX5_isWord_0 22 rfl rfl)
abbrev cX5_must : ByteArray := prog_23_method_39_code
def yX5_must : MethodName := ⟨RX5, "must", "(Z)V"⟩
def dkwX5_must_1 : List UInt8 := [42, 180, 0, 229, 154, 0, 7, 42, 182, 0, 233, 177]
abbrev dktX5_must_1 : List UInt8 := dkwX5_must_1 ++ []
def dkwX5_must_0 : List UInt8 := [42, 180, 0, 229, 154, 0, 20, 27, 154, 0, 16, 42, 4, 181, 0, 229, 42, 42, 180, 0, 236, 181, 0, 38]
abbrev dktX5_must_0 : List UInt8 := dkwX5_must_0 ++ dktX5_must_1
theorem dksX5_must_0 : cX5_must.data.toList.drop 0 = dktX5_must_0 := by decide +kernel
theorem dksX5_must_1 : cX5_must.data.toList.drop 24 = dktX5_must_1 := dk_seg dksX5_must_0 24 rfl rfl
theorem dX5_must_0 : decode cX5_must 0 = .ok (.aload_n 0, 1) := dk_42 (dk_at dksX5_must_0 0 rfl rfl)
theorem dX5_must_1 : decode cX5_must 1 = .ok (.getfield 229, 3) := dk_180 0 229 (dk_at dksX5_must_0 1 rfl rfl)
theorem dX5_must_4 : decode cX5_must 4 = .ok (.ifCond .ne 20, 3) := dk_154 0 20 (dk_at dksX5_must_0 4 rfl rfl)
theorem dX5_must_7 : decode cX5_must 7 = .ok (.iload_n 1, 1) := dk_27 (dk_at dksX5_must_0 7 rfl rfl)
theorem dX5_must_8 : decode cX5_must 8 = .ok (.ifCond .ne 16, 3) := dk_154 0 16 (dk_at dksX5_must_0 8 rfl rfl)
theorem dX5_must_11 : decode cX5_must 11 = .ok (.aload_n 0, 1) := dk_42 (dk_at dksX5_must_0 11 rfl rfl)
theorem dX5_must_12 : decode cX5_must 12 = .ok (.iconst 1, 1) := dk_4 (dk_at dksX5_must_0 12 rfl rfl)
theorem dX5_must_13 : decode cX5_must 13 = .ok (.putfield 229, 3) := dk_181 0 229 (dk_at dksX5_must_0 13 rfl rfl)
theorem dX5_must_16 : decode cX5_must 16 = .ok (.aload_n 0, 1) := dk_42 (dk_at dksX5_must_0 16 rfl rfl)
theorem dX5_must_17 : decode cX5_must 17 = .ok (.aload_n 0, 1) := dk_42 (dk_at dksX5_must_0 17 rfl rfl)
theorem dX5_must_18 : decode cX5_must 18 = .ok (.getfield 236, 3) := dk_180 0 236 (dk_at dksX5_must_0 18 rfl rfl)
theorem dX5_must_21 : decode cX5_must 21 = .ok (.putfield 38, 3) := dk_181 0 38 (dk_at dksX5_must_0 21 rfl rfl)
theorem dX5_must_24 : decode cX5_must 24 = .ok (.aload_n 0, 1) := dk_42 (dk_at dksX5_must_1 0 rfl rfl)
theorem dX5_must_25 : decode cX5_must 25 = .ok (.getfield 229, 3) := dk_180 0 229 (dk_at dksX5_must_1 1 rfl rfl)
theorem dX5_must_28 : decode cX5_must 28 = .ok (.ifCond .ne 7, 3) := dk_154 0 7 (dk_at dksX5_must_1 4 rfl rfl)
theorem dX5_must_31 : decode cX5_must 31 = .ok (.aload_n 0, 1) := dk_42 (dk_at dksX5_must_1 7 rfl rfl)
theorem dX5_must_32 : decode cX5_must 32 = .ok (.invokevirtual 233, 3) := dk_182 0 233 (dk_at dksX5_must_1 8 rfl rfl)
theorem dX5_must_35 : decode cX5_must 35 = .ok (.return_, 1) := dk_177 (dk_at dksX5_must_1 11 rfl rfl)
abbrev cX5_readExpression : ByteArray := prog_23_method_56_code
def yX5_readExpression : MethodName := ⟨RX5, "readExpression", "(Z)V"⟩
def dkwX5_readExpression_3 : List UInt8 := [61, 167, 255, 203, 42, 4, 182, 1, 71, 177]
abbrev dktX5_readExpression_3 : List UInt8 := dkwX5_readExpression_3 ++ []
def dkwX5_readExpression_2 : List UInt8 := [42, 182, 1, 68, 167, 0, 20, 28, 6, 160, 0, 11, 42, 27, 182, 1, 88, 167, 0, 7, 42, 182, 1, 92]
abbrev dktX5_readExpression_2 : List UInt8 := dkwX5_readExpression_2 ++ dktX5_readExpression_3
def dkwX5_readExpression_1 : List UInt8 := [154, 0, 52, 28, 7, 159, 0, 47, 28, 154, 0, 10, 42, 182, 1, 85, 167, 0, 32, 28, 4, 160, 0, 10]
abbrev dktX5_readExpression_1 : List UInt8 := dkwX5_readExpression_1 ++ dktX5_readExpression_2
def dkwX5_readExpression_0 : List UInt8 := [42, 3, 181, 1, 11, 42, 3, 181, 1, 31, 27, 153, 0, 7, 3, 167, 0, 4, 4, 61, 42, 180, 0, 229]
abbrev dktX5_readExpression_0 : List UInt8 := dkwX5_readExpression_0 ++ dktX5_readExpression_1
theorem dksX5_readExpression_0 : cX5_readExpression.data.toList.drop 0 = dktX5_readExpression_0 := by decide +kernel
theorem dksX5_readExpression_1 : cX5_readExpression.data.toList.drop 24 = dktX5_readExpression_1 := dk_seg dksX5_readExpression_0 24 rfl rfl
theorem dksX5_readExpression_2 : cX5_readExpression.data.toList.drop 48 = dktX5_readExpression_2 := dk_seg dksX5_readExpression_1 24 rfl rfl
theorem dksX5_readExpression_3 : cX5_readExpression.data.toList.drop 72 = dktX5_readExpression_3 := dk_seg dksX5_readExpression_2 24 rfl rfl
theorem dX5_readExpression_0 : decode cX5_readExpression 0 = .ok (.aload_n 0, 1) := dk_42 (dk_at dksX5_readExpression_0 0 rfl rfl)
theorem dX5_readExpression_1 : decode cX5_readExpression 1 = .ok (.iconst 0, 1) := dk_3 (dk_at dksX5_readExpression_0 1 rfl rfl)
theorem dX5_readExpression_2 : decode cX5_readExpression 2 = .ok (.putfield 267, 3) := dk_181 1 11 (dk_at dksX5_readExpression_0 2 rfl rfl)
theorem dX5_readExpression_5 : decode cX5_readExpression 5 = .ok (.aload_n 0, 1) := dk_42 (dk_at dksX5_readExpression_0 5 rfl rfl)
theorem dX5_readExpression_6 : decode cX5_readExpression 6 = .ok (.iconst 0, 1) := dk_3 (dk_at dksX5_readExpression_0 6 rfl rfl)
theorem dX5_readExpression_7 : decode cX5_readExpression 7 = .ok (.putfield 287, 3) := dk_181 1 31 (dk_at dksX5_readExpression_0 7 rfl rfl)
theorem dX5_readExpression_10 : decode cX5_readExpression 10 = .ok (.iload_n 1, 1) := dk_27 (dk_at dksX5_readExpression_0 10 rfl rfl)
theorem dX5_readExpression_11 : decode cX5_readExpression 11 = .ok (.ifCond .eq 7, 3) := dk_153 0 7 (dk_at dksX5_readExpression_0 11 rfl rfl)
theorem dX5_readExpression_14 : decode cX5_readExpression 14 = .ok (.iconst 0, 1) := dk_3 (dk_at dksX5_readExpression_0 14 rfl rfl)
theorem dX5_readExpression_15 : decode cX5_readExpression 15 = .ok (.goto 4, 3) := dk_167 0 4 (dk_at dksX5_readExpression_0 15 rfl rfl)
theorem dX5_readExpression_18 : decode cX5_readExpression 18 = .ok (.iconst 1, 1) := dk_4 (dk_at dksX5_readExpression_0 18 rfl rfl)
theorem dX5_readExpression_19 : decode cX5_readExpression 19 = .ok (.istore_n 2, 1) := dk_61 (dk_at dksX5_readExpression_0 19 rfl rfl)
theorem dX5_readExpression_20 : decode cX5_readExpression 20 = .ok (.aload_n 0, 1) := dk_42 (dk_at dksX5_readExpression_0 20 rfl rfl)
theorem dX5_readExpression_21 : decode cX5_readExpression 21 = .ok (.getfield 229, 3) := dk_180 0 229 (dk_at dksX5_readExpression_0 21 rfl rfl)
theorem dX5_readExpression_24 : decode cX5_readExpression 24 = .ok (.ifCond .ne 52, 3) := dk_154 0 52 (dk_at dksX5_readExpression_1 0 rfl rfl)
theorem dX5_readExpression_27 : decode cX5_readExpression 27 = .ok (.iload_n 2, 1) := dk_28 (dk_at dksX5_readExpression_1 3 rfl rfl)
theorem dX5_readExpression_28 : decode cX5_readExpression 28 = .ok (.iconst 4, 1) := dk_7 (dk_at dksX5_readExpression_1 4 rfl rfl)
theorem dX5_readExpression_29 : decode cX5_readExpression 29 = .ok (.if_icmp .eq 47, 3) := dk_159 0 47 (dk_at dksX5_readExpression_1 5 rfl rfl)
theorem dX5_readExpression_32 : decode cX5_readExpression 32 = .ok (.iload_n 2, 1) := dk_28 (dk_at dksX5_readExpression_1 8 rfl rfl)
theorem dX5_readExpression_33 : decode cX5_readExpression 33 = .ok (.ifCond .ne 10, 3) := dk_154 0 10 (dk_at dksX5_readExpression_1 9 rfl rfl)
theorem dX5_readExpression_36 : decode cX5_readExpression 36 = .ok (.aload_n 0, 1) := dk_42 (dk_at dksX5_readExpression_1 12 rfl rfl)
theorem dX5_readExpression_37 : decode cX5_readExpression 37 = .ok (.invokevirtual 341, 3) := dk_182 1 85 (dk_at dksX5_readExpression_1 13 rfl rfl)
theorem dX5_readExpression_40 : decode cX5_readExpression 40 = .ok (.goto 32, 3) := dk_167 0 32 (dk_at dksX5_readExpression_1 16 rfl rfl)
theorem dX5_readExpression_43 : decode cX5_readExpression 43 = .ok (.iload_n 2, 1) := dk_28 (dk_at dksX5_readExpression_1 19 rfl rfl)
theorem dX5_readExpression_44 : decode cX5_readExpression 44 = .ok (.iconst 1, 1) := dk_4 (dk_at dksX5_readExpression_1 20 rfl rfl)
theorem dX5_readExpression_45 : decode cX5_readExpression 45 = .ok (.if_icmp .ne 10, 3) := dk_160 0 10 (dk_at dksX5_readExpression_1 21 rfl rfl)
theorem dX5_readExpression_48 : decode cX5_readExpression 48 = .ok (.aload_n 0, 1) := dk_42 (dk_at dksX5_readExpression_2 0 rfl rfl)
theorem dX5_readExpression_49 : decode cX5_readExpression 49 = .ok (.invokevirtual 324, 3) := dk_182 1 68 (dk_at dksX5_readExpression_2 1 rfl rfl)
theorem dX5_readExpression_52 : decode cX5_readExpression 52 = .ok (.goto 20, 3) := dk_167 0 20 (dk_at dksX5_readExpression_2 4 rfl rfl)
theorem dX5_readExpression_55 : decode cX5_readExpression 55 = .ok (.iload_n 2, 1) := dk_28 (dk_at dksX5_readExpression_2 7 rfl rfl)
theorem dX5_readExpression_56 : decode cX5_readExpression 56 = .ok (.iconst 3, 1) := dk_6 (dk_at dksX5_readExpression_2 8 rfl rfl)
theorem dX5_readExpression_57 : decode cX5_readExpression 57 = .ok (.if_icmp .ne 11, 3) := dk_160 0 11 (dk_at dksX5_readExpression_2 9 rfl rfl)
theorem dX5_readExpression_60 : decode cX5_readExpression 60 = .ok (.aload_n 0, 1) := dk_42 (dk_at dksX5_readExpression_2 12 rfl rfl)
theorem dX5_readExpression_61 : decode cX5_readExpression 61 = .ok (.iload_n 1, 1) := dk_27 (dk_at dksX5_readExpression_2 13 rfl rfl)
theorem dX5_readExpression_62 : decode cX5_readExpression 62 = .ok (.invokevirtual 344, 3) := dk_182 1 88 (dk_at dksX5_readExpression_2 14 rfl rfl)
theorem dX5_readExpression_65 : decode cX5_readExpression 65 = .ok (.goto 7, 3) := dk_167 0 7 (dk_at dksX5_readExpression_2 17 rfl rfl)
theorem dX5_readExpression_68 : decode cX5_readExpression 68 = .ok (.aload_n 0, 1) := dk_42 (dk_at dksX5_readExpression_2 20 rfl rfl)
theorem dX5_readExpression_69 : decode cX5_readExpression 69 = .ok (.invokevirtual 348, 3) := dk_182 1 92 (dk_at dksX5_readExpression_2 21 rfl rfl)
theorem dX5_readExpression_72 : decode cX5_readExpression 72 = .ok (.istore_n 2, 1) := dk_61 (dk_at dksX5_readExpression_3 0 rfl rfl)
theorem dX5_readExpression_73 : decode cX5_readExpression 73 = .ok (.goto (-53), 3) := dk_167 255 203 (dk_at dksX5_readExpression_3 1 rfl rfl)
theorem dX5_readExpression_76 : decode cX5_readExpression 76 = .ok (.aload_n 0, 1) := dk_42 (dk_at dksX5_readExpression_3 4 rfl rfl)
theorem dX5_readExpression_77 : decode cX5_readExpression 77 = .ok (.iconst 1, 1) := dk_4 (dk_at dksX5_readExpression_3 5 rfl rfl)
theorem dX5_readExpression_78 : decode cX5_readExpression 78 = .ok (.invokevirtual 327, 3) := dk_182 1 71 (dk_at dksX5_readExpression_3 6 rfl rfl)
theorem dX5_readExpression_81 : decode cX5_readExpression 81 = .ok (.return_, 1) := dk_177 (dk_at dksX5_readExpression_3 9 rfl rfl)
abbrev cX5_readPlain : ByteArray := prog_23_method_53_code
def yX5_readPlain : MethodName := ⟨RX5, "readPlain", "()I"⟩
def dkwX5_readPlain_1 : List UInt8 := [16, 40, 182, 1, 40, 153, 0, 11, 42, 16, 31, 182, 1, 43, 3, 172, 42, 182, 1, 68, 172]
abbrev dktX5_readPlain_1 : List UInt8 := dkwX5_readPlain_1 ++ []
def dkwX5_readPlain_0 : List UInt8 := [42, 20, 1, 66, 182, 1, 27, 153, 0, 16, 42, 16, 28, 3, 182, 1, 34, 42, 182, 0, 233, 3, 172, 42]
abbrev dktX5_readPlain_0 : List UInt8 := dkwX5_readPlain_0 ++ dktX5_readPlain_1
theorem dksX5_readPlain_0 : cX5_readPlain.data.toList.drop 0 = dktX5_readPlain_0 := by decide +kernel
theorem dksX5_readPlain_1 : cX5_readPlain.data.toList.drop 24 = dktX5_readPlain_1 := dk_seg dksX5_readPlain_0 24 rfl rfl
theorem dX5_readPlain_0 : decode cX5_readPlain 0 = .ok (.aload_n 0, 1) := dk_42 (dk_at dksX5_readPlain_0 0 rfl rfl)
theorem dX5_readPlain_1 : decode cX5_readPlain 1 = .ok (.ldc2_w 322, 3) := dk_20 1 66 (dk_at dksX5_readPlain_0 1 rfl rfl)
theorem dX5_readPlain_4 : decode cX5_readPlain 4 = .ok (.invokevirtual 283, 3) := dk_182 1 27 (dk_at dksX5_readPlain_0 4 rfl rfl)
theorem dX5_readPlain_7 : decode cX5_readPlain 7 = .ok (.ifCond .eq 16, 3) := dk_153 0 16 (dk_at dksX5_readPlain_0 7 rfl rfl)
theorem dX5_readPlain_10 : decode cX5_readPlain 10 = .ok (.aload_n 0, 1) := dk_42 (dk_at dksX5_readPlain_0 10 rfl rfl)
theorem dX5_readPlain_11 : decode cX5_readPlain 11 = .ok (.bipush 28, 2) := dk_16 28 (dk_at dksX5_readPlain_0 11 rfl rfl)
theorem dX5_readPlain_13 : decode cX5_readPlain 13 = .ok (.iconst 0, 1) := dk_3 (dk_at dksX5_readPlain_0 13 rfl rfl)
theorem dX5_readPlain_14 : decode cX5_readPlain 14 = .ok (.invokevirtual 290, 3) := dk_182 1 34 (dk_at dksX5_readPlain_0 14 rfl rfl)
theorem dX5_readPlain_17 : decode cX5_readPlain 17 = .ok (.aload_n 0, 1) := dk_42 (dk_at dksX5_readPlain_0 17 rfl rfl)
theorem dX5_readPlain_18 : decode cX5_readPlain 18 = .ok (.invokevirtual 233, 3) := dk_182 0 233 (dk_at dksX5_readPlain_0 18 rfl rfl)
theorem dX5_readPlain_21 : decode cX5_readPlain 21 = .ok (.iconst 0, 1) := dk_3 (dk_at dksX5_readPlain_0 21 rfl rfl)
theorem dX5_readPlain_22 : decode cX5_readPlain 22 = .ok (.ireturn, 1) := dk_172 (dk_at dksX5_readPlain_0 22 rfl rfl)
theorem dX5_readPlain_23 : decode cX5_readPlain 23 = .ok (.aload_n 0, 1) := dk_42 (dk_at dksX5_readPlain_0 23 rfl rfl)
theorem dX5_readPlain_24 : decode cX5_readPlain 24 = .ok (.bipush 40, 2) := dk_16 40 (dk_at dksX5_readPlain_1 0 rfl rfl)
theorem dX5_readPlain_26 : decode cX5_readPlain 26 = .ok (.invokevirtual 296, 3) := dk_182 1 40 (dk_at dksX5_readPlain_1 2 rfl rfl)
theorem dX5_readPlain_29 : decode cX5_readPlain 29 = .ok (.ifCond .eq 11, 3) := dk_153 0 11 (dk_at dksX5_readPlain_1 5 rfl rfl)
theorem dX5_readPlain_32 : decode cX5_readPlain 32 = .ok (.aload_n 0, 1) := dk_42 (dk_at dksX5_readPlain_1 8 rfl rfl)
theorem dX5_readPlain_33 : decode cX5_readPlain 33 = .ok (.bipush 31, 2) := dk_16 31 (dk_at dksX5_readPlain_1 9 rfl rfl)
theorem dX5_readPlain_35 : decode cX5_readPlain 35 = .ok (.invokevirtual 299, 3) := dk_182 1 43 (dk_at dksX5_readPlain_1 11 rfl rfl)
theorem dX5_readPlain_38 : decode cX5_readPlain 38 = .ok (.iconst 0, 1) := dk_3 (dk_at dksX5_readPlain_1 14 rfl rfl)
theorem dX5_readPlain_39 : decode cX5_readPlain 39 = .ok (.ireturn, 1) := dk_172 (dk_at dksX5_readPlain_1 15 rfl rfl)
theorem dX5_readPlain_40 : decode cX5_readPlain 40 = .ok (.aload_n 0, 1) := dk_42 (dk_at dksX5_readPlain_1 16 rfl rfl)
theorem dX5_readPlain_41 : decode cX5_readPlain 41 = .ok (.invokevirtual 324, 3) := dk_182 1 68 (dk_at dksX5_readPlain_1 17 rfl rfl)
theorem dX5_readPlain_44 : decode cX5_readPlain 44 = .ok (.ireturn, 1) := dk_172 (dk_at dksX5_readPlain_1 20 rfl rfl)
abbrev cX5_push : ByteArray := prog_23_method_43_code
def yX5_push : MethodName := ⟨RX5, "push", "(II)V"⟩
def dkwX5_push_1 : List UInt8 := [180, 1, 11, 4, 96, 181, 1, 11, 177]
abbrev dktX5_push_1 : List UInt8 := dkwX5_push_1 ++ []
def dkwX5_push_0 : List UInt8 := [42, 180, 0, 51, 42, 180, 1, 11, 27, 79, 42, 180, 0, 54, 42, 180, 1, 11, 28, 79, 42, 89]
abbrev dktX5_push_0 : List UInt8 := dkwX5_push_0 ++ dktX5_push_1
theorem dksX5_push_0 : cX5_push.data.toList.drop 0 = dktX5_push_0 := by decide +kernel
theorem dksX5_push_1 : cX5_push.data.toList.drop 22 = dktX5_push_1 := dk_seg dksX5_push_0 22 rfl rfl
theorem dX5_push_0 : decode cX5_push 0 = .ok (.aload_n 0, 1) := dk_42 (dk_at dksX5_push_0 0 rfl rfl)
theorem dX5_push_1 : decode cX5_push 1 = .ok (.getfield 51, 3) := dk_180 0 51 (dk_at dksX5_push_0 1 rfl rfl)
theorem dX5_push_4 : decode cX5_push 4 = .ok (.aload_n 0, 1) := dk_42 (dk_at dksX5_push_0 4 rfl rfl)
theorem dX5_push_5 : decode cX5_push 5 = .ok (.getfield 267, 3) := dk_180 1 11 (dk_at dksX5_push_0 5 rfl rfl)
theorem dX5_push_8 : decode cX5_push 8 = .ok (.iload_n 1, 1) := dk_27 (dk_at dksX5_push_0 8 rfl rfl)
theorem dX5_push_9 : decode cX5_push 9 = .ok (.iastore, 1) := dk_79 (dk_at dksX5_push_0 9 rfl rfl)
theorem dX5_push_10 : decode cX5_push 10 = .ok (.aload_n 0, 1) := dk_42 (dk_at dksX5_push_0 10 rfl rfl)
theorem dX5_push_11 : decode cX5_push 11 = .ok (.getfield 54, 3) := dk_180 0 54 (dk_at dksX5_push_0 11 rfl rfl)
theorem dX5_push_14 : decode cX5_push 14 = .ok (.aload_n 0, 1) := dk_42 (dk_at dksX5_push_0 14 rfl rfl)
theorem dX5_push_15 : decode cX5_push 15 = .ok (.getfield 267, 3) := dk_180 1 11 (dk_at dksX5_push_0 15 rfl rfl)
theorem dX5_push_18 : decode cX5_push 18 = .ok (.iload_n 2, 1) := dk_28 (dk_at dksX5_push_0 18 rfl rfl)
theorem dX5_push_19 : decode cX5_push 19 = .ok (.iastore, 1) := dk_79 (dk_at dksX5_push_0 19 rfl rfl)
theorem dX5_push_20 : decode cX5_push 20 = .ok (.aload_n 0, 1) := dk_42 (dk_at dksX5_push_0 20 rfl rfl)
theorem dX5_push_21 : decode cX5_push 21 = .ok (.dup, 1) := dk_89 (dk_at dksX5_push_0 21 rfl rfl)
theorem dX5_push_22 : decode cX5_push 22 = .ok (.getfield 267, 3) := dk_180 1 11 (dk_at dksX5_push_1 0 rfl rfl)
theorem dX5_push_25 : decode cX5_push 25 = .ok (.iconst 1, 1) := dk_4 (dk_at dksX5_push_1 3 rfl rfl)
theorem dX5_push_26 : decode cX5_push 26 = .ok (.iadd, 1) := dk_96 (dk_at dksX5_push_1 4 rfl rfl)
theorem dX5_push_27 : decode cX5_push 27 = .ok (.putfield 267, 3) := dk_181 1 11 (dk_at dksX5_push_1 5 rfl rfl)
theorem dX5_push_30 : decode cX5_push 30 = .ok (.return_, 1) := dk_177 (dk_at dksX5_push_1 8 rfl rfl)
abbrev cX5_isSign : ByteArray := prog_23_method_38_code
def yX5_isSign : MethodName := ⟨RX5, "isSign", "(I)Z"⟩
def dkwX5_isSign_0 : List UInt8 := [42, 180, 0, 249, 6, 160, 0, 17, 42, 180, 0, 239, 27, 133, 148, 154, 0, 7, 4, 167, 0, 4, 3, 172]
abbrev dktX5_isSign_0 : List UInt8 := dkwX5_isSign_0 ++ []
theorem dksX5_isSign_0 : cX5_isSign.data.toList.drop 0 = dktX5_isSign_0 := by decide +kernel
theorem dX5_isSign_0 : decode cX5_isSign 0 = .ok (.aload_n 0, 1) := dk_42 (dk_at dksX5_isSign_0 0 rfl rfl)
theorem dX5_isSign_1 : decode cX5_isSign 1 = .ok (.getfield 249, 3) := dk_180 0 249 (dk_at dksX5_isSign_0 1 rfl rfl)
theorem dX5_isSign_4 : decode cX5_isSign 4 = .ok (.iconst 3, 1) := dk_6 (dk_at dksX5_isSign_0 4 rfl rfl)
theorem dX5_isSign_5 : decode cX5_isSign 5 = .ok (.if_icmp .ne 17, 3) := dk_160 0 17 (dk_at dksX5_isSign_0 5 rfl rfl)
theorem dX5_isSign_8 : decode cX5_isSign 8 = .ok (.aload_n 0, 1) := dk_42 (dk_at dksX5_isSign_0 8 rfl rfl)
theorem dX5_isSign_9 : decode cX5_isSign 9 = .ok (.getfield 239, 3) := dk_180 0 239 (dk_at dksX5_isSign_0 9 rfl rfl)
theorem dX5_isSign_12 : decode cX5_isSign 12 = .ok (.iload_n 1, 1) := dk_27 (dk_at dksX5_isSign_0 12 rfl rfl)
theorem dX5_isSign_13 : decode cX5_isSign 13 = .ok (.i2l, 1) := dk_133 (dk_at dksX5_isSign_0 13 rfl rfl)
theorem dX5_isSign_14 : decode cX5_isSign 14 = .ok (.lcmp, 1) := dk_148 (dk_at dksX5_isSign_0 14 rfl rfl)
theorem dX5_isSign_15 : decode cX5_isSign 15 = .ok (.ifCond .ne 7, 3) := dk_154 0 7 (dk_at dksX5_isSign_0 15 rfl rfl)
theorem dX5_isSign_18 : decode cX5_isSign 18 = .ok (.iconst 1, 1) := dk_4 (dk_at dksX5_isSign_0 18 rfl rfl)
theorem dX5_isSign_19 : decode cX5_isSign 19 = .ok (.goto 4, 3) := dk_167 0 4 (dk_at dksX5_isSign_0 19 rfl rfl)
theorem dX5_isSign_22 : decode cX5_isSign 22 = .ok (.iconst 0, 1) := dk_3 (dk_at dksX5_isSign_0 22 rfl rfl)
theorem dX5_isSign_23 : decode cX5_isSign 23 = .ok (.ireturn, 1) := dk_172 (dk_at dksX5_isSign_0 23 rfl rfl)
abbrev cX5_openBracket : ByteArray := prog_23_method_50_code
def yX5_openBracket : MethodName := ⟨RX5, "openBracket", "(I)V"⟩
def dkwX5_openBracket_1 : List UInt8 := [154, 0, 19, 42, 89, 180, 1, 31, 4, 96, 181, 1, 31, 42, 27, 3, 182, 1, 34, 177]
abbrev dktX5_openBracket_1 : List UInt8 := dkwX5_openBracket_1 ++ []
def dkwX5_openBracket_0 : List UInt8 := [42, 42, 180, 1, 31, 16, 8, 162, 0, 7, 4, 167, 0, 4, 3, 182, 1, 4, 42, 180, 0, 229]
abbrev dktX5_openBracket_0 : List UInt8 := dkwX5_openBracket_0 ++ dktX5_openBracket_1
theorem dksX5_openBracket_0 : cX5_openBracket.data.toList.drop 0 = dktX5_openBracket_0 := by decide +kernel
theorem dksX5_openBracket_1 : cX5_openBracket.data.toList.drop 22 = dktX5_openBracket_1 := dk_seg dksX5_openBracket_0 22 rfl rfl
theorem dX5_openBracket_0 : decode cX5_openBracket 0 = .ok (.aload_n 0, 1) := dk_42 (dk_at dksX5_openBracket_0 0 rfl rfl)
theorem dX5_openBracket_1 : decode cX5_openBracket 1 = .ok (.aload_n 0, 1) := dk_42 (dk_at dksX5_openBracket_0 1 rfl rfl)
theorem dX5_openBracket_2 : decode cX5_openBracket 2 = .ok (.getfield 287, 3) := dk_180 1 31 (dk_at dksX5_openBracket_0 2 rfl rfl)
theorem dX5_openBracket_5 : decode cX5_openBracket 5 = .ok (.bipush 8, 2) := dk_16 8 (dk_at dksX5_openBracket_0 5 rfl rfl)
theorem dX5_openBracket_7 : decode cX5_openBracket 7 = .ok (.if_icmp .ge 7, 3) := dk_162 0 7 (dk_at dksX5_openBracket_0 7 rfl rfl)
theorem dX5_openBracket_10 : decode cX5_openBracket 10 = .ok (.iconst 1, 1) := dk_4 (dk_at dksX5_openBracket_0 10 rfl rfl)
theorem dX5_openBracket_11 : decode cX5_openBracket 11 = .ok (.goto 4, 3) := dk_167 0 4 (dk_at dksX5_openBracket_0 11 rfl rfl)
theorem dX5_openBracket_14 : decode cX5_openBracket 14 = .ok (.iconst 0, 1) := dk_3 (dk_at dksX5_openBracket_0 14 rfl rfl)
theorem dX5_openBracket_15 : decode cX5_openBracket 15 = .ok (.invokevirtual 260, 3) := dk_182 1 4 (dk_at dksX5_openBracket_0 15 rfl rfl)
theorem dX5_openBracket_18 : decode cX5_openBracket 18 = .ok (.aload_n 0, 1) := dk_42 (dk_at dksX5_openBracket_0 18 rfl rfl)
theorem dX5_openBracket_19 : decode cX5_openBracket 19 = .ok (.getfield 229, 3) := dk_180 0 229 (dk_at dksX5_openBracket_0 19 rfl rfl)
theorem dX5_openBracket_22 : decode cX5_openBracket 22 = .ok (.ifCond .ne 19, 3) := dk_154 0 19 (dk_at dksX5_openBracket_1 0 rfl rfl)
theorem dX5_openBracket_25 : decode cX5_openBracket 25 = .ok (.aload_n 0, 1) := dk_42 (dk_at dksX5_openBracket_1 3 rfl rfl)
theorem dX5_openBracket_26 : decode cX5_openBracket 26 = .ok (.dup, 1) := dk_89 (dk_at dksX5_openBracket_1 4 rfl rfl)
theorem dX5_openBracket_27 : decode cX5_openBracket 27 = .ok (.getfield 287, 3) := dk_180 1 31 (dk_at dksX5_openBracket_1 5 rfl rfl)
theorem dX5_openBracket_30 : decode cX5_openBracket 30 = .ok (.iconst 1, 1) := dk_4 (dk_at dksX5_openBracket_1 8 rfl rfl)
theorem dX5_openBracket_31 : decode cX5_openBracket 31 = .ok (.iadd, 1) := dk_96 (dk_at dksX5_openBracket_1 9 rfl rfl)
theorem dX5_openBracket_32 : decode cX5_openBracket 32 = .ok (.putfield 287, 3) := dk_181 1 31 (dk_at dksX5_openBracket_1 10 rfl rfl)
theorem dX5_openBracket_35 : decode cX5_openBracket 35 = .ok (.aload_n 0, 1) := dk_42 (dk_at dksX5_openBracket_1 13 rfl rfl)
theorem dX5_openBracket_36 : decode cX5_openBracket 36 = .ok (.iload_n 1, 1) := dk_27 (dk_at dksX5_openBracket_1 14 rfl rfl)
theorem dX5_openBracket_37 : decode cX5_openBracket 37 = .ok (.iconst 0, 1) := dk_3 (dk_at dksX5_openBracket_1 15 rfl rfl)
theorem dX5_openBracket_38 : decode cX5_openBracket 38 = .ok (.invokevirtual 290, 3) := dk_182 1 34 (dk_at dksX5_openBracket_1 16 rfl rfl)
theorem dX5_openBracket_41 : decode cX5_openBracket 41 = .ok (.return_, 1) := dk_177 (dk_at dksX5_openBracket_1 19 rfl rfl)
abbrev cX5_readPart : ByteArray := prog_23_method_52_code
def yX5_readPart : MethodName := ⟨RX5, "readPart", "()I"⟩
def dkwX5_readPart_6 : List UInt8 := [6, 172]
abbrev dktX5_readPart_6 : List UInt8 := dkwX5_readPart_6 ++ []
def dkwX5_readPart_5 : List UInt8 := [154, 0, 24, 42, 180, 1, 8, 4, 100, 62, 42, 180, 0, 48, 29, 42, 9, 20, 1, 60, 182, 1, 62, 79]
abbrev dktX5_readPart_5 : List UInt8 := dkwX5_readPart_5 ++ dktX5_readPart_6
def dkwX5_readPart_4 : List UInt8 := [167, 0, 4, 3, 182, 1, 56, 42, 180, 1, 46, 153, 0, 36, 27, 8, 161, 0, 31, 42, 180, 0, 229]
abbrev dktX5_readPart_4 : List UInt8 := dkwX5_readPart_4 ++ dktX5_readPart_5
def dkwX5_readPart_3 : List UInt8 := [167, 0, 4, 3, 27, 2, 160, 0, 7, 3, 167, 0, 4, 27, 28, 153, 0, 11, 42, 180, 0, 239, 136]
abbrev dktX5_readPart_3 : List UInt8 := dkwX5_readPart_3 ++ dktX5_readPart_4
def dkwX5_readPart_2 : List UInt8 := [20, 0, 164, 148, 157, 0, 7, 4, 167, 0, 4, 3, 61, 42, 27, 2, 160, 0, 7, 28, 153, 0, 7, 4]
abbrev dktX5_readPart_2 : List UInt8 := dkwX5_readPart_2 ++ dktX5_readPart_3
def dkwX5_readPart_1 : List UInt8 := [42, 182, 1, 49, 167, 0, 7, 42, 182, 1, 53, 60, 42, 180, 0, 249, 5, 160, 0, 18, 42, 180, 0, 239]
abbrev dktX5_readPart_1 : List UInt8 := dkwX5_readPart_1 ++ dktX5_readPart_2
def dkwX5_readPart_0 : List UInt8 := [42, 16, 91, 182, 1, 40, 153, 0, 11, 42, 16, 32, 182, 1, 43, 4, 172, 42, 180, 1, 46, 153, 0, 10]
abbrev dktX5_readPart_0 : List UInt8 := dkwX5_readPart_0 ++ dktX5_readPart_1
theorem dksX5_readPart_0 : cX5_readPart.data.toList.drop 0 = dktX5_readPart_0 := by decide +kernel
theorem dksX5_readPart_1 : cX5_readPart.data.toList.drop 24 = dktX5_readPart_1 := dk_seg dksX5_readPart_0 24 rfl rfl
theorem dksX5_readPart_2 : cX5_readPart.data.toList.drop 48 = dktX5_readPart_2 := dk_seg dksX5_readPart_1 24 rfl rfl
theorem dksX5_readPart_3 : cX5_readPart.data.toList.drop 72 = dktX5_readPart_3 := dk_seg dksX5_readPart_2 24 rfl rfl
theorem dksX5_readPart_4 : cX5_readPart.data.toList.drop 95 = dktX5_readPart_4 := dk_seg dksX5_readPart_3 23 rfl rfl
theorem dksX5_readPart_5 : cX5_readPart.data.toList.drop 118 = dktX5_readPart_5 := dk_seg dksX5_readPart_4 23 rfl rfl
theorem dksX5_readPart_6 : cX5_readPart.data.toList.drop 142 = dktX5_readPart_6 := dk_seg dksX5_readPart_5 24 rfl rfl
theorem dX5_readPart_0 : decode cX5_readPart 0 = .ok (.aload_n 0, 1) := dk_42 (dk_at dksX5_readPart_0 0 rfl rfl)
theorem dX5_readPart_1 : decode cX5_readPart 1 = .ok (.bipush 91, 2) := dk_16 91 (dk_at dksX5_readPart_0 1 rfl rfl)
theorem dX5_readPart_3 : decode cX5_readPart 3 = .ok (.invokevirtual 296, 3) := dk_182 1 40 (dk_at dksX5_readPart_0 3 rfl rfl)
theorem dX5_readPart_6 : decode cX5_readPart 6 = .ok (.ifCond .eq 11, 3) := dk_153 0 11 (dk_at dksX5_readPart_0 6 rfl rfl)
theorem dX5_readPart_9 : decode cX5_readPart 9 = .ok (.aload_n 0, 1) := dk_42 (dk_at dksX5_readPart_0 9 rfl rfl)
theorem dX5_readPart_10 : decode cX5_readPart 10 = .ok (.bipush 32, 2) := dk_16 32 (dk_at dksX5_readPart_0 10 rfl rfl)
theorem dX5_readPart_12 : decode cX5_readPart 12 = .ok (.invokevirtual 299, 3) := dk_182 1 43 (dk_at dksX5_readPart_0 12 rfl rfl)
theorem dX5_readPart_15 : decode cX5_readPart 15 = .ok (.iconst 1, 1) := dk_4 (dk_at dksX5_readPart_0 15 rfl rfl)
theorem dX5_readPart_16 : decode cX5_readPart 16 = .ok (.ireturn, 1) := dk_172 (dk_at dksX5_readPart_0 16 rfl rfl)
theorem dX5_readPart_17 : decode cX5_readPart 17 = .ok (.aload_n 0, 1) := dk_42 (dk_at dksX5_readPart_0 17 rfl rfl)
theorem dX5_readPart_18 : decode cX5_readPart 18 = .ok (.getfield 302, 3) := dk_180 1 46 (dk_at dksX5_readPart_0 18 rfl rfl)
theorem dX5_readPart_21 : decode cX5_readPart 21 = .ok (.ifCond .eq 10, 3) := dk_153 0 10 (dk_at dksX5_readPart_0 21 rfl rfl)
theorem dX5_readPart_24 : decode cX5_readPart 24 = .ok (.aload_n 0, 1) := dk_42 (dk_at dksX5_readPart_1 0 rfl rfl)
theorem dX5_readPart_25 : decode cX5_readPart 25 = .ok (.invokevirtual 305, 3) := dk_182 1 49 (dk_at dksX5_readPart_1 1 rfl rfl)
theorem dX5_readPart_28 : decode cX5_readPart 28 = .ok (.goto 7, 3) := dk_167 0 7 (dk_at dksX5_readPart_1 4 rfl rfl)
theorem dX5_readPart_31 : decode cX5_readPart 31 = .ok (.aload_n 0, 1) := dk_42 (dk_at dksX5_readPart_1 7 rfl rfl)
theorem dX5_readPart_32 : decode cX5_readPart 32 = .ok (.invokevirtual 309, 3) := dk_182 1 53 (dk_at dksX5_readPart_1 8 rfl rfl)
theorem dX5_readPart_35 : decode cX5_readPart 35 = .ok (.istore_n 1, 1) := dk_60 (dk_at dksX5_readPart_1 11 rfl rfl)
theorem dX5_readPart_36 : decode cX5_readPart 36 = .ok (.aload_n 0, 1) := dk_42 (dk_at dksX5_readPart_1 12 rfl rfl)
theorem dX5_readPart_37 : decode cX5_readPart 37 = .ok (.getfield 249, 3) := dk_180 0 249 (dk_at dksX5_readPart_1 13 rfl rfl)
theorem dX5_readPart_40 : decode cX5_readPart 40 = .ok (.iconst 2, 1) := dk_5 (dk_at dksX5_readPart_1 16 rfl rfl)
theorem dX5_readPart_41 : decode cX5_readPart 41 = .ok (.if_icmp .ne 18, 3) := dk_160 0 18 (dk_at dksX5_readPart_1 17 rfl rfl)
theorem dX5_readPart_44 : decode cX5_readPart 44 = .ok (.aload_n 0, 1) := dk_42 (dk_at dksX5_readPart_1 20 rfl rfl)
theorem dX5_readPart_45 : decode cX5_readPart 45 = .ok (.getfield 239, 3) := dk_180 0 239 (dk_at dksX5_readPart_1 21 rfl rfl)
theorem dX5_readPart_48 : decode cX5_readPart 48 = .ok (.ldc2_w 164, 3) := dk_20 0 164 (dk_at dksX5_readPart_2 0 rfl rfl)
theorem dX5_readPart_51 : decode cX5_readPart 51 = .ok (.lcmp, 1) := dk_148 (dk_at dksX5_readPart_2 3 rfl rfl)
theorem dX5_readPart_52 : decode cX5_readPart 52 = .ok (.ifCond .gt 7, 3) := dk_157 0 7 (dk_at dksX5_readPart_2 4 rfl rfl)
theorem dX5_readPart_55 : decode cX5_readPart 55 = .ok (.iconst 1, 1) := dk_4 (dk_at dksX5_readPart_2 7 rfl rfl)
theorem dX5_readPart_56 : decode cX5_readPart 56 = .ok (.goto 4, 3) := dk_167 0 4 (dk_at dksX5_readPart_2 8 rfl rfl)
theorem dX5_readPart_59 : decode cX5_readPart 59 = .ok (.iconst 0, 1) := dk_3 (dk_at dksX5_readPart_2 11 rfl rfl)
theorem dX5_readPart_60 : decode cX5_readPart 60 = .ok (.istore_n 2, 1) := dk_61 (dk_at dksX5_readPart_2 12 rfl rfl)
theorem dX5_readPart_61 : decode cX5_readPart 61 = .ok (.aload_n 0, 1) := dk_42 (dk_at dksX5_readPart_2 13 rfl rfl)
theorem dX5_readPart_62 : decode cX5_readPart 62 = .ok (.iload_n 1, 1) := dk_27 (dk_at dksX5_readPart_2 14 rfl rfl)
theorem dX5_readPart_63 : decode cX5_readPart 63 = .ok (.iconst (-1), 1) := dk_2 (dk_at dksX5_readPart_2 15 rfl rfl)
theorem dX5_readPart_64 : decode cX5_readPart 64 = .ok (.if_icmp .ne 7, 3) := dk_160 0 7 (dk_at dksX5_readPart_2 16 rfl rfl)
theorem dX5_readPart_67 : decode cX5_readPart 67 = .ok (.iload_n 2, 1) := dk_28 (dk_at dksX5_readPart_2 19 rfl rfl)
theorem dX5_readPart_68 : decode cX5_readPart 68 = .ok (.ifCond .eq 7, 3) := dk_153 0 7 (dk_at dksX5_readPart_2 20 rfl rfl)
theorem dX5_readPart_71 : decode cX5_readPart 71 = .ok (.iconst 1, 1) := dk_4 (dk_at dksX5_readPart_2 23 rfl rfl)
theorem dX5_readPart_72 : decode cX5_readPart 72 = .ok (.goto 4, 3) := dk_167 0 4 (dk_at dksX5_readPart_3 0 rfl rfl)
theorem dX5_readPart_75 : decode cX5_readPart 75 = .ok (.iconst 0, 1) := dk_3 (dk_at dksX5_readPart_3 3 rfl rfl)
theorem dX5_readPart_76 : decode cX5_readPart 76 = .ok (.iload_n 1, 1) := dk_27 (dk_at dksX5_readPart_3 4 rfl rfl)
theorem dX5_readPart_77 : decode cX5_readPart 77 = .ok (.iconst (-1), 1) := dk_2 (dk_at dksX5_readPart_3 5 rfl rfl)
theorem dX5_readPart_78 : decode cX5_readPart 78 = .ok (.if_icmp .ne 7, 3) := dk_160 0 7 (dk_at dksX5_readPart_3 6 rfl rfl)
theorem dX5_readPart_81 : decode cX5_readPart 81 = .ok (.iconst 0, 1) := dk_3 (dk_at dksX5_readPart_3 9 rfl rfl)
theorem dX5_readPart_82 : decode cX5_readPart 82 = .ok (.goto 4, 3) := dk_167 0 4 (dk_at dksX5_readPart_3 10 rfl rfl)
theorem dX5_readPart_85 : decode cX5_readPart 85 = .ok (.iload_n 1, 1) := dk_27 (dk_at dksX5_readPart_3 13 rfl rfl)
theorem dX5_readPart_86 : decode cX5_readPart 86 = .ok (.iload_n 2, 1) := dk_28 (dk_at dksX5_readPart_3 14 rfl rfl)
theorem dX5_readPart_87 : decode cX5_readPart 87 = .ok (.ifCond .eq 11, 3) := dk_153 0 11 (dk_at dksX5_readPart_3 15 rfl rfl)
theorem dX5_readPart_90 : decode cX5_readPart 90 = .ok (.aload_n 0, 1) := dk_42 (dk_at dksX5_readPart_3 18 rfl rfl)
theorem dX5_readPart_91 : decode cX5_readPart 91 = .ok (.getfield 239, 3) := dk_180 0 239 (dk_at dksX5_readPart_3 19 rfl rfl)
theorem dX5_readPart_94 : decode cX5_readPart 94 = .ok (.l2i, 1) := dk_136 (dk_at dksX5_readPart_3 22 rfl rfl)
theorem dX5_readPart_95 : decode cX5_readPart 95 = .ok (.goto 4, 3) := dk_167 0 4 (dk_at dksX5_readPart_4 0 rfl rfl)
theorem dX5_readPart_98 : decode cX5_readPart 98 = .ok (.iconst 0, 1) := dk_3 (dk_at dksX5_readPart_4 3 rfl rfl)
theorem dX5_readPart_99 : decode cX5_readPart 99 = .ok (.invokevirtual 312, 3) := dk_182 1 56 (dk_at dksX5_readPart_4 4 rfl rfl)
theorem dX5_readPart_102 : decode cX5_readPart 102 = .ok (.aload_n 0, 1) := dk_42 (dk_at dksX5_readPart_4 7 rfl rfl)
theorem dX5_readPart_103 : decode cX5_readPart 103 = .ok (.getfield 302, 3) := dk_180 1 46 (dk_at dksX5_readPart_4 8 rfl rfl)
theorem dX5_readPart_106 : decode cX5_readPart 106 = .ok (.ifCond .eq 36, 3) := dk_153 0 36 (dk_at dksX5_readPart_4 11 rfl rfl)
theorem dX5_readPart_109 : decode cX5_readPart 109 = .ok (.iload_n 1, 1) := dk_27 (dk_at dksX5_readPart_4 14 rfl rfl)
theorem dX5_readPart_110 : decode cX5_readPart 110 = .ok (.iconst 5, 1) := dk_8 (dk_at dksX5_readPart_4 15 rfl rfl)
theorem dX5_readPart_111 : decode cX5_readPart 111 = .ok (.if_icmp .lt 31, 3) := dk_161 0 31 (dk_at dksX5_readPart_4 16 rfl rfl)
theorem dX5_readPart_114 : decode cX5_readPart 114 = .ok (.aload_n 0, 1) := dk_42 (dk_at dksX5_readPart_4 19 rfl rfl)
theorem dX5_readPart_115 : decode cX5_readPart 115 = .ok (.getfield 229, 3) := dk_180 0 229 (dk_at dksX5_readPart_4 20 rfl rfl)
theorem dX5_readPart_118 : decode cX5_readPart 118 = .ok (.ifCond .ne 24, 3) := dk_154 0 24 (dk_at dksX5_readPart_5 0 rfl rfl)
theorem dX5_readPart_121 : decode cX5_readPart 121 = .ok (.aload_n 0, 1) := dk_42 (dk_at dksX5_readPart_5 3 rfl rfl)
theorem dX5_readPart_122 : decode cX5_readPart 122 = .ok (.getfield 264, 3) := dk_180 1 8 (dk_at dksX5_readPart_5 4 rfl rfl)
theorem dX5_readPart_125 : decode cX5_readPart 125 = .ok (.iconst 1, 1) := dk_4 (dk_at dksX5_readPart_5 7 rfl rfl)
theorem dX5_readPart_126 : decode cX5_readPart 126 = .ok (.isub, 1) := dk_100 (dk_at dksX5_readPart_5 8 rfl rfl)
theorem dX5_readPart_127 : decode cX5_readPart 127 = .ok (.istore_n 3, 1) := dk_62 (dk_at dksX5_readPart_5 9 rfl rfl)
theorem dX5_readPart_128 : decode cX5_readPart 128 = .ok (.aload_n 0, 1) := dk_42 (dk_at dksX5_readPart_5 10 rfl rfl)
theorem dX5_readPart_129 : decode cX5_readPart 129 = .ok (.getfield 48, 3) := dk_180 0 48 (dk_at dksX5_readPart_5 11 rfl rfl)
theorem dX5_readPart_132 : decode cX5_readPart 132 = .ok (.iload_n 3, 1) := dk_29 (dk_at dksX5_readPart_5 14 rfl rfl)
theorem dX5_readPart_133 : decode cX5_readPart 133 = .ok (.aload_n 0, 1) := dk_42 (dk_at dksX5_readPart_5 15 rfl rfl)
theorem dX5_readPart_134 : decode cX5_readPart 134 = .ok (.lconst 0, 1) := dk_9 (dk_at dksX5_readPart_5 16 rfl rfl)
theorem dX5_readPart_135 : decode cX5_readPart 135 = .ok (.ldc2_w 316, 3) := dk_20 1 60 (dk_at dksX5_readPart_5 17 rfl rfl)
theorem dX5_readPart_138 : decode cX5_readPart 138 = .ok (.invokevirtual 318, 3) := dk_182 1 62 (dk_at dksX5_readPart_5 20 rfl rfl)
theorem dX5_readPart_141 : decode cX5_readPart 141 = .ok (.iastore, 1) := dk_79 (dk_at dksX5_readPart_5 23 rfl rfl)
theorem dX5_readPart_142 : decode cX5_readPart 142 = .ok (.iconst 3, 1) := dk_6 (dk_at dksX5_readPart_6 0 rfl rfl)
theorem dX5_readPart_143 : decode cX5_readPart 143 = .ok (.ireturn, 1) := dk_172 (dk_at dksX5_readPart_6 1 rfl rfl)
abbrev cX5_orderPartAt : ByteArray := prog_23_method_49_code
def yX5_orderPartAt : MethodName := ⟨RX5, "orderPartAt", "()I"⟩
def dkwX5_orderPartAt_1 : List UInt8 := [4, 96, 167, 0, 4, 27, 60, 132, 2, 1, 167, 255, 226, 27, 172]
abbrev dktX5_orderPartAt_1 : List UInt8 := dkwX5_orderPartAt_1 ++ []
def dkwX5_orderPartAt_0 : List UInt8 := [2, 60, 3, 61, 28, 16, 7, 162, 0, 30, 42, 42, 180, 0, 83, 28, 47, 182, 1, 27, 153, 0, 9, 28]
abbrev dktX5_orderPartAt_0 : List UInt8 := dkwX5_orderPartAt_0 ++ dktX5_orderPartAt_1
theorem dksX5_orderPartAt_0 : cX5_orderPartAt.data.toList.drop 0 = dktX5_orderPartAt_0 := by decide +kernel
theorem dksX5_orderPartAt_1 : cX5_orderPartAt.data.toList.drop 24 = dktX5_orderPartAt_1 := dk_seg dksX5_orderPartAt_0 24 rfl rfl
theorem dX5_orderPartAt_0 : decode cX5_orderPartAt 0 = .ok (.iconst (-1), 1) := dk_2 (dk_at dksX5_orderPartAt_0 0 rfl rfl)
theorem dX5_orderPartAt_1 : decode cX5_orderPartAt 1 = .ok (.istore_n 1, 1) := dk_60 (dk_at dksX5_orderPartAt_0 1 rfl rfl)
theorem dX5_orderPartAt_2 : decode cX5_orderPartAt 2 = .ok (.iconst 0, 1) := dk_3 (dk_at dksX5_orderPartAt_0 2 rfl rfl)
theorem dX5_orderPartAt_3 : decode cX5_orderPartAt 3 = .ok (.istore_n 2, 1) := dk_61 (dk_at dksX5_orderPartAt_0 3 rfl rfl)
theorem dX5_orderPartAt_4 : decode cX5_orderPartAt 4 = .ok (.iload_n 2, 1) := dk_28 (dk_at dksX5_orderPartAt_0 4 rfl rfl)
theorem dX5_orderPartAt_5 : decode cX5_orderPartAt 5 = .ok (.bipush 7, 2) := dk_16 7 (dk_at dksX5_orderPartAt_0 5 rfl rfl)
theorem dX5_orderPartAt_7 : decode cX5_orderPartAt 7 = .ok (.if_icmp .ge 30, 3) := dk_162 0 30 (dk_at dksX5_orderPartAt_0 7 rfl rfl)
theorem dX5_orderPartAt_10 : decode cX5_orderPartAt 10 = .ok (.aload_n 0, 1) := dk_42 (dk_at dksX5_orderPartAt_0 10 rfl rfl)
theorem dX5_orderPartAt_11 : decode cX5_orderPartAt 11 = .ok (.aload_n 0, 1) := dk_42 (dk_at dksX5_orderPartAt_0 11 rfl rfl)
theorem dX5_orderPartAt_12 : decode cX5_orderPartAt 12 = .ok (.getfield 83, 3) := dk_180 0 83 (dk_at dksX5_orderPartAt_0 12 rfl rfl)
theorem dX5_orderPartAt_15 : decode cX5_orderPartAt 15 = .ok (.iload_n 2, 1) := dk_28 (dk_at dksX5_orderPartAt_0 15 rfl rfl)
theorem dX5_orderPartAt_16 : decode cX5_orderPartAt 16 = .ok (.laload, 1) := dk_47 (dk_at dksX5_orderPartAt_0 16 rfl rfl)
theorem dX5_orderPartAt_17 : decode cX5_orderPartAt 17 = .ok (.invokevirtual 283, 3) := dk_182 1 27 (dk_at dksX5_orderPartAt_0 17 rfl rfl)
theorem dX5_orderPartAt_20 : decode cX5_orderPartAt 20 = .ok (.ifCond .eq 9, 3) := dk_153 0 9 (dk_at dksX5_orderPartAt_0 20 rfl rfl)
theorem dX5_orderPartAt_23 : decode cX5_orderPartAt 23 = .ok (.iload_n 2, 1) := dk_28 (dk_at dksX5_orderPartAt_0 23 rfl rfl)
theorem dX5_orderPartAt_24 : decode cX5_orderPartAt 24 = .ok (.iconst 1, 1) := dk_4 (dk_at dksX5_orderPartAt_1 0 rfl rfl)
theorem dX5_orderPartAt_25 : decode cX5_orderPartAt 25 = .ok (.iadd, 1) := dk_96 (dk_at dksX5_orderPartAt_1 1 rfl rfl)
theorem dX5_orderPartAt_26 : decode cX5_orderPartAt 26 = .ok (.goto 4, 3) := dk_167 0 4 (dk_at dksX5_orderPartAt_1 2 rfl rfl)
theorem dX5_orderPartAt_29 : decode cX5_orderPartAt 29 = .ok (.iload_n 1, 1) := dk_27 (dk_at dksX5_orderPartAt_1 5 rfl rfl)
theorem dX5_orderPartAt_30 : decode cX5_orderPartAt 30 = .ok (.istore_n 1, 1) := dk_60 (dk_at dksX5_orderPartAt_1 6 rfl rfl)
theorem dX5_orderPartAt_31 : decode cX5_orderPartAt 31 = .ok (.iinc 2 1, 3) := dk_132 2 1 (dk_at dksX5_orderPartAt_1 7 rfl rfl)
theorem dX5_orderPartAt_34 : decode cX5_orderPartAt 34 = .ok (.goto (-30), 3) := dk_167 255 226 (dk_at dksX5_orderPartAt_1 10 rfl rfl)
theorem dX5_orderPartAt_37 : decode cX5_orderPartAt 37 = .ok (.iload_n 1, 1) := dk_27 (dk_at dksX5_orderPartAt_1 13 rfl rfl)
theorem dX5_orderPartAt_38 : decode cX5_orderPartAt 38 = .ok (.ireturn, 1) := dk_172 (dk_at dksX5_orderPartAt_1 14 rfl rfl)
abbrev cX5_partAt : ByteArray := prog_23_method_48_code
def yX5_partAt : MethodName := ⟨RX5, "partAt", "()I"⟩
def dkwX5_partAt_1 : List UInt8 := [4, 96, 167, 0, 4, 27, 60, 132, 2, 1, 167, 255, 226, 27, 172]
abbrev dktX5_partAt_1 : List UInt8 := dkwX5_partAt_1 ++ []
def dkwX5_partAt_0 : List UInt8 := [2, 60, 3, 61, 28, 16, 7, 162, 0, 30, 42, 42, 180, 0, 71, 28, 47, 182, 1, 27, 153, 0, 9, 28]
abbrev dktX5_partAt_0 : List UInt8 := dkwX5_partAt_0 ++ dktX5_partAt_1
theorem dksX5_partAt_0 : cX5_partAt.data.toList.drop 0 = dktX5_partAt_0 := by decide +kernel
theorem dksX5_partAt_1 : cX5_partAt.data.toList.drop 24 = dktX5_partAt_1 := dk_seg dksX5_partAt_0 24 rfl rfl
theorem dX5_partAt_0 : decode cX5_partAt 0 = .ok (.iconst (-1), 1) := dk_2 (dk_at dksX5_partAt_0 0 rfl rfl)
theorem dX5_partAt_1 : decode cX5_partAt 1 = .ok (.istore_n 1, 1) := dk_60 (dk_at dksX5_partAt_0 1 rfl rfl)
theorem dX5_partAt_2 : decode cX5_partAt 2 = .ok (.iconst 0, 1) := dk_3 (dk_at dksX5_partAt_0 2 rfl rfl)
theorem dX5_partAt_3 : decode cX5_partAt 3 = .ok (.istore_n 2, 1) := dk_61 (dk_at dksX5_partAt_0 3 rfl rfl)
theorem dX5_partAt_4 : decode cX5_partAt 4 = .ok (.iload_n 2, 1) := dk_28 (dk_at dksX5_partAt_0 4 rfl rfl)
theorem dX5_partAt_5 : decode cX5_partAt 5 = .ok (.bipush 7, 2) := dk_16 7 (dk_at dksX5_partAt_0 5 rfl rfl)
theorem dX5_partAt_7 : decode cX5_partAt 7 = .ok (.if_icmp .ge 30, 3) := dk_162 0 30 (dk_at dksX5_partAt_0 7 rfl rfl)
theorem dX5_partAt_10 : decode cX5_partAt 10 = .ok (.aload_n 0, 1) := dk_42 (dk_at dksX5_partAt_0 10 rfl rfl)
theorem dX5_partAt_11 : decode cX5_partAt 11 = .ok (.aload_n 0, 1) := dk_42 (dk_at dksX5_partAt_0 11 rfl rfl)
theorem dX5_partAt_12 : decode cX5_partAt 12 = .ok (.getfield 71, 3) := dk_180 0 71 (dk_at dksX5_partAt_0 12 rfl rfl)
theorem dX5_partAt_15 : decode cX5_partAt 15 = .ok (.iload_n 2, 1) := dk_28 (dk_at dksX5_partAt_0 15 rfl rfl)
theorem dX5_partAt_16 : decode cX5_partAt 16 = .ok (.laload, 1) := dk_47 (dk_at dksX5_partAt_0 16 rfl rfl)
theorem dX5_partAt_17 : decode cX5_partAt 17 = .ok (.invokevirtual 283, 3) := dk_182 1 27 (dk_at dksX5_partAt_0 17 rfl rfl)
theorem dX5_partAt_20 : decode cX5_partAt 20 = .ok (.ifCond .eq 9, 3) := dk_153 0 9 (dk_at dksX5_partAt_0 20 rfl rfl)
theorem dX5_partAt_23 : decode cX5_partAt 23 = .ok (.iload_n 2, 1) := dk_28 (dk_at dksX5_partAt_0 23 rfl rfl)
theorem dX5_partAt_24 : decode cX5_partAt 24 = .ok (.iconst 1, 1) := dk_4 (dk_at dksX5_partAt_1 0 rfl rfl)
theorem dX5_partAt_25 : decode cX5_partAt 25 = .ok (.iadd, 1) := dk_96 (dk_at dksX5_partAt_1 1 rfl rfl)
theorem dX5_partAt_26 : decode cX5_partAt 26 = .ok (.goto 4, 3) := dk_167 0 4 (dk_at dksX5_partAt_1 2 rfl rfl)
theorem dX5_partAt_29 : decode cX5_partAt 29 = .ok (.iload_n 1, 1) := dk_27 (dk_at dksX5_partAt_1 5 rfl rfl)
theorem dX5_partAt_30 : decode cX5_partAt 30 = .ok (.istore_n 1, 1) := dk_60 (dk_at dksX5_partAt_1 6 rfl rfl)
theorem dX5_partAt_31 : decode cX5_partAt 31 = .ok (.iinc 2 1, 3) := dk_132 2 1 (dk_at dksX5_partAt_1 7 rfl rfl)
theorem dX5_partAt_34 : decode cX5_partAt 34 = .ok (.goto (-30), 3) := dk_167 255 226 (dk_at dksX5_partAt_1 10 rfl rfl)
theorem dX5_partAt_37 : decode cX5_partAt 37 = .ok (.iload_n 1, 1) := dk_27 (dk_at dksX5_partAt_1 13 rfl rfl)
theorem dX5_partAt_38 : decode cX5_partAt 38 = .ok (.ireturn, 1) := dk_172 (dk_at dksX5_partAt_1 14 rfl rfl)
abbrev cX5_leaf : ByteArray := prog_23_method_51_code
def yX5_leaf : MethodName := ⟨RX5, "leaf", "(ZII)V"⟩
def dkwX5_leaf_1 : List UInt8 := [180, 0, 229, 154, 0, 19, 42, 28, 29, 182, 1, 17, 42, 89, 180, 1, 37, 4, 96, 181, 1, 37, 177]
abbrev dktX5_leaf_1 : List UInt8 := dkwX5_leaf_1 ++ []
def dkwX5_leaf_0 : List UInt8 := [42, 27, 153, 0, 16, 42, 180, 1, 37, 16, 50, 162, 0, 7, 4, 167, 0, 4, 3, 182, 1, 4, 42]
abbrev dktX5_leaf_0 : List UInt8 := dkwX5_leaf_0 ++ dktX5_leaf_1
theorem dksX5_leaf_0 : cX5_leaf.data.toList.drop 0 = dktX5_leaf_0 := by decide +kernel
theorem dksX5_leaf_1 : cX5_leaf.data.toList.drop 23 = dktX5_leaf_1 := dk_seg dksX5_leaf_0 23 rfl rfl
theorem dX5_leaf_0 : decode cX5_leaf 0 = .ok (.aload_n 0, 1) := dk_42 (dk_at dksX5_leaf_0 0 rfl rfl)
theorem dX5_leaf_1 : decode cX5_leaf 1 = .ok (.iload_n 1, 1) := dk_27 (dk_at dksX5_leaf_0 1 rfl rfl)
theorem dX5_leaf_2 : decode cX5_leaf 2 = .ok (.ifCond .eq 16, 3) := dk_153 0 16 (dk_at dksX5_leaf_0 2 rfl rfl)
theorem dX5_leaf_5 : decode cX5_leaf 5 = .ok (.aload_n 0, 1) := dk_42 (dk_at dksX5_leaf_0 5 rfl rfl)
theorem dX5_leaf_6 : decode cX5_leaf 6 = .ok (.getfield 293, 3) := dk_180 1 37 (dk_at dksX5_leaf_0 6 rfl rfl)
theorem dX5_leaf_9 : decode cX5_leaf 9 = .ok (.bipush 50, 2) := dk_16 50 (dk_at dksX5_leaf_0 9 rfl rfl)
theorem dX5_leaf_11 : decode cX5_leaf 11 = .ok (.if_icmp .ge 7, 3) := dk_162 0 7 (dk_at dksX5_leaf_0 11 rfl rfl)
theorem dX5_leaf_14 : decode cX5_leaf 14 = .ok (.iconst 1, 1) := dk_4 (dk_at dksX5_leaf_0 14 rfl rfl)
theorem dX5_leaf_15 : decode cX5_leaf 15 = .ok (.goto 4, 3) := dk_167 0 4 (dk_at dksX5_leaf_0 15 rfl rfl)
theorem dX5_leaf_18 : decode cX5_leaf 18 = .ok (.iconst 0, 1) := dk_3 (dk_at dksX5_leaf_0 18 rfl rfl)
theorem dX5_leaf_19 : decode cX5_leaf 19 = .ok (.invokevirtual 260, 3) := dk_182 1 4 (dk_at dksX5_leaf_0 19 rfl rfl)
theorem dX5_leaf_22 : decode cX5_leaf 22 = .ok (.aload_n 0, 1) := dk_42 (dk_at dksX5_leaf_0 22 rfl rfl)
theorem dX5_leaf_23 : decode cX5_leaf 23 = .ok (.getfield 229, 3) := dk_180 0 229 (dk_at dksX5_leaf_1 0 rfl rfl)
theorem dX5_leaf_26 : decode cX5_leaf 26 = .ok (.ifCond .ne 19, 3) := dk_154 0 19 (dk_at dksX5_leaf_1 3 rfl rfl)
theorem dX5_leaf_29 : decode cX5_leaf 29 = .ok (.aload_n 0, 1) := dk_42 (dk_at dksX5_leaf_1 6 rfl rfl)
theorem dX5_leaf_30 : decode cX5_leaf 30 = .ok (.iload_n 2, 1) := dk_28 (dk_at dksX5_leaf_1 7 rfl rfl)
theorem dX5_leaf_31 : decode cX5_leaf 31 = .ok (.iload_n 3, 1) := dk_29 (dk_at dksX5_leaf_1 8 rfl rfl)
theorem dX5_leaf_32 : decode cX5_leaf 32 = .ok (.invokevirtual 273, 3) := dk_182 1 17 (dk_at dksX5_leaf_1 9 rfl rfl)
theorem dX5_leaf_35 : decode cX5_leaf 35 = .ok (.aload_n 0, 1) := dk_42 (dk_at dksX5_leaf_1 12 rfl rfl)
theorem dX5_leaf_36 : decode cX5_leaf 36 = .ok (.dup, 1) := dk_89 (dk_at dksX5_leaf_1 13 rfl rfl)
theorem dX5_leaf_37 : decode cX5_leaf 37 = .ok (.getfield 293, 3) := dk_180 1 37 (dk_at dksX5_leaf_1 14 rfl rfl)
theorem dX5_leaf_40 : decode cX5_leaf 40 = .ok (.iconst 1, 1) := dk_4 (dk_at dksX5_leaf_1 17 rfl rfl)
theorem dX5_leaf_41 : decode cX5_leaf 41 = .ok (.iadd, 1) := dk_96 (dk_at dksX5_leaf_1 18 rfl rfl)
theorem dX5_leaf_42 : decode cX5_leaf 42 = .ok (.putfield 293, 3) := dk_181 1 37 (dk_at dksX5_leaf_1 19 rfl rfl)
theorem dX5_leaf_45 : decode cX5_leaf 45 = .ok (.return_, 1) := dk_177 (dk_at dksX5_leaf_1 22 rfl rfl)
abbrev cX5_emit : ByteArray := prog_23_method_42_code
def yX5_emit : MethodName := ⟨RX5, "emit", "(II)V"⟩
def dkwX5_emit_1 : List UInt8 := [180, 1, 8, 4, 96, 181, 1, 8, 177]
abbrev dktX5_emit_1 : List UInt8 := dkwX5_emit_1 ++ []
def dkwX5_emit_0 : List UInt8 := [42, 180, 0, 45, 42, 180, 1, 8, 27, 79, 42, 180, 0, 48, 42, 180, 1, 8, 28, 79, 42, 89]
abbrev dktX5_emit_0 : List UInt8 := dkwX5_emit_0 ++ dktX5_emit_1
theorem dksX5_emit_0 : cX5_emit.data.toList.drop 0 = dktX5_emit_0 := by decide +kernel
theorem dksX5_emit_1 : cX5_emit.data.toList.drop 22 = dktX5_emit_1 := dk_seg dksX5_emit_0 22 rfl rfl
theorem dX5_emit_0 : decode cX5_emit 0 = .ok (.aload_n 0, 1) := dk_42 (dk_at dksX5_emit_0 0 rfl rfl)
theorem dX5_emit_1 : decode cX5_emit 1 = .ok (.getfield 45, 3) := dk_180 0 45 (dk_at dksX5_emit_0 1 rfl rfl)
theorem dX5_emit_4 : decode cX5_emit 4 = .ok (.aload_n 0, 1) := dk_42 (dk_at dksX5_emit_0 4 rfl rfl)
theorem dX5_emit_5 : decode cX5_emit 5 = .ok (.getfield 264, 3) := dk_180 1 8 (dk_at dksX5_emit_0 5 rfl rfl)
theorem dX5_emit_8 : decode cX5_emit 8 = .ok (.iload_n 1, 1) := dk_27 (dk_at dksX5_emit_0 8 rfl rfl)
theorem dX5_emit_9 : decode cX5_emit 9 = .ok (.iastore, 1) := dk_79 (dk_at dksX5_emit_0 9 rfl rfl)
theorem dX5_emit_10 : decode cX5_emit 10 = .ok (.aload_n 0, 1) := dk_42 (dk_at dksX5_emit_0 10 rfl rfl)
theorem dX5_emit_11 : decode cX5_emit 11 = .ok (.getfield 48, 3) := dk_180 0 48 (dk_at dksX5_emit_0 11 rfl rfl)
theorem dX5_emit_14 : decode cX5_emit 14 = .ok (.aload_n 0, 1) := dk_42 (dk_at dksX5_emit_0 14 rfl rfl)
theorem dX5_emit_15 : decode cX5_emit 15 = .ok (.getfield 264, 3) := dk_180 1 8 (dk_at dksX5_emit_0 15 rfl rfl)
theorem dX5_emit_18 : decode cX5_emit 18 = .ok (.iload_n 2, 1) := dk_28 (dk_at dksX5_emit_0 18 rfl rfl)
theorem dX5_emit_19 : decode cX5_emit 19 = .ok (.iastore, 1) := dk_79 (dk_at dksX5_emit_0 19 rfl rfl)
theorem dX5_emit_20 : decode cX5_emit 20 = .ok (.aload_n 0, 1) := dk_42 (dk_at dksX5_emit_0 20 rfl rfl)
theorem dX5_emit_21 : decode cX5_emit 21 = .ok (.dup, 1) := dk_89 (dk_at dksX5_emit_0 21 rfl rfl)
theorem dX5_emit_22 : decode cX5_emit 22 = .ok (.getfield 264, 3) := dk_180 1 8 (dk_at dksX5_emit_1 0 rfl rfl)
theorem dX5_emit_25 : decode cX5_emit 25 = .ok (.iconst 1, 1) := dk_4 (dk_at dksX5_emit_1 3 rfl rfl)
theorem dX5_emit_26 : decode cX5_emit 26 = .ok (.iadd, 1) := dk_96 (dk_at dksX5_emit_1 4 rfl rfl)
theorem dX5_emit_27 : decode cX5_emit 27 = .ok (.putfield 264, 3) := dk_181 1 8 (dk_at dksX5_emit_1 5 rfl rfl)
theorem dX5_emit_30 : decode cX5_emit 30 = .ok (.return_, 1) := dk_177 (dk_at dksX5_emit_1 8 rfl rfl)
abbrev cX5_number : ByteArray := prog_23_method_40_code
def yX5_number : MethodName := ⟨RX5, "number", "(JJ)I"⟩
def dkwX5_number_1 : List UInt8 := [184, 0, 153, 153, 0, 7, 4, 167, 0, 4, 3, 182, 1, 4, 21, 5, 172]
abbrev dktX5_number_1 : List UInt8 := dkwX5_number_1 ++ []
def dkwX5_number_0 : List UInt8 := [42, 180, 0, 239, 136, 54, 5, 42, 42, 180, 0, 249, 5, 160, 0, 19, 42, 180, 0, 239, 31, 33]
abbrev dktX5_number_0 : List UInt8 := dkwX5_number_0 ++ dktX5_number_1
theorem dksX5_number_0 : cX5_number.data.toList.drop 0 = dktX5_number_0 := by decide +kernel
theorem dksX5_number_1 : cX5_number.data.toList.drop 22 = dktX5_number_1 := dk_seg dksX5_number_0 22 rfl rfl
theorem dX5_number_0 : decode cX5_number 0 = .ok (.aload_n 0, 1) := dk_42 (dk_at dksX5_number_0 0 rfl rfl)
theorem dX5_number_1 : decode cX5_number 1 = .ok (.getfield 239, 3) := dk_180 0 239 (dk_at dksX5_number_0 1 rfl rfl)
theorem dX5_number_4 : decode cX5_number 4 = .ok (.l2i, 1) := dk_136 (dk_at dksX5_number_0 4 rfl rfl)
theorem dX5_number_5 : decode cX5_number 5 = .ok (.istore 5, 2) := dk_54 5 (dk_at dksX5_number_0 5 rfl rfl)
theorem dX5_number_7 : decode cX5_number 7 = .ok (.aload_n 0, 1) := dk_42 (dk_at dksX5_number_0 7 rfl rfl)
theorem dX5_number_8 : decode cX5_number 8 = .ok (.aload_n 0, 1) := dk_42 (dk_at dksX5_number_0 8 rfl rfl)
theorem dX5_number_9 : decode cX5_number 9 = .ok (.getfield 249, 3) := dk_180 0 249 (dk_at dksX5_number_0 9 rfl rfl)
theorem dX5_number_12 : decode cX5_number 12 = .ok (.iconst 2, 1) := dk_5 (dk_at dksX5_number_0 12 rfl rfl)
theorem dX5_number_13 : decode cX5_number 13 = .ok (.if_icmp .ne 19, 3) := dk_160 0 19 (dk_at dksX5_number_0 13 rfl rfl)
theorem dX5_number_16 : decode cX5_number 16 = .ok (.aload_n 0, 1) := dk_42 (dk_at dksX5_number_0 16 rfl rfl)
theorem dX5_number_17 : decode cX5_number 17 = .ok (.getfield 239, 3) := dk_180 0 239 (dk_at dksX5_number_0 17 rfl rfl)
theorem dX5_number_20 : decode cX5_number 20 = .ok (.lload_n 1, 1) := dk_31 (dk_at dksX5_number_0 20 rfl rfl)
theorem dX5_number_21 : decode cX5_number 21 = .ok (.lload_n 3, 1) := dk_33 (dk_at dksX5_number_0 21 rfl rfl)
theorem dX5_number_22 : decode cX5_number 22 = .ok (.invokestatic 153, 3) := dk_184 0 153 (dk_at dksX5_number_1 0 rfl rfl)
theorem dX5_number_25 : decode cX5_number 25 = .ok (.ifCond .eq 7, 3) := dk_153 0 7 (dk_at dksX5_number_1 3 rfl rfl)
theorem dX5_number_28 : decode cX5_number 28 = .ok (.iconst 1, 1) := dk_4 (dk_at dksX5_number_1 6 rfl rfl)
theorem dX5_number_29 : decode cX5_number 29 = .ok (.goto 4, 3) := dk_167 0 4 (dk_at dksX5_number_1 7 rfl rfl)
theorem dX5_number_32 : decode cX5_number 32 = .ok (.iconst 0, 1) := dk_3 (dk_at dksX5_number_1 10 rfl rfl)
theorem dX5_number_33 : decode cX5_number 33 = .ok (.invokevirtual 260, 3) := dk_182 1 4 (dk_at dksX5_number_1 11 rfl rfl)
theorem dX5_number_36 : decode cX5_number 36 = .ok (.iload 5, 2) := dk_21 5 (dk_at dksX5_number_1 14 rfl rfl)
theorem dX5_number_38 : decode cX5_number 38 = .ok (.ireturn, 1) := dk_172 (dk_at dksX5_number_1 16 rfl rfl)
abbrev cX5_behindSum : ByteArray := prog_23_method_54_code
def yX5_behindSum : MethodName := ⟨RX5, "behindSum", "(Z)I"⟩
def dkwX5_behindSum_10 : List UInt8 := [154, 0, 14, 42, 8, 182, 1, 71, 42, 28, 3, 182, 1, 34, 4, 172]
abbrev dktX5_behindSum_10 : List UInt8 := dkwX5_behindSum_10 ++ []
def dkwX5_behindSum_9 : List UInt8 := [160, 0, 12, 42, 16, 61, 182, 1, 40, 153, 0, 7, 4, 167, 0, 4, 3, 182, 1, 4, 42, 180, 0, 229]
abbrev dktX5_behindSum_9 : List UInt8 := dkwX5_behindSum_9 ++ dktX5_behindSum_10
def dkwX5_behindSum_8 : List UInt8 := [167, 0, 19, 42, 16, 62, 182, 1, 40, 153, 0, 8, 16, 26, 167, 0, 5, 16, 27, 61, 42, 28, 16, 27]
abbrev dktX5_behindSum_8 : List UInt8 := dkwX5_behindSum_8 ++ dktX5_behindSum_9
def dkwX5_behindSum_7 : List UInt8 := [7, 172, 42, 182, 1, 77, 153, 0, 5, 5, 172, 42, 16, 60, 182, 1, 40, 153, 0, 8, 16, 25]
abbrev dktX5_behindSum_7 : List UInt8 := dkwX5_behindSum_7 ++ dktX5_behindSum_8
def dkwX5_behindSum_6 : List UInt8 := [181, 1, 11, 42, 89, 180, 1, 31, 4, 100, 181, 1, 31, 6, 172, 29, 2, 160, 0, 9, 27, 154, 0, 5]
abbrev dktX5_behindSum_6 : List UInt8 := dkwX5_behindSum_6 ++ dktX5_behindSum_7
def dkwX5_behindSum_5 : List UInt8 := [182, 1, 4, 42, 180, 0, 229, 154, 0, 28, 42, 8, 182, 1, 71, 42, 89, 180, 1, 11, 4, 100]
abbrev dktX5_behindSum_5 : List UInt8 := dkwX5_behindSum_5 ++ dktX5_behindSum_6
def dkwX5_behindSum_4 : List UInt8 := [42, 182, 0, 233, 4, 172, 42, 182, 1, 74, 62, 29, 16, 32, 160, 0, 47, 42, 42, 16, 93, 182, 1, 40]
abbrev dktX5_behindSum_4 : List UInt8 := dkwX5_behindSum_4 ++ dktX5_behindSum_5
def dkwX5_behindSum_3 : List UInt8 := [167, 0, 4, 2, 61, 28, 2, 159, 0, 23, 42, 28, 184, 1, 14, 182, 1, 71, 42, 28, 3, 182, 1, 34]
abbrev dktX5_behindSum_3 : List UInt8 := dkwX5_behindSum_3 ++ dktX5_behindSum_4
def dkwX5_behindSum_2 : List UInt8 := [182, 1, 40, 153, 0, 8, 16, 23, 167, 0, 18, 42, 16, 37, 182, 1, 40, 153, 0, 8, 16, 24]
abbrev dktX5_behindSum_2 : List UInt8 := dkwX5_behindSum_2 ++ dktX5_behindSum_3
def dkwX5_behindSum_1 : List UInt8 := [16, 21, 167, 0, 46, 42, 16, 42, 182, 1, 40, 153, 0, 8, 16, 22, 167, 0, 32, 42, 16, 47]
abbrev dktX5_behindSum_1 : List UInt8 := dkwX5_behindSum_1 ++ dktX5_behindSum_2
def dkwX5_behindSum_0 : List UInt8 := [42, 16, 43, 182, 1, 40, 153, 0, 8, 16, 20, 167, 0, 60, 42, 16, 45, 182, 1, 40, 153, 0, 8]
abbrev dktX5_behindSum_0 : List UInt8 := dkwX5_behindSum_0 ++ dktX5_behindSum_1
theorem dksX5_behindSum_0 : cX5_behindSum.data.toList.drop 0 = dktX5_behindSum_0 := by decide +kernel
theorem dksX5_behindSum_1 : cX5_behindSum.data.toList.drop 23 = dktX5_behindSum_1 := dk_seg dksX5_behindSum_0 23 rfl rfl
theorem dksX5_behindSum_2 : cX5_behindSum.data.toList.drop 45 = dktX5_behindSum_2 := dk_seg dksX5_behindSum_1 22 rfl rfl
theorem dksX5_behindSum_3 : cX5_behindSum.data.toList.drop 67 = dktX5_behindSum_3 := dk_seg dksX5_behindSum_2 22 rfl rfl
theorem dksX5_behindSum_4 : cX5_behindSum.data.toList.drop 91 = dktX5_behindSum_4 := dk_seg dksX5_behindSum_3 24 rfl rfl
theorem dksX5_behindSum_5 : cX5_behindSum.data.toList.drop 115 = dktX5_behindSum_5 := dk_seg dksX5_behindSum_4 24 rfl rfl
theorem dksX5_behindSum_6 : cX5_behindSum.data.toList.drop 137 = dktX5_behindSum_6 := dk_seg dksX5_behindSum_5 22 rfl rfl
theorem dksX5_behindSum_7 : cX5_behindSum.data.toList.drop 161 = dktX5_behindSum_7 := dk_seg dksX5_behindSum_6 24 rfl rfl
theorem dksX5_behindSum_8 : cX5_behindSum.data.toList.drop 183 = dktX5_behindSum_8 := dk_seg dksX5_behindSum_7 22 rfl rfl
theorem dksX5_behindSum_9 : cX5_behindSum.data.toList.drop 207 = dktX5_behindSum_9 := dk_seg dksX5_behindSum_8 24 rfl rfl
theorem dksX5_behindSum_10 : cX5_behindSum.data.toList.drop 231 = dktX5_behindSum_10 := dk_seg dksX5_behindSum_9 24 rfl rfl
theorem dX5_behindSum_0 : decode cX5_behindSum 0 = .ok (.aload_n 0, 1) := dk_42 (dk_at dksX5_behindSum_0 0 rfl rfl)
theorem dX5_behindSum_1 : decode cX5_behindSum 1 = .ok (.bipush 43, 2) := dk_16 43 (dk_at dksX5_behindSum_0 1 rfl rfl)
theorem dX5_behindSum_3 : decode cX5_behindSum 3 = .ok (.invokevirtual 296, 3) := dk_182 1 40 (dk_at dksX5_behindSum_0 3 rfl rfl)
theorem dX5_behindSum_6 : decode cX5_behindSum 6 = .ok (.ifCond .eq 8, 3) := dk_153 0 8 (dk_at dksX5_behindSum_0 6 rfl rfl)
theorem dX5_behindSum_9 : decode cX5_behindSum 9 = .ok (.bipush 20, 2) := dk_16 20 (dk_at dksX5_behindSum_0 9 rfl rfl)
theorem dX5_behindSum_11 : decode cX5_behindSum 11 = .ok (.goto 60, 3) := dk_167 0 60 (dk_at dksX5_behindSum_0 11 rfl rfl)
theorem dX5_behindSum_14 : decode cX5_behindSum 14 = .ok (.aload_n 0, 1) := dk_42 (dk_at dksX5_behindSum_0 14 rfl rfl)
theorem dX5_behindSum_15 : decode cX5_behindSum 15 = .ok (.bipush 45, 2) := dk_16 45 (dk_at dksX5_behindSum_0 15 rfl rfl)
theorem dX5_behindSum_17 : decode cX5_behindSum 17 = .ok (.invokevirtual 296, 3) := dk_182 1 40 (dk_at dksX5_behindSum_0 17 rfl rfl)
theorem dX5_behindSum_20 : decode cX5_behindSum 20 = .ok (.ifCond .eq 8, 3) := dk_153 0 8 (dk_at dksX5_behindSum_0 20 rfl rfl)
theorem dX5_behindSum_23 : decode cX5_behindSum 23 = .ok (.bipush 21, 2) := dk_16 21 (dk_at dksX5_behindSum_1 0 rfl rfl)
theorem dX5_behindSum_25 : decode cX5_behindSum 25 = .ok (.goto 46, 3) := dk_167 0 46 (dk_at dksX5_behindSum_1 2 rfl rfl)
theorem dX5_behindSum_28 : decode cX5_behindSum 28 = .ok (.aload_n 0, 1) := dk_42 (dk_at dksX5_behindSum_1 5 rfl rfl)
theorem dX5_behindSum_29 : decode cX5_behindSum 29 = .ok (.bipush 42, 2) := dk_16 42 (dk_at dksX5_behindSum_1 6 rfl rfl)
theorem dX5_behindSum_31 : decode cX5_behindSum 31 = .ok (.invokevirtual 296, 3) := dk_182 1 40 (dk_at dksX5_behindSum_1 8 rfl rfl)
theorem dX5_behindSum_34 : decode cX5_behindSum 34 = .ok (.ifCond .eq 8, 3) := dk_153 0 8 (dk_at dksX5_behindSum_1 11 rfl rfl)
theorem dX5_behindSum_37 : decode cX5_behindSum 37 = .ok (.bipush 22, 2) := dk_16 22 (dk_at dksX5_behindSum_1 14 rfl rfl)
theorem dX5_behindSum_39 : decode cX5_behindSum 39 = .ok (.goto 32, 3) := dk_167 0 32 (dk_at dksX5_behindSum_1 16 rfl rfl)
theorem dX5_behindSum_42 : decode cX5_behindSum 42 = .ok (.aload_n 0, 1) := dk_42 (dk_at dksX5_behindSum_1 19 rfl rfl)
theorem dX5_behindSum_43 : decode cX5_behindSum 43 = .ok (.bipush 47, 2) := dk_16 47 (dk_at dksX5_behindSum_1 20 rfl rfl)
theorem dX5_behindSum_45 : decode cX5_behindSum 45 = .ok (.invokevirtual 296, 3) := dk_182 1 40 (dk_at dksX5_behindSum_2 0 rfl rfl)
theorem dX5_behindSum_48 : decode cX5_behindSum 48 = .ok (.ifCond .eq 8, 3) := dk_153 0 8 (dk_at dksX5_behindSum_2 3 rfl rfl)
theorem dX5_behindSum_51 : decode cX5_behindSum 51 = .ok (.bipush 23, 2) := dk_16 23 (dk_at dksX5_behindSum_2 6 rfl rfl)
theorem dX5_behindSum_53 : decode cX5_behindSum 53 = .ok (.goto 18, 3) := dk_167 0 18 (dk_at dksX5_behindSum_2 8 rfl rfl)
theorem dX5_behindSum_56 : decode cX5_behindSum 56 = .ok (.aload_n 0, 1) := dk_42 (dk_at dksX5_behindSum_2 11 rfl rfl)
theorem dX5_behindSum_57 : decode cX5_behindSum 57 = .ok (.bipush 37, 2) := dk_16 37 (dk_at dksX5_behindSum_2 12 rfl rfl)
theorem dX5_behindSum_59 : decode cX5_behindSum 59 = .ok (.invokevirtual 296, 3) := dk_182 1 40 (dk_at dksX5_behindSum_2 14 rfl rfl)
theorem dX5_behindSum_62 : decode cX5_behindSum 62 = .ok (.ifCond .eq 8, 3) := dk_153 0 8 (dk_at dksX5_behindSum_2 17 rfl rfl)
theorem dX5_behindSum_65 : decode cX5_behindSum 65 = .ok (.bipush 24, 2) := dk_16 24 (dk_at dksX5_behindSum_2 20 rfl rfl)
theorem dX5_behindSum_67 : decode cX5_behindSum 67 = .ok (.goto 4, 3) := dk_167 0 4 (dk_at dksX5_behindSum_3 0 rfl rfl)
theorem dX5_behindSum_70 : decode cX5_behindSum 70 = .ok (.iconst (-1), 1) := dk_2 (dk_at dksX5_behindSum_3 3 rfl rfl)
theorem dX5_behindSum_71 : decode cX5_behindSum 71 = .ok (.istore_n 2, 1) := dk_61 (dk_at dksX5_behindSum_3 4 rfl rfl)
theorem dX5_behindSum_72 : decode cX5_behindSum 72 = .ok (.iload_n 2, 1) := dk_28 (dk_at dksX5_behindSum_3 5 rfl rfl)
theorem dX5_behindSum_73 : decode cX5_behindSum 73 = .ok (.iconst (-1), 1) := dk_2 (dk_at dksX5_behindSum_3 6 rfl rfl)
theorem dX5_behindSum_74 : decode cX5_behindSum 74 = .ok (.if_icmp .eq 23, 3) := dk_159 0 23 (dk_at dksX5_behindSum_3 7 rfl rfl)
theorem dX5_behindSum_77 : decode cX5_behindSum 77 = .ok (.aload_n 0, 1) := dk_42 (dk_at dksX5_behindSum_3 10 rfl rfl)
theorem dX5_behindSum_78 : decode cX5_behindSum 78 = .ok (.iload_n 2, 1) := dk_28 (dk_at dksX5_behindSum_3 11 rfl rfl)
theorem dX5_behindSum_79 : decode cX5_behindSum 79 = .ok (.invokestatic 270, 3) := dk_184 1 14 (dk_at dksX5_behindSum_3 12 rfl rfl)
theorem dX5_behindSum_82 : decode cX5_behindSum 82 = .ok (.invokevirtual 327, 3) := dk_182 1 71 (dk_at dksX5_behindSum_3 15 rfl rfl)
theorem dX5_behindSum_85 : decode cX5_behindSum 85 = .ok (.aload_n 0, 1) := dk_42 (dk_at dksX5_behindSum_3 18 rfl rfl)
theorem dX5_behindSum_86 : decode cX5_behindSum 86 = .ok (.iload_n 2, 1) := dk_28 (dk_at dksX5_behindSum_3 19 rfl rfl)
theorem dX5_behindSum_87 : decode cX5_behindSum 87 = .ok (.iconst 0, 1) := dk_3 (dk_at dksX5_behindSum_3 20 rfl rfl)
theorem dX5_behindSum_88 : decode cX5_behindSum 88 = .ok (.invokevirtual 290, 3) := dk_182 1 34 (dk_at dksX5_behindSum_3 21 rfl rfl)
theorem dX5_behindSum_91 : decode cX5_behindSum 91 = .ok (.aload_n 0, 1) := dk_42 (dk_at dksX5_behindSum_4 0 rfl rfl)
theorem dX5_behindSum_92 : decode cX5_behindSum 92 = .ok (.invokevirtual 233, 3) := dk_182 0 233 (dk_at dksX5_behindSum_4 1 rfl rfl)
theorem dX5_behindSum_95 : decode cX5_behindSum 95 = .ok (.iconst 1, 1) := dk_4 (dk_at dksX5_behindSum_4 4 rfl rfl)
theorem dX5_behindSum_96 : decode cX5_behindSum 96 = .ok (.ireturn, 1) := dk_172 (dk_at dksX5_behindSum_4 5 rfl rfl)
theorem dX5_behindSum_97 : decode cX5_behindSum 97 = .ok (.aload_n 0, 1) := dk_42 (dk_at dksX5_behindSum_4 6 rfl rfl)
theorem dX5_behindSum_98 : decode cX5_behindSum 98 = .ok (.invokevirtual 330, 3) := dk_182 1 74 (dk_at dksX5_behindSum_4 7 rfl rfl)
theorem dX5_behindSum_101 : decode cX5_behindSum 101 = .ok (.istore_n 3, 1) := dk_62 (dk_at dksX5_behindSum_4 10 rfl rfl)
theorem dX5_behindSum_102 : decode cX5_behindSum 102 = .ok (.iload_n 3, 1) := dk_29 (dk_at dksX5_behindSum_4 11 rfl rfl)
theorem dX5_behindSum_103 : decode cX5_behindSum 103 = .ok (.bipush 32, 2) := dk_16 32 (dk_at dksX5_behindSum_4 12 rfl rfl)
theorem dX5_behindSum_105 : decode cX5_behindSum 105 = .ok (.if_icmp .ne 47, 3) := dk_160 0 47 (dk_at dksX5_behindSum_4 14 rfl rfl)
theorem dX5_behindSum_108 : decode cX5_behindSum 108 = .ok (.aload_n 0, 1) := dk_42 (dk_at dksX5_behindSum_4 17 rfl rfl)
theorem dX5_behindSum_109 : decode cX5_behindSum 109 = .ok (.aload_n 0, 1) := dk_42 (dk_at dksX5_behindSum_4 18 rfl rfl)
theorem dX5_behindSum_110 : decode cX5_behindSum 110 = .ok (.bipush 93, 2) := dk_16 93 (dk_at dksX5_behindSum_4 19 rfl rfl)
theorem dX5_behindSum_112 : decode cX5_behindSum 112 = .ok (.invokevirtual 296, 3) := dk_182 1 40 (dk_at dksX5_behindSum_4 21 rfl rfl)
theorem dX5_behindSum_115 : decode cX5_behindSum 115 = .ok (.invokevirtual 260, 3) := dk_182 1 4 (dk_at dksX5_behindSum_5 0 rfl rfl)
theorem dX5_behindSum_118 : decode cX5_behindSum 118 = .ok (.aload_n 0, 1) := dk_42 (dk_at dksX5_behindSum_5 3 rfl rfl)
theorem dX5_behindSum_119 : decode cX5_behindSum 119 = .ok (.getfield 229, 3) := dk_180 0 229 (dk_at dksX5_behindSum_5 4 rfl rfl)
theorem dX5_behindSum_122 : decode cX5_behindSum 122 = .ok (.ifCond .ne 28, 3) := dk_154 0 28 (dk_at dksX5_behindSum_5 7 rfl rfl)
theorem dX5_behindSum_125 : decode cX5_behindSum 125 = .ok (.aload_n 0, 1) := dk_42 (dk_at dksX5_behindSum_5 10 rfl rfl)
theorem dX5_behindSum_126 : decode cX5_behindSum 126 = .ok (.iconst 5, 1) := dk_8 (dk_at dksX5_behindSum_5 11 rfl rfl)
theorem dX5_behindSum_127 : decode cX5_behindSum 127 = .ok (.invokevirtual 327, 3) := dk_182 1 71 (dk_at dksX5_behindSum_5 12 rfl rfl)
theorem dX5_behindSum_130 : decode cX5_behindSum 130 = .ok (.aload_n 0, 1) := dk_42 (dk_at dksX5_behindSum_5 15 rfl rfl)
theorem dX5_behindSum_131 : decode cX5_behindSum 131 = .ok (.dup, 1) := dk_89 (dk_at dksX5_behindSum_5 16 rfl rfl)
theorem dX5_behindSum_132 : decode cX5_behindSum 132 = .ok (.getfield 267, 3) := dk_180 1 11 (dk_at dksX5_behindSum_5 17 rfl rfl)
theorem dX5_behindSum_135 : decode cX5_behindSum 135 = .ok (.iconst 1, 1) := dk_4 (dk_at dksX5_behindSum_5 20 rfl rfl)
theorem dX5_behindSum_136 : decode cX5_behindSum 136 = .ok (.isub, 1) := dk_100 (dk_at dksX5_behindSum_5 21 rfl rfl)
theorem dX5_behindSum_137 : decode cX5_behindSum 137 = .ok (.putfield 267, 3) := dk_181 1 11 (dk_at dksX5_behindSum_6 0 rfl rfl)
theorem dX5_behindSum_140 : decode cX5_behindSum 140 = .ok (.aload_n 0, 1) := dk_42 (dk_at dksX5_behindSum_6 3 rfl rfl)
theorem dX5_behindSum_141 : decode cX5_behindSum 141 = .ok (.dup, 1) := dk_89 (dk_at dksX5_behindSum_6 4 rfl rfl)
theorem dX5_behindSum_142 : decode cX5_behindSum 142 = .ok (.getfield 287, 3) := dk_180 1 31 (dk_at dksX5_behindSum_6 5 rfl rfl)
theorem dX5_behindSum_145 : decode cX5_behindSum 145 = .ok (.iconst 1, 1) := dk_4 (dk_at dksX5_behindSum_6 8 rfl rfl)
theorem dX5_behindSum_146 : decode cX5_behindSum 146 = .ok (.isub, 1) := dk_100 (dk_at dksX5_behindSum_6 9 rfl rfl)
theorem dX5_behindSum_147 : decode cX5_behindSum 147 = .ok (.putfield 287, 3) := dk_181 1 31 (dk_at dksX5_behindSum_6 10 rfl rfl)
theorem dX5_behindSum_150 : decode cX5_behindSum 150 = .ok (.iconst 3, 1) := dk_6 (dk_at dksX5_behindSum_6 13 rfl rfl)
theorem dX5_behindSum_151 : decode cX5_behindSum 151 = .ok (.ireturn, 1) := dk_172 (dk_at dksX5_behindSum_6 14 rfl rfl)
theorem dX5_behindSum_152 : decode cX5_behindSum 152 = .ok (.iload_n 3, 1) := dk_29 (dk_at dksX5_behindSum_6 15 rfl rfl)
theorem dX5_behindSum_153 : decode cX5_behindSum 153 = .ok (.iconst (-1), 1) := dk_2 (dk_at dksX5_behindSum_6 16 rfl rfl)
theorem dX5_behindSum_154 : decode cX5_behindSum 154 = .ok (.if_icmp .ne 9, 3) := dk_160 0 9 (dk_at dksX5_behindSum_6 17 rfl rfl)
theorem dX5_behindSum_157 : decode cX5_behindSum 157 = .ok (.iload_n 1, 1) := dk_27 (dk_at dksX5_behindSum_6 20 rfl rfl)
theorem dX5_behindSum_158 : decode cX5_behindSum 158 = .ok (.ifCond .ne 5, 3) := dk_154 0 5 (dk_at dksX5_behindSum_6 21 rfl rfl)
theorem dX5_behindSum_161 : decode cX5_behindSum 161 = .ok (.iconst 4, 1) := dk_7 (dk_at dksX5_behindSum_7 0 rfl rfl)
theorem dX5_behindSum_162 : decode cX5_behindSum 162 = .ok (.ireturn, 1) := dk_172 (dk_at dksX5_behindSum_7 1 rfl rfl)
theorem dX5_behindSum_163 : decode cX5_behindSum 163 = .ok (.aload_n 0, 1) := dk_42 (dk_at dksX5_behindSum_7 2 rfl rfl)
theorem dX5_behindSum_164 : decode cX5_behindSum 164 = .ok (.invokevirtual 333, 3) := dk_182 1 77 (dk_at dksX5_behindSum_7 3 rfl rfl)
theorem dX5_behindSum_167 : decode cX5_behindSum 167 = .ok (.ifCond .eq 5, 3) := dk_153 0 5 (dk_at dksX5_behindSum_7 6 rfl rfl)
theorem dX5_behindSum_170 : decode cX5_behindSum 170 = .ok (.iconst 2, 1) := dk_5 (dk_at dksX5_behindSum_7 9 rfl rfl)
theorem dX5_behindSum_171 : decode cX5_behindSum 171 = .ok (.ireturn, 1) := dk_172 (dk_at dksX5_behindSum_7 10 rfl rfl)
theorem dX5_behindSum_172 : decode cX5_behindSum 172 = .ok (.aload_n 0, 1) := dk_42 (dk_at dksX5_behindSum_7 11 rfl rfl)
theorem dX5_behindSum_173 : decode cX5_behindSum 173 = .ok (.bipush 60, 2) := dk_16 60 (dk_at dksX5_behindSum_7 12 rfl rfl)
theorem dX5_behindSum_175 : decode cX5_behindSum 175 = .ok (.invokevirtual 296, 3) := dk_182 1 40 (dk_at dksX5_behindSum_7 14 rfl rfl)
theorem dX5_behindSum_178 : decode cX5_behindSum 178 = .ok (.ifCond .eq 8, 3) := dk_153 0 8 (dk_at dksX5_behindSum_7 17 rfl rfl)
theorem dX5_behindSum_181 : decode cX5_behindSum 181 = .ok (.bipush 25, 2) := dk_16 25 (dk_at dksX5_behindSum_7 20 rfl rfl)
theorem dX5_behindSum_183 : decode cX5_behindSum 183 = .ok (.goto 19, 3) := dk_167 0 19 (dk_at dksX5_behindSum_8 0 rfl rfl)
theorem dX5_behindSum_186 : decode cX5_behindSum 186 = .ok (.aload_n 0, 1) := dk_42 (dk_at dksX5_behindSum_8 3 rfl rfl)
theorem dX5_behindSum_187 : decode cX5_behindSum 187 = .ok (.bipush 62, 2) := dk_16 62 (dk_at dksX5_behindSum_8 4 rfl rfl)
theorem dX5_behindSum_189 : decode cX5_behindSum 189 = .ok (.invokevirtual 296, 3) := dk_182 1 40 (dk_at dksX5_behindSum_8 6 rfl rfl)
theorem dX5_behindSum_192 : decode cX5_behindSum 192 = .ok (.ifCond .eq 8, 3) := dk_153 0 8 (dk_at dksX5_behindSum_8 9 rfl rfl)
theorem dX5_behindSum_195 : decode cX5_behindSum 195 = .ok (.bipush 26, 2) := dk_16 26 (dk_at dksX5_behindSum_8 12 rfl rfl)
theorem dX5_behindSum_197 : decode cX5_behindSum 197 = .ok (.goto 5, 3) := dk_167 0 5 (dk_at dksX5_behindSum_8 14 rfl rfl)
theorem dX5_behindSum_200 : decode cX5_behindSum 200 = .ok (.bipush 27, 2) := dk_16 27 (dk_at dksX5_behindSum_8 17 rfl rfl)
theorem dX5_behindSum_202 : decode cX5_behindSum 202 = .ok (.istore_n 2, 1) := dk_61 (dk_at dksX5_behindSum_8 19 rfl rfl)
theorem dX5_behindSum_203 : decode cX5_behindSum 203 = .ok (.aload_n 0, 1) := dk_42 (dk_at dksX5_behindSum_8 20 rfl rfl)
theorem dX5_behindSum_204 : decode cX5_behindSum 204 = .ok (.iload_n 2, 1) := dk_28 (dk_at dksX5_behindSum_8 21 rfl rfl)
theorem dX5_behindSum_205 : decode cX5_behindSum 205 = .ok (.bipush 27, 2) := dk_16 27 (dk_at dksX5_behindSum_8 22 rfl rfl)
theorem dX5_behindSum_207 : decode cX5_behindSum 207 = .ok (.if_icmp .ne 12, 3) := dk_160 0 12 (dk_at dksX5_behindSum_9 0 rfl rfl)
theorem dX5_behindSum_210 : decode cX5_behindSum 210 = .ok (.aload_n 0, 1) := dk_42 (dk_at dksX5_behindSum_9 3 rfl rfl)
theorem dX5_behindSum_211 : decode cX5_behindSum 211 = .ok (.bipush 61, 2) := dk_16 61 (dk_at dksX5_behindSum_9 4 rfl rfl)
theorem dX5_behindSum_213 : decode cX5_behindSum 213 = .ok (.invokevirtual 296, 3) := dk_182 1 40 (dk_at dksX5_behindSum_9 6 rfl rfl)
theorem dX5_behindSum_216 : decode cX5_behindSum 216 = .ok (.ifCond .eq 7, 3) := dk_153 0 7 (dk_at dksX5_behindSum_9 9 rfl rfl)
theorem dX5_behindSum_219 : decode cX5_behindSum 219 = .ok (.iconst 1, 1) := dk_4 (dk_at dksX5_behindSum_9 12 rfl rfl)
theorem dX5_behindSum_220 : decode cX5_behindSum 220 = .ok (.goto 4, 3) := dk_167 0 4 (dk_at dksX5_behindSum_9 13 rfl rfl)
theorem dX5_behindSum_223 : decode cX5_behindSum 223 = .ok (.iconst 0, 1) := dk_3 (dk_at dksX5_behindSum_9 16 rfl rfl)
theorem dX5_behindSum_224 : decode cX5_behindSum 224 = .ok (.invokevirtual 260, 3) := dk_182 1 4 (dk_at dksX5_behindSum_9 17 rfl rfl)
theorem dX5_behindSum_227 : decode cX5_behindSum 227 = .ok (.aload_n 0, 1) := dk_42 (dk_at dksX5_behindSum_9 20 rfl rfl)
theorem dX5_behindSum_228 : decode cX5_behindSum 228 = .ok (.getfield 229, 3) := dk_180 0 229 (dk_at dksX5_behindSum_9 21 rfl rfl)
theorem dX5_behindSum_231 : decode cX5_behindSum 231 = .ok (.ifCond .ne 14, 3) := dk_154 0 14 (dk_at dksX5_behindSum_10 0 rfl rfl)
theorem dX5_behindSum_234 : decode cX5_behindSum 234 = .ok (.aload_n 0, 1) := dk_42 (dk_at dksX5_behindSum_10 3 rfl rfl)
theorem dX5_behindSum_235 : decode cX5_behindSum 235 = .ok (.iconst 5, 1) := dk_8 (dk_at dksX5_behindSum_10 4 rfl rfl)
theorem dX5_behindSum_236 : decode cX5_behindSum 236 = .ok (.invokevirtual 327, 3) := dk_182 1 71 (dk_at dksX5_behindSum_10 5 rfl rfl)
theorem dX5_behindSum_239 : decode cX5_behindSum 239 = .ok (.aload_n 0, 1) := dk_42 (dk_at dksX5_behindSum_10 8 rfl rfl)
theorem dX5_behindSum_240 : decode cX5_behindSum 240 = .ok (.iload_n 2, 1) := dk_28 (dk_at dksX5_behindSum_10 9 rfl rfl)
theorem dX5_behindSum_241 : decode cX5_behindSum 241 = .ok (.iconst 0, 1) := dk_3 (dk_at dksX5_behindSum_10 10 rfl rfl)
theorem dX5_behindSum_242 : decode cX5_behindSum 242 = .ok (.invokevirtual 290, 3) := dk_182 1 34 (dk_at dksX5_behindSum_10 11 rfl rfl)
theorem dX5_behindSum_245 : decode cX5_behindSum 245 = .ok (.iconst 1, 1) := dk_4 (dk_at dksX5_behindSum_10 14 rfl rfl)
theorem dX5_behindSum_246 : decode cX5_behindSum 246 = .ok (.ireturn, 1) := dk_172 (dk_at dksX5_behindSum_10 15 rfl rfl)
abbrev cX5_binds : ByteArray := prog_23_method_44_code
def yX5_binds : MethodName := ⟨RX5, "binds", "(I)I"⟩
def dkwX5_binds_2 : List UInt8 := [167, 0, 15, 26, 16, 22, 161, 0, 8, 16, 6, 167, 0, 4, 8, 172]
abbrev dktX5_binds_2 : List UInt8 := dkwX5_binds_2 ++ []
def dkwX5_binds_1 : List UInt8 := [160, 0, 7, 5, 167, 0, 35, 26, 16, 28, 160, 0, 7, 6, 167, 0, 25, 26, 16, 25, 161, 0, 7, 7]
abbrev dktX5_binds_1 : List UInt8 := dkwX5_binds_1 ++ dktX5_binds_2
def dkwX5_binds_0 : List UInt8 := [26, 16, 31, 161, 0, 7, 3, 167, 0, 55, 26, 16, 30, 160, 0, 7, 4, 167, 0, 45, 26, 16, 29]
abbrev dktX5_binds_0 : List UInt8 := dkwX5_binds_0 ++ dktX5_binds_1
theorem dksX5_binds_0 : cX5_binds.data.toList.drop 0 = dktX5_binds_0 := by decide +kernel
theorem dksX5_binds_1 : cX5_binds.data.toList.drop 23 = dktX5_binds_1 := dk_seg dksX5_binds_0 23 rfl rfl
theorem dksX5_binds_2 : cX5_binds.data.toList.drop 47 = dktX5_binds_2 := dk_seg dksX5_binds_1 24 rfl rfl
theorem dX5_binds_0 : decode cX5_binds 0 = .ok (.iload_n 0, 1) := dk_26 (dk_at dksX5_binds_0 0 rfl rfl)
theorem dX5_binds_1 : decode cX5_binds 1 = .ok (.bipush 31, 2) := dk_16 31 (dk_at dksX5_binds_0 1 rfl rfl)
theorem dX5_binds_3 : decode cX5_binds 3 = .ok (.if_icmp .lt 7, 3) := dk_161 0 7 (dk_at dksX5_binds_0 3 rfl rfl)
theorem dX5_binds_6 : decode cX5_binds 6 = .ok (.iconst 0, 1) := dk_3 (dk_at dksX5_binds_0 6 rfl rfl)
theorem dX5_binds_7 : decode cX5_binds 7 = .ok (.goto 55, 3) := dk_167 0 55 (dk_at dksX5_binds_0 7 rfl rfl)
theorem dX5_binds_10 : decode cX5_binds 10 = .ok (.iload_n 0, 1) := dk_26 (dk_at dksX5_binds_0 10 rfl rfl)
theorem dX5_binds_11 : decode cX5_binds 11 = .ok (.bipush 30, 2) := dk_16 30 (dk_at dksX5_binds_0 11 rfl rfl)
theorem dX5_binds_13 : decode cX5_binds 13 = .ok (.if_icmp .ne 7, 3) := dk_160 0 7 (dk_at dksX5_binds_0 13 rfl rfl)
theorem dX5_binds_16 : decode cX5_binds 16 = .ok (.iconst 1, 1) := dk_4 (dk_at dksX5_binds_0 16 rfl rfl)
theorem dX5_binds_17 : decode cX5_binds 17 = .ok (.goto 45, 3) := dk_167 0 45 (dk_at dksX5_binds_0 17 rfl rfl)
theorem dX5_binds_20 : decode cX5_binds 20 = .ok (.iload_n 0, 1) := dk_26 (dk_at dksX5_binds_0 20 rfl rfl)
theorem dX5_binds_21 : decode cX5_binds 21 = .ok (.bipush 29, 2) := dk_16 29 (dk_at dksX5_binds_0 21 rfl rfl)
theorem dX5_binds_23 : decode cX5_binds 23 = .ok (.if_icmp .ne 7, 3) := dk_160 0 7 (dk_at dksX5_binds_1 0 rfl rfl)
theorem dX5_binds_26 : decode cX5_binds 26 = .ok (.iconst 2, 1) := dk_5 (dk_at dksX5_binds_1 3 rfl rfl)
theorem dX5_binds_27 : decode cX5_binds 27 = .ok (.goto 35, 3) := dk_167 0 35 (dk_at dksX5_binds_1 4 rfl rfl)
theorem dX5_binds_30 : decode cX5_binds 30 = .ok (.iload_n 0, 1) := dk_26 (dk_at dksX5_binds_1 7 rfl rfl)
theorem dX5_binds_31 : decode cX5_binds 31 = .ok (.bipush 28, 2) := dk_16 28 (dk_at dksX5_binds_1 8 rfl rfl)
theorem dX5_binds_33 : decode cX5_binds 33 = .ok (.if_icmp .ne 7, 3) := dk_160 0 7 (dk_at dksX5_binds_1 10 rfl rfl)
theorem dX5_binds_36 : decode cX5_binds 36 = .ok (.iconst 3, 1) := dk_6 (dk_at dksX5_binds_1 13 rfl rfl)
theorem dX5_binds_37 : decode cX5_binds 37 = .ok (.goto 25, 3) := dk_167 0 25 (dk_at dksX5_binds_1 14 rfl rfl)
theorem dX5_binds_40 : decode cX5_binds 40 = .ok (.iload_n 0, 1) := dk_26 (dk_at dksX5_binds_1 17 rfl rfl)
theorem dX5_binds_41 : decode cX5_binds 41 = .ok (.bipush 25, 2) := dk_16 25 (dk_at dksX5_binds_1 18 rfl rfl)
theorem dX5_binds_43 : decode cX5_binds 43 = .ok (.if_icmp .lt 7, 3) := dk_161 0 7 (dk_at dksX5_binds_1 20 rfl rfl)
theorem dX5_binds_46 : decode cX5_binds 46 = .ok (.iconst 4, 1) := dk_7 (dk_at dksX5_binds_1 23 rfl rfl)
theorem dX5_binds_47 : decode cX5_binds 47 = .ok (.goto 15, 3) := dk_167 0 15 (dk_at dksX5_binds_2 0 rfl rfl)
theorem dX5_binds_50 : decode cX5_binds 50 = .ok (.iload_n 0, 1) := dk_26 (dk_at dksX5_binds_2 3 rfl rfl)
theorem dX5_binds_51 : decode cX5_binds 51 = .ok (.bipush 22, 2) := dk_16 22 (dk_at dksX5_binds_2 4 rfl rfl)
theorem dX5_binds_53 : decode cX5_binds 53 = .ok (.if_icmp .lt 8, 3) := dk_161 0 8 (dk_at dksX5_binds_2 6 rfl rfl)
theorem dX5_binds_56 : decode cX5_binds 56 = .ok (.bipush 6, 2) := dk_16 6 (dk_at dksX5_binds_2 9 rfl rfl)
theorem dX5_binds_58 : decode cX5_binds 58 = .ok (.goto 4, 3) := dk_167 0 4 (dk_at dksX5_binds_2 11 rfl rfl)
theorem dX5_binds_61 : decode cX5_binds 61 = .ok (.iconst 5, 1) := dk_8 (dk_at dksX5_binds_2 14 rfl rfl)
theorem dX5_binds_62 : decode cX5_binds 62 = .ok (.ireturn, 1) := dk_172 (dk_at dksX5_binds_2 15 rfl rfl)
abbrev cX5_settle : ByteArray := prog_23_method_45_code
def yX5_settle : MethodName := ⟨RX5, "settle", "(I)V"⟩
def dkwX5_settle_4 : List UInt8 := [180, 1, 11, 46, 3, 182, 1, 17, 167, 255, 158, 177]
abbrev dktX5_settle_4 : List UInt8 := dkwX5_settle_4 ++ []
def dkwX5_settle_3 : List UInt8 := [180, 0, 54, 42, 180, 1, 11, 46, 42, 180, 1, 8, 79, 167, 255, 175, 42, 42, 180, 0, 51, 42]
abbrev dktX5_settle_3 : List UInt8 := dkwX5_settle_3 ++ dktX5_settle_4
def dkwX5_settle_2 : List UInt8 := [159, 0, 17, 42, 180, 0, 51, 42, 180, 1, 11, 46, 16, 30, 160, 0, 24, 42, 180, 0, 48, 42]
abbrev dktX5_settle_2 : List UInt8 := dkwX5_settle_2 ++ dktX5_settle_3
def dkwX5_settle_1 : List UInt8 := [161, 0, 79, 42, 89, 180, 1, 11, 4, 100, 181, 1, 11, 42, 180, 0, 51, 42, 180, 1, 11, 46, 16, 29]
abbrev dktX5_settle_1 : List UInt8 := dkwX5_settle_1 ++ dktX5_settle_2
def dkwX5_settle_0 : List UInt8 := [42, 180, 1, 11, 158, 0, 97, 42, 180, 0, 51, 42, 180, 1, 11, 4, 100, 46, 184, 1, 14, 27]
abbrev dktX5_settle_0 : List UInt8 := dkwX5_settle_0 ++ dktX5_settle_1
theorem dksX5_settle_0 : cX5_settle.data.toList.drop 0 = dktX5_settle_0 := by decide +kernel
theorem dksX5_settle_1 : cX5_settle.data.toList.drop 22 = dktX5_settle_1 := dk_seg dksX5_settle_0 22 rfl rfl
theorem dksX5_settle_2 : cX5_settle.data.toList.drop 46 = dktX5_settle_2 := dk_seg dksX5_settle_1 24 rfl rfl
theorem dksX5_settle_3 : cX5_settle.data.toList.drop 68 = dktX5_settle_3 := dk_seg dksX5_settle_2 22 rfl rfl
theorem dksX5_settle_4 : cX5_settle.data.toList.drop 90 = dktX5_settle_4 := dk_seg dksX5_settle_3 22 rfl rfl
theorem dX5_settle_0 : decode cX5_settle 0 = .ok (.aload_n 0, 1) := dk_42 (dk_at dksX5_settle_0 0 rfl rfl)
theorem dX5_settle_1 : decode cX5_settle 1 = .ok (.getfield 267, 3) := dk_180 1 11 (dk_at dksX5_settle_0 1 rfl rfl)
theorem dX5_settle_4 : decode cX5_settle 4 = .ok (.ifCond .le 97, 3) := dk_158 0 97 (dk_at dksX5_settle_0 4 rfl rfl)
theorem dX5_settle_7 : decode cX5_settle 7 = .ok (.aload_n 0, 1) := dk_42 (dk_at dksX5_settle_0 7 rfl rfl)
theorem dX5_settle_8 : decode cX5_settle 8 = .ok (.getfield 51, 3) := dk_180 0 51 (dk_at dksX5_settle_0 8 rfl rfl)
theorem dX5_settle_11 : decode cX5_settle 11 = .ok (.aload_n 0, 1) := dk_42 (dk_at dksX5_settle_0 11 rfl rfl)
theorem dX5_settle_12 : decode cX5_settle 12 = .ok (.getfield 267, 3) := dk_180 1 11 (dk_at dksX5_settle_0 12 rfl rfl)
theorem dX5_settle_15 : decode cX5_settle 15 = .ok (.iconst 1, 1) := dk_4 (dk_at dksX5_settle_0 15 rfl rfl)
theorem dX5_settle_16 : decode cX5_settle 16 = .ok (.isub, 1) := dk_100 (dk_at dksX5_settle_0 16 rfl rfl)
theorem dX5_settle_17 : decode cX5_settle 17 = .ok (.iaload, 1) := dk_46 (dk_at dksX5_settle_0 17 rfl rfl)
theorem dX5_settle_18 : decode cX5_settle 18 = .ok (.invokestatic 270, 3) := dk_184 1 14 (dk_at dksX5_settle_0 18 rfl rfl)
theorem dX5_settle_21 : decode cX5_settle 21 = .ok (.iload_n 1, 1) := dk_27 (dk_at dksX5_settle_0 21 rfl rfl)
theorem dX5_settle_22 : decode cX5_settle 22 = .ok (.if_icmp .lt 79, 3) := dk_161 0 79 (dk_at dksX5_settle_1 0 rfl rfl)
theorem dX5_settle_25 : decode cX5_settle 25 = .ok (.aload_n 0, 1) := dk_42 (dk_at dksX5_settle_1 3 rfl rfl)
theorem dX5_settle_26 : decode cX5_settle 26 = .ok (.dup, 1) := dk_89 (dk_at dksX5_settle_1 4 rfl rfl)
theorem dX5_settle_27 : decode cX5_settle 27 = .ok (.getfield 267, 3) := dk_180 1 11 (dk_at dksX5_settle_1 5 rfl rfl)
theorem dX5_settle_30 : decode cX5_settle 30 = .ok (.iconst 1, 1) := dk_4 (dk_at dksX5_settle_1 8 rfl rfl)
theorem dX5_settle_31 : decode cX5_settle 31 = .ok (.isub, 1) := dk_100 (dk_at dksX5_settle_1 9 rfl rfl)
theorem dX5_settle_32 : decode cX5_settle 32 = .ok (.putfield 267, 3) := dk_181 1 11 (dk_at dksX5_settle_1 10 rfl rfl)
theorem dX5_settle_35 : decode cX5_settle 35 = .ok (.aload_n 0, 1) := dk_42 (dk_at dksX5_settle_1 13 rfl rfl)
theorem dX5_settle_36 : decode cX5_settle 36 = .ok (.getfield 51, 3) := dk_180 0 51 (dk_at dksX5_settle_1 14 rfl rfl)
theorem dX5_settle_39 : decode cX5_settle 39 = .ok (.aload_n 0, 1) := dk_42 (dk_at dksX5_settle_1 17 rfl rfl)
theorem dX5_settle_40 : decode cX5_settle 40 = .ok (.getfield 267, 3) := dk_180 1 11 (dk_at dksX5_settle_1 18 rfl rfl)
theorem dX5_settle_43 : decode cX5_settle 43 = .ok (.iaload, 1) := dk_46 (dk_at dksX5_settle_1 21 rfl rfl)
theorem dX5_settle_44 : decode cX5_settle 44 = .ok (.bipush 29, 2) := dk_16 29 (dk_at dksX5_settle_1 22 rfl rfl)
theorem dX5_settle_46 : decode cX5_settle 46 = .ok (.if_icmp .eq 17, 3) := dk_159 0 17 (dk_at dksX5_settle_2 0 rfl rfl)
theorem dX5_settle_49 : decode cX5_settle 49 = .ok (.aload_n 0, 1) := dk_42 (dk_at dksX5_settle_2 3 rfl rfl)
theorem dX5_settle_50 : decode cX5_settle 50 = .ok (.getfield 51, 3) := dk_180 0 51 (dk_at dksX5_settle_2 4 rfl rfl)
theorem dX5_settle_53 : decode cX5_settle 53 = .ok (.aload_n 0, 1) := dk_42 (dk_at dksX5_settle_2 7 rfl rfl)
theorem dX5_settle_54 : decode cX5_settle 54 = .ok (.getfield 267, 3) := dk_180 1 11 (dk_at dksX5_settle_2 8 rfl rfl)
theorem dX5_settle_57 : decode cX5_settle 57 = .ok (.iaload, 1) := dk_46 (dk_at dksX5_settle_2 11 rfl rfl)
theorem dX5_settle_58 : decode cX5_settle 58 = .ok (.bipush 30, 2) := dk_16 30 (dk_at dksX5_settle_2 12 rfl rfl)
theorem dX5_settle_60 : decode cX5_settle 60 = .ok (.if_icmp .ne 24, 3) := dk_160 0 24 (dk_at dksX5_settle_2 14 rfl rfl)
theorem dX5_settle_63 : decode cX5_settle 63 = .ok (.aload_n 0, 1) := dk_42 (dk_at dksX5_settle_2 17 rfl rfl)
theorem dX5_settle_64 : decode cX5_settle 64 = .ok (.getfield 48, 3) := dk_180 0 48 (dk_at dksX5_settle_2 18 rfl rfl)
theorem dX5_settle_67 : decode cX5_settle 67 = .ok (.aload_n 0, 1) := dk_42 (dk_at dksX5_settle_2 21 rfl rfl)
theorem dX5_settle_68 : decode cX5_settle 68 = .ok (.getfield 54, 3) := dk_180 0 54 (dk_at dksX5_settle_3 0 rfl rfl)
theorem dX5_settle_71 : decode cX5_settle 71 = .ok (.aload_n 0, 1) := dk_42 (dk_at dksX5_settle_3 3 rfl rfl)
theorem dX5_settle_72 : decode cX5_settle 72 = .ok (.getfield 267, 3) := dk_180 1 11 (dk_at dksX5_settle_3 4 rfl rfl)
theorem dX5_settle_75 : decode cX5_settle 75 = .ok (.iaload, 1) := dk_46 (dk_at dksX5_settle_3 7 rfl rfl)
theorem dX5_settle_76 : decode cX5_settle 76 = .ok (.aload_n 0, 1) := dk_42 (dk_at dksX5_settle_3 8 rfl rfl)
theorem dX5_settle_77 : decode cX5_settle 77 = .ok (.getfield 264, 3) := dk_180 1 8 (dk_at dksX5_settle_3 9 rfl rfl)
theorem dX5_settle_80 : decode cX5_settle 80 = .ok (.iastore, 1) := dk_79 (dk_at dksX5_settle_3 12 rfl rfl)
theorem dX5_settle_81 : decode cX5_settle 81 = .ok (.goto (-81), 3) := dk_167 255 175 (dk_at dksX5_settle_3 13 rfl rfl)
theorem dX5_settle_84 : decode cX5_settle 84 = .ok (.aload_n 0, 1) := dk_42 (dk_at dksX5_settle_3 16 rfl rfl)
theorem dX5_settle_85 : decode cX5_settle 85 = .ok (.aload_n 0, 1) := dk_42 (dk_at dksX5_settle_3 17 rfl rfl)
theorem dX5_settle_86 : decode cX5_settle 86 = .ok (.getfield 51, 3) := dk_180 0 51 (dk_at dksX5_settle_3 18 rfl rfl)
theorem dX5_settle_89 : decode cX5_settle 89 = .ok (.aload_n 0, 1) := dk_42 (dk_at dksX5_settle_3 21 rfl rfl)
theorem dX5_settle_90 : decode cX5_settle 90 = .ok (.getfield 267, 3) := dk_180 1 11 (dk_at dksX5_settle_4 0 rfl rfl)
theorem dX5_settle_93 : decode cX5_settle 93 = .ok (.iaload, 1) := dk_46 (dk_at dksX5_settle_4 3 rfl rfl)
theorem dX5_settle_94 : decode cX5_settle 94 = .ok (.iconst 0, 1) := dk_3 (dk_at dksX5_settle_4 4 rfl rfl)
theorem dX5_settle_95 : decode cX5_settle 95 = .ok (.invokevirtual 273, 3) := dk_182 1 17 (dk_at dksX5_settle_4 5 rfl rfl)
theorem dX5_settle_98 : decode cX5_settle 98 = .ok (.goto (-98), 3) := dk_167 255 158 (dk_at dksX5_settle_4 8 rfl rfl)
theorem dX5_settle_101 : decode cX5_settle 101 = .ok (.return_, 1) := dk_177 (dk_at dksX5_settle_4 11 rfl rfl)
abbrev cX5_inner : ByteArray := prog_23_method_46_code
def yX5_inner : MethodName := ⟨RX5, "inner", "()I"⟩
def dkwX5_inner_1 : List UInt8 := [180, 0, 51, 28, 46, 167, 0, 4, 27, 60, 132, 2, 1, 167, 255, 223, 27, 172]
abbrev dktX5_inner_1 : List UInt8 := dkwX5_inner_1 ++ []
def dkwX5_inner_0 : List UInt8 := [2, 60, 3, 61, 28, 42, 180, 1, 11, 162, 0, 31, 42, 180, 0, 51, 28, 46, 16, 31, 161, 0, 12, 42]
abbrev dktX5_inner_0 : List UInt8 := dkwX5_inner_0 ++ dktX5_inner_1
theorem dksX5_inner_0 : cX5_inner.data.toList.drop 0 = dktX5_inner_0 := by decide +kernel
theorem dksX5_inner_1 : cX5_inner.data.toList.drop 24 = dktX5_inner_1 := dk_seg dksX5_inner_0 24 rfl rfl
theorem dX5_inner_0 : decode cX5_inner 0 = .ok (.iconst (-1), 1) := dk_2 (dk_at dksX5_inner_0 0 rfl rfl)
theorem dX5_inner_1 : decode cX5_inner 1 = .ok (.istore_n 1, 1) := dk_60 (dk_at dksX5_inner_0 1 rfl rfl)
theorem dX5_inner_2 : decode cX5_inner 2 = .ok (.iconst 0, 1) := dk_3 (dk_at dksX5_inner_0 2 rfl rfl)
theorem dX5_inner_3 : decode cX5_inner 3 = .ok (.istore_n 2, 1) := dk_61 (dk_at dksX5_inner_0 3 rfl rfl)
theorem dX5_inner_4 : decode cX5_inner 4 = .ok (.iload_n 2, 1) := dk_28 (dk_at dksX5_inner_0 4 rfl rfl)
theorem dX5_inner_5 : decode cX5_inner 5 = .ok (.aload_n 0, 1) := dk_42 (dk_at dksX5_inner_0 5 rfl rfl)
theorem dX5_inner_6 : decode cX5_inner 6 = .ok (.getfield 267, 3) := dk_180 1 11 (dk_at dksX5_inner_0 6 rfl rfl)
theorem dX5_inner_9 : decode cX5_inner 9 = .ok (.if_icmp .ge 31, 3) := dk_162 0 31 (dk_at dksX5_inner_0 9 rfl rfl)
theorem dX5_inner_12 : decode cX5_inner 12 = .ok (.aload_n 0, 1) := dk_42 (dk_at dksX5_inner_0 12 rfl rfl)
theorem dX5_inner_13 : decode cX5_inner 13 = .ok (.getfield 51, 3) := dk_180 0 51 (dk_at dksX5_inner_0 13 rfl rfl)
theorem dX5_inner_16 : decode cX5_inner 16 = .ok (.iload_n 2, 1) := dk_28 (dk_at dksX5_inner_0 16 rfl rfl)
theorem dX5_inner_17 : decode cX5_inner 17 = .ok (.iaload, 1) := dk_46 (dk_at dksX5_inner_0 17 rfl rfl)
theorem dX5_inner_18 : decode cX5_inner 18 = .ok (.bipush 31, 2) := dk_16 31 (dk_at dksX5_inner_0 18 rfl rfl)
theorem dX5_inner_20 : decode cX5_inner 20 = .ok (.if_icmp .lt 12, 3) := dk_161 0 12 (dk_at dksX5_inner_0 20 rfl rfl)
theorem dX5_inner_23 : decode cX5_inner 23 = .ok (.aload_n 0, 1) := dk_42 (dk_at dksX5_inner_0 23 rfl rfl)
theorem dX5_inner_24 : decode cX5_inner 24 = .ok (.getfield 51, 3) := dk_180 0 51 (dk_at dksX5_inner_1 0 rfl rfl)
theorem dX5_inner_27 : decode cX5_inner 27 = .ok (.iload_n 2, 1) := dk_28 (dk_at dksX5_inner_1 3 rfl rfl)
theorem dX5_inner_28 : decode cX5_inner 28 = .ok (.iaload, 1) := dk_46 (dk_at dksX5_inner_1 4 rfl rfl)
theorem dX5_inner_29 : decode cX5_inner 29 = .ok (.goto 4, 3) := dk_167 0 4 (dk_at dksX5_inner_1 5 rfl rfl)
theorem dX5_inner_32 : decode cX5_inner 32 = .ok (.iload_n 1, 1) := dk_27 (dk_at dksX5_inner_1 8 rfl rfl)
theorem dX5_inner_33 : decode cX5_inner 33 = .ok (.istore_n 1, 1) := dk_60 (dk_at dksX5_inner_1 9 rfl rfl)
theorem dX5_inner_34 : decode cX5_inner 34 = .ok (.iinc 2 1, 3) := dk_132 2 1 (dk_at dksX5_inner_1 10 rfl rfl)
theorem dX5_inner_37 : decode cX5_inner 37 = .ok (.goto (-33), 3) := dk_167 255 223 (dk_at dksX5_inner_1 13 rfl rfl)
theorem dX5_inner_40 : decode cX5_inner 40 = .ok (.iload_n 1, 1) := dk_27 (dk_at dksX5_inner_1 16 rfl rfl)
theorem dX5_inner_41 : decode cX5_inner 41 = .ok (.ireturn, 1) := dk_172 (dk_at dksX5_inner_1 17 rfl rfl)
abbrev cX5_isCompared : ByteArray := prog_23_method_47_code
def yX5_isCompared : MethodName := ⟨RX5, "isCompared", "()Z"⟩
def dkwX5_isCompared_2 : List UInt8 := [20, 1, 25, 20, 0, 202, 184, 0, 153, 153, 0, 7, 4, 167, 0, 4, 3, 172]
abbrev dktX5_isCompared_2 : List UInt8 := dkwX5_isCompared_2 ++ []
def dkwX5_isCompared_1 : List UInt8 := [184, 0, 153, 153, 0, 9, 132, 1, 255, 167, 255, 230, 27, 155, 0, 26, 42, 180, 0, 51, 27, 46, 133]
abbrev dktX5_isCompared_1 : List UInt8 := dkwX5_isCompared_1 ++ dktX5_isCompared_2
def dkwX5_isCompared_0 : List UInt8 := [42, 180, 1, 11, 4, 100, 60, 27, 155, 0, 28, 42, 180, 0, 51, 27, 46, 133, 20, 1, 21, 20, 1, 23]
abbrev dktX5_isCompared_0 : List UInt8 := dkwX5_isCompared_0 ++ dktX5_isCompared_1
theorem dksX5_isCompared_0 : cX5_isCompared.data.toList.drop 0 = dktX5_isCompared_0 := by decide +kernel
theorem dksX5_isCompared_1 : cX5_isCompared.data.toList.drop 24 = dktX5_isCompared_1 := dk_seg dksX5_isCompared_0 24 rfl rfl
theorem dksX5_isCompared_2 : cX5_isCompared.data.toList.drop 47 = dktX5_isCompared_2 := dk_seg dksX5_isCompared_1 23 rfl rfl
theorem dX5_isCompared_0 : decode cX5_isCompared 0 = .ok (.aload_n 0, 1) := dk_42 (dk_at dksX5_isCompared_0 0 rfl rfl)
theorem dX5_isCompared_1 : decode cX5_isCompared 1 = .ok (.getfield 267, 3) := dk_180 1 11 (dk_at dksX5_isCompared_0 1 rfl rfl)
theorem dX5_isCompared_4 : decode cX5_isCompared 4 = .ok (.iconst 1, 1) := dk_4 (dk_at dksX5_isCompared_0 4 rfl rfl)
theorem dX5_isCompared_5 : decode cX5_isCompared 5 = .ok (.isub, 1) := dk_100 (dk_at dksX5_isCompared_0 5 rfl rfl)
theorem dX5_isCompared_6 : decode cX5_isCompared 6 = .ok (.istore_n 1, 1) := dk_60 (dk_at dksX5_isCompared_0 6 rfl rfl)
theorem dX5_isCompared_7 : decode cX5_isCompared 7 = .ok (.iload_n 1, 1) := dk_27 (dk_at dksX5_isCompared_0 7 rfl rfl)
theorem dX5_isCompared_8 : decode cX5_isCompared 8 = .ok (.ifCond .lt 28, 3) := dk_155 0 28 (dk_at dksX5_isCompared_0 8 rfl rfl)
theorem dX5_isCompared_11 : decode cX5_isCompared 11 = .ok (.aload_n 0, 1) := dk_42 (dk_at dksX5_isCompared_0 11 rfl rfl)
theorem dX5_isCompared_12 : decode cX5_isCompared 12 = .ok (.getfield 51, 3) := dk_180 0 51 (dk_at dksX5_isCompared_0 12 rfl rfl)
theorem dX5_isCompared_15 : decode cX5_isCompared 15 = .ok (.iload_n 1, 1) := dk_27 (dk_at dksX5_isCompared_0 15 rfl rfl)
theorem dX5_isCompared_16 : decode cX5_isCompared 16 = .ok (.iaload, 1) := dk_46 (dk_at dksX5_isCompared_0 16 rfl rfl)
theorem dX5_isCompared_17 : decode cX5_isCompared 17 = .ok (.i2l, 1) := dk_133 (dk_at dksX5_isCompared_0 17 rfl rfl)
theorem dX5_isCompared_18 : decode cX5_isCompared 18 = .ok (.ldc2_w 277, 3) := dk_20 1 21 (dk_at dksX5_isCompared_0 18 rfl rfl)
theorem dX5_isCompared_21 : decode cX5_isCompared 21 = .ok (.ldc2_w 279, 3) := dk_20 1 23 (dk_at dksX5_isCompared_0 21 rfl rfl)
theorem dX5_isCompared_24 : decode cX5_isCompared 24 = .ok (.invokestatic 153, 3) := dk_184 0 153 (dk_at dksX5_isCompared_1 0 rfl rfl)
theorem dX5_isCompared_27 : decode cX5_isCompared 27 = .ok (.ifCond .eq 9, 3) := dk_153 0 9 (dk_at dksX5_isCompared_1 3 rfl rfl)
theorem dX5_isCompared_30 : decode cX5_isCompared 30 = .ok (.iinc 1 (-1), 3) := dk_132 1 255 (dk_at dksX5_isCompared_1 6 rfl rfl)
theorem dX5_isCompared_33 : decode cX5_isCompared 33 = .ok (.goto (-26), 3) := dk_167 255 230 (dk_at dksX5_isCompared_1 9 rfl rfl)
theorem dX5_isCompared_36 : decode cX5_isCompared 36 = .ok (.iload_n 1, 1) := dk_27 (dk_at dksX5_isCompared_1 12 rfl rfl)
theorem dX5_isCompared_37 : decode cX5_isCompared 37 = .ok (.ifCond .lt 26, 3) := dk_155 0 26 (dk_at dksX5_isCompared_1 13 rfl rfl)
theorem dX5_isCompared_40 : decode cX5_isCompared 40 = .ok (.aload_n 0, 1) := dk_42 (dk_at dksX5_isCompared_1 16 rfl rfl)
theorem dX5_isCompared_41 : decode cX5_isCompared 41 = .ok (.getfield 51, 3) := dk_180 0 51 (dk_at dksX5_isCompared_1 17 rfl rfl)
theorem dX5_isCompared_44 : decode cX5_isCompared 44 = .ok (.iload_n 1, 1) := dk_27 (dk_at dksX5_isCompared_1 20 rfl rfl)
theorem dX5_isCompared_45 : decode cX5_isCompared 45 = .ok (.iaload, 1) := dk_46 (dk_at dksX5_isCompared_1 21 rfl rfl)
theorem dX5_isCompared_46 : decode cX5_isCompared 46 = .ok (.i2l, 1) := dk_133 (dk_at dksX5_isCompared_1 22 rfl rfl)
theorem dX5_isCompared_47 : decode cX5_isCompared 47 = .ok (.ldc2_w 281, 3) := dk_20 1 25 (dk_at dksX5_isCompared_2 0 rfl rfl)
theorem dX5_isCompared_50 : decode cX5_isCompared 50 = .ok (.ldc2_w 202, 3) := dk_20 0 202 (dk_at dksX5_isCompared_2 3 rfl rfl)
theorem dX5_isCompared_53 : decode cX5_isCompared 53 = .ok (.invokestatic 153, 3) := dk_184 0 153 (dk_at dksX5_isCompared_2 6 rfl rfl)
theorem dX5_isCompared_56 : decode cX5_isCompared 56 = .ok (.ifCond .eq 7, 3) := dk_153 0 7 (dk_at dksX5_isCompared_2 9 rfl rfl)
theorem dX5_isCompared_59 : decode cX5_isCompared 59 = .ok (.iconst 1, 1) := dk_4 (dk_at dksX5_isCompared_2 12 rfl rfl)
theorem dX5_isCompared_60 : decode cX5_isCompared 60 = .ok (.goto 4, 3) := dk_167 0 4 (dk_at dksX5_isCompared_2 13 rfl rfl)
theorem dX5_isCompared_63 : decode cX5_isCompared 63 = .ok (.iconst 0, 1) := dk_3 (dk_at dksX5_isCompared_2 16 rfl rfl)
theorem dX5_isCompared_64 : decode cX5_isCompared 64 = .ok (.ireturn, 1) := dk_172 (dk_at dksX5_isCompared_2 17 rfl rfl)
abbrev cX5_behindTest : ByteArray := prog_23_method_55_code
def yX5_behindTest : MethodName := ⟨RX5, "behindTest", "()I"⟩
def dkwX5_behindTest_5 : List UInt8 := [181, 1, 11, 42, 89, 180, 1, 31, 4, 100, 181, 1, 31, 5, 172]
abbrev dktX5_behindTest_5 : List UInt8 := dkwX5_behindTest_5 ++ []
def dkwX5_behindTest_4 : List UInt8 := [182, 1, 4, 42, 180, 0, 229, 154, 0, 28, 42, 4, 182, 1, 71, 42, 89, 180, 1, 11, 4, 100]
abbrev dktX5_behindTest_4 : List UInt8 := dkwX5_behindTest_4 ++ dktX5_behindTest_5
def dkwX5_behindTest_3 : List UInt8 := [182, 0, 233, 3, 172, 42, 182, 1, 74, 2, 160, 0, 5, 7, 172, 42, 42, 16, 41, 182, 1, 40]
abbrev dktX5_behindTest_3 : List UInt8 := dkwX5_behindTest_3 ++ dktX5_behindTest_4
def dkwX5_behindTest_2 : List UInt8 := [180, 1, 8, 182, 1, 34, 42, 27, 153, 0, 8, 16, 29, 167, 0, 5, 16, 30, 3, 182, 1, 17, 42]
abbrev dktX5_behindTest_2 : List UInt8 := dkwX5_behindTest_2 ++ dktX5_behindTest_3
def dkwX5_behindTest_1 : List UInt8 := [153, 0, 7, 5, 167, 0, 4, 4, 182, 1, 71, 42, 27, 153, 0, 8, 16, 29, 167, 0, 5, 16, 30, 42]
abbrev dktX5_behindTest_1 : List UInt8 := dkwX5_behindTest_1 ++ dktX5_behindTest_2
def dkwX5_behindTest_0 : List UInt8 := [42, 20, 1, 81, 182, 1, 27, 60, 27, 154, 0, 13, 42, 20, 1, 83, 182, 1, 27, 153, 0, 57, 42, 27]
abbrev dktX5_behindTest_0 : List UInt8 := dkwX5_behindTest_0 ++ dktX5_behindTest_1
theorem dksX5_behindTest_0 : cX5_behindTest.data.toList.drop 0 = dktX5_behindTest_0 := by decide +kernel
theorem dksX5_behindTest_1 : cX5_behindTest.data.toList.drop 24 = dktX5_behindTest_1 := dk_seg dksX5_behindTest_0 24 rfl rfl
theorem dksX5_behindTest_2 : cX5_behindTest.data.toList.drop 48 = dktX5_behindTest_2 := dk_seg dksX5_behindTest_1 24 rfl rfl
theorem dksX5_behindTest_3 : cX5_behindTest.data.toList.drop 71 = dktX5_behindTest_3 := dk_seg dksX5_behindTest_2 23 rfl rfl
theorem dksX5_behindTest_4 : cX5_behindTest.data.toList.drop 93 = dktX5_behindTest_4 := dk_seg dksX5_behindTest_3 22 rfl rfl
theorem dksX5_behindTest_5 : cX5_behindTest.data.toList.drop 115 = dktX5_behindTest_5 := dk_seg dksX5_behindTest_4 22 rfl rfl
theorem dX5_behindTest_0 : decode cX5_behindTest 0 = .ok (.aload_n 0, 1) := dk_42 (dk_at dksX5_behindTest_0 0 rfl rfl)
theorem dX5_behindTest_1 : decode cX5_behindTest 1 = .ok (.ldc2_w 337, 3) := dk_20 1 81 (dk_at dksX5_behindTest_0 1 rfl rfl)
theorem dX5_behindTest_4 : decode cX5_behindTest 4 = .ok (.invokevirtual 283, 3) := dk_182 1 27 (dk_at dksX5_behindTest_0 4 rfl rfl)
theorem dX5_behindTest_7 : decode cX5_behindTest 7 = .ok (.istore_n 1, 1) := dk_60 (dk_at dksX5_behindTest_0 7 rfl rfl)
theorem dX5_behindTest_8 : decode cX5_behindTest 8 = .ok (.iload_n 1, 1) := dk_27 (dk_at dksX5_behindTest_0 8 rfl rfl)
theorem dX5_behindTest_9 : decode cX5_behindTest 9 = .ok (.ifCond .ne 13, 3) := dk_154 0 13 (dk_at dksX5_behindTest_0 9 rfl rfl)
theorem dX5_behindTest_12 : decode cX5_behindTest 12 = .ok (.aload_n 0, 1) := dk_42 (dk_at dksX5_behindTest_0 12 rfl rfl)
theorem dX5_behindTest_13 : decode cX5_behindTest 13 = .ok (.ldc2_w 339, 3) := dk_20 1 83 (dk_at dksX5_behindTest_0 13 rfl rfl)
theorem dX5_behindTest_16 : decode cX5_behindTest 16 = .ok (.invokevirtual 283, 3) := dk_182 1 27 (dk_at dksX5_behindTest_0 16 rfl rfl)
theorem dX5_behindTest_19 : decode cX5_behindTest 19 = .ok (.ifCond .eq 57, 3) := dk_153 0 57 (dk_at dksX5_behindTest_0 19 rfl rfl)
theorem dX5_behindTest_22 : decode cX5_behindTest 22 = .ok (.aload_n 0, 1) := dk_42 (dk_at dksX5_behindTest_0 22 rfl rfl)
theorem dX5_behindTest_23 : decode cX5_behindTest 23 = .ok (.iload_n 1, 1) := dk_27 (dk_at dksX5_behindTest_0 23 rfl rfl)
theorem dX5_behindTest_24 : decode cX5_behindTest 24 = .ok (.ifCond .eq 7, 3) := dk_153 0 7 (dk_at dksX5_behindTest_1 0 rfl rfl)
theorem dX5_behindTest_27 : decode cX5_behindTest 27 = .ok (.iconst 2, 1) := dk_5 (dk_at dksX5_behindTest_1 3 rfl rfl)
theorem dX5_behindTest_28 : decode cX5_behindTest 28 = .ok (.goto 4, 3) := dk_167 0 4 (dk_at dksX5_behindTest_1 4 rfl rfl)
theorem dX5_behindTest_31 : decode cX5_behindTest 31 = .ok (.iconst 1, 1) := dk_4 (dk_at dksX5_behindTest_1 7 rfl rfl)
theorem dX5_behindTest_32 : decode cX5_behindTest 32 = .ok (.invokevirtual 327, 3) := dk_182 1 71 (dk_at dksX5_behindTest_1 8 rfl rfl)
theorem dX5_behindTest_35 : decode cX5_behindTest 35 = .ok (.aload_n 0, 1) := dk_42 (dk_at dksX5_behindTest_1 11 rfl rfl)
theorem dX5_behindTest_36 : decode cX5_behindTest 36 = .ok (.iload_n 1, 1) := dk_27 (dk_at dksX5_behindTest_1 12 rfl rfl)
theorem dX5_behindTest_37 : decode cX5_behindTest 37 = .ok (.ifCond .eq 8, 3) := dk_153 0 8 (dk_at dksX5_behindTest_1 13 rfl rfl)
theorem dX5_behindTest_40 : decode cX5_behindTest 40 = .ok (.bipush 29, 2) := dk_16 29 (dk_at dksX5_behindTest_1 16 rfl rfl)
theorem dX5_behindTest_42 : decode cX5_behindTest 42 = .ok (.goto 5, 3) := dk_167 0 5 (dk_at dksX5_behindTest_1 18 rfl rfl)
theorem dX5_behindTest_45 : decode cX5_behindTest 45 = .ok (.bipush 30, 2) := dk_16 30 (dk_at dksX5_behindTest_1 21 rfl rfl)
theorem dX5_behindTest_47 : decode cX5_behindTest 47 = .ok (.aload_n 0, 1) := dk_42 (dk_at dksX5_behindTest_1 23 rfl rfl)
theorem dX5_behindTest_48 : decode cX5_behindTest 48 = .ok (.getfield 264, 3) := dk_180 1 8 (dk_at dksX5_behindTest_2 0 rfl rfl)
theorem dX5_behindTest_51 : decode cX5_behindTest 51 = .ok (.invokevirtual 290, 3) := dk_182 1 34 (dk_at dksX5_behindTest_2 3 rfl rfl)
theorem dX5_behindTest_54 : decode cX5_behindTest 54 = .ok (.aload_n 0, 1) := dk_42 (dk_at dksX5_behindTest_2 6 rfl rfl)
theorem dX5_behindTest_55 : decode cX5_behindTest 55 = .ok (.iload_n 1, 1) := dk_27 (dk_at dksX5_behindTest_2 7 rfl rfl)
theorem dX5_behindTest_56 : decode cX5_behindTest 56 = .ok (.ifCond .eq 8, 3) := dk_153 0 8 (dk_at dksX5_behindTest_2 8 rfl rfl)
theorem dX5_behindTest_59 : decode cX5_behindTest 59 = .ok (.bipush 29, 2) := dk_16 29 (dk_at dksX5_behindTest_2 11 rfl rfl)
theorem dX5_behindTest_61 : decode cX5_behindTest 61 = .ok (.goto 5, 3) := dk_167 0 5 (dk_at dksX5_behindTest_2 13 rfl rfl)
theorem dX5_behindTest_64 : decode cX5_behindTest 64 = .ok (.bipush 30, 2) := dk_16 30 (dk_at dksX5_behindTest_2 16 rfl rfl)
theorem dX5_behindTest_66 : decode cX5_behindTest 66 = .ok (.iconst 0, 1) := dk_3 (dk_at dksX5_behindTest_2 18 rfl rfl)
theorem dX5_behindTest_67 : decode cX5_behindTest 67 = .ok (.invokevirtual 273, 3) := dk_182 1 17 (dk_at dksX5_behindTest_2 19 rfl rfl)
theorem dX5_behindTest_70 : decode cX5_behindTest 70 = .ok (.aload_n 0, 1) := dk_42 (dk_at dksX5_behindTest_2 22 rfl rfl)
theorem dX5_behindTest_71 : decode cX5_behindTest 71 = .ok (.invokevirtual 233, 3) := dk_182 0 233 (dk_at dksX5_behindTest_3 0 rfl rfl)
theorem dX5_behindTest_74 : decode cX5_behindTest 74 = .ok (.iconst 0, 1) := dk_3 (dk_at dksX5_behindTest_3 3 rfl rfl)
theorem dX5_behindTest_75 : decode cX5_behindTest 75 = .ok (.ireturn, 1) := dk_172 (dk_at dksX5_behindTest_3 4 rfl rfl)
theorem dX5_behindTest_76 : decode cX5_behindTest 76 = .ok (.aload_n 0, 1) := dk_42 (dk_at dksX5_behindTest_3 5 rfl rfl)
theorem dX5_behindTest_77 : decode cX5_behindTest 77 = .ok (.invokevirtual 330, 3) := dk_182 1 74 (dk_at dksX5_behindTest_3 6 rfl rfl)
theorem dX5_behindTest_80 : decode cX5_behindTest 80 = .ok (.iconst (-1), 1) := dk_2 (dk_at dksX5_behindTest_3 9 rfl rfl)
theorem dX5_behindTest_81 : decode cX5_behindTest 81 = .ok (.if_icmp .ne 5, 3) := dk_160 0 5 (dk_at dksX5_behindTest_3 10 rfl rfl)
theorem dX5_behindTest_84 : decode cX5_behindTest 84 = .ok (.iconst 4, 1) := dk_7 (dk_at dksX5_behindTest_3 13 rfl rfl)
theorem dX5_behindTest_85 : decode cX5_behindTest 85 = .ok (.ireturn, 1) := dk_172 (dk_at dksX5_behindTest_3 14 rfl rfl)
theorem dX5_behindTest_86 : decode cX5_behindTest 86 = .ok (.aload_n 0, 1) := dk_42 (dk_at dksX5_behindTest_3 15 rfl rfl)
theorem dX5_behindTest_87 : decode cX5_behindTest 87 = .ok (.aload_n 0, 1) := dk_42 (dk_at dksX5_behindTest_3 16 rfl rfl)
theorem dX5_behindTest_88 : decode cX5_behindTest 88 = .ok (.bipush 41, 2) := dk_16 41 (dk_at dksX5_behindTest_3 17 rfl rfl)
theorem dX5_behindTest_90 : decode cX5_behindTest 90 = .ok (.invokevirtual 296, 3) := dk_182 1 40 (dk_at dksX5_behindTest_3 19 rfl rfl)
theorem dX5_behindTest_93 : decode cX5_behindTest 93 = .ok (.invokevirtual 260, 3) := dk_182 1 4 (dk_at dksX5_behindTest_4 0 rfl rfl)
theorem dX5_behindTest_96 : decode cX5_behindTest 96 = .ok (.aload_n 0, 1) := dk_42 (dk_at dksX5_behindTest_4 3 rfl rfl)
theorem dX5_behindTest_97 : decode cX5_behindTest 97 = .ok (.getfield 229, 3) := dk_180 0 229 (dk_at dksX5_behindTest_4 4 rfl rfl)
theorem dX5_behindTest_100 : decode cX5_behindTest 100 = .ok (.ifCond .ne 28, 3) := dk_154 0 28 (dk_at dksX5_behindTest_4 7 rfl rfl)
theorem dX5_behindTest_103 : decode cX5_behindTest 103 = .ok (.aload_n 0, 1) := dk_42 (dk_at dksX5_behindTest_4 10 rfl rfl)
theorem dX5_behindTest_104 : decode cX5_behindTest 104 = .ok (.iconst 1, 1) := dk_4 (dk_at dksX5_behindTest_4 11 rfl rfl)
theorem dX5_behindTest_105 : decode cX5_behindTest 105 = .ok (.invokevirtual 327, 3) := dk_182 1 71 (dk_at dksX5_behindTest_4 12 rfl rfl)
theorem dX5_behindTest_108 : decode cX5_behindTest 108 = .ok (.aload_n 0, 1) := dk_42 (dk_at dksX5_behindTest_4 15 rfl rfl)
theorem dX5_behindTest_109 : decode cX5_behindTest 109 = .ok (.dup, 1) := dk_89 (dk_at dksX5_behindTest_4 16 rfl rfl)
theorem dX5_behindTest_110 : decode cX5_behindTest 110 = .ok (.getfield 267, 3) := dk_180 1 11 (dk_at dksX5_behindTest_4 17 rfl rfl)
theorem dX5_behindTest_113 : decode cX5_behindTest 113 = .ok (.iconst 1, 1) := dk_4 (dk_at dksX5_behindTest_4 20 rfl rfl)
theorem dX5_behindTest_114 : decode cX5_behindTest 114 = .ok (.isub, 1) := dk_100 (dk_at dksX5_behindTest_4 21 rfl rfl)
theorem dX5_behindTest_115 : decode cX5_behindTest 115 = .ok (.putfield 267, 3) := dk_181 1 11 (dk_at dksX5_behindTest_5 0 rfl rfl)
theorem dX5_behindTest_118 : decode cX5_behindTest 118 = .ok (.aload_n 0, 1) := dk_42 (dk_at dksX5_behindTest_5 3 rfl rfl)
theorem dX5_behindTest_119 : decode cX5_behindTest 119 = .ok (.dup, 1) := dk_89 (dk_at dksX5_behindTest_5 4 rfl rfl)
theorem dX5_behindTest_120 : decode cX5_behindTest 120 = .ok (.getfield 287, 3) := dk_180 1 31 (dk_at dksX5_behindTest_5 5 rfl rfl)
theorem dX5_behindTest_123 : decode cX5_behindTest 123 = .ok (.iconst 1, 1) := dk_4 (dk_at dksX5_behindTest_5 8 rfl rfl)
theorem dX5_behindTest_124 : decode cX5_behindTest 124 = .ok (.isub, 1) := dk_100 (dk_at dksX5_behindTest_5 9 rfl rfl)
theorem dX5_behindTest_125 : decode cX5_behindTest 125 = .ok (.putfield 287, 3) := dk_181 1 31 (dk_at dksX5_behindTest_5 10 rfl rfl)
theorem dX5_behindTest_128 : decode cX5_behindTest 128 = .ok (.iconst 2, 1) := dk_5 (dk_at dksX5_behindTest_5 13 rfl rfl)
theorem dX5_behindTest_129 : decode cX5_behindTest 129 = .ok (.ireturn, 1) := dk_172 (dk_at dksX5_behindTest_5 14 rfl rfl)
abbrev cX5_endText : ByteArray := prog_23_method_58_code
def yX5_endText : MethodName := ⟨RX5, "endText", "()V"⟩
def dkwX5_endText_1 : List UInt8 := [42, 3, 181, 0, 217, 177]
abbrev dktX5_endText_1 : List UInt8 := dkwX5_endText_1 ++ []
def dkwX5_endText_0 : List UInt8 := [42, 180, 0, 229, 154, 0, 15, 42, 180, 0, 249, 153, 0, 8, 42, 3, 182, 1, 4, 42, 3, 181, 1, 46]
abbrev dktX5_endText_0 : List UInt8 := dkwX5_endText_0 ++ dktX5_endText_1
theorem dksX5_endText_0 : cX5_endText.data.toList.drop 0 = dktX5_endText_0 := by decide +kernel
theorem dksX5_endText_1 : cX5_endText.data.toList.drop 24 = dktX5_endText_1 := dk_seg dksX5_endText_0 24 rfl rfl
theorem dX5_endText_0 : decode cX5_endText 0 = .ok (.aload_n 0, 1) := dk_42 (dk_at dksX5_endText_0 0 rfl rfl)
theorem dX5_endText_1 : decode cX5_endText 1 = .ok (.getfield 229, 3) := dk_180 0 229 (dk_at dksX5_endText_0 1 rfl rfl)
theorem dX5_endText_4 : decode cX5_endText 4 = .ok (.ifCond .ne 15, 3) := dk_154 0 15 (dk_at dksX5_endText_0 4 rfl rfl)
theorem dX5_endText_7 : decode cX5_endText 7 = .ok (.aload_n 0, 1) := dk_42 (dk_at dksX5_endText_0 7 rfl rfl)
theorem dX5_endText_8 : decode cX5_endText 8 = .ok (.getfield 249, 3) := dk_180 0 249 (dk_at dksX5_endText_0 8 rfl rfl)
theorem dX5_endText_11 : decode cX5_endText 11 = .ok (.ifCond .eq 8, 3) := dk_153 0 8 (dk_at dksX5_endText_0 11 rfl rfl)
theorem dX5_endText_14 : decode cX5_endText 14 = .ok (.aload_n 0, 1) := dk_42 (dk_at dksX5_endText_0 14 rfl rfl)
theorem dX5_endText_15 : decode cX5_endText 15 = .ok (.iconst 0, 1) := dk_3 (dk_at dksX5_endText_0 15 rfl rfl)
theorem dX5_endText_16 : decode cX5_endText 16 = .ok (.invokevirtual 260, 3) := dk_182 1 4 (dk_at dksX5_endText_0 16 rfl rfl)
theorem dX5_endText_19 : decode cX5_endText 19 = .ok (.aload_n 0, 1) := dk_42 (dk_at dksX5_endText_0 19 rfl rfl)
theorem dX5_endText_20 : decode cX5_endText 20 = .ok (.iconst 0, 1) := dk_3 (dk_at dksX5_endText_0 20 rfl rfl)
theorem dX5_endText_21 : decode cX5_endText 21 = .ok (.putfield 302, 3) := dk_181 1 46 (dk_at dksX5_endText_0 21 rfl rfl)
theorem dX5_endText_24 : decode cX5_endText 24 = .ok (.aload_n 0, 1) := dk_42 (dk_at dksX5_endText_1 0 rfl rfl)
theorem dX5_endText_25 : decode cX5_endText 25 = .ok (.iconst 0, 1) := dk_3 (dk_at dksX5_endText_1 1 rfl rfl)
theorem dX5_endText_26 : decode cX5_endText 26 = .ok (.putfield 217, 3) := dk_181 0 217 (dk_at dksX5_endText_1 2 rfl rfl)
theorem dX5_endText_29 : decode cX5_endText 29 = .ok (.return_, 1) := dk_177 (dk_at dksX5_endText_1 5 rfl rfl)
abbrev cX5_force : ByteArray := prog_23_method_62_code
def yX5_force : MethodName := ⟨RX5, "force", "(I)I"⟩
def dkwX5_force_1 : List UInt8 := [16, 254, 182, 0, 142, 172]
abbrev dktX5_force_1 : List UInt8 := dkwX5_force_1 ++ []
def dkwX5_force_0 : List UInt8 := [42, 3, 181, 0, 133, 42, 27, 182, 1, 115, 153, 0, 12, 42, 7, 27, 182, 0, 214, 167, 0, 9, 42]
abbrev dktX5_force_0 : List UInt8 := dkwX5_force_0 ++ dktX5_force_1
theorem dksX5_force_0 : cX5_force.data.toList.drop 0 = dktX5_force_0 := by decide +kernel
theorem dksX5_force_1 : cX5_force.data.toList.drop 23 = dktX5_force_1 := dk_seg dksX5_force_0 23 rfl rfl
theorem dX5_force_0 : decode cX5_force 0 = .ok (.aload_n 0, 1) := dk_42 (dk_at dksX5_force_0 0 rfl rfl)
theorem dX5_force_1 : decode cX5_force 1 = .ok (.iconst 0, 1) := dk_3 (dk_at dksX5_force_0 1 rfl rfl)
theorem dX5_force_2 : decode cX5_force 2 = .ok (.putfield 133, 3) := dk_181 0 133 (dk_at dksX5_force_0 2 rfl rfl)
theorem dX5_force_5 : decode cX5_force 5 = .ok (.aload_n 0, 1) := dk_42 (dk_at dksX5_force_0 5 rfl rfl)
theorem dX5_force_6 : decode cX5_force 6 = .ok (.iload_n 1, 1) := dk_27 (dk_at dksX5_force_0 6 rfl rfl)
theorem dX5_force_7 : decode cX5_force 7 = .ok (.invokevirtual 371, 3) := dk_182 1 115 (dk_at dksX5_force_0 7 rfl rfl)
theorem dX5_force_10 : decode cX5_force 10 = .ok (.ifCond .eq 12, 3) := dk_153 0 12 (dk_at dksX5_force_0 10 rfl rfl)
theorem dX5_force_13 : decode cX5_force 13 = .ok (.aload_n 0, 1) := dk_42 (dk_at dksX5_force_0 13 rfl rfl)
theorem dX5_force_14 : decode cX5_force 14 = .ok (.iconst 4, 1) := dk_7 (dk_at dksX5_force_0 14 rfl rfl)
theorem dX5_force_15 : decode cX5_force 15 = .ok (.iload_n 1, 1) := dk_27 (dk_at dksX5_force_0 15 rfl rfl)
theorem dX5_force_16 : decode cX5_force 16 = .ok (.invokevirtual 214, 3) := dk_182 0 214 (dk_at dksX5_force_0 16 rfl rfl)
theorem dX5_force_19 : decode cX5_force 19 = .ok (.goto 9, 3) := dk_167 0 9 (dk_at dksX5_force_0 19 rfl rfl)
theorem dX5_force_22 : decode cX5_force 22 = .ok (.aload_n 0, 1) := dk_42 (dk_at dksX5_force_0 22 rfl rfl)
theorem dX5_force_23 : decode cX5_force 23 = .ok (.bipush (-2), 2) := dk_16 254 (dk_at dksX5_force_1 0 rfl rfl)
theorem dX5_force_25 : decode cX5_force 25 = .ok (.invokevirtual 142, 3) := dk_182 0 142 (dk_at dksX5_force_1 2 rfl rfl)
theorem dX5_force_28 : decode cX5_force 28 = .ok (.ireturn, 1) := dk_172 (dk_at dksX5_force_1 5 rfl rfl)
abbrev cX5_isLaw : ByteArray := prog_23_method_61_code
def yX5_isLaw : MethodName := ⟨RX5, "isLaw", "(I)Z"⟩
def dkwX5_isLaw_1 : List UInt8 := [167, 0, 4, 3, 172]
abbrev dktX5_isLaw_1 : List UInt8 := dkwX5_isLaw_1 ++ []
def dkwX5_isLaw_0 : List UInt8 := [27, 2, 159, 0, 21, 27, 133, 9, 42, 180, 0, 13, 5, 46, 133, 10, 101, 184, 0, 153, 153, 0, 7, 4]
abbrev dktX5_isLaw_0 : List UInt8 := dkwX5_isLaw_0 ++ dktX5_isLaw_1
theorem dksX5_isLaw_0 : cX5_isLaw.data.toList.drop 0 = dktX5_isLaw_0 := by decide +kernel
theorem dksX5_isLaw_1 : cX5_isLaw.data.toList.drop 24 = dktX5_isLaw_1 := dk_seg dksX5_isLaw_0 24 rfl rfl
theorem dX5_isLaw_0 : decode cX5_isLaw 0 = .ok (.iload_n 1, 1) := dk_27 (dk_at dksX5_isLaw_0 0 rfl rfl)
theorem dX5_isLaw_1 : decode cX5_isLaw 1 = .ok (.iconst (-1), 1) := dk_2 (dk_at dksX5_isLaw_0 1 rfl rfl)
theorem dX5_isLaw_2 : decode cX5_isLaw 2 = .ok (.if_icmp .eq 21, 3) := dk_159 0 21 (dk_at dksX5_isLaw_0 2 rfl rfl)
theorem dX5_isLaw_5 : decode cX5_isLaw 5 = .ok (.iload_n 1, 1) := dk_27 (dk_at dksX5_isLaw_0 5 rfl rfl)
theorem dX5_isLaw_6 : decode cX5_isLaw 6 = .ok (.i2l, 1) := dk_133 (dk_at dksX5_isLaw_0 6 rfl rfl)
theorem dX5_isLaw_7 : decode cX5_isLaw 7 = .ok (.lconst 0, 1) := dk_9 (dk_at dksX5_isLaw_0 7 rfl rfl)
theorem dX5_isLaw_8 : decode cX5_isLaw 8 = .ok (.aload_n 0, 1) := dk_42 (dk_at dksX5_isLaw_0 8 rfl rfl)
theorem dX5_isLaw_9 : decode cX5_isLaw 9 = .ok (.getfield 13, 3) := dk_180 0 13 (dk_at dksX5_isLaw_0 9 rfl rfl)
theorem dX5_isLaw_12 : decode cX5_isLaw 12 = .ok (.iconst 2, 1) := dk_5 (dk_at dksX5_isLaw_0 12 rfl rfl)
theorem dX5_isLaw_13 : decode cX5_isLaw 13 = .ok (.iaload, 1) := dk_46 (dk_at dksX5_isLaw_0 13 rfl rfl)
theorem dX5_isLaw_14 : decode cX5_isLaw 14 = .ok (.i2l, 1) := dk_133 (dk_at dksX5_isLaw_0 14 rfl rfl)
theorem dX5_isLaw_15 : decode cX5_isLaw 15 = .ok (.lconst 1, 1) := dk_10 (dk_at dksX5_isLaw_0 15 rfl rfl)
theorem dX5_isLaw_16 : decode cX5_isLaw 16 = .ok (.lsub, 1) := dk_101 (dk_at dksX5_isLaw_0 16 rfl rfl)
theorem dX5_isLaw_17 : decode cX5_isLaw 17 = .ok (.invokestatic 153, 3) := dk_184 0 153 (dk_at dksX5_isLaw_0 17 rfl rfl)
theorem dX5_isLaw_20 : decode cX5_isLaw 20 = .ok (.ifCond .eq 7, 3) := dk_153 0 7 (dk_at dksX5_isLaw_0 20 rfl rfl)
theorem dX5_isLaw_23 : decode cX5_isLaw 23 = .ok (.iconst 1, 1) := dk_4 (dk_at dksX5_isLaw_0 23 rfl rfl)
theorem dX5_isLaw_24 : decode cX5_isLaw 24 = .ok (.goto 4, 3) := dk_167 0 4 (dk_at dksX5_isLaw_1 0 rfl rfl)
theorem dX5_isLaw_27 : decode cX5_isLaw 27 = .ok (.iconst 0, 1) := dk_3 (dk_at dksX5_isLaw_1 3 rfl rfl)
theorem dX5_isLaw_28 : decode cX5_isLaw 28 = .ok (.ireturn, 1) := dk_172 (dk_at dksX5_isLaw_1 4 rfl rfl)
abbrev cX5_pour : ByteArray := prog_23_method_75_code
def yX5_pour : MethodName := ⟨RX5, "pour", "(II)I"⟩
def dkwX5_pour_0 : List UInt8 := [42, 3, 181, 0, 133, 42, 42, 27, 28, 182, 1, 171, 182, 0, 142, 172]
abbrev dktX5_pour_0 : List UInt8 := dkwX5_pour_0 ++ []
theorem dksX5_pour_0 : cX5_pour.data.toList.drop 0 = dktX5_pour_0 := by decide +kernel
theorem dX5_pour_0 : decode cX5_pour 0 = .ok (.aload_n 0, 1) := dk_42 (dk_at dksX5_pour_0 0 rfl rfl)
theorem dX5_pour_1 : decode cX5_pour 1 = .ok (.iconst 0, 1) := dk_3 (dk_at dksX5_pour_0 1 rfl rfl)
theorem dX5_pour_2 : decode cX5_pour 2 = .ok (.putfield 133, 3) := dk_181 0 133 (dk_at dksX5_pour_0 2 rfl rfl)
theorem dX5_pour_5 : decode cX5_pour 5 = .ok (.aload_n 0, 1) := dk_42 (dk_at dksX5_pour_0 5 rfl rfl)
theorem dX5_pour_6 : decode cX5_pour 6 = .ok (.aload_n 0, 1) := dk_42 (dk_at dksX5_pour_0 6 rfl rfl)
theorem dX5_pour_7 : decode cX5_pour 7 = .ok (.iload_n 1, 1) := dk_27 (dk_at dksX5_pour_0 7 rfl rfl)
theorem dX5_pour_8 : decode cX5_pour 8 = .ok (.iload_n 2, 1) := dk_28 (dk_at dksX5_pour_0 8 rfl rfl)
theorem dX5_pour_9 : decode cX5_pour 9 = .ok (.invokevirtual 427, 3) := dk_182 1 171 (dk_at dksX5_pour_0 9 rfl rfl)
theorem dX5_pour_12 : decode cX5_pour 12 = .ok (.invokevirtual 142, 3) := dk_182 0 142 (dk_at dksX5_pour_0 12 rfl rfl)
theorem dX5_pour_15 : decode cX5_pour 15 = .ok (.ireturn, 1) := dk_172 (dk_at dksX5_pour_0 15 rfl rfl)
abbrev cX5_pourNow : ByteArray := prog_23_method_74_code
def yX5_pourNow : MethodName := ⟨RX5, "pourNow", "(II)I"⟩
def dkwX5_pourNow_1 : List UInt8 := [172]
abbrev dktX5_pourNow_1 : List UInt8 := dkwX5_pourNow_1 ++ []
def dkwX5_pourNow_0 : List UInt8 := [42, 27, 28, 182, 1, 162, 62, 29, 156, 0, 5, 29, 172, 42, 3, 182, 1, 165, 42, 27, 28, 182, 1, 168]
abbrev dktX5_pourNow_0 : List UInt8 := dkwX5_pourNow_0 ++ dktX5_pourNow_1
theorem dksX5_pourNow_0 : cX5_pourNow.data.toList.drop 0 = dktX5_pourNow_0 := by decide +kernel
theorem dksX5_pourNow_1 : cX5_pourNow.data.toList.drop 24 = dktX5_pourNow_1 := dk_seg dksX5_pourNow_0 24 rfl rfl
theorem dX5_pourNow_0 : decode cX5_pourNow 0 = .ok (.aload_n 0, 1) := dk_42 (dk_at dksX5_pourNow_0 0 rfl rfl)
theorem dX5_pourNow_1 : decode cX5_pourNow 1 = .ok (.iload_n 1, 1) := dk_27 (dk_at dksX5_pourNow_0 1 rfl rfl)
theorem dX5_pourNow_2 : decode cX5_pourNow 2 = .ok (.iload_n 2, 1) := dk_28 (dk_at dksX5_pourNow_0 2 rfl rfl)
theorem dX5_pourNow_3 : decode cX5_pourNow 3 = .ok (.invokevirtual 418, 3) := dk_182 1 162 (dk_at dksX5_pourNow_0 3 rfl rfl)
theorem dX5_pourNow_6 : decode cX5_pourNow 6 = .ok (.istore_n 3, 1) := dk_62 (dk_at dksX5_pourNow_0 6 rfl rfl)
theorem dX5_pourNow_7 : decode cX5_pourNow 7 = .ok (.iload_n 3, 1) := dk_29 (dk_at dksX5_pourNow_0 7 rfl rfl)
theorem dX5_pourNow_8 : decode cX5_pourNow 8 = .ok (.ifCond .ge 5, 3) := dk_156 0 5 (dk_at dksX5_pourNow_0 8 rfl rfl)
theorem dX5_pourNow_11 : decode cX5_pourNow 11 = .ok (.iload_n 3, 1) := dk_29 (dk_at dksX5_pourNow_0 11 rfl rfl)
theorem dX5_pourNow_12 : decode cX5_pourNow 12 = .ok (.ireturn, 1) := dk_172 (dk_at dksX5_pourNow_0 12 rfl rfl)
theorem dX5_pourNow_13 : decode cX5_pourNow 13 = .ok (.aload_n 0, 1) := dk_42 (dk_at dksX5_pourNow_0 13 rfl rfl)
theorem dX5_pourNow_14 : decode cX5_pourNow 14 = .ok (.iconst 0, 1) := dk_3 (dk_at dksX5_pourNow_0 14 rfl rfl)
theorem dX5_pourNow_15 : decode cX5_pourNow 15 = .ok (.invokevirtual 421, 3) := dk_182 1 165 (dk_at dksX5_pourNow_0 15 rfl rfl)
theorem dX5_pourNow_18 : decode cX5_pourNow 18 = .ok (.aload_n 0, 1) := dk_42 (dk_at dksX5_pourNow_0 18 rfl rfl)
theorem dX5_pourNow_19 : decode cX5_pourNow 19 = .ok (.iload_n 1, 1) := dk_27 (dk_at dksX5_pourNow_0 19 rfl rfl)
theorem dX5_pourNow_20 : decode cX5_pourNow 20 = .ok (.iload_n 2, 1) := dk_28 (dk_at dksX5_pourNow_0 20 rfl rfl)
theorem dX5_pourNow_21 : decode cX5_pourNow 21 = .ok (.invokevirtual 424, 3) := dk_182 1 168 (dk_at dksX5_pourNow_0 21 rfl rfl)
theorem dX5_pourNow_24 : decode cX5_pourNow 24 = .ok (.ireturn, 1) := dk_172 (dk_at dksX5_pourNow_1 0 rfl rfl)
abbrev cX5_whyNotPour : ByteArray := prog_23_method_72_code
def yX5_whyNotPour : MethodName := ⟨RX5, "whyNotPour", "(II)I"⟩
def dkwX5_whyNotPour_1 : List UInt8 := [172, 42, 27, 182, 1, 118, 17, 3, 232, 28, 104, 162, 0, 8, 16, 253, 167, 0, 4, 3, 172]
abbrev dktX5_whyNotPour_1 : List UInt8 := dkwX5_whyNotPour_1 ++ []
def dkwX5_whyNotPour_0 : List UInt8 := [28, 133, 10, 20, 0, 179, 184, 0, 153, 154, 0, 5, 2, 172, 42, 27, 182, 0, 184, 154, 0, 6, 16, 254]
abbrev dktX5_whyNotPour_0 : List UInt8 := dkwX5_whyNotPour_0 ++ dktX5_whyNotPour_1
theorem dksX5_whyNotPour_0 : cX5_whyNotPour.data.toList.drop 0 = dktX5_whyNotPour_0 := by decide +kernel
theorem dksX5_whyNotPour_1 : cX5_whyNotPour.data.toList.drop 24 = dktX5_whyNotPour_1 := dk_seg dksX5_whyNotPour_0 24 rfl rfl
theorem dX5_whyNotPour_0 : decode cX5_whyNotPour 0 = .ok (.iload_n 2, 1) := dk_28 (dk_at dksX5_whyNotPour_0 0 rfl rfl)
theorem dX5_whyNotPour_1 : decode cX5_whyNotPour 1 = .ok (.i2l, 1) := dk_133 (dk_at dksX5_whyNotPour_0 1 rfl rfl)
theorem dX5_whyNotPour_2 : decode cX5_whyNotPour 2 = .ok (.lconst 1, 1) := dk_10 (dk_at dksX5_whyNotPour_0 2 rfl rfl)
theorem dX5_whyNotPour_3 : decode cX5_whyNotPour 3 = .ok (.ldc2_w 179, 3) := dk_20 0 179 (dk_at dksX5_whyNotPour_0 3 rfl rfl)
theorem dX5_whyNotPour_6 : decode cX5_whyNotPour 6 = .ok (.invokestatic 153, 3) := dk_184 0 153 (dk_at dksX5_whyNotPour_0 6 rfl rfl)
theorem dX5_whyNotPour_9 : decode cX5_whyNotPour 9 = .ok (.ifCond .ne 5, 3) := dk_154 0 5 (dk_at dksX5_whyNotPour_0 9 rfl rfl)
theorem dX5_whyNotPour_12 : decode cX5_whyNotPour 12 = .ok (.iconst (-1), 1) := dk_2 (dk_at dksX5_whyNotPour_0 12 rfl rfl)
theorem dX5_whyNotPour_13 : decode cX5_whyNotPour 13 = .ok (.ireturn, 1) := dk_172 (dk_at dksX5_whyNotPour_0 13 rfl rfl)
theorem dX5_whyNotPour_14 : decode cX5_whyNotPour 14 = .ok (.aload_n 0, 1) := dk_42 (dk_at dksX5_whyNotPour_0 14 rfl rfl)
theorem dX5_whyNotPour_15 : decode cX5_whyNotPour 15 = .ok (.iload_n 1, 1) := dk_27 (dk_at dksX5_whyNotPour_0 15 rfl rfl)
theorem dX5_whyNotPour_16 : decode cX5_whyNotPour 16 = .ok (.invokevirtual 184, 3) := dk_182 0 184 (dk_at dksX5_whyNotPour_0 16 rfl rfl)
theorem dX5_whyNotPour_19 : decode cX5_whyNotPour 19 = .ok (.ifCond .ne 6, 3) := dk_154 0 6 (dk_at dksX5_whyNotPour_0 19 rfl rfl)
theorem dX5_whyNotPour_22 : decode cX5_whyNotPour 22 = .ok (.bipush (-2), 2) := dk_16 254 (dk_at dksX5_whyNotPour_0 22 rfl rfl)
theorem dX5_whyNotPour_24 : decode cX5_whyNotPour 24 = .ok (.ireturn, 1) := dk_172 (dk_at dksX5_whyNotPour_1 0 rfl rfl)
theorem dX5_whyNotPour_25 : decode cX5_whyNotPour 25 = .ok (.aload_n 0, 1) := dk_42 (dk_at dksX5_whyNotPour_1 1 rfl rfl)
theorem dX5_whyNotPour_26 : decode cX5_whyNotPour 26 = .ok (.iload_n 1, 1) := dk_27 (dk_at dksX5_whyNotPour_1 2 rfl rfl)
theorem dX5_whyNotPour_27 : decode cX5_whyNotPour 27 = .ok (.invokevirtual 374, 3) := dk_182 1 118 (dk_at dksX5_whyNotPour_1 3 rfl rfl)
theorem dX5_whyNotPour_30 : decode cX5_whyNotPour 30 = .ok (.sipush 1000, 3) := dk_17 3 232 (dk_at dksX5_whyNotPour_1 6 rfl rfl)
theorem dX5_whyNotPour_33 : decode cX5_whyNotPour 33 = .ok (.iload_n 2, 1) := dk_28 (dk_at dksX5_whyNotPour_1 9 rfl rfl)
theorem dX5_whyNotPour_34 : decode cX5_whyNotPour 34 = .ok (.imul, 1) := dk_104 (dk_at dksX5_whyNotPour_1 10 rfl rfl)
theorem dX5_whyNotPour_35 : decode cX5_whyNotPour 35 = .ok (.if_icmp .ge 8, 3) := dk_162 0 8 (dk_at dksX5_whyNotPour_1 11 rfl rfl)
theorem dX5_whyNotPour_38 : decode cX5_whyNotPour 38 = .ok (.bipush (-3), 2) := dk_16 253 (dk_at dksX5_whyNotPour_1 14 rfl rfl)
theorem dX5_whyNotPour_40 : decode cX5_whyNotPour 40 = .ok (.goto 4, 3) := dk_167 0 4 (dk_at dksX5_whyNotPour_1 16 rfl rfl)
theorem dX5_whyNotPour_43 : decode cX5_whyNotPour 43 = .ok (.iconst 0, 1) := dk_3 (dk_at dksX5_whyNotPour_1 19 rfl rfl)
theorem dX5_whyNotPour_44 : decode cX5_whyNotPour 44 = .ok (.ireturn, 1) := dk_172 (dk_at dksX5_whyNotPour_1 20 rfl rfl)
abbrev cX5_remember : ByteArray := prog_23_method_11_code
def yX5_remember : MethodName := ⟨RX5, "remember", "(I)V"⟩
def dkwX5_remember_4 : List UInt8 := [27, 79, 42, 89, 180, 0, 139, 4, 96, 181, 0, 139, 177]
abbrev dktX5_remember_4 : List UInt8 := dkwX5_remember_4 ++ []
def dkwX5_remember_3 : List UInt8 := [180, 0, 139, 4, 100, 181, 0, 139, 42, 42, 180, 0, 139, 182, 0, 146, 42, 180, 0, 26, 42, 180, 0, 139]
abbrev dktX5_remember_3 : List UInt8 := dkwX5_remember_3 ++ dktX5_remember_4
def dkwX5_remember_2 : List UInt8 := [42, 180, 0, 26, 28, 42, 180, 0, 26, 28, 4, 96, 46, 79, 132, 2, 1, 167, 255, 233, 42, 89]
abbrev dktX5_remember_2 : List UInt8 := dkwX5_remember_2 ++ dktX5_remember_3
def dkwX5_remember_1 : List UInt8 := [180, 0, 23, 28, 17, 0, 165, 96, 46, 79, 132, 2, 1, 167, 255, 230, 3, 61, 28, 16, 15, 162, 0, 23]
abbrev dktX5_remember_1 : List UInt8 := dkwX5_remember_1 ++ dktX5_remember_2
def dkwX5_remember_0 : List UInt8 := [42, 180, 0, 139, 16, 16, 160, 0, 72, 3, 61, 28, 17, 9, 171, 162, 0, 25, 42, 180, 0, 23, 28, 42]
abbrev dktX5_remember_0 : List UInt8 := dkwX5_remember_0 ++ dktX5_remember_1
theorem dksX5_remember_0 : cX5_remember.data.toList.drop 0 = dktX5_remember_0 := by decide +kernel
theorem dksX5_remember_1 : cX5_remember.data.toList.drop 24 = dktX5_remember_1 := dk_seg dksX5_remember_0 24 rfl rfl
theorem dksX5_remember_2 : cX5_remember.data.toList.drop 48 = dktX5_remember_2 := dk_seg dksX5_remember_1 24 rfl rfl
theorem dksX5_remember_3 : cX5_remember.data.toList.drop 70 = dktX5_remember_3 := dk_seg dksX5_remember_2 22 rfl rfl
theorem dksX5_remember_4 : cX5_remember.data.toList.drop 94 = dktX5_remember_4 := dk_seg dksX5_remember_3 24 rfl rfl
theorem dX5_remember_0 : decode cX5_remember 0 = .ok (.aload_n 0, 1) := dk_42 (dk_at dksX5_remember_0 0 rfl rfl)
theorem dX5_remember_1 : decode cX5_remember 1 = .ok (.getfield 139, 3) := dk_180 0 139 (dk_at dksX5_remember_0 1 rfl rfl)
theorem dX5_remember_4 : decode cX5_remember 4 = .ok (.bipush 16, 2) := dk_16 16 (dk_at dksX5_remember_0 4 rfl rfl)
theorem dX5_remember_6 : decode cX5_remember 6 = .ok (.if_icmp .ne 72, 3) := dk_160 0 72 (dk_at dksX5_remember_0 6 rfl rfl)
theorem dX5_remember_9 : decode cX5_remember 9 = .ok (.iconst 0, 1) := dk_3 (dk_at dksX5_remember_0 9 rfl rfl)
theorem dX5_remember_10 : decode cX5_remember 10 = .ok (.istore_n 2, 1) := dk_61 (dk_at dksX5_remember_0 10 rfl rfl)
theorem dX5_remember_11 : decode cX5_remember 11 = .ok (.iload_n 2, 1) := dk_28 (dk_at dksX5_remember_0 11 rfl rfl)
theorem dX5_remember_12 : decode cX5_remember 12 = .ok (.sipush 2475, 3) := dk_17 9 171 (dk_at dksX5_remember_0 12 rfl rfl)
theorem dX5_remember_15 : decode cX5_remember 15 = .ok (.if_icmp .ge 25, 3) := dk_162 0 25 (dk_at dksX5_remember_0 15 rfl rfl)
theorem dX5_remember_18 : decode cX5_remember 18 = .ok (.aload_n 0, 1) := dk_42 (dk_at dksX5_remember_0 18 rfl rfl)
theorem dX5_remember_19 : decode cX5_remember 19 = .ok (.getfield 23, 3) := dk_180 0 23 (dk_at dksX5_remember_0 19 rfl rfl)
theorem dX5_remember_22 : decode cX5_remember 22 = .ok (.iload_n 2, 1) := dk_28 (dk_at dksX5_remember_0 22 rfl rfl)
theorem dX5_remember_23 : decode cX5_remember 23 = .ok (.aload_n 0, 1) := dk_42 (dk_at dksX5_remember_0 23 rfl rfl)
theorem dX5_remember_24 : decode cX5_remember 24 = .ok (.getfield 23, 3) := dk_180 0 23 (dk_at dksX5_remember_1 0 rfl rfl)
theorem dX5_remember_27 : decode cX5_remember 27 = .ok (.iload_n 2, 1) := dk_28 (dk_at dksX5_remember_1 3 rfl rfl)
theorem dX5_remember_28 : decode cX5_remember 28 = .ok (.sipush 165, 3) := dk_17 0 165 (dk_at dksX5_remember_1 4 rfl rfl)
theorem dX5_remember_31 : decode cX5_remember 31 = .ok (.iadd, 1) := dk_96 (dk_at dksX5_remember_1 7 rfl rfl)
theorem dX5_remember_32 : decode cX5_remember 32 = .ok (.iaload, 1) := dk_46 (dk_at dksX5_remember_1 8 rfl rfl)
theorem dX5_remember_33 : decode cX5_remember 33 = .ok (.iastore, 1) := dk_79 (dk_at dksX5_remember_1 9 rfl rfl)
theorem dX5_remember_34 : decode cX5_remember 34 = .ok (.iinc 2 1, 3) := dk_132 2 1 (dk_at dksX5_remember_1 10 rfl rfl)
theorem dX5_remember_37 : decode cX5_remember 37 = .ok (.goto (-26), 3) := dk_167 255 230 (dk_at dksX5_remember_1 13 rfl rfl)
theorem dX5_remember_40 : decode cX5_remember 40 = .ok (.iconst 0, 1) := dk_3 (dk_at dksX5_remember_1 16 rfl rfl)
theorem dX5_remember_41 : decode cX5_remember 41 = .ok (.istore_n 2, 1) := dk_61 (dk_at dksX5_remember_1 17 rfl rfl)
theorem dX5_remember_42 : decode cX5_remember 42 = .ok (.iload_n 2, 1) := dk_28 (dk_at dksX5_remember_1 18 rfl rfl)
theorem dX5_remember_43 : decode cX5_remember 43 = .ok (.bipush 15, 2) := dk_16 15 (dk_at dksX5_remember_1 19 rfl rfl)
theorem dX5_remember_45 : decode cX5_remember 45 = .ok (.if_icmp .ge 23, 3) := dk_162 0 23 (dk_at dksX5_remember_1 21 rfl rfl)
theorem dX5_remember_48 : decode cX5_remember 48 = .ok (.aload_n 0, 1) := dk_42 (dk_at dksX5_remember_2 0 rfl rfl)
theorem dX5_remember_49 : decode cX5_remember 49 = .ok (.getfield 26, 3) := dk_180 0 26 (dk_at dksX5_remember_2 1 rfl rfl)
theorem dX5_remember_52 : decode cX5_remember 52 = .ok (.iload_n 2, 1) := dk_28 (dk_at dksX5_remember_2 4 rfl rfl)
theorem dX5_remember_53 : decode cX5_remember 53 = .ok (.aload_n 0, 1) := dk_42 (dk_at dksX5_remember_2 5 rfl rfl)
theorem dX5_remember_54 : decode cX5_remember 54 = .ok (.getfield 26, 3) := dk_180 0 26 (dk_at dksX5_remember_2 6 rfl rfl)
theorem dX5_remember_57 : decode cX5_remember 57 = .ok (.iload_n 2, 1) := dk_28 (dk_at dksX5_remember_2 9 rfl rfl)
theorem dX5_remember_58 : decode cX5_remember 58 = .ok (.iconst 1, 1) := dk_4 (dk_at dksX5_remember_2 10 rfl rfl)
theorem dX5_remember_59 : decode cX5_remember 59 = .ok (.iadd, 1) := dk_96 (dk_at dksX5_remember_2 11 rfl rfl)
theorem dX5_remember_60 : decode cX5_remember 60 = .ok (.iaload, 1) := dk_46 (dk_at dksX5_remember_2 12 rfl rfl)
theorem dX5_remember_61 : decode cX5_remember 61 = .ok (.iastore, 1) := dk_79 (dk_at dksX5_remember_2 13 rfl rfl)
theorem dX5_remember_62 : decode cX5_remember 62 = .ok (.iinc 2 1, 3) := dk_132 2 1 (dk_at dksX5_remember_2 14 rfl rfl)
theorem dX5_remember_65 : decode cX5_remember 65 = .ok (.goto (-23), 3) := dk_167 255 233 (dk_at dksX5_remember_2 17 rfl rfl)
theorem dX5_remember_68 : decode cX5_remember 68 = .ok (.aload_n 0, 1) := dk_42 (dk_at dksX5_remember_2 20 rfl rfl)
theorem dX5_remember_69 : decode cX5_remember 69 = .ok (.dup, 1) := dk_89 (dk_at dksX5_remember_2 21 rfl rfl)
theorem dX5_remember_70 : decode cX5_remember 70 = .ok (.getfield 139, 3) := dk_180 0 139 (dk_at dksX5_remember_3 0 rfl rfl)
theorem dX5_remember_73 : decode cX5_remember 73 = .ok (.iconst 1, 1) := dk_4 (dk_at dksX5_remember_3 3 rfl rfl)
theorem dX5_remember_74 : decode cX5_remember 74 = .ok (.isub, 1) := dk_100 (dk_at dksX5_remember_3 4 rfl rfl)
theorem dX5_remember_75 : decode cX5_remember 75 = .ok (.putfield 139, 3) := dk_181 0 139 (dk_at dksX5_remember_3 5 rfl rfl)
theorem dX5_remember_78 : decode cX5_remember 78 = .ok (.aload_n 0, 1) := dk_42 (dk_at dksX5_remember_3 8 rfl rfl)
theorem dX5_remember_79 : decode cX5_remember 79 = .ok (.aload_n 0, 1) := dk_42 (dk_at dksX5_remember_3 9 rfl rfl)
theorem dX5_remember_80 : decode cX5_remember 80 = .ok (.getfield 139, 3) := dk_180 0 139 (dk_at dksX5_remember_3 10 rfl rfl)
theorem dX5_remember_83 : decode cX5_remember 83 = .ok (.invokevirtual 146, 3) := dk_182 0 146 (dk_at dksX5_remember_3 13 rfl rfl)
theorem dX5_remember_86 : decode cX5_remember 86 = .ok (.aload_n 0, 1) := dk_42 (dk_at dksX5_remember_3 16 rfl rfl)
theorem dX5_remember_87 : decode cX5_remember 87 = .ok (.getfield 26, 3) := dk_180 0 26 (dk_at dksX5_remember_3 17 rfl rfl)
theorem dX5_remember_90 : decode cX5_remember 90 = .ok (.aload_n 0, 1) := dk_42 (dk_at dksX5_remember_3 20 rfl rfl)
theorem dX5_remember_91 : decode cX5_remember 91 = .ok (.getfield 139, 3) := dk_180 0 139 (dk_at dksX5_remember_3 21 rfl rfl)
theorem dX5_remember_94 : decode cX5_remember 94 = .ok (.iload_n 1, 1) := dk_27 (dk_at dksX5_remember_4 0 rfl rfl)
theorem dX5_remember_95 : decode cX5_remember 95 = .ok (.iastore, 1) := dk_79 (dk_at dksX5_remember_4 1 rfl rfl)
theorem dX5_remember_96 : decode cX5_remember 96 = .ok (.aload_n 0, 1) := dk_42 (dk_at dksX5_remember_4 2 rfl rfl)
theorem dX5_remember_97 : decode cX5_remember 97 = .ok (.dup, 1) := dk_89 (dk_at dksX5_remember_4 3 rfl rfl)
theorem dX5_remember_98 : decode cX5_remember 98 = .ok (.getfield 139, 3) := dk_180 0 139 (dk_at dksX5_remember_4 4 rfl rfl)
theorem dX5_remember_101 : decode cX5_remember 101 = .ok (.iconst 1, 1) := dk_4 (dk_at dksX5_remember_4 7 rfl rfl)
theorem dX5_remember_102 : decode cX5_remember 102 = .ok (.iadd, 1) := dk_96 (dk_at dksX5_remember_4 8 rfl rfl)
theorem dX5_remember_103 : decode cX5_remember 103 = .ok (.putfield 139, 3) := dk_181 0 139 (dk_at dksX5_remember_4 9 rfl rfl)
theorem dX5_remember_106 : decode cX5_remember 106 = .ok (.return_, 1) := dk_177 (dk_at dksX5_remember_4 12 rfl rfl)
abbrev cX5_keepAll : ByteArray := prog_23_method_9_code
def yX5_keepAll : MethodName := ⟨RX5, "keepAll", "(I)V"⟩
def dkwX5_keepAll_1 : List UInt8 := [8, 28, 96, 46, 79, 132, 2, 1, 167, 255, 226, 177]
abbrev dktX5_keepAll_1 : List UInt8 := dkwX5_keepAll_1 ++ []
def dkwX5_keepAll_0 : List UInt8 := [3, 61, 28, 17, 0, 165, 162, 0, 29, 42, 180, 0, 23, 17, 0, 165, 27, 104, 28, 96, 42, 180, 0, 13]
abbrev dktX5_keepAll_0 : List UInt8 := dkwX5_keepAll_0 ++ dktX5_keepAll_1
theorem dksX5_keepAll_0 : cX5_keepAll.data.toList.drop 0 = dktX5_keepAll_0 := by decide +kernel
theorem dksX5_keepAll_1 : cX5_keepAll.data.toList.drop 24 = dktX5_keepAll_1 := dk_seg dksX5_keepAll_0 24 rfl rfl
theorem dX5_keepAll_0 : decode cX5_keepAll 0 = .ok (.iconst 0, 1) := dk_3 (dk_at dksX5_keepAll_0 0 rfl rfl)
theorem dX5_keepAll_1 : decode cX5_keepAll 1 = .ok (.istore_n 2, 1) := dk_61 (dk_at dksX5_keepAll_0 1 rfl rfl)
theorem dX5_keepAll_2 : decode cX5_keepAll 2 = .ok (.iload_n 2, 1) := dk_28 (dk_at dksX5_keepAll_0 2 rfl rfl)
theorem dX5_keepAll_3 : decode cX5_keepAll 3 = .ok (.sipush 165, 3) := dk_17 0 165 (dk_at dksX5_keepAll_0 3 rfl rfl)
theorem dX5_keepAll_6 : decode cX5_keepAll 6 = .ok (.if_icmp .ge 29, 3) := dk_162 0 29 (dk_at dksX5_keepAll_0 6 rfl rfl)
theorem dX5_keepAll_9 : decode cX5_keepAll 9 = .ok (.aload_n 0, 1) := dk_42 (dk_at dksX5_keepAll_0 9 rfl rfl)
theorem dX5_keepAll_10 : decode cX5_keepAll 10 = .ok (.getfield 23, 3) := dk_180 0 23 (dk_at dksX5_keepAll_0 10 rfl rfl)
theorem dX5_keepAll_13 : decode cX5_keepAll 13 = .ok (.sipush 165, 3) := dk_17 0 165 (dk_at dksX5_keepAll_0 13 rfl rfl)
theorem dX5_keepAll_16 : decode cX5_keepAll 16 = .ok (.iload_n 1, 1) := dk_27 (dk_at dksX5_keepAll_0 16 rfl rfl)
theorem dX5_keepAll_17 : decode cX5_keepAll 17 = .ok (.imul, 1) := dk_104 (dk_at dksX5_keepAll_0 17 rfl rfl)
theorem dX5_keepAll_18 : decode cX5_keepAll 18 = .ok (.iload_n 2, 1) := dk_28 (dk_at dksX5_keepAll_0 18 rfl rfl)
theorem dX5_keepAll_19 : decode cX5_keepAll 19 = .ok (.iadd, 1) := dk_96 (dk_at dksX5_keepAll_0 19 rfl rfl)
theorem dX5_keepAll_20 : decode cX5_keepAll 20 = .ok (.aload_n 0, 1) := dk_42 (dk_at dksX5_keepAll_0 20 rfl rfl)
theorem dX5_keepAll_21 : decode cX5_keepAll 21 = .ok (.getfield 13, 3) := dk_180 0 13 (dk_at dksX5_keepAll_0 21 rfl rfl)
theorem dX5_keepAll_24 : decode cX5_keepAll 24 = .ok (.iconst 5, 1) := dk_8 (dk_at dksX5_keepAll_1 0 rfl rfl)
theorem dX5_keepAll_25 : decode cX5_keepAll 25 = .ok (.iload_n 2, 1) := dk_28 (dk_at dksX5_keepAll_1 1 rfl rfl)
theorem dX5_keepAll_26 : decode cX5_keepAll 26 = .ok (.iadd, 1) := dk_96 (dk_at dksX5_keepAll_1 2 rfl rfl)
theorem dX5_keepAll_27 : decode cX5_keepAll 27 = .ok (.iaload, 1) := dk_46 (dk_at dksX5_keepAll_1 3 rfl rfl)
theorem dX5_keepAll_28 : decode cX5_keepAll 28 = .ok (.iastore, 1) := dk_79 (dk_at dksX5_keepAll_1 4 rfl rfl)
theorem dX5_keepAll_29 : decode cX5_keepAll 29 = .ok (.iinc 2 1, 3) := dk_132 2 1 (dk_at dksX5_keepAll_1 5 rfl rfl)
theorem dX5_keepAll_32 : decode cX5_keepAll 32 = .ok (.goto (-30), 3) := dk_167 255 226 (dk_at dksX5_keepAll_1 8 rfl rfl)
theorem dX5_keepAll_35 : decode cX5_keepAll 35 = .ok (.return_, 1) := dk_177 (dk_at dksX5_keepAll_1 11 rfl rfl)
abbrev cX5_pourIt : ByteArray := prog_23_method_73_code
def yX5_pourIt : MethodName := ⟨RX5, "pourIt", "(II)I"⟩
def dkwX5_pourIt_1 : List UInt8 := [182, 0, 166, 17, 3, 232, 108, 172]
abbrev dktX5_pourIt_1 : List UInt8 := dkwX5_pourIt_1 ++ []
def dkwX5_pourIt_0 : List UInt8 := [42, 180, 0, 13, 16, 10, 16, 20, 27, 104, 96, 92, 46, 17, 3, 232, 28, 104, 96, 79, 42, 27]
abbrev dktX5_pourIt_0 : List UInt8 := dkwX5_pourIt_0 ++ dktX5_pourIt_1
theorem dksX5_pourIt_0 : cX5_pourIt.data.toList.drop 0 = dktX5_pourIt_0 := by decide +kernel
theorem dksX5_pourIt_1 : cX5_pourIt.data.toList.drop 22 = dktX5_pourIt_1 := dk_seg dksX5_pourIt_0 22 rfl rfl
theorem dX5_pourIt_0 : decode cX5_pourIt 0 = .ok (.aload_n 0, 1) := dk_42 (dk_at dksX5_pourIt_0 0 rfl rfl)
theorem dX5_pourIt_1 : decode cX5_pourIt 1 = .ok (.getfield 13, 3) := dk_180 0 13 (dk_at dksX5_pourIt_0 1 rfl rfl)
theorem dX5_pourIt_4 : decode cX5_pourIt 4 = .ok (.bipush 10, 2) := dk_16 10 (dk_at dksX5_pourIt_0 4 rfl rfl)
theorem dX5_pourIt_6 : decode cX5_pourIt 6 = .ok (.bipush 20, 2) := dk_16 20 (dk_at dksX5_pourIt_0 6 rfl rfl)
theorem dX5_pourIt_8 : decode cX5_pourIt 8 = .ok (.iload_n 1, 1) := dk_27 (dk_at dksX5_pourIt_0 8 rfl rfl)
theorem dX5_pourIt_9 : decode cX5_pourIt 9 = .ok (.imul, 1) := dk_104 (dk_at dksX5_pourIt_0 9 rfl rfl)
theorem dX5_pourIt_10 : decode cX5_pourIt 10 = .ok (.iadd, 1) := dk_96 (dk_at dksX5_pourIt_0 10 rfl rfl)
theorem dX5_pourIt_11 : decode cX5_pourIt 11 = .ok (.dup2, 1) := dk_92 (dk_at dksX5_pourIt_0 11 rfl rfl)
theorem dX5_pourIt_12 : decode cX5_pourIt 12 = .ok (.iaload, 1) := dk_46 (dk_at dksX5_pourIt_0 12 rfl rfl)
theorem dX5_pourIt_13 : decode cX5_pourIt 13 = .ok (.sipush 1000, 3) := dk_17 3 232 (dk_at dksX5_pourIt_0 13 rfl rfl)
theorem dX5_pourIt_16 : decode cX5_pourIt 16 = .ok (.iload_n 2, 1) := dk_28 (dk_at dksX5_pourIt_0 16 rfl rfl)
theorem dX5_pourIt_17 : decode cX5_pourIt 17 = .ok (.imul, 1) := dk_104 (dk_at dksX5_pourIt_0 17 rfl rfl)
theorem dX5_pourIt_18 : decode cX5_pourIt 18 = .ok (.iadd, 1) := dk_96 (dk_at dksX5_pourIt_0 18 rfl rfl)
theorem dX5_pourIt_19 : decode cX5_pourIt 19 = .ok (.iastore, 1) := dk_79 (dk_at dksX5_pourIt_0 19 rfl rfl)
theorem dX5_pourIt_20 : decode cX5_pourIt 20 = .ok (.aload_n 0, 1) := dk_42 (dk_at dksX5_pourIt_0 20 rfl rfl)
theorem dX5_pourIt_21 : decode cX5_pourIt 21 = .ok (.iload_n 1, 1) := dk_27 (dk_at dksX5_pourIt_0 21 rfl rfl)
theorem dX5_pourIt_22 : decode cX5_pourIt 22 = .ok (.invokevirtual 166, 3) := dk_182 0 166 (dk_at dksX5_pourIt_1 0 rfl rfl)
theorem dX5_pourIt_25 : decode cX5_pourIt 25 = .ok (.sipush 1000, 3) := dk_17 3 232 (dk_at dksX5_pourIt_1 3 rfl rfl)
theorem dX5_pourIt_28 : decode cX5_pourIt 28 = .ok (.idiv, 1) := dk_108 (dk_at dksX5_pourIt_1 6 rfl rfl)
theorem dX5_pourIt_29 : decode cX5_pourIt 29 = .ok (.ireturn, 1) := dk_172 (dk_at dksX5_pourIt_1 7 rfl rfl)
abbrev cX5_rack : ByteArray := prog_23_method_79_code
def yX5_rack : MethodName := ⟨RX5, "rack", "(III)I"⟩
def dkwX5_rack_0 : List UInt8 := [42, 3, 181, 0, 133, 42, 42, 27, 28, 29, 182, 1, 184, 182, 0, 142, 172]
abbrev dktX5_rack_0 : List UInt8 := dkwX5_rack_0 ++ []
theorem dksX5_rack_0 : cX5_rack.data.toList.drop 0 = dktX5_rack_0 := by decide +kernel
theorem dX5_rack_0 : decode cX5_rack 0 = .ok (.aload_n 0, 1) := dk_42 (dk_at dksX5_rack_0 0 rfl rfl)
theorem dX5_rack_1 : decode cX5_rack 1 = .ok (.iconst 0, 1) := dk_3 (dk_at dksX5_rack_0 1 rfl rfl)
theorem dX5_rack_2 : decode cX5_rack 2 = .ok (.putfield 133, 3) := dk_181 0 133 (dk_at dksX5_rack_0 2 rfl rfl)
theorem dX5_rack_5 : decode cX5_rack 5 = .ok (.aload_n 0, 1) := dk_42 (dk_at dksX5_rack_0 5 rfl rfl)
theorem dX5_rack_6 : decode cX5_rack 6 = .ok (.aload_n 0, 1) := dk_42 (dk_at dksX5_rack_0 6 rfl rfl)
theorem dX5_rack_7 : decode cX5_rack 7 = .ok (.iload_n 1, 1) := dk_27 (dk_at dksX5_rack_0 7 rfl rfl)
theorem dX5_rack_8 : decode cX5_rack 8 = .ok (.iload_n 2, 1) := dk_28 (dk_at dksX5_rack_0 8 rfl rfl)
theorem dX5_rack_9 : decode cX5_rack 9 = .ok (.iload_n 3, 1) := dk_29 (dk_at dksX5_rack_0 9 rfl rfl)
theorem dX5_rack_10 : decode cX5_rack 10 = .ok (.invokevirtual 440, 3) := dk_182 1 184 (dk_at dksX5_rack_0 10 rfl rfl)
theorem dX5_rack_13 : decode cX5_rack 13 = .ok (.invokevirtual 142, 3) := dk_182 0 142 (dk_at dksX5_rack_0 13 rfl rfl)
theorem dX5_rack_16 : decode cX5_rack 16 = .ok (.ireturn, 1) := dk_172 (dk_at dksX5_rack_0 16 rfl rfl)
abbrev cX5_rackNow : ByteArray := prog_23_method_78_code
def yX5_rackNow : MethodName := ⟨RX5, "rackNow", "(III)I"⟩
def dkwX5_rackNow_1 : List UInt8 := [28, 29, 182, 1, 181, 172]
abbrev dktX5_rackNow_1 : List UInt8 := dkwX5_rackNow_1 ++ []
def dkwX5_rackNow_0 : List UInt8 := [42, 27, 28, 29, 182, 1, 177, 54, 4, 21, 4, 156, 0, 6, 21, 4, 172, 42, 4, 182, 1, 165, 42, 27]
abbrev dktX5_rackNow_0 : List UInt8 := dkwX5_rackNow_0 ++ dktX5_rackNow_1
theorem dksX5_rackNow_0 : cX5_rackNow.data.toList.drop 0 = dktX5_rackNow_0 := by decide +kernel
theorem dksX5_rackNow_1 : cX5_rackNow.data.toList.drop 24 = dktX5_rackNow_1 := dk_seg dksX5_rackNow_0 24 rfl rfl
theorem dX5_rackNow_0 : decode cX5_rackNow 0 = .ok (.aload_n 0, 1) := dk_42 (dk_at dksX5_rackNow_0 0 rfl rfl)
theorem dX5_rackNow_1 : decode cX5_rackNow 1 = .ok (.iload_n 1, 1) := dk_27 (dk_at dksX5_rackNow_0 1 rfl rfl)
theorem dX5_rackNow_2 : decode cX5_rackNow 2 = .ok (.iload_n 2, 1) := dk_28 (dk_at dksX5_rackNow_0 2 rfl rfl)
theorem dX5_rackNow_3 : decode cX5_rackNow 3 = .ok (.iload_n 3, 1) := dk_29 (dk_at dksX5_rackNow_0 3 rfl rfl)
theorem dX5_rackNow_4 : decode cX5_rackNow 4 = .ok (.invokevirtual 433, 3) := dk_182 1 177 (dk_at dksX5_rackNow_0 4 rfl rfl)
theorem dX5_rackNow_7 : decode cX5_rackNow 7 = .ok (.istore 4, 2) := dk_54 4 (dk_at dksX5_rackNow_0 7 rfl rfl)
theorem dX5_rackNow_9 : decode cX5_rackNow 9 = .ok (.iload 4, 2) := dk_21 4 (dk_at dksX5_rackNow_0 9 rfl rfl)
theorem dX5_rackNow_11 : decode cX5_rackNow 11 = .ok (.ifCond .ge 6, 3) := dk_156 0 6 (dk_at dksX5_rackNow_0 11 rfl rfl)
theorem dX5_rackNow_14 : decode cX5_rackNow 14 = .ok (.iload 4, 2) := dk_21 4 (dk_at dksX5_rackNow_0 14 rfl rfl)
theorem dX5_rackNow_16 : decode cX5_rackNow 16 = .ok (.ireturn, 1) := dk_172 (dk_at dksX5_rackNow_0 16 rfl rfl)
theorem dX5_rackNow_17 : decode cX5_rackNow 17 = .ok (.aload_n 0, 1) := dk_42 (dk_at dksX5_rackNow_0 17 rfl rfl)
theorem dX5_rackNow_18 : decode cX5_rackNow 18 = .ok (.iconst 1, 1) := dk_4 (dk_at dksX5_rackNow_0 18 rfl rfl)
theorem dX5_rackNow_19 : decode cX5_rackNow 19 = .ok (.invokevirtual 421, 3) := dk_182 1 165 (dk_at dksX5_rackNow_0 19 rfl rfl)
theorem dX5_rackNow_22 : decode cX5_rackNow 22 = .ok (.aload_n 0, 1) := dk_42 (dk_at dksX5_rackNow_0 22 rfl rfl)
theorem dX5_rackNow_23 : decode cX5_rackNow 23 = .ok (.iload_n 1, 1) := dk_27 (dk_at dksX5_rackNow_0 23 rfl rfl)
theorem dX5_rackNow_24 : decode cX5_rackNow 24 = .ok (.iload_n 2, 1) := dk_28 (dk_at dksX5_rackNow_1 0 rfl rfl)
theorem dX5_rackNow_25 : decode cX5_rackNow 25 = .ok (.iload_n 3, 1) := dk_29 (dk_at dksX5_rackNow_1 1 rfl rfl)
theorem dX5_rackNow_26 : decode cX5_rackNow 26 = .ok (.invokevirtual 437, 3) := dk_182 1 181 (dk_at dksX5_rackNow_1 2 rfl rfl)
theorem dX5_rackNow_29 : decode cX5_rackNow 29 = .ok (.ireturn, 1) := dk_172 (dk_at dksX5_rackNow_1 5 rfl rfl)
abbrev cX5_whyNotRack : ByteArray := prog_23_method_76_code
def yX5_whyNotRack : MethodName := ⟨RX5, "whyNotRack", "(III)I"⟩
def dkwX5_whyNotRack_5 : List UInt8 := [161, 0, 7, 3, 167, 0, 5, 16, 253, 172]
abbrev dktX5_whyNotRack_5 : List UInt8 := dkwX5_whyNotRack_5 ++ []
def dkwX5_whyNotRack_4 : List UInt8 := [42, 27, 182, 0, 166, 17, 3, 232, 29, 104, 161, 0, 20, 42, 28, 182, 1, 118, 17, 3, 232, 29, 104]
abbrev dktX5_whyNotRack_4 : List UInt8 := dkwX5_whyNotRack_4 ++ dktX5_whyNotRack_5
def dkwX5_whyNotRack_3 : List UInt8 := [154, 0, 7, 4, 167, 0, 4, 3, 54, 4, 21, 4, 153, 0, 42, 42, 27, 182, 0, 194, 29, 161, 0, 33]
abbrev dktX5_whyNotRack_3 : List UInt8 := dkwX5_whyNotRack_3 ++ dktX5_whyNotRack_4
def dkwX5_whyNotRack_2 : List UInt8 := [17, 0, 170, 27, 96, 46, 4, 100, 160, 0, 23, 42, 27, 182, 0, 197, 154, 0, 15, 42, 28, 182, 0, 197]
abbrev dktX5_whyNotRack_2 : List UInt8 := dkwX5_whyNotRack_2 ++ dktX5_whyNotRack_3
def dkwX5_whyNotRack_1 : List UInt8 := [182, 0, 184, 154, 0, 6, 16, 254, 172, 42, 180, 0, 13, 17, 0, 170, 28, 96, 46, 42, 180, 0, 13]
abbrev dktX5_whyNotRack_1 : List UInt8 := dkwX5_whyNotRack_1 ++ dktX5_whyNotRack_2
def dkwX5_whyNotRack_0 : List UInt8 := [29, 133, 10, 20, 0, 179, 184, 0, 153, 154, 0, 5, 2, 172, 42, 27, 182, 0, 184, 153, 0, 11, 42, 28]
abbrev dktX5_whyNotRack_0 : List UInt8 := dkwX5_whyNotRack_0 ++ dktX5_whyNotRack_1
theorem dksX5_whyNotRack_0 : cX5_whyNotRack.data.toList.drop 0 = dktX5_whyNotRack_0 := by decide +kernel
theorem dksX5_whyNotRack_1 : cX5_whyNotRack.data.toList.drop 24 = dktX5_whyNotRack_1 := dk_seg dksX5_whyNotRack_0 24 rfl rfl
theorem dksX5_whyNotRack_2 : cX5_whyNotRack.data.toList.drop 47 = dktX5_whyNotRack_2 := dk_seg dksX5_whyNotRack_1 23 rfl rfl
theorem dksX5_whyNotRack_3 : cX5_whyNotRack.data.toList.drop 71 = dktX5_whyNotRack_3 := dk_seg dksX5_whyNotRack_2 24 rfl rfl
theorem dksX5_whyNotRack_4 : cX5_whyNotRack.data.toList.drop 95 = dktX5_whyNotRack_4 := dk_seg dksX5_whyNotRack_3 24 rfl rfl
theorem dksX5_whyNotRack_5 : cX5_whyNotRack.data.toList.drop 118 = dktX5_whyNotRack_5 := dk_seg dksX5_whyNotRack_4 23 rfl rfl
theorem dX5_whyNotRack_0 : decode cX5_whyNotRack 0 = .ok (.iload_n 3, 1) := dk_29 (dk_at dksX5_whyNotRack_0 0 rfl rfl)
theorem dX5_whyNotRack_1 : decode cX5_whyNotRack 1 = .ok (.i2l, 1) := dk_133 (dk_at dksX5_whyNotRack_0 1 rfl rfl)
theorem dX5_whyNotRack_2 : decode cX5_whyNotRack 2 = .ok (.lconst 1, 1) := dk_10 (dk_at dksX5_whyNotRack_0 2 rfl rfl)
theorem dX5_whyNotRack_3 : decode cX5_whyNotRack 3 = .ok (.ldc2_w 179, 3) := dk_20 0 179 (dk_at dksX5_whyNotRack_0 3 rfl rfl)
theorem dX5_whyNotRack_6 : decode cX5_whyNotRack 6 = .ok (.invokestatic 153, 3) := dk_184 0 153 (dk_at dksX5_whyNotRack_0 6 rfl rfl)
theorem dX5_whyNotRack_9 : decode cX5_whyNotRack 9 = .ok (.ifCond .ne 5, 3) := dk_154 0 5 (dk_at dksX5_whyNotRack_0 9 rfl rfl)
theorem dX5_whyNotRack_12 : decode cX5_whyNotRack 12 = .ok (.iconst (-1), 1) := dk_2 (dk_at dksX5_whyNotRack_0 12 rfl rfl)
theorem dX5_whyNotRack_13 : decode cX5_whyNotRack 13 = .ok (.ireturn, 1) := dk_172 (dk_at dksX5_whyNotRack_0 13 rfl rfl)
theorem dX5_whyNotRack_14 : decode cX5_whyNotRack 14 = .ok (.aload_n 0, 1) := dk_42 (dk_at dksX5_whyNotRack_0 14 rfl rfl)
theorem dX5_whyNotRack_15 : decode cX5_whyNotRack 15 = .ok (.iload_n 1, 1) := dk_27 (dk_at dksX5_whyNotRack_0 15 rfl rfl)
theorem dX5_whyNotRack_16 : decode cX5_whyNotRack 16 = .ok (.invokevirtual 184, 3) := dk_182 0 184 (dk_at dksX5_whyNotRack_0 16 rfl rfl)
theorem dX5_whyNotRack_19 : decode cX5_whyNotRack 19 = .ok (.ifCond .eq 11, 3) := dk_153 0 11 (dk_at dksX5_whyNotRack_0 19 rfl rfl)
theorem dX5_whyNotRack_22 : decode cX5_whyNotRack 22 = .ok (.aload_n 0, 1) := dk_42 (dk_at dksX5_whyNotRack_0 22 rfl rfl)
theorem dX5_whyNotRack_23 : decode cX5_whyNotRack 23 = .ok (.iload_n 2, 1) := dk_28 (dk_at dksX5_whyNotRack_0 23 rfl rfl)
theorem dX5_whyNotRack_24 : decode cX5_whyNotRack 24 = .ok (.invokevirtual 184, 3) := dk_182 0 184 (dk_at dksX5_whyNotRack_1 0 rfl rfl)
theorem dX5_whyNotRack_27 : decode cX5_whyNotRack 27 = .ok (.ifCond .ne 6, 3) := dk_154 0 6 (dk_at dksX5_whyNotRack_1 3 rfl rfl)
theorem dX5_whyNotRack_30 : decode cX5_whyNotRack 30 = .ok (.bipush (-2), 2) := dk_16 254 (dk_at dksX5_whyNotRack_1 6 rfl rfl)
theorem dX5_whyNotRack_32 : decode cX5_whyNotRack 32 = .ok (.ireturn, 1) := dk_172 (dk_at dksX5_whyNotRack_1 8 rfl rfl)
theorem dX5_whyNotRack_33 : decode cX5_whyNotRack 33 = .ok (.aload_n 0, 1) := dk_42 (dk_at dksX5_whyNotRack_1 9 rfl rfl)
theorem dX5_whyNotRack_34 : decode cX5_whyNotRack 34 = .ok (.getfield 13, 3) := dk_180 0 13 (dk_at dksX5_whyNotRack_1 10 rfl rfl)
theorem dX5_whyNotRack_37 : decode cX5_whyNotRack 37 = .ok (.sipush 170, 3) := dk_17 0 170 (dk_at dksX5_whyNotRack_1 13 rfl rfl)
theorem dX5_whyNotRack_40 : decode cX5_whyNotRack 40 = .ok (.iload_n 2, 1) := dk_28 (dk_at dksX5_whyNotRack_1 16 rfl rfl)
theorem dX5_whyNotRack_41 : decode cX5_whyNotRack 41 = .ok (.iadd, 1) := dk_96 (dk_at dksX5_whyNotRack_1 17 rfl rfl)
theorem dX5_whyNotRack_42 : decode cX5_whyNotRack 42 = .ok (.iaload, 1) := dk_46 (dk_at dksX5_whyNotRack_1 18 rfl rfl)
theorem dX5_whyNotRack_43 : decode cX5_whyNotRack 43 = .ok (.aload_n 0, 1) := dk_42 (dk_at dksX5_whyNotRack_1 19 rfl rfl)
theorem dX5_whyNotRack_44 : decode cX5_whyNotRack 44 = .ok (.getfield 13, 3) := dk_180 0 13 (dk_at dksX5_whyNotRack_1 20 rfl rfl)
theorem dX5_whyNotRack_47 : decode cX5_whyNotRack 47 = .ok (.sipush 170, 3) := dk_17 0 170 (dk_at dksX5_whyNotRack_2 0 rfl rfl)
theorem dX5_whyNotRack_50 : decode cX5_whyNotRack 50 = .ok (.iload_n 1, 1) := dk_27 (dk_at dksX5_whyNotRack_2 3 rfl rfl)
theorem dX5_whyNotRack_51 : decode cX5_whyNotRack 51 = .ok (.iadd, 1) := dk_96 (dk_at dksX5_whyNotRack_2 4 rfl rfl)
theorem dX5_whyNotRack_52 : decode cX5_whyNotRack 52 = .ok (.iaload, 1) := dk_46 (dk_at dksX5_whyNotRack_2 5 rfl rfl)
theorem dX5_whyNotRack_53 : decode cX5_whyNotRack 53 = .ok (.iconst 1, 1) := dk_4 (dk_at dksX5_whyNotRack_2 6 rfl rfl)
theorem dX5_whyNotRack_54 : decode cX5_whyNotRack 54 = .ok (.isub, 1) := dk_100 (dk_at dksX5_whyNotRack_2 7 rfl rfl)
theorem dX5_whyNotRack_55 : decode cX5_whyNotRack 55 = .ok (.if_icmp .ne 23, 3) := dk_160 0 23 (dk_at dksX5_whyNotRack_2 8 rfl rfl)
theorem dX5_whyNotRack_58 : decode cX5_whyNotRack 58 = .ok (.aload_n 0, 1) := dk_42 (dk_at dksX5_whyNotRack_2 11 rfl rfl)
theorem dX5_whyNotRack_59 : decode cX5_whyNotRack 59 = .ok (.iload_n 1, 1) := dk_27 (dk_at dksX5_whyNotRack_2 12 rfl rfl)
theorem dX5_whyNotRack_60 : decode cX5_whyNotRack 60 = .ok (.invokevirtual 197, 3) := dk_182 0 197 (dk_at dksX5_whyNotRack_2 13 rfl rfl)
theorem dX5_whyNotRack_63 : decode cX5_whyNotRack 63 = .ok (.ifCond .ne 15, 3) := dk_154 0 15 (dk_at dksX5_whyNotRack_2 16 rfl rfl)
theorem dX5_whyNotRack_66 : decode cX5_whyNotRack 66 = .ok (.aload_n 0, 1) := dk_42 (dk_at dksX5_whyNotRack_2 19 rfl rfl)
theorem dX5_whyNotRack_67 : decode cX5_whyNotRack 67 = .ok (.iload_n 2, 1) := dk_28 (dk_at dksX5_whyNotRack_2 20 rfl rfl)
theorem dX5_whyNotRack_68 : decode cX5_whyNotRack 68 = .ok (.invokevirtual 197, 3) := dk_182 0 197 (dk_at dksX5_whyNotRack_2 21 rfl rfl)
theorem dX5_whyNotRack_71 : decode cX5_whyNotRack 71 = .ok (.ifCond .ne 7, 3) := dk_154 0 7 (dk_at dksX5_whyNotRack_3 0 rfl rfl)
theorem dX5_whyNotRack_74 : decode cX5_whyNotRack 74 = .ok (.iconst 1, 1) := dk_4 (dk_at dksX5_whyNotRack_3 3 rfl rfl)
theorem dX5_whyNotRack_75 : decode cX5_whyNotRack 75 = .ok (.goto 4, 3) := dk_167 0 4 (dk_at dksX5_whyNotRack_3 4 rfl rfl)
theorem dX5_whyNotRack_78 : decode cX5_whyNotRack 78 = .ok (.iconst 0, 1) := dk_3 (dk_at dksX5_whyNotRack_3 7 rfl rfl)
theorem dX5_whyNotRack_79 : decode cX5_whyNotRack 79 = .ok (.istore 4, 2) := dk_54 4 (dk_at dksX5_whyNotRack_3 8 rfl rfl)
theorem dX5_whyNotRack_81 : decode cX5_whyNotRack 81 = .ok (.iload 4, 2) := dk_21 4 (dk_at dksX5_whyNotRack_3 10 rfl rfl)
theorem dX5_whyNotRack_83 : decode cX5_whyNotRack 83 = .ok (.ifCond .eq 42, 3) := dk_153 0 42 (dk_at dksX5_whyNotRack_3 12 rfl rfl)
theorem dX5_whyNotRack_86 : decode cX5_whyNotRack 86 = .ok (.aload_n 0, 1) := dk_42 (dk_at dksX5_whyNotRack_3 15 rfl rfl)
theorem dX5_whyNotRack_87 : decode cX5_whyNotRack 87 = .ok (.iload_n 1, 1) := dk_27 (dk_at dksX5_whyNotRack_3 16 rfl rfl)
theorem dX5_whyNotRack_88 : decode cX5_whyNotRack 88 = .ok (.invokevirtual 194, 3) := dk_182 0 194 (dk_at dksX5_whyNotRack_3 17 rfl rfl)
theorem dX5_whyNotRack_91 : decode cX5_whyNotRack 91 = .ok (.iload_n 3, 1) := dk_29 (dk_at dksX5_whyNotRack_3 20 rfl rfl)
theorem dX5_whyNotRack_92 : decode cX5_whyNotRack 92 = .ok (.if_icmp .lt 33, 3) := dk_161 0 33 (dk_at dksX5_whyNotRack_3 21 rfl rfl)
theorem dX5_whyNotRack_95 : decode cX5_whyNotRack 95 = .ok (.aload_n 0, 1) := dk_42 (dk_at dksX5_whyNotRack_4 0 rfl rfl)
theorem dX5_whyNotRack_96 : decode cX5_whyNotRack 96 = .ok (.iload_n 1, 1) := dk_27 (dk_at dksX5_whyNotRack_4 1 rfl rfl)
theorem dX5_whyNotRack_97 : decode cX5_whyNotRack 97 = .ok (.invokevirtual 166, 3) := dk_182 0 166 (dk_at dksX5_whyNotRack_4 2 rfl rfl)
theorem dX5_whyNotRack_100 : decode cX5_whyNotRack 100 = .ok (.sipush 1000, 3) := dk_17 3 232 (dk_at dksX5_whyNotRack_4 5 rfl rfl)
theorem dX5_whyNotRack_103 : decode cX5_whyNotRack 103 = .ok (.iload_n 3, 1) := dk_29 (dk_at dksX5_whyNotRack_4 8 rfl rfl)
theorem dX5_whyNotRack_104 : decode cX5_whyNotRack 104 = .ok (.imul, 1) := dk_104 (dk_at dksX5_whyNotRack_4 9 rfl rfl)
theorem dX5_whyNotRack_105 : decode cX5_whyNotRack 105 = .ok (.if_icmp .lt 20, 3) := dk_161 0 20 (dk_at dksX5_whyNotRack_4 10 rfl rfl)
theorem dX5_whyNotRack_108 : decode cX5_whyNotRack 108 = .ok (.aload_n 0, 1) := dk_42 (dk_at dksX5_whyNotRack_4 13 rfl rfl)
theorem dX5_whyNotRack_109 : decode cX5_whyNotRack 109 = .ok (.iload_n 2, 1) := dk_28 (dk_at dksX5_whyNotRack_4 14 rfl rfl)
theorem dX5_whyNotRack_110 : decode cX5_whyNotRack 110 = .ok (.invokevirtual 374, 3) := dk_182 1 118 (dk_at dksX5_whyNotRack_4 15 rfl rfl)
theorem dX5_whyNotRack_113 : decode cX5_whyNotRack 113 = .ok (.sipush 1000, 3) := dk_17 3 232 (dk_at dksX5_whyNotRack_4 18 rfl rfl)
theorem dX5_whyNotRack_116 : decode cX5_whyNotRack 116 = .ok (.iload_n 3, 1) := dk_29 (dk_at dksX5_whyNotRack_4 21 rfl rfl)
theorem dX5_whyNotRack_117 : decode cX5_whyNotRack 117 = .ok (.imul, 1) := dk_104 (dk_at dksX5_whyNotRack_4 22 rfl rfl)
theorem dX5_whyNotRack_118 : decode cX5_whyNotRack 118 = .ok (.if_icmp .lt 7, 3) := dk_161 0 7 (dk_at dksX5_whyNotRack_5 0 rfl rfl)
theorem dX5_whyNotRack_121 : decode cX5_whyNotRack 121 = .ok (.iconst 0, 1) := dk_3 (dk_at dksX5_whyNotRack_5 3 rfl rfl)
theorem dX5_whyNotRack_122 : decode cX5_whyNotRack 122 = .ok (.goto 5, 3) := dk_167 0 5 (dk_at dksX5_whyNotRack_5 4 rfl rfl)
theorem dX5_whyNotRack_125 : decode cX5_whyNotRack 125 = .ok (.bipush (-3), 2) := dk_16 253 (dk_at dksX5_whyNotRack_5 7 rfl rfl)
theorem dX5_whyNotRack_127 : decode cX5_whyNotRack 127 = .ok (.ireturn, 1) := dk_172 (dk_at dksX5_whyNotRack_5 9 rfl rfl)
abbrev cX5_rackIt : ByteArray := prog_23_method_77_code
def yX5_rackIt : MethodName := ⟨RX5, "rackIt", "(III)I"⟩
def dkwX5_rackIt_2 : List UInt8 := [167, 255, 221, 42, 28, 182, 0, 169, 172]
abbrev dktX5_rackIt_2 : List UInt8 := dkwX5_rackIt_2 ++ []
def dkwX5_rackIt_1 : List UInt8 := [16, 20, 28, 104, 96, 21, 4, 96, 92, 46, 42, 180, 0, 104, 21, 4, 46, 96, 79, 132, 4, 1]
abbrev dktX5_rackIt_1 : List UInt8 := dkwX5_rackIt_1 ++ dktX5_rackIt_2
def dkwX5_rackIt_0 : List UInt8 := [42, 27, 29, 182, 1, 174, 87, 3, 54, 4, 21, 4, 16, 20, 162, 0, 34, 42, 180, 0, 13, 16, 10]
abbrev dktX5_rackIt_0 : List UInt8 := dkwX5_rackIt_0 ++ dktX5_rackIt_1
theorem dksX5_rackIt_0 : cX5_rackIt.data.toList.drop 0 = dktX5_rackIt_0 := by decide +kernel
theorem dksX5_rackIt_1 : cX5_rackIt.data.toList.drop 23 = dktX5_rackIt_1 := dk_seg dksX5_rackIt_0 23 rfl rfl
theorem dksX5_rackIt_2 : cX5_rackIt.data.toList.drop 45 = dktX5_rackIt_2 := dk_seg dksX5_rackIt_1 22 rfl rfl
theorem dX5_rackIt_0 : decode cX5_rackIt 0 = .ok (.aload_n 0, 1) := dk_42 (dk_at dksX5_rackIt_0 0 rfl rfl)
theorem dX5_rackIt_1 : decode cX5_rackIt 1 = .ok (.iload_n 1, 1) := dk_27 (dk_at dksX5_rackIt_0 1 rfl rfl)
theorem dX5_rackIt_2 : decode cX5_rackIt 2 = .ok (.iload_n 3, 1) := dk_29 (dk_at dksX5_rackIt_0 2 rfl rfl)
theorem dX5_rackIt_3 : decode cX5_rackIt 3 = .ok (.invokevirtual 430, 3) := dk_182 1 174 (dk_at dksX5_rackIt_0 3 rfl rfl)
theorem dX5_rackIt_6 : decode cX5_rackIt 6 = .ok (.pop, 1) := dk_87 (dk_at dksX5_rackIt_0 6 rfl rfl)
theorem dX5_rackIt_7 : decode cX5_rackIt 7 = .ok (.iconst 0, 1) := dk_3 (dk_at dksX5_rackIt_0 7 rfl rfl)
theorem dX5_rackIt_8 : decode cX5_rackIt 8 = .ok (.istore 4, 2) := dk_54 4 (dk_at dksX5_rackIt_0 8 rfl rfl)
theorem dX5_rackIt_10 : decode cX5_rackIt 10 = .ok (.iload 4, 2) := dk_21 4 (dk_at dksX5_rackIt_0 10 rfl rfl)
theorem dX5_rackIt_12 : decode cX5_rackIt 12 = .ok (.bipush 20, 2) := dk_16 20 (dk_at dksX5_rackIt_0 12 rfl rfl)
theorem dX5_rackIt_14 : decode cX5_rackIt 14 = .ok (.if_icmp .ge 34, 3) := dk_162 0 34 (dk_at dksX5_rackIt_0 14 rfl rfl)
theorem dX5_rackIt_17 : decode cX5_rackIt 17 = .ok (.aload_n 0, 1) := dk_42 (dk_at dksX5_rackIt_0 17 rfl rfl)
theorem dX5_rackIt_18 : decode cX5_rackIt 18 = .ok (.getfield 13, 3) := dk_180 0 13 (dk_at dksX5_rackIt_0 18 rfl rfl)
theorem dX5_rackIt_21 : decode cX5_rackIt 21 = .ok (.bipush 10, 2) := dk_16 10 (dk_at dksX5_rackIt_0 21 rfl rfl)
theorem dX5_rackIt_23 : decode cX5_rackIt 23 = .ok (.bipush 20, 2) := dk_16 20 (dk_at dksX5_rackIt_1 0 rfl rfl)
theorem dX5_rackIt_25 : decode cX5_rackIt 25 = .ok (.iload_n 2, 1) := dk_28 (dk_at dksX5_rackIt_1 2 rfl rfl)
theorem dX5_rackIt_26 : decode cX5_rackIt 26 = .ok (.imul, 1) := dk_104 (dk_at dksX5_rackIt_1 3 rfl rfl)
theorem dX5_rackIt_27 : decode cX5_rackIt 27 = .ok (.iadd, 1) := dk_96 (dk_at dksX5_rackIt_1 4 rfl rfl)
theorem dX5_rackIt_28 : decode cX5_rackIt 28 = .ok (.iload 4, 2) := dk_21 4 (dk_at dksX5_rackIt_1 5 rfl rfl)
theorem dX5_rackIt_30 : decode cX5_rackIt 30 = .ok (.iadd, 1) := dk_96 (dk_at dksX5_rackIt_1 7 rfl rfl)
theorem dX5_rackIt_31 : decode cX5_rackIt 31 = .ok (.dup2, 1) := dk_92 (dk_at dksX5_rackIt_1 8 rfl rfl)
theorem dX5_rackIt_32 : decode cX5_rackIt 32 = .ok (.iaload, 1) := dk_46 (dk_at dksX5_rackIt_1 9 rfl rfl)
theorem dX5_rackIt_33 : decode cX5_rackIt 33 = .ok (.aload_n 0, 1) := dk_42 (dk_at dksX5_rackIt_1 10 rfl rfl)
theorem dX5_rackIt_34 : decode cX5_rackIt 34 = .ok (.getfield 104, 3) := dk_180 0 104 (dk_at dksX5_rackIt_1 11 rfl rfl)
theorem dX5_rackIt_37 : decode cX5_rackIt 37 = .ok (.iload 4, 2) := dk_21 4 (dk_at dksX5_rackIt_1 14 rfl rfl)
theorem dX5_rackIt_39 : decode cX5_rackIt 39 = .ok (.iaload, 1) := dk_46 (dk_at dksX5_rackIt_1 16 rfl rfl)
theorem dX5_rackIt_40 : decode cX5_rackIt 40 = .ok (.iadd, 1) := dk_96 (dk_at dksX5_rackIt_1 17 rfl rfl)
theorem dX5_rackIt_41 : decode cX5_rackIt 41 = .ok (.iastore, 1) := dk_79 (dk_at dksX5_rackIt_1 18 rfl rfl)
theorem dX5_rackIt_42 : decode cX5_rackIt 42 = .ok (.iinc 4 1, 3) := dk_132 4 1 (dk_at dksX5_rackIt_1 19 rfl rfl)
theorem dX5_rackIt_45 : decode cX5_rackIt 45 = .ok (.goto (-35), 3) := dk_167 255 221 (dk_at dksX5_rackIt_2 0 rfl rfl)
theorem dX5_rackIt_48 : decode cX5_rackIt 48 = .ok (.aload_n 0, 1) := dk_42 (dk_at dksX5_rackIt_2 3 rfl rfl)
theorem dX5_rackIt_49 : decode cX5_rackIt 49 = .ok (.iload_n 2, 1) := dk_28 (dk_at dksX5_rackIt_2 4 rfl rfl)
theorem dX5_rackIt_50 : decode cX5_rackIt 50 = .ok (.invokevirtual 169, 3) := dk_182 0 169 (dk_at dksX5_rackIt_2 5 rfl rfl)
theorem dX5_rackIt_53 : decode cX5_rackIt 53 = .ok (.ireturn, 1) := dk_172 (dk_at dksX5_rackIt_2 8 rfl rfl)
abbrev cX5_takeOut : ByteArray := prog_23_method_71_code
def yX5_takeOut : MethodName := ⟨RX5, "takeOut", "(II)I"⟩
def dkwX5_takeOut_7 : List UInt8 := [109, 136, 172]
abbrev dktX5_takeOut_7 : List UInt8 := dkwX5_takeOut_7 ++ []
def dkwX5_takeOut_6 : List UInt8 := [21, 8, 96, 92, 46, 42, 180, 0, 104, 21, 8, 46, 100, 79, 132, 8, 255, 167, 255, 170, 22, 6, 28, 133]
abbrev dktX5_takeOut_6 : List UInt8 := dkwX5_takeOut_6 ++ dktX5_takeOut_7
def dkwX5_takeOut_5 : List UInt8 := [133, 42, 180, 0, 104, 21, 8, 46, 133, 105, 97, 55, 6, 42, 180, 0, 13, 16, 10, 16, 20, 27, 104, 96]
abbrev dktX5_takeOut_5 : List UInt8 := dkwX5_takeOut_5 ++ dktX5_takeOut_6
def dkwX5_takeOut_4 : List UInt8 := [182, 0, 160, 162, 0, 17, 42, 180, 0, 104, 21, 8, 92, 46, 4, 96, 79, 132, 5, 255, 22, 6, 21, 8]
abbrev dktX5_takeOut_4 : List UInt8 := dkwX5_takeOut_4 ++ dktX5_takeOut_5
def dkwX5_takeOut_3 : List UInt8 := [54, 8, 21, 8, 155, 0, 87, 21, 5, 158, 0, 34, 42, 180, 0, 104, 21, 8, 46, 42, 27, 21, 8]
abbrev dktX5_takeOut_3 : List UInt8 := dkwX5_takeOut_3 ++ dktX5_takeOut_4
def dkwX5_takeOut_2 : List UInt8 := [79, 21, 5, 42, 180, 0, 104, 21, 6, 46, 100, 54, 5, 132, 6, 1, 167, 255, 209, 9, 55, 6, 16, 19]
abbrev dktX5_takeOut_2 : List UInt8 := dkwX5_takeOut_2 ++ dktX5_takeOut_3
def dkwX5_takeOut_1 : List UInt8 := [42, 180, 0, 104, 21, 6, 42, 27, 21, 6, 182, 0, 160, 133, 28, 133, 105, 20, 0, 164, 105, 33, 109, 136]
abbrev dktX5_takeOut_1 : List UInt8 := dkwX5_takeOut_1 ++ dktX5_takeOut_2
def dkwX5_takeOut_0 : List UInt8 := [42, 27, 182, 0, 166, 133, 66, 17, 3, 232, 28, 104, 54, 5, 3, 54, 6, 21, 6, 16, 20, 162, 0, 46]
abbrev dktX5_takeOut_0 : List UInt8 := dkwX5_takeOut_0 ++ dktX5_takeOut_1
theorem dksX5_takeOut_0 : cX5_takeOut.data.toList.drop 0 = dktX5_takeOut_0 := by decide +kernel
theorem dksX5_takeOut_1 : cX5_takeOut.data.toList.drop 24 = dktX5_takeOut_1 := dk_seg dksX5_takeOut_0 24 rfl rfl
theorem dksX5_takeOut_2 : cX5_takeOut.data.toList.drop 48 = dktX5_takeOut_2 := dk_seg dksX5_takeOut_1 24 rfl rfl
theorem dksX5_takeOut_3 : cX5_takeOut.data.toList.drop 72 = dktX5_takeOut_3 := dk_seg dksX5_takeOut_2 24 rfl rfl
theorem dksX5_takeOut_4 : cX5_takeOut.data.toList.drop 95 = dktX5_takeOut_4 := dk_seg dksX5_takeOut_3 23 rfl rfl
theorem dksX5_takeOut_5 : cX5_takeOut.data.toList.drop 119 = dktX5_takeOut_5 := dk_seg dksX5_takeOut_4 24 rfl rfl
theorem dksX5_takeOut_6 : cX5_takeOut.data.toList.drop 143 = dktX5_takeOut_6 := dk_seg dksX5_takeOut_5 24 rfl rfl
theorem dksX5_takeOut_7 : cX5_takeOut.data.toList.drop 167 = dktX5_takeOut_7 := dk_seg dksX5_takeOut_6 24 rfl rfl
theorem dX5_takeOut_0 : decode cX5_takeOut 0 = .ok (.aload_n 0, 1) := dk_42 (dk_at dksX5_takeOut_0 0 rfl rfl)
theorem dX5_takeOut_1 : decode cX5_takeOut 1 = .ok (.iload_n 1, 1) := dk_27 (dk_at dksX5_takeOut_0 1 rfl rfl)
theorem dX5_takeOut_2 : decode cX5_takeOut 2 = .ok (.invokevirtual 166, 3) := dk_182 0 166 (dk_at dksX5_takeOut_0 2 rfl rfl)
theorem dX5_takeOut_5 : decode cX5_takeOut 5 = .ok (.i2l, 1) := dk_133 (dk_at dksX5_takeOut_0 5 rfl rfl)
theorem dX5_takeOut_6 : decode cX5_takeOut 6 = .ok (.lstore_n 3, 1) := dk_66 (dk_at dksX5_takeOut_0 6 rfl rfl)
theorem dX5_takeOut_7 : decode cX5_takeOut 7 = .ok (.sipush 1000, 3) := dk_17 3 232 (dk_at dksX5_takeOut_0 7 rfl rfl)
theorem dX5_takeOut_10 : decode cX5_takeOut 10 = .ok (.iload_n 2, 1) := dk_28 (dk_at dksX5_takeOut_0 10 rfl rfl)
theorem dX5_takeOut_11 : decode cX5_takeOut 11 = .ok (.imul, 1) := dk_104 (dk_at dksX5_takeOut_0 11 rfl rfl)
theorem dX5_takeOut_12 : decode cX5_takeOut 12 = .ok (.istore 5, 2) := dk_54 5 (dk_at dksX5_takeOut_0 12 rfl rfl)
theorem dX5_takeOut_14 : decode cX5_takeOut 14 = .ok (.iconst 0, 1) := dk_3 (dk_at dksX5_takeOut_0 14 rfl rfl)
theorem dX5_takeOut_15 : decode cX5_takeOut 15 = .ok (.istore 6, 2) := dk_54 6 (dk_at dksX5_takeOut_0 15 rfl rfl)
theorem dX5_takeOut_17 : decode cX5_takeOut 17 = .ok (.iload 6, 2) := dk_21 6 (dk_at dksX5_takeOut_0 17 rfl rfl)
theorem dX5_takeOut_19 : decode cX5_takeOut 19 = .ok (.bipush 20, 2) := dk_16 20 (dk_at dksX5_takeOut_0 19 rfl rfl)
theorem dX5_takeOut_21 : decode cX5_takeOut 21 = .ok (.if_icmp .ge 46, 3) := dk_162 0 46 (dk_at dksX5_takeOut_0 21 rfl rfl)
theorem dX5_takeOut_24 : decode cX5_takeOut 24 = .ok (.aload_n 0, 1) := dk_42 (dk_at dksX5_takeOut_1 0 rfl rfl)
theorem dX5_takeOut_25 : decode cX5_takeOut 25 = .ok (.getfield 104, 3) := dk_180 0 104 (dk_at dksX5_takeOut_1 1 rfl rfl)
theorem dX5_takeOut_28 : decode cX5_takeOut 28 = .ok (.iload 6, 2) := dk_21 6 (dk_at dksX5_takeOut_1 4 rfl rfl)
theorem dX5_takeOut_30 : decode cX5_takeOut 30 = .ok (.aload_n 0, 1) := dk_42 (dk_at dksX5_takeOut_1 6 rfl rfl)
theorem dX5_takeOut_31 : decode cX5_takeOut 31 = .ok (.iload_n 1, 1) := dk_27 (dk_at dksX5_takeOut_1 7 rfl rfl)
theorem dX5_takeOut_32 : decode cX5_takeOut 32 = .ok (.iload 6, 2) := dk_21 6 (dk_at dksX5_takeOut_1 8 rfl rfl)
theorem dX5_takeOut_34 : decode cX5_takeOut 34 = .ok (.invokevirtual 160, 3) := dk_182 0 160 (dk_at dksX5_takeOut_1 10 rfl rfl)
theorem dX5_takeOut_37 : decode cX5_takeOut 37 = .ok (.i2l, 1) := dk_133 (dk_at dksX5_takeOut_1 13 rfl rfl)
theorem dX5_takeOut_38 : decode cX5_takeOut 38 = .ok (.iload_n 2, 1) := dk_28 (dk_at dksX5_takeOut_1 14 rfl rfl)
theorem dX5_takeOut_39 : decode cX5_takeOut 39 = .ok (.i2l, 1) := dk_133 (dk_at dksX5_takeOut_1 15 rfl rfl)
theorem dX5_takeOut_40 : decode cX5_takeOut 40 = .ok (.lmul, 1) := dk_105 (dk_at dksX5_takeOut_1 16 rfl rfl)
theorem dX5_takeOut_41 : decode cX5_takeOut 41 = .ok (.ldc2_w 164, 3) := dk_20 0 164 (dk_at dksX5_takeOut_1 17 rfl rfl)
theorem dX5_takeOut_44 : decode cX5_takeOut 44 = .ok (.lmul, 1) := dk_105 (dk_at dksX5_takeOut_1 20 rfl rfl)
theorem dX5_takeOut_45 : decode cX5_takeOut 45 = .ok (.lload_n 3, 1) := dk_33 (dk_at dksX5_takeOut_1 21 rfl rfl)
theorem dX5_takeOut_46 : decode cX5_takeOut 46 = .ok (.ldiv, 1) := dk_109 (dk_at dksX5_takeOut_1 22 rfl rfl)
theorem dX5_takeOut_47 : decode cX5_takeOut 47 = .ok (.l2i, 1) := dk_136 (dk_at dksX5_takeOut_1 23 rfl rfl)
theorem dX5_takeOut_48 : decode cX5_takeOut 48 = .ok (.iastore, 1) := dk_79 (dk_at dksX5_takeOut_2 0 rfl rfl)
theorem dX5_takeOut_49 : decode cX5_takeOut 49 = .ok (.iload 5, 2) := dk_21 5 (dk_at dksX5_takeOut_2 1 rfl rfl)
theorem dX5_takeOut_51 : decode cX5_takeOut 51 = .ok (.aload_n 0, 1) := dk_42 (dk_at dksX5_takeOut_2 3 rfl rfl)
theorem dX5_takeOut_52 : decode cX5_takeOut 52 = .ok (.getfield 104, 3) := dk_180 0 104 (dk_at dksX5_takeOut_2 4 rfl rfl)
theorem dX5_takeOut_55 : decode cX5_takeOut 55 = .ok (.iload 6, 2) := dk_21 6 (dk_at dksX5_takeOut_2 7 rfl rfl)
theorem dX5_takeOut_57 : decode cX5_takeOut 57 = .ok (.iaload, 1) := dk_46 (dk_at dksX5_takeOut_2 9 rfl rfl)
theorem dX5_takeOut_58 : decode cX5_takeOut 58 = .ok (.isub, 1) := dk_100 (dk_at dksX5_takeOut_2 10 rfl rfl)
theorem dX5_takeOut_59 : decode cX5_takeOut 59 = .ok (.istore 5, 2) := dk_54 5 (dk_at dksX5_takeOut_2 11 rfl rfl)
theorem dX5_takeOut_61 : decode cX5_takeOut 61 = .ok (.iinc 6 1, 3) := dk_132 6 1 (dk_at dksX5_takeOut_2 13 rfl rfl)
theorem dX5_takeOut_64 : decode cX5_takeOut 64 = .ok (.goto (-47), 3) := dk_167 255 209 (dk_at dksX5_takeOut_2 16 rfl rfl)
theorem dX5_takeOut_67 : decode cX5_takeOut 67 = .ok (.lconst 0, 1) := dk_9 (dk_at dksX5_takeOut_2 19 rfl rfl)
theorem dX5_takeOut_68 : decode cX5_takeOut 68 = .ok (.lstore 6, 2) := dk_55 6 (dk_at dksX5_takeOut_2 20 rfl rfl)
theorem dX5_takeOut_70 : decode cX5_takeOut 70 = .ok (.bipush 19, 2) := dk_16 19 (dk_at dksX5_takeOut_2 22 rfl rfl)
theorem dX5_takeOut_72 : decode cX5_takeOut 72 = .ok (.istore 8, 2) := dk_54 8 (dk_at dksX5_takeOut_3 0 rfl rfl)
theorem dX5_takeOut_74 : decode cX5_takeOut 74 = .ok (.iload 8, 2) := dk_21 8 (dk_at dksX5_takeOut_3 2 rfl rfl)
theorem dX5_takeOut_76 : decode cX5_takeOut 76 = .ok (.ifCond .lt 87, 3) := dk_155 0 87 (dk_at dksX5_takeOut_3 4 rfl rfl)
theorem dX5_takeOut_79 : decode cX5_takeOut 79 = .ok (.iload 5, 2) := dk_21 5 (dk_at dksX5_takeOut_3 7 rfl rfl)
theorem dX5_takeOut_81 : decode cX5_takeOut 81 = .ok (.ifCond .le 34, 3) := dk_158 0 34 (dk_at dksX5_takeOut_3 9 rfl rfl)
theorem dX5_takeOut_84 : decode cX5_takeOut 84 = .ok (.aload_n 0, 1) := dk_42 (dk_at dksX5_takeOut_3 12 rfl rfl)
theorem dX5_takeOut_85 : decode cX5_takeOut 85 = .ok (.getfield 104, 3) := dk_180 0 104 (dk_at dksX5_takeOut_3 13 rfl rfl)
theorem dX5_takeOut_88 : decode cX5_takeOut 88 = .ok (.iload 8, 2) := dk_21 8 (dk_at dksX5_takeOut_3 16 rfl rfl)
theorem dX5_takeOut_90 : decode cX5_takeOut 90 = .ok (.iaload, 1) := dk_46 (dk_at dksX5_takeOut_3 18 rfl rfl)
theorem dX5_takeOut_91 : decode cX5_takeOut 91 = .ok (.aload_n 0, 1) := dk_42 (dk_at dksX5_takeOut_3 19 rfl rfl)
theorem dX5_takeOut_92 : decode cX5_takeOut 92 = .ok (.iload_n 1, 1) := dk_27 (dk_at dksX5_takeOut_3 20 rfl rfl)
theorem dX5_takeOut_93 : decode cX5_takeOut 93 = .ok (.iload 8, 2) := dk_21 8 (dk_at dksX5_takeOut_3 21 rfl rfl)
theorem dX5_takeOut_95 : decode cX5_takeOut 95 = .ok (.invokevirtual 160, 3) := dk_182 0 160 (dk_at dksX5_takeOut_4 0 rfl rfl)
theorem dX5_takeOut_98 : decode cX5_takeOut 98 = .ok (.if_icmp .ge 17, 3) := dk_162 0 17 (dk_at dksX5_takeOut_4 3 rfl rfl)
theorem dX5_takeOut_101 : decode cX5_takeOut 101 = .ok (.aload_n 0, 1) := dk_42 (dk_at dksX5_takeOut_4 6 rfl rfl)
theorem dX5_takeOut_102 : decode cX5_takeOut 102 = .ok (.getfield 104, 3) := dk_180 0 104 (dk_at dksX5_takeOut_4 7 rfl rfl)
theorem dX5_takeOut_105 : decode cX5_takeOut 105 = .ok (.iload 8, 2) := dk_21 8 (dk_at dksX5_takeOut_4 10 rfl rfl)
theorem dX5_takeOut_107 : decode cX5_takeOut 107 = .ok (.dup2, 1) := dk_92 (dk_at dksX5_takeOut_4 12 rfl rfl)
theorem dX5_takeOut_108 : decode cX5_takeOut 108 = .ok (.iaload, 1) := dk_46 (dk_at dksX5_takeOut_4 13 rfl rfl)
theorem dX5_takeOut_109 : decode cX5_takeOut 109 = .ok (.iconst 1, 1) := dk_4 (dk_at dksX5_takeOut_4 14 rfl rfl)
theorem dX5_takeOut_110 : decode cX5_takeOut 110 = .ok (.iadd, 1) := dk_96 (dk_at dksX5_takeOut_4 15 rfl rfl)
theorem dX5_takeOut_111 : decode cX5_takeOut 111 = .ok (.iastore, 1) := dk_79 (dk_at dksX5_takeOut_4 16 rfl rfl)
theorem dX5_takeOut_112 : decode cX5_takeOut 112 = .ok (.iinc 5 (-1), 3) := dk_132 5 255 (dk_at dksX5_takeOut_4 17 rfl rfl)
theorem dX5_takeOut_115 : decode cX5_takeOut 115 = .ok (.lload 6, 2) := dk_22 6 (dk_at dksX5_takeOut_4 20 rfl rfl)
theorem dX5_takeOut_117 : decode cX5_takeOut 117 = .ok (.iload 8, 2) := dk_21 8 (dk_at dksX5_takeOut_4 22 rfl rfl)
theorem dX5_takeOut_119 : decode cX5_takeOut 119 = .ok (.i2l, 1) := dk_133 (dk_at dksX5_takeOut_5 0 rfl rfl)
theorem dX5_takeOut_120 : decode cX5_takeOut 120 = .ok (.aload_n 0, 1) := dk_42 (dk_at dksX5_takeOut_5 1 rfl rfl)
theorem dX5_takeOut_121 : decode cX5_takeOut 121 = .ok (.getfield 104, 3) := dk_180 0 104 (dk_at dksX5_takeOut_5 2 rfl rfl)
theorem dX5_takeOut_124 : decode cX5_takeOut 124 = .ok (.iload 8, 2) := dk_21 8 (dk_at dksX5_takeOut_5 5 rfl rfl)
theorem dX5_takeOut_126 : decode cX5_takeOut 126 = .ok (.iaload, 1) := dk_46 (dk_at dksX5_takeOut_5 7 rfl rfl)
theorem dX5_takeOut_127 : decode cX5_takeOut 127 = .ok (.i2l, 1) := dk_133 (dk_at dksX5_takeOut_5 8 rfl rfl)
theorem dX5_takeOut_128 : decode cX5_takeOut 128 = .ok (.lmul, 1) := dk_105 (dk_at dksX5_takeOut_5 9 rfl rfl)
theorem dX5_takeOut_129 : decode cX5_takeOut 129 = .ok (.ladd, 1) := dk_97 (dk_at dksX5_takeOut_5 10 rfl rfl)
theorem dX5_takeOut_130 : decode cX5_takeOut 130 = .ok (.lstore 6, 2) := dk_55 6 (dk_at dksX5_takeOut_5 11 rfl rfl)
theorem dX5_takeOut_132 : decode cX5_takeOut 132 = .ok (.aload_n 0, 1) := dk_42 (dk_at dksX5_takeOut_5 13 rfl rfl)
theorem dX5_takeOut_133 : decode cX5_takeOut 133 = .ok (.getfield 13, 3) := dk_180 0 13 (dk_at dksX5_takeOut_5 14 rfl rfl)
theorem dX5_takeOut_136 : decode cX5_takeOut 136 = .ok (.bipush 10, 2) := dk_16 10 (dk_at dksX5_takeOut_5 17 rfl rfl)
theorem dX5_takeOut_138 : decode cX5_takeOut 138 = .ok (.bipush 20, 2) := dk_16 20 (dk_at dksX5_takeOut_5 19 rfl rfl)
theorem dX5_takeOut_140 : decode cX5_takeOut 140 = .ok (.iload_n 1, 1) := dk_27 (dk_at dksX5_takeOut_5 21 rfl rfl)
theorem dX5_takeOut_141 : decode cX5_takeOut 141 = .ok (.imul, 1) := dk_104 (dk_at dksX5_takeOut_5 22 rfl rfl)
theorem dX5_takeOut_142 : decode cX5_takeOut 142 = .ok (.iadd, 1) := dk_96 (dk_at dksX5_takeOut_5 23 rfl rfl)
theorem dX5_takeOut_143 : decode cX5_takeOut 143 = .ok (.iload 8, 2) := dk_21 8 (dk_at dksX5_takeOut_6 0 rfl rfl)
theorem dX5_takeOut_145 : decode cX5_takeOut 145 = .ok (.iadd, 1) := dk_96 (dk_at dksX5_takeOut_6 2 rfl rfl)
theorem dX5_takeOut_146 : decode cX5_takeOut 146 = .ok (.dup2, 1) := dk_92 (dk_at dksX5_takeOut_6 3 rfl rfl)
theorem dX5_takeOut_147 : decode cX5_takeOut 147 = .ok (.iaload, 1) := dk_46 (dk_at dksX5_takeOut_6 4 rfl rfl)
theorem dX5_takeOut_148 : decode cX5_takeOut 148 = .ok (.aload_n 0, 1) := dk_42 (dk_at dksX5_takeOut_6 5 rfl rfl)
theorem dX5_takeOut_149 : decode cX5_takeOut 149 = .ok (.getfield 104, 3) := dk_180 0 104 (dk_at dksX5_takeOut_6 6 rfl rfl)
theorem dX5_takeOut_152 : decode cX5_takeOut 152 = .ok (.iload 8, 2) := dk_21 8 (dk_at dksX5_takeOut_6 9 rfl rfl)
theorem dX5_takeOut_154 : decode cX5_takeOut 154 = .ok (.iaload, 1) := dk_46 (dk_at dksX5_takeOut_6 11 rfl rfl)
theorem dX5_takeOut_155 : decode cX5_takeOut 155 = .ok (.isub, 1) := dk_100 (dk_at dksX5_takeOut_6 12 rfl rfl)
theorem dX5_takeOut_156 : decode cX5_takeOut 156 = .ok (.iastore, 1) := dk_79 (dk_at dksX5_takeOut_6 13 rfl rfl)
theorem dX5_takeOut_157 : decode cX5_takeOut 157 = .ok (.iinc 8 (-1), 3) := dk_132 8 255 (dk_at dksX5_takeOut_6 14 rfl rfl)
theorem dX5_takeOut_160 : decode cX5_takeOut 160 = .ok (.goto (-86), 3) := dk_167 255 170 (dk_at dksX5_takeOut_6 17 rfl rfl)
theorem dX5_takeOut_163 : decode cX5_takeOut 163 = .ok (.lload 6, 2) := dk_22 6 (dk_at dksX5_takeOut_6 20 rfl rfl)
theorem dX5_takeOut_165 : decode cX5_takeOut 165 = .ok (.iload_n 2, 1) := dk_28 (dk_at dksX5_takeOut_6 22 rfl rfl)
theorem dX5_takeOut_166 : decode cX5_takeOut 166 = .ok (.i2l, 1) := dk_133 (dk_at dksX5_takeOut_6 23 rfl rfl)
theorem dX5_takeOut_167 : decode cX5_takeOut 167 = .ok (.ldiv, 1) := dk_109 (dk_at dksX5_takeOut_7 0 rfl rfl)
theorem dX5_takeOut_168 : decode cX5_takeOut 168 = .ok (.l2i, 1) := dk_136 (dk_at dksX5_takeOut_7 1 rfl rfl)
theorem dX5_takeOut_169 : decode cX5_takeOut 169 = .ok (.ireturn, 1) := dk_172 (dk_at dksX5_takeOut_7 2 rfl rfl)
abbrev cX5_bottle : ByteArray := prog_23_method_83_code
def yX5_bottle : MethodName := ⟨RX5, "bottle", "(II)I"⟩
def dkwX5_bottle_0 : List UInt8 := [42, 3, 181, 0, 133, 42, 42, 27, 28, 182, 1, 200, 182, 0, 142, 172]
abbrev dktX5_bottle_0 : List UInt8 := dkwX5_bottle_0 ++ []
theorem dksX5_bottle_0 : cX5_bottle.data.toList.drop 0 = dktX5_bottle_0 := by decide +kernel
theorem dX5_bottle_0 : decode cX5_bottle 0 = .ok (.aload_n 0, 1) := dk_42 (dk_at dksX5_bottle_0 0 rfl rfl)
theorem dX5_bottle_1 : decode cX5_bottle 1 = .ok (.iconst 0, 1) := dk_3 (dk_at dksX5_bottle_0 1 rfl rfl)
theorem dX5_bottle_2 : decode cX5_bottle 2 = .ok (.putfield 133, 3) := dk_181 0 133 (dk_at dksX5_bottle_0 2 rfl rfl)
theorem dX5_bottle_5 : decode cX5_bottle 5 = .ok (.aload_n 0, 1) := dk_42 (dk_at dksX5_bottle_0 5 rfl rfl)
theorem dX5_bottle_6 : decode cX5_bottle 6 = .ok (.aload_n 0, 1) := dk_42 (dk_at dksX5_bottle_0 6 rfl rfl)
theorem dX5_bottle_7 : decode cX5_bottle 7 = .ok (.iload_n 1, 1) := dk_27 (dk_at dksX5_bottle_0 7 rfl rfl)
theorem dX5_bottle_8 : decode cX5_bottle 8 = .ok (.iload_n 2, 1) := dk_28 (dk_at dksX5_bottle_0 8 rfl rfl)
theorem dX5_bottle_9 : decode cX5_bottle 9 = .ok (.invokevirtual 456, 3) := dk_182 1 200 (dk_at dksX5_bottle_0 9 rfl rfl)
theorem dX5_bottle_12 : decode cX5_bottle 12 = .ok (.invokevirtual 142, 3) := dk_182 0 142 (dk_at dksX5_bottle_0 12 rfl rfl)
theorem dX5_bottle_15 : decode cX5_bottle 15 = .ok (.ireturn, 1) := dk_172 (dk_at dksX5_bottle_0 15 rfl rfl)
abbrev cX5_bottleNow : ByteArray := prog_23_method_82_code
def yX5_bottleNow : MethodName := ⟨RX5, "bottleNow", "(II)I"⟩
def dkwX5_bottleNow_1 : List UInt8 := [172]
abbrev dktX5_bottleNow_1 : List UInt8 := dkwX5_bottleNow_1 ++ []
def dkwX5_bottleNow_0 : List UInt8 := [42, 27, 28, 182, 1, 194, 62, 29, 156, 0, 5, 29, 172, 42, 5, 182, 1, 165, 42, 27, 28, 182, 1, 197]
abbrev dktX5_bottleNow_0 : List UInt8 := dkwX5_bottleNow_0 ++ dktX5_bottleNow_1
theorem dksX5_bottleNow_0 : cX5_bottleNow.data.toList.drop 0 = dktX5_bottleNow_0 := by decide +kernel
theorem dksX5_bottleNow_1 : cX5_bottleNow.data.toList.drop 24 = dktX5_bottleNow_1 := dk_seg dksX5_bottleNow_0 24 rfl rfl
theorem dX5_bottleNow_0 : decode cX5_bottleNow 0 = .ok (.aload_n 0, 1) := dk_42 (dk_at dksX5_bottleNow_0 0 rfl rfl)
theorem dX5_bottleNow_1 : decode cX5_bottleNow 1 = .ok (.iload_n 1, 1) := dk_27 (dk_at dksX5_bottleNow_0 1 rfl rfl)
theorem dX5_bottleNow_2 : decode cX5_bottleNow 2 = .ok (.iload_n 2, 1) := dk_28 (dk_at dksX5_bottleNow_0 2 rfl rfl)
theorem dX5_bottleNow_3 : decode cX5_bottleNow 3 = .ok (.invokevirtual 450, 3) := dk_182 1 194 (dk_at dksX5_bottleNow_0 3 rfl rfl)
theorem dX5_bottleNow_6 : decode cX5_bottleNow 6 = .ok (.istore_n 3, 1) := dk_62 (dk_at dksX5_bottleNow_0 6 rfl rfl)
theorem dX5_bottleNow_7 : decode cX5_bottleNow 7 = .ok (.iload_n 3, 1) := dk_29 (dk_at dksX5_bottleNow_0 7 rfl rfl)
theorem dX5_bottleNow_8 : decode cX5_bottleNow 8 = .ok (.ifCond .ge 5, 3) := dk_156 0 5 (dk_at dksX5_bottleNow_0 8 rfl rfl)
theorem dX5_bottleNow_11 : decode cX5_bottleNow 11 = .ok (.iload_n 3, 1) := dk_29 (dk_at dksX5_bottleNow_0 11 rfl rfl)
theorem dX5_bottleNow_12 : decode cX5_bottleNow 12 = .ok (.ireturn, 1) := dk_172 (dk_at dksX5_bottleNow_0 12 rfl rfl)
theorem dX5_bottleNow_13 : decode cX5_bottleNow 13 = .ok (.aload_n 0, 1) := dk_42 (dk_at dksX5_bottleNow_0 13 rfl rfl)
theorem dX5_bottleNow_14 : decode cX5_bottleNow 14 = .ok (.iconst 2, 1) := dk_5 (dk_at dksX5_bottleNow_0 14 rfl rfl)
theorem dX5_bottleNow_15 : decode cX5_bottleNow 15 = .ok (.invokevirtual 421, 3) := dk_182 1 165 (dk_at dksX5_bottleNow_0 15 rfl rfl)
theorem dX5_bottleNow_18 : decode cX5_bottleNow 18 = .ok (.aload_n 0, 1) := dk_42 (dk_at dksX5_bottleNow_0 18 rfl rfl)
theorem dX5_bottleNow_19 : decode cX5_bottleNow 19 = .ok (.iload_n 1, 1) := dk_27 (dk_at dksX5_bottleNow_0 19 rfl rfl)
theorem dX5_bottleNow_20 : decode cX5_bottleNow 20 = .ok (.iload_n 2, 1) := dk_28 (dk_at dksX5_bottleNow_0 20 rfl rfl)
theorem dX5_bottleNow_21 : decode cX5_bottleNow 21 = .ok (.invokevirtual 453, 3) := dk_182 1 197 (dk_at dksX5_bottleNow_0 21 rfl rfl)
theorem dX5_bottleNow_24 : decode cX5_bottleNow 24 = .ok (.ireturn, 1) := dk_172 (dk_at dksX5_bottleNow_1 0 rfl rfl)
abbrev cX5_whyNotBottle : ByteArray := prog_23_method_80_code
def yX5_whyNotBottle : MethodName := ⟨RX5, "whyNotBottle", "(II)I"⟩
def dkwX5_whyNotBottle_3 : List UInt8 := [16, 253, 172]
abbrev dktX5_whyNotBottle_3 : List UInt8 := dkwX5_whyNotBottle_3 ++ []
def dkwX5_whyNotBottle_2 : List UInt8 := [182, 0, 194, 28, 161, 0, 20, 42, 27, 182, 0, 166, 17, 3, 232, 28, 104, 161, 0, 7, 3, 167, 0, 5]
abbrev dktX5_whyNotBottle_2 : List UInt8 := dkwX5_whyNotBottle_2 ++ dktX5_whyNotBottle_3
def dkwX5_whyNotBottle_1 : List UInt8 := [172, 42, 180, 0, 13, 17, 0, 170, 27, 96, 46, 154, 0, 37, 42, 27, 182, 0, 197, 154, 0, 29, 42, 27]
abbrev dktX5_whyNotBottle_1 : List UInt8 := dkwX5_whyNotBottle_1 ++ dktX5_whyNotBottle_2
def dkwX5_whyNotBottle_0 : List UInt8 := [28, 133, 10, 20, 0, 179, 184, 0, 153, 154, 0, 5, 2, 172, 42, 27, 182, 0, 184, 154, 0, 6, 16, 254]
abbrev dktX5_whyNotBottle_0 : List UInt8 := dkwX5_whyNotBottle_0 ++ dktX5_whyNotBottle_1
theorem dksX5_whyNotBottle_0 : cX5_whyNotBottle.data.toList.drop 0 = dktX5_whyNotBottle_0 := by decide +kernel
theorem dksX5_whyNotBottle_1 : cX5_whyNotBottle.data.toList.drop 24 = dktX5_whyNotBottle_1 := dk_seg dksX5_whyNotBottle_0 24 rfl rfl
theorem dksX5_whyNotBottle_2 : cX5_whyNotBottle.data.toList.drop 48 = dktX5_whyNotBottle_2 := dk_seg dksX5_whyNotBottle_1 24 rfl rfl
theorem dksX5_whyNotBottle_3 : cX5_whyNotBottle.data.toList.drop 72 = dktX5_whyNotBottle_3 := dk_seg dksX5_whyNotBottle_2 24 rfl rfl
theorem dX5_whyNotBottle_0 : decode cX5_whyNotBottle 0 = .ok (.iload_n 2, 1) := dk_28 (dk_at dksX5_whyNotBottle_0 0 rfl rfl)
theorem dX5_whyNotBottle_1 : decode cX5_whyNotBottle 1 = .ok (.i2l, 1) := dk_133 (dk_at dksX5_whyNotBottle_0 1 rfl rfl)
theorem dX5_whyNotBottle_2 : decode cX5_whyNotBottle 2 = .ok (.lconst 1, 1) := dk_10 (dk_at dksX5_whyNotBottle_0 2 rfl rfl)
theorem dX5_whyNotBottle_3 : decode cX5_whyNotBottle 3 = .ok (.ldc2_w 179, 3) := dk_20 0 179 (dk_at dksX5_whyNotBottle_0 3 rfl rfl)
theorem dX5_whyNotBottle_6 : decode cX5_whyNotBottle 6 = .ok (.invokestatic 153, 3) := dk_184 0 153 (dk_at dksX5_whyNotBottle_0 6 rfl rfl)
theorem dX5_whyNotBottle_9 : decode cX5_whyNotBottle 9 = .ok (.ifCond .ne 5, 3) := dk_154 0 5 (dk_at dksX5_whyNotBottle_0 9 rfl rfl)
theorem dX5_whyNotBottle_12 : decode cX5_whyNotBottle 12 = .ok (.iconst (-1), 1) := dk_2 (dk_at dksX5_whyNotBottle_0 12 rfl rfl)
theorem dX5_whyNotBottle_13 : decode cX5_whyNotBottle 13 = .ok (.ireturn, 1) := dk_172 (dk_at dksX5_whyNotBottle_0 13 rfl rfl)
theorem dX5_whyNotBottle_14 : decode cX5_whyNotBottle 14 = .ok (.aload_n 0, 1) := dk_42 (dk_at dksX5_whyNotBottle_0 14 rfl rfl)
theorem dX5_whyNotBottle_15 : decode cX5_whyNotBottle 15 = .ok (.iload_n 1, 1) := dk_27 (dk_at dksX5_whyNotBottle_0 15 rfl rfl)
theorem dX5_whyNotBottle_16 : decode cX5_whyNotBottle 16 = .ok (.invokevirtual 184, 3) := dk_182 0 184 (dk_at dksX5_whyNotBottle_0 16 rfl rfl)
theorem dX5_whyNotBottle_19 : decode cX5_whyNotBottle 19 = .ok (.ifCond .ne 6, 3) := dk_154 0 6 (dk_at dksX5_whyNotBottle_0 19 rfl rfl)
theorem dX5_whyNotBottle_22 : decode cX5_whyNotBottle 22 = .ok (.bipush (-2), 2) := dk_16 254 (dk_at dksX5_whyNotBottle_0 22 rfl rfl)
theorem dX5_whyNotBottle_24 : decode cX5_whyNotBottle 24 = .ok (.ireturn, 1) := dk_172 (dk_at dksX5_whyNotBottle_1 0 rfl rfl)
theorem dX5_whyNotBottle_25 : decode cX5_whyNotBottle 25 = .ok (.aload_n 0, 1) := dk_42 (dk_at dksX5_whyNotBottle_1 1 rfl rfl)
theorem dX5_whyNotBottle_26 : decode cX5_whyNotBottle 26 = .ok (.getfield 13, 3) := dk_180 0 13 (dk_at dksX5_whyNotBottle_1 2 rfl rfl)
theorem dX5_whyNotBottle_29 : decode cX5_whyNotBottle 29 = .ok (.sipush 170, 3) := dk_17 0 170 (dk_at dksX5_whyNotBottle_1 5 rfl rfl)
theorem dX5_whyNotBottle_32 : decode cX5_whyNotBottle 32 = .ok (.iload_n 1, 1) := dk_27 (dk_at dksX5_whyNotBottle_1 8 rfl rfl)
theorem dX5_whyNotBottle_33 : decode cX5_whyNotBottle 33 = .ok (.iadd, 1) := dk_96 (dk_at dksX5_whyNotBottle_1 9 rfl rfl)
theorem dX5_whyNotBottle_34 : decode cX5_whyNotBottle 34 = .ok (.iaload, 1) := dk_46 (dk_at dksX5_whyNotBottle_1 10 rfl rfl)
theorem dX5_whyNotBottle_35 : decode cX5_whyNotBottle 35 = .ok (.ifCond .ne 37, 3) := dk_154 0 37 (dk_at dksX5_whyNotBottle_1 11 rfl rfl)
theorem dX5_whyNotBottle_38 : decode cX5_whyNotBottle 38 = .ok (.aload_n 0, 1) := dk_42 (dk_at dksX5_whyNotBottle_1 14 rfl rfl)
theorem dX5_whyNotBottle_39 : decode cX5_whyNotBottle 39 = .ok (.iload_n 1, 1) := dk_27 (dk_at dksX5_whyNotBottle_1 15 rfl rfl)
theorem dX5_whyNotBottle_40 : decode cX5_whyNotBottle 40 = .ok (.invokevirtual 197, 3) := dk_182 0 197 (dk_at dksX5_whyNotBottle_1 16 rfl rfl)
theorem dX5_whyNotBottle_43 : decode cX5_whyNotBottle 43 = .ok (.ifCond .ne 29, 3) := dk_154 0 29 (dk_at dksX5_whyNotBottle_1 19 rfl rfl)
theorem dX5_whyNotBottle_46 : decode cX5_whyNotBottle 46 = .ok (.aload_n 0, 1) := dk_42 (dk_at dksX5_whyNotBottle_1 22 rfl rfl)
theorem dX5_whyNotBottle_47 : decode cX5_whyNotBottle 47 = .ok (.iload_n 1, 1) := dk_27 (dk_at dksX5_whyNotBottle_1 23 rfl rfl)
theorem dX5_whyNotBottle_48 : decode cX5_whyNotBottle 48 = .ok (.invokevirtual 194, 3) := dk_182 0 194 (dk_at dksX5_whyNotBottle_2 0 rfl rfl)
theorem dX5_whyNotBottle_51 : decode cX5_whyNotBottle 51 = .ok (.iload_n 2, 1) := dk_28 (dk_at dksX5_whyNotBottle_2 3 rfl rfl)
theorem dX5_whyNotBottle_52 : decode cX5_whyNotBottle 52 = .ok (.if_icmp .lt 20, 3) := dk_161 0 20 (dk_at dksX5_whyNotBottle_2 4 rfl rfl)
theorem dX5_whyNotBottle_55 : decode cX5_whyNotBottle 55 = .ok (.aload_n 0, 1) := dk_42 (dk_at dksX5_whyNotBottle_2 7 rfl rfl)
theorem dX5_whyNotBottle_56 : decode cX5_whyNotBottle 56 = .ok (.iload_n 1, 1) := dk_27 (dk_at dksX5_whyNotBottle_2 8 rfl rfl)
theorem dX5_whyNotBottle_57 : decode cX5_whyNotBottle 57 = .ok (.invokevirtual 166, 3) := dk_182 0 166 (dk_at dksX5_whyNotBottle_2 9 rfl rfl)
theorem dX5_whyNotBottle_60 : decode cX5_whyNotBottle 60 = .ok (.sipush 1000, 3) := dk_17 3 232 (dk_at dksX5_whyNotBottle_2 12 rfl rfl)
theorem dX5_whyNotBottle_63 : decode cX5_whyNotBottle 63 = .ok (.iload_n 2, 1) := dk_28 (dk_at dksX5_whyNotBottle_2 15 rfl rfl)
theorem dX5_whyNotBottle_64 : decode cX5_whyNotBottle 64 = .ok (.imul, 1) := dk_104 (dk_at dksX5_whyNotBottle_2 16 rfl rfl)
theorem dX5_whyNotBottle_65 : decode cX5_whyNotBottle 65 = .ok (.if_icmp .lt 7, 3) := dk_161 0 7 (dk_at dksX5_whyNotBottle_2 17 rfl rfl)
theorem dX5_whyNotBottle_68 : decode cX5_whyNotBottle 68 = .ok (.iconst 0, 1) := dk_3 (dk_at dksX5_whyNotBottle_2 20 rfl rfl)
theorem dX5_whyNotBottle_69 : decode cX5_whyNotBottle 69 = .ok (.goto 5, 3) := dk_167 0 5 (dk_at dksX5_whyNotBottle_2 21 rfl rfl)
theorem dX5_whyNotBottle_72 : decode cX5_whyNotBottle 72 = .ok (.bipush (-3), 2) := dk_16 253 (dk_at dksX5_whyNotBottle_3 0 rfl rfl)
theorem dX5_whyNotBottle_74 : decode cX5_whyNotBottle 74 = .ok (.ireturn, 1) := dk_172 (dk_at dksX5_whyNotBottle_3 2 rfl rfl)
abbrev cX5_bottleIt : ByteArray := prog_23_method_81_code
def yX5_bottleIt : MethodName := ⟨RX5, "bottleIt", "(II)I"⟩
def dkwX5_bottleIt_2 : List UInt8 := [162, 0, 7, 29, 167, 0, 7, 42, 180, 1, 191, 181, 1, 191, 29, 172]
abbrev dktX5_bottleIt_2 : List UInt8 := dkwX5_bottleIt_2 ++ []
def dkwX5_bottleIt_1 : List UInt8 := [19, 1, 187, 184, 1, 158, 79, 42, 89, 180, 1, 188, 28, 96, 181, 1, 188, 42, 29, 42, 180, 1, 191]
abbrev dktX5_bottleIt_1 : List UInt8 := dkwX5_bottleIt_1 ++ dktX5_bottleIt_2
def dkwX5_bottleIt_0 : List UInt8 := [42, 27, 28, 182, 1, 174, 62, 42, 180, 0, 13, 16, 9, 42, 180, 0, 13, 16, 9, 46, 28, 96, 133, 3]
abbrev dktX5_bottleIt_0 : List UInt8 := dkwX5_bottleIt_0 ++ dktX5_bottleIt_1
theorem dksX5_bottleIt_0 : cX5_bottleIt.data.toList.drop 0 = dktX5_bottleIt_0 := by decide +kernel
theorem dksX5_bottleIt_1 : cX5_bottleIt.data.toList.drop 24 = dktX5_bottleIt_1 := dk_seg dksX5_bottleIt_0 24 rfl rfl
theorem dksX5_bottleIt_2 : cX5_bottleIt.data.toList.drop 47 = dktX5_bottleIt_2 := dk_seg dksX5_bottleIt_1 23 rfl rfl
theorem dX5_bottleIt_0 : decode cX5_bottleIt 0 = .ok (.aload_n 0, 1) := dk_42 (dk_at dksX5_bottleIt_0 0 rfl rfl)
theorem dX5_bottleIt_1 : decode cX5_bottleIt 1 = .ok (.iload_n 1, 1) := dk_27 (dk_at dksX5_bottleIt_0 1 rfl rfl)
theorem dX5_bottleIt_2 : decode cX5_bottleIt 2 = .ok (.iload_n 2, 1) := dk_28 (dk_at dksX5_bottleIt_0 2 rfl rfl)
theorem dX5_bottleIt_3 : decode cX5_bottleIt 3 = .ok (.invokevirtual 430, 3) := dk_182 1 174 (dk_at dksX5_bottleIt_0 3 rfl rfl)
theorem dX5_bottleIt_6 : decode cX5_bottleIt 6 = .ok (.istore_n 3, 1) := dk_62 (dk_at dksX5_bottleIt_0 6 rfl rfl)
theorem dX5_bottleIt_7 : decode cX5_bottleIt 7 = .ok (.aload_n 0, 1) := dk_42 (dk_at dksX5_bottleIt_0 7 rfl rfl)
theorem dX5_bottleIt_8 : decode cX5_bottleIt 8 = .ok (.getfield 13, 3) := dk_180 0 13 (dk_at dksX5_bottleIt_0 8 rfl rfl)
theorem dX5_bottleIt_11 : decode cX5_bottleIt 11 = .ok (.bipush 9, 2) := dk_16 9 (dk_at dksX5_bottleIt_0 11 rfl rfl)
theorem dX5_bottleIt_13 : decode cX5_bottleIt 13 = .ok (.aload_n 0, 1) := dk_42 (dk_at dksX5_bottleIt_0 13 rfl rfl)
theorem dX5_bottleIt_14 : decode cX5_bottleIt 14 = .ok (.getfield 13, 3) := dk_180 0 13 (dk_at dksX5_bottleIt_0 14 rfl rfl)
theorem dX5_bottleIt_17 : decode cX5_bottleIt 17 = .ok (.bipush 9, 2) := dk_16 9 (dk_at dksX5_bottleIt_0 17 rfl rfl)
theorem dX5_bottleIt_19 : decode cX5_bottleIt 19 = .ok (.iaload, 1) := dk_46 (dk_at dksX5_bottleIt_0 19 rfl rfl)
theorem dX5_bottleIt_20 : decode cX5_bottleIt 20 = .ok (.iload_n 2, 1) := dk_28 (dk_at dksX5_bottleIt_0 20 rfl rfl)
theorem dX5_bottleIt_21 : decode cX5_bottleIt 21 = .ok (.iadd, 1) := dk_96 (dk_at dksX5_bottleIt_0 21 rfl rfl)
theorem dX5_bottleIt_22 : decode cX5_bottleIt 22 = .ok (.i2l, 1) := dk_133 (dk_at dksX5_bottleIt_0 22 rfl rfl)
theorem dX5_bottleIt_23 : decode cX5_bottleIt 23 = .ok (.iconst 0, 1) := dk_3 (dk_at dksX5_bottleIt_0 23 rfl rfl)
theorem dX5_bottleIt_24 : decode cX5_bottleIt 24 = .ok (.ldc_w 443, 3) := dk_19 1 187 (dk_at dksX5_bottleIt_1 0 rfl rfl)
theorem dX5_bottleIt_27 : decode cX5_bottleIt 27 = .ok (.invokestatic 414, 3) := dk_184 1 158 (dk_at dksX5_bottleIt_1 3 rfl rfl)
theorem dX5_bottleIt_30 : decode cX5_bottleIt 30 = .ok (.iastore, 1) := dk_79 (dk_at dksX5_bottleIt_1 6 rfl rfl)
theorem dX5_bottleIt_31 : decode cX5_bottleIt 31 = .ok (.aload_n 0, 1) := dk_42 (dk_at dksX5_bottleIt_1 7 rfl rfl)
theorem dX5_bottleIt_32 : decode cX5_bottleIt 32 = .ok (.dup, 1) := dk_89 (dk_at dksX5_bottleIt_1 8 rfl rfl)
theorem dX5_bottleIt_33 : decode cX5_bottleIt 33 = .ok (.getfield 444, 3) := dk_180 1 188 (dk_at dksX5_bottleIt_1 9 rfl rfl)
theorem dX5_bottleIt_36 : decode cX5_bottleIt 36 = .ok (.iload_n 2, 1) := dk_28 (dk_at dksX5_bottleIt_1 12 rfl rfl)
theorem dX5_bottleIt_37 : decode cX5_bottleIt 37 = .ok (.iadd, 1) := dk_96 (dk_at dksX5_bottleIt_1 13 rfl rfl)
theorem dX5_bottleIt_38 : decode cX5_bottleIt 38 = .ok (.putfield 444, 3) := dk_181 1 188 (dk_at dksX5_bottleIt_1 14 rfl rfl)
theorem dX5_bottleIt_41 : decode cX5_bottleIt 41 = .ok (.aload_n 0, 1) := dk_42 (dk_at dksX5_bottleIt_1 17 rfl rfl)
theorem dX5_bottleIt_42 : decode cX5_bottleIt 42 = .ok (.iload_n 3, 1) := dk_29 (dk_at dksX5_bottleIt_1 18 rfl rfl)
theorem dX5_bottleIt_43 : decode cX5_bottleIt 43 = .ok (.aload_n 0, 1) := dk_42 (dk_at dksX5_bottleIt_1 19 rfl rfl)
theorem dX5_bottleIt_44 : decode cX5_bottleIt 44 = .ok (.getfield 447, 3) := dk_180 1 191 (dk_at dksX5_bottleIt_1 20 rfl rfl)
theorem dX5_bottleIt_47 : decode cX5_bottleIt 47 = .ok (.if_icmp .ge 7, 3) := dk_162 0 7 (dk_at dksX5_bottleIt_2 0 rfl rfl)
theorem dX5_bottleIt_50 : decode cX5_bottleIt 50 = .ok (.iload_n 3, 1) := dk_29 (dk_at dksX5_bottleIt_2 3 rfl rfl)
theorem dX5_bottleIt_51 : decode cX5_bottleIt 51 = .ok (.goto 7, 3) := dk_167 0 7 (dk_at dksX5_bottleIt_2 4 rfl rfl)
theorem dX5_bottleIt_54 : decode cX5_bottleIt 54 = .ok (.aload_n 0, 1) := dk_42 (dk_at dksX5_bottleIt_2 7 rfl rfl)
theorem dX5_bottleIt_55 : decode cX5_bottleIt 55 = .ok (.getfield 447, 3) := dk_180 1 191 (dk_at dksX5_bottleIt_2 8 rfl rfl)
theorem dX5_bottleIt_58 : decode cX5_bottleIt 58 = .ok (.putfield 447, 3) := dk_181 1 191 (dk_at dksX5_bottleIt_2 11 rfl rfl)
theorem dX5_bottleIt_61 : decode cX5_bottleIt 61 = .ok (.iload_n 3, 1) := dk_29 (dk_at dksX5_bottleIt_2 14 rfl rfl)
theorem dX5_bottleIt_62 : decode cX5_bottleIt 62 = .ok (.ireturn, 1) := dk_172 (dk_at dksX5_bottleIt_2 15 rfl rfl)
abbrev cX5_pass : ByteArray := prog_23_method_87_code
def yX5_pass : MethodName := ⟨RX5, "pass", "()I"⟩
def dkwX5_pass_0 : List UInt8 := [42, 3, 181, 0, 133, 42, 42, 182, 1, 206, 182, 0, 142, 172]
abbrev dktX5_pass_0 : List UInt8 := dkwX5_pass_0 ++ []
theorem dksX5_pass_0 : cX5_pass.data.toList.drop 0 = dktX5_pass_0 := by decide +kernel
theorem dX5_pass_0 : decode cX5_pass 0 = .ok (.aload_n 0, 1) := dk_42 (dk_at dksX5_pass_0 0 rfl rfl)
theorem dX5_pass_1 : decode cX5_pass 1 = .ok (.iconst 0, 1) := dk_3 (dk_at dksX5_pass_0 1 rfl rfl)
theorem dX5_pass_2 : decode cX5_pass 2 = .ok (.putfield 133, 3) := dk_181 0 133 (dk_at dksX5_pass_0 2 rfl rfl)
theorem dX5_pass_5 : decode cX5_pass 5 = .ok (.aload_n 0, 1) := dk_42 (dk_at dksX5_pass_0 5 rfl rfl)
theorem dX5_pass_6 : decode cX5_pass 6 = .ok (.aload_n 0, 1) := dk_42 (dk_at dksX5_pass_0 6 rfl rfl)
theorem dX5_pass_7 : decode cX5_pass 7 = .ok (.invokevirtual 462, 3) := dk_182 1 206 (dk_at dksX5_pass_0 7 rfl rfl)
theorem dX5_pass_10 : decode cX5_pass 10 = .ok (.invokevirtual 142, 3) := dk_182 0 142 (dk_at dksX5_pass_0 10 rfl rfl)
theorem dX5_pass_13 : decode cX5_pass 13 = .ok (.ireturn, 1) := dk_172 (dk_at dksX5_pass_0 13 rfl rfl)
abbrev cX5_passNow : ByteArray := prog_23_method_86_code
def yX5_passNow : MethodName := ⟨RX5, "passNow", "()I"⟩
def dkwX5_passNow_1 : List UInt8 := [172]
abbrev dktX5_passNow_1 : List UInt8 := dkwX5_passNow_1 ++ []
def dkwX5_passNow_0 : List UInt8 := [42, 180, 0, 13, 8, 46, 17, 3, 231, 160, 0, 6, 16, 253, 172, 42, 6, 182, 1, 165, 42, 182, 1, 203]
abbrev dktX5_passNow_0 : List UInt8 := dkwX5_passNow_0 ++ dktX5_passNow_1
theorem dksX5_passNow_0 : cX5_passNow.data.toList.drop 0 = dktX5_passNow_0 := by decide +kernel
theorem dksX5_passNow_1 : cX5_passNow.data.toList.drop 24 = dktX5_passNow_1 := dk_seg dksX5_passNow_0 24 rfl rfl
theorem dX5_passNow_0 : decode cX5_passNow 0 = .ok (.aload_n 0, 1) := dk_42 (dk_at dksX5_passNow_0 0 rfl rfl)
theorem dX5_passNow_1 : decode cX5_passNow 1 = .ok (.getfield 13, 3) := dk_180 0 13 (dk_at dksX5_passNow_0 1 rfl rfl)
theorem dX5_passNow_4 : decode cX5_passNow 4 = .ok (.iconst 5, 1) := dk_8 (dk_at dksX5_passNow_0 4 rfl rfl)
theorem dX5_passNow_5 : decode cX5_passNow 5 = .ok (.iaload, 1) := dk_46 (dk_at dksX5_passNow_0 5 rfl rfl)
theorem dX5_passNow_6 : decode cX5_passNow 6 = .ok (.sipush 999, 3) := dk_17 3 231 (dk_at dksX5_passNow_0 6 rfl rfl)
theorem dX5_passNow_9 : decode cX5_passNow 9 = .ok (.if_icmp .ne 6, 3) := dk_160 0 6 (dk_at dksX5_passNow_0 9 rfl rfl)
theorem dX5_passNow_12 : decode cX5_passNow 12 = .ok (.bipush (-3), 2) := dk_16 253 (dk_at dksX5_passNow_0 12 rfl rfl)
theorem dX5_passNow_14 : decode cX5_passNow 14 = .ok (.ireturn, 1) := dk_172 (dk_at dksX5_passNow_0 14 rfl rfl)
theorem dX5_passNow_15 : decode cX5_passNow 15 = .ok (.aload_n 0, 1) := dk_42 (dk_at dksX5_passNow_0 15 rfl rfl)
theorem dX5_passNow_16 : decode cX5_passNow 16 = .ok (.iconst 3, 1) := dk_6 (dk_at dksX5_passNow_0 16 rfl rfl)
theorem dX5_passNow_17 : decode cX5_passNow 17 = .ok (.invokevirtual 421, 3) := dk_182 1 165 (dk_at dksX5_passNow_0 17 rfl rfl)
theorem dX5_passNow_20 : decode cX5_passNow 20 = .ok (.aload_n 0, 1) := dk_42 (dk_at dksX5_passNow_0 20 rfl rfl)
theorem dX5_passNow_21 : decode cX5_passNow 21 = .ok (.invokevirtual 459, 3) := dk_182 1 203 (dk_at dksX5_passNow_0 21 rfl rfl)
theorem dX5_passNow_24 : decode cX5_passNow 24 = .ok (.ireturn, 1) := dk_172 (dk_at dksX5_passNow_1 0 rfl rfl)
abbrev cX5_passIt : ByteArray := prog_23_method_85_code
def yX5_passIt : MethodName := ⟨RX5, "passIt", "()I"⟩
def dkwX5_passIt_7 : List UInt8 := [180, 0, 13, 8, 92, 46, 4, 96, 79, 27, 172]
abbrev dktX5_passIt_7 : List UInt8 := dkwX5_passIt_7 ++ []
def dkwX5_passIt_6 : List UInt8 := [79, 132, 5, 255, 167, 255, 226, 42, 180, 0, 13, 21, 4, 3, 79, 132, 2, 1, 167, 255, 101, 42]
abbrev dktX5_passIt_6 : List UInt8 := dkwX5_passIt_6 ++ dktX5_passIt_7
def dkwX5_passIt_5 : List UInt8 := [158, 0, 31, 42, 180, 0, 13, 21, 4, 21, 5, 96, 42, 180, 0, 13, 21, 4, 21, 5, 96, 4, 100, 46]
abbrev dktX5_passIt_5 : List UInt8 := dkwX5_passIt_5 ++ dktX5_passIt_6
def dkwX5_passIt_4 : List UInt8 := [92, 46, 42, 180, 0, 13, 21, 4, 16, 19, 96, 4, 100, 46, 96, 79, 16, 18, 54, 5, 21, 5]
abbrev dktX5_passIt_4 : List UInt8 := dkwX5_passIt_4 ++ dktX5_passIt_5
def dkwX5_passIt_3 : List UInt8 := [21, 6, 100, 79, 27, 21, 6, 96, 60, 132, 5, 1, 167, 255, 205, 42, 180, 0, 13, 21, 4, 16, 19, 96]
abbrev dktX5_passIt_3 : List UInt8 := dkwX5_passIt_3 ++ dktX5_passIt_4
def dkwX5_passIt_2 : List UInt8 := [46, 133, 29, 133, 105, 20, 0, 164, 109, 136, 54, 6, 42, 180, 0, 13, 21, 4, 21, 5, 96, 92, 46]
abbrev dktX5_passIt_2 : List UInt8 := dkwX5_passIt_2 ++ dktX5_passIt_3
def dkwX5_passIt_1 : List UInt8 := [28, 104, 96, 54, 4, 3, 54, 5, 21, 5, 16, 20, 162, 0, 50, 42, 180, 0, 13, 21, 4, 21, 5, 96]
abbrev dktX5_passIt_1 : List UInt8 := dkwX5_passIt_1 ++ dktX5_passIt_2
def dkwX5_passIt_0 : List UInt8 := [3, 60, 3, 61, 28, 42, 180, 0, 13, 3, 46, 162, 0, 151, 42, 28, 182, 0, 191, 62, 16, 10, 16, 20]
abbrev dktX5_passIt_0 : List UInt8 := dkwX5_passIt_0 ++ dktX5_passIt_1
theorem dksX5_passIt_0 : cX5_passIt.data.toList.drop 0 = dktX5_passIt_0 := by decide +kernel
theorem dksX5_passIt_1 : cX5_passIt.data.toList.drop 24 = dktX5_passIt_1 := dk_seg dksX5_passIt_0 24 rfl rfl
theorem dksX5_passIt_2 : cX5_passIt.data.toList.drop 48 = dktX5_passIt_2 := dk_seg dksX5_passIt_1 24 rfl rfl
theorem dksX5_passIt_3 : cX5_passIt.data.toList.drop 71 = dktX5_passIt_3 := dk_seg dksX5_passIt_2 23 rfl rfl
theorem dksX5_passIt_4 : cX5_passIt.data.toList.drop 95 = dktX5_passIt_4 := dk_seg dksX5_passIt_3 24 rfl rfl
theorem dksX5_passIt_5 : cX5_passIt.data.toList.drop 117 = dktX5_passIt_5 := dk_seg dksX5_passIt_4 22 rfl rfl
theorem dksX5_passIt_6 : cX5_passIt.data.toList.drop 141 = dktX5_passIt_6 := dk_seg dksX5_passIt_5 24 rfl rfl
theorem dksX5_passIt_7 : cX5_passIt.data.toList.drop 163 = dktX5_passIt_7 := dk_seg dksX5_passIt_6 22 rfl rfl
theorem dX5_passIt_0 : decode cX5_passIt 0 = .ok (.iconst 0, 1) := dk_3 (dk_at dksX5_passIt_0 0 rfl rfl)
theorem dX5_passIt_1 : decode cX5_passIt 1 = .ok (.istore_n 1, 1) := dk_60 (dk_at dksX5_passIt_0 1 rfl rfl)
theorem dX5_passIt_2 : decode cX5_passIt 2 = .ok (.iconst 0, 1) := dk_3 (dk_at dksX5_passIt_0 2 rfl rfl)
theorem dX5_passIt_3 : decode cX5_passIt 3 = .ok (.istore_n 2, 1) := dk_61 (dk_at dksX5_passIt_0 3 rfl rfl)
theorem dX5_passIt_4 : decode cX5_passIt 4 = .ok (.iload_n 2, 1) := dk_28 (dk_at dksX5_passIt_0 4 rfl rfl)
theorem dX5_passIt_5 : decode cX5_passIt 5 = .ok (.aload_n 0, 1) := dk_42 (dk_at dksX5_passIt_0 5 rfl rfl)
theorem dX5_passIt_6 : decode cX5_passIt 6 = .ok (.getfield 13, 3) := dk_180 0 13 (dk_at dksX5_passIt_0 6 rfl rfl)
theorem dX5_passIt_9 : decode cX5_passIt 9 = .ok (.iconst 0, 1) := dk_3 (dk_at dksX5_passIt_0 9 rfl rfl)
theorem dX5_passIt_10 : decode cX5_passIt 10 = .ok (.iaload, 1) := dk_46 (dk_at dksX5_passIt_0 10 rfl rfl)
theorem dX5_passIt_11 : decode cX5_passIt 11 = .ok (.if_icmp .ge 151, 3) := dk_162 0 151 (dk_at dksX5_passIt_0 11 rfl rfl)
theorem dX5_passIt_14 : decode cX5_passIt 14 = .ok (.aload_n 0, 1) := dk_42 (dk_at dksX5_passIt_0 14 rfl rfl)
theorem dX5_passIt_15 : decode cX5_passIt 15 = .ok (.iload_n 2, 1) := dk_28 (dk_at dksX5_passIt_0 15 rfl rfl)
theorem dX5_passIt_16 : decode cX5_passIt 16 = .ok (.invokevirtual 191, 3) := dk_182 0 191 (dk_at dksX5_passIt_0 16 rfl rfl)
theorem dX5_passIt_19 : decode cX5_passIt 19 = .ok (.istore_n 3, 1) := dk_62 (dk_at dksX5_passIt_0 19 rfl rfl)
theorem dX5_passIt_20 : decode cX5_passIt 20 = .ok (.bipush 10, 2) := dk_16 10 (dk_at dksX5_passIt_0 20 rfl rfl)
theorem dX5_passIt_22 : decode cX5_passIt 22 = .ok (.bipush 20, 2) := dk_16 20 (dk_at dksX5_passIt_0 22 rfl rfl)
theorem dX5_passIt_24 : decode cX5_passIt 24 = .ok (.iload_n 2, 1) := dk_28 (dk_at dksX5_passIt_1 0 rfl rfl)
theorem dX5_passIt_25 : decode cX5_passIt 25 = .ok (.imul, 1) := dk_104 (dk_at dksX5_passIt_1 1 rfl rfl)
theorem dX5_passIt_26 : decode cX5_passIt 26 = .ok (.iadd, 1) := dk_96 (dk_at dksX5_passIt_1 2 rfl rfl)
theorem dX5_passIt_27 : decode cX5_passIt 27 = .ok (.istore 4, 2) := dk_54 4 (dk_at dksX5_passIt_1 3 rfl rfl)
theorem dX5_passIt_29 : decode cX5_passIt 29 = .ok (.iconst 0, 1) := dk_3 (dk_at dksX5_passIt_1 5 rfl rfl)
theorem dX5_passIt_30 : decode cX5_passIt 30 = .ok (.istore 5, 2) := dk_54 5 (dk_at dksX5_passIt_1 6 rfl rfl)
theorem dX5_passIt_32 : decode cX5_passIt 32 = .ok (.iload 5, 2) := dk_21 5 (dk_at dksX5_passIt_1 8 rfl rfl)
theorem dX5_passIt_34 : decode cX5_passIt 34 = .ok (.bipush 20, 2) := dk_16 20 (dk_at dksX5_passIt_1 10 rfl rfl)
theorem dX5_passIt_36 : decode cX5_passIt 36 = .ok (.if_icmp .ge 50, 3) := dk_162 0 50 (dk_at dksX5_passIt_1 12 rfl rfl)
theorem dX5_passIt_39 : decode cX5_passIt 39 = .ok (.aload_n 0, 1) := dk_42 (dk_at dksX5_passIt_1 15 rfl rfl)
theorem dX5_passIt_40 : decode cX5_passIt 40 = .ok (.getfield 13, 3) := dk_180 0 13 (dk_at dksX5_passIt_1 16 rfl rfl)
theorem dX5_passIt_43 : decode cX5_passIt 43 = .ok (.iload 4, 2) := dk_21 4 (dk_at dksX5_passIt_1 19 rfl rfl)
theorem dX5_passIt_45 : decode cX5_passIt 45 = .ok (.iload 5, 2) := dk_21 5 (dk_at dksX5_passIt_1 21 rfl rfl)
theorem dX5_passIt_47 : decode cX5_passIt 47 = .ok (.iadd, 1) := dk_96 (dk_at dksX5_passIt_1 23 rfl rfl)
theorem dX5_passIt_48 : decode cX5_passIt 48 = .ok (.iaload, 1) := dk_46 (dk_at dksX5_passIt_2 0 rfl rfl)
theorem dX5_passIt_49 : decode cX5_passIt 49 = .ok (.i2l, 1) := dk_133 (dk_at dksX5_passIt_2 1 rfl rfl)
theorem dX5_passIt_50 : decode cX5_passIt 50 = .ok (.iload_n 3, 1) := dk_29 (dk_at dksX5_passIt_2 2 rfl rfl)
theorem dX5_passIt_51 : decode cX5_passIt 51 = .ok (.i2l, 1) := dk_133 (dk_at dksX5_passIt_2 3 rfl rfl)
theorem dX5_passIt_52 : decode cX5_passIt 52 = .ok (.lmul, 1) := dk_105 (dk_at dksX5_passIt_2 4 rfl rfl)
theorem dX5_passIt_53 : decode cX5_passIt 53 = .ok (.ldc2_w 164, 3) := dk_20 0 164 (dk_at dksX5_passIt_2 5 rfl rfl)
theorem dX5_passIt_56 : decode cX5_passIt 56 = .ok (.ldiv, 1) := dk_109 (dk_at dksX5_passIt_2 8 rfl rfl)
theorem dX5_passIt_57 : decode cX5_passIt 57 = .ok (.l2i, 1) := dk_136 (dk_at dksX5_passIt_2 9 rfl rfl)
theorem dX5_passIt_58 : decode cX5_passIt 58 = .ok (.istore 6, 2) := dk_54 6 (dk_at dksX5_passIt_2 10 rfl rfl)
theorem dX5_passIt_60 : decode cX5_passIt 60 = .ok (.aload_n 0, 1) := dk_42 (dk_at dksX5_passIt_2 12 rfl rfl)
theorem dX5_passIt_61 : decode cX5_passIt 61 = .ok (.getfield 13, 3) := dk_180 0 13 (dk_at dksX5_passIt_2 13 rfl rfl)
theorem dX5_passIt_64 : decode cX5_passIt 64 = .ok (.iload 4, 2) := dk_21 4 (dk_at dksX5_passIt_2 16 rfl rfl)
theorem dX5_passIt_66 : decode cX5_passIt 66 = .ok (.iload 5, 2) := dk_21 5 (dk_at dksX5_passIt_2 18 rfl rfl)
theorem dX5_passIt_68 : decode cX5_passIt 68 = .ok (.iadd, 1) := dk_96 (dk_at dksX5_passIt_2 20 rfl rfl)
theorem dX5_passIt_69 : decode cX5_passIt 69 = .ok (.dup2, 1) := dk_92 (dk_at dksX5_passIt_2 21 rfl rfl)
theorem dX5_passIt_70 : decode cX5_passIt 70 = .ok (.iaload, 1) := dk_46 (dk_at dksX5_passIt_2 22 rfl rfl)
theorem dX5_passIt_71 : decode cX5_passIt 71 = .ok (.iload 6, 2) := dk_21 6 (dk_at dksX5_passIt_3 0 rfl rfl)
theorem dX5_passIt_73 : decode cX5_passIt 73 = .ok (.isub, 1) := dk_100 (dk_at dksX5_passIt_3 2 rfl rfl)
theorem dX5_passIt_74 : decode cX5_passIt 74 = .ok (.iastore, 1) := dk_79 (dk_at dksX5_passIt_3 3 rfl rfl)
theorem dX5_passIt_75 : decode cX5_passIt 75 = .ok (.iload_n 1, 1) := dk_27 (dk_at dksX5_passIt_3 4 rfl rfl)
theorem dX5_passIt_76 : decode cX5_passIt 76 = .ok (.iload 6, 2) := dk_21 6 (dk_at dksX5_passIt_3 5 rfl rfl)
theorem dX5_passIt_78 : decode cX5_passIt 78 = .ok (.iadd, 1) := dk_96 (dk_at dksX5_passIt_3 7 rfl rfl)
theorem dX5_passIt_79 : decode cX5_passIt 79 = .ok (.istore_n 1, 1) := dk_60 (dk_at dksX5_passIt_3 8 rfl rfl)
theorem dX5_passIt_80 : decode cX5_passIt 80 = .ok (.iinc 5 1, 3) := dk_132 5 1 (dk_at dksX5_passIt_3 9 rfl rfl)
theorem dX5_passIt_83 : decode cX5_passIt 83 = .ok (.goto (-51), 3) := dk_167 255 205 (dk_at dksX5_passIt_3 12 rfl rfl)
theorem dX5_passIt_86 : decode cX5_passIt 86 = .ok (.aload_n 0, 1) := dk_42 (dk_at dksX5_passIt_3 15 rfl rfl)
theorem dX5_passIt_87 : decode cX5_passIt 87 = .ok (.getfield 13, 3) := dk_180 0 13 (dk_at dksX5_passIt_3 16 rfl rfl)
theorem dX5_passIt_90 : decode cX5_passIt 90 = .ok (.iload 4, 2) := dk_21 4 (dk_at dksX5_passIt_3 19 rfl rfl)
theorem dX5_passIt_92 : decode cX5_passIt 92 = .ok (.bipush 19, 2) := dk_16 19 (dk_at dksX5_passIt_3 21 rfl rfl)
theorem dX5_passIt_94 : decode cX5_passIt 94 = .ok (.iadd, 1) := dk_96 (dk_at dksX5_passIt_3 23 rfl rfl)
theorem dX5_passIt_95 : decode cX5_passIt 95 = .ok (.dup2, 1) := dk_92 (dk_at dksX5_passIt_4 0 rfl rfl)
theorem dX5_passIt_96 : decode cX5_passIt 96 = .ok (.iaload, 1) := dk_46 (dk_at dksX5_passIt_4 1 rfl rfl)
theorem dX5_passIt_97 : decode cX5_passIt 97 = .ok (.aload_n 0, 1) := dk_42 (dk_at dksX5_passIt_4 2 rfl rfl)
theorem dX5_passIt_98 : decode cX5_passIt 98 = .ok (.getfield 13, 3) := dk_180 0 13 (dk_at dksX5_passIt_4 3 rfl rfl)
theorem dX5_passIt_101 : decode cX5_passIt 101 = .ok (.iload 4, 2) := dk_21 4 (dk_at dksX5_passIt_4 6 rfl rfl)
theorem dX5_passIt_103 : decode cX5_passIt 103 = .ok (.bipush 19, 2) := dk_16 19 (dk_at dksX5_passIt_4 8 rfl rfl)
theorem dX5_passIt_105 : decode cX5_passIt 105 = .ok (.iadd, 1) := dk_96 (dk_at dksX5_passIt_4 10 rfl rfl)
theorem dX5_passIt_106 : decode cX5_passIt 106 = .ok (.iconst 1, 1) := dk_4 (dk_at dksX5_passIt_4 11 rfl rfl)
theorem dX5_passIt_107 : decode cX5_passIt 107 = .ok (.isub, 1) := dk_100 (dk_at dksX5_passIt_4 12 rfl rfl)
theorem dX5_passIt_108 : decode cX5_passIt 108 = .ok (.iaload, 1) := dk_46 (dk_at dksX5_passIt_4 13 rfl rfl)
theorem dX5_passIt_109 : decode cX5_passIt 109 = .ok (.iadd, 1) := dk_96 (dk_at dksX5_passIt_4 14 rfl rfl)
theorem dX5_passIt_110 : decode cX5_passIt 110 = .ok (.iastore, 1) := dk_79 (dk_at dksX5_passIt_4 15 rfl rfl)
theorem dX5_passIt_111 : decode cX5_passIt 111 = .ok (.bipush 18, 2) := dk_16 18 (dk_at dksX5_passIt_4 16 rfl rfl)
theorem dX5_passIt_113 : decode cX5_passIt 113 = .ok (.istore 5, 2) := dk_54 5 (dk_at dksX5_passIt_4 18 rfl rfl)
theorem dX5_passIt_115 : decode cX5_passIt 115 = .ok (.iload 5, 2) := dk_21 5 (dk_at dksX5_passIt_4 20 rfl rfl)
theorem dX5_passIt_117 : decode cX5_passIt 117 = .ok (.ifCond .le 31, 3) := dk_158 0 31 (dk_at dksX5_passIt_5 0 rfl rfl)
theorem dX5_passIt_120 : decode cX5_passIt 120 = .ok (.aload_n 0, 1) := dk_42 (dk_at dksX5_passIt_5 3 rfl rfl)
theorem dX5_passIt_121 : decode cX5_passIt 121 = .ok (.getfield 13, 3) := dk_180 0 13 (dk_at dksX5_passIt_5 4 rfl rfl)
theorem dX5_passIt_124 : decode cX5_passIt 124 = .ok (.iload 4, 2) := dk_21 4 (dk_at dksX5_passIt_5 7 rfl rfl)
theorem dX5_passIt_126 : decode cX5_passIt 126 = .ok (.iload 5, 2) := dk_21 5 (dk_at dksX5_passIt_5 9 rfl rfl)
theorem dX5_passIt_128 : decode cX5_passIt 128 = .ok (.iadd, 1) := dk_96 (dk_at dksX5_passIt_5 11 rfl rfl)
theorem dX5_passIt_129 : decode cX5_passIt 129 = .ok (.aload_n 0, 1) := dk_42 (dk_at dksX5_passIt_5 12 rfl rfl)
theorem dX5_passIt_130 : decode cX5_passIt 130 = .ok (.getfield 13, 3) := dk_180 0 13 (dk_at dksX5_passIt_5 13 rfl rfl)
theorem dX5_passIt_133 : decode cX5_passIt 133 = .ok (.iload 4, 2) := dk_21 4 (dk_at dksX5_passIt_5 16 rfl rfl)
theorem dX5_passIt_135 : decode cX5_passIt 135 = .ok (.iload 5, 2) := dk_21 5 (dk_at dksX5_passIt_5 18 rfl rfl)
theorem dX5_passIt_137 : decode cX5_passIt 137 = .ok (.iadd, 1) := dk_96 (dk_at dksX5_passIt_5 20 rfl rfl)
theorem dX5_passIt_138 : decode cX5_passIt 138 = .ok (.iconst 1, 1) := dk_4 (dk_at dksX5_passIt_5 21 rfl rfl)
theorem dX5_passIt_139 : decode cX5_passIt 139 = .ok (.isub, 1) := dk_100 (dk_at dksX5_passIt_5 22 rfl rfl)
theorem dX5_passIt_140 : decode cX5_passIt 140 = .ok (.iaload, 1) := dk_46 (dk_at dksX5_passIt_5 23 rfl rfl)
theorem dX5_passIt_141 : decode cX5_passIt 141 = .ok (.iastore, 1) := dk_79 (dk_at dksX5_passIt_6 0 rfl rfl)
theorem dX5_passIt_142 : decode cX5_passIt 142 = .ok (.iinc 5 (-1), 3) := dk_132 5 255 (dk_at dksX5_passIt_6 1 rfl rfl)
theorem dX5_passIt_145 : decode cX5_passIt 145 = .ok (.goto (-30), 3) := dk_167 255 226 (dk_at dksX5_passIt_6 4 rfl rfl)
theorem dX5_passIt_148 : decode cX5_passIt 148 = .ok (.aload_n 0, 1) := dk_42 (dk_at dksX5_passIt_6 7 rfl rfl)
theorem dX5_passIt_149 : decode cX5_passIt 149 = .ok (.getfield 13, 3) := dk_180 0 13 (dk_at dksX5_passIt_6 8 rfl rfl)
theorem dX5_passIt_152 : decode cX5_passIt 152 = .ok (.iload 4, 2) := dk_21 4 (dk_at dksX5_passIt_6 11 rfl rfl)
theorem dX5_passIt_154 : decode cX5_passIt 154 = .ok (.iconst 0, 1) := dk_3 (dk_at dksX5_passIt_6 13 rfl rfl)
theorem dX5_passIt_155 : decode cX5_passIt 155 = .ok (.iastore, 1) := dk_79 (dk_at dksX5_passIt_6 14 rfl rfl)
theorem dX5_passIt_156 : decode cX5_passIt 156 = .ok (.iinc 2 1, 3) := dk_132 2 1 (dk_at dksX5_passIt_6 15 rfl rfl)
theorem dX5_passIt_159 : decode cX5_passIt 159 = .ok (.goto (-155), 3) := dk_167 255 101 (dk_at dksX5_passIt_6 18 rfl rfl)
theorem dX5_passIt_162 : decode cX5_passIt 162 = .ok (.aload_n 0, 1) := dk_42 (dk_at dksX5_passIt_6 21 rfl rfl)
theorem dX5_passIt_163 : decode cX5_passIt 163 = .ok (.getfield 13, 3) := dk_180 0 13 (dk_at dksX5_passIt_7 0 rfl rfl)
theorem dX5_passIt_166 : decode cX5_passIt 166 = .ok (.iconst 5, 1) := dk_8 (dk_at dksX5_passIt_7 3 rfl rfl)
theorem dX5_passIt_167 : decode cX5_passIt 167 = .ok (.dup2, 1) := dk_92 (dk_at dksX5_passIt_7 4 rfl rfl)
theorem dX5_passIt_168 : decode cX5_passIt 168 = .ok (.iaload, 1) := dk_46 (dk_at dksX5_passIt_7 5 rfl rfl)
theorem dX5_passIt_169 : decode cX5_passIt 169 = .ok (.iconst 1, 1) := dk_4 (dk_at dksX5_passIt_7 6 rfl rfl)
theorem dX5_passIt_170 : decode cX5_passIt 170 = .ok (.iadd, 1) := dk_96 (dk_at dksX5_passIt_7 7 rfl rfl)
theorem dX5_passIt_171 : decode cX5_passIt 171 = .ok (.iastore, 1) := dk_79 (dk_at dksX5_passIt_7 8 rfl rfl)
theorem dX5_passIt_172 : decode cX5_passIt 172 = .ok (.iload_n 1, 1) := dk_27 (dk_at dksX5_passIt_7 9 rfl rfl)
theorem dX5_passIt_173 : decode cX5_passIt 173 = .ok (.ireturn, 1) := dk_172 (dk_at dksX5_passIt_7 10 rfl rfl)
abbrev cX5_plan : ByteArray := prog_23_method_92_code
def yX5_plan : MethodName := ⟨RX5, "plan", "()I"⟩
def dkwX5_plan_8 : List UInt8 := [42, 180, 0, 13, 6, 46, 4, 100, 182, 0, 142, 172]
abbrev dktX5_plan_8 : List UInt8 := dkwX5_plan_8 ++ []
def dkwX5_plan_7 : List UInt8 := [42, 180, 0, 48, 28, 46, 79, 132, 2, 1, 167, 255, 203, 42, 180, 0, 13, 6, 92, 46, 4, 96, 79, 42]
abbrev dktX5_plan_7 : List UInt8 := dkwX5_plan_7 ++ dktX5_plan_8
def dkwX5_plan_6 : List UInt8 := [104, 96, 42, 180, 0, 45, 28, 46, 79, 42, 180, 0, 13, 27, 17, 0, 146, 96, 5, 28, 104, 96, 4, 96]
abbrev dktX5_plan_6 : List UInt8 := dkwX5_plan_6 ++ dktX5_plan_7
def dkwX5_plan_5 : List UInt8 := [167, 255, 226, 3, 61, 28, 42, 180, 1, 8, 162, 0, 51, 42, 180, 0, 13, 27, 17, 0, 146, 96, 5, 28]
abbrev dktX5_plan_5 : List UInt8 := dkwX5_plan_5 ++ dktX5_plan_6
def dkwX5_plan_4 : List UInt8 := [162, 0, 25, 42, 180, 0, 13, 27, 5, 96, 28, 96, 42, 180, 0, 118, 28, 46, 79, 132, 2, 1]
abbrev dktX5_plan_4 : List UInt8 := dkwX5_plan_4 ++ dktX5_plan_5
def dkwX5_plan_3 : List UInt8 := [79, 42, 180, 0, 13, 27, 4, 96, 42, 180, 1, 8, 79, 3, 61, 28, 16, 10, 42, 180, 1, 98, 104]
abbrev dktX5_plan_3 : List UInt8 := dkwX5_plan_3 ++ dktX5_plan_4
def dkwX5_plan_2 : List UInt8 := [17, 0, 198, 17, 3, 180, 42, 180, 0, 13, 6, 46, 104, 96, 60, 42, 180, 0, 13, 27, 42, 180, 1, 98]
abbrev dktX5_plan_2 : List UInt8 := dkwX5_plan_2 ++ dktX5_plan_3
def dkwX5_plan_1 : List UInt8 := [182, 0, 142, 172, 42, 182, 1, 225, 42, 180, 0, 229, 153, 0, 10, 42, 16, 250, 182, 0, 142, 172]
abbrev dktX5_plan_1 : List UInt8 := dkwX5_plan_1 ++ dktX5_plan_2
def dkwX5_plan_0 : List UInt8 := [42, 3, 181, 0, 133, 42, 180, 0, 13, 6, 46, 7, 160, 0, 15, 42, 3, 181, 0, 217, 42, 16, 251]
abbrev dktX5_plan_0 : List UInt8 := dkwX5_plan_0 ++ dktX5_plan_1
theorem dksX5_plan_0 : cX5_plan.data.toList.drop 0 = dktX5_plan_0 := by decide +kernel
theorem dksX5_plan_1 : cX5_plan.data.toList.drop 23 = dktX5_plan_1 := dk_seg dksX5_plan_0 23 rfl rfl
theorem dksX5_plan_2 : cX5_plan.data.toList.drop 45 = dktX5_plan_2 := dk_seg dksX5_plan_1 22 rfl rfl
theorem dksX5_plan_3 : cX5_plan.data.toList.drop 69 = dktX5_plan_3 := dk_seg dksX5_plan_2 24 rfl rfl
theorem dksX5_plan_4 : cX5_plan.data.toList.drop 92 = dktX5_plan_4 := dk_seg dksX5_plan_3 23 rfl rfl
theorem dksX5_plan_5 : cX5_plan.data.toList.drop 114 = dktX5_plan_5 := dk_seg dksX5_plan_4 22 rfl rfl
theorem dksX5_plan_6 : cX5_plan.data.toList.drop 138 = dktX5_plan_6 := dk_seg dksX5_plan_5 24 rfl rfl
theorem dksX5_plan_7 : cX5_plan.data.toList.drop 162 = dktX5_plan_7 := dk_seg dksX5_plan_6 24 rfl rfl
theorem dksX5_plan_8 : cX5_plan.data.toList.drop 186 = dktX5_plan_8 := dk_seg dksX5_plan_7 24 rfl rfl
theorem dX5_plan_0 : decode cX5_plan 0 = .ok (.aload_n 0, 1) := dk_42 (dk_at dksX5_plan_0 0 rfl rfl)
theorem dX5_plan_1 : decode cX5_plan 1 = .ok (.iconst 0, 1) := dk_3 (dk_at dksX5_plan_0 1 rfl rfl)
theorem dX5_plan_2 : decode cX5_plan 2 = .ok (.putfield 133, 3) := dk_181 0 133 (dk_at dksX5_plan_0 2 rfl rfl)
theorem dX5_plan_5 : decode cX5_plan 5 = .ok (.aload_n 0, 1) := dk_42 (dk_at dksX5_plan_0 5 rfl rfl)
theorem dX5_plan_6 : decode cX5_plan 6 = .ok (.getfield 13, 3) := dk_180 0 13 (dk_at dksX5_plan_0 6 rfl rfl)
theorem dX5_plan_9 : decode cX5_plan 9 = .ok (.iconst 3, 1) := dk_6 (dk_at dksX5_plan_0 9 rfl rfl)
theorem dX5_plan_10 : decode cX5_plan 10 = .ok (.iaload, 1) := dk_46 (dk_at dksX5_plan_0 10 rfl rfl)
theorem dX5_plan_11 : decode cX5_plan 11 = .ok (.iconst 4, 1) := dk_7 (dk_at dksX5_plan_0 11 rfl rfl)
theorem dX5_plan_12 : decode cX5_plan 12 = .ok (.if_icmp .ne 15, 3) := dk_160 0 15 (dk_at dksX5_plan_0 12 rfl rfl)
theorem dX5_plan_15 : decode cX5_plan 15 = .ok (.aload_n 0, 1) := dk_42 (dk_at dksX5_plan_0 15 rfl rfl)
theorem dX5_plan_16 : decode cX5_plan 16 = .ok (.iconst 0, 1) := dk_3 (dk_at dksX5_plan_0 16 rfl rfl)
theorem dX5_plan_17 : decode cX5_plan 17 = .ok (.putfield 217, 3) := dk_181 0 217 (dk_at dksX5_plan_0 17 rfl rfl)
theorem dX5_plan_20 : decode cX5_plan 20 = .ok (.aload_n 0, 1) := dk_42 (dk_at dksX5_plan_0 20 rfl rfl)
theorem dX5_plan_21 : decode cX5_plan 21 = .ok (.bipush (-5), 2) := dk_16 251 (dk_at dksX5_plan_0 21 rfl rfl)
theorem dX5_plan_23 : decode cX5_plan 23 = .ok (.invokevirtual 142, 3) := dk_182 0 142 (dk_at dksX5_plan_1 0 rfl rfl)
theorem dX5_plan_26 : decode cX5_plan 26 = .ok (.ireturn, 1) := dk_172 (dk_at dksX5_plan_1 3 rfl rfl)
theorem dX5_plan_27 : decode cX5_plan 27 = .ok (.aload_n 0, 1) := dk_42 (dk_at dksX5_plan_1 4 rfl rfl)
theorem dX5_plan_28 : decode cX5_plan 28 = .ok (.invokevirtual 481, 3) := dk_182 1 225 (dk_at dksX5_plan_1 5 rfl rfl)
theorem dX5_plan_31 : decode cX5_plan 31 = .ok (.aload_n 0, 1) := dk_42 (dk_at dksX5_plan_1 8 rfl rfl)
theorem dX5_plan_32 : decode cX5_plan 32 = .ok (.getfield 229, 3) := dk_180 0 229 (dk_at dksX5_plan_1 9 rfl rfl)
theorem dX5_plan_35 : decode cX5_plan 35 = .ok (.ifCond .eq 10, 3) := dk_153 0 10 (dk_at dksX5_plan_1 12 rfl rfl)
theorem dX5_plan_38 : decode cX5_plan 38 = .ok (.aload_n 0, 1) := dk_42 (dk_at dksX5_plan_1 15 rfl rfl)
theorem dX5_plan_39 : decode cX5_plan 39 = .ok (.bipush (-6), 2) := dk_16 250 (dk_at dksX5_plan_1 16 rfl rfl)
theorem dX5_plan_41 : decode cX5_plan 41 = .ok (.invokevirtual 142, 3) := dk_182 0 142 (dk_at dksX5_plan_1 18 rfl rfl)
theorem dX5_plan_44 : decode cX5_plan 44 = .ok (.ireturn, 1) := dk_172 (dk_at dksX5_plan_1 21 rfl rfl)
theorem dX5_plan_45 : decode cX5_plan 45 = .ok (.sipush 198, 3) := dk_17 0 198 (dk_at dksX5_plan_2 0 rfl rfl)
theorem dX5_plan_48 : decode cX5_plan 48 = .ok (.sipush 948, 3) := dk_17 3 180 (dk_at dksX5_plan_2 3 rfl rfl)
theorem dX5_plan_51 : decode cX5_plan 51 = .ok (.aload_n 0, 1) := dk_42 (dk_at dksX5_plan_2 6 rfl rfl)
theorem dX5_plan_52 : decode cX5_plan 52 = .ok (.getfield 13, 3) := dk_180 0 13 (dk_at dksX5_plan_2 7 rfl rfl)
theorem dX5_plan_55 : decode cX5_plan 55 = .ok (.iconst 3, 1) := dk_6 (dk_at dksX5_plan_2 10 rfl rfl)
theorem dX5_plan_56 : decode cX5_plan 56 = .ok (.iaload, 1) := dk_46 (dk_at dksX5_plan_2 11 rfl rfl)
theorem dX5_plan_57 : decode cX5_plan 57 = .ok (.imul, 1) := dk_104 (dk_at dksX5_plan_2 12 rfl rfl)
theorem dX5_plan_58 : decode cX5_plan 58 = .ok (.iadd, 1) := dk_96 (dk_at dksX5_plan_2 13 rfl rfl)
theorem dX5_plan_59 : decode cX5_plan 59 = .ok (.istore_n 1, 1) := dk_60 (dk_at dksX5_plan_2 14 rfl rfl)
theorem dX5_plan_60 : decode cX5_plan 60 = .ok (.aload_n 0, 1) := dk_42 (dk_at dksX5_plan_2 15 rfl rfl)
theorem dX5_plan_61 : decode cX5_plan 61 = .ok (.getfield 13, 3) := dk_180 0 13 (dk_at dksX5_plan_2 16 rfl rfl)
theorem dX5_plan_64 : decode cX5_plan 64 = .ok (.iload_n 1, 1) := dk_27 (dk_at dksX5_plan_2 19 rfl rfl)
theorem dX5_plan_65 : decode cX5_plan 65 = .ok (.aload_n 0, 1) := dk_42 (dk_at dksX5_plan_2 20 rfl rfl)
theorem dX5_plan_66 : decode cX5_plan 66 = .ok (.getfield 354, 3) := dk_180 1 98 (dk_at dksX5_plan_2 21 rfl rfl)
theorem dX5_plan_69 : decode cX5_plan 69 = .ok (.iastore, 1) := dk_79 (dk_at dksX5_plan_3 0 rfl rfl)
theorem dX5_plan_70 : decode cX5_plan 70 = .ok (.aload_n 0, 1) := dk_42 (dk_at dksX5_plan_3 1 rfl rfl)
theorem dX5_plan_71 : decode cX5_plan 71 = .ok (.getfield 13, 3) := dk_180 0 13 (dk_at dksX5_plan_3 2 rfl rfl)
theorem dX5_plan_74 : decode cX5_plan 74 = .ok (.iload_n 1, 1) := dk_27 (dk_at dksX5_plan_3 5 rfl rfl)
theorem dX5_plan_75 : decode cX5_plan 75 = .ok (.iconst 1, 1) := dk_4 (dk_at dksX5_plan_3 6 rfl rfl)
theorem dX5_plan_76 : decode cX5_plan 76 = .ok (.iadd, 1) := dk_96 (dk_at dksX5_plan_3 7 rfl rfl)
theorem dX5_plan_77 : decode cX5_plan 77 = .ok (.aload_n 0, 1) := dk_42 (dk_at dksX5_plan_3 8 rfl rfl)
theorem dX5_plan_78 : decode cX5_plan 78 = .ok (.getfield 264, 3) := dk_180 1 8 (dk_at dksX5_plan_3 9 rfl rfl)
theorem dX5_plan_81 : decode cX5_plan 81 = .ok (.iastore, 1) := dk_79 (dk_at dksX5_plan_3 12 rfl rfl)
theorem dX5_plan_82 : decode cX5_plan 82 = .ok (.iconst 0, 1) := dk_3 (dk_at dksX5_plan_3 13 rfl rfl)
theorem dX5_plan_83 : decode cX5_plan 83 = .ok (.istore_n 2, 1) := dk_61 (dk_at dksX5_plan_3 14 rfl rfl)
theorem dX5_plan_84 : decode cX5_plan 84 = .ok (.iload_n 2, 1) := dk_28 (dk_at dksX5_plan_3 15 rfl rfl)
theorem dX5_plan_85 : decode cX5_plan 85 = .ok (.bipush 10, 2) := dk_16 10 (dk_at dksX5_plan_3 16 rfl rfl)
theorem dX5_plan_87 : decode cX5_plan 87 = .ok (.aload_n 0, 1) := dk_42 (dk_at dksX5_plan_3 18 rfl rfl)
theorem dX5_plan_88 : decode cX5_plan 88 = .ok (.getfield 354, 3) := dk_180 1 98 (dk_at dksX5_plan_3 19 rfl rfl)
theorem dX5_plan_91 : decode cX5_plan 91 = .ok (.imul, 1) := dk_104 (dk_at dksX5_plan_3 22 rfl rfl)
theorem dX5_plan_92 : decode cX5_plan 92 = .ok (.if_icmp .ge 25, 3) := dk_162 0 25 (dk_at dksX5_plan_4 0 rfl rfl)
theorem dX5_plan_95 : decode cX5_plan 95 = .ok (.aload_n 0, 1) := dk_42 (dk_at dksX5_plan_4 3 rfl rfl)
theorem dX5_plan_96 : decode cX5_plan 96 = .ok (.getfield 13, 3) := dk_180 0 13 (dk_at dksX5_plan_4 4 rfl rfl)
theorem dX5_plan_99 : decode cX5_plan 99 = .ok (.iload_n 1, 1) := dk_27 (dk_at dksX5_plan_4 7 rfl rfl)
theorem dX5_plan_100 : decode cX5_plan 100 = .ok (.iconst 2, 1) := dk_5 (dk_at dksX5_plan_4 8 rfl rfl)
theorem dX5_plan_101 : decode cX5_plan 101 = .ok (.iadd, 1) := dk_96 (dk_at dksX5_plan_4 9 rfl rfl)
theorem dX5_plan_102 : decode cX5_plan 102 = .ok (.iload_n 2, 1) := dk_28 (dk_at dksX5_plan_4 10 rfl rfl)
theorem dX5_plan_103 : decode cX5_plan 103 = .ok (.iadd, 1) := dk_96 (dk_at dksX5_plan_4 11 rfl rfl)
theorem dX5_plan_104 : decode cX5_plan 104 = .ok (.aload_n 0, 1) := dk_42 (dk_at dksX5_plan_4 12 rfl rfl)
theorem dX5_plan_105 : decode cX5_plan 105 = .ok (.getfield 118, 3) := dk_180 0 118 (dk_at dksX5_plan_4 13 rfl rfl)
theorem dX5_plan_108 : decode cX5_plan 108 = .ok (.iload_n 2, 1) := dk_28 (dk_at dksX5_plan_4 16 rfl rfl)
theorem dX5_plan_109 : decode cX5_plan 109 = .ok (.iaload, 1) := dk_46 (dk_at dksX5_plan_4 17 rfl rfl)
theorem dX5_plan_110 : decode cX5_plan 110 = .ok (.iastore, 1) := dk_79 (dk_at dksX5_plan_4 18 rfl rfl)
theorem dX5_plan_111 : decode cX5_plan 111 = .ok (.iinc 2 1, 3) := dk_132 2 1 (dk_at dksX5_plan_4 19 rfl rfl)
theorem dX5_plan_114 : decode cX5_plan 114 = .ok (.goto (-30), 3) := dk_167 255 226 (dk_at dksX5_plan_5 0 rfl rfl)
theorem dX5_plan_117 : decode cX5_plan 117 = .ok (.iconst 0, 1) := dk_3 (dk_at dksX5_plan_5 3 rfl rfl)
theorem dX5_plan_118 : decode cX5_plan 118 = .ok (.istore_n 2, 1) := dk_61 (dk_at dksX5_plan_5 4 rfl rfl)
theorem dX5_plan_119 : decode cX5_plan 119 = .ok (.iload_n 2, 1) := dk_28 (dk_at dksX5_plan_5 5 rfl rfl)
theorem dX5_plan_120 : decode cX5_plan 120 = .ok (.aload_n 0, 1) := dk_42 (dk_at dksX5_plan_5 6 rfl rfl)
theorem dX5_plan_121 : decode cX5_plan 121 = .ok (.getfield 264, 3) := dk_180 1 8 (dk_at dksX5_plan_5 7 rfl rfl)
theorem dX5_plan_124 : decode cX5_plan 124 = .ok (.if_icmp .ge 51, 3) := dk_162 0 51 (dk_at dksX5_plan_5 10 rfl rfl)
theorem dX5_plan_127 : decode cX5_plan 127 = .ok (.aload_n 0, 1) := dk_42 (dk_at dksX5_plan_5 13 rfl rfl)
theorem dX5_plan_128 : decode cX5_plan 128 = .ok (.getfield 13, 3) := dk_180 0 13 (dk_at dksX5_plan_5 14 rfl rfl)
theorem dX5_plan_131 : decode cX5_plan 131 = .ok (.iload_n 1, 1) := dk_27 (dk_at dksX5_plan_5 17 rfl rfl)
theorem dX5_plan_132 : decode cX5_plan 132 = .ok (.sipush 146, 3) := dk_17 0 146 (dk_at dksX5_plan_5 18 rfl rfl)
theorem dX5_plan_135 : decode cX5_plan 135 = .ok (.iadd, 1) := dk_96 (dk_at dksX5_plan_5 21 rfl rfl)
theorem dX5_plan_136 : decode cX5_plan 136 = .ok (.iconst 2, 1) := dk_5 (dk_at dksX5_plan_5 22 rfl rfl)
theorem dX5_plan_137 : decode cX5_plan 137 = .ok (.iload_n 2, 1) := dk_28 (dk_at dksX5_plan_5 23 rfl rfl)
theorem dX5_plan_138 : decode cX5_plan 138 = .ok (.imul, 1) := dk_104 (dk_at dksX5_plan_6 0 rfl rfl)
theorem dX5_plan_139 : decode cX5_plan 139 = .ok (.iadd, 1) := dk_96 (dk_at dksX5_plan_6 1 rfl rfl)
theorem dX5_plan_140 : decode cX5_plan 140 = .ok (.aload_n 0, 1) := dk_42 (dk_at dksX5_plan_6 2 rfl rfl)
theorem dX5_plan_141 : decode cX5_plan 141 = .ok (.getfield 45, 3) := dk_180 0 45 (dk_at dksX5_plan_6 3 rfl rfl)
theorem dX5_plan_144 : decode cX5_plan 144 = .ok (.iload_n 2, 1) := dk_28 (dk_at dksX5_plan_6 6 rfl rfl)
theorem dX5_plan_145 : decode cX5_plan 145 = .ok (.iaload, 1) := dk_46 (dk_at dksX5_plan_6 7 rfl rfl)
theorem dX5_plan_146 : decode cX5_plan 146 = .ok (.iastore, 1) := dk_79 (dk_at dksX5_plan_6 8 rfl rfl)
theorem dX5_plan_147 : decode cX5_plan 147 = .ok (.aload_n 0, 1) := dk_42 (dk_at dksX5_plan_6 9 rfl rfl)
theorem dX5_plan_148 : decode cX5_plan 148 = .ok (.getfield 13, 3) := dk_180 0 13 (dk_at dksX5_plan_6 10 rfl rfl)
theorem dX5_plan_151 : decode cX5_plan 151 = .ok (.iload_n 1, 1) := dk_27 (dk_at dksX5_plan_6 13 rfl rfl)
theorem dX5_plan_152 : decode cX5_plan 152 = .ok (.sipush 146, 3) := dk_17 0 146 (dk_at dksX5_plan_6 14 rfl rfl)
theorem dX5_plan_155 : decode cX5_plan 155 = .ok (.iadd, 1) := dk_96 (dk_at dksX5_plan_6 17 rfl rfl)
theorem dX5_plan_156 : decode cX5_plan 156 = .ok (.iconst 2, 1) := dk_5 (dk_at dksX5_plan_6 18 rfl rfl)
theorem dX5_plan_157 : decode cX5_plan 157 = .ok (.iload_n 2, 1) := dk_28 (dk_at dksX5_plan_6 19 rfl rfl)
theorem dX5_plan_158 : decode cX5_plan 158 = .ok (.imul, 1) := dk_104 (dk_at dksX5_plan_6 20 rfl rfl)
theorem dX5_plan_159 : decode cX5_plan 159 = .ok (.iadd, 1) := dk_96 (dk_at dksX5_plan_6 21 rfl rfl)
theorem dX5_plan_160 : decode cX5_plan 160 = .ok (.iconst 1, 1) := dk_4 (dk_at dksX5_plan_6 22 rfl rfl)
theorem dX5_plan_161 : decode cX5_plan 161 = .ok (.iadd, 1) := dk_96 (dk_at dksX5_plan_6 23 rfl rfl)
theorem dX5_plan_162 : decode cX5_plan 162 = .ok (.aload_n 0, 1) := dk_42 (dk_at dksX5_plan_7 0 rfl rfl)
theorem dX5_plan_163 : decode cX5_plan 163 = .ok (.getfield 48, 3) := dk_180 0 48 (dk_at dksX5_plan_7 1 rfl rfl)
theorem dX5_plan_166 : decode cX5_plan 166 = .ok (.iload_n 2, 1) := dk_28 (dk_at dksX5_plan_7 4 rfl rfl)
theorem dX5_plan_167 : decode cX5_plan 167 = .ok (.iaload, 1) := dk_46 (dk_at dksX5_plan_7 5 rfl rfl)
theorem dX5_plan_168 : decode cX5_plan 168 = .ok (.iastore, 1) := dk_79 (dk_at dksX5_plan_7 6 rfl rfl)
theorem dX5_plan_169 : decode cX5_plan 169 = .ok (.iinc 2 1, 3) := dk_132 2 1 (dk_at dksX5_plan_7 7 rfl rfl)
theorem dX5_plan_172 : decode cX5_plan 172 = .ok (.goto (-53), 3) := dk_167 255 203 (dk_at dksX5_plan_7 10 rfl rfl)
theorem dX5_plan_175 : decode cX5_plan 175 = .ok (.aload_n 0, 1) := dk_42 (dk_at dksX5_plan_7 13 rfl rfl)
theorem dX5_plan_176 : decode cX5_plan 176 = .ok (.getfield 13, 3) := dk_180 0 13 (dk_at dksX5_plan_7 14 rfl rfl)
theorem dX5_plan_179 : decode cX5_plan 179 = .ok (.iconst 3, 1) := dk_6 (dk_at dksX5_plan_7 17 rfl rfl)
theorem dX5_plan_180 : decode cX5_plan 180 = .ok (.dup2, 1) := dk_92 (dk_at dksX5_plan_7 18 rfl rfl)
theorem dX5_plan_181 : decode cX5_plan 181 = .ok (.iaload, 1) := dk_46 (dk_at dksX5_plan_7 19 rfl rfl)
theorem dX5_plan_182 : decode cX5_plan 182 = .ok (.iconst 1, 1) := dk_4 (dk_at dksX5_plan_7 20 rfl rfl)
theorem dX5_plan_183 : decode cX5_plan 183 = .ok (.iadd, 1) := dk_96 (dk_at dksX5_plan_7 21 rfl rfl)
theorem dX5_plan_184 : decode cX5_plan 184 = .ok (.iastore, 1) := dk_79 (dk_at dksX5_plan_7 22 rfl rfl)
theorem dX5_plan_185 : decode cX5_plan 185 = .ok (.aload_n 0, 1) := dk_42 (dk_at dksX5_plan_7 23 rfl rfl)
theorem dX5_plan_186 : decode cX5_plan 186 = .ok (.aload_n 0, 1) := dk_42 (dk_at dksX5_plan_8 0 rfl rfl)
theorem dX5_plan_187 : decode cX5_plan 187 = .ok (.getfield 13, 3) := dk_180 0 13 (dk_at dksX5_plan_8 1 rfl rfl)
theorem dX5_plan_190 : decode cX5_plan 190 = .ok (.iconst 3, 1) := dk_6 (dk_at dksX5_plan_8 4 rfl rfl)
theorem dX5_plan_191 : decode cX5_plan 191 = .ok (.iaload, 1) := dk_46 (dk_at dksX5_plan_8 5 rfl rfl)
theorem dX5_plan_192 : decode cX5_plan 192 = .ok (.iconst 1, 1) := dk_4 (dk_at dksX5_plan_8 6 rfl rfl)
theorem dX5_plan_193 : decode cX5_plan 193 = .ok (.isub, 1) := dk_100 (dk_at dksX5_plan_8 7 rfl rfl)
theorem dX5_plan_194 : decode cX5_plan 194 = .ok (.invokevirtual 142, 3) := dk_182 0 142 (dk_at dksX5_plan_8 8 rfl rfl)
theorem dX5_plan_197 : decode cX5_plan 197 = .ok (.ireturn, 1) := dk_172 (dk_at dksX5_plan_8 11 rfl rfl)
abbrev cX5_readOrders : ByteArray := prog_23_method_91_code
def yX5_readOrders : MethodName := ⟨RX5, "readOrders", "()V"⟩
def dkwX5_readOrders_1 : List UInt8 := [153, 0, 14, 42, 182, 0, 233, 42, 182, 1, 222, 167, 255, 232, 42, 182, 1, 112, 177]
abbrev dktX5_readOrders_1 : List UInt8 := dkwX5_readOrders_1 ++ []
def dkwX5_readOrders_0 : List UInt8 := [42, 4, 182, 1, 106, 42, 182, 1, 222, 42, 180, 0, 229, 154, 0, 23, 42, 16, 59, 182, 1, 40]
abbrev dktX5_readOrders_0 : List UInt8 := dkwX5_readOrders_0 ++ dktX5_readOrders_1
theorem dksX5_readOrders_0 : cX5_readOrders.data.toList.drop 0 = dktX5_readOrders_0 := by decide +kernel
theorem dksX5_readOrders_1 : cX5_readOrders.data.toList.drop 22 = dktX5_readOrders_1 := dk_seg dksX5_readOrders_0 22 rfl rfl
theorem dX5_readOrders_0 : decode cX5_readOrders 0 = .ok (.aload_n 0, 1) := dk_42 (dk_at dksX5_readOrders_0 0 rfl rfl)
theorem dX5_readOrders_1 : decode cX5_readOrders 1 = .ok (.iconst 1, 1) := dk_4 (dk_at dksX5_readOrders_0 1 rfl rfl)
theorem dX5_readOrders_2 : decode cX5_readOrders 2 = .ok (.invokevirtual 362, 3) := dk_182 1 106 (dk_at dksX5_readOrders_0 2 rfl rfl)
theorem dX5_readOrders_5 : decode cX5_readOrders 5 = .ok (.aload_n 0, 1) := dk_42 (dk_at dksX5_readOrders_0 5 rfl rfl)
theorem dX5_readOrders_6 : decode cX5_readOrders 6 = .ok (.invokevirtual 478, 3) := dk_182 1 222 (dk_at dksX5_readOrders_0 6 rfl rfl)
theorem dX5_readOrders_9 : decode cX5_readOrders 9 = .ok (.aload_n 0, 1) := dk_42 (dk_at dksX5_readOrders_0 9 rfl rfl)
theorem dX5_readOrders_10 : decode cX5_readOrders 10 = .ok (.getfield 229, 3) := dk_180 0 229 (dk_at dksX5_readOrders_0 10 rfl rfl)
theorem dX5_readOrders_13 : decode cX5_readOrders 13 = .ok (.ifCond .ne 23, 3) := dk_154 0 23 (dk_at dksX5_readOrders_0 13 rfl rfl)
theorem dX5_readOrders_16 : decode cX5_readOrders 16 = .ok (.aload_n 0, 1) := dk_42 (dk_at dksX5_readOrders_0 16 rfl rfl)
theorem dX5_readOrders_17 : decode cX5_readOrders 17 = .ok (.bipush 59, 2) := dk_16 59 (dk_at dksX5_readOrders_0 17 rfl rfl)
theorem dX5_readOrders_19 : decode cX5_readOrders 19 = .ok (.invokevirtual 296, 3) := dk_182 1 40 (dk_at dksX5_readOrders_0 19 rfl rfl)
theorem dX5_readOrders_22 : decode cX5_readOrders 22 = .ok (.ifCond .eq 14, 3) := dk_153 0 14 (dk_at dksX5_readOrders_1 0 rfl rfl)
theorem dX5_readOrders_25 : decode cX5_readOrders 25 = .ok (.aload_n 0, 1) := dk_42 (dk_at dksX5_readOrders_1 3 rfl rfl)
theorem dX5_readOrders_26 : decode cX5_readOrders 26 = .ok (.invokevirtual 233, 3) := dk_182 0 233 (dk_at dksX5_readOrders_1 4 rfl rfl)
theorem dX5_readOrders_29 : decode cX5_readOrders 29 = .ok (.aload_n 0, 1) := dk_42 (dk_at dksX5_readOrders_1 7 rfl rfl)
theorem dX5_readOrders_30 : decode cX5_readOrders 30 = .ok (.invokevirtual 478, 3) := dk_182 1 222 (dk_at dksX5_readOrders_1 8 rfl rfl)
theorem dX5_readOrders_33 : decode cX5_readOrders 33 = .ok (.goto (-24), 3) := dk_167 255 232 (dk_at dksX5_readOrders_1 11 rfl rfl)
theorem dX5_readOrders_36 : decode cX5_readOrders 36 = .ok (.aload_n 0, 1) := dk_42 (dk_at dksX5_readOrders_1 14 rfl rfl)
theorem dX5_readOrders_37 : decode cX5_readOrders 37 = .ok (.invokevirtual 368, 3) := dk_182 1 112 (dk_at dksX5_readOrders_1 15 rfl rfl)
theorem dX5_readOrders_40 : decode cX5_readOrders 40 = .ok (.return_, 1) := dk_177 (dk_at dksX5_readOrders_1 18 rfl rfl)
abbrev cX5_readOrder : ByteArray := prog_23_method_90_code
def yX5_readOrder : MethodName := ⟨RX5, "readOrder", "()V"⟩
def dkwX5_readOrder_11 : List UInt8 := [16, 8, 96, 42, 180, 1, 8, 79, 177]
abbrev dktX5_readOrder_11 : List UInt8 := dkwX5_readOrder_11 ++ []
def dkwX5_readOrder_10 : List UInt8 := [42, 20, 1, 104, 182, 1, 27, 153, 0, 12, 42, 182, 0, 233, 42, 4, 182, 1, 101, 42, 180, 0, 118, 28]
abbrev dktX5_readOrder_10 : List UInt8 := dkwX5_readOrder_10 ++ dktX5_readOrder_11
def dkwX5_readOrder_9 : List UInt8 := [182, 1, 62, 79, 42, 180, 0, 118, 28, 16, 7, 96, 42, 180, 1, 8, 79, 42, 180, 0, 229, 154, 0, 22]
abbrev dktX5_readOrder_9 : List UInt8 := dkwX5_readOrder_9 ++ dktX5_readOrder_10
def dkwX5_readOrder_8 : List UInt8 := [182, 1, 27, 153, 0, 24, 42, 182, 0, 233, 42, 180, 0, 118, 28, 16, 9, 96, 42, 10, 20, 1, 21]
abbrev dktX5_readOrder_8 : List UInt8 := dkwX5_readOrder_8 ++ dktX5_readOrder_9
def dkwX5_readOrder_7 : List UInt8 := [182, 1, 214, 42, 180, 0, 118, 28, 16, 9, 96, 4, 79, 42, 180, 0, 229, 154, 0, 34, 42, 20, 1, 220]
abbrev dktX5_readOrder_7 : List UInt8 := dkwX5_readOrder_7 ++ dktX5_readOrder_8
def dkwX5_readOrder_6 : List UInt8 := [28, 6, 96, 182, 1, 214, 27, 4, 159, 0, 7, 27, 154, 0, 13, 42, 20, 1, 218, 28, 8, 96]
abbrev dktX5_readOrder_6 : List UInt8 := dkwX5_readOrder_6 ++ dktX5_readOrder_7
def dkwX5_readOrder_5 : List UInt8 := [159, 0, 10, 42, 28, 4, 96, 182, 1, 209, 27, 4, 159, 0, 8, 27, 5, 160, 0, 13, 42, 20, 1, 212]
abbrev dktX5_readOrder_5 : List UInt8 := dkwX5_readOrder_5 ++ dktX5_readOrder_6
def dkwX5_readOrder_4 : List UInt8 := [180, 0, 118, 28, 29, 96, 3, 79, 132, 3, 1, 167, 255, 238, 42, 180, 0, 118, 28, 27, 79, 27, 6]
abbrev dktX5_readOrder_4 : List UInt8 := dkwX5_readOrder_4 ++ dktX5_readOrder_5
def dkwX5_readOrder_3 : List UInt8 := [180, 1, 98, 104, 61, 42, 89, 180, 1, 98, 4, 96, 181, 1, 98, 3, 62, 29, 16, 10, 162, 0, 18, 42]
abbrev dktX5_readOrder_3 : List UInt8 := dkwX5_readOrder_3 ++ dktX5_readOrder_4
def dkwX5_readOrder_2 : List UInt8 := [162, 0, 7, 4, 167, 0, 4, 3, 182, 1, 4, 42, 180, 0, 229, 153, 0, 4, 177, 16, 10, 42]
abbrev dktX5_readOrder_2 : List UInt8 := dkwX5_readOrder_2 ++ dktX5_readOrder_3
def dkwX5_readOrder_1 : List UInt8 := [167, 0, 4, 27, 60, 132, 2, 1, 167, 255, 229, 42, 27, 2, 159, 0, 16, 42, 180, 1, 98, 16, 12]
abbrev dktX5_readOrder_1 : List UInt8 := dkwX5_readOrder_1 ++ dktX5_readOrder_2
def dkwX5_readOrder_0 : List UInt8 := [2, 60, 3, 61, 28, 7, 162, 0, 28, 42, 42, 180, 0, 115, 28, 47, 182, 1, 27, 153, 0, 7, 28]
abbrev dktX5_readOrder_0 : List UInt8 := dkwX5_readOrder_0 ++ dktX5_readOrder_1
theorem dksX5_readOrder_0 : cX5_readOrder.data.toList.drop 0 = dktX5_readOrder_0 := by decide +kernel
theorem dksX5_readOrder_1 : cX5_readOrder.data.toList.drop 23 = dktX5_readOrder_1 := dk_seg dksX5_readOrder_0 23 rfl rfl
theorem dksX5_readOrder_2 : cX5_readOrder.data.toList.drop 46 = dktX5_readOrder_2 := dk_seg dksX5_readOrder_1 23 rfl rfl
theorem dksX5_readOrder_3 : cX5_readOrder.data.toList.drop 68 = dktX5_readOrder_3 := dk_seg dksX5_readOrder_2 22 rfl rfl
theorem dksX5_readOrder_4 : cX5_readOrder.data.toList.drop 92 = dktX5_readOrder_4 := dk_seg dksX5_readOrder_3 24 rfl rfl
theorem dksX5_readOrder_5 : cX5_readOrder.data.toList.drop 115 = dktX5_readOrder_5 := dk_seg dksX5_readOrder_4 23 rfl rfl
theorem dksX5_readOrder_6 : cX5_readOrder.data.toList.drop 139 = dktX5_readOrder_6 := dk_seg dksX5_readOrder_5 24 rfl rfl
theorem dksX5_readOrder_7 : cX5_readOrder.data.toList.drop 161 = dktX5_readOrder_7 := dk_seg dksX5_readOrder_6 22 rfl rfl
theorem dksX5_readOrder_8 : cX5_readOrder.data.toList.drop 185 = dktX5_readOrder_8 := dk_seg dksX5_readOrder_7 24 rfl rfl
theorem dksX5_readOrder_9 : cX5_readOrder.data.toList.drop 208 = dktX5_readOrder_9 := dk_seg dksX5_readOrder_8 23 rfl rfl
theorem dksX5_readOrder_10 : cX5_readOrder.data.toList.drop 232 = dktX5_readOrder_10 := dk_seg dksX5_readOrder_9 24 rfl rfl
theorem dksX5_readOrder_11 : cX5_readOrder.data.toList.drop 256 = dktX5_readOrder_11 := dk_seg dksX5_readOrder_10 24 rfl rfl
theorem dX5_readOrder_0 : decode cX5_readOrder 0 = .ok (.iconst (-1), 1) := dk_2 (dk_at dksX5_readOrder_0 0 rfl rfl)
theorem dX5_readOrder_1 : decode cX5_readOrder 1 = .ok (.istore_n 1, 1) := dk_60 (dk_at dksX5_readOrder_0 1 rfl rfl)
theorem dX5_readOrder_2 : decode cX5_readOrder 2 = .ok (.iconst 0, 1) := dk_3 (dk_at dksX5_readOrder_0 2 rfl rfl)
theorem dX5_readOrder_3 : decode cX5_readOrder 3 = .ok (.istore_n 2, 1) := dk_61 (dk_at dksX5_readOrder_0 3 rfl rfl)
theorem dX5_readOrder_4 : decode cX5_readOrder 4 = .ok (.iload_n 2, 1) := dk_28 (dk_at dksX5_readOrder_0 4 rfl rfl)
theorem dX5_readOrder_5 : decode cX5_readOrder 5 = .ok (.iconst 4, 1) := dk_7 (dk_at dksX5_readOrder_0 5 rfl rfl)
theorem dX5_readOrder_6 : decode cX5_readOrder 6 = .ok (.if_icmp .ge 28, 3) := dk_162 0 28 (dk_at dksX5_readOrder_0 6 rfl rfl)
theorem dX5_readOrder_9 : decode cX5_readOrder 9 = .ok (.aload_n 0, 1) := dk_42 (dk_at dksX5_readOrder_0 9 rfl rfl)
theorem dX5_readOrder_10 : decode cX5_readOrder 10 = .ok (.aload_n 0, 1) := dk_42 (dk_at dksX5_readOrder_0 10 rfl rfl)
theorem dX5_readOrder_11 : decode cX5_readOrder 11 = .ok (.getfield 115, 3) := dk_180 0 115 (dk_at dksX5_readOrder_0 11 rfl rfl)
theorem dX5_readOrder_14 : decode cX5_readOrder 14 = .ok (.iload_n 2, 1) := dk_28 (dk_at dksX5_readOrder_0 14 rfl rfl)
theorem dX5_readOrder_15 : decode cX5_readOrder 15 = .ok (.laload, 1) := dk_47 (dk_at dksX5_readOrder_0 15 rfl rfl)
theorem dX5_readOrder_16 : decode cX5_readOrder 16 = .ok (.invokevirtual 283, 3) := dk_182 1 27 (dk_at dksX5_readOrder_0 16 rfl rfl)
theorem dX5_readOrder_19 : decode cX5_readOrder 19 = .ok (.ifCond .eq 7, 3) := dk_153 0 7 (dk_at dksX5_readOrder_0 19 rfl rfl)
theorem dX5_readOrder_22 : decode cX5_readOrder 22 = .ok (.iload_n 2, 1) := dk_28 (dk_at dksX5_readOrder_0 22 rfl rfl)
theorem dX5_readOrder_23 : decode cX5_readOrder 23 = .ok (.goto 4, 3) := dk_167 0 4 (dk_at dksX5_readOrder_1 0 rfl rfl)
theorem dX5_readOrder_26 : decode cX5_readOrder 26 = .ok (.iload_n 1, 1) := dk_27 (dk_at dksX5_readOrder_1 3 rfl rfl)
theorem dX5_readOrder_27 : decode cX5_readOrder 27 = .ok (.istore_n 1, 1) := dk_60 (dk_at dksX5_readOrder_1 4 rfl rfl)
theorem dX5_readOrder_28 : decode cX5_readOrder 28 = .ok (.iinc 2 1, 3) := dk_132 2 1 (dk_at dksX5_readOrder_1 5 rfl rfl)
theorem dX5_readOrder_31 : decode cX5_readOrder 31 = .ok (.goto (-27), 3) := dk_167 255 229 (dk_at dksX5_readOrder_1 8 rfl rfl)
theorem dX5_readOrder_34 : decode cX5_readOrder 34 = .ok (.aload_n 0, 1) := dk_42 (dk_at dksX5_readOrder_1 11 rfl rfl)
theorem dX5_readOrder_35 : decode cX5_readOrder 35 = .ok (.iload_n 1, 1) := dk_27 (dk_at dksX5_readOrder_1 12 rfl rfl)
theorem dX5_readOrder_36 : decode cX5_readOrder 36 = .ok (.iconst (-1), 1) := dk_2 (dk_at dksX5_readOrder_1 13 rfl rfl)
theorem dX5_readOrder_37 : decode cX5_readOrder 37 = .ok (.if_icmp .eq 16, 3) := dk_159 0 16 (dk_at dksX5_readOrder_1 14 rfl rfl)
theorem dX5_readOrder_40 : decode cX5_readOrder 40 = .ok (.aload_n 0, 1) := dk_42 (dk_at dksX5_readOrder_1 17 rfl rfl)
theorem dX5_readOrder_41 : decode cX5_readOrder 41 = .ok (.getfield 354, 3) := dk_180 1 98 (dk_at dksX5_readOrder_1 18 rfl rfl)
theorem dX5_readOrder_44 : decode cX5_readOrder 44 = .ok (.bipush 12, 2) := dk_16 12 (dk_at dksX5_readOrder_1 21 rfl rfl)
theorem dX5_readOrder_46 : decode cX5_readOrder 46 = .ok (.if_icmp .ge 7, 3) := dk_162 0 7 (dk_at dksX5_readOrder_2 0 rfl rfl)
theorem dX5_readOrder_49 : decode cX5_readOrder 49 = .ok (.iconst 1, 1) := dk_4 (dk_at dksX5_readOrder_2 3 rfl rfl)
theorem dX5_readOrder_50 : decode cX5_readOrder 50 = .ok (.goto 4, 3) := dk_167 0 4 (dk_at dksX5_readOrder_2 4 rfl rfl)
theorem dX5_readOrder_53 : decode cX5_readOrder 53 = .ok (.iconst 0, 1) := dk_3 (dk_at dksX5_readOrder_2 7 rfl rfl)
theorem dX5_readOrder_54 : decode cX5_readOrder 54 = .ok (.invokevirtual 260, 3) := dk_182 1 4 (dk_at dksX5_readOrder_2 8 rfl rfl)
theorem dX5_readOrder_57 : decode cX5_readOrder 57 = .ok (.aload_n 0, 1) := dk_42 (dk_at dksX5_readOrder_2 11 rfl rfl)
theorem dX5_readOrder_58 : decode cX5_readOrder 58 = .ok (.getfield 229, 3) := dk_180 0 229 (dk_at dksX5_readOrder_2 12 rfl rfl)
theorem dX5_readOrder_61 : decode cX5_readOrder 61 = .ok (.ifCond .eq 4, 3) := dk_153 0 4 (dk_at dksX5_readOrder_2 15 rfl rfl)
theorem dX5_readOrder_64 : decode cX5_readOrder 64 = .ok (.return_, 1) := dk_177 (dk_at dksX5_readOrder_2 18 rfl rfl)
theorem dX5_readOrder_65 : decode cX5_readOrder 65 = .ok (.bipush 10, 2) := dk_16 10 (dk_at dksX5_readOrder_2 19 rfl rfl)
theorem dX5_readOrder_67 : decode cX5_readOrder 67 = .ok (.aload_n 0, 1) := dk_42 (dk_at dksX5_readOrder_2 21 rfl rfl)
theorem dX5_readOrder_68 : decode cX5_readOrder 68 = .ok (.getfield 354, 3) := dk_180 1 98 (dk_at dksX5_readOrder_3 0 rfl rfl)
theorem dX5_readOrder_71 : decode cX5_readOrder 71 = .ok (.imul, 1) := dk_104 (dk_at dksX5_readOrder_3 3 rfl rfl)
theorem dX5_readOrder_72 : decode cX5_readOrder 72 = .ok (.istore_n 2, 1) := dk_61 (dk_at dksX5_readOrder_3 4 rfl rfl)
theorem dX5_readOrder_73 : decode cX5_readOrder 73 = .ok (.aload_n 0, 1) := dk_42 (dk_at dksX5_readOrder_3 5 rfl rfl)
theorem dX5_readOrder_74 : decode cX5_readOrder 74 = .ok (.dup, 1) := dk_89 (dk_at dksX5_readOrder_3 6 rfl rfl)
theorem dX5_readOrder_75 : decode cX5_readOrder 75 = .ok (.getfield 354, 3) := dk_180 1 98 (dk_at dksX5_readOrder_3 7 rfl rfl)
theorem dX5_readOrder_78 : decode cX5_readOrder 78 = .ok (.iconst 1, 1) := dk_4 (dk_at dksX5_readOrder_3 10 rfl rfl)
theorem dX5_readOrder_79 : decode cX5_readOrder 79 = .ok (.iadd, 1) := dk_96 (dk_at dksX5_readOrder_3 11 rfl rfl)
theorem dX5_readOrder_80 : decode cX5_readOrder 80 = .ok (.putfield 354, 3) := dk_181 1 98 (dk_at dksX5_readOrder_3 12 rfl rfl)
theorem dX5_readOrder_83 : decode cX5_readOrder 83 = .ok (.iconst 0, 1) := dk_3 (dk_at dksX5_readOrder_3 15 rfl rfl)
theorem dX5_readOrder_84 : decode cX5_readOrder 84 = .ok (.istore_n 3, 1) := dk_62 (dk_at dksX5_readOrder_3 16 rfl rfl)
theorem dX5_readOrder_85 : decode cX5_readOrder 85 = .ok (.iload_n 3, 1) := dk_29 (dk_at dksX5_readOrder_3 17 rfl rfl)
theorem dX5_readOrder_86 : decode cX5_readOrder 86 = .ok (.bipush 10, 2) := dk_16 10 (dk_at dksX5_readOrder_3 18 rfl rfl)
theorem dX5_readOrder_88 : decode cX5_readOrder 88 = .ok (.if_icmp .ge 18, 3) := dk_162 0 18 (dk_at dksX5_readOrder_3 20 rfl rfl)
theorem dX5_readOrder_91 : decode cX5_readOrder 91 = .ok (.aload_n 0, 1) := dk_42 (dk_at dksX5_readOrder_3 23 rfl rfl)
theorem dX5_readOrder_92 : decode cX5_readOrder 92 = .ok (.getfield 118, 3) := dk_180 0 118 (dk_at dksX5_readOrder_4 0 rfl rfl)
theorem dX5_readOrder_95 : decode cX5_readOrder 95 = .ok (.iload_n 2, 1) := dk_28 (dk_at dksX5_readOrder_4 3 rfl rfl)
theorem dX5_readOrder_96 : decode cX5_readOrder 96 = .ok (.iload_n 3, 1) := dk_29 (dk_at dksX5_readOrder_4 4 rfl rfl)
theorem dX5_readOrder_97 : decode cX5_readOrder 97 = .ok (.iadd, 1) := dk_96 (dk_at dksX5_readOrder_4 5 rfl rfl)
theorem dX5_readOrder_98 : decode cX5_readOrder 98 = .ok (.iconst 0, 1) := dk_3 (dk_at dksX5_readOrder_4 6 rfl rfl)
theorem dX5_readOrder_99 : decode cX5_readOrder 99 = .ok (.iastore, 1) := dk_79 (dk_at dksX5_readOrder_4 7 rfl rfl)
theorem dX5_readOrder_100 : decode cX5_readOrder 100 = .ok (.iinc 3 1, 3) := dk_132 3 1 (dk_at dksX5_readOrder_4 8 rfl rfl)
theorem dX5_readOrder_103 : decode cX5_readOrder 103 = .ok (.goto (-18), 3) := dk_167 255 238 (dk_at dksX5_readOrder_4 11 rfl rfl)
theorem dX5_readOrder_106 : decode cX5_readOrder 106 = .ok (.aload_n 0, 1) := dk_42 (dk_at dksX5_readOrder_4 14 rfl rfl)
theorem dX5_readOrder_107 : decode cX5_readOrder 107 = .ok (.getfield 118, 3) := dk_180 0 118 (dk_at dksX5_readOrder_4 15 rfl rfl)
theorem dX5_readOrder_110 : decode cX5_readOrder 110 = .ok (.iload_n 2, 1) := dk_28 (dk_at dksX5_readOrder_4 18 rfl rfl)
theorem dX5_readOrder_111 : decode cX5_readOrder 111 = .ok (.iload_n 1, 1) := dk_27 (dk_at dksX5_readOrder_4 19 rfl rfl)
theorem dX5_readOrder_112 : decode cX5_readOrder 112 = .ok (.iastore, 1) := dk_79 (dk_at dksX5_readOrder_4 20 rfl rfl)
theorem dX5_readOrder_113 : decode cX5_readOrder 113 = .ok (.iload_n 1, 1) := dk_27 (dk_at dksX5_readOrder_4 21 rfl rfl)
theorem dX5_readOrder_114 : decode cX5_readOrder 114 = .ok (.iconst 3, 1) := dk_6 (dk_at dksX5_readOrder_4 22 rfl rfl)
theorem dX5_readOrder_115 : decode cX5_readOrder 115 = .ok (.if_icmp .eq 10, 3) := dk_159 0 10 (dk_at dksX5_readOrder_5 0 rfl rfl)
theorem dX5_readOrder_118 : decode cX5_readOrder 118 = .ok (.aload_n 0, 1) := dk_42 (dk_at dksX5_readOrder_5 3 rfl rfl)
theorem dX5_readOrder_119 : decode cX5_readOrder 119 = .ok (.iload_n 2, 1) := dk_28 (dk_at dksX5_readOrder_5 4 rfl rfl)
theorem dX5_readOrder_120 : decode cX5_readOrder 120 = .ok (.iconst 1, 1) := dk_4 (dk_at dksX5_readOrder_5 5 rfl rfl)
theorem dX5_readOrder_121 : decode cX5_readOrder 121 = .ok (.iadd, 1) := dk_96 (dk_at dksX5_readOrder_5 6 rfl rfl)
theorem dX5_readOrder_122 : decode cX5_readOrder 122 = .ok (.invokevirtual 465, 3) := dk_182 1 209 (dk_at dksX5_readOrder_5 7 rfl rfl)
theorem dX5_readOrder_125 : decode cX5_readOrder 125 = .ok (.iload_n 1, 1) := dk_27 (dk_at dksX5_readOrder_5 10 rfl rfl)
theorem dX5_readOrder_126 : decode cX5_readOrder 126 = .ok (.iconst 1, 1) := dk_4 (dk_at dksX5_readOrder_5 11 rfl rfl)
theorem dX5_readOrder_127 : decode cX5_readOrder 127 = .ok (.if_icmp .eq 8, 3) := dk_159 0 8 (dk_at dksX5_readOrder_5 12 rfl rfl)
theorem dX5_readOrder_130 : decode cX5_readOrder 130 = .ok (.iload_n 1, 1) := dk_27 (dk_at dksX5_readOrder_5 15 rfl rfl)
theorem dX5_readOrder_131 : decode cX5_readOrder 131 = .ok (.iconst 2, 1) := dk_5 (dk_at dksX5_readOrder_5 16 rfl rfl)
theorem dX5_readOrder_132 : decode cX5_readOrder 132 = .ok (.if_icmp .ne 13, 3) := dk_160 0 13 (dk_at dksX5_readOrder_5 17 rfl rfl)
theorem dX5_readOrder_135 : decode cX5_readOrder 135 = .ok (.aload_n 0, 1) := dk_42 (dk_at dksX5_readOrder_5 20 rfl rfl)
theorem dX5_readOrder_136 : decode cX5_readOrder 136 = .ok (.ldc2_w 468, 3) := dk_20 1 212 (dk_at dksX5_readOrder_5 21 rfl rfl)
theorem dX5_readOrder_139 : decode cX5_readOrder 139 = .ok (.iload_n 2, 1) := dk_28 (dk_at dksX5_readOrder_6 0 rfl rfl)
theorem dX5_readOrder_140 : decode cX5_readOrder 140 = .ok (.iconst 3, 1) := dk_6 (dk_at dksX5_readOrder_6 1 rfl rfl)
theorem dX5_readOrder_141 : decode cX5_readOrder 141 = .ok (.iadd, 1) := dk_96 (dk_at dksX5_readOrder_6 2 rfl rfl)
theorem dX5_readOrder_142 : decode cX5_readOrder 142 = .ok (.invokevirtual 470, 3) := dk_182 1 214 (dk_at dksX5_readOrder_6 3 rfl rfl)
theorem dX5_readOrder_145 : decode cX5_readOrder 145 = .ok (.iload_n 1, 1) := dk_27 (dk_at dksX5_readOrder_6 6 rfl rfl)
theorem dX5_readOrder_146 : decode cX5_readOrder 146 = .ok (.iconst 1, 1) := dk_4 (dk_at dksX5_readOrder_6 7 rfl rfl)
theorem dX5_readOrder_147 : decode cX5_readOrder 147 = .ok (.if_icmp .eq 7, 3) := dk_159 0 7 (dk_at dksX5_readOrder_6 8 rfl rfl)
theorem dX5_readOrder_150 : decode cX5_readOrder 150 = .ok (.iload_n 1, 1) := dk_27 (dk_at dksX5_readOrder_6 11 rfl rfl)
theorem dX5_readOrder_151 : decode cX5_readOrder 151 = .ok (.ifCond .ne 13, 3) := dk_154 0 13 (dk_at dksX5_readOrder_6 12 rfl rfl)
theorem dX5_readOrder_154 : decode cX5_readOrder 154 = .ok (.aload_n 0, 1) := dk_42 (dk_at dksX5_readOrder_6 15 rfl rfl)
theorem dX5_readOrder_155 : decode cX5_readOrder 155 = .ok (.ldc2_w 474, 3) := dk_20 1 218 (dk_at dksX5_readOrder_6 16 rfl rfl)
theorem dX5_readOrder_158 : decode cX5_readOrder 158 = .ok (.iload_n 2, 1) := dk_28 (dk_at dksX5_readOrder_6 19 rfl rfl)
theorem dX5_readOrder_159 : decode cX5_readOrder 159 = .ok (.iconst 5, 1) := dk_8 (dk_at dksX5_readOrder_6 20 rfl rfl)
theorem dX5_readOrder_160 : decode cX5_readOrder 160 = .ok (.iadd, 1) := dk_96 (dk_at dksX5_readOrder_6 21 rfl rfl)
theorem dX5_readOrder_161 : decode cX5_readOrder 161 = .ok (.invokevirtual 470, 3) := dk_182 1 214 (dk_at dksX5_readOrder_7 0 rfl rfl)
theorem dX5_readOrder_164 : decode cX5_readOrder 164 = .ok (.aload_n 0, 1) := dk_42 (dk_at dksX5_readOrder_7 3 rfl rfl)
theorem dX5_readOrder_165 : decode cX5_readOrder 165 = .ok (.getfield 118, 3) := dk_180 0 118 (dk_at dksX5_readOrder_7 4 rfl rfl)
theorem dX5_readOrder_168 : decode cX5_readOrder 168 = .ok (.iload_n 2, 1) := dk_28 (dk_at dksX5_readOrder_7 7 rfl rfl)
theorem dX5_readOrder_169 : decode cX5_readOrder 169 = .ok (.bipush 9, 2) := dk_16 9 (dk_at dksX5_readOrder_7 8 rfl rfl)
theorem dX5_readOrder_171 : decode cX5_readOrder 171 = .ok (.iadd, 1) := dk_96 (dk_at dksX5_readOrder_7 10 rfl rfl)
theorem dX5_readOrder_172 : decode cX5_readOrder 172 = .ok (.iconst 1, 1) := dk_4 (dk_at dksX5_readOrder_7 11 rfl rfl)
theorem dX5_readOrder_173 : decode cX5_readOrder 173 = .ok (.iastore, 1) := dk_79 (dk_at dksX5_readOrder_7 12 rfl rfl)
theorem dX5_readOrder_174 : decode cX5_readOrder 174 = .ok (.aload_n 0, 1) := dk_42 (dk_at dksX5_readOrder_7 13 rfl rfl)
theorem dX5_readOrder_175 : decode cX5_readOrder 175 = .ok (.getfield 229, 3) := dk_180 0 229 (dk_at dksX5_readOrder_7 14 rfl rfl)
theorem dX5_readOrder_178 : decode cX5_readOrder 178 = .ok (.ifCond .ne 34, 3) := dk_154 0 34 (dk_at dksX5_readOrder_7 17 rfl rfl)
theorem dX5_readOrder_181 : decode cX5_readOrder 181 = .ok (.aload_n 0, 1) := dk_42 (dk_at dksX5_readOrder_7 20 rfl rfl)
theorem dX5_readOrder_182 : decode cX5_readOrder 182 = .ok (.ldc2_w 476, 3) := dk_20 1 220 (dk_at dksX5_readOrder_7 21 rfl rfl)
theorem dX5_readOrder_185 : decode cX5_readOrder 185 = .ok (.invokevirtual 283, 3) := dk_182 1 27 (dk_at dksX5_readOrder_8 0 rfl rfl)
theorem dX5_readOrder_188 : decode cX5_readOrder 188 = .ok (.ifCond .eq 24, 3) := dk_153 0 24 (dk_at dksX5_readOrder_8 3 rfl rfl)
theorem dX5_readOrder_191 : decode cX5_readOrder 191 = .ok (.aload_n 0, 1) := dk_42 (dk_at dksX5_readOrder_8 6 rfl rfl)
theorem dX5_readOrder_192 : decode cX5_readOrder 192 = .ok (.invokevirtual 233, 3) := dk_182 0 233 (dk_at dksX5_readOrder_8 7 rfl rfl)
theorem dX5_readOrder_195 : decode cX5_readOrder 195 = .ok (.aload_n 0, 1) := dk_42 (dk_at dksX5_readOrder_8 10 rfl rfl)
theorem dX5_readOrder_196 : decode cX5_readOrder 196 = .ok (.getfield 118, 3) := dk_180 0 118 (dk_at dksX5_readOrder_8 11 rfl rfl)
theorem dX5_readOrder_199 : decode cX5_readOrder 199 = .ok (.iload_n 2, 1) := dk_28 (dk_at dksX5_readOrder_8 14 rfl rfl)
theorem dX5_readOrder_200 : decode cX5_readOrder 200 = .ok (.bipush 9, 2) := dk_16 9 (dk_at dksX5_readOrder_8 15 rfl rfl)
theorem dX5_readOrder_202 : decode cX5_readOrder 202 = .ok (.iadd, 1) := dk_96 (dk_at dksX5_readOrder_8 17 rfl rfl)
theorem dX5_readOrder_203 : decode cX5_readOrder 203 = .ok (.aload_n 0, 1) := dk_42 (dk_at dksX5_readOrder_8 18 rfl rfl)
theorem dX5_readOrder_204 : decode cX5_readOrder 204 = .ok (.lconst 1, 1) := dk_10 (dk_at dksX5_readOrder_8 19 rfl rfl)
theorem dX5_readOrder_205 : decode cX5_readOrder 205 = .ok (.ldc2_w 277, 3) := dk_20 1 21 (dk_at dksX5_readOrder_8 20 rfl rfl)
theorem dX5_readOrder_208 : decode cX5_readOrder 208 = .ok (.invokevirtual 318, 3) := dk_182 1 62 (dk_at dksX5_readOrder_9 0 rfl rfl)
theorem dX5_readOrder_211 : decode cX5_readOrder 211 = .ok (.iastore, 1) := dk_79 (dk_at dksX5_readOrder_9 3 rfl rfl)
theorem dX5_readOrder_212 : decode cX5_readOrder 212 = .ok (.aload_n 0, 1) := dk_42 (dk_at dksX5_readOrder_9 4 rfl rfl)
theorem dX5_readOrder_213 : decode cX5_readOrder 213 = .ok (.getfield 118, 3) := dk_180 0 118 (dk_at dksX5_readOrder_9 5 rfl rfl)
theorem dX5_readOrder_216 : decode cX5_readOrder 216 = .ok (.iload_n 2, 1) := dk_28 (dk_at dksX5_readOrder_9 8 rfl rfl)
theorem dX5_readOrder_217 : decode cX5_readOrder 217 = .ok (.bipush 7, 2) := dk_16 7 (dk_at dksX5_readOrder_9 9 rfl rfl)
theorem dX5_readOrder_219 : decode cX5_readOrder 219 = .ok (.iadd, 1) := dk_96 (dk_at dksX5_readOrder_9 11 rfl rfl)
theorem dX5_readOrder_220 : decode cX5_readOrder 220 = .ok (.aload_n 0, 1) := dk_42 (dk_at dksX5_readOrder_9 12 rfl rfl)
theorem dX5_readOrder_221 : decode cX5_readOrder 221 = .ok (.getfield 264, 3) := dk_180 1 8 (dk_at dksX5_readOrder_9 13 rfl rfl)
theorem dX5_readOrder_224 : decode cX5_readOrder 224 = .ok (.iastore, 1) := dk_79 (dk_at dksX5_readOrder_9 16 rfl rfl)
theorem dX5_readOrder_225 : decode cX5_readOrder 225 = .ok (.aload_n 0, 1) := dk_42 (dk_at dksX5_readOrder_9 17 rfl rfl)
theorem dX5_readOrder_226 : decode cX5_readOrder 226 = .ok (.getfield 229, 3) := dk_180 0 229 (dk_at dksX5_readOrder_9 18 rfl rfl)
theorem dX5_readOrder_229 : decode cX5_readOrder 229 = .ok (.ifCond .ne 22, 3) := dk_154 0 22 (dk_at dksX5_readOrder_9 21 rfl rfl)
theorem dX5_readOrder_232 : decode cX5_readOrder 232 = .ok (.aload_n 0, 1) := dk_42 (dk_at dksX5_readOrder_10 0 rfl rfl)
theorem dX5_readOrder_233 : decode cX5_readOrder 233 = .ok (.ldc2_w 360, 3) := dk_20 1 104 (dk_at dksX5_readOrder_10 1 rfl rfl)
theorem dX5_readOrder_236 : decode cX5_readOrder 236 = .ok (.invokevirtual 283, 3) := dk_182 1 27 (dk_at dksX5_readOrder_10 4 rfl rfl)
theorem dX5_readOrder_239 : decode cX5_readOrder 239 = .ok (.ifCond .eq 12, 3) := dk_153 0 12 (dk_at dksX5_readOrder_10 7 rfl rfl)
theorem dX5_readOrder_242 : decode cX5_readOrder 242 = .ok (.aload_n 0, 1) := dk_42 (dk_at dksX5_readOrder_10 10 rfl rfl)
theorem dX5_readOrder_243 : decode cX5_readOrder 243 = .ok (.invokevirtual 233, 3) := dk_182 0 233 (dk_at dksX5_readOrder_10 11 rfl rfl)
theorem dX5_readOrder_246 : decode cX5_readOrder 246 = .ok (.aload_n 0, 1) := dk_42 (dk_at dksX5_readOrder_10 14 rfl rfl)
theorem dX5_readOrder_247 : decode cX5_readOrder 247 = .ok (.iconst 1, 1) := dk_4 (dk_at dksX5_readOrder_10 15 rfl rfl)
theorem dX5_readOrder_248 : decode cX5_readOrder 248 = .ok (.invokevirtual 357, 3) := dk_182 1 101 (dk_at dksX5_readOrder_10 16 rfl rfl)
theorem dX5_readOrder_251 : decode cX5_readOrder 251 = .ok (.aload_n 0, 1) := dk_42 (dk_at dksX5_readOrder_10 19 rfl rfl)
theorem dX5_readOrder_252 : decode cX5_readOrder 252 = .ok (.getfield 118, 3) := dk_180 0 118 (dk_at dksX5_readOrder_10 20 rfl rfl)
theorem dX5_readOrder_255 : decode cX5_readOrder 255 = .ok (.iload_n 2, 1) := dk_28 (dk_at dksX5_readOrder_10 23 rfl rfl)
theorem dX5_readOrder_256 : decode cX5_readOrder 256 = .ok (.bipush 8, 2) := dk_16 8 (dk_at dksX5_readOrder_11 0 rfl rfl)
theorem dX5_readOrder_258 : decode cX5_readOrder 258 = .ok (.iadd, 1) := dk_96 (dk_at dksX5_readOrder_11 2 rfl rfl)
theorem dX5_readOrder_259 : decode cX5_readOrder 259 = .ok (.aload_n 0, 1) := dk_42 (dk_at dksX5_readOrder_11 3 rfl rfl)
theorem dX5_readOrder_260 : decode cX5_readOrder 260 = .ok (.getfield 264, 3) := dk_180 1 8 (dk_at dksX5_readOrder_11 4 rfl rfl)
theorem dX5_readOrder_263 : decode cX5_readOrder 263 = .ok (.iastore, 1) := dk_79 (dk_at dksX5_readOrder_11 7 rfl rfl)
theorem dX5_readOrder_264 : decode cX5_readOrder 264 = .ok (.return_, 1) := dk_177 (dk_at dksX5_readOrder_11 8 rfl rfl)
abbrev cX5_readSum : ByteArray := prog_23_method_88_code
def yX5_readSum : MethodName := ⟨RX5, "readSum", "(I)V"⟩
def dkwX5_readSum_1 : List UInt8 := [180, 0, 118, 27, 4, 96, 42, 180, 1, 8, 79, 177]
abbrev dktX5_readSum_1 : List UInt8 := dkwX5_readSum_1 ++ []
def dkwX5_readSum_0 : List UInt8 := [42, 180, 0, 118, 27, 42, 180, 1, 8, 79, 42, 180, 0, 229, 154, 0, 8, 42, 3, 182, 1, 101, 42]
abbrev dktX5_readSum_0 : List UInt8 := dkwX5_readSum_0 ++ dktX5_readSum_1
theorem dksX5_readSum_0 : cX5_readSum.data.toList.drop 0 = dktX5_readSum_0 := by decide +kernel
theorem dksX5_readSum_1 : cX5_readSum.data.toList.drop 23 = dktX5_readSum_1 := dk_seg dksX5_readSum_0 23 rfl rfl
theorem dX5_readSum_0 : decode cX5_readSum 0 = .ok (.aload_n 0, 1) := dk_42 (dk_at dksX5_readSum_0 0 rfl rfl)
theorem dX5_readSum_1 : decode cX5_readSum 1 = .ok (.getfield 118, 3) := dk_180 0 118 (dk_at dksX5_readSum_0 1 rfl rfl)
theorem dX5_readSum_4 : decode cX5_readSum 4 = .ok (.iload_n 1, 1) := dk_27 (dk_at dksX5_readSum_0 4 rfl rfl)
theorem dX5_readSum_5 : decode cX5_readSum 5 = .ok (.aload_n 0, 1) := dk_42 (dk_at dksX5_readSum_0 5 rfl rfl)
theorem dX5_readSum_6 : decode cX5_readSum 6 = .ok (.getfield 264, 3) := dk_180 1 8 (dk_at dksX5_readSum_0 6 rfl rfl)
theorem dX5_readSum_9 : decode cX5_readSum 9 = .ok (.iastore, 1) := dk_79 (dk_at dksX5_readSum_0 9 rfl rfl)
theorem dX5_readSum_10 : decode cX5_readSum 10 = .ok (.aload_n 0, 1) := dk_42 (dk_at dksX5_readSum_0 10 rfl rfl)
theorem dX5_readSum_11 : decode cX5_readSum 11 = .ok (.getfield 229, 3) := dk_180 0 229 (dk_at dksX5_readSum_0 11 rfl rfl)
theorem dX5_readSum_14 : decode cX5_readSum 14 = .ok (.ifCond .ne 8, 3) := dk_154 0 8 (dk_at dksX5_readSum_0 14 rfl rfl)
theorem dX5_readSum_17 : decode cX5_readSum 17 = .ok (.aload_n 0, 1) := dk_42 (dk_at dksX5_readSum_0 17 rfl rfl)
theorem dX5_readSum_18 : decode cX5_readSum 18 = .ok (.iconst 0, 1) := dk_3 (dk_at dksX5_readSum_0 18 rfl rfl)
theorem dX5_readSum_19 : decode cX5_readSum 19 = .ok (.invokevirtual 357, 3) := dk_182 1 101 (dk_at dksX5_readSum_0 19 rfl rfl)
theorem dX5_readSum_22 : decode cX5_readSum 22 = .ok (.aload_n 0, 1) := dk_42 (dk_at dksX5_readSum_0 22 rfl rfl)
theorem dX5_readSum_23 : decode cX5_readSum 23 = .ok (.getfield 118, 3) := dk_180 0 118 (dk_at dksX5_readSum_1 0 rfl rfl)
theorem dX5_readSum_26 : decode cX5_readSum 26 = .ok (.iload_n 1, 1) := dk_27 (dk_at dksX5_readSum_1 3 rfl rfl)
theorem dX5_readSum_27 : decode cX5_readSum 27 = .ok (.iconst 1, 1) := dk_4 (dk_at dksX5_readSum_1 4 rfl rfl)
theorem dX5_readSum_28 : decode cX5_readSum 28 = .ok (.iadd, 1) := dk_96 (dk_at dksX5_readSum_1 5 rfl rfl)
theorem dX5_readSum_29 : decode cX5_readSum 29 = .ok (.aload_n 0, 1) := dk_42 (dk_at dksX5_readSum_1 6 rfl rfl)
theorem dX5_readSum_30 : decode cX5_readSum 30 = .ok (.getfield 264, 3) := dk_180 1 8 (dk_at dksX5_readSum_1 7 rfl rfl)
theorem dX5_readSum_33 : decode cX5_readSum 33 = .ok (.iastore, 1) := dk_79 (dk_at dksX5_readSum_1 10 rfl rfl)
theorem dX5_readSum_34 : decode cX5_readSum 34 = .ok (.return_, 1) := dk_177 (dk_at dksX5_readSum_1 11 rfl rfl)
abbrev cX5_readBehind : ByteArray := prog_23_method_89_code
def yX5_readBehind : MethodName := ⟨RX5, "readBehind", "(JI)V"⟩
def dkwX5_readBehind_0 : List UInt8 := [42, 180, 0, 229, 154, 0, 12, 42, 42, 31, 182, 1, 27, 182, 1, 4, 42, 29, 182, 1, 209, 177]
abbrev dktX5_readBehind_0 : List UInt8 := dkwX5_readBehind_0 ++ []
theorem dksX5_readBehind_0 : cX5_readBehind.data.toList.drop 0 = dktX5_readBehind_0 := by decide +kernel
theorem dX5_readBehind_0 : decode cX5_readBehind 0 = .ok (.aload_n 0, 1) := dk_42 (dk_at dksX5_readBehind_0 0 rfl rfl)
theorem dX5_readBehind_1 : decode cX5_readBehind 1 = .ok (.getfield 229, 3) := dk_180 0 229 (dk_at dksX5_readBehind_0 1 rfl rfl)
theorem dX5_readBehind_4 : decode cX5_readBehind 4 = .ok (.ifCond .ne 12, 3) := dk_154 0 12 (dk_at dksX5_readBehind_0 4 rfl rfl)
theorem dX5_readBehind_7 : decode cX5_readBehind 7 = .ok (.aload_n 0, 1) := dk_42 (dk_at dksX5_readBehind_0 7 rfl rfl)
theorem dX5_readBehind_8 : decode cX5_readBehind 8 = .ok (.aload_n 0, 1) := dk_42 (dk_at dksX5_readBehind_0 8 rfl rfl)
theorem dX5_readBehind_9 : decode cX5_readBehind 9 = .ok (.lload_n 1, 1) := dk_31 (dk_at dksX5_readBehind_0 9 rfl rfl)
theorem dX5_readBehind_10 : decode cX5_readBehind 10 = .ok (.invokevirtual 283, 3) := dk_182 1 27 (dk_at dksX5_readBehind_0 10 rfl rfl)
theorem dX5_readBehind_13 : decode cX5_readBehind 13 = .ok (.invokevirtual 260, 3) := dk_182 1 4 (dk_at dksX5_readBehind_0 13 rfl rfl)
theorem dX5_readBehind_16 : decode cX5_readBehind 16 = .ok (.aload_n 0, 1) := dk_42 (dk_at dksX5_readBehind_0 16 rfl rfl)
theorem dX5_readBehind_17 : decode cX5_readBehind 17 = .ok (.iload_n 3, 1) := dk_29 (dk_at dksX5_readBehind_0 17 rfl rfl)
theorem dX5_readBehind_18 : decode cX5_readBehind 18 = .ok (.invokevirtual 465, 3) := dk_182 1 209 (dk_at dksX5_readBehind_0 18 rfl rfl)
theorem dX5_readBehind_21 : decode cX5_readBehind 21 = .ok (.return_, 1) := dk_177 (dk_at dksX5_readBehind_0 21 rfl rfl)
abbrev cX5_orders : ByteArray := prog_23_method_100_code
def yX5_orders : MethodName := ⟨RX5, "orders", "()I"⟩
def dkwX5_orders_5 : List UInt8 := [132, 3, 1, 167, 255, 198, 132, 2, 1, 167, 255, 182, 42, 42, 180, 1, 231, 182, 0, 142, 172]
abbrev dktX5_orders_5 : List UInt8 := dkwX5_orders_5 ++ []
def dkwX5_orders_4 : List UInt8 := [104, 182, 1, 253, 156, 0, 20, 42, 27, 182, 2, 0, 42, 28, 181, 0, 121, 42, 16, 253, 182, 0, 142, 172]
abbrev dktX5_orders_4 : List UInt8 := dkwX5_orders_4 ++ dktX5_orders_5
def dkwX5_orders_3 : List UInt8 := [28, 104, 16, 9, 96, 46, 162, 0, 48, 42, 16, 10, 28, 104, 182, 1, 250, 153, 0, 31, 42, 16, 10, 28]
abbrev dktX5_orders_3 : List UInt8 := dkwX5_orders_3 ++ dktX5_orders_4
def dkwX5_orders_2 : List UInt8 := [42, 2, 181, 1, 234, 3, 61, 28, 42, 180, 1, 98, 162, 0, 72, 3, 62, 29, 42, 180, 0, 118, 16, 10]
abbrev dktX5_orders_2 : List UInt8 := dkwX5_orders_2 ++ dktX5_orders_3
def dkwX5_orders_1 : List UInt8 := [182, 0, 142, 172, 42, 16, 17, 182, 0, 146, 42, 180, 0, 139, 60, 42, 182, 1, 247, 42, 3, 181, 1, 231]
abbrev dktX5_orders_1 : List UInt8 := dkwX5_orders_1 ++ dktX5_orders_2
def dkwX5_orders_0 : List UInt8 := [42, 3, 181, 0, 133, 42, 2, 181, 0, 121, 42, 182, 1, 225, 42, 180, 0, 229, 153, 0, 10, 42, 16, 250]
abbrev dktX5_orders_0 : List UInt8 := dkwX5_orders_0 ++ dktX5_orders_1
theorem dksX5_orders_0 : cX5_orders.data.toList.drop 0 = dktX5_orders_0 := by decide +kernel
theorem dksX5_orders_1 : cX5_orders.data.toList.drop 24 = dktX5_orders_1 := dk_seg dksX5_orders_0 24 rfl rfl
theorem dksX5_orders_2 : cX5_orders.data.toList.drop 48 = dktX5_orders_2 := dk_seg dksX5_orders_1 24 rfl rfl
theorem dksX5_orders_3 : cX5_orders.data.toList.drop 72 = dktX5_orders_3 := dk_seg dksX5_orders_2 24 rfl rfl
theorem dksX5_orders_4 : cX5_orders.data.toList.drop 96 = dktX5_orders_4 := dk_seg dksX5_orders_3 24 rfl rfl
theorem dksX5_orders_5 : cX5_orders.data.toList.drop 120 = dktX5_orders_5 := dk_seg dksX5_orders_4 24 rfl rfl
theorem dX5_orders_0 : decode cX5_orders 0 = .ok (.aload_n 0, 1) := dk_42 (dk_at dksX5_orders_0 0 rfl rfl)
theorem dX5_orders_1 : decode cX5_orders 1 = .ok (.iconst 0, 1) := dk_3 (dk_at dksX5_orders_0 1 rfl rfl)
theorem dX5_orders_2 : decode cX5_orders 2 = .ok (.putfield 133, 3) := dk_181 0 133 (dk_at dksX5_orders_0 2 rfl rfl)
theorem dX5_orders_5 : decode cX5_orders 5 = .ok (.aload_n 0, 1) := dk_42 (dk_at dksX5_orders_0 5 rfl rfl)
theorem dX5_orders_6 : decode cX5_orders 6 = .ok (.iconst (-1), 1) := dk_2 (dk_at dksX5_orders_0 6 rfl rfl)
theorem dX5_orders_7 : decode cX5_orders 7 = .ok (.putfield 121, 3) := dk_181 0 121 (dk_at dksX5_orders_0 7 rfl rfl)
theorem dX5_orders_10 : decode cX5_orders 10 = .ok (.aload_n 0, 1) := dk_42 (dk_at dksX5_orders_0 10 rfl rfl)
theorem dX5_orders_11 : decode cX5_orders 11 = .ok (.invokevirtual 481, 3) := dk_182 1 225 (dk_at dksX5_orders_0 11 rfl rfl)
theorem dX5_orders_14 : decode cX5_orders 14 = .ok (.aload_n 0, 1) := dk_42 (dk_at dksX5_orders_0 14 rfl rfl)
theorem dX5_orders_15 : decode cX5_orders 15 = .ok (.getfield 229, 3) := dk_180 0 229 (dk_at dksX5_orders_0 15 rfl rfl)
theorem dX5_orders_18 : decode cX5_orders 18 = .ok (.ifCond .eq 10, 3) := dk_153 0 10 (dk_at dksX5_orders_0 18 rfl rfl)
theorem dX5_orders_21 : decode cX5_orders 21 = .ok (.aload_n 0, 1) := dk_42 (dk_at dksX5_orders_0 21 rfl rfl)
theorem dX5_orders_22 : decode cX5_orders 22 = .ok (.bipush (-6), 2) := dk_16 250 (dk_at dksX5_orders_0 22 rfl rfl)
theorem dX5_orders_24 : decode cX5_orders 24 = .ok (.invokevirtual 142, 3) := dk_182 0 142 (dk_at dksX5_orders_1 0 rfl rfl)
theorem dX5_orders_27 : decode cX5_orders 27 = .ok (.ireturn, 1) := dk_172 (dk_at dksX5_orders_1 3 rfl rfl)
theorem dX5_orders_28 : decode cX5_orders 28 = .ok (.aload_n 0, 1) := dk_42 (dk_at dksX5_orders_1 4 rfl rfl)
theorem dX5_orders_29 : decode cX5_orders 29 = .ok (.bipush 17, 2) := dk_16 17 (dk_at dksX5_orders_1 5 rfl rfl)
theorem dX5_orders_31 : decode cX5_orders 31 = .ok (.invokevirtual 146, 3) := dk_182 0 146 (dk_at dksX5_orders_1 7 rfl rfl)
theorem dX5_orders_34 : decode cX5_orders 34 = .ok (.aload_n 0, 1) := dk_42 (dk_at dksX5_orders_1 10 rfl rfl)
theorem dX5_orders_35 : decode cX5_orders 35 = .ok (.getfield 139, 3) := dk_180 0 139 (dk_at dksX5_orders_1 11 rfl rfl)
theorem dX5_orders_38 : decode cX5_orders 38 = .ok (.istore_n 1, 1) := dk_60 (dk_at dksX5_orders_1 14 rfl rfl)
theorem dX5_orders_39 : decode cX5_orders 39 = .ok (.aload_n 0, 1) := dk_42 (dk_at dksX5_orders_1 15 rfl rfl)
theorem dX5_orders_40 : decode cX5_orders 40 = .ok (.invokevirtual 503, 3) := dk_182 1 247 (dk_at dksX5_orders_1 16 rfl rfl)
theorem dX5_orders_43 : decode cX5_orders 43 = .ok (.aload_n 0, 1) := dk_42 (dk_at dksX5_orders_1 19 rfl rfl)
theorem dX5_orders_44 : decode cX5_orders 44 = .ok (.iconst 0, 1) := dk_3 (dk_at dksX5_orders_1 20 rfl rfl)
theorem dX5_orders_45 : decode cX5_orders 45 = .ok (.putfield 487, 3) := dk_181 1 231 (dk_at dksX5_orders_1 21 rfl rfl)
theorem dX5_orders_48 : decode cX5_orders 48 = .ok (.aload_n 0, 1) := dk_42 (dk_at dksX5_orders_2 0 rfl rfl)
theorem dX5_orders_49 : decode cX5_orders 49 = .ok (.iconst (-1), 1) := dk_2 (dk_at dksX5_orders_2 1 rfl rfl)
theorem dX5_orders_50 : decode cX5_orders 50 = .ok (.putfield 490, 3) := dk_181 1 234 (dk_at dksX5_orders_2 2 rfl rfl)
theorem dX5_orders_53 : decode cX5_orders 53 = .ok (.iconst 0, 1) := dk_3 (dk_at dksX5_orders_2 5 rfl rfl)
theorem dX5_orders_54 : decode cX5_orders 54 = .ok (.istore_n 2, 1) := dk_61 (dk_at dksX5_orders_2 6 rfl rfl)
theorem dX5_orders_55 : decode cX5_orders 55 = .ok (.iload_n 2, 1) := dk_28 (dk_at dksX5_orders_2 7 rfl rfl)
theorem dX5_orders_56 : decode cX5_orders 56 = .ok (.aload_n 0, 1) := dk_42 (dk_at dksX5_orders_2 8 rfl rfl)
theorem dX5_orders_57 : decode cX5_orders 57 = .ok (.getfield 354, 3) := dk_180 1 98 (dk_at dksX5_orders_2 9 rfl rfl)
theorem dX5_orders_60 : decode cX5_orders 60 = .ok (.if_icmp .ge 72, 3) := dk_162 0 72 (dk_at dksX5_orders_2 12 rfl rfl)
theorem dX5_orders_63 : decode cX5_orders 63 = .ok (.iconst 0, 1) := dk_3 (dk_at dksX5_orders_2 15 rfl rfl)
theorem dX5_orders_64 : decode cX5_orders 64 = .ok (.istore_n 3, 1) := dk_62 (dk_at dksX5_orders_2 16 rfl rfl)
theorem dX5_orders_65 : decode cX5_orders 65 = .ok (.iload_n 3, 1) := dk_29 (dk_at dksX5_orders_2 17 rfl rfl)
theorem dX5_orders_66 : decode cX5_orders 66 = .ok (.aload_n 0, 1) := dk_42 (dk_at dksX5_orders_2 18 rfl rfl)
theorem dX5_orders_67 : decode cX5_orders 67 = .ok (.getfield 118, 3) := dk_180 0 118 (dk_at dksX5_orders_2 19 rfl rfl)
theorem dX5_orders_70 : decode cX5_orders 70 = .ok (.bipush 10, 2) := dk_16 10 (dk_at dksX5_orders_2 22 rfl rfl)
theorem dX5_orders_72 : decode cX5_orders 72 = .ok (.iload_n 2, 1) := dk_28 (dk_at dksX5_orders_3 0 rfl rfl)
theorem dX5_orders_73 : decode cX5_orders 73 = .ok (.imul, 1) := dk_104 (dk_at dksX5_orders_3 1 rfl rfl)
theorem dX5_orders_74 : decode cX5_orders 74 = .ok (.bipush 9, 2) := dk_16 9 (dk_at dksX5_orders_3 2 rfl rfl)
theorem dX5_orders_76 : decode cX5_orders 76 = .ok (.iadd, 1) := dk_96 (dk_at dksX5_orders_3 4 rfl rfl)
theorem dX5_orders_77 : decode cX5_orders 77 = .ok (.iaload, 1) := dk_46 (dk_at dksX5_orders_3 5 rfl rfl)
theorem dX5_orders_78 : decode cX5_orders 78 = .ok (.if_icmp .ge 48, 3) := dk_162 0 48 (dk_at dksX5_orders_3 6 rfl rfl)
theorem dX5_orders_81 : decode cX5_orders 81 = .ok (.aload_n 0, 1) := dk_42 (dk_at dksX5_orders_3 9 rfl rfl)
theorem dX5_orders_82 : decode cX5_orders 82 = .ok (.bipush 10, 2) := dk_16 10 (dk_at dksX5_orders_3 10 rfl rfl)
theorem dX5_orders_84 : decode cX5_orders 84 = .ok (.iload_n 2, 1) := dk_28 (dk_at dksX5_orders_3 12 rfl rfl)
theorem dX5_orders_85 : decode cX5_orders 85 = .ok (.imul, 1) := dk_104 (dk_at dksX5_orders_3 13 rfl rfl)
theorem dX5_orders_86 : decode cX5_orders 86 = .ok (.invokevirtual 506, 3) := dk_182 1 250 (dk_at dksX5_orders_3 14 rfl rfl)
theorem dX5_orders_89 : decode cX5_orders 89 = .ok (.ifCond .eq 31, 3) := dk_153 0 31 (dk_at dksX5_orders_3 17 rfl rfl)
theorem dX5_orders_92 : decode cX5_orders 92 = .ok (.aload_n 0, 1) := dk_42 (dk_at dksX5_orders_3 20 rfl rfl)
theorem dX5_orders_93 : decode cX5_orders 93 = .ok (.bipush 10, 2) := dk_16 10 (dk_at dksX5_orders_3 21 rfl rfl)
theorem dX5_orders_95 : decode cX5_orders 95 = .ok (.iload_n 2, 1) := dk_28 (dk_at dksX5_orders_3 23 rfl rfl)
theorem dX5_orders_96 : decode cX5_orders 96 = .ok (.imul, 1) := dk_104 (dk_at dksX5_orders_4 0 rfl rfl)
theorem dX5_orders_97 : decode cX5_orders 97 = .ok (.invokevirtual 509, 3) := dk_182 1 253 (dk_at dksX5_orders_4 1 rfl rfl)
theorem dX5_orders_100 : decode cX5_orders 100 = .ok (.ifCond .ge 20, 3) := dk_156 0 20 (dk_at dksX5_orders_4 4 rfl rfl)
theorem dX5_orders_103 : decode cX5_orders 103 = .ok (.aload_n 0, 1) := dk_42 (dk_at dksX5_orders_4 7 rfl rfl)
theorem dX5_orders_104 : decode cX5_orders 104 = .ok (.iload_n 1, 1) := dk_27 (dk_at dksX5_orders_4 8 rfl rfl)
theorem dX5_orders_105 : decode cX5_orders 105 = .ok (.invokevirtual 512, 3) := dk_182 2 0 (dk_at dksX5_orders_4 9 rfl rfl)
theorem dX5_orders_108 : decode cX5_orders 108 = .ok (.aload_n 0, 1) := dk_42 (dk_at dksX5_orders_4 12 rfl rfl)
theorem dX5_orders_109 : decode cX5_orders 109 = .ok (.iload_n 2, 1) := dk_28 (dk_at dksX5_orders_4 13 rfl rfl)
theorem dX5_orders_110 : decode cX5_orders 110 = .ok (.putfield 121, 3) := dk_181 0 121 (dk_at dksX5_orders_4 14 rfl rfl)
theorem dX5_orders_113 : decode cX5_orders 113 = .ok (.aload_n 0, 1) := dk_42 (dk_at dksX5_orders_4 17 rfl rfl)
theorem dX5_orders_114 : decode cX5_orders 114 = .ok (.bipush (-3), 2) := dk_16 253 (dk_at dksX5_orders_4 18 rfl rfl)
theorem dX5_orders_116 : decode cX5_orders 116 = .ok (.invokevirtual 142, 3) := dk_182 0 142 (dk_at dksX5_orders_4 20 rfl rfl)
theorem dX5_orders_119 : decode cX5_orders 119 = .ok (.ireturn, 1) := dk_172 (dk_at dksX5_orders_4 23 rfl rfl)
theorem dX5_orders_120 : decode cX5_orders 120 = .ok (.iinc 3 1, 3) := dk_132 3 1 (dk_at dksX5_orders_5 0 rfl rfl)
theorem dX5_orders_123 : decode cX5_orders 123 = .ok (.goto (-58), 3) := dk_167 255 198 (dk_at dksX5_orders_5 3 rfl rfl)
theorem dX5_orders_126 : decode cX5_orders 126 = .ok (.iinc 2 1, 3) := dk_132 2 1 (dk_at dksX5_orders_5 6 rfl rfl)
theorem dX5_orders_129 : decode cX5_orders 129 = .ok (.goto (-74), 3) := dk_167 255 182 (dk_at dksX5_orders_5 9 rfl rfl)
theorem dX5_orders_132 : decode cX5_orders 132 = .ok (.aload_n 0, 1) := dk_42 (dk_at dksX5_orders_5 12 rfl rfl)
theorem dX5_orders_133 : decode cX5_orders 133 = .ok (.aload_n 0, 1) := dk_42 (dk_at dksX5_orders_5 13 rfl rfl)
theorem dX5_orders_134 : decode cX5_orders 134 = .ok (.getfield 487, 3) := dk_180 1 231 (dk_at dksX5_orders_5 14 rfl rfl)
theorem dX5_orders_137 : decode cX5_orders 137 = .ok (.invokevirtual 142, 3) := dk_182 0 142 (dk_at dksX5_orders_5 17 rfl rfl)
theorem dX5_orders_140 : decode cX5_orders 140 = .ok (.ireturn, 1) := dk_172 (dk_at dksX5_orders_5 20 rfl rfl)
abbrev cX5_keepUndos : ByteArray := prog_23_method_101_code
def yX5_keepUndos : MethodName := ⟨RX5, "keepUndos", "()V"⟩
def dkwX5_keepUndos_2 : List UInt8 := [132, 1, 1, 167, 255, 235, 177]
abbrev dktX5_keepUndos_2 : List UInt8 := dkwX5_keepUndos_2 ++ []
def dkwX5_keepUndos_1 : List UInt8 := [167, 255, 234, 3, 60, 27, 16, 16, 162, 0, 21, 42, 180, 0, 32, 27, 42, 180, 0, 26, 27, 46, 79]
abbrev dktX5_keepUndos_1 : List UInt8 := dkwX5_keepUndos_1 ++ dktX5_keepUndos_2
def dkwX5_keepUndos_0 : List UInt8 := [3, 60, 27, 17, 10, 80, 162, 0, 21, 42, 180, 0, 29, 27, 42, 180, 0, 23, 27, 46, 79, 132, 1, 1]
abbrev dktX5_keepUndos_0 : List UInt8 := dkwX5_keepUndos_0 ++ dktX5_keepUndos_1
theorem dksX5_keepUndos_0 : cX5_keepUndos.data.toList.drop 0 = dktX5_keepUndos_0 := by decide +kernel
theorem dksX5_keepUndos_1 : cX5_keepUndos.data.toList.drop 24 = dktX5_keepUndos_1 := dk_seg dksX5_keepUndos_0 24 rfl rfl
theorem dksX5_keepUndos_2 : cX5_keepUndos.data.toList.drop 47 = dktX5_keepUndos_2 := dk_seg dksX5_keepUndos_1 23 rfl rfl
theorem dX5_keepUndos_0 : decode cX5_keepUndos 0 = .ok (.iconst 0, 1) := dk_3 (dk_at dksX5_keepUndos_0 0 rfl rfl)
theorem dX5_keepUndos_1 : decode cX5_keepUndos 1 = .ok (.istore_n 1, 1) := dk_60 (dk_at dksX5_keepUndos_0 1 rfl rfl)
theorem dX5_keepUndos_2 : decode cX5_keepUndos 2 = .ok (.iload_n 1, 1) := dk_27 (dk_at dksX5_keepUndos_0 2 rfl rfl)
theorem dX5_keepUndos_3 : decode cX5_keepUndos 3 = .ok (.sipush 2640, 3) := dk_17 10 80 (dk_at dksX5_keepUndos_0 3 rfl rfl)
theorem dX5_keepUndos_6 : decode cX5_keepUndos 6 = .ok (.if_icmp .ge 21, 3) := dk_162 0 21 (dk_at dksX5_keepUndos_0 6 rfl rfl)
theorem dX5_keepUndos_9 : decode cX5_keepUndos 9 = .ok (.aload_n 0, 1) := dk_42 (dk_at dksX5_keepUndos_0 9 rfl rfl)
theorem dX5_keepUndos_10 : decode cX5_keepUndos 10 = .ok (.getfield 29, 3) := dk_180 0 29 (dk_at dksX5_keepUndos_0 10 rfl rfl)
theorem dX5_keepUndos_13 : decode cX5_keepUndos 13 = .ok (.iload_n 1, 1) := dk_27 (dk_at dksX5_keepUndos_0 13 rfl rfl)
theorem dX5_keepUndos_14 : decode cX5_keepUndos 14 = .ok (.aload_n 0, 1) := dk_42 (dk_at dksX5_keepUndos_0 14 rfl rfl)
theorem dX5_keepUndos_15 : decode cX5_keepUndos 15 = .ok (.getfield 23, 3) := dk_180 0 23 (dk_at dksX5_keepUndos_0 15 rfl rfl)
theorem dX5_keepUndos_18 : decode cX5_keepUndos 18 = .ok (.iload_n 1, 1) := dk_27 (dk_at dksX5_keepUndos_0 18 rfl rfl)
theorem dX5_keepUndos_19 : decode cX5_keepUndos 19 = .ok (.iaload, 1) := dk_46 (dk_at dksX5_keepUndos_0 19 rfl rfl)
theorem dX5_keepUndos_20 : decode cX5_keepUndos 20 = .ok (.iastore, 1) := dk_79 (dk_at dksX5_keepUndos_0 20 rfl rfl)
theorem dX5_keepUndos_21 : decode cX5_keepUndos 21 = .ok (.iinc 1 1, 3) := dk_132 1 1 (dk_at dksX5_keepUndos_0 21 rfl rfl)
theorem dX5_keepUndos_24 : decode cX5_keepUndos 24 = .ok (.goto (-22), 3) := dk_167 255 234 (dk_at dksX5_keepUndos_1 0 rfl rfl)
theorem dX5_keepUndos_27 : decode cX5_keepUndos 27 = .ok (.iconst 0, 1) := dk_3 (dk_at dksX5_keepUndos_1 3 rfl rfl)
theorem dX5_keepUndos_28 : decode cX5_keepUndos 28 = .ok (.istore_n 1, 1) := dk_60 (dk_at dksX5_keepUndos_1 4 rfl rfl)
theorem dX5_keepUndos_29 : decode cX5_keepUndos 29 = .ok (.iload_n 1, 1) := dk_27 (dk_at dksX5_keepUndos_1 5 rfl rfl)
theorem dX5_keepUndos_30 : decode cX5_keepUndos 30 = .ok (.bipush 16, 2) := dk_16 16 (dk_at dksX5_keepUndos_1 6 rfl rfl)
theorem dX5_keepUndos_32 : decode cX5_keepUndos 32 = .ok (.if_icmp .ge 21, 3) := dk_162 0 21 (dk_at dksX5_keepUndos_1 8 rfl rfl)
theorem dX5_keepUndos_35 : decode cX5_keepUndos 35 = .ok (.aload_n 0, 1) := dk_42 (dk_at dksX5_keepUndos_1 11 rfl rfl)
theorem dX5_keepUndos_36 : decode cX5_keepUndos 36 = .ok (.getfield 32, 3) := dk_180 0 32 (dk_at dksX5_keepUndos_1 12 rfl rfl)
theorem dX5_keepUndos_39 : decode cX5_keepUndos 39 = .ok (.iload_n 1, 1) := dk_27 (dk_at dksX5_keepUndos_1 15 rfl rfl)
theorem dX5_keepUndos_40 : decode cX5_keepUndos 40 = .ok (.aload_n 0, 1) := dk_42 (dk_at dksX5_keepUndos_1 16 rfl rfl)
theorem dX5_keepUndos_41 : decode cX5_keepUndos 41 = .ok (.getfield 26, 3) := dk_180 0 26 (dk_at dksX5_keepUndos_1 17 rfl rfl)
theorem dX5_keepUndos_44 : decode cX5_keepUndos 44 = .ok (.iload_n 1, 1) := dk_27 (dk_at dksX5_keepUndos_1 20 rfl rfl)
theorem dX5_keepUndos_45 : decode cX5_keepUndos 45 = .ok (.iaload, 1) := dk_46 (dk_at dksX5_keepUndos_1 21 rfl rfl)
theorem dX5_keepUndos_46 : decode cX5_keepUndos 46 = .ok (.iastore, 1) := dk_79 (dk_at dksX5_keepUndos_1 22 rfl rfl)
theorem dX5_keepUndos_47 : decode cX5_keepUndos 47 = .ok (.iinc 1 1, 3) := dk_132 1 1 (dk_at dksX5_keepUndos_2 0 rfl rfl)
theorem dX5_keepUndos_50 : decode cX5_keepUndos 50 = .ok (.goto (-21), 3) := dk_167 255 235 (dk_at dksX5_keepUndos_2 3 rfl rfl)
theorem dX5_keepUndos_53 : decode cX5_keepUndos 53 = .ok (.return_, 1) := dk_177 (dk_at dksX5_keepUndos_2 6 rfl rfl)
abbrev cX5_isAsked : ByteArray := prog_23_method_97_code
def yX5_isAsked : MethodName := ⟨RX5, "isAsked", "(I)Z"⟩
def dkwX5_isAsked_2 : List UInt8 := [153, 0, 7, 4, 167, 0, 4, 3, 62, 42, 3, 181, 1, 228, 29, 172]
abbrev dktX5_isAsked_2 : List UInt8 := dkwX5_isAsked_2 ++ []
def dkwX5_isAsked_1 : List UInt8 := [160, 0, 5, 4, 172, 42, 27, 16, 7, 96, 182, 1, 240, 61, 42, 180, 1, 228, 154, 0, 11, 28]
abbrev dktX5_isAsked_1 : List UInt8 := dkwX5_isAsked_1 ++ dktX5_isAsked_2
def dkwX5_isAsked_0 : List UInt8 := [42, 182, 1, 237, 42, 180, 0, 118, 27, 16, 7, 96, 46, 42, 180, 0, 118, 27, 16, 8, 96, 46]
abbrev dktX5_isAsked_0 : List UInt8 := dkwX5_isAsked_0 ++ dktX5_isAsked_1
theorem dksX5_isAsked_0 : cX5_isAsked.data.toList.drop 0 = dktX5_isAsked_0 := by decide +kernel
theorem dksX5_isAsked_1 : cX5_isAsked.data.toList.drop 22 = dktX5_isAsked_1 := dk_seg dksX5_isAsked_0 22 rfl rfl
theorem dksX5_isAsked_2 : cX5_isAsked.data.toList.drop 44 = dktX5_isAsked_2 := dk_seg dksX5_isAsked_1 22 rfl rfl
theorem dX5_isAsked_0 : decode cX5_isAsked 0 = .ok (.aload_n 0, 1) := dk_42 (dk_at dksX5_isAsked_0 0 rfl rfl)
theorem dX5_isAsked_1 : decode cX5_isAsked 1 = .ok (.invokevirtual 493, 3) := dk_182 1 237 (dk_at dksX5_isAsked_0 1 rfl rfl)
theorem dX5_isAsked_4 : decode cX5_isAsked 4 = .ok (.aload_n 0, 1) := dk_42 (dk_at dksX5_isAsked_0 4 rfl rfl)
theorem dX5_isAsked_5 : decode cX5_isAsked 5 = .ok (.getfield 118, 3) := dk_180 0 118 (dk_at dksX5_isAsked_0 5 rfl rfl)
theorem dX5_isAsked_8 : decode cX5_isAsked 8 = .ok (.iload_n 1, 1) := dk_27 (dk_at dksX5_isAsked_0 8 rfl rfl)
theorem dX5_isAsked_9 : decode cX5_isAsked 9 = .ok (.bipush 7, 2) := dk_16 7 (dk_at dksX5_isAsked_0 9 rfl rfl)
theorem dX5_isAsked_11 : decode cX5_isAsked 11 = .ok (.iadd, 1) := dk_96 (dk_at dksX5_isAsked_0 11 rfl rfl)
theorem dX5_isAsked_12 : decode cX5_isAsked 12 = .ok (.iaload, 1) := dk_46 (dk_at dksX5_isAsked_0 12 rfl rfl)
theorem dX5_isAsked_13 : decode cX5_isAsked 13 = .ok (.aload_n 0, 1) := dk_42 (dk_at dksX5_isAsked_0 13 rfl rfl)
theorem dX5_isAsked_14 : decode cX5_isAsked 14 = .ok (.getfield 118, 3) := dk_180 0 118 (dk_at dksX5_isAsked_0 14 rfl rfl)
theorem dX5_isAsked_17 : decode cX5_isAsked 17 = .ok (.iload_n 1, 1) := dk_27 (dk_at dksX5_isAsked_0 17 rfl rfl)
theorem dX5_isAsked_18 : decode cX5_isAsked 18 = .ok (.bipush 8, 2) := dk_16 8 (dk_at dksX5_isAsked_0 18 rfl rfl)
theorem dX5_isAsked_20 : decode cX5_isAsked 20 = .ok (.iadd, 1) := dk_96 (dk_at dksX5_isAsked_0 20 rfl rfl)
theorem dX5_isAsked_21 : decode cX5_isAsked 21 = .ok (.iaload, 1) := dk_46 (dk_at dksX5_isAsked_0 21 rfl rfl)
theorem dX5_isAsked_22 : decode cX5_isAsked 22 = .ok (.if_icmp .ne 5, 3) := dk_160 0 5 (dk_at dksX5_isAsked_1 0 rfl rfl)
theorem dX5_isAsked_25 : decode cX5_isAsked 25 = .ok (.iconst 1, 1) := dk_4 (dk_at dksX5_isAsked_1 3 rfl rfl)
theorem dX5_isAsked_26 : decode cX5_isAsked 26 = .ok (.ireturn, 1) := dk_172 (dk_at dksX5_isAsked_1 4 rfl rfl)
theorem dX5_isAsked_27 : decode cX5_isAsked 27 = .ok (.aload_n 0, 1) := dk_42 (dk_at dksX5_isAsked_1 5 rfl rfl)
theorem dX5_isAsked_28 : decode cX5_isAsked 28 = .ok (.iload_n 1, 1) := dk_27 (dk_at dksX5_isAsked_1 6 rfl rfl)
theorem dX5_isAsked_29 : decode cX5_isAsked 29 = .ok (.bipush 7, 2) := dk_16 7 (dk_at dksX5_isAsked_1 7 rfl rfl)
theorem dX5_isAsked_31 : decode cX5_isAsked 31 = .ok (.iadd, 1) := dk_96 (dk_at dksX5_isAsked_1 9 rfl rfl)
theorem dX5_isAsked_32 : decode cX5_isAsked 32 = .ok (.invokevirtual 496, 3) := dk_182 1 240 (dk_at dksX5_isAsked_1 10 rfl rfl)
theorem dX5_isAsked_35 : decode cX5_isAsked 35 = .ok (.istore_n 2, 1) := dk_61 (dk_at dksX5_isAsked_1 13 rfl rfl)
theorem dX5_isAsked_36 : decode cX5_isAsked 36 = .ok (.aload_n 0, 1) := dk_42 (dk_at dksX5_isAsked_1 14 rfl rfl)
theorem dX5_isAsked_37 : decode cX5_isAsked 37 = .ok (.getfield 484, 3) := dk_180 1 228 (dk_at dksX5_isAsked_1 15 rfl rfl)
theorem dX5_isAsked_40 : decode cX5_isAsked 40 = .ok (.ifCond .ne 11, 3) := dk_154 0 11 (dk_at dksX5_isAsked_1 18 rfl rfl)
theorem dX5_isAsked_43 : decode cX5_isAsked 43 = .ok (.iload_n 2, 1) := dk_28 (dk_at dksX5_isAsked_1 21 rfl rfl)
theorem dX5_isAsked_44 : decode cX5_isAsked 44 = .ok (.ifCond .eq 7, 3) := dk_153 0 7 (dk_at dksX5_isAsked_2 0 rfl rfl)
theorem dX5_isAsked_47 : decode cX5_isAsked 47 = .ok (.iconst 1, 1) := dk_4 (dk_at dksX5_isAsked_2 3 rfl rfl)
theorem dX5_isAsked_48 : decode cX5_isAsked 48 = .ok (.goto 4, 3) := dk_167 0 4 (dk_at dksX5_isAsked_2 4 rfl rfl)
theorem dX5_isAsked_51 : decode cX5_isAsked 51 = .ok (.iconst 0, 1) := dk_3 (dk_at dksX5_isAsked_2 7 rfl rfl)
theorem dX5_isAsked_52 : decode cX5_isAsked 52 = .ok (.istore_n 3, 1) := dk_62 (dk_at dksX5_isAsked_2 8 rfl rfl)
theorem dX5_isAsked_53 : decode cX5_isAsked 53 = .ok (.aload_n 0, 1) := dk_42 (dk_at dksX5_isAsked_2 9 rfl rfl)
theorem dX5_isAsked_54 : decode cX5_isAsked 54 = .ok (.iconst 0, 1) := dk_3 (dk_at dksX5_isAsked_2 10 rfl rfl)
theorem dX5_isAsked_55 : decode cX5_isAsked 55 = .ok (.putfield 484, 3) := dk_181 1 228 (dk_at dksX5_isAsked_2 11 rfl rfl)
theorem dX5_isAsked_58 : decode cX5_isAsked 58 = .ok (.iload_n 3, 1) := dk_29 (dk_at dksX5_isAsked_2 14 rfl rfl)
theorem dX5_isAsked_59 : decode cX5_isAsked 59 = .ok (.ireturn, 1) := dk_172 (dk_at dksX5_isAsked_2 15 rfl rfl)
abbrev cX5_setNow : ByteArray := prog_23_method_96_code
def yX5_setNow : MethodName := ⟨RX5, "setNow", "()V"⟩
def dkwX5_setNow_2 : List UInt8 := [80, 42, 3, 181, 1, 228, 177]
abbrev dktX5_setNow_2 : List UInt8 := dkwX5_setNow_2 ++ []
def dkwX5_setNow_1 : List UInt8 := [42, 180, 0, 98, 6, 42, 180, 1, 234, 133, 80, 42, 180, 0, 98, 7, 42, 180, 0, 13, 16, 9, 46, 133]
abbrev dktX5_setNow_1 : List UInt8 := dkwX5_setNow_1 ++ dktX5_setNow_2
def dkwX5_setNow_0 : List UInt8 := [42, 180, 0, 98, 4, 42, 180, 0, 13, 8, 46, 133, 80, 42, 180, 0, 98, 5, 42, 180, 1, 231, 133, 80]
abbrev dktX5_setNow_0 : List UInt8 := dkwX5_setNow_0 ++ dktX5_setNow_1
theorem dksX5_setNow_0 : cX5_setNow.data.toList.drop 0 = dktX5_setNow_0 := by decide +kernel
theorem dksX5_setNow_1 : cX5_setNow.data.toList.drop 24 = dktX5_setNow_1 := dk_seg dksX5_setNow_0 24 rfl rfl
theorem dksX5_setNow_2 : cX5_setNow.data.toList.drop 48 = dktX5_setNow_2 := dk_seg dksX5_setNow_1 24 rfl rfl
theorem dX5_setNow_0 : decode cX5_setNow 0 = .ok (.aload_n 0, 1) := dk_42 (dk_at dksX5_setNow_0 0 rfl rfl)
theorem dX5_setNow_1 : decode cX5_setNow 1 = .ok (.getfield 98, 3) := dk_180 0 98 (dk_at dksX5_setNow_0 1 rfl rfl)
theorem dX5_setNow_4 : decode cX5_setNow 4 = .ok (.iconst 1, 1) := dk_4 (dk_at dksX5_setNow_0 4 rfl rfl)
theorem dX5_setNow_5 : decode cX5_setNow 5 = .ok (.aload_n 0, 1) := dk_42 (dk_at dksX5_setNow_0 5 rfl rfl)
theorem dX5_setNow_6 : decode cX5_setNow 6 = .ok (.getfield 13, 3) := dk_180 0 13 (dk_at dksX5_setNow_0 6 rfl rfl)
theorem dX5_setNow_9 : decode cX5_setNow 9 = .ok (.iconst 5, 1) := dk_8 (dk_at dksX5_setNow_0 9 rfl rfl)
theorem dX5_setNow_10 : decode cX5_setNow 10 = .ok (.iaload, 1) := dk_46 (dk_at dksX5_setNow_0 10 rfl rfl)
theorem dX5_setNow_11 : decode cX5_setNow 11 = .ok (.i2l, 1) := dk_133 (dk_at dksX5_setNow_0 11 rfl rfl)
theorem dX5_setNow_12 : decode cX5_setNow 12 = .ok (.lastore, 1) := dk_80 (dk_at dksX5_setNow_0 12 rfl rfl)
theorem dX5_setNow_13 : decode cX5_setNow 13 = .ok (.aload_n 0, 1) := dk_42 (dk_at dksX5_setNow_0 13 rfl rfl)
theorem dX5_setNow_14 : decode cX5_setNow 14 = .ok (.getfield 98, 3) := dk_180 0 98 (dk_at dksX5_setNow_0 14 rfl rfl)
theorem dX5_setNow_17 : decode cX5_setNow 17 = .ok (.iconst 2, 1) := dk_5 (dk_at dksX5_setNow_0 17 rfl rfl)
theorem dX5_setNow_18 : decode cX5_setNow 18 = .ok (.aload_n 0, 1) := dk_42 (dk_at dksX5_setNow_0 18 rfl rfl)
theorem dX5_setNow_19 : decode cX5_setNow 19 = .ok (.getfield 487, 3) := dk_180 1 231 (dk_at dksX5_setNow_0 19 rfl rfl)
theorem dX5_setNow_22 : decode cX5_setNow 22 = .ok (.i2l, 1) := dk_133 (dk_at dksX5_setNow_0 22 rfl rfl)
theorem dX5_setNow_23 : decode cX5_setNow 23 = .ok (.lastore, 1) := dk_80 (dk_at dksX5_setNow_0 23 rfl rfl)
theorem dX5_setNow_24 : decode cX5_setNow 24 = .ok (.aload_n 0, 1) := dk_42 (dk_at dksX5_setNow_1 0 rfl rfl)
theorem dX5_setNow_25 : decode cX5_setNow 25 = .ok (.getfield 98, 3) := dk_180 0 98 (dk_at dksX5_setNow_1 1 rfl rfl)
theorem dX5_setNow_28 : decode cX5_setNow 28 = .ok (.iconst 3, 1) := dk_6 (dk_at dksX5_setNow_1 4 rfl rfl)
theorem dX5_setNow_29 : decode cX5_setNow 29 = .ok (.aload_n 0, 1) := dk_42 (dk_at dksX5_setNow_1 5 rfl rfl)
theorem dX5_setNow_30 : decode cX5_setNow 30 = .ok (.getfield 490, 3) := dk_180 1 234 (dk_at dksX5_setNow_1 6 rfl rfl)
theorem dX5_setNow_33 : decode cX5_setNow 33 = .ok (.i2l, 1) := dk_133 (dk_at dksX5_setNow_1 9 rfl rfl)
theorem dX5_setNow_34 : decode cX5_setNow 34 = .ok (.lastore, 1) := dk_80 (dk_at dksX5_setNow_1 10 rfl rfl)
theorem dX5_setNow_35 : decode cX5_setNow 35 = .ok (.aload_n 0, 1) := dk_42 (dk_at dksX5_setNow_1 11 rfl rfl)
theorem dX5_setNow_36 : decode cX5_setNow 36 = .ok (.getfield 98, 3) := dk_180 0 98 (dk_at dksX5_setNow_1 12 rfl rfl)
theorem dX5_setNow_39 : decode cX5_setNow 39 = .ok (.iconst 4, 1) := dk_7 (dk_at dksX5_setNow_1 15 rfl rfl)
theorem dX5_setNow_40 : decode cX5_setNow 40 = .ok (.aload_n 0, 1) := dk_42 (dk_at dksX5_setNow_1 16 rfl rfl)
theorem dX5_setNow_41 : decode cX5_setNow 41 = .ok (.getfield 13, 3) := dk_180 0 13 (dk_at dksX5_setNow_1 17 rfl rfl)
theorem dX5_setNow_44 : decode cX5_setNow 44 = .ok (.bipush 9, 2) := dk_16 9 (dk_at dksX5_setNow_1 20 rfl rfl)
theorem dX5_setNow_46 : decode cX5_setNow 46 = .ok (.iaload, 1) := dk_46 (dk_at dksX5_setNow_1 22 rfl rfl)
theorem dX5_setNow_47 : decode cX5_setNow 47 = .ok (.i2l, 1) := dk_133 (dk_at dksX5_setNow_1 23 rfl rfl)
theorem dX5_setNow_48 : decode cX5_setNow 48 = .ok (.lastore, 1) := dk_80 (dk_at dksX5_setNow_2 0 rfl rfl)
theorem dX5_setNow_49 : decode cX5_setNow 49 = .ok (.aload_n 0, 1) := dk_42 (dk_at dksX5_setNow_2 1 rfl rfl)
theorem dX5_setNow_50 : decode cX5_setNow 50 = .ok (.iconst 0, 1) := dk_3 (dk_at dksX5_setNow_2 2 rfl rfl)
theorem dX5_setNow_51 : decode cX5_setNow 51 = .ok (.putfield 484, 3) := dk_181 1 228 (dk_at dksX5_setNow_2 3 rfl rfl)
theorem dX5_setNow_54 : decode cX5_setNow 54 = .ok (.return_, 1) := dk_177 (dk_at dksX5_setNow_2 6 rfl rfl)
abbrev cX5_sumOf : ByteArray := prog_23_method_95_code
def yX5_sumOf : MethodName := ⟨RX5, "sumOf", "(I)I"⟩
def dkwX5_sumOf_2 : List UInt8 := [182, 1, 145, 42, 3, 181, 1, 46, 42, 42, 180, 1, 124, 181, 1, 228, 42, 180, 1, 142, 136, 172]
abbrev dktX5_sumOf_2 : List UInt8 := dkwX5_sumOf_2 ++ []
def dkwX5_sumOf_1 : List UInt8 := [2, 172, 42, 4, 181, 1, 46, 42, 42, 180, 0, 118, 27, 46, 42, 180, 0, 118, 27, 4, 96, 46]
abbrev dktX5_sumOf_1 : List UInt8 := dkwX5_sumOf_1 ++ dktX5_sumOf_2
def dkwX5_sumOf_0 : List UInt8 := [42, 180, 1, 228, 154, 0, 20, 42, 180, 0, 118, 27, 46, 42, 180, 0, 118, 27, 4, 96, 46, 160, 0, 5]
abbrev dktX5_sumOf_0 : List UInt8 := dkwX5_sumOf_0 ++ dktX5_sumOf_1
theorem dksX5_sumOf_0 : cX5_sumOf.data.toList.drop 0 = dktX5_sumOf_0 := by decide +kernel
theorem dksX5_sumOf_1 : cX5_sumOf.data.toList.drop 24 = dktX5_sumOf_1 := dk_seg dksX5_sumOf_0 24 rfl rfl
theorem dksX5_sumOf_2 : cX5_sumOf.data.toList.drop 46 = dktX5_sumOf_2 := dk_seg dksX5_sumOf_1 22 rfl rfl
theorem dX5_sumOf_0 : decode cX5_sumOf 0 = .ok (.aload_n 0, 1) := dk_42 (dk_at dksX5_sumOf_0 0 rfl rfl)
theorem dX5_sumOf_1 : decode cX5_sumOf 1 = .ok (.getfield 484, 3) := dk_180 1 228 (dk_at dksX5_sumOf_0 1 rfl rfl)
theorem dX5_sumOf_4 : decode cX5_sumOf 4 = .ok (.ifCond .ne 20, 3) := dk_154 0 20 (dk_at dksX5_sumOf_0 4 rfl rfl)
theorem dX5_sumOf_7 : decode cX5_sumOf 7 = .ok (.aload_n 0, 1) := dk_42 (dk_at dksX5_sumOf_0 7 rfl rfl)
theorem dX5_sumOf_8 : decode cX5_sumOf 8 = .ok (.getfield 118, 3) := dk_180 0 118 (dk_at dksX5_sumOf_0 8 rfl rfl)
theorem dX5_sumOf_11 : decode cX5_sumOf 11 = .ok (.iload_n 1, 1) := dk_27 (dk_at dksX5_sumOf_0 11 rfl rfl)
theorem dX5_sumOf_12 : decode cX5_sumOf 12 = .ok (.iaload, 1) := dk_46 (dk_at dksX5_sumOf_0 12 rfl rfl)
theorem dX5_sumOf_13 : decode cX5_sumOf 13 = .ok (.aload_n 0, 1) := dk_42 (dk_at dksX5_sumOf_0 13 rfl rfl)
theorem dX5_sumOf_14 : decode cX5_sumOf 14 = .ok (.getfield 118, 3) := dk_180 0 118 (dk_at dksX5_sumOf_0 14 rfl rfl)
theorem dX5_sumOf_17 : decode cX5_sumOf 17 = .ok (.iload_n 1, 1) := dk_27 (dk_at dksX5_sumOf_0 17 rfl rfl)
theorem dX5_sumOf_18 : decode cX5_sumOf 18 = .ok (.iconst 1, 1) := dk_4 (dk_at dksX5_sumOf_0 18 rfl rfl)
theorem dX5_sumOf_19 : decode cX5_sumOf 19 = .ok (.iadd, 1) := dk_96 (dk_at dksX5_sumOf_0 19 rfl rfl)
theorem dX5_sumOf_20 : decode cX5_sumOf 20 = .ok (.iaload, 1) := dk_46 (dk_at dksX5_sumOf_0 20 rfl rfl)
theorem dX5_sumOf_21 : decode cX5_sumOf 21 = .ok (.if_icmp .ne 5, 3) := dk_160 0 5 (dk_at dksX5_sumOf_0 21 rfl rfl)
theorem dX5_sumOf_24 : decode cX5_sumOf 24 = .ok (.iconst (-1), 1) := dk_2 (dk_at dksX5_sumOf_1 0 rfl rfl)
theorem dX5_sumOf_25 : decode cX5_sumOf 25 = .ok (.ireturn, 1) := dk_172 (dk_at dksX5_sumOf_1 1 rfl rfl)
theorem dX5_sumOf_26 : decode cX5_sumOf 26 = .ok (.aload_n 0, 1) := dk_42 (dk_at dksX5_sumOf_1 2 rfl rfl)
theorem dX5_sumOf_27 : decode cX5_sumOf 27 = .ok (.iconst 1, 1) := dk_4 (dk_at dksX5_sumOf_1 3 rfl rfl)
theorem dX5_sumOf_28 : decode cX5_sumOf 28 = .ok (.putfield 302, 3) := dk_181 1 46 (dk_at dksX5_sumOf_1 4 rfl rfl)
theorem dX5_sumOf_31 : decode cX5_sumOf 31 = .ok (.aload_n 0, 1) := dk_42 (dk_at dksX5_sumOf_1 7 rfl rfl)
theorem dX5_sumOf_32 : decode cX5_sumOf 32 = .ok (.aload_n 0, 1) := dk_42 (dk_at dksX5_sumOf_1 8 rfl rfl)
theorem dX5_sumOf_33 : decode cX5_sumOf 33 = .ok (.getfield 118, 3) := dk_180 0 118 (dk_at dksX5_sumOf_1 9 rfl rfl)
theorem dX5_sumOf_36 : decode cX5_sumOf 36 = .ok (.iload_n 1, 1) := dk_27 (dk_at dksX5_sumOf_1 12 rfl rfl)
theorem dX5_sumOf_37 : decode cX5_sumOf 37 = .ok (.iaload, 1) := dk_46 (dk_at dksX5_sumOf_1 13 rfl rfl)
theorem dX5_sumOf_38 : decode cX5_sumOf 38 = .ok (.aload_n 0, 1) := dk_42 (dk_at dksX5_sumOf_1 14 rfl rfl)
theorem dX5_sumOf_39 : decode cX5_sumOf 39 = .ok (.getfield 118, 3) := dk_180 0 118 (dk_at dksX5_sumOf_1 15 rfl rfl)
theorem dX5_sumOf_42 : decode cX5_sumOf 42 = .ok (.iload_n 1, 1) := dk_27 (dk_at dksX5_sumOf_1 18 rfl rfl)
theorem dX5_sumOf_43 : decode cX5_sumOf 43 = .ok (.iconst 1, 1) := dk_4 (dk_at dksX5_sumOf_1 19 rfl rfl)
theorem dX5_sumOf_44 : decode cX5_sumOf 44 = .ok (.iadd, 1) := dk_96 (dk_at dksX5_sumOf_1 20 rfl rfl)
theorem dX5_sumOf_45 : decode cX5_sumOf 45 = .ok (.iaload, 1) := dk_46 (dk_at dksX5_sumOf_1 21 rfl rfl)
theorem dX5_sumOf_46 : decode cX5_sumOf 46 = .ok (.invokevirtual 401, 3) := dk_182 1 145 (dk_at dksX5_sumOf_2 0 rfl rfl)
theorem dX5_sumOf_49 : decode cX5_sumOf 49 = .ok (.aload_n 0, 1) := dk_42 (dk_at dksX5_sumOf_2 3 rfl rfl)
theorem dX5_sumOf_50 : decode cX5_sumOf 50 = .ok (.iconst 0, 1) := dk_3 (dk_at dksX5_sumOf_2 4 rfl rfl)
theorem dX5_sumOf_51 : decode cX5_sumOf 51 = .ok (.putfield 302, 3) := dk_181 1 46 (dk_at dksX5_sumOf_2 5 rfl rfl)
theorem dX5_sumOf_54 : decode cX5_sumOf 54 = .ok (.aload_n 0, 1) := dk_42 (dk_at dksX5_sumOf_2 8 rfl rfl)
theorem dX5_sumOf_55 : decode cX5_sumOf 55 = .ok (.aload_n 0, 1) := dk_42 (dk_at dksX5_sumOf_2 9 rfl rfl)
theorem dX5_sumOf_56 : decode cX5_sumOf 56 = .ok (.getfield 380, 3) := dk_180 1 124 (dk_at dksX5_sumOf_2 10 rfl rfl)
theorem dX5_sumOf_59 : decode cX5_sumOf 59 = .ok (.putfield 484, 3) := dk_181 1 228 (dk_at dksX5_sumOf_2 13 rfl rfl)
theorem dX5_sumOf_62 : decode cX5_sumOf 62 = .ok (.aload_n 0, 1) := dk_42 (dk_at dksX5_sumOf_2 16 rfl rfl)
theorem dX5_sumOf_63 : decode cX5_sumOf 63 = .ok (.getfield 398, 3) := dk_180 1 142 (dk_at dksX5_sumOf_2 17 rfl rfl)
theorem dX5_sumOf_66 : decode cX5_sumOf 66 = .ok (.l2i, 1) := dk_136 (dk_at dksX5_sumOf_2 20 rfl rfl)
theorem dX5_sumOf_67 : decode cX5_sumOf 67 = .ok (.ireturn, 1) := dk_172 (dk_at dksX5_sumOf_2 21 rfl rfl)
abbrev cX5_runOnce : ByteArray := prog_23_method_99_code
def yX5_runOnce : MethodName := ⟨RX5, "runOnce", "(I)I"⟩
def dkwX5_runOnce_3 : List UInt8 := [21, 5, 167, 0, 7, 42, 180, 1, 234, 181, 1, 234, 42, 89, 180, 1, 231, 4, 96, 181, 1, 231, 3, 172]
abbrev dktX5_runOnce_3 : List UInt8 := dkwX5_runOnce_3 ++ []
def dkwX5_runOnce_2 : List UInt8 := [182, 1, 243, 54, 5, 21, 5, 156, 0, 6, 16, 253, 172, 42, 42, 180, 0, 118, 27, 46, 5, 160, 0, 8]
abbrev dktX5_runOnce_2 : List UInt8 := dkwX5_runOnce_2 ++ dktX5_runOnce_3
def dkwX5_runOnce_1 : List UInt8 := [54, 4, 42, 180, 1, 228, 153, 0, 6, 16, 253, 172, 42, 42, 180, 0, 118, 27, 46, 28, 29, 21, 4]
abbrev dktX5_runOnce_1 : List UInt8 := dkwX5_runOnce_1 ++ dktX5_runOnce_2
def dkwX5_runOnce_0 : List UInt8 := [42, 27, 4, 96, 182, 1, 240, 61, 42, 27, 6, 96, 182, 1, 240, 62, 42, 27, 8, 96, 182, 1, 240]
abbrev dktX5_runOnce_0 : List UInt8 := dkwX5_runOnce_0 ++ dktX5_runOnce_1
theorem dksX5_runOnce_0 : cX5_runOnce.data.toList.drop 0 = dktX5_runOnce_0 := by decide +kernel
theorem dksX5_runOnce_1 : cX5_runOnce.data.toList.drop 23 = dktX5_runOnce_1 := dk_seg dksX5_runOnce_0 23 rfl rfl
theorem dksX5_runOnce_2 : cX5_runOnce.data.toList.drop 46 = dktX5_runOnce_2 := dk_seg dksX5_runOnce_1 23 rfl rfl
theorem dksX5_runOnce_3 : cX5_runOnce.data.toList.drop 70 = dktX5_runOnce_3 := dk_seg dksX5_runOnce_2 24 rfl rfl
theorem dX5_runOnce_0 : decode cX5_runOnce 0 = .ok (.aload_n 0, 1) := dk_42 (dk_at dksX5_runOnce_0 0 rfl rfl)
theorem dX5_runOnce_1 : decode cX5_runOnce 1 = .ok (.iload_n 1, 1) := dk_27 (dk_at dksX5_runOnce_0 1 rfl rfl)
theorem dX5_runOnce_2 : decode cX5_runOnce 2 = .ok (.iconst 1, 1) := dk_4 (dk_at dksX5_runOnce_0 2 rfl rfl)
theorem dX5_runOnce_3 : decode cX5_runOnce 3 = .ok (.iadd, 1) := dk_96 (dk_at dksX5_runOnce_0 3 rfl rfl)
theorem dX5_runOnce_4 : decode cX5_runOnce 4 = .ok (.invokevirtual 496, 3) := dk_182 1 240 (dk_at dksX5_runOnce_0 4 rfl rfl)
theorem dX5_runOnce_7 : decode cX5_runOnce 7 = .ok (.istore_n 2, 1) := dk_61 (dk_at dksX5_runOnce_0 7 rfl rfl)
theorem dX5_runOnce_8 : decode cX5_runOnce 8 = .ok (.aload_n 0, 1) := dk_42 (dk_at dksX5_runOnce_0 8 rfl rfl)
theorem dX5_runOnce_9 : decode cX5_runOnce 9 = .ok (.iload_n 1, 1) := dk_27 (dk_at dksX5_runOnce_0 9 rfl rfl)
theorem dX5_runOnce_10 : decode cX5_runOnce 10 = .ok (.iconst 3, 1) := dk_6 (dk_at dksX5_runOnce_0 10 rfl rfl)
theorem dX5_runOnce_11 : decode cX5_runOnce 11 = .ok (.iadd, 1) := dk_96 (dk_at dksX5_runOnce_0 11 rfl rfl)
theorem dX5_runOnce_12 : decode cX5_runOnce 12 = .ok (.invokevirtual 496, 3) := dk_182 1 240 (dk_at dksX5_runOnce_0 12 rfl rfl)
theorem dX5_runOnce_15 : decode cX5_runOnce 15 = .ok (.istore_n 3, 1) := dk_62 (dk_at dksX5_runOnce_0 15 rfl rfl)
theorem dX5_runOnce_16 : decode cX5_runOnce 16 = .ok (.aload_n 0, 1) := dk_42 (dk_at dksX5_runOnce_0 16 rfl rfl)
theorem dX5_runOnce_17 : decode cX5_runOnce 17 = .ok (.iload_n 1, 1) := dk_27 (dk_at dksX5_runOnce_0 17 rfl rfl)
theorem dX5_runOnce_18 : decode cX5_runOnce 18 = .ok (.iconst 5, 1) := dk_8 (dk_at dksX5_runOnce_0 18 rfl rfl)
theorem dX5_runOnce_19 : decode cX5_runOnce 19 = .ok (.iadd, 1) := dk_96 (dk_at dksX5_runOnce_0 19 rfl rfl)
theorem dX5_runOnce_20 : decode cX5_runOnce 20 = .ok (.invokevirtual 496, 3) := dk_182 1 240 (dk_at dksX5_runOnce_0 20 rfl rfl)
theorem dX5_runOnce_23 : decode cX5_runOnce 23 = .ok (.istore 4, 2) := dk_54 4 (dk_at dksX5_runOnce_1 0 rfl rfl)
theorem dX5_runOnce_25 : decode cX5_runOnce 25 = .ok (.aload_n 0, 1) := dk_42 (dk_at dksX5_runOnce_1 2 rfl rfl)
theorem dX5_runOnce_26 : decode cX5_runOnce 26 = .ok (.getfield 484, 3) := dk_180 1 228 (dk_at dksX5_runOnce_1 3 rfl rfl)
theorem dX5_runOnce_29 : decode cX5_runOnce 29 = .ok (.ifCond .eq 6, 3) := dk_153 0 6 (dk_at dksX5_runOnce_1 6 rfl rfl)
theorem dX5_runOnce_32 : decode cX5_runOnce 32 = .ok (.bipush (-3), 2) := dk_16 253 (dk_at dksX5_runOnce_1 9 rfl rfl)
theorem dX5_runOnce_34 : decode cX5_runOnce 34 = .ok (.ireturn, 1) := dk_172 (dk_at dksX5_runOnce_1 11 rfl rfl)
theorem dX5_runOnce_35 : decode cX5_runOnce 35 = .ok (.aload_n 0, 1) := dk_42 (dk_at dksX5_runOnce_1 12 rfl rfl)
theorem dX5_runOnce_36 : decode cX5_runOnce 36 = .ok (.aload_n 0, 1) := dk_42 (dk_at dksX5_runOnce_1 13 rfl rfl)
theorem dX5_runOnce_37 : decode cX5_runOnce 37 = .ok (.getfield 118, 3) := dk_180 0 118 (dk_at dksX5_runOnce_1 14 rfl rfl)
theorem dX5_runOnce_40 : decode cX5_runOnce 40 = .ok (.iload_n 1, 1) := dk_27 (dk_at dksX5_runOnce_1 17 rfl rfl)
theorem dX5_runOnce_41 : decode cX5_runOnce 41 = .ok (.iaload, 1) := dk_46 (dk_at dksX5_runOnce_1 18 rfl rfl)
theorem dX5_runOnce_42 : decode cX5_runOnce 42 = .ok (.iload_n 2, 1) := dk_28 (dk_at dksX5_runOnce_1 19 rfl rfl)
theorem dX5_runOnce_43 : decode cX5_runOnce 43 = .ok (.iload_n 3, 1) := dk_29 (dk_at dksX5_runOnce_1 20 rfl rfl)
theorem dX5_runOnce_44 : decode cX5_runOnce 44 = .ok (.iload 4, 2) := dk_21 4 (dk_at dksX5_runOnce_1 21 rfl rfl)
theorem dX5_runOnce_46 : decode cX5_runOnce 46 = .ok (.invokevirtual 499, 3) := dk_182 1 243 (dk_at dksX5_runOnce_2 0 rfl rfl)
theorem dX5_runOnce_49 : decode cX5_runOnce 49 = .ok (.istore 5, 2) := dk_54 5 (dk_at dksX5_runOnce_2 3 rfl rfl)
theorem dX5_runOnce_51 : decode cX5_runOnce 51 = .ok (.iload 5, 2) := dk_21 5 (dk_at dksX5_runOnce_2 5 rfl rfl)
theorem dX5_runOnce_53 : decode cX5_runOnce 53 = .ok (.ifCond .ge 6, 3) := dk_156 0 6 (dk_at dksX5_runOnce_2 7 rfl rfl)
theorem dX5_runOnce_56 : decode cX5_runOnce 56 = .ok (.bipush (-3), 2) := dk_16 253 (dk_at dksX5_runOnce_2 10 rfl rfl)
theorem dX5_runOnce_58 : decode cX5_runOnce 58 = .ok (.ireturn, 1) := dk_172 (dk_at dksX5_runOnce_2 12 rfl rfl)
theorem dX5_runOnce_59 : decode cX5_runOnce 59 = .ok (.aload_n 0, 1) := dk_42 (dk_at dksX5_runOnce_2 13 rfl rfl)
theorem dX5_runOnce_60 : decode cX5_runOnce 60 = .ok (.aload_n 0, 1) := dk_42 (dk_at dksX5_runOnce_2 14 rfl rfl)
theorem dX5_runOnce_61 : decode cX5_runOnce 61 = .ok (.getfield 118, 3) := dk_180 0 118 (dk_at dksX5_runOnce_2 15 rfl rfl)
theorem dX5_runOnce_64 : decode cX5_runOnce 64 = .ok (.iload_n 1, 1) := dk_27 (dk_at dksX5_runOnce_2 18 rfl rfl)
theorem dX5_runOnce_65 : decode cX5_runOnce 65 = .ok (.iaload, 1) := dk_46 (dk_at dksX5_runOnce_2 19 rfl rfl)
theorem dX5_runOnce_66 : decode cX5_runOnce 66 = .ok (.iconst 2, 1) := dk_5 (dk_at dksX5_runOnce_2 20 rfl rfl)
theorem dX5_runOnce_67 : decode cX5_runOnce 67 = .ok (.if_icmp .ne 8, 3) := dk_160 0 8 (dk_at dksX5_runOnce_2 21 rfl rfl)
theorem dX5_runOnce_70 : decode cX5_runOnce 70 = .ok (.iload 5, 2) := dk_21 5 (dk_at dksX5_runOnce_3 0 rfl rfl)
theorem dX5_runOnce_72 : decode cX5_runOnce 72 = .ok (.goto 7, 3) := dk_167 0 7 (dk_at dksX5_runOnce_3 2 rfl rfl)
theorem dX5_runOnce_75 : decode cX5_runOnce 75 = .ok (.aload_n 0, 1) := dk_42 (dk_at dksX5_runOnce_3 5 rfl rfl)
theorem dX5_runOnce_76 : decode cX5_runOnce 76 = .ok (.getfield 490, 3) := dk_180 1 234 (dk_at dksX5_runOnce_3 6 rfl rfl)
theorem dX5_runOnce_79 : decode cX5_runOnce 79 = .ok (.putfield 490, 3) := dk_181 1 234 (dk_at dksX5_runOnce_3 9 rfl rfl)
theorem dX5_runOnce_82 : decode cX5_runOnce 82 = .ok (.aload_n 0, 1) := dk_42 (dk_at dksX5_runOnce_3 12 rfl rfl)
theorem dX5_runOnce_83 : decode cX5_runOnce 83 = .ok (.dup, 1) := dk_89 (dk_at dksX5_runOnce_3 13 rfl rfl)
theorem dX5_runOnce_84 : decode cX5_runOnce 84 = .ok (.getfield 487, 3) := dk_180 1 231 (dk_at dksX5_runOnce_3 14 rfl rfl)
theorem dX5_runOnce_87 : decode cX5_runOnce 87 = .ok (.iconst 1, 1) := dk_4 (dk_at dksX5_runOnce_3 17 rfl rfl)
theorem dX5_runOnce_88 : decode cX5_runOnce 88 = .ok (.iadd, 1) := dk_96 (dk_at dksX5_runOnce_3 18 rfl rfl)
theorem dX5_runOnce_89 : decode cX5_runOnce 89 = .ok (.putfield 487, 3) := dk_181 1 231 (dk_at dksX5_runOnce_3 19 rfl rfl)
theorem dX5_runOnce_92 : decode cX5_runOnce 92 = .ok (.iconst 0, 1) := dk_3 (dk_at dksX5_runOnce_3 22 rfl rfl)
theorem dX5_runOnce_93 : decode cX5_runOnce 93 = .ok (.ireturn, 1) := dk_172 (dk_at dksX5_runOnce_3 23 rfl rfl)
abbrev cX5_act : ByteArray := prog_23_method_98_code
def yX5_act : MethodName := ⟨RX5, "act", "(IIII)I"⟩
def dkwX5_act_3 : List UInt8 := [42, 182, 1, 206, 172]
abbrev dktX5_act_3 : List UInt8 := dkwX5_act_3 ++ []
def dkwX5_act_2 : List UInt8 := [42, 21, 4, 28, 182, 1, 171, 172, 42, 29, 21, 4, 28, 182, 1, 184, 172, 42, 29, 28, 182, 1, 200, 172]
abbrev dktX5_act_2 : List UInt8 := dkwX5_act_2 ++ dktX5_act_3
def dkwX5_act_1 : List UInt8 := [170, 0, 0, 0, 0, 0, 51, 0, 0, 0, 0, 0, 0, 0, 2, 0, 0, 0, 27, 0, 0, 0, 35, 0, 0, 0, 44]
abbrev dktX5_act_1 : List UInt8 := dkwX5_act_1 ++ dktX5_act_2
def dkwX5_act_0 : List UInt8 := [27]
abbrev dktX5_act_0 : List UInt8 := dkwX5_act_0 ++ dktX5_act_1
theorem dksX5_act_0 : cX5_act.data.toList.drop 0 = dktX5_act_0 := by decide +kernel
theorem dksX5_act_1 : cX5_act.data.toList.drop 1 = dktX5_act_1 := dk_seg dksX5_act_0 1 rfl rfl
theorem dksX5_act_2 : cX5_act.data.toList.drop 28 = dktX5_act_2 := dk_seg dksX5_act_1 27 rfl rfl
theorem dksX5_act_3 : cX5_act.data.toList.drop 52 = dktX5_act_3 := dk_seg dksX5_act_2 24 rfl rfl
theorem dX5_act_0 : decode cX5_act 0 = .ok (.iload_n 1, 1) := dk_27 (dk_at dksX5_act_0 0 rfl rfl)
theorem dX5_act_1 : decode cX5_act 1 = .ok (.tableswitch 51 0 2 #[27, 35, 44], 27) := by decide +kernel
theorem dX5_act_28 : decode cX5_act 28 = .ok (.aload_n 0, 1) := dk_42 (dk_at dksX5_act_2 0 rfl rfl)
theorem dX5_act_29 : decode cX5_act 29 = .ok (.iload 4, 2) := dk_21 4 (dk_at dksX5_act_2 1 rfl rfl)
theorem dX5_act_31 : decode cX5_act 31 = .ok (.iload_n 2, 1) := dk_28 (dk_at dksX5_act_2 3 rfl rfl)
theorem dX5_act_32 : decode cX5_act 32 = .ok (.invokevirtual 427, 3) := dk_182 1 171 (dk_at dksX5_act_2 4 rfl rfl)
theorem dX5_act_35 : decode cX5_act 35 = .ok (.ireturn, 1) := dk_172 (dk_at dksX5_act_2 7 rfl rfl)
theorem dX5_act_36 : decode cX5_act 36 = .ok (.aload_n 0, 1) := dk_42 (dk_at dksX5_act_2 8 rfl rfl)
theorem dX5_act_37 : decode cX5_act 37 = .ok (.iload_n 3, 1) := dk_29 (dk_at dksX5_act_2 9 rfl rfl)
theorem dX5_act_38 : decode cX5_act 38 = .ok (.iload 4, 2) := dk_21 4 (dk_at dksX5_act_2 10 rfl rfl)
theorem dX5_act_40 : decode cX5_act 40 = .ok (.iload_n 2, 1) := dk_28 (dk_at dksX5_act_2 12 rfl rfl)
theorem dX5_act_41 : decode cX5_act 41 = .ok (.invokevirtual 440, 3) := dk_182 1 184 (dk_at dksX5_act_2 13 rfl rfl)
theorem dX5_act_44 : decode cX5_act 44 = .ok (.ireturn, 1) := dk_172 (dk_at dksX5_act_2 16 rfl rfl)
theorem dX5_act_45 : decode cX5_act 45 = .ok (.aload_n 0, 1) := dk_42 (dk_at dksX5_act_2 17 rfl rfl)
theorem dX5_act_46 : decode cX5_act 46 = .ok (.iload_n 3, 1) := dk_29 (dk_at dksX5_act_2 18 rfl rfl)
theorem dX5_act_47 : decode cX5_act 47 = .ok (.iload_n 2, 1) := dk_28 (dk_at dksX5_act_2 19 rfl rfl)
theorem dX5_act_48 : decode cX5_act 48 = .ok (.invokevirtual 456, 3) := dk_182 1 200 (dk_at dksX5_act_2 20 rfl rfl)
theorem dX5_act_51 : decode cX5_act 51 = .ok (.ireturn, 1) := dk_172 (dk_at dksX5_act_2 23 rfl rfl)
theorem dX5_act_52 : decode cX5_act 52 = .ok (.aload_n 0, 1) := dk_42 (dk_at dksX5_act_3 0 rfl rfl)
theorem dX5_act_53 : decode cX5_act 53 = .ok (.invokevirtual 462, 3) := dk_182 1 206 (dk_at dksX5_act_3 1 rfl rfl)
theorem dX5_act_56 : decode cX5_act 56 = .ok (.ireturn, 1) := dk_172 (dk_at dksX5_act_3 4 rfl rfl)
abbrev cX5_giveBack : ByteArray := prog_23_method_102_code
def yX5_giveBack : MethodName := ⟨RX5, "giveBack", "(I)V"⟩
def dkwX5_giveBack_2 : List UInt8 := [180, 0, 32, 28, 46, 79, 132, 2, 1, 167, 255, 235, 42, 27, 181, 0, 139, 177]
abbrev dktX5_giveBack_2 : List UInt8 := dkwX5_giveBack_2 ++ []
def dkwX5_giveBack_1 : List UInt8 := [28, 46, 79, 132, 2, 1, 167, 255, 234, 3, 61, 28, 16, 16, 162, 0, 21, 42, 180, 0, 26, 28, 42]
abbrev dktX5_giveBack_1 : List UInt8 := dkwX5_giveBack_1 ++ dktX5_giveBack_2
def dkwX5_giveBack_0 : List UInt8 := [42, 16, 17, 182, 0, 150, 3, 61, 28, 17, 10, 80, 162, 0, 21, 42, 180, 0, 23, 28, 42, 180, 0, 29]
abbrev dktX5_giveBack_0 : List UInt8 := dkwX5_giveBack_0 ++ dktX5_giveBack_1
theorem dksX5_giveBack_0 : cX5_giveBack.data.toList.drop 0 = dktX5_giveBack_0 := by decide +kernel
theorem dksX5_giveBack_1 : cX5_giveBack.data.toList.drop 24 = dktX5_giveBack_1 := dk_seg dksX5_giveBack_0 24 rfl rfl
theorem dksX5_giveBack_2 : cX5_giveBack.data.toList.drop 47 = dktX5_giveBack_2 := dk_seg dksX5_giveBack_1 23 rfl rfl
theorem dX5_giveBack_0 : decode cX5_giveBack 0 = .ok (.aload_n 0, 1) := dk_42 (dk_at dksX5_giveBack_0 0 rfl rfl)
theorem dX5_giveBack_1 : decode cX5_giveBack 1 = .ok (.bipush 17, 2) := dk_16 17 (dk_at dksX5_giveBack_0 1 rfl rfl)
theorem dX5_giveBack_3 : decode cX5_giveBack 3 = .ok (.invokevirtual 150, 3) := dk_182 0 150 (dk_at dksX5_giveBack_0 3 rfl rfl)
theorem dX5_giveBack_6 : decode cX5_giveBack 6 = .ok (.iconst 0, 1) := dk_3 (dk_at dksX5_giveBack_0 6 rfl rfl)
theorem dX5_giveBack_7 : decode cX5_giveBack 7 = .ok (.istore_n 2, 1) := dk_61 (dk_at dksX5_giveBack_0 7 rfl rfl)
theorem dX5_giveBack_8 : decode cX5_giveBack 8 = .ok (.iload_n 2, 1) := dk_28 (dk_at dksX5_giveBack_0 8 rfl rfl)
theorem dX5_giveBack_9 : decode cX5_giveBack 9 = .ok (.sipush 2640, 3) := dk_17 10 80 (dk_at dksX5_giveBack_0 9 rfl rfl)
theorem dX5_giveBack_12 : decode cX5_giveBack 12 = .ok (.if_icmp .ge 21, 3) := dk_162 0 21 (dk_at dksX5_giveBack_0 12 rfl rfl)
theorem dX5_giveBack_15 : decode cX5_giveBack 15 = .ok (.aload_n 0, 1) := dk_42 (dk_at dksX5_giveBack_0 15 rfl rfl)
theorem dX5_giveBack_16 : decode cX5_giveBack 16 = .ok (.getfield 23, 3) := dk_180 0 23 (dk_at dksX5_giveBack_0 16 rfl rfl)
theorem dX5_giveBack_19 : decode cX5_giveBack 19 = .ok (.iload_n 2, 1) := dk_28 (dk_at dksX5_giveBack_0 19 rfl rfl)
theorem dX5_giveBack_20 : decode cX5_giveBack 20 = .ok (.aload_n 0, 1) := dk_42 (dk_at dksX5_giveBack_0 20 rfl rfl)
theorem dX5_giveBack_21 : decode cX5_giveBack 21 = .ok (.getfield 29, 3) := dk_180 0 29 (dk_at dksX5_giveBack_0 21 rfl rfl)
theorem dX5_giveBack_24 : decode cX5_giveBack 24 = .ok (.iload_n 2, 1) := dk_28 (dk_at dksX5_giveBack_1 0 rfl rfl)
theorem dX5_giveBack_25 : decode cX5_giveBack 25 = .ok (.iaload, 1) := dk_46 (dk_at dksX5_giveBack_1 1 rfl rfl)
theorem dX5_giveBack_26 : decode cX5_giveBack 26 = .ok (.iastore, 1) := dk_79 (dk_at dksX5_giveBack_1 2 rfl rfl)
theorem dX5_giveBack_27 : decode cX5_giveBack 27 = .ok (.iinc 2 1, 3) := dk_132 2 1 (dk_at dksX5_giveBack_1 3 rfl rfl)
theorem dX5_giveBack_30 : decode cX5_giveBack 30 = .ok (.goto (-22), 3) := dk_167 255 234 (dk_at dksX5_giveBack_1 6 rfl rfl)
theorem dX5_giveBack_33 : decode cX5_giveBack 33 = .ok (.iconst 0, 1) := dk_3 (dk_at dksX5_giveBack_1 9 rfl rfl)
theorem dX5_giveBack_34 : decode cX5_giveBack 34 = .ok (.istore_n 2, 1) := dk_61 (dk_at dksX5_giveBack_1 10 rfl rfl)
theorem dX5_giveBack_35 : decode cX5_giveBack 35 = .ok (.iload_n 2, 1) := dk_28 (dk_at dksX5_giveBack_1 11 rfl rfl)
theorem dX5_giveBack_36 : decode cX5_giveBack 36 = .ok (.bipush 16, 2) := dk_16 16 (dk_at dksX5_giveBack_1 12 rfl rfl)
theorem dX5_giveBack_38 : decode cX5_giveBack 38 = .ok (.if_icmp .ge 21, 3) := dk_162 0 21 (dk_at dksX5_giveBack_1 14 rfl rfl)
theorem dX5_giveBack_41 : decode cX5_giveBack 41 = .ok (.aload_n 0, 1) := dk_42 (dk_at dksX5_giveBack_1 17 rfl rfl)
theorem dX5_giveBack_42 : decode cX5_giveBack 42 = .ok (.getfield 26, 3) := dk_180 0 26 (dk_at dksX5_giveBack_1 18 rfl rfl)
theorem dX5_giveBack_45 : decode cX5_giveBack 45 = .ok (.iload_n 2, 1) := dk_28 (dk_at dksX5_giveBack_1 21 rfl rfl)
theorem dX5_giveBack_46 : decode cX5_giveBack 46 = .ok (.aload_n 0, 1) := dk_42 (dk_at dksX5_giveBack_1 22 rfl rfl)
theorem dX5_giveBack_47 : decode cX5_giveBack 47 = .ok (.getfield 32, 3) := dk_180 0 32 (dk_at dksX5_giveBack_2 0 rfl rfl)
theorem dX5_giveBack_50 : decode cX5_giveBack 50 = .ok (.iload_n 2, 1) := dk_28 (dk_at dksX5_giveBack_2 3 rfl rfl)
theorem dX5_giveBack_51 : decode cX5_giveBack 51 = .ok (.iaload, 1) := dk_46 (dk_at dksX5_giveBack_2 4 rfl rfl)
theorem dX5_giveBack_52 : decode cX5_giveBack 52 = .ok (.iastore, 1) := dk_79 (dk_at dksX5_giveBack_2 5 rfl rfl)
theorem dX5_giveBack_53 : decode cX5_giveBack 53 = .ok (.iinc 2 1, 3) := dk_132 2 1 (dk_at dksX5_giveBack_2 6 rfl rfl)
theorem dX5_giveBack_56 : decode cX5_giveBack 56 = .ok (.goto (-21), 3) := dk_167 255 235 (dk_at dksX5_giveBack_2 9 rfl rfl)
theorem dX5_giveBack_59 : decode cX5_giveBack 59 = .ok (.aload_n 0, 1) := dk_42 (dk_at dksX5_giveBack_2 12 rfl rfl)
theorem dX5_giveBack_60 : decode cX5_giveBack 60 = .ok (.iload_n 1, 1) := dk_27 (dk_at dksX5_giveBack_2 13 rfl rfl)
theorem dX5_giveBack_61 : decode cX5_giveBack 61 = .ok (.putfield 139, 3) := dk_181 0 139 (dk_at dksX5_giveBack_2 14 rfl rfl)
theorem dX5_giveBack_64 : decode cX5_giveBack 64 = .ok (.return_, 1) := dk_177 (dk_at dksX5_giveBack_2 17 rfl rfl)
abbrev cX5_stopped : ByteArray := prog_23_method_103_code
def yX5_stopped : MethodName := ⟨RX5, "stopped", "()I"⟩
def dkwX5_stopped_0 : List UInt8 := [42, 3, 181, 0, 133, 42, 180, 0, 121, 172]
abbrev dktX5_stopped_0 : List UInt8 := dkwX5_stopped_0 ++ []
theorem dksX5_stopped_0 : cX5_stopped.data.toList.drop 0 = dktX5_stopped_0 := by decide +kernel
theorem dX5_stopped_0 : decode cX5_stopped 0 = .ok (.aload_n 0, 1) := dk_42 (dk_at dksX5_stopped_0 0 rfl rfl)
theorem dX5_stopped_1 : decode cX5_stopped 1 = .ok (.iconst 0, 1) := dk_3 (dk_at dksX5_stopped_0 1 rfl rfl)
theorem dX5_stopped_2 : decode cX5_stopped 2 = .ok (.putfield 133, 3) := dk_181 0 133 (dk_at dksX5_stopped_0 2 rfl rfl)
theorem dX5_stopped_5 : decode cX5_stopped 5 = .ok (.aload_n 0, 1) := dk_42 (dk_at dksX5_stopped_0 5 rfl rfl)
theorem dX5_stopped_6 : decode cX5_stopped 6 = .ok (.getfield 121, 3) := dk_180 0 121 (dk_at dksX5_stopped_0 6 rfl rfl)
theorem dX5_stopped_9 : decode cX5_stopped 9 = .ok (.ireturn, 1) := dk_172 (dk_at dksX5_stopped_0 9 rfl rfl)
abbrev cX5_byPlan : ByteArray := prog_23_method_107_code
def yX5_byPlan : MethodName := ⟨RX5, "byPlan", "(IIII)I"⟩
def dkwX5_byPlan_4 : List UInt8 := [182, 0, 169, 167, 0, 8, 42, 29, 182, 0, 188, 54, 5, 42, 16, 16, 182, 0, 150, 21, 5, 172]
abbrev dktX5_byPlan_4 : List UInt8 := dkwX5_byPlan_4 ++ []
def dkwX5_byPlan_3 : List UInt8 := [167, 255, 243, 21, 4, 154, 0, 11, 42, 29, 182, 0, 166, 167, 0, 22, 21, 4, 4, 160, 0, 11, 42, 29]
abbrev dktX5_byPlan_3 : List UInt8 := dkwX5_byPlan_3 ++ dktX5_byPlan_4
def dkwX5_byPlan_2 : List UInt8 := [2, 172, 42, 27, 182, 2, 20, 3, 54, 5, 21, 5, 28, 162, 0, 13, 42, 182, 2, 23, 132, 5, 1]
abbrev dktX5_byPlan_2 : List UInt8 := dkwX5_byPlan_2 ++ dktX5_byPlan_3
def dkwX5_byPlan_1 : List UInt8 := [153, 0, 24, 42, 29, 182, 0, 184, 153, 0, 16, 21, 4, 133, 9, 20, 2, 18, 184, 0, 153, 154, 0, 5]
abbrev dktX5_byPlan_1 : List UInt8 := dkwX5_byPlan_1 ++ dktX5_byPlan_2
def dkwX5_byPlan_0 : List UInt8 := [42, 3, 181, 0, 133, 42, 27, 182, 2, 13, 153, 0, 36, 28, 133, 9, 20, 2, 16, 184, 0, 153]
abbrev dktX5_byPlan_0 : List UInt8 := dkwX5_byPlan_0 ++ dktX5_byPlan_1
theorem dksX5_byPlan_0 : cX5_byPlan.data.toList.drop 0 = dktX5_byPlan_0 := by decide +kernel
theorem dksX5_byPlan_1 : cX5_byPlan.data.toList.drop 22 = dktX5_byPlan_1 := dk_seg dksX5_byPlan_0 22 rfl rfl
theorem dksX5_byPlan_2 : cX5_byPlan.data.toList.drop 46 = dktX5_byPlan_2 := dk_seg dksX5_byPlan_1 24 rfl rfl
theorem dksX5_byPlan_3 : cX5_byPlan.data.toList.drop 69 = dktX5_byPlan_3 := dk_seg dksX5_byPlan_2 23 rfl rfl
theorem dksX5_byPlan_4 : cX5_byPlan.data.toList.drop 93 = dktX5_byPlan_4 := dk_seg dksX5_byPlan_3 24 rfl rfl
theorem dX5_byPlan_0 : decode cX5_byPlan 0 = .ok (.aload_n 0, 1) := dk_42 (dk_at dksX5_byPlan_0 0 rfl rfl)
theorem dX5_byPlan_1 : decode cX5_byPlan 1 = .ok (.iconst 0, 1) := dk_3 (dk_at dksX5_byPlan_0 1 rfl rfl)
theorem dX5_byPlan_2 : decode cX5_byPlan 2 = .ok (.putfield 133, 3) := dk_181 0 133 (dk_at dksX5_byPlan_0 2 rfl rfl)
theorem dX5_byPlan_5 : decode cX5_byPlan 5 = .ok (.aload_n 0, 1) := dk_42 (dk_at dksX5_byPlan_0 5 rfl rfl)
theorem dX5_byPlan_6 : decode cX5_byPlan 6 = .ok (.iload_n 1, 1) := dk_27 (dk_at dksX5_byPlan_0 6 rfl rfl)
theorem dX5_byPlan_7 : decode cX5_byPlan 7 = .ok (.invokevirtual 525, 3) := dk_182 2 13 (dk_at dksX5_byPlan_0 7 rfl rfl)
theorem dX5_byPlan_10 : decode cX5_byPlan 10 = .ok (.ifCond .eq 36, 3) := dk_153 0 36 (dk_at dksX5_byPlan_0 10 rfl rfl)
theorem dX5_byPlan_13 : decode cX5_byPlan 13 = .ok (.iload_n 2, 1) := dk_28 (dk_at dksX5_byPlan_0 13 rfl rfl)
theorem dX5_byPlan_14 : decode cX5_byPlan 14 = .ok (.i2l, 1) := dk_133 (dk_at dksX5_byPlan_0 14 rfl rfl)
theorem dX5_byPlan_15 : decode cX5_byPlan 15 = .ok (.lconst 0, 1) := dk_9 (dk_at dksX5_byPlan_0 15 rfl rfl)
theorem dX5_byPlan_16 : decode cX5_byPlan 16 = .ok (.ldc2_w 528, 3) := dk_20 2 16 (dk_at dksX5_byPlan_0 16 rfl rfl)
theorem dX5_byPlan_19 : decode cX5_byPlan 19 = .ok (.invokestatic 153, 3) := dk_184 0 153 (dk_at dksX5_byPlan_0 19 rfl rfl)
theorem dX5_byPlan_22 : decode cX5_byPlan 22 = .ok (.ifCond .eq 24, 3) := dk_153 0 24 (dk_at dksX5_byPlan_1 0 rfl rfl)
theorem dX5_byPlan_25 : decode cX5_byPlan 25 = .ok (.aload_n 0, 1) := dk_42 (dk_at dksX5_byPlan_1 3 rfl rfl)
theorem dX5_byPlan_26 : decode cX5_byPlan 26 = .ok (.iload_n 3, 1) := dk_29 (dk_at dksX5_byPlan_1 4 rfl rfl)
theorem dX5_byPlan_27 : decode cX5_byPlan 27 = .ok (.invokevirtual 184, 3) := dk_182 0 184 (dk_at dksX5_byPlan_1 5 rfl rfl)
theorem dX5_byPlan_30 : decode cX5_byPlan 30 = .ok (.ifCond .eq 16, 3) := dk_153 0 16 (dk_at dksX5_byPlan_1 8 rfl rfl)
theorem dX5_byPlan_33 : decode cX5_byPlan 33 = .ok (.iload 4, 2) := dk_21 4 (dk_at dksX5_byPlan_1 11 rfl rfl)
theorem dX5_byPlan_35 : decode cX5_byPlan 35 = .ok (.i2l, 1) := dk_133 (dk_at dksX5_byPlan_1 13 rfl rfl)
theorem dX5_byPlan_36 : decode cX5_byPlan 36 = .ok (.lconst 0, 1) := dk_9 (dk_at dksX5_byPlan_1 14 rfl rfl)
theorem dX5_byPlan_37 : decode cX5_byPlan 37 = .ok (.ldc2_w 530, 3) := dk_20 2 18 (dk_at dksX5_byPlan_1 15 rfl rfl)
theorem dX5_byPlan_40 : decode cX5_byPlan 40 = .ok (.invokestatic 153, 3) := dk_184 0 153 (dk_at dksX5_byPlan_1 18 rfl rfl)
theorem dX5_byPlan_43 : decode cX5_byPlan 43 = .ok (.ifCond .ne 5, 3) := dk_154 0 5 (dk_at dksX5_byPlan_1 21 rfl rfl)
theorem dX5_byPlan_46 : decode cX5_byPlan 46 = .ok (.iconst (-1), 1) := dk_2 (dk_at dksX5_byPlan_2 0 rfl rfl)
theorem dX5_byPlan_47 : decode cX5_byPlan 47 = .ok (.ireturn, 1) := dk_172 (dk_at dksX5_byPlan_2 1 rfl rfl)
theorem dX5_byPlan_48 : decode cX5_byPlan 48 = .ok (.aload_n 0, 1) := dk_42 (dk_at dksX5_byPlan_2 2 rfl rfl)
theorem dX5_byPlan_49 : decode cX5_byPlan 49 = .ok (.iload_n 1, 1) := dk_27 (dk_at dksX5_byPlan_2 3 rfl rfl)
theorem dX5_byPlan_50 : decode cX5_byPlan 50 = .ok (.invokevirtual 532, 3) := dk_182 2 20 (dk_at dksX5_byPlan_2 4 rfl rfl)
theorem dX5_byPlan_53 : decode cX5_byPlan 53 = .ok (.iconst 0, 1) := dk_3 (dk_at dksX5_byPlan_2 7 rfl rfl)
theorem dX5_byPlan_54 : decode cX5_byPlan 54 = .ok (.istore 5, 2) := dk_54 5 (dk_at dksX5_byPlan_2 8 rfl rfl)
theorem dX5_byPlan_56 : decode cX5_byPlan 56 = .ok (.iload 5, 2) := dk_21 5 (dk_at dksX5_byPlan_2 10 rfl rfl)
theorem dX5_byPlan_58 : decode cX5_byPlan 58 = .ok (.iload_n 2, 1) := dk_28 (dk_at dksX5_byPlan_2 12 rfl rfl)
theorem dX5_byPlan_59 : decode cX5_byPlan 59 = .ok (.if_icmp .ge 13, 3) := dk_162 0 13 (dk_at dksX5_byPlan_2 13 rfl rfl)
theorem dX5_byPlan_62 : decode cX5_byPlan 62 = .ok (.aload_n 0, 1) := dk_42 (dk_at dksX5_byPlan_2 16 rfl rfl)
theorem dX5_byPlan_63 : decode cX5_byPlan 63 = .ok (.invokevirtual 535, 3) := dk_182 2 23 (dk_at dksX5_byPlan_2 17 rfl rfl)
theorem dX5_byPlan_66 : decode cX5_byPlan 66 = .ok (.iinc 5 1, 3) := dk_132 5 1 (dk_at dksX5_byPlan_2 20 rfl rfl)
theorem dX5_byPlan_69 : decode cX5_byPlan 69 = .ok (.goto (-13), 3) := dk_167 255 243 (dk_at dksX5_byPlan_3 0 rfl rfl)
theorem dX5_byPlan_72 : decode cX5_byPlan 72 = .ok (.iload 4, 2) := dk_21 4 (dk_at dksX5_byPlan_3 3 rfl rfl)
theorem dX5_byPlan_74 : decode cX5_byPlan 74 = .ok (.ifCond .ne 11, 3) := dk_154 0 11 (dk_at dksX5_byPlan_3 5 rfl rfl)
theorem dX5_byPlan_77 : decode cX5_byPlan 77 = .ok (.aload_n 0, 1) := dk_42 (dk_at dksX5_byPlan_3 8 rfl rfl)
theorem dX5_byPlan_78 : decode cX5_byPlan 78 = .ok (.iload_n 3, 1) := dk_29 (dk_at dksX5_byPlan_3 9 rfl rfl)
theorem dX5_byPlan_79 : decode cX5_byPlan 79 = .ok (.invokevirtual 166, 3) := dk_182 0 166 (dk_at dksX5_byPlan_3 10 rfl rfl)
theorem dX5_byPlan_82 : decode cX5_byPlan 82 = .ok (.goto 22, 3) := dk_167 0 22 (dk_at dksX5_byPlan_3 13 rfl rfl)
theorem dX5_byPlan_85 : decode cX5_byPlan 85 = .ok (.iload 4, 2) := dk_21 4 (dk_at dksX5_byPlan_3 16 rfl rfl)
theorem dX5_byPlan_87 : decode cX5_byPlan 87 = .ok (.iconst 1, 1) := dk_4 (dk_at dksX5_byPlan_3 18 rfl rfl)
theorem dX5_byPlan_88 : decode cX5_byPlan 88 = .ok (.if_icmp .ne 11, 3) := dk_160 0 11 (dk_at dksX5_byPlan_3 19 rfl rfl)
theorem dX5_byPlan_91 : decode cX5_byPlan 91 = .ok (.aload_n 0, 1) := dk_42 (dk_at dksX5_byPlan_3 22 rfl rfl)
theorem dX5_byPlan_92 : decode cX5_byPlan 92 = .ok (.iload_n 3, 1) := dk_29 (dk_at dksX5_byPlan_3 23 rfl rfl)
theorem dX5_byPlan_93 : decode cX5_byPlan 93 = .ok (.invokevirtual 169, 3) := dk_182 0 169 (dk_at dksX5_byPlan_4 0 rfl rfl)
theorem dX5_byPlan_96 : decode cX5_byPlan 96 = .ok (.goto 8, 3) := dk_167 0 8 (dk_at dksX5_byPlan_4 3 rfl rfl)
theorem dX5_byPlan_99 : decode cX5_byPlan 99 = .ok (.aload_n 0, 1) := dk_42 (dk_at dksX5_byPlan_4 6 rfl rfl)
theorem dX5_byPlan_100 : decode cX5_byPlan 100 = .ok (.iload_n 3, 1) := dk_29 (dk_at dksX5_byPlan_4 7 rfl rfl)
theorem dX5_byPlan_101 : decode cX5_byPlan 101 = .ok (.invokevirtual 188, 3) := dk_182 0 188 (dk_at dksX5_byPlan_4 8 rfl rfl)
theorem dX5_byPlan_104 : decode cX5_byPlan 104 = .ok (.istore 5, 2) := dk_54 5 (dk_at dksX5_byPlan_4 11 rfl rfl)
theorem dX5_byPlan_106 : decode cX5_byPlan 106 = .ok (.aload_n 0, 1) := dk_42 (dk_at dksX5_byPlan_4 13 rfl rfl)
theorem dX5_byPlan_107 : decode cX5_byPlan 107 = .ok (.bipush 16, 2) := dk_16 16 (dk_at dksX5_byPlan_4 14 rfl rfl)
theorem dX5_byPlan_109 : decode cX5_byPlan 109 = .ok (.invokevirtual 150, 3) := dk_182 0 150 (dk_at dksX5_byPlan_4 16 rfl rfl)
theorem dX5_byPlan_112 : decode cX5_byPlan 112 = .ok (.iload 5, 2) := dk_21 5 (dk_at dksX5_byPlan_4 19 rfl rfl)
theorem dX5_byPlan_114 : decode cX5_byPlan 114 = .ok (.ireturn, 1) := dk_172 (dk_at dksX5_byPlan_4 21 rfl rfl)
abbrev cX5_isPlan : ByteArray := prog_23_method_94_code
def yX5_isPlan : MethodName := ⟨RX5, "isPlan", "(I)Z"⟩
def dkwX5_isPlan_0 : List UInt8 := [27, 133, 9, 42, 180, 0, 13, 6, 46, 133, 10, 101, 184, 0, 153, 172]
abbrev dktX5_isPlan_0 : List UInt8 := dkwX5_isPlan_0 ++ []
theorem dksX5_isPlan_0 : cX5_isPlan.data.toList.drop 0 = dktX5_isPlan_0 := by decide +kernel
theorem dX5_isPlan_0 : decode cX5_isPlan 0 = .ok (.iload_n 1, 1) := dk_27 (dk_at dksX5_isPlan_0 0 rfl rfl)
theorem dX5_isPlan_1 : decode cX5_isPlan 1 = .ok (.i2l, 1) := dk_133 (dk_at dksX5_isPlan_0 1 rfl rfl)
theorem dX5_isPlan_2 : decode cX5_isPlan 2 = .ok (.lconst 0, 1) := dk_9 (dk_at dksX5_isPlan_0 2 rfl rfl)
theorem dX5_isPlan_3 : decode cX5_isPlan 3 = .ok (.aload_n 0, 1) := dk_42 (dk_at dksX5_isPlan_0 3 rfl rfl)
theorem dX5_isPlan_4 : decode cX5_isPlan 4 = .ok (.getfield 13, 3) := dk_180 0 13 (dk_at dksX5_isPlan_0 4 rfl rfl)
theorem dX5_isPlan_7 : decode cX5_isPlan 7 = .ok (.iconst 3, 1) := dk_6 (dk_at dksX5_isPlan_0 7 rfl rfl)
theorem dX5_isPlan_8 : decode cX5_isPlan 8 = .ok (.iaload, 1) := dk_46 (dk_at dksX5_isPlan_0 8 rfl rfl)
theorem dX5_isPlan_9 : decode cX5_isPlan 9 = .ok (.i2l, 1) := dk_133 (dk_at dksX5_isPlan_0 9 rfl rfl)
theorem dX5_isPlan_10 : decode cX5_isPlan 10 = .ok (.lconst 1, 1) := dk_10 (dk_at dksX5_isPlan_0 10 rfl rfl)
theorem dX5_isPlan_11 : decode cX5_isPlan 11 = .ok (.lsub, 1) := dk_101 (dk_at dksX5_isPlan_0 11 rfl rfl)
theorem dX5_isPlan_12 : decode cX5_isPlan 12 = .ok (.invokestatic 153, 3) := dk_184 0 153 (dk_at dksX5_isPlan_0 12 rfl rfl)
theorem dX5_isPlan_15 : decode cX5_isPlan 15 = .ok (.ireturn, 1) := dk_172 (dk_at dksX5_isPlan_0 15 rfl rfl)
abbrev cX5_beginPlan : ByteArray := prog_23_method_106_code
def yX5_beginPlan : MethodName := ⟨RX5, "beginPlan", "(I)V"⟩
def dkwX5_beginPlan_0 : List UInt8 := [42, 27, 182, 2, 9, 42, 16, 16, 182, 0, 146, 42, 3, 181, 1, 188, 42, 19, 2, 12, 181, 1, 191, 177]
abbrev dktX5_beginPlan_0 : List UInt8 := dkwX5_beginPlan_0 ++ []
theorem dksX5_beginPlan_0 : cX5_beginPlan.data.toList.drop 0 = dktX5_beginPlan_0 := by decide +kernel
theorem dX5_beginPlan_0 : decode cX5_beginPlan 0 = .ok (.aload_n 0, 1) := dk_42 (dk_at dksX5_beginPlan_0 0 rfl rfl)
theorem dX5_beginPlan_1 : decode cX5_beginPlan 1 = .ok (.iload_n 1, 1) := dk_27 (dk_at dksX5_beginPlan_0 1 rfl rfl)
theorem dX5_beginPlan_2 : decode cX5_beginPlan 2 = .ok (.invokevirtual 521, 3) := dk_182 2 9 (dk_at dksX5_beginPlan_0 2 rfl rfl)
theorem dX5_beginPlan_5 : decode cX5_beginPlan 5 = .ok (.aload_n 0, 1) := dk_42 (dk_at dksX5_beginPlan_0 5 rfl rfl)
theorem dX5_beginPlan_6 : decode cX5_beginPlan 6 = .ok (.bipush 16, 2) := dk_16 16 (dk_at dksX5_beginPlan_0 6 rfl rfl)
theorem dX5_beginPlan_8 : decode cX5_beginPlan 8 = .ok (.invokevirtual 146, 3) := dk_182 0 146 (dk_at dksX5_beginPlan_0 8 rfl rfl)
theorem dX5_beginPlan_11 : decode cX5_beginPlan 11 = .ok (.aload_n 0, 1) := dk_42 (dk_at dksX5_beginPlan_0 11 rfl rfl)
theorem dX5_beginPlan_12 : decode cX5_beginPlan 12 = .ok (.iconst 0, 1) := dk_3 (dk_at dksX5_beginPlan_0 12 rfl rfl)
theorem dX5_beginPlan_13 : decode cX5_beginPlan 13 = .ok (.putfield 444, 3) := dk_181 1 188 (dk_at dksX5_beginPlan_0 13 rfl rfl)
theorem dX5_beginPlan_16 : decode cX5_beginPlan 16 = .ok (.aload_n 0, 1) := dk_42 (dk_at dksX5_beginPlan_0 16 rfl rfl)
theorem dX5_beginPlan_17 : decode cX5_beginPlan 17 = .ok (.ldc_w 524, 3) := dk_19 2 12 (dk_at dksX5_beginPlan_0 17 rfl rfl)
theorem dX5_beginPlan_20 : decode cX5_beginPlan 20 = .ok (.putfield 447, 3) := dk_181 1 191 (dk_at dksX5_beginPlan_0 20 rfl rfl)
theorem dX5_beginPlan_23 : decode cX5_beginPlan 23 = .ok (.return_, 1) := dk_177 (dk_at dksX5_beginPlan_0 23 rfl rfl)
abbrev cX5_loadPlan : ByteArray := prog_23_method_93_code
def yX5_loadPlan : MethodName := ⟨RX5, "loadPlan", "(I)V"⟩
def dkwX5_loadPlan_5 : List UInt8 := [79, 132, 3, 1, 167, 255, 203, 177]
abbrev dktX5_loadPlan_5 : List UInt8 := dkwX5_loadPlan_5 ++ []
def dkwX5_loadPlan_4 : List UInt8 := [96, 46, 79, 42, 180, 0, 48, 29, 42, 180, 0, 13, 28, 17, 0, 146, 96, 5, 29, 104, 96, 4, 96, 46]
abbrev dktX5_loadPlan_4 : List UInt8 := dkwX5_loadPlan_4 ++ dktX5_loadPlan_5
def dkwX5_loadPlan_3 : List UInt8 := [42, 180, 1, 8, 162, 0, 51, 42, 180, 0, 45, 29, 42, 180, 0, 13, 28, 17, 0, 146, 96, 5, 29, 104]
abbrev dktX5_loadPlan_3 : List UInt8 := dkwX5_loadPlan_3 ++ dktX5_loadPlan_4
def dkwX5_loadPlan_2 : List UInt8 := [180, 0, 118, 29, 42, 180, 0, 13, 28, 5, 96, 29, 96, 46, 79, 132, 3, 1, 167, 255, 226, 3, 62, 29]
abbrev dktX5_loadPlan_2 : List UInt8 := dkwX5_loadPlan_2 ++ dktX5_loadPlan_3
def dkwX5_loadPlan_1 : List UInt8 := [180, 0, 13, 28, 4, 96, 46, 181, 1, 8, 3, 62, 29, 16, 10, 42, 180, 1, 98, 104, 162, 0, 25, 42]
abbrev dktX5_loadPlan_1 : List UInt8 := dkwX5_loadPlan_1 ++ dktX5_loadPlan_2
def dkwX5_loadPlan_0 : List UInt8 := [17, 0, 198, 17, 3, 180, 27, 104, 96, 61, 42, 42, 180, 0, 13, 28, 46, 181, 1, 98, 42, 42]
abbrev dktX5_loadPlan_0 : List UInt8 := dkwX5_loadPlan_0 ++ dktX5_loadPlan_1
theorem dksX5_loadPlan_0 : cX5_loadPlan.data.toList.drop 0 = dktX5_loadPlan_0 := by decide +kernel
theorem dksX5_loadPlan_1 : cX5_loadPlan.data.toList.drop 22 = dktX5_loadPlan_1 := dk_seg dksX5_loadPlan_0 22 rfl rfl
theorem dksX5_loadPlan_2 : cX5_loadPlan.data.toList.drop 46 = dktX5_loadPlan_2 := dk_seg dksX5_loadPlan_1 24 rfl rfl
theorem dksX5_loadPlan_3 : cX5_loadPlan.data.toList.drop 70 = dktX5_loadPlan_3 := dk_seg dksX5_loadPlan_2 24 rfl rfl
theorem dksX5_loadPlan_4 : cX5_loadPlan.data.toList.drop 94 = dktX5_loadPlan_4 := dk_seg dksX5_loadPlan_3 24 rfl rfl
theorem dksX5_loadPlan_5 : cX5_loadPlan.data.toList.drop 118 = dktX5_loadPlan_5 := dk_seg dksX5_loadPlan_4 24 rfl rfl
theorem dX5_loadPlan_0 : decode cX5_loadPlan 0 = .ok (.sipush 198, 3) := dk_17 0 198 (dk_at dksX5_loadPlan_0 0 rfl rfl)
theorem dX5_loadPlan_3 : decode cX5_loadPlan 3 = .ok (.sipush 948, 3) := dk_17 3 180 (dk_at dksX5_loadPlan_0 3 rfl rfl)
theorem dX5_loadPlan_6 : decode cX5_loadPlan 6 = .ok (.iload_n 1, 1) := dk_27 (dk_at dksX5_loadPlan_0 6 rfl rfl)
theorem dX5_loadPlan_7 : decode cX5_loadPlan 7 = .ok (.imul, 1) := dk_104 (dk_at dksX5_loadPlan_0 7 rfl rfl)
theorem dX5_loadPlan_8 : decode cX5_loadPlan 8 = .ok (.iadd, 1) := dk_96 (dk_at dksX5_loadPlan_0 8 rfl rfl)
theorem dX5_loadPlan_9 : decode cX5_loadPlan 9 = .ok (.istore_n 2, 1) := dk_61 (dk_at dksX5_loadPlan_0 9 rfl rfl)
theorem dX5_loadPlan_10 : decode cX5_loadPlan 10 = .ok (.aload_n 0, 1) := dk_42 (dk_at dksX5_loadPlan_0 10 rfl rfl)
theorem dX5_loadPlan_11 : decode cX5_loadPlan 11 = .ok (.aload_n 0, 1) := dk_42 (dk_at dksX5_loadPlan_0 11 rfl rfl)
theorem dX5_loadPlan_12 : decode cX5_loadPlan 12 = .ok (.getfield 13, 3) := dk_180 0 13 (dk_at dksX5_loadPlan_0 12 rfl rfl)
theorem dX5_loadPlan_15 : decode cX5_loadPlan 15 = .ok (.iload_n 2, 1) := dk_28 (dk_at dksX5_loadPlan_0 15 rfl rfl)
theorem dX5_loadPlan_16 : decode cX5_loadPlan 16 = .ok (.iaload, 1) := dk_46 (dk_at dksX5_loadPlan_0 16 rfl rfl)
theorem dX5_loadPlan_17 : decode cX5_loadPlan 17 = .ok (.putfield 354, 3) := dk_181 1 98 (dk_at dksX5_loadPlan_0 17 rfl rfl)
theorem dX5_loadPlan_20 : decode cX5_loadPlan 20 = .ok (.aload_n 0, 1) := dk_42 (dk_at dksX5_loadPlan_0 20 rfl rfl)
theorem dX5_loadPlan_21 : decode cX5_loadPlan 21 = .ok (.aload_n 0, 1) := dk_42 (dk_at dksX5_loadPlan_0 21 rfl rfl)
theorem dX5_loadPlan_22 : decode cX5_loadPlan 22 = .ok (.getfield 13, 3) := dk_180 0 13 (dk_at dksX5_loadPlan_1 0 rfl rfl)
theorem dX5_loadPlan_25 : decode cX5_loadPlan 25 = .ok (.iload_n 2, 1) := dk_28 (dk_at dksX5_loadPlan_1 3 rfl rfl)
theorem dX5_loadPlan_26 : decode cX5_loadPlan 26 = .ok (.iconst 1, 1) := dk_4 (dk_at dksX5_loadPlan_1 4 rfl rfl)
theorem dX5_loadPlan_27 : decode cX5_loadPlan 27 = .ok (.iadd, 1) := dk_96 (dk_at dksX5_loadPlan_1 5 rfl rfl)
theorem dX5_loadPlan_28 : decode cX5_loadPlan 28 = .ok (.iaload, 1) := dk_46 (dk_at dksX5_loadPlan_1 6 rfl rfl)
theorem dX5_loadPlan_29 : decode cX5_loadPlan 29 = .ok (.putfield 264, 3) := dk_181 1 8 (dk_at dksX5_loadPlan_1 7 rfl rfl)
theorem dX5_loadPlan_32 : decode cX5_loadPlan 32 = .ok (.iconst 0, 1) := dk_3 (dk_at dksX5_loadPlan_1 10 rfl rfl)
theorem dX5_loadPlan_33 : decode cX5_loadPlan 33 = .ok (.istore_n 3, 1) := dk_62 (dk_at dksX5_loadPlan_1 11 rfl rfl)
theorem dX5_loadPlan_34 : decode cX5_loadPlan 34 = .ok (.iload_n 3, 1) := dk_29 (dk_at dksX5_loadPlan_1 12 rfl rfl)
theorem dX5_loadPlan_35 : decode cX5_loadPlan 35 = .ok (.bipush 10, 2) := dk_16 10 (dk_at dksX5_loadPlan_1 13 rfl rfl)
theorem dX5_loadPlan_37 : decode cX5_loadPlan 37 = .ok (.aload_n 0, 1) := dk_42 (dk_at dksX5_loadPlan_1 15 rfl rfl)
theorem dX5_loadPlan_38 : decode cX5_loadPlan 38 = .ok (.getfield 354, 3) := dk_180 1 98 (dk_at dksX5_loadPlan_1 16 rfl rfl)
theorem dX5_loadPlan_41 : decode cX5_loadPlan 41 = .ok (.imul, 1) := dk_104 (dk_at dksX5_loadPlan_1 19 rfl rfl)
theorem dX5_loadPlan_42 : decode cX5_loadPlan 42 = .ok (.if_icmp .ge 25, 3) := dk_162 0 25 (dk_at dksX5_loadPlan_1 20 rfl rfl)
theorem dX5_loadPlan_45 : decode cX5_loadPlan 45 = .ok (.aload_n 0, 1) := dk_42 (dk_at dksX5_loadPlan_1 23 rfl rfl)
theorem dX5_loadPlan_46 : decode cX5_loadPlan 46 = .ok (.getfield 118, 3) := dk_180 0 118 (dk_at dksX5_loadPlan_2 0 rfl rfl)
theorem dX5_loadPlan_49 : decode cX5_loadPlan 49 = .ok (.iload_n 3, 1) := dk_29 (dk_at dksX5_loadPlan_2 3 rfl rfl)
theorem dX5_loadPlan_50 : decode cX5_loadPlan 50 = .ok (.aload_n 0, 1) := dk_42 (dk_at dksX5_loadPlan_2 4 rfl rfl)
theorem dX5_loadPlan_51 : decode cX5_loadPlan 51 = .ok (.getfield 13, 3) := dk_180 0 13 (dk_at dksX5_loadPlan_2 5 rfl rfl)
theorem dX5_loadPlan_54 : decode cX5_loadPlan 54 = .ok (.iload_n 2, 1) := dk_28 (dk_at dksX5_loadPlan_2 8 rfl rfl)
theorem dX5_loadPlan_55 : decode cX5_loadPlan 55 = .ok (.iconst 2, 1) := dk_5 (dk_at dksX5_loadPlan_2 9 rfl rfl)
theorem dX5_loadPlan_56 : decode cX5_loadPlan 56 = .ok (.iadd, 1) := dk_96 (dk_at dksX5_loadPlan_2 10 rfl rfl)
theorem dX5_loadPlan_57 : decode cX5_loadPlan 57 = .ok (.iload_n 3, 1) := dk_29 (dk_at dksX5_loadPlan_2 11 rfl rfl)
theorem dX5_loadPlan_58 : decode cX5_loadPlan 58 = .ok (.iadd, 1) := dk_96 (dk_at dksX5_loadPlan_2 12 rfl rfl)
theorem dX5_loadPlan_59 : decode cX5_loadPlan 59 = .ok (.iaload, 1) := dk_46 (dk_at dksX5_loadPlan_2 13 rfl rfl)
theorem dX5_loadPlan_60 : decode cX5_loadPlan 60 = .ok (.iastore, 1) := dk_79 (dk_at dksX5_loadPlan_2 14 rfl rfl)
theorem dX5_loadPlan_61 : decode cX5_loadPlan 61 = .ok (.iinc 3 1, 3) := dk_132 3 1 (dk_at dksX5_loadPlan_2 15 rfl rfl)
theorem dX5_loadPlan_64 : decode cX5_loadPlan 64 = .ok (.goto (-30), 3) := dk_167 255 226 (dk_at dksX5_loadPlan_2 18 rfl rfl)
theorem dX5_loadPlan_67 : decode cX5_loadPlan 67 = .ok (.iconst 0, 1) := dk_3 (dk_at dksX5_loadPlan_2 21 rfl rfl)
theorem dX5_loadPlan_68 : decode cX5_loadPlan 68 = .ok (.istore_n 3, 1) := dk_62 (dk_at dksX5_loadPlan_2 22 rfl rfl)
theorem dX5_loadPlan_69 : decode cX5_loadPlan 69 = .ok (.iload_n 3, 1) := dk_29 (dk_at dksX5_loadPlan_2 23 rfl rfl)
theorem dX5_loadPlan_70 : decode cX5_loadPlan 70 = .ok (.aload_n 0, 1) := dk_42 (dk_at dksX5_loadPlan_3 0 rfl rfl)
theorem dX5_loadPlan_71 : decode cX5_loadPlan 71 = .ok (.getfield 264, 3) := dk_180 1 8 (dk_at dksX5_loadPlan_3 1 rfl rfl)
theorem dX5_loadPlan_74 : decode cX5_loadPlan 74 = .ok (.if_icmp .ge 51, 3) := dk_162 0 51 (dk_at dksX5_loadPlan_3 4 rfl rfl)
theorem dX5_loadPlan_77 : decode cX5_loadPlan 77 = .ok (.aload_n 0, 1) := dk_42 (dk_at dksX5_loadPlan_3 7 rfl rfl)
theorem dX5_loadPlan_78 : decode cX5_loadPlan 78 = .ok (.getfield 45, 3) := dk_180 0 45 (dk_at dksX5_loadPlan_3 8 rfl rfl)
theorem dX5_loadPlan_81 : decode cX5_loadPlan 81 = .ok (.iload_n 3, 1) := dk_29 (dk_at dksX5_loadPlan_3 11 rfl rfl)
theorem dX5_loadPlan_82 : decode cX5_loadPlan 82 = .ok (.aload_n 0, 1) := dk_42 (dk_at dksX5_loadPlan_3 12 rfl rfl)
theorem dX5_loadPlan_83 : decode cX5_loadPlan 83 = .ok (.getfield 13, 3) := dk_180 0 13 (dk_at dksX5_loadPlan_3 13 rfl rfl)
theorem dX5_loadPlan_86 : decode cX5_loadPlan 86 = .ok (.iload_n 2, 1) := dk_28 (dk_at dksX5_loadPlan_3 16 rfl rfl)
theorem dX5_loadPlan_87 : decode cX5_loadPlan 87 = .ok (.sipush 146, 3) := dk_17 0 146 (dk_at dksX5_loadPlan_3 17 rfl rfl)
theorem dX5_loadPlan_90 : decode cX5_loadPlan 90 = .ok (.iadd, 1) := dk_96 (dk_at dksX5_loadPlan_3 20 rfl rfl)
theorem dX5_loadPlan_91 : decode cX5_loadPlan 91 = .ok (.iconst 2, 1) := dk_5 (dk_at dksX5_loadPlan_3 21 rfl rfl)
theorem dX5_loadPlan_92 : decode cX5_loadPlan 92 = .ok (.iload_n 3, 1) := dk_29 (dk_at dksX5_loadPlan_3 22 rfl rfl)
theorem dX5_loadPlan_93 : decode cX5_loadPlan 93 = .ok (.imul, 1) := dk_104 (dk_at dksX5_loadPlan_3 23 rfl rfl)
theorem dX5_loadPlan_94 : decode cX5_loadPlan 94 = .ok (.iadd, 1) := dk_96 (dk_at dksX5_loadPlan_4 0 rfl rfl)
theorem dX5_loadPlan_95 : decode cX5_loadPlan 95 = .ok (.iaload, 1) := dk_46 (dk_at dksX5_loadPlan_4 1 rfl rfl)
theorem dX5_loadPlan_96 : decode cX5_loadPlan 96 = .ok (.iastore, 1) := dk_79 (dk_at dksX5_loadPlan_4 2 rfl rfl)
theorem dX5_loadPlan_97 : decode cX5_loadPlan 97 = .ok (.aload_n 0, 1) := dk_42 (dk_at dksX5_loadPlan_4 3 rfl rfl)
theorem dX5_loadPlan_98 : decode cX5_loadPlan 98 = .ok (.getfield 48, 3) := dk_180 0 48 (dk_at dksX5_loadPlan_4 4 rfl rfl)
theorem dX5_loadPlan_101 : decode cX5_loadPlan 101 = .ok (.iload_n 3, 1) := dk_29 (dk_at dksX5_loadPlan_4 7 rfl rfl)
theorem dX5_loadPlan_102 : decode cX5_loadPlan 102 = .ok (.aload_n 0, 1) := dk_42 (dk_at dksX5_loadPlan_4 8 rfl rfl)
theorem dX5_loadPlan_103 : decode cX5_loadPlan 103 = .ok (.getfield 13, 3) := dk_180 0 13 (dk_at dksX5_loadPlan_4 9 rfl rfl)
theorem dX5_loadPlan_106 : decode cX5_loadPlan 106 = .ok (.iload_n 2, 1) := dk_28 (dk_at dksX5_loadPlan_4 12 rfl rfl)
theorem dX5_loadPlan_107 : decode cX5_loadPlan 107 = .ok (.sipush 146, 3) := dk_17 0 146 (dk_at dksX5_loadPlan_4 13 rfl rfl)
theorem dX5_loadPlan_110 : decode cX5_loadPlan 110 = .ok (.iadd, 1) := dk_96 (dk_at dksX5_loadPlan_4 16 rfl rfl)
theorem dX5_loadPlan_111 : decode cX5_loadPlan 111 = .ok (.iconst 2, 1) := dk_5 (dk_at dksX5_loadPlan_4 17 rfl rfl)
theorem dX5_loadPlan_112 : decode cX5_loadPlan 112 = .ok (.iload_n 3, 1) := dk_29 (dk_at dksX5_loadPlan_4 18 rfl rfl)
theorem dX5_loadPlan_113 : decode cX5_loadPlan 113 = .ok (.imul, 1) := dk_104 (dk_at dksX5_loadPlan_4 19 rfl rfl)
theorem dX5_loadPlan_114 : decode cX5_loadPlan 114 = .ok (.iadd, 1) := dk_96 (dk_at dksX5_loadPlan_4 20 rfl rfl)
theorem dX5_loadPlan_115 : decode cX5_loadPlan 115 = .ok (.iconst 1, 1) := dk_4 (dk_at dksX5_loadPlan_4 21 rfl rfl)
theorem dX5_loadPlan_116 : decode cX5_loadPlan 116 = .ok (.iadd, 1) := dk_96 (dk_at dksX5_loadPlan_4 22 rfl rfl)
theorem dX5_loadPlan_117 : decode cX5_loadPlan 117 = .ok (.iaload, 1) := dk_46 (dk_at dksX5_loadPlan_4 23 rfl rfl)
theorem dX5_loadPlan_118 : decode cX5_loadPlan 118 = .ok (.iastore, 1) := dk_79 (dk_at dksX5_loadPlan_5 0 rfl rfl)
theorem dX5_loadPlan_119 : decode cX5_loadPlan 119 = .ok (.iinc 3 1, 3) := dk_132 3 1 (dk_at dksX5_loadPlan_5 1 rfl rfl)
theorem dX5_loadPlan_122 : decode cX5_loadPlan 122 = .ok (.goto (-53), 3) := dk_167 255 203 (dk_at dksX5_loadPlan_5 4 rfl rfl)
theorem dX5_loadPlan_125 : decode cX5_loadPlan 125 = .ok (.return_, 1) := dk_177 (dk_at dksX5_loadPlan_5 7 rfl rfl)
abbrev cX5_planYear : ByteArray := prog_23_method_105_code
def yX5_planYear : MethodName := ⟨RX5, "planYear", "()V"⟩
def dkwX5_planYear_4 : List UInt8 := [87, 177]
abbrev dktX5_planYear_4 : List UInt8 := dkwX5_planYear_4 ++ []
def dkwX5_planYear_3 : List UInt8 := [156, 0, 8, 42, 4, 181, 2, 3, 132, 3, 1, 167, 255, 209, 132, 1, 1, 167, 255, 188, 42, 182, 1, 203]
abbrev dktX5_planYear_3 : List UInt8 := dkwX5_planYear_3 ++ dktX5_planYear_4
def dkwX5_planYear_2 : List UInt8 := [180, 0, 118, 28, 46, 6, 159, 0, 30, 42, 28, 182, 1, 250, 153, 0, 16, 42, 28, 182, 2, 6]
abbrev dktX5_planYear_2 : List UInt8 := dkwX5_planYear_2 ++ dktX5_planYear_3
def dkwX5_planYear_1 : List UInt8 := [162, 0, 66, 16, 10, 27, 104, 61, 3, 62, 29, 42, 180, 0, 118, 28, 16, 9, 96, 46, 162, 0, 40, 42]
abbrev dktX5_planYear_1 : List UInt8 := dkwX5_planYear_1 ++ dktX5_planYear_2
def dkwX5_planYear_0 : List UInt8 := [42, 3, 181, 1, 231, 42, 2, 181, 1, 234, 42, 3, 181, 2, 3, 3, 60, 27, 42, 180, 1, 98]
abbrev dktX5_planYear_0 : List UInt8 := dkwX5_planYear_0 ++ dktX5_planYear_1
theorem dksX5_planYear_0 : cX5_planYear.data.toList.drop 0 = dktX5_planYear_0 := by decide +kernel
theorem dksX5_planYear_1 : cX5_planYear.data.toList.drop 22 = dktX5_planYear_1 := dk_seg dksX5_planYear_0 22 rfl rfl
theorem dksX5_planYear_2 : cX5_planYear.data.toList.drop 46 = dktX5_planYear_2 := dk_seg dksX5_planYear_1 24 rfl rfl
theorem dksX5_planYear_3 : cX5_planYear.data.toList.drop 68 = dktX5_planYear_3 := dk_seg dksX5_planYear_2 22 rfl rfl
theorem dksX5_planYear_4 : cX5_planYear.data.toList.drop 92 = dktX5_planYear_4 := dk_seg dksX5_planYear_3 24 rfl rfl
theorem dX5_planYear_0 : decode cX5_planYear 0 = .ok (.aload_n 0, 1) := dk_42 (dk_at dksX5_planYear_0 0 rfl rfl)
theorem dX5_planYear_1 : decode cX5_planYear 1 = .ok (.iconst 0, 1) := dk_3 (dk_at dksX5_planYear_0 1 rfl rfl)
theorem dX5_planYear_2 : decode cX5_planYear 2 = .ok (.putfield 487, 3) := dk_181 1 231 (dk_at dksX5_planYear_0 2 rfl rfl)
theorem dX5_planYear_5 : decode cX5_planYear 5 = .ok (.aload_n 0, 1) := dk_42 (dk_at dksX5_planYear_0 5 rfl rfl)
theorem dX5_planYear_6 : decode cX5_planYear 6 = .ok (.iconst (-1), 1) := dk_2 (dk_at dksX5_planYear_0 6 rfl rfl)
theorem dX5_planYear_7 : decode cX5_planYear 7 = .ok (.putfield 490, 3) := dk_181 1 234 (dk_at dksX5_planYear_0 7 rfl rfl)
theorem dX5_planYear_10 : decode cX5_planYear 10 = .ok (.aload_n 0, 1) := dk_42 (dk_at dksX5_planYear_0 10 rfl rfl)
theorem dX5_planYear_11 : decode cX5_planYear 11 = .ok (.iconst 0, 1) := dk_3 (dk_at dksX5_planYear_0 11 rfl rfl)
theorem dX5_planYear_12 : decode cX5_planYear 12 = .ok (.putfield 515, 3) := dk_181 2 3 (dk_at dksX5_planYear_0 12 rfl rfl)
theorem dX5_planYear_15 : decode cX5_planYear 15 = .ok (.iconst 0, 1) := dk_3 (dk_at dksX5_planYear_0 15 rfl rfl)
theorem dX5_planYear_16 : decode cX5_planYear 16 = .ok (.istore_n 1, 1) := dk_60 (dk_at dksX5_planYear_0 16 rfl rfl)
theorem dX5_planYear_17 : decode cX5_planYear 17 = .ok (.iload_n 1, 1) := dk_27 (dk_at dksX5_planYear_0 17 rfl rfl)
theorem dX5_planYear_18 : decode cX5_planYear 18 = .ok (.aload_n 0, 1) := dk_42 (dk_at dksX5_planYear_0 18 rfl rfl)
theorem dX5_planYear_19 : decode cX5_planYear 19 = .ok (.getfield 354, 3) := dk_180 1 98 (dk_at dksX5_planYear_0 19 rfl rfl)
theorem dX5_planYear_22 : decode cX5_planYear 22 = .ok (.if_icmp .ge 66, 3) := dk_162 0 66 (dk_at dksX5_planYear_1 0 rfl rfl)
theorem dX5_planYear_25 : decode cX5_planYear 25 = .ok (.bipush 10, 2) := dk_16 10 (dk_at dksX5_planYear_1 3 rfl rfl)
theorem dX5_planYear_27 : decode cX5_planYear 27 = .ok (.iload_n 1, 1) := dk_27 (dk_at dksX5_planYear_1 5 rfl rfl)
theorem dX5_planYear_28 : decode cX5_planYear 28 = .ok (.imul, 1) := dk_104 (dk_at dksX5_planYear_1 6 rfl rfl)
theorem dX5_planYear_29 : decode cX5_planYear 29 = .ok (.istore_n 2, 1) := dk_61 (dk_at dksX5_planYear_1 7 rfl rfl)
theorem dX5_planYear_30 : decode cX5_planYear 30 = .ok (.iconst 0, 1) := dk_3 (dk_at dksX5_planYear_1 8 rfl rfl)
theorem dX5_planYear_31 : decode cX5_planYear 31 = .ok (.istore_n 3, 1) := dk_62 (dk_at dksX5_planYear_1 9 rfl rfl)
theorem dX5_planYear_32 : decode cX5_planYear 32 = .ok (.iload_n 3, 1) := dk_29 (dk_at dksX5_planYear_1 10 rfl rfl)
theorem dX5_planYear_33 : decode cX5_planYear 33 = .ok (.aload_n 0, 1) := dk_42 (dk_at dksX5_planYear_1 11 rfl rfl)
theorem dX5_planYear_34 : decode cX5_planYear 34 = .ok (.getfield 118, 3) := dk_180 0 118 (dk_at dksX5_planYear_1 12 rfl rfl)
theorem dX5_planYear_37 : decode cX5_planYear 37 = .ok (.iload_n 2, 1) := dk_28 (dk_at dksX5_planYear_1 15 rfl rfl)
theorem dX5_planYear_38 : decode cX5_planYear 38 = .ok (.bipush 9, 2) := dk_16 9 (dk_at dksX5_planYear_1 16 rfl rfl)
theorem dX5_planYear_40 : decode cX5_planYear 40 = .ok (.iadd, 1) := dk_96 (dk_at dksX5_planYear_1 18 rfl rfl)
theorem dX5_planYear_41 : decode cX5_planYear 41 = .ok (.iaload, 1) := dk_46 (dk_at dksX5_planYear_1 19 rfl rfl)
theorem dX5_planYear_42 : decode cX5_planYear 42 = .ok (.if_icmp .ge 40, 3) := dk_162 0 40 (dk_at dksX5_planYear_1 20 rfl rfl)
theorem dX5_planYear_45 : decode cX5_planYear 45 = .ok (.aload_n 0, 1) := dk_42 (dk_at dksX5_planYear_1 23 rfl rfl)
theorem dX5_planYear_46 : decode cX5_planYear 46 = .ok (.getfield 118, 3) := dk_180 0 118 (dk_at dksX5_planYear_2 0 rfl rfl)
theorem dX5_planYear_49 : decode cX5_planYear 49 = .ok (.iload_n 2, 1) := dk_28 (dk_at dksX5_planYear_2 3 rfl rfl)
theorem dX5_planYear_50 : decode cX5_planYear 50 = .ok (.iaload, 1) := dk_46 (dk_at dksX5_planYear_2 4 rfl rfl)
theorem dX5_planYear_51 : decode cX5_planYear 51 = .ok (.iconst 3, 1) := dk_6 (dk_at dksX5_planYear_2 5 rfl rfl)
theorem dX5_planYear_52 : decode cX5_planYear 52 = .ok (.if_icmp .eq 30, 3) := dk_159 0 30 (dk_at dksX5_planYear_2 6 rfl rfl)
theorem dX5_planYear_55 : decode cX5_planYear 55 = .ok (.aload_n 0, 1) := dk_42 (dk_at dksX5_planYear_2 9 rfl rfl)
theorem dX5_planYear_56 : decode cX5_planYear 56 = .ok (.iload_n 2, 1) := dk_28 (dk_at dksX5_planYear_2 10 rfl rfl)
theorem dX5_planYear_57 : decode cX5_planYear 57 = .ok (.invokevirtual 506, 3) := dk_182 1 250 (dk_at dksX5_planYear_2 11 rfl rfl)
theorem dX5_planYear_60 : decode cX5_planYear 60 = .ok (.ifCond .eq 16, 3) := dk_153 0 16 (dk_at dksX5_planYear_2 14 rfl rfl)
theorem dX5_planYear_63 : decode cX5_planYear 63 = .ok (.aload_n 0, 1) := dk_42 (dk_at dksX5_planYear_2 17 rfl rfl)
theorem dX5_planYear_64 : decode cX5_planYear 64 = .ok (.iload_n 2, 1) := dk_28 (dk_at dksX5_planYear_2 18 rfl rfl)
theorem dX5_planYear_65 : decode cX5_planYear 65 = .ok (.invokevirtual 518, 3) := dk_182 2 6 (dk_at dksX5_planYear_2 19 rfl rfl)
theorem dX5_planYear_68 : decode cX5_planYear 68 = .ok (.ifCond .ge 8, 3) := dk_156 0 8 (dk_at dksX5_planYear_3 0 rfl rfl)
theorem dX5_planYear_71 : decode cX5_planYear 71 = .ok (.aload_n 0, 1) := dk_42 (dk_at dksX5_planYear_3 3 rfl rfl)
theorem dX5_planYear_72 : decode cX5_planYear 72 = .ok (.iconst 1, 1) := dk_4 (dk_at dksX5_planYear_3 4 rfl rfl)
theorem dX5_planYear_73 : decode cX5_planYear 73 = .ok (.putfield 515, 3) := dk_181 2 3 (dk_at dksX5_planYear_3 5 rfl rfl)
theorem dX5_planYear_76 : decode cX5_planYear 76 = .ok (.iinc 3 1, 3) := dk_132 3 1 (dk_at dksX5_planYear_3 8 rfl rfl)
theorem dX5_planYear_79 : decode cX5_planYear 79 = .ok (.goto (-47), 3) := dk_167 255 209 (dk_at dksX5_planYear_3 11 rfl rfl)
theorem dX5_planYear_82 : decode cX5_planYear 82 = .ok (.iinc 1 1, 3) := dk_132 1 1 (dk_at dksX5_planYear_3 14 rfl rfl)
theorem dX5_planYear_85 : decode cX5_planYear 85 = .ok (.goto (-68), 3) := dk_167 255 188 (dk_at dksX5_planYear_3 17 rfl rfl)
theorem dX5_planYear_88 : decode cX5_planYear 88 = .ok (.aload_n 0, 1) := dk_42 (dk_at dksX5_planYear_3 20 rfl rfl)
theorem dX5_planYear_89 : decode cX5_planYear 89 = .ok (.invokevirtual 459, 3) := dk_182 1 203 (dk_at dksX5_planYear_3 21 rfl rfl)
theorem dX5_planYear_92 : decode cX5_planYear 92 = .ok (.pop, 1) := dk_87 (dk_at dksX5_planYear_4 0 rfl rfl)
theorem dX5_planYear_93 : decode cX5_planYear 93 = .ok (.return_, 1) := dk_177 (dk_at dksX5_planYear_4 1 rfl rfl)
abbrev cX5_planOnce : ByteArray := prog_23_method_104_code
def yX5_planOnce : MethodName := ⟨RX5, "planOnce", "(I)I"⟩
def dkwX5_planOnce_6 : List UInt8 := [96, 181, 1, 231, 3, 172]
abbrev dktX5_planOnce_6 : List UInt8 := dkwX5_planOnce_6 ++ []
def dkwX5_planOnce_5 : List UInt8 := [28, 182, 1, 181, 87, 167, 0, 13, 42, 42, 29, 28, 182, 1, 197, 181, 1, 234, 42, 89, 180, 1, 231, 4]
abbrev dktX5_planOnce_5 : List UInt8 := dkwX5_planOnce_5 ++ dktX5_planOnce_6
def dkwX5_planOnce_4 : List UInt8 := [154, 0, 14, 42, 21, 4, 28, 182, 1, 168, 87, 167, 0, 31, 21, 5, 4, 160, 0, 15, 42, 29, 21, 4]
abbrev dktX5_planOnce_4 : List UInt8 := dkwX5_planOnce_4 ++ dktX5_planOnce_5
def dkwX5_planOnce_3 : List UInt8 := [182, 1, 177, 167, 0, 9, 42, 29, 28, 182, 1, 194, 54, 6, 21, 6, 156, 0, 6, 16, 253, 172, 21, 5]
abbrev dktX5_planOnce_3 : List UInt8 := dkwX5_planOnce_3 ++ dktX5_planOnce_4
def dkwX5_planOnce_2 : List UInt8 := [154, 0, 13, 42, 21, 4, 28, 182, 1, 162, 167, 0, 26, 21, 5, 4, 160, 0, 14, 42, 29, 21, 4, 28]
abbrev dktX5_planOnce_2 : List UInt8 := dkwX5_planOnce_2 ++ dktX5_planOnce_3
def dkwX5_planOnce_1 : List UInt8 := [54, 4, 42, 180, 1, 228, 153, 0, 6, 16, 253, 172, 42, 180, 0, 118, 27, 46, 54, 5, 21, 5]
abbrev dktX5_planOnce_1 : List UInt8 := dkwX5_planOnce_1 ++ dktX5_planOnce_2
def dkwX5_planOnce_0 : List UInt8 := [42, 27, 4, 96, 182, 1, 240, 61, 42, 27, 6, 96, 182, 1, 240, 62, 42, 27, 8, 96, 182, 1, 240]
abbrev dktX5_planOnce_0 : List UInt8 := dkwX5_planOnce_0 ++ dktX5_planOnce_1
theorem dksX5_planOnce_0 : cX5_planOnce.data.toList.drop 0 = dktX5_planOnce_0 := by decide +kernel
theorem dksX5_planOnce_1 : cX5_planOnce.data.toList.drop 23 = dktX5_planOnce_1 := dk_seg dksX5_planOnce_0 23 rfl rfl
theorem dksX5_planOnce_2 : cX5_planOnce.data.toList.drop 45 = dktX5_planOnce_2 := dk_seg dksX5_planOnce_1 22 rfl rfl
theorem dksX5_planOnce_3 : cX5_planOnce.data.toList.drop 69 = dktX5_planOnce_3 := dk_seg dksX5_planOnce_2 24 rfl rfl
theorem dksX5_planOnce_4 : cX5_planOnce.data.toList.drop 93 = dktX5_planOnce_4 := dk_seg dksX5_planOnce_3 24 rfl rfl
theorem dksX5_planOnce_5 : cX5_planOnce.data.toList.drop 117 = dktX5_planOnce_5 := dk_seg dksX5_planOnce_4 24 rfl rfl
theorem dksX5_planOnce_6 : cX5_planOnce.data.toList.drop 141 = dktX5_planOnce_6 := dk_seg dksX5_planOnce_5 24 rfl rfl
theorem dX5_planOnce_0 : decode cX5_planOnce 0 = .ok (.aload_n 0, 1) := dk_42 (dk_at dksX5_planOnce_0 0 rfl rfl)
theorem dX5_planOnce_1 : decode cX5_planOnce 1 = .ok (.iload_n 1, 1) := dk_27 (dk_at dksX5_planOnce_0 1 rfl rfl)
theorem dX5_planOnce_2 : decode cX5_planOnce 2 = .ok (.iconst 1, 1) := dk_4 (dk_at dksX5_planOnce_0 2 rfl rfl)
theorem dX5_planOnce_3 : decode cX5_planOnce 3 = .ok (.iadd, 1) := dk_96 (dk_at dksX5_planOnce_0 3 rfl rfl)
theorem dX5_planOnce_4 : decode cX5_planOnce 4 = .ok (.invokevirtual 496, 3) := dk_182 1 240 (dk_at dksX5_planOnce_0 4 rfl rfl)
theorem dX5_planOnce_7 : decode cX5_planOnce 7 = .ok (.istore_n 2, 1) := dk_61 (dk_at dksX5_planOnce_0 7 rfl rfl)
theorem dX5_planOnce_8 : decode cX5_planOnce 8 = .ok (.aload_n 0, 1) := dk_42 (dk_at dksX5_planOnce_0 8 rfl rfl)
theorem dX5_planOnce_9 : decode cX5_planOnce 9 = .ok (.iload_n 1, 1) := dk_27 (dk_at dksX5_planOnce_0 9 rfl rfl)
theorem dX5_planOnce_10 : decode cX5_planOnce 10 = .ok (.iconst 3, 1) := dk_6 (dk_at dksX5_planOnce_0 10 rfl rfl)
theorem dX5_planOnce_11 : decode cX5_planOnce 11 = .ok (.iadd, 1) := dk_96 (dk_at dksX5_planOnce_0 11 rfl rfl)
theorem dX5_planOnce_12 : decode cX5_planOnce 12 = .ok (.invokevirtual 496, 3) := dk_182 1 240 (dk_at dksX5_planOnce_0 12 rfl rfl)
theorem dX5_planOnce_15 : decode cX5_planOnce 15 = .ok (.istore_n 3, 1) := dk_62 (dk_at dksX5_planOnce_0 15 rfl rfl)
theorem dX5_planOnce_16 : decode cX5_planOnce 16 = .ok (.aload_n 0, 1) := dk_42 (dk_at dksX5_planOnce_0 16 rfl rfl)
theorem dX5_planOnce_17 : decode cX5_planOnce 17 = .ok (.iload_n 1, 1) := dk_27 (dk_at dksX5_planOnce_0 17 rfl rfl)
theorem dX5_planOnce_18 : decode cX5_planOnce 18 = .ok (.iconst 5, 1) := dk_8 (dk_at dksX5_planOnce_0 18 rfl rfl)
theorem dX5_planOnce_19 : decode cX5_planOnce 19 = .ok (.iadd, 1) := dk_96 (dk_at dksX5_planOnce_0 19 rfl rfl)
theorem dX5_planOnce_20 : decode cX5_planOnce 20 = .ok (.invokevirtual 496, 3) := dk_182 1 240 (dk_at dksX5_planOnce_0 20 rfl rfl)
theorem dX5_planOnce_23 : decode cX5_planOnce 23 = .ok (.istore 4, 2) := dk_54 4 (dk_at dksX5_planOnce_1 0 rfl rfl)
theorem dX5_planOnce_25 : decode cX5_planOnce 25 = .ok (.aload_n 0, 1) := dk_42 (dk_at dksX5_planOnce_1 2 rfl rfl)
theorem dX5_planOnce_26 : decode cX5_planOnce 26 = .ok (.getfield 484, 3) := dk_180 1 228 (dk_at dksX5_planOnce_1 3 rfl rfl)
theorem dX5_planOnce_29 : decode cX5_planOnce 29 = .ok (.ifCond .eq 6, 3) := dk_153 0 6 (dk_at dksX5_planOnce_1 6 rfl rfl)
theorem dX5_planOnce_32 : decode cX5_planOnce 32 = .ok (.bipush (-3), 2) := dk_16 253 (dk_at dksX5_planOnce_1 9 rfl rfl)
theorem dX5_planOnce_34 : decode cX5_planOnce 34 = .ok (.ireturn, 1) := dk_172 (dk_at dksX5_planOnce_1 11 rfl rfl)
theorem dX5_planOnce_35 : decode cX5_planOnce 35 = .ok (.aload_n 0, 1) := dk_42 (dk_at dksX5_planOnce_1 12 rfl rfl)
theorem dX5_planOnce_36 : decode cX5_planOnce 36 = .ok (.getfield 118, 3) := dk_180 0 118 (dk_at dksX5_planOnce_1 13 rfl rfl)
theorem dX5_planOnce_39 : decode cX5_planOnce 39 = .ok (.iload_n 1, 1) := dk_27 (dk_at dksX5_planOnce_1 16 rfl rfl)
theorem dX5_planOnce_40 : decode cX5_planOnce 40 = .ok (.iaload, 1) := dk_46 (dk_at dksX5_planOnce_1 17 rfl rfl)
theorem dX5_planOnce_41 : decode cX5_planOnce 41 = .ok (.istore 5, 2) := dk_54 5 (dk_at dksX5_planOnce_1 18 rfl rfl)
theorem dX5_planOnce_43 : decode cX5_planOnce 43 = .ok (.iload 5, 2) := dk_21 5 (dk_at dksX5_planOnce_1 20 rfl rfl)
theorem dX5_planOnce_45 : decode cX5_planOnce 45 = .ok (.ifCond .ne 13, 3) := dk_154 0 13 (dk_at dksX5_planOnce_2 0 rfl rfl)
theorem dX5_planOnce_48 : decode cX5_planOnce 48 = .ok (.aload_n 0, 1) := dk_42 (dk_at dksX5_planOnce_2 3 rfl rfl)
theorem dX5_planOnce_49 : decode cX5_planOnce 49 = .ok (.iload 4, 2) := dk_21 4 (dk_at dksX5_planOnce_2 4 rfl rfl)
theorem dX5_planOnce_51 : decode cX5_planOnce 51 = .ok (.iload_n 2, 1) := dk_28 (dk_at dksX5_planOnce_2 6 rfl rfl)
theorem dX5_planOnce_52 : decode cX5_planOnce 52 = .ok (.invokevirtual 418, 3) := dk_182 1 162 (dk_at dksX5_planOnce_2 7 rfl rfl)
theorem dX5_planOnce_55 : decode cX5_planOnce 55 = .ok (.goto 26, 3) := dk_167 0 26 (dk_at dksX5_planOnce_2 10 rfl rfl)
theorem dX5_planOnce_58 : decode cX5_planOnce 58 = .ok (.iload 5, 2) := dk_21 5 (dk_at dksX5_planOnce_2 13 rfl rfl)
theorem dX5_planOnce_60 : decode cX5_planOnce 60 = .ok (.iconst 1, 1) := dk_4 (dk_at dksX5_planOnce_2 15 rfl rfl)
theorem dX5_planOnce_61 : decode cX5_planOnce 61 = .ok (.if_icmp .ne 14, 3) := dk_160 0 14 (dk_at dksX5_planOnce_2 16 rfl rfl)
theorem dX5_planOnce_64 : decode cX5_planOnce 64 = .ok (.aload_n 0, 1) := dk_42 (dk_at dksX5_planOnce_2 19 rfl rfl)
theorem dX5_planOnce_65 : decode cX5_planOnce 65 = .ok (.iload_n 3, 1) := dk_29 (dk_at dksX5_planOnce_2 20 rfl rfl)
theorem dX5_planOnce_66 : decode cX5_planOnce 66 = .ok (.iload 4, 2) := dk_21 4 (dk_at dksX5_planOnce_2 21 rfl rfl)
theorem dX5_planOnce_68 : decode cX5_planOnce 68 = .ok (.iload_n 2, 1) := dk_28 (dk_at dksX5_planOnce_2 23 rfl rfl)
theorem dX5_planOnce_69 : decode cX5_planOnce 69 = .ok (.invokevirtual 433, 3) := dk_182 1 177 (dk_at dksX5_planOnce_3 0 rfl rfl)
theorem dX5_planOnce_72 : decode cX5_planOnce 72 = .ok (.goto 9, 3) := dk_167 0 9 (dk_at dksX5_planOnce_3 3 rfl rfl)
theorem dX5_planOnce_75 : decode cX5_planOnce 75 = .ok (.aload_n 0, 1) := dk_42 (dk_at dksX5_planOnce_3 6 rfl rfl)
theorem dX5_planOnce_76 : decode cX5_planOnce 76 = .ok (.iload_n 3, 1) := dk_29 (dk_at dksX5_planOnce_3 7 rfl rfl)
theorem dX5_planOnce_77 : decode cX5_planOnce 77 = .ok (.iload_n 2, 1) := dk_28 (dk_at dksX5_planOnce_3 8 rfl rfl)
theorem dX5_planOnce_78 : decode cX5_planOnce 78 = .ok (.invokevirtual 450, 3) := dk_182 1 194 (dk_at dksX5_planOnce_3 9 rfl rfl)
theorem dX5_planOnce_81 : decode cX5_planOnce 81 = .ok (.istore 6, 2) := dk_54 6 (dk_at dksX5_planOnce_3 12 rfl rfl)
theorem dX5_planOnce_83 : decode cX5_planOnce 83 = .ok (.iload 6, 2) := dk_21 6 (dk_at dksX5_planOnce_3 14 rfl rfl)
theorem dX5_planOnce_85 : decode cX5_planOnce 85 = .ok (.ifCond .ge 6, 3) := dk_156 0 6 (dk_at dksX5_planOnce_3 16 rfl rfl)
theorem dX5_planOnce_88 : decode cX5_planOnce 88 = .ok (.bipush (-3), 2) := dk_16 253 (dk_at dksX5_planOnce_3 19 rfl rfl)
theorem dX5_planOnce_90 : decode cX5_planOnce 90 = .ok (.ireturn, 1) := dk_172 (dk_at dksX5_planOnce_3 21 rfl rfl)
theorem dX5_planOnce_91 : decode cX5_planOnce 91 = .ok (.iload 5, 2) := dk_21 5 (dk_at dksX5_planOnce_3 22 rfl rfl)
theorem dX5_planOnce_93 : decode cX5_planOnce 93 = .ok (.ifCond .ne 14, 3) := dk_154 0 14 (dk_at dksX5_planOnce_4 0 rfl rfl)
theorem dX5_planOnce_96 : decode cX5_planOnce 96 = .ok (.aload_n 0, 1) := dk_42 (dk_at dksX5_planOnce_4 3 rfl rfl)
theorem dX5_planOnce_97 : decode cX5_planOnce 97 = .ok (.iload 4, 2) := dk_21 4 (dk_at dksX5_planOnce_4 4 rfl rfl)
theorem dX5_planOnce_99 : decode cX5_planOnce 99 = .ok (.iload_n 2, 1) := dk_28 (dk_at dksX5_planOnce_4 6 rfl rfl)
theorem dX5_planOnce_100 : decode cX5_planOnce 100 = .ok (.invokevirtual 424, 3) := dk_182 1 168 (dk_at dksX5_planOnce_4 7 rfl rfl)
theorem dX5_planOnce_103 : decode cX5_planOnce 103 = .ok (.pop, 1) := dk_87 (dk_at dksX5_planOnce_4 10 rfl rfl)
theorem dX5_planOnce_104 : decode cX5_planOnce 104 = .ok (.goto 31, 3) := dk_167 0 31 (dk_at dksX5_planOnce_4 11 rfl rfl)
theorem dX5_planOnce_107 : decode cX5_planOnce 107 = .ok (.iload 5, 2) := dk_21 5 (dk_at dksX5_planOnce_4 14 rfl rfl)
theorem dX5_planOnce_109 : decode cX5_planOnce 109 = .ok (.iconst 1, 1) := dk_4 (dk_at dksX5_planOnce_4 16 rfl rfl)
theorem dX5_planOnce_110 : decode cX5_planOnce 110 = .ok (.if_icmp .ne 15, 3) := dk_160 0 15 (dk_at dksX5_planOnce_4 17 rfl rfl)
theorem dX5_planOnce_113 : decode cX5_planOnce 113 = .ok (.aload_n 0, 1) := dk_42 (dk_at dksX5_planOnce_4 20 rfl rfl)
theorem dX5_planOnce_114 : decode cX5_planOnce 114 = .ok (.iload_n 3, 1) := dk_29 (dk_at dksX5_planOnce_4 21 rfl rfl)
theorem dX5_planOnce_115 : decode cX5_planOnce 115 = .ok (.iload 4, 2) := dk_21 4 (dk_at dksX5_planOnce_4 22 rfl rfl)
theorem dX5_planOnce_117 : decode cX5_planOnce 117 = .ok (.iload_n 2, 1) := dk_28 (dk_at dksX5_planOnce_5 0 rfl rfl)
theorem dX5_planOnce_118 : decode cX5_planOnce 118 = .ok (.invokevirtual 437, 3) := dk_182 1 181 (dk_at dksX5_planOnce_5 1 rfl rfl)
theorem dX5_planOnce_121 : decode cX5_planOnce 121 = .ok (.pop, 1) := dk_87 (dk_at dksX5_planOnce_5 4 rfl rfl)
theorem dX5_planOnce_122 : decode cX5_planOnce 122 = .ok (.goto 13, 3) := dk_167 0 13 (dk_at dksX5_planOnce_5 5 rfl rfl)
theorem dX5_planOnce_125 : decode cX5_planOnce 125 = .ok (.aload_n 0, 1) := dk_42 (dk_at dksX5_planOnce_5 8 rfl rfl)
theorem dX5_planOnce_126 : decode cX5_planOnce 126 = .ok (.aload_n 0, 1) := dk_42 (dk_at dksX5_planOnce_5 9 rfl rfl)
theorem dX5_planOnce_127 : decode cX5_planOnce 127 = .ok (.iload_n 3, 1) := dk_29 (dk_at dksX5_planOnce_5 10 rfl rfl)
theorem dX5_planOnce_128 : decode cX5_planOnce 128 = .ok (.iload_n 2, 1) := dk_28 (dk_at dksX5_planOnce_5 11 rfl rfl)
theorem dX5_planOnce_129 : decode cX5_planOnce 129 = .ok (.invokevirtual 453, 3) := dk_182 1 197 (dk_at dksX5_planOnce_5 12 rfl rfl)
theorem dX5_planOnce_132 : decode cX5_planOnce 132 = .ok (.putfield 490, 3) := dk_181 1 234 (dk_at dksX5_planOnce_5 15 rfl rfl)
theorem dX5_planOnce_135 : decode cX5_planOnce 135 = .ok (.aload_n 0, 1) := dk_42 (dk_at dksX5_planOnce_5 18 rfl rfl)
theorem dX5_planOnce_136 : decode cX5_planOnce 136 = .ok (.dup, 1) := dk_89 (dk_at dksX5_planOnce_5 19 rfl rfl)
theorem dX5_planOnce_137 : decode cX5_planOnce 137 = .ok (.getfield 487, 3) := dk_180 1 231 (dk_at dksX5_planOnce_5 20 rfl rfl)
theorem dX5_planOnce_140 : decode cX5_planOnce 140 = .ok (.iconst 1, 1) := dk_4 (dk_at dksX5_planOnce_5 23 rfl rfl)
theorem dX5_planOnce_141 : decode cX5_planOnce 141 = .ok (.iadd, 1) := dk_96 (dk_at dksX5_planOnce_6 0 rfl rfl)
theorem dX5_planOnce_142 : decode cX5_planOnce 142 = .ok (.putfield 487, 3) := dk_181 1 231 (dk_at dksX5_planOnce_6 1 rfl rfl)
theorem dX5_planOnce_145 : decode cX5_planOnce 145 = .ok (.iconst 0, 1) := dk_3 (dk_at dksX5_planOnce_6 4 rfl rfl)
theorem dX5_planOnce_146 : decode cX5_planOnce 146 = .ok (.ireturn, 1) := dk_172 (dk_at dksX5_planOnce_6 5 rfl rfl)
abbrev cX5_oldEnough : ByteArray := prog_23_method_108_code
def yX5_oldEnough : MethodName := ⟨RX5, "oldEnough", "(III)I"⟩
def dkwX5_oldEnough_3 : List UInt8 := [16, 16, 182, 0, 150, 21, 4, 16, 60, 164, 0, 7, 2, 167, 0, 5, 21, 4, 172]
abbrev dktX5_oldEnough_3 : List UInt8 := dkwX5_oldEnough_3 ++ []
def dkwX5_oldEnough_2 : List UInt8 := [163, 0, 22, 42, 28, 182, 0, 169, 29, 162, 0, 13, 42, 182, 2, 23, 132, 4, 1, 167, 255, 233, 42]
abbrev dktX5_oldEnough_2 : List UInt8 := dkwX5_oldEnough_2 ++ dktX5_oldEnough_3
def dkwX5_oldEnough_1 : List UInt8 := [20, 2, 26, 184, 0, 153, 154, 0, 5, 2, 172, 42, 27, 182, 2, 20, 3, 54, 4, 21, 4, 16, 60]
abbrev dktX5_oldEnough_1 : List UInt8 := dkwX5_oldEnough_1 ++ dktX5_oldEnough_2
def dkwX5_oldEnough_0 : List UInt8 := [42, 3, 181, 0, 133, 42, 27, 182, 2, 13, 153, 0, 23, 42, 28, 182, 0, 184, 153, 0, 15, 29, 133, 9]
abbrev dktX5_oldEnough_0 : List UInt8 := dkwX5_oldEnough_0 ++ dktX5_oldEnough_1
theorem dksX5_oldEnough_0 : cX5_oldEnough.data.toList.drop 0 = dktX5_oldEnough_0 := by decide +kernel
theorem dksX5_oldEnough_1 : cX5_oldEnough.data.toList.drop 24 = dktX5_oldEnough_1 := dk_seg dksX5_oldEnough_0 24 rfl rfl
theorem dksX5_oldEnough_2 : cX5_oldEnough.data.toList.drop 47 = dktX5_oldEnough_2 := dk_seg dksX5_oldEnough_1 23 rfl rfl
theorem dksX5_oldEnough_3 : cX5_oldEnough.data.toList.drop 70 = dktX5_oldEnough_3 := dk_seg dksX5_oldEnough_2 23 rfl rfl
theorem dX5_oldEnough_0 : decode cX5_oldEnough 0 = .ok (.aload_n 0, 1) := dk_42 (dk_at dksX5_oldEnough_0 0 rfl rfl)
theorem dX5_oldEnough_1 : decode cX5_oldEnough 1 = .ok (.iconst 0, 1) := dk_3 (dk_at dksX5_oldEnough_0 1 rfl rfl)
theorem dX5_oldEnough_2 : decode cX5_oldEnough 2 = .ok (.putfield 133, 3) := dk_181 0 133 (dk_at dksX5_oldEnough_0 2 rfl rfl)
theorem dX5_oldEnough_5 : decode cX5_oldEnough 5 = .ok (.aload_n 0, 1) := dk_42 (dk_at dksX5_oldEnough_0 5 rfl rfl)
theorem dX5_oldEnough_6 : decode cX5_oldEnough 6 = .ok (.iload_n 1, 1) := dk_27 (dk_at dksX5_oldEnough_0 6 rfl rfl)
theorem dX5_oldEnough_7 : decode cX5_oldEnough 7 = .ok (.invokevirtual 525, 3) := dk_182 2 13 (dk_at dksX5_oldEnough_0 7 rfl rfl)
theorem dX5_oldEnough_10 : decode cX5_oldEnough 10 = .ok (.ifCond .eq 23, 3) := dk_153 0 23 (dk_at dksX5_oldEnough_0 10 rfl rfl)
theorem dX5_oldEnough_13 : decode cX5_oldEnough 13 = .ok (.aload_n 0, 1) := dk_42 (dk_at dksX5_oldEnough_0 13 rfl rfl)
theorem dX5_oldEnough_14 : decode cX5_oldEnough 14 = .ok (.iload_n 2, 1) := dk_28 (dk_at dksX5_oldEnough_0 14 rfl rfl)
theorem dX5_oldEnough_15 : decode cX5_oldEnough 15 = .ok (.invokevirtual 184, 3) := dk_182 0 184 (dk_at dksX5_oldEnough_0 15 rfl rfl)
theorem dX5_oldEnough_18 : decode cX5_oldEnough 18 = .ok (.ifCond .eq 15, 3) := dk_153 0 15 (dk_at dksX5_oldEnough_0 18 rfl rfl)
theorem dX5_oldEnough_21 : decode cX5_oldEnough 21 = .ok (.iload_n 3, 1) := dk_29 (dk_at dksX5_oldEnough_0 21 rfl rfl)
theorem dX5_oldEnough_22 : decode cX5_oldEnough 22 = .ok (.i2l, 1) := dk_133 (dk_at dksX5_oldEnough_0 22 rfl rfl)
theorem dX5_oldEnough_23 : decode cX5_oldEnough 23 = .ok (.lconst 0, 1) := dk_9 (dk_at dksX5_oldEnough_0 23 rfl rfl)
theorem dX5_oldEnough_24 : decode cX5_oldEnough 24 = .ok (.ldc2_w 538, 3) := dk_20 2 26 (dk_at dksX5_oldEnough_1 0 rfl rfl)
theorem dX5_oldEnough_27 : decode cX5_oldEnough 27 = .ok (.invokestatic 153, 3) := dk_184 0 153 (dk_at dksX5_oldEnough_1 3 rfl rfl)
theorem dX5_oldEnough_30 : decode cX5_oldEnough 30 = .ok (.ifCond .ne 5, 3) := dk_154 0 5 (dk_at dksX5_oldEnough_1 6 rfl rfl)
theorem dX5_oldEnough_33 : decode cX5_oldEnough 33 = .ok (.iconst (-1), 1) := dk_2 (dk_at dksX5_oldEnough_1 9 rfl rfl)
theorem dX5_oldEnough_34 : decode cX5_oldEnough 34 = .ok (.ireturn, 1) := dk_172 (dk_at dksX5_oldEnough_1 10 rfl rfl)
theorem dX5_oldEnough_35 : decode cX5_oldEnough 35 = .ok (.aload_n 0, 1) := dk_42 (dk_at dksX5_oldEnough_1 11 rfl rfl)
theorem dX5_oldEnough_36 : decode cX5_oldEnough 36 = .ok (.iload_n 1, 1) := dk_27 (dk_at dksX5_oldEnough_1 12 rfl rfl)
theorem dX5_oldEnough_37 : decode cX5_oldEnough 37 = .ok (.invokevirtual 532, 3) := dk_182 2 20 (dk_at dksX5_oldEnough_1 13 rfl rfl)
theorem dX5_oldEnough_40 : decode cX5_oldEnough 40 = .ok (.iconst 0, 1) := dk_3 (dk_at dksX5_oldEnough_1 16 rfl rfl)
theorem dX5_oldEnough_41 : decode cX5_oldEnough 41 = .ok (.istore 4, 2) := dk_54 4 (dk_at dksX5_oldEnough_1 17 rfl rfl)
theorem dX5_oldEnough_43 : decode cX5_oldEnough 43 = .ok (.iload 4, 2) := dk_21 4 (dk_at dksX5_oldEnough_1 19 rfl rfl)
theorem dX5_oldEnough_45 : decode cX5_oldEnough 45 = .ok (.bipush 60, 2) := dk_16 60 (dk_at dksX5_oldEnough_1 21 rfl rfl)
theorem dX5_oldEnough_47 : decode cX5_oldEnough 47 = .ok (.if_icmp .gt 22, 3) := dk_163 0 22 (dk_at dksX5_oldEnough_2 0 rfl rfl)
theorem dX5_oldEnough_50 : decode cX5_oldEnough 50 = .ok (.aload_n 0, 1) := dk_42 (dk_at dksX5_oldEnough_2 3 rfl rfl)
theorem dX5_oldEnough_51 : decode cX5_oldEnough 51 = .ok (.iload_n 2, 1) := dk_28 (dk_at dksX5_oldEnough_2 4 rfl rfl)
theorem dX5_oldEnough_52 : decode cX5_oldEnough 52 = .ok (.invokevirtual 169, 3) := dk_182 0 169 (dk_at dksX5_oldEnough_2 5 rfl rfl)
theorem dX5_oldEnough_55 : decode cX5_oldEnough 55 = .ok (.iload_n 3, 1) := dk_29 (dk_at dksX5_oldEnough_2 8 rfl rfl)
theorem dX5_oldEnough_56 : decode cX5_oldEnough 56 = .ok (.if_icmp .ge 13, 3) := dk_162 0 13 (dk_at dksX5_oldEnough_2 9 rfl rfl)
theorem dX5_oldEnough_59 : decode cX5_oldEnough 59 = .ok (.aload_n 0, 1) := dk_42 (dk_at dksX5_oldEnough_2 12 rfl rfl)
theorem dX5_oldEnough_60 : decode cX5_oldEnough 60 = .ok (.invokevirtual 535, 3) := dk_182 2 23 (dk_at dksX5_oldEnough_2 13 rfl rfl)
theorem dX5_oldEnough_63 : decode cX5_oldEnough 63 = .ok (.iinc 4 1, 3) := dk_132 4 1 (dk_at dksX5_oldEnough_2 16 rfl rfl)
theorem dX5_oldEnough_66 : decode cX5_oldEnough 66 = .ok (.goto (-23), 3) := dk_167 255 233 (dk_at dksX5_oldEnough_2 19 rfl rfl)
theorem dX5_oldEnough_69 : decode cX5_oldEnough 69 = .ok (.aload_n 0, 1) := dk_42 (dk_at dksX5_oldEnough_2 22 rfl rfl)
theorem dX5_oldEnough_70 : decode cX5_oldEnough 70 = .ok (.bipush 16, 2) := dk_16 16 (dk_at dksX5_oldEnough_3 0 rfl rfl)
theorem dX5_oldEnough_72 : decode cX5_oldEnough 72 = .ok (.invokevirtual 150, 3) := dk_182 0 150 (dk_at dksX5_oldEnough_3 2 rfl rfl)
theorem dX5_oldEnough_75 : decode cX5_oldEnough 75 = .ok (.iload 4, 2) := dk_21 4 (dk_at dksX5_oldEnough_3 5 rfl rfl)
theorem dX5_oldEnough_77 : decode cX5_oldEnough 77 = .ok (.bipush 60, 2) := dk_16 60 (dk_at dksX5_oldEnough_3 7 rfl rfl)
theorem dX5_oldEnough_79 : decode cX5_oldEnough 79 = .ok (.if_icmp .le 7, 3) := dk_164 0 7 (dk_at dksX5_oldEnough_3 9 rfl rfl)
theorem dX5_oldEnough_82 : decode cX5_oldEnough 82 = .ok (.iconst (-1), 1) := dk_2 (dk_at dksX5_oldEnough_3 12 rfl rfl)
theorem dX5_oldEnough_83 : decode cX5_oldEnough 83 = .ok (.goto 5, 3) := dk_167 0 5 (dk_at dksX5_oldEnough_3 13 rfl rfl)
theorem dX5_oldEnough_86 : decode cX5_oldEnough 86 = .ok (.iload 4, 2) := dk_21 4 (dk_at dksX5_oldEnough_3 16 rfl rfl)
theorem dX5_oldEnough_88 : decode cX5_oldEnough 88 = .ok (.ireturn, 1) := dk_172 (dk_at dksX5_oldEnough_3 18 rfl rfl)
abbrev cX5_settled : ByteArray := prog_23_method_109_code
def yX5_settled : MethodName := ⟨RX5, "settled", "(II)I"⟩
def dkwX5_settled_3 : List UInt8 := [160, 0, 8, 21, 4, 167, 0, 4, 29, 62, 132, 4, 1, 167, 255, 207, 42, 16, 16, 182, 0, 150, 29, 172]
abbrev dktX5_settled_3 : List UInt8 := dkwX5_settled_3 ++ []
def dkwX5_settled_2 : List UInt8 := [182, 0, 169, 54, 5, 42, 182, 2, 23, 21, 5, 2, 159, 0, 18, 42, 28, 182, 0, 169, 21, 5]
abbrev dktX5_settled_2 : List UInt8 := dkwX5_settled_2 ++ dktX5_settled_3
def dkwX5_settled_1 : List UInt8 := [27, 182, 2, 20, 2, 62, 3, 54, 4, 21, 4, 16, 60, 162, 0, 48, 29, 2, 160, 0, 43, 42, 28]
abbrev dktX5_settled_1 : List UInt8 := dkwX5_settled_1 ++ dktX5_settled_2
def dkwX5_settled_0 : List UInt8 := [42, 3, 181, 0, 133, 42, 27, 182, 2, 13, 153, 0, 11, 42, 28, 182, 0, 184, 154, 0, 5, 2, 172, 42]
abbrev dktX5_settled_0 : List UInt8 := dkwX5_settled_0 ++ dktX5_settled_1
theorem dksX5_settled_0 : cX5_settled.data.toList.drop 0 = dktX5_settled_0 := by decide +kernel
theorem dksX5_settled_1 : cX5_settled.data.toList.drop 24 = dktX5_settled_1 := dk_seg dksX5_settled_0 24 rfl rfl
theorem dksX5_settled_2 : cX5_settled.data.toList.drop 47 = dktX5_settled_2 := dk_seg dksX5_settled_1 23 rfl rfl
theorem dksX5_settled_3 : cX5_settled.data.toList.drop 69 = dktX5_settled_3 := dk_seg dksX5_settled_2 22 rfl rfl
theorem dX5_settled_0 : decode cX5_settled 0 = .ok (.aload_n 0, 1) := dk_42 (dk_at dksX5_settled_0 0 rfl rfl)
theorem dX5_settled_1 : decode cX5_settled 1 = .ok (.iconst 0, 1) := dk_3 (dk_at dksX5_settled_0 1 rfl rfl)
theorem dX5_settled_2 : decode cX5_settled 2 = .ok (.putfield 133, 3) := dk_181 0 133 (dk_at dksX5_settled_0 2 rfl rfl)
theorem dX5_settled_5 : decode cX5_settled 5 = .ok (.aload_n 0, 1) := dk_42 (dk_at dksX5_settled_0 5 rfl rfl)
theorem dX5_settled_6 : decode cX5_settled 6 = .ok (.iload_n 1, 1) := dk_27 (dk_at dksX5_settled_0 6 rfl rfl)
theorem dX5_settled_7 : decode cX5_settled 7 = .ok (.invokevirtual 525, 3) := dk_182 2 13 (dk_at dksX5_settled_0 7 rfl rfl)
theorem dX5_settled_10 : decode cX5_settled 10 = .ok (.ifCond .eq 11, 3) := dk_153 0 11 (dk_at dksX5_settled_0 10 rfl rfl)
theorem dX5_settled_13 : decode cX5_settled 13 = .ok (.aload_n 0, 1) := dk_42 (dk_at dksX5_settled_0 13 rfl rfl)
theorem dX5_settled_14 : decode cX5_settled 14 = .ok (.iload_n 2, 1) := dk_28 (dk_at dksX5_settled_0 14 rfl rfl)
theorem dX5_settled_15 : decode cX5_settled 15 = .ok (.invokevirtual 184, 3) := dk_182 0 184 (dk_at dksX5_settled_0 15 rfl rfl)
theorem dX5_settled_18 : decode cX5_settled 18 = .ok (.ifCond .ne 5, 3) := dk_154 0 5 (dk_at dksX5_settled_0 18 rfl rfl)
theorem dX5_settled_21 : decode cX5_settled 21 = .ok (.iconst (-1), 1) := dk_2 (dk_at dksX5_settled_0 21 rfl rfl)
theorem dX5_settled_22 : decode cX5_settled 22 = .ok (.ireturn, 1) := dk_172 (dk_at dksX5_settled_0 22 rfl rfl)
theorem dX5_settled_23 : decode cX5_settled 23 = .ok (.aload_n 0, 1) := dk_42 (dk_at dksX5_settled_0 23 rfl rfl)
theorem dX5_settled_24 : decode cX5_settled 24 = .ok (.iload_n 1, 1) := dk_27 (dk_at dksX5_settled_1 0 rfl rfl)
theorem dX5_settled_25 : decode cX5_settled 25 = .ok (.invokevirtual 532, 3) := dk_182 2 20 (dk_at dksX5_settled_1 1 rfl rfl)
theorem dX5_settled_28 : decode cX5_settled 28 = .ok (.iconst (-1), 1) := dk_2 (dk_at dksX5_settled_1 4 rfl rfl)
theorem dX5_settled_29 : decode cX5_settled 29 = .ok (.istore_n 3, 1) := dk_62 (dk_at dksX5_settled_1 5 rfl rfl)
theorem dX5_settled_30 : decode cX5_settled 30 = .ok (.iconst 0, 1) := dk_3 (dk_at dksX5_settled_1 6 rfl rfl)
theorem dX5_settled_31 : decode cX5_settled 31 = .ok (.istore 4, 2) := dk_54 4 (dk_at dksX5_settled_1 7 rfl rfl)
theorem dX5_settled_33 : decode cX5_settled 33 = .ok (.iload 4, 2) := dk_21 4 (dk_at dksX5_settled_1 9 rfl rfl)
theorem dX5_settled_35 : decode cX5_settled 35 = .ok (.bipush 60, 2) := dk_16 60 (dk_at dksX5_settled_1 11 rfl rfl)
theorem dX5_settled_37 : decode cX5_settled 37 = .ok (.if_icmp .ge 48, 3) := dk_162 0 48 (dk_at dksX5_settled_1 13 rfl rfl)
theorem dX5_settled_40 : decode cX5_settled 40 = .ok (.iload_n 3, 1) := dk_29 (dk_at dksX5_settled_1 16 rfl rfl)
theorem dX5_settled_41 : decode cX5_settled 41 = .ok (.iconst (-1), 1) := dk_2 (dk_at dksX5_settled_1 17 rfl rfl)
theorem dX5_settled_42 : decode cX5_settled 42 = .ok (.if_icmp .ne 43, 3) := dk_160 0 43 (dk_at dksX5_settled_1 18 rfl rfl)
theorem dX5_settled_45 : decode cX5_settled 45 = .ok (.aload_n 0, 1) := dk_42 (dk_at dksX5_settled_1 21 rfl rfl)
theorem dX5_settled_46 : decode cX5_settled 46 = .ok (.iload_n 2, 1) := dk_28 (dk_at dksX5_settled_1 22 rfl rfl)
theorem dX5_settled_47 : decode cX5_settled 47 = .ok (.invokevirtual 169, 3) := dk_182 0 169 (dk_at dksX5_settled_2 0 rfl rfl)
theorem dX5_settled_50 : decode cX5_settled 50 = .ok (.istore 5, 2) := dk_54 5 (dk_at dksX5_settled_2 3 rfl rfl)
theorem dX5_settled_52 : decode cX5_settled 52 = .ok (.aload_n 0, 1) := dk_42 (dk_at dksX5_settled_2 5 rfl rfl)
theorem dX5_settled_53 : decode cX5_settled 53 = .ok (.invokevirtual 535, 3) := dk_182 2 23 (dk_at dksX5_settled_2 6 rfl rfl)
theorem dX5_settled_56 : decode cX5_settled 56 = .ok (.iload 5, 2) := dk_21 5 (dk_at dksX5_settled_2 9 rfl rfl)
theorem dX5_settled_58 : decode cX5_settled 58 = .ok (.iconst (-1), 1) := dk_2 (dk_at dksX5_settled_2 11 rfl rfl)
theorem dX5_settled_59 : decode cX5_settled 59 = .ok (.if_icmp .eq 18, 3) := dk_159 0 18 (dk_at dksX5_settled_2 12 rfl rfl)
theorem dX5_settled_62 : decode cX5_settled 62 = .ok (.aload_n 0, 1) := dk_42 (dk_at dksX5_settled_2 15 rfl rfl)
theorem dX5_settled_63 : decode cX5_settled 63 = .ok (.iload_n 2, 1) := dk_28 (dk_at dksX5_settled_2 16 rfl rfl)
theorem dX5_settled_64 : decode cX5_settled 64 = .ok (.invokevirtual 169, 3) := dk_182 0 169 (dk_at dksX5_settled_2 17 rfl rfl)
theorem dX5_settled_67 : decode cX5_settled 67 = .ok (.iload 5, 2) := dk_21 5 (dk_at dksX5_settled_2 20 rfl rfl)
theorem dX5_settled_69 : decode cX5_settled 69 = .ok (.if_icmp .ne 8, 3) := dk_160 0 8 (dk_at dksX5_settled_3 0 rfl rfl)
theorem dX5_settled_72 : decode cX5_settled 72 = .ok (.iload 4, 2) := dk_21 4 (dk_at dksX5_settled_3 3 rfl rfl)
theorem dX5_settled_74 : decode cX5_settled 74 = .ok (.goto 4, 3) := dk_167 0 4 (dk_at dksX5_settled_3 5 rfl rfl)
theorem dX5_settled_77 : decode cX5_settled 77 = .ok (.iload_n 3, 1) := dk_29 (dk_at dksX5_settled_3 8 rfl rfl)
theorem dX5_settled_78 : decode cX5_settled 78 = .ok (.istore_n 3, 1) := dk_62 (dk_at dksX5_settled_3 9 rfl rfl)
theorem dX5_settled_79 : decode cX5_settled 79 = .ok (.iinc 4 1, 3) := dk_132 4 1 (dk_at dksX5_settled_3 10 rfl rfl)
theorem dX5_settled_82 : decode cX5_settled 82 = .ok (.goto (-49), 3) := dk_167 255 207 (dk_at dksX5_settled_3 13 rfl rfl)
theorem dX5_settled_85 : decode cX5_settled 85 = .ok (.aload_n 0, 1) := dk_42 (dk_at dksX5_settled_3 16 rfl rfl)
theorem dX5_settled_86 : decode cX5_settled 86 = .ok (.bipush 16, 2) := dk_16 16 (dk_at dksX5_settled_3 17 rfl rfl)
theorem dX5_settled_88 : decode cX5_settled 88 = .ok (.invokevirtual 150, 3) := dk_182 0 150 (dk_at dksX5_settled_3 19 rfl rfl)
theorem dX5_settled_91 : decode cX5_settled 91 = .ok (.iload_n 3, 1) := dk_29 (dk_at dksX5_settled_3 22 rfl rfl)
theorem dX5_settled_92 : decode cX5_settled 92 = .ok (.ireturn, 1) := dk_172 (dk_at dksX5_settled_3 23 rfl rfl)
abbrev cX5_starves : ByteArray := prog_23_method_110_code
def yX5_starves : MethodName := ⟨RX5, "starves", "(I)I"⟩
def dkwX5_starves_2 : List UInt8 := [167, 0, 4, 28, 61, 132, 3, 1, 167, 255, 225, 42, 16, 16, 182, 0, 150, 28, 172]
abbrev dktX5_starves_2 : List UInt8 := dkwX5_starves_2 ++ []
def dkwX5_starves_1 : List UInt8 := [29, 16, 60, 162, 0, 31, 28, 2, 160, 0, 26, 42, 182, 2, 23, 42, 180, 2, 3, 153, 0, 7, 29]
abbrev dktX5_starves_1 : List UInt8 := dkwX5_starves_1 ++ dktX5_starves_2
def dkwX5_starves_0 : List UInt8 := [42, 3, 181, 0, 133, 42, 27, 182, 2, 13, 154, 0, 5, 2, 172, 42, 27, 182, 2, 20, 2, 61, 3, 62]
abbrev dktX5_starves_0 : List UInt8 := dkwX5_starves_0 ++ dktX5_starves_1
theorem dksX5_starves_0 : cX5_starves.data.toList.drop 0 = dktX5_starves_0 := by decide +kernel
theorem dksX5_starves_1 : cX5_starves.data.toList.drop 24 = dktX5_starves_1 := dk_seg dksX5_starves_0 24 rfl rfl
theorem dksX5_starves_2 : cX5_starves.data.toList.drop 47 = dktX5_starves_2 := dk_seg dksX5_starves_1 23 rfl rfl
theorem dX5_starves_0 : decode cX5_starves 0 = .ok (.aload_n 0, 1) := dk_42 (dk_at dksX5_starves_0 0 rfl rfl)
theorem dX5_starves_1 : decode cX5_starves 1 = .ok (.iconst 0, 1) := dk_3 (dk_at dksX5_starves_0 1 rfl rfl)
theorem dX5_starves_2 : decode cX5_starves 2 = .ok (.putfield 133, 3) := dk_181 0 133 (dk_at dksX5_starves_0 2 rfl rfl)
theorem dX5_starves_5 : decode cX5_starves 5 = .ok (.aload_n 0, 1) := dk_42 (dk_at dksX5_starves_0 5 rfl rfl)
theorem dX5_starves_6 : decode cX5_starves 6 = .ok (.iload_n 1, 1) := dk_27 (dk_at dksX5_starves_0 6 rfl rfl)
theorem dX5_starves_7 : decode cX5_starves 7 = .ok (.invokevirtual 525, 3) := dk_182 2 13 (dk_at dksX5_starves_0 7 rfl rfl)
theorem dX5_starves_10 : decode cX5_starves 10 = .ok (.ifCond .ne 5, 3) := dk_154 0 5 (dk_at dksX5_starves_0 10 rfl rfl)
theorem dX5_starves_13 : decode cX5_starves 13 = .ok (.iconst (-1), 1) := dk_2 (dk_at dksX5_starves_0 13 rfl rfl)
theorem dX5_starves_14 : decode cX5_starves 14 = .ok (.ireturn, 1) := dk_172 (dk_at dksX5_starves_0 14 rfl rfl)
theorem dX5_starves_15 : decode cX5_starves 15 = .ok (.aload_n 0, 1) := dk_42 (dk_at dksX5_starves_0 15 rfl rfl)
theorem dX5_starves_16 : decode cX5_starves 16 = .ok (.iload_n 1, 1) := dk_27 (dk_at dksX5_starves_0 16 rfl rfl)
theorem dX5_starves_17 : decode cX5_starves 17 = .ok (.invokevirtual 532, 3) := dk_182 2 20 (dk_at dksX5_starves_0 17 rfl rfl)
theorem dX5_starves_20 : decode cX5_starves 20 = .ok (.iconst (-1), 1) := dk_2 (dk_at dksX5_starves_0 20 rfl rfl)
theorem dX5_starves_21 : decode cX5_starves 21 = .ok (.istore_n 2, 1) := dk_61 (dk_at dksX5_starves_0 21 rfl rfl)
theorem dX5_starves_22 : decode cX5_starves 22 = .ok (.iconst 0, 1) := dk_3 (dk_at dksX5_starves_0 22 rfl rfl)
theorem dX5_starves_23 : decode cX5_starves 23 = .ok (.istore_n 3, 1) := dk_62 (dk_at dksX5_starves_0 23 rfl rfl)
theorem dX5_starves_24 : decode cX5_starves 24 = .ok (.iload_n 3, 1) := dk_29 (dk_at dksX5_starves_1 0 rfl rfl)
theorem dX5_starves_25 : decode cX5_starves 25 = .ok (.bipush 60, 2) := dk_16 60 (dk_at dksX5_starves_1 1 rfl rfl)
theorem dX5_starves_27 : decode cX5_starves 27 = .ok (.if_icmp .ge 31, 3) := dk_162 0 31 (dk_at dksX5_starves_1 3 rfl rfl)
theorem dX5_starves_30 : decode cX5_starves 30 = .ok (.iload_n 2, 1) := dk_28 (dk_at dksX5_starves_1 6 rfl rfl)
theorem dX5_starves_31 : decode cX5_starves 31 = .ok (.iconst (-1), 1) := dk_2 (dk_at dksX5_starves_1 7 rfl rfl)
theorem dX5_starves_32 : decode cX5_starves 32 = .ok (.if_icmp .ne 26, 3) := dk_160 0 26 (dk_at dksX5_starves_1 8 rfl rfl)
theorem dX5_starves_35 : decode cX5_starves 35 = .ok (.aload_n 0, 1) := dk_42 (dk_at dksX5_starves_1 11 rfl rfl)
theorem dX5_starves_36 : decode cX5_starves 36 = .ok (.invokevirtual 535, 3) := dk_182 2 23 (dk_at dksX5_starves_1 12 rfl rfl)
theorem dX5_starves_39 : decode cX5_starves 39 = .ok (.aload_n 0, 1) := dk_42 (dk_at dksX5_starves_1 15 rfl rfl)
theorem dX5_starves_40 : decode cX5_starves 40 = .ok (.getfield 515, 3) := dk_180 2 3 (dk_at dksX5_starves_1 16 rfl rfl)
theorem dX5_starves_43 : decode cX5_starves 43 = .ok (.ifCond .eq 7, 3) := dk_153 0 7 (dk_at dksX5_starves_1 19 rfl rfl)
theorem dX5_starves_46 : decode cX5_starves 46 = .ok (.iload_n 3, 1) := dk_29 (dk_at dksX5_starves_1 22 rfl rfl)
theorem dX5_starves_47 : decode cX5_starves 47 = .ok (.goto 4, 3) := dk_167 0 4 (dk_at dksX5_starves_2 0 rfl rfl)
theorem dX5_starves_50 : decode cX5_starves 50 = .ok (.iload_n 2, 1) := dk_28 (dk_at dksX5_starves_2 3 rfl rfl)
theorem dX5_starves_51 : decode cX5_starves 51 = .ok (.istore_n 2, 1) := dk_61 (dk_at dksX5_starves_2 4 rfl rfl)
theorem dX5_starves_52 : decode cX5_starves 52 = .ok (.iinc 3 1, 3) := dk_132 3 1 (dk_at dksX5_starves_2 5 rfl rfl)
theorem dX5_starves_55 : decode cX5_starves 55 = .ok (.goto (-31), 3) := dk_167 255 225 (dk_at dksX5_starves_2 8 rfl rfl)
theorem dX5_starves_58 : decode cX5_starves 58 = .ok (.aload_n 0, 1) := dk_42 (dk_at dksX5_starves_2 11 rfl rfl)
theorem dX5_starves_59 : decode cX5_starves 59 = .ok (.bipush 16, 2) := dk_16 16 (dk_at dksX5_starves_2 12 rfl rfl)
theorem dX5_starves_61 : decode cX5_starves 61 = .ok (.invokevirtual 150, 3) := dk_182 0 150 (dk_at dksX5_starves_2 14 rfl rfl)
theorem dX5_starves_64 : decode cX5_starves 64 = .ok (.iload_n 2, 1) := dk_28 (dk_at dksX5_starves_2 17 rfl rfl)
theorem dX5_starves_65 : decode cX5_starves 65 = .ok (.ireturn, 1) := dk_172 (dk_at dksX5_starves_2 18 rfl rfl)
abbrev cX5_yields : ByteArray := prog_23_method_112_code
def yX5_yields : MethodName := ⟨RX5, "yields", "(II)I"⟩
def dkwX5_yields_1 : List UInt8 := [154, 0, 7, 2, 167, 0, 9, 42, 27, 28, 182, 2, 28, 172]
abbrev dktX5_yields_1 : List UInt8 := dkwX5_yields_1 ++ []
def dkwX5_yields_0 : List UInt8 := [42, 3, 181, 0, 133, 42, 27, 182, 2, 13, 153, 0, 15, 28, 133, 9, 20, 2, 16, 184, 0, 153]
abbrev dktX5_yields_0 : List UInt8 := dkwX5_yields_0 ++ dktX5_yields_1
theorem dksX5_yields_0 : cX5_yields.data.toList.drop 0 = dktX5_yields_0 := by decide +kernel
theorem dksX5_yields_1 : cX5_yields.data.toList.drop 22 = dktX5_yields_1 := dk_seg dksX5_yields_0 22 rfl rfl
theorem dX5_yields_0 : decode cX5_yields 0 = .ok (.aload_n 0, 1) := dk_42 (dk_at dksX5_yields_0 0 rfl rfl)
theorem dX5_yields_1 : decode cX5_yields 1 = .ok (.iconst 0, 1) := dk_3 (dk_at dksX5_yields_0 1 rfl rfl)
theorem dX5_yields_2 : decode cX5_yields 2 = .ok (.putfield 133, 3) := dk_181 0 133 (dk_at dksX5_yields_0 2 rfl rfl)
theorem dX5_yields_5 : decode cX5_yields 5 = .ok (.aload_n 0, 1) := dk_42 (dk_at dksX5_yields_0 5 rfl rfl)
theorem dX5_yields_6 : decode cX5_yields 6 = .ok (.iload_n 1, 1) := dk_27 (dk_at dksX5_yields_0 6 rfl rfl)
theorem dX5_yields_7 : decode cX5_yields 7 = .ok (.invokevirtual 525, 3) := dk_182 2 13 (dk_at dksX5_yields_0 7 rfl rfl)
theorem dX5_yields_10 : decode cX5_yields 10 = .ok (.ifCond .eq 15, 3) := dk_153 0 15 (dk_at dksX5_yields_0 10 rfl rfl)
theorem dX5_yields_13 : decode cX5_yields 13 = .ok (.iload_n 2, 1) := dk_28 (dk_at dksX5_yields_0 13 rfl rfl)
theorem dX5_yields_14 : decode cX5_yields 14 = .ok (.i2l, 1) := dk_133 (dk_at dksX5_yields_0 14 rfl rfl)
theorem dX5_yields_15 : decode cX5_yields 15 = .ok (.lconst 0, 1) := dk_9 (dk_at dksX5_yields_0 15 rfl rfl)
theorem dX5_yields_16 : decode cX5_yields 16 = .ok (.ldc2_w 528, 3) := dk_20 2 16 (dk_at dksX5_yields_0 16 rfl rfl)
theorem dX5_yields_19 : decode cX5_yields 19 = .ok (.invokestatic 153, 3) := dk_184 0 153 (dk_at dksX5_yields_0 19 rfl rfl)
theorem dX5_yields_22 : decode cX5_yields 22 = .ok (.ifCond .ne 7, 3) := dk_154 0 7 (dk_at dksX5_yields_1 0 rfl rfl)
theorem dX5_yields_25 : decode cX5_yields 25 = .ok (.iconst (-1), 1) := dk_2 (dk_at dksX5_yields_1 3 rfl rfl)
theorem dX5_yields_26 : decode cX5_yields 26 = .ok (.goto 9, 3) := dk_167 0 9 (dk_at dksX5_yields_1 4 rfl rfl)
theorem dX5_yields_29 : decode cX5_yields 29 = .ok (.aload_n 0, 1) := dk_42 (dk_at dksX5_yields_1 7 rfl rfl)
theorem dX5_yields_30 : decode cX5_yields 30 = .ok (.iload_n 1, 1) := dk_27 (dk_at dksX5_yields_1 8 rfl rfl)
theorem dX5_yields_31 : decode cX5_yields 31 = .ok (.iload_n 2, 1) := dk_28 (dk_at dksX5_yields_1 9 rfl rfl)
theorem dX5_yields_32 : decode cX5_yields 32 = .ok (.invokevirtual 540, 3) := dk_182 2 28 (dk_at dksX5_yields_1 10 rfl rfl)
theorem dX5_yields_35 : decode cX5_yields 35 = .ok (.ireturn, 1) := dk_172 (dk_at dksX5_yields_1 13 rfl rfl)
abbrev cX5_yieldOf : ByteArray := prog_23_method_111_code
def yX5_yieldOf : MethodName := ⟨RX5, "yieldOf", "(II)I"⟩
def dkwX5_yieldOf_1 : List UInt8 := [16, 16, 182, 0, 150, 42, 180, 1, 188, 172]
abbrev dktX5_yieldOf_1 : List UInt8 := dkwX5_yieldOf_1 ++ []
def dkwX5_yieldOf_0 : List UInt8 := [42, 27, 182, 2, 20, 3, 62, 29, 28, 162, 0, 13, 42, 182, 2, 23, 132, 3, 1, 167, 255, 244, 42]
abbrev dktX5_yieldOf_0 : List UInt8 := dkwX5_yieldOf_0 ++ dktX5_yieldOf_1
theorem dksX5_yieldOf_0 : cX5_yieldOf.data.toList.drop 0 = dktX5_yieldOf_0 := by decide +kernel
theorem dksX5_yieldOf_1 : cX5_yieldOf.data.toList.drop 23 = dktX5_yieldOf_1 := dk_seg dksX5_yieldOf_0 23 rfl rfl
theorem dX5_yieldOf_0 : decode cX5_yieldOf 0 = .ok (.aload_n 0, 1) := dk_42 (dk_at dksX5_yieldOf_0 0 rfl rfl)
theorem dX5_yieldOf_1 : decode cX5_yieldOf 1 = .ok (.iload_n 1, 1) := dk_27 (dk_at dksX5_yieldOf_0 1 rfl rfl)
theorem dX5_yieldOf_2 : decode cX5_yieldOf 2 = .ok (.invokevirtual 532, 3) := dk_182 2 20 (dk_at dksX5_yieldOf_0 2 rfl rfl)
theorem dX5_yieldOf_5 : decode cX5_yieldOf 5 = .ok (.iconst 0, 1) := dk_3 (dk_at dksX5_yieldOf_0 5 rfl rfl)
theorem dX5_yieldOf_6 : decode cX5_yieldOf 6 = .ok (.istore_n 3, 1) := dk_62 (dk_at dksX5_yieldOf_0 6 rfl rfl)
theorem dX5_yieldOf_7 : decode cX5_yieldOf 7 = .ok (.iload_n 3, 1) := dk_29 (dk_at dksX5_yieldOf_0 7 rfl rfl)
theorem dX5_yieldOf_8 : decode cX5_yieldOf 8 = .ok (.iload_n 2, 1) := dk_28 (dk_at dksX5_yieldOf_0 8 rfl rfl)
theorem dX5_yieldOf_9 : decode cX5_yieldOf 9 = .ok (.if_icmp .ge 13, 3) := dk_162 0 13 (dk_at dksX5_yieldOf_0 9 rfl rfl)
theorem dX5_yieldOf_12 : decode cX5_yieldOf 12 = .ok (.aload_n 0, 1) := dk_42 (dk_at dksX5_yieldOf_0 12 rfl rfl)
theorem dX5_yieldOf_13 : decode cX5_yieldOf 13 = .ok (.invokevirtual 535, 3) := dk_182 2 23 (dk_at dksX5_yieldOf_0 13 rfl rfl)
theorem dX5_yieldOf_16 : decode cX5_yieldOf 16 = .ok (.iinc 3 1, 3) := dk_132 3 1 (dk_at dksX5_yieldOf_0 16 rfl rfl)
theorem dX5_yieldOf_19 : decode cX5_yieldOf 19 = .ok (.goto (-12), 3) := dk_167 255 244 (dk_at dksX5_yieldOf_0 19 rfl rfl)
theorem dX5_yieldOf_22 : decode cX5_yieldOf 22 = .ok (.aload_n 0, 1) := dk_42 (dk_at dksX5_yieldOf_0 22 rfl rfl)
theorem dX5_yieldOf_23 : decode cX5_yieldOf 23 = .ok (.bipush 16, 2) := dk_16 16 (dk_at dksX5_yieldOf_1 0 rfl rfl)
theorem dX5_yieldOf_25 : decode cX5_yieldOf 25 = .ok (.invokevirtual 150, 3) := dk_182 0 150 (dk_at dksX5_yieldOf_1 2 rfl rfl)
theorem dX5_yieldOf_28 : decode cX5_yieldOf 28 = .ok (.aload_n 0, 1) := dk_42 (dk_at dksX5_yieldOf_1 5 rfl rfl)
theorem dX5_yieldOf_29 : decode cX5_yieldOf 29 = .ok (.getfield 444, 3) := dk_180 1 188 (dk_at dksX5_yieldOf_1 6 rfl rfl)
theorem dX5_yieldOf_32 : decode cX5_yieldOf 32 = .ok (.ireturn, 1) := dk_172 (dk_at dksX5_yieldOf_1 9 rfl rfl)
abbrev cX5_best : ByteArray := prog_23_method_113_code
def yX5_best : MethodName := ⟨RX5, "best", "(II)I"⟩
def dkwX5_best_4 : List UInt8 := [21, 7, 153, 0, 8, 21, 6, 167, 0, 4, 29, 62, 132, 5, 1, 167, 255, 186, 21, 4, 172]
abbrev dktX5_best_4 : List UInt8 := dkwX5_best_4 ++ []
def dkwX5_best_3 : List UInt8 := [164, 0, 7, 4, 167, 0, 4, 3, 54, 7, 21, 7, 153, 0, 8, 21, 5, 167, 0, 5, 21, 4, 54, 4]
abbrev dktX5_best_3 : List UInt8 := dkwX5_best_3 ++ dktX5_best_4
def dkwX5_best_2 : List UInt8 := [162, 0, 65, 42, 21, 5, 27, 182, 2, 28, 54, 6, 42, 180, 1, 191, 28, 161, 0, 13, 21, 6, 29]
abbrev dktX5_best_2 : List UInt8 := dkwX5_best_2 ++ dktX5_best_3
def dkwX5_best_1 : List UInt8 := [184, 0, 153, 154, 0, 5, 2, 172, 2, 62, 2, 54, 4, 3, 54, 5, 21, 5, 42, 180, 0, 13, 6, 46]
abbrev dktX5_best_1 : List UInt8 := dkwX5_best_1 ++ dktX5_best_2
def dkwX5_best_0 : List UInt8 := [42, 3, 181, 0, 133, 27, 133, 9, 20, 2, 16, 184, 0, 153, 153, 0, 15, 28, 133, 9, 20, 2, 26]
abbrev dktX5_best_0 : List UInt8 := dkwX5_best_0 ++ dktX5_best_1
theorem dksX5_best_0 : cX5_best.data.toList.drop 0 = dktX5_best_0 := by decide +kernel
theorem dksX5_best_1 : cX5_best.data.toList.drop 23 = dktX5_best_1 := dk_seg dksX5_best_0 23 rfl rfl
theorem dksX5_best_2 : cX5_best.data.toList.drop 47 = dktX5_best_2 := dk_seg dksX5_best_1 24 rfl rfl
theorem dksX5_best_3 : cX5_best.data.toList.drop 70 = dktX5_best_3 := dk_seg dksX5_best_2 23 rfl rfl
theorem dksX5_best_4 : cX5_best.data.toList.drop 94 = dktX5_best_4 := dk_seg dksX5_best_3 24 rfl rfl
theorem dX5_best_0 : decode cX5_best 0 = .ok (.aload_n 0, 1) := dk_42 (dk_at dksX5_best_0 0 rfl rfl)
theorem dX5_best_1 : decode cX5_best 1 = .ok (.iconst 0, 1) := dk_3 (dk_at dksX5_best_0 1 rfl rfl)
theorem dX5_best_2 : decode cX5_best 2 = .ok (.putfield 133, 3) := dk_181 0 133 (dk_at dksX5_best_0 2 rfl rfl)
theorem dX5_best_5 : decode cX5_best 5 = .ok (.iload_n 1, 1) := dk_27 (dk_at dksX5_best_0 5 rfl rfl)
theorem dX5_best_6 : decode cX5_best 6 = .ok (.i2l, 1) := dk_133 (dk_at dksX5_best_0 6 rfl rfl)
theorem dX5_best_7 : decode cX5_best 7 = .ok (.lconst 0, 1) := dk_9 (dk_at dksX5_best_0 7 rfl rfl)
theorem dX5_best_8 : decode cX5_best 8 = .ok (.ldc2_w 528, 3) := dk_20 2 16 (dk_at dksX5_best_0 8 rfl rfl)
theorem dX5_best_11 : decode cX5_best 11 = .ok (.invokestatic 153, 3) := dk_184 0 153 (dk_at dksX5_best_0 11 rfl rfl)
theorem dX5_best_14 : decode cX5_best 14 = .ok (.ifCond .eq 15, 3) := dk_153 0 15 (dk_at dksX5_best_0 14 rfl rfl)
theorem dX5_best_17 : decode cX5_best 17 = .ok (.iload_n 2, 1) := dk_28 (dk_at dksX5_best_0 17 rfl rfl)
theorem dX5_best_18 : decode cX5_best 18 = .ok (.i2l, 1) := dk_133 (dk_at dksX5_best_0 18 rfl rfl)
theorem dX5_best_19 : decode cX5_best 19 = .ok (.lconst 0, 1) := dk_9 (dk_at dksX5_best_0 19 rfl rfl)
theorem dX5_best_20 : decode cX5_best 20 = .ok (.ldc2_w 538, 3) := dk_20 2 26 (dk_at dksX5_best_0 20 rfl rfl)
theorem dX5_best_23 : decode cX5_best 23 = .ok (.invokestatic 153, 3) := dk_184 0 153 (dk_at dksX5_best_1 0 rfl rfl)
theorem dX5_best_26 : decode cX5_best 26 = .ok (.ifCond .ne 5, 3) := dk_154 0 5 (dk_at dksX5_best_1 3 rfl rfl)
theorem dX5_best_29 : decode cX5_best 29 = .ok (.iconst (-1), 1) := dk_2 (dk_at dksX5_best_1 6 rfl rfl)
theorem dX5_best_30 : decode cX5_best 30 = .ok (.ireturn, 1) := dk_172 (dk_at dksX5_best_1 7 rfl rfl)
theorem dX5_best_31 : decode cX5_best 31 = .ok (.iconst (-1), 1) := dk_2 (dk_at dksX5_best_1 8 rfl rfl)
theorem dX5_best_32 : decode cX5_best 32 = .ok (.istore_n 3, 1) := dk_62 (dk_at dksX5_best_1 9 rfl rfl)
theorem dX5_best_33 : decode cX5_best 33 = .ok (.iconst (-1), 1) := dk_2 (dk_at dksX5_best_1 10 rfl rfl)
theorem dX5_best_34 : decode cX5_best 34 = .ok (.istore 4, 2) := dk_54 4 (dk_at dksX5_best_1 11 rfl rfl)
theorem dX5_best_36 : decode cX5_best 36 = .ok (.iconst 0, 1) := dk_3 (dk_at dksX5_best_1 13 rfl rfl)
theorem dX5_best_37 : decode cX5_best 37 = .ok (.istore 5, 2) := dk_54 5 (dk_at dksX5_best_1 14 rfl rfl)
theorem dX5_best_39 : decode cX5_best 39 = .ok (.iload 5, 2) := dk_21 5 (dk_at dksX5_best_1 16 rfl rfl)
theorem dX5_best_41 : decode cX5_best 41 = .ok (.aload_n 0, 1) := dk_42 (dk_at dksX5_best_1 18 rfl rfl)
theorem dX5_best_42 : decode cX5_best 42 = .ok (.getfield 13, 3) := dk_180 0 13 (dk_at dksX5_best_1 19 rfl rfl)
theorem dX5_best_45 : decode cX5_best 45 = .ok (.iconst 3, 1) := dk_6 (dk_at dksX5_best_1 22 rfl rfl)
theorem dX5_best_46 : decode cX5_best 46 = .ok (.iaload, 1) := dk_46 (dk_at dksX5_best_1 23 rfl rfl)
theorem dX5_best_47 : decode cX5_best 47 = .ok (.if_icmp .ge 65, 3) := dk_162 0 65 (dk_at dksX5_best_2 0 rfl rfl)
theorem dX5_best_50 : decode cX5_best 50 = .ok (.aload_n 0, 1) := dk_42 (dk_at dksX5_best_2 3 rfl rfl)
theorem dX5_best_51 : decode cX5_best 51 = .ok (.iload 5, 2) := dk_21 5 (dk_at dksX5_best_2 4 rfl rfl)
theorem dX5_best_53 : decode cX5_best 53 = .ok (.iload_n 1, 1) := dk_27 (dk_at dksX5_best_2 6 rfl rfl)
theorem dX5_best_54 : decode cX5_best 54 = .ok (.invokevirtual 540, 3) := dk_182 2 28 (dk_at dksX5_best_2 7 rfl rfl)
theorem dX5_best_57 : decode cX5_best 57 = .ok (.istore 6, 2) := dk_54 6 (dk_at dksX5_best_2 10 rfl rfl)
theorem dX5_best_59 : decode cX5_best 59 = .ok (.aload_n 0, 1) := dk_42 (dk_at dksX5_best_2 12 rfl rfl)
theorem dX5_best_60 : decode cX5_best 60 = .ok (.getfield 447, 3) := dk_180 1 191 (dk_at dksX5_best_2 13 rfl rfl)
theorem dX5_best_63 : decode cX5_best 63 = .ok (.iload_n 2, 1) := dk_28 (dk_at dksX5_best_2 16 rfl rfl)
theorem dX5_best_64 : decode cX5_best 64 = .ok (.if_icmp .lt 13, 3) := dk_161 0 13 (dk_at dksX5_best_2 17 rfl rfl)
theorem dX5_best_67 : decode cX5_best 67 = .ok (.iload 6, 2) := dk_21 6 (dk_at dksX5_best_2 20 rfl rfl)
theorem dX5_best_69 : decode cX5_best 69 = .ok (.iload_n 3, 1) := dk_29 (dk_at dksX5_best_2 22 rfl rfl)
theorem dX5_best_70 : decode cX5_best 70 = .ok (.if_icmp .le 7, 3) := dk_164 0 7 (dk_at dksX5_best_3 0 rfl rfl)
theorem dX5_best_73 : decode cX5_best 73 = .ok (.iconst 1, 1) := dk_4 (dk_at dksX5_best_3 3 rfl rfl)
theorem dX5_best_74 : decode cX5_best 74 = .ok (.goto 4, 3) := dk_167 0 4 (dk_at dksX5_best_3 4 rfl rfl)
theorem dX5_best_77 : decode cX5_best 77 = .ok (.iconst 0, 1) := dk_3 (dk_at dksX5_best_3 7 rfl rfl)
theorem dX5_best_78 : decode cX5_best 78 = .ok (.istore 7, 2) := dk_54 7 (dk_at dksX5_best_3 8 rfl rfl)
theorem dX5_best_80 : decode cX5_best 80 = .ok (.iload 7, 2) := dk_21 7 (dk_at dksX5_best_3 10 rfl rfl)
theorem dX5_best_82 : decode cX5_best 82 = .ok (.ifCond .eq 8, 3) := dk_153 0 8 (dk_at dksX5_best_3 12 rfl rfl)
theorem dX5_best_85 : decode cX5_best 85 = .ok (.iload 5, 2) := dk_21 5 (dk_at dksX5_best_3 15 rfl rfl)
theorem dX5_best_87 : decode cX5_best 87 = .ok (.goto 5, 3) := dk_167 0 5 (dk_at dksX5_best_3 17 rfl rfl)
theorem dX5_best_90 : decode cX5_best 90 = .ok (.iload 4, 2) := dk_21 4 (dk_at dksX5_best_3 20 rfl rfl)
theorem dX5_best_92 : decode cX5_best 92 = .ok (.istore 4, 2) := dk_54 4 (dk_at dksX5_best_3 22 rfl rfl)
theorem dX5_best_94 : decode cX5_best 94 = .ok (.iload 7, 2) := dk_21 7 (dk_at dksX5_best_4 0 rfl rfl)
theorem dX5_best_96 : decode cX5_best 96 = .ok (.ifCond .eq 8, 3) := dk_153 0 8 (dk_at dksX5_best_4 2 rfl rfl)
theorem dX5_best_99 : decode cX5_best 99 = .ok (.iload 6, 2) := dk_21 6 (dk_at dksX5_best_4 5 rfl rfl)
theorem dX5_best_101 : decode cX5_best 101 = .ok (.goto 4, 3) := dk_167 0 4 (dk_at dksX5_best_4 7 rfl rfl)
theorem dX5_best_104 : decode cX5_best 104 = .ok (.iload_n 3, 1) := dk_29 (dk_at dksX5_best_4 10 rfl rfl)
theorem dX5_best_105 : decode cX5_best 105 = .ok (.istore_n 3, 1) := dk_62 (dk_at dksX5_best_4 11 rfl rfl)
theorem dX5_best_106 : decode cX5_best 106 = .ok (.iinc 5 1, 3) := dk_132 5 1 (dk_at dksX5_best_4 12 rfl rfl)
theorem dX5_best_109 : decode cX5_best 109 = .ok (.goto (-70), 3) := dk_167 255 186 (dk_at dksX5_best_4 15 rfl rfl)
theorem dX5_best_112 : decode cX5_best 112 = .ok (.iload 4, 2) := dk_21 4 (dk_at dksX5_best_4 18 rfl rfl)
theorem dX5_best_114 : decode cX5_best 114 = .ok (.ireturn, 1) := dk_172 (dk_at dksX5_best_4 20 rfl rfl)
abbrev cX5_tasted : ByteArray := prog_23_method_114_code
def yX5_tasted : MethodName := ⟨RX5, "tasted", "(II)I"⟩
def dkwX5_tasted_4 : List UInt8 := [42, 29, 4, 96, 182, 0, 142, 172]
abbrev dktX5_tasted_4 : List UInt8 := dkwX5_tasted_4 ++ []
def dkwX5_tasted_3 : List UInt8 := [180, 0, 13, 17, 0, 186, 5, 29, 104, 96, 4, 96, 28, 79, 42, 180, 0, 13, 4, 92, 46, 4, 96, 79]
abbrev dktX5_tasted_3 : List UInt8 := dkwX5_tasted_3 ++ dktX5_tasted_4
def dkwX5_tasted_2 : List UInt8 := [160, 0, 10, 42, 16, 251, 182, 0, 142, 172, 42, 180, 0, 13, 17, 0, 186, 5, 29, 104, 96, 27, 79, 42]
abbrev dktX5_tasted_2 : List UInt8 := dkwX5_tasted_2 ++ dktX5_tasted_3
def dkwX5_tasted_1 : List UInt8 := [184, 0, 153, 154, 0, 9, 42, 2, 182, 0, 142, 172, 42, 180, 0, 13, 4, 46, 62, 29, 16, 6]
abbrev dktX5_tasted_1 : List UInt8 := dkwX5_tasted_1 ++ dktX5_tasted_2
def dkwX5_tasted_0 : List UInt8 := [42, 3, 181, 0, 133, 27, 133, 9, 20, 2, 18, 184, 0, 153, 153, 0, 15, 28, 133, 9, 20, 0, 179]
abbrev dktX5_tasted_0 : List UInt8 := dkwX5_tasted_0 ++ dktX5_tasted_1
theorem dksX5_tasted_0 : cX5_tasted.data.toList.drop 0 = dktX5_tasted_0 := by decide +kernel
theorem dksX5_tasted_1 : cX5_tasted.data.toList.drop 23 = dktX5_tasted_1 := dk_seg dksX5_tasted_0 23 rfl rfl
theorem dksX5_tasted_2 : cX5_tasted.data.toList.drop 45 = dktX5_tasted_2 := dk_seg dksX5_tasted_1 22 rfl rfl
theorem dksX5_tasted_3 : cX5_tasted.data.toList.drop 69 = dktX5_tasted_3 := dk_seg dksX5_tasted_2 24 rfl rfl
theorem dksX5_tasted_4 : cX5_tasted.data.toList.drop 93 = dktX5_tasted_4 := dk_seg dksX5_tasted_3 24 rfl rfl
theorem dX5_tasted_0 : decode cX5_tasted 0 = .ok (.aload_n 0, 1) := dk_42 (dk_at dksX5_tasted_0 0 rfl rfl)
theorem dX5_tasted_1 : decode cX5_tasted 1 = .ok (.iconst 0, 1) := dk_3 (dk_at dksX5_tasted_0 1 rfl rfl)
theorem dX5_tasted_2 : decode cX5_tasted 2 = .ok (.putfield 133, 3) := dk_181 0 133 (dk_at dksX5_tasted_0 2 rfl rfl)
theorem dX5_tasted_5 : decode cX5_tasted 5 = .ok (.iload_n 1, 1) := dk_27 (dk_at dksX5_tasted_0 5 rfl rfl)
theorem dX5_tasted_6 : decode cX5_tasted 6 = .ok (.i2l, 1) := dk_133 (dk_at dksX5_tasted_0 6 rfl rfl)
theorem dX5_tasted_7 : decode cX5_tasted 7 = .ok (.lconst 0, 1) := dk_9 (dk_at dksX5_tasted_0 7 rfl rfl)
theorem dX5_tasted_8 : decode cX5_tasted 8 = .ok (.ldc2_w 530, 3) := dk_20 2 18 (dk_at dksX5_tasted_0 8 rfl rfl)
theorem dX5_tasted_11 : decode cX5_tasted 11 = .ok (.invokestatic 153, 3) := dk_184 0 153 (dk_at dksX5_tasted_0 11 rfl rfl)
theorem dX5_tasted_14 : decode cX5_tasted 14 = .ok (.ifCond .eq 15, 3) := dk_153 0 15 (dk_at dksX5_tasted_0 14 rfl rfl)
theorem dX5_tasted_17 : decode cX5_tasted 17 = .ok (.iload_n 2, 1) := dk_28 (dk_at dksX5_tasted_0 17 rfl rfl)
theorem dX5_tasted_18 : decode cX5_tasted 18 = .ok (.i2l, 1) := dk_133 (dk_at dksX5_tasted_0 18 rfl rfl)
theorem dX5_tasted_19 : decode cX5_tasted 19 = .ok (.lconst 0, 1) := dk_9 (dk_at dksX5_tasted_0 19 rfl rfl)
theorem dX5_tasted_20 : decode cX5_tasted 20 = .ok (.ldc2_w 179, 3) := dk_20 0 179 (dk_at dksX5_tasted_0 20 rfl rfl)
theorem dX5_tasted_23 : decode cX5_tasted 23 = .ok (.invokestatic 153, 3) := dk_184 0 153 (dk_at dksX5_tasted_1 0 rfl rfl)
theorem dX5_tasted_26 : decode cX5_tasted 26 = .ok (.ifCond .ne 9, 3) := dk_154 0 9 (dk_at dksX5_tasted_1 3 rfl rfl)
theorem dX5_tasted_29 : decode cX5_tasted 29 = .ok (.aload_n 0, 1) := dk_42 (dk_at dksX5_tasted_1 6 rfl rfl)
theorem dX5_tasted_30 : decode cX5_tasted 30 = .ok (.iconst (-1), 1) := dk_2 (dk_at dksX5_tasted_1 7 rfl rfl)
theorem dX5_tasted_31 : decode cX5_tasted 31 = .ok (.invokevirtual 142, 3) := dk_182 0 142 (dk_at dksX5_tasted_1 8 rfl rfl)
theorem dX5_tasted_34 : decode cX5_tasted 34 = .ok (.ireturn, 1) := dk_172 (dk_at dksX5_tasted_1 11 rfl rfl)
theorem dX5_tasted_35 : decode cX5_tasted 35 = .ok (.aload_n 0, 1) := dk_42 (dk_at dksX5_tasted_1 12 rfl rfl)
theorem dX5_tasted_36 : decode cX5_tasted 36 = .ok (.getfield 13, 3) := dk_180 0 13 (dk_at dksX5_tasted_1 13 rfl rfl)
theorem dX5_tasted_39 : decode cX5_tasted 39 = .ok (.iconst 1, 1) := dk_4 (dk_at dksX5_tasted_1 16 rfl rfl)
theorem dX5_tasted_40 : decode cX5_tasted 40 = .ok (.iaload, 1) := dk_46 (dk_at dksX5_tasted_1 17 rfl rfl)
theorem dX5_tasted_41 : decode cX5_tasted 41 = .ok (.istore_n 3, 1) := dk_62 (dk_at dksX5_tasted_1 18 rfl rfl)
theorem dX5_tasted_42 : decode cX5_tasted 42 = .ok (.iload_n 3, 1) := dk_29 (dk_at dksX5_tasted_1 19 rfl rfl)
theorem dX5_tasted_43 : decode cX5_tasted 43 = .ok (.bipush 6, 2) := dk_16 6 (dk_at dksX5_tasted_1 20 rfl rfl)
theorem dX5_tasted_45 : decode cX5_tasted 45 = .ok (.if_icmp .ne 10, 3) := dk_160 0 10 (dk_at dksX5_tasted_2 0 rfl rfl)
theorem dX5_tasted_48 : decode cX5_tasted 48 = .ok (.aload_n 0, 1) := dk_42 (dk_at dksX5_tasted_2 3 rfl rfl)
theorem dX5_tasted_49 : decode cX5_tasted 49 = .ok (.bipush (-5), 2) := dk_16 251 (dk_at dksX5_tasted_2 4 rfl rfl)
theorem dX5_tasted_51 : decode cX5_tasted 51 = .ok (.invokevirtual 142, 3) := dk_182 0 142 (dk_at dksX5_tasted_2 6 rfl rfl)
theorem dX5_tasted_54 : decode cX5_tasted 54 = .ok (.ireturn, 1) := dk_172 (dk_at dksX5_tasted_2 9 rfl rfl)
theorem dX5_tasted_55 : decode cX5_tasted 55 = .ok (.aload_n 0, 1) := dk_42 (dk_at dksX5_tasted_2 10 rfl rfl)
theorem dX5_tasted_56 : decode cX5_tasted 56 = .ok (.getfield 13, 3) := dk_180 0 13 (dk_at dksX5_tasted_2 11 rfl rfl)
theorem dX5_tasted_59 : decode cX5_tasted 59 = .ok (.sipush 186, 3) := dk_17 0 186 (dk_at dksX5_tasted_2 14 rfl rfl)
theorem dX5_tasted_62 : decode cX5_tasted 62 = .ok (.iconst 2, 1) := dk_5 (dk_at dksX5_tasted_2 17 rfl rfl)
theorem dX5_tasted_63 : decode cX5_tasted 63 = .ok (.iload_n 3, 1) := dk_29 (dk_at dksX5_tasted_2 18 rfl rfl)
theorem dX5_tasted_64 : decode cX5_tasted 64 = .ok (.imul, 1) := dk_104 (dk_at dksX5_tasted_2 19 rfl rfl)
theorem dX5_tasted_65 : decode cX5_tasted 65 = .ok (.iadd, 1) := dk_96 (dk_at dksX5_tasted_2 20 rfl rfl)
theorem dX5_tasted_66 : decode cX5_tasted 66 = .ok (.iload_n 1, 1) := dk_27 (dk_at dksX5_tasted_2 21 rfl rfl)
theorem dX5_tasted_67 : decode cX5_tasted 67 = .ok (.iastore, 1) := dk_79 (dk_at dksX5_tasted_2 22 rfl rfl)
theorem dX5_tasted_68 : decode cX5_tasted 68 = .ok (.aload_n 0, 1) := dk_42 (dk_at dksX5_tasted_2 23 rfl rfl)
theorem dX5_tasted_69 : decode cX5_tasted 69 = .ok (.getfield 13, 3) := dk_180 0 13 (dk_at dksX5_tasted_3 0 rfl rfl)
theorem dX5_tasted_72 : decode cX5_tasted 72 = .ok (.sipush 186, 3) := dk_17 0 186 (dk_at dksX5_tasted_3 3 rfl rfl)
theorem dX5_tasted_75 : decode cX5_tasted 75 = .ok (.iconst 2, 1) := dk_5 (dk_at dksX5_tasted_3 6 rfl rfl)
theorem dX5_tasted_76 : decode cX5_tasted 76 = .ok (.iload_n 3, 1) := dk_29 (dk_at dksX5_tasted_3 7 rfl rfl)
theorem dX5_tasted_77 : decode cX5_tasted 77 = .ok (.imul, 1) := dk_104 (dk_at dksX5_tasted_3 8 rfl rfl)
theorem dX5_tasted_78 : decode cX5_tasted 78 = .ok (.iadd, 1) := dk_96 (dk_at dksX5_tasted_3 9 rfl rfl)
theorem dX5_tasted_79 : decode cX5_tasted 79 = .ok (.iconst 1, 1) := dk_4 (dk_at dksX5_tasted_3 10 rfl rfl)
theorem dX5_tasted_80 : decode cX5_tasted 80 = .ok (.iadd, 1) := dk_96 (dk_at dksX5_tasted_3 11 rfl rfl)
theorem dX5_tasted_81 : decode cX5_tasted 81 = .ok (.iload_n 2, 1) := dk_28 (dk_at dksX5_tasted_3 12 rfl rfl)
theorem dX5_tasted_82 : decode cX5_tasted 82 = .ok (.iastore, 1) := dk_79 (dk_at dksX5_tasted_3 13 rfl rfl)
theorem dX5_tasted_83 : decode cX5_tasted 83 = .ok (.aload_n 0, 1) := dk_42 (dk_at dksX5_tasted_3 14 rfl rfl)
theorem dX5_tasted_84 : decode cX5_tasted 84 = .ok (.getfield 13, 3) := dk_180 0 13 (dk_at dksX5_tasted_3 15 rfl rfl)
theorem dX5_tasted_87 : decode cX5_tasted 87 = .ok (.iconst 1, 1) := dk_4 (dk_at dksX5_tasted_3 18 rfl rfl)
theorem dX5_tasted_88 : decode cX5_tasted 88 = .ok (.dup2, 1) := dk_92 (dk_at dksX5_tasted_3 19 rfl rfl)
theorem dX5_tasted_89 : decode cX5_tasted 89 = .ok (.iaload, 1) := dk_46 (dk_at dksX5_tasted_3 20 rfl rfl)
theorem dX5_tasted_90 : decode cX5_tasted 90 = .ok (.iconst 1, 1) := dk_4 (dk_at dksX5_tasted_3 21 rfl rfl)
theorem dX5_tasted_91 : decode cX5_tasted 91 = .ok (.iadd, 1) := dk_96 (dk_at dksX5_tasted_3 22 rfl rfl)
theorem dX5_tasted_92 : decode cX5_tasted 92 = .ok (.iastore, 1) := dk_79 (dk_at dksX5_tasted_3 23 rfl rfl)
theorem dX5_tasted_93 : decode cX5_tasted 93 = .ok (.aload_n 0, 1) := dk_42 (dk_at dksX5_tasted_4 0 rfl rfl)
theorem dX5_tasted_94 : decode cX5_tasted 94 = .ok (.iload_n 3, 1) := dk_29 (dk_at dksX5_tasted_4 1 rfl rfl)
theorem dX5_tasted_95 : decode cX5_tasted 95 = .ok (.iconst 1, 1) := dk_4 (dk_at dksX5_tasted_4 2 rfl rfl)
theorem dX5_tasted_96 : decode cX5_tasted 96 = .ok (.iadd, 1) := dk_96 (dk_at dksX5_tasted_4 3 rfl rfl)
theorem dX5_tasted_97 : decode cX5_tasted 97 = .ok (.invokevirtual 142, 3) := dk_182 0 142 (dk_at dksX5_tasted_4 4 rfl rfl)
theorem dX5_tasted_100 : decode cX5_tasted 100 = .ok (.ireturn, 1) := dk_172 (dk_at dksX5_tasted_4 7 rfl rfl)
abbrev cX5_forget : ByteArray := prog_23_method_115_code
def yX5_forget : MethodName := ⟨RX5, "forget", "()I"⟩
def dkwX5_forget_0 : List UInt8 := [42, 3, 181, 0, 133, 42, 180, 0, 13, 4, 46, 60, 42, 180, 0, 13, 4, 3, 79, 27, 172]
abbrev dktX5_forget_0 : List UInt8 := dkwX5_forget_0 ++ []
theorem dksX5_forget_0 : cX5_forget.data.toList.drop 0 = dktX5_forget_0 := by decide +kernel
theorem dX5_forget_0 : decode cX5_forget 0 = .ok (.aload_n 0, 1) := dk_42 (dk_at dksX5_forget_0 0 rfl rfl)
theorem dX5_forget_1 : decode cX5_forget 1 = .ok (.iconst 0, 1) := dk_3 (dk_at dksX5_forget_0 1 rfl rfl)
theorem dX5_forget_2 : decode cX5_forget 2 = .ok (.putfield 133, 3) := dk_181 0 133 (dk_at dksX5_forget_0 2 rfl rfl)
theorem dX5_forget_5 : decode cX5_forget 5 = .ok (.aload_n 0, 1) := dk_42 (dk_at dksX5_forget_0 5 rfl rfl)
theorem dX5_forget_6 : decode cX5_forget 6 = .ok (.getfield 13, 3) := dk_180 0 13 (dk_at dksX5_forget_0 6 rfl rfl)
theorem dX5_forget_9 : decode cX5_forget 9 = .ok (.iconst 1, 1) := dk_4 (dk_at dksX5_forget_0 9 rfl rfl)
theorem dX5_forget_10 : decode cX5_forget 10 = .ok (.iaload, 1) := dk_46 (dk_at dksX5_forget_0 10 rfl rfl)
theorem dX5_forget_11 : decode cX5_forget 11 = .ok (.istore_n 1, 1) := dk_60 (dk_at dksX5_forget_0 11 rfl rfl)
theorem dX5_forget_12 : decode cX5_forget 12 = .ok (.aload_n 0, 1) := dk_42 (dk_at dksX5_forget_0 12 rfl rfl)
theorem dX5_forget_13 : decode cX5_forget 13 = .ok (.getfield 13, 3) := dk_180 0 13 (dk_at dksX5_forget_0 13 rfl rfl)
theorem dX5_forget_16 : decode cX5_forget 16 = .ok (.iconst 1, 1) := dk_4 (dk_at dksX5_forget_0 16 rfl rfl)
theorem dX5_forget_17 : decode cX5_forget 17 = .ok (.iconst 0, 1) := dk_3 (dk_at dksX5_forget_0 17 rfl rfl)
theorem dX5_forget_18 : decode cX5_forget 18 = .ok (.iastore, 1) := dk_79 (dk_at dksX5_forget_0 18 rfl rfl)
theorem dX5_forget_19 : decode cX5_forget 19 = .ok (.iload_n 1, 1) := dk_27 (dk_at dksX5_forget_0 19 rfl rfl)
theorem dX5_forget_20 : decode cX5_forget 20 = .ok (.ireturn, 1) := dk_172 (dk_at dksX5_forget_0 20 rfl rfl)
abbrev cX5_canBe : ByteArray := prog_23_method_118_code
def yX5_canBe : MethodName := ⟨RX5, "canBe", "()I"⟩
def dkwX5_canBe_0 : List UInt8 := [42, 3, 181, 0, 133, 42, 182, 2, 34, 172]
abbrev dktX5_canBe_0 : List UInt8 := dkwX5_canBe_0 ++ []
theorem dksX5_canBe_0 : cX5_canBe.data.toList.drop 0 = dktX5_canBe_0 := by decide +kernel
theorem dX5_canBe_0 : decode cX5_canBe 0 = .ok (.aload_n 0, 1) := dk_42 (dk_at dksX5_canBe_0 0 rfl rfl)
theorem dX5_canBe_1 : decode cX5_canBe 1 = .ok (.iconst 0, 1) := dk_3 (dk_at dksX5_canBe_0 1 rfl rfl)
theorem dX5_canBe_2 : decode cX5_canBe 2 = .ok (.putfield 133, 3) := dk_181 0 133 (dk_at dksX5_canBe_0 2 rfl rfl)
theorem dX5_canBe_5 : decode cX5_canBe 5 = .ok (.aload_n 0, 1) := dk_42 (dk_at dksX5_canBe_0 5 rfl rfl)
theorem dX5_canBe_6 : decode cX5_canBe 6 = .ok (.invokevirtual 546, 3) := dk_182 2 34 (dk_at dksX5_canBe_0 6 rfl rfl)
theorem dX5_canBe_9 : decode cX5_canBe 9 = .ok (.ireturn, 1) := dk_172 (dk_at dksX5_canBe_0 9 rfl rfl)
abbrev cX5_thatCanBe : ByteArray := prog_23_method_117_code
def yX5_thatCanBe : MethodName := ⟨RX5, "thatCanBe", "()I"⟩
def dkwX5_thatCanBe_4 : List UInt8 := [128, 60, 132, 2, 1, 167, 255, 161, 27, 172]
abbrev dktX5_thatCanBe_4 : List UInt8 := dkwX5_thatCanBe_4 ++ []
def dkwX5_thatCanBe_3 : List UInt8 := [4, 167, 0, 4, 3, 62, 132, 4, 1, 167, 255, 196, 27, 29, 153, 0, 9, 4, 28, 120, 167, 0, 4, 3]
abbrev dktX5_thatCanBe_3 : List UInt8 := dkwX5_thatCanBe_3 ++ dktX5_thatCanBe_4
def dkwX5_thatCanBe_2 : List UInt8 := [104, 96, 46, 182, 2, 31, 42, 180, 0, 13, 17, 0, 186, 5, 21, 4, 104, 96, 4, 96, 46, 160, 0, 7]
abbrev dktX5_thatCanBe_2 : List UInt8 := dkwX5_thatCanBe_2 ++ dktX5_thatCanBe_3
def dkwX5_thatCanBe_1 : List UInt8 := [180, 0, 13, 4, 46, 162, 0, 55, 29, 153, 0, 43, 42, 28, 42, 180, 0, 13, 17, 0, 186, 5, 21, 4]
abbrev dktX5_thatCanBe_1 : List UInt8 := dkwX5_thatCanBe_1 ++ dktX5_thatCanBe_2
def dkwX5_thatCanBe_0 : List UInt8 := [3, 60, 3, 61, 28, 42, 180, 0, 13, 3, 46, 162, 0, 91, 4, 62, 3, 54, 4, 21, 4, 42]
abbrev dktX5_thatCanBe_0 : List UInt8 := dkwX5_thatCanBe_0 ++ dktX5_thatCanBe_1
theorem dksX5_thatCanBe_0 : cX5_thatCanBe.data.toList.drop 0 = dktX5_thatCanBe_0 := by decide +kernel
theorem dksX5_thatCanBe_1 : cX5_thatCanBe.data.toList.drop 22 = dktX5_thatCanBe_1 := dk_seg dksX5_thatCanBe_0 22 rfl rfl
theorem dksX5_thatCanBe_2 : cX5_thatCanBe.data.toList.drop 46 = dktX5_thatCanBe_2 := dk_seg dksX5_thatCanBe_1 24 rfl rfl
theorem dksX5_thatCanBe_3 : cX5_thatCanBe.data.toList.drop 70 = dktX5_thatCanBe_3 := dk_seg dksX5_thatCanBe_2 24 rfl rfl
theorem dksX5_thatCanBe_4 : cX5_thatCanBe.data.toList.drop 94 = dktX5_thatCanBe_4 := dk_seg dksX5_thatCanBe_3 24 rfl rfl
theorem dX5_thatCanBe_0 : decode cX5_thatCanBe 0 = .ok (.iconst 0, 1) := dk_3 (dk_at dksX5_thatCanBe_0 0 rfl rfl)
theorem dX5_thatCanBe_1 : decode cX5_thatCanBe 1 = .ok (.istore_n 1, 1) := dk_60 (dk_at dksX5_thatCanBe_0 1 rfl rfl)
theorem dX5_thatCanBe_2 : decode cX5_thatCanBe 2 = .ok (.iconst 0, 1) := dk_3 (dk_at dksX5_thatCanBe_0 2 rfl rfl)
theorem dX5_thatCanBe_3 : decode cX5_thatCanBe 3 = .ok (.istore_n 2, 1) := dk_61 (dk_at dksX5_thatCanBe_0 3 rfl rfl)
theorem dX5_thatCanBe_4 : decode cX5_thatCanBe 4 = .ok (.iload_n 2, 1) := dk_28 (dk_at dksX5_thatCanBe_0 4 rfl rfl)
theorem dX5_thatCanBe_5 : decode cX5_thatCanBe 5 = .ok (.aload_n 0, 1) := dk_42 (dk_at dksX5_thatCanBe_0 5 rfl rfl)
theorem dX5_thatCanBe_6 : decode cX5_thatCanBe 6 = .ok (.getfield 13, 3) := dk_180 0 13 (dk_at dksX5_thatCanBe_0 6 rfl rfl)
theorem dX5_thatCanBe_9 : decode cX5_thatCanBe 9 = .ok (.iconst 0, 1) := dk_3 (dk_at dksX5_thatCanBe_0 9 rfl rfl)
theorem dX5_thatCanBe_10 : decode cX5_thatCanBe 10 = .ok (.iaload, 1) := dk_46 (dk_at dksX5_thatCanBe_0 10 rfl rfl)
theorem dX5_thatCanBe_11 : decode cX5_thatCanBe 11 = .ok (.if_icmp .ge 91, 3) := dk_162 0 91 (dk_at dksX5_thatCanBe_0 11 rfl rfl)
theorem dX5_thatCanBe_14 : decode cX5_thatCanBe 14 = .ok (.iconst 1, 1) := dk_4 (dk_at dksX5_thatCanBe_0 14 rfl rfl)
theorem dX5_thatCanBe_15 : decode cX5_thatCanBe 15 = .ok (.istore_n 3, 1) := dk_62 (dk_at dksX5_thatCanBe_0 15 rfl rfl)
theorem dX5_thatCanBe_16 : decode cX5_thatCanBe 16 = .ok (.iconst 0, 1) := dk_3 (dk_at dksX5_thatCanBe_0 16 rfl rfl)
theorem dX5_thatCanBe_17 : decode cX5_thatCanBe 17 = .ok (.istore 4, 2) := dk_54 4 (dk_at dksX5_thatCanBe_0 17 rfl rfl)
theorem dX5_thatCanBe_19 : decode cX5_thatCanBe 19 = .ok (.iload 4, 2) := dk_21 4 (dk_at dksX5_thatCanBe_0 19 rfl rfl)
theorem dX5_thatCanBe_21 : decode cX5_thatCanBe 21 = .ok (.aload_n 0, 1) := dk_42 (dk_at dksX5_thatCanBe_0 21 rfl rfl)
theorem dX5_thatCanBe_22 : decode cX5_thatCanBe 22 = .ok (.getfield 13, 3) := dk_180 0 13 (dk_at dksX5_thatCanBe_1 0 rfl rfl)
theorem dX5_thatCanBe_25 : decode cX5_thatCanBe 25 = .ok (.iconst 1, 1) := dk_4 (dk_at dksX5_thatCanBe_1 3 rfl rfl)
theorem dX5_thatCanBe_26 : decode cX5_thatCanBe 26 = .ok (.iaload, 1) := dk_46 (dk_at dksX5_thatCanBe_1 4 rfl rfl)
theorem dX5_thatCanBe_27 : decode cX5_thatCanBe 27 = .ok (.if_icmp .ge 55, 3) := dk_162 0 55 (dk_at dksX5_thatCanBe_1 5 rfl rfl)
theorem dX5_thatCanBe_30 : decode cX5_thatCanBe 30 = .ok (.iload_n 3, 1) := dk_29 (dk_at dksX5_thatCanBe_1 8 rfl rfl)
theorem dX5_thatCanBe_31 : decode cX5_thatCanBe 31 = .ok (.ifCond .eq 43, 3) := dk_153 0 43 (dk_at dksX5_thatCanBe_1 9 rfl rfl)
theorem dX5_thatCanBe_34 : decode cX5_thatCanBe 34 = .ok (.aload_n 0, 1) := dk_42 (dk_at dksX5_thatCanBe_1 12 rfl rfl)
theorem dX5_thatCanBe_35 : decode cX5_thatCanBe 35 = .ok (.iload_n 2, 1) := dk_28 (dk_at dksX5_thatCanBe_1 13 rfl rfl)
theorem dX5_thatCanBe_36 : decode cX5_thatCanBe 36 = .ok (.aload_n 0, 1) := dk_42 (dk_at dksX5_thatCanBe_1 14 rfl rfl)
theorem dX5_thatCanBe_37 : decode cX5_thatCanBe 37 = .ok (.getfield 13, 3) := dk_180 0 13 (dk_at dksX5_thatCanBe_1 15 rfl rfl)
theorem dX5_thatCanBe_40 : decode cX5_thatCanBe 40 = .ok (.sipush 186, 3) := dk_17 0 186 (dk_at dksX5_thatCanBe_1 18 rfl rfl)
theorem dX5_thatCanBe_43 : decode cX5_thatCanBe 43 = .ok (.iconst 2, 1) := dk_5 (dk_at dksX5_thatCanBe_1 21 rfl rfl)
theorem dX5_thatCanBe_44 : decode cX5_thatCanBe 44 = .ok (.iload 4, 2) := dk_21 4 (dk_at dksX5_thatCanBe_1 22 rfl rfl)
theorem dX5_thatCanBe_46 : decode cX5_thatCanBe 46 = .ok (.imul, 1) := dk_104 (dk_at dksX5_thatCanBe_2 0 rfl rfl)
theorem dX5_thatCanBe_47 : decode cX5_thatCanBe 47 = .ok (.iadd, 1) := dk_96 (dk_at dksX5_thatCanBe_2 1 rfl rfl)
theorem dX5_thatCanBe_48 : decode cX5_thatCanBe 48 = .ok (.iaload, 1) := dk_46 (dk_at dksX5_thatCanBe_2 2 rfl rfl)
theorem dX5_thatCanBe_49 : decode cX5_thatCanBe 49 = .ok (.invokevirtual 543, 3) := dk_182 2 31 (dk_at dksX5_thatCanBe_2 3 rfl rfl)
theorem dX5_thatCanBe_52 : decode cX5_thatCanBe 52 = .ok (.aload_n 0, 1) := dk_42 (dk_at dksX5_thatCanBe_2 6 rfl rfl)
theorem dX5_thatCanBe_53 : decode cX5_thatCanBe 53 = .ok (.getfield 13, 3) := dk_180 0 13 (dk_at dksX5_thatCanBe_2 7 rfl rfl)
theorem dX5_thatCanBe_56 : decode cX5_thatCanBe 56 = .ok (.sipush 186, 3) := dk_17 0 186 (dk_at dksX5_thatCanBe_2 10 rfl rfl)
theorem dX5_thatCanBe_59 : decode cX5_thatCanBe 59 = .ok (.iconst 2, 1) := dk_5 (dk_at dksX5_thatCanBe_2 13 rfl rfl)
theorem dX5_thatCanBe_60 : decode cX5_thatCanBe 60 = .ok (.iload 4, 2) := dk_21 4 (dk_at dksX5_thatCanBe_2 14 rfl rfl)
theorem dX5_thatCanBe_62 : decode cX5_thatCanBe 62 = .ok (.imul, 1) := dk_104 (dk_at dksX5_thatCanBe_2 16 rfl rfl)
theorem dX5_thatCanBe_63 : decode cX5_thatCanBe 63 = .ok (.iadd, 1) := dk_96 (dk_at dksX5_thatCanBe_2 17 rfl rfl)
theorem dX5_thatCanBe_64 : decode cX5_thatCanBe 64 = .ok (.iconst 1, 1) := dk_4 (dk_at dksX5_thatCanBe_2 18 rfl rfl)
theorem dX5_thatCanBe_65 : decode cX5_thatCanBe 65 = .ok (.iadd, 1) := dk_96 (dk_at dksX5_thatCanBe_2 19 rfl rfl)
theorem dX5_thatCanBe_66 : decode cX5_thatCanBe 66 = .ok (.iaload, 1) := dk_46 (dk_at dksX5_thatCanBe_2 20 rfl rfl)
theorem dX5_thatCanBe_67 : decode cX5_thatCanBe 67 = .ok (.if_icmp .ne 7, 3) := dk_160 0 7 (dk_at dksX5_thatCanBe_2 21 rfl rfl)
theorem dX5_thatCanBe_70 : decode cX5_thatCanBe 70 = .ok (.iconst 1, 1) := dk_4 (dk_at dksX5_thatCanBe_3 0 rfl rfl)
theorem dX5_thatCanBe_71 : decode cX5_thatCanBe 71 = .ok (.goto 4, 3) := dk_167 0 4 (dk_at dksX5_thatCanBe_3 1 rfl rfl)
theorem dX5_thatCanBe_74 : decode cX5_thatCanBe 74 = .ok (.iconst 0, 1) := dk_3 (dk_at dksX5_thatCanBe_3 4 rfl rfl)
theorem dX5_thatCanBe_75 : decode cX5_thatCanBe 75 = .ok (.istore_n 3, 1) := dk_62 (dk_at dksX5_thatCanBe_3 5 rfl rfl)
theorem dX5_thatCanBe_76 : decode cX5_thatCanBe 76 = .ok (.iinc 4 1, 3) := dk_132 4 1 (dk_at dksX5_thatCanBe_3 6 rfl rfl)
theorem dX5_thatCanBe_79 : decode cX5_thatCanBe 79 = .ok (.goto (-60), 3) := dk_167 255 196 (dk_at dksX5_thatCanBe_3 9 rfl rfl)
theorem dX5_thatCanBe_82 : decode cX5_thatCanBe 82 = .ok (.iload_n 1, 1) := dk_27 (dk_at dksX5_thatCanBe_3 12 rfl rfl)
theorem dX5_thatCanBe_83 : decode cX5_thatCanBe 83 = .ok (.iload_n 3, 1) := dk_29 (dk_at dksX5_thatCanBe_3 13 rfl rfl)
theorem dX5_thatCanBe_84 : decode cX5_thatCanBe 84 = .ok (.ifCond .eq 9, 3) := dk_153 0 9 (dk_at dksX5_thatCanBe_3 14 rfl rfl)
theorem dX5_thatCanBe_87 : decode cX5_thatCanBe 87 = .ok (.iconst 1, 1) := dk_4 (dk_at dksX5_thatCanBe_3 17 rfl rfl)
theorem dX5_thatCanBe_88 : decode cX5_thatCanBe 88 = .ok (.iload_n 2, 1) := dk_28 (dk_at dksX5_thatCanBe_3 18 rfl rfl)
theorem dX5_thatCanBe_89 : decode cX5_thatCanBe 89 = .ok (.ishl, 1) := dk_120 (dk_at dksX5_thatCanBe_3 19 rfl rfl)
theorem dX5_thatCanBe_90 : decode cX5_thatCanBe 90 = .ok (.goto 4, 3) := dk_167 0 4 (dk_at dksX5_thatCanBe_3 20 rfl rfl)
theorem dX5_thatCanBe_93 : decode cX5_thatCanBe 93 = .ok (.iconst 0, 1) := dk_3 (dk_at dksX5_thatCanBe_3 23 rfl rfl)
theorem dX5_thatCanBe_94 : decode cX5_thatCanBe 94 = .ok (.ior, 1) := dk_128 (dk_at dksX5_thatCanBe_4 0 rfl rfl)
theorem dX5_thatCanBe_95 : decode cX5_thatCanBe 95 = .ok (.istore_n 1, 1) := dk_60 (dk_at dksX5_thatCanBe_4 1 rfl rfl)
theorem dX5_thatCanBe_96 : decode cX5_thatCanBe 96 = .ok (.iinc 2 1, 3) := dk_132 2 1 (dk_at dksX5_thatCanBe_4 2 rfl rfl)
theorem dX5_thatCanBe_99 : decode cX5_thatCanBe 99 = .ok (.goto (-95), 3) := dk_167 255 161 (dk_at dksX5_thatCanBe_4 5 rfl rfl)
theorem dX5_thatCanBe_102 : decode cX5_thatCanBe 102 = .ok (.iload_n 1, 1) := dk_27 (dk_at dksX5_thatCanBe_4 8 rfl rfl)
theorem dX5_thatCanBe_103 : decode cX5_thatCanBe 103 = .ok (.ireturn, 1) := dk_172 (dk_at dksX5_thatCanBe_4 9 rfl rfl)
abbrev cX5_tasteOf : ByteArray := prog_23_method_116_code
def yX5_tasteOf : MethodName := ⟨RX5, "tasteOf", "(II)I"⟩
def dkwX5_tasteOf_2 : List UInt8 := [29, 172]
abbrev dktX5_tasteOf_2 : List UInt8 := dkwX5_tasteOf_2 ++ []
def dkwX5_tasteOf_1 : List UInt8 := [17, 3, 232, 108, 167, 0, 8, 42, 27, 182, 0, 188, 62, 29, 2, 160, 0, 9, 17, 3, 231, 167, 0, 4]
abbrev dktX5_tasteOf_1 : List UInt8 := dkwX5_tasteOf_1 ++ dktX5_tasteOf_2
def dkwX5_tasteOf_0 : List UInt8 := [28, 154, 0, 11, 42, 27, 182, 1, 121, 167, 0, 25, 28, 4, 160, 0, 15, 42, 27, 182, 0, 166]
abbrev dktX5_tasteOf_0 : List UInt8 := dkwX5_tasteOf_0 ++ dktX5_tasteOf_1
theorem dksX5_tasteOf_0 : cX5_tasteOf.data.toList.drop 0 = dktX5_tasteOf_0 := by decide +kernel
theorem dksX5_tasteOf_1 : cX5_tasteOf.data.toList.drop 22 = dktX5_tasteOf_1 := dk_seg dksX5_tasteOf_0 22 rfl rfl
theorem dksX5_tasteOf_2 : cX5_tasteOf.data.toList.drop 46 = dktX5_tasteOf_2 := dk_seg dksX5_tasteOf_1 24 rfl rfl
theorem dX5_tasteOf_0 : decode cX5_tasteOf 0 = .ok (.iload_n 2, 1) := dk_28 (dk_at dksX5_tasteOf_0 0 rfl rfl)
theorem dX5_tasteOf_1 : decode cX5_tasteOf 1 = .ok (.ifCond .ne 11, 3) := dk_154 0 11 (dk_at dksX5_tasteOf_0 1 rfl rfl)
theorem dX5_tasteOf_4 : decode cX5_tasteOf 4 = .ok (.aload_n 0, 1) := dk_42 (dk_at dksX5_tasteOf_0 4 rfl rfl)
theorem dX5_tasteOf_5 : decode cX5_tasteOf 5 = .ok (.iload_n 1, 1) := dk_27 (dk_at dksX5_tasteOf_0 5 rfl rfl)
theorem dX5_tasteOf_6 : decode cX5_tasteOf 6 = .ok (.invokevirtual 377, 3) := dk_182 1 121 (dk_at dksX5_tasteOf_0 6 rfl rfl)
theorem dX5_tasteOf_9 : decode cX5_tasteOf 9 = .ok (.goto 25, 3) := dk_167 0 25 (dk_at dksX5_tasteOf_0 9 rfl rfl)
theorem dX5_tasteOf_12 : decode cX5_tasteOf 12 = .ok (.iload_n 2, 1) := dk_28 (dk_at dksX5_tasteOf_0 12 rfl rfl)
theorem dX5_tasteOf_13 : decode cX5_tasteOf 13 = .ok (.iconst 1, 1) := dk_4 (dk_at dksX5_tasteOf_0 13 rfl rfl)
theorem dX5_tasteOf_14 : decode cX5_tasteOf 14 = .ok (.if_icmp .ne 15, 3) := dk_160 0 15 (dk_at dksX5_tasteOf_0 14 rfl rfl)
theorem dX5_tasteOf_17 : decode cX5_tasteOf 17 = .ok (.aload_n 0, 1) := dk_42 (dk_at dksX5_tasteOf_0 17 rfl rfl)
theorem dX5_tasteOf_18 : decode cX5_tasteOf 18 = .ok (.iload_n 1, 1) := dk_27 (dk_at dksX5_tasteOf_0 18 rfl rfl)
theorem dX5_tasteOf_19 : decode cX5_tasteOf 19 = .ok (.invokevirtual 166, 3) := dk_182 0 166 (dk_at dksX5_tasteOf_0 19 rfl rfl)
theorem dX5_tasteOf_22 : decode cX5_tasteOf 22 = .ok (.sipush 1000, 3) := dk_17 3 232 (dk_at dksX5_tasteOf_1 0 rfl rfl)
theorem dX5_tasteOf_25 : decode cX5_tasteOf 25 = .ok (.idiv, 1) := dk_108 (dk_at dksX5_tasteOf_1 3 rfl rfl)
theorem dX5_tasteOf_26 : decode cX5_tasteOf 26 = .ok (.goto 8, 3) := dk_167 0 8 (dk_at dksX5_tasteOf_1 4 rfl rfl)
theorem dX5_tasteOf_29 : decode cX5_tasteOf 29 = .ok (.aload_n 0, 1) := dk_42 (dk_at dksX5_tasteOf_1 7 rfl rfl)
theorem dX5_tasteOf_30 : decode cX5_tasteOf 30 = .ok (.iload_n 1, 1) := dk_27 (dk_at dksX5_tasteOf_1 8 rfl rfl)
theorem dX5_tasteOf_31 : decode cX5_tasteOf 31 = .ok (.invokevirtual 188, 3) := dk_182 0 188 (dk_at dksX5_tasteOf_1 9 rfl rfl)
theorem dX5_tasteOf_34 : decode cX5_tasteOf 34 = .ok (.istore_n 3, 1) := dk_62 (dk_at dksX5_tasteOf_1 12 rfl rfl)
theorem dX5_tasteOf_35 : decode cX5_tasteOf 35 = .ok (.iload_n 3, 1) := dk_29 (dk_at dksX5_tasteOf_1 13 rfl rfl)
theorem dX5_tasteOf_36 : decode cX5_tasteOf 36 = .ok (.iconst (-1), 1) := dk_2 (dk_at dksX5_tasteOf_1 14 rfl rfl)
theorem dX5_tasteOf_37 : decode cX5_tasteOf 37 = .ok (.if_icmp .ne 9, 3) := dk_160 0 9 (dk_at dksX5_tasteOf_1 15 rfl rfl)
theorem dX5_tasteOf_40 : decode cX5_tasteOf 40 = .ok (.sipush 999, 3) := dk_17 3 231 (dk_at dksX5_tasteOf_1 18 rfl rfl)
theorem dX5_tasteOf_43 : decode cX5_tasteOf 43 = .ok (.goto 4, 3) := dk_167 0 4 (dk_at dksX5_tasteOf_1 21 rfl rfl)
theorem dX5_tasteOf_46 : decode cX5_tasteOf 46 = .ok (.iload_n 3, 1) := dk_29 (dk_at dksX5_tasteOf_2 0 rfl rfl)
theorem dX5_tasteOf_47 : decode cX5_tasteOf 47 = .ok (.ireturn, 1) := dk_172 (dk_at dksX5_tasteOf_2 1 rfl rfl)
abbrev cX5_taste : ByteArray := prog_23_method_120_code
def yX5_taste : MethodName := ⟨RX5, "taste", "(I)I"⟩
def dkwX5_taste_4 : List UInt8 := [167, 0, 4, 29, 172]
abbrev dktX5_taste_4 : List UInt8 := dkwX5_taste_4 ++ []
def dkwX5_taste_3 : List UInt8 := [162, 0, 8, 21, 6, 167, 0, 4, 29, 62, 132, 5, 1, 167, 255, 210, 27, 154, 0, 8, 21, 4]
abbrev dktX5_taste_3 : List UInt8 := dkwX5_taste_3 ++ dktX5_taste_4
def dkwX5_taste_2 : List UInt8 := [182, 2, 41, 54, 6, 21, 6, 29, 162, 0, 8, 21, 5, 167, 0, 5, 21, 4, 54, 4, 21, 6, 29]
abbrev dktX5_taste_2 : List UInt8 := dkwX5_taste_2 ++ dktX5_taste_3
def dkwX5_taste_1 : List UInt8 := [2, 172, 19, 2, 12, 62, 2, 54, 4, 3, 54, 5, 21, 5, 6, 162, 0, 46, 42, 28, 21, 5]
abbrev dktX5_taste_1 : List UInt8 := dkwX5_taste_1 ++ dktX5_taste_2
def dkwX5_taste_0 : List UInt8 := [42, 3, 181, 0, 133, 42, 182, 2, 34, 61, 27, 133, 9, 10, 184, 0, 153, 153, 0, 7, 28, 154, 0, 5]
abbrev dktX5_taste_0 : List UInt8 := dkwX5_taste_0 ++ dktX5_taste_1
theorem dksX5_taste_0 : cX5_taste.data.toList.drop 0 = dktX5_taste_0 := by decide +kernel
theorem dksX5_taste_1 : cX5_taste.data.toList.drop 24 = dktX5_taste_1 := dk_seg dksX5_taste_0 24 rfl rfl
theorem dksX5_taste_2 : cX5_taste.data.toList.drop 46 = dktX5_taste_2 := dk_seg dksX5_taste_1 22 rfl rfl
theorem dksX5_taste_3 : cX5_taste.data.toList.drop 69 = dktX5_taste_3 := dk_seg dksX5_taste_2 23 rfl rfl
theorem dksX5_taste_4 : cX5_taste.data.toList.drop 91 = dktX5_taste_4 := dk_seg dksX5_taste_3 22 rfl rfl
theorem dX5_taste_0 : decode cX5_taste 0 = .ok (.aload_n 0, 1) := dk_42 (dk_at dksX5_taste_0 0 rfl rfl)
theorem dX5_taste_1 : decode cX5_taste 1 = .ok (.iconst 0, 1) := dk_3 (dk_at dksX5_taste_0 1 rfl rfl)
theorem dX5_taste_2 : decode cX5_taste 2 = .ok (.putfield 133, 3) := dk_181 0 133 (dk_at dksX5_taste_0 2 rfl rfl)
theorem dX5_taste_5 : decode cX5_taste 5 = .ok (.aload_n 0, 1) := dk_42 (dk_at dksX5_taste_0 5 rfl rfl)
theorem dX5_taste_6 : decode cX5_taste 6 = .ok (.invokevirtual 546, 3) := dk_182 2 34 (dk_at dksX5_taste_0 6 rfl rfl)
theorem dX5_taste_9 : decode cX5_taste 9 = .ok (.istore_n 2, 1) := dk_61 (dk_at dksX5_taste_0 9 rfl rfl)
theorem dX5_taste_10 : decode cX5_taste 10 = .ok (.iload_n 1, 1) := dk_27 (dk_at dksX5_taste_0 10 rfl rfl)
theorem dX5_taste_11 : decode cX5_taste 11 = .ok (.i2l, 1) := dk_133 (dk_at dksX5_taste_0 11 rfl rfl)
theorem dX5_taste_12 : decode cX5_taste 12 = .ok (.lconst 0, 1) := dk_9 (dk_at dksX5_taste_0 12 rfl rfl)
theorem dX5_taste_13 : decode cX5_taste 13 = .ok (.lconst 1, 1) := dk_10 (dk_at dksX5_taste_0 13 rfl rfl)
theorem dX5_taste_14 : decode cX5_taste 14 = .ok (.invokestatic 153, 3) := dk_184 0 153 (dk_at dksX5_taste_0 14 rfl rfl)
theorem dX5_taste_17 : decode cX5_taste 17 = .ok (.ifCond .eq 7, 3) := dk_153 0 7 (dk_at dksX5_taste_0 17 rfl rfl)
theorem dX5_taste_20 : decode cX5_taste 20 = .ok (.iload_n 2, 1) := dk_28 (dk_at dksX5_taste_0 20 rfl rfl)
theorem dX5_taste_21 : decode cX5_taste 21 = .ok (.ifCond .ne 5, 3) := dk_154 0 5 (dk_at dksX5_taste_0 21 rfl rfl)
theorem dX5_taste_24 : decode cX5_taste 24 = .ok (.iconst (-1), 1) := dk_2 (dk_at dksX5_taste_1 0 rfl rfl)
theorem dX5_taste_25 : decode cX5_taste 25 = .ok (.ireturn, 1) := dk_172 (dk_at dksX5_taste_1 1 rfl rfl)
theorem dX5_taste_26 : decode cX5_taste 26 = .ok (.ldc_w 524, 3) := dk_19 2 12 (dk_at dksX5_taste_1 2 rfl rfl)
theorem dX5_taste_29 : decode cX5_taste 29 = .ok (.istore_n 3, 1) := dk_62 (dk_at dksX5_taste_1 5 rfl rfl)
theorem dX5_taste_30 : decode cX5_taste 30 = .ok (.iconst (-1), 1) := dk_2 (dk_at dksX5_taste_1 6 rfl rfl)
theorem dX5_taste_31 : decode cX5_taste 31 = .ok (.istore 4, 2) := dk_54 4 (dk_at dksX5_taste_1 7 rfl rfl)
theorem dX5_taste_33 : decode cX5_taste 33 = .ok (.iconst 0, 1) := dk_3 (dk_at dksX5_taste_1 9 rfl rfl)
theorem dX5_taste_34 : decode cX5_taste 34 = .ok (.istore 5, 2) := dk_54 5 (dk_at dksX5_taste_1 10 rfl rfl)
theorem dX5_taste_36 : decode cX5_taste 36 = .ok (.iload 5, 2) := dk_21 5 (dk_at dksX5_taste_1 12 rfl rfl)
theorem dX5_taste_38 : decode cX5_taste 38 = .ok (.iconst 3, 1) := dk_6 (dk_at dksX5_taste_1 14 rfl rfl)
theorem dX5_taste_39 : decode cX5_taste 39 = .ok (.if_icmp .ge 46, 3) := dk_162 0 46 (dk_at dksX5_taste_1 15 rfl rfl)
theorem dX5_taste_42 : decode cX5_taste 42 = .ok (.aload_n 0, 1) := dk_42 (dk_at dksX5_taste_1 18 rfl rfl)
theorem dX5_taste_43 : decode cX5_taste 43 = .ok (.iload_n 2, 1) := dk_28 (dk_at dksX5_taste_1 19 rfl rfl)
theorem dX5_taste_44 : decode cX5_taste 44 = .ok (.iload 5, 2) := dk_21 5 (dk_at dksX5_taste_1 20 rfl rfl)
theorem dX5_taste_46 : decode cX5_taste 46 = .ok (.invokevirtual 553, 3) := dk_182 2 41 (dk_at dksX5_taste_2 0 rfl rfl)
theorem dX5_taste_49 : decode cX5_taste 49 = .ok (.istore 6, 2) := dk_54 6 (dk_at dksX5_taste_2 3 rfl rfl)
theorem dX5_taste_51 : decode cX5_taste 51 = .ok (.iload 6, 2) := dk_21 6 (dk_at dksX5_taste_2 5 rfl rfl)
theorem dX5_taste_53 : decode cX5_taste 53 = .ok (.iload_n 3, 1) := dk_29 (dk_at dksX5_taste_2 7 rfl rfl)
theorem dX5_taste_54 : decode cX5_taste 54 = .ok (.if_icmp .ge 8, 3) := dk_162 0 8 (dk_at dksX5_taste_2 8 rfl rfl)
theorem dX5_taste_57 : decode cX5_taste 57 = .ok (.iload 5, 2) := dk_21 5 (dk_at dksX5_taste_2 11 rfl rfl)
theorem dX5_taste_59 : decode cX5_taste 59 = .ok (.goto 5, 3) := dk_167 0 5 (dk_at dksX5_taste_2 13 rfl rfl)
theorem dX5_taste_62 : decode cX5_taste 62 = .ok (.iload 4, 2) := dk_21 4 (dk_at dksX5_taste_2 16 rfl rfl)
theorem dX5_taste_64 : decode cX5_taste 64 = .ok (.istore 4, 2) := dk_54 4 (dk_at dksX5_taste_2 18 rfl rfl)
theorem dX5_taste_66 : decode cX5_taste 66 = .ok (.iload 6, 2) := dk_21 6 (dk_at dksX5_taste_2 20 rfl rfl)
theorem dX5_taste_68 : decode cX5_taste 68 = .ok (.iload_n 3, 1) := dk_29 (dk_at dksX5_taste_2 22 rfl rfl)
theorem dX5_taste_69 : decode cX5_taste 69 = .ok (.if_icmp .ge 8, 3) := dk_162 0 8 (dk_at dksX5_taste_3 0 rfl rfl)
theorem dX5_taste_72 : decode cX5_taste 72 = .ok (.iload 6, 2) := dk_21 6 (dk_at dksX5_taste_3 3 rfl rfl)
theorem dX5_taste_74 : decode cX5_taste 74 = .ok (.goto 4, 3) := dk_167 0 4 (dk_at dksX5_taste_3 5 rfl rfl)
theorem dX5_taste_77 : decode cX5_taste 77 = .ok (.iload_n 3, 1) := dk_29 (dk_at dksX5_taste_3 8 rfl rfl)
theorem dX5_taste_78 : decode cX5_taste 78 = .ok (.istore_n 3, 1) := dk_62 (dk_at dksX5_taste_3 9 rfl rfl)
theorem dX5_taste_79 : decode cX5_taste 79 = .ok (.iinc 5 1, 3) := dk_132 5 1 (dk_at dksX5_taste_3 10 rfl rfl)
theorem dX5_taste_82 : decode cX5_taste 82 = .ok (.goto (-46), 3) := dk_167 255 210 (dk_at dksX5_taste_3 13 rfl rfl)
theorem dX5_taste_85 : decode cX5_taste 85 = .ok (.iload_n 1, 1) := dk_27 (dk_at dksX5_taste_3 16 rfl rfl)
theorem dX5_taste_86 : decode cX5_taste 86 = .ok (.ifCond .ne 8, 3) := dk_154 0 8 (dk_at dksX5_taste_3 17 rfl rfl)
theorem dX5_taste_89 : decode cX5_taste 89 = .ok (.iload 4, 2) := dk_21 4 (dk_at dksX5_taste_3 20 rfl rfl)
theorem dX5_taste_91 : decode cX5_taste 91 = .ok (.goto 4, 3) := dk_167 0 4 (dk_at dksX5_taste_4 0 rfl rfl)
theorem dX5_taste_94 : decode cX5_taste 94 = .ok (.iload_n 3, 1) := dk_29 (dk_at dksX5_taste_4 3 rfl rfl)
theorem dX5_taste_95 : decode cX5_taste 95 = .ok (.ireturn, 1) := dk_172 (dk_at dksX5_taste_4 4 rfl rfl)
abbrev cX5_mostAlike : ByteArray := prog_23_method_119_code
def yX5_mostAlike : MethodName := ⟨RX5, "mostAlike", "(II)I"⟩
def dkwX5_mostAlike_4 : List UInt8 := [29, 62, 132, 4, 1, 167, 255, 161, 29, 172]
abbrev dktX5_mostAlike_4 : List UInt8 := dkwX5_mostAlike_4 ++ []
def dkwX5_mostAlike_3 : List UInt8 := [167, 0, 4, 3, 96, 54, 5, 132, 6, 1, 167, 255, 197, 21, 5, 29, 164, 0, 8, 21, 5, 167, 0, 4]
abbrev dktX5_mostAlike_3 : List UInt8 := dkwX5_mostAlike_3 ++ dktX5_mostAlike_4
def dkwX5_mostAlike_2 : List UInt8 := [184, 2, 37, 153, 0, 24, 42, 21, 6, 28, 182, 2, 31, 42, 21, 4, 28, 182, 2, 31, 160, 0, 7, 4]
abbrev dktX5_mostAlike_2 : List UInt8 := dkwX5_mostAlike_2 ++ dktX5_mostAlike_3
def dkwX5_mostAlike_1 : List UInt8 := [42, 180, 0, 13, 3, 46, 162, 0, 54, 21, 5, 27, 21, 4, 184, 2, 37, 153, 0, 33, 27, 21, 6]
abbrev dktX5_mostAlike_1 : List UInt8 := dkwX5_mostAlike_1 ++ dktX5_mostAlike_2
def dkwX5_mostAlike_0 : List UInt8 := [3, 62, 3, 54, 4, 21, 4, 42, 180, 0, 13, 3, 46, 162, 0, 90, 3, 54, 5, 3, 54, 6, 21, 6]
abbrev dktX5_mostAlike_0 : List UInt8 := dkwX5_mostAlike_0 ++ dktX5_mostAlike_1
theorem dksX5_mostAlike_0 : cX5_mostAlike.data.toList.drop 0 = dktX5_mostAlike_0 := by decide +kernel
theorem dksX5_mostAlike_1 : cX5_mostAlike.data.toList.drop 24 = dktX5_mostAlike_1 := dk_seg dksX5_mostAlike_0 24 rfl rfl
theorem dksX5_mostAlike_2 : cX5_mostAlike.data.toList.drop 47 = dktX5_mostAlike_2 := dk_seg dksX5_mostAlike_1 23 rfl rfl
theorem dksX5_mostAlike_3 : cX5_mostAlike.data.toList.drop 71 = dktX5_mostAlike_3 := dk_seg dksX5_mostAlike_2 24 rfl rfl
theorem dksX5_mostAlike_4 : cX5_mostAlike.data.toList.drop 95 = dktX5_mostAlike_4 := dk_seg dksX5_mostAlike_3 24 rfl rfl
theorem dX5_mostAlike_0 : decode cX5_mostAlike 0 = .ok (.iconst 0, 1) := dk_3 (dk_at dksX5_mostAlike_0 0 rfl rfl)
theorem dX5_mostAlike_1 : decode cX5_mostAlike 1 = .ok (.istore_n 3, 1) := dk_62 (dk_at dksX5_mostAlike_0 1 rfl rfl)
theorem dX5_mostAlike_2 : decode cX5_mostAlike 2 = .ok (.iconst 0, 1) := dk_3 (dk_at dksX5_mostAlike_0 2 rfl rfl)
theorem dX5_mostAlike_3 : decode cX5_mostAlike 3 = .ok (.istore 4, 2) := dk_54 4 (dk_at dksX5_mostAlike_0 3 rfl rfl)
theorem dX5_mostAlike_5 : decode cX5_mostAlike 5 = .ok (.iload 4, 2) := dk_21 4 (dk_at dksX5_mostAlike_0 5 rfl rfl)
theorem dX5_mostAlike_7 : decode cX5_mostAlike 7 = .ok (.aload_n 0, 1) := dk_42 (dk_at dksX5_mostAlike_0 7 rfl rfl)
theorem dX5_mostAlike_8 : decode cX5_mostAlike 8 = .ok (.getfield 13, 3) := dk_180 0 13 (dk_at dksX5_mostAlike_0 8 rfl rfl)
theorem dX5_mostAlike_11 : decode cX5_mostAlike 11 = .ok (.iconst 0, 1) := dk_3 (dk_at dksX5_mostAlike_0 11 rfl rfl)
theorem dX5_mostAlike_12 : decode cX5_mostAlike 12 = .ok (.iaload, 1) := dk_46 (dk_at dksX5_mostAlike_0 12 rfl rfl)
theorem dX5_mostAlike_13 : decode cX5_mostAlike 13 = .ok (.if_icmp .ge 90, 3) := dk_162 0 90 (dk_at dksX5_mostAlike_0 13 rfl rfl)
theorem dX5_mostAlike_16 : decode cX5_mostAlike 16 = .ok (.iconst 0, 1) := dk_3 (dk_at dksX5_mostAlike_0 16 rfl rfl)
theorem dX5_mostAlike_17 : decode cX5_mostAlike 17 = .ok (.istore 5, 2) := dk_54 5 (dk_at dksX5_mostAlike_0 17 rfl rfl)
theorem dX5_mostAlike_19 : decode cX5_mostAlike 19 = .ok (.iconst 0, 1) := dk_3 (dk_at dksX5_mostAlike_0 19 rfl rfl)
theorem dX5_mostAlike_20 : decode cX5_mostAlike 20 = .ok (.istore 6, 2) := dk_54 6 (dk_at dksX5_mostAlike_0 20 rfl rfl)
theorem dX5_mostAlike_22 : decode cX5_mostAlike 22 = .ok (.iload 6, 2) := dk_21 6 (dk_at dksX5_mostAlike_0 22 rfl rfl)
theorem dX5_mostAlike_24 : decode cX5_mostAlike 24 = .ok (.aload_n 0, 1) := dk_42 (dk_at dksX5_mostAlike_1 0 rfl rfl)
theorem dX5_mostAlike_25 : decode cX5_mostAlike 25 = .ok (.getfield 13, 3) := dk_180 0 13 (dk_at dksX5_mostAlike_1 1 rfl rfl)
theorem dX5_mostAlike_28 : decode cX5_mostAlike 28 = .ok (.iconst 0, 1) := dk_3 (dk_at dksX5_mostAlike_1 4 rfl rfl)
theorem dX5_mostAlike_29 : decode cX5_mostAlike 29 = .ok (.iaload, 1) := dk_46 (dk_at dksX5_mostAlike_1 5 rfl rfl)
theorem dX5_mostAlike_30 : decode cX5_mostAlike 30 = .ok (.if_icmp .ge 54, 3) := dk_162 0 54 (dk_at dksX5_mostAlike_1 6 rfl rfl)
theorem dX5_mostAlike_33 : decode cX5_mostAlike 33 = .ok (.iload 5, 2) := dk_21 5 (dk_at dksX5_mostAlike_1 9 rfl rfl)
theorem dX5_mostAlike_35 : decode cX5_mostAlike 35 = .ok (.iload_n 1, 1) := dk_27 (dk_at dksX5_mostAlike_1 11 rfl rfl)
theorem dX5_mostAlike_36 : decode cX5_mostAlike 36 = .ok (.iload 4, 2) := dk_21 4 (dk_at dksX5_mostAlike_1 12 rfl rfl)
theorem dX5_mostAlike_38 : decode cX5_mostAlike 38 = .ok (.invokestatic 549, 3) := dk_184 2 37 (dk_at dksX5_mostAlike_1 14 rfl rfl)
theorem dX5_mostAlike_41 : decode cX5_mostAlike 41 = .ok (.ifCond .eq 33, 3) := dk_153 0 33 (dk_at dksX5_mostAlike_1 17 rfl rfl)
theorem dX5_mostAlike_44 : decode cX5_mostAlike 44 = .ok (.iload_n 1, 1) := dk_27 (dk_at dksX5_mostAlike_1 20 rfl rfl)
theorem dX5_mostAlike_45 : decode cX5_mostAlike 45 = .ok (.iload 6, 2) := dk_21 6 (dk_at dksX5_mostAlike_1 21 rfl rfl)
theorem dX5_mostAlike_47 : decode cX5_mostAlike 47 = .ok (.invokestatic 549, 3) := dk_184 2 37 (dk_at dksX5_mostAlike_2 0 rfl rfl)
theorem dX5_mostAlike_50 : decode cX5_mostAlike 50 = .ok (.ifCond .eq 24, 3) := dk_153 0 24 (dk_at dksX5_mostAlike_2 3 rfl rfl)
theorem dX5_mostAlike_53 : decode cX5_mostAlike 53 = .ok (.aload_n 0, 1) := dk_42 (dk_at dksX5_mostAlike_2 6 rfl rfl)
theorem dX5_mostAlike_54 : decode cX5_mostAlike 54 = .ok (.iload 6, 2) := dk_21 6 (dk_at dksX5_mostAlike_2 7 rfl rfl)
theorem dX5_mostAlike_56 : decode cX5_mostAlike 56 = .ok (.iload_n 2, 1) := dk_28 (dk_at dksX5_mostAlike_2 9 rfl rfl)
theorem dX5_mostAlike_57 : decode cX5_mostAlike 57 = .ok (.invokevirtual 543, 3) := dk_182 2 31 (dk_at dksX5_mostAlike_2 10 rfl rfl)
theorem dX5_mostAlike_60 : decode cX5_mostAlike 60 = .ok (.aload_n 0, 1) := dk_42 (dk_at dksX5_mostAlike_2 13 rfl rfl)
theorem dX5_mostAlike_61 : decode cX5_mostAlike 61 = .ok (.iload 4, 2) := dk_21 4 (dk_at dksX5_mostAlike_2 14 rfl rfl)
theorem dX5_mostAlike_63 : decode cX5_mostAlike 63 = .ok (.iload_n 2, 1) := dk_28 (dk_at dksX5_mostAlike_2 16 rfl rfl)
theorem dX5_mostAlike_64 : decode cX5_mostAlike 64 = .ok (.invokevirtual 543, 3) := dk_182 2 31 (dk_at dksX5_mostAlike_2 17 rfl rfl)
theorem dX5_mostAlike_67 : decode cX5_mostAlike 67 = .ok (.if_icmp .ne 7, 3) := dk_160 0 7 (dk_at dksX5_mostAlike_2 20 rfl rfl)
theorem dX5_mostAlike_70 : decode cX5_mostAlike 70 = .ok (.iconst 1, 1) := dk_4 (dk_at dksX5_mostAlike_2 23 rfl rfl)
theorem dX5_mostAlike_71 : decode cX5_mostAlike 71 = .ok (.goto 4, 3) := dk_167 0 4 (dk_at dksX5_mostAlike_3 0 rfl rfl)
theorem dX5_mostAlike_74 : decode cX5_mostAlike 74 = .ok (.iconst 0, 1) := dk_3 (dk_at dksX5_mostAlike_3 3 rfl rfl)
theorem dX5_mostAlike_75 : decode cX5_mostAlike 75 = .ok (.iadd, 1) := dk_96 (dk_at dksX5_mostAlike_3 4 rfl rfl)
theorem dX5_mostAlike_76 : decode cX5_mostAlike 76 = .ok (.istore 5, 2) := dk_54 5 (dk_at dksX5_mostAlike_3 5 rfl rfl)
theorem dX5_mostAlike_78 : decode cX5_mostAlike 78 = .ok (.iinc 6 1, 3) := dk_132 6 1 (dk_at dksX5_mostAlike_3 7 rfl rfl)
theorem dX5_mostAlike_81 : decode cX5_mostAlike 81 = .ok (.goto (-59), 3) := dk_167 255 197 (dk_at dksX5_mostAlike_3 10 rfl rfl)
theorem dX5_mostAlike_84 : decode cX5_mostAlike 84 = .ok (.iload 5, 2) := dk_21 5 (dk_at dksX5_mostAlike_3 13 rfl rfl)
theorem dX5_mostAlike_86 : decode cX5_mostAlike 86 = .ok (.iload_n 3, 1) := dk_29 (dk_at dksX5_mostAlike_3 15 rfl rfl)
theorem dX5_mostAlike_87 : decode cX5_mostAlike 87 = .ok (.if_icmp .le 8, 3) := dk_164 0 8 (dk_at dksX5_mostAlike_3 16 rfl rfl)
theorem dX5_mostAlike_90 : decode cX5_mostAlike 90 = .ok (.iload 5, 2) := dk_21 5 (dk_at dksX5_mostAlike_3 19 rfl rfl)
theorem dX5_mostAlike_92 : decode cX5_mostAlike 92 = .ok (.goto 4, 3) := dk_167 0 4 (dk_at dksX5_mostAlike_3 21 rfl rfl)
theorem dX5_mostAlike_95 : decode cX5_mostAlike 95 = .ok (.iload_n 3, 1) := dk_29 (dk_at dksX5_mostAlike_4 0 rfl rfl)
theorem dX5_mostAlike_96 : decode cX5_mostAlike 96 = .ok (.istore_n 3, 1) := dk_62 (dk_at dksX5_mostAlike_4 1 rfl rfl)
theorem dX5_mostAlike_97 : decode cX5_mostAlike 97 = .ok (.iinc 4 1, 3) := dk_132 4 1 (dk_at dksX5_mostAlike_4 2 rfl rfl)
theorem dX5_mostAlike_100 : decode cX5_mostAlike 100 = .ok (.goto (-95), 3) := dk_167 255 161 (dk_at dksX5_mostAlike_4 5 rfl rfl)
theorem dX5_mostAlike_103 : decode cX5_mostAlike 103 = .ok (.iload_n 3, 1) := dk_29 (dk_at dksX5_mostAlike_4 8 rfl rfl)
theorem dX5_mostAlike_104 : decode cX5_mostAlike 104 = .ok (.ireturn, 1) := dk_172 (dk_at dksX5_mostAlike_4 9 rfl rfl)
abbrev cX5_is : ByteArray := prog_23_method_4_code
def yX5_is : MethodName := ⟨RX5, "is", "(II)Z"⟩
def dkwX5_is_0 : List UInt8 := [26, 27, 122, 4, 126, 4, 160, 0, 7, 4, 167, 0, 4, 3, 172]
abbrev dktX5_is_0 : List UInt8 := dkwX5_is_0 ++ []
theorem dksX5_is_0 : cX5_is.data.toList.drop 0 = dktX5_is_0 := by decide +kernel
theorem dX5_is_0 : decode cX5_is 0 = .ok (.iload_n 0, 1) := dk_26 (dk_at dksX5_is_0 0 rfl rfl)
theorem dX5_is_1 : decode cX5_is 1 = .ok (.iload_n 1, 1) := dk_27 (dk_at dksX5_is_0 1 rfl rfl)
theorem dX5_is_2 : decode cX5_is 2 = .ok (.ishr, 1) := dk_122 (dk_at dksX5_is_0 2 rfl rfl)
theorem dX5_is_3 : decode cX5_is 3 = .ok (.iconst 1, 1) := dk_4 (dk_at dksX5_is_0 3 rfl rfl)
theorem dX5_is_4 : decode cX5_is 4 = .ok (.iand, 1) := dk_126 (dk_at dksX5_is_0 4 rfl rfl)
theorem dX5_is_5 : decode cX5_is 5 = .ok (.iconst 1, 1) := dk_4 (dk_at dksX5_is_0 5 rfl rfl)
theorem dX5_is_6 : decode cX5_is 6 = .ok (.if_icmp .ne 7, 3) := dk_160 0 7 (dk_at dksX5_is_0 6 rfl rfl)
theorem dX5_is_9 : decode cX5_is 9 = .ok (.iconst 1, 1) := dk_4 (dk_at dksX5_is_0 9 rfl rfl)
theorem dX5_is_10 : decode cX5_is 10 = .ok (.goto 4, 3) := dk_167 0 4 (dk_at dksX5_is_0 10 rfl rfl)
theorem dX5_is_13 : decode cX5_is 13 = .ok (.iconst 0, 1) := dk_3 (dk_at dksX5_is_0 13 rfl rfl)
theorem dX5_is_14 : decode cX5_is 14 = .ok (.ireturn, 1) := dk_172 (dk_at dksX5_is_0 14 rfl rfl)
abbrev cX5_few : ByteArray := prog_23_method_121_code
def yX5_few : MethodName := ⟨RX5, "few", "(II)J"⟩
def dkwX5_few_7 : List UInt8 := [180, 0, 124, 21, 6, 47, 97, 55, 4, 132, 6, 1, 167, 255, 235, 22, 4, 173]
abbrev dktX5_few_7 : List UInt8 := dkwX5_few_7 ++ []
def dkwX5_few_6 : List UInt8 := [167, 255, 199, 132, 4, 1, 167, 255, 182, 9, 55, 4, 3, 54, 6, 21, 6, 27, 162, 0, 21, 22, 4, 42]
abbrev dktX5_few_6 : List UInt8 := dkwX5_few_6 ++ dktX5_few_7
def dkwX5_few_5 : List UInt8 := [42, 180, 0, 124, 21, 5, 4, 96, 92, 47, 22, 6, 29, 133, 105, 20, 0, 210, 109, 97, 80, 132, 5, 255]
abbrev dktX5_few_5 : List UInt8 := dkwX5_few_5 ++ dktX5_few_6
def dkwX5_few_4 : List UInt8 := [21, 5, 47, 55, 6, 42, 180, 0, 124, 21, 5, 22, 6, 16, 10, 29, 100, 133, 105, 20, 0, 210, 109, 80]
abbrev dktX5_few_4 : List UInt8 := dkwX5_few_4 ++ dktX5_few_5
def dkwX5_few_3 : List UInt8 := [62, 3, 54, 4, 21, 4, 28, 162, 0, 74, 27, 4, 100, 54, 5, 21, 5, 155, 0, 58, 42, 180, 0, 124]
abbrev dktX5_few_3 : List UInt8 := dkwX5_few_3 ++ dktX5_few_4
def dkwX5_few_2 : List UInt8 := [154, 0, 9, 20, 0, 208, 167, 0, 4, 9, 80, 132, 3, 1, 167, 255, 230, 42, 180, 0, 13, 16, 6, 46]
abbrev dktX5_few_2 : List UInt8 := dkwX5_few_2 ++ dktX5_few_3
def dkwX5_few_1 : List UInt8 := [184, 0, 153, 154, 0, 7, 20, 0, 206, 173, 3, 62, 29, 16, 21, 162, 0, 26, 42, 180, 0, 124, 29, 29]
abbrev dktX5_few_1 : List UInt8 := dkwX5_few_1 ++ dktX5_few_2
def dkwX5_few_0 : List UInt8 := [42, 3, 181, 0, 133, 27, 133, 10, 20, 1, 21, 184, 0, 153, 153, 0, 15, 28, 133, 9, 20, 2, 44]
abbrev dktX5_few_0 : List UInt8 := dkwX5_few_0 ++ dktX5_few_1
theorem dksX5_few_0 : cX5_few.data.toList.drop 0 = dktX5_few_0 := by decide +kernel
theorem dksX5_few_1 : cX5_few.data.toList.drop 23 = dktX5_few_1 := dk_seg dksX5_few_0 23 rfl rfl
theorem dksX5_few_2 : cX5_few.data.toList.drop 47 = dktX5_few_2 := dk_seg dksX5_few_1 24 rfl rfl
theorem dksX5_few_3 : cX5_few.data.toList.drop 71 = dktX5_few_3 := dk_seg dksX5_few_2 24 rfl rfl
theorem dksX5_few_4 : cX5_few.data.toList.drop 95 = dktX5_few_4 := dk_seg dksX5_few_3 24 rfl rfl
theorem dksX5_few_5 : cX5_few.data.toList.drop 119 = dktX5_few_5 := dk_seg dksX5_few_4 24 rfl rfl
theorem dksX5_few_6 : cX5_few.data.toList.drop 143 = dktX5_few_6 := dk_seg dksX5_few_5 24 rfl rfl
theorem dksX5_few_7 : cX5_few.data.toList.drop 167 = dktX5_few_7 := dk_seg dksX5_few_6 24 rfl rfl
theorem dX5_few_0 : decode cX5_few 0 = .ok (.aload_n 0, 1) := dk_42 (dk_at dksX5_few_0 0 rfl rfl)
theorem dX5_few_1 : decode cX5_few 1 = .ok (.iconst 0, 1) := dk_3 (dk_at dksX5_few_0 1 rfl rfl)
theorem dX5_few_2 : decode cX5_few 2 = .ok (.putfield 133, 3) := dk_181 0 133 (dk_at dksX5_few_0 2 rfl rfl)
theorem dX5_few_5 : decode cX5_few 5 = .ok (.iload_n 1, 1) := dk_27 (dk_at dksX5_few_0 5 rfl rfl)
theorem dX5_few_6 : decode cX5_few 6 = .ok (.i2l, 1) := dk_133 (dk_at dksX5_few_0 6 rfl rfl)
theorem dX5_few_7 : decode cX5_few 7 = .ok (.lconst 1, 1) := dk_10 (dk_at dksX5_few_0 7 rfl rfl)
theorem dX5_few_8 : decode cX5_few 8 = .ok (.ldc2_w 277, 3) := dk_20 1 21 (dk_at dksX5_few_0 8 rfl rfl)
theorem dX5_few_11 : decode cX5_few 11 = .ok (.invokestatic 153, 3) := dk_184 0 153 (dk_at dksX5_few_0 11 rfl rfl)
theorem dX5_few_14 : decode cX5_few 14 = .ok (.ifCond .eq 15, 3) := dk_153 0 15 (dk_at dksX5_few_0 14 rfl rfl)
theorem dX5_few_17 : decode cX5_few 17 = .ok (.iload_n 2, 1) := dk_28 (dk_at dksX5_few_0 17 rfl rfl)
theorem dX5_few_18 : decode cX5_few 18 = .ok (.i2l, 1) := dk_133 (dk_at dksX5_few_0 18 rfl rfl)
theorem dX5_few_19 : decode cX5_few 19 = .ok (.lconst 0, 1) := dk_9 (dk_at dksX5_few_0 19 rfl rfl)
theorem dX5_few_20 : decode cX5_few 20 = .ok (.ldc2_w 556, 3) := dk_20 2 44 (dk_at dksX5_few_0 20 rfl rfl)
theorem dX5_few_23 : decode cX5_few 23 = .ok (.invokestatic 153, 3) := dk_184 0 153 (dk_at dksX5_few_1 0 rfl rfl)
theorem dX5_few_26 : decode cX5_few 26 = .ok (.ifCond .ne 7, 3) := dk_154 0 7 (dk_at dksX5_few_1 3 rfl rfl)
theorem dX5_few_29 : decode cX5_few 29 = .ok (.ldc2_w 206, 3) := dk_20 0 206 (dk_at dksX5_few_1 6 rfl rfl)
theorem dX5_few_32 : decode cX5_few 32 = .ok (.lreturn, 1) := dk_173 (dk_at dksX5_few_1 9 rfl rfl)
theorem dX5_few_33 : decode cX5_few 33 = .ok (.iconst 0, 1) := dk_3 (dk_at dksX5_few_1 10 rfl rfl)
theorem dX5_few_34 : decode cX5_few 34 = .ok (.istore_n 3, 1) := dk_62 (dk_at dksX5_few_1 11 rfl rfl)
theorem dX5_few_35 : decode cX5_few 35 = .ok (.iload_n 3, 1) := dk_29 (dk_at dksX5_few_1 12 rfl rfl)
theorem dX5_few_36 : decode cX5_few 36 = .ok (.bipush 21, 2) := dk_16 21 (dk_at dksX5_few_1 13 rfl rfl)
theorem dX5_few_38 : decode cX5_few 38 = .ok (.if_icmp .ge 26, 3) := dk_162 0 26 (dk_at dksX5_few_1 15 rfl rfl)
theorem dX5_few_41 : decode cX5_few 41 = .ok (.aload_n 0, 1) := dk_42 (dk_at dksX5_few_1 18 rfl rfl)
theorem dX5_few_42 : decode cX5_few 42 = .ok (.getfield 124, 3) := dk_180 0 124 (dk_at dksX5_few_1 19 rfl rfl)
theorem dX5_few_45 : decode cX5_few 45 = .ok (.iload_n 3, 1) := dk_29 (dk_at dksX5_few_1 22 rfl rfl)
theorem dX5_few_46 : decode cX5_few 46 = .ok (.iload_n 3, 1) := dk_29 (dk_at dksX5_few_1 23 rfl rfl)
theorem dX5_few_47 : decode cX5_few 47 = .ok (.ifCond .ne 9, 3) := dk_154 0 9 (dk_at dksX5_few_2 0 rfl rfl)
theorem dX5_few_50 : decode cX5_few 50 = .ok (.ldc2_w 208, 3) := dk_20 0 208 (dk_at dksX5_few_2 3 rfl rfl)
theorem dX5_few_53 : decode cX5_few 53 = .ok (.goto 4, 3) := dk_167 0 4 (dk_at dksX5_few_2 6 rfl rfl)
theorem dX5_few_56 : decode cX5_few 56 = .ok (.lconst 0, 1) := dk_9 (dk_at dksX5_few_2 9 rfl rfl)
theorem dX5_few_57 : decode cX5_few 57 = .ok (.lastore, 1) := dk_80 (dk_at dksX5_few_2 10 rfl rfl)
theorem dX5_few_58 : decode cX5_few 58 = .ok (.iinc 3 1, 3) := dk_132 3 1 (dk_at dksX5_few_2 11 rfl rfl)
theorem dX5_few_61 : decode cX5_few 61 = .ok (.goto (-26), 3) := dk_167 255 230 (dk_at dksX5_few_2 14 rfl rfl)
theorem dX5_few_64 : decode cX5_few 64 = .ok (.aload_n 0, 1) := dk_42 (dk_at dksX5_few_2 17 rfl rfl)
theorem dX5_few_65 : decode cX5_few 65 = .ok (.getfield 13, 3) := dk_180 0 13 (dk_at dksX5_few_2 18 rfl rfl)
theorem dX5_few_68 : decode cX5_few 68 = .ok (.bipush 6, 2) := dk_16 6 (dk_at dksX5_few_2 21 rfl rfl)
theorem dX5_few_70 : decode cX5_few 70 = .ok (.iaload, 1) := dk_46 (dk_at dksX5_few_2 23 rfl rfl)
theorem dX5_few_71 : decode cX5_few 71 = .ok (.istore_n 3, 1) := dk_62 (dk_at dksX5_few_3 0 rfl rfl)
theorem dX5_few_72 : decode cX5_few 72 = .ok (.iconst 0, 1) := dk_3 (dk_at dksX5_few_3 1 rfl rfl)
theorem dX5_few_73 : decode cX5_few 73 = .ok (.istore 4, 2) := dk_54 4 (dk_at dksX5_few_3 2 rfl rfl)
theorem dX5_few_75 : decode cX5_few 75 = .ok (.iload 4, 2) := dk_21 4 (dk_at dksX5_few_3 4 rfl rfl)
theorem dX5_few_77 : decode cX5_few 77 = .ok (.iload_n 2, 1) := dk_28 (dk_at dksX5_few_3 6 rfl rfl)
theorem dX5_few_78 : decode cX5_few 78 = .ok (.if_icmp .ge 74, 3) := dk_162 0 74 (dk_at dksX5_few_3 7 rfl rfl)
theorem dX5_few_81 : decode cX5_few 81 = .ok (.iload_n 1, 1) := dk_27 (dk_at dksX5_few_3 10 rfl rfl)
theorem dX5_few_82 : decode cX5_few 82 = .ok (.iconst 1, 1) := dk_4 (dk_at dksX5_few_3 11 rfl rfl)
theorem dX5_few_83 : decode cX5_few 83 = .ok (.isub, 1) := dk_100 (dk_at dksX5_few_3 12 rfl rfl)
theorem dX5_few_84 : decode cX5_few 84 = .ok (.istore 5, 2) := dk_54 5 (dk_at dksX5_few_3 13 rfl rfl)
theorem dX5_few_86 : decode cX5_few 86 = .ok (.iload 5, 2) := dk_21 5 (dk_at dksX5_few_3 15 rfl rfl)
theorem dX5_few_88 : decode cX5_few 88 = .ok (.ifCond .lt 58, 3) := dk_155 0 58 (dk_at dksX5_few_3 17 rfl rfl)
theorem dX5_few_91 : decode cX5_few 91 = .ok (.aload_n 0, 1) := dk_42 (dk_at dksX5_few_3 20 rfl rfl)
theorem dX5_few_92 : decode cX5_few 92 = .ok (.getfield 124, 3) := dk_180 0 124 (dk_at dksX5_few_3 21 rfl rfl)
theorem dX5_few_95 : decode cX5_few 95 = .ok (.iload 5, 2) := dk_21 5 (dk_at dksX5_few_4 0 rfl rfl)
theorem dX5_few_97 : decode cX5_few 97 = .ok (.laload, 1) := dk_47 (dk_at dksX5_few_4 2 rfl rfl)
theorem dX5_few_98 : decode cX5_few 98 = .ok (.lstore 6, 2) := dk_55 6 (dk_at dksX5_few_4 3 rfl rfl)
theorem dX5_few_100 : decode cX5_few 100 = .ok (.aload_n 0, 1) := dk_42 (dk_at dksX5_few_4 5 rfl rfl)
theorem dX5_few_101 : decode cX5_few 101 = .ok (.getfield 124, 3) := dk_180 0 124 (dk_at dksX5_few_4 6 rfl rfl)
theorem dX5_few_104 : decode cX5_few 104 = .ok (.iload 5, 2) := dk_21 5 (dk_at dksX5_few_4 9 rfl rfl)
theorem dX5_few_106 : decode cX5_few 106 = .ok (.lload 6, 2) := dk_22 6 (dk_at dksX5_few_4 11 rfl rfl)
theorem dX5_few_108 : decode cX5_few 108 = .ok (.bipush 10, 2) := dk_16 10 (dk_at dksX5_few_4 13 rfl rfl)
theorem dX5_few_110 : decode cX5_few 110 = .ok (.iload_n 3, 1) := dk_29 (dk_at dksX5_few_4 15 rfl rfl)
theorem dX5_few_111 : decode cX5_few 111 = .ok (.isub, 1) := dk_100 (dk_at dksX5_few_4 16 rfl rfl)
theorem dX5_few_112 : decode cX5_few 112 = .ok (.i2l, 1) := dk_133 (dk_at dksX5_few_4 17 rfl rfl)
theorem dX5_few_113 : decode cX5_few 113 = .ok (.lmul, 1) := dk_105 (dk_at dksX5_few_4 18 rfl rfl)
theorem dX5_few_114 : decode cX5_few 114 = .ok (.ldc2_w 210, 3) := dk_20 0 210 (dk_at dksX5_few_4 19 rfl rfl)
theorem dX5_few_117 : decode cX5_few 117 = .ok (.ldiv, 1) := dk_109 (dk_at dksX5_few_4 22 rfl rfl)
theorem dX5_few_118 : decode cX5_few 118 = .ok (.lastore, 1) := dk_80 (dk_at dksX5_few_4 23 rfl rfl)
theorem dX5_few_119 : decode cX5_few 119 = .ok (.aload_n 0, 1) := dk_42 (dk_at dksX5_few_5 0 rfl rfl)
theorem dX5_few_120 : decode cX5_few 120 = .ok (.getfield 124, 3) := dk_180 0 124 (dk_at dksX5_few_5 1 rfl rfl)
theorem dX5_few_123 : decode cX5_few 123 = .ok (.iload 5, 2) := dk_21 5 (dk_at dksX5_few_5 4 rfl rfl)
theorem dX5_few_125 : decode cX5_few 125 = .ok (.iconst 1, 1) := dk_4 (dk_at dksX5_few_5 6 rfl rfl)
theorem dX5_few_126 : decode cX5_few 126 = .ok (.iadd, 1) := dk_96 (dk_at dksX5_few_5 7 rfl rfl)
theorem dX5_few_127 : decode cX5_few 127 = .ok (.dup2, 1) := dk_92 (dk_at dksX5_few_5 8 rfl rfl)
theorem dX5_few_128 : decode cX5_few 128 = .ok (.laload, 1) := dk_47 (dk_at dksX5_few_5 9 rfl rfl)
theorem dX5_few_129 : decode cX5_few 129 = .ok (.lload 6, 2) := dk_22 6 (dk_at dksX5_few_5 10 rfl rfl)
theorem dX5_few_131 : decode cX5_few 131 = .ok (.iload_n 3, 1) := dk_29 (dk_at dksX5_few_5 12 rfl rfl)
theorem dX5_few_132 : decode cX5_few 132 = .ok (.i2l, 1) := dk_133 (dk_at dksX5_few_5 13 rfl rfl)
theorem dX5_few_133 : decode cX5_few 133 = .ok (.lmul, 1) := dk_105 (dk_at dksX5_few_5 14 rfl rfl)
theorem dX5_few_134 : decode cX5_few 134 = .ok (.ldc2_w 210, 3) := dk_20 0 210 (dk_at dksX5_few_5 15 rfl rfl)
theorem dX5_few_137 : decode cX5_few 137 = .ok (.ldiv, 1) := dk_109 (dk_at dksX5_few_5 18 rfl rfl)
theorem dX5_few_138 : decode cX5_few 138 = .ok (.ladd, 1) := dk_97 (dk_at dksX5_few_5 19 rfl rfl)
theorem dX5_few_139 : decode cX5_few 139 = .ok (.lastore, 1) := dk_80 (dk_at dksX5_few_5 20 rfl rfl)
theorem dX5_few_140 : decode cX5_few 140 = .ok (.iinc 5 (-1), 3) := dk_132 5 255 (dk_at dksX5_few_5 21 rfl rfl)
theorem dX5_few_143 : decode cX5_few 143 = .ok (.goto (-57), 3) := dk_167 255 199 (dk_at dksX5_few_6 0 rfl rfl)
theorem dX5_few_146 : decode cX5_few 146 = .ok (.iinc 4 1, 3) := dk_132 4 1 (dk_at dksX5_few_6 3 rfl rfl)
theorem dX5_few_149 : decode cX5_few 149 = .ok (.goto (-74), 3) := dk_167 255 182 (dk_at dksX5_few_6 6 rfl rfl)
theorem dX5_few_152 : decode cX5_few 152 = .ok (.lconst 0, 1) := dk_9 (dk_at dksX5_few_6 9 rfl rfl)
theorem dX5_few_153 : decode cX5_few 153 = .ok (.lstore 4, 2) := dk_55 4 (dk_at dksX5_few_6 10 rfl rfl)
theorem dX5_few_155 : decode cX5_few 155 = .ok (.iconst 0, 1) := dk_3 (dk_at dksX5_few_6 12 rfl rfl)
theorem dX5_few_156 : decode cX5_few 156 = .ok (.istore 6, 2) := dk_54 6 (dk_at dksX5_few_6 13 rfl rfl)
theorem dX5_few_158 : decode cX5_few 158 = .ok (.iload 6, 2) := dk_21 6 (dk_at dksX5_few_6 15 rfl rfl)
theorem dX5_few_160 : decode cX5_few 160 = .ok (.iload_n 1, 1) := dk_27 (dk_at dksX5_few_6 17 rfl rfl)
theorem dX5_few_161 : decode cX5_few 161 = .ok (.if_icmp .ge 21, 3) := dk_162 0 21 (dk_at dksX5_few_6 18 rfl rfl)
theorem dX5_few_164 : decode cX5_few 164 = .ok (.lload 4, 2) := dk_22 4 (dk_at dksX5_few_6 21 rfl rfl)
theorem dX5_few_166 : decode cX5_few 166 = .ok (.aload_n 0, 1) := dk_42 (dk_at dksX5_few_6 23 rfl rfl)
theorem dX5_few_167 : decode cX5_few 167 = .ok (.getfield 124, 3) := dk_180 0 124 (dk_at dksX5_few_7 0 rfl rfl)
theorem dX5_few_170 : decode cX5_few 170 = .ok (.iload 6, 2) := dk_21 6 (dk_at dksX5_few_7 3 rfl rfl)
theorem dX5_few_172 : decode cX5_few 172 = .ok (.laload, 1) := dk_47 (dk_at dksX5_few_7 5 rfl rfl)
theorem dX5_few_173 : decode cX5_few 173 = .ok (.ladd, 1) := dk_97 (dk_at dksX5_few_7 6 rfl rfl)
theorem dX5_few_174 : decode cX5_few 174 = .ok (.lstore 4, 2) := dk_55 4 (dk_at dksX5_few_7 7 rfl rfl)
theorem dX5_few_176 : decode cX5_few 176 = .ok (.iinc 6 1, 3) := dk_132 6 1 (dk_at dksX5_few_7 9 rfl rfl)
theorem dX5_few_179 : decode cX5_few 179 = .ok (.goto (-21), 3) := dk_167 255 235 (dk_at dksX5_few_7 12 rfl rfl)
theorem dX5_few_182 : decode cX5_few 182 = .ok (.lload 4, 2) := dk_22 4 (dk_at dksX5_few_7 15 rfl rfl)
theorem dX5_few_184 : decode cX5_few 184 = .ok (.lreturn, 1) := dk_173 (dk_at dksX5_few_7 17 rfl rfl)
abbrev cX5_compare : ByteArray := prog_23_method_122_code
def yX5_compare : MethodName := ⟨RX5, "compare", "(II)I"⟩
def dkwX5_compare_2 : List UInt8 := [7, 29, 79, 21, 4, 172]
abbrev dktX5_compare_2 : List UInt8 := dkwX5_compare_2 ++ []
def dkwX5_compare_1 : List UInt8 := [180, 0, 13, 7, 46, 62, 42, 180, 0, 13, 7, 27, 79, 42, 28, 182, 2, 46, 54, 4, 42, 180, 0, 13]
abbrev dktX5_compare_1 : List UInt8 := dkwX5_compare_1 ++ dktX5_compare_2
def dkwX5_compare_0 : List UInt8 := [42, 3, 181, 0, 133, 42, 27, 182, 1, 115, 153, 0, 11, 42, 28, 182, 0, 184, 154, 0, 5, 2, 172, 42]
abbrev dktX5_compare_0 : List UInt8 := dkwX5_compare_0 ++ dktX5_compare_1
theorem dksX5_compare_0 : cX5_compare.data.toList.drop 0 = dktX5_compare_0 := by decide +kernel
theorem dksX5_compare_1 : cX5_compare.data.toList.drop 24 = dktX5_compare_1 := dk_seg dksX5_compare_0 24 rfl rfl
theorem dksX5_compare_2 : cX5_compare.data.toList.drop 48 = dktX5_compare_2 := dk_seg dksX5_compare_1 24 rfl rfl
theorem dX5_compare_0 : decode cX5_compare 0 = .ok (.aload_n 0, 1) := dk_42 (dk_at dksX5_compare_0 0 rfl rfl)
theorem dX5_compare_1 : decode cX5_compare 1 = .ok (.iconst 0, 1) := dk_3 (dk_at dksX5_compare_0 1 rfl rfl)
theorem dX5_compare_2 : decode cX5_compare 2 = .ok (.putfield 133, 3) := dk_181 0 133 (dk_at dksX5_compare_0 2 rfl rfl)
theorem dX5_compare_5 : decode cX5_compare 5 = .ok (.aload_n 0, 1) := dk_42 (dk_at dksX5_compare_0 5 rfl rfl)
theorem dX5_compare_6 : decode cX5_compare 6 = .ok (.iload_n 1, 1) := dk_27 (dk_at dksX5_compare_0 6 rfl rfl)
theorem dX5_compare_7 : decode cX5_compare 7 = .ok (.invokevirtual 371, 3) := dk_182 1 115 (dk_at dksX5_compare_0 7 rfl rfl)
theorem dX5_compare_10 : decode cX5_compare 10 = .ok (.ifCond .eq 11, 3) := dk_153 0 11 (dk_at dksX5_compare_0 10 rfl rfl)
theorem dX5_compare_13 : decode cX5_compare 13 = .ok (.aload_n 0, 1) := dk_42 (dk_at dksX5_compare_0 13 rfl rfl)
theorem dX5_compare_14 : decode cX5_compare 14 = .ok (.iload_n 2, 1) := dk_28 (dk_at dksX5_compare_0 14 rfl rfl)
theorem dX5_compare_15 : decode cX5_compare 15 = .ok (.invokevirtual 184, 3) := dk_182 0 184 (dk_at dksX5_compare_0 15 rfl rfl)
theorem dX5_compare_18 : decode cX5_compare 18 = .ok (.ifCond .ne 5, 3) := dk_154 0 5 (dk_at dksX5_compare_0 18 rfl rfl)
theorem dX5_compare_21 : decode cX5_compare 21 = .ok (.iconst (-1), 1) := dk_2 (dk_at dksX5_compare_0 21 rfl rfl)
theorem dX5_compare_22 : decode cX5_compare 22 = .ok (.ireturn, 1) := dk_172 (dk_at dksX5_compare_0 22 rfl rfl)
theorem dX5_compare_23 : decode cX5_compare 23 = .ok (.aload_n 0, 1) := dk_42 (dk_at dksX5_compare_0 23 rfl rfl)
theorem dX5_compare_24 : decode cX5_compare 24 = .ok (.getfield 13, 3) := dk_180 0 13 (dk_at dksX5_compare_1 0 rfl rfl)
theorem dX5_compare_27 : decode cX5_compare 27 = .ok (.iconst 4, 1) := dk_7 (dk_at dksX5_compare_1 3 rfl rfl)
theorem dX5_compare_28 : decode cX5_compare 28 = .ok (.iaload, 1) := dk_46 (dk_at dksX5_compare_1 4 rfl rfl)
theorem dX5_compare_29 : decode cX5_compare 29 = .ok (.istore_n 3, 1) := dk_62 (dk_at dksX5_compare_1 5 rfl rfl)
theorem dX5_compare_30 : decode cX5_compare 30 = .ok (.aload_n 0, 1) := dk_42 (dk_at dksX5_compare_1 6 rfl rfl)
theorem dX5_compare_31 : decode cX5_compare 31 = .ok (.getfield 13, 3) := dk_180 0 13 (dk_at dksX5_compare_1 7 rfl rfl)
theorem dX5_compare_34 : decode cX5_compare 34 = .ok (.iconst 4, 1) := dk_7 (dk_at dksX5_compare_1 10 rfl rfl)
theorem dX5_compare_35 : decode cX5_compare 35 = .ok (.iload_n 1, 1) := dk_27 (dk_at dksX5_compare_1 11 rfl rfl)
theorem dX5_compare_36 : decode cX5_compare 36 = .ok (.iastore, 1) := dk_79 (dk_at dksX5_compare_1 12 rfl rfl)
theorem dX5_compare_37 : decode cX5_compare 37 = .ok (.aload_n 0, 1) := dk_42 (dk_at dksX5_compare_1 13 rfl rfl)
theorem dX5_compare_38 : decode cX5_compare 38 = .ok (.iload_n 2, 1) := dk_28 (dk_at dksX5_compare_1 14 rfl rfl)
theorem dX5_compare_39 : decode cX5_compare 39 = .ok (.invokevirtual 558, 3) := dk_182 2 46 (dk_at dksX5_compare_1 15 rfl rfl)
theorem dX5_compare_42 : decode cX5_compare 42 = .ok (.istore 4, 2) := dk_54 4 (dk_at dksX5_compare_1 18 rfl rfl)
theorem dX5_compare_44 : decode cX5_compare 44 = .ok (.aload_n 0, 1) := dk_42 (dk_at dksX5_compare_1 20 rfl rfl)
theorem dX5_compare_45 : decode cX5_compare 45 = .ok (.getfield 13, 3) := dk_180 0 13 (dk_at dksX5_compare_1 21 rfl rfl)
theorem dX5_compare_48 : decode cX5_compare 48 = .ok (.iconst 4, 1) := dk_7 (dk_at dksX5_compare_2 0 rfl rfl)
theorem dX5_compare_49 : decode cX5_compare 49 = .ok (.iload_n 3, 1) := dk_29 (dk_at dksX5_compare_2 1 rfl rfl)
theorem dX5_compare_50 : decode cX5_compare 50 = .ok (.iastore, 1) := dk_79 (dk_at dksX5_compare_2 2 rfl rfl)
theorem dX5_compare_51 : decode cX5_compare 51 = .ok (.iload 4, 2) := dk_21 4 (dk_at dksX5_compare_2 3 rfl rfl)
theorem dX5_compare_53 : decode cX5_compare 53 = .ok (.ireturn, 1) := dk_172 (dk_at dksX5_compare_2 5 rfl rfl)
abbrev cX5_lossOf : ByteArray := prog_23_method_84_code
def yX5_lossOf : MethodName := ⟨RX5, "lossOf", "(I)I"⟩
def dkwX5_lossOf_1 : List UInt8 := [182, 0, 160, 133, 28, 133, 105, 20, 0, 164, 109, 136, 96, 62, 132, 4, 1, 167, 255, 227, 29, 172]
abbrev dktX5_lossOf_1 : List UInt8 := dkwX5_lossOf_1 ++ []
def dkwX5_lossOf_0 : List UInt8 := [42, 27, 182, 0, 191, 61, 3, 62, 3, 54, 4, 21, 4, 16, 20, 162, 0, 28, 29, 42, 27, 21, 4]
abbrev dktX5_lossOf_0 : List UInt8 := dkwX5_lossOf_0 ++ dktX5_lossOf_1
theorem dksX5_lossOf_0 : cX5_lossOf.data.toList.drop 0 = dktX5_lossOf_0 := by decide +kernel
theorem dksX5_lossOf_1 : cX5_lossOf.data.toList.drop 23 = dktX5_lossOf_1 := dk_seg dksX5_lossOf_0 23 rfl rfl
theorem dX5_lossOf_0 : decode cX5_lossOf 0 = .ok (.aload_n 0, 1) := dk_42 (dk_at dksX5_lossOf_0 0 rfl rfl)
theorem dX5_lossOf_1 : decode cX5_lossOf 1 = .ok (.iload_n 1, 1) := dk_27 (dk_at dksX5_lossOf_0 1 rfl rfl)
theorem dX5_lossOf_2 : decode cX5_lossOf 2 = .ok (.invokevirtual 191, 3) := dk_182 0 191 (dk_at dksX5_lossOf_0 2 rfl rfl)
theorem dX5_lossOf_5 : decode cX5_lossOf 5 = .ok (.istore_n 2, 1) := dk_61 (dk_at dksX5_lossOf_0 5 rfl rfl)
theorem dX5_lossOf_6 : decode cX5_lossOf 6 = .ok (.iconst 0, 1) := dk_3 (dk_at dksX5_lossOf_0 6 rfl rfl)
theorem dX5_lossOf_7 : decode cX5_lossOf 7 = .ok (.istore_n 3, 1) := dk_62 (dk_at dksX5_lossOf_0 7 rfl rfl)
theorem dX5_lossOf_8 : decode cX5_lossOf 8 = .ok (.iconst 0, 1) := dk_3 (dk_at dksX5_lossOf_0 8 rfl rfl)
theorem dX5_lossOf_9 : decode cX5_lossOf 9 = .ok (.istore 4, 2) := dk_54 4 (dk_at dksX5_lossOf_0 9 rfl rfl)
theorem dX5_lossOf_11 : decode cX5_lossOf 11 = .ok (.iload 4, 2) := dk_21 4 (dk_at dksX5_lossOf_0 11 rfl rfl)
theorem dX5_lossOf_13 : decode cX5_lossOf 13 = .ok (.bipush 20, 2) := dk_16 20 (dk_at dksX5_lossOf_0 13 rfl rfl)
theorem dX5_lossOf_15 : decode cX5_lossOf 15 = .ok (.if_icmp .ge 28, 3) := dk_162 0 28 (dk_at dksX5_lossOf_0 15 rfl rfl)
theorem dX5_lossOf_18 : decode cX5_lossOf 18 = .ok (.iload_n 3, 1) := dk_29 (dk_at dksX5_lossOf_0 18 rfl rfl)
theorem dX5_lossOf_19 : decode cX5_lossOf 19 = .ok (.aload_n 0, 1) := dk_42 (dk_at dksX5_lossOf_0 19 rfl rfl)
theorem dX5_lossOf_20 : decode cX5_lossOf 20 = .ok (.iload_n 1, 1) := dk_27 (dk_at dksX5_lossOf_0 20 rfl rfl)
theorem dX5_lossOf_21 : decode cX5_lossOf 21 = .ok (.iload 4, 2) := dk_21 4 (dk_at dksX5_lossOf_0 21 rfl rfl)
theorem dX5_lossOf_23 : decode cX5_lossOf 23 = .ok (.invokevirtual 160, 3) := dk_182 0 160 (dk_at dksX5_lossOf_1 0 rfl rfl)
theorem dX5_lossOf_26 : decode cX5_lossOf 26 = .ok (.i2l, 1) := dk_133 (dk_at dksX5_lossOf_1 3 rfl rfl)
theorem dX5_lossOf_27 : decode cX5_lossOf 27 = .ok (.iload_n 2, 1) := dk_28 (dk_at dksX5_lossOf_1 4 rfl rfl)
theorem dX5_lossOf_28 : decode cX5_lossOf 28 = .ok (.i2l, 1) := dk_133 (dk_at dksX5_lossOf_1 5 rfl rfl)
theorem dX5_lossOf_29 : decode cX5_lossOf 29 = .ok (.lmul, 1) := dk_105 (dk_at dksX5_lossOf_1 6 rfl rfl)
theorem dX5_lossOf_30 : decode cX5_lossOf 30 = .ok (.ldc2_w 164, 3) := dk_20 0 164 (dk_at dksX5_lossOf_1 7 rfl rfl)
theorem dX5_lossOf_33 : decode cX5_lossOf 33 = .ok (.ldiv, 1) := dk_109 (dk_at dksX5_lossOf_1 10 rfl rfl)
theorem dX5_lossOf_34 : decode cX5_lossOf 34 = .ok (.l2i, 1) := dk_136 (dk_at dksX5_lossOf_1 11 rfl rfl)
theorem dX5_lossOf_35 : decode cX5_lossOf 35 = .ok (.iadd, 1) := dk_96 (dk_at dksX5_lossOf_1 12 rfl rfl)
theorem dX5_lossOf_36 : decode cX5_lossOf 36 = .ok (.istore_n 3, 1) := dk_62 (dk_at dksX5_lossOf_1 13 rfl rfl)
theorem dX5_lossOf_37 : decode cX5_lossOf 37 = .ok (.iinc 4 1, 3) := dk_132 4 1 (dk_at dksX5_lossOf_1 14 rfl rfl)
theorem dX5_lossOf_40 : decode cX5_lossOf 40 = .ok (.goto (-29), 3) := dk_167 255 227 (dk_at dksX5_lossOf_1 17 rfl rfl)
theorem dX5_lossOf_43 : decode cX5_lossOf 43 = .ok (.iload_n 3, 1) := dk_29 (dk_at dksX5_lossOf_1 20 rfl rfl)
theorem dX5_lossOf_44 : decode cX5_lossOf 44 = .ok (.ireturn, 1) := dk_172 (dk_at dksX5_lossOf_1 21 rfl rfl)
abbrev cX5_harvests : ByteArray := prog_23_method_125_code
def yX5_harvests : MethodName := ⟨RX5, "harvests", "(II)I"⟩
def dkwX5_harvests_9 : List UInt8 := [180, 1, 188, 182, 0, 142, 172]
abbrev dktX5_harvests_9 : List UInt8 := dkwX5_harvests_9 ++ []
def dkwX5_harvests_8 : List UInt8 := [132, 3, 1, 167, 255, 231, 42, 42, 180, 0, 13, 3, 46, 181, 0, 130, 42, 16, 16, 182, 0, 150, 42, 42]
abbrev dktX5_harvests_8 : List UInt8 := dkwX5_harvests_8 ++ dktX5_harvests_9
def dkwX5_harvests_7 : List UInt8 := [29, 17, 0, 160, 162, 0, 24, 42, 180, 0, 127, 29, 42, 180, 0, 13, 16, 10, 29, 96, 46, 79]
abbrev dktX5_harvests_7 : List UInt8 := dkwX5_harvests_7 ++ dktX5_harvests_8
def dkwX5_harvests_6 : List UInt8 := [21, 7, 21, 4, 21, 5, 21, 6, 182, 2, 61, 42, 182, 1, 203, 87, 132, 3, 1, 167, 255, 178, 3, 62]
abbrev dktX5_harvests_6 : List UInt8 := dkwX5_harvests_6 ++ dktX5_harvests_7
def dkwX5_harvests_5 : List UInt8 := [182, 2, 58, 54, 5, 42, 16, 9, 182, 2, 58, 4, 96, 54, 6, 42, 7, 182, 2, 58, 54, 7, 42]
abbrev dktX5_harvests_5 : List UInt8 := dkwX5_harvests_5 ++ dktX5_harvests_6
def dkwX5_harvests_4 : List UInt8 := [162, 0, 67, 42, 42, 180, 0, 13, 3, 46, 182, 2, 58, 54, 4, 42, 42, 180, 0, 13, 3, 46]
abbrev dktX5_harvests_4 : List UInt8 := dkwX5_harvests_4 ++ dktX5_harvests_5
def dkwX5_harvests_3 : List UInt8 := [19, 2, 12, 181, 1, 191, 3, 62, 29, 28, 162, 0, 79, 42, 180, 0, 13, 8, 46, 17, 3, 231]
abbrev dktX5_harvests_3 : List UInt8 := dkwX5_harvests_3 ++ dktX5_harvests_4
def dkwX5_harvests_2 : List UInt8 := [182, 0, 142, 172, 42, 16, 16, 182, 0, 146, 42, 27, 133, 181, 2, 49, 42, 3, 181, 1, 188, 42]
abbrev dktX5_harvests_2 : List UInt8 := dkwX5_harvests_2 ++ dktX5_harvests_3
def dkwX5_harvests_1 : List UInt8 := [184, 0, 153, 154, 0, 9, 42, 2, 182, 0, 142, 172, 42, 180, 0, 13, 3, 46, 154, 0, 10, 42, 16, 253]
abbrev dktX5_harvests_1 : List UInt8 := dkwX5_harvests_1 ++ dktX5_harvests_2
def dkwX5_harvests_0 : List UInt8 := [42, 3, 181, 0, 133, 27, 133, 9, 20, 1, 0, 184, 0, 153, 153, 0, 15, 28, 133, 10, 20, 2, 16]
abbrev dktX5_harvests_0 : List UInt8 := dkwX5_harvests_0 ++ dktX5_harvests_1
theorem dksX5_harvests_0 : cX5_harvests.data.toList.drop 0 = dktX5_harvests_0 := by decide +kernel
theorem dksX5_harvests_1 : cX5_harvests.data.toList.drop 23 = dktX5_harvests_1 := dk_seg dksX5_harvests_0 23 rfl rfl
theorem dksX5_harvests_2 : cX5_harvests.data.toList.drop 47 = dktX5_harvests_2 := dk_seg dksX5_harvests_1 24 rfl rfl
theorem dksX5_harvests_3 : cX5_harvests.data.toList.drop 69 = dktX5_harvests_3 := dk_seg dksX5_harvests_2 22 rfl rfl
theorem dksX5_harvests_4 : cX5_harvests.data.toList.drop 91 = dktX5_harvests_4 := dk_seg dksX5_harvests_3 22 rfl rfl
theorem dksX5_harvests_5 : cX5_harvests.data.toList.drop 113 = dktX5_harvests_5 := dk_seg dksX5_harvests_4 22 rfl rfl
theorem dksX5_harvests_6 : cX5_harvests.data.toList.drop 136 = dktX5_harvests_6 := dk_seg dksX5_harvests_5 23 rfl rfl
theorem dksX5_harvests_7 : cX5_harvests.data.toList.drop 160 = dktX5_harvests_7 := dk_seg dksX5_harvests_6 24 rfl rfl
theorem dksX5_harvests_8 : cX5_harvests.data.toList.drop 182 = dktX5_harvests_8 := dk_seg dksX5_harvests_7 22 rfl rfl
theorem dksX5_harvests_9 : cX5_harvests.data.toList.drop 206 = dktX5_harvests_9 := dk_seg dksX5_harvests_8 24 rfl rfl
theorem dX5_harvests_0 : decode cX5_harvests 0 = .ok (.aload_n 0, 1) := dk_42 (dk_at dksX5_harvests_0 0 rfl rfl)
theorem dX5_harvests_1 : decode cX5_harvests 1 = .ok (.iconst 0, 1) := dk_3 (dk_at dksX5_harvests_0 1 rfl rfl)
theorem dX5_harvests_2 : decode cX5_harvests 2 = .ok (.putfield 133, 3) := dk_181 0 133 (dk_at dksX5_harvests_0 2 rfl rfl)
theorem dX5_harvests_5 : decode cX5_harvests 5 = .ok (.iload_n 1, 1) := dk_27 (dk_at dksX5_harvests_0 5 rfl rfl)
theorem dX5_harvests_6 : decode cX5_harvests 6 = .ok (.i2l, 1) := dk_133 (dk_at dksX5_harvests_0 6 rfl rfl)
theorem dX5_harvests_7 : decode cX5_harvests 7 = .ok (.lconst 0, 1) := dk_9 (dk_at dksX5_harvests_0 7 rfl rfl)
theorem dX5_harvests_8 : decode cX5_harvests 8 = .ok (.ldc2_w 256, 3) := dk_20 1 0 (dk_at dksX5_harvests_0 8 rfl rfl)
theorem dX5_harvests_11 : decode cX5_harvests 11 = .ok (.invokestatic 153, 3) := dk_184 0 153 (dk_at dksX5_harvests_0 11 rfl rfl)
theorem dX5_harvests_14 : decode cX5_harvests 14 = .ok (.ifCond .eq 15, 3) := dk_153 0 15 (dk_at dksX5_harvests_0 14 rfl rfl)
theorem dX5_harvests_17 : decode cX5_harvests 17 = .ok (.iload_n 2, 1) := dk_28 (dk_at dksX5_harvests_0 17 rfl rfl)
theorem dX5_harvests_18 : decode cX5_harvests 18 = .ok (.i2l, 1) := dk_133 (dk_at dksX5_harvests_0 18 rfl rfl)
theorem dX5_harvests_19 : decode cX5_harvests 19 = .ok (.lconst 1, 1) := dk_10 (dk_at dksX5_harvests_0 19 rfl rfl)
theorem dX5_harvests_20 : decode cX5_harvests 20 = .ok (.ldc2_w 528, 3) := dk_20 2 16 (dk_at dksX5_harvests_0 20 rfl rfl)
theorem dX5_harvests_23 : decode cX5_harvests 23 = .ok (.invokestatic 153, 3) := dk_184 0 153 (dk_at dksX5_harvests_1 0 rfl rfl)
theorem dX5_harvests_26 : decode cX5_harvests 26 = .ok (.ifCond .ne 9, 3) := dk_154 0 9 (dk_at dksX5_harvests_1 3 rfl rfl)
theorem dX5_harvests_29 : decode cX5_harvests 29 = .ok (.aload_n 0, 1) := dk_42 (dk_at dksX5_harvests_1 6 rfl rfl)
theorem dX5_harvests_30 : decode cX5_harvests 30 = .ok (.iconst (-1), 1) := dk_2 (dk_at dksX5_harvests_1 7 rfl rfl)
theorem dX5_harvests_31 : decode cX5_harvests 31 = .ok (.invokevirtual 142, 3) := dk_182 0 142 (dk_at dksX5_harvests_1 8 rfl rfl)
theorem dX5_harvests_34 : decode cX5_harvests 34 = .ok (.ireturn, 1) := dk_172 (dk_at dksX5_harvests_1 11 rfl rfl)
theorem dX5_harvests_35 : decode cX5_harvests 35 = .ok (.aload_n 0, 1) := dk_42 (dk_at dksX5_harvests_1 12 rfl rfl)
theorem dX5_harvests_36 : decode cX5_harvests 36 = .ok (.getfield 13, 3) := dk_180 0 13 (dk_at dksX5_harvests_1 13 rfl rfl)
theorem dX5_harvests_39 : decode cX5_harvests 39 = .ok (.iconst 0, 1) := dk_3 (dk_at dksX5_harvests_1 16 rfl rfl)
theorem dX5_harvests_40 : decode cX5_harvests 40 = .ok (.iaload, 1) := dk_46 (dk_at dksX5_harvests_1 17 rfl rfl)
theorem dX5_harvests_41 : decode cX5_harvests 41 = .ok (.ifCond .ne 10, 3) := dk_154 0 10 (dk_at dksX5_harvests_1 18 rfl rfl)
theorem dX5_harvests_44 : decode cX5_harvests 44 = .ok (.aload_n 0, 1) := dk_42 (dk_at dksX5_harvests_1 21 rfl rfl)
theorem dX5_harvests_45 : decode cX5_harvests 45 = .ok (.bipush (-3), 2) := dk_16 253 (dk_at dksX5_harvests_1 22 rfl rfl)
theorem dX5_harvests_47 : decode cX5_harvests 47 = .ok (.invokevirtual 142, 3) := dk_182 0 142 (dk_at dksX5_harvests_2 0 rfl rfl)
theorem dX5_harvests_50 : decode cX5_harvests 50 = .ok (.ireturn, 1) := dk_172 (dk_at dksX5_harvests_2 3 rfl rfl)
theorem dX5_harvests_51 : decode cX5_harvests 51 = .ok (.aload_n 0, 1) := dk_42 (dk_at dksX5_harvests_2 4 rfl rfl)
theorem dX5_harvests_52 : decode cX5_harvests 52 = .ok (.bipush 16, 2) := dk_16 16 (dk_at dksX5_harvests_2 5 rfl rfl)
theorem dX5_harvests_54 : decode cX5_harvests 54 = .ok (.invokevirtual 146, 3) := dk_182 0 146 (dk_at dksX5_harvests_2 7 rfl rfl)
theorem dX5_harvests_57 : decode cX5_harvests 57 = .ok (.aload_n 0, 1) := dk_42 (dk_at dksX5_harvests_2 10 rfl rfl)
theorem dX5_harvests_58 : decode cX5_harvests 58 = .ok (.iload_n 1, 1) := dk_27 (dk_at dksX5_harvests_2 11 rfl rfl)
theorem dX5_harvests_59 : decode cX5_harvests 59 = .ok (.i2l, 1) := dk_133 (dk_at dksX5_harvests_2 12 rfl rfl)
theorem dX5_harvests_60 : decode cX5_harvests 60 = .ok (.putfield 561, 3) := dk_181 2 49 (dk_at dksX5_harvests_2 13 rfl rfl)
theorem dX5_harvests_63 : decode cX5_harvests 63 = .ok (.aload_n 0, 1) := dk_42 (dk_at dksX5_harvests_2 16 rfl rfl)
theorem dX5_harvests_64 : decode cX5_harvests 64 = .ok (.iconst 0, 1) := dk_3 (dk_at dksX5_harvests_2 17 rfl rfl)
theorem dX5_harvests_65 : decode cX5_harvests 65 = .ok (.putfield 444, 3) := dk_181 1 188 (dk_at dksX5_harvests_2 18 rfl rfl)
theorem dX5_harvests_68 : decode cX5_harvests 68 = .ok (.aload_n 0, 1) := dk_42 (dk_at dksX5_harvests_2 21 rfl rfl)
theorem dX5_harvests_69 : decode cX5_harvests 69 = .ok (.ldc_w 524, 3) := dk_19 2 12 (dk_at dksX5_harvests_3 0 rfl rfl)
theorem dX5_harvests_72 : decode cX5_harvests 72 = .ok (.putfield 447, 3) := dk_181 1 191 (dk_at dksX5_harvests_3 3 rfl rfl)
theorem dX5_harvests_75 : decode cX5_harvests 75 = .ok (.iconst 0, 1) := dk_3 (dk_at dksX5_harvests_3 6 rfl rfl)
theorem dX5_harvests_76 : decode cX5_harvests 76 = .ok (.istore_n 3, 1) := dk_62 (dk_at dksX5_harvests_3 7 rfl rfl)
theorem dX5_harvests_77 : decode cX5_harvests 77 = .ok (.iload_n 3, 1) := dk_29 (dk_at dksX5_harvests_3 8 rfl rfl)
theorem dX5_harvests_78 : decode cX5_harvests 78 = .ok (.iload_n 2, 1) := dk_28 (dk_at dksX5_harvests_3 9 rfl rfl)
theorem dX5_harvests_79 : decode cX5_harvests 79 = .ok (.if_icmp .ge 79, 3) := dk_162 0 79 (dk_at dksX5_harvests_3 10 rfl rfl)
theorem dX5_harvests_82 : decode cX5_harvests 82 = .ok (.aload_n 0, 1) := dk_42 (dk_at dksX5_harvests_3 13 rfl rfl)
theorem dX5_harvests_83 : decode cX5_harvests 83 = .ok (.getfield 13, 3) := dk_180 0 13 (dk_at dksX5_harvests_3 14 rfl rfl)
theorem dX5_harvests_86 : decode cX5_harvests 86 = .ok (.iconst 5, 1) := dk_8 (dk_at dksX5_harvests_3 17 rfl rfl)
theorem dX5_harvests_87 : decode cX5_harvests 87 = .ok (.iaload, 1) := dk_46 (dk_at dksX5_harvests_3 18 rfl rfl)
theorem dX5_harvests_88 : decode cX5_harvests 88 = .ok (.sipush 999, 3) := dk_17 3 231 (dk_at dksX5_harvests_3 19 rfl rfl)
theorem dX5_harvests_91 : decode cX5_harvests 91 = .ok (.if_icmp .ge 67, 3) := dk_162 0 67 (dk_at dksX5_harvests_4 0 rfl rfl)
theorem dX5_harvests_94 : decode cX5_harvests 94 = .ok (.aload_n 0, 1) := dk_42 (dk_at dksX5_harvests_4 3 rfl rfl)
theorem dX5_harvests_95 : decode cX5_harvests 95 = .ok (.aload_n 0, 1) := dk_42 (dk_at dksX5_harvests_4 4 rfl rfl)
theorem dX5_harvests_96 : decode cX5_harvests 96 = .ok (.getfield 13, 3) := dk_180 0 13 (dk_at dksX5_harvests_4 5 rfl rfl)
theorem dX5_harvests_99 : decode cX5_harvests 99 = .ok (.iconst 0, 1) := dk_3 (dk_at dksX5_harvests_4 8 rfl rfl)
theorem dX5_harvests_100 : decode cX5_harvests 100 = .ok (.iaload, 1) := dk_46 (dk_at dksX5_harvests_4 9 rfl rfl)
theorem dX5_harvests_101 : decode cX5_harvests 101 = .ok (.invokevirtual 570, 3) := dk_182 2 58 (dk_at dksX5_harvests_4 10 rfl rfl)
theorem dX5_harvests_104 : decode cX5_harvests 104 = .ok (.istore 4, 2) := dk_54 4 (dk_at dksX5_harvests_4 13 rfl rfl)
theorem dX5_harvests_106 : decode cX5_harvests 106 = .ok (.aload_n 0, 1) := dk_42 (dk_at dksX5_harvests_4 15 rfl rfl)
theorem dX5_harvests_107 : decode cX5_harvests 107 = .ok (.aload_n 0, 1) := dk_42 (dk_at dksX5_harvests_4 16 rfl rfl)
theorem dX5_harvests_108 : decode cX5_harvests 108 = .ok (.getfield 13, 3) := dk_180 0 13 (dk_at dksX5_harvests_4 17 rfl rfl)
theorem dX5_harvests_111 : decode cX5_harvests 111 = .ok (.iconst 0, 1) := dk_3 (dk_at dksX5_harvests_4 20 rfl rfl)
theorem dX5_harvests_112 : decode cX5_harvests 112 = .ok (.iaload, 1) := dk_46 (dk_at dksX5_harvests_4 21 rfl rfl)
theorem dX5_harvests_113 : decode cX5_harvests 113 = .ok (.invokevirtual 570, 3) := dk_182 2 58 (dk_at dksX5_harvests_5 0 rfl rfl)
theorem dX5_harvests_116 : decode cX5_harvests 116 = .ok (.istore 5, 2) := dk_54 5 (dk_at dksX5_harvests_5 3 rfl rfl)
theorem dX5_harvests_118 : decode cX5_harvests 118 = .ok (.aload_n 0, 1) := dk_42 (dk_at dksX5_harvests_5 5 rfl rfl)
theorem dX5_harvests_119 : decode cX5_harvests 119 = .ok (.bipush 9, 2) := dk_16 9 (dk_at dksX5_harvests_5 6 rfl rfl)
theorem dX5_harvests_121 : decode cX5_harvests 121 = .ok (.invokevirtual 570, 3) := dk_182 2 58 (dk_at dksX5_harvests_5 8 rfl rfl)
theorem dX5_harvests_124 : decode cX5_harvests 124 = .ok (.iconst 1, 1) := dk_4 (dk_at dksX5_harvests_5 11 rfl rfl)
theorem dX5_harvests_125 : decode cX5_harvests 125 = .ok (.iadd, 1) := dk_96 (dk_at dksX5_harvests_5 12 rfl rfl)
theorem dX5_harvests_126 : decode cX5_harvests 126 = .ok (.istore 6, 2) := dk_54 6 (dk_at dksX5_harvests_5 13 rfl rfl)
theorem dX5_harvests_128 : decode cX5_harvests 128 = .ok (.aload_n 0, 1) := dk_42 (dk_at dksX5_harvests_5 15 rfl rfl)
theorem dX5_harvests_129 : decode cX5_harvests 129 = .ok (.iconst 4, 1) := dk_7 (dk_at dksX5_harvests_5 16 rfl rfl)
theorem dX5_harvests_130 : decode cX5_harvests 130 = .ok (.invokevirtual 570, 3) := dk_182 2 58 (dk_at dksX5_harvests_5 17 rfl rfl)
theorem dX5_harvests_133 : decode cX5_harvests 133 = .ok (.istore 7, 2) := dk_54 7 (dk_at dksX5_harvests_5 20 rfl rfl)
theorem dX5_harvests_135 : decode cX5_harvests 135 = .ok (.aload_n 0, 1) := dk_42 (dk_at dksX5_harvests_5 22 rfl rfl)
theorem dX5_harvests_136 : decode cX5_harvests 136 = .ok (.iload 7, 2) := dk_21 7 (dk_at dksX5_harvests_6 0 rfl rfl)
theorem dX5_harvests_138 : decode cX5_harvests 138 = .ok (.iload 4, 2) := dk_21 4 (dk_at dksX5_harvests_6 2 rfl rfl)
theorem dX5_harvests_140 : decode cX5_harvests 140 = .ok (.iload 5, 2) := dk_21 5 (dk_at dksX5_harvests_6 4 rfl rfl)
theorem dX5_harvests_142 : decode cX5_harvests 142 = .ok (.iload 6, 2) := dk_21 6 (dk_at dksX5_harvests_6 6 rfl rfl)
theorem dX5_harvests_144 : decode cX5_harvests 144 = .ok (.invokevirtual 573, 3) := dk_182 2 61 (dk_at dksX5_harvests_6 8 rfl rfl)
theorem dX5_harvests_147 : decode cX5_harvests 147 = .ok (.aload_n 0, 1) := dk_42 (dk_at dksX5_harvests_6 11 rfl rfl)
theorem dX5_harvests_148 : decode cX5_harvests 148 = .ok (.invokevirtual 459, 3) := dk_182 1 203 (dk_at dksX5_harvests_6 12 rfl rfl)
theorem dX5_harvests_151 : decode cX5_harvests 151 = .ok (.pop, 1) := dk_87 (dk_at dksX5_harvests_6 15 rfl rfl)
theorem dX5_harvests_152 : decode cX5_harvests 152 = .ok (.iinc 3 1, 3) := dk_132 3 1 (dk_at dksX5_harvests_6 16 rfl rfl)
theorem dX5_harvests_155 : decode cX5_harvests 155 = .ok (.goto (-78), 3) := dk_167 255 178 (dk_at dksX5_harvests_6 19 rfl rfl)
theorem dX5_harvests_158 : decode cX5_harvests 158 = .ok (.iconst 0, 1) := dk_3 (dk_at dksX5_harvests_6 22 rfl rfl)
theorem dX5_harvests_159 : decode cX5_harvests 159 = .ok (.istore_n 3, 1) := dk_62 (dk_at dksX5_harvests_6 23 rfl rfl)
theorem dX5_harvests_160 : decode cX5_harvests 160 = .ok (.iload_n 3, 1) := dk_29 (dk_at dksX5_harvests_7 0 rfl rfl)
theorem dX5_harvests_161 : decode cX5_harvests 161 = .ok (.sipush 160, 3) := dk_17 0 160 (dk_at dksX5_harvests_7 1 rfl rfl)
theorem dX5_harvests_164 : decode cX5_harvests 164 = .ok (.if_icmp .ge 24, 3) := dk_162 0 24 (dk_at dksX5_harvests_7 4 rfl rfl)
theorem dX5_harvests_167 : decode cX5_harvests 167 = .ok (.aload_n 0, 1) := dk_42 (dk_at dksX5_harvests_7 7 rfl rfl)
theorem dX5_harvests_168 : decode cX5_harvests 168 = .ok (.getfield 127, 3) := dk_180 0 127 (dk_at dksX5_harvests_7 8 rfl rfl)
theorem dX5_harvests_171 : decode cX5_harvests 171 = .ok (.iload_n 3, 1) := dk_29 (dk_at dksX5_harvests_7 11 rfl rfl)
theorem dX5_harvests_172 : decode cX5_harvests 172 = .ok (.aload_n 0, 1) := dk_42 (dk_at dksX5_harvests_7 12 rfl rfl)
theorem dX5_harvests_173 : decode cX5_harvests 173 = .ok (.getfield 13, 3) := dk_180 0 13 (dk_at dksX5_harvests_7 13 rfl rfl)
theorem dX5_harvests_176 : decode cX5_harvests 176 = .ok (.bipush 10, 2) := dk_16 10 (dk_at dksX5_harvests_7 16 rfl rfl)
theorem dX5_harvests_178 : decode cX5_harvests 178 = .ok (.iload_n 3, 1) := dk_29 (dk_at dksX5_harvests_7 18 rfl rfl)
theorem dX5_harvests_179 : decode cX5_harvests 179 = .ok (.iadd, 1) := dk_96 (dk_at dksX5_harvests_7 19 rfl rfl)
theorem dX5_harvests_180 : decode cX5_harvests 180 = .ok (.iaload, 1) := dk_46 (dk_at dksX5_harvests_7 20 rfl rfl)
theorem dX5_harvests_181 : decode cX5_harvests 181 = .ok (.iastore, 1) := dk_79 (dk_at dksX5_harvests_7 21 rfl rfl)
theorem dX5_harvests_182 : decode cX5_harvests 182 = .ok (.iinc 3 1, 3) := dk_132 3 1 (dk_at dksX5_harvests_8 0 rfl rfl)
theorem dX5_harvests_185 : decode cX5_harvests 185 = .ok (.goto (-25), 3) := dk_167 255 231 (dk_at dksX5_harvests_8 3 rfl rfl)
theorem dX5_harvests_188 : decode cX5_harvests 188 = .ok (.aload_n 0, 1) := dk_42 (dk_at dksX5_harvests_8 6 rfl rfl)
theorem dX5_harvests_189 : decode cX5_harvests 189 = .ok (.aload_n 0, 1) := dk_42 (dk_at dksX5_harvests_8 7 rfl rfl)
theorem dX5_harvests_190 : decode cX5_harvests 190 = .ok (.getfield 13, 3) := dk_180 0 13 (dk_at dksX5_harvests_8 8 rfl rfl)
theorem dX5_harvests_193 : decode cX5_harvests 193 = .ok (.iconst 0, 1) := dk_3 (dk_at dksX5_harvests_8 11 rfl rfl)
theorem dX5_harvests_194 : decode cX5_harvests 194 = .ok (.iaload, 1) := dk_46 (dk_at dksX5_harvests_8 12 rfl rfl)
theorem dX5_harvests_195 : decode cX5_harvests 195 = .ok (.putfield 130, 3) := dk_181 0 130 (dk_at dksX5_harvests_8 13 rfl rfl)
theorem dX5_harvests_198 : decode cX5_harvests 198 = .ok (.aload_n 0, 1) := dk_42 (dk_at dksX5_harvests_8 16 rfl rfl)
theorem dX5_harvests_199 : decode cX5_harvests 199 = .ok (.bipush 16, 2) := dk_16 16 (dk_at dksX5_harvests_8 17 rfl rfl)
theorem dX5_harvests_201 : decode cX5_harvests 201 = .ok (.invokevirtual 150, 3) := dk_182 0 150 (dk_at dksX5_harvests_8 19 rfl rfl)
theorem dX5_harvests_204 : decode cX5_harvests 204 = .ok (.aload_n 0, 1) := dk_42 (dk_at dksX5_harvests_8 22 rfl rfl)
theorem dX5_harvests_205 : decode cX5_harvests 205 = .ok (.aload_n 0, 1) := dk_42 (dk_at dksX5_harvests_8 23 rfl rfl)
theorem dX5_harvests_206 : decode cX5_harvests 206 = .ok (.getfield 444, 3) := dk_180 1 188 (dk_at dksX5_harvests_9 0 rfl rfl)
theorem dX5_harvests_209 : decode cX5_harvests 209 = .ok (.invokevirtual 142, 3) := dk_182 0 142 (dk_at dksX5_harvests_9 3 rfl rfl)
theorem dX5_harvests_212 : decode cX5_harvests 212 = .ok (.ireturn, 1) := dk_172 (dk_at dksX5_harvests_9 6 rfl rfl)
abbrev cX5_draw : ByteArray := prog_23_method_123_code
def yX5_draw : MethodName := ⟨RX5, "draw", "(I)I"⟩
def dkwX5_draw_1 : List UInt8 := [27, 133, 113, 136, 172]
abbrev dktX5_draw_1 : List UInt8 := dkwX5_draw_1 ++ []
def dkwX5_draw_0 : List UInt8 := [42, 42, 180, 2, 49, 20, 2, 52, 105, 20, 2, 54, 97, 20, 2, 56, 113, 181, 2, 49, 42, 180, 2, 49]
abbrev dktX5_draw_0 : List UInt8 := dkwX5_draw_0 ++ dktX5_draw_1
theorem dksX5_draw_0 : cX5_draw.data.toList.drop 0 = dktX5_draw_0 := by decide +kernel
theorem dksX5_draw_1 : cX5_draw.data.toList.drop 24 = dktX5_draw_1 := dk_seg dksX5_draw_0 24 rfl rfl
theorem dX5_draw_0 : decode cX5_draw 0 = .ok (.aload_n 0, 1) := dk_42 (dk_at dksX5_draw_0 0 rfl rfl)
theorem dX5_draw_1 : decode cX5_draw 1 = .ok (.aload_n 0, 1) := dk_42 (dk_at dksX5_draw_0 1 rfl rfl)
theorem dX5_draw_2 : decode cX5_draw 2 = .ok (.getfield 561, 3) := dk_180 2 49 (dk_at dksX5_draw_0 2 rfl rfl)
theorem dX5_draw_5 : decode cX5_draw 5 = .ok (.ldc2_w 564, 3) := dk_20 2 52 (dk_at dksX5_draw_0 5 rfl rfl)
theorem dX5_draw_8 : decode cX5_draw 8 = .ok (.lmul, 1) := dk_105 (dk_at dksX5_draw_0 8 rfl rfl)
theorem dX5_draw_9 : decode cX5_draw 9 = .ok (.ldc2_w 566, 3) := dk_20 2 54 (dk_at dksX5_draw_0 9 rfl rfl)
theorem dX5_draw_12 : decode cX5_draw 12 = .ok (.ladd, 1) := dk_97 (dk_at dksX5_draw_0 12 rfl rfl)
theorem dX5_draw_13 : decode cX5_draw 13 = .ok (.ldc2_w 568, 3) := dk_20 2 56 (dk_at dksX5_draw_0 13 rfl rfl)
theorem dX5_draw_16 : decode cX5_draw 16 = .ok (.lrem, 1) := dk_113 (dk_at dksX5_draw_0 16 rfl rfl)
theorem dX5_draw_17 : decode cX5_draw 17 = .ok (.putfield 561, 3) := dk_181 2 49 (dk_at dksX5_draw_0 17 rfl rfl)
theorem dX5_draw_20 : decode cX5_draw 20 = .ok (.aload_n 0, 1) := dk_42 (dk_at dksX5_draw_0 20 rfl rfl)
theorem dX5_draw_21 : decode cX5_draw 21 = .ok (.getfield 561, 3) := dk_180 2 49 (dk_at dksX5_draw_0 21 rfl rfl)
theorem dX5_draw_24 : decode cX5_draw 24 = .ok (.iload_n 1, 1) := dk_27 (dk_at dksX5_draw_1 0 rfl rfl)
theorem dX5_draw_25 : decode cX5_draw 25 = .ok (.i2l, 1) := dk_133 (dk_at dksX5_draw_1 1 rfl rfl)
theorem dX5_draw_26 : decode cX5_draw 26 = .ok (.lrem, 1) := dk_113 (dk_at dksX5_draw_1 2 rfl rfl)
theorem dX5_draw_27 : decode cX5_draw 27 = .ok (.l2i, 1) := dk_136 (dk_at dksX5_draw_1 3 rfl rfl)
theorem dX5_draw_28 : decode cX5_draw 28 = .ok (.ireturn, 1) := dk_172 (dk_at dksX5_draw_1 4 rfl rfl)
abbrev cX5_drawnAct : ByteArray := prog_23_method_124_code
def yX5_drawnAct : MethodName := ⟨RX5, "drawnAct", "(IIII)V"⟩
def dkwX5_drawnAct_2 : List UInt8 := [5, 160, 0, 21, 42, 28, 21, 4, 182, 1, 194, 154, 0, 11, 42, 28, 21, 4, 182, 1, 197, 87, 177]
abbrev dktX5_drawnAct_2 : List UInt8 := dkwX5_drawnAct_2 ++ []
def dkwX5_drawnAct_1 : List UInt8 := [160, 0, 23, 42, 28, 29, 21, 4, 182, 1, 177, 154, 0, 12, 42, 28, 29, 21, 4, 182, 1, 181, 87, 27]
abbrev dktX5_drawnAct_1 : List UInt8 := dkwX5_drawnAct_1 ++ dktX5_drawnAct_2
def dkwX5_drawnAct_0 : List UInt8 := [27, 154, 0, 21, 42, 28, 21, 4, 182, 1, 162, 154, 0, 11, 42, 28, 21, 4, 182, 1, 168, 87, 27, 4]
abbrev dktX5_drawnAct_0 : List UInt8 := dkwX5_drawnAct_0 ++ dktX5_drawnAct_1
theorem dksX5_drawnAct_0 : cX5_drawnAct.data.toList.drop 0 = dktX5_drawnAct_0 := by decide +kernel
theorem dksX5_drawnAct_1 : cX5_drawnAct.data.toList.drop 24 = dktX5_drawnAct_1 := dk_seg dksX5_drawnAct_0 24 rfl rfl
theorem dksX5_drawnAct_2 : cX5_drawnAct.data.toList.drop 48 = dktX5_drawnAct_2 := dk_seg dksX5_drawnAct_1 24 rfl rfl
theorem dX5_drawnAct_0 : decode cX5_drawnAct 0 = .ok (.iload_n 1, 1) := dk_27 (dk_at dksX5_drawnAct_0 0 rfl rfl)
theorem dX5_drawnAct_1 : decode cX5_drawnAct 1 = .ok (.ifCond .ne 21, 3) := dk_154 0 21 (dk_at dksX5_drawnAct_0 1 rfl rfl)
theorem dX5_drawnAct_4 : decode cX5_drawnAct 4 = .ok (.aload_n 0, 1) := dk_42 (dk_at dksX5_drawnAct_0 4 rfl rfl)
theorem dX5_drawnAct_5 : decode cX5_drawnAct 5 = .ok (.iload_n 2, 1) := dk_28 (dk_at dksX5_drawnAct_0 5 rfl rfl)
theorem dX5_drawnAct_6 : decode cX5_drawnAct 6 = .ok (.iload 4, 2) := dk_21 4 (dk_at dksX5_drawnAct_0 6 rfl rfl)
theorem dX5_drawnAct_8 : decode cX5_drawnAct 8 = .ok (.invokevirtual 418, 3) := dk_182 1 162 (dk_at dksX5_drawnAct_0 8 rfl rfl)
theorem dX5_drawnAct_11 : decode cX5_drawnAct 11 = .ok (.ifCond .ne 11, 3) := dk_154 0 11 (dk_at dksX5_drawnAct_0 11 rfl rfl)
theorem dX5_drawnAct_14 : decode cX5_drawnAct 14 = .ok (.aload_n 0, 1) := dk_42 (dk_at dksX5_drawnAct_0 14 rfl rfl)
theorem dX5_drawnAct_15 : decode cX5_drawnAct 15 = .ok (.iload_n 2, 1) := dk_28 (dk_at dksX5_drawnAct_0 15 rfl rfl)
theorem dX5_drawnAct_16 : decode cX5_drawnAct 16 = .ok (.iload 4, 2) := dk_21 4 (dk_at dksX5_drawnAct_0 16 rfl rfl)
theorem dX5_drawnAct_18 : decode cX5_drawnAct 18 = .ok (.invokevirtual 424, 3) := dk_182 1 168 (dk_at dksX5_drawnAct_0 18 rfl rfl)
theorem dX5_drawnAct_21 : decode cX5_drawnAct 21 = .ok (.pop, 1) := dk_87 (dk_at dksX5_drawnAct_0 21 rfl rfl)
theorem dX5_drawnAct_22 : decode cX5_drawnAct 22 = .ok (.iload_n 1, 1) := dk_27 (dk_at dksX5_drawnAct_0 22 rfl rfl)
theorem dX5_drawnAct_23 : decode cX5_drawnAct 23 = .ok (.iconst 1, 1) := dk_4 (dk_at dksX5_drawnAct_0 23 rfl rfl)
theorem dX5_drawnAct_24 : decode cX5_drawnAct 24 = .ok (.if_icmp .ne 23, 3) := dk_160 0 23 (dk_at dksX5_drawnAct_1 0 rfl rfl)
theorem dX5_drawnAct_27 : decode cX5_drawnAct 27 = .ok (.aload_n 0, 1) := dk_42 (dk_at dksX5_drawnAct_1 3 rfl rfl)
theorem dX5_drawnAct_28 : decode cX5_drawnAct 28 = .ok (.iload_n 2, 1) := dk_28 (dk_at dksX5_drawnAct_1 4 rfl rfl)
theorem dX5_drawnAct_29 : decode cX5_drawnAct 29 = .ok (.iload_n 3, 1) := dk_29 (dk_at dksX5_drawnAct_1 5 rfl rfl)
theorem dX5_drawnAct_30 : decode cX5_drawnAct 30 = .ok (.iload 4, 2) := dk_21 4 (dk_at dksX5_drawnAct_1 6 rfl rfl)
theorem dX5_drawnAct_32 : decode cX5_drawnAct 32 = .ok (.invokevirtual 433, 3) := dk_182 1 177 (dk_at dksX5_drawnAct_1 8 rfl rfl)
theorem dX5_drawnAct_35 : decode cX5_drawnAct 35 = .ok (.ifCond .ne 12, 3) := dk_154 0 12 (dk_at dksX5_drawnAct_1 11 rfl rfl)
theorem dX5_drawnAct_38 : decode cX5_drawnAct 38 = .ok (.aload_n 0, 1) := dk_42 (dk_at dksX5_drawnAct_1 14 rfl rfl)
theorem dX5_drawnAct_39 : decode cX5_drawnAct 39 = .ok (.iload_n 2, 1) := dk_28 (dk_at dksX5_drawnAct_1 15 rfl rfl)
theorem dX5_drawnAct_40 : decode cX5_drawnAct 40 = .ok (.iload_n 3, 1) := dk_29 (dk_at dksX5_drawnAct_1 16 rfl rfl)
theorem dX5_drawnAct_41 : decode cX5_drawnAct 41 = .ok (.iload 4, 2) := dk_21 4 (dk_at dksX5_drawnAct_1 17 rfl rfl)
theorem dX5_drawnAct_43 : decode cX5_drawnAct 43 = .ok (.invokevirtual 437, 3) := dk_182 1 181 (dk_at dksX5_drawnAct_1 19 rfl rfl)
theorem dX5_drawnAct_46 : decode cX5_drawnAct 46 = .ok (.pop, 1) := dk_87 (dk_at dksX5_drawnAct_1 22 rfl rfl)
theorem dX5_drawnAct_47 : decode cX5_drawnAct 47 = .ok (.iload_n 1, 1) := dk_27 (dk_at dksX5_drawnAct_1 23 rfl rfl)
theorem dX5_drawnAct_48 : decode cX5_drawnAct 48 = .ok (.iconst 2, 1) := dk_5 (dk_at dksX5_drawnAct_2 0 rfl rfl)
theorem dX5_drawnAct_49 : decode cX5_drawnAct 49 = .ok (.if_icmp .ne 21, 3) := dk_160 0 21 (dk_at dksX5_drawnAct_2 1 rfl rfl)
theorem dX5_drawnAct_52 : decode cX5_drawnAct 52 = .ok (.aload_n 0, 1) := dk_42 (dk_at dksX5_drawnAct_2 4 rfl rfl)
theorem dX5_drawnAct_53 : decode cX5_drawnAct 53 = .ok (.iload_n 2, 1) := dk_28 (dk_at dksX5_drawnAct_2 5 rfl rfl)
theorem dX5_drawnAct_54 : decode cX5_drawnAct 54 = .ok (.iload 4, 2) := dk_21 4 (dk_at dksX5_drawnAct_2 6 rfl rfl)
theorem dX5_drawnAct_56 : decode cX5_drawnAct 56 = .ok (.invokevirtual 450, 3) := dk_182 1 194 (dk_at dksX5_drawnAct_2 8 rfl rfl)
theorem dX5_drawnAct_59 : decode cX5_drawnAct 59 = .ok (.ifCond .ne 11, 3) := dk_154 0 11 (dk_at dksX5_drawnAct_2 11 rfl rfl)
theorem dX5_drawnAct_62 : decode cX5_drawnAct 62 = .ok (.aload_n 0, 1) := dk_42 (dk_at dksX5_drawnAct_2 14 rfl rfl)
theorem dX5_drawnAct_63 : decode cX5_drawnAct 63 = .ok (.iload_n 2, 1) := dk_28 (dk_at dksX5_drawnAct_2 15 rfl rfl)
theorem dX5_drawnAct_64 : decode cX5_drawnAct 64 = .ok (.iload 4, 2) := dk_21 4 (dk_at dksX5_drawnAct_2 16 rfl rfl)
theorem dX5_drawnAct_66 : decode cX5_drawnAct 66 = .ok (.invokevirtual 453, 3) := dk_182 1 197 (dk_at dksX5_drawnAct_2 18 rfl rfl)
theorem dX5_drawnAct_69 : decode cX5_drawnAct 69 = .ok (.pop, 1) := dk_87 (dk_at dksX5_drawnAct_2 21 rfl rfl)
theorem dX5_drawnAct_70 : decode cX5_drawnAct 70 = .ok (.return_, 1) := dk_177 (dk_at dksX5_drawnAct_2 22 rfl rfl)
abbrev cX5_drawn : ByteArray := prog_23_method_126_code
def yX5_drawn : MethodName := ⟨RX5, "drawn", "(II)I"⟩
def dkwX5_drawn_4 : List UInt8 := [154, 0, 7, 29, 167, 0, 17, 29, 154, 0, 7, 2, 167, 0, 9, 22, 4, 29, 133, 109, 136, 172]
abbrev dktX5_drawn_4 : List UInt8 := dkwX5_drawn_4 ++ []
def dkwX5_drawn_3 : List UInt8 := [42, 180, 0, 127, 16, 20, 27, 104, 21, 6, 96, 46, 133, 105, 97, 55, 4, 132, 6, 1, 167, 255, 205, 28]
abbrev dktX5_drawn_3 : List UInt8 := dkwX5_drawn_3 ++ dktX5_drawn_4
def dkwX5_drawn_2 : List UInt8 := [29, 42, 180, 0, 127, 16, 20, 27, 104, 21, 6, 96, 46, 96, 62, 22, 4, 20, 0, 164, 21, 6, 133, 105]
abbrev dktX5_drawn_2 : List UInt8 := dkwX5_drawn_2 ++ dktX5_drawn_3
def dkwX5_drawn_1 : List UInt8 := [10, 184, 0, 153, 154, 0, 5, 2, 172, 3, 62, 9, 55, 4, 3, 54, 6, 21, 6, 16, 20, 162, 0, 50]
abbrev dktX5_drawn_1 : List UInt8 := dkwX5_drawn_1 ++ dktX5_drawn_2
def dkwX5_drawn_0 : List UInt8 := [42, 3, 181, 0, 133, 27, 133, 9, 42, 180, 0, 130, 133, 10, 101, 184, 0, 153, 153, 0, 13, 28, 133, 9]
abbrev dktX5_drawn_0 : List UInt8 := dkwX5_drawn_0 ++ dktX5_drawn_1
theorem dksX5_drawn_0 : cX5_drawn.data.toList.drop 0 = dktX5_drawn_0 := by decide +kernel
theorem dksX5_drawn_1 : cX5_drawn.data.toList.drop 24 = dktX5_drawn_1 := dk_seg dksX5_drawn_0 24 rfl rfl
theorem dksX5_drawn_2 : cX5_drawn.data.toList.drop 48 = dktX5_drawn_2 := dk_seg dksX5_drawn_1 24 rfl rfl
theorem dksX5_drawn_3 : cX5_drawn.data.toList.drop 72 = dktX5_drawn_3 := dk_seg dksX5_drawn_2 24 rfl rfl
theorem dksX5_drawn_4 : cX5_drawn.data.toList.drop 96 = dktX5_drawn_4 := dk_seg dksX5_drawn_3 24 rfl rfl
theorem dX5_drawn_0 : decode cX5_drawn 0 = .ok (.aload_n 0, 1) := dk_42 (dk_at dksX5_drawn_0 0 rfl rfl)
theorem dX5_drawn_1 : decode cX5_drawn 1 = .ok (.iconst 0, 1) := dk_3 (dk_at dksX5_drawn_0 1 rfl rfl)
theorem dX5_drawn_2 : decode cX5_drawn 2 = .ok (.putfield 133, 3) := dk_181 0 133 (dk_at dksX5_drawn_0 2 rfl rfl)
theorem dX5_drawn_5 : decode cX5_drawn 5 = .ok (.iload_n 1, 1) := dk_27 (dk_at dksX5_drawn_0 5 rfl rfl)
theorem dX5_drawn_6 : decode cX5_drawn 6 = .ok (.i2l, 1) := dk_133 (dk_at dksX5_drawn_0 6 rfl rfl)
theorem dX5_drawn_7 : decode cX5_drawn 7 = .ok (.lconst 0, 1) := dk_9 (dk_at dksX5_drawn_0 7 rfl rfl)
theorem dX5_drawn_8 : decode cX5_drawn 8 = .ok (.aload_n 0, 1) := dk_42 (dk_at dksX5_drawn_0 8 rfl rfl)
theorem dX5_drawn_9 : decode cX5_drawn 9 = .ok (.getfield 130, 3) := dk_180 0 130 (dk_at dksX5_drawn_0 9 rfl rfl)
theorem dX5_drawn_12 : decode cX5_drawn 12 = .ok (.i2l, 1) := dk_133 (dk_at dksX5_drawn_0 12 rfl rfl)
theorem dX5_drawn_13 : decode cX5_drawn 13 = .ok (.lconst 1, 1) := dk_10 (dk_at dksX5_drawn_0 13 rfl rfl)
theorem dX5_drawn_14 : decode cX5_drawn 14 = .ok (.lsub, 1) := dk_101 (dk_at dksX5_drawn_0 14 rfl rfl)
theorem dX5_drawn_15 : decode cX5_drawn 15 = .ok (.invokestatic 153, 3) := dk_184 0 153 (dk_at dksX5_drawn_0 15 rfl rfl)
theorem dX5_drawn_18 : decode cX5_drawn 18 = .ok (.ifCond .eq 13, 3) := dk_153 0 13 (dk_at dksX5_drawn_0 18 rfl rfl)
theorem dX5_drawn_21 : decode cX5_drawn 21 = .ok (.iload_n 2, 1) := dk_28 (dk_at dksX5_drawn_0 21 rfl rfl)
theorem dX5_drawn_22 : decode cX5_drawn 22 = .ok (.i2l, 1) := dk_133 (dk_at dksX5_drawn_0 22 rfl rfl)
theorem dX5_drawn_23 : decode cX5_drawn 23 = .ok (.lconst 0, 1) := dk_9 (dk_at dksX5_drawn_0 23 rfl rfl)
theorem dX5_drawn_24 : decode cX5_drawn 24 = .ok (.lconst 1, 1) := dk_10 (dk_at dksX5_drawn_1 0 rfl rfl)
theorem dX5_drawn_25 : decode cX5_drawn 25 = .ok (.invokestatic 153, 3) := dk_184 0 153 (dk_at dksX5_drawn_1 1 rfl rfl)
theorem dX5_drawn_28 : decode cX5_drawn 28 = .ok (.ifCond .ne 5, 3) := dk_154 0 5 (dk_at dksX5_drawn_1 4 rfl rfl)
theorem dX5_drawn_31 : decode cX5_drawn 31 = .ok (.iconst (-1), 1) := dk_2 (dk_at dksX5_drawn_1 7 rfl rfl)
theorem dX5_drawn_32 : decode cX5_drawn 32 = .ok (.ireturn, 1) := dk_172 (dk_at dksX5_drawn_1 8 rfl rfl)
theorem dX5_drawn_33 : decode cX5_drawn 33 = .ok (.iconst 0, 1) := dk_3 (dk_at dksX5_drawn_1 9 rfl rfl)
theorem dX5_drawn_34 : decode cX5_drawn 34 = .ok (.istore_n 3, 1) := dk_62 (dk_at dksX5_drawn_1 10 rfl rfl)
theorem dX5_drawn_35 : decode cX5_drawn 35 = .ok (.lconst 0, 1) := dk_9 (dk_at dksX5_drawn_1 11 rfl rfl)
theorem dX5_drawn_36 : decode cX5_drawn 36 = .ok (.lstore 4, 2) := dk_55 4 (dk_at dksX5_drawn_1 12 rfl rfl)
theorem dX5_drawn_38 : decode cX5_drawn 38 = .ok (.iconst 0, 1) := dk_3 (dk_at dksX5_drawn_1 14 rfl rfl)
theorem dX5_drawn_39 : decode cX5_drawn 39 = .ok (.istore 6, 2) := dk_54 6 (dk_at dksX5_drawn_1 15 rfl rfl)
theorem dX5_drawn_41 : decode cX5_drawn 41 = .ok (.iload 6, 2) := dk_21 6 (dk_at dksX5_drawn_1 17 rfl rfl)
theorem dX5_drawn_43 : decode cX5_drawn 43 = .ok (.bipush 20, 2) := dk_16 20 (dk_at dksX5_drawn_1 19 rfl rfl)
theorem dX5_drawn_45 : decode cX5_drawn 45 = .ok (.if_icmp .ge 50, 3) := dk_162 0 50 (dk_at dksX5_drawn_1 21 rfl rfl)
theorem dX5_drawn_48 : decode cX5_drawn 48 = .ok (.iload_n 3, 1) := dk_29 (dk_at dksX5_drawn_2 0 rfl rfl)
theorem dX5_drawn_49 : decode cX5_drawn 49 = .ok (.aload_n 0, 1) := dk_42 (dk_at dksX5_drawn_2 1 rfl rfl)
theorem dX5_drawn_50 : decode cX5_drawn 50 = .ok (.getfield 127, 3) := dk_180 0 127 (dk_at dksX5_drawn_2 2 rfl rfl)
theorem dX5_drawn_53 : decode cX5_drawn 53 = .ok (.bipush 20, 2) := dk_16 20 (dk_at dksX5_drawn_2 5 rfl rfl)
theorem dX5_drawn_55 : decode cX5_drawn 55 = .ok (.iload_n 1, 1) := dk_27 (dk_at dksX5_drawn_2 7 rfl rfl)
theorem dX5_drawn_56 : decode cX5_drawn 56 = .ok (.imul, 1) := dk_104 (dk_at dksX5_drawn_2 8 rfl rfl)
theorem dX5_drawn_57 : decode cX5_drawn 57 = .ok (.iload 6, 2) := dk_21 6 (dk_at dksX5_drawn_2 9 rfl rfl)
theorem dX5_drawn_59 : decode cX5_drawn 59 = .ok (.iadd, 1) := dk_96 (dk_at dksX5_drawn_2 11 rfl rfl)
theorem dX5_drawn_60 : decode cX5_drawn 60 = .ok (.iaload, 1) := dk_46 (dk_at dksX5_drawn_2 12 rfl rfl)
theorem dX5_drawn_61 : decode cX5_drawn 61 = .ok (.iadd, 1) := dk_96 (dk_at dksX5_drawn_2 13 rfl rfl)
theorem dX5_drawn_62 : decode cX5_drawn 62 = .ok (.istore_n 3, 1) := dk_62 (dk_at dksX5_drawn_2 14 rfl rfl)
theorem dX5_drawn_63 : decode cX5_drawn 63 = .ok (.lload 4, 2) := dk_22 4 (dk_at dksX5_drawn_2 15 rfl rfl)
theorem dX5_drawn_65 : decode cX5_drawn 65 = .ok (.ldc2_w 164, 3) := dk_20 0 164 (dk_at dksX5_drawn_2 17 rfl rfl)
theorem dX5_drawn_68 : decode cX5_drawn 68 = .ok (.iload 6, 2) := dk_21 6 (dk_at dksX5_drawn_2 20 rfl rfl)
theorem dX5_drawn_70 : decode cX5_drawn 70 = .ok (.i2l, 1) := dk_133 (dk_at dksX5_drawn_2 22 rfl rfl)
theorem dX5_drawn_71 : decode cX5_drawn 71 = .ok (.lmul, 1) := dk_105 (dk_at dksX5_drawn_2 23 rfl rfl)
theorem dX5_drawn_72 : decode cX5_drawn 72 = .ok (.aload_n 0, 1) := dk_42 (dk_at dksX5_drawn_3 0 rfl rfl)
theorem dX5_drawn_73 : decode cX5_drawn 73 = .ok (.getfield 127, 3) := dk_180 0 127 (dk_at dksX5_drawn_3 1 rfl rfl)
theorem dX5_drawn_76 : decode cX5_drawn 76 = .ok (.bipush 20, 2) := dk_16 20 (dk_at dksX5_drawn_3 4 rfl rfl)
theorem dX5_drawn_78 : decode cX5_drawn 78 = .ok (.iload_n 1, 1) := dk_27 (dk_at dksX5_drawn_3 6 rfl rfl)
theorem dX5_drawn_79 : decode cX5_drawn 79 = .ok (.imul, 1) := dk_104 (dk_at dksX5_drawn_3 7 rfl rfl)
theorem dX5_drawn_80 : decode cX5_drawn 80 = .ok (.iload 6, 2) := dk_21 6 (dk_at dksX5_drawn_3 8 rfl rfl)
theorem dX5_drawn_82 : decode cX5_drawn 82 = .ok (.iadd, 1) := dk_96 (dk_at dksX5_drawn_3 10 rfl rfl)
theorem dX5_drawn_83 : decode cX5_drawn 83 = .ok (.iaload, 1) := dk_46 (dk_at dksX5_drawn_3 11 rfl rfl)
theorem dX5_drawn_84 : decode cX5_drawn 84 = .ok (.i2l, 1) := dk_133 (dk_at dksX5_drawn_3 12 rfl rfl)
theorem dX5_drawn_85 : decode cX5_drawn 85 = .ok (.lmul, 1) := dk_105 (dk_at dksX5_drawn_3 13 rfl rfl)
theorem dX5_drawn_86 : decode cX5_drawn 86 = .ok (.ladd, 1) := dk_97 (dk_at dksX5_drawn_3 14 rfl rfl)
theorem dX5_drawn_87 : decode cX5_drawn 87 = .ok (.lstore 4, 2) := dk_55 4 (dk_at dksX5_drawn_3 15 rfl rfl)
theorem dX5_drawn_89 : decode cX5_drawn 89 = .ok (.iinc 6 1, 3) := dk_132 6 1 (dk_at dksX5_drawn_3 17 rfl rfl)
theorem dX5_drawn_92 : decode cX5_drawn 92 = .ok (.goto (-51), 3) := dk_167 255 205 (dk_at dksX5_drawn_3 20 rfl rfl)
theorem dX5_drawn_95 : decode cX5_drawn 95 = .ok (.iload_n 2, 1) := dk_28 (dk_at dksX5_drawn_3 23 rfl rfl)
theorem dX5_drawn_96 : decode cX5_drawn 96 = .ok (.ifCond .ne 7, 3) := dk_154 0 7 (dk_at dksX5_drawn_4 0 rfl rfl)
theorem dX5_drawn_99 : decode cX5_drawn 99 = .ok (.iload_n 3, 1) := dk_29 (dk_at dksX5_drawn_4 3 rfl rfl)
theorem dX5_drawn_100 : decode cX5_drawn 100 = .ok (.goto 17, 3) := dk_167 0 17 (dk_at dksX5_drawn_4 4 rfl rfl)
theorem dX5_drawn_103 : decode cX5_drawn 103 = .ok (.iload_n 3, 1) := dk_29 (dk_at dksX5_drawn_4 7 rfl rfl)
theorem dX5_drawn_104 : decode cX5_drawn 104 = .ok (.ifCond .ne 7, 3) := dk_154 0 7 (dk_at dksX5_drawn_4 8 rfl rfl)
theorem dX5_drawn_107 : decode cX5_drawn 107 = .ok (.iconst (-1), 1) := dk_2 (dk_at dksX5_drawn_4 11 rfl rfl)
theorem dX5_drawn_108 : decode cX5_drawn 108 = .ok (.goto 9, 3) := dk_167 0 9 (dk_at dksX5_drawn_4 12 rfl rfl)
theorem dX5_drawn_111 : decode cX5_drawn 111 = .ok (.lload 4, 2) := dk_22 4 (dk_at dksX5_drawn_4 15 rfl rfl)
theorem dX5_drawn_113 : decode cX5_drawn 113 = .ok (.iload_n 3, 1) := dk_29 (dk_at dksX5_drawn_4 17 rfl rfl)
theorem dX5_drawn_114 : decode cX5_drawn 114 = .ok (.i2l, 1) := dk_133 (dk_at dksX5_drawn_4 18 rfl rfl)
theorem dX5_drawn_115 : decode cX5_drawn 115 = .ok (.ldiv, 1) := dk_109 (dk_at dksX5_drawn_4 19 rfl rfl)
theorem dX5_drawn_116 : decode cX5_drawn 116 = .ok (.l2i, 1) := dk_136 (dk_at dksX5_drawn_4 20 rfl rfl)
theorem dX5_drawn_117 : decode cX5_drawn 117 = .ok (.ireturn, 1) := dk_172 (dk_at dksX5_drawn_4 21 rfl rfl)
abbrev cX5_count : ByteArray := prog_23_method_127_code
def yX5_count : MethodName := ⟨RX5, "count", "(I)I"⟩
def dkwX5_count_7 : List UInt8 := [172]
abbrev dktX5_count_7 : List UInt8 := dkwX5_count_7 ++ []
def dkwX5_count_6 : List UInt8 := [20, 2, 67, 184, 0, 153, 153, 0, 17, 42, 180, 0, 13, 8, 27, 96, 16, 13, 100, 46, 167, 0, 4, 2]
abbrev dktX5_count_6 : List UInt8 := dkwX5_count_6 ++ dktX5_count_7
def dkwX5_count_5 : List UInt8 := [8, 46, 172, 42, 180, 0, 7, 16, 6, 46, 172, 42, 180, 0, 13, 7, 46, 172, 27, 133, 20, 2, 65]
abbrev dktX5_count_5 : List UInt8 := dkwX5_count_5 ++ dktX5_count_6
def dkwX5_count_4 : List UInt8 := [180, 0, 7, 4, 46, 172, 42, 180, 0, 7, 5, 46, 172, 42, 180, 0, 7, 6, 46, 172, 42, 180, 0, 7]
abbrev dktX5_count_4 : List UInt8 := dkwX5_count_4 ++ dktX5_count_5
def dkwX5_count_3 : List UInt8 := [180, 0, 13, 5, 46, 172, 42, 180, 0, 13, 6, 46, 172, 42, 180, 0, 139, 172, 42, 180, 0, 217, 172, 42]
abbrev dktX5_count_3 : List UInt8 := dkwX5_count_3 ++ dktX5_count_4
def dkwX5_count_2 : List UInt8 := [42, 180, 0, 13, 3, 46, 172, 42, 180, 0, 13, 16, 9, 46, 172, 42, 180, 0, 13, 4, 46, 172, 42]
abbrev dktX5_count_2 : List UInt8 := dkwX5_count_2 ++ dktX5_count_3
def dkwX5_count_1 : List UInt8 := [170, 0, 0, 0, 0, 155, 0, 0, 0, 0, 0, 0, 0, 12, 0, 0, 0, 66, 0, 0, 0, 73, 0, 0, 0, 81, 0, 0, 0, 88, 0, 0, 0, 95, 0, 0, 0, 102, 0, 0, 0, 107, 0, 0, 0, 112, 0, 0, 0, 119, 0, 0, 0, 126, 0, 0, 0, 133, 0, 0, 0, 140, 0, 0, 0, 148]
abbrev dktX5_count_1 : List UInt8 := dkwX5_count_1 ++ dktX5_count_2
def dkwX5_count_0 : List UInt8 := [42, 3, 181, 0, 133, 27]
abbrev dktX5_count_0 : List UInt8 := dkwX5_count_0 ++ dktX5_count_1
theorem dksX5_count_0 : cX5_count.data.toList.drop 0 = dktX5_count_0 := by decide +kernel
theorem dksX5_count_1 : cX5_count.data.toList.drop 6 = dktX5_count_1 := dk_seg dksX5_count_0 6 rfl rfl
theorem dksX5_count_2 : cX5_count.data.toList.drop 72 = dktX5_count_2 := dk_seg dksX5_count_1 66 rfl rfl
theorem dksX5_count_3 : cX5_count.data.toList.drop 95 = dktX5_count_3 := dk_seg dksX5_count_2 23 rfl rfl
theorem dksX5_count_4 : cX5_count.data.toList.drop 119 = dktX5_count_4 := dk_seg dksX5_count_3 24 rfl rfl
theorem dksX5_count_5 : cX5_count.data.toList.drop 143 = dktX5_count_5 := dk_seg dksX5_count_4 24 rfl rfl
theorem dksX5_count_6 : cX5_count.data.toList.drop 166 = dktX5_count_6 := dk_seg dksX5_count_5 23 rfl rfl
theorem dksX5_count_7 : cX5_count.data.toList.drop 190 = dktX5_count_7 := dk_seg dksX5_count_6 24 rfl rfl
theorem dX5_count_0 : decode cX5_count 0 = .ok (.aload_n 0, 1) := dk_42 (dk_at dksX5_count_0 0 rfl rfl)
theorem dX5_count_1 : decode cX5_count 1 = .ok (.iconst 0, 1) := dk_3 (dk_at dksX5_count_0 1 rfl rfl)
theorem dX5_count_2 : decode cX5_count 2 = .ok (.putfield 133, 3) := dk_181 0 133 (dk_at dksX5_count_0 2 rfl rfl)
theorem dX5_count_5 : decode cX5_count 5 = .ok (.iload_n 1, 1) := dk_27 (dk_at dksX5_count_0 5 rfl rfl)
theorem dX5_count_6 : decode cX5_count 6 = .ok (.tableswitch 155 0 12 #[66, 73, 81, 88, 95, 102, 107, 112, 119, 126, 133, 140, 148], 66) := by decide +kernel
theorem dX5_count_72 : decode cX5_count 72 = .ok (.aload_n 0, 1) := dk_42 (dk_at dksX5_count_2 0 rfl rfl)
theorem dX5_count_73 : decode cX5_count 73 = .ok (.getfield 13, 3) := dk_180 0 13 (dk_at dksX5_count_2 1 rfl rfl)
theorem dX5_count_76 : decode cX5_count 76 = .ok (.iconst 0, 1) := dk_3 (dk_at dksX5_count_2 4 rfl rfl)
theorem dX5_count_77 : decode cX5_count 77 = .ok (.iaload, 1) := dk_46 (dk_at dksX5_count_2 5 rfl rfl)
theorem dX5_count_78 : decode cX5_count 78 = .ok (.ireturn, 1) := dk_172 (dk_at dksX5_count_2 6 rfl rfl)
theorem dX5_count_79 : decode cX5_count 79 = .ok (.aload_n 0, 1) := dk_42 (dk_at dksX5_count_2 7 rfl rfl)
theorem dX5_count_80 : decode cX5_count 80 = .ok (.getfield 13, 3) := dk_180 0 13 (dk_at dksX5_count_2 8 rfl rfl)
theorem dX5_count_83 : decode cX5_count 83 = .ok (.bipush 9, 2) := dk_16 9 (dk_at dksX5_count_2 11 rfl rfl)
theorem dX5_count_85 : decode cX5_count 85 = .ok (.iaload, 1) := dk_46 (dk_at dksX5_count_2 13 rfl rfl)
theorem dX5_count_86 : decode cX5_count 86 = .ok (.ireturn, 1) := dk_172 (dk_at dksX5_count_2 14 rfl rfl)
theorem dX5_count_87 : decode cX5_count 87 = .ok (.aload_n 0, 1) := dk_42 (dk_at dksX5_count_2 15 rfl rfl)
theorem dX5_count_88 : decode cX5_count 88 = .ok (.getfield 13, 3) := dk_180 0 13 (dk_at dksX5_count_2 16 rfl rfl)
theorem dX5_count_91 : decode cX5_count 91 = .ok (.iconst 1, 1) := dk_4 (dk_at dksX5_count_2 19 rfl rfl)
theorem dX5_count_92 : decode cX5_count 92 = .ok (.iaload, 1) := dk_46 (dk_at dksX5_count_2 20 rfl rfl)
theorem dX5_count_93 : decode cX5_count 93 = .ok (.ireturn, 1) := dk_172 (dk_at dksX5_count_2 21 rfl rfl)
theorem dX5_count_94 : decode cX5_count 94 = .ok (.aload_n 0, 1) := dk_42 (dk_at dksX5_count_2 22 rfl rfl)
theorem dX5_count_95 : decode cX5_count 95 = .ok (.getfield 13, 3) := dk_180 0 13 (dk_at dksX5_count_3 0 rfl rfl)
theorem dX5_count_98 : decode cX5_count 98 = .ok (.iconst 2, 1) := dk_5 (dk_at dksX5_count_3 3 rfl rfl)
theorem dX5_count_99 : decode cX5_count 99 = .ok (.iaload, 1) := dk_46 (dk_at dksX5_count_3 4 rfl rfl)
theorem dX5_count_100 : decode cX5_count 100 = .ok (.ireturn, 1) := dk_172 (dk_at dksX5_count_3 5 rfl rfl)
theorem dX5_count_101 : decode cX5_count 101 = .ok (.aload_n 0, 1) := dk_42 (dk_at dksX5_count_3 6 rfl rfl)
theorem dX5_count_102 : decode cX5_count 102 = .ok (.getfield 13, 3) := dk_180 0 13 (dk_at dksX5_count_3 7 rfl rfl)
theorem dX5_count_105 : decode cX5_count 105 = .ok (.iconst 3, 1) := dk_6 (dk_at dksX5_count_3 10 rfl rfl)
theorem dX5_count_106 : decode cX5_count 106 = .ok (.iaload, 1) := dk_46 (dk_at dksX5_count_3 11 rfl rfl)
theorem dX5_count_107 : decode cX5_count 107 = .ok (.ireturn, 1) := dk_172 (dk_at dksX5_count_3 12 rfl rfl)
theorem dX5_count_108 : decode cX5_count 108 = .ok (.aload_n 0, 1) := dk_42 (dk_at dksX5_count_3 13 rfl rfl)
theorem dX5_count_109 : decode cX5_count 109 = .ok (.getfield 139, 3) := dk_180 0 139 (dk_at dksX5_count_3 14 rfl rfl)
theorem dX5_count_112 : decode cX5_count 112 = .ok (.ireturn, 1) := dk_172 (dk_at dksX5_count_3 17 rfl rfl)
theorem dX5_count_113 : decode cX5_count 113 = .ok (.aload_n 0, 1) := dk_42 (dk_at dksX5_count_3 18 rfl rfl)
theorem dX5_count_114 : decode cX5_count 114 = .ok (.getfield 217, 3) := dk_180 0 217 (dk_at dksX5_count_3 19 rfl rfl)
theorem dX5_count_117 : decode cX5_count 117 = .ok (.ireturn, 1) := dk_172 (dk_at dksX5_count_3 22 rfl rfl)
theorem dX5_count_118 : decode cX5_count 118 = .ok (.aload_n 0, 1) := dk_42 (dk_at dksX5_count_3 23 rfl rfl)
theorem dX5_count_119 : decode cX5_count 119 = .ok (.getfield 7, 3) := dk_180 0 7 (dk_at dksX5_count_4 0 rfl rfl)
theorem dX5_count_122 : decode cX5_count 122 = .ok (.iconst 1, 1) := dk_4 (dk_at dksX5_count_4 3 rfl rfl)
theorem dX5_count_123 : decode cX5_count 123 = .ok (.iaload, 1) := dk_46 (dk_at dksX5_count_4 4 rfl rfl)
theorem dX5_count_124 : decode cX5_count 124 = .ok (.ireturn, 1) := dk_172 (dk_at dksX5_count_4 5 rfl rfl)
theorem dX5_count_125 : decode cX5_count 125 = .ok (.aload_n 0, 1) := dk_42 (dk_at dksX5_count_4 6 rfl rfl)
theorem dX5_count_126 : decode cX5_count 126 = .ok (.getfield 7, 3) := dk_180 0 7 (dk_at dksX5_count_4 7 rfl rfl)
theorem dX5_count_129 : decode cX5_count 129 = .ok (.iconst 2, 1) := dk_5 (dk_at dksX5_count_4 10 rfl rfl)
theorem dX5_count_130 : decode cX5_count 130 = .ok (.iaload, 1) := dk_46 (dk_at dksX5_count_4 11 rfl rfl)
theorem dX5_count_131 : decode cX5_count 131 = .ok (.ireturn, 1) := dk_172 (dk_at dksX5_count_4 12 rfl rfl)
theorem dX5_count_132 : decode cX5_count 132 = .ok (.aload_n 0, 1) := dk_42 (dk_at dksX5_count_4 13 rfl rfl)
theorem dX5_count_133 : decode cX5_count 133 = .ok (.getfield 7, 3) := dk_180 0 7 (dk_at dksX5_count_4 14 rfl rfl)
theorem dX5_count_136 : decode cX5_count 136 = .ok (.iconst 3, 1) := dk_6 (dk_at dksX5_count_4 17 rfl rfl)
theorem dX5_count_137 : decode cX5_count 137 = .ok (.iaload, 1) := dk_46 (dk_at dksX5_count_4 18 rfl rfl)
theorem dX5_count_138 : decode cX5_count 138 = .ok (.ireturn, 1) := dk_172 (dk_at dksX5_count_4 19 rfl rfl)
theorem dX5_count_139 : decode cX5_count 139 = .ok (.aload_n 0, 1) := dk_42 (dk_at dksX5_count_4 20 rfl rfl)
theorem dX5_count_140 : decode cX5_count 140 = .ok (.getfield 7, 3) := dk_180 0 7 (dk_at dksX5_count_4 21 rfl rfl)
theorem dX5_count_143 : decode cX5_count 143 = .ok (.iconst 5, 1) := dk_8 (dk_at dksX5_count_5 0 rfl rfl)
theorem dX5_count_144 : decode cX5_count 144 = .ok (.iaload, 1) := dk_46 (dk_at dksX5_count_5 1 rfl rfl)
theorem dX5_count_145 : decode cX5_count 145 = .ok (.ireturn, 1) := dk_172 (dk_at dksX5_count_5 2 rfl rfl)
theorem dX5_count_146 : decode cX5_count 146 = .ok (.aload_n 0, 1) := dk_42 (dk_at dksX5_count_5 3 rfl rfl)
theorem dX5_count_147 : decode cX5_count 147 = .ok (.getfield 7, 3) := dk_180 0 7 (dk_at dksX5_count_5 4 rfl rfl)
theorem dX5_count_150 : decode cX5_count 150 = .ok (.bipush 6, 2) := dk_16 6 (dk_at dksX5_count_5 7 rfl rfl)
theorem dX5_count_152 : decode cX5_count 152 = .ok (.iaload, 1) := dk_46 (dk_at dksX5_count_5 9 rfl rfl)
theorem dX5_count_153 : decode cX5_count 153 = .ok (.ireturn, 1) := dk_172 (dk_at dksX5_count_5 10 rfl rfl)
theorem dX5_count_154 : decode cX5_count 154 = .ok (.aload_n 0, 1) := dk_42 (dk_at dksX5_count_5 11 rfl rfl)
theorem dX5_count_155 : decode cX5_count 155 = .ok (.getfield 13, 3) := dk_180 0 13 (dk_at dksX5_count_5 12 rfl rfl)
theorem dX5_count_158 : decode cX5_count 158 = .ok (.iconst 4, 1) := dk_7 (dk_at dksX5_count_5 15 rfl rfl)
theorem dX5_count_159 : decode cX5_count 159 = .ok (.iaload, 1) := dk_46 (dk_at dksX5_count_5 16 rfl rfl)
theorem dX5_count_160 : decode cX5_count 160 = .ok (.ireturn, 1) := dk_172 (dk_at dksX5_count_5 17 rfl rfl)
theorem dX5_count_161 : decode cX5_count 161 = .ok (.iload_n 1, 1) := dk_27 (dk_at dksX5_count_5 18 rfl rfl)
theorem dX5_count_162 : decode cX5_count 162 = .ok (.i2l, 1) := dk_133 (dk_at dksX5_count_5 19 rfl rfl)
theorem dX5_count_163 : decode cX5_count 163 = .ok (.ldc2_w 577, 3) := dk_20 2 65 (dk_at dksX5_count_5 20 rfl rfl)
theorem dX5_count_166 : decode cX5_count 166 = .ok (.ldc2_w 579, 3) := dk_20 2 67 (dk_at dksX5_count_6 0 rfl rfl)
theorem dX5_count_169 : decode cX5_count 169 = .ok (.invokestatic 153, 3) := dk_184 0 153 (dk_at dksX5_count_6 3 rfl rfl)
theorem dX5_count_172 : decode cX5_count 172 = .ok (.ifCond .eq 17, 3) := dk_153 0 17 (dk_at dksX5_count_6 6 rfl rfl)
theorem dX5_count_175 : decode cX5_count 175 = .ok (.aload_n 0, 1) := dk_42 (dk_at dksX5_count_6 9 rfl rfl)
theorem dX5_count_176 : decode cX5_count 176 = .ok (.getfield 13, 3) := dk_180 0 13 (dk_at dksX5_count_6 10 rfl rfl)
theorem dX5_count_179 : decode cX5_count 179 = .ok (.iconst 5, 1) := dk_8 (dk_at dksX5_count_6 13 rfl rfl)
theorem dX5_count_180 : decode cX5_count 180 = .ok (.iload_n 1, 1) := dk_27 (dk_at dksX5_count_6 14 rfl rfl)
theorem dX5_count_181 : decode cX5_count 181 = .ok (.iadd, 1) := dk_96 (dk_at dksX5_count_6 15 rfl rfl)
theorem dX5_count_182 : decode cX5_count 182 = .ok (.bipush 13, 2) := dk_16 13 (dk_at dksX5_count_6 16 rfl rfl)
theorem dX5_count_184 : decode cX5_count 184 = .ok (.isub, 1) := dk_100 (dk_at dksX5_count_6 18 rfl rfl)
theorem dX5_count_185 : decode cX5_count 185 = .ok (.iaload, 1) := dk_46 (dk_at dksX5_count_6 19 rfl rfl)
theorem dX5_count_186 : decode cX5_count 186 = .ok (.goto 4, 3) := dk_167 0 4 (dk_at dksX5_count_6 20 rfl rfl)
theorem dX5_count_189 : decode cX5_count 189 = .ok (.iconst (-1), 1) := dk_2 (dk_at dksX5_count_6 23 rfl rfl)
theorem dX5_count_190 : decode cX5_count 190 = .ok (.ireturn, 1) := dk_172 (dk_at dksX5_count_7 0 rfl rfl)
abbrev cX5_status : ByteArray := prog_23_method_128_code
def yX5_status : MethodName := ⟨RX5, "status", "()I"⟩
def dkwX5_status_0 : List UInt8 := [42, 3, 181, 0, 133, 42, 180, 0, 136, 172]
abbrev dktX5_status_0 : List UInt8 := dkwX5_status_0 ++ []
theorem dksX5_status_0 : cX5_status.data.toList.drop 0 = dktX5_status_0 := by decide +kernel
theorem dX5_status_0 : decode cX5_status 0 = .ok (.aload_n 0, 1) := dk_42 (dk_at dksX5_status_0 0 rfl rfl)
theorem dX5_status_1 : decode cX5_status 1 = .ok (.iconst 0, 1) := dk_3 (dk_at dksX5_status_0 1 rfl rfl)
theorem dX5_status_2 : decode cX5_status 2 = .ok (.putfield 133, 3) := dk_181 0 133 (dk_at dksX5_status_0 2 rfl rfl)
theorem dX5_status_5 : decode cX5_status 5 = .ok (.aload_n 0, 1) := dk_42 (dk_at dksX5_status_0 5 rfl rfl)
theorem dX5_status_6 : decode cX5_status 6 = .ok (.getfield 136, 3) := dk_180 0 136 (dk_at dksX5_status_0 6 rfl rfl)
theorem dX5_status_9 : decode cX5_status 9 = .ok (.ireturn, 1) := dk_172 (dk_at dksX5_status_0 9 rfl rfl)
theorem q142 : (Jvm.Cond.initialized "SoleraCellarModel") ∈ lw_all := lw_g (lw_at lw_m1 11 rfl) rfl
theorem q505 : (Jvm.Cond.selects "SoleraCellarModel" ({ cls := "java/lang/Object", name := "getClass", desc := "()Ljava/lang/Class;" } : Jvm.MethodName) ({ cls := "java/lang/Object", name := "getClass", desc := "()Ljava/lang/Class;" } : Jvm.MethodName)) ∈ lw_all := lw_g (lw_at lw_m2 134 rfl) rfl
theorem q1503 : (Jvm.Cond.instantiable "SoleraCellarModel" (55 : Nat)) ∈ lw_all := lw_g (lw_at lw_m6 172 rfl) rfl
theorem q1505 : (Jvm.Cond.instanceMethod ({ cls := "SoleraCellarModel", name := "<init>", desc := "()V" } : Jvm.MethodName)) ∈ lw_all := lw_g (lw_at lw_m6 174 rfl) rfl
theorem q1506 : (Jvm.Cond.code ({ cls := "SoleraCellarModel", name := "<init>", desc := "()V" } : Jvm.MethodName) prog_23_method_1_code (1 : Nat) (Option.none : Option Jvm.ClassFile.FieldType)) ∈ lw_all := lw_g (lw_at lw_m6 175 rfl) rfl
theorem q1507 : (Jvm.Cond.methodLink "SoleraCellarModel" (1 : Nat) ({ cls := "java/lang/Object", name := "<init>", desc := "()V" } : Jvm.MethodName)) ∈ lw_all := lw_g (lw_at lw_m6 176 rfl) rfl
theorem q1508 : (Jvm.Cond.constantLong "SoleraCellarModel" (57 : Nat) (99947 : Int64)) ∈ lw_all := lw_g (lw_at lw_m6 177 rfl) rfl
theorem q1509 : (Jvm.Cond.constantLong "SoleraCellarModel" (59 : Nat) (664754 : Int64)) ∈ lw_all := lw_g (lw_at lw_m6 178 rfl) rfl
theorem q1510 : (Jvm.Cond.constantLong "SoleraCellarModel" (61 : Nat) (632645 : Int64)) ∈ lw_all := lw_g (lw_at lw_m6 179 rfl) rfl
theorem q1511 : (Jvm.Cond.constantLong "SoleraCellarModel" (63 : Nat) (218508 : Int64)) ∈ lw_all := lw_g (lw_at lw_m6 180 rfl) rfl
theorem q1512 : (Jvm.Cond.constantLong "SoleraCellarModel" (65 : Nat) (431150 : Int64)) ∈ lw_all := lw_g (lw_at lw_m6 181 rfl) rfl
theorem q1513 : (Jvm.Cond.constantLong "SoleraCellarModel" (67 : Nat) (824370 : Int64)) ∈ lw_all := lw_g (lw_at lw_m6 182 rfl) rfl
theorem q1514 : (Jvm.Cond.constantLong "SoleraCellarModel" (69 : Nat) (441828 : Int64)) ∈ lw_all := lw_g (lw_at lw_m6 183 rfl) rfl
theorem q1515 : (Jvm.Cond.constantLong "SoleraCellarModel" (75 : Nat) (146885 : Int64)) ∈ lw_all := lw_g (lw_at lw_m6 184 rfl) rfl
theorem q1516 : (Jvm.Cond.constantLong "SoleraCellarModel" (77 : Nat) (404362868 : Int64)) ∈ lw_all := lw_g (lw_at lw_m6 185 rfl) rfl
theorem q1517 : (Jvm.Cond.constantLong "SoleraCellarModel" (79 : Nat) (2672439460 : Int64)) ∈ lw_all := lw_g (lw_at lw_m6 186 rfl) rfl
theorem q1518 : (Jvm.Cond.constantLong "SoleraCellarModel" (81 : Nat) (605677 : Int64)) ∈ lw_all := lw_g (lw_at lw_m6 187 rfl) rfl
theorem q1519 : (Jvm.Cond.constantLong "SoleraCellarModel" (86 : Nat) (13094067 : Int64)) ∈ lw_all := lw_g (lw_at lw_m6 188 rfl) rfl
theorem q1520 : (Jvm.Cond.constantLong "SoleraCellarModel" (88 : Nat) (848474259 : Int64)) ∈ lw_all := lw_g (lw_at lw_m6 189 rfl) rfl
theorem q1521 : (Jvm.Cond.constantLong "SoleraCellarModel" (90 : Nat) (67155 : Int64)) ∈ lw_all := lw_g (lw_at lw_m6 190 rfl) rfl
theorem q1522 : (Jvm.Cond.constantLong "SoleraCellarModel" (107 : Nat) (540338 : Int64)) ∈ lw_all := lw_g (lw_at lw_m6 191 rfl) rfl
theorem q1523 : (Jvm.Cond.constantLong "SoleraCellarModel" (109 : Nat) (590955 : Int64)) ∈ lw_all := lw_g (lw_at lw_m6 192 rfl) rfl
theorem q1524 : (Jvm.Cond.constantLong "SoleraCellarModel" (111 : Nat) (83513733 : Int64)) ∈ lw_all := lw_g (lw_at lw_m6 193 rfl) rfl
theorem q1525 : (Jvm.Cond.constantLong "SoleraCellarModel" (113 : Nat) (525939 : Int64)) ∈ lw_all := lw_g (lw_at lw_m6 194 rfl) rfl
theorem q1526 : (Jvm.Cond.fieldLink "SoleraCellarModel" (133 : Nat) "SoleraCellarModel" "thrown" "I") ∈ lw_all := lw_g (lw_at lw_m6 195 rfl) rfl
theorem q1527 : (Jvm.Cond.fieldLink "SoleraCellarModel" (136 : Nat) "SoleraCellarModel" "status" "I") ∈ lw_all := lw_g (lw_at lw_m6 196 rfl) rfl
theorem q1528 : (Jvm.Cond.fieldLink "SoleraCellarModel" (7 : Nat) "SoleraCellarModel" "refusals" "[I") ∈ lw_all := lw_g (lw_at lw_m6 197 rfl) rfl
theorem q1529 : (Jvm.Cond.fieldLink "SoleraCellarModel" (13 : Nat) "SoleraCellarModel" "row" "[I") ∈ lw_all := lw_g (lw_at lw_m6 198 rfl) rfl
theorem q1530 : (Jvm.Cond.fieldLink "SoleraCellarModel" (16 : Nat) "SoleraCellarModel" "images" "[I") ∈ lw_all := lw_g (lw_at lw_m6 199 rfl) rfl
theorem q1531 : (Jvm.Cond.fieldLink "SoleraCellarModel" (19 : Nat) "SoleraCellarModel" "isKept" "[Z") ∈ lw_all := lw_g (lw_at lw_m6 200 rfl) rfl
theorem q1532 : (Jvm.Cond.fieldLink "SoleraCellarModel" (23 : Nat) "SoleraCellarModel" "undos" "[I") ∈ lw_all := lw_g (lw_at lw_m6 201 rfl) rfl
theorem q1533 : (Jvm.Cond.fieldLink "SoleraCellarModel" (26 : Nat) "SoleraCellarModel" "sorts" "[I") ∈ lw_all := lw_g (lw_at lw_m6 202 rfl) rfl
theorem q1534 : (Jvm.Cond.fieldLink "SoleraCellarModel" (139 : Nat) "SoleraCellarModel" "nUndo" "I") ∈ lw_all := lw_g (lw_at lw_m6 203 rfl) rfl
theorem q1535 : (Jvm.Cond.fieldLink "SoleraCellarModel" (29 : Nat) "SoleraCellarModel" "undosBefore" "[I") ∈ lw_all := lw_g (lw_at lw_m6 204 rfl) rfl
theorem q1536 : (Jvm.Cond.fieldLink "SoleraCellarModel" (32 : Nat) "SoleraCellarModel" "sortsBefore" "[I") ∈ lw_all := lw_g (lw_at lw_m6 205 rfl) rfl
theorem q1537 : (Jvm.Cond.fieldLink "SoleraCellarModel" (220 : Nat) "SoleraCellarModel" "leaks" "I") ∈ lw_all := lw_g (lw_at lw_m6 206 rfl) rfl
theorem q1538 : (Jvm.Cond.fieldLink "SoleraCellarModel" (35 : Nat) "SoleraCellarModel" "tape" "[I") ∈ lw_all := lw_g (lw_at lw_m6 207 rfl) rfl
theorem q1539 : (Jvm.Cond.fieldLink "SoleraCellarModel" (217 : Nat) "SoleraCellarModel" "taped" "I") ∈ lw_all := lw_g (lw_at lw_m6 208 rfl) rfl
theorem q1540 : (Jvm.Cond.fieldLink "SoleraCellarModel" (236 : Nat) "SoleraCellarModel" "from" "I") ∈ lw_all := lw_g (lw_at lw_m6 209 rfl) rfl
theorem q1541 : (Jvm.Cond.fieldLink "SoleraCellarModel" (226 : Nat) "SoleraCellarModel" "to" "I") ∈ lw_all := lw_g (lw_at lw_m6 210 rfl) rfl
theorem q1542 : (Jvm.Cond.fieldLink "SoleraCellarModel" (249 : Nat) "SoleraCellarModel" "sort" "I") ∈ lw_all := lw_g (lw_at lw_m6 211 rfl) rfl
theorem q1543 : (Jvm.Cond.fieldLink "SoleraCellarModel" (239 : Nat) "SoleraCellarModel" "worth" "J") ∈ lw_all := lw_g (lw_at lw_m6 212 rfl) rfl
theorem q1544 : (Jvm.Cond.fieldLink "SoleraCellarModel" (38 : Nat) "SoleraCellarModel" "fault" "I") ∈ lw_all := lw_g (lw_at lw_m6 213 rfl) rfl
theorem q1545 : (Jvm.Cond.fieldLink "SoleraCellarModel" (229 : Nat) "SoleraCellarModel" "bad" "Z") ∈ lw_all := lw_g (lw_at lw_m6 214 rfl) rfl
theorem q1546 : (Jvm.Cond.fieldLink "SoleraCellarModel" (302 : Nat) "SoleraCellarModel" "ordered" "Z") ∈ lw_all := lw_g (lw_at lw_m6 215 rfl) rfl
theorem q1547 : (Jvm.Cond.fieldLink "SoleraCellarModel" (354 : Nat) "SoleraCellarModel" "nClauses" "I") ∈ lw_all := lw_g (lw_at lw_m6 216 rfl) rfl
theorem q1548 : (Jvm.Cond.fieldLink "SoleraCellarModel" (42 : Nat) "SoleraCellarModel" "nClause" "[I") ∈ lw_all := lw_g (lw_at lw_m6 217 rfl) rfl
theorem q1549 : (Jvm.Cond.fieldLink "SoleraCellarModel" (264 : Nat) "SoleraCellarModel" "nCode" "I") ∈ lw_all := lw_g (lw_at lw_m6 218 rfl) rfl
theorem q1550 : (Jvm.Cond.fieldLink "SoleraCellarModel" (45 : Nat) "SoleraCellarModel" "nOp" "[I") ∈ lw_all := lw_g (lw_at lw_m6 219 rfl) rfl
theorem q1551 : (Jvm.Cond.fieldLink "SoleraCellarModel" (48 : Nat) "SoleraCellarModel" "nArg" "[I") ∈ lw_all := lw_g (lw_at lw_m6 220 rfl) rfl
theorem q1552 : (Jvm.Cond.fieldLink "SoleraCellarModel" (293 : Nat) "SoleraCellarModel" "nLeaves" "I") ∈ lw_all := lw_g (lw_at lw_m6 221 rfl) rfl
theorem q1553 : (Jvm.Cond.fieldLink "SoleraCellarModel" (51 : Nat) "SoleraCellarModel" "pile" "[I") ∈ lw_all := lw_g (lw_at lw_m6 222 rfl) rfl
theorem q1554 : (Jvm.Cond.fieldLink "SoleraCellarModel" (54 : Nat) "SoleraCellarModel" "pileAt" "[I") ∈ lw_all := lw_g (lw_at lw_m6 223 rfl) rfl
theorem q1555 : (Jvm.Cond.fieldLink "SoleraCellarModel" (267 : Nat) "SoleraCellarModel" "piled" "I") ∈ lw_all := lw_g (lw_at lw_m6 224 rfl) rfl
theorem q1556 : (Jvm.Cond.fieldLink "SoleraCellarModel" (287 : Nat) "SoleraCellarModel" "opened" "I") ∈ lw_all := lw_g (lw_at lw_m6 225 rfl) rfl
theorem q1557 : (Jvm.Cond.fieldLink "SoleraCellarModel" (71 : Nat) "SoleraCellarModel" "words" "[J") ∈ lw_all := lw_g (lw_at lw_m6 226 rfl) rfl
theorem q1558 : (Jvm.Cond.fieldLink "SoleraCellarModel" (83 : Nat) "SoleraCellarModel" "orderWords" "[J") ∈ lw_all := lw_g (lw_at lw_m6 227 rfl) rfl
theorem q1559 : (Jvm.Cond.fieldLink "SoleraCellarModel" (92 : Nat) "SoleraCellarModel" "heads" "[J") ∈ lw_all := lw_g (lw_at lw_m6 228 rfl) rfl
theorem q1560 : (Jvm.Cond.fieldLink "SoleraCellarModel" (383 : Nat) "SoleraCellarModel" "law" "I") ∈ lw_all := lw_g (lw_at lw_m6 229 rfl) rfl
theorem q1561 : (Jvm.Cond.fieldLink "SoleraCellarModel" (95 : Nat) "SoleraCellarModel" "set" "[J") ∈ lw_all := lw_g (lw_at lw_m6 230 rfl) rfl
theorem q1562 : (Jvm.Cond.fieldLink "SoleraCellarModel" (98 : Nat) "SoleraCellarModel" "now" "[J") ∈ lw_all := lw_g (lw_at lw_m6 231 rfl) rfl
theorem q1563 : (Jvm.Cond.fieldLink "SoleraCellarModel" (101 : Nat) "SoleraCellarModel" "rest" "[J") ∈ lw_all := lw_g (lw_at lw_m6 232 rfl) rfl
theorem q1564 : (Jvm.Cond.fieldLink "SoleraCellarModel" (380 : Nat) "SoleraCellarModel" "broken" "Z") ∈ lw_all := lw_g (lw_at lw_m6 233 rfl) rfl
theorem q1565 : (Jvm.Cond.fieldLink "SoleraCellarModel" (398 : Nat) "SoleraCellarModel" "value" "J") ∈ lw_all := lw_g (lw_at lw_m6 234 rfl) rfl
theorem q1566 : (Jvm.Cond.fieldLink "SoleraCellarModel" (404 : Nat) "SoleraCellarModel" "sum" "J") ∈ lw_all := lw_g (lw_at lw_m6 235 rfl) rfl
theorem q1567 : (Jvm.Cond.fieldLink "SoleraCellarModel" (104 : Nat) "SoleraCellarModel" "taken" "[I") ∈ lw_all := lw_g (lw_at lw_m6 236 rfl) rfl
theorem q1568 : (Jvm.Cond.fieldLink "SoleraCellarModel" (444 : Nat) "SoleraCellarModel" "yielded" "I") ∈ lw_all := lw_g (lw_at lw_m6 237 rfl) rfl
theorem q1569 : (Jvm.Cond.fieldLink "SoleraCellarModel" (447 : Nat) "SoleraCellarModel" "leastMean" "I") ∈ lw_all := lw_g (lw_at lw_m6 238 rfl) rfl
theorem q1570 : (Jvm.Cond.fieldLink "SoleraCellarModel" (115 : Nat) "SoleraCellarModel" "acts" "[J") ∈ lw_all := lw_g (lw_at lw_m6 239 rfl) rfl
theorem q1571 : (Jvm.Cond.fieldLink "SoleraCellarModel" (118 : Nat) "SoleraCellarModel" "nOrder" "[I") ∈ lw_all := lw_g (lw_at lw_m7 0 rfl) rfl
theorem q1572 : (Jvm.Cond.fieldLink "SoleraCellarModel" (487 : Nat) "SoleraCellarModel" "done" "I") ∈ lw_all := lw_g (lw_at lw_m7 1 rfl) rfl
theorem q1573 : (Jvm.Cond.fieldLink "SoleraCellarModel" (490 : Nat) "SoleraCellarModel" "latest" "I") ∈ lw_all := lw_g (lw_at lw_m7 2 rfl) rfl
theorem q1574 : (Jvm.Cond.fieldLink "SoleraCellarModel" (121 : Nat) "SoleraCellarModel" "stopped" "I") ∈ lw_all := lw_g (lw_at lw_m7 3 rfl) rfl
theorem q1575 : (Jvm.Cond.fieldLink "SoleraCellarModel" (484 : Nat) "SoleraCellarModel" "off" "Z") ∈ lw_all := lw_g (lw_at lw_m7 4 rfl) rfl
theorem q1576 : (Jvm.Cond.fieldLink "SoleraCellarModel" (515 : Nat) "SoleraCellarModel" "skipped" "Z") ∈ lw_all := lw_g (lw_at lw_m7 5 rfl) rfl
theorem q1577 : (Jvm.Cond.fieldLink "SoleraCellarModel" (124 : Nat) "SoleraCellarModel" "parts" "[J") ∈ lw_all := lw_g (lw_at lw_m7 6 rfl) rfl
theorem q1578 : (Jvm.Cond.fieldLink "SoleraCellarModel" (561 : Nat) "SoleraCellarModel" "state" "J") ∈ lw_all := lw_g (lw_at lw_m7 7 rfl) rfl
theorem q1579 : (Jvm.Cond.fieldLink "SoleraCellarModel" (127 : Nat) "SoleraCellarModel" "drawn" "[I") ∈ lw_all := lw_g (lw_at lw_m7 8 rfl) rfl
theorem q1580 : (Jvm.Cond.fieldLink "SoleraCellarModel" (130 : Nat) "SoleraCellarModel" "drawnCasks" "I") ∈ lw_all := lw_g (lw_at lw_m7 9 rfl) rfl
theorem q1581 : (Jvm.Cond.lays "SoleraCellarModel" "SoleraCellarModel" "thrown" "I") ∈ lw_all := lw_g (lw_at lw_m7 10 rfl) rfl
theorem q1582 : (Jvm.Cond.soleField "SoleraCellarModel" "thrown") ∈ lw_all := lw_g (lw_at lw_m7 11 rfl) rfl
theorem q1583 : (Jvm.Cond.lays "SoleraCellarModel" "SoleraCellarModel" "status" "I") ∈ lw_all := lw_g (lw_at lw_m7 12 rfl) rfl
theorem q1584 : (Jvm.Cond.soleField "SoleraCellarModel" "status") ∈ lw_all := lw_g (lw_at lw_m7 13 rfl) rfl
theorem q1585 : (Jvm.Cond.laysFinal "SoleraCellarModel" "SoleraCellarModel" "refusals" "[I") ∈ lw_all := lw_g (lw_at lw_m7 14 rfl) rfl
theorem q1586 : (Jvm.Cond.soleField "SoleraCellarModel" "refusals") ∈ lw_all := lw_g (lw_at lw_m7 15 rfl) rfl
theorem q1587 : (Jvm.Cond.laysFinal "SoleraCellarModel" "SoleraCellarModel" "row" "[I") ∈ lw_all := lw_g (lw_at lw_m7 16 rfl) rfl
theorem q1588 : (Jvm.Cond.soleField "SoleraCellarModel" "row") ∈ lw_all := lw_g (lw_at lw_m7 17 rfl) rfl
theorem q1589 : (Jvm.Cond.laysFinal "SoleraCellarModel" "SoleraCellarModel" "images" "[I") ∈ lw_all := lw_g (lw_at lw_m7 18 rfl) rfl
theorem q1590 : (Jvm.Cond.soleField "SoleraCellarModel" "images") ∈ lw_all := lw_g (lw_at lw_m7 19 rfl) rfl
theorem q1591 : (Jvm.Cond.laysFinal "SoleraCellarModel" "SoleraCellarModel" "isKept" "[Z") ∈ lw_all := lw_g (lw_at lw_m7 20 rfl) rfl
theorem q1592 : (Jvm.Cond.soleField "SoleraCellarModel" "isKept") ∈ lw_all := lw_g (lw_at lw_m7 21 rfl) rfl
theorem q1593 : (Jvm.Cond.laysFinal "SoleraCellarModel" "SoleraCellarModel" "undos" "[I") ∈ lw_all := lw_g (lw_at lw_m7 22 rfl) rfl
theorem q1594 : (Jvm.Cond.soleField "SoleraCellarModel" "undos") ∈ lw_all := lw_g (lw_at lw_m7 23 rfl) rfl
theorem q1595 : (Jvm.Cond.laysFinal "SoleraCellarModel" "SoleraCellarModel" "sorts" "[I") ∈ lw_all := lw_g (lw_at lw_m7 24 rfl) rfl
theorem q1596 : (Jvm.Cond.soleField "SoleraCellarModel" "sorts") ∈ lw_all := lw_g (lw_at lw_m7 25 rfl) rfl
theorem q1597 : (Jvm.Cond.lays "SoleraCellarModel" "SoleraCellarModel" "nUndo" "I") ∈ lw_all := lw_g (lw_at lw_m7 26 rfl) rfl
theorem q1598 : (Jvm.Cond.soleField "SoleraCellarModel" "nUndo") ∈ lw_all := lw_g (lw_at lw_m7 27 rfl) rfl
theorem q1599 : (Jvm.Cond.laysFinal "SoleraCellarModel" "SoleraCellarModel" "undosBefore" "[I") ∈ lw_all := lw_g (lw_at lw_m7 28 rfl) rfl
theorem q1600 : (Jvm.Cond.soleField "SoleraCellarModel" "undosBefore") ∈ lw_all := lw_g (lw_at lw_m7 29 rfl) rfl
theorem q1601 : (Jvm.Cond.laysFinal "SoleraCellarModel" "SoleraCellarModel" "sortsBefore" "[I") ∈ lw_all := lw_g (lw_at lw_m7 30 rfl) rfl
theorem q1602 : (Jvm.Cond.soleField "SoleraCellarModel" "sortsBefore") ∈ lw_all := lw_g (lw_at lw_m7 31 rfl) rfl
theorem q1603 : (Jvm.Cond.lays "SoleraCellarModel" "SoleraCellarModel" "leaks" "I") ∈ lw_all := lw_g (lw_at lw_m7 32 rfl) rfl
theorem q1604 : (Jvm.Cond.soleField "SoleraCellarModel" "leaks") ∈ lw_all := lw_g (lw_at lw_m7 33 rfl) rfl
theorem q1605 : (Jvm.Cond.laysFinal "SoleraCellarModel" "SoleraCellarModel" "tape" "[I") ∈ lw_all := lw_g (lw_at lw_m7 34 rfl) rfl
theorem q1606 : (Jvm.Cond.soleField "SoleraCellarModel" "tape") ∈ lw_all := lw_g (lw_at lw_m7 35 rfl) rfl
theorem q1607 : (Jvm.Cond.lays "SoleraCellarModel" "SoleraCellarModel" "taped" "I") ∈ lw_all := lw_g (lw_at lw_m7 36 rfl) rfl
theorem q1608 : (Jvm.Cond.soleField "SoleraCellarModel" "taped") ∈ lw_all := lw_g (lw_at lw_m7 37 rfl) rfl
theorem q1609 : (Jvm.Cond.lays "SoleraCellarModel" "SoleraCellarModel" "from" "I") ∈ lw_all := lw_g (lw_at lw_m7 38 rfl) rfl
theorem q1610 : (Jvm.Cond.soleField "SoleraCellarModel" "from") ∈ lw_all := lw_g (lw_at lw_m7 39 rfl) rfl
theorem q1611 : (Jvm.Cond.lays "SoleraCellarModel" "SoleraCellarModel" "to" "I") ∈ lw_all := lw_g (lw_at lw_m7 40 rfl) rfl
theorem q1612 : (Jvm.Cond.soleField "SoleraCellarModel" "to") ∈ lw_all := lw_g (lw_at lw_m7 41 rfl) rfl
theorem q1613 : (Jvm.Cond.lays "SoleraCellarModel" "SoleraCellarModel" "sort" "I") ∈ lw_all := lw_g (lw_at lw_m7 42 rfl) rfl
theorem q1614 : (Jvm.Cond.soleField "SoleraCellarModel" "sort") ∈ lw_all := lw_g (lw_at lw_m7 43 rfl) rfl
theorem q1615 : (Jvm.Cond.lays "SoleraCellarModel" "SoleraCellarModel" "worth" "J") ∈ lw_all := lw_g (lw_at lw_m7 44 rfl) rfl
theorem q1616 : (Jvm.Cond.soleField "SoleraCellarModel" "worth") ∈ lw_all := lw_g (lw_at lw_m7 45 rfl) rfl
theorem q1617 : (Jvm.Cond.lays "SoleraCellarModel" "SoleraCellarModel" "fault" "I") ∈ lw_all := lw_g (lw_at lw_m7 46 rfl) rfl
theorem q1618 : (Jvm.Cond.soleField "SoleraCellarModel" "fault") ∈ lw_all := lw_g (lw_at lw_m7 47 rfl) rfl
theorem q1619 : (Jvm.Cond.lays "SoleraCellarModel" "SoleraCellarModel" "bad" "Z") ∈ lw_all := lw_g (lw_at lw_m7 48 rfl) rfl
theorem q1620 : (Jvm.Cond.soleField "SoleraCellarModel" "bad") ∈ lw_all := lw_g (lw_at lw_m7 49 rfl) rfl
theorem q1621 : (Jvm.Cond.lays "SoleraCellarModel" "SoleraCellarModel" "ordered" "Z") ∈ lw_all := lw_g (lw_at lw_m7 50 rfl) rfl
theorem q1622 : (Jvm.Cond.soleField "SoleraCellarModel" "ordered") ∈ lw_all := lw_g (lw_at lw_m7 51 rfl) rfl
theorem q1623 : (Jvm.Cond.lays "SoleraCellarModel" "SoleraCellarModel" "nClauses" "I") ∈ lw_all := lw_g (lw_at lw_m7 52 rfl) rfl
theorem q1624 : (Jvm.Cond.soleField "SoleraCellarModel" "nClauses") ∈ lw_all := lw_g (lw_at lw_m7 53 rfl) rfl
theorem q1625 : (Jvm.Cond.laysFinal "SoleraCellarModel" "SoleraCellarModel" "nClause" "[I") ∈ lw_all := lw_g (lw_at lw_m7 54 rfl) rfl
theorem q1626 : (Jvm.Cond.soleField "SoleraCellarModel" "nClause") ∈ lw_all := lw_g (lw_at lw_m7 55 rfl) rfl
theorem q1627 : (Jvm.Cond.lays "SoleraCellarModel" "SoleraCellarModel" "nCode" "I") ∈ lw_all := lw_g (lw_at lw_m7 56 rfl) rfl
theorem q1628 : (Jvm.Cond.soleField "SoleraCellarModel" "nCode") ∈ lw_all := lw_g (lw_at lw_m7 57 rfl) rfl
theorem q1629 : (Jvm.Cond.laysFinal "SoleraCellarModel" "SoleraCellarModel" "nOp" "[I") ∈ lw_all := lw_g (lw_at lw_m7 58 rfl) rfl
theorem q1630 : (Jvm.Cond.soleField "SoleraCellarModel" "nOp") ∈ lw_all := lw_g (lw_at lw_m7 59 rfl) rfl
theorem q1631 : (Jvm.Cond.laysFinal "SoleraCellarModel" "SoleraCellarModel" "nArg" "[I") ∈ lw_all := lw_g (lw_at lw_m7 60 rfl) rfl
theorem q1632 : (Jvm.Cond.soleField "SoleraCellarModel" "nArg") ∈ lw_all := lw_g (lw_at lw_m7 61 rfl) rfl
theorem q1633 : (Jvm.Cond.lays "SoleraCellarModel" "SoleraCellarModel" "nLeaves" "I") ∈ lw_all := lw_g (lw_at lw_m7 62 rfl) rfl
theorem q1634 : (Jvm.Cond.soleField "SoleraCellarModel" "nLeaves") ∈ lw_all := lw_g (lw_at lw_m7 63 rfl) rfl
theorem q1635 : (Jvm.Cond.laysFinal "SoleraCellarModel" "SoleraCellarModel" "pile" "[I") ∈ lw_all := lw_g (lw_at lw_m7 64 rfl) rfl
theorem q1636 : (Jvm.Cond.soleField "SoleraCellarModel" "pile") ∈ lw_all := lw_g (lw_at lw_m7 65 rfl) rfl
theorem q1637 : (Jvm.Cond.laysFinal "SoleraCellarModel" "SoleraCellarModel" "pileAt" "[I") ∈ lw_all := lw_g (lw_at lw_m7 66 rfl) rfl
theorem q1638 : (Jvm.Cond.soleField "SoleraCellarModel" "pileAt") ∈ lw_all := lw_g (lw_at lw_m7 67 rfl) rfl
theorem q1639 : (Jvm.Cond.lays "SoleraCellarModel" "SoleraCellarModel" "piled" "I") ∈ lw_all := lw_g (lw_at lw_m7 68 rfl) rfl
theorem q1640 : (Jvm.Cond.soleField "SoleraCellarModel" "piled") ∈ lw_all := lw_g (lw_at lw_m7 69 rfl) rfl
theorem q1641 : (Jvm.Cond.lays "SoleraCellarModel" "SoleraCellarModel" "opened" "I") ∈ lw_all := lw_g (lw_at lw_m7 70 rfl) rfl
theorem q1642 : (Jvm.Cond.soleField "SoleraCellarModel" "opened") ∈ lw_all := lw_g (lw_at lw_m7 71 rfl) rfl
theorem q1643 : (Jvm.Cond.laysFinal "SoleraCellarModel" "SoleraCellarModel" "words" "[J") ∈ lw_all := lw_g (lw_at lw_m7 72 rfl) rfl
theorem q1644 : (Jvm.Cond.soleField "SoleraCellarModel" "words") ∈ lw_all := lw_g (lw_at lw_m7 73 rfl) rfl
theorem q1645 : (Jvm.Cond.laysFinal "SoleraCellarModel" "SoleraCellarModel" "orderWords" "[J") ∈ lw_all := lw_g (lw_at lw_m7 74 rfl) rfl
theorem q1646 : (Jvm.Cond.soleField "SoleraCellarModel" "orderWords") ∈ lw_all := lw_g (lw_at lw_m7 75 rfl) rfl
theorem q1647 : (Jvm.Cond.laysFinal "SoleraCellarModel" "SoleraCellarModel" "heads" "[J") ∈ lw_all := lw_g (lw_at lw_m7 76 rfl) rfl
theorem q1648 : (Jvm.Cond.soleField "SoleraCellarModel" "heads") ∈ lw_all := lw_g (lw_at lw_m7 77 rfl) rfl
theorem q1649 : (Jvm.Cond.lays "SoleraCellarModel" "SoleraCellarModel" "law" "I") ∈ lw_all := lw_g (lw_at lw_m7 78 rfl) rfl
theorem q1650 : (Jvm.Cond.soleField "SoleraCellarModel" "law") ∈ lw_all := lw_g (lw_at lw_m7 79 rfl) rfl
theorem q1651 : (Jvm.Cond.laysFinal "SoleraCellarModel" "SoleraCellarModel" "set" "[J") ∈ lw_all := lw_g (lw_at lw_m7 80 rfl) rfl
theorem q1652 : (Jvm.Cond.soleField "SoleraCellarModel" "set") ∈ lw_all := lw_g (lw_at lw_m7 81 rfl) rfl
theorem q1653 : (Jvm.Cond.laysFinal "SoleraCellarModel" "SoleraCellarModel" "now" "[J") ∈ lw_all := lw_g (lw_at lw_m7 82 rfl) rfl
theorem q1654 : (Jvm.Cond.soleField "SoleraCellarModel" "now") ∈ lw_all := lw_g (lw_at lw_m7 83 rfl) rfl
theorem q1655 : (Jvm.Cond.laysFinal "SoleraCellarModel" "SoleraCellarModel" "rest" "[J") ∈ lw_all := lw_g (lw_at lw_m7 84 rfl) rfl
theorem q1656 : (Jvm.Cond.soleField "SoleraCellarModel" "rest") ∈ lw_all := lw_g (lw_at lw_m7 85 rfl) rfl
theorem q1657 : (Jvm.Cond.lays "SoleraCellarModel" "SoleraCellarModel" "broken" "Z") ∈ lw_all := lw_g (lw_at lw_m7 86 rfl) rfl
theorem q1658 : (Jvm.Cond.soleField "SoleraCellarModel" "broken") ∈ lw_all := lw_g (lw_at lw_m7 87 rfl) rfl
theorem q1659 : (Jvm.Cond.lays "SoleraCellarModel" "SoleraCellarModel" "value" "J") ∈ lw_all := lw_g (lw_at lw_m7 88 rfl) rfl
theorem q1660 : (Jvm.Cond.soleField "SoleraCellarModel" "value") ∈ lw_all := lw_g (lw_at lw_m7 89 rfl) rfl
theorem q1661 : (Jvm.Cond.lays "SoleraCellarModel" "SoleraCellarModel" "sum" "J") ∈ lw_all := lw_g (lw_at lw_m7 90 rfl) rfl
theorem q1662 : (Jvm.Cond.soleField "SoleraCellarModel" "sum") ∈ lw_all := lw_g (lw_at lw_m7 91 rfl) rfl
theorem q1663 : (Jvm.Cond.laysFinal "SoleraCellarModel" "SoleraCellarModel" "taken" "[I") ∈ lw_all := lw_g (lw_at lw_m7 92 rfl) rfl
theorem q1664 : (Jvm.Cond.soleField "SoleraCellarModel" "taken") ∈ lw_all := lw_g (lw_at lw_m7 93 rfl) rfl
theorem q1665 : (Jvm.Cond.lays "SoleraCellarModel" "SoleraCellarModel" "yielded" "I") ∈ lw_all := lw_g (lw_at lw_m7 94 rfl) rfl
theorem q1666 : (Jvm.Cond.soleField "SoleraCellarModel" "yielded") ∈ lw_all := lw_g (lw_at lw_m7 95 rfl) rfl
theorem q1667 : (Jvm.Cond.lays "SoleraCellarModel" "SoleraCellarModel" "leastMean" "I") ∈ lw_all := lw_g (lw_at lw_m7 96 rfl) rfl
theorem q1668 : (Jvm.Cond.soleField "SoleraCellarModel" "leastMean") ∈ lw_all := lw_g (lw_at lw_m7 97 rfl) rfl
theorem q1669 : (Jvm.Cond.laysFinal "SoleraCellarModel" "SoleraCellarModel" "acts" "[J") ∈ lw_all := lw_g (lw_at lw_m7 98 rfl) rfl
theorem q1670 : (Jvm.Cond.soleField "SoleraCellarModel" "acts") ∈ lw_all := lw_g (lw_at lw_m7 99 rfl) rfl
theorem q1671 : (Jvm.Cond.laysFinal "SoleraCellarModel" "SoleraCellarModel" "nOrder" "[I") ∈ lw_all := lw_g (lw_at lw_m7 100 rfl) rfl
theorem q1672 : (Jvm.Cond.soleField "SoleraCellarModel" "nOrder") ∈ lw_all := lw_g (lw_at lw_m7 101 rfl) rfl
theorem q1673 : (Jvm.Cond.lays "SoleraCellarModel" "SoleraCellarModel" "done" "I") ∈ lw_all := lw_g (lw_at lw_m7 102 rfl) rfl
theorem q1674 : (Jvm.Cond.soleField "SoleraCellarModel" "done") ∈ lw_all := lw_g (lw_at lw_m7 103 rfl) rfl
theorem q1675 : (Jvm.Cond.lays "SoleraCellarModel" "SoleraCellarModel" "latest" "I") ∈ lw_all := lw_g (lw_at lw_m7 104 rfl) rfl
theorem q1676 : (Jvm.Cond.soleField "SoleraCellarModel" "latest") ∈ lw_all := lw_g (lw_at lw_m7 105 rfl) rfl
theorem q1677 : (Jvm.Cond.lays "SoleraCellarModel" "SoleraCellarModel" "stopped" "I") ∈ lw_all := lw_g (lw_at lw_m7 106 rfl) rfl
theorem q1678 : (Jvm.Cond.soleField "SoleraCellarModel" "stopped") ∈ lw_all := lw_g (lw_at lw_m7 107 rfl) rfl
theorem q1679 : (Jvm.Cond.lays "SoleraCellarModel" "SoleraCellarModel" "off" "Z") ∈ lw_all := lw_g (lw_at lw_m7 108 rfl) rfl
theorem q1680 : (Jvm.Cond.soleField "SoleraCellarModel" "off") ∈ lw_all := lw_g (lw_at lw_m7 109 rfl) rfl
theorem q1681 : (Jvm.Cond.lays "SoleraCellarModel" "SoleraCellarModel" "skipped" "Z") ∈ lw_all := lw_g (lw_at lw_m7 110 rfl) rfl
theorem q1682 : (Jvm.Cond.soleField "SoleraCellarModel" "skipped") ∈ lw_all := lw_g (lw_at lw_m7 111 rfl) rfl
theorem q1683 : (Jvm.Cond.laysFinal "SoleraCellarModel" "SoleraCellarModel" "parts" "[J") ∈ lw_all := lw_g (lw_at lw_m7 112 rfl) rfl
theorem q1684 : (Jvm.Cond.soleField "SoleraCellarModel" "parts") ∈ lw_all := lw_g (lw_at lw_m7 113 rfl) rfl
theorem q1685 : (Jvm.Cond.lays "SoleraCellarModel" "SoleraCellarModel" "state" "J") ∈ lw_all := lw_g (lw_at lw_m7 114 rfl) rfl
theorem q1686 : (Jvm.Cond.soleField "SoleraCellarModel" "state") ∈ lw_all := lw_g (lw_at lw_m7 115 rfl) rfl
theorem q1687 : (Jvm.Cond.laysFinal "SoleraCellarModel" "SoleraCellarModel" "drawn" "[I") ∈ lw_all := lw_g (lw_at lw_m7 116 rfl) rfl
theorem q1688 : (Jvm.Cond.soleField "SoleraCellarModel" "drawn") ∈ lw_all := lw_g (lw_at lw_m7 117 rfl) rfl
theorem q1689 : (Jvm.Cond.lays "SoleraCellarModel" "SoleraCellarModel" "drawnCasks" "I") ∈ lw_all := lw_g (lw_at lw_m7 118 rfl) rfl
theorem q1690 : (Jvm.Cond.soleField "SoleraCellarModel" "drawnCasks") ∈ lw_all := lw_g (lw_at lw_m7 119 rfl) rfl
theorem q1691 : (Jvm.Cond.superclass "SoleraCellarModel" "java/lang/Object") ∈ lw_all := lw_g (lw_at lw_m7 120 rfl) rfl
theorem q1694 : (Jvm.Cond.instanceMethod ({ cls := "SoleraCellarModel", name := "undo", desc := "()I" } : Jvm.MethodName)) ∈ lw_all := lw_g (lw_at lw_m7 123 rfl) rfl
theorem q1695 : (Jvm.Cond.selects "SoleraCellarModel" ({ cls := "SoleraCellarModel", name := "undo", desc := "()I" } : Jvm.MethodName) ({ cls := "SoleraCellarModel", name := "undo", desc := "()I" } : Jvm.MethodName)) ∈ lw_all := lw_g (lw_at lw_m7 124 rfl) rfl
theorem q1696 : (Jvm.Cond.code ({ cls := "SoleraCellarModel", name := "undo", desc := "()I" } : Jvm.MethodName) prog_23_method_12_code (1 : Nat) (Option.some Jvm.ClassFile.FieldType.int)) ∈ lw_all := lw_g (lw_at lw_m7 125 rfl) rfl
theorem q1697 : (Jvm.Cond.methodLink "SoleraCellarModel" (142 : Nat) ({ cls := "SoleraCellarModel", name := "tell", desc := "(I)I" } : Jvm.MethodName)) ∈ lw_all := lw_g (lw_at lw_m7 126 rfl) rfl
theorem q1698 : (Jvm.Cond.privateMethod ({ cls := "SoleraCellarModel", name := "tell", desc := "(I)I" } : Jvm.MethodName)) ∈ lw_tbl := lw_at lw_m7 127 rfl
theorem q1699 : (Jvm.Cond.instanceMethod ({ cls := "SoleraCellarModel", name := "tell", desc := "(I)I" } : Jvm.MethodName)) ∈ lw_all := lw_g (lw_at lw_m7 128 rfl) rfl
theorem q1700 : (Jvm.Cond.code ({ cls := "SoleraCellarModel", name := "tell", desc := "(I)I" } : Jvm.MethodName) prog_23_method_6_code (2 : Nat) (Option.some Jvm.ClassFile.FieldType.int)) ∈ lw_all := lw_g (lw_at lw_m7 129 rfl) rfl
theorem q1701 : (Jvm.Cond.methodLink "SoleraCellarModel" (150 : Nat) ({ cls := "SoleraCellarModel", name := "putBack", desc := "(I)V" } : Jvm.MethodName)) ∈ lw_all := lw_g (lw_at lw_m7 130 rfl) rfl
theorem q1702 : (Jvm.Cond.privateMethod ({ cls := "SoleraCellarModel", name := "putBack", desc := "(I)V" } : Jvm.MethodName)) ∈ lw_tbl := lw_at lw_m7 131 rfl
theorem q1703 : (Jvm.Cond.instanceMethod ({ cls := "SoleraCellarModel", name := "putBack", desc := "(I)V" } : Jvm.MethodName)) ∈ lw_all := lw_g (lw_at lw_m7 132 rfl) rfl
theorem q1704 : (Jvm.Cond.code ({ cls := "SoleraCellarModel", name := "putBack", desc := "(I)V" } : Jvm.MethodName) prog_23_method_10_code (3 : Nat) (Option.none : Option Jvm.ClassFile.FieldType)) ∈ lw_all := lw_g (lw_at lw_m7 133 rfl) rfl
theorem q1706 : (Jvm.Cond.instanceMethod ({ cls := "SoleraCellarModel", name := "image", desc := "(I)I" } : Jvm.MethodName)) ∈ lw_all := lw_g (lw_at lw_m7 135 rfl) rfl
theorem q1707 : (Jvm.Cond.selects "SoleraCellarModel" ({ cls := "SoleraCellarModel", name := "image", desc := "(I)I" } : Jvm.MethodName) ({ cls := "SoleraCellarModel", name := "image", desc := "(I)I" } : Jvm.MethodName)) ∈ lw_all := lw_g (lw_at lw_m7 136 rfl) rfl
theorem q1708 : (Jvm.Cond.code ({ cls := "SoleraCellarModel", name := "image", desc := "(I)I" } : Jvm.MethodName) prog_23_method_13_code (3 : Nat) (Option.some Jvm.ClassFile.FieldType.int)) ∈ lw_all := lw_g (lw_at lw_m7 137 rfl) rfl
theorem q1709 : (Jvm.Cond.methodLink "SoleraCellarModel" (153 : Nat) ({ cls := "SoleraCellarModel", name := "in", desc := "(JJJ)Z" } : Jvm.MethodName)) ∈ lw_all := lw_g (lw_at lw_m7 138 rfl) rfl
theorem q1710 : (Jvm.Cond.static ({ cls := "SoleraCellarModel", name := "in", desc := "(JJJ)Z" } : Jvm.MethodName)) ∈ lw_all := lw_g (lw_at lw_m7 139 rfl) rfl
theorem q1711 : (Jvm.Cond.code ({ cls := "SoleraCellarModel", name := "in", desc := "(JJJ)Z" } : Jvm.MethodName) prog_23_method_3_code (6 : Nat) (Option.some Jvm.ClassFile.FieldType.boolean)) ∈ lw_all := lw_g (lw_at lw_m7 140 rfl) rfl
theorem q1713 : (Jvm.Cond.instanceMethod ({ cls := "SoleraCellarModel", name := "back", desc := "(I)I" } : Jvm.MethodName)) ∈ lw_all := lw_g (lw_at lw_m7 142 rfl) rfl
theorem q1714 : (Jvm.Cond.selects "SoleraCellarModel" ({ cls := "SoleraCellarModel", name := "back", desc := "(I)I" } : Jvm.MethodName) ({ cls := "SoleraCellarModel", name := "back", desc := "(I)I" } : Jvm.MethodName)) ∈ lw_all := lw_g (lw_at lw_m7 143 rfl) rfl
theorem q1715 : (Jvm.Cond.code ({ cls := "SoleraCellarModel", name := "back", desc := "(I)I" } : Jvm.MethodName) prog_23_method_14_code (3 : Nat) (Option.some Jvm.ClassFile.FieldType.int)) ∈ lw_all := lw_g (lw_at lw_m7 144 rfl) rfl
theorem q1716 : (Jvm.Cond.methodLink "SoleraCellarModel" (157 : Nat) ({ cls := "SoleraCellarModel", name := "lasting", desc := "(I)I" } : Jvm.MethodName)) ∈ lw_all := lw_g (lw_at lw_m7 145 rfl) rfl
theorem q1717 : (Jvm.Cond.privateMethod ({ cls := "SoleraCellarModel", name := "lasting", desc := "(I)I" } : Jvm.MethodName)) ∈ lw_tbl := lw_at lw_m7 146 rfl
theorem q1718 : (Jvm.Cond.instanceMethod ({ cls := "SoleraCellarModel", name := "lasting", desc := "(I)I" } : Jvm.MethodName)) ∈ lw_all := lw_g (lw_at lw_m7 147 rfl) rfl
theorem q1719 : (Jvm.Cond.code ({ cls := "SoleraCellarModel", name := "lasting", desc := "(I)I" } : Jvm.MethodName) prog_23_method_8_code (2 : Nat) (Option.some Jvm.ClassFile.FieldType.int)) ∈ lw_all := lw_g (lw_at lw_m7 148 rfl) rfl
theorem q1721 : (Jvm.Cond.instanceMethod ({ cls := "SoleraCellarModel", name := "cask", desc := "(II)I" } : Jvm.MethodName)) ∈ lw_all := lw_g (lw_at lw_m7 150 rfl) rfl
theorem q1722 : (Jvm.Cond.selects "SoleraCellarModel" ({ cls := "SoleraCellarModel", name := "cask", desc := "(II)I" } : Jvm.MethodName) ({ cls := "SoleraCellarModel", name := "cask", desc := "(II)I" } : Jvm.MethodName)) ∈ lw_all := lw_g (lw_at lw_m7 151 rfl) rfl
theorem q1723 : (Jvm.Cond.code ({ cls := "SoleraCellarModel", name := "cask", desc := "(II)I" } : Jvm.MethodName) prog_23_method_24_code (3 : Nat) (Option.some Jvm.ClassFile.FieldType.int)) ∈ lw_all := lw_g (lw_at lw_m7 152 rfl) rfl
theorem q1724 : (Jvm.Cond.methodLink "SoleraCellarModel" (181 : Nat) ({ cls := "SoleraCellarModel", name := "comes", desc := "(II)I" } : Jvm.MethodName)) ∈ lw_all := lw_g (lw_at lw_m7 153 rfl) rfl
theorem q1725 : (Jvm.Cond.privateMethod ({ cls := "SoleraCellarModel", name := "comes", desc := "(II)I" } : Jvm.MethodName)) ∈ lw_tbl := lw_at lw_m7 154 rfl
theorem q1726 : (Jvm.Cond.instanceMethod ({ cls := "SoleraCellarModel", name := "comes", desc := "(II)I" } : Jvm.MethodName)) ∈ lw_all := lw_g (lw_at lw_m7 155 rfl) rfl
theorem q1727 : (Jvm.Cond.code ({ cls := "SoleraCellarModel", name := "comes", desc := "(II)I" } : Jvm.MethodName) prog_23_method_23_code (5 : Nat) (Option.some Jvm.ClassFile.FieldType.int)) ∈ lw_all := lw_g (lw_at lw_m7 156 rfl) rfl
theorem q1728 : (Jvm.Cond.constantLong "SoleraCellarModel" (177 : Nat) (4 : Int64)) ∈ lw_all := lw_g (lw_at lw_m7 157 rfl) rfl
theorem q1729 : (Jvm.Cond.constantLong "SoleraCellarModel" (179 : Nat) (999 : Int64)) ∈ lw_all := lw_g (lw_at lw_m7 158 rfl) rfl
theorem q1731 : (Jvm.Cond.instanceMethod ({ cls := "SoleraCellarModel", name := "of", desc := "(II)I" } : Jvm.MethodName)) ∈ lw_all := lw_g (lw_at lw_m7 160 rfl) rfl
theorem q1732 : (Jvm.Cond.selects "SoleraCellarModel" ({ cls := "SoleraCellarModel", name := "of", desc := "(II)I" } : Jvm.MethodName) ({ cls := "SoleraCellarModel", name := "of", desc := "(II)I" } : Jvm.MethodName)) ∈ lw_all := lw_g (lw_at lw_m7 161 rfl) rfl
theorem q1733 : (Jvm.Cond.code ({ cls := "SoleraCellarModel", name := "of", desc := "(II)I" } : Jvm.MethodName) prog_23_method_25_code (3 : Nat) (Option.some Jvm.ClassFile.FieldType.int)) ∈ lw_all := lw_g (lw_at lw_m7 162 rfl) rfl
theorem q1734 : (Jvm.Cond.methodLink "SoleraCellarModel" (184 : Nat) ({ cls := "SoleraCellarModel", name := "isCask", desc := "(I)Z" } : Jvm.MethodName)) ∈ lw_all := lw_g (lw_at lw_m7 163 rfl) rfl
theorem q1735 : (Jvm.Cond.privateMethod ({ cls := "SoleraCellarModel", name := "isCask", desc := "(I)Z" } : Jvm.MethodName)) ∈ lw_tbl := lw_at lw_m7 164 rfl
theorem q1736 : (Jvm.Cond.instanceMethod ({ cls := "SoleraCellarModel", name := "isCask", desc := "(I)Z" } : Jvm.MethodName)) ∈ lw_all := lw_g (lw_at lw_m7 165 rfl) rfl
theorem q1737 : (Jvm.Cond.code ({ cls := "SoleraCellarModel", name := "isCask", desc := "(I)Z" } : Jvm.MethodName) prog_23_method_15_code (2 : Nat) (Option.some Jvm.ClassFile.FieldType.boolean)) ∈ lw_all := lw_g (lw_at lw_m7 166 rfl) rfl
theorem q1738 : (Jvm.Cond.methodLink "SoleraCellarModel" (166 : Nat) ({ cls := "SoleraCellarModel", name := "allOf", desc := "(I)I" } : Jvm.MethodName)) ∈ lw_all := lw_g (lw_at lw_m7 167 rfl) rfl
theorem q1739 : (Jvm.Cond.privateMethod ({ cls := "SoleraCellarModel", name := "allOf", desc := "(I)I" } : Jvm.MethodName)) ∈ lw_tbl := lw_at lw_m7 168 rfl
theorem q1740 : (Jvm.Cond.instanceMethod ({ cls := "SoleraCellarModel", name := "allOf", desc := "(I)I" } : Jvm.MethodName)) ∈ lw_all := lw_g (lw_at lw_m7 169 rfl) rfl
theorem q1741 : (Jvm.Cond.code ({ cls := "SoleraCellarModel", name := "allOf", desc := "(I)I" } : Jvm.MethodName) prog_23_method_17_code (4 : Nat) (Option.some Jvm.ClassFile.FieldType.int)) ∈ lw_all := lw_g (lw_at lw_m7 170 rfl) rfl
theorem q1742 : (Jvm.Cond.methodLink "SoleraCellarModel" (160 : Nat) ({ cls := "SoleraCellarModel", name := "dropsOf", desc := "(II)I" } : Jvm.MethodName)) ∈ lw_all := lw_g (lw_at lw_m7 171 rfl) rfl
theorem q1743 : (Jvm.Cond.privateMethod ({ cls := "SoleraCellarModel", name := "dropsOf", desc := "(II)I" } : Jvm.MethodName)) ∈ lw_tbl := lw_at lw_m7 172 rfl
theorem q1744 : (Jvm.Cond.instanceMethod ({ cls := "SoleraCellarModel", name := "dropsOf", desc := "(II)I" } : Jvm.MethodName)) ∈ lw_all := lw_g (lw_at lw_m7 173 rfl) rfl
theorem q1745 : (Jvm.Cond.code ({ cls := "SoleraCellarModel", name := "dropsOf", desc := "(II)I" } : Jvm.MethodName) prog_23_method_16_code (3 : Nat) (Option.some Jvm.ClassFile.FieldType.int)) ∈ lw_all := lw_g (lw_at lw_m7 174 rfl) rfl
theorem q1746 : (Jvm.Cond.methodLink "SoleraCellarModel" (169 : Nat) ({ cls := "SoleraCellarModel", name := "meanOf", desc := "(I)I" } : Jvm.MethodName)) ∈ lw_all := lw_g (lw_at lw_m7 175 rfl) rfl
theorem q1747 : (Jvm.Cond.privateMethod ({ cls := "SoleraCellarModel", name := "meanOf", desc := "(I)I" } : Jvm.MethodName)) ∈ lw_tbl := lw_at lw_m7 176 rfl
theorem q1748 : (Jvm.Cond.instanceMethod ({ cls := "SoleraCellarModel", name := "meanOf", desc := "(I)I" } : Jvm.MethodName)) ∈ lw_all := lw_g (lw_at lw_m7 177 rfl) rfl
theorem q1749 : (Jvm.Cond.code ({ cls := "SoleraCellarModel", name := "meanOf", desc := "(I)I" } : Jvm.MethodName) prog_23_method_18_code (5 : Nat) (Option.some Jvm.ClassFile.FieldType.int)) ∈ lw_all := lw_g (lw_at lw_m7 178 rfl) rfl
theorem q1750 : (Jvm.Cond.constantLong "SoleraCellarModel" (164 : Nat) (1000 : Int64)) ∈ lw_all := lw_g (lw_at lw_m7 179 rfl) rfl
theorem q1751 : (Jvm.Cond.methodLink "SoleraCellarModel" (188 : Nat) ({ cls := "SoleraCellarModel", name := "labelOf", desc := "(I)I" } : Jvm.MethodName)) ∈ lw_all := lw_g (lw_at lw_m7 180 rfl) rfl
theorem q1752 : (Jvm.Cond.privateMethod ({ cls := "SoleraCellarModel", name := "labelOf", desc := "(I)I" } : Jvm.MethodName)) ∈ lw_tbl := lw_at lw_m7 181 rfl
theorem q1753 : (Jvm.Cond.instanceMethod ({ cls := "SoleraCellarModel", name := "labelOf", desc := "(I)I" } : Jvm.MethodName)) ∈ lw_all := lw_g (lw_at lw_m7 182 rfl) rfl
theorem q1754 : (Jvm.Cond.code ({ cls := "SoleraCellarModel", name := "labelOf", desc := "(I)I" } : Jvm.MethodName) prog_23_method_21_code (5 : Nat) (Option.some Jvm.ClassFile.FieldType.int)) ∈ lw_all := lw_g (lw_at lw_m7 183 rfl) rfl
theorem q1755 : (Jvm.Cond.constantLong "SoleraCellarModel" (172 : Nat) (100 : Int64)) ∈ lw_all := lw_g (lw_at lw_m7 184 rfl) rfl
theorem q1756 : (Jvm.Cond.methodLink "SoleraCellarModel" (174 : Nat) ({ cls := "SoleraCellarModel", name := "olderThan", desc := "(II)I" } : Jvm.MethodName)) ∈ lw_all := lw_g (lw_at lw_m7 185 rfl) rfl
theorem q1757 : (Jvm.Cond.privateMethod ({ cls := "SoleraCellarModel", name := "olderThan", desc := "(II)I" } : Jvm.MethodName)) ∈ lw_tbl := lw_at lw_m7 186 rfl
theorem q1758 : (Jvm.Cond.instanceMethod ({ cls := "SoleraCellarModel", name := "olderThan", desc := "(II)I" } : Jvm.MethodName)) ∈ lw_all := lw_g (lw_at lw_m7 187 rfl) rfl
theorem q1759 : (Jvm.Cond.code ({ cls := "SoleraCellarModel", name := "olderThan", desc := "(II)I" } : Jvm.MethodName) prog_23_method_20_code (5 : Nat) (Option.some Jvm.ClassFile.FieldType.int)) ∈ lw_all := lw_g (lw_at lw_m7 188 rfl) rfl
theorem q1760 : (Jvm.Cond.methodLink "SoleraCellarModel" (191 : Nat) ({ cls := "SoleraCellarModel", name := "losesOf", desc := "(I)I" } : Jvm.MethodName)) ∈ lw_all := lw_g (lw_at lw_m7 189 rfl) rfl
theorem q1761 : (Jvm.Cond.privateMethod ({ cls := "SoleraCellarModel", name := "losesOf", desc := "(I)I" } : Jvm.MethodName)) ∈ lw_tbl := lw_at lw_m7 190 rfl
theorem q1762 : (Jvm.Cond.instanceMethod ({ cls := "SoleraCellarModel", name := "losesOf", desc := "(I)I" } : Jvm.MethodName)) ∈ lw_all := lw_g (lw_at lw_m7 191 rfl) rfl
theorem q1763 : (Jvm.Cond.code ({ cls := "SoleraCellarModel", name := "losesOf", desc := "(I)I" } : Jvm.MethodName) prog_23_method_68_code (2 : Nat) (Option.some Jvm.ClassFile.FieldType.int)) ∈ lw_all := lw_g (lw_at lw_m7 192 rfl) rfl
theorem q1764 : (Jvm.Cond.methodLink "SoleraCellarModel" (410 : Nat) ({ cls := "SoleraCellarModel", name := "tells", desc := "(IIJ)J" } : Jvm.MethodName)) ∈ lw_all := lw_g (lw_at lw_m7 193 rfl) rfl
theorem q1765 : (Jvm.Cond.privateMethod ({ cls := "SoleraCellarModel", name := "tells", desc := "(IIJ)J" } : Jvm.MethodName)) ∈ lw_tbl := lw_at lw_m7 194 rfl
theorem q1766 : (Jvm.Cond.instanceMethod ({ cls := "SoleraCellarModel", name := "tells", desc := "(IIJ)J" } : Jvm.MethodName)) ∈ lw_all := lw_g (lw_at lw_m7 195 rfl) rfl
theorem q1767 : (Jvm.Cond.code ({ cls := "SoleraCellarModel", name := "tells", desc := "(IIJ)J" } : Jvm.MethodName) prog_23_method_67_code (10 : Nat) (Option.some Jvm.ClassFile.FieldType.long)) ∈ lw_all := lw_g (lw_at lw_m7 196 rfl) rfl
theorem q1768 : (Jvm.Cond.methodLink "SoleraCellarModel" (377 : Nat) ({ cls := "SoleraCellarModel", name := "wholeMean", desc := "(I)I" } : Jvm.MethodName)) ∈ lw_all := lw_g (lw_at lw_m7 197 rfl) rfl
theorem q1769 : (Jvm.Cond.privateMethod ({ cls := "SoleraCellarModel", name := "wholeMean", desc := "(I)I" } : Jvm.MethodName)) ∈ lw_tbl := lw_at lw_m7 198 rfl
theorem q1770 : (Jvm.Cond.instanceMethod ({ cls := "SoleraCellarModel", name := "wholeMean", desc := "(I)I" } : Jvm.MethodName)) ∈ lw_all := lw_g (lw_at lw_m7 199 rfl) rfl
theorem q1771 : (Jvm.Cond.code ({ cls := "SoleraCellarModel", name := "wholeMean", desc := "(I)I" } : Jvm.MethodName) prog_23_method_19_code (3 : Nat) (Option.some Jvm.ClassFile.FieldType.int)) ∈ lw_all := lw_g (lw_at lw_m7 200 rfl) rfl
theorem q1772 : (Jvm.Cond.methodLink "SoleraCellarModel" (407 : Nat) ({ cls := "SoleraCellarModel", name := "isSo", desc := "(I)Z" } : Jvm.MethodName)) ∈ lw_all := lw_g (lw_at lw_m7 201 rfl) rfl
theorem q1773 : (Jvm.Cond.privateMethod ({ cls := "SoleraCellarModel", name := "isSo", desc := "(I)Z" } : Jvm.MethodName)) ∈ lw_tbl := lw_at lw_m7 202 rfl
theorem q1774 : (Jvm.Cond.instanceMethod ({ cls := "SoleraCellarModel", name := "isSo", desc := "(I)Z" } : Jvm.MethodName)) ∈ lw_all := lw_g (lw_at lw_m7 203 rfl) rfl
theorem q1775 : (Jvm.Cond.code ({ cls := "SoleraCellarModel", name := "isSo", desc := "(I)Z" } : Jvm.MethodName) prog_23_method_66_code (2 : Nat) (Option.some Jvm.ClassFile.FieldType.boolean)) ∈ lw_all := lw_g (lw_at lw_m7 204 rfl) rfl
theorem q1776 : (Jvm.Cond.methodLink "SoleraCellarModel" (401 : Nat) ({ cls := "SoleraCellarModel", name := "reckonAll", desc := "(II)V" } : Jvm.MethodName)) ∈ lw_all := lw_g (lw_at lw_m7 205 rfl) rfl
theorem q1777 : (Jvm.Cond.privateMethod ({ cls := "SoleraCellarModel", name := "reckonAll", desc := "(II)V" } : Jvm.MethodName)) ∈ lw_tbl := lw_at lw_m7 206 rfl
theorem q1778 : (Jvm.Cond.instanceMethod ({ cls := "SoleraCellarModel", name := "reckonAll", desc := "(II)V" } : Jvm.MethodName)) ∈ lw_all := lw_g (lw_at lw_m7 207 rfl) rfl
theorem q1779 : (Jvm.Cond.code ({ cls := "SoleraCellarModel", name := "reckonAll", desc := "(II)V" } : Jvm.MethodName) prog_23_method_65_code (7 : Nat) (Option.none : Option Jvm.ClassFile.FieldType)) ∈ lw_all := lw_g (lw_at lw_m7 208 rfl) rfl
theorem q1780 : (Jvm.Cond.methodLink "SoleraCellarModel" (386 : Nat) ({ cls := "SoleraCellarModel", name := "factOf", desc := "(II)J" } : Jvm.MethodName)) ∈ lw_all := lw_g (lw_at lw_m7 209 rfl) rfl
theorem q1781 : (Jvm.Cond.privateMethod ({ cls := "SoleraCellarModel", name := "factOf", desc := "(II)J" } : Jvm.MethodName)) ∈ lw_tbl := lw_at lw_m7 210 rfl
theorem q1782 : (Jvm.Cond.instanceMethod ({ cls := "SoleraCellarModel", name := "factOf", desc := "(II)J" } : Jvm.MethodName)) ∈ lw_all := lw_g (lw_at lw_m7 211 rfl) rfl
theorem q1783 : (Jvm.Cond.code ({ cls := "SoleraCellarModel", name := "factOf", desc := "(II)J" } : Jvm.MethodName) prog_23_method_63_code (3 : Nat) (Option.some Jvm.ClassFile.FieldType.long)) ∈ lw_all := lw_g (lw_at lw_m7 212 rfl) rfl
theorem q1784 : (Jvm.Cond.constantLong "SoleraCellarModel" (206 : Nat) (-1 : Int64)) ∈ lw_all := lw_g (lw_at lw_m7 213 rfl) rfl
theorem q1785 : (Jvm.Cond.methodLink "SoleraCellarModel" (374 : Nat) ({ cls := "SoleraCellarModel", name := "roomOf", desc := "(I)I" } : Jvm.MethodName)) ∈ lw_all := lw_g (lw_at lw_m7 214 rfl) rfl
theorem q1786 : (Jvm.Cond.privateMethod ({ cls := "SoleraCellarModel", name := "roomOf", desc := "(I)I" } : Jvm.MethodName)) ∈ lw_tbl := lw_at lw_m7 215 rfl
theorem q1787 : (Jvm.Cond.instanceMethod ({ cls := "SoleraCellarModel", name := "roomOf", desc := "(I)I" } : Jvm.MethodName)) ∈ lw_all := lw_g (lw_at lw_m7 216 rfl) rfl
theorem q1788 : (Jvm.Cond.code ({ cls := "SoleraCellarModel", name := "roomOf", desc := "(I)I" } : Jvm.MethodName) prog_23_method_22_code (2 : Nat) (Option.some Jvm.ClassFile.FieldType.int)) ∈ lw_all := lw_g (lw_at lw_m7 217 rfl) rfl
theorem q1789 : (Jvm.Cond.methodLink "SoleraCellarModel" (390 : Nat) ({ cls := "SoleraCellarModel", name := "reckon", desc := "(IJJ)J" } : Jvm.MethodName)) ∈ lw_all := lw_g (lw_at lw_m7 218 rfl) rfl
theorem q1790 : (Jvm.Cond.privateMethod ({ cls := "SoleraCellarModel", name := "reckon", desc := "(IJJ)J" } : Jvm.MethodName)) ∈ lw_tbl := lw_at lw_m7 219 rfl
theorem q1791 : (Jvm.Cond.instanceMethod ({ cls := "SoleraCellarModel", name := "reckon", desc := "(IJJ)J" } : Jvm.MethodName)) ∈ lw_all := lw_g (lw_at lw_m7 220 rfl) rfl
theorem q1792 : (Jvm.Cond.code ({ cls := "SoleraCellarModel", name := "reckon", desc := "(IJJ)J" } : Jvm.MethodName) prog_23_method_64_code (6 : Nat) (Option.some Jvm.ClassFile.FieldType.long)) ∈ lw_all := lw_g (lw_at lw_m7 221 rfl) rfl
theorem q1793 : (Jvm.Cond.constantLong "SoleraCellarModel" (394 : Nat) (-1000000000 : Int64)) ∈ lw_all := lw_g (lw_at lw_m7 222 rfl) rfl
theorem q1794 : (Jvm.Cond.constantLong "SoleraCellarModel" (396 : Nat) (1000000000 : Int64)) ∈ lw_all := lw_g (lw_at lw_m7 223 rfl) rfl
theorem q1795 : (Jvm.Cond.methodLink "SoleraCellarModel" (414 : Nat) ({ cls := "SoleraCellarModel", name := "bounded", desc := "(JII)I" } : Jvm.MethodName)) ∈ lw_all := lw_g (lw_at lw_m7 224 rfl) rfl
theorem q1796 : (Jvm.Cond.static ({ cls := "SoleraCellarModel", name := "bounded", desc := "(JII)I" } : Jvm.MethodName)) ∈ lw_all := lw_g (lw_at lw_m7 225 rfl) rfl
theorem q1797 : (Jvm.Cond.code ({ cls := "SoleraCellarModel", name := "bounded", desc := "(JII)I" } : Jvm.MethodName) prog_23_method_5_code (4 : Nat) (Option.some Jvm.ClassFile.FieldType.int)) ∈ lw_all := lw_g (lw_at lw_m7 226 rfl) rfl
theorem q1798 : (Jvm.Cond.methodLink "SoleraCellarModel" (194 : Nat) ({ cls := "SoleraCellarModel", name := "yieldsOf", desc := "(I)I" } : Jvm.MethodName)) ∈ lw_all := lw_g (lw_at lw_m7 227 rfl) rfl
theorem q1799 : (Jvm.Cond.privateMethod ({ cls := "SoleraCellarModel", name := "yieldsOf", desc := "(I)I" } : Jvm.MethodName)) ∈ lw_tbl := lw_at lw_m7 228 rfl
theorem q1800 : (Jvm.Cond.instanceMethod ({ cls := "SoleraCellarModel", name := "yieldsOf", desc := "(I)I" } : Jvm.MethodName)) ∈ lw_all := lw_g (lw_at lw_m7 229 rfl) rfl
theorem q1801 : (Jvm.Cond.code ({ cls := "SoleraCellarModel", name := "yieldsOf", desc := "(I)I" } : Jvm.MethodName) prog_23_method_69_code (2 : Nat) (Option.some Jvm.ClassFile.FieldType.int)) ∈ lw_all := lw_g (lw_at lw_m7 230 rfl) rfl
theorem q1802 : (Jvm.Cond.methodLink "SoleraCellarModel" (197 : Nat) ({ cls := "SoleraCellarModel", name := "isBarred", desc := "(I)Z" } : Jvm.MethodName)) ∈ lw_all := lw_g (lw_at lw_m7 231 rfl) rfl
theorem q1803 : (Jvm.Cond.privateMethod ({ cls := "SoleraCellarModel", name := "isBarred", desc := "(I)Z" } : Jvm.MethodName)) ∈ lw_tbl := lw_at lw_m7 232 rfl
theorem q1804 : (Jvm.Cond.instanceMethod ({ cls := "SoleraCellarModel", name := "isBarred", desc := "(I)Z" } : Jvm.MethodName)) ∈ lw_all := lw_g (lw_at lw_m7 233 rfl) rfl
theorem q1805 : (Jvm.Cond.code ({ cls := "SoleraCellarModel", name := "isBarred", desc := "(I)Z" } : Jvm.MethodName) prog_23_method_70_code (2 : Nat) (Option.some Jvm.ClassFile.FieldType.boolean)) ∈ lw_all := lw_g (lw_at lw_m7 234 rfl) rfl
theorem q1806 : (Jvm.Cond.constantLong "SoleraCellarModel" (200 : Nat) (8 : Int64)) ∈ lw_all := lw_g (lw_at lw_m7 235 rfl) rfl
theorem q1807 : (Jvm.Cond.constantLong "SoleraCellarModel" (202 : Nat) (27 : Int64)) ∈ lw_all := lw_g (lw_at lw_m7 236 rfl) rfl
theorem q1809 : (Jvm.Cond.instanceMethod ({ cls := "SoleraCellarModel", name := "old", desc := "(II)J" } : Jvm.MethodName)) ∈ lw_all := lw_g (lw_at lw_m7 238 rfl) rfl
theorem q1810 : (Jvm.Cond.selects "SoleraCellarModel" ({ cls := "SoleraCellarModel", name := "old", desc := "(II)J" } : Jvm.MethodName) ({ cls := "SoleraCellarModel", name := "old", desc := "(II)J" } : Jvm.MethodName)) ∈ lw_all := lw_g (lw_at lw_m7 239 rfl) rfl
theorem q1811 : (Jvm.Cond.code ({ cls := "SoleraCellarModel", name := "old", desc := "(II)J" } : Jvm.MethodName) prog_23_method_26_code (3 : Nat) (Option.some Jvm.ClassFile.FieldType.long)) ∈ lw_all := lw_g (lw_at lw_m8 0 rfl) rfl
theorem q1812 : (Jvm.Cond.constantLong "SoleraCellarModel" (204 : Nat) (19 : Int64)) ∈ lw_all := lw_g (lw_at lw_m8 1 rfl) rfl
theorem q1813 : (Jvm.Cond.constantLong "SoleraCellarModel" (208 : Nat) (1000000000000 : Int64)) ∈ lw_all := lw_g (lw_at lw_m8 2 rfl) rfl
theorem q1815 : (Jvm.Cond.instanceMethod ({ cls := "SoleraCellarModel", name := "terms", desc := "(II)I" } : Jvm.MethodName)) ∈ lw_all := lw_g (lw_at lw_m8 4 rfl) rfl
theorem q1816 : (Jvm.Cond.selects "SoleraCellarModel" ({ cls := "SoleraCellarModel", name := "terms", desc := "(II)I" } : Jvm.MethodName) ({ cls := "SoleraCellarModel", name := "terms", desc := "(II)I" } : Jvm.MethodName)) ∈ lw_all := lw_g (lw_at lw_m8 5 rfl) rfl
theorem q1817 : (Jvm.Cond.code ({ cls := "SoleraCellarModel", name := "terms", desc := "(II)I" } : Jvm.MethodName) prog_23_method_27_code (4 : Nat) (Option.some Jvm.ClassFile.FieldType.int)) ∈ lw_all := lw_g (lw_at lw_m8 6 rfl) rfl
theorem q1818 : (Jvm.Cond.constantLong "SoleraCellarModel" (210 : Nat) (10 : Int64)) ∈ lw_all := lw_g (lw_at lw_m8 7 rfl) rfl
theorem q1819 : (Jvm.Cond.constantLong "SoleraCellarModel" (212 : Nat) (9 : Int64)) ∈ lw_all := lw_g (lw_at lw_m8 8 rfl) rfl
theorem q1820 : (Jvm.Cond.methodLink "SoleraCellarModel" (214 : Nat) ({ cls := "SoleraCellarModel", name := "change", desc := "(II)I" } : Jvm.MethodName)) ∈ lw_all := lw_g (lw_at lw_m8 9 rfl) rfl
theorem q1821 : (Jvm.Cond.privateMethod ({ cls := "SoleraCellarModel", name := "change", desc := "(II)I" } : Jvm.MethodName)) ∈ lw_tbl := lw_at lw_m8 10 rfl
theorem q1822 : (Jvm.Cond.instanceMethod ({ cls := "SoleraCellarModel", name := "change", desc := "(II)I" } : Jvm.MethodName)) ∈ lw_all := lw_g (lw_at lw_m8 11 rfl) rfl
theorem q1823 : (Jvm.Cond.code ({ cls := "SoleraCellarModel", name := "change", desc := "(II)I" } : Jvm.MethodName) prog_23_method_7_code (4 : Nat) (Option.some Jvm.ClassFile.FieldType.int)) ∈ lw_all := lw_g (lw_at lw_m8 12 rfl) rfl
theorem q1825 : (Jvm.Cond.instanceMethod ({ cls := "SoleraCellarModel", name := "row", desc := "()I" } : Jvm.MethodName)) ∈ lw_all := lw_g (lw_at lw_m8 14 rfl) rfl
theorem q1826 : (Jvm.Cond.selects "SoleraCellarModel" ({ cls := "SoleraCellarModel", name := "row", desc := "()I" } : Jvm.MethodName) ({ cls := "SoleraCellarModel", name := "row", desc := "()I" } : Jvm.MethodName)) ∈ lw_all := lw_g (lw_at lw_m8 15 rfl) rfl
theorem q1827 : (Jvm.Cond.code ({ cls := "SoleraCellarModel", name := "row", desc := "()I" } : Jvm.MethodName) prog_23_method_28_code (5 : Nat) (Option.some Jvm.ClassFile.FieldType.int)) ∈ lw_all := lw_g (lw_at lw_m8 16 rfl) rfl
theorem q1829 : (Jvm.Cond.instanceMethod ({ cls := "SoleraCellarModel", name := "leaks", desc := "()I" } : Jvm.MethodName)) ∈ lw_all := lw_g (lw_at lw_m8 18 rfl) rfl
theorem q1830 : (Jvm.Cond.selects "SoleraCellarModel" ({ cls := "SoleraCellarModel", name := "leaks", desc := "()I" } : Jvm.MethodName) ({ cls := "SoleraCellarModel", name := "leaks", desc := "()I" } : Jvm.MethodName)) ∈ lw_all := lw_g (lw_at lw_m8 19 rfl) rfl
theorem q1831 : (Jvm.Cond.code ({ cls := "SoleraCellarModel", name := "leaks", desc := "()I" } : Jvm.MethodName) prog_23_method_29_code (1 : Nat) (Option.some Jvm.ClassFile.FieldType.int)) ∈ lw_all := lw_g (lw_at lw_m8 20 rfl) rfl
theorem q1833 : (Jvm.Cond.instanceMethod ({ cls := "SoleraCellarModel", name := "feed", desc := "(IIIII)I" } : Jvm.MethodName)) ∈ lw_all := lw_g (lw_at lw_m8 22 rfl) rfl
theorem q1834 : (Jvm.Cond.selects "SoleraCellarModel" ({ cls := "SoleraCellarModel", name := "feed", desc := "(IIIII)I" } : Jvm.MethodName) ({ cls := "SoleraCellarModel", name := "feed", desc := "(IIIII)I" } : Jvm.MethodName)) ∈ lw_all := lw_g (lw_at lw_m8 23 rfl) rfl
theorem q1835 : (Jvm.Cond.code ({ cls := "SoleraCellarModel", name := "feed", desc := "(IIIII)I" } : Jvm.MethodName) prog_23_method_31_code (6 : Nat) (Option.some Jvm.ClassFile.FieldType.int)) ∈ lw_all := lw_g (lw_at lw_m8 24 rfl) rfl
theorem q1836 : (Jvm.Cond.methodLink "SoleraCellarModel" (223 : Nat) ({ cls := "SoleraCellarModel", name := "four", desc := "(I)V" } : Jvm.MethodName)) ∈ lw_all := lw_g (lw_at lw_m8 25 rfl) rfl
theorem q1837 : (Jvm.Cond.privateMethod ({ cls := "SoleraCellarModel", name := "four", desc := "(I)V" } : Jvm.MethodName)) ∈ lw_tbl := lw_at lw_m8 26 rfl
theorem q1838 : (Jvm.Cond.instanceMethod ({ cls := "SoleraCellarModel", name := "four", desc := "(I)V" } : Jvm.MethodName)) ∈ lw_all := lw_g (lw_at lw_m8 27 rfl) rfl
theorem q1839 : (Jvm.Cond.code ({ cls := "SoleraCellarModel", name := "four", desc := "(I)V" } : Jvm.MethodName) prog_23_method_30_code (3 : Nat) (Option.none : Option Jvm.ClassFile.FieldType)) ∈ lw_all := lw_g (lw_at lw_m8 28 rfl) rfl
theorem q1841 : (Jvm.Cond.instanceMethod ({ cls := "SoleraCellarModel", name := "end", desc := "(I)I" } : Jvm.MethodName)) ∈ lw_all := lw_g (lw_at lw_m8 30 rfl) rfl
theorem q1842 : (Jvm.Cond.selects "SoleraCellarModel" ({ cls := "SoleraCellarModel", name := "end", desc := "(I)I" } : Jvm.MethodName) ({ cls := "SoleraCellarModel", name := "end", desc := "(I)I" } : Jvm.MethodName)) ∈ lw_all := lw_g (lw_at lw_m8 31 rfl) rfl
theorem q1843 : (Jvm.Cond.code ({ cls := "SoleraCellarModel", name := "end", desc := "(I)I" } : Jvm.MethodName) prog_23_method_32_code (2 : Nat) (Option.some Jvm.ClassFile.FieldType.int)) ∈ lw_all := lw_g (lw_at lw_m8 32 rfl) rfl
theorem q1845 : (Jvm.Cond.instanceMethod ({ cls := "SoleraCellarModel", name := "fault", desc := "()I" } : Jvm.MethodName)) ∈ lw_all := lw_g (lw_at lw_m8 34 rfl) rfl
theorem q1846 : (Jvm.Cond.selects "SoleraCellarModel" ({ cls := "SoleraCellarModel", name := "fault", desc := "()I" } : Jvm.MethodName) ({ cls := "SoleraCellarModel", name := "fault", desc := "()I" } : Jvm.MethodName)) ∈ lw_all := lw_g (lw_at lw_m8 35 rfl) rfl
theorem q1847 : (Jvm.Cond.code ({ cls := "SoleraCellarModel", name := "fault", desc := "()I" } : Jvm.MethodName) prog_23_method_41_code (1 : Nat) (Option.some Jvm.ClassFile.FieldType.int)) ∈ lw_all := lw_g (lw_at lw_m8 36 rfl) rfl
theorem q1849 : (Jvm.Cond.instanceMethod ({ cls := "SoleraCellarModel", name := "law", desc := "()I" } : Jvm.MethodName)) ∈ lw_all := lw_g (lw_at lw_m8 38 rfl) rfl
theorem q1850 : (Jvm.Cond.selects "SoleraCellarModel" ({ cls := "SoleraCellarModel", name := "law", desc := "()I" } : Jvm.MethodName) ({ cls := "SoleraCellarModel", name := "law", desc := "()I" } : Jvm.MethodName)) ∈ lw_all := lw_g (lw_at lw_m8 39 rfl) rfl
theorem q1851 : (Jvm.Cond.code ({ cls := "SoleraCellarModel", name := "law", desc := "()I" } : Jvm.MethodName) prog_23_method_60_code (3 : Nat) (Option.some Jvm.ClassFile.FieldType.int)) ∈ lw_all := lw_g (lw_at lw_m8 40 rfl) rfl
theorem q1852 : (Jvm.Cond.methodLink "SoleraCellarModel" (362 : Nat) ({ cls := "SoleraCellarModel", name := "beginText", desc := "(Z)V" } : Jvm.MethodName)) ∈ lw_all := lw_g (lw_at lw_m8 41 rfl) rfl
theorem q1853 : (Jvm.Cond.privateMethod ({ cls := "SoleraCellarModel", name := "beginText", desc := "(Z)V" } : Jvm.MethodName)) ∈ lw_tbl := lw_at lw_m8 42 rfl
theorem q1854 : (Jvm.Cond.instanceMethod ({ cls := "SoleraCellarModel", name := "beginText", desc := "(Z)V" } : Jvm.MethodName)) ∈ lw_all := lw_g (lw_at lw_m8 43 rfl) rfl
theorem q1855 : (Jvm.Cond.code ({ cls := "SoleraCellarModel", name := "beginText", desc := "(Z)V" } : Jvm.MethodName) prog_23_method_57_code (2 : Nat) (Option.none : Option Jvm.ClassFile.FieldType)) ∈ lw_all := lw_g (lw_at lw_m8 44 rfl) rfl
theorem q1856 : (Jvm.Cond.methodLink "SoleraCellarModel" (351 : Nat) ({ cls := "SoleraCellarModel", name := "begin", desc := "()V" } : Jvm.MethodName)) ∈ lw_all := lw_g (lw_at lw_m8 45 rfl) rfl
theorem q1857 : (Jvm.Cond.privateMethod ({ cls := "SoleraCellarModel", name := "begin", desc := "()V" } : Jvm.MethodName)) ∈ lw_tbl := lw_at lw_m8 46 rfl
theorem q1858 : (Jvm.Cond.instanceMethod ({ cls := "SoleraCellarModel", name := "begin", desc := "()V" } : Jvm.MethodName)) ∈ lw_all := lw_g (lw_at lw_m8 47 rfl) rfl
theorem q1859 : (Jvm.Cond.code ({ cls := "SoleraCellarModel", name := "begin", desc := "()V" } : Jvm.MethodName) prog_23_method_35_code (1 : Nat) (Option.none : Option Jvm.ClassFile.FieldType)) ∈ lw_all := lw_g (lw_at lw_m8 48 rfl) rfl
theorem q1860 : (Jvm.Cond.methodLink "SoleraCellarModel" (233 : Nat) ({ cls := "SoleraCellarModel", name := "next", desc := "()V" } : Jvm.MethodName)) ∈ lw_all := lw_g (lw_at lw_m8 49 rfl) rfl
theorem q1861 : (Jvm.Cond.privateMethod ({ cls := "SoleraCellarModel", name := "next", desc := "()V" } : Jvm.MethodName)) ∈ lw_tbl := lw_at lw_m8 50 rfl
theorem q1862 : (Jvm.Cond.instanceMethod ({ cls := "SoleraCellarModel", name := "next", desc := "()V" } : Jvm.MethodName)) ∈ lw_all := lw_g (lw_at lw_m8 51 rfl) rfl
theorem q1863 : (Jvm.Cond.code ({ cls := "SoleraCellarModel", name := "next", desc := "()V" } : Jvm.MethodName) prog_23_method_36_code (1 : Nat) (Option.none : Option Jvm.ClassFile.FieldType)) ∈ lw_all := lw_g (lw_at lw_m8 52 rfl) rfl
theorem q1864 : (Jvm.Cond.methodLink "SoleraCellarModel" (243 : Nat) ({ cls := "SoleraCellarModel", name := "isSmall", desc := "(I)Z" } : Jvm.MethodName)) ∈ lw_all := lw_g (lw_at lw_m8 53 rfl) rfl
theorem q1865 : (Jvm.Cond.static ({ cls := "SoleraCellarModel", name := "isSmall", desc := "(I)Z" } : Jvm.MethodName)) ∈ lw_all := lw_g (lw_at lw_m8 54 rfl) rfl
theorem q1866 : (Jvm.Cond.code ({ cls := "SoleraCellarModel", name := "isSmall", desc := "(I)Z" } : Jvm.MethodName) prog_23_method_33_code (1 : Nat) (Option.some Jvm.ClassFile.FieldType.boolean)) ∈ lw_all := lw_g (lw_at lw_m8 55 rfl) rfl
theorem q1867 : (Jvm.Cond.methodLink "SoleraCellarModel" (246 : Nat) ({ cls := "SoleraCellarModel", name := "isDigit", desc := "(I)Z" } : Jvm.MethodName)) ∈ lw_all := lw_g (lw_at lw_m8 56 rfl) rfl
theorem q1868 : (Jvm.Cond.static ({ cls := "SoleraCellarModel", name := "isDigit", desc := "(I)Z" } : Jvm.MethodName)) ∈ lw_all := lw_g (lw_at lw_m8 57 rfl) rfl
theorem q1869 : (Jvm.Cond.code ({ cls := "SoleraCellarModel", name := "isDigit", desc := "(I)Z" } : Jvm.MethodName) prog_23_method_34_code (1 : Nat) (Option.some Jvm.ClassFile.FieldType.boolean)) ∈ lw_all := lw_g (lw_at lw_m8 58 rfl) rfl
theorem q1870 : (Jvm.Cond.constantLong "SoleraCellarModel" (252 : Nat) (32 : Int64)) ∈ lw_all := lw_g (lw_at lw_m8 59 rfl) rfl
theorem q1871 : (Jvm.Cond.constantLong "SoleraCellarModel" (254 : Nat) (96 : Int64)) ∈ lw_all := lw_g (lw_at lw_m8 60 rfl) rfl
theorem q1872 : (Jvm.Cond.constantLong "SoleraCellarModel" (256 : Nat) (1000000 : Int64)) ∈ lw_all := lw_g (lw_at lw_m8 61 rfl) rfl
theorem q1873 : (Jvm.Cond.constantLong "SoleraCellarModel" (258 : Nat) (48 : Int64)) ∈ lw_all := lw_g (lw_at lw_m8 62 rfl) rfl
theorem q1874 : (Jvm.Cond.methodLink "SoleraCellarModel" (365 : Nat) ({ cls := "SoleraCellarModel", name := "readLaw", desc := "()V" } : Jvm.MethodName)) ∈ lw_all := lw_g (lw_at lw_m8 63 rfl) rfl
theorem q1875 : (Jvm.Cond.privateMethod ({ cls := "SoleraCellarModel", name := "readLaw", desc := "()V" } : Jvm.MethodName)) ∈ lw_tbl := lw_at lw_m8 64 rfl
theorem q1876 : (Jvm.Cond.instanceMethod ({ cls := "SoleraCellarModel", name := "readLaw", desc := "()V" } : Jvm.MethodName)) ∈ lw_all := lw_g (lw_at lw_m8 65 rfl) rfl
theorem q1877 : (Jvm.Cond.code ({ cls := "SoleraCellarModel", name := "readLaw", desc := "()V" } : Jvm.MethodName) prog_23_method_59_code (4 : Nat) (Option.none : Option Jvm.ClassFile.FieldType)) ∈ lw_all := lw_g (lw_at lw_m8 66 rfl) rfl
theorem q1878 : (Jvm.Cond.methodLink "SoleraCellarModel" (283 : Nat) ({ cls := "SoleraCellarModel", name := "isWord", desc := "(J)Z" } : Jvm.MethodName)) ∈ lw_all := lw_g (lw_at lw_m8 67 rfl) rfl
theorem q1879 : (Jvm.Cond.privateMethod ({ cls := "SoleraCellarModel", name := "isWord", desc := "(J)Z" } : Jvm.MethodName)) ∈ lw_tbl := lw_at lw_m8 68 rfl
theorem q1880 : (Jvm.Cond.instanceMethod ({ cls := "SoleraCellarModel", name := "isWord", desc := "(J)Z" } : Jvm.MethodName)) ∈ lw_all := lw_g (lw_at lw_m8 69 rfl) rfl
theorem q1881 : (Jvm.Cond.code ({ cls := "SoleraCellarModel", name := "isWord", desc := "(J)Z" } : Jvm.MethodName) prog_23_method_37_code (3 : Nat) (Option.some Jvm.ClassFile.FieldType.boolean)) ∈ lw_all := lw_g (lw_at lw_m8 70 rfl) rfl
theorem q1882 : (Jvm.Cond.methodLink "SoleraCellarModel" (260 : Nat) ({ cls := "SoleraCellarModel", name := "must", desc := "(Z)V" } : Jvm.MethodName)) ∈ lw_all := lw_g (lw_at lw_m8 71 rfl) rfl
theorem q1883 : (Jvm.Cond.privateMethod ({ cls := "SoleraCellarModel", name := "must", desc := "(Z)V" } : Jvm.MethodName)) ∈ lw_tbl := lw_at lw_m8 72 rfl
theorem q1884 : (Jvm.Cond.instanceMethod ({ cls := "SoleraCellarModel", name := "must", desc := "(Z)V" } : Jvm.MethodName)) ∈ lw_all := lw_g (lw_at lw_m8 73 rfl) rfl
theorem q1885 : (Jvm.Cond.code ({ cls := "SoleraCellarModel", name := "must", desc := "(Z)V" } : Jvm.MethodName) prog_23_method_39_code (2 : Nat) (Option.none : Option Jvm.ClassFile.FieldType)) ∈ lw_all := lw_g (lw_at lw_m8 74 rfl) rfl
theorem q1886 : (Jvm.Cond.methodLink "SoleraCellarModel" (357 : Nat) ({ cls := "SoleraCellarModel", name := "readExpression", desc := "(Z)V" } : Jvm.MethodName)) ∈ lw_all := lw_g (lw_at lw_m8 75 rfl) rfl
theorem q1887 : (Jvm.Cond.privateMethod ({ cls := "SoleraCellarModel", name := "readExpression", desc := "(Z)V" } : Jvm.MethodName)) ∈ lw_tbl := lw_at lw_m8 76 rfl
theorem q1888 : (Jvm.Cond.instanceMethod ({ cls := "SoleraCellarModel", name := "readExpression", desc := "(Z)V" } : Jvm.MethodName)) ∈ lw_all := lw_g (lw_at lw_m8 77 rfl) rfl
theorem q1889 : (Jvm.Cond.code ({ cls := "SoleraCellarModel", name := "readExpression", desc := "(Z)V" } : Jvm.MethodName) prog_23_method_56_code (3 : Nat) (Option.none : Option Jvm.ClassFile.FieldType)) ∈ lw_all := lw_g (lw_at lw_m8 78 rfl) rfl
theorem q1890 : (Jvm.Cond.methodLink "SoleraCellarModel" (341 : Nat) ({ cls := "SoleraCellarModel", name := "readPlain", desc := "()I" } : Jvm.MethodName)) ∈ lw_all := lw_g (lw_at lw_m8 79 rfl) rfl
theorem q1891 : (Jvm.Cond.privateMethod ({ cls := "SoleraCellarModel", name := "readPlain", desc := "()I" } : Jvm.MethodName)) ∈ lw_tbl := lw_at lw_m8 80 rfl
theorem q1892 : (Jvm.Cond.instanceMethod ({ cls := "SoleraCellarModel", name := "readPlain", desc := "()I" } : Jvm.MethodName)) ∈ lw_all := lw_g (lw_at lw_m8 81 rfl) rfl
theorem q1893 : (Jvm.Cond.code ({ cls := "SoleraCellarModel", name := "readPlain", desc := "()I" } : Jvm.MethodName) prog_23_method_53_code (1 : Nat) (Option.some Jvm.ClassFile.FieldType.int)) ∈ lw_all := lw_g (lw_at lw_m8 82 rfl) rfl
theorem q1894 : (Jvm.Cond.constantLong "SoleraCellarModel" (322 : Nat) (14836 : Int64)) ∈ lw_all := lw_g (lw_at lw_m8 83 rfl) rfl
theorem q1895 : (Jvm.Cond.methodLink "SoleraCellarModel" (290 : Nat) ({ cls := "SoleraCellarModel", name := "push", desc := "(II)V" } : Jvm.MethodName)) ∈ lw_all := lw_g (lw_at lw_m8 84 rfl) rfl
theorem q1896 : (Jvm.Cond.privateMethod ({ cls := "SoleraCellarModel", name := "push", desc := "(II)V" } : Jvm.MethodName)) ∈ lw_tbl := lw_at lw_m8 85 rfl
theorem q1897 : (Jvm.Cond.instanceMethod ({ cls := "SoleraCellarModel", name := "push", desc := "(II)V" } : Jvm.MethodName)) ∈ lw_all := lw_g (lw_at lw_m8 86 rfl) rfl
theorem q1898 : (Jvm.Cond.code ({ cls := "SoleraCellarModel", name := "push", desc := "(II)V" } : Jvm.MethodName) prog_23_method_43_code (3 : Nat) (Option.none : Option Jvm.ClassFile.FieldType)) ∈ lw_all := lw_g (lw_at lw_m8 87 rfl) rfl
theorem q1899 : (Jvm.Cond.methodLink "SoleraCellarModel" (296 : Nat) ({ cls := "SoleraCellarModel", name := "isSign", desc := "(I)Z" } : Jvm.MethodName)) ∈ lw_all := lw_g (lw_at lw_m8 88 rfl) rfl
theorem q1900 : (Jvm.Cond.privateMethod ({ cls := "SoleraCellarModel", name := "isSign", desc := "(I)Z" } : Jvm.MethodName)) ∈ lw_tbl := lw_at lw_m8 89 rfl
theorem q1901 : (Jvm.Cond.instanceMethod ({ cls := "SoleraCellarModel", name := "isSign", desc := "(I)Z" } : Jvm.MethodName)) ∈ lw_all := lw_g (lw_at lw_m8 90 rfl) rfl
theorem q1902 : (Jvm.Cond.code ({ cls := "SoleraCellarModel", name := "isSign", desc := "(I)Z" } : Jvm.MethodName) prog_23_method_38_code (2 : Nat) (Option.some Jvm.ClassFile.FieldType.boolean)) ∈ lw_all := lw_g (lw_at lw_m8 91 rfl) rfl
theorem q1903 : (Jvm.Cond.methodLink "SoleraCellarModel" (299 : Nat) ({ cls := "SoleraCellarModel", name := "openBracket", desc := "(I)V" } : Jvm.MethodName)) ∈ lw_all := lw_g (lw_at lw_m8 92 rfl) rfl
theorem q1904 : (Jvm.Cond.privateMethod ({ cls := "SoleraCellarModel", name := "openBracket", desc := "(I)V" } : Jvm.MethodName)) ∈ lw_tbl := lw_at lw_m8 93 rfl
theorem q1905 : (Jvm.Cond.instanceMethod ({ cls := "SoleraCellarModel", name := "openBracket", desc := "(I)V" } : Jvm.MethodName)) ∈ lw_all := lw_g (lw_at lw_m8 94 rfl) rfl
theorem q1906 : (Jvm.Cond.code ({ cls := "SoleraCellarModel", name := "openBracket", desc := "(I)V" } : Jvm.MethodName) prog_23_method_50_code (2 : Nat) (Option.none : Option Jvm.ClassFile.FieldType)) ∈ lw_all := lw_g (lw_at lw_m8 95 rfl) rfl
theorem q1907 : (Jvm.Cond.methodLink "SoleraCellarModel" (324 : Nat) ({ cls := "SoleraCellarModel", name := "readPart", desc := "()I" } : Jvm.MethodName)) ∈ lw_all := lw_g (lw_at lw_m8 96 rfl) rfl
theorem q1908 : (Jvm.Cond.privateMethod ({ cls := "SoleraCellarModel", name := "readPart", desc := "()I" } : Jvm.MethodName)) ∈ lw_tbl := lw_at lw_m8 97 rfl
theorem q1909 : (Jvm.Cond.instanceMethod ({ cls := "SoleraCellarModel", name := "readPart", desc := "()I" } : Jvm.MethodName)) ∈ lw_all := lw_g (lw_at lw_m8 98 rfl) rfl
theorem q1910 : (Jvm.Cond.code ({ cls := "SoleraCellarModel", name := "readPart", desc := "()I" } : Jvm.MethodName) prog_23_method_52_code (4 : Nat) (Option.some Jvm.ClassFile.FieldType.int)) ∈ lw_all := lw_g (lw_at lw_m8 99 rfl) rfl
theorem q1911 : (Jvm.Cond.methodLink "SoleraCellarModel" (305 : Nat) ({ cls := "SoleraCellarModel", name := "orderPartAt", desc := "()I" } : Jvm.MethodName)) ∈ lw_all := lw_g (lw_at lw_m8 100 rfl) rfl
theorem q1912 : (Jvm.Cond.privateMethod ({ cls := "SoleraCellarModel", name := "orderPartAt", desc := "()I" } : Jvm.MethodName)) ∈ lw_tbl := lw_at lw_m8 101 rfl
theorem q1913 : (Jvm.Cond.instanceMethod ({ cls := "SoleraCellarModel", name := "orderPartAt", desc := "()I" } : Jvm.MethodName)) ∈ lw_all := lw_g (lw_at lw_m8 102 rfl) rfl
theorem q1914 : (Jvm.Cond.code ({ cls := "SoleraCellarModel", name := "orderPartAt", desc := "()I" } : Jvm.MethodName) prog_23_method_49_code (3 : Nat) (Option.some Jvm.ClassFile.FieldType.int)) ∈ lw_all := lw_g (lw_at lw_m8 103 rfl) rfl
theorem q1915 : (Jvm.Cond.methodLink "SoleraCellarModel" (309 : Nat) ({ cls := "SoleraCellarModel", name := "partAt", desc := "()I" } : Jvm.MethodName)) ∈ lw_all := lw_g (lw_at lw_m8 104 rfl) rfl
theorem q1916 : (Jvm.Cond.privateMethod ({ cls := "SoleraCellarModel", name := "partAt", desc := "()I" } : Jvm.MethodName)) ∈ lw_tbl := lw_at lw_m8 105 rfl
theorem q1917 : (Jvm.Cond.instanceMethod ({ cls := "SoleraCellarModel", name := "partAt", desc := "()I" } : Jvm.MethodName)) ∈ lw_all := lw_g (lw_at lw_m8 106 rfl) rfl
theorem q1918 : (Jvm.Cond.code ({ cls := "SoleraCellarModel", name := "partAt", desc := "()I" } : Jvm.MethodName) prog_23_method_48_code (3 : Nat) (Option.some Jvm.ClassFile.FieldType.int)) ∈ lw_all := lw_g (lw_at lw_m8 107 rfl) rfl
theorem q1919 : (Jvm.Cond.methodLink "SoleraCellarModel" (312 : Nat) ({ cls := "SoleraCellarModel", name := "leaf", desc := "(ZII)V" } : Jvm.MethodName)) ∈ lw_all := lw_g (lw_at lw_m8 108 rfl) rfl
theorem q1920 : (Jvm.Cond.privateMethod ({ cls := "SoleraCellarModel", name := "leaf", desc := "(ZII)V" } : Jvm.MethodName)) ∈ lw_tbl := lw_at lw_m8 109 rfl
theorem q1921 : (Jvm.Cond.instanceMethod ({ cls := "SoleraCellarModel", name := "leaf", desc := "(ZII)V" } : Jvm.MethodName)) ∈ lw_all := lw_g (lw_at lw_m8 110 rfl) rfl
theorem q1922 : (Jvm.Cond.code ({ cls := "SoleraCellarModel", name := "leaf", desc := "(ZII)V" } : Jvm.MethodName) prog_23_method_51_code (4 : Nat) (Option.none : Option Jvm.ClassFile.FieldType)) ∈ lw_all := lw_g (lw_at lw_m8 111 rfl) rfl
theorem q1923 : (Jvm.Cond.methodLink "SoleraCellarModel" (273 : Nat) ({ cls := "SoleraCellarModel", name := "emit", desc := "(II)V" } : Jvm.MethodName)) ∈ lw_all := lw_g (lw_at lw_m8 112 rfl) rfl
theorem q1924 : (Jvm.Cond.privateMethod ({ cls := "SoleraCellarModel", name := "emit", desc := "(II)V" } : Jvm.MethodName)) ∈ lw_tbl := lw_at lw_m8 113 rfl
theorem q1925 : (Jvm.Cond.instanceMethod ({ cls := "SoleraCellarModel", name := "emit", desc := "(II)V" } : Jvm.MethodName)) ∈ lw_all := lw_g (lw_at lw_m8 114 rfl) rfl
theorem q1926 : (Jvm.Cond.code ({ cls := "SoleraCellarModel", name := "emit", desc := "(II)V" } : Jvm.MethodName) prog_23_method_42_code (3 : Nat) (Option.none : Option Jvm.ClassFile.FieldType)) ∈ lw_all := lw_g (lw_at lw_m8 115 rfl) rfl
theorem q1927 : (Jvm.Cond.constantLong "SoleraCellarModel" (316 : Nat) (7 : Int64)) ∈ lw_all := lw_g (lw_at lw_m8 116 rfl) rfl
theorem q1928 : (Jvm.Cond.methodLink "SoleraCellarModel" (318 : Nat) ({ cls := "SoleraCellarModel", name := "number", desc := "(JJ)I" } : Jvm.MethodName)) ∈ lw_all := lw_g (lw_at lw_m8 117 rfl) rfl
theorem q1929 : (Jvm.Cond.privateMethod ({ cls := "SoleraCellarModel", name := "number", desc := "(JJ)I" } : Jvm.MethodName)) ∈ lw_tbl := lw_at lw_m8 118 rfl
theorem q1930 : (Jvm.Cond.instanceMethod ({ cls := "SoleraCellarModel", name := "number", desc := "(JJ)I" } : Jvm.MethodName)) ∈ lw_all := lw_g (lw_at lw_m8 119 rfl) rfl
theorem q1931 : (Jvm.Cond.code ({ cls := "SoleraCellarModel", name := "number", desc := "(JJ)I" } : Jvm.MethodName) prog_23_method_40_code (6 : Nat) (Option.some Jvm.ClassFile.FieldType.int)) ∈ lw_all := lw_g (lw_at lw_m8 120 rfl) rfl
theorem q1932 : (Jvm.Cond.methodLink "SoleraCellarModel" (344 : Nat) ({ cls := "SoleraCellarModel", name := "behindSum", desc := "(Z)I" } : Jvm.MethodName)) ∈ lw_all := lw_g (lw_at lw_m8 121 rfl) rfl
theorem q1933 : (Jvm.Cond.privateMethod ({ cls := "SoleraCellarModel", name := "behindSum", desc := "(Z)I" } : Jvm.MethodName)) ∈ lw_tbl := lw_at lw_m8 122 rfl
theorem q1934 : (Jvm.Cond.instanceMethod ({ cls := "SoleraCellarModel", name := "behindSum", desc := "(Z)I" } : Jvm.MethodName)) ∈ lw_all := lw_g (lw_at lw_m8 123 rfl) rfl
theorem q1935 : (Jvm.Cond.code ({ cls := "SoleraCellarModel", name := "behindSum", desc := "(Z)I" } : Jvm.MethodName) prog_23_method_54_code (4 : Nat) (Option.some Jvm.ClassFile.FieldType.int)) ∈ lw_all := lw_g (lw_at lw_m8 124 rfl) rfl
theorem q1936 : (Jvm.Cond.methodLink "SoleraCellarModel" (270 : Nat) ({ cls := "SoleraCellarModel", name := "binds", desc := "(I)I" } : Jvm.MethodName)) ∈ lw_all := lw_g (lw_at lw_m8 125 rfl) rfl
theorem q1937 : (Jvm.Cond.static ({ cls := "SoleraCellarModel", name := "binds", desc := "(I)I" } : Jvm.MethodName)) ∈ lw_all := lw_g (lw_at lw_m8 126 rfl) rfl
theorem q1938 : (Jvm.Cond.code ({ cls := "SoleraCellarModel", name := "binds", desc := "(I)I" } : Jvm.MethodName) prog_23_method_44_code (1 : Nat) (Option.some Jvm.ClassFile.FieldType.int)) ∈ lw_all := lw_g (lw_at lw_m8 127 rfl) rfl
theorem q1939 : (Jvm.Cond.methodLink "SoleraCellarModel" (327 : Nat) ({ cls := "SoleraCellarModel", name := "settle", desc := "(I)V" } : Jvm.MethodName)) ∈ lw_all := lw_g (lw_at lw_m8 128 rfl) rfl
theorem q1940 : (Jvm.Cond.privateMethod ({ cls := "SoleraCellarModel", name := "settle", desc := "(I)V" } : Jvm.MethodName)) ∈ lw_tbl := lw_at lw_m8 129 rfl
theorem q1941 : (Jvm.Cond.instanceMethod ({ cls := "SoleraCellarModel", name := "settle", desc := "(I)V" } : Jvm.MethodName)) ∈ lw_all := lw_g (lw_at lw_m8 130 rfl) rfl
theorem q1942 : (Jvm.Cond.code ({ cls := "SoleraCellarModel", name := "settle", desc := "(I)V" } : Jvm.MethodName) prog_23_method_45_code (2 : Nat) (Option.none : Option Jvm.ClassFile.FieldType)) ∈ lw_all := lw_g (lw_at lw_m8 131 rfl) rfl
theorem q1943 : (Jvm.Cond.methodLink "SoleraCellarModel" (330 : Nat) ({ cls := "SoleraCellarModel", name := "inner", desc := "()I" } : Jvm.MethodName)) ∈ lw_all := lw_g (lw_at lw_m8 132 rfl) rfl
theorem q1944 : (Jvm.Cond.privateMethod ({ cls := "SoleraCellarModel", name := "inner", desc := "()I" } : Jvm.MethodName)) ∈ lw_tbl := lw_at lw_m8 133 rfl
theorem q1945 : (Jvm.Cond.instanceMethod ({ cls := "SoleraCellarModel", name := "inner", desc := "()I" } : Jvm.MethodName)) ∈ lw_all := lw_g (lw_at lw_m8 134 rfl) rfl
theorem q1946 : (Jvm.Cond.code ({ cls := "SoleraCellarModel", name := "inner", desc := "()I" } : Jvm.MethodName) prog_23_method_46_code (3 : Nat) (Option.some Jvm.ClassFile.FieldType.int)) ∈ lw_all := lw_g (lw_at lw_m8 135 rfl) rfl
theorem q1947 : (Jvm.Cond.methodLink "SoleraCellarModel" (333 : Nat) ({ cls := "SoleraCellarModel", name := "isCompared", desc := "()Z" } : Jvm.MethodName)) ∈ lw_all := lw_g (lw_at lw_m8 136 rfl) rfl
theorem q1948 : (Jvm.Cond.privateMethod ({ cls := "SoleraCellarModel", name := "isCompared", desc := "()Z" } : Jvm.MethodName)) ∈ lw_tbl := lw_at lw_m8 137 rfl
theorem q1949 : (Jvm.Cond.instanceMethod ({ cls := "SoleraCellarModel", name := "isCompared", desc := "()Z" } : Jvm.MethodName)) ∈ lw_all := lw_g (lw_at lw_m8 138 rfl) rfl
theorem q1950 : (Jvm.Cond.code ({ cls := "SoleraCellarModel", name := "isCompared", desc := "()Z" } : Jvm.MethodName) prog_23_method_47_code (2 : Nat) (Option.some Jvm.ClassFile.FieldType.boolean)) ∈ lw_all := lw_g (lw_at lw_m8 139 rfl) rfl
theorem q1951 : (Jvm.Cond.constantLong "SoleraCellarModel" (277 : Nat) (20 : Int64)) ∈ lw_all := lw_g (lw_at lw_m8 140 rfl) rfl
theorem q1952 : (Jvm.Cond.constantLong "SoleraCellarModel" (279 : Nat) (24 : Int64)) ∈ lw_all := lw_g (lw_at lw_m8 141 rfl) rfl
theorem q1953 : (Jvm.Cond.constantLong "SoleraCellarModel" (281 : Nat) (25 : Int64)) ∈ lw_all := lw_g (lw_at lw_m8 142 rfl) rfl
theorem q1954 : (Jvm.Cond.methodLink "SoleraCellarModel" (348 : Nat) ({ cls := "SoleraCellarModel", name := "behindTest", desc := "()I" } : Jvm.MethodName)) ∈ lw_all := lw_g (lw_at lw_m8 143 rfl) rfl
theorem q1955 : (Jvm.Cond.privateMethod ({ cls := "SoleraCellarModel", name := "behindTest", desc := "()I" } : Jvm.MethodName)) ∈ lw_tbl := lw_at lw_m8 144 rfl
theorem q1956 : (Jvm.Cond.instanceMethod ({ cls := "SoleraCellarModel", name := "behindTest", desc := "()I" } : Jvm.MethodName)) ∈ lw_all := lw_g (lw_at lw_m8 145 rfl) rfl
theorem q1957 : (Jvm.Cond.code ({ cls := "SoleraCellarModel", name := "behindTest", desc := "()I" } : Jvm.MethodName) prog_23_method_55_code (2 : Nat) (Option.some Jvm.ClassFile.FieldType.int)) ∈ lw_all := lw_g (lw_at lw_m8 146 rfl) rfl
theorem q1958 : (Jvm.Cond.constantLong "SoleraCellarModel" (337 : Nat) (1476 : Int64)) ∈ lw_all := lw_g (lw_at lw_m8 147 rfl) rfl
theorem q1959 : (Jvm.Cond.constantLong "SoleraCellarModel" (339 : Nat) (498 : Int64)) ∈ lw_all := lw_g (lw_at lw_m8 148 rfl) rfl
theorem q1960 : (Jvm.Cond.constantLong "SoleraCellarModel" (360 : Nat) (294 : Int64)) ∈ lw_all := lw_g (lw_at lw_m8 149 rfl) rfl
theorem q1961 : (Jvm.Cond.methodLink "SoleraCellarModel" (368 : Nat) ({ cls := "SoleraCellarModel", name := "endText", desc := "()V" } : Jvm.MethodName)) ∈ lw_all := lw_g (lw_at lw_m8 150 rfl) rfl
theorem q1962 : (Jvm.Cond.privateMethod ({ cls := "SoleraCellarModel", name := "endText", desc := "()V" } : Jvm.MethodName)) ∈ lw_tbl := lw_at lw_m8 151 rfl
theorem q1963 : (Jvm.Cond.instanceMethod ({ cls := "SoleraCellarModel", name := "endText", desc := "()V" } : Jvm.MethodName)) ∈ lw_all := lw_g (lw_at lw_m8 152 rfl) rfl
theorem q1964 : (Jvm.Cond.code ({ cls := "SoleraCellarModel", name := "endText", desc := "()V" } : Jvm.MethodName) prog_23_method_58_code (1 : Nat) (Option.none : Option Jvm.ClassFile.FieldType)) ∈ lw_all := lw_g (lw_at lw_m8 153 rfl) rfl
theorem q1966 : (Jvm.Cond.instanceMethod ({ cls := "SoleraCellarModel", name := "force", desc := "(I)I" } : Jvm.MethodName)) ∈ lw_all := lw_g (lw_at lw_m8 155 rfl) rfl
theorem q1967 : (Jvm.Cond.selects "SoleraCellarModel" ({ cls := "SoleraCellarModel", name := "force", desc := "(I)I" } : Jvm.MethodName) ({ cls := "SoleraCellarModel", name := "force", desc := "(I)I" } : Jvm.MethodName)) ∈ lw_all := lw_g (lw_at lw_m8 156 rfl) rfl
theorem q1968 : (Jvm.Cond.code ({ cls := "SoleraCellarModel", name := "force", desc := "(I)I" } : Jvm.MethodName) prog_23_method_62_code (2 : Nat) (Option.some Jvm.ClassFile.FieldType.int)) ∈ lw_all := lw_g (lw_at lw_m8 157 rfl) rfl
theorem q1969 : (Jvm.Cond.methodLink "SoleraCellarModel" (371 : Nat) ({ cls := "SoleraCellarModel", name := "isLaw", desc := "(I)Z" } : Jvm.MethodName)) ∈ lw_all := lw_g (lw_at lw_m8 158 rfl) rfl
theorem q1970 : (Jvm.Cond.privateMethod ({ cls := "SoleraCellarModel", name := "isLaw", desc := "(I)Z" } : Jvm.MethodName)) ∈ lw_tbl := lw_at lw_m8 159 rfl
theorem q1971 : (Jvm.Cond.instanceMethod ({ cls := "SoleraCellarModel", name := "isLaw", desc := "(I)Z" } : Jvm.MethodName)) ∈ lw_all := lw_g (lw_at lw_m8 160 rfl) rfl
theorem q1972 : (Jvm.Cond.code ({ cls := "SoleraCellarModel", name := "isLaw", desc := "(I)Z" } : Jvm.MethodName) prog_23_method_61_code (2 : Nat) (Option.some Jvm.ClassFile.FieldType.boolean)) ∈ lw_all := lw_g (lw_at lw_m8 161 rfl) rfl
theorem q1974 : (Jvm.Cond.instanceMethod ({ cls := "SoleraCellarModel", name := "pour", desc := "(II)I" } : Jvm.MethodName)) ∈ lw_all := lw_g (lw_at lw_m8 163 rfl) rfl
theorem q1975 : (Jvm.Cond.selects "SoleraCellarModel" ({ cls := "SoleraCellarModel", name := "pour", desc := "(II)I" } : Jvm.MethodName) ({ cls := "SoleraCellarModel", name := "pour", desc := "(II)I" } : Jvm.MethodName)) ∈ lw_all := lw_g (lw_at lw_m8 164 rfl) rfl
theorem q1976 : (Jvm.Cond.code ({ cls := "SoleraCellarModel", name := "pour", desc := "(II)I" } : Jvm.MethodName) prog_23_method_75_code (3 : Nat) (Option.some Jvm.ClassFile.FieldType.int)) ∈ lw_all := lw_g (lw_at lw_m8 165 rfl) rfl
theorem q1977 : (Jvm.Cond.methodLink "SoleraCellarModel" (427 : Nat) ({ cls := "SoleraCellarModel", name := "pourNow", desc := "(II)I" } : Jvm.MethodName)) ∈ lw_all := lw_g (lw_at lw_m8 166 rfl) rfl
theorem q1978 : (Jvm.Cond.privateMethod ({ cls := "SoleraCellarModel", name := "pourNow", desc := "(II)I" } : Jvm.MethodName)) ∈ lw_tbl := lw_at lw_m8 167 rfl
theorem q1979 : (Jvm.Cond.instanceMethod ({ cls := "SoleraCellarModel", name := "pourNow", desc := "(II)I" } : Jvm.MethodName)) ∈ lw_all := lw_g (lw_at lw_m8 168 rfl) rfl
theorem q1980 : (Jvm.Cond.code ({ cls := "SoleraCellarModel", name := "pourNow", desc := "(II)I" } : Jvm.MethodName) prog_23_method_74_code (4 : Nat) (Option.some Jvm.ClassFile.FieldType.int)) ∈ lw_all := lw_g (lw_at lw_m8 169 rfl) rfl
theorem q1981 : (Jvm.Cond.methodLink "SoleraCellarModel" (418 : Nat) ({ cls := "SoleraCellarModel", name := "whyNotPour", desc := "(II)I" } : Jvm.MethodName)) ∈ lw_all := lw_g (lw_at lw_m8 170 rfl) rfl
theorem q1982 : (Jvm.Cond.privateMethod ({ cls := "SoleraCellarModel", name := "whyNotPour", desc := "(II)I" } : Jvm.MethodName)) ∈ lw_tbl := lw_at lw_m8 171 rfl
theorem q1983 : (Jvm.Cond.instanceMethod ({ cls := "SoleraCellarModel", name := "whyNotPour", desc := "(II)I" } : Jvm.MethodName)) ∈ lw_all := lw_g (lw_at lw_m8 172 rfl) rfl
theorem q1984 : (Jvm.Cond.code ({ cls := "SoleraCellarModel", name := "whyNotPour", desc := "(II)I" } : Jvm.MethodName) prog_23_method_72_code (3 : Nat) (Option.some Jvm.ClassFile.FieldType.int)) ∈ lw_all := lw_g (lw_at lw_m8 173 rfl) rfl
theorem q1985 : (Jvm.Cond.methodLink "SoleraCellarModel" (421 : Nat) ({ cls := "SoleraCellarModel", name := "remember", desc := "(I)V" } : Jvm.MethodName)) ∈ lw_all := lw_g (lw_at lw_m8 174 rfl) rfl
theorem q1986 : (Jvm.Cond.privateMethod ({ cls := "SoleraCellarModel", name := "remember", desc := "(I)V" } : Jvm.MethodName)) ∈ lw_tbl := lw_at lw_m8 175 rfl
theorem q1987 : (Jvm.Cond.instanceMethod ({ cls := "SoleraCellarModel", name := "remember", desc := "(I)V" } : Jvm.MethodName)) ∈ lw_all := lw_g (lw_at lw_m8 176 rfl) rfl
theorem q1988 : (Jvm.Cond.code ({ cls := "SoleraCellarModel", name := "remember", desc := "(I)V" } : Jvm.MethodName) prog_23_method_11_code (3 : Nat) (Option.none : Option Jvm.ClassFile.FieldType)) ∈ lw_all := lw_g (lw_at lw_m8 177 rfl) rfl
theorem q1989 : (Jvm.Cond.methodLink "SoleraCellarModel" (146 : Nat) ({ cls := "SoleraCellarModel", name := "keepAll", desc := "(I)V" } : Jvm.MethodName)) ∈ lw_all := lw_g (lw_at lw_m8 178 rfl) rfl
theorem q1990 : (Jvm.Cond.privateMethod ({ cls := "SoleraCellarModel", name := "keepAll", desc := "(I)V" } : Jvm.MethodName)) ∈ lw_tbl := lw_at lw_m8 179 rfl
theorem q1991 : (Jvm.Cond.instanceMethod ({ cls := "SoleraCellarModel", name := "keepAll", desc := "(I)V" } : Jvm.MethodName)) ∈ lw_all := lw_g (lw_at lw_m8 180 rfl) rfl
theorem q1992 : (Jvm.Cond.code ({ cls := "SoleraCellarModel", name := "keepAll", desc := "(I)V" } : Jvm.MethodName) prog_23_method_9_code (3 : Nat) (Option.none : Option Jvm.ClassFile.FieldType)) ∈ lw_all := lw_g (lw_at lw_m8 181 rfl) rfl
theorem q1993 : (Jvm.Cond.methodLink "SoleraCellarModel" (424 : Nat) ({ cls := "SoleraCellarModel", name := "pourIt", desc := "(II)I" } : Jvm.MethodName)) ∈ lw_all := lw_g (lw_at lw_m8 182 rfl) rfl
theorem q1994 : (Jvm.Cond.privateMethod ({ cls := "SoleraCellarModel", name := "pourIt", desc := "(II)I" } : Jvm.MethodName)) ∈ lw_tbl := lw_at lw_m8 183 rfl
theorem q1995 : (Jvm.Cond.instanceMethod ({ cls := "SoleraCellarModel", name := "pourIt", desc := "(II)I" } : Jvm.MethodName)) ∈ lw_all := lw_g (lw_at lw_m8 184 rfl) rfl
theorem q1996 : (Jvm.Cond.code ({ cls := "SoleraCellarModel", name := "pourIt", desc := "(II)I" } : Jvm.MethodName) prog_23_method_73_code (3 : Nat) (Option.some Jvm.ClassFile.FieldType.int)) ∈ lw_all := lw_g (lw_at lw_m8 185 rfl) rfl
theorem q1998 : (Jvm.Cond.instanceMethod ({ cls := "SoleraCellarModel", name := "rack", desc := "(III)I" } : Jvm.MethodName)) ∈ lw_all := lw_g (lw_at lw_m8 187 rfl) rfl
theorem q1999 : (Jvm.Cond.selects "SoleraCellarModel" ({ cls := "SoleraCellarModel", name := "rack", desc := "(III)I" } : Jvm.MethodName) ({ cls := "SoleraCellarModel", name := "rack", desc := "(III)I" } : Jvm.MethodName)) ∈ lw_all := lw_g (lw_at lw_m8 188 rfl) rfl
theorem q2000 : (Jvm.Cond.code ({ cls := "SoleraCellarModel", name := "rack", desc := "(III)I" } : Jvm.MethodName) prog_23_method_79_code (4 : Nat) (Option.some Jvm.ClassFile.FieldType.int)) ∈ lw_all := lw_g (lw_at lw_m8 189 rfl) rfl
theorem q2001 : (Jvm.Cond.methodLink "SoleraCellarModel" (440 : Nat) ({ cls := "SoleraCellarModel", name := "rackNow", desc := "(III)I" } : Jvm.MethodName)) ∈ lw_all := lw_g (lw_at lw_m8 190 rfl) rfl
theorem q2002 : (Jvm.Cond.privateMethod ({ cls := "SoleraCellarModel", name := "rackNow", desc := "(III)I" } : Jvm.MethodName)) ∈ lw_tbl := lw_at lw_m8 191 rfl
theorem q2003 : (Jvm.Cond.instanceMethod ({ cls := "SoleraCellarModel", name := "rackNow", desc := "(III)I" } : Jvm.MethodName)) ∈ lw_all := lw_g (lw_at lw_m8 192 rfl) rfl
theorem q2004 : (Jvm.Cond.code ({ cls := "SoleraCellarModel", name := "rackNow", desc := "(III)I" } : Jvm.MethodName) prog_23_method_78_code (5 : Nat) (Option.some Jvm.ClassFile.FieldType.int)) ∈ lw_all := lw_g (lw_at lw_m8 193 rfl) rfl
theorem q2005 : (Jvm.Cond.methodLink "SoleraCellarModel" (433 : Nat) ({ cls := "SoleraCellarModel", name := "whyNotRack", desc := "(III)I" } : Jvm.MethodName)) ∈ lw_all := lw_g (lw_at lw_m8 194 rfl) rfl
theorem q2006 : (Jvm.Cond.privateMethod ({ cls := "SoleraCellarModel", name := "whyNotRack", desc := "(III)I" } : Jvm.MethodName)) ∈ lw_tbl := lw_at lw_m8 195 rfl
theorem q2007 : (Jvm.Cond.instanceMethod ({ cls := "SoleraCellarModel", name := "whyNotRack", desc := "(III)I" } : Jvm.MethodName)) ∈ lw_all := lw_g (lw_at lw_m8 196 rfl) rfl
theorem q2008 : (Jvm.Cond.code ({ cls := "SoleraCellarModel", name := "whyNotRack", desc := "(III)I" } : Jvm.MethodName) prog_23_method_76_code (5 : Nat) (Option.some Jvm.ClassFile.FieldType.int)) ∈ lw_all := lw_g (lw_at lw_m8 197 rfl) rfl
theorem q2009 : (Jvm.Cond.methodLink "SoleraCellarModel" (437 : Nat) ({ cls := "SoleraCellarModel", name := "rackIt", desc := "(III)I" } : Jvm.MethodName)) ∈ lw_all := lw_g (lw_at lw_m8 198 rfl) rfl
theorem q2010 : (Jvm.Cond.privateMethod ({ cls := "SoleraCellarModel", name := "rackIt", desc := "(III)I" } : Jvm.MethodName)) ∈ lw_tbl := lw_at lw_m8 199 rfl
theorem q2011 : (Jvm.Cond.instanceMethod ({ cls := "SoleraCellarModel", name := "rackIt", desc := "(III)I" } : Jvm.MethodName)) ∈ lw_all := lw_g (lw_at lw_m8 200 rfl) rfl
theorem q2012 : (Jvm.Cond.code ({ cls := "SoleraCellarModel", name := "rackIt", desc := "(III)I" } : Jvm.MethodName) prog_23_method_77_code (5 : Nat) (Option.some Jvm.ClassFile.FieldType.int)) ∈ lw_all := lw_g (lw_at lw_m8 201 rfl) rfl
theorem q2013 : (Jvm.Cond.methodLink "SoleraCellarModel" (430 : Nat) ({ cls := "SoleraCellarModel", name := "takeOut", desc := "(II)I" } : Jvm.MethodName)) ∈ lw_all := lw_g (lw_at lw_m8 202 rfl) rfl
theorem q2014 : (Jvm.Cond.privateMethod ({ cls := "SoleraCellarModel", name := "takeOut", desc := "(II)I" } : Jvm.MethodName)) ∈ lw_tbl := lw_at lw_m8 203 rfl
theorem q2015 : (Jvm.Cond.instanceMethod ({ cls := "SoleraCellarModel", name := "takeOut", desc := "(II)I" } : Jvm.MethodName)) ∈ lw_all := lw_g (lw_at lw_m8 204 rfl) rfl
theorem q2016 : (Jvm.Cond.code ({ cls := "SoleraCellarModel", name := "takeOut", desc := "(II)I" } : Jvm.MethodName) prog_23_method_71_code (9 : Nat) (Option.some Jvm.ClassFile.FieldType.int)) ∈ lw_all := lw_g (lw_at lw_m8 205 rfl) rfl
theorem q2018 : (Jvm.Cond.instanceMethod ({ cls := "SoleraCellarModel", name := "bottle", desc := "(II)I" } : Jvm.MethodName)) ∈ lw_all := lw_g (lw_at lw_m8 207 rfl) rfl
theorem q2019 : (Jvm.Cond.selects "SoleraCellarModel" ({ cls := "SoleraCellarModel", name := "bottle", desc := "(II)I" } : Jvm.MethodName) ({ cls := "SoleraCellarModel", name := "bottle", desc := "(II)I" } : Jvm.MethodName)) ∈ lw_all := lw_g (lw_at lw_m8 208 rfl) rfl
theorem q2020 : (Jvm.Cond.code ({ cls := "SoleraCellarModel", name := "bottle", desc := "(II)I" } : Jvm.MethodName) prog_23_method_83_code (3 : Nat) (Option.some Jvm.ClassFile.FieldType.int)) ∈ lw_all := lw_g (lw_at lw_m8 209 rfl) rfl
theorem q2021 : (Jvm.Cond.methodLink "SoleraCellarModel" (456 : Nat) ({ cls := "SoleraCellarModel", name := "bottleNow", desc := "(II)I" } : Jvm.MethodName)) ∈ lw_all := lw_g (lw_at lw_m8 210 rfl) rfl
theorem q2022 : (Jvm.Cond.privateMethod ({ cls := "SoleraCellarModel", name := "bottleNow", desc := "(II)I" } : Jvm.MethodName)) ∈ lw_tbl := lw_at lw_m8 211 rfl
theorem q2023 : (Jvm.Cond.instanceMethod ({ cls := "SoleraCellarModel", name := "bottleNow", desc := "(II)I" } : Jvm.MethodName)) ∈ lw_all := lw_g (lw_at lw_m8 212 rfl) rfl
theorem q2024 : (Jvm.Cond.code ({ cls := "SoleraCellarModel", name := "bottleNow", desc := "(II)I" } : Jvm.MethodName) prog_23_method_82_code (4 : Nat) (Option.some Jvm.ClassFile.FieldType.int)) ∈ lw_all := lw_g (lw_at lw_m8 213 rfl) rfl
theorem q2025 : (Jvm.Cond.methodLink "SoleraCellarModel" (450 : Nat) ({ cls := "SoleraCellarModel", name := "whyNotBottle", desc := "(II)I" } : Jvm.MethodName)) ∈ lw_all := lw_g (lw_at lw_m8 214 rfl) rfl
theorem q2026 : (Jvm.Cond.privateMethod ({ cls := "SoleraCellarModel", name := "whyNotBottle", desc := "(II)I" } : Jvm.MethodName)) ∈ lw_tbl := lw_at lw_m8 215 rfl
theorem q2027 : (Jvm.Cond.instanceMethod ({ cls := "SoleraCellarModel", name := "whyNotBottle", desc := "(II)I" } : Jvm.MethodName)) ∈ lw_all := lw_g (lw_at lw_m8 216 rfl) rfl
theorem q2028 : (Jvm.Cond.code ({ cls := "SoleraCellarModel", name := "whyNotBottle", desc := "(II)I" } : Jvm.MethodName) prog_23_method_80_code (3 : Nat) (Option.some Jvm.ClassFile.FieldType.int)) ∈ lw_all := lw_g (lw_at lw_m8 217 rfl) rfl
theorem q2029 : (Jvm.Cond.methodLink "SoleraCellarModel" (453 : Nat) ({ cls := "SoleraCellarModel", name := "bottleIt", desc := "(II)I" } : Jvm.MethodName)) ∈ lw_all := lw_g (lw_at lw_m8 218 rfl) rfl
theorem q2030 : (Jvm.Cond.privateMethod ({ cls := "SoleraCellarModel", name := "bottleIt", desc := "(II)I" } : Jvm.MethodName)) ∈ lw_tbl := lw_at lw_m8 219 rfl
theorem q2031 : (Jvm.Cond.instanceMethod ({ cls := "SoleraCellarModel", name := "bottleIt", desc := "(II)I" } : Jvm.MethodName)) ∈ lw_all := lw_g (lw_at lw_m8 220 rfl) rfl
theorem q2032 : (Jvm.Cond.code ({ cls := "SoleraCellarModel", name := "bottleIt", desc := "(II)I" } : Jvm.MethodName) prog_23_method_81_code (4 : Nat) (Option.some Jvm.ClassFile.FieldType.int)) ∈ lw_all := lw_g (lw_at lw_m8 221 rfl) rfl
theorem q2033 : (Jvm.Cond.constant "SoleraCellarModel" (443 : Nat) (999999 : Int32)) ∈ lw_all := lw_g (lw_at lw_m8 222 rfl) rfl
theorem q2035 : (Jvm.Cond.instanceMethod ({ cls := "SoleraCellarModel", name := "pass", desc := "()I" } : Jvm.MethodName)) ∈ lw_all := lw_g (lw_at lw_m8 224 rfl) rfl
theorem q2036 : (Jvm.Cond.selects "SoleraCellarModel" ({ cls := "SoleraCellarModel", name := "pass", desc := "()I" } : Jvm.MethodName) ({ cls := "SoleraCellarModel", name := "pass", desc := "()I" } : Jvm.MethodName)) ∈ lw_all := lw_g (lw_at lw_m8 225 rfl) rfl
theorem q2037 : (Jvm.Cond.code ({ cls := "SoleraCellarModel", name := "pass", desc := "()I" } : Jvm.MethodName) prog_23_method_87_code (1 : Nat) (Option.some Jvm.ClassFile.FieldType.int)) ∈ lw_all := lw_g (lw_at lw_m8 226 rfl) rfl
theorem q2038 : (Jvm.Cond.methodLink "SoleraCellarModel" (462 : Nat) ({ cls := "SoleraCellarModel", name := "passNow", desc := "()I" } : Jvm.MethodName)) ∈ lw_all := lw_g (lw_at lw_m8 227 rfl) rfl
theorem q2039 : (Jvm.Cond.privateMethod ({ cls := "SoleraCellarModel", name := "passNow", desc := "()I" } : Jvm.MethodName)) ∈ lw_tbl := lw_at lw_m8 228 rfl
theorem q2040 : (Jvm.Cond.instanceMethod ({ cls := "SoleraCellarModel", name := "passNow", desc := "()I" } : Jvm.MethodName)) ∈ lw_all := lw_g (lw_at lw_m8 229 rfl) rfl
theorem q2041 : (Jvm.Cond.code ({ cls := "SoleraCellarModel", name := "passNow", desc := "()I" } : Jvm.MethodName) prog_23_method_86_code (1 : Nat) (Option.some Jvm.ClassFile.FieldType.int)) ∈ lw_all := lw_g (lw_at lw_m8 230 rfl) rfl
theorem q2042 : (Jvm.Cond.methodLink "SoleraCellarModel" (459 : Nat) ({ cls := "SoleraCellarModel", name := "passIt", desc := "()I" } : Jvm.MethodName)) ∈ lw_all := lw_g (lw_at lw_m8 231 rfl) rfl
theorem q2043 : (Jvm.Cond.privateMethod ({ cls := "SoleraCellarModel", name := "passIt", desc := "()I" } : Jvm.MethodName)) ∈ lw_tbl := lw_at lw_m8 232 rfl
theorem q2044 : (Jvm.Cond.instanceMethod ({ cls := "SoleraCellarModel", name := "passIt", desc := "()I" } : Jvm.MethodName)) ∈ lw_all := lw_g (lw_at lw_m8 233 rfl) rfl
theorem q2045 : (Jvm.Cond.code ({ cls := "SoleraCellarModel", name := "passIt", desc := "()I" } : Jvm.MethodName) prog_23_method_85_code (7 : Nat) (Option.some Jvm.ClassFile.FieldType.int)) ∈ lw_all := lw_g (lw_at lw_m8 234 rfl) rfl
theorem q2047 : (Jvm.Cond.instanceMethod ({ cls := "SoleraCellarModel", name := "plan", desc := "()I" } : Jvm.MethodName)) ∈ lw_all := lw_g (lw_at lw_m8 236 rfl) rfl
theorem q2048 : (Jvm.Cond.selects "SoleraCellarModel" ({ cls := "SoleraCellarModel", name := "plan", desc := "()I" } : Jvm.MethodName) ({ cls := "SoleraCellarModel", name := "plan", desc := "()I" } : Jvm.MethodName)) ∈ lw_all := lw_g (lw_at lw_m8 237 rfl) rfl
theorem q2049 : (Jvm.Cond.code ({ cls := "SoleraCellarModel", name := "plan", desc := "()I" } : Jvm.MethodName) prog_23_method_92_code (3 : Nat) (Option.some Jvm.ClassFile.FieldType.int)) ∈ lw_all := lw_g (lw_at lw_m8 238 rfl) rfl
theorem q2050 : (Jvm.Cond.methodLink "SoleraCellarModel" (481 : Nat) ({ cls := "SoleraCellarModel", name := "readOrders", desc := "()V" } : Jvm.MethodName)) ∈ lw_all := lw_g (lw_at lw_m8 239 rfl) rfl
theorem q2051 : (Jvm.Cond.privateMethod ({ cls := "SoleraCellarModel", name := "readOrders", desc := "()V" } : Jvm.MethodName)) ∈ lw_tbl := lw_at lw_m9 0 rfl
theorem q2052 : (Jvm.Cond.instanceMethod ({ cls := "SoleraCellarModel", name := "readOrders", desc := "()V" } : Jvm.MethodName)) ∈ lw_all := lw_g (lw_at lw_m9 1 rfl) rfl
theorem q2053 : (Jvm.Cond.code ({ cls := "SoleraCellarModel", name := "readOrders", desc := "()V" } : Jvm.MethodName) prog_23_method_91_code (1 : Nat) (Option.none : Option Jvm.ClassFile.FieldType)) ∈ lw_all := lw_g (lw_at lw_m9 2 rfl) rfl
theorem q2054 : (Jvm.Cond.methodLink "SoleraCellarModel" (478 : Nat) ({ cls := "SoleraCellarModel", name := "readOrder", desc := "()V" } : Jvm.MethodName)) ∈ lw_all := lw_g (lw_at lw_m9 3 rfl) rfl
theorem q2055 : (Jvm.Cond.privateMethod ({ cls := "SoleraCellarModel", name := "readOrder", desc := "()V" } : Jvm.MethodName)) ∈ lw_tbl := lw_at lw_m9 4 rfl
theorem q2056 : (Jvm.Cond.instanceMethod ({ cls := "SoleraCellarModel", name := "readOrder", desc := "()V" } : Jvm.MethodName)) ∈ lw_all := lw_g (lw_at lw_m9 5 rfl) rfl
theorem q2057 : (Jvm.Cond.code ({ cls := "SoleraCellarModel", name := "readOrder", desc := "()V" } : Jvm.MethodName) prog_23_method_90_code (4 : Nat) (Option.none : Option Jvm.ClassFile.FieldType)) ∈ lw_all := lw_g (lw_at lw_m9 6 rfl) rfl
theorem q2058 : (Jvm.Cond.methodLink "SoleraCellarModel" (465 : Nat) ({ cls := "SoleraCellarModel", name := "readSum", desc := "(I)V" } : Jvm.MethodName)) ∈ lw_all := lw_g (lw_at lw_m9 7 rfl) rfl
theorem q2059 : (Jvm.Cond.privateMethod ({ cls := "SoleraCellarModel", name := "readSum", desc := "(I)V" } : Jvm.MethodName)) ∈ lw_tbl := lw_at lw_m9 8 rfl
theorem q2060 : (Jvm.Cond.instanceMethod ({ cls := "SoleraCellarModel", name := "readSum", desc := "(I)V" } : Jvm.MethodName)) ∈ lw_all := lw_g (lw_at lw_m9 9 rfl) rfl
theorem q2061 : (Jvm.Cond.code ({ cls := "SoleraCellarModel", name := "readSum", desc := "(I)V" } : Jvm.MethodName) prog_23_method_88_code (2 : Nat) (Option.none : Option Jvm.ClassFile.FieldType)) ∈ lw_all := lw_g (lw_at lw_m9 10 rfl) rfl
theorem q2062 : (Jvm.Cond.constantLong "SoleraCellarModel" (468 : Nat) (215533 : Int64)) ∈ lw_all := lw_g (lw_at lw_m9 11 rfl) rfl
theorem q2063 : (Jvm.Cond.methodLink "SoleraCellarModel" (470 : Nat) ({ cls := "SoleraCellarModel", name := "readBehind", desc := "(JI)V" } : Jvm.MethodName)) ∈ lw_all := lw_g (lw_at lw_m9 12 rfl) rfl
theorem q2064 : (Jvm.Cond.privateMethod ({ cls := "SoleraCellarModel", name := "readBehind", desc := "(JI)V" } : Jvm.MethodName)) ∈ lw_tbl := lw_at lw_m9 13 rfl
theorem q2065 : (Jvm.Cond.instanceMethod ({ cls := "SoleraCellarModel", name := "readBehind", desc := "(JI)V" } : Jvm.MethodName)) ∈ lw_all := lw_g (lw_at lw_m9 14 rfl) rfl
theorem q2066 : (Jvm.Cond.code ({ cls := "SoleraCellarModel", name := "readBehind", desc := "(JI)V" } : Jvm.MethodName) prog_23_method_89_code (4 : Nat) (Option.none : Option Jvm.ClassFile.FieldType)) ∈ lw_all := lw_g (lw_at lw_m9 15 rfl) rfl
theorem q2067 : (Jvm.Cond.constantLong "SoleraCellarModel" (474 : Nat) (302 : Int64)) ∈ lw_all := lw_g (lw_at lw_m9 16 rfl) rfl
theorem q2068 : (Jvm.Cond.constantLong "SoleraCellarModel" (476 : Nat) (21279923 : Int64)) ∈ lw_all := lw_g (lw_at lw_m9 17 rfl) rfl
theorem q2070 : (Jvm.Cond.instanceMethod ({ cls := "SoleraCellarModel", name := "orders", desc := "()I" } : Jvm.MethodName)) ∈ lw_all := lw_g (lw_at lw_m9 19 rfl) rfl
theorem q2071 : (Jvm.Cond.selects "SoleraCellarModel" ({ cls := "SoleraCellarModel", name := "orders", desc := "()I" } : Jvm.MethodName) ({ cls := "SoleraCellarModel", name := "orders", desc := "()I" } : Jvm.MethodName)) ∈ lw_all := lw_g (lw_at lw_m9 20 rfl) rfl
theorem q2072 : (Jvm.Cond.code ({ cls := "SoleraCellarModel", name := "orders", desc := "()I" } : Jvm.MethodName) prog_23_method_100_code (4 : Nat) (Option.some Jvm.ClassFile.FieldType.int)) ∈ lw_all := lw_g (lw_at lw_m9 21 rfl) rfl
theorem q2073 : (Jvm.Cond.methodLink "SoleraCellarModel" (503 : Nat) ({ cls := "SoleraCellarModel", name := "keepUndos", desc := "()V" } : Jvm.MethodName)) ∈ lw_all := lw_g (lw_at lw_m9 22 rfl) rfl
theorem q2074 : (Jvm.Cond.privateMethod ({ cls := "SoleraCellarModel", name := "keepUndos", desc := "()V" } : Jvm.MethodName)) ∈ lw_tbl := lw_at lw_m9 23 rfl
theorem q2075 : (Jvm.Cond.instanceMethod ({ cls := "SoleraCellarModel", name := "keepUndos", desc := "()V" } : Jvm.MethodName)) ∈ lw_all := lw_g (lw_at lw_m9 24 rfl) rfl
theorem q2076 : (Jvm.Cond.code ({ cls := "SoleraCellarModel", name := "keepUndos", desc := "()V" } : Jvm.MethodName) prog_23_method_101_code (2 : Nat) (Option.none : Option Jvm.ClassFile.FieldType)) ∈ lw_all := lw_g (lw_at lw_m9 25 rfl) rfl
theorem q2077 : (Jvm.Cond.methodLink "SoleraCellarModel" (506 : Nat) ({ cls := "SoleraCellarModel", name := "isAsked", desc := "(I)Z" } : Jvm.MethodName)) ∈ lw_all := lw_g (lw_at lw_m9 26 rfl) rfl
theorem q2078 : (Jvm.Cond.privateMethod ({ cls := "SoleraCellarModel", name := "isAsked", desc := "(I)Z" } : Jvm.MethodName)) ∈ lw_tbl := lw_at lw_m9 27 rfl
theorem q2079 : (Jvm.Cond.instanceMethod ({ cls := "SoleraCellarModel", name := "isAsked", desc := "(I)Z" } : Jvm.MethodName)) ∈ lw_all := lw_g (lw_at lw_m9 28 rfl) rfl
theorem q2080 : (Jvm.Cond.code ({ cls := "SoleraCellarModel", name := "isAsked", desc := "(I)Z" } : Jvm.MethodName) prog_23_method_97_code (4 : Nat) (Option.some Jvm.ClassFile.FieldType.boolean)) ∈ lw_all := lw_g (lw_at lw_m9 29 rfl) rfl
theorem q2081 : (Jvm.Cond.methodLink "SoleraCellarModel" (493 : Nat) ({ cls := "SoleraCellarModel", name := "setNow", desc := "()V" } : Jvm.MethodName)) ∈ lw_all := lw_g (lw_at lw_m9 30 rfl) rfl
theorem q2082 : (Jvm.Cond.privateMethod ({ cls := "SoleraCellarModel", name := "setNow", desc := "()V" } : Jvm.MethodName)) ∈ lw_tbl := lw_at lw_m9 31 rfl
theorem q2083 : (Jvm.Cond.instanceMethod ({ cls := "SoleraCellarModel", name := "setNow", desc := "()V" } : Jvm.MethodName)) ∈ lw_all := lw_g (lw_at lw_m9 32 rfl) rfl
theorem q2084 : (Jvm.Cond.code ({ cls := "SoleraCellarModel", name := "setNow", desc := "()V" } : Jvm.MethodName) prog_23_method_96_code (1 : Nat) (Option.none : Option Jvm.ClassFile.FieldType)) ∈ lw_all := lw_g (lw_at lw_m9 33 rfl) rfl
theorem q2085 : (Jvm.Cond.methodLink "SoleraCellarModel" (496 : Nat) ({ cls := "SoleraCellarModel", name := "sumOf", desc := "(I)I" } : Jvm.MethodName)) ∈ lw_all := lw_g (lw_at lw_m9 34 rfl) rfl
theorem q2086 : (Jvm.Cond.privateMethod ({ cls := "SoleraCellarModel", name := "sumOf", desc := "(I)I" } : Jvm.MethodName)) ∈ lw_tbl := lw_at lw_m9 35 rfl
theorem q2087 : (Jvm.Cond.instanceMethod ({ cls := "SoleraCellarModel", name := "sumOf", desc := "(I)I" } : Jvm.MethodName)) ∈ lw_all := lw_g (lw_at lw_m9 36 rfl) rfl
theorem q2088 : (Jvm.Cond.code ({ cls := "SoleraCellarModel", name := "sumOf", desc := "(I)I" } : Jvm.MethodName) prog_23_method_95_code (2 : Nat) (Option.some Jvm.ClassFile.FieldType.int)) ∈ lw_all := lw_g (lw_at lw_m9 37 rfl) rfl
theorem q2089 : (Jvm.Cond.methodLink "SoleraCellarModel" (509 : Nat) ({ cls := "SoleraCellarModel", name := "runOnce", desc := "(I)I" } : Jvm.MethodName)) ∈ lw_all := lw_g (lw_at lw_m9 38 rfl) rfl
theorem q2090 : (Jvm.Cond.privateMethod ({ cls := "SoleraCellarModel", name := "runOnce", desc := "(I)I" } : Jvm.MethodName)) ∈ lw_tbl := lw_at lw_m9 39 rfl
theorem q2091 : (Jvm.Cond.instanceMethod ({ cls := "SoleraCellarModel", name := "runOnce", desc := "(I)I" } : Jvm.MethodName)) ∈ lw_all := lw_g (lw_at lw_m9 40 rfl) rfl
theorem q2092 : (Jvm.Cond.code ({ cls := "SoleraCellarModel", name := "runOnce", desc := "(I)I" } : Jvm.MethodName) prog_23_method_99_code (6 : Nat) (Option.some Jvm.ClassFile.FieldType.int)) ∈ lw_all := lw_g (lw_at lw_m9 41 rfl) rfl
theorem q2093 : (Jvm.Cond.methodLink "SoleraCellarModel" (499 : Nat) ({ cls := "SoleraCellarModel", name := "act", desc := "(IIII)I" } : Jvm.MethodName)) ∈ lw_all := lw_g (lw_at lw_m9 42 rfl) rfl
theorem q2094 : (Jvm.Cond.privateMethod ({ cls := "SoleraCellarModel", name := "act", desc := "(IIII)I" } : Jvm.MethodName)) ∈ lw_tbl := lw_at lw_m9 43 rfl
theorem q2095 : (Jvm.Cond.instanceMethod ({ cls := "SoleraCellarModel", name := "act", desc := "(IIII)I" } : Jvm.MethodName)) ∈ lw_all := lw_g (lw_at lw_m9 44 rfl) rfl
theorem q2096 : (Jvm.Cond.code ({ cls := "SoleraCellarModel", name := "act", desc := "(IIII)I" } : Jvm.MethodName) prog_23_method_98_code (5 : Nat) (Option.some Jvm.ClassFile.FieldType.int)) ∈ lw_all := lw_g (lw_at lw_m9 45 rfl) rfl
theorem q2097 : (Jvm.Cond.methodLink "SoleraCellarModel" (512 : Nat) ({ cls := "SoleraCellarModel", name := "giveBack", desc := "(I)V" } : Jvm.MethodName)) ∈ lw_all := lw_g (lw_at lw_m9 46 rfl) rfl
theorem q2098 : (Jvm.Cond.privateMethod ({ cls := "SoleraCellarModel", name := "giveBack", desc := "(I)V" } : Jvm.MethodName)) ∈ lw_tbl := lw_at lw_m9 47 rfl
theorem q2099 : (Jvm.Cond.instanceMethod ({ cls := "SoleraCellarModel", name := "giveBack", desc := "(I)V" } : Jvm.MethodName)) ∈ lw_all := lw_g (lw_at lw_m9 48 rfl) rfl
theorem q2100 : (Jvm.Cond.code ({ cls := "SoleraCellarModel", name := "giveBack", desc := "(I)V" } : Jvm.MethodName) prog_23_method_102_code (3 : Nat) (Option.none : Option Jvm.ClassFile.FieldType)) ∈ lw_all := lw_g (lw_at lw_m9 49 rfl) rfl
theorem q2102 : (Jvm.Cond.instanceMethod ({ cls := "SoleraCellarModel", name := "stopped", desc := "()I" } : Jvm.MethodName)) ∈ lw_all := lw_g (lw_at lw_m9 51 rfl) rfl
theorem q2103 : (Jvm.Cond.selects "SoleraCellarModel" ({ cls := "SoleraCellarModel", name := "stopped", desc := "()I" } : Jvm.MethodName) ({ cls := "SoleraCellarModel", name := "stopped", desc := "()I" } : Jvm.MethodName)) ∈ lw_all := lw_g (lw_at lw_m9 52 rfl) rfl
theorem q2104 : (Jvm.Cond.code ({ cls := "SoleraCellarModel", name := "stopped", desc := "()I" } : Jvm.MethodName) prog_23_method_103_code (1 : Nat) (Option.some Jvm.ClassFile.FieldType.int)) ∈ lw_all := lw_g (lw_at lw_m9 53 rfl) rfl
theorem q2106 : (Jvm.Cond.instanceMethod ({ cls := "SoleraCellarModel", name := "byPlan", desc := "(IIII)I" } : Jvm.MethodName)) ∈ lw_all := lw_g (lw_at lw_m9 55 rfl) rfl
theorem q2107 : (Jvm.Cond.selects "SoleraCellarModel" ({ cls := "SoleraCellarModel", name := "byPlan", desc := "(IIII)I" } : Jvm.MethodName) ({ cls := "SoleraCellarModel", name := "byPlan", desc := "(IIII)I" } : Jvm.MethodName)) ∈ lw_all := lw_g (lw_at lw_m9 56 rfl) rfl
theorem q2108 : (Jvm.Cond.code ({ cls := "SoleraCellarModel", name := "byPlan", desc := "(IIII)I" } : Jvm.MethodName) prog_23_method_107_code (6 : Nat) (Option.some Jvm.ClassFile.FieldType.int)) ∈ lw_all := lw_g (lw_at lw_m9 57 rfl) rfl
theorem q2109 : (Jvm.Cond.methodLink "SoleraCellarModel" (525 : Nat) ({ cls := "SoleraCellarModel", name := "isPlan", desc := "(I)Z" } : Jvm.MethodName)) ∈ lw_all := lw_g (lw_at lw_m9 58 rfl) rfl
theorem q2110 : (Jvm.Cond.privateMethod ({ cls := "SoleraCellarModel", name := "isPlan", desc := "(I)Z" } : Jvm.MethodName)) ∈ lw_tbl := lw_at lw_m9 59 rfl
theorem q2111 : (Jvm.Cond.instanceMethod ({ cls := "SoleraCellarModel", name := "isPlan", desc := "(I)Z" } : Jvm.MethodName)) ∈ lw_all := lw_g (lw_at lw_m9 60 rfl) rfl
theorem q2112 : (Jvm.Cond.code ({ cls := "SoleraCellarModel", name := "isPlan", desc := "(I)Z" } : Jvm.MethodName) prog_23_method_94_code (2 : Nat) (Option.some Jvm.ClassFile.FieldType.boolean)) ∈ lw_all := lw_g (lw_at lw_m9 61 rfl) rfl
theorem q2113 : (Jvm.Cond.constantLong "SoleraCellarModel" (528 : Nat) (60 : Int64)) ∈ lw_all := lw_g (lw_at lw_m9 62 rfl) rfl
theorem q2114 : (Jvm.Cond.constantLong "SoleraCellarModel" (530 : Nat) (2 : Int64)) ∈ lw_all := lw_g (lw_at lw_m9 63 rfl) rfl
theorem q2115 : (Jvm.Cond.methodLink "SoleraCellarModel" (532 : Nat) ({ cls := "SoleraCellarModel", name := "beginPlan", desc := "(I)V" } : Jvm.MethodName)) ∈ lw_all := lw_g (lw_at lw_m9 64 rfl) rfl
theorem q2116 : (Jvm.Cond.privateMethod ({ cls := "SoleraCellarModel", name := "beginPlan", desc := "(I)V" } : Jvm.MethodName)) ∈ lw_tbl := lw_at lw_m9 65 rfl
theorem q2117 : (Jvm.Cond.instanceMethod ({ cls := "SoleraCellarModel", name := "beginPlan", desc := "(I)V" } : Jvm.MethodName)) ∈ lw_all := lw_g (lw_at lw_m9 66 rfl) rfl
theorem q2118 : (Jvm.Cond.code ({ cls := "SoleraCellarModel", name := "beginPlan", desc := "(I)V" } : Jvm.MethodName) prog_23_method_106_code (2 : Nat) (Option.none : Option Jvm.ClassFile.FieldType)) ∈ lw_all := lw_g (lw_at lw_m9 67 rfl) rfl
theorem q2119 : (Jvm.Cond.methodLink "SoleraCellarModel" (521 : Nat) ({ cls := "SoleraCellarModel", name := "loadPlan", desc := "(I)V" } : Jvm.MethodName)) ∈ lw_all := lw_g (lw_at lw_m9 68 rfl) rfl
theorem q2120 : (Jvm.Cond.privateMethod ({ cls := "SoleraCellarModel", name := "loadPlan", desc := "(I)V" } : Jvm.MethodName)) ∈ lw_tbl := lw_at lw_m9 69 rfl
theorem q2121 : (Jvm.Cond.instanceMethod ({ cls := "SoleraCellarModel", name := "loadPlan", desc := "(I)V" } : Jvm.MethodName)) ∈ lw_all := lw_g (lw_at lw_m9 70 rfl) rfl
theorem q2122 : (Jvm.Cond.code ({ cls := "SoleraCellarModel", name := "loadPlan", desc := "(I)V" } : Jvm.MethodName) prog_23_method_93_code (4 : Nat) (Option.none : Option Jvm.ClassFile.FieldType)) ∈ lw_all := lw_g (lw_at lw_m9 71 rfl) rfl
theorem q2123 : (Jvm.Cond.constant "SoleraCellarModel" (524 : Nat) (100000000 : Int32)) ∈ lw_all := lw_g (lw_at lw_m9 72 rfl) rfl
theorem q2124 : (Jvm.Cond.methodLink "SoleraCellarModel" (535 : Nat) ({ cls := "SoleraCellarModel", name := "planYear", desc := "()V" } : Jvm.MethodName)) ∈ lw_all := lw_g (lw_at lw_m9 73 rfl) rfl
theorem q2125 : (Jvm.Cond.privateMethod ({ cls := "SoleraCellarModel", name := "planYear", desc := "()V" } : Jvm.MethodName)) ∈ lw_tbl := lw_at lw_m9 74 rfl
theorem q2126 : (Jvm.Cond.instanceMethod ({ cls := "SoleraCellarModel", name := "planYear", desc := "()V" } : Jvm.MethodName)) ∈ lw_all := lw_g (lw_at lw_m9 75 rfl) rfl
theorem q2127 : (Jvm.Cond.code ({ cls := "SoleraCellarModel", name := "planYear", desc := "()V" } : Jvm.MethodName) prog_23_method_105_code (4 : Nat) (Option.none : Option Jvm.ClassFile.FieldType)) ∈ lw_all := lw_g (lw_at lw_m9 76 rfl) rfl
theorem q2128 : (Jvm.Cond.methodLink "SoleraCellarModel" (518 : Nat) ({ cls := "SoleraCellarModel", name := "planOnce", desc := "(I)I" } : Jvm.MethodName)) ∈ lw_all := lw_g (lw_at lw_m9 77 rfl) rfl
theorem q2129 : (Jvm.Cond.privateMethod ({ cls := "SoleraCellarModel", name := "planOnce", desc := "(I)I" } : Jvm.MethodName)) ∈ lw_tbl := lw_at lw_m9 78 rfl
theorem q2130 : (Jvm.Cond.instanceMethod ({ cls := "SoleraCellarModel", name := "planOnce", desc := "(I)I" } : Jvm.MethodName)) ∈ lw_all := lw_g (lw_at lw_m9 79 rfl) rfl
theorem q2131 : (Jvm.Cond.code ({ cls := "SoleraCellarModel", name := "planOnce", desc := "(I)I" } : Jvm.MethodName) prog_23_method_104_code (7 : Nat) (Option.some Jvm.ClassFile.FieldType.int)) ∈ lw_all := lw_g (lw_at lw_m9 80 rfl) rfl
theorem q2133 : (Jvm.Cond.instanceMethod ({ cls := "SoleraCellarModel", name := "oldEnough", desc := "(III)I" } : Jvm.MethodName)) ∈ lw_all := lw_g (lw_at lw_m9 82 rfl) rfl
theorem q2134 : (Jvm.Cond.selects "SoleraCellarModel" ({ cls := "SoleraCellarModel", name := "oldEnough", desc := "(III)I" } : Jvm.MethodName) ({ cls := "SoleraCellarModel", name := "oldEnough", desc := "(III)I" } : Jvm.MethodName)) ∈ lw_all := lw_g (lw_at lw_m9 83 rfl) rfl
theorem q2135 : (Jvm.Cond.code ({ cls := "SoleraCellarModel", name := "oldEnough", desc := "(III)I" } : Jvm.MethodName) prog_23_method_108_code (5 : Nat) (Option.some Jvm.ClassFile.FieldType.int)) ∈ lw_all := lw_g (lw_at lw_m9 84 rfl) rfl
theorem q2136 : (Jvm.Cond.constantLong "SoleraCellarModel" (538 : Nat) (19000 : Int64)) ∈ lw_all := lw_g (lw_at lw_m9 85 rfl) rfl
theorem q2138 : (Jvm.Cond.instanceMethod ({ cls := "SoleraCellarModel", name := "settled", desc := "(II)I" } : Jvm.MethodName)) ∈ lw_all := lw_g (lw_at lw_m9 87 rfl) rfl
theorem q2139 : (Jvm.Cond.selects "SoleraCellarModel" ({ cls := "SoleraCellarModel", name := "settled", desc := "(II)I" } : Jvm.MethodName) ({ cls := "SoleraCellarModel", name := "settled", desc := "(II)I" } : Jvm.MethodName)) ∈ lw_all := lw_g (lw_at lw_m9 88 rfl) rfl
theorem q2140 : (Jvm.Cond.code ({ cls := "SoleraCellarModel", name := "settled", desc := "(II)I" } : Jvm.MethodName) prog_23_method_109_code (6 : Nat) (Option.some Jvm.ClassFile.FieldType.int)) ∈ lw_all := lw_g (lw_at lw_m9 89 rfl) rfl
theorem q2142 : (Jvm.Cond.instanceMethod ({ cls := "SoleraCellarModel", name := "starves", desc := "(I)I" } : Jvm.MethodName)) ∈ lw_all := lw_g (lw_at lw_m9 91 rfl) rfl
theorem q2143 : (Jvm.Cond.selects "SoleraCellarModel" ({ cls := "SoleraCellarModel", name := "starves", desc := "(I)I" } : Jvm.MethodName) ({ cls := "SoleraCellarModel", name := "starves", desc := "(I)I" } : Jvm.MethodName)) ∈ lw_all := lw_g (lw_at lw_m9 92 rfl) rfl
theorem q2144 : (Jvm.Cond.code ({ cls := "SoleraCellarModel", name := "starves", desc := "(I)I" } : Jvm.MethodName) prog_23_method_110_code (4 : Nat) (Option.some Jvm.ClassFile.FieldType.int)) ∈ lw_all := lw_g (lw_at lw_m9 93 rfl) rfl
theorem q2146 : (Jvm.Cond.instanceMethod ({ cls := "SoleraCellarModel", name := "yields", desc := "(II)I" } : Jvm.MethodName)) ∈ lw_all := lw_g (lw_at lw_m9 95 rfl) rfl
theorem q2147 : (Jvm.Cond.selects "SoleraCellarModel" ({ cls := "SoleraCellarModel", name := "yields", desc := "(II)I" } : Jvm.MethodName) ({ cls := "SoleraCellarModel", name := "yields", desc := "(II)I" } : Jvm.MethodName)) ∈ lw_all := lw_g (lw_at lw_m9 96 rfl) rfl
theorem q2148 : (Jvm.Cond.code ({ cls := "SoleraCellarModel", name := "yields", desc := "(II)I" } : Jvm.MethodName) prog_23_method_112_code (3 : Nat) (Option.some Jvm.ClassFile.FieldType.int)) ∈ lw_all := lw_g (lw_at lw_m9 97 rfl) rfl
theorem q2149 : (Jvm.Cond.methodLink "SoleraCellarModel" (540 : Nat) ({ cls := "SoleraCellarModel", name := "yieldOf", desc := "(II)I" } : Jvm.MethodName)) ∈ lw_all := lw_g (lw_at lw_m9 98 rfl) rfl
theorem q2150 : (Jvm.Cond.privateMethod ({ cls := "SoleraCellarModel", name := "yieldOf", desc := "(II)I" } : Jvm.MethodName)) ∈ lw_tbl := lw_at lw_m9 99 rfl
theorem q2151 : (Jvm.Cond.instanceMethod ({ cls := "SoleraCellarModel", name := "yieldOf", desc := "(II)I" } : Jvm.MethodName)) ∈ lw_all := lw_g (lw_at lw_m9 100 rfl) rfl
theorem q2152 : (Jvm.Cond.code ({ cls := "SoleraCellarModel", name := "yieldOf", desc := "(II)I" } : Jvm.MethodName) prog_23_method_111_code (4 : Nat) (Option.some Jvm.ClassFile.FieldType.int)) ∈ lw_all := lw_g (lw_at lw_m9 101 rfl) rfl
theorem q2154 : (Jvm.Cond.instanceMethod ({ cls := "SoleraCellarModel", name := "best", desc := "(II)I" } : Jvm.MethodName)) ∈ lw_all := lw_g (lw_at lw_m9 103 rfl) rfl
theorem q2155 : (Jvm.Cond.selects "SoleraCellarModel" ({ cls := "SoleraCellarModel", name := "best", desc := "(II)I" } : Jvm.MethodName) ({ cls := "SoleraCellarModel", name := "best", desc := "(II)I" } : Jvm.MethodName)) ∈ lw_all := lw_g (lw_at lw_m9 104 rfl) rfl
theorem q2156 : (Jvm.Cond.code ({ cls := "SoleraCellarModel", name := "best", desc := "(II)I" } : Jvm.MethodName) prog_23_method_113_code (8 : Nat) (Option.some Jvm.ClassFile.FieldType.int)) ∈ lw_all := lw_g (lw_at lw_m9 105 rfl) rfl
theorem q2158 : (Jvm.Cond.instanceMethod ({ cls := "SoleraCellarModel", name := "tasted", desc := "(II)I" } : Jvm.MethodName)) ∈ lw_all := lw_g (lw_at lw_m9 107 rfl) rfl
theorem q2159 : (Jvm.Cond.selects "SoleraCellarModel" ({ cls := "SoleraCellarModel", name := "tasted", desc := "(II)I" } : Jvm.MethodName) ({ cls := "SoleraCellarModel", name := "tasted", desc := "(II)I" } : Jvm.MethodName)) ∈ lw_all := lw_g (lw_at lw_m9 108 rfl) rfl
theorem q2160 : (Jvm.Cond.code ({ cls := "SoleraCellarModel", name := "tasted", desc := "(II)I" } : Jvm.MethodName) prog_23_method_114_code (4 : Nat) (Option.some Jvm.ClassFile.FieldType.int)) ∈ lw_all := lw_g (lw_at lw_m9 109 rfl) rfl
theorem q2162 : (Jvm.Cond.instanceMethod ({ cls := "SoleraCellarModel", name := "forget", desc := "()I" } : Jvm.MethodName)) ∈ lw_all := lw_g (lw_at lw_m9 111 rfl) rfl
theorem q2163 : (Jvm.Cond.selects "SoleraCellarModel" ({ cls := "SoleraCellarModel", name := "forget", desc := "()I" } : Jvm.MethodName) ({ cls := "SoleraCellarModel", name := "forget", desc := "()I" } : Jvm.MethodName)) ∈ lw_all := lw_g (lw_at lw_m9 112 rfl) rfl
theorem q2164 : (Jvm.Cond.code ({ cls := "SoleraCellarModel", name := "forget", desc := "()I" } : Jvm.MethodName) prog_23_method_115_code (2 : Nat) (Option.some Jvm.ClassFile.FieldType.int)) ∈ lw_all := lw_g (lw_at lw_m9 113 rfl) rfl
theorem q2166 : (Jvm.Cond.instanceMethod ({ cls := "SoleraCellarModel", name := "canBe", desc := "()I" } : Jvm.MethodName)) ∈ lw_all := lw_g (lw_at lw_m9 115 rfl) rfl
theorem q2167 : (Jvm.Cond.selects "SoleraCellarModel" ({ cls := "SoleraCellarModel", name := "canBe", desc := "()I" } : Jvm.MethodName) ({ cls := "SoleraCellarModel", name := "canBe", desc := "()I" } : Jvm.MethodName)) ∈ lw_all := lw_g (lw_at lw_m9 116 rfl) rfl
theorem q2168 : (Jvm.Cond.code ({ cls := "SoleraCellarModel", name := "canBe", desc := "()I" } : Jvm.MethodName) prog_23_method_118_code (1 : Nat) (Option.some Jvm.ClassFile.FieldType.int)) ∈ lw_all := lw_g (lw_at lw_m9 117 rfl) rfl
theorem q2169 : (Jvm.Cond.methodLink "SoleraCellarModel" (546 : Nat) ({ cls := "SoleraCellarModel", name := "thatCanBe", desc := "()I" } : Jvm.MethodName)) ∈ lw_all := lw_g (lw_at lw_m9 118 rfl) rfl
theorem q2170 : (Jvm.Cond.privateMethod ({ cls := "SoleraCellarModel", name := "thatCanBe", desc := "()I" } : Jvm.MethodName)) ∈ lw_tbl := lw_at lw_m9 119 rfl
theorem q2171 : (Jvm.Cond.instanceMethod ({ cls := "SoleraCellarModel", name := "thatCanBe", desc := "()I" } : Jvm.MethodName)) ∈ lw_all := lw_g (lw_at lw_m9 120 rfl) rfl
theorem q2172 : (Jvm.Cond.code ({ cls := "SoleraCellarModel", name := "thatCanBe", desc := "()I" } : Jvm.MethodName) prog_23_method_117_code (5 : Nat) (Option.some Jvm.ClassFile.FieldType.int)) ∈ lw_all := lw_g (lw_at lw_m9 121 rfl) rfl
theorem q2173 : (Jvm.Cond.methodLink "SoleraCellarModel" (543 : Nat) ({ cls := "SoleraCellarModel", name := "tasteOf", desc := "(II)I" } : Jvm.MethodName)) ∈ lw_all := lw_g (lw_at lw_m9 122 rfl) rfl
theorem q2174 : (Jvm.Cond.privateMethod ({ cls := "SoleraCellarModel", name := "tasteOf", desc := "(II)I" } : Jvm.MethodName)) ∈ lw_tbl := lw_at lw_m9 123 rfl
theorem q2175 : (Jvm.Cond.instanceMethod ({ cls := "SoleraCellarModel", name := "tasteOf", desc := "(II)I" } : Jvm.MethodName)) ∈ lw_all := lw_g (lw_at lw_m9 124 rfl) rfl
theorem q2176 : (Jvm.Cond.code ({ cls := "SoleraCellarModel", name := "tasteOf", desc := "(II)I" } : Jvm.MethodName) prog_23_method_116_code (4 : Nat) (Option.some Jvm.ClassFile.FieldType.int)) ∈ lw_all := lw_g (lw_at lw_m9 125 rfl) rfl
theorem q2178 : (Jvm.Cond.instanceMethod ({ cls := "SoleraCellarModel", name := "taste", desc := "(I)I" } : Jvm.MethodName)) ∈ lw_all := lw_g (lw_at lw_m9 127 rfl) rfl
theorem q2179 : (Jvm.Cond.selects "SoleraCellarModel" ({ cls := "SoleraCellarModel", name := "taste", desc := "(I)I" } : Jvm.MethodName) ({ cls := "SoleraCellarModel", name := "taste", desc := "(I)I" } : Jvm.MethodName)) ∈ lw_all := lw_g (lw_at lw_m9 128 rfl) rfl
theorem q2180 : (Jvm.Cond.code ({ cls := "SoleraCellarModel", name := "taste", desc := "(I)I" } : Jvm.MethodName) prog_23_method_120_code (7 : Nat) (Option.some Jvm.ClassFile.FieldType.int)) ∈ lw_all := lw_g (lw_at lw_m9 129 rfl) rfl
theorem q2181 : (Jvm.Cond.methodLink "SoleraCellarModel" (553 : Nat) ({ cls := "SoleraCellarModel", name := "mostAlike", desc := "(II)I" } : Jvm.MethodName)) ∈ lw_all := lw_g (lw_at lw_m9 130 rfl) rfl
theorem q2182 : (Jvm.Cond.privateMethod ({ cls := "SoleraCellarModel", name := "mostAlike", desc := "(II)I" } : Jvm.MethodName)) ∈ lw_tbl := lw_at lw_m9 131 rfl
theorem q2183 : (Jvm.Cond.instanceMethod ({ cls := "SoleraCellarModel", name := "mostAlike", desc := "(II)I" } : Jvm.MethodName)) ∈ lw_all := lw_g (lw_at lw_m9 132 rfl) rfl
theorem q2184 : (Jvm.Cond.code ({ cls := "SoleraCellarModel", name := "mostAlike", desc := "(II)I" } : Jvm.MethodName) prog_23_method_119_code (7 : Nat) (Option.some Jvm.ClassFile.FieldType.int)) ∈ lw_all := lw_g (lw_at lw_m9 133 rfl) rfl
theorem q2185 : (Jvm.Cond.methodLink "SoleraCellarModel" (549 : Nat) ({ cls := "SoleraCellarModel", name := "is", desc := "(II)Z" } : Jvm.MethodName)) ∈ lw_all := lw_g (lw_at lw_m9 134 rfl) rfl
theorem q2186 : (Jvm.Cond.static ({ cls := "SoleraCellarModel", name := "is", desc := "(II)Z" } : Jvm.MethodName)) ∈ lw_all := lw_g (lw_at lw_m9 135 rfl) rfl
theorem q2187 : (Jvm.Cond.code ({ cls := "SoleraCellarModel", name := "is", desc := "(II)Z" } : Jvm.MethodName) prog_23_method_4_code (2 : Nat) (Option.some Jvm.ClassFile.FieldType.boolean)) ∈ lw_all := lw_g (lw_at lw_m9 136 rfl) rfl
theorem q2189 : (Jvm.Cond.instanceMethod ({ cls := "SoleraCellarModel", name := "few", desc := "(II)J" } : Jvm.MethodName)) ∈ lw_all := lw_g (lw_at lw_m9 138 rfl) rfl
theorem q2190 : (Jvm.Cond.selects "SoleraCellarModel" ({ cls := "SoleraCellarModel", name := "few", desc := "(II)J" } : Jvm.MethodName) ({ cls := "SoleraCellarModel", name := "few", desc := "(II)J" } : Jvm.MethodName)) ∈ lw_all := lw_g (lw_at lw_m9 139 rfl) rfl
theorem q2191 : (Jvm.Cond.code ({ cls := "SoleraCellarModel", name := "few", desc := "(II)J" } : Jvm.MethodName) prog_23_method_121_code (8 : Nat) (Option.some Jvm.ClassFile.FieldType.long)) ∈ lw_all := lw_g (lw_at lw_m9 140 rfl) rfl
theorem q2192 : (Jvm.Cond.constantLong "SoleraCellarModel" (556 : Nat) (99 : Int64)) ∈ lw_all := lw_g (lw_at lw_m9 141 rfl) rfl
theorem q2194 : (Jvm.Cond.instanceMethod ({ cls := "SoleraCellarModel", name := "compare", desc := "(II)I" } : Jvm.MethodName)) ∈ lw_all := lw_g (lw_at lw_m9 143 rfl) rfl
theorem q2195 : (Jvm.Cond.selects "SoleraCellarModel" ({ cls := "SoleraCellarModel", name := "compare", desc := "(II)I" } : Jvm.MethodName) ({ cls := "SoleraCellarModel", name := "compare", desc := "(II)I" } : Jvm.MethodName)) ∈ lw_all := lw_g (lw_at lw_m9 144 rfl) rfl
theorem q2196 : (Jvm.Cond.code ({ cls := "SoleraCellarModel", name := "compare", desc := "(II)I" } : Jvm.MethodName) prog_23_method_122_code (5 : Nat) (Option.some Jvm.ClassFile.FieldType.int)) ∈ lw_all := lw_g (lw_at lw_m9 145 rfl) rfl
theorem q2197 : (Jvm.Cond.methodLink "SoleraCellarModel" (558 : Nat) ({ cls := "SoleraCellarModel", name := "lossOf", desc := "(I)I" } : Jvm.MethodName)) ∈ lw_all := lw_g (lw_at lw_m9 146 rfl) rfl
theorem q2198 : (Jvm.Cond.privateMethod ({ cls := "SoleraCellarModel", name := "lossOf", desc := "(I)I" } : Jvm.MethodName)) ∈ lw_tbl := lw_at lw_m9 147 rfl
theorem q2199 : (Jvm.Cond.instanceMethod ({ cls := "SoleraCellarModel", name := "lossOf", desc := "(I)I" } : Jvm.MethodName)) ∈ lw_all := lw_g (lw_at lw_m9 148 rfl) rfl
theorem q2200 : (Jvm.Cond.code ({ cls := "SoleraCellarModel", name := "lossOf", desc := "(I)I" } : Jvm.MethodName) prog_23_method_84_code (5 : Nat) (Option.some Jvm.ClassFile.FieldType.int)) ∈ lw_all := lw_g (lw_at lw_m9 149 rfl) rfl
theorem q2202 : (Jvm.Cond.instanceMethod ({ cls := "SoleraCellarModel", name := "harvests", desc := "(II)I" } : Jvm.MethodName)) ∈ lw_all := lw_g (lw_at lw_m9 151 rfl) rfl
theorem q2203 : (Jvm.Cond.selects "SoleraCellarModel" ({ cls := "SoleraCellarModel", name := "harvests", desc := "(II)I" } : Jvm.MethodName) ({ cls := "SoleraCellarModel", name := "harvests", desc := "(II)I" } : Jvm.MethodName)) ∈ lw_all := lw_g (lw_at lw_m9 152 rfl) rfl
theorem q2204 : (Jvm.Cond.code ({ cls := "SoleraCellarModel", name := "harvests", desc := "(II)I" } : Jvm.MethodName) prog_23_method_125_code (8 : Nat) (Option.some Jvm.ClassFile.FieldType.int)) ∈ lw_all := lw_g (lw_at lw_m9 153 rfl) rfl
theorem q2205 : (Jvm.Cond.methodLink "SoleraCellarModel" (570 : Nat) ({ cls := "SoleraCellarModel", name := "draw", desc := "(I)I" } : Jvm.MethodName)) ∈ lw_all := lw_g (lw_at lw_m9 154 rfl) rfl
theorem q2206 : (Jvm.Cond.privateMethod ({ cls := "SoleraCellarModel", name := "draw", desc := "(I)I" } : Jvm.MethodName)) ∈ lw_tbl := lw_at lw_m9 155 rfl
theorem q2207 : (Jvm.Cond.instanceMethod ({ cls := "SoleraCellarModel", name := "draw", desc := "(I)I" } : Jvm.MethodName)) ∈ lw_all := lw_g (lw_at lw_m9 156 rfl) rfl
theorem q2208 : (Jvm.Cond.code ({ cls := "SoleraCellarModel", name := "draw", desc := "(I)I" } : Jvm.MethodName) prog_23_method_123_code (2 : Nat) (Option.some Jvm.ClassFile.FieldType.int)) ∈ lw_all := lw_g (lw_at lw_m9 157 rfl) rfl
theorem q2209 : (Jvm.Cond.constantLong "SoleraCellarModel" (564 : Nat) (1103 : Int64)) ∈ lw_all := lw_g (lw_at lw_m9 158 rfl) rfl
theorem q2210 : (Jvm.Cond.constantLong "SoleraCellarModel" (566 : Nat) (12345 : Int64)) ∈ lw_all := lw_g (lw_at lw_m9 159 rfl) rfl
theorem q2211 : (Jvm.Cond.constantLong "SoleraCellarModel" (568 : Nat) (1000003 : Int64)) ∈ lw_all := lw_g (lw_at lw_m9 160 rfl) rfl
theorem q2212 : (Jvm.Cond.methodLink "SoleraCellarModel" (573 : Nat) ({ cls := "SoleraCellarModel", name := "drawnAct", desc := "(IIII)V" } : Jvm.MethodName)) ∈ lw_all := lw_g (lw_at lw_m9 161 rfl) rfl
theorem q2213 : (Jvm.Cond.privateMethod ({ cls := "SoleraCellarModel", name := "drawnAct", desc := "(IIII)V" } : Jvm.MethodName)) ∈ lw_tbl := lw_at lw_m9 162 rfl
theorem q2214 : (Jvm.Cond.instanceMethod ({ cls := "SoleraCellarModel", name := "drawnAct", desc := "(IIII)V" } : Jvm.MethodName)) ∈ lw_all := lw_g (lw_at lw_m9 163 rfl) rfl
theorem q2215 : (Jvm.Cond.code ({ cls := "SoleraCellarModel", name := "drawnAct", desc := "(IIII)V" } : Jvm.MethodName) prog_23_method_124_code (5 : Nat) (Option.none : Option Jvm.ClassFile.FieldType)) ∈ lw_all := lw_g (lw_at lw_m9 164 rfl) rfl
theorem q2217 : (Jvm.Cond.instanceMethod ({ cls := "SoleraCellarModel", name := "drawn", desc := "(II)I" } : Jvm.MethodName)) ∈ lw_all := lw_g (lw_at lw_m9 166 rfl) rfl
theorem q2218 : (Jvm.Cond.selects "SoleraCellarModel" ({ cls := "SoleraCellarModel", name := "drawn", desc := "(II)I" } : Jvm.MethodName) ({ cls := "SoleraCellarModel", name := "drawn", desc := "(II)I" } : Jvm.MethodName)) ∈ lw_all := lw_g (lw_at lw_m9 167 rfl) rfl
theorem q2219 : (Jvm.Cond.code ({ cls := "SoleraCellarModel", name := "drawn", desc := "(II)I" } : Jvm.MethodName) prog_23_method_126_code (7 : Nat) (Option.some Jvm.ClassFile.FieldType.int)) ∈ lw_all := lw_g (lw_at lw_m9 168 rfl) rfl
theorem q2221 : (Jvm.Cond.instanceMethod ({ cls := "SoleraCellarModel", name := "count", desc := "(I)I" } : Jvm.MethodName)) ∈ lw_all := lw_g (lw_at lw_m9 170 rfl) rfl
theorem q2222 : (Jvm.Cond.selects "SoleraCellarModel" ({ cls := "SoleraCellarModel", name := "count", desc := "(I)I" } : Jvm.MethodName) ({ cls := "SoleraCellarModel", name := "count", desc := "(I)I" } : Jvm.MethodName)) ∈ lw_all := lw_g (lw_at lw_m9 171 rfl) rfl
theorem q2223 : (Jvm.Cond.code ({ cls := "SoleraCellarModel", name := "count", desc := "(I)I" } : Jvm.MethodName) prog_23_method_127_code (2 : Nat) (Option.some Jvm.ClassFile.FieldType.int)) ∈ lw_all := lw_g (lw_at lw_m9 172 rfl) rfl
theorem q2224 : (Jvm.Cond.constantLong "SoleraCellarModel" (577 : Nat) (13 : Int64)) ∈ lw_all := lw_g (lw_at lw_m9 173 rfl) rfl
theorem q2225 : (Jvm.Cond.constantLong "SoleraCellarModel" (579 : Nat) (16 : Int64)) ∈ lw_all := lw_g (lw_at lw_m9 174 rfl) rfl
theorem q2227 : (Jvm.Cond.instanceMethod ({ cls := "SoleraCellarModel", name := "status", desc := "()I" } : Jvm.MethodName)) ∈ lw_all := lw_g (lw_at lw_m9 176 rfl) rfl
theorem q2228 : (Jvm.Cond.selects "SoleraCellarModel" ({ cls := "SoleraCellarModel", name := "status", desc := "()I" } : Jvm.MethodName) ({ cls := "SoleraCellarModel", name := "status", desc := "()I" } : Jvm.MethodName)) ∈ lw_all := lw_g (lw_at lw_m9 177 rfl) rfl
theorem q2229 : (Jvm.Cond.code ({ cls := "SoleraCellarModel", name := "status", desc := "()I" } : Jvm.MethodName) prog_23_method_128_code (1 : Nat) (Option.some Jvm.ClassFile.FieldType.int)) ∈ lw_all := lw_g (lw_at lw_m9 178 rfl) rfl
theorem q2251 : (Jvm.Cond.castable "SoleraCellarModel" "java/lang/Object") ∈ lw_tbl := lw_at lw_m9 200 rfl
theorem in_X5 : ∀ w ∈ wsX50, w ∈ lw_all := lw_in wsX50 [1581, 1583, 1585, 1587, 1589, 1591, 1593, 1595, 1597, 1599, 1601, 1603, 1605, 1607, 1609, 1611, 1613, 1615, 1617, 1619, 1621, 1623, 1625, 1627, 1629, 1631, 1633, 1635, 1637, 1639, 1641, 1643, 1645, 1647, 1649, 1651, 1653, 1655, 1657, 1659, 1661, 1663, 1665, 1667, 1669, 1671, 1673, 1675, 1677, 1679, 1681, 1683, 1685, 1687, 1689] (by decide +kernel) (by decide +kernel)
