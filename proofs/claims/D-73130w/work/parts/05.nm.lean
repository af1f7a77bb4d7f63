/-! WidowRoadsModel -/
set_option maxRecDepth 100000
def RX6 : String := "WidowRoadsModel"
def TX6 : u_T := fun k => match k with
  | 0 => ("WidowRoadsModel", "thrown", "I", false)
  | 1 => ("WidowRoadsModel", "world", "[I", true)
  | 2 => ("WidowRoadsModel", "images", "[I", true)
  | 3 => ("WidowRoadsModel", "hasImage", "[Z", true)
  | 4 => ("WidowRoadsModel", "tape", "[B", true)
  | 5 => ("WidowRoadsModel", "taped", "I", false)
  | 6 => ("WidowRoadsModel", "five", "[I", true)
  | 7 => ("WidowRoadsModel", "size", "I", false)
  | 8 => ("WidowRoadsModel", "at", "I", false)
  | 9 => ("WidowRoadsModel", "from", "I", false)
  | 10 => ("WidowRoadsModel", "token", "I", false)
  | 11 => ("WidowRoadsModel", "value", "I", false)
  | 12 => ("WidowRoadsModel", "faultKind", "I", false)
  | 13 => ("WidowRoadsModel", "faultPlace", "I", false)
  | 14 => ("WidowRoadsModel", "fresh", "[I", true)
  | 15 => ("WidowRoadsModel", "isCreek", "[Z", true)
  | 16 => ("WidowRoadsModel", "facesNow", "[I", true)
  | 17 => ("WidowRoadsModel", "lawNow", "I", false)
  | 18 => ("WidowRoadsModel", "walkSet", "I", false)
  | 19 => ("WidowRoadsModel", "oneWidow", "I", false)
  | 20 => ("WidowRoadsModel", "oneTurn", "I", false)
  | 21 => ("WidowRoadsModel", "isRoad", "[Z", true)
  | 22 => ("WidowRoadsModel", "wasRoad", "[Z", true)
  | 23 => ("WidowRoadsModel", "wasIn", "[Z", true)
  | 24 => ("WidowRoadsModel", "pegNow", "[I", true)
  | 25 => ("WidowRoadsModel", "houseNow", "[I", true)
  | 26 => ("WidowRoadsModel", "pathBy", "[I", true)
  | 27 => ("WidowRoadsModel", "stepsBy", "[I", true)
  | 28 => ("WidowRoadsModel", "movesBy", "[I", true)
  | 29 => ("WidowRoadsModel", "movedBy", "[I", true)
  | 30 => ("WidowRoadsModel", "roadAt", "[Z", true)
  | 31 => ("WidowRoadsModel", "pegAt", "[I", true)
  | 32 => ("WidowRoadsModel", "houseAt", "[I", true)
  | 33 => ("WidowRoadsModel", "farNow", "[I", true)
  | 34 => ("WidowRoadsModel", "seen", "[Z", true)
  | 35 => ("WidowRoadsModel", "cellBy", "[I", true)
  | 36 => ("WidowRoadsModel", "askWorst", "I", false)
  | 37 => ("WidowRoadsModel", "worthBy", "[I", true)
  | 38 => ("WidowRoadsModel", "mayWalk", "I", false)
  | 39 => ("WidowRoadsModel", "oftenAll", "J", false)
  | 40 => ("WidowRoadsModel", "oftenRoad", "J", false)
  | 41 => ("WidowRoadsModel", "oftenPegs", "J", false)
  | 42 => ("WidowRoadsModel", "many", "[I", true)
  | 43 => ("WidowRoadsModel", "width", "[I", true)
  | 44 => ("WidowRoadsModel", "numbers", "[J", true)
  | _ => ("WidowRoadsModel", "moving", "[J", true)
def tyX6 : Nat → FieldType := fun k => match k with
  | 0 => .int
  | 1 => .array .int
  | 2 => .array .int
  | 3 => .array .boolean
  | 4 => .array .byte
  | 5 => .int
  | 6 => .array .int
  | 7 => .int
  | 8 => .int
  | 9 => .int
  | 10 => .int
  | 11 => .int
  | 12 => .int
  | 13 => .int
  | 14 => .array .int
  | 15 => .array .boolean
  | 16 => .array .int
  | 17 => .int
  | 18 => .int
  | 19 => .int
  | 20 => .int
  | 21 => .array .boolean
  | 22 => .array .boolean
  | 23 => .array .boolean
  | 24 => .array .int
  | 25 => .array .int
  | 26 => .array .int
  | 27 => .array .int
  | 28 => .array .int
  | 29 => .array .int
  | 30 => .array .boolean
  | 31 => .array .int
  | 32 => .array .int
  | 33 => .array .int
  | 34 => .array .boolean
  | 35 => .array .int
  | 36 => .int
  | 37 => .array .int
  | 38 => .int
  | 39 => .long
  | 40 => .long
  | 41 => .long
  | 42 => .array .int
  | 43 => .array .int
  | 44 => .array .long
  | _ => .array .long
abbrev wsX60 : List Cond := u_ws RX6 TX6 46
set_option maxRecDepth 100000 in
theorem nmX6 : ∀ a, a < 46 → ∀ b, b < 46 → a ≠ b → (TX6 a).2.1 ≠ (TX6 b).2.1 := by decide +kernel
set_option maxRecDepth 100000 in
theorem tyX6_ok : ∀ k, k < 46 → parseFieldDescriptor (TX6 k).2.2.1 = some (tyX6 k) := by decide +kernel
abbrev cX6_init : ByteArray := prog_12_method_1_code
def yX6_init : MethodName := ⟨RX6, "<init>", "()V"⟩
def dkwX6_init_10 : List UInt8 := [188, 10, 181, 0, 91, 42, 17, 0, 240, 188, 11, 181, 0, 94, 42, 16, 60, 188, 11, 181, 0, 98, 177]
abbrev dktX6_init_10 : List UInt8 := dkwX6_init_10 ++ []
def dkwX6_init_9 : List UInt8 := [188, 10, 89, 3, 2, 79, 89, 4, 2, 79, 89, 5, 2, 79, 89, 6, 2, 79, 181, 0, 88, 42, 7]
abbrev dktX6_init_9 : List UInt8 := dkwX6_init_9 ++ dktX6_init_10
def dkwX6_init_8 : List UInt8 := [181, 0, 79, 42, 17, 0, 164, 188, 10, 181, 0, 82, 42, 17, 0, 128, 188, 10, 181, 0, 85, 42, 7]
abbrev dktX6_init_8 : List UInt8 := dkwX6_init_8 ++ dktX6_init_9
def dkwX6_init_7 : List UInt8 := [181, 0, 70, 42, 16, 78, 188, 10, 181, 0, 73, 42, 16, 80, 188, 10, 181, 0, 76, 42, 16, 80, 188, 4]
abbrev dktX6_init_7 : List UInt8 := dkwX6_init_7 ++ dktX6_init_8
def dkwX6_init_6 : List UInt8 := [42, 16, 6, 188, 10, 181, 0, 64, 42, 17, 4, 16, 188, 4, 181, 0, 67, 42, 17, 4, 16, 188, 10]
abbrev dktX6_init_6 : List UInt8 := dkwX6_init_6 ++ dktX6_init_7
def dkwX6_init_5 : List UInt8 := [17, 1, 31, 188, 10, 181, 0, 55, 42, 16, 7, 188, 10, 181, 0, 58, 42, 16, 7, 188, 10, 181, 0, 61]
abbrev dktX6_init_5 : List UInt8 := dkwX6_init_5 ++ dktX6_init_6
def dkwX6_init_4 : List UInt8 := [188, 4, 181, 0, 46, 42, 16, 80, 188, 10, 181, 0, 49, 42, 16, 6, 188, 10, 181, 0, 52, 42]
abbrev dktX6_init_4 : List UInt8 := dkwX6_init_4 ++ dktX6_init_5
def dkwX6_init_3 : List UInt8 := [188, 10, 181, 0, 37, 42, 16, 80, 188, 4, 181, 0, 40, 42, 16, 80, 188, 4, 181, 0, 43, 42, 16, 80]
abbrev dktX6_init_3 : List UInt8 := dkwX6_init_3 ++ dktX6_init_4
def dkwX6_init_2 : List UInt8 := [181, 0, 27, 42, 17, 0, 149, 188, 10, 181, 0, 31, 42, 16, 80, 188, 4, 181, 0, 34, 42, 16, 7]
abbrev dktX6_init_2 : List UInt8 := dkwX6_init_2 ++ dktX6_init_3
def dkwX6_init_1 : List UInt8 := [188, 4, 181, 0, 16, 42, 17, 3, 132, 188, 8, 181, 0, 20, 42, 8, 188, 10, 181, 0, 24, 42, 2]
abbrev dktX6_init_1 : List UInt8 := dkwX6_init_1 ++ dktX6_init_2
def dkwX6_init_0 : List UInt8 := [42, 183, 0, 3, 42, 17, 0, 149, 188, 10, 181, 0, 9, 42, 17, 1, 191, 188, 10, 181, 0, 13, 42, 6]
abbrev dktX6_init_0 : List UInt8 := dkwX6_init_0 ++ dktX6_init_1
theorem dksX6_init_0 : cX6_init.data.toList.drop 0 = dktX6_init_0 := by decide +kernel
theorem dksX6_init_1 : cX6_init.data.toList.drop 24 = dktX6_init_1 := dk_seg dksX6_init_0 24 rfl rfl
theorem dksX6_init_2 : cX6_init.data.toList.drop 47 = dktX6_init_2 := dk_seg dksX6_init_1 23 rfl rfl
theorem dksX6_init_3 : cX6_init.data.toList.drop 70 = dktX6_init_3 := dk_seg dksX6_init_2 23 rfl rfl
theorem dksX6_init_4 : cX6_init.data.toList.drop 94 = dktX6_init_4 := dk_seg dksX6_init_3 24 rfl rfl
theorem dksX6_init_5 : cX6_init.data.toList.drop 116 = dktX6_init_5 := dk_seg dksX6_init_4 22 rfl rfl
theorem dksX6_init_6 : cX6_init.data.toList.drop 140 = dktX6_init_6 := dk_seg dksX6_init_5 24 rfl rfl
theorem dksX6_init_7 : cX6_init.data.toList.drop 163 = dktX6_init_7 := dk_seg dksX6_init_6 23 rfl rfl
theorem dksX6_init_8 : cX6_init.data.toList.drop 187 = dktX6_init_8 := dk_seg dksX6_init_7 24 rfl rfl
theorem dksX6_init_9 : cX6_init.data.toList.drop 210 = dktX6_init_9 := dk_seg dksX6_init_8 23 rfl rfl
theorem dksX6_init_10 : cX6_init.data.toList.drop 233 = dktX6_init_10 := dk_seg dksX6_init_9 23 rfl rfl
theorem dX6_init_0 : decode cX6_init 0 = .ok (.aload_n 0, 1) := dk_42 (dk_at dksX6_init_0 0 rfl rfl)
theorem dX6_init_1 : decode cX6_init 1 = .ok (.invokespecial 3, 3) := dk_183 0 3 (dk_at dksX6_init_0 1 rfl rfl)
theorem dX6_init_4 : decode cX6_init 4 = .ok (.aload_n 0, 1) := dk_42 (dk_at dksX6_init_0 4 rfl rfl)
theorem dX6_init_5 : decode cX6_init 5 = .ok (.sipush 149, 3) := dk_17 0 149 (dk_at dksX6_init_0 5 rfl rfl)
theorem dX6_init_8 : decode cX6_init 8 = .ok (.newarray .int, 2) := dk_188_10 (dk_at dksX6_init_0 8 rfl rfl)
theorem dX6_init_10 : decode cX6_init 10 = .ok (.putfield 9, 3) := dk_181 0 9 (dk_at dksX6_init_0 10 rfl rfl)
theorem dX6_init_13 : decode cX6_init 13 = .ok (.aload_n 0, 1) := dk_42 (dk_at dksX6_init_0 13 rfl rfl)
theorem dX6_init_14 : decode cX6_init 14 = .ok (.sipush 447, 3) := dk_17 1 191 (dk_at dksX6_init_0 14 rfl rfl)
theorem dX6_init_17 : decode cX6_init 17 = .ok (.newarray .int, 2) := dk_188_10 (dk_at dksX6_init_0 17 rfl rfl)
theorem dX6_init_19 : decode cX6_init 19 = .ok (.putfield 13, 3) := dk_181 0 13 (dk_at dksX6_init_0 19 rfl rfl)
theorem dX6_init_22 : decode cX6_init 22 = .ok (.aload_n 0, 1) := dk_42 (dk_at dksX6_init_0 22 rfl rfl)
theorem dX6_init_23 : decode cX6_init 23 = .ok (.iconst 3, 1) := dk_6 (dk_at dksX6_init_0 23 rfl rfl)
theorem dX6_init_24 : decode cX6_init 24 = .ok (.newarray .boolean, 2) := dk_188_4 (dk_at dksX6_init_1 0 rfl rfl)
theorem dX6_init_26 : decode cX6_init 26 = .ok (.putfield 16, 3) := dk_181 0 16 (dk_at dksX6_init_1 2 rfl rfl)
theorem dX6_init_29 : decode cX6_init 29 = .ok (.aload_n 0, 1) := dk_42 (dk_at dksX6_init_1 5 rfl rfl)
theorem dX6_init_30 : decode cX6_init 30 = .ok (.sipush 900, 3) := dk_17 3 132 (dk_at dksX6_init_1 6 rfl rfl)
theorem dX6_init_33 : decode cX6_init 33 = .ok (.newarray .byte, 2) := dk_188_8 (dk_at dksX6_init_1 9 rfl rfl)
theorem dX6_init_35 : decode cX6_init 35 = .ok (.putfield 20, 3) := dk_181 0 20 (dk_at dksX6_init_1 11 rfl rfl)
theorem dX6_init_38 : decode cX6_init 38 = .ok (.aload_n 0, 1) := dk_42 (dk_at dksX6_init_1 14 rfl rfl)
theorem dX6_init_39 : decode cX6_init 39 = .ok (.iconst 5, 1) := dk_8 (dk_at dksX6_init_1 15 rfl rfl)
theorem dX6_init_40 : decode cX6_init 40 = .ok (.newarray .int, 2) := dk_188_10 (dk_at dksX6_init_1 16 rfl rfl)
theorem dX6_init_42 : decode cX6_init 42 = .ok (.putfield 24, 3) := dk_181 0 24 (dk_at dksX6_init_1 18 rfl rfl)
theorem dX6_init_45 : decode cX6_init 45 = .ok (.aload_n 0, 1) := dk_42 (dk_at dksX6_init_1 21 rfl rfl)
theorem dX6_init_46 : decode cX6_init 46 = .ok (.iconst (-1), 1) := dk_2 (dk_at dksX6_init_1 22 rfl rfl)
theorem dX6_init_47 : decode cX6_init 47 = .ok (.putfield 27, 3) := dk_181 0 27 (dk_at dksX6_init_2 0 rfl rfl)
theorem dX6_init_50 : decode cX6_init 50 = .ok (.aload_n 0, 1) := dk_42 (dk_at dksX6_init_2 3 rfl rfl)
theorem dX6_init_51 : decode cX6_init 51 = .ok (.sipush 149, 3) := dk_17 0 149 (dk_at dksX6_init_2 4 rfl rfl)
theorem dX6_init_54 : decode cX6_init 54 = .ok (.newarray .int, 2) := dk_188_10 (dk_at dksX6_init_2 7 rfl rfl)
theorem dX6_init_56 : decode cX6_init 56 = .ok (.putfield 31, 3) := dk_181 0 31 (dk_at dksX6_init_2 9 rfl rfl)
theorem dX6_init_59 : decode cX6_init 59 = .ok (.aload_n 0, 1) := dk_42 (dk_at dksX6_init_2 12 rfl rfl)
theorem dX6_init_60 : decode cX6_init 60 = .ok (.bipush 80, 2) := dk_16 80 (dk_at dksX6_init_2 13 rfl rfl)
theorem dX6_init_62 : decode cX6_init 62 = .ok (.newarray .boolean, 2) := dk_188_4 (dk_at dksX6_init_2 15 rfl rfl)
theorem dX6_init_64 : decode cX6_init 64 = .ok (.putfield 34, 3) := dk_181 0 34 (dk_at dksX6_init_2 17 rfl rfl)
theorem dX6_init_67 : decode cX6_init 67 = .ok (.aload_n 0, 1) := dk_42 (dk_at dksX6_init_2 20 rfl rfl)
theorem dX6_init_68 : decode cX6_init 68 = .ok (.bipush 7, 2) := dk_16 7 (dk_at dksX6_init_2 21 rfl rfl)
theorem dX6_init_70 : decode cX6_init 70 = .ok (.newarray .int, 2) := dk_188_10 (dk_at dksX6_init_3 0 rfl rfl)
theorem dX6_init_72 : decode cX6_init 72 = .ok (.putfield 37, 3) := dk_181 0 37 (dk_at dksX6_init_3 2 rfl rfl)
theorem dX6_init_75 : decode cX6_init 75 = .ok (.aload_n 0, 1) := dk_42 (dk_at dksX6_init_3 5 rfl rfl)
theorem dX6_init_76 : decode cX6_init 76 = .ok (.bipush 80, 2) := dk_16 80 (dk_at dksX6_init_3 6 rfl rfl)
theorem dX6_init_78 : decode cX6_init 78 = .ok (.newarray .boolean, 2) := dk_188_4 (dk_at dksX6_init_3 8 rfl rfl)
theorem dX6_init_80 : decode cX6_init 80 = .ok (.putfield 40, 3) := dk_181 0 40 (dk_at dksX6_init_3 10 rfl rfl)
theorem dX6_init_83 : decode cX6_init 83 = .ok (.aload_n 0, 1) := dk_42 (dk_at dksX6_init_3 13 rfl rfl)
theorem dX6_init_84 : decode cX6_init 84 = .ok (.bipush 80, 2) := dk_16 80 (dk_at dksX6_init_3 14 rfl rfl)
theorem dX6_init_86 : decode cX6_init 86 = .ok (.newarray .boolean, 2) := dk_188_4 (dk_at dksX6_init_3 16 rfl rfl)
theorem dX6_init_88 : decode cX6_init 88 = .ok (.putfield 43, 3) := dk_181 0 43 (dk_at dksX6_init_3 18 rfl rfl)
theorem dX6_init_91 : decode cX6_init 91 = .ok (.aload_n 0, 1) := dk_42 (dk_at dksX6_init_3 21 rfl rfl)
theorem dX6_init_92 : decode cX6_init 92 = .ok (.bipush 80, 2) := dk_16 80 (dk_at dksX6_init_3 22 rfl rfl)
theorem dX6_init_94 : decode cX6_init 94 = .ok (.newarray .boolean, 2) := dk_188_4 (dk_at dksX6_init_4 0 rfl rfl)
theorem dX6_init_96 : decode cX6_init 96 = .ok (.putfield 46, 3) := dk_181 0 46 (dk_at dksX6_init_4 2 rfl rfl)
theorem dX6_init_99 : decode cX6_init 99 = .ok (.aload_n 0, 1) := dk_42 (dk_at dksX6_init_4 5 rfl rfl)
theorem dX6_init_100 : decode cX6_init 100 = .ok (.bipush 80, 2) := dk_16 80 (dk_at dksX6_init_4 6 rfl rfl)
theorem dX6_init_102 : decode cX6_init 102 = .ok (.newarray .int, 2) := dk_188_10 (dk_at dksX6_init_4 8 rfl rfl)
theorem dX6_init_104 : decode cX6_init 104 = .ok (.putfield 49, 3) := dk_181 0 49 (dk_at dksX6_init_4 10 rfl rfl)
theorem dX6_init_107 : decode cX6_init 107 = .ok (.aload_n 0, 1) := dk_42 (dk_at dksX6_init_4 13 rfl rfl)
theorem dX6_init_108 : decode cX6_init 108 = .ok (.bipush 6, 2) := dk_16 6 (dk_at dksX6_init_4 14 rfl rfl)
theorem dX6_init_110 : decode cX6_init 110 = .ok (.newarray .int, 2) := dk_188_10 (dk_at dksX6_init_4 16 rfl rfl)
theorem dX6_init_112 : decode cX6_init 112 = .ok (.putfield 52, 3) := dk_181 0 52 (dk_at dksX6_init_4 18 rfl rfl)
theorem dX6_init_115 : decode cX6_init 115 = .ok (.aload_n 0, 1) := dk_42 (dk_at dksX6_init_4 21 rfl rfl)
theorem dX6_init_116 : decode cX6_init 116 = .ok (.sipush 287, 3) := dk_17 1 31 (dk_at dksX6_init_5 0 rfl rfl)
theorem dX6_init_119 : decode cX6_init 119 = .ok (.newarray .int, 2) := dk_188_10 (dk_at dksX6_init_5 3 rfl rfl)
theorem dX6_init_121 : decode cX6_init 121 = .ok (.putfield 55, 3) := dk_181 0 55 (dk_at dksX6_init_5 5 rfl rfl)
theorem dX6_init_124 : decode cX6_init 124 = .ok (.aload_n 0, 1) := dk_42 (dk_at dksX6_init_5 8 rfl rfl)
theorem dX6_init_125 : decode cX6_init 125 = .ok (.bipush 7, 2) := dk_16 7 (dk_at dksX6_init_5 9 rfl rfl)
theorem dX6_init_127 : decode cX6_init 127 = .ok (.newarray .int, 2) := dk_188_10 (dk_at dksX6_init_5 11 rfl rfl)
theorem dX6_init_129 : decode cX6_init 129 = .ok (.putfield 58, 3) := dk_181 0 58 (dk_at dksX6_init_5 13 rfl rfl)
theorem dX6_init_132 : decode cX6_init 132 = .ok (.aload_n 0, 1) := dk_42 (dk_at dksX6_init_5 16 rfl rfl)
theorem dX6_init_133 : decode cX6_init 133 = .ok (.bipush 7, 2) := dk_16 7 (dk_at dksX6_init_5 17 rfl rfl)
theorem dX6_init_135 : decode cX6_init 135 = .ok (.newarray .int, 2) := dk_188_10 (dk_at dksX6_init_5 19 rfl rfl)
theorem dX6_init_137 : decode cX6_init 137 = .ok (.putfield 61, 3) := dk_181 0 61 (dk_at dksX6_init_5 21 rfl rfl)
theorem dX6_init_140 : decode cX6_init 140 = .ok (.aload_n 0, 1) := dk_42 (dk_at dksX6_init_6 0 rfl rfl)
theorem dX6_init_141 : decode cX6_init 141 = .ok (.bipush 6, 2) := dk_16 6 (dk_at dksX6_init_6 1 rfl rfl)
theorem dX6_init_143 : decode cX6_init 143 = .ok (.newarray .int, 2) := dk_188_10 (dk_at dksX6_init_6 3 rfl rfl)
theorem dX6_init_145 : decode cX6_init 145 = .ok (.putfield 64, 3) := dk_181 0 64 (dk_at dksX6_init_6 5 rfl rfl)
theorem dX6_init_148 : decode cX6_init 148 = .ok (.aload_n 0, 1) := dk_42 (dk_at dksX6_init_6 8 rfl rfl)
theorem dX6_init_149 : decode cX6_init 149 = .ok (.sipush 1040, 3) := dk_17 4 16 (dk_at dksX6_init_6 9 rfl rfl)
theorem dX6_init_152 : decode cX6_init 152 = .ok (.newarray .boolean, 2) := dk_188_4 (dk_at dksX6_init_6 12 rfl rfl)
theorem dX6_init_154 : decode cX6_init 154 = .ok (.putfield 67, 3) := dk_181 0 67 (dk_at dksX6_init_6 14 rfl rfl)
theorem dX6_init_157 : decode cX6_init 157 = .ok (.aload_n 0, 1) := dk_42 (dk_at dksX6_init_6 17 rfl rfl)
theorem dX6_init_158 : decode cX6_init 158 = .ok (.sipush 1040, 3) := dk_17 4 16 (dk_at dksX6_init_6 18 rfl rfl)
theorem dX6_init_161 : decode cX6_init 161 = .ok (.newarray .int, 2) := dk_188_10 (dk_at dksX6_init_6 21 rfl rfl)
theorem dX6_init_163 : decode cX6_init 163 = .ok (.putfield 70, 3) := dk_181 0 70 (dk_at dksX6_init_7 0 rfl rfl)
theorem dX6_init_166 : decode cX6_init 166 = .ok (.aload_n 0, 1) := dk_42 (dk_at dksX6_init_7 3 rfl rfl)
theorem dX6_init_167 : decode cX6_init 167 = .ok (.bipush 78, 2) := dk_16 78 (dk_at dksX6_init_7 4 rfl rfl)
theorem dX6_init_169 : decode cX6_init 169 = .ok (.newarray .int, 2) := dk_188_10 (dk_at dksX6_init_7 6 rfl rfl)
theorem dX6_init_171 : decode cX6_init 171 = .ok (.putfield 73, 3) := dk_181 0 73 (dk_at dksX6_init_7 8 rfl rfl)
theorem dX6_init_174 : decode cX6_init 174 = .ok (.aload_n 0, 1) := dk_42 (dk_at dksX6_init_7 11 rfl rfl)
theorem dX6_init_175 : decode cX6_init 175 = .ok (.bipush 80, 2) := dk_16 80 (dk_at dksX6_init_7 12 rfl rfl)
theorem dX6_init_177 : decode cX6_init 177 = .ok (.newarray .int, 2) := dk_188_10 (dk_at dksX6_init_7 14 rfl rfl)
theorem dX6_init_179 : decode cX6_init 179 = .ok (.putfield 76, 3) := dk_181 0 76 (dk_at dksX6_init_7 16 rfl rfl)
theorem dX6_init_182 : decode cX6_init 182 = .ok (.aload_n 0, 1) := dk_42 (dk_at dksX6_init_7 19 rfl rfl)
theorem dX6_init_183 : decode cX6_init 183 = .ok (.bipush 80, 2) := dk_16 80 (dk_at dksX6_init_7 20 rfl rfl)
theorem dX6_init_185 : decode cX6_init 185 = .ok (.newarray .boolean, 2) := dk_188_4 (dk_at dksX6_init_7 22 rfl rfl)
theorem dX6_init_187 : decode cX6_init 187 = .ok (.putfield 79, 3) := dk_181 0 79 (dk_at dksX6_init_8 0 rfl rfl)
theorem dX6_init_190 : decode cX6_init 190 = .ok (.aload_n 0, 1) := dk_42 (dk_at dksX6_init_8 3 rfl rfl)
theorem dX6_init_191 : decode cX6_init 191 = .ok (.sipush 164, 3) := dk_17 0 164 (dk_at dksX6_init_8 4 rfl rfl)
theorem dX6_init_194 : decode cX6_init 194 = .ok (.newarray .int, 2) := dk_188_10 (dk_at dksX6_init_8 7 rfl rfl)
theorem dX6_init_196 : decode cX6_init 196 = .ok (.putfield 82, 3) := dk_181 0 82 (dk_at dksX6_init_8 9 rfl rfl)
theorem dX6_init_199 : decode cX6_init 199 = .ok (.aload_n 0, 1) := dk_42 (dk_at dksX6_init_8 12 rfl rfl)
theorem dX6_init_200 : decode cX6_init 200 = .ok (.sipush 128, 3) := dk_17 0 128 (dk_at dksX6_init_8 13 rfl rfl)
theorem dX6_init_203 : decode cX6_init 203 = .ok (.newarray .int, 2) := dk_188_10 (dk_at dksX6_init_8 16 rfl rfl)
theorem dX6_init_205 : decode cX6_init 205 = .ok (.putfield 85, 3) := dk_181 0 85 (dk_at dksX6_init_8 18 rfl rfl)
theorem dX6_init_208 : decode cX6_init 208 = .ok (.aload_n 0, 1) := dk_42 (dk_at dksX6_init_8 21 rfl rfl)
theorem dX6_init_209 : decode cX6_init 209 = .ok (.iconst 4, 1) := dk_7 (dk_at dksX6_init_8 22 rfl rfl)
theorem dX6_init_210 : decode cX6_init 210 = .ok (.newarray .int, 2) := dk_188_10 (dk_at dksX6_init_9 0 rfl rfl)
theorem dX6_init_212 : decode cX6_init 212 = .ok (.dup, 1) := dk_89 (dk_at dksX6_init_9 2 rfl rfl)
theorem dX6_init_213 : decode cX6_init 213 = .ok (.iconst 0, 1) := dk_3 (dk_at dksX6_init_9 3 rfl rfl)
theorem dX6_init_214 : decode cX6_init 214 = .ok (.iconst (-1), 1) := dk_2 (dk_at dksX6_init_9 4 rfl rfl)
theorem dX6_init_215 : decode cX6_init 215 = .ok (.iastore, 1) := dk_79 (dk_at dksX6_init_9 5 rfl rfl)
theorem dX6_init_216 : decode cX6_init 216 = .ok (.dup, 1) := dk_89 (dk_at dksX6_init_9 6 rfl rfl)
theorem dX6_init_217 : decode cX6_init 217 = .ok (.iconst 1, 1) := dk_4 (dk_at dksX6_init_9 7 rfl rfl)
theorem dX6_init_218 : decode cX6_init 218 = .ok (.iconst (-1), 1) := dk_2 (dk_at dksX6_init_9 8 rfl rfl)
theorem dX6_init_219 : decode cX6_init 219 = .ok (.iastore, 1) := dk_79 (dk_at dksX6_init_9 9 rfl rfl)
theorem dX6_init_220 : decode cX6_init 220 = .ok (.dup, 1) := dk_89 (dk_at dksX6_init_9 10 rfl rfl)
theorem dX6_init_221 : decode cX6_init 221 = .ok (.iconst 2, 1) := dk_5 (dk_at dksX6_init_9 11 rfl rfl)
theorem dX6_init_222 : decode cX6_init 222 = .ok (.iconst (-1), 1) := dk_2 (dk_at dksX6_init_9 12 rfl rfl)
theorem dX6_init_223 : decode cX6_init 223 = .ok (.iastore, 1) := dk_79 (dk_at dksX6_init_9 13 rfl rfl)
theorem dX6_init_224 : decode cX6_init 224 = .ok (.dup, 1) := dk_89 (dk_at dksX6_init_9 14 rfl rfl)
theorem dX6_init_225 : decode cX6_init 225 = .ok (.iconst 3, 1) := dk_6 (dk_at dksX6_init_9 15 rfl rfl)
theorem dX6_init_226 : decode cX6_init 226 = .ok (.iconst (-1), 1) := dk_2 (dk_at dksX6_init_9 16 rfl rfl)
theorem dX6_init_227 : decode cX6_init 227 = .ok (.iastore, 1) := dk_79 (dk_at dksX6_init_9 17 rfl rfl)
theorem dX6_init_228 : decode cX6_init 228 = .ok (.putfield 88, 3) := dk_181 0 88 (dk_at dksX6_init_9 18 rfl rfl)
theorem dX6_init_231 : decode cX6_init 231 = .ok (.aload_n 0, 1) := dk_42 (dk_at dksX6_init_9 21 rfl rfl)
theorem dX6_init_232 : decode cX6_init 232 = .ok (.iconst 4, 1) := dk_7 (dk_at dksX6_init_9 22 rfl rfl)
theorem dX6_init_233 : decode cX6_init 233 = .ok (.newarray .int, 2) := dk_188_10 (dk_at dksX6_init_10 0 rfl rfl)
theorem dX6_init_235 : decode cX6_init 235 = .ok (.putfield 91, 3) := dk_181 0 91 (dk_at dksX6_init_10 2 rfl rfl)
theorem dX6_init_238 : decode cX6_init 238 = .ok (.aload_n 0, 1) := dk_42 (dk_at dksX6_init_10 5 rfl rfl)
theorem dX6_init_239 : decode cX6_init 239 = .ok (.sipush 240, 3) := dk_17 0 240 (dk_at dksX6_init_10 6 rfl rfl)
theorem dX6_init_242 : decode cX6_init 242 = .ok (.newarray .long, 2) := dk_188_11 (dk_at dksX6_init_10 9 rfl rfl)
theorem dX6_init_244 : decode cX6_init 244 = .ok (.putfield 94, 3) := dk_181 0 94 (dk_at dksX6_init_10 11 rfl rfl)
theorem dX6_init_247 : decode cX6_init 247 = .ok (.aload_n 0, 1) := dk_42 (dk_at dksX6_init_10 14 rfl rfl)
theorem dX6_init_248 : decode cX6_init 248 = .ok (.bipush 60, 2) := dk_16 60 (dk_at dksX6_init_10 15 rfl rfl)
theorem dX6_init_250 : decode cX6_init 250 = .ok (.newarray .long, 2) := dk_188_11 (dk_at dksX6_init_10 17 rfl rfl)
theorem dX6_init_252 : decode cX6_init 252 = .ok (.putfield 98, 3) := dk_181 0 98 (dk_at dksX6_init_10 19 rfl rfl)
theorem dX6_init_255 : decode cX6_init 255 = .ok (.return_, 1) := dk_177 (dk_at dksX6_init_10 22 rfl rfl)
abbrev cX6_image : ByteArray := prog_12_method_6_code
def yX6_image : MethodName := ⟨RX6, "image", "(I)I"⟩
def dkwX6_image_2 : List UInt8 := [42, 180, 0, 16, 27, 4, 84, 3, 172]
abbrev dktX6_image_2 : List UInt8 := dkwX6_image_2 ++ []
def dkwX6_image_1 : List UInt8 := [42, 180, 0, 13, 17, 0, 149, 27, 104, 28, 96, 42, 180, 0, 9, 28, 46, 79, 132, 2, 1, 167, 255, 228]
abbrev dktX6_image_1 : List UInt8 := dkwX6_image_1 ++ dktX6_image_2
def dkwX6_image_0 : List UInt8 := [27, 133, 9, 20, 0, 104, 184, 0, 106, 154, 0, 6, 16, 254, 172, 3, 61, 28, 17, 0, 149, 162, 0, 27]
abbrev dktX6_image_0 : List UInt8 := dkwX6_image_0 ++ dktX6_image_1
theorem dksX6_image_0 : cX6_image.data.toList.drop 0 = dktX6_image_0 := by decide +kernel
theorem dksX6_image_1 : cX6_image.data.toList.drop 24 = dktX6_image_1 := dk_seg dksX6_image_0 24 rfl rfl
theorem dksX6_image_2 : cX6_image.data.toList.drop 48 = dktX6_image_2 := dk_seg dksX6_image_1 24 rfl rfl
theorem dX6_image_0 : decode cX6_image 0 = .ok (.iload_n 1, 1) := dk_27 (dk_at dksX6_image_0 0 rfl rfl)
theorem dX6_image_1 : decode cX6_image 1 = .ok (.i2l, 1) := dk_133 (dk_at dksX6_image_0 1 rfl rfl)
theorem dX6_image_2 : decode cX6_image 2 = .ok (.lconst 0, 1) := dk_9 (dk_at dksX6_image_0 2 rfl rfl)
theorem dX6_image_3 : decode cX6_image 3 = .ok (.ldc2_w 104, 3) := dk_20 0 104 (dk_at dksX6_image_0 3 rfl rfl)
theorem dX6_image_6 : decode cX6_image 6 = .ok (.invokestatic 106, 3) := dk_184 0 106 (dk_at dksX6_image_0 6 rfl rfl)
theorem dX6_image_9 : decode cX6_image 9 = .ok (.ifCond .ne 6, 3) := dk_154 0 6 (dk_at dksX6_image_0 9 rfl rfl)
theorem dX6_image_12 : decode cX6_image 12 = .ok (.bipush (-2), 2) := dk_16 254 (dk_at dksX6_image_0 12 rfl rfl)
theorem dX6_image_14 : decode cX6_image 14 = .ok (.ireturn, 1) := dk_172 (dk_at dksX6_image_0 14 rfl rfl)
theorem dX6_image_15 : decode cX6_image 15 = .ok (.iconst 0, 1) := dk_3 (dk_at dksX6_image_0 15 rfl rfl)
theorem dX6_image_16 : decode cX6_image 16 = .ok (.istore_n 2, 1) := dk_61 (dk_at dksX6_image_0 16 rfl rfl)
theorem dX6_image_17 : decode cX6_image 17 = .ok (.iload_n 2, 1) := dk_28 (dk_at dksX6_image_0 17 rfl rfl)
theorem dX6_image_18 : decode cX6_image 18 = .ok (.sipush 149, 3) := dk_17 0 149 (dk_at dksX6_image_0 18 rfl rfl)
theorem dX6_image_21 : decode cX6_image 21 = .ok (.if_icmp .ge 27, 3) := dk_162 0 27 (dk_at dksX6_image_0 21 rfl rfl)
theorem dX6_image_24 : decode cX6_image 24 = .ok (.aload_n 0, 1) := dk_42 (dk_at dksX6_image_1 0 rfl rfl)
theorem dX6_image_25 : decode cX6_image 25 = .ok (.getfield 13, 3) := dk_180 0 13 (dk_at dksX6_image_1 1 rfl rfl)
theorem dX6_image_28 : decode cX6_image 28 = .ok (.sipush 149, 3) := dk_17 0 149 (dk_at dksX6_image_1 4 rfl rfl)
theorem dX6_image_31 : decode cX6_image 31 = .ok (.iload_n 1, 1) := dk_27 (dk_at dksX6_image_1 7 rfl rfl)
theorem dX6_image_32 : decode cX6_image 32 = .ok (.imul, 1) := dk_104 (dk_at dksX6_image_1 8 rfl rfl)
theorem dX6_image_33 : decode cX6_image 33 = .ok (.iload_n 2, 1) := dk_28 (dk_at dksX6_image_1 9 rfl rfl)
theorem dX6_image_34 : decode cX6_image 34 = .ok (.iadd, 1) := dk_96 (dk_at dksX6_image_1 10 rfl rfl)
theorem dX6_image_35 : decode cX6_image 35 = .ok (.aload_n 0, 1) := dk_42 (dk_at dksX6_image_1 11 rfl rfl)
theorem dX6_image_36 : decode cX6_image 36 = .ok (.getfield 9, 3) := dk_180 0 9 (dk_at dksX6_image_1 12 rfl rfl)
theorem dX6_image_39 : decode cX6_image 39 = .ok (.iload_n 2, 1) := dk_28 (dk_at dksX6_image_1 15 rfl rfl)
theorem dX6_image_40 : decode cX6_image 40 = .ok (.iaload, 1) := dk_46 (dk_at dksX6_image_1 16 rfl rfl)
theorem dX6_image_41 : decode cX6_image 41 = .ok (.iastore, 1) := dk_79 (dk_at dksX6_image_1 17 rfl rfl)
theorem dX6_image_42 : decode cX6_image 42 = .ok (.iinc 2 1, 3) := dk_132 2 1 (dk_at dksX6_image_1 18 rfl rfl)
theorem dX6_image_45 : decode cX6_image 45 = .ok (.goto (-28), 3) := dk_167 255 228 (dk_at dksX6_image_1 21 rfl rfl)
theorem dX6_image_48 : decode cX6_image 48 = .ok (.aload_n 0, 1) := dk_42 (dk_at dksX6_image_2 0 rfl rfl)
theorem dX6_image_49 : decode cX6_image 49 = .ok (.getfield 16, 3) := dk_180 0 16 (dk_at dksX6_image_2 1 rfl rfl)
theorem dX6_image_52 : decode cX6_image 52 = .ok (.iload_n 1, 1) := dk_27 (dk_at dksX6_image_2 4 rfl rfl)
theorem dX6_image_53 : decode cX6_image 53 = .ok (.iconst 1, 1) := dk_4 (dk_at dksX6_image_2 5 rfl rfl)
theorem dX6_image_54 : decode cX6_image 54 = .ok (.bastore, 1) := dk_84 (dk_at dksX6_image_2 6 rfl rfl)
theorem dX6_image_55 : decode cX6_image 55 = .ok (.iconst 0, 1) := dk_3 (dk_at dksX6_image_2 7 rfl rfl)
theorem dX6_image_56 : decode cX6_image 56 = .ok (.ireturn, 1) := dk_172 (dk_at dksX6_image_2 8 rfl rfl)
abbrev cX6_in : ByteArray := prog_12_method_3_code
def yX6_in : MethodName := ⟨RX6, "in", "(JJJ)Z"⟩
def dkwX6_in_0 : List UInt8 := [30, 32, 148, 155, 0, 14, 30, 22, 4, 148, 157, 0, 7, 4, 167, 0, 4, 3, 172]
abbrev dktX6_in_0 : List UInt8 := dkwX6_in_0 ++ []
theorem dksX6_in_0 : cX6_in.data.toList.drop 0 = dktX6_in_0 := by decide +kernel
theorem dX6_in_0 : decode cX6_in 0 = .ok (.lload_n 0, 1) := dk_30 (dk_at dksX6_in_0 0 rfl rfl)
theorem dX6_in_1 : decode cX6_in 1 = .ok (.lload_n 2, 1) := dk_32 (dk_at dksX6_in_0 1 rfl rfl)
theorem dX6_in_2 : decode cX6_in 2 = .ok (.lcmp, 1) := dk_148 (dk_at dksX6_in_0 2 rfl rfl)
theorem dX6_in_3 : decode cX6_in 3 = .ok (.ifCond .lt 14, 3) := dk_155 0 14 (dk_at dksX6_in_0 3 rfl rfl)
theorem dX6_in_6 : decode cX6_in 6 = .ok (.lload_n 0, 1) := dk_30 (dk_at dksX6_in_0 6 rfl rfl)
theorem dX6_in_7 : decode cX6_in 7 = .ok (.lload 4, 2) := dk_22 4 (dk_at dksX6_in_0 7 rfl rfl)
theorem dX6_in_9 : decode cX6_in 9 = .ok (.lcmp, 1) := dk_148 (dk_at dksX6_in_0 9 rfl rfl)
theorem dX6_in_10 : decode cX6_in 10 = .ok (.ifCond .gt 7, 3) := dk_157 0 7 (dk_at dksX6_in_0 10 rfl rfl)
theorem dX6_in_13 : decode cX6_in 13 = .ok (.iconst 1, 1) := dk_4 (dk_at dksX6_in_0 13 rfl rfl)
theorem dX6_in_14 : decode cX6_in 14 = .ok (.goto 4, 3) := dk_167 0 4 (dk_at dksX6_in_0 14 rfl rfl)
theorem dX6_in_17 : decode cX6_in 17 = .ok (.iconst 0, 1) := dk_3 (dk_at dksX6_in_0 17 rfl rfl)
theorem dX6_in_18 : decode cX6_in 18 = .ok (.ireturn, 1) := dk_172 (dk_at dksX6_in_0 18 rfl rfl)
abbrev cX6_back : ByteArray := prog_12_method_7_code
def yX6_back : MethodName := ⟨RX6, "back", "(I)I"⟩
def dkwX6_back_2 : List UInt8 := [27, 104, 28, 96, 46, 79, 132, 2, 1, 167, 255, 228, 3, 172]
abbrev dktX6_back_2 : List UInt8 := dkwX6_back_2 ++ []
def dkwX6_back_1 : List UInt8 := [16, 250, 172, 3, 61, 28, 17, 0, 149, 162, 0, 27, 42, 180, 0, 9, 28, 42, 180, 0, 13, 17, 0, 149]
abbrev dktX6_back_1 : List UInt8 := dkwX6_back_1 ++ dktX6_back_2
def dkwX6_back_0 : List UInt8 := [27, 133, 9, 20, 0, 104, 184, 0, 106, 154, 0, 6, 16, 254, 172, 42, 180, 0, 16, 27, 51, 154, 0, 6]
abbrev dktX6_back_0 : List UInt8 := dkwX6_back_0 ++ dktX6_back_1
theorem dksX6_back_0 : cX6_back.data.toList.drop 0 = dktX6_back_0 := by decide +kernel
theorem dksX6_back_1 : cX6_back.data.toList.drop 24 = dktX6_back_1 := dk_seg dksX6_back_0 24 rfl rfl
theorem dksX6_back_2 : cX6_back.data.toList.drop 48 = dktX6_back_2 := dk_seg dksX6_back_1 24 rfl rfl
theorem dX6_back_0 : decode cX6_back 0 = .ok (.iload_n 1, 1) := dk_27 (dk_at dksX6_back_0 0 rfl rfl)
theorem dX6_back_1 : decode cX6_back 1 = .ok (.i2l, 1) := dk_133 (dk_at dksX6_back_0 1 rfl rfl)
theorem dX6_back_2 : decode cX6_back 2 = .ok (.lconst 0, 1) := dk_9 (dk_at dksX6_back_0 2 rfl rfl)
theorem dX6_back_3 : decode cX6_back 3 = .ok (.ldc2_w 104, 3) := dk_20 0 104 (dk_at dksX6_back_0 3 rfl rfl)
theorem dX6_back_6 : decode cX6_back 6 = .ok (.invokestatic 106, 3) := dk_184 0 106 (dk_at dksX6_back_0 6 rfl rfl)
theorem dX6_back_9 : decode cX6_back 9 = .ok (.ifCond .ne 6, 3) := dk_154 0 6 (dk_at dksX6_back_0 9 rfl rfl)
theorem dX6_back_12 : decode cX6_back 12 = .ok (.bipush (-2), 2) := dk_16 254 (dk_at dksX6_back_0 12 rfl rfl)
theorem dX6_back_14 : decode cX6_back 14 = .ok (.ireturn, 1) := dk_172 (dk_at dksX6_back_0 14 rfl rfl)
theorem dX6_back_15 : decode cX6_back 15 = .ok (.aload_n 0, 1) := dk_42 (dk_at dksX6_back_0 15 rfl rfl)
theorem dX6_back_16 : decode cX6_back 16 = .ok (.getfield 16, 3) := dk_180 0 16 (dk_at dksX6_back_0 16 rfl rfl)
theorem dX6_back_19 : decode cX6_back 19 = .ok (.iload_n 1, 1) := dk_27 (dk_at dksX6_back_0 19 rfl rfl)
theorem dX6_back_20 : decode cX6_back 20 = .ok (.baload, 1) := dk_51 (dk_at dksX6_back_0 20 rfl rfl)
theorem dX6_back_21 : decode cX6_back 21 = .ok (.ifCond .ne 6, 3) := dk_154 0 6 (dk_at dksX6_back_0 21 rfl rfl)
theorem dX6_back_24 : decode cX6_back 24 = .ok (.bipush (-6), 2) := dk_16 250 (dk_at dksX6_back_1 0 rfl rfl)
theorem dX6_back_26 : decode cX6_back 26 = .ok (.ireturn, 1) := dk_172 (dk_at dksX6_back_1 2 rfl rfl)
theorem dX6_back_27 : decode cX6_back 27 = .ok (.iconst 0, 1) := dk_3 (dk_at dksX6_back_1 3 rfl rfl)
theorem dX6_back_28 : decode cX6_back 28 = .ok (.istore_n 2, 1) := dk_61 (dk_at dksX6_back_1 4 rfl rfl)
theorem dX6_back_29 : decode cX6_back 29 = .ok (.iload_n 2, 1) := dk_28 (dk_at dksX6_back_1 5 rfl rfl)
theorem dX6_back_30 : decode cX6_back 30 = .ok (.sipush 149, 3) := dk_17 0 149 (dk_at dksX6_back_1 6 rfl rfl)
theorem dX6_back_33 : decode cX6_back 33 = .ok (.if_icmp .ge 27, 3) := dk_162 0 27 (dk_at dksX6_back_1 9 rfl rfl)
theorem dX6_back_36 : decode cX6_back 36 = .ok (.aload_n 0, 1) := dk_42 (dk_at dksX6_back_1 12 rfl rfl)
theorem dX6_back_37 : decode cX6_back 37 = .ok (.getfield 9, 3) := dk_180 0 9 (dk_at dksX6_back_1 13 rfl rfl)
theorem dX6_back_40 : decode cX6_back 40 = .ok (.iload_n 2, 1) := dk_28 (dk_at dksX6_back_1 16 rfl rfl)
theorem dX6_back_41 : decode cX6_back 41 = .ok (.aload_n 0, 1) := dk_42 (dk_at dksX6_back_1 17 rfl rfl)
theorem dX6_back_42 : decode cX6_back 42 = .ok (.getfield 13, 3) := dk_180 0 13 (dk_at dksX6_back_1 18 rfl rfl)
theorem dX6_back_45 : decode cX6_back 45 = .ok (.sipush 149, 3) := dk_17 0 149 (dk_at dksX6_back_1 21 rfl rfl)
theorem dX6_back_48 : decode cX6_back 48 = .ok (.iload_n 1, 1) := dk_27 (dk_at dksX6_back_2 0 rfl rfl)
theorem dX6_back_49 : decode cX6_back 49 = .ok (.imul, 1) := dk_104 (dk_at dksX6_back_2 1 rfl rfl)
theorem dX6_back_50 : decode cX6_back 50 = .ok (.iload_n 2, 1) := dk_28 (dk_at dksX6_back_2 2 rfl rfl)
theorem dX6_back_51 : decode cX6_back 51 = .ok (.iadd, 1) := dk_96 (dk_at dksX6_back_2 3 rfl rfl)
theorem dX6_back_52 : decode cX6_back 52 = .ok (.iaload, 1) := dk_46 (dk_at dksX6_back_2 4 rfl rfl)
theorem dX6_back_53 : decode cX6_back 53 = .ok (.iastore, 1) := dk_79 (dk_at dksX6_back_2 5 rfl rfl)
theorem dX6_back_54 : decode cX6_back 54 = .ok (.iinc 2 1, 3) := dk_132 2 1 (dk_at dksX6_back_2 6 rfl rfl)
theorem dX6_back_57 : decode cX6_back 57 = .ok (.goto (-28), 3) := dk_167 255 228 (dk_at dksX6_back_2 9 rfl rfl)
theorem dX6_back_60 : decode cX6_back 60 = .ok (.iconst 0, 1) := dk_3 (dk_at dksX6_back_2 12 rfl rfl)
theorem dX6_back_61 : decode cX6_back 61 = .ok (.ireturn, 1) := dk_172 (dk_at dksX6_back_2 13 rfl rfl)
abbrev cX6_feed : ByteArray := prog_12_method_17_code
def yX6_feed : MethodName := ⟨RX6, "feed", "(IIIII)I"⟩
def dkwX6_feed_5 : List UInt8 := [180, 0, 123, 172]
abbrev dktX6_feed_5 : List UInt8 := dkwX6_feed_5 ++ []
def dkwX6_feed_4 : List UInt8 := [100, 122, 145, 84, 132, 6, 1, 167, 255, 213, 42, 89, 180, 0, 123, 16, 20, 96, 181, 0, 123, 42]
abbrev dktX6_feed_4 : List UInt8 := dkwX6_feed_4 ++ dktX6_feed_5
def dkwX6_feed_3 : List UInt8 := [180, 0, 123, 21, 6, 96, 42, 180, 0, 24, 21, 6, 7, 108, 46, 16, 24, 16, 8, 21, 6, 7, 112, 104]
abbrev dktX6_feed_3 : List UInt8 := dkwX6_feed_3 ++ dktX6_feed_4
def dkwX6_feed_2 : List UInt8 := [180, 0, 24, 7, 21, 5, 79, 3, 54, 6, 21, 6, 16, 20, 162, 0, 42, 42, 180, 0, 20, 42]
abbrev dktX6_feed_2 : List UInt8 := dkwX6_feed_2 ++ dktX6_feed_3
def dkwX6_feed_1 : List UInt8 := [180, 0, 24, 4, 28, 79, 42, 180, 0, 24, 5, 29, 79, 42, 180, 0, 24, 6, 21, 4, 79, 42]
abbrev dktX6_feed_1 : List UInt8 := dkwX6_feed_1 ++ dktX6_feed_2
def dkwX6_feed_0 : List UInt8 := [42, 180, 0, 123, 16, 20, 96, 17, 3, 132, 164, 0, 5, 2, 172, 42, 180, 0, 24, 3, 27, 79, 42]
abbrev dktX6_feed_0 : List UInt8 := dkwX6_feed_0 ++ dktX6_feed_1
theorem dksX6_feed_0 : cX6_feed.data.toList.drop 0 = dktX6_feed_0 := by decide +kernel
theorem dksX6_feed_1 : cX6_feed.data.toList.drop 23 = dktX6_feed_1 := dk_seg dksX6_feed_0 23 rfl rfl
theorem dksX6_feed_2 : cX6_feed.data.toList.drop 45 = dktX6_feed_2 := dk_seg dksX6_feed_1 22 rfl rfl
theorem dksX6_feed_3 : cX6_feed.data.toList.drop 67 = dktX6_feed_3 := dk_seg dksX6_feed_2 22 rfl rfl
theorem dksX6_feed_4 : cX6_feed.data.toList.drop 91 = dktX6_feed_4 := dk_seg dksX6_feed_3 24 rfl rfl
theorem dksX6_feed_5 : cX6_feed.data.toList.drop 113 = dktX6_feed_5 := dk_seg dksX6_feed_4 22 rfl rfl
theorem dX6_feed_0 : decode cX6_feed 0 = .ok (.aload_n 0, 1) := dk_42 (dk_at dksX6_feed_0 0 rfl rfl)
theorem dX6_feed_1 : decode cX6_feed 1 = .ok (.getfield 123, 3) := dk_180 0 123 (dk_at dksX6_feed_0 1 rfl rfl)
theorem dX6_feed_4 : decode cX6_feed 4 = .ok (.bipush 20, 2) := dk_16 20 (dk_at dksX6_feed_0 4 rfl rfl)
theorem dX6_feed_6 : decode cX6_feed 6 = .ok (.iadd, 1) := dk_96 (dk_at dksX6_feed_0 6 rfl rfl)
theorem dX6_feed_7 : decode cX6_feed 7 = .ok (.sipush 900, 3) := dk_17 3 132 (dk_at dksX6_feed_0 7 rfl rfl)
theorem dX6_feed_10 : decode cX6_feed 10 = .ok (.if_icmp .le 5, 3) := dk_164 0 5 (dk_at dksX6_feed_0 10 rfl rfl)
theorem dX6_feed_13 : decode cX6_feed 13 = .ok (.iconst (-1), 1) := dk_2 (dk_at dksX6_feed_0 13 rfl rfl)
theorem dX6_feed_14 : decode cX6_feed 14 = .ok (.ireturn, 1) := dk_172 (dk_at dksX6_feed_0 14 rfl rfl)
theorem dX6_feed_15 : decode cX6_feed 15 = .ok (.aload_n 0, 1) := dk_42 (dk_at dksX6_feed_0 15 rfl rfl)
theorem dX6_feed_16 : decode cX6_feed 16 = .ok (.getfield 24, 3) := dk_180 0 24 (dk_at dksX6_feed_0 16 rfl rfl)
theorem dX6_feed_19 : decode cX6_feed 19 = .ok (.iconst 0, 1) := dk_3 (dk_at dksX6_feed_0 19 rfl rfl)
theorem dX6_feed_20 : decode cX6_feed 20 = .ok (.iload_n 1, 1) := dk_27 (dk_at dksX6_feed_0 20 rfl rfl)
theorem dX6_feed_21 : decode cX6_feed 21 = .ok (.iastore, 1) := dk_79 (dk_at dksX6_feed_0 21 rfl rfl)
theorem dX6_feed_22 : decode cX6_feed 22 = .ok (.aload_n 0, 1) := dk_42 (dk_at dksX6_feed_0 22 rfl rfl)
theorem dX6_feed_23 : decode cX6_feed 23 = .ok (.getfield 24, 3) := dk_180 0 24 (dk_at dksX6_feed_1 0 rfl rfl)
theorem dX6_feed_26 : decode cX6_feed 26 = .ok (.iconst 1, 1) := dk_4 (dk_at dksX6_feed_1 3 rfl rfl)
theorem dX6_feed_27 : decode cX6_feed 27 = .ok (.iload_n 2, 1) := dk_28 (dk_at dksX6_feed_1 4 rfl rfl)
theorem dX6_feed_28 : decode cX6_feed 28 = .ok (.iastore, 1) := dk_79 (dk_at dksX6_feed_1 5 rfl rfl)
theorem dX6_feed_29 : decode cX6_feed 29 = .ok (.aload_n 0, 1) := dk_42 (dk_at dksX6_feed_1 6 rfl rfl)
theorem dX6_feed_30 : decode cX6_feed 30 = .ok (.getfield 24, 3) := dk_180 0 24 (dk_at dksX6_feed_1 7 rfl rfl)
theorem dX6_feed_33 : decode cX6_feed 33 = .ok (.iconst 2, 1) := dk_5 (dk_at dksX6_feed_1 10 rfl rfl)
theorem dX6_feed_34 : decode cX6_feed 34 = .ok (.iload_n 3, 1) := dk_29 (dk_at dksX6_feed_1 11 rfl rfl)
theorem dX6_feed_35 : decode cX6_feed 35 = .ok (.iastore, 1) := dk_79 (dk_at dksX6_feed_1 12 rfl rfl)
theorem dX6_feed_36 : decode cX6_feed 36 = .ok (.aload_n 0, 1) := dk_42 (dk_at dksX6_feed_1 13 rfl rfl)
theorem dX6_feed_37 : decode cX6_feed 37 = .ok (.getfield 24, 3) := dk_180 0 24 (dk_at dksX6_feed_1 14 rfl rfl)
theorem dX6_feed_40 : decode cX6_feed 40 = .ok (.iconst 3, 1) := dk_6 (dk_at dksX6_feed_1 17 rfl rfl)
theorem dX6_feed_41 : decode cX6_feed 41 = .ok (.iload 4, 2) := dk_21 4 (dk_at dksX6_feed_1 18 rfl rfl)
theorem dX6_feed_43 : decode cX6_feed 43 = .ok (.iastore, 1) := dk_79 (dk_at dksX6_feed_1 20 rfl rfl)
theorem dX6_feed_44 : decode cX6_feed 44 = .ok (.aload_n 0, 1) := dk_42 (dk_at dksX6_feed_1 21 rfl rfl)
theorem dX6_feed_45 : decode cX6_feed 45 = .ok (.getfield 24, 3) := dk_180 0 24 (dk_at dksX6_feed_2 0 rfl rfl)
theorem dX6_feed_48 : decode cX6_feed 48 = .ok (.iconst 4, 1) := dk_7 (dk_at dksX6_feed_2 3 rfl rfl)
theorem dX6_feed_49 : decode cX6_feed 49 = .ok (.iload 5, 2) := dk_21 5 (dk_at dksX6_feed_2 4 rfl rfl)
theorem dX6_feed_51 : decode cX6_feed 51 = .ok (.iastore, 1) := dk_79 (dk_at dksX6_feed_2 6 rfl rfl)
theorem dX6_feed_52 : decode cX6_feed 52 = .ok (.iconst 0, 1) := dk_3 (dk_at dksX6_feed_2 7 rfl rfl)
theorem dX6_feed_53 : decode cX6_feed 53 = .ok (.istore 6, 2) := dk_54 6 (dk_at dksX6_feed_2 8 rfl rfl)
theorem dX6_feed_55 : decode cX6_feed 55 = .ok (.iload 6, 2) := dk_21 6 (dk_at dksX6_feed_2 10 rfl rfl)
theorem dX6_feed_57 : decode cX6_feed 57 = .ok (.bipush 20, 2) := dk_16 20 (dk_at dksX6_feed_2 12 rfl rfl)
theorem dX6_feed_59 : decode cX6_feed 59 = .ok (.if_icmp .ge 42, 3) := dk_162 0 42 (dk_at dksX6_feed_2 14 rfl rfl)
theorem dX6_feed_62 : decode cX6_feed 62 = .ok (.aload_n 0, 1) := dk_42 (dk_at dksX6_feed_2 17 rfl rfl)
theorem dX6_feed_63 : decode cX6_feed 63 = .ok (.getfield 20, 3) := dk_180 0 20 (dk_at dksX6_feed_2 18 rfl rfl)
theorem dX6_feed_66 : decode cX6_feed 66 = .ok (.aload_n 0, 1) := dk_42 (dk_at dksX6_feed_2 21 rfl rfl)
theorem dX6_feed_67 : decode cX6_feed 67 = .ok (.getfield 123, 3) := dk_180 0 123 (dk_at dksX6_feed_3 0 rfl rfl)
theorem dX6_feed_70 : decode cX6_feed 70 = .ok (.iload 6, 2) := dk_21 6 (dk_at dksX6_feed_3 3 rfl rfl)
theorem dX6_feed_72 : decode cX6_feed 72 = .ok (.iadd, 1) := dk_96 (dk_at dksX6_feed_3 5 rfl rfl)
theorem dX6_feed_73 : decode cX6_feed 73 = .ok (.aload_n 0, 1) := dk_42 (dk_at dksX6_feed_3 6 rfl rfl)
theorem dX6_feed_74 : decode cX6_feed 74 = .ok (.getfield 24, 3) := dk_180 0 24 (dk_at dksX6_feed_3 7 rfl rfl)
theorem dX6_feed_77 : decode cX6_feed 77 = .ok (.iload 6, 2) := dk_21 6 (dk_at dksX6_feed_3 10 rfl rfl)
theorem dX6_feed_79 : decode cX6_feed 79 = .ok (.iconst 4, 1) := dk_7 (dk_at dksX6_feed_3 12 rfl rfl)
theorem dX6_feed_80 : decode cX6_feed 80 = .ok (.idiv, 1) := dk_108 (dk_at dksX6_feed_3 13 rfl rfl)
theorem dX6_feed_81 : decode cX6_feed 81 = .ok (.iaload, 1) := dk_46 (dk_at dksX6_feed_3 14 rfl rfl)
theorem dX6_feed_82 : decode cX6_feed 82 = .ok (.bipush 24, 2) := dk_16 24 (dk_at dksX6_feed_3 15 rfl rfl)
theorem dX6_feed_84 : decode cX6_feed 84 = .ok (.bipush 8, 2) := dk_16 8 (dk_at dksX6_feed_3 17 rfl rfl)
theorem dX6_feed_86 : decode cX6_feed 86 = .ok (.iload 6, 2) := dk_21 6 (dk_at dksX6_feed_3 19 rfl rfl)
theorem dX6_feed_88 : decode cX6_feed 88 = .ok (.iconst 4, 1) := dk_7 (dk_at dksX6_feed_3 21 rfl rfl)
theorem dX6_feed_89 : decode cX6_feed 89 = .ok (.irem, 1) := dk_112 (dk_at dksX6_feed_3 22 rfl rfl)
theorem dX6_feed_90 : decode cX6_feed 90 = .ok (.imul, 1) := dk_104 (dk_at dksX6_feed_3 23 rfl rfl)
theorem dX6_feed_91 : decode cX6_feed 91 = .ok (.isub, 1) := dk_100 (dk_at dksX6_feed_4 0 rfl rfl)
theorem dX6_feed_92 : decode cX6_feed 92 = .ok (.ishr, 1) := dk_122 (dk_at dksX6_feed_4 1 rfl rfl)
theorem dX6_feed_93 : decode cX6_feed 93 = .ok (.i2b, 1) := dk_145 (dk_at dksX6_feed_4 2 rfl rfl)
theorem dX6_feed_94 : decode cX6_feed 94 = .ok (.bastore, 1) := dk_84 (dk_at dksX6_feed_4 3 rfl rfl)
theorem dX6_feed_95 : decode cX6_feed 95 = .ok (.iinc 6 1, 3) := dk_132 6 1 (dk_at dksX6_feed_4 4 rfl rfl)
theorem dX6_feed_98 : decode cX6_feed 98 = .ok (.goto (-43), 3) := dk_167 255 213 (dk_at dksX6_feed_4 7 rfl rfl)
theorem dX6_feed_101 : decode cX6_feed 101 = .ok (.aload_n 0, 1) := dk_42 (dk_at dksX6_feed_4 10 rfl rfl)
theorem dX6_feed_102 : decode cX6_feed 102 = .ok (.dup, 1) := dk_89 (dk_at dksX6_feed_4 11 rfl rfl)
theorem dX6_feed_103 : decode cX6_feed 103 = .ok (.getfield 123, 3) := dk_180 0 123 (dk_at dksX6_feed_4 12 rfl rfl)
theorem dX6_feed_106 : decode cX6_feed 106 = .ok (.bipush 20, 2) := dk_16 20 (dk_at dksX6_feed_4 15 rfl rfl)
theorem dX6_feed_108 : decode cX6_feed 108 = .ok (.iadd, 1) := dk_96 (dk_at dksX6_feed_4 17 rfl rfl)
theorem dX6_feed_109 : decode cX6_feed 109 = .ok (.putfield 123, 3) := dk_181 0 123 (dk_at dksX6_feed_4 18 rfl rfl)
theorem dX6_feed_112 : decode cX6_feed 112 = .ok (.aload_n 0, 1) := dk_42 (dk_at dksX6_feed_4 21 rfl rfl)
theorem dX6_feed_113 : decode cX6_feed 113 = .ok (.getfield 123, 3) := dk_180 0 123 (dk_at dksX6_feed_5 0 rfl rfl)
theorem dX6_feed_116 : decode cX6_feed 116 = .ok (.ireturn, 1) := dk_172 (dk_at dksX6_feed_5 3 rfl rfl)
abbrev cX6_end : ByteArray := prog_12_method_18_code
def yX6_end : MethodName := ⟨RX6, "end", "(I)I"⟩
def dkwX6_end_0 : List UInt8 := [27, 133, 9, 42, 180, 0, 123, 133, 184, 0, 106, 154, 0, 5, 2, 172, 42, 27, 181, 0, 123, 27, 172]
abbrev dktX6_end_0 : List UInt8 := dkwX6_end_0 ++ []
theorem dksX6_end_0 : cX6_end.data.toList.drop 0 = dktX6_end_0 := by decide +kernel
theorem dX6_end_0 : decode cX6_end 0 = .ok (.iload_n 1, 1) := dk_27 (dk_at dksX6_end_0 0 rfl rfl)
theorem dX6_end_1 : decode cX6_end 1 = .ok (.i2l, 1) := dk_133 (dk_at dksX6_end_0 1 rfl rfl)
theorem dX6_end_2 : decode cX6_end 2 = .ok (.lconst 0, 1) := dk_9 (dk_at dksX6_end_0 2 rfl rfl)
theorem dX6_end_3 : decode cX6_end 3 = .ok (.aload_n 0, 1) := dk_42 (dk_at dksX6_end_0 3 rfl rfl)
theorem dX6_end_4 : decode cX6_end 4 = .ok (.getfield 123, 3) := dk_180 0 123 (dk_at dksX6_end_0 4 rfl rfl)
theorem dX6_end_7 : decode cX6_end 7 = .ok (.i2l, 1) := dk_133 (dk_at dksX6_end_0 7 rfl rfl)
theorem dX6_end_8 : decode cX6_end 8 = .ok (.invokestatic 106, 3) := dk_184 0 106 (dk_at dksX6_end_0 8 rfl rfl)
theorem dX6_end_11 : decode cX6_end 11 = .ok (.ifCond .ne 5, 3) := dk_154 0 5 (dk_at dksX6_end_0 11 rfl rfl)
theorem dX6_end_14 : decode cX6_end 14 = .ok (.iconst (-1), 1) := dk_2 (dk_at dksX6_end_0 14 rfl rfl)
theorem dX6_end_15 : decode cX6_end 15 = .ok (.ireturn, 1) := dk_172 (dk_at dksX6_end_0 15 rfl rfl)
theorem dX6_end_16 : decode cX6_end 16 = .ok (.aload_n 0, 1) := dk_42 (dk_at dksX6_end_0 16 rfl rfl)
theorem dX6_end_17 : decode cX6_end 17 = .ok (.iload_n 1, 1) := dk_27 (dk_at dksX6_end_0 17 rfl rfl)
theorem dX6_end_18 : decode cX6_end 18 = .ok (.putfield 123, 3) := dk_181 0 123 (dk_at dksX6_end_0 18 rfl rfl)
theorem dX6_end_21 : decode cX6_end 21 = .ok (.iload_n 1, 1) := dk_27 (dk_at dksX6_end_0 21 rfl rfl)
theorem dX6_end_22 : decode cX6_end 22 = .ok (.ireturn, 1) := dk_172 (dk_at dksX6_end_0 22 rfl rfl)
abbrev cX6_fault : ByteArray := prog_12_method_28_code
def yX6_fault : MethodName := ⟨RX6, "fault", "(I)I"⟩
def dkwX6_fault_1 : List UInt8 := [172]
abbrev dktX6_fault_1 : List UInt8 := dkwX6_fault_1 ++ []
def dkwX6_fault_0 : List UInt8 := [27, 154, 0, 10, 42, 180, 0, 160, 167, 0, 16, 27, 4, 160, 0, 10, 42, 180, 0, 27, 167, 0, 4, 2]
abbrev dktX6_fault_0 : List UInt8 := dkwX6_fault_0 ++ dktX6_fault_1
theorem dksX6_fault_0 : cX6_fault.data.toList.drop 0 = dktX6_fault_0 := by decide +kernel
theorem dksX6_fault_1 : cX6_fault.data.toList.drop 24 = dktX6_fault_1 := dk_seg dksX6_fault_0 24 rfl rfl
theorem dX6_fault_0 : decode cX6_fault 0 = .ok (.iload_n 1, 1) := dk_27 (dk_at dksX6_fault_0 0 rfl rfl)
theorem dX6_fault_1 : decode cX6_fault 1 = .ok (.ifCond .ne 10, 3) := dk_154 0 10 (dk_at dksX6_fault_0 1 rfl rfl)
theorem dX6_fault_4 : decode cX6_fault 4 = .ok (.aload_n 0, 1) := dk_42 (dk_at dksX6_fault_0 4 rfl rfl)
theorem dX6_fault_5 : decode cX6_fault 5 = .ok (.getfield 160, 3) := dk_180 0 160 (dk_at dksX6_fault_0 5 rfl rfl)
theorem dX6_fault_8 : decode cX6_fault 8 = .ok (.goto 16, 3) := dk_167 0 16 (dk_at dksX6_fault_0 8 rfl rfl)
theorem dX6_fault_11 : decode cX6_fault 11 = .ok (.iload_n 1, 1) := dk_27 (dk_at dksX6_fault_0 11 rfl rfl)
theorem dX6_fault_12 : decode cX6_fault 12 = .ok (.iconst 1, 1) := dk_4 (dk_at dksX6_fault_0 12 rfl rfl)
theorem dX6_fault_13 : decode cX6_fault 13 = .ok (.if_icmp .ne 10, 3) := dk_160 0 10 (dk_at dksX6_fault_0 13 rfl rfl)
theorem dX6_fault_16 : decode cX6_fault 16 = .ok (.aload_n 0, 1) := dk_42 (dk_at dksX6_fault_0 16 rfl rfl)
theorem dX6_fault_17 : decode cX6_fault 17 = .ok (.getfield 27, 3) := dk_180 0 27 (dk_at dksX6_fault_0 17 rfl rfl)
theorem dX6_fault_20 : decode cX6_fault 20 = .ok (.goto 4, 3) := dk_167 0 4 (dk_at dksX6_fault_0 20 rfl rfl)
theorem dX6_fault_23 : decode cX6_fault 23 = .ok (.iconst (-1), 1) := dk_2 (dk_at dksX6_fault_0 23 rfl rfl)
theorem dX6_fault_24 : decode cX6_fault 24 = .ok (.ireturn, 1) := dk_172 (dk_at dksX6_fault_1 0 rfl rfl)
abbrev cX6_colony : ByteArray := prog_12_method_38_code
def yX6_colony : MethodName := ⟨RX6, "colony", "()I"⟩
def dkwX6_colony_5 : List UInt8 := [180, 0, 9, 16, 9, 46, 172]
abbrev dktX6_colony_5 : List UInt8 := dkwX6_colony_5 ++ []
def dkwX6_colony_4 : List UInt8 := [162, 0, 21, 42, 180, 0, 9, 27, 42, 180, 0, 31, 27, 46, 79, 132, 1, 1, 167, 255, 234, 42]
abbrev dktX6_colony_4 : List UInt8 := dkwX6_colony_4 ++ dktX6_colony_5
def dkwX6_colony_3 : List UInt8 := [182, 1, 2, 167, 255, 238, 42, 182, 0, 163, 154, 0, 6, 16, 252, 172, 3, 60, 27, 17, 0, 149]
abbrev dktX6_colony_3 : List UInt8 := dkwX6_colony_3 ++ dktX6_colony_4
def dkwX6_colony_2 : List UInt8 := [167, 255, 239, 42, 182, 0, 179, 42, 182, 0, 163, 153, 0, 17, 42, 180, 0, 139, 153, 0, 10, 42]
abbrev dktX6_colony_2 : List UInt8 := dkwX6_colony_2 ++ dktX6_colony_3
def dkwX6_colony_1 : List UInt8 := [2, 181, 0, 27, 3, 60, 27, 17, 0, 149, 162, 0, 16, 42, 180, 0, 31, 27, 3, 79, 132, 1, 1]
abbrev dktX6_colony_1 : List UInt8 := dkwX6_colony_1 ++ dktX6_colony_2
def dkwX6_colony_0 : List UInt8 := [42, 42, 180, 0, 123, 181, 0, 126, 42, 3, 181, 0, 123, 42, 3, 181, 0, 129, 42, 3, 181, 0, 160, 42]
abbrev dktX6_colony_0 : List UInt8 := dkwX6_colony_0 ++ dktX6_colony_1
theorem dksX6_colony_0 : cX6_colony.data.toList.drop 0 = dktX6_colony_0 := by decide +kernel
theorem dksX6_colony_1 : cX6_colony.data.toList.drop 24 = dktX6_colony_1 := dk_seg dksX6_colony_0 24 rfl rfl
theorem dksX6_colony_2 : cX6_colony.data.toList.drop 47 = dktX6_colony_2 := dk_seg dksX6_colony_1 23 rfl rfl
theorem dksX6_colony_3 : cX6_colony.data.toList.drop 69 = dktX6_colony_3 := dk_seg dksX6_colony_2 22 rfl rfl
theorem dksX6_colony_4 : cX6_colony.data.toList.drop 91 = dktX6_colony_4 := dk_seg dksX6_colony_3 22 rfl rfl
theorem dksX6_colony_5 : cX6_colony.data.toList.drop 113 = dktX6_colony_5 := dk_seg dksX6_colony_4 22 rfl rfl
theorem dX6_colony_0 : decode cX6_colony 0 = .ok (.aload_n 0, 1) := dk_42 (dk_at dksX6_colony_0 0 rfl rfl)
theorem dX6_colony_1 : decode cX6_colony 1 = .ok (.aload_n 0, 1) := dk_42 (dk_at dksX6_colony_0 1 rfl rfl)
theorem dX6_colony_2 : decode cX6_colony 2 = .ok (.getfield 123, 3) := dk_180 0 123 (dk_at dksX6_colony_0 2 rfl rfl)
theorem dX6_colony_5 : decode cX6_colony 5 = .ok (.putfield 126, 3) := dk_181 0 126 (dk_at dksX6_colony_0 5 rfl rfl)
theorem dX6_colony_8 : decode cX6_colony 8 = .ok (.aload_n 0, 1) := dk_42 (dk_at dksX6_colony_0 8 rfl rfl)
theorem dX6_colony_9 : decode cX6_colony 9 = .ok (.iconst 0, 1) := dk_3 (dk_at dksX6_colony_0 9 rfl rfl)
theorem dX6_colony_10 : decode cX6_colony 10 = .ok (.putfield 123, 3) := dk_181 0 123 (dk_at dksX6_colony_0 10 rfl rfl)
theorem dX6_colony_13 : decode cX6_colony 13 = .ok (.aload_n 0, 1) := dk_42 (dk_at dksX6_colony_0 13 rfl rfl)
theorem dX6_colony_14 : decode cX6_colony 14 = .ok (.iconst 0, 1) := dk_3 (dk_at dksX6_colony_0 14 rfl rfl)
theorem dX6_colony_15 : decode cX6_colony 15 = .ok (.putfield 129, 3) := dk_181 0 129 (dk_at dksX6_colony_0 15 rfl rfl)
theorem dX6_colony_18 : decode cX6_colony 18 = .ok (.aload_n 0, 1) := dk_42 (dk_at dksX6_colony_0 18 rfl rfl)
theorem dX6_colony_19 : decode cX6_colony 19 = .ok (.iconst 0, 1) := dk_3 (dk_at dksX6_colony_0 19 rfl rfl)
theorem dX6_colony_20 : decode cX6_colony 20 = .ok (.putfield 160, 3) := dk_181 0 160 (dk_at dksX6_colony_0 20 rfl rfl)
theorem dX6_colony_23 : decode cX6_colony 23 = .ok (.aload_n 0, 1) := dk_42 (dk_at dksX6_colony_0 23 rfl rfl)
theorem dX6_colony_24 : decode cX6_colony 24 = .ok (.iconst (-1), 1) := dk_2 (dk_at dksX6_colony_1 0 rfl rfl)
theorem dX6_colony_25 : decode cX6_colony 25 = .ok (.putfield 27, 3) := dk_181 0 27 (dk_at dksX6_colony_1 1 rfl rfl)
theorem dX6_colony_28 : decode cX6_colony 28 = .ok (.iconst 0, 1) := dk_3 (dk_at dksX6_colony_1 4 rfl rfl)
theorem dX6_colony_29 : decode cX6_colony 29 = .ok (.istore_n 1, 1) := dk_60 (dk_at dksX6_colony_1 5 rfl rfl)
theorem dX6_colony_30 : decode cX6_colony 30 = .ok (.iload_n 1, 1) := dk_27 (dk_at dksX6_colony_1 6 rfl rfl)
theorem dX6_colony_31 : decode cX6_colony 31 = .ok (.sipush 149, 3) := dk_17 0 149 (dk_at dksX6_colony_1 7 rfl rfl)
theorem dX6_colony_34 : decode cX6_colony 34 = .ok (.if_icmp .ge 16, 3) := dk_162 0 16 (dk_at dksX6_colony_1 10 rfl rfl)
theorem dX6_colony_37 : decode cX6_colony 37 = .ok (.aload_n 0, 1) := dk_42 (dk_at dksX6_colony_1 13 rfl rfl)
theorem dX6_colony_38 : decode cX6_colony 38 = .ok (.getfield 31, 3) := dk_180 0 31 (dk_at dksX6_colony_1 14 rfl rfl)
theorem dX6_colony_41 : decode cX6_colony 41 = .ok (.iload_n 1, 1) := dk_27 (dk_at dksX6_colony_1 17 rfl rfl)
theorem dX6_colony_42 : decode cX6_colony 42 = .ok (.iconst 0, 1) := dk_3 (dk_at dksX6_colony_1 18 rfl rfl)
theorem dX6_colony_43 : decode cX6_colony 43 = .ok (.iastore, 1) := dk_79 (dk_at dksX6_colony_1 19 rfl rfl)
theorem dX6_colony_44 : decode cX6_colony 44 = .ok (.iinc 1 1, 3) := dk_132 1 1 (dk_at dksX6_colony_1 20 rfl rfl)
theorem dX6_colony_47 : decode cX6_colony 47 = .ok (.goto (-17), 3) := dk_167 255 239 (dk_at dksX6_colony_2 0 rfl rfl)
theorem dX6_colony_50 : decode cX6_colony 50 = .ok (.aload_n 0, 1) := dk_42 (dk_at dksX6_colony_2 3 rfl rfl)
theorem dX6_colony_51 : decode cX6_colony 51 = .ok (.invokevirtual 179, 3) := dk_182 0 179 (dk_at dksX6_colony_2 4 rfl rfl)
theorem dX6_colony_54 : decode cX6_colony 54 = .ok (.aload_n 0, 1) := dk_42 (dk_at dksX6_colony_2 7 rfl rfl)
theorem dX6_colony_55 : decode cX6_colony 55 = .ok (.invokevirtual 163, 3) := dk_182 0 163 (dk_at dksX6_colony_2 8 rfl rfl)
theorem dX6_colony_58 : decode cX6_colony 58 = .ok (.ifCond .eq 17, 3) := dk_153 0 17 (dk_at dksX6_colony_2 11 rfl rfl)
theorem dX6_colony_61 : decode cX6_colony 61 = .ok (.aload_n 0, 1) := dk_42 (dk_at dksX6_colony_2 14 rfl rfl)
theorem dX6_colony_62 : decode cX6_colony 62 = .ok (.getfield 139, 3) := dk_180 0 139 (dk_at dksX6_colony_2 15 rfl rfl)
theorem dX6_colony_65 : decode cX6_colony 65 = .ok (.ifCond .eq 10, 3) := dk_153 0 10 (dk_at dksX6_colony_2 18 rfl rfl)
theorem dX6_colony_68 : decode cX6_colony 68 = .ok (.aload_n 0, 1) := dk_42 (dk_at dksX6_colony_2 21 rfl rfl)
theorem dX6_colony_69 : decode cX6_colony 69 = .ok (.invokevirtual 258, 3) := dk_182 1 2 (dk_at dksX6_colony_3 0 rfl rfl)
theorem dX6_colony_72 : decode cX6_colony 72 = .ok (.goto (-18), 3) := dk_167 255 238 (dk_at dksX6_colony_3 3 rfl rfl)
theorem dX6_colony_75 : decode cX6_colony 75 = .ok (.aload_n 0, 1) := dk_42 (dk_at dksX6_colony_3 6 rfl rfl)
theorem dX6_colony_76 : decode cX6_colony 76 = .ok (.invokevirtual 163, 3) := dk_182 0 163 (dk_at dksX6_colony_3 7 rfl rfl)
theorem dX6_colony_79 : decode cX6_colony 79 = .ok (.ifCond .ne 6, 3) := dk_154 0 6 (dk_at dksX6_colony_3 10 rfl rfl)
theorem dX6_colony_82 : decode cX6_colony 82 = .ok (.bipush (-4), 2) := dk_16 252 (dk_at dksX6_colony_3 13 rfl rfl)
theorem dX6_colony_84 : decode cX6_colony 84 = .ok (.ireturn, 1) := dk_172 (dk_at dksX6_colony_3 15 rfl rfl)
theorem dX6_colony_85 : decode cX6_colony 85 = .ok (.iconst 0, 1) := dk_3 (dk_at dksX6_colony_3 16 rfl rfl)
theorem dX6_colony_86 : decode cX6_colony 86 = .ok (.istore_n 1, 1) := dk_60 (dk_at dksX6_colony_3 17 rfl rfl)
theorem dX6_colony_87 : decode cX6_colony 87 = .ok (.iload_n 1, 1) := dk_27 (dk_at dksX6_colony_3 18 rfl rfl)
theorem dX6_colony_88 : decode cX6_colony 88 = .ok (.sipush 149, 3) := dk_17 0 149 (dk_at dksX6_colony_3 19 rfl rfl)
theorem dX6_colony_91 : decode cX6_colony 91 = .ok (.if_icmp .ge 21, 3) := dk_162 0 21 (dk_at dksX6_colony_4 0 rfl rfl)
theorem dX6_colony_94 : decode cX6_colony 94 = .ok (.aload_n 0, 1) := dk_42 (dk_at dksX6_colony_4 3 rfl rfl)
theorem dX6_colony_95 : decode cX6_colony 95 = .ok (.getfield 9, 3) := dk_180 0 9 (dk_at dksX6_colony_4 4 rfl rfl)
theorem dX6_colony_98 : decode cX6_colony 98 = .ok (.iload_n 1, 1) := dk_27 (dk_at dksX6_colony_4 7 rfl rfl)
theorem dX6_colony_99 : decode cX6_colony 99 = .ok (.aload_n 0, 1) := dk_42 (dk_at dksX6_colony_4 8 rfl rfl)
theorem dX6_colony_100 : decode cX6_colony 100 = .ok (.getfield 31, 3) := dk_180 0 31 (dk_at dksX6_colony_4 9 rfl rfl)
theorem dX6_colony_103 : decode cX6_colony 103 = .ok (.iload_n 1, 1) := dk_27 (dk_at dksX6_colony_4 12 rfl rfl)
theorem dX6_colony_104 : decode cX6_colony 104 = .ok (.iaload, 1) := dk_46 (dk_at dksX6_colony_4 13 rfl rfl)
theorem dX6_colony_105 : decode cX6_colony 105 = .ok (.iastore, 1) := dk_79 (dk_at dksX6_colony_4 14 rfl rfl)
theorem dX6_colony_106 : decode cX6_colony 106 = .ok (.iinc 1 1, 3) := dk_132 1 1 (dk_at dksX6_colony_4 15 rfl rfl)
theorem dX6_colony_109 : decode cX6_colony 109 = .ok (.goto (-22), 3) := dk_167 255 234 (dk_at dksX6_colony_4 18 rfl rfl)
theorem dX6_colony_112 : decode cX6_colony 112 = .ok (.aload_n 0, 1) := dk_42 (dk_at dksX6_colony_4 21 rfl rfl)
theorem dX6_colony_113 : decode cX6_colony 113 = .ok (.getfield 9, 3) := dk_180 0 9 (dk_at dksX6_colony_5 0 rfl rfl)
theorem dX6_colony_116 : decode cX6_colony 116 = .ok (.bipush 9, 2) := dk_16 9 (dk_at dksX6_colony_5 3 rfl rfl)
theorem dX6_colony_118 : decode cX6_colony 118 = .ok (.iaload, 1) := dk_46 (dk_at dksX6_colony_5 5 rfl rfl)
theorem dX6_colony_119 : decode cX6_colony 119 = .ok (.ireturn, 1) := dk_172 (dk_at dksX6_colony_5 6 rfl rfl)
abbrev cX6_advance : ByteArray := prog_12_method_20_code
def yX6_advance : MethodName := ⟨RX6, "advance", "()V"⟩
def dkwX6_advance_10 : List UInt8 := [96, 181, 0, 129, 177]
abbrev dktX6_advance_10 : List UInt8 := dkwX6_advance_10 ++ []
def dkwX6_advance_9 : List UInt8 := [167, 0, 28, 42, 27, 16, 59, 160, 0, 7, 6, 167, 0, 4, 7, 181, 0, 139, 42, 89, 180, 0, 129, 4]
abbrev dktX6_advance_9 : List UInt8 := dkwX6_advance_9 ++ dktX6_advance_10
def dkwX6_advance_8 : List UInt8 := [184, 0, 154, 181, 0, 150, 42, 89, 180, 0, 129, 4, 96, 181, 0, 129, 167, 255, 197, 42, 5, 181, 0, 139]
abbrev dktX6_advance_8 : List UInt8 := dkwX6_advance_8 ++ dktX6_advance_9
def dkwX6_advance_7 : List UInt8 := [42, 18, 153, 16, 10, 42, 180, 0, 150, 104, 42, 42, 180, 0, 129, 182, 0, 132, 96, 16, 48, 100]
abbrev dktX6_advance_7 : List UInt8 := dkwX6_advance_7 ++ dktX6_advance_8
def dkwX6_advance_6 : List UInt8 := [181, 0, 150, 42, 42, 180, 0, 129, 182, 0, 132, 133, 20, 0, 146, 20, 0, 148, 184, 0, 106, 153, 0, 44]
abbrev dktX6_advance_6 : List UInt8 := dkwX6_advance_6 ++ dktX6_advance_7
def dkwX6_advance_5 : List UInt8 := [181, 0, 139, 167, 0, 117, 27, 133, 20, 0, 146, 20, 0, 148, 184, 0, 106, 153, 0, 78, 42, 3]
abbrev dktX6_advance_5 : List UInt8 := dkwX6_advance_5 ++ dktX6_advance_6
def dkwX6_advance_4 : List UInt8 := [20, 0, 144, 184, 0, 106, 153, 0, 16, 42, 89, 180, 0, 129, 4, 96, 181, 0, 129, 167, 255, 225, 42, 4]
abbrev dktX6_advance_4 : List UInt8 := dkwX6_advance_4 ++ dktX6_advance_5
def dkwX6_advance_3 : List UInt8 := [20, 0, 142, 20, 0, 144, 184, 0, 106, 153, 0, 45, 42, 42, 180, 0, 129, 182, 0, 132, 133, 20, 0, 142]
abbrev dktX6_advance_3 : List UInt8 := dkwX6_advance_3 ++ dktX6_advance_4
def dkwX6_advance_2 : List UInt8 := [42, 42, 180, 0, 129, 182, 0, 132, 60, 27, 2, 160, 0, 11, 42, 3, 181, 0, 139, 167, 0, 173, 27, 133]
abbrev dktX6_advance_2 : List UInt8 := dkwX6_advance_2 ++ dktX6_advance_3
def dkwX6_advance_1 : List UInt8 := [160, 0, 16, 42, 89, 180, 0, 129, 4, 96, 181, 0, 129, 167, 255, 220, 42, 42, 180, 0, 129, 181, 0, 136]
abbrev dktX6_advance_1 : List UInt8 := dkwX6_advance_1 ++ dktX6_advance_2
def dkwX6_advance_0 : List UInt8 := [42, 42, 180, 0, 129, 182, 0, 132, 16, 32, 159, 0, 16, 42, 42, 180, 0, 129, 182, 0, 132, 16, 10]
abbrev dktX6_advance_0 : List UInt8 := dkwX6_advance_0 ++ dktX6_advance_1
theorem dksX6_advance_0 : cX6_advance.data.toList.drop 0 = dktX6_advance_0 := by decide +kernel
theorem dksX6_advance_1 : cX6_advance.data.toList.drop 23 = dktX6_advance_1 := dk_seg dksX6_advance_0 23 rfl rfl
theorem dksX6_advance_2 : cX6_advance.data.toList.drop 47 = dktX6_advance_2 := dk_seg dksX6_advance_1 24 rfl rfl
theorem dksX6_advance_3 : cX6_advance.data.toList.drop 71 = dktX6_advance_3 := dk_seg dksX6_advance_2 24 rfl rfl
theorem dksX6_advance_4 : cX6_advance.data.toList.drop 95 = dktX6_advance_4 := dk_seg dksX6_advance_3 24 rfl rfl
theorem dksX6_advance_5 : cX6_advance.data.toList.drop 119 = dktX6_advance_5 := dk_seg dksX6_advance_4 24 rfl rfl
theorem dksX6_advance_6 : cX6_advance.data.toList.drop 141 = dktX6_advance_6 := dk_seg dksX6_advance_5 22 rfl rfl
theorem dksX6_advance_7 : cX6_advance.data.toList.drop 165 = dktX6_advance_7 := dk_seg dksX6_advance_6 24 rfl rfl
theorem dksX6_advance_8 : cX6_advance.data.toList.drop 187 = dktX6_advance_8 := dk_seg dksX6_advance_7 22 rfl rfl
theorem dksX6_advance_9 : cX6_advance.data.toList.drop 211 = dktX6_advance_9 := dk_seg dksX6_advance_8 24 rfl rfl
theorem dksX6_advance_10 : cX6_advance.data.toList.drop 235 = dktX6_advance_10 := dk_seg dksX6_advance_9 24 rfl rfl
theorem dX6_advance_0 : decode cX6_advance 0 = .ok (.aload_n 0, 1) := dk_42 (dk_at dksX6_advance_0 0 rfl rfl)
theorem dX6_advance_1 : decode cX6_advance 1 = .ok (.aload_n 0, 1) := dk_42 (dk_at dksX6_advance_0 1 rfl rfl)
theorem dX6_advance_2 : decode cX6_advance 2 = .ok (.getfield 129, 3) := dk_180 0 129 (dk_at dksX6_advance_0 2 rfl rfl)
theorem dX6_advance_5 : decode cX6_advance 5 = .ok (.invokevirtual 132, 3) := dk_182 0 132 (dk_at dksX6_advance_0 5 rfl rfl)
theorem dX6_advance_8 : decode cX6_advance 8 = .ok (.bipush 32, 2) := dk_16 32 (dk_at dksX6_advance_0 8 rfl rfl)
theorem dX6_advance_10 : decode cX6_advance 10 = .ok (.if_icmp .eq 16, 3) := dk_159 0 16 (dk_at dksX6_advance_0 10 rfl rfl)
theorem dX6_advance_13 : decode cX6_advance 13 = .ok (.aload_n 0, 1) := dk_42 (dk_at dksX6_advance_0 13 rfl rfl)
theorem dX6_advance_14 : decode cX6_advance 14 = .ok (.aload_n 0, 1) := dk_42 (dk_at dksX6_advance_0 14 rfl rfl)
theorem dX6_advance_15 : decode cX6_advance 15 = .ok (.getfield 129, 3) := dk_180 0 129 (dk_at dksX6_advance_0 15 rfl rfl)
theorem dX6_advance_18 : decode cX6_advance 18 = .ok (.invokevirtual 132, 3) := dk_182 0 132 (dk_at dksX6_advance_0 18 rfl rfl)
theorem dX6_advance_21 : decode cX6_advance 21 = .ok (.bipush 10, 2) := dk_16 10 (dk_at dksX6_advance_0 21 rfl rfl)
theorem dX6_advance_23 : decode cX6_advance 23 = .ok (.if_icmp .ne 16, 3) := dk_160 0 16 (dk_at dksX6_advance_1 0 rfl rfl)
theorem dX6_advance_26 : decode cX6_advance 26 = .ok (.aload_n 0, 1) := dk_42 (dk_at dksX6_advance_1 3 rfl rfl)
theorem dX6_advance_27 : decode cX6_advance 27 = .ok (.dup, 1) := dk_89 (dk_at dksX6_advance_1 4 rfl rfl)
theorem dX6_advance_28 : decode cX6_advance 28 = .ok (.getfield 129, 3) := dk_180 0 129 (dk_at dksX6_advance_1 5 rfl rfl)
theorem dX6_advance_31 : decode cX6_advance 31 = .ok (.iconst 1, 1) := dk_4 (dk_at dksX6_advance_1 8 rfl rfl)
theorem dX6_advance_32 : decode cX6_advance 32 = .ok (.iadd, 1) := dk_96 (dk_at dksX6_advance_1 9 rfl rfl)
theorem dX6_advance_33 : decode cX6_advance 33 = .ok (.putfield 129, 3) := dk_181 0 129 (dk_at dksX6_advance_1 10 rfl rfl)
theorem dX6_advance_36 : decode cX6_advance 36 = .ok (.goto (-36), 3) := dk_167 255 220 (dk_at dksX6_advance_1 13 rfl rfl)
theorem dX6_advance_39 : decode cX6_advance 39 = .ok (.aload_n 0, 1) := dk_42 (dk_at dksX6_advance_1 16 rfl rfl)
theorem dX6_advance_40 : decode cX6_advance 40 = .ok (.aload_n 0, 1) := dk_42 (dk_at dksX6_advance_1 17 rfl rfl)
theorem dX6_advance_41 : decode cX6_advance 41 = .ok (.getfield 129, 3) := dk_180 0 129 (dk_at dksX6_advance_1 18 rfl rfl)
theorem dX6_advance_44 : decode cX6_advance 44 = .ok (.putfield 136, 3) := dk_181 0 136 (dk_at dksX6_advance_1 21 rfl rfl)
theorem dX6_advance_47 : decode cX6_advance 47 = .ok (.aload_n 0, 1) := dk_42 (dk_at dksX6_advance_2 0 rfl rfl)
theorem dX6_advance_48 : decode cX6_advance 48 = .ok (.aload_n 0, 1) := dk_42 (dk_at dksX6_advance_2 1 rfl rfl)
theorem dX6_advance_49 : decode cX6_advance 49 = .ok (.getfield 129, 3) := dk_180 0 129 (dk_at dksX6_advance_2 2 rfl rfl)
theorem dX6_advance_52 : decode cX6_advance 52 = .ok (.invokevirtual 132, 3) := dk_182 0 132 (dk_at dksX6_advance_2 5 rfl rfl)
theorem dX6_advance_55 : decode cX6_advance 55 = .ok (.istore_n 1, 1) := dk_60 (dk_at dksX6_advance_2 8 rfl rfl)
theorem dX6_advance_56 : decode cX6_advance 56 = .ok (.iload_n 1, 1) := dk_27 (dk_at dksX6_advance_2 9 rfl rfl)
theorem dX6_advance_57 : decode cX6_advance 57 = .ok (.iconst (-1), 1) := dk_2 (dk_at dksX6_advance_2 10 rfl rfl)
theorem dX6_advance_58 : decode cX6_advance 58 = .ok (.if_icmp .ne 11, 3) := dk_160 0 11 (dk_at dksX6_advance_2 11 rfl rfl)
theorem dX6_advance_61 : decode cX6_advance 61 = .ok (.aload_n 0, 1) := dk_42 (dk_at dksX6_advance_2 14 rfl rfl)
theorem dX6_advance_62 : decode cX6_advance 62 = .ok (.iconst 0, 1) := dk_3 (dk_at dksX6_advance_2 15 rfl rfl)
theorem dX6_advance_63 : decode cX6_advance 63 = .ok (.putfield 139, 3) := dk_181 0 139 (dk_at dksX6_advance_2 16 rfl rfl)
theorem dX6_advance_66 : decode cX6_advance 66 = .ok (.goto 173, 3) := dk_167 0 173 (dk_at dksX6_advance_2 19 rfl rfl)
theorem dX6_advance_69 : decode cX6_advance 69 = .ok (.iload_n 1, 1) := dk_27 (dk_at dksX6_advance_2 22 rfl rfl)
theorem dX6_advance_70 : decode cX6_advance 70 = .ok (.i2l, 1) := dk_133 (dk_at dksX6_advance_2 23 rfl rfl)
theorem dX6_advance_71 : decode cX6_advance 71 = .ok (.ldc2_w 142, 3) := dk_20 0 142 (dk_at dksX6_advance_3 0 rfl rfl)
theorem dX6_advance_74 : decode cX6_advance 74 = .ok (.ldc2_w 144, 3) := dk_20 0 144 (dk_at dksX6_advance_3 3 rfl rfl)
theorem dX6_advance_77 : decode cX6_advance 77 = .ok (.invokestatic 106, 3) := dk_184 0 106 (dk_at dksX6_advance_3 6 rfl rfl)
theorem dX6_advance_80 : decode cX6_advance 80 = .ok (.ifCond .eq 45, 3) := dk_153 0 45 (dk_at dksX6_advance_3 9 rfl rfl)
theorem dX6_advance_83 : decode cX6_advance 83 = .ok (.aload_n 0, 1) := dk_42 (dk_at dksX6_advance_3 12 rfl rfl)
theorem dX6_advance_84 : decode cX6_advance 84 = .ok (.aload_n 0, 1) := dk_42 (dk_at dksX6_advance_3 13 rfl rfl)
theorem dX6_advance_85 : decode cX6_advance 85 = .ok (.getfield 129, 3) := dk_180 0 129 (dk_at dksX6_advance_3 14 rfl rfl)
theorem dX6_advance_88 : decode cX6_advance 88 = .ok (.invokevirtual 132, 3) := dk_182 0 132 (dk_at dksX6_advance_3 17 rfl rfl)
theorem dX6_advance_91 : decode cX6_advance 91 = .ok (.i2l, 1) := dk_133 (dk_at dksX6_advance_3 20 rfl rfl)
theorem dX6_advance_92 : decode cX6_advance 92 = .ok (.ldc2_w 142, 3) := dk_20 0 142 (dk_at dksX6_advance_3 21 rfl rfl)
theorem dX6_advance_95 : decode cX6_advance 95 = .ok (.ldc2_w 144, 3) := dk_20 0 144 (dk_at dksX6_advance_4 0 rfl rfl)
theorem dX6_advance_98 : decode cX6_advance 98 = .ok (.invokestatic 106, 3) := dk_184 0 106 (dk_at dksX6_advance_4 3 rfl rfl)
theorem dX6_advance_101 : decode cX6_advance 101 = .ok (.ifCond .eq 16, 3) := dk_153 0 16 (dk_at dksX6_advance_4 6 rfl rfl)
theorem dX6_advance_104 : decode cX6_advance 104 = .ok (.aload_n 0, 1) := dk_42 (dk_at dksX6_advance_4 9 rfl rfl)
theorem dX6_advance_105 : decode cX6_advance 105 = .ok (.dup, 1) := dk_89 (dk_at dksX6_advance_4 10 rfl rfl)
theorem dX6_advance_106 : decode cX6_advance 106 = .ok (.getfield 129, 3) := dk_180 0 129 (dk_at dksX6_advance_4 11 rfl rfl)
theorem dX6_advance_109 : decode cX6_advance 109 = .ok (.iconst 1, 1) := dk_4 (dk_at dksX6_advance_4 14 rfl rfl)
theorem dX6_advance_110 : decode cX6_advance 110 = .ok (.iadd, 1) := dk_96 (dk_at dksX6_advance_4 15 rfl rfl)
theorem dX6_advance_111 : decode cX6_advance 111 = .ok (.putfield 129, 3) := dk_181 0 129 (dk_at dksX6_advance_4 16 rfl rfl)
theorem dX6_advance_114 : decode cX6_advance 114 = .ok (.goto (-31), 3) := dk_167 255 225 (dk_at dksX6_advance_4 19 rfl rfl)
theorem dX6_advance_117 : decode cX6_advance 117 = .ok (.aload_n 0, 1) := dk_42 (dk_at dksX6_advance_4 22 rfl rfl)
theorem dX6_advance_118 : decode cX6_advance 118 = .ok (.iconst 1, 1) := dk_4 (dk_at dksX6_advance_4 23 rfl rfl)
theorem dX6_advance_119 : decode cX6_advance 119 = .ok (.putfield 139, 3) := dk_181 0 139 (dk_at dksX6_advance_5 0 rfl rfl)
theorem dX6_advance_122 : decode cX6_advance 122 = .ok (.goto 117, 3) := dk_167 0 117 (dk_at dksX6_advance_5 3 rfl rfl)
theorem dX6_advance_125 : decode cX6_advance 125 = .ok (.iload_n 1, 1) := dk_27 (dk_at dksX6_advance_5 6 rfl rfl)
theorem dX6_advance_126 : decode cX6_advance 126 = .ok (.i2l, 1) := dk_133 (dk_at dksX6_advance_5 7 rfl rfl)
theorem dX6_advance_127 : decode cX6_advance 127 = .ok (.ldc2_w 146, 3) := dk_20 0 146 (dk_at dksX6_advance_5 8 rfl rfl)
theorem dX6_advance_130 : decode cX6_advance 130 = .ok (.ldc2_w 148, 3) := dk_20 0 148 (dk_at dksX6_advance_5 11 rfl rfl)
theorem dX6_advance_133 : decode cX6_advance 133 = .ok (.invokestatic 106, 3) := dk_184 0 106 (dk_at dksX6_advance_5 14 rfl rfl)
theorem dX6_advance_136 : decode cX6_advance 136 = .ok (.ifCond .eq 78, 3) := dk_153 0 78 (dk_at dksX6_advance_5 17 rfl rfl)
theorem dX6_advance_139 : decode cX6_advance 139 = .ok (.aload_n 0, 1) := dk_42 (dk_at dksX6_advance_5 20 rfl rfl)
theorem dX6_advance_140 : decode cX6_advance 140 = .ok (.iconst 0, 1) := dk_3 (dk_at dksX6_advance_5 21 rfl rfl)
theorem dX6_advance_141 : decode cX6_advance 141 = .ok (.putfield 150, 3) := dk_181 0 150 (dk_at dksX6_advance_6 0 rfl rfl)
theorem dX6_advance_144 : decode cX6_advance 144 = .ok (.aload_n 0, 1) := dk_42 (dk_at dksX6_advance_6 3 rfl rfl)
theorem dX6_advance_145 : decode cX6_advance 145 = .ok (.aload_n 0, 1) := dk_42 (dk_at dksX6_advance_6 4 rfl rfl)
theorem dX6_advance_146 : decode cX6_advance 146 = .ok (.getfield 129, 3) := dk_180 0 129 (dk_at dksX6_advance_6 5 rfl rfl)
theorem dX6_advance_149 : decode cX6_advance 149 = .ok (.invokevirtual 132, 3) := dk_182 0 132 (dk_at dksX6_advance_6 8 rfl rfl)
theorem dX6_advance_152 : decode cX6_advance 152 = .ok (.i2l, 1) := dk_133 (dk_at dksX6_advance_6 11 rfl rfl)
theorem dX6_advance_153 : decode cX6_advance 153 = .ok (.ldc2_w 146, 3) := dk_20 0 146 (dk_at dksX6_advance_6 12 rfl rfl)
theorem dX6_advance_156 : decode cX6_advance 156 = .ok (.ldc2_w 148, 3) := dk_20 0 148 (dk_at dksX6_advance_6 15 rfl rfl)
theorem dX6_advance_159 : decode cX6_advance 159 = .ok (.invokestatic 106, 3) := dk_184 0 106 (dk_at dksX6_advance_6 18 rfl rfl)
theorem dX6_advance_162 : decode cX6_advance 162 = .ok (.ifCond .eq 44, 3) := dk_153 0 44 (dk_at dksX6_advance_6 21 rfl rfl)
theorem dX6_advance_165 : decode cX6_advance 165 = .ok (.aload_n 0, 1) := dk_42 (dk_at dksX6_advance_7 0 rfl rfl)
theorem dX6_advance_166 : decode cX6_advance 166 = .ok (.ldc 153, 2) := dk_18 153 (dk_at dksX6_advance_7 1 rfl rfl)
theorem dX6_advance_168 : decode cX6_advance 168 = .ok (.bipush 10, 2) := dk_16 10 (dk_at dksX6_advance_7 3 rfl rfl)
theorem dX6_advance_170 : decode cX6_advance 170 = .ok (.aload_n 0, 1) := dk_42 (dk_at dksX6_advance_7 5 rfl rfl)
theorem dX6_advance_171 : decode cX6_advance 171 = .ok (.getfield 150, 3) := dk_180 0 150 (dk_at dksX6_advance_7 6 rfl rfl)
theorem dX6_advance_174 : decode cX6_advance 174 = .ok (.imul, 1) := dk_104 (dk_at dksX6_advance_7 9 rfl rfl)
theorem dX6_advance_175 : decode cX6_advance 175 = .ok (.aload_n 0, 1) := dk_42 (dk_at dksX6_advance_7 10 rfl rfl)
theorem dX6_advance_176 : decode cX6_advance 176 = .ok (.aload_n 0, 1) := dk_42 (dk_at dksX6_advance_7 11 rfl rfl)
theorem dX6_advance_177 : decode cX6_advance 177 = .ok (.getfield 129, 3) := dk_180 0 129 (dk_at dksX6_advance_7 12 rfl rfl)
theorem dX6_advance_180 : decode cX6_advance 180 = .ok (.invokevirtual 132, 3) := dk_182 0 132 (dk_at dksX6_advance_7 15 rfl rfl)
theorem dX6_advance_183 : decode cX6_advance 183 = .ok (.iadd, 1) := dk_96 (dk_at dksX6_advance_7 18 rfl rfl)
theorem dX6_advance_184 : decode cX6_advance 184 = .ok (.bipush 48, 2) := dk_16 48 (dk_at dksX6_advance_7 19 rfl rfl)
theorem dX6_advance_186 : decode cX6_advance 186 = .ok (.isub, 1) := dk_100 (dk_at dksX6_advance_7 21 rfl rfl)
theorem dX6_advance_187 : decode cX6_advance 187 = .ok (.invokestatic 154, 3) := dk_184 0 154 (dk_at dksX6_advance_8 0 rfl rfl)
theorem dX6_advance_190 : decode cX6_advance 190 = .ok (.putfield 150, 3) := dk_181 0 150 (dk_at dksX6_advance_8 3 rfl rfl)
theorem dX6_advance_193 : decode cX6_advance 193 = .ok (.aload_n 0, 1) := dk_42 (dk_at dksX6_advance_8 6 rfl rfl)
theorem dX6_advance_194 : decode cX6_advance 194 = .ok (.dup, 1) := dk_89 (dk_at dksX6_advance_8 7 rfl rfl)
theorem dX6_advance_195 : decode cX6_advance 195 = .ok (.getfield 129, 3) := dk_180 0 129 (dk_at dksX6_advance_8 8 rfl rfl)
theorem dX6_advance_198 : decode cX6_advance 198 = .ok (.iconst 1, 1) := dk_4 (dk_at dksX6_advance_8 11 rfl rfl)
theorem dX6_advance_199 : decode cX6_advance 199 = .ok (.iadd, 1) := dk_96 (dk_at dksX6_advance_8 12 rfl rfl)
theorem dX6_advance_200 : decode cX6_advance 200 = .ok (.putfield 129, 3) := dk_181 0 129 (dk_at dksX6_advance_8 13 rfl rfl)
theorem dX6_advance_203 : decode cX6_advance 203 = .ok (.goto (-59), 3) := dk_167 255 197 (dk_at dksX6_advance_8 16 rfl rfl)
theorem dX6_advance_206 : decode cX6_advance 206 = .ok (.aload_n 0, 1) := dk_42 (dk_at dksX6_advance_8 19 rfl rfl)
theorem dX6_advance_207 : decode cX6_advance 207 = .ok (.iconst 2, 1) := dk_5 (dk_at dksX6_advance_8 20 rfl rfl)
theorem dX6_advance_208 : decode cX6_advance 208 = .ok (.putfield 139, 3) := dk_181 0 139 (dk_at dksX6_advance_8 21 rfl rfl)
theorem dX6_advance_211 : decode cX6_advance 211 = .ok (.goto 28, 3) := dk_167 0 28 (dk_at dksX6_advance_9 0 rfl rfl)
theorem dX6_advance_214 : decode cX6_advance 214 = .ok (.aload_n 0, 1) := dk_42 (dk_at dksX6_advance_9 3 rfl rfl)
theorem dX6_advance_215 : decode cX6_advance 215 = .ok (.iload_n 1, 1) := dk_27 (dk_at dksX6_advance_9 4 rfl rfl)
theorem dX6_advance_216 : decode cX6_advance 216 = .ok (.bipush 59, 2) := dk_16 59 (dk_at dksX6_advance_9 5 rfl rfl)
theorem dX6_advance_218 : decode cX6_advance 218 = .ok (.if_icmp .ne 7, 3) := dk_160 0 7 (dk_at dksX6_advance_9 7 rfl rfl)
theorem dX6_advance_221 : decode cX6_advance 221 = .ok (.iconst 3, 1) := dk_6 (dk_at dksX6_advance_9 10 rfl rfl)
theorem dX6_advance_222 : decode cX6_advance 222 = .ok (.goto 4, 3) := dk_167 0 4 (dk_at dksX6_advance_9 11 rfl rfl)
theorem dX6_advance_225 : decode cX6_advance 225 = .ok (.iconst 4, 1) := dk_7 (dk_at dksX6_advance_9 14 rfl rfl)
theorem dX6_advance_226 : decode cX6_advance 226 = .ok (.putfield 139, 3) := dk_181 0 139 (dk_at dksX6_advance_9 15 rfl rfl)
theorem dX6_advance_229 : decode cX6_advance 229 = .ok (.aload_n 0, 1) := dk_42 (dk_at dksX6_advance_9 18 rfl rfl)
theorem dX6_advance_230 : decode cX6_advance 230 = .ok (.dup, 1) := dk_89 (dk_at dksX6_advance_9 19 rfl rfl)
theorem dX6_advance_231 : decode cX6_advance 231 = .ok (.getfield 129, 3) := dk_180 0 129 (dk_at dksX6_advance_9 20 rfl rfl)
theorem dX6_advance_234 : decode cX6_advance 234 = .ok (.iconst 1, 1) := dk_4 (dk_at dksX6_advance_9 23 rfl rfl)
theorem dX6_advance_235 : decode cX6_advance 235 = .ok (.iadd, 1) := dk_96 (dk_at dksX6_advance_10 0 rfl rfl)
theorem dX6_advance_236 : decode cX6_advance 236 = .ok (.putfield 129, 3) := dk_181 0 129 (dk_at dksX6_advance_10 1 rfl rfl)
theorem dX6_advance_239 : decode cX6_advance 239 = .ok (.return_, 1) := dk_177 (dk_at dksX6_advance_10 4 rfl rfl)
abbrev cX6_see : ByteArray := prog_12_method_19_code
def yX6_see : MethodName := ⟨RX6, "see", "(I)I"⟩
def dkwX6_see_0 : List UInt8 := [27, 42, 180, 0, 126, 162, 0, 16, 42, 180, 0, 20, 27, 51, 17, 0, 255, 126, 167, 0, 4, 2, 172]
abbrev dktX6_see_0 : List UInt8 := dkwX6_see_0 ++ []
theorem dksX6_see_0 : cX6_see.data.toList.drop 0 = dktX6_see_0 := by decide +kernel
theorem dX6_see_0 : decode cX6_see 0 = .ok (.iload_n 1, 1) := dk_27 (dk_at dksX6_see_0 0 rfl rfl)
theorem dX6_see_1 : decode cX6_see 1 = .ok (.aload_n 0, 1) := dk_42 (dk_at dksX6_see_0 1 rfl rfl)
theorem dX6_see_2 : decode cX6_see 2 = .ok (.getfield 126, 3) := dk_180 0 126 (dk_at dksX6_see_0 2 rfl rfl)
theorem dX6_see_5 : decode cX6_see 5 = .ok (.if_icmp .ge 16, 3) := dk_162 0 16 (dk_at dksX6_see_0 5 rfl rfl)
theorem dX6_see_8 : decode cX6_see 8 = .ok (.aload_n 0, 1) := dk_42 (dk_at dksX6_see_0 8 rfl rfl)
theorem dX6_see_9 : decode cX6_see 9 = .ok (.getfield 20, 3) := dk_180 0 20 (dk_at dksX6_see_0 9 rfl rfl)
theorem dX6_see_12 : decode cX6_see 12 = .ok (.iload_n 1, 1) := dk_27 (dk_at dksX6_see_0 12 rfl rfl)
theorem dX6_see_13 : decode cX6_see 13 = .ok (.baload, 1) := dk_51 (dk_at dksX6_see_0 13 rfl rfl)
theorem dX6_see_14 : decode cX6_see 14 = .ok (.sipush 255, 3) := dk_17 0 255 (dk_at dksX6_see_0 14 rfl rfl)
theorem dX6_see_17 : decode cX6_see 17 = .ok (.iand, 1) := dk_126 (dk_at dksX6_see_0 17 rfl rfl)
theorem dX6_see_18 : decode cX6_see 18 = .ok (.goto 4, 3) := dk_167 0 4 (dk_at dksX6_see_0 18 rfl rfl)
theorem dX6_see_21 : decode cX6_see 21 = .ok (.iconst (-1), 1) := dk_2 (dk_at dksX6_see_0 21 rfl rfl)
theorem dX6_see_22 : decode cX6_see 22 = .ok (.ireturn, 1) := dk_172 (dk_at dksX6_see_0 22 rfl rfl)
abbrev cX6_good : ByteArray := prog_12_method_21_code
def yX6_good : MethodName := ⟨RX6, "good", "()Z"⟩
def dkwX6_good_0 : List UInt8 := [42, 180, 0, 160, 154, 0, 7, 4, 167, 0, 4, 3, 172]
abbrev dktX6_good_0 : List UInt8 := dkwX6_good_0 ++ []
theorem dksX6_good_0 : cX6_good.data.toList.drop 0 = dktX6_good_0 := by decide +kernel
theorem dX6_good_0 : decode cX6_good 0 = .ok (.aload_n 0, 1) := dk_42 (dk_at dksX6_good_0 0 rfl rfl)
theorem dX6_good_1 : decode cX6_good 1 = .ok (.getfield 160, 3) := dk_180 0 160 (dk_at dksX6_good_0 1 rfl rfl)
theorem dX6_good_4 : decode cX6_good 4 = .ok (.ifCond .ne 7, 3) := dk_154 0 7 (dk_at dksX6_good_0 4 rfl rfl)
theorem dX6_good_7 : decode cX6_good 7 = .ok (.iconst 1, 1) := dk_4 (dk_at dksX6_good_0 7 rfl rfl)
theorem dX6_good_8 : decode cX6_good 8 = .ok (.goto 4, 3) := dk_167 0 4 (dk_at dksX6_good_0 8 rfl rfl)
theorem dX6_good_11 : decode cX6_good 11 = .ok (.iconst 0, 1) := dk_3 (dk_at dksX6_good_0 11 rfl rfl)
theorem dX6_good_12 : decode cX6_good 12 = .ok (.ireturn, 1) := dk_172 (dk_at dksX6_good_0 12 rfl rfl)
abbrev cX6_readLine : ByteArray := prog_12_method_37_code
def yX6_readLine : MethodName := ⟨RX6, "readLine", "()V"⟩
def dkwX6_readLine_2 : List UInt8 := [153, 0, 7, 42, 182, 0, 179, 42, 180, 0, 31, 16, 9, 92, 46, 4, 96, 79, 177]
abbrev dktX6_readLine_2 : List UInt8 := dkwX6_readLine_2 ++ []
def dkwX6_readLine_1 : List UInt8 := [182, 0, 163, 153, 0, 16, 42, 180, 0, 139, 6, 159, 0, 8, 42, 4, 182, 0, 185, 42, 182, 0, 163]
abbrev dktX6_readLine_1 : List UInt8 := dkwX6_readLine_1 ++ dktX6_readLine_2
def dkwX6_readLine_0 : List UInt8 := [42, 180, 0, 31, 16, 9, 46, 154, 0, 10, 42, 182, 0, 252, 167, 0, 7, 42, 182, 0, 255, 42]
abbrev dktX6_readLine_0 : List UInt8 := dkwX6_readLine_0 ++ dktX6_readLine_1
theorem dksX6_readLine_0 : cX6_readLine.data.toList.drop 0 = dktX6_readLine_0 := by decide +kernel
theorem dksX6_readLine_1 : cX6_readLine.data.toList.drop 22 = dktX6_readLine_1 := dk_seg dksX6_readLine_0 22 rfl rfl
theorem dksX6_readLine_2 : cX6_readLine.data.toList.drop 45 = dktX6_readLine_2 := dk_seg dksX6_readLine_1 23 rfl rfl
theorem dX6_readLine_0 : decode cX6_readLine 0 = .ok (.aload_n 0, 1) := dk_42 (dk_at dksX6_readLine_0 0 rfl rfl)
theorem dX6_readLine_1 : decode cX6_readLine 1 = .ok (.getfield 31, 3) := dk_180 0 31 (dk_at dksX6_readLine_0 1 rfl rfl)
theorem dX6_readLine_4 : decode cX6_readLine 4 = .ok (.bipush 9, 2) := dk_16 9 (dk_at dksX6_readLine_0 4 rfl rfl)
theorem dX6_readLine_6 : decode cX6_readLine 6 = .ok (.iaload, 1) := dk_46 (dk_at dksX6_readLine_0 6 rfl rfl)
theorem dX6_readLine_7 : decode cX6_readLine 7 = .ok (.ifCond .ne 10, 3) := dk_154 0 10 (dk_at dksX6_readLine_0 7 rfl rfl)
theorem dX6_readLine_10 : decode cX6_readLine 10 = .ok (.aload_n 0, 1) := dk_42 (dk_at dksX6_readLine_0 10 rfl rfl)
theorem dX6_readLine_11 : decode cX6_readLine 11 = .ok (.invokevirtual 252, 3) := dk_182 0 252 (dk_at dksX6_readLine_0 11 rfl rfl)
theorem dX6_readLine_14 : decode cX6_readLine 14 = .ok (.goto 7, 3) := dk_167 0 7 (dk_at dksX6_readLine_0 14 rfl rfl)
theorem dX6_readLine_17 : decode cX6_readLine 17 = .ok (.aload_n 0, 1) := dk_42 (dk_at dksX6_readLine_0 17 rfl rfl)
theorem dX6_readLine_18 : decode cX6_readLine 18 = .ok (.invokevirtual 255, 3) := dk_182 0 255 (dk_at dksX6_readLine_0 18 rfl rfl)
theorem dX6_readLine_21 : decode cX6_readLine 21 = .ok (.aload_n 0, 1) := dk_42 (dk_at dksX6_readLine_0 21 rfl rfl)
theorem dX6_readLine_22 : decode cX6_readLine 22 = .ok (.invokevirtual 163, 3) := dk_182 0 163 (dk_at dksX6_readLine_1 0 rfl rfl)
theorem dX6_readLine_25 : decode cX6_readLine 25 = .ok (.ifCond .eq 16, 3) := dk_153 0 16 (dk_at dksX6_readLine_1 3 rfl rfl)
theorem dX6_readLine_28 : decode cX6_readLine 28 = .ok (.aload_n 0, 1) := dk_42 (dk_at dksX6_readLine_1 6 rfl rfl)
theorem dX6_readLine_29 : decode cX6_readLine 29 = .ok (.getfield 139, 3) := dk_180 0 139 (dk_at dksX6_readLine_1 7 rfl rfl)
theorem dX6_readLine_32 : decode cX6_readLine 32 = .ok (.iconst 3, 1) := dk_6 (dk_at dksX6_readLine_1 10 rfl rfl)
theorem dX6_readLine_33 : decode cX6_readLine 33 = .ok (.if_icmp .eq 8, 3) := dk_159 0 8 (dk_at dksX6_readLine_1 11 rfl rfl)
theorem dX6_readLine_36 : decode cX6_readLine 36 = .ok (.aload_n 0, 1) := dk_42 (dk_at dksX6_readLine_1 14 rfl rfl)
theorem dX6_readLine_37 : decode cX6_readLine 37 = .ok (.iconst 1, 1) := dk_4 (dk_at dksX6_readLine_1 15 rfl rfl)
theorem dX6_readLine_38 : decode cX6_readLine 38 = .ok (.invokevirtual 185, 3) := dk_182 0 185 (dk_at dksX6_readLine_1 16 rfl rfl)
theorem dX6_readLine_41 : decode cX6_readLine 41 = .ok (.aload_n 0, 1) := dk_42 (dk_at dksX6_readLine_1 19 rfl rfl)
theorem dX6_readLine_42 : decode cX6_readLine 42 = .ok (.invokevirtual 163, 3) := dk_182 0 163 (dk_at dksX6_readLine_1 20 rfl rfl)
theorem dX6_readLine_45 : decode cX6_readLine 45 = .ok (.ifCond .eq 7, 3) := dk_153 0 7 (dk_at dksX6_readLine_2 0 rfl rfl)
theorem dX6_readLine_48 : decode cX6_readLine 48 = .ok (.aload_n 0, 1) := dk_42 (dk_at dksX6_readLine_2 3 rfl rfl)
theorem dX6_readLine_49 : decode cX6_readLine 49 = .ok (.invokevirtual 179, 3) := dk_182 0 179 (dk_at dksX6_readLine_2 4 rfl rfl)
theorem dX6_readLine_52 : decode cX6_readLine 52 = .ok (.aload_n 0, 1) := dk_42 (dk_at dksX6_readLine_2 7 rfl rfl)
theorem dX6_readLine_53 : decode cX6_readLine 53 = .ok (.getfield 31, 3) := dk_180 0 31 (dk_at dksX6_readLine_2 8 rfl rfl)
theorem dX6_readLine_56 : decode cX6_readLine 56 = .ok (.bipush 9, 2) := dk_16 9 (dk_at dksX6_readLine_2 11 rfl rfl)
theorem dX6_readLine_58 : decode cX6_readLine 58 = .ok (.dup2, 1) := dk_92 (dk_at dksX6_readLine_2 13 rfl rfl)
theorem dX6_readLine_59 : decode cX6_readLine 59 = .ok (.iaload, 1) := dk_46 (dk_at dksX6_readLine_2 14 rfl rfl)
theorem dX6_readLine_60 : decode cX6_readLine 60 = .ok (.iconst 1, 1) := dk_4 (dk_at dksX6_readLine_2 15 rfl rfl)
theorem dX6_readLine_61 : decode cX6_readLine 61 = .ok (.iadd, 1) := dk_96 (dk_at dksX6_readLine_2 16 rfl rfl)
theorem dX6_readLine_62 : decode cX6_readLine 62 = .ok (.iastore, 1) := dk_79 (dk_at dksX6_readLine_2 17 rfl rfl)
theorem dX6_readLine_63 : decode cX6_readLine 63 = .ok (.return_, 1) := dk_177 (dk_at dksX6_readLine_2 18 rfl rfl)
abbrev cX6_readFirst : ByteArray := prog_12_method_29_code
def yX6_readFirst : MethodName := ⟨RX6, "readFirst", "()V"⟩
def dkwX6_readFirst_3 : List UInt8 := [42, 18, 209, 5, 16, 8, 182, 0, 199, 79, 177]
abbrev dktX6_readFirst_3 : List UInt8 := dkwX6_readFirst_3 ++ []
def dkwX6_readFirst_2 : List UInt8 := [182, 0, 199, 79, 42, 180, 0, 31, 6, 42, 18, 207, 5, 16, 8, 182, 0, 199, 79, 42, 180, 0, 31, 7]
abbrev dktX6_readFirst_2 : List UInt8 := dkwX6_readFirst_2 ++ dktX6_readFirst_3
def dkwX6_readFirst_1 : List UInt8 := [180, 0, 31, 4, 42, 18, 203, 3, 6, 182, 0, 199, 79, 42, 180, 0, 31, 5, 42, 18, 205, 3, 16, 10]
abbrev dktX6_readFirst_1 : List UInt8 := dkwX6_readFirst_1 ++ dktX6_readFirst_2
def dkwX6_readFirst_0 : List UInt8 := [42, 18, 196, 182, 0, 189, 42, 180, 0, 31, 3, 42, 18, 198, 4, 16, 12, 182, 0, 199, 79, 42]
abbrev dktX6_readFirst_0 : List UInt8 := dkwX6_readFirst_0 ++ dktX6_readFirst_1
theorem dksX6_readFirst_0 : cX6_readFirst.data.toList.drop 0 = dktX6_readFirst_0 := by decide +kernel
theorem dksX6_readFirst_1 : cX6_readFirst.data.toList.drop 22 = dktX6_readFirst_1 := dk_seg dksX6_readFirst_0 22 rfl rfl
theorem dksX6_readFirst_2 : cX6_readFirst.data.toList.drop 46 = dktX6_readFirst_2 := dk_seg dksX6_readFirst_1 24 rfl rfl
theorem dksX6_readFirst_3 : cX6_readFirst.data.toList.drop 70 = dktX6_readFirst_3 := dk_seg dksX6_readFirst_2 24 rfl rfl
theorem dX6_readFirst_0 : decode cX6_readFirst 0 = .ok (.aload_n 0, 1) := dk_42 (dk_at dksX6_readFirst_0 0 rfl rfl)
theorem dX6_readFirst_1 : decode cX6_readFirst 1 = .ok (.ldc 196, 2) := dk_18 196 (dk_at dksX6_readFirst_0 1 rfl rfl)
theorem dX6_readFirst_3 : decode cX6_readFirst 3 = .ok (.invokevirtual 189, 3) := dk_182 0 189 (dk_at dksX6_readFirst_0 3 rfl rfl)
theorem dX6_readFirst_6 : decode cX6_readFirst 6 = .ok (.aload_n 0, 1) := dk_42 (dk_at dksX6_readFirst_0 6 rfl rfl)
theorem dX6_readFirst_7 : decode cX6_readFirst 7 = .ok (.getfield 31, 3) := dk_180 0 31 (dk_at dksX6_readFirst_0 7 rfl rfl)
theorem dX6_readFirst_10 : decode cX6_readFirst 10 = .ok (.iconst 0, 1) := dk_3 (dk_at dksX6_readFirst_0 10 rfl rfl)
theorem dX6_readFirst_11 : decode cX6_readFirst 11 = .ok (.aload_n 0, 1) := dk_42 (dk_at dksX6_readFirst_0 11 rfl rfl)
theorem dX6_readFirst_12 : decode cX6_readFirst 12 = .ok (.ldc 198, 2) := dk_18 198 (dk_at dksX6_readFirst_0 12 rfl rfl)
theorem dX6_readFirst_14 : decode cX6_readFirst 14 = .ok (.iconst 1, 1) := dk_4 (dk_at dksX6_readFirst_0 14 rfl rfl)
theorem dX6_readFirst_15 : decode cX6_readFirst 15 = .ok (.bipush 12, 2) := dk_16 12 (dk_at dksX6_readFirst_0 15 rfl rfl)
theorem dX6_readFirst_17 : decode cX6_readFirst 17 = .ok (.invokevirtual 199, 3) := dk_182 0 199 (dk_at dksX6_readFirst_0 17 rfl rfl)
theorem dX6_readFirst_20 : decode cX6_readFirst 20 = .ok (.iastore, 1) := dk_79 (dk_at dksX6_readFirst_0 20 rfl rfl)
theorem dX6_readFirst_21 : decode cX6_readFirst 21 = .ok (.aload_n 0, 1) := dk_42 (dk_at dksX6_readFirst_0 21 rfl rfl)
theorem dX6_readFirst_22 : decode cX6_readFirst 22 = .ok (.getfield 31, 3) := dk_180 0 31 (dk_at dksX6_readFirst_1 0 rfl rfl)
theorem dX6_readFirst_25 : decode cX6_readFirst 25 = .ok (.iconst 1, 1) := dk_4 (dk_at dksX6_readFirst_1 3 rfl rfl)
theorem dX6_readFirst_26 : decode cX6_readFirst 26 = .ok (.aload_n 0, 1) := dk_42 (dk_at dksX6_readFirst_1 4 rfl rfl)
theorem dX6_readFirst_27 : decode cX6_readFirst 27 = .ok (.ldc 203, 2) := dk_18 203 (dk_at dksX6_readFirst_1 5 rfl rfl)
theorem dX6_readFirst_29 : decode cX6_readFirst 29 = .ok (.iconst 0, 1) := dk_3 (dk_at dksX6_readFirst_1 7 rfl rfl)
theorem dX6_readFirst_30 : decode cX6_readFirst 30 = .ok (.iconst 3, 1) := dk_6 (dk_at dksX6_readFirst_1 8 rfl rfl)
theorem dX6_readFirst_31 : decode cX6_readFirst 31 = .ok (.invokevirtual 199, 3) := dk_182 0 199 (dk_at dksX6_readFirst_1 9 rfl rfl)
theorem dX6_readFirst_34 : decode cX6_readFirst 34 = .ok (.iastore, 1) := dk_79 (dk_at dksX6_readFirst_1 12 rfl rfl)
theorem dX6_readFirst_35 : decode cX6_readFirst 35 = .ok (.aload_n 0, 1) := dk_42 (dk_at dksX6_readFirst_1 13 rfl rfl)
theorem dX6_readFirst_36 : decode cX6_readFirst 36 = .ok (.getfield 31, 3) := dk_180 0 31 (dk_at dksX6_readFirst_1 14 rfl rfl)
theorem dX6_readFirst_39 : decode cX6_readFirst 39 = .ok (.iconst 2, 1) := dk_5 (dk_at dksX6_readFirst_1 17 rfl rfl)
theorem dX6_readFirst_40 : decode cX6_readFirst 40 = .ok (.aload_n 0, 1) := dk_42 (dk_at dksX6_readFirst_1 18 rfl rfl)
theorem dX6_readFirst_41 : decode cX6_readFirst 41 = .ok (.ldc 205, 2) := dk_18 205 (dk_at dksX6_readFirst_1 19 rfl rfl)
theorem dX6_readFirst_43 : decode cX6_readFirst 43 = .ok (.iconst 0, 1) := dk_3 (dk_at dksX6_readFirst_1 21 rfl rfl)
theorem dX6_readFirst_44 : decode cX6_readFirst 44 = .ok (.bipush 10, 2) := dk_16 10 (dk_at dksX6_readFirst_1 22 rfl rfl)
theorem dX6_readFirst_46 : decode cX6_readFirst 46 = .ok (.invokevirtual 199, 3) := dk_182 0 199 (dk_at dksX6_readFirst_2 0 rfl rfl)
theorem dX6_readFirst_49 : decode cX6_readFirst 49 = .ok (.iastore, 1) := dk_79 (dk_at dksX6_readFirst_2 3 rfl rfl)
theorem dX6_readFirst_50 : decode cX6_readFirst 50 = .ok (.aload_n 0, 1) := dk_42 (dk_at dksX6_readFirst_2 4 rfl rfl)
theorem dX6_readFirst_51 : decode cX6_readFirst 51 = .ok (.getfield 31, 3) := dk_180 0 31 (dk_at dksX6_readFirst_2 5 rfl rfl)
theorem dX6_readFirst_54 : decode cX6_readFirst 54 = .ok (.iconst 3, 1) := dk_6 (dk_at dksX6_readFirst_2 8 rfl rfl)
theorem dX6_readFirst_55 : decode cX6_readFirst 55 = .ok (.aload_n 0, 1) := dk_42 (dk_at dksX6_readFirst_2 9 rfl rfl)
theorem dX6_readFirst_56 : decode cX6_readFirst 56 = .ok (.ldc 207, 2) := dk_18 207 (dk_at dksX6_readFirst_2 10 rfl rfl)
theorem dX6_readFirst_58 : decode cX6_readFirst 58 = .ok (.iconst 2, 1) := dk_5 (dk_at dksX6_readFirst_2 12 rfl rfl)
theorem dX6_readFirst_59 : decode cX6_readFirst 59 = .ok (.bipush 8, 2) := dk_16 8 (dk_at dksX6_readFirst_2 13 rfl rfl)
theorem dX6_readFirst_61 : decode cX6_readFirst 61 = .ok (.invokevirtual 199, 3) := dk_182 0 199 (dk_at dksX6_readFirst_2 15 rfl rfl)
theorem dX6_readFirst_64 : decode cX6_readFirst 64 = .ok (.iastore, 1) := dk_79 (dk_at dksX6_readFirst_2 18 rfl rfl)
theorem dX6_readFirst_65 : decode cX6_readFirst 65 = .ok (.aload_n 0, 1) := dk_42 (dk_at dksX6_readFirst_2 19 rfl rfl)
theorem dX6_readFirst_66 : decode cX6_readFirst 66 = .ok (.getfield 31, 3) := dk_180 0 31 (dk_at dksX6_readFirst_2 20 rfl rfl)
theorem dX6_readFirst_69 : decode cX6_readFirst 69 = .ok (.iconst 4, 1) := dk_7 (dk_at dksX6_readFirst_2 23 rfl rfl)
theorem dX6_readFirst_70 : decode cX6_readFirst 70 = .ok (.aload_n 0, 1) := dk_42 (dk_at dksX6_readFirst_3 0 rfl rfl)
theorem dX6_readFirst_71 : decode cX6_readFirst 71 = .ok (.ldc 209, 2) := dk_18 209 (dk_at dksX6_readFirst_3 1 rfl rfl)
theorem dX6_readFirst_73 : decode cX6_readFirst 73 = .ok (.iconst 2, 1) := dk_5 (dk_at dksX6_readFirst_3 3 rfl rfl)
theorem dX6_readFirst_74 : decode cX6_readFirst 74 = .ok (.bipush 8, 2) := dk_16 8 (dk_at dksX6_readFirst_3 4 rfl rfl)
theorem dX6_readFirst_76 : decode cX6_readFirst 76 = .ok (.invokevirtual 199, 3) := dk_182 0 199 (dk_at dksX6_readFirst_3 6 rfl rfl)
theorem dX6_readFirst_79 : decode cX6_readFirst 79 = .ok (.iastore, 1) := dk_79 (dk_at dksX6_readFirst_3 9 rfl rfl)
theorem dX6_readFirst_80 : decode cX6_readFirst 80 = .ok (.return_, 1) := dk_177 (dk_at dksX6_readFirst_3 10 rfl rfl)
abbrev cX6_expects : ByteArray := prog_12_method_25_code
def yX6_expects : MethodName := ⟨RX6, "expects", "(Ljava/lang/String;)V"⟩
def dkwX6_expects_0 : List UInt8 := [42, 43, 182, 0, 182, 154, 0, 8, 42, 4, 182, 0, 185, 177]
abbrev dktX6_expects_0 : List UInt8 := dkwX6_expects_0 ++ []
theorem dksX6_expects_0 : cX6_expects.data.toList.drop 0 = dktX6_expects_0 := by decide +kernel
theorem dX6_expects_0 : decode cX6_expects 0 = .ok (.aload_n 0, 1) := dk_42 (dk_at dksX6_expects_0 0 rfl rfl)
theorem dX6_expects_1 : decode cX6_expects 1 = .ok (.aload_n 1, 1) := dk_43 (dk_at dksX6_expects_0 1 rfl rfl)
theorem dX6_expects_2 : decode cX6_expects 2 = .ok (.invokevirtual 182, 3) := dk_182 0 182 (dk_at dksX6_expects_0 2 rfl rfl)
theorem dX6_expects_5 : decode cX6_expects 5 = .ok (.ifCond .ne 8, 3) := dk_154 0 8 (dk_at dksX6_expects_0 5 rfl rfl)
theorem dX6_expects_8 : decode cX6_expects 8 = .ok (.aload_n 0, 1) := dk_42 (dk_at dksX6_expects_0 8 rfl rfl)
theorem dX6_expects_9 : decode cX6_expects 9 = .ok (.iconst 1, 1) := dk_4 (dk_at dksX6_expects_0 9 rfl rfl)
theorem dX6_expects_10 : decode cX6_expects 10 = .ok (.invokevirtual 185, 3) := dk_182 0 185 (dk_at dksX6_expects_0 10 rfl rfl)
theorem dX6_expects_13 : decode cX6_expects 13 = .ok (.return_, 1) := dk_177 (dk_at dksX6_expects_0 13 rfl rfl)
abbrev cX6_takes : ByteArray := prog_12_method_24_code
def yX6_takes : MethodName := ⟨RX6, "takes", "(Ljava/lang/String;)Z"⟩
def dkwX6_takes_0 : List UInt8 := [42, 43, 182, 0, 175, 61, 28, 153, 0, 7, 42, 182, 0, 179, 28, 172]
abbrev dktX6_takes_0 : List UInt8 := dkwX6_takes_0 ++ []
theorem dksX6_takes_0 : cX6_takes.data.toList.drop 0 = dktX6_takes_0 := by decide +kernel
theorem dX6_takes_0 : decode cX6_takes 0 = .ok (.aload_n 0, 1) := dk_42 (dk_at dksX6_takes_0 0 rfl rfl)
theorem dX6_takes_1 : decode cX6_takes 1 = .ok (.aload_n 1, 1) := dk_43 (dk_at dksX6_takes_0 1 rfl rfl)
theorem dX6_takes_2 : decode cX6_takes 2 = .ok (.invokevirtual 175, 3) := dk_182 0 175 (dk_at dksX6_takes_0 2 rfl rfl)
theorem dX6_takes_5 : decode cX6_takes 5 = .ok (.istore_n 2, 1) := dk_61 (dk_at dksX6_takes_0 5 rfl rfl)
theorem dX6_takes_6 : decode cX6_takes 6 = .ok (.iload_n 2, 1) := dk_28 (dk_at dksX6_takes_0 6 rfl rfl)
theorem dX6_takes_7 : decode cX6_takes 7 = .ok (.ifCond .eq 7, 3) := dk_153 0 7 (dk_at dksX6_takes_0 7 rfl rfl)
theorem dX6_takes_10 : decode cX6_takes 10 = .ok (.aload_n 0, 1) := dk_42 (dk_at dksX6_takes_0 10 rfl rfl)
theorem dX6_takes_11 : decode cX6_takes 11 = .ok (.invokevirtual 179, 3) := dk_182 0 179 (dk_at dksX6_takes_0 11 rfl rfl)
theorem dX6_takes_14 : decode cX6_takes 14 = .ok (.iload_n 2, 1) := dk_28 (dk_at dksX6_takes_0 14 rfl rfl)
theorem dX6_takes_15 : decode cX6_takes 15 = .ok (.ireturn, 1) := dk_172 (dk_at dksX6_takes_0 15 rfl rfl)
abbrev cX6_is : ByteArray := prog_12_method_23_code
def yX6_is : MethodName := ⟨RX6, "is", "(Ljava/lang/String;)Z"⟩
def dkwX6_is_3 : List UInt8 := [167, 0, 4, 3, 61, 132, 3, 1, 167, 255, 216, 28, 172]
abbrev dktX6_is_3 : List UInt8 := dkwX6_is_3 ++ []
def dkwX6_is_2 : List UInt8 := [153, 0, 34, 42, 180, 0, 20, 42, 180, 0, 136, 29, 96, 51, 43, 29, 182, 0, 171, 160, 0, 7, 4]
abbrev dktX6_is_2 : List UInt8 := dkwX6_is_2 ++ dktX6_is_3
def dkwX6_is_1 : List UInt8 := [43, 182, 0, 166, 160, 0, 7, 4, 167, 0, 4, 3, 61, 3, 62, 29, 43, 182, 0, 166, 162, 0, 38, 28]
abbrev dktX6_is_1 : List UInt8 := dkwX6_is_1 ++ dktX6_is_2
def dkwX6_is_0 : List UInt8 := [42, 182, 0, 163, 153, 0, 31, 42, 180, 0, 139, 4, 160, 0, 23, 42, 180, 0, 129, 42, 180, 0, 136, 100]
abbrev dktX6_is_0 : List UInt8 := dkwX6_is_0 ++ dktX6_is_1
theorem dksX6_is_0 : cX6_is.data.toList.drop 0 = dktX6_is_0 := by decide +kernel
theorem dksX6_is_1 : cX6_is.data.toList.drop 24 = dktX6_is_1 := dk_seg dksX6_is_0 24 rfl rfl
theorem dksX6_is_2 : cX6_is.data.toList.drop 48 = dktX6_is_2 := dk_seg dksX6_is_1 24 rfl rfl
theorem dksX6_is_3 : cX6_is.data.toList.drop 71 = dktX6_is_3 := dk_seg dksX6_is_2 23 rfl rfl
theorem dX6_is_0 : decode cX6_is 0 = .ok (.aload_n 0, 1) := dk_42 (dk_at dksX6_is_0 0 rfl rfl)
theorem dX6_is_1 : decode cX6_is 1 = .ok (.invokevirtual 163, 3) := dk_182 0 163 (dk_at dksX6_is_0 1 rfl rfl)
theorem dX6_is_4 : decode cX6_is 4 = .ok (.ifCond .eq 31, 3) := dk_153 0 31 (dk_at dksX6_is_0 4 rfl rfl)
theorem dX6_is_7 : decode cX6_is 7 = .ok (.aload_n 0, 1) := dk_42 (dk_at dksX6_is_0 7 rfl rfl)
theorem dX6_is_8 : decode cX6_is 8 = .ok (.getfield 139, 3) := dk_180 0 139 (dk_at dksX6_is_0 8 rfl rfl)
theorem dX6_is_11 : decode cX6_is 11 = .ok (.iconst 1, 1) := dk_4 (dk_at dksX6_is_0 11 rfl rfl)
theorem dX6_is_12 : decode cX6_is 12 = .ok (.if_icmp .ne 23, 3) := dk_160 0 23 (dk_at dksX6_is_0 12 rfl rfl)
theorem dX6_is_15 : decode cX6_is 15 = .ok (.aload_n 0, 1) := dk_42 (dk_at dksX6_is_0 15 rfl rfl)
theorem dX6_is_16 : decode cX6_is 16 = .ok (.getfield 129, 3) := dk_180 0 129 (dk_at dksX6_is_0 16 rfl rfl)
theorem dX6_is_19 : decode cX6_is 19 = .ok (.aload_n 0, 1) := dk_42 (dk_at dksX6_is_0 19 rfl rfl)
theorem dX6_is_20 : decode cX6_is 20 = .ok (.getfield 136, 3) := dk_180 0 136 (dk_at dksX6_is_0 20 rfl rfl)
theorem dX6_is_23 : decode cX6_is 23 = .ok (.isub, 1) := dk_100 (dk_at dksX6_is_0 23 rfl rfl)
theorem dX6_is_24 : decode cX6_is 24 = .ok (.aload_n 1, 1) := dk_43 (dk_at dksX6_is_1 0 rfl rfl)
theorem dX6_is_25 : decode cX6_is 25 = .ok (.invokevirtual 166, 3) := dk_182 0 166 (dk_at dksX6_is_1 1 rfl rfl)
theorem dX6_is_28 : decode cX6_is 28 = .ok (.if_icmp .ne 7, 3) := dk_160 0 7 (dk_at dksX6_is_1 4 rfl rfl)
theorem dX6_is_31 : decode cX6_is 31 = .ok (.iconst 1, 1) := dk_4 (dk_at dksX6_is_1 7 rfl rfl)
theorem dX6_is_32 : decode cX6_is 32 = .ok (.goto 4, 3) := dk_167 0 4 (dk_at dksX6_is_1 8 rfl rfl)
theorem dX6_is_35 : decode cX6_is 35 = .ok (.iconst 0, 1) := dk_3 (dk_at dksX6_is_1 11 rfl rfl)
theorem dX6_is_36 : decode cX6_is 36 = .ok (.istore_n 2, 1) := dk_61 (dk_at dksX6_is_1 12 rfl rfl)
theorem dX6_is_37 : decode cX6_is 37 = .ok (.iconst 0, 1) := dk_3 (dk_at dksX6_is_1 13 rfl rfl)
theorem dX6_is_38 : decode cX6_is 38 = .ok (.istore_n 3, 1) := dk_62 (dk_at dksX6_is_1 14 rfl rfl)
theorem dX6_is_39 : decode cX6_is 39 = .ok (.iload_n 3, 1) := dk_29 (dk_at dksX6_is_1 15 rfl rfl)
theorem dX6_is_40 : decode cX6_is 40 = .ok (.aload_n 1, 1) := dk_43 (dk_at dksX6_is_1 16 rfl rfl)
theorem dX6_is_41 : decode cX6_is 41 = .ok (.invokevirtual 166, 3) := dk_182 0 166 (dk_at dksX6_is_1 17 rfl rfl)
theorem dX6_is_44 : decode cX6_is 44 = .ok (.if_icmp .ge 38, 3) := dk_162 0 38 (dk_at dksX6_is_1 20 rfl rfl)
theorem dX6_is_47 : decode cX6_is 47 = .ok (.iload_n 2, 1) := dk_28 (dk_at dksX6_is_1 23 rfl rfl)
theorem dX6_is_48 : decode cX6_is 48 = .ok (.ifCond .eq 34, 3) := dk_153 0 34 (dk_at dksX6_is_2 0 rfl rfl)
theorem dX6_is_51 : decode cX6_is 51 = .ok (.aload_n 0, 1) := dk_42 (dk_at dksX6_is_2 3 rfl rfl)
theorem dX6_is_52 : decode cX6_is 52 = .ok (.getfield 20, 3) := dk_180 0 20 (dk_at dksX6_is_2 4 rfl rfl)
theorem dX6_is_55 : decode cX6_is 55 = .ok (.aload_n 0, 1) := dk_42 (dk_at dksX6_is_2 7 rfl rfl)
theorem dX6_is_56 : decode cX6_is 56 = .ok (.getfield 136, 3) := dk_180 0 136 (dk_at dksX6_is_2 8 rfl rfl)
theorem dX6_is_59 : decode cX6_is 59 = .ok (.iload_n 3, 1) := dk_29 (dk_at dksX6_is_2 11 rfl rfl)
theorem dX6_is_60 : decode cX6_is 60 = .ok (.iadd, 1) := dk_96 (dk_at dksX6_is_2 12 rfl rfl)
theorem dX6_is_61 : decode cX6_is 61 = .ok (.baload, 1) := dk_51 (dk_at dksX6_is_2 13 rfl rfl)
theorem dX6_is_62 : decode cX6_is 62 = .ok (.aload_n 1, 1) := dk_43 (dk_at dksX6_is_2 14 rfl rfl)
theorem dX6_is_63 : decode cX6_is 63 = .ok (.iload_n 3, 1) := dk_29 (dk_at dksX6_is_2 15 rfl rfl)
theorem dX6_is_64 : decode cX6_is 64 = .ok (.invokevirtual 171, 3) := dk_182 0 171 (dk_at dksX6_is_2 16 rfl rfl)
theorem dX6_is_67 : decode cX6_is 67 = .ok (.if_icmp .ne 7, 3) := dk_160 0 7 (dk_at dksX6_is_2 19 rfl rfl)
theorem dX6_is_70 : decode cX6_is 70 = .ok (.iconst 1, 1) := dk_4 (dk_at dksX6_is_2 22 rfl rfl)
theorem dX6_is_71 : decode cX6_is 71 = .ok (.goto 4, 3) := dk_167 0 4 (dk_at dksX6_is_3 0 rfl rfl)
theorem dX6_is_74 : decode cX6_is 74 = .ok (.iconst 0, 1) := dk_3 (dk_at dksX6_is_3 3 rfl rfl)
theorem dX6_is_75 : decode cX6_is 75 = .ok (.istore_n 2, 1) := dk_61 (dk_at dksX6_is_3 4 rfl rfl)
theorem dX6_is_76 : decode cX6_is 76 = .ok (.iinc 3 1, 3) := dk_132 3 1 (dk_at dksX6_is_3 5 rfl rfl)
theorem dX6_is_79 : decode cX6_is 79 = .ok (.goto (-40), 3) := dk_167 255 216 (dk_at dksX6_is_3 8 rfl rfl)
theorem dX6_is_82 : decode cX6_is 82 = .ok (.iload_n 2, 1) := dk_28 (dk_at dksX6_is_3 11 rfl rfl)
theorem dX6_is_83 : decode cX6_is 83 = .ok (.ireturn, 1) := dk_172 (dk_at dksX6_is_3 12 rfl rfl)
abbrev cX6_errs : ByteArray := prog_12_method_22_code
def yX6_errs : MethodName := ⟨RX6, "errs", "(I)V"⟩
def dkwX6_errs_0 : List UInt8 := [42, 182, 0, 163, 154, 0, 4, 177, 42, 27, 181, 0, 160, 42, 42, 180, 0, 136, 181, 0, 27, 177]
abbrev dktX6_errs_0 : List UInt8 := dkwX6_errs_0 ++ []
theorem dksX6_errs_0 : cX6_errs.data.toList.drop 0 = dktX6_errs_0 := by decide +kernel
theorem dX6_errs_0 : decode cX6_errs 0 = .ok (.aload_n 0, 1) := dk_42 (dk_at dksX6_errs_0 0 rfl rfl)
theorem dX6_errs_1 : decode cX6_errs 1 = .ok (.invokevirtual 163, 3) := dk_182 0 163 (dk_at dksX6_errs_0 1 rfl rfl)
theorem dX6_errs_4 : decode cX6_errs 4 = .ok (.ifCond .ne 4, 3) := dk_154 0 4 (dk_at dksX6_errs_0 4 rfl rfl)
theorem dX6_errs_7 : decode cX6_errs 7 = .ok (.return_, 1) := dk_177 (dk_at dksX6_errs_0 7 rfl rfl)
theorem dX6_errs_8 : decode cX6_errs 8 = .ok (.aload_n 0, 1) := dk_42 (dk_at dksX6_errs_0 8 rfl rfl)
theorem dX6_errs_9 : decode cX6_errs 9 = .ok (.iload_n 1, 1) := dk_27 (dk_at dksX6_errs_0 9 rfl rfl)
theorem dX6_errs_10 : decode cX6_errs 10 = .ok (.putfield 160, 3) := dk_181 0 160 (dk_at dksX6_errs_0 10 rfl rfl)
theorem dX6_errs_13 : decode cX6_errs 13 = .ok (.aload_n 0, 1) := dk_42 (dk_at dksX6_errs_0 13 rfl rfl)
theorem dX6_errs_14 : decode cX6_errs 14 = .ok (.aload_n 0, 1) := dk_42 (dk_at dksX6_errs_0 14 rfl rfl)
theorem dX6_errs_15 : decode cX6_errs 15 = .ok (.getfield 136, 3) := dk_180 0 136 (dk_at dksX6_errs_0 15 rfl rfl)
theorem dX6_errs_18 : decode cX6_errs 18 = .ok (.putfield 27, 3) := dk_181 0 27 (dk_at dksX6_errs_0 18 rfl rfl)
theorem dX6_errs_21 : decode cX6_errs 21 = .ok (.return_, 1) := dk_177 (dk_at dksX6_errs_0 21 rfl rfl)
abbrev cX6_toldBy : ByteArray := prog_12_method_27_code
def yX6_toldBy : MethodName := ⟨RX6, "toldBy", "(Ljava/lang/String;II)I"⟩
def dkwX6_toldBy_0 : List UInt8 := [42, 43, 182, 0, 189, 42, 28, 29, 182, 0, 193, 172]
abbrev dktX6_toldBy_0 : List UInt8 := dkwX6_toldBy_0 ++ []
theorem dksX6_toldBy_0 : cX6_toldBy.data.toList.drop 0 = dktX6_toldBy_0 := by decide +kernel
theorem dX6_toldBy_0 : decode cX6_toldBy 0 = .ok (.aload_n 0, 1) := dk_42 (dk_at dksX6_toldBy_0 0 rfl rfl)
theorem dX6_toldBy_1 : decode cX6_toldBy 1 = .ok (.aload_n 1, 1) := dk_43 (dk_at dksX6_toldBy_0 1 rfl rfl)
theorem dX6_toldBy_2 : decode cX6_toldBy 2 = .ok (.invokevirtual 189, 3) := dk_182 0 189 (dk_at dksX6_toldBy_0 2 rfl rfl)
theorem dX6_toldBy_5 : decode cX6_toldBy 5 = .ok (.aload_n 0, 1) := dk_42 (dk_at dksX6_toldBy_0 5 rfl rfl)
theorem dX6_toldBy_6 : decode cX6_toldBy 6 = .ok (.iload_n 2, 1) := dk_28 (dk_at dksX6_toldBy_0 6 rfl rfl)
theorem dX6_toldBy_7 : decode cX6_toldBy 7 = .ok (.iload_n 3, 1) := dk_29 (dk_at dksX6_toldBy_0 7 rfl rfl)
theorem dX6_toldBy_8 : decode cX6_toldBy 8 = .ok (.invokevirtual 193, 3) := dk_182 0 193 (dk_at dksX6_toldBy_0 8 rfl rfl)
theorem dX6_toldBy_11 : decode cX6_toldBy 11 = .ok (.ireturn, 1) := dk_172 (dk_at dksX6_toldBy_0 11 rfl rfl)
abbrev cX6_number : ByteArray := prog_12_method_26_code
def yX6_number : MethodName := ⟨RX6, "number", "(II)I"⟩
def dkwX6_number_2 : List UInt8 := [182, 0, 163, 154, 0, 5, 3, 172, 42, 180, 0, 150, 62, 42, 182, 0, 179, 29, 172]
abbrev dktX6_number_2 : List UInt8 := dkwX6_number_2 ++ []
def dkwX6_number_1 : List UInt8 := [153, 0, 23, 42, 180, 0, 150, 133, 27, 133, 28, 133, 184, 0, 106, 154, 0, 8, 42, 5, 182, 0, 185, 42]
abbrev dktX6_number_1 : List UInt8 := dkwX6_number_1 ++ dktX6_number_2
def dkwX6_number_0 : List UInt8 := [42, 182, 0, 163, 153, 0, 16, 42, 180, 0, 139, 5, 159, 0, 8, 42, 4, 182, 0, 185, 42, 182, 0, 163]
abbrev dktX6_number_0 : List UInt8 := dkwX6_number_0 ++ dktX6_number_1
theorem dksX6_number_0 : cX6_number.data.toList.drop 0 = dktX6_number_0 := by decide +kernel
theorem dksX6_number_1 : cX6_number.data.toList.drop 24 = dktX6_number_1 := dk_seg dksX6_number_0 24 rfl rfl
theorem dksX6_number_2 : cX6_number.data.toList.drop 48 = dktX6_number_2 := dk_seg dksX6_number_1 24 rfl rfl
theorem dX6_number_0 : decode cX6_number 0 = .ok (.aload_n 0, 1) := dk_42 (dk_at dksX6_number_0 0 rfl rfl)
theorem dX6_number_1 : decode cX6_number 1 = .ok (.invokevirtual 163, 3) := dk_182 0 163 (dk_at dksX6_number_0 1 rfl rfl)
theorem dX6_number_4 : decode cX6_number 4 = .ok (.ifCond .eq 16, 3) := dk_153 0 16 (dk_at dksX6_number_0 4 rfl rfl)
theorem dX6_number_7 : decode cX6_number 7 = .ok (.aload_n 0, 1) := dk_42 (dk_at dksX6_number_0 7 rfl rfl)
theorem dX6_number_8 : decode cX6_number 8 = .ok (.getfield 139, 3) := dk_180 0 139 (dk_at dksX6_number_0 8 rfl rfl)
theorem dX6_number_11 : decode cX6_number 11 = .ok (.iconst 2, 1) := dk_5 (dk_at dksX6_number_0 11 rfl rfl)
theorem dX6_number_12 : decode cX6_number 12 = .ok (.if_icmp .eq 8, 3) := dk_159 0 8 (dk_at dksX6_number_0 12 rfl rfl)
theorem dX6_number_15 : decode cX6_number 15 = .ok (.aload_n 0, 1) := dk_42 (dk_at dksX6_number_0 15 rfl rfl)
theorem dX6_number_16 : decode cX6_number 16 = .ok (.iconst 1, 1) := dk_4 (dk_at dksX6_number_0 16 rfl rfl)
theorem dX6_number_17 : decode cX6_number 17 = .ok (.invokevirtual 185, 3) := dk_182 0 185 (dk_at dksX6_number_0 17 rfl rfl)
theorem dX6_number_20 : decode cX6_number 20 = .ok (.aload_n 0, 1) := dk_42 (dk_at dksX6_number_0 20 rfl rfl)
theorem dX6_number_21 : decode cX6_number 21 = .ok (.invokevirtual 163, 3) := dk_182 0 163 (dk_at dksX6_number_0 21 rfl rfl)
theorem dX6_number_24 : decode cX6_number 24 = .ok (.ifCond .eq 23, 3) := dk_153 0 23 (dk_at dksX6_number_1 0 rfl rfl)
theorem dX6_number_27 : decode cX6_number 27 = .ok (.aload_n 0, 1) := dk_42 (dk_at dksX6_number_1 3 rfl rfl)
theorem dX6_number_28 : decode cX6_number 28 = .ok (.getfield 150, 3) := dk_180 0 150 (dk_at dksX6_number_1 4 rfl rfl)
theorem dX6_number_31 : decode cX6_number 31 = .ok (.i2l, 1) := dk_133 (dk_at dksX6_number_1 7 rfl rfl)
theorem dX6_number_32 : decode cX6_number 32 = .ok (.iload_n 1, 1) := dk_27 (dk_at dksX6_number_1 8 rfl rfl)
theorem dX6_number_33 : decode cX6_number 33 = .ok (.i2l, 1) := dk_133 (dk_at dksX6_number_1 9 rfl rfl)
theorem dX6_number_34 : decode cX6_number 34 = .ok (.iload_n 2, 1) := dk_28 (dk_at dksX6_number_1 10 rfl rfl)
theorem dX6_number_35 : decode cX6_number 35 = .ok (.i2l, 1) := dk_133 (dk_at dksX6_number_1 11 rfl rfl)
theorem dX6_number_36 : decode cX6_number 36 = .ok (.invokestatic 106, 3) := dk_184 0 106 (dk_at dksX6_number_1 12 rfl rfl)
theorem dX6_number_39 : decode cX6_number 39 = .ok (.ifCond .ne 8, 3) := dk_154 0 8 (dk_at dksX6_number_1 15 rfl rfl)
theorem dX6_number_42 : decode cX6_number 42 = .ok (.aload_n 0, 1) := dk_42 (dk_at dksX6_number_1 18 rfl rfl)
theorem dX6_number_43 : decode cX6_number 43 = .ok (.iconst 2, 1) := dk_5 (dk_at dksX6_number_1 19 rfl rfl)
theorem dX6_number_44 : decode cX6_number 44 = .ok (.invokevirtual 185, 3) := dk_182 0 185 (dk_at dksX6_number_1 20 rfl rfl)
theorem dX6_number_47 : decode cX6_number 47 = .ok (.aload_n 0, 1) := dk_42 (dk_at dksX6_number_1 23 rfl rfl)
theorem dX6_number_48 : decode cX6_number 48 = .ok (.invokevirtual 163, 3) := dk_182 0 163 (dk_at dksX6_number_2 0 rfl rfl)
theorem dX6_number_51 : decode cX6_number 51 = .ok (.ifCond .ne 5, 3) := dk_154 0 5 (dk_at dksX6_number_2 3 rfl rfl)
theorem dX6_number_54 : decode cX6_number 54 = .ok (.iconst 0, 1) := dk_3 (dk_at dksX6_number_2 6 rfl rfl)
theorem dX6_number_55 : decode cX6_number 55 = .ok (.ireturn, 1) := dk_172 (dk_at dksX6_number_2 7 rfl rfl)
theorem dX6_number_56 : decode cX6_number 56 = .ok (.aload_n 0, 1) := dk_42 (dk_at dksX6_number_2 8 rfl rfl)
theorem dX6_number_57 : decode cX6_number 57 = .ok (.getfield 150, 3) := dk_180 0 150 (dk_at dksX6_number_2 9 rfl rfl)
theorem dX6_number_60 : decode cX6_number 60 = .ok (.istore_n 3, 1) := dk_62 (dk_at dksX6_number_2 12 rfl rfl)
theorem dX6_number_61 : decode cX6_number 61 = .ok (.aload_n 0, 1) := dk_42 (dk_at dksX6_number_2 13 rfl rfl)
theorem dX6_number_62 : decode cX6_number 62 = .ok (.invokevirtual 179, 3) := dk_182 0 179 (dk_at dksX6_number_2 14 rfl rfl)
theorem dX6_number_65 : decode cX6_number 65 = .ok (.iload_n 3, 1) := dk_29 (dk_at dksX6_number_2 17 rfl rfl)
theorem dX6_number_66 : decode cX6_number 66 = .ok (.ireturn, 1) := dk_172 (dk_at dksX6_number_2 18 rfl rfl)
abbrev cX6_readNext : ByteArray := prog_12_method_36_code
def yX6_readNext : MethodName := ⟨RX6, "readNext", "()V"⟩
def dkwX6_readNext_6 : List UInt8 := [16, 6, 92, 46, 4, 96, 79, 167, 0, 11, 42, 182, 0, 179, 42, 182, 0, 249, 177]
abbrev dktX6_readNext_6 : List UInt8 := dkwX6_readNext_6 ++ []
def dkwX6_readNext_5 : List UInt8 := [182, 0, 226, 61, 42, 180, 0, 31, 16, 22, 42, 180, 0, 31, 16, 6, 46, 96, 28, 79, 42, 180, 0, 31]
abbrev dktX6_readNext_5 : List UInt8 := dkwX6_readNext_5 ++ dktX6_readNext_6
def dkwX6_readNext_4 : List UInt8 := [42, 180, 0, 31, 8, 92, 46, 4, 96, 79, 167, 0, 56, 42, 18, 242, 182, 0, 182, 153, 0, 39, 42, 4]
abbrev dktX6_readNext_4 : List UInt8 := dkwX6_readNext_4 ++ dktX6_readNext_5
def dkwX6_readNext_3 : List UInt8 := [153, 0, 37, 42, 3, 182, 0, 226, 61, 42, 180, 0, 31, 16, 10, 42, 180, 0, 31, 8, 46, 96, 28, 79]
abbrev dktX6_readNext_3 : List UInt8 := dkwX6_readNext_3 ++ dktX6_readNext_4
def dkwX6_readNext_2 : List UInt8 := [153, 0, 8, 42, 6, 182, 0, 185, 42, 182, 0, 163, 154, 0, 4, 177, 42, 18, 240, 182, 0, 182]
abbrev dktX6_readNext_2 : List UInt8 := dkwX6_readNext_2 ++ dktX6_readNext_3
def dkwX6_readNext_1 : List UInt8 := [153, 0, 7, 4, 167, 0, 4, 3, 60, 27, 154, 0, 8, 42, 4, 182, 0, 185, 42, 182, 0, 246]
abbrev dktX6_readNext_1 : List UInt8 := dkwX6_readNext_1 ++ dktX6_readNext_2
def dkwX6_readNext_0 : List UInt8 := [42, 18, 240, 182, 0, 175, 154, 0, 21, 42, 18, 242, 182, 0, 175, 154, 0, 12, 42, 18, 244, 182, 0, 175]
abbrev dktX6_readNext_0 : List UInt8 := dkwX6_readNext_0 ++ dktX6_readNext_1
theorem dksX6_readNext_0 : cX6_readNext.data.toList.drop 0 = dktX6_readNext_0 := by decide +kernel
theorem dksX6_readNext_1 : cX6_readNext.data.toList.drop 24 = dktX6_readNext_1 := dk_seg dksX6_readNext_0 24 rfl rfl
theorem dksX6_readNext_2 : cX6_readNext.data.toList.drop 46 = dktX6_readNext_2 := dk_seg dksX6_readNext_1 22 rfl rfl
theorem dksX6_readNext_3 : cX6_readNext.data.toList.drop 68 = dktX6_readNext_3 := dk_seg dksX6_readNext_2 22 rfl rfl
theorem dksX6_readNext_4 : cX6_readNext.data.toList.drop 92 = dktX6_readNext_4 := dk_seg dksX6_readNext_3 24 rfl rfl
theorem dksX6_readNext_5 : cX6_readNext.data.toList.drop 116 = dktX6_readNext_5 := dk_seg dksX6_readNext_4 24 rfl rfl
theorem dksX6_readNext_6 : cX6_readNext.data.toList.drop 140 = dktX6_readNext_6 := dk_seg dksX6_readNext_5 24 rfl rfl
theorem dX6_readNext_0 : decode cX6_readNext 0 = .ok (.aload_n 0, 1) := dk_42 (dk_at dksX6_readNext_0 0 rfl rfl)
theorem dX6_readNext_1 : decode cX6_readNext 1 = .ok (.ldc 240, 2) := dk_18 240 (dk_at dksX6_readNext_0 1 rfl rfl)
theorem dX6_readNext_3 : decode cX6_readNext 3 = .ok (.invokevirtual 175, 3) := dk_182 0 175 (dk_at dksX6_readNext_0 3 rfl rfl)
theorem dX6_readNext_6 : decode cX6_readNext 6 = .ok (.ifCond .ne 21, 3) := dk_154 0 21 (dk_at dksX6_readNext_0 6 rfl rfl)
theorem dX6_readNext_9 : decode cX6_readNext 9 = .ok (.aload_n 0, 1) := dk_42 (dk_at dksX6_readNext_0 9 rfl rfl)
theorem dX6_readNext_10 : decode cX6_readNext 10 = .ok (.ldc 242, 2) := dk_18 242 (dk_at dksX6_readNext_0 10 rfl rfl)
theorem dX6_readNext_12 : decode cX6_readNext 12 = .ok (.invokevirtual 175, 3) := dk_182 0 175 (dk_at dksX6_readNext_0 12 rfl rfl)
theorem dX6_readNext_15 : decode cX6_readNext 15 = .ok (.ifCond .ne 12, 3) := dk_154 0 12 (dk_at dksX6_readNext_0 15 rfl rfl)
theorem dX6_readNext_18 : decode cX6_readNext 18 = .ok (.aload_n 0, 1) := dk_42 (dk_at dksX6_readNext_0 18 rfl rfl)
theorem dX6_readNext_19 : decode cX6_readNext 19 = .ok (.ldc 244, 2) := dk_18 244 (dk_at dksX6_readNext_0 19 rfl rfl)
theorem dX6_readNext_21 : decode cX6_readNext 21 = .ok (.invokevirtual 175, 3) := dk_182 0 175 (dk_at dksX6_readNext_0 21 rfl rfl)
theorem dX6_readNext_24 : decode cX6_readNext 24 = .ok (.ifCond .eq 7, 3) := dk_153 0 7 (dk_at dksX6_readNext_1 0 rfl rfl)
theorem dX6_readNext_27 : decode cX6_readNext 27 = .ok (.iconst 1, 1) := dk_4 (dk_at dksX6_readNext_1 3 rfl rfl)
theorem dX6_readNext_28 : decode cX6_readNext 28 = .ok (.goto 4, 3) := dk_167 0 4 (dk_at dksX6_readNext_1 4 rfl rfl)
theorem dX6_readNext_31 : decode cX6_readNext 31 = .ok (.iconst 0, 1) := dk_3 (dk_at dksX6_readNext_1 7 rfl rfl)
theorem dX6_readNext_32 : decode cX6_readNext 32 = .ok (.istore_n 1, 1) := dk_60 (dk_at dksX6_readNext_1 8 rfl rfl)
theorem dX6_readNext_33 : decode cX6_readNext 33 = .ok (.iload_n 1, 1) := dk_27 (dk_at dksX6_readNext_1 9 rfl rfl)
theorem dX6_readNext_34 : decode cX6_readNext 34 = .ok (.ifCond .ne 8, 3) := dk_154 0 8 (dk_at dksX6_readNext_1 10 rfl rfl)
theorem dX6_readNext_37 : decode cX6_readNext 37 = .ok (.aload_n 0, 1) := dk_42 (dk_at dksX6_readNext_1 13 rfl rfl)
theorem dX6_readNext_38 : decode cX6_readNext 38 = .ok (.iconst 1, 1) := dk_4 (dk_at dksX6_readNext_1 14 rfl rfl)
theorem dX6_readNext_39 : decode cX6_readNext 39 = .ok (.invokevirtual 185, 3) := dk_182 0 185 (dk_at dksX6_readNext_1 15 rfl rfl)
theorem dX6_readNext_42 : decode cX6_readNext 42 = .ok (.aload_n 0, 1) := dk_42 (dk_at dksX6_readNext_1 18 rfl rfl)
theorem dX6_readNext_43 : decode cX6_readNext 43 = .ok (.invokevirtual 246, 3) := dk_182 0 246 (dk_at dksX6_readNext_1 19 rfl rfl)
theorem dX6_readNext_46 : decode cX6_readNext 46 = .ok (.ifCond .eq 8, 3) := dk_153 0 8 (dk_at dksX6_readNext_2 0 rfl rfl)
theorem dX6_readNext_49 : decode cX6_readNext 49 = .ok (.aload_n 0, 1) := dk_42 (dk_at dksX6_readNext_2 3 rfl rfl)
theorem dX6_readNext_50 : decode cX6_readNext 50 = .ok (.iconst 3, 1) := dk_6 (dk_at dksX6_readNext_2 4 rfl rfl)
theorem dX6_readNext_51 : decode cX6_readNext 51 = .ok (.invokevirtual 185, 3) := dk_182 0 185 (dk_at dksX6_readNext_2 5 rfl rfl)
theorem dX6_readNext_54 : decode cX6_readNext 54 = .ok (.aload_n 0, 1) := dk_42 (dk_at dksX6_readNext_2 8 rfl rfl)
theorem dX6_readNext_55 : decode cX6_readNext 55 = .ok (.invokevirtual 163, 3) := dk_182 0 163 (dk_at dksX6_readNext_2 9 rfl rfl)
theorem dX6_readNext_58 : decode cX6_readNext 58 = .ok (.ifCond .ne 4, 3) := dk_154 0 4 (dk_at dksX6_readNext_2 12 rfl rfl)
theorem dX6_readNext_61 : decode cX6_readNext 61 = .ok (.return_, 1) := dk_177 (dk_at dksX6_readNext_2 15 rfl rfl)
theorem dX6_readNext_62 : decode cX6_readNext 62 = .ok (.aload_n 0, 1) := dk_42 (dk_at dksX6_readNext_2 16 rfl rfl)
theorem dX6_readNext_63 : decode cX6_readNext 63 = .ok (.ldc 240, 2) := dk_18 240 (dk_at dksX6_readNext_2 17 rfl rfl)
theorem dX6_readNext_65 : decode cX6_readNext 65 = .ok (.invokevirtual 182, 3) := dk_182 0 182 (dk_at dksX6_readNext_2 19 rfl rfl)
theorem dX6_readNext_68 : decode cX6_readNext 68 = .ok (.ifCond .eq 37, 3) := dk_153 0 37 (dk_at dksX6_readNext_3 0 rfl rfl)
theorem dX6_readNext_71 : decode cX6_readNext 71 = .ok (.aload_n 0, 1) := dk_42 (dk_at dksX6_readNext_3 3 rfl rfl)
theorem dX6_readNext_72 : decode cX6_readNext 72 = .ok (.iconst 0, 1) := dk_3 (dk_at dksX6_readNext_3 4 rfl rfl)
theorem dX6_readNext_73 : decode cX6_readNext 73 = .ok (.invokevirtual 226, 3) := dk_182 0 226 (dk_at dksX6_readNext_3 5 rfl rfl)
theorem dX6_readNext_76 : decode cX6_readNext 76 = .ok (.istore_n 2, 1) := dk_61 (dk_at dksX6_readNext_3 8 rfl rfl)
theorem dX6_readNext_77 : decode cX6_readNext 77 = .ok (.aload_n 0, 1) := dk_42 (dk_at dksX6_readNext_3 9 rfl rfl)
theorem dX6_readNext_78 : decode cX6_readNext 78 = .ok (.getfield 31, 3) := dk_180 0 31 (dk_at dksX6_readNext_3 10 rfl rfl)
theorem dX6_readNext_81 : decode cX6_readNext 81 = .ok (.bipush 10, 2) := dk_16 10 (dk_at dksX6_readNext_3 13 rfl rfl)
theorem dX6_readNext_83 : decode cX6_readNext 83 = .ok (.aload_n 0, 1) := dk_42 (dk_at dksX6_readNext_3 15 rfl rfl)
theorem dX6_readNext_84 : decode cX6_readNext 84 = .ok (.getfield 31, 3) := dk_180 0 31 (dk_at dksX6_readNext_3 16 rfl rfl)
theorem dX6_readNext_87 : decode cX6_readNext 87 = .ok (.iconst 5, 1) := dk_8 (dk_at dksX6_readNext_3 19 rfl rfl)
theorem dX6_readNext_88 : decode cX6_readNext 88 = .ok (.iaload, 1) := dk_46 (dk_at dksX6_readNext_3 20 rfl rfl)
theorem dX6_readNext_89 : decode cX6_readNext 89 = .ok (.iadd, 1) := dk_96 (dk_at dksX6_readNext_3 21 rfl rfl)
theorem dX6_readNext_90 : decode cX6_readNext 90 = .ok (.iload_n 2, 1) := dk_28 (dk_at dksX6_readNext_3 22 rfl rfl)
theorem dX6_readNext_91 : decode cX6_readNext 91 = .ok (.iastore, 1) := dk_79 (dk_at dksX6_readNext_3 23 rfl rfl)
theorem dX6_readNext_92 : decode cX6_readNext 92 = .ok (.aload_n 0, 1) := dk_42 (dk_at dksX6_readNext_4 0 rfl rfl)
theorem dX6_readNext_93 : decode cX6_readNext 93 = .ok (.getfield 31, 3) := dk_180 0 31 (dk_at dksX6_readNext_4 1 rfl rfl)
theorem dX6_readNext_96 : decode cX6_readNext 96 = .ok (.iconst 5, 1) := dk_8 (dk_at dksX6_readNext_4 4 rfl rfl)
theorem dX6_readNext_97 : decode cX6_readNext 97 = .ok (.dup2, 1) := dk_92 (dk_at dksX6_readNext_4 5 rfl rfl)
theorem dX6_readNext_98 : decode cX6_readNext 98 = .ok (.iaload, 1) := dk_46 (dk_at dksX6_readNext_4 6 rfl rfl)
theorem dX6_readNext_99 : decode cX6_readNext 99 = .ok (.iconst 1, 1) := dk_4 (dk_at dksX6_readNext_4 7 rfl rfl)
theorem dX6_readNext_100 : decode cX6_readNext 100 = .ok (.iadd, 1) := dk_96 (dk_at dksX6_readNext_4 8 rfl rfl)
theorem dX6_readNext_101 : decode cX6_readNext 101 = .ok (.iastore, 1) := dk_79 (dk_at dksX6_readNext_4 9 rfl rfl)
theorem dX6_readNext_102 : decode cX6_readNext 102 = .ok (.goto 56, 3) := dk_167 0 56 (dk_at dksX6_readNext_4 10 rfl rfl)
theorem dX6_readNext_105 : decode cX6_readNext 105 = .ok (.aload_n 0, 1) := dk_42 (dk_at dksX6_readNext_4 13 rfl rfl)
theorem dX6_readNext_106 : decode cX6_readNext 106 = .ok (.ldc 242, 2) := dk_18 242 (dk_at dksX6_readNext_4 14 rfl rfl)
theorem dX6_readNext_108 : decode cX6_readNext 108 = .ok (.invokevirtual 182, 3) := dk_182 0 182 (dk_at dksX6_readNext_4 16 rfl rfl)
theorem dX6_readNext_111 : decode cX6_readNext 111 = .ok (.ifCond .eq 39, 3) := dk_153 0 39 (dk_at dksX6_readNext_4 19 rfl rfl)
theorem dX6_readNext_114 : decode cX6_readNext 114 = .ok (.aload_n 0, 1) := dk_42 (dk_at dksX6_readNext_4 22 rfl rfl)
theorem dX6_readNext_115 : decode cX6_readNext 115 = .ok (.iconst 1, 1) := dk_4 (dk_at dksX6_readNext_4 23 rfl rfl)
theorem dX6_readNext_116 : decode cX6_readNext 116 = .ok (.invokevirtual 226, 3) := dk_182 0 226 (dk_at dksX6_readNext_5 0 rfl rfl)
theorem dX6_readNext_119 : decode cX6_readNext 119 = .ok (.istore_n 2, 1) := dk_61 (dk_at dksX6_readNext_5 3 rfl rfl)
theorem dX6_readNext_120 : decode cX6_readNext 120 = .ok (.aload_n 0, 1) := dk_42 (dk_at dksX6_readNext_5 4 rfl rfl)
theorem dX6_readNext_121 : decode cX6_readNext 121 = .ok (.getfield 31, 3) := dk_180 0 31 (dk_at dksX6_readNext_5 5 rfl rfl)
theorem dX6_readNext_124 : decode cX6_readNext 124 = .ok (.bipush 22, 2) := dk_16 22 (dk_at dksX6_readNext_5 8 rfl rfl)
theorem dX6_readNext_126 : decode cX6_readNext 126 = .ok (.aload_n 0, 1) := dk_42 (dk_at dksX6_readNext_5 10 rfl rfl)
theorem dX6_readNext_127 : decode cX6_readNext 127 = .ok (.getfield 31, 3) := dk_180 0 31 (dk_at dksX6_readNext_5 11 rfl rfl)
theorem dX6_readNext_130 : decode cX6_readNext 130 = .ok (.bipush 6, 2) := dk_16 6 (dk_at dksX6_readNext_5 14 rfl rfl)
theorem dX6_readNext_132 : decode cX6_readNext 132 = .ok (.iaload, 1) := dk_46 (dk_at dksX6_readNext_5 16 rfl rfl)
theorem dX6_readNext_133 : decode cX6_readNext 133 = .ok (.iadd, 1) := dk_96 (dk_at dksX6_readNext_5 17 rfl rfl)
theorem dX6_readNext_134 : decode cX6_readNext 134 = .ok (.iload_n 2, 1) := dk_28 (dk_at dksX6_readNext_5 18 rfl rfl)
theorem dX6_readNext_135 : decode cX6_readNext 135 = .ok (.iastore, 1) := dk_79 (dk_at dksX6_readNext_5 19 rfl rfl)
theorem dX6_readNext_136 : decode cX6_readNext 136 = .ok (.aload_n 0, 1) := dk_42 (dk_at dksX6_readNext_5 20 rfl rfl)
theorem dX6_readNext_137 : decode cX6_readNext 137 = .ok (.getfield 31, 3) := dk_180 0 31 (dk_at dksX6_readNext_5 21 rfl rfl)
theorem dX6_readNext_140 : decode cX6_readNext 140 = .ok (.bipush 6, 2) := dk_16 6 (dk_at dksX6_readNext_6 0 rfl rfl)
theorem dX6_readNext_142 : decode cX6_readNext 142 = .ok (.dup2, 1) := dk_92 (dk_at dksX6_readNext_6 2 rfl rfl)
theorem dX6_readNext_143 : decode cX6_readNext 143 = .ok (.iaload, 1) := dk_46 (dk_at dksX6_readNext_6 3 rfl rfl)
theorem dX6_readNext_144 : decode cX6_readNext 144 = .ok (.iconst 1, 1) := dk_4 (dk_at dksX6_readNext_6 4 rfl rfl)
theorem dX6_readNext_145 : decode cX6_readNext 145 = .ok (.iadd, 1) := dk_96 (dk_at dksX6_readNext_6 5 rfl rfl)
theorem dX6_readNext_146 : decode cX6_readNext 146 = .ok (.iastore, 1) := dk_79 (dk_at dksX6_readNext_6 6 rfl rfl)
theorem dX6_readNext_147 : decode cX6_readNext 147 = .ok (.goto 11, 3) := dk_167 0 11 (dk_at dksX6_readNext_6 7 rfl rfl)
theorem dX6_readNext_150 : decode cX6_readNext 150 = .ok (.aload_n 0, 1) := dk_42 (dk_at dksX6_readNext_6 10 rfl rfl)
theorem dX6_readNext_151 : decode cX6_readNext 151 = .ok (.invokevirtual 179, 3) := dk_182 0 179 (dk_at dksX6_readNext_6 11 rfl rfl)
theorem dX6_readNext_154 : decode cX6_readNext 154 = .ok (.aload_n 0, 1) := dk_42 (dk_at dksX6_readNext_6 14 rfl rfl)
theorem dX6_readNext_155 : decode cX6_readNext 155 = .ok (.invokevirtual 249, 3) := dk_182 0 249 (dk_at dksX6_readNext_6 15 rfl rfl)
theorem dX6_readNext_158 : decode cX6_readNext 158 = .ok (.return_, 1) := dk_177 (dk_at dksX6_readNext_6 18 rfl rfl)
abbrev cX6_isFull : ByteArray := prog_12_method_35_code
def yX6_isFull : MethodName := ⟨RX6, "isFull", "()Z"⟩
def dkwX6_isFull_2 : List UInt8 := [182, 0, 175, 153, 0, 19, 42, 180, 0, 31, 16, 7, 46, 16, 7, 160, 0, 7, 4, 167, 0, 4, 3, 172]
abbrev dktX6_isFull_2 : List UInt8 := dkwX6_isFull_2 ++ []
def dkwX6_isFull_1 : List UInt8 := [182, 0, 175, 153, 0, 17, 42, 180, 0, 31, 16, 6, 46, 16, 6, 160, 0, 5, 4, 172, 42, 18, 244]
abbrev dktX6_isFull_1 : List UInt8 := dkwX6_isFull_1 ++ dktX6_isFull_2
def dkwX6_isFull_0 : List UInt8 := [42, 18, 240, 182, 0, 175, 153, 0, 14, 42, 180, 0, 31, 8, 46, 16, 12, 159, 0, 24, 42, 18, 242]
abbrev dktX6_isFull_0 : List UInt8 := dkwX6_isFull_0 ++ dktX6_isFull_1
theorem dksX6_isFull_0 : cX6_isFull.data.toList.drop 0 = dktX6_isFull_0 := by decide +kernel
theorem dksX6_isFull_1 : cX6_isFull.data.toList.drop 23 = dktX6_isFull_1 := dk_seg dksX6_isFull_0 23 rfl rfl
theorem dksX6_isFull_2 : cX6_isFull.data.toList.drop 46 = dktX6_isFull_2 := dk_seg dksX6_isFull_1 23 rfl rfl
theorem dX6_isFull_0 : decode cX6_isFull 0 = .ok (.aload_n 0, 1) := dk_42 (dk_at dksX6_isFull_0 0 rfl rfl)
theorem dX6_isFull_1 : decode cX6_isFull 1 = .ok (.ldc 240, 2) := dk_18 240 (dk_at dksX6_isFull_0 1 rfl rfl)
theorem dX6_isFull_3 : decode cX6_isFull 3 = .ok (.invokevirtual 175, 3) := dk_182 0 175 (dk_at dksX6_isFull_0 3 rfl rfl)
theorem dX6_isFull_6 : decode cX6_isFull 6 = .ok (.ifCond .eq 14, 3) := dk_153 0 14 (dk_at dksX6_isFull_0 6 rfl rfl)
theorem dX6_isFull_9 : decode cX6_isFull 9 = .ok (.aload_n 0, 1) := dk_42 (dk_at dksX6_isFull_0 9 rfl rfl)
theorem dX6_isFull_10 : decode cX6_isFull 10 = .ok (.getfield 31, 3) := dk_180 0 31 (dk_at dksX6_isFull_0 10 rfl rfl)
theorem dX6_isFull_13 : decode cX6_isFull 13 = .ok (.iconst 5, 1) := dk_8 (dk_at dksX6_isFull_0 13 rfl rfl)
theorem dX6_isFull_14 : decode cX6_isFull 14 = .ok (.iaload, 1) := dk_46 (dk_at dksX6_isFull_0 14 rfl rfl)
theorem dX6_isFull_15 : decode cX6_isFull 15 = .ok (.bipush 12, 2) := dk_16 12 (dk_at dksX6_isFull_0 15 rfl rfl)
theorem dX6_isFull_17 : decode cX6_isFull 17 = .ok (.if_icmp .eq 24, 3) := dk_159 0 24 (dk_at dksX6_isFull_0 17 rfl rfl)
theorem dX6_isFull_20 : decode cX6_isFull 20 = .ok (.aload_n 0, 1) := dk_42 (dk_at dksX6_isFull_0 20 rfl rfl)
theorem dX6_isFull_21 : decode cX6_isFull 21 = .ok (.ldc 242, 2) := dk_18 242 (dk_at dksX6_isFull_0 21 rfl rfl)
theorem dX6_isFull_23 : decode cX6_isFull 23 = .ok (.invokevirtual 175, 3) := dk_182 0 175 (dk_at dksX6_isFull_1 0 rfl rfl)
theorem dX6_isFull_26 : decode cX6_isFull 26 = .ok (.ifCond .eq 17, 3) := dk_153 0 17 (dk_at dksX6_isFull_1 3 rfl rfl)
theorem dX6_isFull_29 : decode cX6_isFull 29 = .ok (.aload_n 0, 1) := dk_42 (dk_at dksX6_isFull_1 6 rfl rfl)
theorem dX6_isFull_30 : decode cX6_isFull 30 = .ok (.getfield 31, 3) := dk_180 0 31 (dk_at dksX6_isFull_1 7 rfl rfl)
theorem dX6_isFull_33 : decode cX6_isFull 33 = .ok (.bipush 6, 2) := dk_16 6 (dk_at dksX6_isFull_1 10 rfl rfl)
theorem dX6_isFull_35 : decode cX6_isFull 35 = .ok (.iaload, 1) := dk_46 (dk_at dksX6_isFull_1 12 rfl rfl)
theorem dX6_isFull_36 : decode cX6_isFull 36 = .ok (.bipush 6, 2) := dk_16 6 (dk_at dksX6_isFull_1 13 rfl rfl)
theorem dX6_isFull_38 : decode cX6_isFull 38 = .ok (.if_icmp .ne 5, 3) := dk_160 0 5 (dk_at dksX6_isFull_1 15 rfl rfl)
theorem dX6_isFull_41 : decode cX6_isFull 41 = .ok (.iconst 1, 1) := dk_4 (dk_at dksX6_isFull_1 18 rfl rfl)
theorem dX6_isFull_42 : decode cX6_isFull 42 = .ok (.ireturn, 1) := dk_172 (dk_at dksX6_isFull_1 19 rfl rfl)
theorem dX6_isFull_43 : decode cX6_isFull 43 = .ok (.aload_n 0, 1) := dk_42 (dk_at dksX6_isFull_1 20 rfl rfl)
theorem dX6_isFull_44 : decode cX6_isFull 44 = .ok (.ldc 244, 2) := dk_18 244 (dk_at dksX6_isFull_1 21 rfl rfl)
theorem dX6_isFull_46 : decode cX6_isFull 46 = .ok (.invokevirtual 175, 3) := dk_182 0 175 (dk_at dksX6_isFull_2 0 rfl rfl)
theorem dX6_isFull_49 : decode cX6_isFull 49 = .ok (.ifCond .eq 19, 3) := dk_153 0 19 (dk_at dksX6_isFull_2 3 rfl rfl)
theorem dX6_isFull_52 : decode cX6_isFull 52 = .ok (.aload_n 0, 1) := dk_42 (dk_at dksX6_isFull_2 6 rfl rfl)
theorem dX6_isFull_53 : decode cX6_isFull 53 = .ok (.getfield 31, 3) := dk_180 0 31 (dk_at dksX6_isFull_2 7 rfl rfl)
theorem dX6_isFull_56 : decode cX6_isFull 56 = .ok (.bipush 7, 2) := dk_16 7 (dk_at dksX6_isFull_2 10 rfl rfl)
theorem dX6_isFull_58 : decode cX6_isFull 58 = .ok (.iaload, 1) := dk_46 (dk_at dksX6_isFull_2 12 rfl rfl)
theorem dX6_isFull_59 : decode cX6_isFull 59 = .ok (.bipush 7, 2) := dk_16 7 (dk_at dksX6_isFull_2 13 rfl rfl)
theorem dX6_isFull_61 : decode cX6_isFull 61 = .ok (.if_icmp .ne 7, 3) := dk_160 0 7 (dk_at dksX6_isFull_2 15 rfl rfl)
theorem dX6_isFull_64 : decode cX6_isFull 64 = .ok (.iconst 1, 1) := dk_4 (dk_at dksX6_isFull_2 18 rfl rfl)
theorem dX6_isFull_65 : decode cX6_isFull 65 = .ok (.goto 4, 3) := dk_167 0 4 (dk_at dksX6_isFull_2 19 rfl rfl)
theorem dX6_isFull_68 : decode cX6_isFull 68 = .ok (.iconst 0, 1) := dk_3 (dk_at dksX6_isFull_2 22 rfl rfl)
theorem dX6_isFull_69 : decode cX6_isFull 69 = .ok (.ireturn, 1) := dk_172 (dk_at dksX6_isFull_2 23 rfl rfl)
abbrev cX6_readCell : ByteArray := prog_12_method_31_code
def yX6_readCell : MethodName := ⟨RX6, "readCell", "(Z)I"⟩
def dkwX6_readCell_5 : List UInt8 := [100, 182, 0, 193, 96, 172]
abbrev dktX6_readCell_5 : List UInt8 := dkwX6_readCell_5 ++ []
def dkwX6_readCell_4 : List UInt8 := [182, 0, 211, 153, 0, 8, 42, 5, 182, 0, 185, 16, 10, 28, 104, 42, 3, 42, 180, 0, 31, 7, 46, 4]
abbrev dktX6_readCell_4 : List UInt8 := dkwX6_readCell_4 ++ dktX6_readCell_5
def dkwX6_readCell_3 : List UInt8 := [8, 46, 182, 0, 211, 154, 0, 24, 27, 153, 0, 25, 42, 29, 16, 22, 42, 180, 0, 31, 16, 6, 46]
abbrev dktX6_readCell_3 : List UInt8 := dkwX6_readCell_3 ++ dktX6_readCell_4
def dkwX6_readCell_2 : List UInt8 := [184, 0, 106, 153, 0, 55, 16, 10, 28, 104, 42, 180, 0, 150, 96, 62, 42, 29, 16, 10, 42, 180, 0, 31]
abbrev dktX6_readCell_2 : List UInt8 := dkwX6_readCell_2 ++ dktX6_readCell_3
def dkwX6_readCell_1 : List UInt8 := [180, 0, 139, 5, 160, 0, 76, 42, 180, 0, 150, 133, 9, 42, 180, 0, 31, 7, 46, 4, 100, 133]
abbrev dktX6_readCell_1 : List UInt8 := dkwX6_readCell_1 ++ dktX6_readCell_2
def dkwX6_readCell_0 : List UInt8 := [42, 3, 42, 180, 0, 31, 6, 46, 4, 100, 182, 0, 193, 61, 42, 182, 0, 163, 153, 0, 84, 42]
abbrev dktX6_readCell_0 : List UInt8 := dkwX6_readCell_0 ++ dktX6_readCell_1
theorem dksX6_readCell_0 : cX6_readCell.data.toList.drop 0 = dktX6_readCell_0 := by decide +kernel
theorem dksX6_readCell_1 : cX6_readCell.data.toList.drop 22 = dktX6_readCell_1 := dk_seg dksX6_readCell_0 22 rfl rfl
theorem dksX6_readCell_2 : cX6_readCell.data.toList.drop 44 = dktX6_readCell_2 := dk_seg dksX6_readCell_1 22 rfl rfl
theorem dksX6_readCell_3 : cX6_readCell.data.toList.drop 68 = dktX6_readCell_3 := dk_seg dksX6_readCell_2 24 rfl rfl
theorem dksX6_readCell_4 : cX6_readCell.data.toList.drop 91 = dktX6_readCell_4 := dk_seg dksX6_readCell_3 23 rfl rfl
theorem dksX6_readCell_5 : cX6_readCell.data.toList.drop 115 = dktX6_readCell_5 := dk_seg dksX6_readCell_4 24 rfl rfl
theorem dX6_readCell_0 : decode cX6_readCell 0 = .ok (.aload_n 0, 1) := dk_42 (dk_at dksX6_readCell_0 0 rfl rfl)
theorem dX6_readCell_1 : decode cX6_readCell 1 = .ok (.iconst 0, 1) := dk_3 (dk_at dksX6_readCell_0 1 rfl rfl)
theorem dX6_readCell_2 : decode cX6_readCell 2 = .ok (.aload_n 0, 1) := dk_42 (dk_at dksX6_readCell_0 2 rfl rfl)
theorem dX6_readCell_3 : decode cX6_readCell 3 = .ok (.getfield 31, 3) := dk_180 0 31 (dk_at dksX6_readCell_0 3 rfl rfl)
theorem dX6_readCell_6 : decode cX6_readCell 6 = .ok (.iconst 3, 1) := dk_6 (dk_at dksX6_readCell_0 6 rfl rfl)
theorem dX6_readCell_7 : decode cX6_readCell 7 = .ok (.iaload, 1) := dk_46 (dk_at dksX6_readCell_0 7 rfl rfl)
theorem dX6_readCell_8 : decode cX6_readCell 8 = .ok (.iconst 1, 1) := dk_4 (dk_at dksX6_readCell_0 8 rfl rfl)
theorem dX6_readCell_9 : decode cX6_readCell 9 = .ok (.isub, 1) := dk_100 (dk_at dksX6_readCell_0 9 rfl rfl)
theorem dX6_readCell_10 : decode cX6_readCell 10 = .ok (.invokevirtual 193, 3) := dk_182 0 193 (dk_at dksX6_readCell_0 10 rfl rfl)
theorem dX6_readCell_13 : decode cX6_readCell 13 = .ok (.istore_n 2, 1) := dk_61 (dk_at dksX6_readCell_0 13 rfl rfl)
theorem dX6_readCell_14 : decode cX6_readCell 14 = .ok (.aload_n 0, 1) := dk_42 (dk_at dksX6_readCell_0 14 rfl rfl)
theorem dX6_readCell_15 : decode cX6_readCell 15 = .ok (.invokevirtual 163, 3) := dk_182 0 163 (dk_at dksX6_readCell_0 15 rfl rfl)
theorem dX6_readCell_18 : decode cX6_readCell 18 = .ok (.ifCond .eq 84, 3) := dk_153 0 84 (dk_at dksX6_readCell_0 18 rfl rfl)
theorem dX6_readCell_21 : decode cX6_readCell 21 = .ok (.aload_n 0, 1) := dk_42 (dk_at dksX6_readCell_0 21 rfl rfl)
theorem dX6_readCell_22 : decode cX6_readCell 22 = .ok (.getfield 139, 3) := dk_180 0 139 (dk_at dksX6_readCell_1 0 rfl rfl)
theorem dX6_readCell_25 : decode cX6_readCell 25 = .ok (.iconst 2, 1) := dk_5 (dk_at dksX6_readCell_1 3 rfl rfl)
theorem dX6_readCell_26 : decode cX6_readCell 26 = .ok (.if_icmp .ne 76, 3) := dk_160 0 76 (dk_at dksX6_readCell_1 4 rfl rfl)
theorem dX6_readCell_29 : decode cX6_readCell 29 = .ok (.aload_n 0, 1) := dk_42 (dk_at dksX6_readCell_1 7 rfl rfl)
theorem dX6_readCell_30 : decode cX6_readCell 30 = .ok (.getfield 150, 3) := dk_180 0 150 (dk_at dksX6_readCell_1 8 rfl rfl)
theorem dX6_readCell_33 : decode cX6_readCell 33 = .ok (.i2l, 1) := dk_133 (dk_at dksX6_readCell_1 11 rfl rfl)
theorem dX6_readCell_34 : decode cX6_readCell 34 = .ok (.lconst 0, 1) := dk_9 (dk_at dksX6_readCell_1 12 rfl rfl)
theorem dX6_readCell_35 : decode cX6_readCell 35 = .ok (.aload_n 0, 1) := dk_42 (dk_at dksX6_readCell_1 13 rfl rfl)
theorem dX6_readCell_36 : decode cX6_readCell 36 = .ok (.getfield 31, 3) := dk_180 0 31 (dk_at dksX6_readCell_1 14 rfl rfl)
theorem dX6_readCell_39 : decode cX6_readCell 39 = .ok (.iconst 4, 1) := dk_7 (dk_at dksX6_readCell_1 17 rfl rfl)
theorem dX6_readCell_40 : decode cX6_readCell 40 = .ok (.iaload, 1) := dk_46 (dk_at dksX6_readCell_1 18 rfl rfl)
theorem dX6_readCell_41 : decode cX6_readCell 41 = .ok (.iconst 1, 1) := dk_4 (dk_at dksX6_readCell_1 19 rfl rfl)
theorem dX6_readCell_42 : decode cX6_readCell 42 = .ok (.isub, 1) := dk_100 (dk_at dksX6_readCell_1 20 rfl rfl)
theorem dX6_readCell_43 : decode cX6_readCell 43 = .ok (.i2l, 1) := dk_133 (dk_at dksX6_readCell_1 21 rfl rfl)
theorem dX6_readCell_44 : decode cX6_readCell 44 = .ok (.invokestatic 106, 3) := dk_184 0 106 (dk_at dksX6_readCell_2 0 rfl rfl)
theorem dX6_readCell_47 : decode cX6_readCell 47 = .ok (.ifCond .eq 55, 3) := dk_153 0 55 (dk_at dksX6_readCell_2 3 rfl rfl)
theorem dX6_readCell_50 : decode cX6_readCell 50 = .ok (.bipush 10, 2) := dk_16 10 (dk_at dksX6_readCell_2 6 rfl rfl)
theorem dX6_readCell_52 : decode cX6_readCell 52 = .ok (.iload_n 2, 1) := dk_28 (dk_at dksX6_readCell_2 8 rfl rfl)
theorem dX6_readCell_53 : decode cX6_readCell 53 = .ok (.imul, 1) := dk_104 (dk_at dksX6_readCell_2 9 rfl rfl)
theorem dX6_readCell_54 : decode cX6_readCell 54 = .ok (.aload_n 0, 1) := dk_42 (dk_at dksX6_readCell_2 10 rfl rfl)
theorem dX6_readCell_55 : decode cX6_readCell 55 = .ok (.getfield 150, 3) := dk_180 0 150 (dk_at dksX6_readCell_2 11 rfl rfl)
theorem dX6_readCell_58 : decode cX6_readCell 58 = .ok (.iadd, 1) := dk_96 (dk_at dksX6_readCell_2 14 rfl rfl)
theorem dX6_readCell_59 : decode cX6_readCell 59 = .ok (.istore_n 3, 1) := dk_62 (dk_at dksX6_readCell_2 15 rfl rfl)
theorem dX6_readCell_60 : decode cX6_readCell 60 = .ok (.aload_n 0, 1) := dk_42 (dk_at dksX6_readCell_2 16 rfl rfl)
theorem dX6_readCell_61 : decode cX6_readCell 61 = .ok (.iload_n 3, 1) := dk_29 (dk_at dksX6_readCell_2 17 rfl rfl)
theorem dX6_readCell_62 : decode cX6_readCell 62 = .ok (.bipush 10, 2) := dk_16 10 (dk_at dksX6_readCell_2 18 rfl rfl)
theorem dX6_readCell_64 : decode cX6_readCell 64 = .ok (.aload_n 0, 1) := dk_42 (dk_at dksX6_readCell_2 20 rfl rfl)
theorem dX6_readCell_65 : decode cX6_readCell 65 = .ok (.getfield 31, 3) := dk_180 0 31 (dk_at dksX6_readCell_2 21 rfl rfl)
theorem dX6_readCell_68 : decode cX6_readCell 68 = .ok (.iconst 5, 1) := dk_8 (dk_at dksX6_readCell_3 0 rfl rfl)
theorem dX6_readCell_69 : decode cX6_readCell 69 = .ok (.iaload, 1) := dk_46 (dk_at dksX6_readCell_3 1 rfl rfl)
theorem dX6_readCell_70 : decode cX6_readCell 70 = .ok (.invokevirtual 211, 3) := dk_182 0 211 (dk_at dksX6_readCell_3 2 rfl rfl)
theorem dX6_readCell_73 : decode cX6_readCell 73 = .ok (.ifCond .ne 24, 3) := dk_154 0 24 (dk_at dksX6_readCell_3 5 rfl rfl)
theorem dX6_readCell_76 : decode cX6_readCell 76 = .ok (.iload_n 1, 1) := dk_27 (dk_at dksX6_readCell_3 8 rfl rfl)
theorem dX6_readCell_77 : decode cX6_readCell 77 = .ok (.ifCond .eq 25, 3) := dk_153 0 25 (dk_at dksX6_readCell_3 9 rfl rfl)
theorem dX6_readCell_80 : decode cX6_readCell 80 = .ok (.aload_n 0, 1) := dk_42 (dk_at dksX6_readCell_3 12 rfl rfl)
theorem dX6_readCell_81 : decode cX6_readCell 81 = .ok (.iload_n 3, 1) := dk_29 (dk_at dksX6_readCell_3 13 rfl rfl)
theorem dX6_readCell_82 : decode cX6_readCell 82 = .ok (.bipush 22, 2) := dk_16 22 (dk_at dksX6_readCell_3 14 rfl rfl)
theorem dX6_readCell_84 : decode cX6_readCell 84 = .ok (.aload_n 0, 1) := dk_42 (dk_at dksX6_readCell_3 16 rfl rfl)
theorem dX6_readCell_85 : decode cX6_readCell 85 = .ok (.getfield 31, 3) := dk_180 0 31 (dk_at dksX6_readCell_3 17 rfl rfl)
theorem dX6_readCell_88 : decode cX6_readCell 88 = .ok (.bipush 6, 2) := dk_16 6 (dk_at dksX6_readCell_3 20 rfl rfl)
theorem dX6_readCell_90 : decode cX6_readCell 90 = .ok (.iaload, 1) := dk_46 (dk_at dksX6_readCell_3 22 rfl rfl)
theorem dX6_readCell_91 : decode cX6_readCell 91 = .ok (.invokevirtual 211, 3) := dk_182 0 211 (dk_at dksX6_readCell_4 0 rfl rfl)
theorem dX6_readCell_94 : decode cX6_readCell 94 = .ok (.ifCond .eq 8, 3) := dk_153 0 8 (dk_at dksX6_readCell_4 3 rfl rfl)
theorem dX6_readCell_97 : decode cX6_readCell 97 = .ok (.aload_n 0, 1) := dk_42 (dk_at dksX6_readCell_4 6 rfl rfl)
theorem dX6_readCell_98 : decode cX6_readCell 98 = .ok (.iconst 2, 1) := dk_5 (dk_at dksX6_readCell_4 7 rfl rfl)
theorem dX6_readCell_99 : decode cX6_readCell 99 = .ok (.invokevirtual 185, 3) := dk_182 0 185 (dk_at dksX6_readCell_4 8 rfl rfl)
theorem dX6_readCell_102 : decode cX6_readCell 102 = .ok (.bipush 10, 2) := dk_16 10 (dk_at dksX6_readCell_4 11 rfl rfl)
theorem dX6_readCell_104 : decode cX6_readCell 104 = .ok (.iload_n 2, 1) := dk_28 (dk_at dksX6_readCell_4 13 rfl rfl)
theorem dX6_readCell_105 : decode cX6_readCell 105 = .ok (.imul, 1) := dk_104 (dk_at dksX6_readCell_4 14 rfl rfl)
theorem dX6_readCell_106 : decode cX6_readCell 106 = .ok (.aload_n 0, 1) := dk_42 (dk_at dksX6_readCell_4 15 rfl rfl)
theorem dX6_readCell_107 : decode cX6_readCell 107 = .ok (.iconst 0, 1) := dk_3 (dk_at dksX6_readCell_4 16 rfl rfl)
theorem dX6_readCell_108 : decode cX6_readCell 108 = .ok (.aload_n 0, 1) := dk_42 (dk_at dksX6_readCell_4 17 rfl rfl)
theorem dX6_readCell_109 : decode cX6_readCell 109 = .ok (.getfield 31, 3) := dk_180 0 31 (dk_at dksX6_readCell_4 18 rfl rfl)
theorem dX6_readCell_112 : decode cX6_readCell 112 = .ok (.iconst 4, 1) := dk_7 (dk_at dksX6_readCell_4 21 rfl rfl)
theorem dX6_readCell_113 : decode cX6_readCell 113 = .ok (.iaload, 1) := dk_46 (dk_at dksX6_readCell_4 22 rfl rfl)
theorem dX6_readCell_114 : decode cX6_readCell 114 = .ok (.iconst 1, 1) := dk_4 (dk_at dksX6_readCell_4 23 rfl rfl)
theorem dX6_readCell_115 : decode cX6_readCell 115 = .ok (.isub, 1) := dk_100 (dk_at dksX6_readCell_5 0 rfl rfl)
theorem dX6_readCell_116 : decode cX6_readCell 116 = .ok (.invokevirtual 193, 3) := dk_182 0 193 (dk_at dksX6_readCell_5 1 rfl rfl)
theorem dX6_readCell_119 : decode cX6_readCell 119 = .ok (.iadd, 1) := dk_96 (dk_at dksX6_readCell_5 4 rfl rfl)
theorem dX6_readCell_120 : decode cX6_readCell 120 = .ok (.ireturn, 1) := dk_172 (dk_at dksX6_readCell_5 5 rfl rfl)
abbrev cX6_isTaken : ByteArray := prog_12_method_30_code
def yX6_isTaken : MethodName := ⟨RX6, "isTaken", "(III)Z"⟩
def dkwX6_isTaken_1 : List UInt8 := [96, 46, 27, 160, 0, 7, 4, 167, 0, 4, 3, 54, 4, 132, 5, 1, 167, 255, 222, 21, 4, 172]
abbrev dktX6_isTaken_1 : List UInt8 := dkwX6_isTaken_1 ++ []
def dkwX6_isTaken_0 : List UInt8 := [3, 54, 4, 3, 54, 5, 21, 5, 29, 162, 0, 34, 21, 4, 154, 0, 16, 42, 180, 0, 31, 28, 21, 5]
abbrev dktX6_isTaken_0 : List UInt8 := dkwX6_isTaken_0 ++ dktX6_isTaken_1
theorem dksX6_isTaken_0 : cX6_isTaken.data.toList.drop 0 = dktX6_isTaken_0 := by decide +kernel
theorem dksX6_isTaken_1 : cX6_isTaken.data.toList.drop 24 = dktX6_isTaken_1 := dk_seg dksX6_isTaken_0 24 rfl rfl
theorem dX6_isTaken_0 : decode cX6_isTaken 0 = .ok (.iconst 0, 1) := dk_3 (dk_at dksX6_isTaken_0 0 rfl rfl)
theorem dX6_isTaken_1 : decode cX6_isTaken 1 = .ok (.istore 4, 2) := dk_54 4 (dk_at dksX6_isTaken_0 1 rfl rfl)
theorem dX6_isTaken_3 : decode cX6_isTaken 3 = .ok (.iconst 0, 1) := dk_3 (dk_at dksX6_isTaken_0 3 rfl rfl)
theorem dX6_isTaken_4 : decode cX6_isTaken 4 = .ok (.istore 5, 2) := dk_54 5 (dk_at dksX6_isTaken_0 4 rfl rfl)
theorem dX6_isTaken_6 : decode cX6_isTaken 6 = .ok (.iload 5, 2) := dk_21 5 (dk_at dksX6_isTaken_0 6 rfl rfl)
theorem dX6_isTaken_8 : decode cX6_isTaken 8 = .ok (.iload_n 3, 1) := dk_29 (dk_at dksX6_isTaken_0 8 rfl rfl)
theorem dX6_isTaken_9 : decode cX6_isTaken 9 = .ok (.if_icmp .ge 34, 3) := dk_162 0 34 (dk_at dksX6_isTaken_0 9 rfl rfl)
theorem dX6_isTaken_12 : decode cX6_isTaken 12 = .ok (.iload 4, 2) := dk_21 4 (dk_at dksX6_isTaken_0 12 rfl rfl)
theorem dX6_isTaken_14 : decode cX6_isTaken 14 = .ok (.ifCond .ne 16, 3) := dk_154 0 16 (dk_at dksX6_isTaken_0 14 rfl rfl)
theorem dX6_isTaken_17 : decode cX6_isTaken 17 = .ok (.aload_n 0, 1) := dk_42 (dk_at dksX6_isTaken_0 17 rfl rfl)
theorem dX6_isTaken_18 : decode cX6_isTaken 18 = .ok (.getfield 31, 3) := dk_180 0 31 (dk_at dksX6_isTaken_0 18 rfl rfl)
theorem dX6_isTaken_21 : decode cX6_isTaken 21 = .ok (.iload_n 2, 1) := dk_28 (dk_at dksX6_isTaken_0 21 rfl rfl)
theorem dX6_isTaken_22 : decode cX6_isTaken 22 = .ok (.iload 5, 2) := dk_21 5 (dk_at dksX6_isTaken_0 22 rfl rfl)
theorem dX6_isTaken_24 : decode cX6_isTaken 24 = .ok (.iadd, 1) := dk_96 (dk_at dksX6_isTaken_1 0 rfl rfl)
theorem dX6_isTaken_25 : decode cX6_isTaken 25 = .ok (.iaload, 1) := dk_46 (dk_at dksX6_isTaken_1 1 rfl rfl)
theorem dX6_isTaken_26 : decode cX6_isTaken 26 = .ok (.iload_n 1, 1) := dk_27 (dk_at dksX6_isTaken_1 2 rfl rfl)
theorem dX6_isTaken_27 : decode cX6_isTaken 27 = .ok (.if_icmp .ne 7, 3) := dk_160 0 7 (dk_at dksX6_isTaken_1 3 rfl rfl)
theorem dX6_isTaken_30 : decode cX6_isTaken 30 = .ok (.iconst 1, 1) := dk_4 (dk_at dksX6_isTaken_1 6 rfl rfl)
theorem dX6_isTaken_31 : decode cX6_isTaken 31 = .ok (.goto 4, 3) := dk_167 0 4 (dk_at dksX6_isTaken_1 7 rfl rfl)
theorem dX6_isTaken_34 : decode cX6_isTaken 34 = .ok (.iconst 0, 1) := dk_3 (dk_at dksX6_isTaken_1 10 rfl rfl)
theorem dX6_isTaken_35 : decode cX6_isTaken 35 = .ok (.istore 4, 2) := dk_54 4 (dk_at dksX6_isTaken_1 11 rfl rfl)
theorem dX6_isTaken_37 : decode cX6_isTaken 37 = .ok (.iinc 5 1, 3) := dk_132 5 1 (dk_at dksX6_isTaken_1 13 rfl rfl)
theorem dX6_isTaken_40 : decode cX6_isTaken 40 = .ok (.goto (-34), 3) := dk_167 255 222 (dk_at dksX6_isTaken_1 16 rfl rfl)
theorem dX6_isTaken_43 : decode cX6_isTaken 43 = .ok (.iload 4, 2) := dk_21 4 (dk_at dksX6_isTaken_1 19 rfl rfl)
theorem dX6_isTaken_45 : decode cX6_isTaken 45 = .ok (.ireturn, 1) := dk_172 (dk_at dksX6_isTaken_1 21 rfl rfl)
abbrev cX6_readWidow : ByteArray := prog_12_method_34_code
def yX6_readWidow : MethodName := ⟨RX6, "readWidow", "()V"⟩
def dkwX6_readWidow_5 : List UInt8 := [96, 79, 177]
abbrev dktX6_readWidow_5 : List UInt8 := dkwX6_readWidow_5 ++ []
def dkwX6_readWidow_4 : List UInt8 := [180, 0, 139, 6, 159, 0, 11, 42, 27, 182, 0, 237, 167, 255, 236, 42, 180, 0, 31, 16, 7, 92, 46, 4]
abbrev dktX6_readWidow_4 : List UInt8 := dkwX6_readWidow_4 ++ dktX6_readWidow_5
def dkwX6_readWidow_3 : List UInt8 := [182, 0, 199, 79, 42, 18, 235, 182, 0, 189, 42, 27, 182, 0, 237, 42, 182, 0, 163, 153, 0, 19, 42]
abbrev dktX6_readWidow_3 : List UInt8 := dkwX6_readWidow_3 ++ dktX6_readWidow_4
def dkwX6_readWidow_2 : List UInt8 := [42, 18, 232, 4, 16, 40, 182, 0, 199, 79, 42, 180, 0, 31, 27, 6, 96, 42, 18, 234, 3, 16, 11]
abbrev dktX6_readWidow_2 : List UInt8 := dkwX6_readWidow_2 ++ dktX6_readWidow_3
def dkwX6_readWidow_1 : List UInt8 := [79, 42, 180, 0, 31, 27, 4, 96, 42, 18, 230, 3, 6, 182, 0, 199, 79, 42, 180, 0, 31, 27, 5, 96]
abbrev dktX6_readWidow_1 : List UInt8 := dkwX6_readWidow_1 ++ dktX6_readWidow_2
def dkwX6_readWidow_0 : List UInt8 := [16, 28, 16, 13, 42, 180, 0, 31, 16, 7, 46, 104, 96, 60, 42, 180, 0, 31, 27, 42, 3, 182, 0, 226]
abbrev dktX6_readWidow_0 : List UInt8 := dkwX6_readWidow_0 ++ dktX6_readWidow_1
theorem dksX6_readWidow_0 : cX6_readWidow.data.toList.drop 0 = dktX6_readWidow_0 := by decide +kernel
theorem dksX6_readWidow_1 : cX6_readWidow.data.toList.drop 24 = dktX6_readWidow_1 := dk_seg dksX6_readWidow_0 24 rfl rfl
theorem dksX6_readWidow_2 : cX6_readWidow.data.toList.drop 48 = dktX6_readWidow_2 := dk_seg dksX6_readWidow_1 24 rfl rfl
theorem dksX6_readWidow_3 : cX6_readWidow.data.toList.drop 71 = dktX6_readWidow_3 := dk_seg dksX6_readWidow_2 23 rfl rfl
theorem dksX6_readWidow_4 : cX6_readWidow.data.toList.drop 94 = dktX6_readWidow_4 := dk_seg dksX6_readWidow_3 23 rfl rfl
theorem dksX6_readWidow_5 : cX6_readWidow.data.toList.drop 118 = dktX6_readWidow_5 := dk_seg dksX6_readWidow_4 24 rfl rfl
theorem dX6_readWidow_0 : decode cX6_readWidow 0 = .ok (.bipush 28, 2) := dk_16 28 (dk_at dksX6_readWidow_0 0 rfl rfl)
theorem dX6_readWidow_2 : decode cX6_readWidow 2 = .ok (.bipush 13, 2) := dk_16 13 (dk_at dksX6_readWidow_0 2 rfl rfl)
theorem dX6_readWidow_4 : decode cX6_readWidow 4 = .ok (.aload_n 0, 1) := dk_42 (dk_at dksX6_readWidow_0 4 rfl rfl)
theorem dX6_readWidow_5 : decode cX6_readWidow 5 = .ok (.getfield 31, 3) := dk_180 0 31 (dk_at dksX6_readWidow_0 5 rfl rfl)
theorem dX6_readWidow_8 : decode cX6_readWidow 8 = .ok (.bipush 7, 2) := dk_16 7 (dk_at dksX6_readWidow_0 8 rfl rfl)
theorem dX6_readWidow_10 : decode cX6_readWidow 10 = .ok (.iaload, 1) := dk_46 (dk_at dksX6_readWidow_0 10 rfl rfl)
theorem dX6_readWidow_11 : decode cX6_readWidow 11 = .ok (.imul, 1) := dk_104 (dk_at dksX6_readWidow_0 11 rfl rfl)
theorem dX6_readWidow_12 : decode cX6_readWidow 12 = .ok (.iadd, 1) := dk_96 (dk_at dksX6_readWidow_0 12 rfl rfl)
theorem dX6_readWidow_13 : decode cX6_readWidow 13 = .ok (.istore_n 1, 1) := dk_60 (dk_at dksX6_readWidow_0 13 rfl rfl)
theorem dX6_readWidow_14 : decode cX6_readWidow 14 = .ok (.aload_n 0, 1) := dk_42 (dk_at dksX6_readWidow_0 14 rfl rfl)
theorem dX6_readWidow_15 : decode cX6_readWidow 15 = .ok (.getfield 31, 3) := dk_180 0 31 (dk_at dksX6_readWidow_0 15 rfl rfl)
theorem dX6_readWidow_18 : decode cX6_readWidow 18 = .ok (.iload_n 1, 1) := dk_27 (dk_at dksX6_readWidow_0 18 rfl rfl)
theorem dX6_readWidow_19 : decode cX6_readWidow 19 = .ok (.aload_n 0, 1) := dk_42 (dk_at dksX6_readWidow_0 19 rfl rfl)
theorem dX6_readWidow_20 : decode cX6_readWidow 20 = .ok (.iconst 0, 1) := dk_3 (dk_at dksX6_readWidow_0 20 rfl rfl)
theorem dX6_readWidow_21 : decode cX6_readWidow 21 = .ok (.invokevirtual 226, 3) := dk_182 0 226 (dk_at dksX6_readWidow_0 21 rfl rfl)
theorem dX6_readWidow_24 : decode cX6_readWidow 24 = .ok (.iastore, 1) := dk_79 (dk_at dksX6_readWidow_1 0 rfl rfl)
theorem dX6_readWidow_25 : decode cX6_readWidow 25 = .ok (.aload_n 0, 1) := dk_42 (dk_at dksX6_readWidow_1 1 rfl rfl)
theorem dX6_readWidow_26 : decode cX6_readWidow 26 = .ok (.getfield 31, 3) := dk_180 0 31 (dk_at dksX6_readWidow_1 2 rfl rfl)
theorem dX6_readWidow_29 : decode cX6_readWidow 29 = .ok (.iload_n 1, 1) := dk_27 (dk_at dksX6_readWidow_1 5 rfl rfl)
theorem dX6_readWidow_30 : decode cX6_readWidow 30 = .ok (.iconst 1, 1) := dk_4 (dk_at dksX6_readWidow_1 6 rfl rfl)
theorem dX6_readWidow_31 : decode cX6_readWidow 31 = .ok (.iadd, 1) := dk_96 (dk_at dksX6_readWidow_1 7 rfl rfl)
theorem dX6_readWidow_32 : decode cX6_readWidow 32 = .ok (.aload_n 0, 1) := dk_42 (dk_at dksX6_readWidow_1 8 rfl rfl)
theorem dX6_readWidow_33 : decode cX6_readWidow 33 = .ok (.ldc 230, 2) := dk_18 230 (dk_at dksX6_readWidow_1 9 rfl rfl)
theorem dX6_readWidow_35 : decode cX6_readWidow 35 = .ok (.iconst 0, 1) := dk_3 (dk_at dksX6_readWidow_1 11 rfl rfl)
theorem dX6_readWidow_36 : decode cX6_readWidow 36 = .ok (.iconst 3, 1) := dk_6 (dk_at dksX6_readWidow_1 12 rfl rfl)
theorem dX6_readWidow_37 : decode cX6_readWidow 37 = .ok (.invokevirtual 199, 3) := dk_182 0 199 (dk_at dksX6_readWidow_1 13 rfl rfl)
theorem dX6_readWidow_40 : decode cX6_readWidow 40 = .ok (.iastore, 1) := dk_79 (dk_at dksX6_readWidow_1 16 rfl rfl)
theorem dX6_readWidow_41 : decode cX6_readWidow 41 = .ok (.aload_n 0, 1) := dk_42 (dk_at dksX6_readWidow_1 17 rfl rfl)
theorem dX6_readWidow_42 : decode cX6_readWidow 42 = .ok (.getfield 31, 3) := dk_180 0 31 (dk_at dksX6_readWidow_1 18 rfl rfl)
theorem dX6_readWidow_45 : decode cX6_readWidow 45 = .ok (.iload_n 1, 1) := dk_27 (dk_at dksX6_readWidow_1 21 rfl rfl)
theorem dX6_readWidow_46 : decode cX6_readWidow 46 = .ok (.iconst 2, 1) := dk_5 (dk_at dksX6_readWidow_1 22 rfl rfl)
theorem dX6_readWidow_47 : decode cX6_readWidow 47 = .ok (.iadd, 1) := dk_96 (dk_at dksX6_readWidow_1 23 rfl rfl)
theorem dX6_readWidow_48 : decode cX6_readWidow 48 = .ok (.aload_n 0, 1) := dk_42 (dk_at dksX6_readWidow_2 0 rfl rfl)
theorem dX6_readWidow_49 : decode cX6_readWidow 49 = .ok (.ldc 232, 2) := dk_18 232 (dk_at dksX6_readWidow_2 1 rfl rfl)
theorem dX6_readWidow_51 : decode cX6_readWidow 51 = .ok (.iconst 1, 1) := dk_4 (dk_at dksX6_readWidow_2 3 rfl rfl)
theorem dX6_readWidow_52 : decode cX6_readWidow 52 = .ok (.bipush 40, 2) := dk_16 40 (dk_at dksX6_readWidow_2 4 rfl rfl)
theorem dX6_readWidow_54 : decode cX6_readWidow 54 = .ok (.invokevirtual 199, 3) := dk_182 0 199 (dk_at dksX6_readWidow_2 6 rfl rfl)
theorem dX6_readWidow_57 : decode cX6_readWidow 57 = .ok (.iastore, 1) := dk_79 (dk_at dksX6_readWidow_2 9 rfl rfl)
theorem dX6_readWidow_58 : decode cX6_readWidow 58 = .ok (.aload_n 0, 1) := dk_42 (dk_at dksX6_readWidow_2 10 rfl rfl)
theorem dX6_readWidow_59 : decode cX6_readWidow 59 = .ok (.getfield 31, 3) := dk_180 0 31 (dk_at dksX6_readWidow_2 11 rfl rfl)
theorem dX6_readWidow_62 : decode cX6_readWidow 62 = .ok (.iload_n 1, 1) := dk_27 (dk_at dksX6_readWidow_2 14 rfl rfl)
theorem dX6_readWidow_63 : decode cX6_readWidow 63 = .ok (.iconst 3, 1) := dk_6 (dk_at dksX6_readWidow_2 15 rfl rfl)
theorem dX6_readWidow_64 : decode cX6_readWidow 64 = .ok (.iadd, 1) := dk_96 (dk_at dksX6_readWidow_2 16 rfl rfl)
theorem dX6_readWidow_65 : decode cX6_readWidow 65 = .ok (.aload_n 0, 1) := dk_42 (dk_at dksX6_readWidow_2 17 rfl rfl)
theorem dX6_readWidow_66 : decode cX6_readWidow 66 = .ok (.ldc 234, 2) := dk_18 234 (dk_at dksX6_readWidow_2 18 rfl rfl)
theorem dX6_readWidow_68 : decode cX6_readWidow 68 = .ok (.iconst 0, 1) := dk_3 (dk_at dksX6_readWidow_2 20 rfl rfl)
theorem dX6_readWidow_69 : decode cX6_readWidow 69 = .ok (.bipush 11, 2) := dk_16 11 (dk_at dksX6_readWidow_2 21 rfl rfl)
theorem dX6_readWidow_71 : decode cX6_readWidow 71 = .ok (.invokevirtual 199, 3) := dk_182 0 199 (dk_at dksX6_readWidow_3 0 rfl rfl)
theorem dX6_readWidow_74 : decode cX6_readWidow 74 = .ok (.iastore, 1) := dk_79 (dk_at dksX6_readWidow_3 3 rfl rfl)
theorem dX6_readWidow_75 : decode cX6_readWidow 75 = .ok (.aload_n 0, 1) := dk_42 (dk_at dksX6_readWidow_3 4 rfl rfl)
theorem dX6_readWidow_76 : decode cX6_readWidow 76 = .ok (.ldc 235, 2) := dk_18 235 (dk_at dksX6_readWidow_3 5 rfl rfl)
theorem dX6_readWidow_78 : decode cX6_readWidow 78 = .ok (.invokevirtual 189, 3) := dk_182 0 189 (dk_at dksX6_readWidow_3 7 rfl rfl)
theorem dX6_readWidow_81 : decode cX6_readWidow 81 = .ok (.aload_n 0, 1) := dk_42 (dk_at dksX6_readWidow_3 10 rfl rfl)
theorem dX6_readWidow_82 : decode cX6_readWidow 82 = .ok (.iload_n 1, 1) := dk_27 (dk_at dksX6_readWidow_3 11 rfl rfl)
theorem dX6_readWidow_83 : decode cX6_readWidow 83 = .ok (.invokevirtual 237, 3) := dk_182 0 237 (dk_at dksX6_readWidow_3 12 rfl rfl)
theorem dX6_readWidow_86 : decode cX6_readWidow 86 = .ok (.aload_n 0, 1) := dk_42 (dk_at dksX6_readWidow_3 15 rfl rfl)
theorem dX6_readWidow_87 : decode cX6_readWidow 87 = .ok (.invokevirtual 163, 3) := dk_182 0 163 (dk_at dksX6_readWidow_3 16 rfl rfl)
theorem dX6_readWidow_90 : decode cX6_readWidow 90 = .ok (.ifCond .eq 19, 3) := dk_153 0 19 (dk_at dksX6_readWidow_3 19 rfl rfl)
theorem dX6_readWidow_93 : decode cX6_readWidow 93 = .ok (.aload_n 0, 1) := dk_42 (dk_at dksX6_readWidow_3 22 rfl rfl)
theorem dX6_readWidow_94 : decode cX6_readWidow 94 = .ok (.getfield 139, 3) := dk_180 0 139 (dk_at dksX6_readWidow_4 0 rfl rfl)
theorem dX6_readWidow_97 : decode cX6_readWidow 97 = .ok (.iconst 3, 1) := dk_6 (dk_at dksX6_readWidow_4 3 rfl rfl)
theorem dX6_readWidow_98 : decode cX6_readWidow 98 = .ok (.if_icmp .eq 11, 3) := dk_159 0 11 (dk_at dksX6_readWidow_4 4 rfl rfl)
theorem dX6_readWidow_101 : decode cX6_readWidow 101 = .ok (.aload_n 0, 1) := dk_42 (dk_at dksX6_readWidow_4 7 rfl rfl)
theorem dX6_readWidow_102 : decode cX6_readWidow 102 = .ok (.iload_n 1, 1) := dk_27 (dk_at dksX6_readWidow_4 8 rfl rfl)
theorem dX6_readWidow_103 : decode cX6_readWidow 103 = .ok (.invokevirtual 237, 3) := dk_182 0 237 (dk_at dksX6_readWidow_4 9 rfl rfl)
theorem dX6_readWidow_106 : decode cX6_readWidow 106 = .ok (.goto (-20), 3) := dk_167 255 236 (dk_at dksX6_readWidow_4 12 rfl rfl)
theorem dX6_readWidow_109 : decode cX6_readWidow 109 = .ok (.aload_n 0, 1) := dk_42 (dk_at dksX6_readWidow_4 15 rfl rfl)
theorem dX6_readWidow_110 : decode cX6_readWidow 110 = .ok (.getfield 31, 3) := dk_180 0 31 (dk_at dksX6_readWidow_4 16 rfl rfl)
theorem dX6_readWidow_113 : decode cX6_readWidow 113 = .ok (.bipush 7, 2) := dk_16 7 (dk_at dksX6_readWidow_4 19 rfl rfl)
theorem dX6_readWidow_115 : decode cX6_readWidow 115 = .ok (.dup2, 1) := dk_92 (dk_at dksX6_readWidow_4 21 rfl rfl)
theorem dX6_readWidow_116 : decode cX6_readWidow 116 = .ok (.iaload, 1) := dk_46 (dk_at dksX6_readWidow_4 22 rfl rfl)
theorem dX6_readWidow_117 : decode cX6_readWidow 117 = .ok (.iconst 1, 1) := dk_4 (dk_at dksX6_readWidow_4 23 rfl rfl)
theorem dX6_readWidow_118 : decode cX6_readWidow 118 = .ok (.iadd, 1) := dk_96 (dk_at dksX6_readWidow_5 0 rfl rfl)
theorem dX6_readWidow_119 : decode cX6_readWidow 119 = .ok (.iastore, 1) := dk_79 (dk_at dksX6_readWidow_5 1 rfl rfl)
theorem dX6_readWidow_120 : decode cX6_readWidow 120 = .ok (.return_, 1) := dk_177 (dk_at dksX6_readWidow_5 2 rfl rfl)
abbrev cX6_readTurn : ByteArray := prog_12_method_33_code
def yX6_readTurn : MethodName := ⟨RX6, "readTurn", "(I)V"⟩
def dkwX6_readTurn_3 : List UInt8 := [42, 182, 0, 179, 177]
abbrev dktX6_readTurn_3 : List UInt8 := dkwX6_readTurn_3 ++ []
def dkwX6_readTurn_2 : List UInt8 := [96, 42, 180, 0, 31, 27, 7, 96, 46, 96, 28, 79, 42, 180, 0, 31, 27, 7, 96, 92, 46, 4, 96, 79]
abbrev dktX6_readTurn_2 : List UInt8 := dkwX6_readTurn_2 ++ dktX6_readTurn_3
def dkwX6_readTurn_1 : List UInt8 := [16, 8, 160, 0, 8, 42, 6, 182, 0, 185, 42, 182, 0, 163, 154, 0, 4, 177, 42, 180, 0, 31, 27, 8]
abbrev dktX6_readTurn_1 : List UInt8 := dkwX6_readTurn_1 ++ dktX6_readTurn_2
def dkwX6_readTurn_0 : List UInt8 := [42, 182, 0, 223, 61, 28, 2, 160, 0, 8, 42, 4, 182, 0, 185, 42, 180, 0, 31, 27, 7, 96, 46]
abbrev dktX6_readTurn_0 : List UInt8 := dkwX6_readTurn_0 ++ dktX6_readTurn_1
theorem dksX6_readTurn_0 : cX6_readTurn.data.toList.drop 0 = dktX6_readTurn_0 := by decide +kernel
theorem dksX6_readTurn_1 : cX6_readTurn.data.toList.drop 23 = dktX6_readTurn_1 := dk_seg dksX6_readTurn_0 23 rfl rfl
theorem dksX6_readTurn_2 : cX6_readTurn.data.toList.drop 47 = dktX6_readTurn_2 := dk_seg dksX6_readTurn_1 24 rfl rfl
theorem dksX6_readTurn_3 : cX6_readTurn.data.toList.drop 71 = dktX6_readTurn_3 := dk_seg dksX6_readTurn_2 24 rfl rfl
theorem dX6_readTurn_0 : decode cX6_readTurn 0 = .ok (.aload_n 0, 1) := dk_42 (dk_at dksX6_readTurn_0 0 rfl rfl)
theorem dX6_readTurn_1 : decode cX6_readTurn 1 = .ok (.invokevirtual 223, 3) := dk_182 0 223 (dk_at dksX6_readTurn_0 1 rfl rfl)
theorem dX6_readTurn_4 : decode cX6_readTurn 4 = .ok (.istore_n 2, 1) := dk_61 (dk_at dksX6_readTurn_0 4 rfl rfl)
theorem dX6_readTurn_5 : decode cX6_readTurn 5 = .ok (.iload_n 2, 1) := dk_28 (dk_at dksX6_readTurn_0 5 rfl rfl)
theorem dX6_readTurn_6 : decode cX6_readTurn 6 = .ok (.iconst (-1), 1) := dk_2 (dk_at dksX6_readTurn_0 6 rfl rfl)
theorem dX6_readTurn_7 : decode cX6_readTurn 7 = .ok (.if_icmp .ne 8, 3) := dk_160 0 8 (dk_at dksX6_readTurn_0 7 rfl rfl)
theorem dX6_readTurn_10 : decode cX6_readTurn 10 = .ok (.aload_n 0, 1) := dk_42 (dk_at dksX6_readTurn_0 10 rfl rfl)
theorem dX6_readTurn_11 : decode cX6_readTurn 11 = .ok (.iconst 1, 1) := dk_4 (dk_at dksX6_readTurn_0 11 rfl rfl)
theorem dX6_readTurn_12 : decode cX6_readTurn 12 = .ok (.invokevirtual 185, 3) := dk_182 0 185 (dk_at dksX6_readTurn_0 12 rfl rfl)
theorem dX6_readTurn_15 : decode cX6_readTurn 15 = .ok (.aload_n 0, 1) := dk_42 (dk_at dksX6_readTurn_0 15 rfl rfl)
theorem dX6_readTurn_16 : decode cX6_readTurn 16 = .ok (.getfield 31, 3) := dk_180 0 31 (dk_at dksX6_readTurn_0 16 rfl rfl)
theorem dX6_readTurn_19 : decode cX6_readTurn 19 = .ok (.iload_n 1, 1) := dk_27 (dk_at dksX6_readTurn_0 19 rfl rfl)
theorem dX6_readTurn_20 : decode cX6_readTurn 20 = .ok (.iconst 4, 1) := dk_7 (dk_at dksX6_readTurn_0 20 rfl rfl)
theorem dX6_readTurn_21 : decode cX6_readTurn 21 = .ok (.iadd, 1) := dk_96 (dk_at dksX6_readTurn_0 21 rfl rfl)
theorem dX6_readTurn_22 : decode cX6_readTurn 22 = .ok (.iaload, 1) := dk_46 (dk_at dksX6_readTurn_0 22 rfl rfl)
theorem dX6_readTurn_23 : decode cX6_readTurn 23 = .ok (.bipush 8, 2) := dk_16 8 (dk_at dksX6_readTurn_1 0 rfl rfl)
theorem dX6_readTurn_25 : decode cX6_readTurn 25 = .ok (.if_icmp .ne 8, 3) := dk_160 0 8 (dk_at dksX6_readTurn_1 2 rfl rfl)
theorem dX6_readTurn_28 : decode cX6_readTurn 28 = .ok (.aload_n 0, 1) := dk_42 (dk_at dksX6_readTurn_1 5 rfl rfl)
theorem dX6_readTurn_29 : decode cX6_readTurn 29 = .ok (.iconst 3, 1) := dk_6 (dk_at dksX6_readTurn_1 6 rfl rfl)
theorem dX6_readTurn_30 : decode cX6_readTurn 30 = .ok (.invokevirtual 185, 3) := dk_182 0 185 (dk_at dksX6_readTurn_1 7 rfl rfl)
theorem dX6_readTurn_33 : decode cX6_readTurn 33 = .ok (.aload_n 0, 1) := dk_42 (dk_at dksX6_readTurn_1 10 rfl rfl)
theorem dX6_readTurn_34 : decode cX6_readTurn 34 = .ok (.invokevirtual 163, 3) := dk_182 0 163 (dk_at dksX6_readTurn_1 11 rfl rfl)
theorem dX6_readTurn_37 : decode cX6_readTurn 37 = .ok (.ifCond .ne 4, 3) := dk_154 0 4 (dk_at dksX6_readTurn_1 14 rfl rfl)
theorem dX6_readTurn_40 : decode cX6_readTurn 40 = .ok (.return_, 1) := dk_177 (dk_at dksX6_readTurn_1 17 rfl rfl)
theorem dX6_readTurn_41 : decode cX6_readTurn 41 = .ok (.aload_n 0, 1) := dk_42 (dk_at dksX6_readTurn_1 18 rfl rfl)
theorem dX6_readTurn_42 : decode cX6_readTurn 42 = .ok (.getfield 31, 3) := dk_180 0 31 (dk_at dksX6_readTurn_1 19 rfl rfl)
theorem dX6_readTurn_45 : decode cX6_readTurn 45 = .ok (.iload_n 1, 1) := dk_27 (dk_at dksX6_readTurn_1 22 rfl rfl)
theorem dX6_readTurn_46 : decode cX6_readTurn 46 = .ok (.iconst 5, 1) := dk_8 (dk_at dksX6_readTurn_1 23 rfl rfl)
theorem dX6_readTurn_47 : decode cX6_readTurn 47 = .ok (.iadd, 1) := dk_96 (dk_at dksX6_readTurn_2 0 rfl rfl)
theorem dX6_readTurn_48 : decode cX6_readTurn 48 = .ok (.aload_n 0, 1) := dk_42 (dk_at dksX6_readTurn_2 1 rfl rfl)
theorem dX6_readTurn_49 : decode cX6_readTurn 49 = .ok (.getfield 31, 3) := dk_180 0 31 (dk_at dksX6_readTurn_2 2 rfl rfl)
theorem dX6_readTurn_52 : decode cX6_readTurn 52 = .ok (.iload_n 1, 1) := dk_27 (dk_at dksX6_readTurn_2 5 rfl rfl)
theorem dX6_readTurn_53 : decode cX6_readTurn 53 = .ok (.iconst 4, 1) := dk_7 (dk_at dksX6_readTurn_2 6 rfl rfl)
theorem dX6_readTurn_54 : decode cX6_readTurn 54 = .ok (.iadd, 1) := dk_96 (dk_at dksX6_readTurn_2 7 rfl rfl)
theorem dX6_readTurn_55 : decode cX6_readTurn 55 = .ok (.iaload, 1) := dk_46 (dk_at dksX6_readTurn_2 8 rfl rfl)
theorem dX6_readTurn_56 : decode cX6_readTurn 56 = .ok (.iadd, 1) := dk_96 (dk_at dksX6_readTurn_2 9 rfl rfl)
theorem dX6_readTurn_57 : decode cX6_readTurn 57 = .ok (.iload_n 2, 1) := dk_28 (dk_at dksX6_readTurn_2 10 rfl rfl)
theorem dX6_readTurn_58 : decode cX6_readTurn 58 = .ok (.iastore, 1) := dk_79 (dk_at dksX6_readTurn_2 11 rfl rfl)
theorem dX6_readTurn_59 : decode cX6_readTurn 59 = .ok (.aload_n 0, 1) := dk_42 (dk_at dksX6_readTurn_2 12 rfl rfl)
theorem dX6_readTurn_60 : decode cX6_readTurn 60 = .ok (.getfield 31, 3) := dk_180 0 31 (dk_at dksX6_readTurn_2 13 rfl rfl)
theorem dX6_readTurn_63 : decode cX6_readTurn 63 = .ok (.iload_n 1, 1) := dk_27 (dk_at dksX6_readTurn_2 16 rfl rfl)
theorem dX6_readTurn_64 : decode cX6_readTurn 64 = .ok (.iconst 4, 1) := dk_7 (dk_at dksX6_readTurn_2 17 rfl rfl)
theorem dX6_readTurn_65 : decode cX6_readTurn 65 = .ok (.iadd, 1) := dk_96 (dk_at dksX6_readTurn_2 18 rfl rfl)
theorem dX6_readTurn_66 : decode cX6_readTurn 66 = .ok (.dup2, 1) := dk_92 (dk_at dksX6_readTurn_2 19 rfl rfl)
theorem dX6_readTurn_67 : decode cX6_readTurn 67 = .ok (.iaload, 1) := dk_46 (dk_at dksX6_readTurn_2 20 rfl rfl)
theorem dX6_readTurn_68 : decode cX6_readTurn 68 = .ok (.iconst 1, 1) := dk_4 (dk_at dksX6_readTurn_2 21 rfl rfl)
theorem dX6_readTurn_69 : decode cX6_readTurn 69 = .ok (.iadd, 1) := dk_96 (dk_at dksX6_readTurn_2 22 rfl rfl)
theorem dX6_readTurn_70 : decode cX6_readTurn 70 = .ok (.iastore, 1) := dk_79 (dk_at dksX6_readTurn_2 23 rfl rfl)
theorem dX6_readTurn_71 : decode cX6_readTurn 71 = .ok (.aload_n 0, 1) := dk_42 (dk_at dksX6_readTurn_3 0 rfl rfl)
theorem dX6_readTurn_72 : decode cX6_readTurn 72 = .ok (.invokevirtual 179, 3) := dk_182 0 179 (dk_at dksX6_readTurn_3 1 rfl rfl)
theorem dX6_readTurn_75 : decode cX6_readTurn 75 = .ok (.return_, 1) := dk_177 (dk_at dksX6_readTurn_3 4 rfl rfl)
abbrev cX6_turnWord : ByteArray := prog_12_method_32_code
def yX6_turnWord : MethodName := ⟨RX6, "turnWord", "()I"⟩
def dkwX6_turnWord_2 : List UInt8 := [153, 0, 7, 6, 167, 0, 4, 2, 172]
abbrev dktX6_turnWord_2 : List UInt8 := dkwX6_turnWord_2 ++ []
def dkwX6_turnWord_1 : List UInt8 := [167, 0, 30, 42, 18, 219, 182, 0, 175, 153, 0, 7, 5, 167, 0, 17, 42, 18, 221, 182, 0, 175]
abbrev dktX6_turnWord_1 : List UInt8 := dkwX6_turnWord_1 ++ dktX6_turnWord_2
def dkwX6_turnWord_0 : List UInt8 := [42, 18, 215, 182, 0, 175, 153, 0, 7, 3, 167, 0, 43, 42, 18, 217, 182, 0, 175, 153, 0, 7, 4]
abbrev dktX6_turnWord_0 : List UInt8 := dkwX6_turnWord_0 ++ dktX6_turnWord_1
theorem dksX6_turnWord_0 : cX6_turnWord.data.toList.drop 0 = dktX6_turnWord_0 := by decide +kernel
theorem dksX6_turnWord_1 : cX6_turnWord.data.toList.drop 23 = dktX6_turnWord_1 := dk_seg dksX6_turnWord_0 23 rfl rfl
theorem dksX6_turnWord_2 : cX6_turnWord.data.toList.drop 45 = dktX6_turnWord_2 := dk_seg dksX6_turnWord_1 22 rfl rfl
theorem dX6_turnWord_0 : decode cX6_turnWord 0 = .ok (.aload_n 0, 1) := dk_42 (dk_at dksX6_turnWord_0 0 rfl rfl)
theorem dX6_turnWord_1 : decode cX6_turnWord 1 = .ok (.ldc 215, 2) := dk_18 215 (dk_at dksX6_turnWord_0 1 rfl rfl)
theorem dX6_turnWord_3 : decode cX6_turnWord 3 = .ok (.invokevirtual 175, 3) := dk_182 0 175 (dk_at dksX6_turnWord_0 3 rfl rfl)
theorem dX6_turnWord_6 : decode cX6_turnWord 6 = .ok (.ifCond .eq 7, 3) := dk_153 0 7 (dk_at dksX6_turnWord_0 6 rfl rfl)
theorem dX6_turnWord_9 : decode cX6_turnWord 9 = .ok (.iconst 0, 1) := dk_3 (dk_at dksX6_turnWord_0 9 rfl rfl)
theorem dX6_turnWord_10 : decode cX6_turnWord 10 = .ok (.goto 43, 3) := dk_167 0 43 (dk_at dksX6_turnWord_0 10 rfl rfl)
theorem dX6_turnWord_13 : decode cX6_turnWord 13 = .ok (.aload_n 0, 1) := dk_42 (dk_at dksX6_turnWord_0 13 rfl rfl)
theorem dX6_turnWord_14 : decode cX6_turnWord 14 = .ok (.ldc 217, 2) := dk_18 217 (dk_at dksX6_turnWord_0 14 rfl rfl)
theorem dX6_turnWord_16 : decode cX6_turnWord 16 = .ok (.invokevirtual 175, 3) := dk_182 0 175 (dk_at dksX6_turnWord_0 16 rfl rfl)
theorem dX6_turnWord_19 : decode cX6_turnWord 19 = .ok (.ifCond .eq 7, 3) := dk_153 0 7 (dk_at dksX6_turnWord_0 19 rfl rfl)
theorem dX6_turnWord_22 : decode cX6_turnWord 22 = .ok (.iconst 1, 1) := dk_4 (dk_at dksX6_turnWord_0 22 rfl rfl)
theorem dX6_turnWord_23 : decode cX6_turnWord 23 = .ok (.goto 30, 3) := dk_167 0 30 (dk_at dksX6_turnWord_1 0 rfl rfl)
theorem dX6_turnWord_26 : decode cX6_turnWord 26 = .ok (.aload_n 0, 1) := dk_42 (dk_at dksX6_turnWord_1 3 rfl rfl)
theorem dX6_turnWord_27 : decode cX6_turnWord 27 = .ok (.ldc 219, 2) := dk_18 219 (dk_at dksX6_turnWord_1 4 rfl rfl)
theorem dX6_turnWord_29 : decode cX6_turnWord 29 = .ok (.invokevirtual 175, 3) := dk_182 0 175 (dk_at dksX6_turnWord_1 6 rfl rfl)
theorem dX6_turnWord_32 : decode cX6_turnWord 32 = .ok (.ifCond .eq 7, 3) := dk_153 0 7 (dk_at dksX6_turnWord_1 9 rfl rfl)
theorem dX6_turnWord_35 : decode cX6_turnWord 35 = .ok (.iconst 2, 1) := dk_5 (dk_at dksX6_turnWord_1 12 rfl rfl)
theorem dX6_turnWord_36 : decode cX6_turnWord 36 = .ok (.goto 17, 3) := dk_167 0 17 (dk_at dksX6_turnWord_1 13 rfl rfl)
theorem dX6_turnWord_39 : decode cX6_turnWord 39 = .ok (.aload_n 0, 1) := dk_42 (dk_at dksX6_turnWord_1 16 rfl rfl)
theorem dX6_turnWord_40 : decode cX6_turnWord 40 = .ok (.ldc 221, 2) := dk_18 221 (dk_at dksX6_turnWord_1 17 rfl rfl)
theorem dX6_turnWord_42 : decode cX6_turnWord 42 = .ok (.invokevirtual 175, 3) := dk_182 0 175 (dk_at dksX6_turnWord_1 19 rfl rfl)
theorem dX6_turnWord_45 : decode cX6_turnWord 45 = .ok (.ifCond .eq 7, 3) := dk_153 0 7 (dk_at dksX6_turnWord_2 0 rfl rfl)
theorem dX6_turnWord_48 : decode cX6_turnWord 48 = .ok (.iconst 3, 1) := dk_6 (dk_at dksX6_turnWord_2 3 rfl rfl)
theorem dX6_turnWord_49 : decode cX6_turnWord 49 = .ok (.goto 4, 3) := dk_167 0 4 (dk_at dksX6_turnWord_2 4 rfl rfl)
theorem dX6_turnWord_52 : decode cX6_turnWord 52 = .ok (.iconst (-1), 1) := dk_2 (dk_at dksX6_turnWord_2 7 rfl rfl)
theorem dX6_turnWord_53 : decode cX6_turnWord 53 = .ok (.ireturn, 1) := dk_172 (dk_at dksX6_turnWord_2 8 rfl rfl)
abbrev cX6_widow : ByteArray := prog_12_method_39_code
def yX6_widow : MethodName := ⟨RX6, "widow", "(II)I"⟩
def dkwX6_widow_1 : List UInt8 := [182, 1, 11, 167, 0, 5, 16, 254, 172]
abbrev dktX6_widow_1 : List UInt8 := dkwX6_widow_1 ++ []
def dkwX6_widow_0 : List UInt8 := [42, 27, 133, 182, 1, 5, 153, 0, 24, 28, 133, 9, 20, 1, 9, 184, 0, 106, 153, 0, 12, 42, 27, 28]
abbrev dktX6_widow_0 : List UInt8 := dkwX6_widow_0 ++ dktX6_widow_1
theorem dksX6_widow_0 : cX6_widow.data.toList.drop 0 = dktX6_widow_0 := by decide +kernel
theorem dksX6_widow_1 : cX6_widow.data.toList.drop 24 = dktX6_widow_1 := dk_seg dksX6_widow_0 24 rfl rfl
theorem dX6_widow_0 : decode cX6_widow 0 = .ok (.aload_n 0, 1) := dk_42 (dk_at dksX6_widow_0 0 rfl rfl)
theorem dX6_widow_1 : decode cX6_widow 1 = .ok (.iload_n 1, 1) := dk_27 (dk_at dksX6_widow_0 1 rfl rfl)
theorem dX6_widow_2 : decode cX6_widow 2 = .ok (.i2l, 1) := dk_133 (dk_at dksX6_widow_0 2 rfl rfl)
theorem dX6_widow_3 : decode cX6_widow 3 = .ok (.invokevirtual 261, 3) := dk_182 1 5 (dk_at dksX6_widow_0 3 rfl rfl)
theorem dX6_widow_6 : decode cX6_widow 6 = .ok (.ifCond .eq 24, 3) := dk_153 0 24 (dk_at dksX6_widow_0 6 rfl rfl)
theorem dX6_widow_9 : decode cX6_widow 9 = .ok (.iload_n 2, 1) := dk_28 (dk_at dksX6_widow_0 9 rfl rfl)
theorem dX6_widow_10 : decode cX6_widow 10 = .ok (.i2l, 1) := dk_133 (dk_at dksX6_widow_0 10 rfl rfl)
theorem dX6_widow_11 : decode cX6_widow 11 = .ok (.lconst 0, 1) := dk_9 (dk_at dksX6_widow_0 11 rfl rfl)
theorem dX6_widow_12 : decode cX6_widow 12 = .ok (.ldc2_w 265, 3) := dk_20 1 9 (dk_at dksX6_widow_0 12 rfl rfl)
theorem dX6_widow_15 : decode cX6_widow 15 = .ok (.invokestatic 106, 3) := dk_184 0 106 (dk_at dksX6_widow_0 15 rfl rfl)
theorem dX6_widow_18 : decode cX6_widow 18 = .ok (.ifCond .eq 12, 3) := dk_153 0 12 (dk_at dksX6_widow_0 18 rfl rfl)
theorem dX6_widow_21 : decode cX6_widow 21 = .ok (.aload_n 0, 1) := dk_42 (dk_at dksX6_widow_0 21 rfl rfl)
theorem dX6_widow_22 : decode cX6_widow 22 = .ok (.iload_n 1, 1) := dk_27 (dk_at dksX6_widow_0 22 rfl rfl)
theorem dX6_widow_23 : decode cX6_widow 23 = .ok (.iload_n 2, 1) := dk_28 (dk_at dksX6_widow_0 23 rfl rfl)
theorem dX6_widow_24 : decode cX6_widow 24 = .ok (.invokevirtual 267, 3) := dk_182 1 11 (dk_at dksX6_widow_1 0 rfl rfl)
theorem dX6_widow_27 : decode cX6_widow 27 = .ok (.goto 5, 3) := dk_167 0 5 (dk_at dksX6_widow_1 3 rfl rfl)
theorem dX6_widow_30 : decode cX6_widow 30 = .ok (.bipush (-2), 2) := dk_16 254 (dk_at dksX6_widow_1 6 rfl rfl)
theorem dX6_widow_32 : decode cX6_widow 32 = .ok (.ireturn, 1) := dk_172 (dk_at dksX6_widow_1 8 rfl rfl)
abbrev cX6_isWidow : ByteArray := prog_12_method_15_code
def yX6_isWidow : MethodName := ⟨RX6, "isWidow", "(J)Z"⟩
def dkwX6_isWidow_0 : List UInt8 := [31, 9, 42, 182, 0, 110, 4, 100, 133, 184, 0, 106, 172]
abbrev dktX6_isWidow_0 : List UInt8 := dkwX6_isWidow_0 ++ []
theorem dksX6_isWidow_0 : cX6_isWidow.data.toList.drop 0 = dktX6_isWidow_0 := by decide +kernel
theorem dX6_isWidow_0 : decode cX6_isWidow 0 = .ok (.lload_n 1, 1) := dk_31 (dk_at dksX6_isWidow_0 0 rfl rfl)
theorem dX6_isWidow_1 : decode cX6_isWidow 1 = .ok (.lconst 0, 1) := dk_9 (dk_at dksX6_isWidow_0 1 rfl rfl)
theorem dX6_isWidow_2 : decode cX6_isWidow 2 = .ok (.aload_n 0, 1) := dk_42 (dk_at dksX6_isWidow_0 2 rfl rfl)
theorem dX6_isWidow_3 : decode cX6_isWidow 3 = .ok (.invokevirtual 110, 3) := dk_182 0 110 (dk_at dksX6_isWidow_0 3 rfl rfl)
theorem dX6_isWidow_6 : decode cX6_isWidow 6 = .ok (.iconst 1, 1) := dk_4 (dk_at dksX6_isWidow_0 6 rfl rfl)
theorem dX6_isWidow_7 : decode cX6_isWidow 7 = .ok (.isub, 1) := dk_100 (dk_at dksX6_isWidow_0 7 rfl rfl)
theorem dX6_isWidow_8 : decode cX6_isWidow 8 = .ok (.i2l, 1) := dk_133 (dk_at dksX6_isWidow_0 8 rfl rfl)
theorem dX6_isWidow_9 : decode cX6_isWidow 9 = .ok (.invokestatic 106, 3) := dk_184 0 106 (dk_at dksX6_isWidow_0 9 rfl rfl)
theorem dX6_isWidow_12 : decode cX6_isWidow 12 = .ok (.ireturn, 1) := dk_172 (dk_at dksX6_isWidow_0 12 rfl rfl)
abbrev cX6_widows : ByteArray := prog_12_method_10_code
def yX6_widows : MethodName := ⟨RX6, "widows", "()I"⟩
def dkwX6_widows_0 : List UInt8 := [42, 180, 0, 9, 16, 7, 46, 172]
abbrev dktX6_widows_0 : List UInt8 := dkwX6_widows_0 ++ []
theorem dksX6_widows_0 : cX6_widows.data.toList.drop 0 = dktX6_widows_0 := by decide +kernel
theorem dX6_widows_0 : decode cX6_widows 0 = .ok (.aload_n 0, 1) := dk_42 (dk_at dksX6_widows_0 0 rfl rfl)
theorem dX6_widows_1 : decode cX6_widows 1 = .ok (.getfield 9, 3) := dk_180 0 9 (dk_at dksX6_widows_0 1 rfl rfl)
theorem dX6_widows_4 : decode cX6_widows 4 = .ok (.bipush 7, 2) := dk_16 7 (dk_at dksX6_widows_0 4 rfl rfl)
theorem dX6_widows_6 : decode cX6_widows 6 = .ok (.iaload, 1) := dk_46 (dk_at dksX6_widows_0 6 rfl rfl)
theorem dX6_widows_7 : decode cX6_widows 7 = .ok (.ireturn, 1) := dk_172 (dk_at dksX6_widows_0 7 rfl rfl)
abbrev cX6_widowOf : ByteArray := prog_12_method_16_code
def yX6_widowOf : MethodName := ⟨RX6, "widowOf", "(II)I"⟩
def dkwX6_widowOf_0 : List UInt8 := [42, 180, 0, 9, 16, 28, 16, 13, 27, 104, 96, 28, 96, 46, 172]
abbrev dktX6_widowOf_0 : List UInt8 := dkwX6_widowOf_0 ++ []
theorem dksX6_widowOf_0 : cX6_widowOf.data.toList.drop 0 = dktX6_widowOf_0 := by decide +kernel
theorem dX6_widowOf_0 : decode cX6_widowOf 0 = .ok (.aload_n 0, 1) := dk_42 (dk_at dksX6_widowOf_0 0 rfl rfl)
theorem dX6_widowOf_1 : decode cX6_widowOf 1 = .ok (.getfield 9, 3) := dk_180 0 9 (dk_at dksX6_widowOf_0 1 rfl rfl)
theorem dX6_widowOf_4 : decode cX6_widowOf 4 = .ok (.bipush 28, 2) := dk_16 28 (dk_at dksX6_widowOf_0 4 rfl rfl)
theorem dX6_widowOf_6 : decode cX6_widowOf 6 = .ok (.bipush 13, 2) := dk_16 13 (dk_at dksX6_widowOf_0 6 rfl rfl)
theorem dX6_widowOf_8 : decode cX6_widowOf 8 = .ok (.iload_n 1, 1) := dk_27 (dk_at dksX6_widowOf_0 8 rfl rfl)
theorem dX6_widowOf_9 : decode cX6_widowOf 9 = .ok (.imul, 1) := dk_104 (dk_at dksX6_widowOf_0 9 rfl rfl)
theorem dX6_widowOf_10 : decode cX6_widowOf 10 = .ok (.iadd, 1) := dk_96 (dk_at dksX6_widowOf_0 10 rfl rfl)
theorem dX6_widowOf_11 : decode cX6_widowOf 11 = .ok (.iload_n 2, 1) := dk_28 (dk_at dksX6_widowOf_0 11 rfl rfl)
theorem dX6_widowOf_12 : decode cX6_widowOf 12 = .ok (.iadd, 1) := dk_96 (dk_at dksX6_widowOf_0 12 rfl rfl)
theorem dX6_widowOf_13 : decode cX6_widowOf 13 = .ok (.iaload, 1) := dk_46 (dk_at dksX6_widowOf_0 13 rfl rfl)
theorem dX6_widowOf_14 : decode cX6_widowOf 14 = .ok (.ireturn, 1) := dk_172 (dk_at dksX6_widowOf_0 14 rfl rfl)
abbrev cX6_grief : ByteArray := prog_12_method_40_code
def yX6_grief : MethodName := ⟨RX6, "grief", "(II)I"⟩
def dkwX6_grief_1 : List UInt8 := [162, 0, 14, 42, 27, 8, 28, 96, 182, 1, 11, 167, 0, 4, 2, 172]
abbrev dktX6_grief_1 : List UInt8 := dkwX6_grief_1 ++ []
def dkwX6_grief_0 : List UInt8 := [42, 27, 133, 182, 1, 5, 153, 0, 7, 28, 156, 0, 6, 16, 254, 172, 28, 42, 27, 7, 182, 1, 11]
abbrev dktX6_grief_0 : List UInt8 := dkwX6_grief_0 ++ dktX6_grief_1
theorem dksX6_grief_0 : cX6_grief.data.toList.drop 0 = dktX6_grief_0 := by decide +kernel
theorem dksX6_grief_1 : cX6_grief.data.toList.drop 23 = dktX6_grief_1 := dk_seg dksX6_grief_0 23 rfl rfl
theorem dX6_grief_0 : decode cX6_grief 0 = .ok (.aload_n 0, 1) := dk_42 (dk_at dksX6_grief_0 0 rfl rfl)
theorem dX6_grief_1 : decode cX6_grief 1 = .ok (.iload_n 1, 1) := dk_27 (dk_at dksX6_grief_0 1 rfl rfl)
theorem dX6_grief_2 : decode cX6_grief 2 = .ok (.i2l, 1) := dk_133 (dk_at dksX6_grief_0 2 rfl rfl)
theorem dX6_grief_3 : decode cX6_grief 3 = .ok (.invokevirtual 261, 3) := dk_182 1 5 (dk_at dksX6_grief_0 3 rfl rfl)
theorem dX6_grief_6 : decode cX6_grief 6 = .ok (.ifCond .eq 7, 3) := dk_153 0 7 (dk_at dksX6_grief_0 6 rfl rfl)
theorem dX6_grief_9 : decode cX6_grief 9 = .ok (.iload_n 2, 1) := dk_28 (dk_at dksX6_grief_0 9 rfl rfl)
theorem dX6_grief_10 : decode cX6_grief 10 = .ok (.ifCond .ge 6, 3) := dk_156 0 6 (dk_at dksX6_grief_0 10 rfl rfl)
theorem dX6_grief_13 : decode cX6_grief 13 = .ok (.bipush (-2), 2) := dk_16 254 (dk_at dksX6_grief_0 13 rfl rfl)
theorem dX6_grief_15 : decode cX6_grief 15 = .ok (.ireturn, 1) := dk_172 (dk_at dksX6_grief_0 15 rfl rfl)
theorem dX6_grief_16 : decode cX6_grief 16 = .ok (.iload_n 2, 1) := dk_28 (dk_at dksX6_grief_0 16 rfl rfl)
theorem dX6_grief_17 : decode cX6_grief 17 = .ok (.aload_n 0, 1) := dk_42 (dk_at dksX6_grief_0 17 rfl rfl)
theorem dX6_grief_18 : decode cX6_grief 18 = .ok (.iload_n 1, 1) := dk_27 (dk_at dksX6_grief_0 18 rfl rfl)
theorem dX6_grief_19 : decode cX6_grief 19 = .ok (.iconst 4, 1) := dk_7 (dk_at dksX6_grief_0 19 rfl rfl)
theorem dX6_grief_20 : decode cX6_grief 20 = .ok (.invokevirtual 267, 3) := dk_182 1 11 (dk_at dksX6_grief_0 20 rfl rfl)
theorem dX6_grief_23 : decode cX6_grief 23 = .ok (.if_icmp .ge 14, 3) := dk_162 0 14 (dk_at dksX6_grief_1 0 rfl rfl)
theorem dX6_grief_26 : decode cX6_grief 26 = .ok (.aload_n 0, 1) := dk_42 (dk_at dksX6_grief_1 3 rfl rfl)
theorem dX6_grief_27 : decode cX6_grief 27 = .ok (.iload_n 1, 1) := dk_27 (dk_at dksX6_grief_1 4 rfl rfl)
theorem dX6_grief_28 : decode cX6_grief 28 = .ok (.iconst 5, 1) := dk_8 (dk_at dksX6_grief_1 5 rfl rfl)
theorem dX6_grief_29 : decode cX6_grief 29 = .ok (.iload_n 2, 1) := dk_28 (dk_at dksX6_grief_1 6 rfl rfl)
theorem dX6_grief_30 : decode cX6_grief 30 = .ok (.iadd, 1) := dk_96 (dk_at dksX6_grief_1 7 rfl rfl)
theorem dX6_grief_31 : decode cX6_grief 31 = .ok (.invokevirtual 267, 3) := dk_182 1 11 (dk_at dksX6_grief_1 8 rfl rfl)
theorem dX6_grief_34 : decode cX6_grief 34 = .ok (.goto 4, 3) := dk_167 0 4 (dk_at dksX6_grief_1 11 rfl rfl)
theorem dX6_grief_37 : decode cX6_grief 37 = .ok (.iconst (-1), 1) := dk_2 (dk_at dksX6_grief_1 14 rfl rfl)
theorem dX6_grief_38 : decode cX6_grief 38 = .ok (.ireturn, 1) := dk_172 (dk_at dksX6_grief_1 15 rfl rfl)
abbrev cX6_creek : ByteArray := prog_12_method_65_code
def yX6_creek : MethodName := ⟨RX6, "creek", "(I)I"⟩
def dkwX6_creek_1 : List UInt8 := [3, 172]
abbrev dktX6_creek_1 : List UInt8 := dkwX6_creek_1 ++ []
def dkwX6_creek_0 : List UInt8 := [42, 27, 182, 1, 97, 154, 0, 6, 16, 254, 172, 42, 180, 0, 34, 27, 51, 153, 0, 7, 4, 167, 0, 4]
abbrev dktX6_creek_0 : List UInt8 := dkwX6_creek_0 ++ dktX6_creek_1
theorem dksX6_creek_0 : cX6_creek.data.toList.drop 0 = dktX6_creek_0 := by decide +kernel
theorem dksX6_creek_1 : cX6_creek.data.toList.drop 24 = dktX6_creek_1 := dk_seg dksX6_creek_0 24 rfl rfl
theorem dX6_creek_0 : decode cX6_creek 0 = .ok (.aload_n 0, 1) := dk_42 (dk_at dksX6_creek_0 0 rfl rfl)
theorem dX6_creek_1 : decode cX6_creek 1 = .ok (.iload_n 1, 1) := dk_27 (dk_at dksX6_creek_0 1 rfl rfl)
theorem dX6_creek_2 : decode cX6_creek 2 = .ok (.invokevirtual 353, 3) := dk_182 1 97 (dk_at dksX6_creek_0 2 rfl rfl)
theorem dX6_creek_5 : decode cX6_creek 5 = .ok (.ifCond .ne 6, 3) := dk_154 0 6 (dk_at dksX6_creek_0 5 rfl rfl)
theorem dX6_creek_8 : decode cX6_creek 8 = .ok (.bipush (-2), 2) := dk_16 254 (dk_at dksX6_creek_0 8 rfl rfl)
theorem dX6_creek_10 : decode cX6_creek 10 = .ok (.ireturn, 1) := dk_172 (dk_at dksX6_creek_0 10 rfl rfl)
theorem dX6_creek_11 : decode cX6_creek 11 = .ok (.aload_n 0, 1) := dk_42 (dk_at dksX6_creek_0 11 rfl rfl)
theorem dX6_creek_12 : decode cX6_creek 12 = .ok (.getfield 34, 3) := dk_180 0 34 (dk_at dksX6_creek_0 12 rfl rfl)
theorem dX6_creek_15 : decode cX6_creek 15 = .ok (.iload_n 1, 1) := dk_27 (dk_at dksX6_creek_0 15 rfl rfl)
theorem dX6_creek_16 : decode cX6_creek 16 = .ok (.baload, 1) := dk_51 (dk_at dksX6_creek_0 16 rfl rfl)
theorem dX6_creek_17 : decode cX6_creek 17 = .ok (.ifCond .eq 7, 3) := dk_153 0 7 (dk_at dksX6_creek_0 17 rfl rfl)
theorem dX6_creek_20 : decode cX6_creek 20 = .ok (.iconst 1, 1) := dk_4 (dk_at dksX6_creek_0 20 rfl rfl)
theorem dX6_creek_21 : decode cX6_creek 21 = .ok (.goto 4, 3) := dk_167 0 4 (dk_at dksX6_creek_0 21 rfl rfl)
theorem dX6_creek_24 : decode cX6_creek 24 = .ok (.iconst 0, 1) := dk_3 (dk_at dksX6_creek_1 0 rfl rfl)
theorem dX6_creek_25 : decode cX6_creek 25 = .ok (.ireturn, 1) := dk_172 (dk_at dksX6_creek_1 1 rfl rfl)
abbrev cX6_asksCell : ByteArray := prog_12_method_57_code
def yX6_asksCell : MethodName := ⟨RX6, "asksCell", "(I)Z"⟩
def dkwX6_asksCell_0 : List UInt8 := [42, 182, 1, 79, 87, 42, 27, 133, 182, 1, 54, 172]
abbrev dktX6_asksCell_0 : List UInt8 := dkwX6_asksCell_0 ++ []
theorem dksX6_asksCell_0 : cX6_asksCell.data.toList.drop 0 = dktX6_asksCell_0 := by decide +kernel
theorem dX6_asksCell_0 : decode cX6_asksCell 0 = .ok (.aload_n 0, 1) := dk_42 (dk_at dksX6_asksCell_0 0 rfl rfl)
theorem dX6_asksCell_1 : decode cX6_asksCell 1 = .ok (.invokevirtual 335, 3) := dk_182 1 79 (dk_at dksX6_asksCell_0 1 rfl rfl)
theorem dX6_asksCell_4 : decode cX6_asksCell 4 = .ok (.pop, 1) := dk_87 (dk_at dksX6_asksCell_0 4 rfl rfl)
theorem dX6_asksCell_5 : decode cX6_asksCell 5 = .ok (.aload_n 0, 1) := dk_42 (dk_at dksX6_asksCell_0 5 rfl rfl)
theorem dX6_asksCell_6 : decode cX6_asksCell 6 = .ok (.iload_n 1, 1) := dk_27 (dk_at dksX6_asksCell_0 6 rfl rfl)
theorem dX6_asksCell_7 : decode cX6_asksCell 7 = .ok (.i2l, 1) := dk_133 (dk_at dksX6_asksCell_0 7 rfl rfl)
theorem dX6_asksCell_8 : decode cX6_asksCell 8 = .ok (.invokevirtual 310, 3) := dk_182 1 54 (dk_at dksX6_asksCell_0 8 rfl rfl)
theorem dX6_asksCell_11 : decode cX6_asksCell 11 = .ok (.ireturn, 1) := dk_172 (dk_at dksX6_asksCell_0 11 rfl rfl)
abbrev cX6_asksColony : ByteArray := prog_12_method_54_code
def yX6_asksColony : MethodName := ⟨RX6, "asksColony", "()Z"⟩
def dkwX6_asksColony_0 : List UInt8 := [42, 182, 1, 73, 42, 182, 1, 76, 42, 182, 0, 114, 172]
abbrev dktX6_asksColony_0 : List UInt8 := dkwX6_asksColony_0 ++ []
theorem dksX6_asksColony_0 : cX6_asksColony.data.toList.drop 0 = dktX6_asksColony_0 := by decide +kernel
theorem dX6_asksColony_0 : decode cX6_asksColony 0 = .ok (.aload_n 0, 1) := dk_42 (dk_at dksX6_asksColony_0 0 rfl rfl)
theorem dX6_asksColony_1 : decode cX6_asksColony 1 = .ok (.invokevirtual 329, 3) := dk_182 1 73 (dk_at dksX6_asksColony_0 1 rfl rfl)
theorem dX6_asksColony_4 : decode cX6_asksColony 4 = .ok (.aload_n 0, 1) := dk_42 (dk_at dksX6_asksColony_0 4 rfl rfl)
theorem dX6_asksColony_5 : decode cX6_asksColony 5 = .ok (.invokevirtual 332, 3) := dk_182 1 76 (dk_at dksX6_asksColony_0 5 rfl rfl)
theorem dX6_asksColony_8 : decode cX6_asksColony 8 = .ok (.aload_n 0, 1) := dk_42 (dk_at dksX6_asksColony_0 8 rfl rfl)
theorem dX6_asksColony_9 : decode cX6_asksColony 9 = .ok (.invokevirtual 114, 3) := dk_182 0 114 (dk_at dksX6_asksColony_0 9 rfl rfl)
theorem dX6_asksColony_12 : decode cX6_asksColony 12 = .ok (.ireturn, 1) := dk_172 (dk_at dksX6_asksColony_0 12 rfl rfl)
abbrev cX6_asItIs : ByteArray := prog_12_method_41_code
def yX6_asItIs : MethodName := ⟨RX6, "asItIs", "()V"⟩
def dkwX6_asItIs_7 : List UInt8 := [167, 255, 235, 177]
abbrev dktX6_asItIs_7 : List UInt8 := dkwX6_asItIs_7 ++ []
def dkwX6_asItIs_6 : List UInt8 := [60, 27, 16, 7, 162, 0, 21, 42, 180, 0, 37, 27, 42, 27, 4, 182, 1, 11, 79, 132, 1, 1]
abbrev dktX6_asItIs_6 : List UInt8 := dkwX6_asItIs_6 ++ dktX6_asItIs_7
def dkwX6_asItIs_5 : List UInt8 := [89, 180, 1, 20, 4, 28, 17, 3, 232, 100, 120, 2, 130, 126, 181, 1, 20, 132, 1, 1, 167, 255, 197, 3]
abbrev dktX6_asItIs_5 : List UInt8 := dkwX6_asItIs_5 ++ dktX6_asItIs_6
def dkwX6_asItIs_4 : List UInt8 := [16, 119, 27, 96, 46, 61, 28, 17, 3, 232, 162, 0, 13, 42, 180, 0, 34, 28, 3, 84, 167, 0, 21, 42]
abbrev dktX6_asItIs_4 : List UInt8 := dkwX6_asItIs_4 ++ dktX6_asItIs_5
def dkwX6_asItIs_3 : List UInt8 := [132, 1, 1, 167, 255, 228, 3, 60, 27, 42, 180, 0, 9, 16, 8, 46, 162, 0, 54, 42, 180, 0, 9]
abbrev dktX6_asItIs_3 : List UInt8 := dkwX6_asItIs_3 ++ dktX6_asItIs_4
def dkwX6_asItIs_2 : List UInt8 := [180, 0, 9, 8, 46, 162, 0, 24, 42, 180, 0, 34, 42, 180, 0, 9, 16, 10, 27, 96, 46, 4, 84]
abbrev dktX6_asItIs_2 : List UInt8 := dkwX6_asItIs_2 ++ dktX6_asItIs_3
def dkwX6_asItIs_1 : List UInt8 := [60, 27, 16, 80, 162, 0, 16, 42, 180, 0, 34, 27, 3, 84, 132, 1, 1, 167, 255, 240, 3, 60, 27, 42]
abbrev dktX6_asItIs_1 : List UInt8 := dkwX6_asItIs_1 ++ dktX6_asItIs_2
def dkwX6_asItIs_0 : List UInt8 := [42, 42, 180, 0, 9, 4, 46, 181, 1, 14, 42, 42, 182, 1, 17, 181, 1, 20, 42, 2, 181, 1, 23, 3]
abbrev dktX6_asItIs_0 : List UInt8 := dkwX6_asItIs_0 ++ dktX6_asItIs_1
theorem dksX6_asItIs_0 : cX6_asItIs.data.toList.drop 0 = dktX6_asItIs_0 := by decide +kernel
theorem dksX6_asItIs_1 : cX6_asItIs.data.toList.drop 24 = dktX6_asItIs_1 := dk_seg dksX6_asItIs_0 24 rfl rfl
theorem dksX6_asItIs_2 : cX6_asItIs.data.toList.drop 48 = dktX6_asItIs_2 := dk_seg dksX6_asItIs_1 24 rfl rfl
theorem dksX6_asItIs_3 : cX6_asItIs.data.toList.drop 71 = dktX6_asItIs_3 := dk_seg dksX6_asItIs_2 23 rfl rfl
theorem dksX6_asItIs_4 : cX6_asItIs.data.toList.drop 94 = dktX6_asItIs_4 := dk_seg dksX6_asItIs_3 23 rfl rfl
theorem dksX6_asItIs_5 : cX6_asItIs.data.toList.drop 118 = dktX6_asItIs_5 := dk_seg dksX6_asItIs_4 24 rfl rfl
theorem dksX6_asItIs_6 : cX6_asItIs.data.toList.drop 142 = dktX6_asItIs_6 := dk_seg dksX6_asItIs_5 24 rfl rfl
theorem dksX6_asItIs_7 : cX6_asItIs.data.toList.drop 164 = dktX6_asItIs_7 := dk_seg dksX6_asItIs_6 22 rfl rfl
theorem dX6_asItIs_0 : decode cX6_asItIs 0 = .ok (.aload_n 0, 1) := dk_42 (dk_at dksX6_asItIs_0 0 rfl rfl)
theorem dX6_asItIs_1 : decode cX6_asItIs 1 = .ok (.aload_n 0, 1) := dk_42 (dk_at dksX6_asItIs_0 1 rfl rfl)
theorem dX6_asItIs_2 : decode cX6_asItIs 2 = .ok (.getfield 9, 3) := dk_180 0 9 (dk_at dksX6_asItIs_0 2 rfl rfl)
theorem dX6_asItIs_5 : decode cX6_asItIs 5 = .ok (.iconst 1, 1) := dk_4 (dk_at dksX6_asItIs_0 5 rfl rfl)
theorem dX6_asItIs_6 : decode cX6_asItIs 6 = .ok (.iaload, 1) := dk_46 (dk_at dksX6_asItIs_0 6 rfl rfl)
theorem dX6_asItIs_7 : decode cX6_asItIs 7 = .ok (.putfield 270, 3) := dk_181 1 14 (dk_at dksX6_asItIs_0 7 rfl rfl)
theorem dX6_asItIs_10 : decode cX6_asItIs 10 = .ok (.aload_n 0, 1) := dk_42 (dk_at dksX6_asItIs_0 10 rfl rfl)
theorem dX6_asItIs_11 : decode cX6_asItIs 11 = .ok (.aload_n 0, 1) := dk_42 (dk_at dksX6_asItIs_0 11 rfl rfl)
theorem dX6_asItIs_12 : decode cX6_asItIs 12 = .ok (.invokevirtual 273, 3) := dk_182 1 17 (dk_at dksX6_asItIs_0 12 rfl rfl)
theorem dX6_asItIs_15 : decode cX6_asItIs 15 = .ok (.putfield 276, 3) := dk_181 1 20 (dk_at dksX6_asItIs_0 15 rfl rfl)
theorem dX6_asItIs_18 : decode cX6_asItIs 18 = .ok (.aload_n 0, 1) := dk_42 (dk_at dksX6_asItIs_0 18 rfl rfl)
theorem dX6_asItIs_19 : decode cX6_asItIs 19 = .ok (.iconst (-1), 1) := dk_2 (dk_at dksX6_asItIs_0 19 rfl rfl)
theorem dX6_asItIs_20 : decode cX6_asItIs 20 = .ok (.putfield 279, 3) := dk_181 1 23 (dk_at dksX6_asItIs_0 20 rfl rfl)
theorem dX6_asItIs_23 : decode cX6_asItIs 23 = .ok (.iconst 0, 1) := dk_3 (dk_at dksX6_asItIs_0 23 rfl rfl)
theorem dX6_asItIs_24 : decode cX6_asItIs 24 = .ok (.istore_n 1, 1) := dk_60 (dk_at dksX6_asItIs_1 0 rfl rfl)
theorem dX6_asItIs_25 : decode cX6_asItIs 25 = .ok (.iload_n 1, 1) := dk_27 (dk_at dksX6_asItIs_1 1 rfl rfl)
theorem dX6_asItIs_26 : decode cX6_asItIs 26 = .ok (.bipush 80, 2) := dk_16 80 (dk_at dksX6_asItIs_1 2 rfl rfl)
theorem dX6_asItIs_28 : decode cX6_asItIs 28 = .ok (.if_icmp .ge 16, 3) := dk_162 0 16 (dk_at dksX6_asItIs_1 4 rfl rfl)
theorem dX6_asItIs_31 : decode cX6_asItIs 31 = .ok (.aload_n 0, 1) := dk_42 (dk_at dksX6_asItIs_1 7 rfl rfl)
theorem dX6_asItIs_32 : decode cX6_asItIs 32 = .ok (.getfield 34, 3) := dk_180 0 34 (dk_at dksX6_asItIs_1 8 rfl rfl)
theorem dX6_asItIs_35 : decode cX6_asItIs 35 = .ok (.iload_n 1, 1) := dk_27 (dk_at dksX6_asItIs_1 11 rfl rfl)
theorem dX6_asItIs_36 : decode cX6_asItIs 36 = .ok (.iconst 0, 1) := dk_3 (dk_at dksX6_asItIs_1 12 rfl rfl)
theorem dX6_asItIs_37 : decode cX6_asItIs 37 = .ok (.bastore, 1) := dk_84 (dk_at dksX6_asItIs_1 13 rfl rfl)
theorem dX6_asItIs_38 : decode cX6_asItIs 38 = .ok (.iinc 1 1, 3) := dk_132 1 1 (dk_at dksX6_asItIs_1 14 rfl rfl)
theorem dX6_asItIs_41 : decode cX6_asItIs 41 = .ok (.goto (-16), 3) := dk_167 255 240 (dk_at dksX6_asItIs_1 17 rfl rfl)
theorem dX6_asItIs_44 : decode cX6_asItIs 44 = .ok (.iconst 0, 1) := dk_3 (dk_at dksX6_asItIs_1 20 rfl rfl)
theorem dX6_asItIs_45 : decode cX6_asItIs 45 = .ok (.istore_n 1, 1) := dk_60 (dk_at dksX6_asItIs_1 21 rfl rfl)
theorem dX6_asItIs_46 : decode cX6_asItIs 46 = .ok (.iload_n 1, 1) := dk_27 (dk_at dksX6_asItIs_1 22 rfl rfl)
theorem dX6_asItIs_47 : decode cX6_asItIs 47 = .ok (.aload_n 0, 1) := dk_42 (dk_at dksX6_asItIs_1 23 rfl rfl)
theorem dX6_asItIs_48 : decode cX6_asItIs 48 = .ok (.getfield 9, 3) := dk_180 0 9 (dk_at dksX6_asItIs_2 0 rfl rfl)
theorem dX6_asItIs_51 : decode cX6_asItIs 51 = .ok (.iconst 5, 1) := dk_8 (dk_at dksX6_asItIs_2 3 rfl rfl)
theorem dX6_asItIs_52 : decode cX6_asItIs 52 = .ok (.iaload, 1) := dk_46 (dk_at dksX6_asItIs_2 4 rfl rfl)
theorem dX6_asItIs_53 : decode cX6_asItIs 53 = .ok (.if_icmp .ge 24, 3) := dk_162 0 24 (dk_at dksX6_asItIs_2 5 rfl rfl)
theorem dX6_asItIs_56 : decode cX6_asItIs 56 = .ok (.aload_n 0, 1) := dk_42 (dk_at dksX6_asItIs_2 8 rfl rfl)
theorem dX6_asItIs_57 : decode cX6_asItIs 57 = .ok (.getfield 34, 3) := dk_180 0 34 (dk_at dksX6_asItIs_2 9 rfl rfl)
theorem dX6_asItIs_60 : decode cX6_asItIs 60 = .ok (.aload_n 0, 1) := dk_42 (dk_at dksX6_asItIs_2 12 rfl rfl)
theorem dX6_asItIs_61 : decode cX6_asItIs 61 = .ok (.getfield 9, 3) := dk_180 0 9 (dk_at dksX6_asItIs_2 13 rfl rfl)
theorem dX6_asItIs_64 : decode cX6_asItIs 64 = .ok (.bipush 10, 2) := dk_16 10 (dk_at dksX6_asItIs_2 16 rfl rfl)
theorem dX6_asItIs_66 : decode cX6_asItIs 66 = .ok (.iload_n 1, 1) := dk_27 (dk_at dksX6_asItIs_2 18 rfl rfl)
theorem dX6_asItIs_67 : decode cX6_asItIs 67 = .ok (.iadd, 1) := dk_96 (dk_at dksX6_asItIs_2 19 rfl rfl)
theorem dX6_asItIs_68 : decode cX6_asItIs 68 = .ok (.iaload, 1) := dk_46 (dk_at dksX6_asItIs_2 20 rfl rfl)
theorem dX6_asItIs_69 : decode cX6_asItIs 69 = .ok (.iconst 1, 1) := dk_4 (dk_at dksX6_asItIs_2 21 rfl rfl)
theorem dX6_asItIs_70 : decode cX6_asItIs 70 = .ok (.bastore, 1) := dk_84 (dk_at dksX6_asItIs_2 22 rfl rfl)
theorem dX6_asItIs_71 : decode cX6_asItIs 71 = .ok (.iinc 1 1, 3) := dk_132 1 1 (dk_at dksX6_asItIs_3 0 rfl rfl)
theorem dX6_asItIs_74 : decode cX6_asItIs 74 = .ok (.goto (-28), 3) := dk_167 255 228 (dk_at dksX6_asItIs_3 3 rfl rfl)
theorem dX6_asItIs_77 : decode cX6_asItIs 77 = .ok (.iconst 0, 1) := dk_3 (dk_at dksX6_asItIs_3 6 rfl rfl)
theorem dX6_asItIs_78 : decode cX6_asItIs 78 = .ok (.istore_n 1, 1) := dk_60 (dk_at dksX6_asItIs_3 7 rfl rfl)
theorem dX6_asItIs_79 : decode cX6_asItIs 79 = .ok (.iload_n 1, 1) := dk_27 (dk_at dksX6_asItIs_3 8 rfl rfl)
theorem dX6_asItIs_80 : decode cX6_asItIs 80 = .ok (.aload_n 0, 1) := dk_42 (dk_at dksX6_asItIs_3 9 rfl rfl)
theorem dX6_asItIs_81 : decode cX6_asItIs 81 = .ok (.getfield 9, 3) := dk_180 0 9 (dk_at dksX6_asItIs_3 10 rfl rfl)
theorem dX6_asItIs_84 : decode cX6_asItIs 84 = .ok (.bipush 8, 2) := dk_16 8 (dk_at dksX6_asItIs_3 13 rfl rfl)
theorem dX6_asItIs_86 : decode cX6_asItIs 86 = .ok (.iaload, 1) := dk_46 (dk_at dksX6_asItIs_3 15 rfl rfl)
theorem dX6_asItIs_87 : decode cX6_asItIs 87 = .ok (.if_icmp .ge 54, 3) := dk_162 0 54 (dk_at dksX6_asItIs_3 16 rfl rfl)
theorem dX6_asItIs_90 : decode cX6_asItIs 90 = .ok (.aload_n 0, 1) := dk_42 (dk_at dksX6_asItIs_3 19 rfl rfl)
theorem dX6_asItIs_91 : decode cX6_asItIs 91 = .ok (.getfield 9, 3) := dk_180 0 9 (dk_at dksX6_asItIs_3 20 rfl rfl)
theorem dX6_asItIs_94 : decode cX6_asItIs 94 = .ok (.bipush 119, 2) := dk_16 119 (dk_at dksX6_asItIs_4 0 rfl rfl)
theorem dX6_asItIs_96 : decode cX6_asItIs 96 = .ok (.iload_n 1, 1) := dk_27 (dk_at dksX6_asItIs_4 2 rfl rfl)
theorem dX6_asItIs_97 : decode cX6_asItIs 97 = .ok (.iadd, 1) := dk_96 (dk_at dksX6_asItIs_4 3 rfl rfl)
theorem dX6_asItIs_98 : decode cX6_asItIs 98 = .ok (.iaload, 1) := dk_46 (dk_at dksX6_asItIs_4 4 rfl rfl)
theorem dX6_asItIs_99 : decode cX6_asItIs 99 = .ok (.istore_n 2, 1) := dk_61 (dk_at dksX6_asItIs_4 5 rfl rfl)
theorem dX6_asItIs_100 : decode cX6_asItIs 100 = .ok (.iload_n 2, 1) := dk_28 (dk_at dksX6_asItIs_4 6 rfl rfl)
theorem dX6_asItIs_101 : decode cX6_asItIs 101 = .ok (.sipush 1000, 3) := dk_17 3 232 (dk_at dksX6_asItIs_4 7 rfl rfl)
theorem dX6_asItIs_104 : decode cX6_asItIs 104 = .ok (.if_icmp .ge 13, 3) := dk_162 0 13 (dk_at dksX6_asItIs_4 10 rfl rfl)
theorem dX6_asItIs_107 : decode cX6_asItIs 107 = .ok (.aload_n 0, 1) := dk_42 (dk_at dksX6_asItIs_4 13 rfl rfl)
theorem dX6_asItIs_108 : decode cX6_asItIs 108 = .ok (.getfield 34, 3) := dk_180 0 34 (dk_at dksX6_asItIs_4 14 rfl rfl)
theorem dX6_asItIs_111 : decode cX6_asItIs 111 = .ok (.iload_n 2, 1) := dk_28 (dk_at dksX6_asItIs_4 17 rfl rfl)
theorem dX6_asItIs_112 : decode cX6_asItIs 112 = .ok (.iconst 0, 1) := dk_3 (dk_at dksX6_asItIs_4 18 rfl rfl)
theorem dX6_asItIs_113 : decode cX6_asItIs 113 = .ok (.bastore, 1) := dk_84 (dk_at dksX6_asItIs_4 19 rfl rfl)
theorem dX6_asItIs_114 : decode cX6_asItIs 114 = .ok (.goto 21, 3) := dk_167 0 21 (dk_at dksX6_asItIs_4 20 rfl rfl)
theorem dX6_asItIs_117 : decode cX6_asItIs 117 = .ok (.aload_n 0, 1) := dk_42 (dk_at dksX6_asItIs_4 23 rfl rfl)
theorem dX6_asItIs_118 : decode cX6_asItIs 118 = .ok (.dup, 1) := dk_89 (dk_at dksX6_asItIs_5 0 rfl rfl)
theorem dX6_asItIs_119 : decode cX6_asItIs 119 = .ok (.getfield 276, 3) := dk_180 1 20 (dk_at dksX6_asItIs_5 1 rfl rfl)
theorem dX6_asItIs_122 : decode cX6_asItIs 122 = .ok (.iconst 1, 1) := dk_4 (dk_at dksX6_asItIs_5 4 rfl rfl)
theorem dX6_asItIs_123 : decode cX6_asItIs 123 = .ok (.iload_n 2, 1) := dk_28 (dk_at dksX6_asItIs_5 5 rfl rfl)
theorem dX6_asItIs_124 : decode cX6_asItIs 124 = .ok (.sipush 1000, 3) := dk_17 3 232 (dk_at dksX6_asItIs_5 6 rfl rfl)
theorem dX6_asItIs_127 : decode cX6_asItIs 127 = .ok (.isub, 1) := dk_100 (dk_at dksX6_asItIs_5 9 rfl rfl)
theorem dX6_asItIs_128 : decode cX6_asItIs 128 = .ok (.ishl, 1) := dk_120 (dk_at dksX6_asItIs_5 10 rfl rfl)
theorem dX6_asItIs_129 : decode cX6_asItIs 129 = .ok (.iconst (-1), 1) := dk_2 (dk_at dksX6_asItIs_5 11 rfl rfl)
theorem dX6_asItIs_130 : decode cX6_asItIs 130 = .ok (.ixor, 1) := dk_130 (dk_at dksX6_asItIs_5 12 rfl rfl)
theorem dX6_asItIs_131 : decode cX6_asItIs 131 = .ok (.iand, 1) := dk_126 (dk_at dksX6_asItIs_5 13 rfl rfl)
theorem dX6_asItIs_132 : decode cX6_asItIs 132 = .ok (.putfield 276, 3) := dk_181 1 20 (dk_at dksX6_asItIs_5 14 rfl rfl)
theorem dX6_asItIs_135 : decode cX6_asItIs 135 = .ok (.iinc 1 1, 3) := dk_132 1 1 (dk_at dksX6_asItIs_5 17 rfl rfl)
theorem dX6_asItIs_138 : decode cX6_asItIs 138 = .ok (.goto (-59), 3) := dk_167 255 197 (dk_at dksX6_asItIs_5 20 rfl rfl)
theorem dX6_asItIs_141 : decode cX6_asItIs 141 = .ok (.iconst 0, 1) := dk_3 (dk_at dksX6_asItIs_5 23 rfl rfl)
theorem dX6_asItIs_142 : decode cX6_asItIs 142 = .ok (.istore_n 1, 1) := dk_60 (dk_at dksX6_asItIs_6 0 rfl rfl)
theorem dX6_asItIs_143 : decode cX6_asItIs 143 = .ok (.iload_n 1, 1) := dk_27 (dk_at dksX6_asItIs_6 1 rfl rfl)
theorem dX6_asItIs_144 : decode cX6_asItIs 144 = .ok (.bipush 7, 2) := dk_16 7 (dk_at dksX6_asItIs_6 2 rfl rfl)
theorem dX6_asItIs_146 : decode cX6_asItIs 146 = .ok (.if_icmp .ge 21, 3) := dk_162 0 21 (dk_at dksX6_asItIs_6 4 rfl rfl)
theorem dX6_asItIs_149 : decode cX6_asItIs 149 = .ok (.aload_n 0, 1) := dk_42 (dk_at dksX6_asItIs_6 7 rfl rfl)
theorem dX6_asItIs_150 : decode cX6_asItIs 150 = .ok (.getfield 37, 3) := dk_180 0 37 (dk_at dksX6_asItIs_6 8 rfl rfl)
theorem dX6_asItIs_153 : decode cX6_asItIs 153 = .ok (.iload_n 1, 1) := dk_27 (dk_at dksX6_asItIs_6 11 rfl rfl)
theorem dX6_asItIs_154 : decode cX6_asItIs 154 = .ok (.aload_n 0, 1) := dk_42 (dk_at dksX6_asItIs_6 12 rfl rfl)
theorem dX6_asItIs_155 : decode cX6_asItIs 155 = .ok (.iload_n 1, 1) := dk_27 (dk_at dksX6_asItIs_6 13 rfl rfl)
theorem dX6_asItIs_156 : decode cX6_asItIs 156 = .ok (.iconst 1, 1) := dk_4 (dk_at dksX6_asItIs_6 14 rfl rfl)
theorem dX6_asItIs_157 : decode cX6_asItIs 157 = .ok (.invokevirtual 267, 3) := dk_182 1 11 (dk_at dksX6_asItIs_6 15 rfl rfl)
theorem dX6_asItIs_160 : decode cX6_asItIs 160 = .ok (.iastore, 1) := dk_79 (dk_at dksX6_asItIs_6 18 rfl rfl)
theorem dX6_asItIs_161 : decode cX6_asItIs 161 = .ok (.iinc 1 1, 3) := dk_132 1 1 (dk_at dksX6_asItIs_6 19 rfl rfl)
theorem dX6_asItIs_164 : decode cX6_asItIs 164 = .ok (.goto (-21), 3) := dk_167 255 235 (dk_at dksX6_asItIs_7 0 rfl rfl)
theorem dX6_asItIs_167 : decode cX6_asItIs 167 = .ok (.return_, 1) := dk_177 (dk_at dksX6_asItIs_7 3 rfl rfl)
abbrev cX6_allWidows : ByteArray := prog_12_method_12_code
def yX6_allWidows : MethodName := ⟨RX6, "allWidows", "()I"⟩
def dkwX6_allWidows_0 : List UInt8 := [4, 42, 182, 0, 110, 120, 4, 100, 172]
abbrev dktX6_allWidows_0 : List UInt8 := dkwX6_allWidows_0 ++ []
theorem dksX6_allWidows_0 : cX6_allWidows.data.toList.drop 0 = dktX6_allWidows_0 := by decide +kernel
theorem dX6_allWidows_0 : decode cX6_allWidows 0 = .ok (.iconst 1, 1) := dk_4 (dk_at dksX6_allWidows_0 0 rfl rfl)
theorem dX6_allWidows_1 : decode cX6_allWidows 1 = .ok (.aload_n 0, 1) := dk_42 (dk_at dksX6_allWidows_0 1 rfl rfl)
theorem dX6_allWidows_2 : decode cX6_allWidows 2 = .ok (.invokevirtual 110, 3) := dk_182 0 110 (dk_at dksX6_allWidows_0 2 rfl rfl)
theorem dX6_allWidows_5 : decode cX6_allWidows 5 = .ok (.ishl, 1) := dk_120 (dk_at dksX6_allWidows_0 5 rfl rfl)
theorem dX6_allWidows_6 : decode cX6_allWidows 6 = .ok (.iconst 1, 1) := dk_4 (dk_at dksX6_allWidows_0 6 rfl rfl)
theorem dX6_allWidows_7 : decode cX6_allWidows 7 = .ok (.isub, 1) := dk_100 (dk_at dksX6_allWidows_0 7 rfl rfl)
theorem dX6_allWidows_8 : decode cX6_allWidows 8 = .ok (.ireturn, 1) := dk_172 (dk_at dksX6_allWidows_0 8 rfl rfl)
abbrev cX6_goAll : ByteArray := prog_12_method_53_code
def yX6_goAll : MethodName := ⟨RX6, "goAll", "()V"⟩
def dkwX6_goAll_6 : List UInt8 := [160, 0, 8, 42, 28, 182, 1, 70, 132, 2, 1, 167, 255, 210, 132, 1, 1, 167, 255, 189, 177]
abbrev dktX6_goAll_6 : List UInt8 := dkwX6_goAll_6 ++ []
def dkwX6_goAll_5 : List UInt8 := [162, 0, 36, 42, 28, 6, 182, 1, 11, 27, 160, 0, 20, 42, 180, 1, 20, 28, 184, 1, 67, 4]
abbrev dktX6_goAll_5 : List UInt8 := dkwX6_goAll_5 ++ dktX6_goAll_6
def dkwX6_goAll_4 : List UInt8 := [163, 0, 65, 42, 27, 182, 1, 64, 3, 61, 28, 42, 182, 0, 110, 162, 0, 44, 27, 42, 182, 0, 118]
abbrev dktX6_goAll_4 : List UInt8 := dkwX6_goAll_4 ++ dktX6_goAll_5
def dkwX6_goAll_3 : List UInt8 := [162, 0, 16, 42, 180, 0, 58, 27, 2, 79, 132, 1, 1, 167, 255, 240, 3, 60, 27, 42, 182, 0, 118]
abbrev dktX6_goAll_3 : List UInt8 := dkwX6_goAll_3 ++ dktX6_goAll_4
def dkwX6_goAll_2 : List UInt8 := [16, 22, 27, 96, 46, 79, 42, 180, 0, 64, 27, 3, 79, 132, 1, 1, 167, 255, 225, 3, 60, 27, 16, 7]
abbrev dktX6_goAll_2 : List UInt8 := dkwX6_goAll_2 ++ dktX6_goAll_3
def dkwX6_goAll_1 : List UInt8 := [132, 1, 1, 167, 255, 233, 3, 60, 27, 16, 6, 162, 0, 31, 42, 180, 0, 52, 27, 42, 180, 0, 9]
abbrev dktX6_goAll_1 : List UInt8 := dkwX6_goAll_1 ++ dktX6_goAll_2
def dkwX6_goAll_0 : List UInt8 := [3, 60, 27, 16, 80, 162, 0, 23, 42, 180, 0, 40, 27, 3, 84, 42, 180, 0, 49, 27, 3, 79]
abbrev dktX6_goAll_0 : List UInt8 := dkwX6_goAll_0 ++ dktX6_goAll_1
theorem dksX6_goAll_0 : cX6_goAll.data.toList.drop 0 = dktX6_goAll_0 := by decide +kernel
theorem dksX6_goAll_1 : cX6_goAll.data.toList.drop 22 = dktX6_goAll_1 := dk_seg dksX6_goAll_0 22 rfl rfl
theorem dksX6_goAll_2 : cX6_goAll.data.toList.drop 45 = dktX6_goAll_2 := dk_seg dksX6_goAll_1 23 rfl rfl
theorem dksX6_goAll_3 : cX6_goAll.data.toList.drop 69 = dktX6_goAll_3 := dk_seg dksX6_goAll_2 24 rfl rfl
theorem dksX6_goAll_4 : cX6_goAll.data.toList.drop 92 = dktX6_goAll_4 := dk_seg dksX6_goAll_3 23 rfl rfl
theorem dksX6_goAll_5 : cX6_goAll.data.toList.drop 115 = dktX6_goAll_5 := dk_seg dksX6_goAll_4 23 rfl rfl
theorem dksX6_goAll_6 : cX6_goAll.data.toList.drop 137 = dktX6_goAll_6 := dk_seg dksX6_goAll_5 22 rfl rfl
theorem dX6_goAll_0 : decode cX6_goAll 0 = .ok (.iconst 0, 1) := dk_3 (dk_at dksX6_goAll_0 0 rfl rfl)
theorem dX6_goAll_1 : decode cX6_goAll 1 = .ok (.istore_n 1, 1) := dk_60 (dk_at dksX6_goAll_0 1 rfl rfl)
theorem dX6_goAll_2 : decode cX6_goAll 2 = .ok (.iload_n 1, 1) := dk_27 (dk_at dksX6_goAll_0 2 rfl rfl)
theorem dX6_goAll_3 : decode cX6_goAll 3 = .ok (.bipush 80, 2) := dk_16 80 (dk_at dksX6_goAll_0 3 rfl rfl)
theorem dX6_goAll_5 : decode cX6_goAll 5 = .ok (.if_icmp .ge 23, 3) := dk_162 0 23 (dk_at dksX6_goAll_0 5 rfl rfl)
theorem dX6_goAll_8 : decode cX6_goAll 8 = .ok (.aload_n 0, 1) := dk_42 (dk_at dksX6_goAll_0 8 rfl rfl)
theorem dX6_goAll_9 : decode cX6_goAll 9 = .ok (.getfield 40, 3) := dk_180 0 40 (dk_at dksX6_goAll_0 9 rfl rfl)
theorem dX6_goAll_12 : decode cX6_goAll 12 = .ok (.iload_n 1, 1) := dk_27 (dk_at dksX6_goAll_0 12 rfl rfl)
theorem dX6_goAll_13 : decode cX6_goAll 13 = .ok (.iconst 0, 1) := dk_3 (dk_at dksX6_goAll_0 13 rfl rfl)
theorem dX6_goAll_14 : decode cX6_goAll 14 = .ok (.bastore, 1) := dk_84 (dk_at dksX6_goAll_0 14 rfl rfl)
theorem dX6_goAll_15 : decode cX6_goAll 15 = .ok (.aload_n 0, 1) := dk_42 (dk_at dksX6_goAll_0 15 rfl rfl)
theorem dX6_goAll_16 : decode cX6_goAll 16 = .ok (.getfield 49, 3) := dk_180 0 49 (dk_at dksX6_goAll_0 16 rfl rfl)
theorem dX6_goAll_19 : decode cX6_goAll 19 = .ok (.iload_n 1, 1) := dk_27 (dk_at dksX6_goAll_0 19 rfl rfl)
theorem dX6_goAll_20 : decode cX6_goAll 20 = .ok (.iconst 0, 1) := dk_3 (dk_at dksX6_goAll_0 20 rfl rfl)
theorem dX6_goAll_21 : decode cX6_goAll 21 = .ok (.iastore, 1) := dk_79 (dk_at dksX6_goAll_0 21 rfl rfl)
theorem dX6_goAll_22 : decode cX6_goAll 22 = .ok (.iinc 1 1, 3) := dk_132 1 1 (dk_at dksX6_goAll_1 0 rfl rfl)
theorem dX6_goAll_25 : decode cX6_goAll 25 = .ok (.goto (-23), 3) := dk_167 255 233 (dk_at dksX6_goAll_1 3 rfl rfl)
theorem dX6_goAll_28 : decode cX6_goAll 28 = .ok (.iconst 0, 1) := dk_3 (dk_at dksX6_goAll_1 6 rfl rfl)
theorem dX6_goAll_29 : decode cX6_goAll 29 = .ok (.istore_n 1, 1) := dk_60 (dk_at dksX6_goAll_1 7 rfl rfl)
theorem dX6_goAll_30 : decode cX6_goAll 30 = .ok (.iload_n 1, 1) := dk_27 (dk_at dksX6_goAll_1 8 rfl rfl)
theorem dX6_goAll_31 : decode cX6_goAll 31 = .ok (.bipush 6, 2) := dk_16 6 (dk_at dksX6_goAll_1 9 rfl rfl)
theorem dX6_goAll_33 : decode cX6_goAll 33 = .ok (.if_icmp .ge 31, 3) := dk_162 0 31 (dk_at dksX6_goAll_1 11 rfl rfl)
theorem dX6_goAll_36 : decode cX6_goAll 36 = .ok (.aload_n 0, 1) := dk_42 (dk_at dksX6_goAll_1 14 rfl rfl)
theorem dX6_goAll_37 : decode cX6_goAll 37 = .ok (.getfield 52, 3) := dk_180 0 52 (dk_at dksX6_goAll_1 15 rfl rfl)
theorem dX6_goAll_40 : decode cX6_goAll 40 = .ok (.iload_n 1, 1) := dk_27 (dk_at dksX6_goAll_1 18 rfl rfl)
theorem dX6_goAll_41 : decode cX6_goAll 41 = .ok (.aload_n 0, 1) := dk_42 (dk_at dksX6_goAll_1 19 rfl rfl)
theorem dX6_goAll_42 : decode cX6_goAll 42 = .ok (.getfield 9, 3) := dk_180 0 9 (dk_at dksX6_goAll_1 20 rfl rfl)
theorem dX6_goAll_45 : decode cX6_goAll 45 = .ok (.bipush 22, 2) := dk_16 22 (dk_at dksX6_goAll_2 0 rfl rfl)
theorem dX6_goAll_47 : decode cX6_goAll 47 = .ok (.iload_n 1, 1) := dk_27 (dk_at dksX6_goAll_2 2 rfl rfl)
theorem dX6_goAll_48 : decode cX6_goAll 48 = .ok (.iadd, 1) := dk_96 (dk_at dksX6_goAll_2 3 rfl rfl)
theorem dX6_goAll_49 : decode cX6_goAll 49 = .ok (.iaload, 1) := dk_46 (dk_at dksX6_goAll_2 4 rfl rfl)
theorem dX6_goAll_50 : decode cX6_goAll 50 = .ok (.iastore, 1) := dk_79 (dk_at dksX6_goAll_2 5 rfl rfl)
theorem dX6_goAll_51 : decode cX6_goAll 51 = .ok (.aload_n 0, 1) := dk_42 (dk_at dksX6_goAll_2 6 rfl rfl)
theorem dX6_goAll_52 : decode cX6_goAll 52 = .ok (.getfield 64, 3) := dk_180 0 64 (dk_at dksX6_goAll_2 7 rfl rfl)
theorem dX6_goAll_55 : decode cX6_goAll 55 = .ok (.iload_n 1, 1) := dk_27 (dk_at dksX6_goAll_2 10 rfl rfl)
theorem dX6_goAll_56 : decode cX6_goAll 56 = .ok (.iconst 0, 1) := dk_3 (dk_at dksX6_goAll_2 11 rfl rfl)
theorem dX6_goAll_57 : decode cX6_goAll 57 = .ok (.iastore, 1) := dk_79 (dk_at dksX6_goAll_2 12 rfl rfl)
theorem dX6_goAll_58 : decode cX6_goAll 58 = .ok (.iinc 1 1, 3) := dk_132 1 1 (dk_at dksX6_goAll_2 13 rfl rfl)
theorem dX6_goAll_61 : decode cX6_goAll 61 = .ok (.goto (-31), 3) := dk_167 255 225 (dk_at dksX6_goAll_2 16 rfl rfl)
theorem dX6_goAll_64 : decode cX6_goAll 64 = .ok (.iconst 0, 1) := dk_3 (dk_at dksX6_goAll_2 19 rfl rfl)
theorem dX6_goAll_65 : decode cX6_goAll 65 = .ok (.istore_n 1, 1) := dk_60 (dk_at dksX6_goAll_2 20 rfl rfl)
theorem dX6_goAll_66 : decode cX6_goAll 66 = .ok (.iload_n 1, 1) := dk_27 (dk_at dksX6_goAll_2 21 rfl rfl)
theorem dX6_goAll_67 : decode cX6_goAll 67 = .ok (.bipush 7, 2) := dk_16 7 (dk_at dksX6_goAll_2 22 rfl rfl)
theorem dX6_goAll_69 : decode cX6_goAll 69 = .ok (.if_icmp .ge 16, 3) := dk_162 0 16 (dk_at dksX6_goAll_3 0 rfl rfl)
theorem dX6_goAll_72 : decode cX6_goAll 72 = .ok (.aload_n 0, 1) := dk_42 (dk_at dksX6_goAll_3 3 rfl rfl)
theorem dX6_goAll_73 : decode cX6_goAll 73 = .ok (.getfield 58, 3) := dk_180 0 58 (dk_at dksX6_goAll_3 4 rfl rfl)
theorem dX6_goAll_76 : decode cX6_goAll 76 = .ok (.iload_n 1, 1) := dk_27 (dk_at dksX6_goAll_3 7 rfl rfl)
theorem dX6_goAll_77 : decode cX6_goAll 77 = .ok (.iconst (-1), 1) := dk_2 (dk_at dksX6_goAll_3 8 rfl rfl)
theorem dX6_goAll_78 : decode cX6_goAll 78 = .ok (.iastore, 1) := dk_79 (dk_at dksX6_goAll_3 9 rfl rfl)
theorem dX6_goAll_79 : decode cX6_goAll 79 = .ok (.iinc 1 1, 3) := dk_132 1 1 (dk_at dksX6_goAll_3 10 rfl rfl)
theorem dX6_goAll_82 : decode cX6_goAll 82 = .ok (.goto (-16), 3) := dk_167 255 240 (dk_at dksX6_goAll_3 13 rfl rfl)
theorem dX6_goAll_85 : decode cX6_goAll 85 = .ok (.iconst 0, 1) := dk_3 (dk_at dksX6_goAll_3 16 rfl rfl)
theorem dX6_goAll_86 : decode cX6_goAll 86 = .ok (.istore_n 1, 1) := dk_60 (dk_at dksX6_goAll_3 17 rfl rfl)
theorem dX6_goAll_87 : decode cX6_goAll 87 = .ok (.iload_n 1, 1) := dk_27 (dk_at dksX6_goAll_3 18 rfl rfl)
theorem dX6_goAll_88 : decode cX6_goAll 88 = .ok (.aload_n 0, 1) := dk_42 (dk_at dksX6_goAll_3 19 rfl rfl)
theorem dX6_goAll_89 : decode cX6_goAll 89 = .ok (.invokevirtual 118, 3) := dk_182 0 118 (dk_at dksX6_goAll_3 20 rfl rfl)
theorem dX6_goAll_92 : decode cX6_goAll 92 = .ok (.if_icmp .gt 65, 3) := dk_163 0 65 (dk_at dksX6_goAll_4 0 rfl rfl)
theorem dX6_goAll_95 : decode cX6_goAll 95 = .ok (.aload_n 0, 1) := dk_42 (dk_at dksX6_goAll_4 3 rfl rfl)
theorem dX6_goAll_96 : decode cX6_goAll 96 = .ok (.iload_n 1, 1) := dk_27 (dk_at dksX6_goAll_4 4 rfl rfl)
theorem dX6_goAll_97 : decode cX6_goAll 97 = .ok (.invokevirtual 320, 3) := dk_182 1 64 (dk_at dksX6_goAll_4 5 rfl rfl)
theorem dX6_goAll_100 : decode cX6_goAll 100 = .ok (.iconst 0, 1) := dk_3 (dk_at dksX6_goAll_4 8 rfl rfl)
theorem dX6_goAll_101 : decode cX6_goAll 101 = .ok (.istore_n 2, 1) := dk_61 (dk_at dksX6_goAll_4 9 rfl rfl)
theorem dX6_goAll_102 : decode cX6_goAll 102 = .ok (.iload_n 2, 1) := dk_28 (dk_at dksX6_goAll_4 10 rfl rfl)
theorem dX6_goAll_103 : decode cX6_goAll 103 = .ok (.aload_n 0, 1) := dk_42 (dk_at dksX6_goAll_4 11 rfl rfl)
theorem dX6_goAll_104 : decode cX6_goAll 104 = .ok (.invokevirtual 110, 3) := dk_182 0 110 (dk_at dksX6_goAll_4 12 rfl rfl)
theorem dX6_goAll_107 : decode cX6_goAll 107 = .ok (.if_icmp .ge 44, 3) := dk_162 0 44 (dk_at dksX6_goAll_4 15 rfl rfl)
theorem dX6_goAll_110 : decode cX6_goAll 110 = .ok (.iload_n 1, 1) := dk_27 (dk_at dksX6_goAll_4 18 rfl rfl)
theorem dX6_goAll_111 : decode cX6_goAll 111 = .ok (.aload_n 0, 1) := dk_42 (dk_at dksX6_goAll_4 19 rfl rfl)
theorem dX6_goAll_112 : decode cX6_goAll 112 = .ok (.invokevirtual 118, 3) := dk_182 0 118 (dk_at dksX6_goAll_4 20 rfl rfl)
theorem dX6_goAll_115 : decode cX6_goAll 115 = .ok (.if_icmp .ge 36, 3) := dk_162 0 36 (dk_at dksX6_goAll_5 0 rfl rfl)
theorem dX6_goAll_118 : decode cX6_goAll 118 = .ok (.aload_n 0, 1) := dk_42 (dk_at dksX6_goAll_5 3 rfl rfl)
theorem dX6_goAll_119 : decode cX6_goAll 119 = .ok (.iload_n 2, 1) := dk_28 (dk_at dksX6_goAll_5 4 rfl rfl)
theorem dX6_goAll_120 : decode cX6_goAll 120 = .ok (.iconst 3, 1) := dk_6 (dk_at dksX6_goAll_5 5 rfl rfl)
theorem dX6_goAll_121 : decode cX6_goAll 121 = .ok (.invokevirtual 267, 3) := dk_182 1 11 (dk_at dksX6_goAll_5 6 rfl rfl)
theorem dX6_goAll_124 : decode cX6_goAll 124 = .ok (.iload_n 1, 1) := dk_27 (dk_at dksX6_goAll_5 9 rfl rfl)
theorem dX6_goAll_125 : decode cX6_goAll 125 = .ok (.if_icmp .ne 20, 3) := dk_160 0 20 (dk_at dksX6_goAll_5 10 rfl rfl)
theorem dX6_goAll_128 : decode cX6_goAll 128 = .ok (.aload_n 0, 1) := dk_42 (dk_at dksX6_goAll_5 13 rfl rfl)
theorem dX6_goAll_129 : decode cX6_goAll 129 = .ok (.getfield 276, 3) := dk_180 1 20 (dk_at dksX6_goAll_5 14 rfl rfl)
theorem dX6_goAll_132 : decode cX6_goAll 132 = .ok (.iload_n 2, 1) := dk_28 (dk_at dksX6_goAll_5 17 rfl rfl)
theorem dX6_goAll_133 : decode cX6_goAll 133 = .ok (.invokestatic 323, 3) := dk_184 1 67 (dk_at dksX6_goAll_5 18 rfl rfl)
theorem dX6_goAll_136 : decode cX6_goAll 136 = .ok (.iconst 1, 1) := dk_4 (dk_at dksX6_goAll_5 21 rfl rfl)
theorem dX6_goAll_137 : decode cX6_goAll 137 = .ok (.if_icmp .ne 8, 3) := dk_160 0 8 (dk_at dksX6_goAll_6 0 rfl rfl)
theorem dX6_goAll_140 : decode cX6_goAll 140 = .ok (.aload_n 0, 1) := dk_42 (dk_at dksX6_goAll_6 3 rfl rfl)
theorem dX6_goAll_141 : decode cX6_goAll 141 = .ok (.iload_n 2, 1) := dk_28 (dk_at dksX6_goAll_6 4 rfl rfl)
theorem dX6_goAll_142 : decode cX6_goAll 142 = .ok (.invokevirtual 326, 3) := dk_182 1 70 (dk_at dksX6_goAll_6 5 rfl rfl)
theorem dX6_goAll_145 : decode cX6_goAll 145 = .ok (.iinc 2 1, 3) := dk_132 2 1 (dk_at dksX6_goAll_6 8 rfl rfl)
theorem dX6_goAll_148 : decode cX6_goAll 148 = .ok (.goto (-46), 3) := dk_167 255 210 (dk_at dksX6_goAll_6 11 rfl rfl)
theorem dX6_goAll_151 : decode cX6_goAll 151 = .ok (.iinc 1 1, 3) := dk_132 1 1 (dk_at dksX6_goAll_6 14 rfl rfl)
theorem dX6_goAll_154 : decode cX6_goAll 154 = .ok (.goto (-67), 3) := dk_167 255 189 (dk_at dksX6_goAll_6 17 rfl rfl)
theorem dX6_goAll_157 : decode cX6_goAll 157 = .ok (.return_, 1) := dk_177 (dk_at dksX6_goAll_6 20 rfl rfl)
abbrev cX6_years : ByteArray := prog_12_method_9_code
def yX6_years : MethodName := ⟨RX6, "years", "()I"⟩
def dkwX6_years_0 : List UInt8 := [42, 180, 0, 9, 3, 46, 172]
abbrev dktX6_years_0 : List UInt8 := dkwX6_years_0 ++ []
theorem dksX6_years_0 : cX6_years.data.toList.drop 0 = dktX6_years_0 := by decide +kernel
theorem dX6_years_0 : decode cX6_years 0 = .ok (.aload_n 0, 1) := dk_42 (dk_at dksX6_years_0 0 rfl rfl)
theorem dX6_years_1 : decode cX6_years 1 = .ok (.getfield 9, 3) := dk_180 0 9 (dk_at dksX6_years_0 1 rfl rfl)
theorem dX6_years_4 : decode cX6_years 4 = .ok (.iconst 0, 1) := dk_3 (dk_at dksX6_years_0 4 rfl rfl)
theorem dX6_years_5 : decode cX6_years 5 = .ok (.iaload, 1) := dk_46 (dk_at dksX6_years_0 5 rfl rfl)
theorem dX6_years_6 : decode cX6_years 6 = .ok (.ireturn, 1) := dk_172 (dk_at dksX6_years_0 6 rfl rfl)
abbrev cX6_keepYear : ByteArray := prog_12_method_52_code
def yX6_keepYear : MethodName := ⟨RX6, "keepYear", "(I)V"⟩
def dkwX6_keepYear_3 : List UInt8 := [79, 132, 2, 1, 167, 255, 230, 177]
abbrev dktX6_keepYear_3 : List UInt8 := dkwX6_keepYear_3 ++ []
def dkwX6_keepYear_2 : List UInt8 := [3, 61, 28, 16, 6, 162, 0, 26, 42, 180, 0, 73, 16, 6, 27, 104, 28, 96, 42, 180, 0, 52, 28, 46]
abbrev dktX6_keepYear_2 : List UInt8 := dkwX6_keepYear_2 ++ dktX6_keepYear_3
def dkwX6_keepYear_1 : List UInt8 := [84, 42, 180, 0, 70, 16, 80, 27, 104, 28, 96, 42, 180, 0, 49, 28, 46, 79, 132, 2, 1, 167, 255, 213]
abbrev dktX6_keepYear_1 : List UInt8 := dkwX6_keepYear_1 ++ dktX6_keepYear_2
def dkwX6_keepYear_0 : List UInt8 := [3, 61, 28, 16, 80, 162, 0, 43, 42, 180, 0, 67, 16, 80, 27, 104, 28, 96, 42, 180, 0, 40, 28, 51]
abbrev dktX6_keepYear_0 : List UInt8 := dkwX6_keepYear_0 ++ dktX6_keepYear_1
theorem dksX6_keepYear_0 : cX6_keepYear.data.toList.drop 0 = dktX6_keepYear_0 := by decide +kernel
theorem dksX6_keepYear_1 : cX6_keepYear.data.toList.drop 24 = dktX6_keepYear_1 := dk_seg dksX6_keepYear_0 24 rfl rfl
theorem dksX6_keepYear_2 : cX6_keepYear.data.toList.drop 48 = dktX6_keepYear_2 := dk_seg dksX6_keepYear_1 24 rfl rfl
theorem dksX6_keepYear_3 : cX6_keepYear.data.toList.drop 72 = dktX6_keepYear_3 := dk_seg dksX6_keepYear_2 24 rfl rfl
theorem dX6_keepYear_0 : decode cX6_keepYear 0 = .ok (.iconst 0, 1) := dk_3 (dk_at dksX6_keepYear_0 0 rfl rfl)
theorem dX6_keepYear_1 : decode cX6_keepYear 1 = .ok (.istore_n 2, 1) := dk_61 (dk_at dksX6_keepYear_0 1 rfl rfl)
theorem dX6_keepYear_2 : decode cX6_keepYear 2 = .ok (.iload_n 2, 1) := dk_28 (dk_at dksX6_keepYear_0 2 rfl rfl)
theorem dX6_keepYear_3 : decode cX6_keepYear 3 = .ok (.bipush 80, 2) := dk_16 80 (dk_at dksX6_keepYear_0 3 rfl rfl)
theorem dX6_keepYear_5 : decode cX6_keepYear 5 = .ok (.if_icmp .ge 43, 3) := dk_162 0 43 (dk_at dksX6_keepYear_0 5 rfl rfl)
theorem dX6_keepYear_8 : decode cX6_keepYear 8 = .ok (.aload_n 0, 1) := dk_42 (dk_at dksX6_keepYear_0 8 rfl rfl)
theorem dX6_keepYear_9 : decode cX6_keepYear 9 = .ok (.getfield 67, 3) := dk_180 0 67 (dk_at dksX6_keepYear_0 9 rfl rfl)
theorem dX6_keepYear_12 : decode cX6_keepYear 12 = .ok (.bipush 80, 2) := dk_16 80 (dk_at dksX6_keepYear_0 12 rfl rfl)
theorem dX6_keepYear_14 : decode cX6_keepYear 14 = .ok (.iload_n 1, 1) := dk_27 (dk_at dksX6_keepYear_0 14 rfl rfl)
theorem dX6_keepYear_15 : decode cX6_keepYear 15 = .ok (.imul, 1) := dk_104 (dk_at dksX6_keepYear_0 15 rfl rfl)
theorem dX6_keepYear_16 : decode cX6_keepYear 16 = .ok (.iload_n 2, 1) := dk_28 (dk_at dksX6_keepYear_0 16 rfl rfl)
theorem dX6_keepYear_17 : decode cX6_keepYear 17 = .ok (.iadd, 1) := dk_96 (dk_at dksX6_keepYear_0 17 rfl rfl)
theorem dX6_keepYear_18 : decode cX6_keepYear 18 = .ok (.aload_n 0, 1) := dk_42 (dk_at dksX6_keepYear_0 18 rfl rfl)
theorem dX6_keepYear_19 : decode cX6_keepYear 19 = .ok (.getfield 40, 3) := dk_180 0 40 (dk_at dksX6_keepYear_0 19 rfl rfl)
theorem dX6_keepYear_22 : decode cX6_keepYear 22 = .ok (.iload_n 2, 1) := dk_28 (dk_at dksX6_keepYear_0 22 rfl rfl)
theorem dX6_keepYear_23 : decode cX6_keepYear 23 = .ok (.baload, 1) := dk_51 (dk_at dksX6_keepYear_0 23 rfl rfl)
theorem dX6_keepYear_24 : decode cX6_keepYear 24 = .ok (.bastore, 1) := dk_84 (dk_at dksX6_keepYear_1 0 rfl rfl)
theorem dX6_keepYear_25 : decode cX6_keepYear 25 = .ok (.aload_n 0, 1) := dk_42 (dk_at dksX6_keepYear_1 1 rfl rfl)
theorem dX6_keepYear_26 : decode cX6_keepYear 26 = .ok (.getfield 70, 3) := dk_180 0 70 (dk_at dksX6_keepYear_1 2 rfl rfl)
theorem dX6_keepYear_29 : decode cX6_keepYear 29 = .ok (.bipush 80, 2) := dk_16 80 (dk_at dksX6_keepYear_1 5 rfl rfl)
theorem dX6_keepYear_31 : decode cX6_keepYear 31 = .ok (.iload_n 1, 1) := dk_27 (dk_at dksX6_keepYear_1 7 rfl rfl)
theorem dX6_keepYear_32 : decode cX6_keepYear 32 = .ok (.imul, 1) := dk_104 (dk_at dksX6_keepYear_1 8 rfl rfl)
theorem dX6_keepYear_33 : decode cX6_keepYear 33 = .ok (.iload_n 2, 1) := dk_28 (dk_at dksX6_keepYear_1 9 rfl rfl)
theorem dX6_keepYear_34 : decode cX6_keepYear 34 = .ok (.iadd, 1) := dk_96 (dk_at dksX6_keepYear_1 10 rfl rfl)
theorem dX6_keepYear_35 : decode cX6_keepYear 35 = .ok (.aload_n 0, 1) := dk_42 (dk_at dksX6_keepYear_1 11 rfl rfl)
theorem dX6_keepYear_36 : decode cX6_keepYear 36 = .ok (.getfield 49, 3) := dk_180 0 49 (dk_at dksX6_keepYear_1 12 rfl rfl)
theorem dX6_keepYear_39 : decode cX6_keepYear 39 = .ok (.iload_n 2, 1) := dk_28 (dk_at dksX6_keepYear_1 15 rfl rfl)
theorem dX6_keepYear_40 : decode cX6_keepYear 40 = .ok (.iaload, 1) := dk_46 (dk_at dksX6_keepYear_1 16 rfl rfl)
theorem dX6_keepYear_41 : decode cX6_keepYear 41 = .ok (.iastore, 1) := dk_79 (dk_at dksX6_keepYear_1 17 rfl rfl)
theorem dX6_keepYear_42 : decode cX6_keepYear 42 = .ok (.iinc 2 1, 3) := dk_132 2 1 (dk_at dksX6_keepYear_1 18 rfl rfl)
theorem dX6_keepYear_45 : decode cX6_keepYear 45 = .ok (.goto (-43), 3) := dk_167 255 213 (dk_at dksX6_keepYear_1 21 rfl rfl)
theorem dX6_keepYear_48 : decode cX6_keepYear 48 = .ok (.iconst 0, 1) := dk_3 (dk_at dksX6_keepYear_2 0 rfl rfl)
theorem dX6_keepYear_49 : decode cX6_keepYear 49 = .ok (.istore_n 2, 1) := dk_61 (dk_at dksX6_keepYear_2 1 rfl rfl)
theorem dX6_keepYear_50 : decode cX6_keepYear 50 = .ok (.iload_n 2, 1) := dk_28 (dk_at dksX6_keepYear_2 2 rfl rfl)
theorem dX6_keepYear_51 : decode cX6_keepYear 51 = .ok (.bipush 6, 2) := dk_16 6 (dk_at dksX6_keepYear_2 3 rfl rfl)
theorem dX6_keepYear_53 : decode cX6_keepYear 53 = .ok (.if_icmp .ge 26, 3) := dk_162 0 26 (dk_at dksX6_keepYear_2 5 rfl rfl)
theorem dX6_keepYear_56 : decode cX6_keepYear 56 = .ok (.aload_n 0, 1) := dk_42 (dk_at dksX6_keepYear_2 8 rfl rfl)
theorem dX6_keepYear_57 : decode cX6_keepYear 57 = .ok (.getfield 73, 3) := dk_180 0 73 (dk_at dksX6_keepYear_2 9 rfl rfl)
theorem dX6_keepYear_60 : decode cX6_keepYear 60 = .ok (.bipush 6, 2) := dk_16 6 (dk_at dksX6_keepYear_2 12 rfl rfl)
theorem dX6_keepYear_62 : decode cX6_keepYear 62 = .ok (.iload_n 1, 1) := dk_27 (dk_at dksX6_keepYear_2 14 rfl rfl)
theorem dX6_keepYear_63 : decode cX6_keepYear 63 = .ok (.imul, 1) := dk_104 (dk_at dksX6_keepYear_2 15 rfl rfl)
theorem dX6_keepYear_64 : decode cX6_keepYear 64 = .ok (.iload_n 2, 1) := dk_28 (dk_at dksX6_keepYear_2 16 rfl rfl)
theorem dX6_keepYear_65 : decode cX6_keepYear 65 = .ok (.iadd, 1) := dk_96 (dk_at dksX6_keepYear_2 17 rfl rfl)
theorem dX6_keepYear_66 : decode cX6_keepYear 66 = .ok (.aload_n 0, 1) := dk_42 (dk_at dksX6_keepYear_2 18 rfl rfl)
theorem dX6_keepYear_67 : decode cX6_keepYear 67 = .ok (.getfield 52, 3) := dk_180 0 52 (dk_at dksX6_keepYear_2 19 rfl rfl)
theorem dX6_keepYear_70 : decode cX6_keepYear 70 = .ok (.iload_n 2, 1) := dk_28 (dk_at dksX6_keepYear_2 22 rfl rfl)
theorem dX6_keepYear_71 : decode cX6_keepYear 71 = .ok (.iaload, 1) := dk_46 (dk_at dksX6_keepYear_2 23 rfl rfl)
theorem dX6_keepYear_72 : decode cX6_keepYear 72 = .ok (.iastore, 1) := dk_79 (dk_at dksX6_keepYear_3 0 rfl rfl)
theorem dX6_keepYear_73 : decode cX6_keepYear 73 = .ok (.iinc 2 1, 3) := dk_132 2 1 (dk_at dksX6_keepYear_3 1 rfl rfl)
theorem dX6_keepYear_76 : decode cX6_keepYear 76 = .ok (.goto (-26), 3) := dk_167 255 230 (dk_at dksX6_keepYear_3 4 rfl rfl)
theorem dX6_keepYear_79 : decode cX6_keepYear 79 = .ok (.return_, 1) := dk_177 (dk_at dksX6_keepYear_3 7 rfl rfl)
abbrev cX6_bit : ByteArray := prog_12_method_5_code
def yX6_bit : MethodName := ⟨RX6, "bit", "(II)I"⟩
def dkwX6_bit_0 : List UInt8 := [26, 27, 122, 4, 126, 172]
abbrev dktX6_bit_0 : List UInt8 := dkwX6_bit_0 ++ []
theorem dksX6_bit_0 : cX6_bit.data.toList.drop 0 = dktX6_bit_0 := by decide +kernel
theorem dX6_bit_0 : decode cX6_bit 0 = .ok (.iload_n 0, 1) := dk_26 (dk_at dksX6_bit_0 0 rfl rfl)
theorem dX6_bit_1 : decode cX6_bit 1 = .ok (.iload_n 1, 1) := dk_27 (dk_at dksX6_bit_0 1 rfl rfl)
theorem dX6_bit_2 : decode cX6_bit 2 = .ok (.ishr, 1) := dk_122 (dk_at dksX6_bit_0 2 rfl rfl)
theorem dX6_bit_3 : decode cX6_bit 3 = .ok (.iconst 1, 1) := dk_4 (dk_at dksX6_bit_0 3 rfl rfl)
theorem dX6_bit_4 : decode cX6_bit 4 = .ok (.iand, 1) := dk_126 (dk_at dksX6_bit_0 4 rfl rfl)
theorem dX6_bit_5 : decode cX6_bit 5 = .ok (.ireturn, 1) := dk_172 (dk_at dksX6_bit_0 5 rfl rfl)
abbrev cX6_walk : ByteArray := prog_12_method_48_code
def yX6_walk : MethodName := ⟨RX6, "walk", "(I)V"⟩
def dkwX6_walk_14 : List UInt8 := [132, 6, 1, 167, 255, 214, 42, 27, 182, 1, 48, 177]
abbrev dktX6_walk_14 : List UInt8 := dkwX6_walk_14 ++ []
def dkwX6_walk_13 : List UInt8 := [21, 6, 51, 154, 0, 13, 42, 180, 0, 46, 21, 6, 51, 153, 0, 7, 4, 167, 0, 4, 3, 84]
abbrev dktX6_walk_13 : List UInt8 := dkwX6_walk_13 ++ dktX6_walk_14
def dkwX6_walk_12 : List UInt8 := [167, 255, 59, 3, 54, 6, 21, 6, 16, 80, 162, 0, 41, 42, 180, 0, 40, 21, 6, 42, 180, 0, 40]
abbrev dktX6_walk_12 : List UInt8 := dkwX6_walk_12 ++ dktX6_walk_13
def dkwX6_walk_11 : List UInt8 := [27, 92, 46, 4, 96, 79, 42, 180, 0, 55, 21, 4, 42, 180, 0, 58, 27, 46, 96, 28, 79, 132, 6, 1]
abbrev dktX6_walk_11 : List UInt8 := dkwX6_walk_11 ++ dktX6_walk_12
def dkwX6_walk_10 : List UInt8 := [6, 160, 0, 12, 42, 180, 0, 43, 28, 51, 154, 0, 7, 4, 167, 0, 4, 3, 54, 5, 42, 180, 0, 58]
abbrev dktX6_walk_10 : List UInt8 := dkwX6_walk_10 ++ dktX6_walk_11
def dkwX6_walk_9 : List UInt8 := [46, 4, 29, 5, 96, 7, 112, 120, 128, 79, 21, 9, 61, 42, 180, 0, 46, 28, 4, 84, 42, 180, 1, 14]
abbrev dktX6_walk_9 : List UInt8 := dkwX6_walk_9 ++ dktX6_walk_10
def dkwX6_walk_8 : List UInt8 := [182, 1, 32, 54, 9, 42, 180, 0, 49, 28, 92, 46, 4, 29, 120, 128, 79, 42, 180, 0, 49, 21, 9, 92]
abbrev dktX6_walk_8 : List UInt8 := dkwX6_walk_8 ++ dktX6_walk_9
def dkwX6_walk_7 : List UInt8 := [132, 8, 1, 167, 255, 227, 21, 8, 7, 162, 0, 81, 29, 21, 8, 96, 7, 112, 62, 42, 28, 29]
abbrev dktX6_walk_7 : List UInt8 := dkwX6_walk_7 ++ dktX6_walk_8
def dkwX6_walk_6 : List UInt8 := [162, 0, 29, 42, 42, 28, 29, 21, 8, 96, 7, 112, 182, 1, 32, 21, 7, 182, 1, 35, 154, 0, 9]
abbrev dktX6_walk_6 : List UInt8 := dkwX6_walk_6 ++ dktX6_walk_7
def dkwX6_walk_5 : List UInt8 := [182, 1, 45, 153, 0, 10, 42, 180, 1, 14, 167, 0, 4, 3, 54, 7, 3, 54, 8, 21, 8, 7]
abbrev dktX6_walk_5 : List UInt8 := dkwX6_walk_5 ++ dktX6_walk_6
def dkwX6_walk_4 : List UInt8 := [21, 5, 153, 0, 187, 29, 42, 27, 21, 6, 182, 1, 42, 96, 7, 112, 62, 42, 28, 42, 180, 1, 14]
abbrev dktX6_walk_4 : List UInt8 := dkwX6_walk_4 ++ dktX6_walk_5
def dkwX6_walk_3 : List UInt8 := [180, 0, 58, 27, 3, 79, 4, 54, 5, 3, 54, 6, 21, 6, 42, 27, 5, 182, 1, 11, 162, 0, 192]
abbrev dktX6_walk_3 : List UInt8 := dkwX6_walk_3 ++ dktX6_walk_4
def dkwX6_walk_2 : List UInt8 := [16, 41, 27, 104, 54, 4, 42, 180, 0, 55, 21, 4, 28, 79, 42, 180, 0, 46, 28, 4, 84, 42]
abbrev dktX6_walk_2 : List UInt8 := dkwX6_walk_2 ++ dktX6_walk_3
def dkwX6_walk_1 : List UInt8 := [28, 3, 84, 132, 2, 1, 167, 255, 228, 42, 27, 3, 182, 1, 11, 61, 42, 180, 0, 37, 27, 46, 62]
abbrev dktX6_walk_1 : List UInt8 := dkwX6_walk_1 ++ dktX6_walk_2
def dkwX6_walk_0 : List UInt8 := [3, 61, 28, 16, 80, 162, 0, 28, 42, 180, 0, 43, 28, 42, 180, 0, 40, 28, 51, 84, 42, 180, 0, 46]
abbrev dktX6_walk_0 : List UInt8 := dkwX6_walk_0 ++ dktX6_walk_1
theorem dksX6_walk_0 : cX6_walk.data.toList.drop 0 = dktX6_walk_0 := by decide +kernel
theorem dksX6_walk_1 : cX6_walk.data.toList.drop 24 = dktX6_walk_1 := dk_seg dksX6_walk_0 24 rfl rfl
theorem dksX6_walk_2 : cX6_walk.data.toList.drop 47 = dktX6_walk_2 := dk_seg dksX6_walk_1 23 rfl rfl
theorem dksX6_walk_3 : cX6_walk.data.toList.drop 69 = dktX6_walk_3 := dk_seg dksX6_walk_2 22 rfl rfl
theorem dksX6_walk_4 : cX6_walk.data.toList.drop 92 = dktX6_walk_4 := dk_seg dksX6_walk_3 23 rfl rfl
theorem dksX6_walk_5 : cX6_walk.data.toList.drop 115 = dktX6_walk_5 := dk_seg dksX6_walk_4 23 rfl rfl
theorem dksX6_walk_6 : cX6_walk.data.toList.drop 137 = dktX6_walk_6 := dk_seg dksX6_walk_5 22 rfl rfl
theorem dksX6_walk_7 : cX6_walk.data.toList.drop 160 = dktX6_walk_7 := dk_seg dksX6_walk_6 23 rfl rfl
theorem dksX6_walk_8 : cX6_walk.data.toList.drop 182 = dktX6_walk_8 := dk_seg dksX6_walk_7 22 rfl rfl
theorem dksX6_walk_9 : cX6_walk.data.toList.drop 206 = dktX6_walk_9 := dk_seg dksX6_walk_8 24 rfl rfl
theorem dksX6_walk_10 : cX6_walk.data.toList.drop 230 = dktX6_walk_10 := dk_seg dksX6_walk_9 24 rfl rfl
theorem dksX6_walk_11 : cX6_walk.data.toList.drop 254 = dktX6_walk_11 := dk_seg dksX6_walk_10 24 rfl rfl
theorem dksX6_walk_12 : cX6_walk.data.toList.drop 278 = dktX6_walk_12 := dk_seg dksX6_walk_11 24 rfl rfl
theorem dksX6_walk_13 : cX6_walk.data.toList.drop 301 = dktX6_walk_13 := dk_seg dksX6_walk_12 23 rfl rfl
theorem dksX6_walk_14 : cX6_walk.data.toList.drop 323 = dktX6_walk_14 := dk_seg dksX6_walk_13 22 rfl rfl
theorem dX6_walk_0 : decode cX6_walk 0 = .ok (.iconst 0, 1) := dk_3 (dk_at dksX6_walk_0 0 rfl rfl)
theorem dX6_walk_1 : decode cX6_walk 1 = .ok (.istore_n 2, 1) := dk_61 (dk_at dksX6_walk_0 1 rfl rfl)
theorem dX6_walk_2 : decode cX6_walk 2 = .ok (.iload_n 2, 1) := dk_28 (dk_at dksX6_walk_0 2 rfl rfl)
theorem dX6_walk_3 : decode cX6_walk 3 = .ok (.bipush 80, 2) := dk_16 80 (dk_at dksX6_walk_0 3 rfl rfl)
theorem dX6_walk_5 : decode cX6_walk 5 = .ok (.if_icmp .ge 28, 3) := dk_162 0 28 (dk_at dksX6_walk_0 5 rfl rfl)
theorem dX6_walk_8 : decode cX6_walk 8 = .ok (.aload_n 0, 1) := dk_42 (dk_at dksX6_walk_0 8 rfl rfl)
theorem dX6_walk_9 : decode cX6_walk 9 = .ok (.getfield 43, 3) := dk_180 0 43 (dk_at dksX6_walk_0 9 rfl rfl)
theorem dX6_walk_12 : decode cX6_walk 12 = .ok (.iload_n 2, 1) := dk_28 (dk_at dksX6_walk_0 12 rfl rfl)
theorem dX6_walk_13 : decode cX6_walk 13 = .ok (.aload_n 0, 1) := dk_42 (dk_at dksX6_walk_0 13 rfl rfl)
theorem dX6_walk_14 : decode cX6_walk 14 = .ok (.getfield 40, 3) := dk_180 0 40 (dk_at dksX6_walk_0 14 rfl rfl)
theorem dX6_walk_17 : decode cX6_walk 17 = .ok (.iload_n 2, 1) := dk_28 (dk_at dksX6_walk_0 17 rfl rfl)
theorem dX6_walk_18 : decode cX6_walk 18 = .ok (.baload, 1) := dk_51 (dk_at dksX6_walk_0 18 rfl rfl)
theorem dX6_walk_19 : decode cX6_walk 19 = .ok (.bastore, 1) := dk_84 (dk_at dksX6_walk_0 19 rfl rfl)
theorem dX6_walk_20 : decode cX6_walk 20 = .ok (.aload_n 0, 1) := dk_42 (dk_at dksX6_walk_0 20 rfl rfl)
theorem dX6_walk_21 : decode cX6_walk 21 = .ok (.getfield 46, 3) := dk_180 0 46 (dk_at dksX6_walk_0 21 rfl rfl)
theorem dX6_walk_24 : decode cX6_walk 24 = .ok (.iload_n 2, 1) := dk_28 (dk_at dksX6_walk_1 0 rfl rfl)
theorem dX6_walk_25 : decode cX6_walk 25 = .ok (.iconst 0, 1) := dk_3 (dk_at dksX6_walk_1 1 rfl rfl)
theorem dX6_walk_26 : decode cX6_walk 26 = .ok (.bastore, 1) := dk_84 (dk_at dksX6_walk_1 2 rfl rfl)
theorem dX6_walk_27 : decode cX6_walk 27 = .ok (.iinc 2 1, 3) := dk_132 2 1 (dk_at dksX6_walk_1 3 rfl rfl)
theorem dX6_walk_30 : decode cX6_walk 30 = .ok (.goto (-28), 3) := dk_167 255 228 (dk_at dksX6_walk_1 6 rfl rfl)
theorem dX6_walk_33 : decode cX6_walk 33 = .ok (.aload_n 0, 1) := dk_42 (dk_at dksX6_walk_1 9 rfl rfl)
theorem dX6_walk_34 : decode cX6_walk 34 = .ok (.iload_n 1, 1) := dk_27 (dk_at dksX6_walk_1 10 rfl rfl)
theorem dX6_walk_35 : decode cX6_walk 35 = .ok (.iconst 0, 1) := dk_3 (dk_at dksX6_walk_1 11 rfl rfl)
theorem dX6_walk_36 : decode cX6_walk 36 = .ok (.invokevirtual 267, 3) := dk_182 1 11 (dk_at dksX6_walk_1 12 rfl rfl)
theorem dX6_walk_39 : decode cX6_walk 39 = .ok (.istore_n 2, 1) := dk_61 (dk_at dksX6_walk_1 15 rfl rfl)
theorem dX6_walk_40 : decode cX6_walk 40 = .ok (.aload_n 0, 1) := dk_42 (dk_at dksX6_walk_1 16 rfl rfl)
theorem dX6_walk_41 : decode cX6_walk 41 = .ok (.getfield 37, 3) := dk_180 0 37 (dk_at dksX6_walk_1 17 rfl rfl)
theorem dX6_walk_44 : decode cX6_walk 44 = .ok (.iload_n 1, 1) := dk_27 (dk_at dksX6_walk_1 20 rfl rfl)
theorem dX6_walk_45 : decode cX6_walk 45 = .ok (.iaload, 1) := dk_46 (dk_at dksX6_walk_1 21 rfl rfl)
theorem dX6_walk_46 : decode cX6_walk 46 = .ok (.istore_n 3, 1) := dk_62 (dk_at dksX6_walk_1 22 rfl rfl)
theorem dX6_walk_47 : decode cX6_walk 47 = .ok (.bipush 41, 2) := dk_16 41 (dk_at dksX6_walk_2 0 rfl rfl)
theorem dX6_walk_49 : decode cX6_walk 49 = .ok (.iload_n 1, 1) := dk_27 (dk_at dksX6_walk_2 2 rfl rfl)
theorem dX6_walk_50 : decode cX6_walk 50 = .ok (.imul, 1) := dk_104 (dk_at dksX6_walk_2 3 rfl rfl)
theorem dX6_walk_51 : decode cX6_walk 51 = .ok (.istore 4, 2) := dk_54 4 (dk_at dksX6_walk_2 4 rfl rfl)
theorem dX6_walk_53 : decode cX6_walk 53 = .ok (.aload_n 0, 1) := dk_42 (dk_at dksX6_walk_2 6 rfl rfl)
theorem dX6_walk_54 : decode cX6_walk 54 = .ok (.getfield 55, 3) := dk_180 0 55 (dk_at dksX6_walk_2 7 rfl rfl)
theorem dX6_walk_57 : decode cX6_walk 57 = .ok (.iload 4, 2) := dk_21 4 (dk_at dksX6_walk_2 10 rfl rfl)
theorem dX6_walk_59 : decode cX6_walk 59 = .ok (.iload_n 2, 1) := dk_28 (dk_at dksX6_walk_2 12 rfl rfl)
theorem dX6_walk_60 : decode cX6_walk 60 = .ok (.iastore, 1) := dk_79 (dk_at dksX6_walk_2 13 rfl rfl)
theorem dX6_walk_61 : decode cX6_walk 61 = .ok (.aload_n 0, 1) := dk_42 (dk_at dksX6_walk_2 14 rfl rfl)
theorem dX6_walk_62 : decode cX6_walk 62 = .ok (.getfield 46, 3) := dk_180 0 46 (dk_at dksX6_walk_2 15 rfl rfl)
theorem dX6_walk_65 : decode cX6_walk 65 = .ok (.iload_n 2, 1) := dk_28 (dk_at dksX6_walk_2 18 rfl rfl)
theorem dX6_walk_66 : decode cX6_walk 66 = .ok (.iconst 1, 1) := dk_4 (dk_at dksX6_walk_2 19 rfl rfl)
theorem dX6_walk_67 : decode cX6_walk 67 = .ok (.bastore, 1) := dk_84 (dk_at dksX6_walk_2 20 rfl rfl)
theorem dX6_walk_68 : decode cX6_walk 68 = .ok (.aload_n 0, 1) := dk_42 (dk_at dksX6_walk_2 21 rfl rfl)
theorem dX6_walk_69 : decode cX6_walk 69 = .ok (.getfield 58, 3) := dk_180 0 58 (dk_at dksX6_walk_3 0 rfl rfl)
theorem dX6_walk_72 : decode cX6_walk 72 = .ok (.iload_n 1, 1) := dk_27 (dk_at dksX6_walk_3 3 rfl rfl)
theorem dX6_walk_73 : decode cX6_walk 73 = .ok (.iconst 0, 1) := dk_3 (dk_at dksX6_walk_3 4 rfl rfl)
theorem dX6_walk_74 : decode cX6_walk 74 = .ok (.iastore, 1) := dk_79 (dk_at dksX6_walk_3 5 rfl rfl)
theorem dX6_walk_75 : decode cX6_walk 75 = .ok (.iconst 1, 1) := dk_4 (dk_at dksX6_walk_3 6 rfl rfl)
theorem dX6_walk_76 : decode cX6_walk 76 = .ok (.istore 5, 2) := dk_54 5 (dk_at dksX6_walk_3 7 rfl rfl)
theorem dX6_walk_78 : decode cX6_walk 78 = .ok (.iconst 0, 1) := dk_3 (dk_at dksX6_walk_3 9 rfl rfl)
theorem dX6_walk_79 : decode cX6_walk 79 = .ok (.istore 6, 2) := dk_54 6 (dk_at dksX6_walk_3 10 rfl rfl)
theorem dX6_walk_81 : decode cX6_walk 81 = .ok (.iload 6, 2) := dk_21 6 (dk_at dksX6_walk_3 12 rfl rfl)
theorem dX6_walk_83 : decode cX6_walk 83 = .ok (.aload_n 0, 1) := dk_42 (dk_at dksX6_walk_3 14 rfl rfl)
theorem dX6_walk_84 : decode cX6_walk 84 = .ok (.iload_n 1, 1) := dk_27 (dk_at dksX6_walk_3 15 rfl rfl)
theorem dX6_walk_85 : decode cX6_walk 85 = .ok (.iconst 2, 1) := dk_5 (dk_at dksX6_walk_3 16 rfl rfl)
theorem dX6_walk_86 : decode cX6_walk 86 = .ok (.invokevirtual 267, 3) := dk_182 1 11 (dk_at dksX6_walk_3 17 rfl rfl)
theorem dX6_walk_89 : decode cX6_walk 89 = .ok (.if_icmp .ge 192, 3) := dk_162 0 192 (dk_at dksX6_walk_3 20 rfl rfl)
theorem dX6_walk_92 : decode cX6_walk 92 = .ok (.iload 5, 2) := dk_21 5 (dk_at dksX6_walk_4 0 rfl rfl)
theorem dX6_walk_94 : decode cX6_walk 94 = .ok (.ifCond .eq 187, 3) := dk_153 0 187 (dk_at dksX6_walk_4 2 rfl rfl)
theorem dX6_walk_97 : decode cX6_walk 97 = .ok (.iload_n 3, 1) := dk_29 (dk_at dksX6_walk_4 5 rfl rfl)
theorem dX6_walk_98 : decode cX6_walk 98 = .ok (.aload_n 0, 1) := dk_42 (dk_at dksX6_walk_4 6 rfl rfl)
theorem dX6_walk_99 : decode cX6_walk 99 = .ok (.iload_n 1, 1) := dk_27 (dk_at dksX6_walk_4 7 rfl rfl)
theorem dX6_walk_100 : decode cX6_walk 100 = .ok (.iload 6, 2) := dk_21 6 (dk_at dksX6_walk_4 8 rfl rfl)
theorem dX6_walk_102 : decode cX6_walk 102 = .ok (.invokevirtual 298, 3) := dk_182 1 42 (dk_at dksX6_walk_4 10 rfl rfl)
theorem dX6_walk_105 : decode cX6_walk 105 = .ok (.iadd, 1) := dk_96 (dk_at dksX6_walk_4 13 rfl rfl)
theorem dX6_walk_106 : decode cX6_walk 106 = .ok (.iconst 4, 1) := dk_7 (dk_at dksX6_walk_4 14 rfl rfl)
theorem dX6_walk_107 : decode cX6_walk 107 = .ok (.irem, 1) := dk_112 (dk_at dksX6_walk_4 15 rfl rfl)
theorem dX6_walk_108 : decode cX6_walk 108 = .ok (.istore_n 3, 1) := dk_62 (dk_at dksX6_walk_4 16 rfl rfl)
theorem dX6_walk_109 : decode cX6_walk 109 = .ok (.aload_n 0, 1) := dk_42 (dk_at dksX6_walk_4 17 rfl rfl)
theorem dX6_walk_110 : decode cX6_walk 110 = .ok (.iload_n 2, 1) := dk_28 (dk_at dksX6_walk_4 18 rfl rfl)
theorem dX6_walk_111 : decode cX6_walk 111 = .ok (.aload_n 0, 1) := dk_42 (dk_at dksX6_walk_4 19 rfl rfl)
theorem dX6_walk_112 : decode cX6_walk 112 = .ok (.getfield 270, 3) := dk_180 1 14 (dk_at dksX6_walk_4 20 rfl rfl)
theorem dX6_walk_115 : decode cX6_walk 115 = .ok (.invokevirtual 301, 3) := dk_182 1 45 (dk_at dksX6_walk_5 0 rfl rfl)
theorem dX6_walk_118 : decode cX6_walk 118 = .ok (.ifCond .eq 10, 3) := dk_153 0 10 (dk_at dksX6_walk_5 3 rfl rfl)
theorem dX6_walk_121 : decode cX6_walk 121 = .ok (.aload_n 0, 1) := dk_42 (dk_at dksX6_walk_5 6 rfl rfl)
theorem dX6_walk_122 : decode cX6_walk 122 = .ok (.getfield 270, 3) := dk_180 1 14 (dk_at dksX6_walk_5 7 rfl rfl)
theorem dX6_walk_125 : decode cX6_walk 125 = .ok (.goto 4, 3) := dk_167 0 4 (dk_at dksX6_walk_5 10 rfl rfl)
theorem dX6_walk_128 : decode cX6_walk 128 = .ok (.iconst 0, 1) := dk_3 (dk_at dksX6_walk_5 13 rfl rfl)
theorem dX6_walk_129 : decode cX6_walk 129 = .ok (.istore 7, 2) := dk_54 7 (dk_at dksX6_walk_5 14 rfl rfl)
theorem dX6_walk_131 : decode cX6_walk 131 = .ok (.iconst 0, 1) := dk_3 (dk_at dksX6_walk_5 16 rfl rfl)
theorem dX6_walk_132 : decode cX6_walk 132 = .ok (.istore 8, 2) := dk_54 8 (dk_at dksX6_walk_5 17 rfl rfl)
theorem dX6_walk_134 : decode cX6_walk 134 = .ok (.iload 8, 2) := dk_21 8 (dk_at dksX6_walk_5 19 rfl rfl)
theorem dX6_walk_136 : decode cX6_walk 136 = .ok (.iconst 4, 1) := dk_7 (dk_at dksX6_walk_5 21 rfl rfl)
theorem dX6_walk_137 : decode cX6_walk 137 = .ok (.if_icmp .ge 29, 3) := dk_162 0 29 (dk_at dksX6_walk_6 0 rfl rfl)
theorem dX6_walk_140 : decode cX6_walk 140 = .ok (.aload_n 0, 1) := dk_42 (dk_at dksX6_walk_6 3 rfl rfl)
theorem dX6_walk_141 : decode cX6_walk 141 = .ok (.aload_n 0, 1) := dk_42 (dk_at dksX6_walk_6 4 rfl rfl)
theorem dX6_walk_142 : decode cX6_walk 142 = .ok (.iload_n 2, 1) := dk_28 (dk_at dksX6_walk_6 5 rfl rfl)
theorem dX6_walk_143 : decode cX6_walk 143 = .ok (.iload_n 3, 1) := dk_29 (dk_at dksX6_walk_6 6 rfl rfl)
theorem dX6_walk_144 : decode cX6_walk 144 = .ok (.iload 8, 2) := dk_21 8 (dk_at dksX6_walk_6 7 rfl rfl)
theorem dX6_walk_146 : decode cX6_walk 146 = .ok (.iadd, 1) := dk_96 (dk_at dksX6_walk_6 9 rfl rfl)
theorem dX6_walk_147 : decode cX6_walk 147 = .ok (.iconst 4, 1) := dk_7 (dk_at dksX6_walk_6 10 rfl rfl)
theorem dX6_walk_148 : decode cX6_walk 148 = .ok (.irem, 1) := dk_112 (dk_at dksX6_walk_6 11 rfl rfl)
theorem dX6_walk_149 : decode cX6_walk 149 = .ok (.invokevirtual 288, 3) := dk_182 1 32 (dk_at dksX6_walk_6 12 rfl rfl)
theorem dX6_walk_152 : decode cX6_walk 152 = .ok (.iload 7, 2) := dk_21 7 (dk_at dksX6_walk_6 15 rfl rfl)
theorem dX6_walk_154 : decode cX6_walk 154 = .ok (.invokevirtual 291, 3) := dk_182 1 35 (dk_at dksX6_walk_6 17 rfl rfl)
theorem dX6_walk_157 : decode cX6_walk 157 = .ok (.ifCond .ne 9, 3) := dk_154 0 9 (dk_at dksX6_walk_6 20 rfl rfl)
theorem dX6_walk_160 : decode cX6_walk 160 = .ok (.iinc 8 1, 3) := dk_132 8 1 (dk_at dksX6_walk_7 0 rfl rfl)
theorem dX6_walk_163 : decode cX6_walk 163 = .ok (.goto (-29), 3) := dk_167 255 227 (dk_at dksX6_walk_7 3 rfl rfl)
theorem dX6_walk_166 : decode cX6_walk 166 = .ok (.iload 8, 2) := dk_21 8 (dk_at dksX6_walk_7 6 rfl rfl)
theorem dX6_walk_168 : decode cX6_walk 168 = .ok (.iconst 4, 1) := dk_7 (dk_at dksX6_walk_7 8 rfl rfl)
theorem dX6_walk_169 : decode cX6_walk 169 = .ok (.if_icmp .ge 81, 3) := dk_162 0 81 (dk_at dksX6_walk_7 9 rfl rfl)
theorem dX6_walk_172 : decode cX6_walk 172 = .ok (.iload_n 3, 1) := dk_29 (dk_at dksX6_walk_7 12 rfl rfl)
theorem dX6_walk_173 : decode cX6_walk 173 = .ok (.iload 8, 2) := dk_21 8 (dk_at dksX6_walk_7 13 rfl rfl)
theorem dX6_walk_175 : decode cX6_walk 175 = .ok (.iadd, 1) := dk_96 (dk_at dksX6_walk_7 15 rfl rfl)
theorem dX6_walk_176 : decode cX6_walk 176 = .ok (.iconst 4, 1) := dk_7 (dk_at dksX6_walk_7 16 rfl rfl)
theorem dX6_walk_177 : decode cX6_walk 177 = .ok (.irem, 1) := dk_112 (dk_at dksX6_walk_7 17 rfl rfl)
theorem dX6_walk_178 : decode cX6_walk 178 = .ok (.istore_n 3, 1) := dk_62 (dk_at dksX6_walk_7 18 rfl rfl)
theorem dX6_walk_179 : decode cX6_walk 179 = .ok (.aload_n 0, 1) := dk_42 (dk_at dksX6_walk_7 19 rfl rfl)
theorem dX6_walk_180 : decode cX6_walk 180 = .ok (.iload_n 2, 1) := dk_28 (dk_at dksX6_walk_7 20 rfl rfl)
theorem dX6_walk_181 : decode cX6_walk 181 = .ok (.iload_n 3, 1) := dk_29 (dk_at dksX6_walk_7 21 rfl rfl)
theorem dX6_walk_182 : decode cX6_walk 182 = .ok (.invokevirtual 288, 3) := dk_182 1 32 (dk_at dksX6_walk_8 0 rfl rfl)
theorem dX6_walk_185 : decode cX6_walk 185 = .ok (.istore 9, 2) := dk_54 9 (dk_at dksX6_walk_8 3 rfl rfl)
theorem dX6_walk_187 : decode cX6_walk 187 = .ok (.aload_n 0, 1) := dk_42 (dk_at dksX6_walk_8 5 rfl rfl)
theorem dX6_walk_188 : decode cX6_walk 188 = .ok (.getfield 49, 3) := dk_180 0 49 (dk_at dksX6_walk_8 6 rfl rfl)
theorem dX6_walk_191 : decode cX6_walk 191 = .ok (.iload_n 2, 1) := dk_28 (dk_at dksX6_walk_8 9 rfl rfl)
theorem dX6_walk_192 : decode cX6_walk 192 = .ok (.dup2, 1) := dk_92 (dk_at dksX6_walk_8 10 rfl rfl)
theorem dX6_walk_193 : decode cX6_walk 193 = .ok (.iaload, 1) := dk_46 (dk_at dksX6_walk_8 11 rfl rfl)
theorem dX6_walk_194 : decode cX6_walk 194 = .ok (.iconst 1, 1) := dk_4 (dk_at dksX6_walk_8 12 rfl rfl)
theorem dX6_walk_195 : decode cX6_walk 195 = .ok (.iload_n 3, 1) := dk_29 (dk_at dksX6_walk_8 13 rfl rfl)
theorem dX6_walk_196 : decode cX6_walk 196 = .ok (.ishl, 1) := dk_120 (dk_at dksX6_walk_8 14 rfl rfl)
theorem dX6_walk_197 : decode cX6_walk 197 = .ok (.ior, 1) := dk_128 (dk_at dksX6_walk_8 15 rfl rfl)
theorem dX6_walk_198 : decode cX6_walk 198 = .ok (.iastore, 1) := dk_79 (dk_at dksX6_walk_8 16 rfl rfl)
theorem dX6_walk_199 : decode cX6_walk 199 = .ok (.aload_n 0, 1) := dk_42 (dk_at dksX6_walk_8 17 rfl rfl)
theorem dX6_walk_200 : decode cX6_walk 200 = .ok (.getfield 49, 3) := dk_180 0 49 (dk_at dksX6_walk_8 18 rfl rfl)
theorem dX6_walk_203 : decode cX6_walk 203 = .ok (.iload 9, 2) := dk_21 9 (dk_at dksX6_walk_8 21 rfl rfl)
theorem dX6_walk_205 : decode cX6_walk 205 = .ok (.dup2, 1) := dk_92 (dk_at dksX6_walk_8 23 rfl rfl)
theorem dX6_walk_206 : decode cX6_walk 206 = .ok (.iaload, 1) := dk_46 (dk_at dksX6_walk_9 0 rfl rfl)
theorem dX6_walk_207 : decode cX6_walk 207 = .ok (.iconst 1, 1) := dk_4 (dk_at dksX6_walk_9 1 rfl rfl)
theorem dX6_walk_208 : decode cX6_walk 208 = .ok (.iload_n 3, 1) := dk_29 (dk_at dksX6_walk_9 2 rfl rfl)
theorem dX6_walk_209 : decode cX6_walk 209 = .ok (.iconst 2, 1) := dk_5 (dk_at dksX6_walk_9 3 rfl rfl)
theorem dX6_walk_210 : decode cX6_walk 210 = .ok (.iadd, 1) := dk_96 (dk_at dksX6_walk_9 4 rfl rfl)
theorem dX6_walk_211 : decode cX6_walk 211 = .ok (.iconst 4, 1) := dk_7 (dk_at dksX6_walk_9 5 rfl rfl)
theorem dX6_walk_212 : decode cX6_walk 212 = .ok (.irem, 1) := dk_112 (dk_at dksX6_walk_9 6 rfl rfl)
theorem dX6_walk_213 : decode cX6_walk 213 = .ok (.ishl, 1) := dk_120 (dk_at dksX6_walk_9 7 rfl rfl)
theorem dX6_walk_214 : decode cX6_walk 214 = .ok (.ior, 1) := dk_128 (dk_at dksX6_walk_9 8 rfl rfl)
theorem dX6_walk_215 : decode cX6_walk 215 = .ok (.iastore, 1) := dk_79 (dk_at dksX6_walk_9 9 rfl rfl)
theorem dX6_walk_216 : decode cX6_walk 216 = .ok (.iload 9, 2) := dk_21 9 (dk_at dksX6_walk_9 10 rfl rfl)
theorem dX6_walk_218 : decode cX6_walk 218 = .ok (.istore_n 2, 1) := dk_61 (dk_at dksX6_walk_9 12 rfl rfl)
theorem dX6_walk_219 : decode cX6_walk 219 = .ok (.aload_n 0, 1) := dk_42 (dk_at dksX6_walk_9 13 rfl rfl)
theorem dX6_walk_220 : decode cX6_walk 220 = .ok (.getfield 46, 3) := dk_180 0 46 (dk_at dksX6_walk_9 14 rfl rfl)
theorem dX6_walk_223 : decode cX6_walk 223 = .ok (.iload_n 2, 1) := dk_28 (dk_at dksX6_walk_9 17 rfl rfl)
theorem dX6_walk_224 : decode cX6_walk 224 = .ok (.iconst 1, 1) := dk_4 (dk_at dksX6_walk_9 18 rfl rfl)
theorem dX6_walk_225 : decode cX6_walk 225 = .ok (.bastore, 1) := dk_84 (dk_at dksX6_walk_9 19 rfl rfl)
theorem dX6_walk_226 : decode cX6_walk 226 = .ok (.aload_n 0, 1) := dk_42 (dk_at dksX6_walk_9 20 rfl rfl)
theorem dX6_walk_227 : decode cX6_walk 227 = .ok (.getfield 270, 3) := dk_180 1 14 (dk_at dksX6_walk_9 21 rfl rfl)
theorem dX6_walk_230 : decode cX6_walk 230 = .ok (.iconst 3, 1) := dk_6 (dk_at dksX6_walk_10 0 rfl rfl)
theorem dX6_walk_231 : decode cX6_walk 231 = .ok (.if_icmp .ne 12, 3) := dk_160 0 12 (dk_at dksX6_walk_10 1 rfl rfl)
theorem dX6_walk_234 : decode cX6_walk 234 = .ok (.aload_n 0, 1) := dk_42 (dk_at dksX6_walk_10 4 rfl rfl)
theorem dX6_walk_235 : decode cX6_walk 235 = .ok (.getfield 43, 3) := dk_180 0 43 (dk_at dksX6_walk_10 5 rfl rfl)
theorem dX6_walk_238 : decode cX6_walk 238 = .ok (.iload_n 2, 1) := dk_28 (dk_at dksX6_walk_10 8 rfl rfl)
theorem dX6_walk_239 : decode cX6_walk 239 = .ok (.baload, 1) := dk_51 (dk_at dksX6_walk_10 9 rfl rfl)
theorem dX6_walk_240 : decode cX6_walk 240 = .ok (.ifCond .ne 7, 3) := dk_154 0 7 (dk_at dksX6_walk_10 10 rfl rfl)
theorem dX6_walk_243 : decode cX6_walk 243 = .ok (.iconst 1, 1) := dk_4 (dk_at dksX6_walk_10 13 rfl rfl)
theorem dX6_walk_244 : decode cX6_walk 244 = .ok (.goto 4, 3) := dk_167 0 4 (dk_at dksX6_walk_10 14 rfl rfl)
theorem dX6_walk_247 : decode cX6_walk 247 = .ok (.iconst 0, 1) := dk_3 (dk_at dksX6_walk_10 17 rfl rfl)
theorem dX6_walk_248 : decode cX6_walk 248 = .ok (.istore 5, 2) := dk_54 5 (dk_at dksX6_walk_10 18 rfl rfl)
theorem dX6_walk_250 : decode cX6_walk 250 = .ok (.aload_n 0, 1) := dk_42 (dk_at dksX6_walk_10 20 rfl rfl)
theorem dX6_walk_251 : decode cX6_walk 251 = .ok (.getfield 58, 3) := dk_180 0 58 (dk_at dksX6_walk_10 21 rfl rfl)
theorem dX6_walk_254 : decode cX6_walk 254 = .ok (.iload_n 1, 1) := dk_27 (dk_at dksX6_walk_11 0 rfl rfl)
theorem dX6_walk_255 : decode cX6_walk 255 = .ok (.dup2, 1) := dk_92 (dk_at dksX6_walk_11 1 rfl rfl)
theorem dX6_walk_256 : decode cX6_walk 256 = .ok (.iaload, 1) := dk_46 (dk_at dksX6_walk_11 2 rfl rfl)
theorem dX6_walk_257 : decode cX6_walk 257 = .ok (.iconst 1, 1) := dk_4 (dk_at dksX6_walk_11 3 rfl rfl)
theorem dX6_walk_258 : decode cX6_walk 258 = .ok (.iadd, 1) := dk_96 (dk_at dksX6_walk_11 4 rfl rfl)
theorem dX6_walk_259 : decode cX6_walk 259 = .ok (.iastore, 1) := dk_79 (dk_at dksX6_walk_11 5 rfl rfl)
theorem dX6_walk_260 : decode cX6_walk 260 = .ok (.aload_n 0, 1) := dk_42 (dk_at dksX6_walk_11 6 rfl rfl)
theorem dX6_walk_261 : decode cX6_walk 261 = .ok (.getfield 55, 3) := dk_180 0 55 (dk_at dksX6_walk_11 7 rfl rfl)
theorem dX6_walk_264 : decode cX6_walk 264 = .ok (.iload 4, 2) := dk_21 4 (dk_at dksX6_walk_11 10 rfl rfl)
theorem dX6_walk_266 : decode cX6_walk 266 = .ok (.aload_n 0, 1) := dk_42 (dk_at dksX6_walk_11 12 rfl rfl)
theorem dX6_walk_267 : decode cX6_walk 267 = .ok (.getfield 58, 3) := dk_180 0 58 (dk_at dksX6_walk_11 13 rfl rfl)
theorem dX6_walk_270 : decode cX6_walk 270 = .ok (.iload_n 1, 1) := dk_27 (dk_at dksX6_walk_11 16 rfl rfl)
theorem dX6_walk_271 : decode cX6_walk 271 = .ok (.iaload, 1) := dk_46 (dk_at dksX6_walk_11 17 rfl rfl)
theorem dX6_walk_272 : decode cX6_walk 272 = .ok (.iadd, 1) := dk_96 (dk_at dksX6_walk_11 18 rfl rfl)
theorem dX6_walk_273 : decode cX6_walk 273 = .ok (.iload_n 2, 1) := dk_28 (dk_at dksX6_walk_11 19 rfl rfl)
theorem dX6_walk_274 : decode cX6_walk 274 = .ok (.iastore, 1) := dk_79 (dk_at dksX6_walk_11 20 rfl rfl)
theorem dX6_walk_275 : decode cX6_walk 275 = .ok (.iinc 6 1, 3) := dk_132 6 1 (dk_at dksX6_walk_11 21 rfl rfl)
theorem dX6_walk_278 : decode cX6_walk 278 = .ok (.goto (-197), 3) := dk_167 255 59 (dk_at dksX6_walk_12 0 rfl rfl)
theorem dX6_walk_281 : decode cX6_walk 281 = .ok (.iconst 0, 1) := dk_3 (dk_at dksX6_walk_12 3 rfl rfl)
theorem dX6_walk_282 : decode cX6_walk 282 = .ok (.istore 6, 2) := dk_54 6 (dk_at dksX6_walk_12 4 rfl rfl)
theorem dX6_walk_284 : decode cX6_walk 284 = .ok (.iload 6, 2) := dk_21 6 (dk_at dksX6_walk_12 6 rfl rfl)
theorem dX6_walk_286 : decode cX6_walk 286 = .ok (.bipush 80, 2) := dk_16 80 (dk_at dksX6_walk_12 8 rfl rfl)
theorem dX6_walk_288 : decode cX6_walk 288 = .ok (.if_icmp .ge 41, 3) := dk_162 0 41 (dk_at dksX6_walk_12 10 rfl rfl)
theorem dX6_walk_291 : decode cX6_walk 291 = .ok (.aload_n 0, 1) := dk_42 (dk_at dksX6_walk_12 13 rfl rfl)
theorem dX6_walk_292 : decode cX6_walk 292 = .ok (.getfield 40, 3) := dk_180 0 40 (dk_at dksX6_walk_12 14 rfl rfl)
theorem dX6_walk_295 : decode cX6_walk 295 = .ok (.iload 6, 2) := dk_21 6 (dk_at dksX6_walk_12 17 rfl rfl)
theorem dX6_walk_297 : decode cX6_walk 297 = .ok (.aload_n 0, 1) := dk_42 (dk_at dksX6_walk_12 19 rfl rfl)
theorem dX6_walk_298 : decode cX6_walk 298 = .ok (.getfield 40, 3) := dk_180 0 40 (dk_at dksX6_walk_12 20 rfl rfl)
theorem dX6_walk_301 : decode cX6_walk 301 = .ok (.iload 6, 2) := dk_21 6 (dk_at dksX6_walk_13 0 rfl rfl)
theorem dX6_walk_303 : decode cX6_walk 303 = .ok (.baload, 1) := dk_51 (dk_at dksX6_walk_13 2 rfl rfl)
theorem dX6_walk_304 : decode cX6_walk 304 = .ok (.ifCond .ne 13, 3) := dk_154 0 13 (dk_at dksX6_walk_13 3 rfl rfl)
theorem dX6_walk_307 : decode cX6_walk 307 = .ok (.aload_n 0, 1) := dk_42 (dk_at dksX6_walk_13 6 rfl rfl)
theorem dX6_walk_308 : decode cX6_walk 308 = .ok (.getfield 46, 3) := dk_180 0 46 (dk_at dksX6_walk_13 7 rfl rfl)
theorem dX6_walk_311 : decode cX6_walk 311 = .ok (.iload 6, 2) := dk_21 6 (dk_at dksX6_walk_13 10 rfl rfl)
theorem dX6_walk_313 : decode cX6_walk 313 = .ok (.baload, 1) := dk_51 (dk_at dksX6_walk_13 12 rfl rfl)
theorem dX6_walk_314 : decode cX6_walk 314 = .ok (.ifCond .eq 7, 3) := dk_153 0 7 (dk_at dksX6_walk_13 13 rfl rfl)
theorem dX6_walk_317 : decode cX6_walk 317 = .ok (.iconst 1, 1) := dk_4 (dk_at dksX6_walk_13 16 rfl rfl)
theorem dX6_walk_318 : decode cX6_walk 318 = .ok (.goto 4, 3) := dk_167 0 4 (dk_at dksX6_walk_13 17 rfl rfl)
theorem dX6_walk_321 : decode cX6_walk 321 = .ok (.iconst 0, 1) := dk_3 (dk_at dksX6_walk_13 20 rfl rfl)
theorem dX6_walk_322 : decode cX6_walk 322 = .ok (.bastore, 1) := dk_84 (dk_at dksX6_walk_13 21 rfl rfl)
theorem dX6_walk_323 : decode cX6_walk 323 = .ok (.iinc 6 1, 3) := dk_132 6 1 (dk_at dksX6_walk_14 0 rfl rfl)
theorem dX6_walk_326 : decode cX6_walk 326 = .ok (.goto (-42), 3) := dk_167 255 214 (dk_at dksX6_walk_14 3 rfl rfl)
theorem dX6_walk_329 : decode cX6_walk 329 = .ok (.aload_n 0, 1) := dk_42 (dk_at dksX6_walk_14 6 rfl rfl)
theorem dX6_walk_330 : decode cX6_walk 330 = .ok (.iload_n 1, 1) := dk_27 (dk_at dksX6_walk_14 7 rfl rfl)
theorem dX6_walk_331 : decode cX6_walk 331 = .ok (.invokevirtual 304, 3) := dk_182 1 48 (dk_at dksX6_walk_14 8 rfl rfl)
theorem dX6_walk_334 : decode cX6_walk 334 = .ok (.return_, 1) := dk_177 (dk_at dksX6_walk_14 11 rfl rfl)
abbrev cX6_turnAt : ByteArray := prog_12_method_47_code
def yX6_turnAt : MethodName := ⟨RX6, "turnAt", "(II)I"⟩
def dkwX6_turnAt_1 : List UInt8 := [96, 182, 1, 11, 172]
abbrev dktX6_turnAt_1 : List UInt8 := dkwX6_turnAt_1 ++ []
def dkwX6_turnAt_0 : List UInt8 := [27, 42, 180, 1, 23, 160, 0, 8, 42, 180, 1, 39, 172, 42, 27, 8, 28, 42, 27, 7, 182, 1, 11, 112]
abbrev dktX6_turnAt_0 : List UInt8 := dkwX6_turnAt_0 ++ dktX6_turnAt_1
theorem dksX6_turnAt_0 : cX6_turnAt.data.toList.drop 0 = dktX6_turnAt_0 := by decide +kernel
theorem dksX6_turnAt_1 : cX6_turnAt.data.toList.drop 24 = dktX6_turnAt_1 := dk_seg dksX6_turnAt_0 24 rfl rfl
theorem dX6_turnAt_0 : decode cX6_turnAt 0 = .ok (.iload_n 1, 1) := dk_27 (dk_at dksX6_turnAt_0 0 rfl rfl)
theorem dX6_turnAt_1 : decode cX6_turnAt 1 = .ok (.aload_n 0, 1) := dk_42 (dk_at dksX6_turnAt_0 1 rfl rfl)
theorem dX6_turnAt_2 : decode cX6_turnAt 2 = .ok (.getfield 279, 3) := dk_180 1 23 (dk_at dksX6_turnAt_0 2 rfl rfl)
theorem dX6_turnAt_5 : decode cX6_turnAt 5 = .ok (.if_icmp .ne 8, 3) := dk_160 0 8 (dk_at dksX6_turnAt_0 5 rfl rfl)
theorem dX6_turnAt_8 : decode cX6_turnAt 8 = .ok (.aload_n 0, 1) := dk_42 (dk_at dksX6_turnAt_0 8 rfl rfl)
theorem dX6_turnAt_9 : decode cX6_turnAt 9 = .ok (.getfield 295, 3) := dk_180 1 39 (dk_at dksX6_turnAt_0 9 rfl rfl)
theorem dX6_turnAt_12 : decode cX6_turnAt 12 = .ok (.ireturn, 1) := dk_172 (dk_at dksX6_turnAt_0 12 rfl rfl)
theorem dX6_turnAt_13 : decode cX6_turnAt 13 = .ok (.aload_n 0, 1) := dk_42 (dk_at dksX6_turnAt_0 13 rfl rfl)
theorem dX6_turnAt_14 : decode cX6_turnAt 14 = .ok (.iload_n 1, 1) := dk_27 (dk_at dksX6_turnAt_0 14 rfl rfl)
theorem dX6_turnAt_15 : decode cX6_turnAt 15 = .ok (.iconst 5, 1) := dk_8 (dk_at dksX6_turnAt_0 15 rfl rfl)
theorem dX6_turnAt_16 : decode cX6_turnAt 16 = .ok (.iload_n 2, 1) := dk_28 (dk_at dksX6_turnAt_0 16 rfl rfl)
theorem dX6_turnAt_17 : decode cX6_turnAt 17 = .ok (.aload_n 0, 1) := dk_42 (dk_at dksX6_turnAt_0 17 rfl rfl)
theorem dX6_turnAt_18 : decode cX6_turnAt 18 = .ok (.iload_n 1, 1) := dk_27 (dk_at dksX6_turnAt_0 18 rfl rfl)
theorem dX6_turnAt_19 : decode cX6_turnAt 19 = .ok (.iconst 4, 1) := dk_7 (dk_at dksX6_turnAt_0 19 rfl rfl)
theorem dX6_turnAt_20 : decode cX6_turnAt 20 = .ok (.invokevirtual 267, 3) := dk_182 1 11 (dk_at dksX6_turnAt_0 20 rfl rfl)
theorem dX6_turnAt_23 : decode cX6_turnAt 23 = .ok (.irem, 1) := dk_112 (dk_at dksX6_turnAt_0 23 rfl rfl)
theorem dX6_turnAt_24 : decode cX6_turnAt 24 = .ok (.iadd, 1) := dk_96 (dk_at dksX6_turnAt_1 0 rfl rfl)
theorem dX6_turnAt_25 : decode cX6_turnAt 25 = .ok (.invokevirtual 267, 3) := dk_182 1 11 (dk_at dksX6_turnAt_1 1 rfl rfl)
theorem dX6_turnAt_28 : decode cX6_turnAt 28 = .ok (.ireturn, 1) := dk_172 (dk_at dksX6_turnAt_1 4 rfl rfl)
abbrev cX6_isAnyFree : ByteArray := prog_12_method_46_code
def yX6_isAnyFree : MethodName := ⟨RX6, "isAnyFree", "(II)Z"⟩
def dkwX6_isAnyFree_1 : List UInt8 := [182, 1, 35, 153, 0, 7, 4, 167, 0, 4, 3, 62, 132, 4, 1, 167, 255, 222, 29, 172]
abbrev dktX6_isAnyFree_1 : List UInt8 := dkwX6_isAnyFree_1 ++ []
def dkwX6_isAnyFree_0 : List UInt8 := [3, 62, 3, 54, 4, 21, 4, 7, 162, 0, 34, 29, 154, 0, 18, 42, 42, 27, 21, 4, 182, 1, 32, 28]
abbrev dktX6_isAnyFree_0 : List UInt8 := dkwX6_isAnyFree_0 ++ dktX6_isAnyFree_1
theorem dksX6_isAnyFree_0 : cX6_isAnyFree.data.toList.drop 0 = dktX6_isAnyFree_0 := by decide +kernel
theorem dksX6_isAnyFree_1 : cX6_isAnyFree.data.toList.drop 24 = dktX6_isAnyFree_1 := dk_seg dksX6_isAnyFree_0 24 rfl rfl
theorem dX6_isAnyFree_0 : decode cX6_isAnyFree 0 = .ok (.iconst 0, 1) := dk_3 (dk_at dksX6_isAnyFree_0 0 rfl rfl)
theorem dX6_isAnyFree_1 : decode cX6_isAnyFree 1 = .ok (.istore_n 3, 1) := dk_62 (dk_at dksX6_isAnyFree_0 1 rfl rfl)
theorem dX6_isAnyFree_2 : decode cX6_isAnyFree 2 = .ok (.iconst 0, 1) := dk_3 (dk_at dksX6_isAnyFree_0 2 rfl rfl)
theorem dX6_isAnyFree_3 : decode cX6_isAnyFree 3 = .ok (.istore 4, 2) := dk_54 4 (dk_at dksX6_isAnyFree_0 3 rfl rfl)
theorem dX6_isAnyFree_5 : decode cX6_isAnyFree 5 = .ok (.iload 4, 2) := dk_21 4 (dk_at dksX6_isAnyFree_0 5 rfl rfl)
theorem dX6_isAnyFree_7 : decode cX6_isAnyFree 7 = .ok (.iconst 4, 1) := dk_7 (dk_at dksX6_isAnyFree_0 7 rfl rfl)
theorem dX6_isAnyFree_8 : decode cX6_isAnyFree 8 = .ok (.if_icmp .ge 34, 3) := dk_162 0 34 (dk_at dksX6_isAnyFree_0 8 rfl rfl)
theorem dX6_isAnyFree_11 : decode cX6_isAnyFree 11 = .ok (.iload_n 3, 1) := dk_29 (dk_at dksX6_isAnyFree_0 11 rfl rfl)
theorem dX6_isAnyFree_12 : decode cX6_isAnyFree 12 = .ok (.ifCond .ne 18, 3) := dk_154 0 18 (dk_at dksX6_isAnyFree_0 12 rfl rfl)
theorem dX6_isAnyFree_15 : decode cX6_isAnyFree 15 = .ok (.aload_n 0, 1) := dk_42 (dk_at dksX6_isAnyFree_0 15 rfl rfl)
theorem dX6_isAnyFree_16 : decode cX6_isAnyFree 16 = .ok (.aload_n 0, 1) := dk_42 (dk_at dksX6_isAnyFree_0 16 rfl rfl)
theorem dX6_isAnyFree_17 : decode cX6_isAnyFree 17 = .ok (.iload_n 1, 1) := dk_27 (dk_at dksX6_isAnyFree_0 17 rfl rfl)
theorem dX6_isAnyFree_18 : decode cX6_isAnyFree 18 = .ok (.iload 4, 2) := dk_21 4 (dk_at dksX6_isAnyFree_0 18 rfl rfl)
theorem dX6_isAnyFree_20 : decode cX6_isAnyFree 20 = .ok (.invokevirtual 288, 3) := dk_182 1 32 (dk_at dksX6_isAnyFree_0 20 rfl rfl)
theorem dX6_isAnyFree_23 : decode cX6_isAnyFree 23 = .ok (.iload_n 2, 1) := dk_28 (dk_at dksX6_isAnyFree_0 23 rfl rfl)
theorem dX6_isAnyFree_24 : decode cX6_isAnyFree 24 = .ok (.invokevirtual 291, 3) := dk_182 1 35 (dk_at dksX6_isAnyFree_1 0 rfl rfl)
theorem dX6_isAnyFree_27 : decode cX6_isAnyFree 27 = .ok (.ifCond .eq 7, 3) := dk_153 0 7 (dk_at dksX6_isAnyFree_1 3 rfl rfl)
theorem dX6_isAnyFree_30 : decode cX6_isAnyFree 30 = .ok (.iconst 1, 1) := dk_4 (dk_at dksX6_isAnyFree_1 6 rfl rfl)
theorem dX6_isAnyFree_31 : decode cX6_isAnyFree 31 = .ok (.goto 4, 3) := dk_167 0 4 (dk_at dksX6_isAnyFree_1 7 rfl rfl)
theorem dX6_isAnyFree_34 : decode cX6_isAnyFree 34 = .ok (.iconst 0, 1) := dk_3 (dk_at dksX6_isAnyFree_1 10 rfl rfl)
theorem dX6_isAnyFree_35 : decode cX6_isAnyFree 35 = .ok (.istore_n 3, 1) := dk_62 (dk_at dksX6_isAnyFree_1 11 rfl rfl)
theorem dX6_isAnyFree_36 : decode cX6_isAnyFree 36 = .ok (.iinc 4 1, 3) := dk_132 4 1 (dk_at dksX6_isAnyFree_1 12 rfl rfl)
theorem dX6_isAnyFree_39 : decode cX6_isAnyFree 39 = .ok (.goto (-34), 3) := dk_167 255 222 (dk_at dksX6_isAnyFree_1 15 rfl rfl)
theorem dX6_isAnyFree_42 : decode cX6_isAnyFree 42 = .ok (.iload_n 3, 1) := dk_29 (dk_at dksX6_isAnyFree_1 18 rfl rfl)
theorem dX6_isAnyFree_43 : decode cX6_isAnyFree 43 = .ok (.ireturn, 1) := dk_172 (dk_at dksX6_isAnyFree_1 19 rfl rfl)
abbrev cX6_beside : ByteArray := prog_12_method_44_code
def yX6_beside : MethodName := ⟨RX6, "beside", "(II)I"⟩
def dkwX6_beside_2 : List UInt8 := [46, 4, 100, 133, 184, 0, 106, 153, 0, 13, 16, 10, 29, 104, 21, 4, 96, 167, 0, 4, 2, 172]
abbrev dktX6_beside_2 : List UInt8 := dkwX6_beside_2 ++ []
def dkwX6_beside_1 : List UInt8 := [42, 180, 0, 9, 6, 46, 4, 100, 133, 184, 0, 106, 153, 0, 32, 21, 4, 133, 9, 42, 180, 0, 9, 7]
abbrev dktX6_beside_1 : List UInt8 := dkwX6_beside_1 ++ dktX6_beside_2
def dkwX6_beside_0 : List UInt8 := [27, 16, 10, 108, 28, 184, 1, 26, 96, 62, 27, 16, 10, 112, 28, 184, 1, 29, 96, 54, 4, 29, 133, 9]
abbrev dktX6_beside_0 : List UInt8 := dkwX6_beside_0 ++ dktX6_beside_1
theorem dksX6_beside_0 : cX6_beside.data.toList.drop 0 = dktX6_beside_0 := by decide +kernel
theorem dksX6_beside_1 : cX6_beside.data.toList.drop 24 = dktX6_beside_1 := dk_seg dksX6_beside_0 24 rfl rfl
theorem dksX6_beside_2 : cX6_beside.data.toList.drop 48 = dktX6_beside_2 := dk_seg dksX6_beside_1 24 rfl rfl
theorem dX6_beside_0 : decode cX6_beside 0 = .ok (.iload_n 1, 1) := dk_27 (dk_at dksX6_beside_0 0 rfl rfl)
theorem dX6_beside_1 : decode cX6_beside 1 = .ok (.bipush 10, 2) := dk_16 10 (dk_at dksX6_beside_0 1 rfl rfl)
theorem dX6_beside_3 : decode cX6_beside 3 = .ok (.idiv, 1) := dk_108 (dk_at dksX6_beside_0 3 rfl rfl)
theorem dX6_beside_4 : decode cX6_beside 4 = .ok (.iload_n 2, 1) := dk_28 (dk_at dksX6_beside_0 4 rfl rfl)
theorem dX6_beside_5 : decode cX6_beside 5 = .ok (.invokestatic 282, 3) := dk_184 1 26 (dk_at dksX6_beside_0 5 rfl rfl)
theorem dX6_beside_8 : decode cX6_beside 8 = .ok (.iadd, 1) := dk_96 (dk_at dksX6_beside_0 8 rfl rfl)
theorem dX6_beside_9 : decode cX6_beside 9 = .ok (.istore_n 3, 1) := dk_62 (dk_at dksX6_beside_0 9 rfl rfl)
theorem dX6_beside_10 : decode cX6_beside 10 = .ok (.iload_n 1, 1) := dk_27 (dk_at dksX6_beside_0 10 rfl rfl)
theorem dX6_beside_11 : decode cX6_beside 11 = .ok (.bipush 10, 2) := dk_16 10 (dk_at dksX6_beside_0 11 rfl rfl)
theorem dX6_beside_13 : decode cX6_beside 13 = .ok (.irem, 1) := dk_112 (dk_at dksX6_beside_0 13 rfl rfl)
theorem dX6_beside_14 : decode cX6_beside 14 = .ok (.iload_n 2, 1) := dk_28 (dk_at dksX6_beside_0 14 rfl rfl)
theorem dX6_beside_15 : decode cX6_beside 15 = .ok (.invokestatic 285, 3) := dk_184 1 29 (dk_at dksX6_beside_0 15 rfl rfl)
theorem dX6_beside_18 : decode cX6_beside 18 = .ok (.iadd, 1) := dk_96 (dk_at dksX6_beside_0 18 rfl rfl)
theorem dX6_beside_19 : decode cX6_beside 19 = .ok (.istore 4, 2) := dk_54 4 (dk_at dksX6_beside_0 19 rfl rfl)
theorem dX6_beside_21 : decode cX6_beside 21 = .ok (.iload_n 3, 1) := dk_29 (dk_at dksX6_beside_0 21 rfl rfl)
theorem dX6_beside_22 : decode cX6_beside 22 = .ok (.i2l, 1) := dk_133 (dk_at dksX6_beside_0 22 rfl rfl)
theorem dX6_beside_23 : decode cX6_beside 23 = .ok (.lconst 0, 1) := dk_9 (dk_at dksX6_beside_0 23 rfl rfl)
theorem dX6_beside_24 : decode cX6_beside 24 = .ok (.aload_n 0, 1) := dk_42 (dk_at dksX6_beside_1 0 rfl rfl)
theorem dX6_beside_25 : decode cX6_beside 25 = .ok (.getfield 9, 3) := dk_180 0 9 (dk_at dksX6_beside_1 1 rfl rfl)
theorem dX6_beside_28 : decode cX6_beside 28 = .ok (.iconst 3, 1) := dk_6 (dk_at dksX6_beside_1 4 rfl rfl)
theorem dX6_beside_29 : decode cX6_beside 29 = .ok (.iaload, 1) := dk_46 (dk_at dksX6_beside_1 5 rfl rfl)
theorem dX6_beside_30 : decode cX6_beside 30 = .ok (.iconst 1, 1) := dk_4 (dk_at dksX6_beside_1 6 rfl rfl)
theorem dX6_beside_31 : decode cX6_beside 31 = .ok (.isub, 1) := dk_100 (dk_at dksX6_beside_1 7 rfl rfl)
theorem dX6_beside_32 : decode cX6_beside 32 = .ok (.i2l, 1) := dk_133 (dk_at dksX6_beside_1 8 rfl rfl)
theorem dX6_beside_33 : decode cX6_beside 33 = .ok (.invokestatic 106, 3) := dk_184 0 106 (dk_at dksX6_beside_1 9 rfl rfl)
theorem dX6_beside_36 : decode cX6_beside 36 = .ok (.ifCond .eq 32, 3) := dk_153 0 32 (dk_at dksX6_beside_1 12 rfl rfl)
theorem dX6_beside_39 : decode cX6_beside 39 = .ok (.iload 4, 2) := dk_21 4 (dk_at dksX6_beside_1 15 rfl rfl)
theorem dX6_beside_41 : decode cX6_beside 41 = .ok (.i2l, 1) := dk_133 (dk_at dksX6_beside_1 17 rfl rfl)
theorem dX6_beside_42 : decode cX6_beside 42 = .ok (.lconst 0, 1) := dk_9 (dk_at dksX6_beside_1 18 rfl rfl)
theorem dX6_beside_43 : decode cX6_beside 43 = .ok (.aload_n 0, 1) := dk_42 (dk_at dksX6_beside_1 19 rfl rfl)
theorem dX6_beside_44 : decode cX6_beside 44 = .ok (.getfield 9, 3) := dk_180 0 9 (dk_at dksX6_beside_1 20 rfl rfl)
theorem dX6_beside_47 : decode cX6_beside 47 = .ok (.iconst 4, 1) := dk_7 (dk_at dksX6_beside_1 23 rfl rfl)
theorem dX6_beside_48 : decode cX6_beside 48 = .ok (.iaload, 1) := dk_46 (dk_at dksX6_beside_2 0 rfl rfl)
theorem dX6_beside_49 : decode cX6_beside 49 = .ok (.iconst 1, 1) := dk_4 (dk_at dksX6_beside_2 1 rfl rfl)
theorem dX6_beside_50 : decode cX6_beside 50 = .ok (.isub, 1) := dk_100 (dk_at dksX6_beside_2 2 rfl rfl)
theorem dX6_beside_51 : decode cX6_beside 51 = .ok (.i2l, 1) := dk_133 (dk_at dksX6_beside_2 3 rfl rfl)
theorem dX6_beside_52 : decode cX6_beside 52 = .ok (.invokestatic 106, 3) := dk_184 0 106 (dk_at dksX6_beside_2 4 rfl rfl)
theorem dX6_beside_55 : decode cX6_beside 55 = .ok (.ifCond .eq 13, 3) := dk_153 0 13 (dk_at dksX6_beside_2 7 rfl rfl)
theorem dX6_beside_58 : decode cX6_beside 58 = .ok (.bipush 10, 2) := dk_16 10 (dk_at dksX6_beside_2 10 rfl rfl)
theorem dX6_beside_60 : decode cX6_beside 60 = .ok (.iload_n 3, 1) := dk_29 (dk_at dksX6_beside_2 12 rfl rfl)
theorem dX6_beside_61 : decode cX6_beside 61 = .ok (.imul, 1) := dk_104 (dk_at dksX6_beside_2 13 rfl rfl)
theorem dX6_beside_62 : decode cX6_beside 62 = .ok (.iload 4, 2) := dk_21 4 (dk_at dksX6_beside_2 14 rfl rfl)
theorem dX6_beside_64 : decode cX6_beside 64 = .ok (.iadd, 1) := dk_96 (dk_at dksX6_beside_2 16 rfl rfl)
theorem dX6_beside_65 : decode cX6_beside 65 = .ok (.goto 4, 3) := dk_167 0 4 (dk_at dksX6_beside_2 17 rfl rfl)
theorem dX6_beside_68 : decode cX6_beside 68 = .ok (.iconst (-1), 1) := dk_2 (dk_at dksX6_beside_2 20 rfl rfl)
theorem dX6_beside_69 : decode cX6_beside 69 = .ok (.ireturn, 1) := dk_172 (dk_at dksX6_beside_2 21 rfl rfl)
abbrev cX6_acrossOf : ByteArray := prog_12_method_42_code
def yX6_acrossOf : MethodName := ⟨RX6, "acrossOf", "(I)I"⟩
def dkwX6_acrossOf_0 : List UInt8 := [26, 4, 160, 0, 7, 4, 167, 0, 13, 26, 6, 160, 0, 7, 2, 167, 0, 4, 3, 172]
abbrev dktX6_acrossOf_0 : List UInt8 := dkwX6_acrossOf_0 ++ []
theorem dksX6_acrossOf_0 : cX6_acrossOf.data.toList.drop 0 = dktX6_acrossOf_0 := by decide +kernel
theorem dX6_acrossOf_0 : decode cX6_acrossOf 0 = .ok (.iload_n 0, 1) := dk_26 (dk_at dksX6_acrossOf_0 0 rfl rfl)
theorem dX6_acrossOf_1 : decode cX6_acrossOf 1 = .ok (.iconst 1, 1) := dk_4 (dk_at dksX6_acrossOf_0 1 rfl rfl)
theorem dX6_acrossOf_2 : decode cX6_acrossOf 2 = .ok (.if_icmp .ne 7, 3) := dk_160 0 7 (dk_at dksX6_acrossOf_0 2 rfl rfl)
theorem dX6_acrossOf_5 : decode cX6_acrossOf 5 = .ok (.iconst 1, 1) := dk_4 (dk_at dksX6_acrossOf_0 5 rfl rfl)
theorem dX6_acrossOf_6 : decode cX6_acrossOf 6 = .ok (.goto 13, 3) := dk_167 0 13 (dk_at dksX6_acrossOf_0 6 rfl rfl)
theorem dX6_acrossOf_9 : decode cX6_acrossOf 9 = .ok (.iload_n 0, 1) := dk_26 (dk_at dksX6_acrossOf_0 9 rfl rfl)
theorem dX6_acrossOf_10 : decode cX6_acrossOf 10 = .ok (.iconst 3, 1) := dk_6 (dk_at dksX6_acrossOf_0 10 rfl rfl)
theorem dX6_acrossOf_11 : decode cX6_acrossOf 11 = .ok (.if_icmp .ne 7, 3) := dk_160 0 7 (dk_at dksX6_acrossOf_0 11 rfl rfl)
theorem dX6_acrossOf_14 : decode cX6_acrossOf 14 = .ok (.iconst (-1), 1) := dk_2 (dk_at dksX6_acrossOf_0 14 rfl rfl)
theorem dX6_acrossOf_15 : decode cX6_acrossOf 15 = .ok (.goto 4, 3) := dk_167 0 4 (dk_at dksX6_acrossOf_0 15 rfl rfl)
theorem dX6_acrossOf_18 : decode cX6_acrossOf 18 = .ok (.iconst 0, 1) := dk_3 (dk_at dksX6_acrossOf_0 18 rfl rfl)
theorem dX6_acrossOf_19 : decode cX6_acrossOf 19 = .ok (.ireturn, 1) := dk_172 (dk_at dksX6_acrossOf_0 19 rfl rfl)
abbrev cX6_downOf : ByteArray := prog_12_method_43_code
def yX6_downOf : MethodName := ⟨RX6, "downOf", "(I)I"⟩
def dkwX6_downOf_0 : List UInt8 := [26, 5, 160, 0, 7, 4, 167, 0, 12, 26, 154, 0, 7, 2, 167, 0, 4, 3, 172]
abbrev dktX6_downOf_0 : List UInt8 := dkwX6_downOf_0 ++ []
theorem dksX6_downOf_0 : cX6_downOf.data.toList.drop 0 = dktX6_downOf_0 := by decide +kernel
theorem dX6_downOf_0 : decode cX6_downOf 0 = .ok (.iload_n 0, 1) := dk_26 (dk_at dksX6_downOf_0 0 rfl rfl)
theorem dX6_downOf_1 : decode cX6_downOf 1 = .ok (.iconst 2, 1) := dk_5 (dk_at dksX6_downOf_0 1 rfl rfl)
theorem dX6_downOf_2 : decode cX6_downOf 2 = .ok (.if_icmp .ne 7, 3) := dk_160 0 7 (dk_at dksX6_downOf_0 2 rfl rfl)
theorem dX6_downOf_5 : decode cX6_downOf 5 = .ok (.iconst 1, 1) := dk_4 (dk_at dksX6_downOf_0 5 rfl rfl)
theorem dX6_downOf_6 : decode cX6_downOf 6 = .ok (.goto 12, 3) := dk_167 0 12 (dk_at dksX6_downOf_0 6 rfl rfl)
theorem dX6_downOf_9 : decode cX6_downOf 9 = .ok (.iload_n 0, 1) := dk_26 (dk_at dksX6_downOf_0 9 rfl rfl)
theorem dX6_downOf_10 : decode cX6_downOf 10 = .ok (.ifCond .ne 7, 3) := dk_154 0 7 (dk_at dksX6_downOf_0 10 rfl rfl)
theorem dX6_downOf_13 : decode cX6_downOf 13 = .ok (.iconst (-1), 1) := dk_2 (dk_at dksX6_downOf_0 13 rfl rfl)
theorem dX6_downOf_14 : decode cX6_downOf 14 = .ok (.goto 4, 3) := dk_167 0 4 (dk_at dksX6_downOf_0 14 rfl rfl)
theorem dX6_downOf_17 : decode cX6_downOf 17 = .ok (.iconst 0, 1) := dk_3 (dk_at dksX6_downOf_0 17 rfl rfl)
theorem dX6_downOf_18 : decode cX6_downOf 18 = .ok (.ireturn, 1) := dk_172 (dk_at dksX6_downOf_0 18 rfl rfl)
abbrev cX6_isFree : ByteArray := prog_12_method_45_code
def yX6_isFree : MethodName := ⟨RX6, "isFree", "(II)Z"⟩
def dkwX6_isFree_2 : List UInt8 := [167, 0, 4, 3, 172]
abbrev dktX6_isFree_2 : List UInt8 := dkwX6_isFree_2 ++ []
def dkwX6_isFree_1 : List UInt8 := [180, 0, 43, 27, 51, 154, 0, 21, 28, 5, 160, 0, 12, 42, 180, 0, 46, 27, 51, 154, 0, 7, 4]
abbrev dktX6_isFree_1 : List UInt8 := dkwX6_isFree_1 ++ dktX6_isFree_2
def dkwX6_isFree_0 : List UInt8 := [27, 2, 159, 0, 12, 42, 180, 0, 34, 27, 51, 153, 0, 5, 3, 172, 28, 4, 160, 0, 12, 42]
abbrev dktX6_isFree_0 : List UInt8 := dkwX6_isFree_0 ++ dktX6_isFree_1
theorem dksX6_isFree_0 : cX6_isFree.data.toList.drop 0 = dktX6_isFree_0 := by decide +kernel
theorem dksX6_isFree_1 : cX6_isFree.data.toList.drop 22 = dktX6_isFree_1 := dk_seg dksX6_isFree_0 22 rfl rfl
theorem dksX6_isFree_2 : cX6_isFree.data.toList.drop 45 = dktX6_isFree_2 := dk_seg dksX6_isFree_1 23 rfl rfl
theorem dX6_isFree_0 : decode cX6_isFree 0 = .ok (.iload_n 1, 1) := dk_27 (dk_at dksX6_isFree_0 0 rfl rfl)
theorem dX6_isFree_1 : decode cX6_isFree 1 = .ok (.iconst (-1), 1) := dk_2 (dk_at dksX6_isFree_0 1 rfl rfl)
theorem dX6_isFree_2 : decode cX6_isFree 2 = .ok (.if_icmp .eq 12, 3) := dk_159 0 12 (dk_at dksX6_isFree_0 2 rfl rfl)
theorem dX6_isFree_5 : decode cX6_isFree 5 = .ok (.aload_n 0, 1) := dk_42 (dk_at dksX6_isFree_0 5 rfl rfl)
theorem dX6_isFree_6 : decode cX6_isFree 6 = .ok (.getfield 34, 3) := dk_180 0 34 (dk_at dksX6_isFree_0 6 rfl rfl)
theorem dX6_isFree_9 : decode cX6_isFree 9 = .ok (.iload_n 1, 1) := dk_27 (dk_at dksX6_isFree_0 9 rfl rfl)
theorem dX6_isFree_10 : decode cX6_isFree 10 = .ok (.baload, 1) := dk_51 (dk_at dksX6_isFree_0 10 rfl rfl)
theorem dX6_isFree_11 : decode cX6_isFree 11 = .ok (.ifCond .eq 5, 3) := dk_153 0 5 (dk_at dksX6_isFree_0 11 rfl rfl)
theorem dX6_isFree_14 : decode cX6_isFree 14 = .ok (.iconst 0, 1) := dk_3 (dk_at dksX6_isFree_0 14 rfl rfl)
theorem dX6_isFree_15 : decode cX6_isFree 15 = .ok (.ireturn, 1) := dk_172 (dk_at dksX6_isFree_0 15 rfl rfl)
theorem dX6_isFree_16 : decode cX6_isFree 16 = .ok (.iload_n 2, 1) := dk_28 (dk_at dksX6_isFree_0 16 rfl rfl)
theorem dX6_isFree_17 : decode cX6_isFree 17 = .ok (.iconst 1, 1) := dk_4 (dk_at dksX6_isFree_0 17 rfl rfl)
theorem dX6_isFree_18 : decode cX6_isFree 18 = .ok (.if_icmp .ne 12, 3) := dk_160 0 12 (dk_at dksX6_isFree_0 18 rfl rfl)
theorem dX6_isFree_21 : decode cX6_isFree 21 = .ok (.aload_n 0, 1) := dk_42 (dk_at dksX6_isFree_0 21 rfl rfl)
theorem dX6_isFree_22 : decode cX6_isFree 22 = .ok (.getfield 43, 3) := dk_180 0 43 (dk_at dksX6_isFree_1 0 rfl rfl)
theorem dX6_isFree_25 : decode cX6_isFree 25 = .ok (.iload_n 1, 1) := dk_27 (dk_at dksX6_isFree_1 3 rfl rfl)
theorem dX6_isFree_26 : decode cX6_isFree 26 = .ok (.baload, 1) := dk_51 (dk_at dksX6_isFree_1 4 rfl rfl)
theorem dX6_isFree_27 : decode cX6_isFree 27 = .ok (.ifCond .ne 21, 3) := dk_154 0 21 (dk_at dksX6_isFree_1 5 rfl rfl)
theorem dX6_isFree_30 : decode cX6_isFree 30 = .ok (.iload_n 2, 1) := dk_28 (dk_at dksX6_isFree_1 8 rfl rfl)
theorem dX6_isFree_31 : decode cX6_isFree 31 = .ok (.iconst 2, 1) := dk_5 (dk_at dksX6_isFree_1 9 rfl rfl)
theorem dX6_isFree_32 : decode cX6_isFree 32 = .ok (.if_icmp .ne 12, 3) := dk_160 0 12 (dk_at dksX6_isFree_1 10 rfl rfl)
theorem dX6_isFree_35 : decode cX6_isFree 35 = .ok (.aload_n 0, 1) := dk_42 (dk_at dksX6_isFree_1 13 rfl rfl)
theorem dX6_isFree_36 : decode cX6_isFree 36 = .ok (.getfield 46, 3) := dk_180 0 46 (dk_at dksX6_isFree_1 14 rfl rfl)
theorem dX6_isFree_39 : decode cX6_isFree 39 = .ok (.iload_n 1, 1) := dk_27 (dk_at dksX6_isFree_1 17 rfl rfl)
theorem dX6_isFree_40 : decode cX6_isFree 40 = .ok (.baload, 1) := dk_51 (dk_at dksX6_isFree_1 18 rfl rfl)
theorem dX6_isFree_41 : decode cX6_isFree 41 = .ok (.ifCond .ne 7, 3) := dk_154 0 7 (dk_at dksX6_isFree_1 19 rfl rfl)
theorem dX6_isFree_44 : decode cX6_isFree 44 = .ok (.iconst 1, 1) := dk_4 (dk_at dksX6_isFree_1 22 rfl rfl)
theorem dX6_isFree_45 : decode cX6_isFree 45 = .ok (.goto 4, 3) := dk_167 0 4 (dk_at dksX6_isFree_2 0 rfl rfl)
theorem dX6_isFree_48 : decode cX6_isFree 48 = .ok (.iconst 0, 1) := dk_3 (dk_at dksX6_isFree_2 3 rfl rfl)
theorem dX6_isFree_49 : decode cX6_isFree 49 = .ok (.ireturn, 1) := dk_172 (dk_at dksX6_isFree_2 4 rfl rfl)
abbrev cX6_moveHouses : ByteArray := prog_12_method_51_code
def yX6_moveHouses : MethodName := ⟨RX6, "moveHouses", "(I)V"⟩
def dkwX6_moveHouses_3 : List UInt8 := [96, 79, 132, 2, 1, 167, 255, 188, 177]
abbrev dktX6_moveHouses_3 : List UInt8 := dkwX6_moveHouses_3 ++ []
def dkwX6_moveHouses_2 : List UInt8 := [28, 42, 182, 1, 61, 79, 42, 180, 0, 61, 27, 92, 46, 4, 96, 79, 42, 180, 0, 64, 28, 92, 46, 4]
abbrev dktX6_moveHouses_2 : List UInt8 := dkwX6_moveHouses_2 ++ dktX6_moveHouses_3
def dkwX6_moveHouses_1 : List UInt8 := [159, 0, 50, 42, 180, 0, 46, 42, 180, 0, 52, 28, 46, 51, 154, 0, 6, 167, 0, 33, 42, 180, 0, 52]
abbrev dktX6_moveHouses_1 : List UInt8 := dkwX6_moveHouses_1 ++ dktX6_moveHouses_2
def dkwX6_moveHouses_0 : List UInt8 := [42, 180, 0, 61, 27, 3, 79, 3, 61, 28, 42, 182, 1, 51, 162, 0, 66, 42, 180, 0, 52, 28, 46, 2]
abbrev dktX6_moveHouses_0 : List UInt8 := dkwX6_moveHouses_0 ++ dktX6_moveHouses_1
theorem dksX6_moveHouses_0 : cX6_moveHouses.data.toList.drop 0 = dktX6_moveHouses_0 := by decide +kernel
theorem dksX6_moveHouses_1 : cX6_moveHouses.data.toList.drop 24 = dktX6_moveHouses_1 := dk_seg dksX6_moveHouses_0 24 rfl rfl
theorem dksX6_moveHouses_2 : cX6_moveHouses.data.toList.drop 48 = dktX6_moveHouses_2 := dk_seg dksX6_moveHouses_1 24 rfl rfl
theorem dksX6_moveHouses_3 : cX6_moveHouses.data.toList.drop 72 = dktX6_moveHouses_3 := dk_seg dksX6_moveHouses_2 24 rfl rfl
theorem dX6_moveHouses_0 : decode cX6_moveHouses 0 = .ok (.aload_n 0, 1) := dk_42 (dk_at dksX6_moveHouses_0 0 rfl rfl)
theorem dX6_moveHouses_1 : decode cX6_moveHouses 1 = .ok (.getfield 61, 3) := dk_180 0 61 (dk_at dksX6_moveHouses_0 1 rfl rfl)
theorem dX6_moveHouses_4 : decode cX6_moveHouses 4 = .ok (.iload_n 1, 1) := dk_27 (dk_at dksX6_moveHouses_0 4 rfl rfl)
theorem dX6_moveHouses_5 : decode cX6_moveHouses 5 = .ok (.iconst 0, 1) := dk_3 (dk_at dksX6_moveHouses_0 5 rfl rfl)
theorem dX6_moveHouses_6 : decode cX6_moveHouses 6 = .ok (.iastore, 1) := dk_79 (dk_at dksX6_moveHouses_0 6 rfl rfl)
theorem dX6_moveHouses_7 : decode cX6_moveHouses 7 = .ok (.iconst 0, 1) := dk_3 (dk_at dksX6_moveHouses_0 7 rfl rfl)
theorem dX6_moveHouses_8 : decode cX6_moveHouses 8 = .ok (.istore_n 2, 1) := dk_61 (dk_at dksX6_moveHouses_0 8 rfl rfl)
theorem dX6_moveHouses_9 : decode cX6_moveHouses 9 = .ok (.iload_n 2, 1) := dk_28 (dk_at dksX6_moveHouses_0 9 rfl rfl)
theorem dX6_moveHouses_10 : decode cX6_moveHouses 10 = .ok (.aload_n 0, 1) := dk_42 (dk_at dksX6_moveHouses_0 10 rfl rfl)
theorem dX6_moveHouses_11 : decode cX6_moveHouses 11 = .ok (.invokevirtual 307, 3) := dk_182 1 51 (dk_at dksX6_moveHouses_0 11 rfl rfl)
theorem dX6_moveHouses_14 : decode cX6_moveHouses 14 = .ok (.if_icmp .ge 66, 3) := dk_162 0 66 (dk_at dksX6_moveHouses_0 14 rfl rfl)
theorem dX6_moveHouses_17 : decode cX6_moveHouses 17 = .ok (.aload_n 0, 1) := dk_42 (dk_at dksX6_moveHouses_0 17 rfl rfl)
theorem dX6_moveHouses_18 : decode cX6_moveHouses 18 = .ok (.getfield 52, 3) := dk_180 0 52 (dk_at dksX6_moveHouses_0 18 rfl rfl)
theorem dX6_moveHouses_21 : decode cX6_moveHouses 21 = .ok (.iload_n 2, 1) := dk_28 (dk_at dksX6_moveHouses_0 21 rfl rfl)
theorem dX6_moveHouses_22 : decode cX6_moveHouses 22 = .ok (.iaload, 1) := dk_46 (dk_at dksX6_moveHouses_0 22 rfl rfl)
theorem dX6_moveHouses_23 : decode cX6_moveHouses 23 = .ok (.iconst (-1), 1) := dk_2 (dk_at dksX6_moveHouses_0 23 rfl rfl)
theorem dX6_moveHouses_24 : decode cX6_moveHouses 24 = .ok (.if_icmp .eq 50, 3) := dk_159 0 50 (dk_at dksX6_moveHouses_1 0 rfl rfl)
theorem dX6_moveHouses_27 : decode cX6_moveHouses 27 = .ok (.aload_n 0, 1) := dk_42 (dk_at dksX6_moveHouses_1 3 rfl rfl)
theorem dX6_moveHouses_28 : decode cX6_moveHouses 28 = .ok (.getfield 46, 3) := dk_180 0 46 (dk_at dksX6_moveHouses_1 4 rfl rfl)
theorem dX6_moveHouses_31 : decode cX6_moveHouses 31 = .ok (.aload_n 0, 1) := dk_42 (dk_at dksX6_moveHouses_1 7 rfl rfl)
theorem dX6_moveHouses_32 : decode cX6_moveHouses 32 = .ok (.getfield 52, 3) := dk_180 0 52 (dk_at dksX6_moveHouses_1 8 rfl rfl)
theorem dX6_moveHouses_35 : decode cX6_moveHouses 35 = .ok (.iload_n 2, 1) := dk_28 (dk_at dksX6_moveHouses_1 11 rfl rfl)
theorem dX6_moveHouses_36 : decode cX6_moveHouses 36 = .ok (.iaload, 1) := dk_46 (dk_at dksX6_moveHouses_1 12 rfl rfl)
theorem dX6_moveHouses_37 : decode cX6_moveHouses 37 = .ok (.baload, 1) := dk_51 (dk_at dksX6_moveHouses_1 13 rfl rfl)
theorem dX6_moveHouses_38 : decode cX6_moveHouses 38 = .ok (.ifCond .ne 6, 3) := dk_154 0 6 (dk_at dksX6_moveHouses_1 14 rfl rfl)
theorem dX6_moveHouses_41 : decode cX6_moveHouses 41 = .ok (.goto 33, 3) := dk_167 0 33 (dk_at dksX6_moveHouses_1 17 rfl rfl)
theorem dX6_moveHouses_44 : decode cX6_moveHouses 44 = .ok (.aload_n 0, 1) := dk_42 (dk_at dksX6_moveHouses_1 20 rfl rfl)
theorem dX6_moveHouses_45 : decode cX6_moveHouses 45 = .ok (.getfield 52, 3) := dk_180 0 52 (dk_at dksX6_moveHouses_1 21 rfl rfl)
theorem dX6_moveHouses_48 : decode cX6_moveHouses 48 = .ok (.iload_n 2, 1) := dk_28 (dk_at dksX6_moveHouses_2 0 rfl rfl)
theorem dX6_moveHouses_49 : decode cX6_moveHouses 49 = .ok (.aload_n 0, 1) := dk_42 (dk_at dksX6_moveHouses_2 1 rfl rfl)
theorem dX6_moveHouses_50 : decode cX6_moveHouses 50 = .ok (.invokevirtual 317, 3) := dk_182 1 61 (dk_at dksX6_moveHouses_2 2 rfl rfl)
theorem dX6_moveHouses_53 : decode cX6_moveHouses 53 = .ok (.iastore, 1) := dk_79 (dk_at dksX6_moveHouses_2 5 rfl rfl)
theorem dX6_moveHouses_54 : decode cX6_moveHouses 54 = .ok (.aload_n 0, 1) := dk_42 (dk_at dksX6_moveHouses_2 6 rfl rfl)
theorem dX6_moveHouses_55 : decode cX6_moveHouses 55 = .ok (.getfield 61, 3) := dk_180 0 61 (dk_at dksX6_moveHouses_2 7 rfl rfl)
theorem dX6_moveHouses_58 : decode cX6_moveHouses 58 = .ok (.iload_n 1, 1) := dk_27 (dk_at dksX6_moveHouses_2 10 rfl rfl)
theorem dX6_moveHouses_59 : decode cX6_moveHouses 59 = .ok (.dup2, 1) := dk_92 (dk_at dksX6_moveHouses_2 11 rfl rfl)
theorem dX6_moveHouses_60 : decode cX6_moveHouses 60 = .ok (.iaload, 1) := dk_46 (dk_at dksX6_moveHouses_2 12 rfl rfl)
theorem dX6_moveHouses_61 : decode cX6_moveHouses 61 = .ok (.iconst 1, 1) := dk_4 (dk_at dksX6_moveHouses_2 13 rfl rfl)
theorem dX6_moveHouses_62 : decode cX6_moveHouses 62 = .ok (.iadd, 1) := dk_96 (dk_at dksX6_moveHouses_2 14 rfl rfl)
theorem dX6_moveHouses_63 : decode cX6_moveHouses 63 = .ok (.iastore, 1) := dk_79 (dk_at dksX6_moveHouses_2 15 rfl rfl)
theorem dX6_moveHouses_64 : decode cX6_moveHouses 64 = .ok (.aload_n 0, 1) := dk_42 (dk_at dksX6_moveHouses_2 16 rfl rfl)
theorem dX6_moveHouses_65 : decode cX6_moveHouses 65 = .ok (.getfield 64, 3) := dk_180 0 64 (dk_at dksX6_moveHouses_2 17 rfl rfl)
theorem dX6_moveHouses_68 : decode cX6_moveHouses 68 = .ok (.iload_n 2, 1) := dk_28 (dk_at dksX6_moveHouses_2 20 rfl rfl)
theorem dX6_moveHouses_69 : decode cX6_moveHouses 69 = .ok (.dup2, 1) := dk_92 (dk_at dksX6_moveHouses_2 21 rfl rfl)
theorem dX6_moveHouses_70 : decode cX6_moveHouses 70 = .ok (.iaload, 1) := dk_46 (dk_at dksX6_moveHouses_2 22 rfl rfl)
theorem dX6_moveHouses_71 : decode cX6_moveHouses 71 = .ok (.iconst 1, 1) := dk_4 (dk_at dksX6_moveHouses_2 23 rfl rfl)
theorem dX6_moveHouses_72 : decode cX6_moveHouses 72 = .ok (.iadd, 1) := dk_96 (dk_at dksX6_moveHouses_3 0 rfl rfl)
theorem dX6_moveHouses_73 : decode cX6_moveHouses 73 = .ok (.iastore, 1) := dk_79 (dk_at dksX6_moveHouses_3 1 rfl rfl)
theorem dX6_moveHouses_74 : decode cX6_moveHouses 74 = .ok (.iinc 2 1, 3) := dk_132 2 1 (dk_at dksX6_moveHouses_3 2 rfl rfl)
theorem dX6_moveHouses_77 : decode cX6_moveHouses 77 = .ok (.goto (-68), 3) := dk_167 255 188 (dk_at dksX6_moveHouses_3 5 rfl rfl)
theorem dX6_moveHouses_80 : decode cX6_moveHouses 80 = .ok (.return_, 1) := dk_177 (dk_at dksX6_moveHouses_3 8 rfl rfl)
abbrev cX6_houses : ByteArray := prog_12_method_11_code
def yX6_houses : MethodName := ⟨RX6, "houses", "()I"⟩
def dkwX6_houses_0 : List UInt8 := [42, 180, 0, 9, 16, 6, 46, 172]
abbrev dktX6_houses_0 : List UInt8 := dkwX6_houses_0 ++ []
theorem dksX6_houses_0 : cX6_houses.data.toList.drop 0 = dktX6_houses_0 := by decide +kernel
theorem dX6_houses_0 : decode cX6_houses 0 = .ok (.aload_n 0, 1) := dk_42 (dk_at dksX6_houses_0 0 rfl rfl)
theorem dX6_houses_1 : decode cX6_houses 1 = .ok (.getfield 9, 3) := dk_180 0 9 (dk_at dksX6_houses_0 1 rfl rfl)
theorem dX6_houses_4 : decode cX6_houses 4 = .ok (.bipush 6, 2) := dk_16 6 (dk_at dksX6_houses_0 4 rfl rfl)
theorem dX6_houses_6 : decode cX6_houses 6 = .ok (.iaload, 1) := dk_46 (dk_at dksX6_houses_0 6 rfl rfl)
theorem dX6_houses_7 : decode cX6_houses 7 = .ok (.ireturn, 1) := dk_172 (dk_at dksX6_houses_0 7 rfl rfl)
abbrev cX6_emptyCell : ByteArray := prog_12_method_50_code
def yX6_emptyCell : MethodName := ⟨RX6, "emptyCell", "()I"⟩
def dkwX6_emptyCell_2 : List UInt8 := [132, 1, 1, 167, 255, 210, 2, 172]
abbrev dktX6_emptyCell_2 : List UInt8 := dkwX6_emptyCell_2 ++ []
def dkwX6_emptyCell_1 : List UInt8 := [154, 0, 22, 42, 180, 0, 40, 27, 51, 154, 0, 13, 42, 27, 182, 1, 57, 154, 0, 5, 27, 172]
abbrev dktX6_emptyCell_1 : List UInt8 := dkwX6_emptyCell_1 ++ dktX6_emptyCell_2
def dkwX6_emptyCell_0 : List UInt8 := [3, 60, 27, 16, 80, 162, 0, 46, 42, 27, 133, 182, 1, 54, 153, 0, 31, 42, 180, 0, 34, 27, 51]
abbrev dktX6_emptyCell_0 : List UInt8 := dkwX6_emptyCell_0 ++ dktX6_emptyCell_1
theorem dksX6_emptyCell_0 : cX6_emptyCell.data.toList.drop 0 = dktX6_emptyCell_0 := by decide +kernel
theorem dksX6_emptyCell_1 : cX6_emptyCell.data.toList.drop 23 = dktX6_emptyCell_1 := dk_seg dksX6_emptyCell_0 23 rfl rfl
theorem dksX6_emptyCell_2 : cX6_emptyCell.data.toList.drop 45 = dktX6_emptyCell_2 := dk_seg dksX6_emptyCell_1 22 rfl rfl
theorem dX6_emptyCell_0 : decode cX6_emptyCell 0 = .ok (.iconst 0, 1) := dk_3 (dk_at dksX6_emptyCell_0 0 rfl rfl)
theorem dX6_emptyCell_1 : decode cX6_emptyCell 1 = .ok (.istore_n 1, 1) := dk_60 (dk_at dksX6_emptyCell_0 1 rfl rfl)
theorem dX6_emptyCell_2 : decode cX6_emptyCell 2 = .ok (.iload_n 1, 1) := dk_27 (dk_at dksX6_emptyCell_0 2 rfl rfl)
theorem dX6_emptyCell_3 : decode cX6_emptyCell 3 = .ok (.bipush 80, 2) := dk_16 80 (dk_at dksX6_emptyCell_0 3 rfl rfl)
theorem dX6_emptyCell_5 : decode cX6_emptyCell 5 = .ok (.if_icmp .ge 46, 3) := dk_162 0 46 (dk_at dksX6_emptyCell_0 5 rfl rfl)
theorem dX6_emptyCell_8 : decode cX6_emptyCell 8 = .ok (.aload_n 0, 1) := dk_42 (dk_at dksX6_emptyCell_0 8 rfl rfl)
theorem dX6_emptyCell_9 : decode cX6_emptyCell 9 = .ok (.iload_n 1, 1) := dk_27 (dk_at dksX6_emptyCell_0 9 rfl rfl)
theorem dX6_emptyCell_10 : decode cX6_emptyCell 10 = .ok (.i2l, 1) := dk_133 (dk_at dksX6_emptyCell_0 10 rfl rfl)
theorem dX6_emptyCell_11 : decode cX6_emptyCell 11 = .ok (.invokevirtual 310, 3) := dk_182 1 54 (dk_at dksX6_emptyCell_0 11 rfl rfl)
theorem dX6_emptyCell_14 : decode cX6_emptyCell 14 = .ok (.ifCond .eq 31, 3) := dk_153 0 31 (dk_at dksX6_emptyCell_0 14 rfl rfl)
theorem dX6_emptyCell_17 : decode cX6_emptyCell 17 = .ok (.aload_n 0, 1) := dk_42 (dk_at dksX6_emptyCell_0 17 rfl rfl)
theorem dX6_emptyCell_18 : decode cX6_emptyCell 18 = .ok (.getfield 34, 3) := dk_180 0 34 (dk_at dksX6_emptyCell_0 18 rfl rfl)
theorem dX6_emptyCell_21 : decode cX6_emptyCell 21 = .ok (.iload_n 1, 1) := dk_27 (dk_at dksX6_emptyCell_0 21 rfl rfl)
theorem dX6_emptyCell_22 : decode cX6_emptyCell 22 = .ok (.baload, 1) := dk_51 (dk_at dksX6_emptyCell_0 22 rfl rfl)
theorem dX6_emptyCell_23 : decode cX6_emptyCell 23 = .ok (.ifCond .ne 22, 3) := dk_154 0 22 (dk_at dksX6_emptyCell_1 0 rfl rfl)
theorem dX6_emptyCell_26 : decode cX6_emptyCell 26 = .ok (.aload_n 0, 1) := dk_42 (dk_at dksX6_emptyCell_1 3 rfl rfl)
theorem dX6_emptyCell_27 : decode cX6_emptyCell 27 = .ok (.getfield 40, 3) := dk_180 0 40 (dk_at dksX6_emptyCell_1 4 rfl rfl)
theorem dX6_emptyCell_30 : decode cX6_emptyCell 30 = .ok (.iload_n 1, 1) := dk_27 (dk_at dksX6_emptyCell_1 7 rfl rfl)
theorem dX6_emptyCell_31 : decode cX6_emptyCell 31 = .ok (.baload, 1) := dk_51 (dk_at dksX6_emptyCell_1 8 rfl rfl)
theorem dX6_emptyCell_32 : decode cX6_emptyCell 32 = .ok (.ifCond .ne 13, 3) := dk_154 0 13 (dk_at dksX6_emptyCell_1 9 rfl rfl)
theorem dX6_emptyCell_35 : decode cX6_emptyCell 35 = .ok (.aload_n 0, 1) := dk_42 (dk_at dksX6_emptyCell_1 12 rfl rfl)
theorem dX6_emptyCell_36 : decode cX6_emptyCell 36 = .ok (.iload_n 1, 1) := dk_27 (dk_at dksX6_emptyCell_1 13 rfl rfl)
theorem dX6_emptyCell_37 : decode cX6_emptyCell 37 = .ok (.invokevirtual 313, 3) := dk_182 1 57 (dk_at dksX6_emptyCell_1 14 rfl rfl)
theorem dX6_emptyCell_40 : decode cX6_emptyCell 40 = .ok (.ifCond .ne 5, 3) := dk_154 0 5 (dk_at dksX6_emptyCell_1 17 rfl rfl)
theorem dX6_emptyCell_43 : decode cX6_emptyCell 43 = .ok (.iload_n 1, 1) := dk_27 (dk_at dksX6_emptyCell_1 20 rfl rfl)
theorem dX6_emptyCell_44 : decode cX6_emptyCell 44 = .ok (.ireturn, 1) := dk_172 (dk_at dksX6_emptyCell_1 21 rfl rfl)
theorem dX6_emptyCell_45 : decode cX6_emptyCell 45 = .ok (.iinc 1 1, 3) := dk_132 1 1 (dk_at dksX6_emptyCell_2 0 rfl rfl)
theorem dX6_emptyCell_48 : decode cX6_emptyCell 48 = .ok (.goto (-46), 3) := dk_167 255 210 (dk_at dksX6_emptyCell_2 3 rfl rfl)
theorem dX6_emptyCell_51 : decode cX6_emptyCell 51 = .ok (.iconst (-1), 1) := dk_2 (dk_at dksX6_emptyCell_2 6 rfl rfl)
theorem dX6_emptyCell_52 : decode cX6_emptyCell 52 = .ok (.ireturn, 1) := dk_172 (dk_at dksX6_emptyCell_2 7 rfl rfl)
abbrev cX6_isCell : ByteArray := prog_12_method_14_code
def yX6_isCell : MethodName := ⟨RX6, "isCell", "(J)Z"⟩
def dkwX6_isCell_2 : List UInt8 := [133, 184, 0, 106, 153, 0, 7, 4, 167, 0, 4, 3, 172]
abbrev dktX6_isCell_2 : List UInt8 := dkwX6_isCell_2 ++ []
def dkwX6_isCell_1 : List UInt8 := [46, 4, 100, 133, 184, 0, 106, 153, 0, 28, 31, 20, 0, 121, 113, 9, 42, 180, 0, 9, 7, 46, 4, 100]
abbrev dktX6_isCell_1 : List UInt8 := dkwX6_isCell_1 ++ dktX6_isCell_2
def dkwX6_isCell_0 : List UInt8 := [42, 182, 0, 114, 153, 0, 55, 31, 9, 148, 155, 0, 49, 31, 20, 0, 121, 109, 9, 42, 180, 0, 9, 6]
abbrev dktX6_isCell_0 : List UInt8 := dkwX6_isCell_0 ++ dktX6_isCell_1
theorem dksX6_isCell_0 : cX6_isCell.data.toList.drop 0 = dktX6_isCell_0 := by decide +kernel
theorem dksX6_isCell_1 : cX6_isCell.data.toList.drop 24 = dktX6_isCell_1 := dk_seg dksX6_isCell_0 24 rfl rfl
theorem dksX6_isCell_2 : cX6_isCell.data.toList.drop 48 = dktX6_isCell_2 := dk_seg dksX6_isCell_1 24 rfl rfl
theorem dX6_isCell_0 : decode cX6_isCell 0 = .ok (.aload_n 0, 1) := dk_42 (dk_at dksX6_isCell_0 0 rfl rfl)
theorem dX6_isCell_1 : decode cX6_isCell 1 = .ok (.invokevirtual 114, 3) := dk_182 0 114 (dk_at dksX6_isCell_0 1 rfl rfl)
theorem dX6_isCell_4 : decode cX6_isCell 4 = .ok (.ifCond .eq 55, 3) := dk_153 0 55 (dk_at dksX6_isCell_0 4 rfl rfl)
theorem dX6_isCell_7 : decode cX6_isCell 7 = .ok (.lload_n 1, 1) := dk_31 (dk_at dksX6_isCell_0 7 rfl rfl)
theorem dX6_isCell_8 : decode cX6_isCell 8 = .ok (.lconst 0, 1) := dk_9 (dk_at dksX6_isCell_0 8 rfl rfl)
theorem dX6_isCell_9 : decode cX6_isCell 9 = .ok (.lcmp, 1) := dk_148 (dk_at dksX6_isCell_0 9 rfl rfl)
theorem dX6_isCell_10 : decode cX6_isCell 10 = .ok (.ifCond .lt 49, 3) := dk_155 0 49 (dk_at dksX6_isCell_0 10 rfl rfl)
theorem dX6_isCell_13 : decode cX6_isCell 13 = .ok (.lload_n 1, 1) := dk_31 (dk_at dksX6_isCell_0 13 rfl rfl)
theorem dX6_isCell_14 : decode cX6_isCell 14 = .ok (.ldc2_w 121, 3) := dk_20 0 121 (dk_at dksX6_isCell_0 14 rfl rfl)
theorem dX6_isCell_17 : decode cX6_isCell 17 = .ok (.ldiv, 1) := dk_109 (dk_at dksX6_isCell_0 17 rfl rfl)
theorem dX6_isCell_18 : decode cX6_isCell 18 = .ok (.lconst 0, 1) := dk_9 (dk_at dksX6_isCell_0 18 rfl rfl)
theorem dX6_isCell_19 : decode cX6_isCell 19 = .ok (.aload_n 0, 1) := dk_42 (dk_at dksX6_isCell_0 19 rfl rfl)
theorem dX6_isCell_20 : decode cX6_isCell 20 = .ok (.getfield 9, 3) := dk_180 0 9 (dk_at dksX6_isCell_0 20 rfl rfl)
theorem dX6_isCell_23 : decode cX6_isCell 23 = .ok (.iconst 3, 1) := dk_6 (dk_at dksX6_isCell_0 23 rfl rfl)
theorem dX6_isCell_24 : decode cX6_isCell 24 = .ok (.iaload, 1) := dk_46 (dk_at dksX6_isCell_1 0 rfl rfl)
theorem dX6_isCell_25 : decode cX6_isCell 25 = .ok (.iconst 1, 1) := dk_4 (dk_at dksX6_isCell_1 1 rfl rfl)
theorem dX6_isCell_26 : decode cX6_isCell 26 = .ok (.isub, 1) := dk_100 (dk_at dksX6_isCell_1 2 rfl rfl)
theorem dX6_isCell_27 : decode cX6_isCell 27 = .ok (.i2l, 1) := dk_133 (dk_at dksX6_isCell_1 3 rfl rfl)
theorem dX6_isCell_28 : decode cX6_isCell 28 = .ok (.invokestatic 106, 3) := dk_184 0 106 (dk_at dksX6_isCell_1 4 rfl rfl)
theorem dX6_isCell_31 : decode cX6_isCell 31 = .ok (.ifCond .eq 28, 3) := dk_153 0 28 (dk_at dksX6_isCell_1 7 rfl rfl)
theorem dX6_isCell_34 : decode cX6_isCell 34 = .ok (.lload_n 1, 1) := dk_31 (dk_at dksX6_isCell_1 10 rfl rfl)
theorem dX6_isCell_35 : decode cX6_isCell 35 = .ok (.ldc2_w 121, 3) := dk_20 0 121 (dk_at dksX6_isCell_1 11 rfl rfl)
theorem dX6_isCell_38 : decode cX6_isCell 38 = .ok (.lrem, 1) := dk_113 (dk_at dksX6_isCell_1 14 rfl rfl)
theorem dX6_isCell_39 : decode cX6_isCell 39 = .ok (.lconst 0, 1) := dk_9 (dk_at dksX6_isCell_1 15 rfl rfl)
theorem dX6_isCell_40 : decode cX6_isCell 40 = .ok (.aload_n 0, 1) := dk_42 (dk_at dksX6_isCell_1 16 rfl rfl)
theorem dX6_isCell_41 : decode cX6_isCell 41 = .ok (.getfield 9, 3) := dk_180 0 9 (dk_at dksX6_isCell_1 17 rfl rfl)
theorem dX6_isCell_44 : decode cX6_isCell 44 = .ok (.iconst 4, 1) := dk_7 (dk_at dksX6_isCell_1 20 rfl rfl)
theorem dX6_isCell_45 : decode cX6_isCell 45 = .ok (.iaload, 1) := dk_46 (dk_at dksX6_isCell_1 21 rfl rfl)
theorem dX6_isCell_46 : decode cX6_isCell 46 = .ok (.iconst 1, 1) := dk_4 (dk_at dksX6_isCell_1 22 rfl rfl)
theorem dX6_isCell_47 : decode cX6_isCell 47 = .ok (.isub, 1) := dk_100 (dk_at dksX6_isCell_1 23 rfl rfl)
theorem dX6_isCell_48 : decode cX6_isCell 48 = .ok (.i2l, 1) := dk_133 (dk_at dksX6_isCell_2 0 rfl rfl)
theorem dX6_isCell_49 : decode cX6_isCell 49 = .ok (.invokestatic 106, 3) := dk_184 0 106 (dk_at dksX6_isCell_2 1 rfl rfl)
theorem dX6_isCell_52 : decode cX6_isCell 52 = .ok (.ifCond .eq 7, 3) := dk_153 0 7 (dk_at dksX6_isCell_2 4 rfl rfl)
theorem dX6_isCell_55 : decode cX6_isCell 55 = .ok (.iconst 1, 1) := dk_4 (dk_at dksX6_isCell_2 7 rfl rfl)
theorem dX6_isCell_56 : decode cX6_isCell 56 = .ok (.goto 4, 3) := dk_167 0 4 (dk_at dksX6_isCell_2 8 rfl rfl)
theorem dX6_isCell_59 : decode cX6_isCell 59 = .ok (.iconst 0, 1) := dk_3 (dk_at dksX6_isCell_2 11 rfl rfl)
theorem dX6_isCell_60 : decode cX6_isCell 60 = .ok (.ireturn, 1) := dk_172 (dk_at dksX6_isCell_2 12 rfl rfl)
abbrev cX6_isColony : ByteArray := prog_12_method_8_code
def yX6_isColony : MethodName := ⟨RX6, "isColony", "()Z"⟩
def dkwX6_isColony_0 : List UInt8 := [42, 180, 0, 9, 16, 9, 46, 158, 0, 7, 4, 167, 0, 4, 3, 172]
abbrev dktX6_isColony_0 : List UInt8 := dkwX6_isColony_0 ++ []
theorem dksX6_isColony_0 : cX6_isColony.data.toList.drop 0 = dktX6_isColony_0 := by decide +kernel
theorem dX6_isColony_0 : decode cX6_isColony 0 = .ok (.aload_n 0, 1) := dk_42 (dk_at dksX6_isColony_0 0 rfl rfl)
theorem dX6_isColony_1 : decode cX6_isColony 1 = .ok (.getfield 9, 3) := dk_180 0 9 (dk_at dksX6_isColony_0 1 rfl rfl)
theorem dX6_isColony_4 : decode cX6_isColony 4 = .ok (.bipush 9, 2) := dk_16 9 (dk_at dksX6_isColony_0 4 rfl rfl)
theorem dX6_isColony_6 : decode cX6_isColony 6 = .ok (.iaload, 1) := dk_46 (dk_at dksX6_isColony_0 6 rfl rfl)
theorem dX6_isColony_7 : decode cX6_isColony 7 = .ok (.ifCond .le 7, 3) := dk_158 0 7 (dk_at dksX6_isColony_0 7 rfl rfl)
theorem dX6_isColony_10 : decode cX6_isColony 10 = .ok (.iconst 1, 1) := dk_4 (dk_at dksX6_isColony_0 10 rfl rfl)
theorem dX6_isColony_11 : decode cX6_isColony 11 = .ok (.goto 4, 3) := dk_167 0 4 (dk_at dksX6_isColony_0 11 rfl rfl)
theorem dX6_isColony_14 : decode cX6_isColony 14 = .ok (.iconst 0, 1) := dk_3 (dk_at dksX6_isColony_0 14 rfl rfl)
theorem dX6_isColony_15 : decode cX6_isColony 15 = .ok (.ireturn, 1) := dk_172 (dk_at dksX6_isColony_0 15 rfl rfl)
abbrev cX6_isHouse : ByteArray := prog_12_method_49_code
def yX6_isHouse : MethodName := ⟨RX6, "isHouse", "(I)Z"⟩
def dkwX6_isHouse_1 : List UInt8 := [160, 0, 7, 4, 167, 0, 4, 3, 61, 132, 3, 1, 167, 255, 225, 28, 172]
abbrev dktX6_isHouse_1 : List UInt8 := dkwX6_isHouse_1 ++ []
def dkwX6_isHouse_0 : List UInt8 := [3, 61, 3, 62, 29, 42, 182, 1, 51, 162, 0, 29, 28, 154, 0, 13, 42, 180, 0, 52, 29, 46, 27]
abbrev dktX6_isHouse_0 : List UInt8 := dkwX6_isHouse_0 ++ dktX6_isHouse_1
theorem dksX6_isHouse_0 : cX6_isHouse.data.toList.drop 0 = dktX6_isHouse_0 := by decide +kernel
theorem dksX6_isHouse_1 : cX6_isHouse.data.toList.drop 23 = dktX6_isHouse_1 := dk_seg dksX6_isHouse_0 23 rfl rfl
theorem dX6_isHouse_0 : decode cX6_isHouse 0 = .ok (.iconst 0, 1) := dk_3 (dk_at dksX6_isHouse_0 0 rfl rfl)
theorem dX6_isHouse_1 : decode cX6_isHouse 1 = .ok (.istore_n 2, 1) := dk_61 (dk_at dksX6_isHouse_0 1 rfl rfl)
theorem dX6_isHouse_2 : decode cX6_isHouse 2 = .ok (.iconst 0, 1) := dk_3 (dk_at dksX6_isHouse_0 2 rfl rfl)
theorem dX6_isHouse_3 : decode cX6_isHouse 3 = .ok (.istore_n 3, 1) := dk_62 (dk_at dksX6_isHouse_0 3 rfl rfl)
theorem dX6_isHouse_4 : decode cX6_isHouse 4 = .ok (.iload_n 3, 1) := dk_29 (dk_at dksX6_isHouse_0 4 rfl rfl)
theorem dX6_isHouse_5 : decode cX6_isHouse 5 = .ok (.aload_n 0, 1) := dk_42 (dk_at dksX6_isHouse_0 5 rfl rfl)
theorem dX6_isHouse_6 : decode cX6_isHouse 6 = .ok (.invokevirtual 307, 3) := dk_182 1 51 (dk_at dksX6_isHouse_0 6 rfl rfl)
theorem dX6_isHouse_9 : decode cX6_isHouse 9 = .ok (.if_icmp .ge 29, 3) := dk_162 0 29 (dk_at dksX6_isHouse_0 9 rfl rfl)
theorem dX6_isHouse_12 : decode cX6_isHouse 12 = .ok (.iload_n 2, 1) := dk_28 (dk_at dksX6_isHouse_0 12 rfl rfl)
theorem dX6_isHouse_13 : decode cX6_isHouse 13 = .ok (.ifCond .ne 13, 3) := dk_154 0 13 (dk_at dksX6_isHouse_0 13 rfl rfl)
theorem dX6_isHouse_16 : decode cX6_isHouse 16 = .ok (.aload_n 0, 1) := dk_42 (dk_at dksX6_isHouse_0 16 rfl rfl)
theorem dX6_isHouse_17 : decode cX6_isHouse 17 = .ok (.getfield 52, 3) := dk_180 0 52 (dk_at dksX6_isHouse_0 17 rfl rfl)
theorem dX6_isHouse_20 : decode cX6_isHouse 20 = .ok (.iload_n 3, 1) := dk_29 (dk_at dksX6_isHouse_0 20 rfl rfl)
theorem dX6_isHouse_21 : decode cX6_isHouse 21 = .ok (.iaload, 1) := dk_46 (dk_at dksX6_isHouse_0 21 rfl rfl)
theorem dX6_isHouse_22 : decode cX6_isHouse 22 = .ok (.iload_n 1, 1) := dk_27 (dk_at dksX6_isHouse_0 22 rfl rfl)
theorem dX6_isHouse_23 : decode cX6_isHouse 23 = .ok (.if_icmp .ne 7, 3) := dk_160 0 7 (dk_at dksX6_isHouse_1 0 rfl rfl)
theorem dX6_isHouse_26 : decode cX6_isHouse 26 = .ok (.iconst 1, 1) := dk_4 (dk_at dksX6_isHouse_1 3 rfl rfl)
theorem dX6_isHouse_27 : decode cX6_isHouse 27 = .ok (.goto 4, 3) := dk_167 0 4 (dk_at dksX6_isHouse_1 4 rfl rfl)
theorem dX6_isHouse_30 : decode cX6_isHouse 30 = .ok (.iconst 0, 1) := dk_3 (dk_at dksX6_isHouse_1 7 rfl rfl)
theorem dX6_isHouse_31 : decode cX6_isHouse 31 = .ok (.istore_n 2, 1) := dk_61 (dk_at dksX6_isHouse_1 8 rfl rfl)
theorem dX6_isHouse_32 : decode cX6_isHouse 32 = .ok (.iinc 3 1, 3) := dk_132 3 1 (dk_at dksX6_isHouse_1 9 rfl rfl)
theorem dX6_isHouse_35 : decode cX6_isHouse 35 = .ok (.goto (-31), 3) := dk_167 255 225 (dk_at dksX6_isHouse_1 12 rfl rfl)
theorem dX6_isHouse_38 : decode cX6_isHouse 38 = .ok (.iload_n 2, 1) := dk_28 (dk_at dksX6_isHouse_1 15 rfl rfl)
theorem dX6_isHouse_39 : decode cX6_isHouse 39 = .ok (.ireturn, 1) := dk_172 (dk_at dksX6_isHouse_1 16 rfl rfl)
abbrev cX6_at : ByteArray := prog_12_method_66_code
def yX6_at : MethodName := ⟨RX6, "at", "(II)I"⟩
def dkwX6_at_1 : List UInt8 := [182, 1, 85, 167, 0, 5, 16, 254, 172]
abbrev dktX6_at_1 : List UInt8 := dkwX6_at_1 ++ []
def dkwX6_at_0 : List UInt8 := [42, 27, 182, 1, 100, 153, 0, 24, 28, 133, 9, 20, 1, 103, 184, 0, 106, 153, 0, 12, 42, 27, 28]
abbrev dktX6_at_0 : List UInt8 := dkwX6_at_0 ++ dktX6_at_1
theorem dksX6_at_0 : cX6_at.data.toList.drop 0 = dktX6_at_0 := by decide +kernel
theorem dksX6_at_1 : cX6_at.data.toList.drop 23 = dktX6_at_1 := dk_seg dksX6_at_0 23 rfl rfl
theorem dX6_at_0 : decode cX6_at 0 = .ok (.aload_n 0, 1) := dk_42 (dk_at dksX6_at_0 0 rfl rfl)
theorem dX6_at_1 : decode cX6_at 1 = .ok (.iload_n 1, 1) := dk_27 (dk_at dksX6_at_0 1 rfl rfl)
theorem dX6_at_2 : decode cX6_at 2 = .ok (.invokevirtual 356, 3) := dk_182 1 100 (dk_at dksX6_at_0 2 rfl rfl)
theorem dX6_at_5 : decode cX6_at 5 = .ok (.ifCond .eq 24, 3) := dk_153 0 24 (dk_at dksX6_at_0 5 rfl rfl)
theorem dX6_at_8 : decode cX6_at 8 = .ok (.iload_n 2, 1) := dk_28 (dk_at dksX6_at_0 8 rfl rfl)
theorem dX6_at_9 : decode cX6_at 9 = .ok (.i2l, 1) := dk_133 (dk_at dksX6_at_0 9 rfl rfl)
theorem dX6_at_10 : decode cX6_at 10 = .ok (.lconst 0, 1) := dk_9 (dk_at dksX6_at_0 10 rfl rfl)
theorem dX6_at_11 : decode cX6_at 11 = .ok (.ldc2_w 359, 3) := dk_20 1 103 (dk_at dksX6_at_0 11 rfl rfl)
theorem dX6_at_14 : decode cX6_at 14 = .ok (.invokestatic 106, 3) := dk_184 0 106 (dk_at dksX6_at_0 14 rfl rfl)
theorem dX6_at_17 : decode cX6_at 17 = .ok (.ifCond .eq 12, 3) := dk_153 0 12 (dk_at dksX6_at_0 17 rfl rfl)
theorem dX6_at_20 : decode cX6_at 20 = .ok (.aload_n 0, 1) := dk_42 (dk_at dksX6_at_0 20 rfl rfl)
theorem dX6_at_21 : decode cX6_at 21 = .ok (.iload_n 1, 1) := dk_27 (dk_at dksX6_at_0 21 rfl rfl)
theorem dX6_at_22 : decode cX6_at 22 = .ok (.iload_n 2, 1) := dk_28 (dk_at dksX6_at_0 22 rfl rfl)
theorem dX6_at_23 : decode cX6_at 23 = .ok (.invokevirtual 341, 3) := dk_182 1 85 (dk_at dksX6_at_1 0 rfl rfl)
theorem dX6_at_26 : decode cX6_at 26 = .ok (.goto 5, 3) := dk_167 0 5 (dk_at dksX6_at_1 3 rfl rfl)
theorem dX6_at_29 : decode cX6_at 29 = .ok (.bipush (-2), 2) := dk_16 254 (dk_at dksX6_at_1 6 rfl rfl)
theorem dX6_at_31 : decode cX6_at 31 = .ok (.ireturn, 1) := dk_172 (dk_at dksX6_at_1 8 rfl rfl)
abbrev cX6_asksWidow : ByteArray := prog_12_method_56_code
def yX6_asksWidow : MethodName := ⟨RX6, "asksWidow", "(I)Z"⟩
def dkwX6_asksWidow_0 : List UInt8 := [42, 182, 1, 79, 87, 42, 27, 133, 182, 1, 5, 172]
abbrev dktX6_asksWidow_0 : List UInt8 := dkwX6_asksWidow_0 ++ []
theorem dksX6_asksWidow_0 : cX6_asksWidow.data.toList.drop 0 = dktX6_asksWidow_0 := by decide +kernel
theorem dX6_asksWidow_0 : decode cX6_asksWidow 0 = .ok (.aload_n 0, 1) := dk_42 (dk_at dksX6_asksWidow_0 0 rfl rfl)
theorem dX6_asksWidow_1 : decode cX6_asksWidow 1 = .ok (.invokevirtual 335, 3) := dk_182 1 79 (dk_at dksX6_asksWidow_0 1 rfl rfl)
theorem dX6_asksWidow_4 : decode cX6_asksWidow 4 = .ok (.pop, 1) := dk_87 (dk_at dksX6_asksWidow_0 4 rfl rfl)
theorem dX6_asksWidow_5 : decode cX6_asksWidow 5 = .ok (.aload_n 0, 1) := dk_42 (dk_at dksX6_asksWidow_0 5 rfl rfl)
theorem dX6_asksWidow_6 : decode cX6_asksWidow 6 = .ok (.iload_n 1, 1) := dk_27 (dk_at dksX6_asksWidow_0 6 rfl rfl)
theorem dX6_asksWidow_7 : decode cX6_asksWidow 7 = .ok (.i2l, 1) := dk_133 (dk_at dksX6_asksWidow_0 7 rfl rfl)
theorem dX6_asksWidow_8 : decode cX6_asksWidow 8 = .ok (.invokevirtual 261, 3) := dk_182 1 5 (dk_at dksX6_asksWidow_0 8 rfl rfl)
theorem dX6_asksWidow_11 : decode cX6_asksWidow 11 = .ok (.ireturn, 1) := dk_172 (dk_at dksX6_asksWidow_0 11 rfl rfl)
abbrev cX6_pathOf : ByteArray := prog_12_method_59_code
def yX6_pathOf : MethodName := ⟨RX6, "pathOf", "(II)I"⟩
def dkwX6_pathOf_1 : List UInt8 := [2, 172]
abbrev dktX6_pathOf_1 : List UInt8 := dkwX6_pathOf_1 ++ []
def dkwX6_pathOf_0 : List UInt8 := [28, 42, 180, 0, 58, 27, 46, 163, 0, 17, 42, 180, 0, 55, 16, 41, 27, 104, 28, 96, 46, 167, 0, 4]
abbrev dktX6_pathOf_0 : List UInt8 := dkwX6_pathOf_0 ++ dktX6_pathOf_1
theorem dksX6_pathOf_0 : cX6_pathOf.data.toList.drop 0 = dktX6_pathOf_0 := by decide +kernel
theorem dksX6_pathOf_1 : cX6_pathOf.data.toList.drop 24 = dktX6_pathOf_1 := dk_seg dksX6_pathOf_0 24 rfl rfl
theorem dX6_pathOf_0 : decode cX6_pathOf 0 = .ok (.iload_n 2, 1) := dk_28 (dk_at dksX6_pathOf_0 0 rfl rfl)
theorem dX6_pathOf_1 : decode cX6_pathOf 1 = .ok (.aload_n 0, 1) := dk_42 (dk_at dksX6_pathOf_0 1 rfl rfl)
theorem dX6_pathOf_2 : decode cX6_pathOf 2 = .ok (.getfield 58, 3) := dk_180 0 58 (dk_at dksX6_pathOf_0 2 rfl rfl)
theorem dX6_pathOf_5 : decode cX6_pathOf 5 = .ok (.iload_n 1, 1) := dk_27 (dk_at dksX6_pathOf_0 5 rfl rfl)
theorem dX6_pathOf_6 : decode cX6_pathOf 6 = .ok (.iaload, 1) := dk_46 (dk_at dksX6_pathOf_0 6 rfl rfl)
theorem dX6_pathOf_7 : decode cX6_pathOf 7 = .ok (.if_icmp .gt 17, 3) := dk_163 0 17 (dk_at dksX6_pathOf_0 7 rfl rfl)
theorem dX6_pathOf_10 : decode cX6_pathOf 10 = .ok (.aload_n 0, 1) := dk_42 (dk_at dksX6_pathOf_0 10 rfl rfl)
theorem dX6_pathOf_11 : decode cX6_pathOf 11 = .ok (.getfield 55, 3) := dk_180 0 55 (dk_at dksX6_pathOf_0 11 rfl rfl)
theorem dX6_pathOf_14 : decode cX6_pathOf 14 = .ok (.bipush 41, 2) := dk_16 41 (dk_at dksX6_pathOf_0 14 rfl rfl)
theorem dX6_pathOf_16 : decode cX6_pathOf 16 = .ok (.iload_n 1, 1) := dk_27 (dk_at dksX6_pathOf_0 16 rfl rfl)
theorem dX6_pathOf_17 : decode cX6_pathOf 17 = .ok (.imul, 1) := dk_104 (dk_at dksX6_pathOf_0 17 rfl rfl)
theorem dX6_pathOf_18 : decode cX6_pathOf 18 = .ok (.iload_n 2, 1) := dk_28 (dk_at dksX6_pathOf_0 18 rfl rfl)
theorem dX6_pathOf_19 : decode cX6_pathOf 19 = .ok (.iadd, 1) := dk_96 (dk_at dksX6_pathOf_0 19 rfl rfl)
theorem dX6_pathOf_20 : decode cX6_pathOf 20 = .ok (.iaload, 1) := dk_46 (dk_at dksX6_pathOf_0 20 rfl rfl)
theorem dX6_pathOf_21 : decode cX6_pathOf 21 = .ok (.goto 4, 3) := dk_167 0 4 (dk_at dksX6_pathOf_0 21 rfl rfl)
theorem dX6_pathOf_24 : decode cX6_pathOf 24 = .ok (.iconst (-1), 1) := dk_2 (dk_at dksX6_pathOf_1 0 rfl rfl)
theorem dX6_pathOf_25 : decode cX6_pathOf 25 = .ok (.ireturn, 1) := dk_172 (dk_at dksX6_pathOf_1 1 rfl rfl)
abbrev cX6_steps : ByteArray := prog_12_method_67_code
def yX6_steps : MethodName := ⟨RX6, "steps", "(I)I"⟩
def dkwX6_steps_0 : List UInt8 := [42, 27, 182, 1, 100, 153, 0, 12, 42, 180, 0, 58, 27, 46, 167, 0, 5, 16, 254, 172]
abbrev dktX6_steps_0 : List UInt8 := dkwX6_steps_0 ++ []
theorem dksX6_steps_0 : cX6_steps.data.toList.drop 0 = dktX6_steps_0 := by decide +kernel
theorem dX6_steps_0 : decode cX6_steps 0 = .ok (.aload_n 0, 1) := dk_42 (dk_at dksX6_steps_0 0 rfl rfl)
theorem dX6_steps_1 : decode cX6_steps 1 = .ok (.iload_n 1, 1) := dk_27 (dk_at dksX6_steps_0 1 rfl rfl)
theorem dX6_steps_2 : decode cX6_steps 2 = .ok (.invokevirtual 356, 3) := dk_182 1 100 (dk_at dksX6_steps_0 2 rfl rfl)
theorem dX6_steps_5 : decode cX6_steps 5 = .ok (.ifCond .eq 12, 3) := dk_153 0 12 (dk_at dksX6_steps_0 5 rfl rfl)
theorem dX6_steps_8 : decode cX6_steps 8 = .ok (.aload_n 0, 1) := dk_42 (dk_at dksX6_steps_0 8 rfl rfl)
theorem dX6_steps_9 : decode cX6_steps 9 = .ok (.getfield 58, 3) := dk_180 0 58 (dk_at dksX6_steps_0 9 rfl rfl)
theorem dX6_steps_12 : decode cX6_steps 12 = .ok (.iload_n 1, 1) := dk_27 (dk_at dksX6_steps_0 12 rfl rfl)
theorem dX6_steps_13 : decode cX6_steps 13 = .ok (.iaload, 1) := dk_46 (dk_at dksX6_steps_0 13 rfl rfl)
theorem dX6_steps_14 : decode cX6_steps 14 = .ok (.goto 5, 3) := dk_167 0 5 (dk_at dksX6_steps_0 14 rfl rfl)
theorem dX6_steps_17 : decode cX6_steps 17 = .ok (.bipush (-2), 2) := dk_16 254 (dk_at dksX6_steps_0 17 rfl rfl)
theorem dX6_steps_19 : decode cX6_steps 19 = .ok (.ireturn, 1) := dk_172 (dk_at dksX6_steps_0 19 rfl rfl)
abbrev cX6_stands : ByteArray := prog_12_method_68_code
def yX6_stands : MethodName := ⟨RX6, "stands", "(I)I"⟩
def dkwX6_stands_3 : List UInt8 := [2, 172]
abbrev dktX6_stands_3 : List UInt8 := dkwX6_stands_3 ++ []
def dkwX6_stands_2 : List UInt8 := [167, 0, 4, 3, 96, 61, 132, 3, 1, 167, 255, 218, 42, 27, 182, 1, 105, 153, 0, 7, 28, 167, 0, 4]
abbrev dktX6_stands_2 : List UInt8 := dkwX6_stands_2 ++ dktX6_stands_3
def dkwX6_stands_1 : List UInt8 := [163, 0, 34, 28, 42, 27, 29, 182, 1, 85, 42, 27, 29, 4, 100, 182, 1, 85, 160, 0, 7, 4]
abbrev dktX6_stands_1 : List UInt8 := dkwX6_stands_1 ++ dktX6_stands_2
def dkwX6_stands_0 : List UInt8 := [42, 27, 182, 1, 100, 154, 0, 6, 16, 254, 172, 3, 61, 4, 62, 29, 42, 180, 0, 58, 27, 46]
abbrev dktX6_stands_0 : List UInt8 := dkwX6_stands_0 ++ dktX6_stands_1
theorem dksX6_stands_0 : cX6_stands.data.toList.drop 0 = dktX6_stands_0 := by decide +kernel
theorem dksX6_stands_1 : cX6_stands.data.toList.drop 22 = dktX6_stands_1 := dk_seg dksX6_stands_0 22 rfl rfl
theorem dksX6_stands_2 : cX6_stands.data.toList.drop 44 = dktX6_stands_2 := dk_seg dksX6_stands_1 22 rfl rfl
theorem dksX6_stands_3 : cX6_stands.data.toList.drop 68 = dktX6_stands_3 := dk_seg dksX6_stands_2 24 rfl rfl
theorem dX6_stands_0 : decode cX6_stands 0 = .ok (.aload_n 0, 1) := dk_42 (dk_at dksX6_stands_0 0 rfl rfl)
theorem dX6_stands_1 : decode cX6_stands 1 = .ok (.iload_n 1, 1) := dk_27 (dk_at dksX6_stands_0 1 rfl rfl)
theorem dX6_stands_2 : decode cX6_stands 2 = .ok (.invokevirtual 356, 3) := dk_182 1 100 (dk_at dksX6_stands_0 2 rfl rfl)
theorem dX6_stands_5 : decode cX6_stands 5 = .ok (.ifCond .ne 6, 3) := dk_154 0 6 (dk_at dksX6_stands_0 5 rfl rfl)
theorem dX6_stands_8 : decode cX6_stands 8 = .ok (.bipush (-2), 2) := dk_16 254 (dk_at dksX6_stands_0 8 rfl rfl)
theorem dX6_stands_10 : decode cX6_stands 10 = .ok (.ireturn, 1) := dk_172 (dk_at dksX6_stands_0 10 rfl rfl)
theorem dX6_stands_11 : decode cX6_stands 11 = .ok (.iconst 0, 1) := dk_3 (dk_at dksX6_stands_0 11 rfl rfl)
theorem dX6_stands_12 : decode cX6_stands 12 = .ok (.istore_n 2, 1) := dk_61 (dk_at dksX6_stands_0 12 rfl rfl)
theorem dX6_stands_13 : decode cX6_stands 13 = .ok (.iconst 1, 1) := dk_4 (dk_at dksX6_stands_0 13 rfl rfl)
theorem dX6_stands_14 : decode cX6_stands 14 = .ok (.istore_n 3, 1) := dk_62 (dk_at dksX6_stands_0 14 rfl rfl)
theorem dX6_stands_15 : decode cX6_stands 15 = .ok (.iload_n 3, 1) := dk_29 (dk_at dksX6_stands_0 15 rfl rfl)
theorem dX6_stands_16 : decode cX6_stands 16 = .ok (.aload_n 0, 1) := dk_42 (dk_at dksX6_stands_0 16 rfl rfl)
theorem dX6_stands_17 : decode cX6_stands 17 = .ok (.getfield 58, 3) := dk_180 0 58 (dk_at dksX6_stands_0 17 rfl rfl)
theorem dX6_stands_20 : decode cX6_stands 20 = .ok (.iload_n 1, 1) := dk_27 (dk_at dksX6_stands_0 20 rfl rfl)
theorem dX6_stands_21 : decode cX6_stands 21 = .ok (.iaload, 1) := dk_46 (dk_at dksX6_stands_0 21 rfl rfl)
theorem dX6_stands_22 : decode cX6_stands 22 = .ok (.if_icmp .gt 34, 3) := dk_163 0 34 (dk_at dksX6_stands_1 0 rfl rfl)
theorem dX6_stands_25 : decode cX6_stands 25 = .ok (.iload_n 2, 1) := dk_28 (dk_at dksX6_stands_1 3 rfl rfl)
theorem dX6_stands_26 : decode cX6_stands 26 = .ok (.aload_n 0, 1) := dk_42 (dk_at dksX6_stands_1 4 rfl rfl)
theorem dX6_stands_27 : decode cX6_stands 27 = .ok (.iload_n 1, 1) := dk_27 (dk_at dksX6_stands_1 5 rfl rfl)
theorem dX6_stands_28 : decode cX6_stands 28 = .ok (.iload_n 3, 1) := dk_29 (dk_at dksX6_stands_1 6 rfl rfl)
theorem dX6_stands_29 : decode cX6_stands 29 = .ok (.invokevirtual 341, 3) := dk_182 1 85 (dk_at dksX6_stands_1 7 rfl rfl)
theorem dX6_stands_32 : decode cX6_stands 32 = .ok (.aload_n 0, 1) := dk_42 (dk_at dksX6_stands_1 10 rfl rfl)
theorem dX6_stands_33 : decode cX6_stands 33 = .ok (.iload_n 1, 1) := dk_27 (dk_at dksX6_stands_1 11 rfl rfl)
theorem dX6_stands_34 : decode cX6_stands 34 = .ok (.iload_n 3, 1) := dk_29 (dk_at dksX6_stands_1 12 rfl rfl)
theorem dX6_stands_35 : decode cX6_stands 35 = .ok (.iconst 1, 1) := dk_4 (dk_at dksX6_stands_1 13 rfl rfl)
theorem dX6_stands_36 : decode cX6_stands 36 = .ok (.isub, 1) := dk_100 (dk_at dksX6_stands_1 14 rfl rfl)
theorem dX6_stands_37 : decode cX6_stands 37 = .ok (.invokevirtual 341, 3) := dk_182 1 85 (dk_at dksX6_stands_1 15 rfl rfl)
theorem dX6_stands_40 : decode cX6_stands 40 = .ok (.if_icmp .ne 7, 3) := dk_160 0 7 (dk_at dksX6_stands_1 18 rfl rfl)
theorem dX6_stands_43 : decode cX6_stands 43 = .ok (.iconst 1, 1) := dk_4 (dk_at dksX6_stands_1 21 rfl rfl)
theorem dX6_stands_44 : decode cX6_stands 44 = .ok (.goto 4, 3) := dk_167 0 4 (dk_at dksX6_stands_2 0 rfl rfl)
theorem dX6_stands_47 : decode cX6_stands 47 = .ok (.iconst 0, 1) := dk_3 (dk_at dksX6_stands_2 3 rfl rfl)
theorem dX6_stands_48 : decode cX6_stands 48 = .ok (.iadd, 1) := dk_96 (dk_at dksX6_stands_2 4 rfl rfl)
theorem dX6_stands_49 : decode cX6_stands 49 = .ok (.istore_n 2, 1) := dk_61 (dk_at dksX6_stands_2 5 rfl rfl)
theorem dX6_stands_50 : decode cX6_stands 50 = .ok (.iinc 3 1, 3) := dk_132 3 1 (dk_at dksX6_stands_2 6 rfl rfl)
theorem dX6_stands_53 : decode cX6_stands 53 = .ok (.goto (-38), 3) := dk_167 255 218 (dk_at dksX6_stands_2 9 rfl rfl)
theorem dX6_stands_56 : decode cX6_stands 56 = .ok (.aload_n 0, 1) := dk_42 (dk_at dksX6_stands_2 12 rfl rfl)
theorem dX6_stands_57 : decode cX6_stands 57 = .ok (.iload_n 1, 1) := dk_27 (dk_at dksX6_stands_2 13 rfl rfl)
theorem dX6_stands_58 : decode cX6_stands 58 = .ok (.invokevirtual 361, 3) := dk_182 1 105 (dk_at dksX6_stands_2 14 rfl rfl)
theorem dX6_stands_61 : decode cX6_stands 61 = .ok (.ifCond .eq 7, 3) := dk_153 0 7 (dk_at dksX6_stands_2 17 rfl rfl)
theorem dX6_stands_64 : decode cX6_stands 64 = .ok (.iload_n 2, 1) := dk_28 (dk_at dksX6_stands_2 20 rfl rfl)
theorem dX6_stands_65 : decode cX6_stands 65 = .ok (.goto 4, 3) := dk_167 0 4 (dk_at dksX6_stands_2 21 rfl rfl)
theorem dX6_stands_68 : decode cX6_stands 68 = .ok (.iconst (-1), 1) := dk_2 (dk_at dksX6_stands_3 0 rfl rfl)
theorem dX6_stands_69 : decode cX6_stands 69 = .ok (.ireturn, 1) := dk_172 (dk_at dksX6_stands_3 1 rfl rfl)
abbrev cX6_walks : ByteArray := prog_12_method_58_code
def yX6_walks : MethodName := ⟨RX6, "walks", "(I)Z"⟩
def dkwX6_walks_0 : List UInt8 := [42, 180, 0, 58, 27, 46, 2, 159, 0, 7, 4, 167, 0, 4, 3, 172]
abbrev dktX6_walks_0 : List UInt8 := dkwX6_walks_0 ++ []
theorem dksX6_walks_0 : cX6_walks.data.toList.drop 0 = dktX6_walks_0 := by decide +kernel
theorem dX6_walks_0 : decode cX6_walks 0 = .ok (.aload_n 0, 1) := dk_42 (dk_at dksX6_walks_0 0 rfl rfl)
theorem dX6_walks_1 : decode cX6_walks 1 = .ok (.getfield 58, 3) := dk_180 0 58 (dk_at dksX6_walks_0 1 rfl rfl)
theorem dX6_walks_4 : decode cX6_walks 4 = .ok (.iload_n 1, 1) := dk_27 (dk_at dksX6_walks_0 4 rfl rfl)
theorem dX6_walks_5 : decode cX6_walks 5 = .ok (.iaload, 1) := dk_46 (dk_at dksX6_walks_0 5 rfl rfl)
theorem dX6_walks_6 : decode cX6_walks 6 = .ok (.iconst (-1), 1) := dk_2 (dk_at dksX6_walks_0 6 rfl rfl)
theorem dX6_walks_7 : decode cX6_walks 7 = .ok (.if_icmp .eq 7, 3) := dk_159 0 7 (dk_at dksX6_walks_0 7 rfl rfl)
theorem dX6_walks_10 : decode cX6_walks 10 = .ok (.iconst 1, 1) := dk_4 (dk_at dksX6_walks_0 10 rfl rfl)
theorem dX6_walks_11 : decode cX6_walks 11 = .ok (.goto 4, 3) := dk_167 0 4 (dk_at dksX6_walks_0 11 rfl rfl)
theorem dX6_walks_14 : decode cX6_walks 14 = .ok (.iconst 0, 1) := dk_3 (dk_at dksX6_walks_0 14 rfl rfl)
theorem dX6_walks_15 : decode cX6_walks 15 = .ok (.ireturn, 1) := dk_172 (dk_at dksX6_walks_0 15 rfl rfl)
abbrev cX6_ground : ByteArray := prog_12_method_70_code
def yX6_ground : MethodName := ⟨RX6, "ground", "(I)I"⟩
def dkwX6_ground_1 : List UInt8 := [167, 0, 4, 2, 172]
abbrev dktX6_ground_1 : List UInt8 := dkwX6_ground_1 ++ []
def dkwX6_ground_0 : List UInt8 := [42, 27, 182, 1, 100, 154, 0, 6, 16, 254, 172, 42, 27, 182, 1, 105, 153, 0, 11, 42, 27, 182, 1, 111]
abbrev dktX6_ground_0 : List UInt8 := dkwX6_ground_0 ++ dktX6_ground_1
theorem dksX6_ground_0 : cX6_ground.data.toList.drop 0 = dktX6_ground_0 := by decide +kernel
theorem dksX6_ground_1 : cX6_ground.data.toList.drop 24 = dktX6_ground_1 := dk_seg dksX6_ground_0 24 rfl rfl
theorem dX6_ground_0 : decode cX6_ground 0 = .ok (.aload_n 0, 1) := dk_42 (dk_at dksX6_ground_0 0 rfl rfl)
theorem dX6_ground_1 : decode cX6_ground 1 = .ok (.iload_n 1, 1) := dk_27 (dk_at dksX6_ground_0 1 rfl rfl)
theorem dX6_ground_2 : decode cX6_ground 2 = .ok (.invokevirtual 356, 3) := dk_182 1 100 (dk_at dksX6_ground_0 2 rfl rfl)
theorem dX6_ground_5 : decode cX6_ground 5 = .ok (.ifCond .ne 6, 3) := dk_154 0 6 (dk_at dksX6_ground_0 5 rfl rfl)
theorem dX6_ground_8 : decode cX6_ground 8 = .ok (.bipush (-2), 2) := dk_16 254 (dk_at dksX6_ground_0 8 rfl rfl)
theorem dX6_ground_10 : decode cX6_ground 10 = .ok (.ireturn, 1) := dk_172 (dk_at dksX6_ground_0 10 rfl rfl)
theorem dX6_ground_11 : decode cX6_ground 11 = .ok (.aload_n 0, 1) := dk_42 (dk_at dksX6_ground_0 11 rfl rfl)
theorem dX6_ground_12 : decode cX6_ground 12 = .ok (.iload_n 1, 1) := dk_27 (dk_at dksX6_ground_0 12 rfl rfl)
theorem dX6_ground_13 : decode cX6_ground 13 = .ok (.invokevirtual 361, 3) := dk_182 1 105 (dk_at dksX6_ground_0 13 rfl rfl)
theorem dX6_ground_16 : decode cX6_ground 16 = .ok (.ifCond .eq 11, 3) := dk_153 0 11 (dk_at dksX6_ground_0 16 rfl rfl)
theorem dX6_ground_19 : decode cX6_ground 19 = .ok (.aload_n 0, 1) := dk_42 (dk_at dksX6_ground_0 19 rfl rfl)
theorem dX6_ground_20 : decode cX6_ground 20 = .ok (.iload_n 1, 1) := dk_27 (dk_at dksX6_ground_0 20 rfl rfl)
theorem dX6_ground_21 : decode cX6_ground 21 = .ok (.invokevirtual 367, 3) := dk_182 1 111 (dk_at dksX6_ground_0 21 rfl rfl)
theorem dX6_ground_24 : decode cX6_ground 24 = .ok (.goto 4, 3) := dk_167 0 4 (dk_at dksX6_ground_1 0 rfl rfl)
theorem dX6_ground_27 : decode cX6_ground 27 = .ok (.iconst (-1), 1) := dk_2 (dk_at dksX6_ground_1 3 rfl rfl)
theorem dX6_ground_28 : decode cX6_ground 28 = .ok (.ireturn, 1) := dk_172 (dk_at dksX6_ground_1 4 rfl rfl)
abbrev cX6_groundOf : ByteArray := prog_12_method_69_code
def yX6_groundOf : MethodName := ⟨RX6, "groundOf", "(I)I"⟩
def dkwX6_groundOf_1 : List UInt8 := [3, 96, 61, 132, 3, 1, 167, 255, 230, 28, 172]
abbrev dktX6_groundOf_1 : List UInt8 := dkwX6_groundOf_1 ++ []
def dkwX6_groundOf_0 : List UInt8 := [3, 61, 3, 62, 29, 16, 80, 162, 0, 26, 28, 42, 27, 29, 182, 1, 108, 153, 0, 7, 4, 167, 0, 4]
abbrev dktX6_groundOf_0 : List UInt8 := dkwX6_groundOf_0 ++ dktX6_groundOf_1
theorem dksX6_groundOf_0 : cX6_groundOf.data.toList.drop 0 = dktX6_groundOf_0 := by decide +kernel
theorem dksX6_groundOf_1 : cX6_groundOf.data.toList.drop 24 = dktX6_groundOf_1 := dk_seg dksX6_groundOf_0 24 rfl rfl
theorem dX6_groundOf_0 : decode cX6_groundOf 0 = .ok (.iconst 0, 1) := dk_3 (dk_at dksX6_groundOf_0 0 rfl rfl)
theorem dX6_groundOf_1 : decode cX6_groundOf 1 = .ok (.istore_n 2, 1) := dk_61 (dk_at dksX6_groundOf_0 1 rfl rfl)
theorem dX6_groundOf_2 : decode cX6_groundOf 2 = .ok (.iconst 0, 1) := dk_3 (dk_at dksX6_groundOf_0 2 rfl rfl)
theorem dX6_groundOf_3 : decode cX6_groundOf 3 = .ok (.istore_n 3, 1) := dk_62 (dk_at dksX6_groundOf_0 3 rfl rfl)
theorem dX6_groundOf_4 : decode cX6_groundOf 4 = .ok (.iload_n 3, 1) := dk_29 (dk_at dksX6_groundOf_0 4 rfl rfl)
theorem dX6_groundOf_5 : decode cX6_groundOf 5 = .ok (.bipush 80, 2) := dk_16 80 (dk_at dksX6_groundOf_0 5 rfl rfl)
theorem dX6_groundOf_7 : decode cX6_groundOf 7 = .ok (.if_icmp .ge 26, 3) := dk_162 0 26 (dk_at dksX6_groundOf_0 7 rfl rfl)
theorem dX6_groundOf_10 : decode cX6_groundOf 10 = .ok (.iload_n 2, 1) := dk_28 (dk_at dksX6_groundOf_0 10 rfl rfl)
theorem dX6_groundOf_11 : decode cX6_groundOf 11 = .ok (.aload_n 0, 1) := dk_42 (dk_at dksX6_groundOf_0 11 rfl rfl)
theorem dX6_groundOf_12 : decode cX6_groundOf 12 = .ok (.iload_n 1, 1) := dk_27 (dk_at dksX6_groundOf_0 12 rfl rfl)
theorem dX6_groundOf_13 : decode cX6_groundOf 13 = .ok (.iload_n 3, 1) := dk_29 (dk_at dksX6_groundOf_0 13 rfl rfl)
theorem dX6_groundOf_14 : decode cX6_groundOf 14 = .ok (.invokevirtual 364, 3) := dk_182 1 108 (dk_at dksX6_groundOf_0 14 rfl rfl)
theorem dX6_groundOf_17 : decode cX6_groundOf 17 = .ok (.ifCond .eq 7, 3) := dk_153 0 7 (dk_at dksX6_groundOf_0 17 rfl rfl)
theorem dX6_groundOf_20 : decode cX6_groundOf 20 = .ok (.iconst 1, 1) := dk_4 (dk_at dksX6_groundOf_0 20 rfl rfl)
theorem dX6_groundOf_21 : decode cX6_groundOf 21 = .ok (.goto 4, 3) := dk_167 0 4 (dk_at dksX6_groundOf_0 21 rfl rfl)
theorem dX6_groundOf_24 : decode cX6_groundOf 24 = .ok (.iconst 0, 1) := dk_3 (dk_at dksX6_groundOf_1 0 rfl rfl)
theorem dX6_groundOf_25 : decode cX6_groundOf 25 = .ok (.iadd, 1) := dk_96 (dk_at dksX6_groundOf_1 1 rfl rfl)
theorem dX6_groundOf_26 : decode cX6_groundOf 26 = .ok (.istore_n 2, 1) := dk_61 (dk_at dksX6_groundOf_1 2 rfl rfl)
theorem dX6_groundOf_27 : decode cX6_groundOf 27 = .ok (.iinc 3 1, 3) := dk_132 3 1 (dk_at dksX6_groundOf_1 3 rfl rfl)
theorem dX6_groundOf_30 : decode cX6_groundOf 30 = .ok (.goto (-26), 3) := dk_167 255 230 (dk_at dksX6_groundOf_1 6 rfl rfl)
theorem dX6_groundOf_33 : decode cX6_groundOf 33 = .ok (.iload_n 2, 1) := dk_28 (dk_at dksX6_groundOf_1 9 rfl rfl)
theorem dX6_groundOf_34 : decode cX6_groundOf 34 = .ok (.ireturn, 1) := dk_172 (dk_at dksX6_groundOf_1 10 rfl rfl)
abbrev cX6_isIn : ByteArray := prog_12_method_60_code
def yX6_isIn : MethodName := ⟨RX6, "isIn", "(II)Z"⟩
def dkwX6_isIn_1 : List UInt8 := [182, 1, 85, 28, 160, 0, 7, 4, 167, 0, 4, 3, 62, 132, 4, 1, 167, 255, 221, 29, 172]
abbrev dktX6_isIn_1 : List UInt8 := dkwX6_isIn_1 ++ []
def dkwX6_isIn_0 : List UInt8 := [3, 62, 3, 54, 4, 21, 4, 42, 180, 0, 58, 27, 46, 163, 0, 30, 29, 154, 0, 14, 42, 27, 21, 4]
abbrev dktX6_isIn_0 : List UInt8 := dkwX6_isIn_0 ++ dktX6_isIn_1
theorem dksX6_isIn_0 : cX6_isIn.data.toList.drop 0 = dktX6_isIn_0 := by decide +kernel
theorem dksX6_isIn_1 : cX6_isIn.data.toList.drop 24 = dktX6_isIn_1 := dk_seg dksX6_isIn_0 24 rfl rfl
theorem dX6_isIn_0 : decode cX6_isIn 0 = .ok (.iconst 0, 1) := dk_3 (dk_at dksX6_isIn_0 0 rfl rfl)
theorem dX6_isIn_1 : decode cX6_isIn 1 = .ok (.istore_n 3, 1) := dk_62 (dk_at dksX6_isIn_0 1 rfl rfl)
theorem dX6_isIn_2 : decode cX6_isIn 2 = .ok (.iconst 0, 1) := dk_3 (dk_at dksX6_isIn_0 2 rfl rfl)
theorem dX6_isIn_3 : decode cX6_isIn 3 = .ok (.istore 4, 2) := dk_54 4 (dk_at dksX6_isIn_0 3 rfl rfl)
theorem dX6_isIn_5 : decode cX6_isIn 5 = .ok (.iload 4, 2) := dk_21 4 (dk_at dksX6_isIn_0 5 rfl rfl)
theorem dX6_isIn_7 : decode cX6_isIn 7 = .ok (.aload_n 0, 1) := dk_42 (dk_at dksX6_isIn_0 7 rfl rfl)
theorem dX6_isIn_8 : decode cX6_isIn 8 = .ok (.getfield 58, 3) := dk_180 0 58 (dk_at dksX6_isIn_0 8 rfl rfl)
theorem dX6_isIn_11 : decode cX6_isIn 11 = .ok (.iload_n 1, 1) := dk_27 (dk_at dksX6_isIn_0 11 rfl rfl)
theorem dX6_isIn_12 : decode cX6_isIn 12 = .ok (.iaload, 1) := dk_46 (dk_at dksX6_isIn_0 12 rfl rfl)
theorem dX6_isIn_13 : decode cX6_isIn 13 = .ok (.if_icmp .gt 30, 3) := dk_163 0 30 (dk_at dksX6_isIn_0 13 rfl rfl)
theorem dX6_isIn_16 : decode cX6_isIn 16 = .ok (.iload_n 3, 1) := dk_29 (dk_at dksX6_isIn_0 16 rfl rfl)
theorem dX6_isIn_17 : decode cX6_isIn 17 = .ok (.ifCond .ne 14, 3) := dk_154 0 14 (dk_at dksX6_isIn_0 17 rfl rfl)
theorem dX6_isIn_20 : decode cX6_isIn 20 = .ok (.aload_n 0, 1) := dk_42 (dk_at dksX6_isIn_0 20 rfl rfl)
theorem dX6_isIn_21 : decode cX6_isIn 21 = .ok (.iload_n 1, 1) := dk_27 (dk_at dksX6_isIn_0 21 rfl rfl)
theorem dX6_isIn_22 : decode cX6_isIn 22 = .ok (.iload 4, 2) := dk_21 4 (dk_at dksX6_isIn_0 22 rfl rfl)
theorem dX6_isIn_24 : decode cX6_isIn 24 = .ok (.invokevirtual 341, 3) := dk_182 1 85 (dk_at dksX6_isIn_1 0 rfl rfl)
theorem dX6_isIn_27 : decode cX6_isIn 27 = .ok (.iload_n 2, 1) := dk_28 (dk_at dksX6_isIn_1 3 rfl rfl)
theorem dX6_isIn_28 : decode cX6_isIn 28 = .ok (.if_icmp .ne 7, 3) := dk_160 0 7 (dk_at dksX6_isIn_1 4 rfl rfl)
theorem dX6_isIn_31 : decode cX6_isIn 31 = .ok (.iconst 1, 1) := dk_4 (dk_at dksX6_isIn_1 7 rfl rfl)
theorem dX6_isIn_32 : decode cX6_isIn 32 = .ok (.goto 4, 3) := dk_167 0 4 (dk_at dksX6_isIn_1 8 rfl rfl)
theorem dX6_isIn_35 : decode cX6_isIn 35 = .ok (.iconst 0, 1) := dk_3 (dk_at dksX6_isIn_1 11 rfl rfl)
theorem dX6_isIn_36 : decode cX6_isIn 36 = .ok (.istore_n 3, 1) := dk_62 (dk_at dksX6_isIn_1 12 rfl rfl)
theorem dX6_isIn_37 : decode cX6_isIn 37 = .ok (.iinc 4 1, 3) := dk_132 4 1 (dk_at dksX6_isIn_1 13 rfl rfl)
theorem dX6_isIn_40 : decode cX6_isIn 40 = .ok (.goto (-35), 3) := dk_167 255 221 (dk_at dksX6_isIn_1 16 rfl rfl)
theorem dX6_isIn_43 : decode cX6_isIn 43 = .ok (.iload_n 3, 1) := dk_29 (dk_at dksX6_isIn_1 19 rfl rfl)
theorem dX6_isIn_44 : decode cX6_isIn 44 = .ok (.ireturn, 1) := dk_172 (dk_at dksX6_isIn_1 20 rfl rfl)
abbrev cX6_loop : ByteArray := prog_12_method_71_code
def yX6_loop : MethodName := ⟨RX6, "loop", "(I)I"⟩
def dkwX6_loop_2 : List UInt8 := [3, 182, 1, 85, 159, 0, 5, 28, 172, 132, 2, 1, 167, 255, 209, 2, 172]
abbrev dktX6_loop_2 : List UInt8 := dkwX6_loop_2 ++ []
def dkwX6_loop_1 : List UInt8 := [27, 28, 182, 1, 85, 42, 27, 3, 182, 1, 85, 160, 0, 22, 42, 27, 28, 4, 100, 182, 1, 85, 42, 27]
abbrev dktX6_loop_1 : List UInt8 := dkwX6_loop_1 ++ dktX6_loop_2
def dkwX6_loop_0 : List UInt8 := [42, 27, 182, 1, 100, 154, 0, 6, 16, 254, 172, 4, 61, 28, 42, 180, 0, 58, 27, 46, 163, 0, 43, 42]
abbrev dktX6_loop_0 : List UInt8 := dkwX6_loop_0 ++ dktX6_loop_1
theorem dksX6_loop_0 : cX6_loop.data.toList.drop 0 = dktX6_loop_0 := by decide +kernel
theorem dksX6_loop_1 : cX6_loop.data.toList.drop 24 = dktX6_loop_1 := dk_seg dksX6_loop_0 24 rfl rfl
theorem dksX6_loop_2 : cX6_loop.data.toList.drop 48 = dktX6_loop_2 := dk_seg dksX6_loop_1 24 rfl rfl
theorem dX6_loop_0 : decode cX6_loop 0 = .ok (.aload_n 0, 1) := dk_42 (dk_at dksX6_loop_0 0 rfl rfl)
theorem dX6_loop_1 : decode cX6_loop 1 = .ok (.iload_n 1, 1) := dk_27 (dk_at dksX6_loop_0 1 rfl rfl)
theorem dX6_loop_2 : decode cX6_loop 2 = .ok (.invokevirtual 356, 3) := dk_182 1 100 (dk_at dksX6_loop_0 2 rfl rfl)
theorem dX6_loop_5 : decode cX6_loop 5 = .ok (.ifCond .ne 6, 3) := dk_154 0 6 (dk_at dksX6_loop_0 5 rfl rfl)
theorem dX6_loop_8 : decode cX6_loop 8 = .ok (.bipush (-2), 2) := dk_16 254 (dk_at dksX6_loop_0 8 rfl rfl)
theorem dX6_loop_10 : decode cX6_loop 10 = .ok (.ireturn, 1) := dk_172 (dk_at dksX6_loop_0 10 rfl rfl)
theorem dX6_loop_11 : decode cX6_loop 11 = .ok (.iconst 1, 1) := dk_4 (dk_at dksX6_loop_0 11 rfl rfl)
theorem dX6_loop_12 : decode cX6_loop 12 = .ok (.istore_n 2, 1) := dk_61 (dk_at dksX6_loop_0 12 rfl rfl)
theorem dX6_loop_13 : decode cX6_loop 13 = .ok (.iload_n 2, 1) := dk_28 (dk_at dksX6_loop_0 13 rfl rfl)
theorem dX6_loop_14 : decode cX6_loop 14 = .ok (.aload_n 0, 1) := dk_42 (dk_at dksX6_loop_0 14 rfl rfl)
theorem dX6_loop_15 : decode cX6_loop 15 = .ok (.getfield 58, 3) := dk_180 0 58 (dk_at dksX6_loop_0 15 rfl rfl)
theorem dX6_loop_18 : decode cX6_loop 18 = .ok (.iload_n 1, 1) := dk_27 (dk_at dksX6_loop_0 18 rfl rfl)
theorem dX6_loop_19 : decode cX6_loop 19 = .ok (.iaload, 1) := dk_46 (dk_at dksX6_loop_0 19 rfl rfl)
theorem dX6_loop_20 : decode cX6_loop 20 = .ok (.if_icmp .gt 43, 3) := dk_163 0 43 (dk_at dksX6_loop_0 20 rfl rfl)
theorem dX6_loop_23 : decode cX6_loop 23 = .ok (.aload_n 0, 1) := dk_42 (dk_at dksX6_loop_0 23 rfl rfl)
theorem dX6_loop_24 : decode cX6_loop 24 = .ok (.iload_n 1, 1) := dk_27 (dk_at dksX6_loop_1 0 rfl rfl)
theorem dX6_loop_25 : decode cX6_loop 25 = .ok (.iload_n 2, 1) := dk_28 (dk_at dksX6_loop_1 1 rfl rfl)
theorem dX6_loop_26 : decode cX6_loop 26 = .ok (.invokevirtual 341, 3) := dk_182 1 85 (dk_at dksX6_loop_1 2 rfl rfl)
theorem dX6_loop_29 : decode cX6_loop 29 = .ok (.aload_n 0, 1) := dk_42 (dk_at dksX6_loop_1 5 rfl rfl)
theorem dX6_loop_30 : decode cX6_loop 30 = .ok (.iload_n 1, 1) := dk_27 (dk_at dksX6_loop_1 6 rfl rfl)
theorem dX6_loop_31 : decode cX6_loop 31 = .ok (.iconst 0, 1) := dk_3 (dk_at dksX6_loop_1 7 rfl rfl)
theorem dX6_loop_32 : decode cX6_loop 32 = .ok (.invokevirtual 341, 3) := dk_182 1 85 (dk_at dksX6_loop_1 8 rfl rfl)
theorem dX6_loop_35 : decode cX6_loop 35 = .ok (.if_icmp .ne 22, 3) := dk_160 0 22 (dk_at dksX6_loop_1 11 rfl rfl)
theorem dX6_loop_38 : decode cX6_loop 38 = .ok (.aload_n 0, 1) := dk_42 (dk_at dksX6_loop_1 14 rfl rfl)
theorem dX6_loop_39 : decode cX6_loop 39 = .ok (.iload_n 1, 1) := dk_27 (dk_at dksX6_loop_1 15 rfl rfl)
theorem dX6_loop_40 : decode cX6_loop 40 = .ok (.iload_n 2, 1) := dk_28 (dk_at dksX6_loop_1 16 rfl rfl)
theorem dX6_loop_41 : decode cX6_loop 41 = .ok (.iconst 1, 1) := dk_4 (dk_at dksX6_loop_1 17 rfl rfl)
theorem dX6_loop_42 : decode cX6_loop 42 = .ok (.isub, 1) := dk_100 (dk_at dksX6_loop_1 18 rfl rfl)
theorem dX6_loop_43 : decode cX6_loop 43 = .ok (.invokevirtual 341, 3) := dk_182 1 85 (dk_at dksX6_loop_1 19 rfl rfl)
theorem dX6_loop_46 : decode cX6_loop 46 = .ok (.aload_n 0, 1) := dk_42 (dk_at dksX6_loop_1 22 rfl rfl)
theorem dX6_loop_47 : decode cX6_loop 47 = .ok (.iload_n 1, 1) := dk_27 (dk_at dksX6_loop_1 23 rfl rfl)
theorem dX6_loop_48 : decode cX6_loop 48 = .ok (.iconst 0, 1) := dk_3 (dk_at dksX6_loop_2 0 rfl rfl)
theorem dX6_loop_49 : decode cX6_loop 49 = .ok (.invokevirtual 341, 3) := dk_182 1 85 (dk_at dksX6_loop_2 1 rfl rfl)
theorem dX6_loop_52 : decode cX6_loop 52 = .ok (.if_icmp .eq 5, 3) := dk_159 0 5 (dk_at dksX6_loop_2 4 rfl rfl)
theorem dX6_loop_55 : decode cX6_loop 55 = .ok (.iload_n 2, 1) := dk_28 (dk_at dksX6_loop_2 7 rfl rfl)
theorem dX6_loop_56 : decode cX6_loop 56 = .ok (.ireturn, 1) := dk_172 (dk_at dksX6_loop_2 8 rfl rfl)
theorem dX6_loop_57 : decode cX6_loop 57 = .ok (.iinc 2 1, 3) := dk_132 2 1 (dk_at dksX6_loop_2 9 rfl rfl)
theorem dX6_loop_60 : decode cX6_loop 60 = .ok (.goto (-47), 3) := dk_167 255 209 (dk_at dksX6_loop_2 12 rfl rfl)
theorem dX6_loop_63 : decode cX6_loop 63 = .ok (.iconst (-1), 1) := dk_2 (dk_at dksX6_loop_2 15 rfl rfl)
theorem dX6_loop_64 : decode cX6_loop 64 = .ok (.ireturn, 1) := dk_172 (dk_at dksX6_loop_2 16 rfl rfl)
abbrev cX6_haunt : ByteArray := prog_12_method_73_code
def yX6_haunt : MethodName := ⟨RX6, "haunt", "(I)I"⟩
def dkwX6_haunt_2 : List UInt8 := [132, 3, 1, 167, 255, 221, 28, 172]
abbrev dktX6_haunt_2 : List UInt8 := dkwX6_haunt_2 ++ []
def dkwX6_haunt_1 : List UInt8 := [182, 1, 114, 28, 2, 160, 0, 7, 3, 167, 0, 9, 42, 27, 28, 182, 1, 114, 164, 0, 5, 29, 61]
abbrev dktX6_haunt_1 : List UInt8 := dkwX6_haunt_1 ++ dktX6_haunt_2
def dkwX6_haunt_0 : List UInt8 := [42, 27, 182, 1, 100, 154, 0, 6, 16, 254, 172, 2, 61, 3, 62, 29, 16, 80, 162, 0, 35, 42, 27, 29]
abbrev dktX6_haunt_0 : List UInt8 := dkwX6_haunt_0 ++ dktX6_haunt_1
theorem dksX6_haunt_0 : cX6_haunt.data.toList.drop 0 = dktX6_haunt_0 := by decide +kernel
theorem dksX6_haunt_1 : cX6_haunt.data.toList.drop 24 = dktX6_haunt_1 := dk_seg dksX6_haunt_0 24 rfl rfl
theorem dksX6_haunt_2 : cX6_haunt.data.toList.drop 47 = dktX6_haunt_2 := dk_seg dksX6_haunt_1 23 rfl rfl
theorem dX6_haunt_0 : decode cX6_haunt 0 = .ok (.aload_n 0, 1) := dk_42 (dk_at dksX6_haunt_0 0 rfl rfl)
theorem dX6_haunt_1 : decode cX6_haunt 1 = .ok (.iload_n 1, 1) := dk_27 (dk_at dksX6_haunt_0 1 rfl rfl)
theorem dX6_haunt_2 : decode cX6_haunt 2 = .ok (.invokevirtual 356, 3) := dk_182 1 100 (dk_at dksX6_haunt_0 2 rfl rfl)
theorem dX6_haunt_5 : decode cX6_haunt 5 = .ok (.ifCond .ne 6, 3) := dk_154 0 6 (dk_at dksX6_haunt_0 5 rfl rfl)
theorem dX6_haunt_8 : decode cX6_haunt 8 = .ok (.bipush (-2), 2) := dk_16 254 (dk_at dksX6_haunt_0 8 rfl rfl)
theorem dX6_haunt_10 : decode cX6_haunt 10 = .ok (.ireturn, 1) := dk_172 (dk_at dksX6_haunt_0 10 rfl rfl)
theorem dX6_haunt_11 : decode cX6_haunt 11 = .ok (.iconst (-1), 1) := dk_2 (dk_at dksX6_haunt_0 11 rfl rfl)
theorem dX6_haunt_12 : decode cX6_haunt 12 = .ok (.istore_n 2, 1) := dk_61 (dk_at dksX6_haunt_0 12 rfl rfl)
theorem dX6_haunt_13 : decode cX6_haunt 13 = .ok (.iconst 0, 1) := dk_3 (dk_at dksX6_haunt_0 13 rfl rfl)
theorem dX6_haunt_14 : decode cX6_haunt 14 = .ok (.istore_n 3, 1) := dk_62 (dk_at dksX6_haunt_0 14 rfl rfl)
theorem dX6_haunt_15 : decode cX6_haunt 15 = .ok (.iload_n 3, 1) := dk_29 (dk_at dksX6_haunt_0 15 rfl rfl)
theorem dX6_haunt_16 : decode cX6_haunt 16 = .ok (.bipush 80, 2) := dk_16 80 (dk_at dksX6_haunt_0 16 rfl rfl)
theorem dX6_haunt_18 : decode cX6_haunt 18 = .ok (.if_icmp .ge 35, 3) := dk_162 0 35 (dk_at dksX6_haunt_0 18 rfl rfl)
theorem dX6_haunt_21 : decode cX6_haunt 21 = .ok (.aload_n 0, 1) := dk_42 (dk_at dksX6_haunt_0 21 rfl rfl)
theorem dX6_haunt_22 : decode cX6_haunt 22 = .ok (.iload_n 1, 1) := dk_27 (dk_at dksX6_haunt_0 22 rfl rfl)
theorem dX6_haunt_23 : decode cX6_haunt 23 = .ok (.iload_n 3, 1) := dk_29 (dk_at dksX6_haunt_0 23 rfl rfl)
theorem dX6_haunt_24 : decode cX6_haunt 24 = .ok (.invokevirtual 370, 3) := dk_182 1 114 (dk_at dksX6_haunt_1 0 rfl rfl)
theorem dX6_haunt_27 : decode cX6_haunt 27 = .ok (.iload_n 2, 1) := dk_28 (dk_at dksX6_haunt_1 3 rfl rfl)
theorem dX6_haunt_28 : decode cX6_haunt 28 = .ok (.iconst (-1), 1) := dk_2 (dk_at dksX6_haunt_1 4 rfl rfl)
theorem dX6_haunt_29 : decode cX6_haunt 29 = .ok (.if_icmp .ne 7, 3) := dk_160 0 7 (dk_at dksX6_haunt_1 5 rfl rfl)
theorem dX6_haunt_32 : decode cX6_haunt 32 = .ok (.iconst 0, 1) := dk_3 (dk_at dksX6_haunt_1 8 rfl rfl)
theorem dX6_haunt_33 : decode cX6_haunt 33 = .ok (.goto 9, 3) := dk_167 0 9 (dk_at dksX6_haunt_1 9 rfl rfl)
theorem dX6_haunt_36 : decode cX6_haunt 36 = .ok (.aload_n 0, 1) := dk_42 (dk_at dksX6_haunt_1 12 rfl rfl)
theorem dX6_haunt_37 : decode cX6_haunt 37 = .ok (.iload_n 1, 1) := dk_27 (dk_at dksX6_haunt_1 13 rfl rfl)
theorem dX6_haunt_38 : decode cX6_haunt 38 = .ok (.iload_n 2, 1) := dk_28 (dk_at dksX6_haunt_1 14 rfl rfl)
theorem dX6_haunt_39 : decode cX6_haunt 39 = .ok (.invokevirtual 370, 3) := dk_182 1 114 (dk_at dksX6_haunt_1 15 rfl rfl)
theorem dX6_haunt_42 : decode cX6_haunt 42 = .ok (.if_icmp .le 5, 3) := dk_164 0 5 (dk_at dksX6_haunt_1 18 rfl rfl)
theorem dX6_haunt_45 : decode cX6_haunt 45 = .ok (.iload_n 3, 1) := dk_29 (dk_at dksX6_haunt_1 21 rfl rfl)
theorem dX6_haunt_46 : decode cX6_haunt 46 = .ok (.istore_n 2, 1) := dk_61 (dk_at dksX6_haunt_1 22 rfl rfl)
theorem dX6_haunt_47 : decode cX6_haunt 47 = .ok (.iinc 3 1, 3) := dk_132 3 1 (dk_at dksX6_haunt_2 0 rfl rfl)
theorem dX6_haunt_50 : decode cX6_haunt 50 = .ok (.goto (-35), 3) := dk_167 255 221 (dk_at dksX6_haunt_2 3 rfl rfl)
theorem dX6_haunt_53 : decode cX6_haunt 53 = .ok (.iload_n 2, 1) := dk_28 (dk_at dksX6_haunt_2 6 rfl rfl)
theorem dX6_haunt_54 : decode cX6_haunt 54 = .ok (.ireturn, 1) := dk_172 (dk_at dksX6_haunt_2 7 rfl rfl)
abbrev cX6_visitsOf : ByteArray := prog_12_method_72_code
def yX6_visitsOf : MethodName := ⟨RX6, "visitsOf", "(II)I"⟩
def dkwX6_visitsOf_1 : List UInt8 := [28, 160, 0, 7, 4, 167, 0, 4, 3, 96, 62, 132, 4, 1, 167, 255, 223, 29, 172]
abbrev dktX6_visitsOf_1 : List UInt8 := dkwX6_visitsOf_1 ++ []
def dkwX6_visitsOf_0 : List UInt8 := [3, 62, 3, 54, 4, 21, 4, 42, 180, 0, 58, 27, 46, 163, 0, 28, 29, 42, 27, 21, 4, 182, 1, 85]
abbrev dktX6_visitsOf_0 : List UInt8 := dkwX6_visitsOf_0 ++ dktX6_visitsOf_1
theorem dksX6_visitsOf_0 : cX6_visitsOf.data.toList.drop 0 = dktX6_visitsOf_0 := by decide +kernel
theorem dksX6_visitsOf_1 : cX6_visitsOf.data.toList.drop 24 = dktX6_visitsOf_1 := dk_seg dksX6_visitsOf_0 24 rfl rfl
theorem dX6_visitsOf_0 : decode cX6_visitsOf 0 = .ok (.iconst 0, 1) := dk_3 (dk_at dksX6_visitsOf_0 0 rfl rfl)
theorem dX6_visitsOf_1 : decode cX6_visitsOf 1 = .ok (.istore_n 3, 1) := dk_62 (dk_at dksX6_visitsOf_0 1 rfl rfl)
theorem dX6_visitsOf_2 : decode cX6_visitsOf 2 = .ok (.iconst 0, 1) := dk_3 (dk_at dksX6_visitsOf_0 2 rfl rfl)
theorem dX6_visitsOf_3 : decode cX6_visitsOf 3 = .ok (.istore 4, 2) := dk_54 4 (dk_at dksX6_visitsOf_0 3 rfl rfl)
theorem dX6_visitsOf_5 : decode cX6_visitsOf 5 = .ok (.iload 4, 2) := dk_21 4 (dk_at dksX6_visitsOf_0 5 rfl rfl)
theorem dX6_visitsOf_7 : decode cX6_visitsOf 7 = .ok (.aload_n 0, 1) := dk_42 (dk_at dksX6_visitsOf_0 7 rfl rfl)
theorem dX6_visitsOf_8 : decode cX6_visitsOf 8 = .ok (.getfield 58, 3) := dk_180 0 58 (dk_at dksX6_visitsOf_0 8 rfl rfl)
theorem dX6_visitsOf_11 : decode cX6_visitsOf 11 = .ok (.iload_n 1, 1) := dk_27 (dk_at dksX6_visitsOf_0 11 rfl rfl)
theorem dX6_visitsOf_12 : decode cX6_visitsOf 12 = .ok (.iaload, 1) := dk_46 (dk_at dksX6_visitsOf_0 12 rfl rfl)
theorem dX6_visitsOf_13 : decode cX6_visitsOf 13 = .ok (.if_icmp .gt 28, 3) := dk_163 0 28 (dk_at dksX6_visitsOf_0 13 rfl rfl)
theorem dX6_visitsOf_16 : decode cX6_visitsOf 16 = .ok (.iload_n 3, 1) := dk_29 (dk_at dksX6_visitsOf_0 16 rfl rfl)
theorem dX6_visitsOf_17 : decode cX6_visitsOf 17 = .ok (.aload_n 0, 1) := dk_42 (dk_at dksX6_visitsOf_0 17 rfl rfl)
theorem dX6_visitsOf_18 : decode cX6_visitsOf 18 = .ok (.iload_n 1, 1) := dk_27 (dk_at dksX6_visitsOf_0 18 rfl rfl)
theorem dX6_visitsOf_19 : decode cX6_visitsOf 19 = .ok (.iload 4, 2) := dk_21 4 (dk_at dksX6_visitsOf_0 19 rfl rfl)
theorem dX6_visitsOf_21 : decode cX6_visitsOf 21 = .ok (.invokevirtual 341, 3) := dk_182 1 85 (dk_at dksX6_visitsOf_0 21 rfl rfl)
theorem dX6_visitsOf_24 : decode cX6_visitsOf 24 = .ok (.iload_n 2, 1) := dk_28 (dk_at dksX6_visitsOf_1 0 rfl rfl)
theorem dX6_visitsOf_25 : decode cX6_visitsOf 25 = .ok (.if_icmp .ne 7, 3) := dk_160 0 7 (dk_at dksX6_visitsOf_1 1 rfl rfl)
theorem dX6_visitsOf_28 : decode cX6_visitsOf 28 = .ok (.iconst 1, 1) := dk_4 (dk_at dksX6_visitsOf_1 4 rfl rfl)
theorem dX6_visitsOf_29 : decode cX6_visitsOf 29 = .ok (.goto 4, 3) := dk_167 0 4 (dk_at dksX6_visitsOf_1 5 rfl rfl)
theorem dX6_visitsOf_32 : decode cX6_visitsOf 32 = .ok (.iconst 0, 1) := dk_3 (dk_at dksX6_visitsOf_1 8 rfl rfl)
theorem dX6_visitsOf_33 : decode cX6_visitsOf 33 = .ok (.iadd, 1) := dk_96 (dk_at dksX6_visitsOf_1 9 rfl rfl)
theorem dX6_visitsOf_34 : decode cX6_visitsOf 34 = .ok (.istore_n 3, 1) := dk_62 (dk_at dksX6_visitsOf_1 10 rfl rfl)
theorem dX6_visitsOf_35 : decode cX6_visitsOf 35 = .ok (.iinc 4 1, 3) := dk_132 4 1 (dk_at dksX6_visitsOf_1 11 rfl rfl)
theorem dX6_visitsOf_38 : decode cX6_visitsOf 38 = .ok (.goto (-33), 3) := dk_167 255 223 (dk_at dksX6_visitsOf_1 14 rfl rfl)
theorem dX6_visitsOf_41 : decode cX6_visitsOf 41 = .ok (.iload_n 3, 1) := dk_29 (dk_at dksX6_visitsOf_1 17 rfl rfl)
theorem dX6_visitsOf_42 : decode cX6_visitsOf 42 = .ok (.ireturn, 1) := dk_172 (dk_at dksX6_visitsOf_1 18 rfl rfl)
abbrev cX6_visits : ByteArray := prog_12_method_74_code
def yX6_visits : MethodName := ⟨RX6, "visits", "(II)I"⟩
def dkwX6_visits_1 : List UInt8 := [167, 0, 5, 16, 254, 172]
abbrev dktX6_visits_1 : List UInt8 := dkwX6_visits_1 ++ []
def dkwX6_visits_0 : List UInt8 := [42, 27, 182, 1, 100, 153, 0, 21, 42, 28, 133, 182, 1, 54, 153, 0, 12, 42, 27, 28, 182, 1, 114]
abbrev dktX6_visits_0 : List UInt8 := dkwX6_visits_0 ++ dktX6_visits_1
theorem dksX6_visits_0 : cX6_visits.data.toList.drop 0 = dktX6_visits_0 := by decide +kernel
theorem dksX6_visits_1 : cX6_visits.data.toList.drop 23 = dktX6_visits_1 := dk_seg dksX6_visits_0 23 rfl rfl
theorem dX6_visits_0 : decode cX6_visits 0 = .ok (.aload_n 0, 1) := dk_42 (dk_at dksX6_visits_0 0 rfl rfl)
theorem dX6_visits_1 : decode cX6_visits 1 = .ok (.iload_n 1, 1) := dk_27 (dk_at dksX6_visits_0 1 rfl rfl)
theorem dX6_visits_2 : decode cX6_visits 2 = .ok (.invokevirtual 356, 3) := dk_182 1 100 (dk_at dksX6_visits_0 2 rfl rfl)
theorem dX6_visits_5 : decode cX6_visits 5 = .ok (.ifCond .eq 21, 3) := dk_153 0 21 (dk_at dksX6_visits_0 5 rfl rfl)
theorem dX6_visits_8 : decode cX6_visits 8 = .ok (.aload_n 0, 1) := dk_42 (dk_at dksX6_visits_0 8 rfl rfl)
theorem dX6_visits_9 : decode cX6_visits 9 = .ok (.iload_n 2, 1) := dk_28 (dk_at dksX6_visits_0 9 rfl rfl)
theorem dX6_visits_10 : decode cX6_visits 10 = .ok (.i2l, 1) := dk_133 (dk_at dksX6_visits_0 10 rfl rfl)
theorem dX6_visits_11 : decode cX6_visits 11 = .ok (.invokevirtual 310, 3) := dk_182 1 54 (dk_at dksX6_visits_0 11 rfl rfl)
theorem dX6_visits_14 : decode cX6_visits 14 = .ok (.ifCond .eq 12, 3) := dk_153 0 12 (dk_at dksX6_visits_0 14 rfl rfl)
theorem dX6_visits_17 : decode cX6_visits 17 = .ok (.aload_n 0, 1) := dk_42 (dk_at dksX6_visits_0 17 rfl rfl)
theorem dX6_visits_18 : decode cX6_visits 18 = .ok (.iload_n 1, 1) := dk_27 (dk_at dksX6_visits_0 18 rfl rfl)
theorem dX6_visits_19 : decode cX6_visits 19 = .ok (.iload_n 2, 1) := dk_28 (dk_at dksX6_visits_0 19 rfl rfl)
theorem dX6_visits_20 : decode cX6_visits 20 = .ok (.invokevirtual 370, 3) := dk_182 1 114 (dk_at dksX6_visits_0 20 rfl rfl)
theorem dX6_visits_23 : decode cX6_visits 23 = .ok (.goto 5, 3) := dk_167 0 5 (dk_at dksX6_visits_1 0 rfl rfl)
theorem dX6_visits_26 : decode cX6_visits 26 = .ok (.bipush (-2), 2) := dk_16 254 (dk_at dksX6_visits_1 3 rfl rfl)
theorem dX6_visits_28 : decode cX6_visits 28 = .ok (.ireturn, 1) := dk_172 (dk_at dksX6_visits_1 5 rfl rfl)
abbrev cX6_evening : ByteArray := prog_12_method_75_code
def yX6_evening : MethodName := ⟨RX6, "evening", "(I)I"⟩
def dkwX6_evening_2 : List UInt8 := [160, 0, 9, 4, 29, 120, 167, 0, 4, 3, 128, 61, 132, 3, 1, 167, 255, 217, 28, 172]
abbrev dktX6_evening_2 : List UInt8 := dkwX6_evening_2 ++ []
def dkwX6_evening_1 : List UInt8 := [42, 182, 0, 110, 162, 0, 37, 28, 42, 29, 182, 1, 105, 153, 0, 19, 42, 29, 6, 182, 1, 11, 27]
abbrev dktX6_evening_1 : List UInt8 := dkwX6_evening_1 ++ dktX6_evening_2
def dkwX6_evening_0 : List UInt8 := [42, 27, 182, 1, 117, 153, 0, 11, 27, 42, 182, 0, 118, 160, 0, 6, 16, 254, 172, 3, 61, 3, 62, 29]
abbrev dktX6_evening_0 : List UInt8 := dkwX6_evening_0 ++ dktX6_evening_1
theorem dksX6_evening_0 : cX6_evening.data.toList.drop 0 = dktX6_evening_0 := by decide +kernel
theorem dksX6_evening_1 : cX6_evening.data.toList.drop 24 = dktX6_evening_1 := dk_seg dksX6_evening_0 24 rfl rfl
theorem dksX6_evening_2 : cX6_evening.data.toList.drop 47 = dktX6_evening_2 := dk_seg dksX6_evening_1 23 rfl rfl
theorem dX6_evening_0 : decode cX6_evening 0 = .ok (.aload_n 0, 1) := dk_42 (dk_at dksX6_evening_0 0 rfl rfl)
theorem dX6_evening_1 : decode cX6_evening 1 = .ok (.iload_n 1, 1) := dk_27 (dk_at dksX6_evening_0 1 rfl rfl)
theorem dX6_evening_2 : decode cX6_evening 2 = .ok (.invokevirtual 373, 3) := dk_182 1 117 (dk_at dksX6_evening_0 2 rfl rfl)
theorem dX6_evening_5 : decode cX6_evening 5 = .ok (.ifCond .eq 11, 3) := dk_153 0 11 (dk_at dksX6_evening_0 5 rfl rfl)
theorem dX6_evening_8 : decode cX6_evening 8 = .ok (.iload_n 1, 1) := dk_27 (dk_at dksX6_evening_0 8 rfl rfl)
theorem dX6_evening_9 : decode cX6_evening 9 = .ok (.aload_n 0, 1) := dk_42 (dk_at dksX6_evening_0 9 rfl rfl)
theorem dX6_evening_10 : decode cX6_evening 10 = .ok (.invokevirtual 118, 3) := dk_182 0 118 (dk_at dksX6_evening_0 10 rfl rfl)
theorem dX6_evening_13 : decode cX6_evening 13 = .ok (.if_icmp .ne 6, 3) := dk_160 0 6 (dk_at dksX6_evening_0 13 rfl rfl)
theorem dX6_evening_16 : decode cX6_evening 16 = .ok (.bipush (-2), 2) := dk_16 254 (dk_at dksX6_evening_0 16 rfl rfl)
theorem dX6_evening_18 : decode cX6_evening 18 = .ok (.ireturn, 1) := dk_172 (dk_at dksX6_evening_0 18 rfl rfl)
theorem dX6_evening_19 : decode cX6_evening 19 = .ok (.iconst 0, 1) := dk_3 (dk_at dksX6_evening_0 19 rfl rfl)
theorem dX6_evening_20 : decode cX6_evening 20 = .ok (.istore_n 2, 1) := dk_61 (dk_at dksX6_evening_0 20 rfl rfl)
theorem dX6_evening_21 : decode cX6_evening 21 = .ok (.iconst 0, 1) := dk_3 (dk_at dksX6_evening_0 21 rfl rfl)
theorem dX6_evening_22 : decode cX6_evening 22 = .ok (.istore_n 3, 1) := dk_62 (dk_at dksX6_evening_0 22 rfl rfl)
theorem dX6_evening_23 : decode cX6_evening 23 = .ok (.iload_n 3, 1) := dk_29 (dk_at dksX6_evening_0 23 rfl rfl)
theorem dX6_evening_24 : decode cX6_evening 24 = .ok (.aload_n 0, 1) := dk_42 (dk_at dksX6_evening_1 0 rfl rfl)
theorem dX6_evening_25 : decode cX6_evening 25 = .ok (.invokevirtual 110, 3) := dk_182 0 110 (dk_at dksX6_evening_1 1 rfl rfl)
theorem dX6_evening_28 : decode cX6_evening 28 = .ok (.if_icmp .ge 37, 3) := dk_162 0 37 (dk_at dksX6_evening_1 4 rfl rfl)
theorem dX6_evening_31 : decode cX6_evening 31 = .ok (.iload_n 2, 1) := dk_28 (dk_at dksX6_evening_1 7 rfl rfl)
theorem dX6_evening_32 : decode cX6_evening 32 = .ok (.aload_n 0, 1) := dk_42 (dk_at dksX6_evening_1 8 rfl rfl)
theorem dX6_evening_33 : decode cX6_evening 33 = .ok (.iload_n 3, 1) := dk_29 (dk_at dksX6_evening_1 9 rfl rfl)
theorem dX6_evening_34 : decode cX6_evening 34 = .ok (.invokevirtual 361, 3) := dk_182 1 105 (dk_at dksX6_evening_1 10 rfl rfl)
theorem dX6_evening_37 : decode cX6_evening 37 = .ok (.ifCond .eq 19, 3) := dk_153 0 19 (dk_at dksX6_evening_1 13 rfl rfl)
theorem dX6_evening_40 : decode cX6_evening 40 = .ok (.aload_n 0, 1) := dk_42 (dk_at dksX6_evening_1 16 rfl rfl)
theorem dX6_evening_41 : decode cX6_evening 41 = .ok (.iload_n 3, 1) := dk_29 (dk_at dksX6_evening_1 17 rfl rfl)
theorem dX6_evening_42 : decode cX6_evening 42 = .ok (.iconst 3, 1) := dk_6 (dk_at dksX6_evening_1 18 rfl rfl)
theorem dX6_evening_43 : decode cX6_evening 43 = .ok (.invokevirtual 267, 3) := dk_182 1 11 (dk_at dksX6_evening_1 19 rfl rfl)
theorem dX6_evening_46 : decode cX6_evening 46 = .ok (.iload_n 1, 1) := dk_27 (dk_at dksX6_evening_1 22 rfl rfl)
theorem dX6_evening_47 : decode cX6_evening 47 = .ok (.if_icmp .ne 9, 3) := dk_160 0 9 (dk_at dksX6_evening_2 0 rfl rfl)
theorem dX6_evening_50 : decode cX6_evening 50 = .ok (.iconst 1, 1) := dk_4 (dk_at dksX6_evening_2 3 rfl rfl)
theorem dX6_evening_51 : decode cX6_evening 51 = .ok (.iload_n 3, 1) := dk_29 (dk_at dksX6_evening_2 4 rfl rfl)
theorem dX6_evening_52 : decode cX6_evening 52 = .ok (.ishl, 1) := dk_120 (dk_at dksX6_evening_2 5 rfl rfl)
theorem dX6_evening_53 : decode cX6_evening 53 = .ok (.goto 4, 3) := dk_167 0 4 (dk_at dksX6_evening_2 6 rfl rfl)
theorem dX6_evening_56 : decode cX6_evening 56 = .ok (.iconst 0, 1) := dk_3 (dk_at dksX6_evening_2 9 rfl rfl)
theorem dX6_evening_57 : decode cX6_evening 57 = .ok (.ior, 1) := dk_128 (dk_at dksX6_evening_2 10 rfl rfl)
theorem dX6_evening_58 : decode cX6_evening 58 = .ok (.istore_n 2, 1) := dk_61 (dk_at dksX6_evening_2 11 rfl rfl)
theorem dX6_evening_59 : decode cX6_evening 59 = .ok (.iinc 3 1, 3) := dk_132 3 1 (dk_at dksX6_evening_2 12 rfl rfl)
theorem dX6_evening_62 : decode cX6_evening 62 = .ok (.goto (-39), 3) := dk_167 255 217 (dk_at dksX6_evening_2 15 rfl rfl)
theorem dX6_evening_65 : decode cX6_evening 65 = .ok (.iload_n 2, 1) := dk_28 (dk_at dksX6_evening_2 18 rfl rfl)
theorem dX6_evening_66 : decode cX6_evening 66 = .ok (.ireturn, 1) := dk_172 (dk_at dksX6_evening_2 19 rfl rfl)
abbrev cX6_asksYear : ByteArray := prog_12_method_55_code
def yX6_asksYear : MethodName := ⟨RX6, "asksYear", "(I)Z"⟩
def dkwX6_asksYear_0 : List UInt8 := [42, 182, 1, 79, 87, 42, 27, 133, 182, 1, 82, 172]
abbrev dktX6_asksYear_0 : List UInt8 := dkwX6_asksYear_0 ++ []
theorem dksX6_asksYear_0 : cX6_asksYear.data.toList.drop 0 = dktX6_asksYear_0 := by decide +kernel
theorem dX6_asksYear_0 : decode cX6_asksYear 0 = .ok (.aload_n 0, 1) := dk_42 (dk_at dksX6_asksYear_0 0 rfl rfl)
theorem dX6_asksYear_1 : decode cX6_asksYear 1 = .ok (.invokevirtual 335, 3) := dk_182 1 79 (dk_at dksX6_asksYear_0 1 rfl rfl)
theorem dX6_asksYear_4 : decode cX6_asksYear 4 = .ok (.pop, 1) := dk_87 (dk_at dksX6_asksYear_0 4 rfl rfl)
theorem dX6_asksYear_5 : decode cX6_asksYear 5 = .ok (.aload_n 0, 1) := dk_42 (dk_at dksX6_asksYear_0 5 rfl rfl)
theorem dX6_asksYear_6 : decode cX6_asksYear 6 = .ok (.iload_n 1, 1) := dk_27 (dk_at dksX6_asksYear_0 6 rfl rfl)
theorem dX6_asksYear_7 : decode cX6_asksYear 7 = .ok (.i2l, 1) := dk_133 (dk_at dksX6_asksYear_0 7 rfl rfl)
theorem dX6_asksYear_8 : decode cX6_asksYear 8 = .ok (.invokevirtual 338, 3) := dk_182 1 82 (dk_at dksX6_asksYear_0 8 rfl rfl)
theorem dX6_asksYear_11 : decode cX6_asksYear 11 = .ok (.ireturn, 1) := dk_172 (dk_at dksX6_asksYear_0 11 rfl rfl)
abbrev cX6_isYear : ByteArray := prog_12_method_13_code
def yX6_isYear : MethodName := ⟨RX6, "isYear", "(J)Z"⟩
def dkwX6_isYear_1 : List UInt8 := [3, 172]
abbrev dktX6_isYear_1 : List UInt8 := dkwX6_isYear_1 ++ []
def dkwX6_isYear_0 : List UInt8 := [42, 182, 0, 114, 153, 0, 20, 31, 9, 42, 182, 0, 118, 133, 184, 0, 106, 153, 0, 7, 4, 167, 0, 4]
abbrev dktX6_isYear_0 : List UInt8 := dkwX6_isYear_0 ++ dktX6_isYear_1
theorem dksX6_isYear_0 : cX6_isYear.data.toList.drop 0 = dktX6_isYear_0 := by decide +kernel
theorem dksX6_isYear_1 : cX6_isYear.data.toList.drop 24 = dktX6_isYear_1 := dk_seg dksX6_isYear_0 24 rfl rfl
theorem dX6_isYear_0 : decode cX6_isYear 0 = .ok (.aload_n 0, 1) := dk_42 (dk_at dksX6_isYear_0 0 rfl rfl)
theorem dX6_isYear_1 : decode cX6_isYear 1 = .ok (.invokevirtual 114, 3) := dk_182 0 114 (dk_at dksX6_isYear_0 1 rfl rfl)
theorem dX6_isYear_4 : decode cX6_isYear 4 = .ok (.ifCond .eq 20, 3) := dk_153 0 20 (dk_at dksX6_isYear_0 4 rfl rfl)
theorem dX6_isYear_7 : decode cX6_isYear 7 = .ok (.lload_n 1, 1) := dk_31 (dk_at dksX6_isYear_0 7 rfl rfl)
theorem dX6_isYear_8 : decode cX6_isYear 8 = .ok (.lconst 0, 1) := dk_9 (dk_at dksX6_isYear_0 8 rfl rfl)
theorem dX6_isYear_9 : decode cX6_isYear 9 = .ok (.aload_n 0, 1) := dk_42 (dk_at dksX6_isYear_0 9 rfl rfl)
theorem dX6_isYear_10 : decode cX6_isYear 10 = .ok (.invokevirtual 118, 3) := dk_182 0 118 (dk_at dksX6_isYear_0 10 rfl rfl)
theorem dX6_isYear_13 : decode cX6_isYear 13 = .ok (.i2l, 1) := dk_133 (dk_at dksX6_isYear_0 13 rfl rfl)
theorem dX6_isYear_14 : decode cX6_isYear 14 = .ok (.invokestatic 106, 3) := dk_184 0 106 (dk_at dksX6_isYear_0 14 rfl rfl)
theorem dX6_isYear_17 : decode cX6_isYear 17 = .ok (.ifCond .eq 7, 3) := dk_153 0 7 (dk_at dksX6_isYear_0 17 rfl rfl)
theorem dX6_isYear_20 : decode cX6_isYear 20 = .ok (.iconst 1, 1) := dk_4 (dk_at dksX6_isYear_0 20 rfl rfl)
theorem dX6_isYear_21 : decode cX6_isYear 21 = .ok (.goto 4, 3) := dk_167 0 4 (dk_at dksX6_isYear_0 21 rfl rfl)
theorem dX6_isYear_24 : decode cX6_isYear 24 = .ok (.iconst 0, 1) := dk_3 (dk_at dksX6_isYear_1 0 rfl rfl)
theorem dX6_isYear_25 : decode cX6_isYear 25 = .ok (.ireturn, 1) := dk_172 (dk_at dksX6_isYear_1 1 rfl rfl)
abbrev cX6_straight : ByteArray := prog_12_method_79_code
def yX6_straight : MethodName := ⟨RX6, "straight", "(I)I"⟩
def dkwX6_straight_2 : List UInt8 := [16, 253, 167, 0, 4, 28, 172]
abbrev dktX6_straight_2 : List UInt8 := dkwX6_straight_2 ++ []
def dkwX6_straight_1 : List UInt8 := [3, 182, 1, 85, 42, 27, 42, 180, 0, 58, 27, 46, 182, 1, 85, 182, 1, 127, 61, 28, 2, 160, 0, 8]
abbrev dktX6_straight_1 : List UInt8 := dkwX6_straight_1 ++ dktX6_straight_2
def dkwX6_straight_0 : List UInt8 := [42, 27, 182, 1, 100, 154, 0, 6, 16, 254, 172, 42, 27, 182, 1, 105, 154, 0, 5, 2, 172, 42, 42, 27]
abbrev dktX6_straight_0 : List UInt8 := dkwX6_straight_0 ++ dktX6_straight_1
theorem dksX6_straight_0 : cX6_straight.data.toList.drop 0 = dktX6_straight_0 := by decide +kernel
theorem dksX6_straight_1 : cX6_straight.data.toList.drop 24 = dktX6_straight_1 := dk_seg dksX6_straight_0 24 rfl rfl
theorem dksX6_straight_2 : cX6_straight.data.toList.drop 48 = dktX6_straight_2 := dk_seg dksX6_straight_1 24 rfl rfl
theorem dX6_straight_0 : decode cX6_straight 0 = .ok (.aload_n 0, 1) := dk_42 (dk_at dksX6_straight_0 0 rfl rfl)
theorem dX6_straight_1 : decode cX6_straight 1 = .ok (.iload_n 1, 1) := dk_27 (dk_at dksX6_straight_0 1 rfl rfl)
theorem dX6_straight_2 : decode cX6_straight 2 = .ok (.invokevirtual 356, 3) := dk_182 1 100 (dk_at dksX6_straight_0 2 rfl rfl)
theorem dX6_straight_5 : decode cX6_straight 5 = .ok (.ifCond .ne 6, 3) := dk_154 0 6 (dk_at dksX6_straight_0 5 rfl rfl)
theorem dX6_straight_8 : decode cX6_straight 8 = .ok (.bipush (-2), 2) := dk_16 254 (dk_at dksX6_straight_0 8 rfl rfl)
theorem dX6_straight_10 : decode cX6_straight 10 = .ok (.ireturn, 1) := dk_172 (dk_at dksX6_straight_0 10 rfl rfl)
theorem dX6_straight_11 : decode cX6_straight 11 = .ok (.aload_n 0, 1) := dk_42 (dk_at dksX6_straight_0 11 rfl rfl)
theorem dX6_straight_12 : decode cX6_straight 12 = .ok (.iload_n 1, 1) := dk_27 (dk_at dksX6_straight_0 12 rfl rfl)
theorem dX6_straight_13 : decode cX6_straight 13 = .ok (.invokevirtual 361, 3) := dk_182 1 105 (dk_at dksX6_straight_0 13 rfl rfl)
theorem dX6_straight_16 : decode cX6_straight 16 = .ok (.ifCond .ne 5, 3) := dk_154 0 5 (dk_at dksX6_straight_0 16 rfl rfl)
theorem dX6_straight_19 : decode cX6_straight 19 = .ok (.iconst (-1), 1) := dk_2 (dk_at dksX6_straight_0 19 rfl rfl)
theorem dX6_straight_20 : decode cX6_straight 20 = .ok (.ireturn, 1) := dk_172 (dk_at dksX6_straight_0 20 rfl rfl)
theorem dX6_straight_21 : decode cX6_straight 21 = .ok (.aload_n 0, 1) := dk_42 (dk_at dksX6_straight_0 21 rfl rfl)
theorem dX6_straight_22 : decode cX6_straight 22 = .ok (.aload_n 0, 1) := dk_42 (dk_at dksX6_straight_0 22 rfl rfl)
theorem dX6_straight_23 : decode cX6_straight 23 = .ok (.iload_n 1, 1) := dk_27 (dk_at dksX6_straight_0 23 rfl rfl)
theorem dX6_straight_24 : decode cX6_straight 24 = .ok (.iconst 0, 1) := dk_3 (dk_at dksX6_straight_1 0 rfl rfl)
theorem dX6_straight_25 : decode cX6_straight 25 = .ok (.invokevirtual 341, 3) := dk_182 1 85 (dk_at dksX6_straight_1 1 rfl rfl)
theorem dX6_straight_28 : decode cX6_straight 28 = .ok (.aload_n 0, 1) := dk_42 (dk_at dksX6_straight_1 4 rfl rfl)
theorem dX6_straight_29 : decode cX6_straight 29 = .ok (.iload_n 1, 1) := dk_27 (dk_at dksX6_straight_1 5 rfl rfl)
theorem dX6_straight_30 : decode cX6_straight 30 = .ok (.aload_n 0, 1) := dk_42 (dk_at dksX6_straight_1 6 rfl rfl)
theorem dX6_straight_31 : decode cX6_straight 31 = .ok (.getfield 58, 3) := dk_180 0 58 (dk_at dksX6_straight_1 7 rfl rfl)
theorem dX6_straight_34 : decode cX6_straight 34 = .ok (.iload_n 1, 1) := dk_27 (dk_at dksX6_straight_1 10 rfl rfl)
theorem dX6_straight_35 : decode cX6_straight 35 = .ok (.iaload, 1) := dk_46 (dk_at dksX6_straight_1 11 rfl rfl)
theorem dX6_straight_36 : decode cX6_straight 36 = .ok (.invokevirtual 341, 3) := dk_182 1 85 (dk_at dksX6_straight_1 12 rfl rfl)
theorem dX6_straight_39 : decode cX6_straight 39 = .ok (.invokevirtual 383, 3) := dk_182 1 127 (dk_at dksX6_straight_1 15 rfl rfl)
theorem dX6_straight_42 : decode cX6_straight 42 = .ok (.istore_n 2, 1) := dk_61 (dk_at dksX6_straight_1 18 rfl rfl)
theorem dX6_straight_43 : decode cX6_straight 43 = .ok (.iload_n 2, 1) := dk_28 (dk_at dksX6_straight_1 19 rfl rfl)
theorem dX6_straight_44 : decode cX6_straight 44 = .ok (.iconst (-1), 1) := dk_2 (dk_at dksX6_straight_1 20 rfl rfl)
theorem dX6_straight_45 : decode cX6_straight 45 = .ok (.if_icmp .ne 8, 3) := dk_160 0 8 (dk_at dksX6_straight_1 21 rfl rfl)
theorem dX6_straight_48 : decode cX6_straight 48 = .ok (.bipush (-3), 2) := dk_16 253 (dk_at dksX6_straight_2 0 rfl rfl)
theorem dX6_straight_50 : decode cX6_straight 50 = .ok (.goto 4, 3) := dk_167 0 4 (dk_at dksX6_straight_2 2 rfl rfl)
theorem dX6_straight_53 : decode cX6_straight 53 = .ok (.iload_n 2, 1) := dk_28 (dk_at dksX6_straight_2 5 rfl rfl)
theorem dX6_straight_54 : decode cX6_straight 54 = .ok (.ireturn, 1) := dk_172 (dk_at dksX6_straight_2 6 rfl rfl)
abbrev cX6_straightBy : ByteArray := prog_12_method_78_code
def yX6_straightBy : MethodName := ⟨RX6, "straightBy", "(II)I"⟩
def dkwX6_straightBy_1 : List UInt8 := [182, 1, 123, 42, 180, 0, 76, 28, 46, 172]
abbrev dktX6_straightBy_1 : List UInt8 := dkwX6_straightBy_1 ++ []
def dkwX6_straightBy_0 : List UInt8 := [42, 180, 0, 34, 27, 51, 154, 0, 12, 42, 180, 0, 34, 28, 51, 153, 0, 5, 2, 172, 42, 27, 2]
abbrev dktX6_straightBy_0 : List UInt8 := dkwX6_straightBy_0 ++ dktX6_straightBy_1
theorem dksX6_straightBy_0 : cX6_straightBy.data.toList.drop 0 = dktX6_straightBy_0 := by decide +kernel
theorem dksX6_straightBy_1 : cX6_straightBy.data.toList.drop 23 = dktX6_straightBy_1 := dk_seg dksX6_straightBy_0 23 rfl rfl
theorem dX6_straightBy_0 : decode cX6_straightBy 0 = .ok (.aload_n 0, 1) := dk_42 (dk_at dksX6_straightBy_0 0 rfl rfl)
theorem dX6_straightBy_1 : decode cX6_straightBy 1 = .ok (.getfield 34, 3) := dk_180 0 34 (dk_at dksX6_straightBy_0 1 rfl rfl)
theorem dX6_straightBy_4 : decode cX6_straightBy 4 = .ok (.iload_n 1, 1) := dk_27 (dk_at dksX6_straightBy_0 4 rfl rfl)
theorem dX6_straightBy_5 : decode cX6_straightBy 5 = .ok (.baload, 1) := dk_51 (dk_at dksX6_straightBy_0 5 rfl rfl)
theorem dX6_straightBy_6 : decode cX6_straightBy 6 = .ok (.ifCond .ne 12, 3) := dk_154 0 12 (dk_at dksX6_straightBy_0 6 rfl rfl)
theorem dX6_straightBy_9 : decode cX6_straightBy 9 = .ok (.aload_n 0, 1) := dk_42 (dk_at dksX6_straightBy_0 9 rfl rfl)
theorem dX6_straightBy_10 : decode cX6_straightBy 10 = .ok (.getfield 34, 3) := dk_180 0 34 (dk_at dksX6_straightBy_0 10 rfl rfl)
theorem dX6_straightBy_13 : decode cX6_straightBy 13 = .ok (.iload_n 2, 1) := dk_28 (dk_at dksX6_straightBy_0 13 rfl rfl)
theorem dX6_straightBy_14 : decode cX6_straightBy 14 = .ok (.baload, 1) := dk_51 (dk_at dksX6_straightBy_0 14 rfl rfl)
theorem dX6_straightBy_15 : decode cX6_straightBy 15 = .ok (.ifCond .eq 5, 3) := dk_153 0 5 (dk_at dksX6_straightBy_0 15 rfl rfl)
theorem dX6_straightBy_18 : decode cX6_straightBy 18 = .ok (.iconst (-1), 1) := dk_2 (dk_at dksX6_straightBy_0 18 rfl rfl)
theorem dX6_straightBy_19 : decode cX6_straightBy 19 = .ok (.ireturn, 1) := dk_172 (dk_at dksX6_straightBy_0 19 rfl rfl)
theorem dX6_straightBy_20 : decode cX6_straightBy 20 = .ok (.aload_n 0, 1) := dk_42 (dk_at dksX6_straightBy_0 20 rfl rfl)
theorem dX6_straightBy_21 : decode cX6_straightBy 21 = .ok (.iload_n 1, 1) := dk_27 (dk_at dksX6_straightBy_0 21 rfl rfl)
theorem dX6_straightBy_22 : decode cX6_straightBy 22 = .ok (.iconst (-1), 1) := dk_2 (dk_at dksX6_straightBy_0 22 rfl rfl)
theorem dX6_straightBy_23 : decode cX6_straightBy 23 = .ok (.invokevirtual 379, 3) := dk_182 1 123 (dk_at dksX6_straightBy_1 0 rfl rfl)
theorem dX6_straightBy_26 : decode cX6_straightBy 26 = .ok (.aload_n 0, 1) := dk_42 (dk_at dksX6_straightBy_1 3 rfl rfl)
theorem dX6_straightBy_27 : decode cX6_straightBy 27 = .ok (.getfield 76, 3) := dk_180 0 76 (dk_at dksX6_straightBy_1 4 rfl rfl)
theorem dX6_straightBy_30 : decode cX6_straightBy 30 = .ok (.iload_n 2, 1) := dk_28 (dk_at dksX6_straightBy_1 7 rfl rfl)
theorem dX6_straightBy_31 : decode cX6_straightBy 31 = .ok (.iaload, 1) := dk_46 (dk_at dksX6_straightBy_1 8 rfl rfl)
theorem dX6_straightBy_32 : decode cX6_straightBy 32 = .ok (.ireturn, 1) := dk_172 (dk_at dksX6_straightBy_1 9 rfl rfl)
abbrev cX6_layFar : ByteArray := prog_12_method_77_code
def yX6_layFar : MethodName := ⟨RX6, "layFar", "(II)V"⟩
def dkwX6_layFar_6 : List UInt8 := [167, 255, 150, 177]
abbrev dktX6_layFar_6 : List UInt8 := dkwX6_layFar_6 ++ []
def dkwX6_layFar_5 : List UInt8 := [21, 4, 4, 96, 79, 4, 62, 132, 6, 1, 167, 255, 196, 132, 5, 1, 167, 255, 165, 132, 4, 1]
abbrev dktX6_layFar_5 : List UInt8 := dkwX6_layFar_5 ++ dktX6_layFar_6
def dkwX6_layFar_4 : List UInt8 := [182, 1, 32, 46, 2, 159, 0, 6, 167, 0, 22, 42, 180, 0, 76, 42, 21, 5, 21, 6, 182, 1, 32]
abbrev dktX6_layFar_4 : List UInt8 := dkwX6_layFar_4 ++ dktX6_layFar_5
def dkwX6_layFar_3 : List UInt8 := [162, 0, 60, 42, 21, 5, 21, 6, 28, 182, 1, 120, 153, 0, 42, 42, 180, 0, 76, 42, 21, 5, 21, 6]
abbrev dktX6_layFar_3 : List UInt8 := dkwX6_layFar_3 ++ dktX6_layFar_4
def dkwX6_layFar_2 : List UInt8 := [162, 0, 90, 42, 180, 0, 76, 21, 5, 46, 21, 4, 159, 0, 6, 167, 0, 69, 3, 54, 6, 21, 6, 7]
abbrev dktX6_layFar_2 : List UInt8 := dkwX6_layFar_2 ++ dktX6_layFar_3
def dkwX6_layFar_1 : List UInt8 := [180, 0, 76, 27, 3, 79, 4, 62, 3, 54, 4, 29, 153, 0, 108, 3, 62, 3, 54, 5, 21, 5, 16, 80]
abbrev dktX6_layFar_1 : List UInt8 := dkwX6_layFar_1 ++ dktX6_layFar_2
def dkwX6_layFar_0 : List UInt8 := [3, 62, 29, 16, 80, 162, 0, 16, 42, 180, 0, 76, 29, 2, 79, 132, 3, 1, 167, 255, 240, 42]
abbrev dktX6_layFar_0 : List UInt8 := dkwX6_layFar_0 ++ dktX6_layFar_1
theorem dksX6_layFar_0 : cX6_layFar.data.toList.drop 0 = dktX6_layFar_0 := by decide +kernel
theorem dksX6_layFar_1 : cX6_layFar.data.toList.drop 22 = dktX6_layFar_1 := dk_seg dksX6_layFar_0 22 rfl rfl
theorem dksX6_layFar_2 : cX6_layFar.data.toList.drop 46 = dktX6_layFar_2 := dk_seg dksX6_layFar_1 24 rfl rfl
theorem dksX6_layFar_3 : cX6_layFar.data.toList.drop 70 = dktX6_layFar_3 := dk_seg dksX6_layFar_2 24 rfl rfl
theorem dksX6_layFar_4 : cX6_layFar.data.toList.drop 94 = dktX6_layFar_4 := dk_seg dksX6_layFar_3 24 rfl rfl
theorem dksX6_layFar_5 : cX6_layFar.data.toList.drop 117 = dktX6_layFar_5 := dk_seg dksX6_layFar_4 23 rfl rfl
theorem dksX6_layFar_6 : cX6_layFar.data.toList.drop 139 = dktX6_layFar_6 := dk_seg dksX6_layFar_5 22 rfl rfl
theorem dX6_layFar_0 : decode cX6_layFar 0 = .ok (.iconst 0, 1) := dk_3 (dk_at dksX6_layFar_0 0 rfl rfl)
theorem dX6_layFar_1 : decode cX6_layFar 1 = .ok (.istore_n 3, 1) := dk_62 (dk_at dksX6_layFar_0 1 rfl rfl)
theorem dX6_layFar_2 : decode cX6_layFar 2 = .ok (.iload_n 3, 1) := dk_29 (dk_at dksX6_layFar_0 2 rfl rfl)
theorem dX6_layFar_3 : decode cX6_layFar 3 = .ok (.bipush 80, 2) := dk_16 80 (dk_at dksX6_layFar_0 3 rfl rfl)
theorem dX6_layFar_5 : decode cX6_layFar 5 = .ok (.if_icmp .ge 16, 3) := dk_162 0 16 (dk_at dksX6_layFar_0 5 rfl rfl)
theorem dX6_layFar_8 : decode cX6_layFar 8 = .ok (.aload_n 0, 1) := dk_42 (dk_at dksX6_layFar_0 8 rfl rfl)
theorem dX6_layFar_9 : decode cX6_layFar 9 = .ok (.getfield 76, 3) := dk_180 0 76 (dk_at dksX6_layFar_0 9 rfl rfl)
theorem dX6_layFar_12 : decode cX6_layFar 12 = .ok (.iload_n 3, 1) := dk_29 (dk_at dksX6_layFar_0 12 rfl rfl)
theorem dX6_layFar_13 : decode cX6_layFar 13 = .ok (.iconst (-1), 1) := dk_2 (dk_at dksX6_layFar_0 13 rfl rfl)
theorem dX6_layFar_14 : decode cX6_layFar 14 = .ok (.iastore, 1) := dk_79 (dk_at dksX6_layFar_0 14 rfl rfl)
theorem dX6_layFar_15 : decode cX6_layFar 15 = .ok (.iinc 3 1, 3) := dk_132 3 1 (dk_at dksX6_layFar_0 15 rfl rfl)
theorem dX6_layFar_18 : decode cX6_layFar 18 = .ok (.goto (-16), 3) := dk_167 255 240 (dk_at dksX6_layFar_0 18 rfl rfl)
theorem dX6_layFar_21 : decode cX6_layFar 21 = .ok (.aload_n 0, 1) := dk_42 (dk_at dksX6_layFar_0 21 rfl rfl)
theorem dX6_layFar_22 : decode cX6_layFar 22 = .ok (.getfield 76, 3) := dk_180 0 76 (dk_at dksX6_layFar_1 0 rfl rfl)
theorem dX6_layFar_25 : decode cX6_layFar 25 = .ok (.iload_n 1, 1) := dk_27 (dk_at dksX6_layFar_1 3 rfl rfl)
theorem dX6_layFar_26 : decode cX6_layFar 26 = .ok (.iconst 0, 1) := dk_3 (dk_at dksX6_layFar_1 4 rfl rfl)
theorem dX6_layFar_27 : decode cX6_layFar 27 = .ok (.iastore, 1) := dk_79 (dk_at dksX6_layFar_1 5 rfl rfl)
theorem dX6_layFar_28 : decode cX6_layFar 28 = .ok (.iconst 1, 1) := dk_4 (dk_at dksX6_layFar_1 6 rfl rfl)
theorem dX6_layFar_29 : decode cX6_layFar 29 = .ok (.istore_n 3, 1) := dk_62 (dk_at dksX6_layFar_1 7 rfl rfl)
theorem dX6_layFar_30 : decode cX6_layFar 30 = .ok (.iconst 0, 1) := dk_3 (dk_at dksX6_layFar_1 8 rfl rfl)
theorem dX6_layFar_31 : decode cX6_layFar 31 = .ok (.istore 4, 2) := dk_54 4 (dk_at dksX6_layFar_1 9 rfl rfl)
theorem dX6_layFar_33 : decode cX6_layFar 33 = .ok (.iload_n 3, 1) := dk_29 (dk_at dksX6_layFar_1 11 rfl rfl)
theorem dX6_layFar_34 : decode cX6_layFar 34 = .ok (.ifCond .eq 108, 3) := dk_153 0 108 (dk_at dksX6_layFar_1 12 rfl rfl)
theorem dX6_layFar_37 : decode cX6_layFar 37 = .ok (.iconst 0, 1) := dk_3 (dk_at dksX6_layFar_1 15 rfl rfl)
theorem dX6_layFar_38 : decode cX6_layFar 38 = .ok (.istore_n 3, 1) := dk_62 (dk_at dksX6_layFar_1 16 rfl rfl)
theorem dX6_layFar_39 : decode cX6_layFar 39 = .ok (.iconst 0, 1) := dk_3 (dk_at dksX6_layFar_1 17 rfl rfl)
theorem dX6_layFar_40 : decode cX6_layFar 40 = .ok (.istore 5, 2) := dk_54 5 (dk_at dksX6_layFar_1 18 rfl rfl)
theorem dX6_layFar_42 : decode cX6_layFar 42 = .ok (.iload 5, 2) := dk_21 5 (dk_at dksX6_layFar_1 20 rfl rfl)
theorem dX6_layFar_44 : decode cX6_layFar 44 = .ok (.bipush 80, 2) := dk_16 80 (dk_at dksX6_layFar_1 22 rfl rfl)
theorem dX6_layFar_46 : decode cX6_layFar 46 = .ok (.if_icmp .ge 90, 3) := dk_162 0 90 (dk_at dksX6_layFar_2 0 rfl rfl)
theorem dX6_layFar_49 : decode cX6_layFar 49 = .ok (.aload_n 0, 1) := dk_42 (dk_at dksX6_layFar_2 3 rfl rfl)
theorem dX6_layFar_50 : decode cX6_layFar 50 = .ok (.getfield 76, 3) := dk_180 0 76 (dk_at dksX6_layFar_2 4 rfl rfl)
theorem dX6_layFar_53 : decode cX6_layFar 53 = .ok (.iload 5, 2) := dk_21 5 (dk_at dksX6_layFar_2 7 rfl rfl)
theorem dX6_layFar_55 : decode cX6_layFar 55 = .ok (.iaload, 1) := dk_46 (dk_at dksX6_layFar_2 9 rfl rfl)
theorem dX6_layFar_56 : decode cX6_layFar 56 = .ok (.iload 4, 2) := dk_21 4 (dk_at dksX6_layFar_2 10 rfl rfl)
theorem dX6_layFar_58 : decode cX6_layFar 58 = .ok (.if_icmp .eq 6, 3) := dk_159 0 6 (dk_at dksX6_layFar_2 12 rfl rfl)
theorem dX6_layFar_61 : decode cX6_layFar 61 = .ok (.goto 69, 3) := dk_167 0 69 (dk_at dksX6_layFar_2 15 rfl rfl)
theorem dX6_layFar_64 : decode cX6_layFar 64 = .ok (.iconst 0, 1) := dk_3 (dk_at dksX6_layFar_2 18 rfl rfl)
theorem dX6_layFar_65 : decode cX6_layFar 65 = .ok (.istore 6, 2) := dk_54 6 (dk_at dksX6_layFar_2 19 rfl rfl)
theorem dX6_layFar_67 : decode cX6_layFar 67 = .ok (.iload 6, 2) := dk_21 6 (dk_at dksX6_layFar_2 21 rfl rfl)
theorem dX6_layFar_69 : decode cX6_layFar 69 = .ok (.iconst 4, 1) := dk_7 (dk_at dksX6_layFar_2 23 rfl rfl)
theorem dX6_layFar_70 : decode cX6_layFar 70 = .ok (.if_icmp .ge 60, 3) := dk_162 0 60 (dk_at dksX6_layFar_3 0 rfl rfl)
theorem dX6_layFar_73 : decode cX6_layFar 73 = .ok (.aload_n 0, 1) := dk_42 (dk_at dksX6_layFar_3 3 rfl rfl)
theorem dX6_layFar_74 : decode cX6_layFar 74 = .ok (.iload 5, 2) := dk_21 5 (dk_at dksX6_layFar_3 4 rfl rfl)
theorem dX6_layFar_76 : decode cX6_layFar 76 = .ok (.iload 6, 2) := dk_21 6 (dk_at dksX6_layFar_3 6 rfl rfl)
theorem dX6_layFar_78 : decode cX6_layFar 78 = .ok (.iload_n 2, 1) := dk_28 (dk_at dksX6_layFar_3 8 rfl rfl)
theorem dX6_layFar_79 : decode cX6_layFar 79 = .ok (.invokevirtual 376, 3) := dk_182 1 120 (dk_at dksX6_layFar_3 9 rfl rfl)
theorem dX6_layFar_82 : decode cX6_layFar 82 = .ok (.ifCond .eq 42, 3) := dk_153 0 42 (dk_at dksX6_layFar_3 12 rfl rfl)
theorem dX6_layFar_85 : decode cX6_layFar 85 = .ok (.aload_n 0, 1) := dk_42 (dk_at dksX6_layFar_3 15 rfl rfl)
theorem dX6_layFar_86 : decode cX6_layFar 86 = .ok (.getfield 76, 3) := dk_180 0 76 (dk_at dksX6_layFar_3 16 rfl rfl)
theorem dX6_layFar_89 : decode cX6_layFar 89 = .ok (.aload_n 0, 1) := dk_42 (dk_at dksX6_layFar_3 19 rfl rfl)
theorem dX6_layFar_90 : decode cX6_layFar 90 = .ok (.iload 5, 2) := dk_21 5 (dk_at dksX6_layFar_3 20 rfl rfl)
theorem dX6_layFar_92 : decode cX6_layFar 92 = .ok (.iload 6, 2) := dk_21 6 (dk_at dksX6_layFar_3 22 rfl rfl)
theorem dX6_layFar_94 : decode cX6_layFar 94 = .ok (.invokevirtual 288, 3) := dk_182 1 32 (dk_at dksX6_layFar_4 0 rfl rfl)
theorem dX6_layFar_97 : decode cX6_layFar 97 = .ok (.iaload, 1) := dk_46 (dk_at dksX6_layFar_4 3 rfl rfl)
theorem dX6_layFar_98 : decode cX6_layFar 98 = .ok (.iconst (-1), 1) := dk_2 (dk_at dksX6_layFar_4 4 rfl rfl)
theorem dX6_layFar_99 : decode cX6_layFar 99 = .ok (.if_icmp .eq 6, 3) := dk_159 0 6 (dk_at dksX6_layFar_4 5 rfl rfl)
theorem dX6_layFar_102 : decode cX6_layFar 102 = .ok (.goto 22, 3) := dk_167 0 22 (dk_at dksX6_layFar_4 8 rfl rfl)
theorem dX6_layFar_105 : decode cX6_layFar 105 = .ok (.aload_n 0, 1) := dk_42 (dk_at dksX6_layFar_4 11 rfl rfl)
theorem dX6_layFar_106 : decode cX6_layFar 106 = .ok (.getfield 76, 3) := dk_180 0 76 (dk_at dksX6_layFar_4 12 rfl rfl)
theorem dX6_layFar_109 : decode cX6_layFar 109 = .ok (.aload_n 0, 1) := dk_42 (dk_at dksX6_layFar_4 15 rfl rfl)
theorem dX6_layFar_110 : decode cX6_layFar 110 = .ok (.iload 5, 2) := dk_21 5 (dk_at dksX6_layFar_4 16 rfl rfl)
theorem dX6_layFar_112 : decode cX6_layFar 112 = .ok (.iload 6, 2) := dk_21 6 (dk_at dksX6_layFar_4 18 rfl rfl)
theorem dX6_layFar_114 : decode cX6_layFar 114 = .ok (.invokevirtual 288, 3) := dk_182 1 32 (dk_at dksX6_layFar_4 20 rfl rfl)
theorem dX6_layFar_117 : decode cX6_layFar 117 = .ok (.iload 4, 2) := dk_21 4 (dk_at dksX6_layFar_5 0 rfl rfl)
theorem dX6_layFar_119 : decode cX6_layFar 119 = .ok (.iconst 1, 1) := dk_4 (dk_at dksX6_layFar_5 2 rfl rfl)
theorem dX6_layFar_120 : decode cX6_layFar 120 = .ok (.iadd, 1) := dk_96 (dk_at dksX6_layFar_5 3 rfl rfl)
theorem dX6_layFar_121 : decode cX6_layFar 121 = .ok (.iastore, 1) := dk_79 (dk_at dksX6_layFar_5 4 rfl rfl)
theorem dX6_layFar_122 : decode cX6_layFar 122 = .ok (.iconst 1, 1) := dk_4 (dk_at dksX6_layFar_5 5 rfl rfl)
theorem dX6_layFar_123 : decode cX6_layFar 123 = .ok (.istore_n 3, 1) := dk_62 (dk_at dksX6_layFar_5 6 rfl rfl)
theorem dX6_layFar_124 : decode cX6_layFar 124 = .ok (.iinc 6 1, 3) := dk_132 6 1 (dk_at dksX6_layFar_5 7 rfl rfl)
theorem dX6_layFar_127 : decode cX6_layFar 127 = .ok (.goto (-60), 3) := dk_167 255 196 (dk_at dksX6_layFar_5 10 rfl rfl)
theorem dX6_layFar_130 : decode cX6_layFar 130 = .ok (.iinc 5 1, 3) := dk_132 5 1 (dk_at dksX6_layFar_5 13 rfl rfl)
theorem dX6_layFar_133 : decode cX6_layFar 133 = .ok (.goto (-91), 3) := dk_167 255 165 (dk_at dksX6_layFar_5 16 rfl rfl)
theorem dX6_layFar_136 : decode cX6_layFar 136 = .ok (.iinc 4 1, 3) := dk_132 4 1 (dk_at dksX6_layFar_5 19 rfl rfl)
theorem dX6_layFar_139 : decode cX6_layFar 139 = .ok (.goto (-106), 3) := dk_167 255 150 (dk_at dksX6_layFar_6 0 rfl rfl)
theorem dX6_layFar_142 : decode cX6_layFar 142 = .ok (.return_, 1) := dk_177 (dk_at dksX6_layFar_6 3 rfl rfl)
abbrev cX6_leads : ByteArray := prog_12_method_76_code
def yX6_leads : MethodName := ⟨RX6, "leads", "(III)Z"⟩
def dkwX6_leads_2 : List UInt8 := [184, 1, 67, 4, 160, 0, 7, 4, 167, 0, 4, 3, 172]
abbrev dktX6_leads_2 : List UInt8 := dkwX6_leads_2 ++ []
def dkwX6_leads_1 : List UInt8 := [180, 0, 34, 21, 4, 51, 154, 0, 7, 4, 167, 0, 26, 3, 167, 0, 22, 42, 27, 29, 182, 1, 88, 28]
abbrev dktX6_leads_1 : List UInt8 := dkwX6_leads_1 ++ dktX6_leads_2
def dkwX6_leads_0 : List UInt8 := [42, 27, 28, 182, 1, 32, 54, 4, 21, 4, 2, 160, 0, 5, 3, 172, 29, 2, 160, 0, 21, 42]
abbrev dktX6_leads_0 : List UInt8 := dkwX6_leads_0 ++ dktX6_leads_1
theorem dksX6_leads_0 : cX6_leads.data.toList.drop 0 = dktX6_leads_0 := by decide +kernel
theorem dksX6_leads_1 : cX6_leads.data.toList.drop 22 = dktX6_leads_1 := dk_seg dksX6_leads_0 22 rfl rfl
theorem dksX6_leads_2 : cX6_leads.data.toList.drop 46 = dktX6_leads_2 := dk_seg dksX6_leads_1 24 rfl rfl
theorem dX6_leads_0 : decode cX6_leads 0 = .ok (.aload_n 0, 1) := dk_42 (dk_at dksX6_leads_0 0 rfl rfl)
theorem dX6_leads_1 : decode cX6_leads 1 = .ok (.iload_n 1, 1) := dk_27 (dk_at dksX6_leads_0 1 rfl rfl)
theorem dX6_leads_2 : decode cX6_leads 2 = .ok (.iload_n 2, 1) := dk_28 (dk_at dksX6_leads_0 2 rfl rfl)
theorem dX6_leads_3 : decode cX6_leads 3 = .ok (.invokevirtual 288, 3) := dk_182 1 32 (dk_at dksX6_leads_0 3 rfl rfl)
theorem dX6_leads_6 : decode cX6_leads 6 = .ok (.istore 4, 2) := dk_54 4 (dk_at dksX6_leads_0 6 rfl rfl)
theorem dX6_leads_8 : decode cX6_leads 8 = .ok (.iload 4, 2) := dk_21 4 (dk_at dksX6_leads_0 8 rfl rfl)
theorem dX6_leads_10 : decode cX6_leads 10 = .ok (.iconst (-1), 1) := dk_2 (dk_at dksX6_leads_0 10 rfl rfl)
theorem dX6_leads_11 : decode cX6_leads 11 = .ok (.if_icmp .ne 5, 3) := dk_160 0 5 (dk_at dksX6_leads_0 11 rfl rfl)
theorem dX6_leads_14 : decode cX6_leads 14 = .ok (.iconst 0, 1) := dk_3 (dk_at dksX6_leads_0 14 rfl rfl)
theorem dX6_leads_15 : decode cX6_leads 15 = .ok (.ireturn, 1) := dk_172 (dk_at dksX6_leads_0 15 rfl rfl)
theorem dX6_leads_16 : decode cX6_leads 16 = .ok (.iload_n 3, 1) := dk_29 (dk_at dksX6_leads_0 16 rfl rfl)
theorem dX6_leads_17 : decode cX6_leads 17 = .ok (.iconst (-1), 1) := dk_2 (dk_at dksX6_leads_0 17 rfl rfl)
theorem dX6_leads_18 : decode cX6_leads 18 = .ok (.if_icmp .ne 21, 3) := dk_160 0 21 (dk_at dksX6_leads_0 18 rfl rfl)
theorem dX6_leads_21 : decode cX6_leads 21 = .ok (.aload_n 0, 1) := dk_42 (dk_at dksX6_leads_0 21 rfl rfl)
theorem dX6_leads_22 : decode cX6_leads 22 = .ok (.getfield 34, 3) := dk_180 0 34 (dk_at dksX6_leads_1 0 rfl rfl)
theorem dX6_leads_25 : decode cX6_leads 25 = .ok (.iload 4, 2) := dk_21 4 (dk_at dksX6_leads_1 3 rfl rfl)
theorem dX6_leads_27 : decode cX6_leads 27 = .ok (.baload, 1) := dk_51 (dk_at dksX6_leads_1 5 rfl rfl)
theorem dX6_leads_28 : decode cX6_leads 28 = .ok (.ifCond .ne 7, 3) := dk_154 0 7 (dk_at dksX6_leads_1 6 rfl rfl)
theorem dX6_leads_31 : decode cX6_leads 31 = .ok (.iconst 1, 1) := dk_4 (dk_at dksX6_leads_1 9 rfl rfl)
theorem dX6_leads_32 : decode cX6_leads 32 = .ok (.goto 26, 3) := dk_167 0 26 (dk_at dksX6_leads_1 10 rfl rfl)
theorem dX6_leads_35 : decode cX6_leads 35 = .ok (.iconst 0, 1) := dk_3 (dk_at dksX6_leads_1 13 rfl rfl)
theorem dX6_leads_36 : decode cX6_leads 36 = .ok (.goto 22, 3) := dk_167 0 22 (dk_at dksX6_leads_1 14 rfl rfl)
theorem dX6_leads_39 : decode cX6_leads 39 = .ok (.aload_n 0, 1) := dk_42 (dk_at dksX6_leads_1 17 rfl rfl)
theorem dX6_leads_40 : decode cX6_leads 40 = .ok (.iload_n 1, 1) := dk_27 (dk_at dksX6_leads_1 18 rfl rfl)
theorem dX6_leads_41 : decode cX6_leads 41 = .ok (.iload_n 3, 1) := dk_29 (dk_at dksX6_leads_1 19 rfl rfl)
theorem dX6_leads_42 : decode cX6_leads 42 = .ok (.invokevirtual 344, 3) := dk_182 1 88 (dk_at dksX6_leads_1 20 rfl rfl)
theorem dX6_leads_45 : decode cX6_leads 45 = .ok (.iload_n 2, 1) := dk_28 (dk_at dksX6_leads_1 23 rfl rfl)
theorem dX6_leads_46 : decode cX6_leads 46 = .ok (.invokestatic 323, 3) := dk_184 1 67 (dk_at dksX6_leads_2 0 rfl rfl)
theorem dX6_leads_49 : decode cX6_leads 49 = .ok (.iconst 1, 1) := dk_4 (dk_at dksX6_leads_2 3 rfl rfl)
theorem dX6_leads_50 : decode cX6_leads 50 = .ok (.if_icmp .ne 7, 3) := dk_160 0 7 (dk_at dksX6_leads_2 4 rfl rfl)
theorem dX6_leads_53 : decode cX6_leads 53 = .ok (.iconst 1, 1) := dk_4 (dk_at dksX6_leads_2 7 rfl rfl)
theorem dX6_leads_54 : decode cX6_leads 54 = .ok (.goto 4, 3) := dk_167 0 4 (dk_at dksX6_leads_2 8 rfl rfl)
theorem dX6_leads_57 : decode cX6_leads 57 = .ok (.iconst 0, 1) := dk_3 (dk_at dksX6_leads_2 11 rfl rfl)
theorem dX6_leads_58 : decode cX6_leads 58 = .ok (.ireturn, 1) := dk_172 (dk_at dksX6_leads_2 12 rfl rfl)
abbrev cX6_pegsOf : ByteArray := prog_12_method_61_code
def yX6_pegsOf : MethodName := ⟨RX6, "pegsOf", "(II)I"⟩
def dkwX6_pegsOf_0 : List UInt8 := [42, 180, 0, 70, 16, 80, 28, 104, 27, 96, 46, 172]
abbrev dktX6_pegsOf_0 : List UInt8 := dkwX6_pegsOf_0 ++ []
theorem dksX6_pegsOf_0 : cX6_pegsOf.data.toList.drop 0 = dktX6_pegsOf_0 := by decide +kernel
theorem dX6_pegsOf_0 : decode cX6_pegsOf 0 = .ok (.aload_n 0, 1) := dk_42 (dk_at dksX6_pegsOf_0 0 rfl rfl)
theorem dX6_pegsOf_1 : decode cX6_pegsOf 1 = .ok (.getfield 70, 3) := dk_180 0 70 (dk_at dksX6_pegsOf_0 1 rfl rfl)
theorem dX6_pegsOf_4 : decode cX6_pegsOf 4 = .ok (.bipush 80, 2) := dk_16 80 (dk_at dksX6_pegsOf_0 4 rfl rfl)
theorem dX6_pegsOf_6 : decode cX6_pegsOf 6 = .ok (.iload_n 2, 1) := dk_28 (dk_at dksX6_pegsOf_0 6 rfl rfl)
theorem dX6_pegsOf_7 : decode cX6_pegsOf 7 = .ok (.imul, 1) := dk_104 (dk_at dksX6_pegsOf_0 7 rfl rfl)
theorem dX6_pegsOf_8 : decode cX6_pegsOf 8 = .ok (.iload_n 1, 1) := dk_27 (dk_at dksX6_pegsOf_0 8 rfl rfl)
theorem dX6_pegsOf_9 : decode cX6_pegsOf 9 = .ok (.iadd, 1) := dk_96 (dk_at dksX6_pegsOf_0 9 rfl rfl)
theorem dX6_pegsOf_10 : decode cX6_pegsOf 10 = .ok (.iaload, 1) := dk_46 (dk_at dksX6_pegsOf_0 10 rfl rfl)
theorem dX6_pegsOf_11 : decode cX6_pegsOf 11 = .ok (.ireturn, 1) := dk_172 (dk_at dksX6_pegsOf_0 11 rfl rfl)
abbrev cX6_beeline : ByteArray := prog_12_method_80_code
def yX6_beeline : MethodName := ⟨RX6, "beeline", "(II)I"⟩
def dkwX6_beeline_1 : List UInt8 := [167, 0, 5, 16, 254, 172]
abbrev dktX6_beeline_1 : List UInt8 := dkwX6_beeline_1 ++ []
def dkwX6_beeline_0 : List UInt8 := [42, 27, 182, 1, 97, 153, 0, 21, 42, 28, 133, 182, 1, 54, 153, 0, 12, 42, 27, 28, 182, 1, 127]
abbrev dktX6_beeline_0 : List UInt8 := dkwX6_beeline_0 ++ dktX6_beeline_1
theorem dksX6_beeline_0 : cX6_beeline.data.toList.drop 0 = dktX6_beeline_0 := by decide +kernel
theorem dksX6_beeline_1 : cX6_beeline.data.toList.drop 23 = dktX6_beeline_1 := dk_seg dksX6_beeline_0 23 rfl rfl
theorem dX6_beeline_0 : decode cX6_beeline 0 = .ok (.aload_n 0, 1) := dk_42 (dk_at dksX6_beeline_0 0 rfl rfl)
theorem dX6_beeline_1 : decode cX6_beeline 1 = .ok (.iload_n 1, 1) := dk_27 (dk_at dksX6_beeline_0 1 rfl rfl)
theorem dX6_beeline_2 : decode cX6_beeline 2 = .ok (.invokevirtual 353, 3) := dk_182 1 97 (dk_at dksX6_beeline_0 2 rfl rfl)
theorem dX6_beeline_5 : decode cX6_beeline 5 = .ok (.ifCond .eq 21, 3) := dk_153 0 21 (dk_at dksX6_beeline_0 5 rfl rfl)
theorem dX6_beeline_8 : decode cX6_beeline 8 = .ok (.aload_n 0, 1) := dk_42 (dk_at dksX6_beeline_0 8 rfl rfl)
theorem dX6_beeline_9 : decode cX6_beeline 9 = .ok (.iload_n 2, 1) := dk_28 (dk_at dksX6_beeline_0 9 rfl rfl)
theorem dX6_beeline_10 : decode cX6_beeline 10 = .ok (.i2l, 1) := dk_133 (dk_at dksX6_beeline_0 10 rfl rfl)
theorem dX6_beeline_11 : decode cX6_beeline 11 = .ok (.invokevirtual 310, 3) := dk_182 1 54 (dk_at dksX6_beeline_0 11 rfl rfl)
theorem dX6_beeline_14 : decode cX6_beeline 14 = .ok (.ifCond .eq 12, 3) := dk_153 0 12 (dk_at dksX6_beeline_0 14 rfl rfl)
theorem dX6_beeline_17 : decode cX6_beeline 17 = .ok (.aload_n 0, 1) := dk_42 (dk_at dksX6_beeline_0 17 rfl rfl)
theorem dX6_beeline_18 : decode cX6_beeline 18 = .ok (.iload_n 1, 1) := dk_27 (dk_at dksX6_beeline_0 18 rfl rfl)
theorem dX6_beeline_19 : decode cX6_beeline 19 = .ok (.iload_n 2, 1) := dk_28 (dk_at dksX6_beeline_0 19 rfl rfl)
theorem dX6_beeline_20 : decode cX6_beeline 20 = .ok (.invokevirtual 383, 3) := dk_182 1 127 (dk_at dksX6_beeline_0 20 rfl rfl)
theorem dX6_beeline_23 : decode cX6_beeline 23 = .ok (.goto 5, 3) := dk_167 0 5 (dk_at dksX6_beeline_1 0 rfl rfl)
theorem dX6_beeline_26 : decode cX6_beeline 26 = .ok (.bipush (-2), 2) := dk_16 254 (dk_at dksX6_beeline_1 3 rfl rfl)
theorem dX6_beeline_28 : decode cX6_beeline 28 = .ok (.ireturn, 1) := dk_172 (dk_at dksX6_beeline_1 5 rfl rfl)
abbrev cX6_way : ByteArray := prog_12_method_81_code
def yX6_way : MethodName := ⟨RX6, "way", "(III)I"⟩
def dkwX6_way_2 : List UInt8 := [180, 0, 76, 28, 46, 172]
abbrev dktX6_way_2 : List UInt8 := dkwX6_way_2 ++ []
def dkwX6_way_1 : List UInt8 := [154, 0, 6, 16, 254, 172, 42, 27, 29, 182, 1, 130, 154, 0, 5, 2, 172, 42, 27, 29, 182, 1, 123, 42]
abbrev dktX6_way_1 : List UInt8 := dkwX6_way_1 ++ dktX6_way_2
def dkwX6_way_0 : List UInt8 := [42, 29, 182, 1, 117, 153, 0, 21, 42, 27, 133, 182, 1, 54, 153, 0, 12, 42, 28, 133, 182, 1, 54]
abbrev dktX6_way_0 : List UInt8 := dkwX6_way_0 ++ dktX6_way_1
theorem dksX6_way_0 : cX6_way.data.toList.drop 0 = dktX6_way_0 := by decide +kernel
theorem dksX6_way_1 : cX6_way.data.toList.drop 23 = dktX6_way_1 := dk_seg dksX6_way_0 23 rfl rfl
theorem dksX6_way_2 : cX6_way.data.toList.drop 47 = dktX6_way_2 := dk_seg dksX6_way_1 24 rfl rfl
theorem dX6_way_0 : decode cX6_way 0 = .ok (.aload_n 0, 1) := dk_42 (dk_at dksX6_way_0 0 rfl rfl)
theorem dX6_way_1 : decode cX6_way 1 = .ok (.iload_n 3, 1) := dk_29 (dk_at dksX6_way_0 1 rfl rfl)
theorem dX6_way_2 : decode cX6_way 2 = .ok (.invokevirtual 373, 3) := dk_182 1 117 (dk_at dksX6_way_0 2 rfl rfl)
theorem dX6_way_5 : decode cX6_way 5 = .ok (.ifCond .eq 21, 3) := dk_153 0 21 (dk_at dksX6_way_0 5 rfl rfl)
theorem dX6_way_8 : decode cX6_way 8 = .ok (.aload_n 0, 1) := dk_42 (dk_at dksX6_way_0 8 rfl rfl)
theorem dX6_way_9 : decode cX6_way 9 = .ok (.iload_n 1, 1) := dk_27 (dk_at dksX6_way_0 9 rfl rfl)
theorem dX6_way_10 : decode cX6_way 10 = .ok (.i2l, 1) := dk_133 (dk_at dksX6_way_0 10 rfl rfl)
theorem dX6_way_11 : decode cX6_way 11 = .ok (.invokevirtual 310, 3) := dk_182 1 54 (dk_at dksX6_way_0 11 rfl rfl)
theorem dX6_way_14 : decode cX6_way 14 = .ok (.ifCond .eq 12, 3) := dk_153 0 12 (dk_at dksX6_way_0 14 rfl rfl)
theorem dX6_way_17 : decode cX6_way 17 = .ok (.aload_n 0, 1) := dk_42 (dk_at dksX6_way_0 17 rfl rfl)
theorem dX6_way_18 : decode cX6_way 18 = .ok (.iload_n 2, 1) := dk_28 (dk_at dksX6_way_0 18 rfl rfl)
theorem dX6_way_19 : decode cX6_way 19 = .ok (.i2l, 1) := dk_133 (dk_at dksX6_way_0 19 rfl rfl)
theorem dX6_way_20 : decode cX6_way 20 = .ok (.invokevirtual 310, 3) := dk_182 1 54 (dk_at dksX6_way_0 20 rfl rfl)
theorem dX6_way_23 : decode cX6_way 23 = .ok (.ifCond .ne 6, 3) := dk_154 0 6 (dk_at dksX6_way_1 0 rfl rfl)
theorem dX6_way_26 : decode cX6_way 26 = .ok (.bipush (-2), 2) := dk_16 254 (dk_at dksX6_way_1 3 rfl rfl)
theorem dX6_way_28 : decode cX6_way 28 = .ok (.ireturn, 1) := dk_172 (dk_at dksX6_way_1 5 rfl rfl)
theorem dX6_way_29 : decode cX6_way 29 = .ok (.aload_n 0, 1) := dk_42 (dk_at dksX6_way_1 6 rfl rfl)
theorem dX6_way_30 : decode cX6_way 30 = .ok (.iload_n 1, 1) := dk_27 (dk_at dksX6_way_1 7 rfl rfl)
theorem dX6_way_31 : decode cX6_way 31 = .ok (.iload_n 3, 1) := dk_29 (dk_at dksX6_way_1 8 rfl rfl)
theorem dX6_way_32 : decode cX6_way 32 = .ok (.invokevirtual 386, 3) := dk_182 1 130 (dk_at dksX6_way_1 9 rfl rfl)
theorem dX6_way_35 : decode cX6_way 35 = .ok (.ifCond .ne 5, 3) := dk_154 0 5 (dk_at dksX6_way_1 12 rfl rfl)
theorem dX6_way_38 : decode cX6_way 38 = .ok (.iconst (-1), 1) := dk_2 (dk_at dksX6_way_1 15 rfl rfl)
theorem dX6_way_39 : decode cX6_way 39 = .ok (.ireturn, 1) := dk_172 (dk_at dksX6_way_1 16 rfl rfl)
theorem dX6_way_40 : decode cX6_way 40 = .ok (.aload_n 0, 1) := dk_42 (dk_at dksX6_way_1 17 rfl rfl)
theorem dX6_way_41 : decode cX6_way 41 = .ok (.iload_n 1, 1) := dk_27 (dk_at dksX6_way_1 18 rfl rfl)
theorem dX6_way_42 : decode cX6_way 42 = .ok (.iload_n 3, 1) := dk_29 (dk_at dksX6_way_1 19 rfl rfl)
theorem dX6_way_43 : decode cX6_way 43 = .ok (.invokevirtual 379, 3) := dk_182 1 123 (dk_at dksX6_way_1 20 rfl rfl)
theorem dX6_way_46 : decode cX6_way 46 = .ok (.aload_n 0, 1) := dk_42 (dk_at dksX6_way_1 23 rfl rfl)
theorem dX6_way_47 : decode cX6_way 47 = .ok (.getfield 76, 3) := dk_180 0 76 (dk_at dksX6_way_2 0 rfl rfl)
theorem dX6_way_50 : decode cX6_way 50 = .ok (.iload_n 2, 1) := dk_28 (dk_at dksX6_way_2 3 rfl rfl)
theorem dX6_way_51 : decode cX6_way 51 = .ok (.iaload, 1) := dk_46 (dk_at dksX6_way_2 4 rfl rfl)
theorem dX6_way_52 : decode cX6_way 52 = .ok (.ireturn, 1) := dk_172 (dk_at dksX6_way_2 5 rfl rfl)
abbrev cX6_roadOf : ByteArray := prog_12_method_62_code
def yX6_roadOf : MethodName := ⟨RX6, "roadOf", "(II)Z"⟩
def dkwX6_roadOf_0 : List UInt8 := [42, 180, 0, 67, 16, 80, 28, 104, 27, 96, 51, 172]
abbrev dktX6_roadOf_0 : List UInt8 := dkwX6_roadOf_0 ++ []
theorem dksX6_roadOf_0 : cX6_roadOf.data.toList.drop 0 = dktX6_roadOf_0 := by decide +kernel
theorem dX6_roadOf_0 : decode cX6_roadOf 0 = .ok (.aload_n 0, 1) := dk_42 (dk_at dksX6_roadOf_0 0 rfl rfl)
theorem dX6_roadOf_1 : decode cX6_roadOf 1 = .ok (.getfield 67, 3) := dk_180 0 67 (dk_at dksX6_roadOf_0 1 rfl rfl)
theorem dX6_roadOf_4 : decode cX6_roadOf 4 = .ok (.bipush 80, 2) := dk_16 80 (dk_at dksX6_roadOf_0 4 rfl rfl)
theorem dX6_roadOf_6 : decode cX6_roadOf 6 = .ok (.iload_n 2, 1) := dk_28 (dk_at dksX6_roadOf_0 6 rfl rfl)
theorem dX6_roadOf_7 : decode cX6_roadOf 7 = .ok (.imul, 1) := dk_104 (dk_at dksX6_roadOf_0 7 rfl rfl)
theorem dX6_roadOf_8 : decode cX6_roadOf 8 = .ok (.iload_n 1, 1) := dk_27 (dk_at dksX6_roadOf_0 8 rfl rfl)
theorem dX6_roadOf_9 : decode cX6_roadOf 9 = .ok (.iadd, 1) := dk_96 (dk_at dksX6_roadOf_0 9 rfl rfl)
theorem dX6_roadOf_10 : decode cX6_roadOf 10 = .ok (.baload, 1) := dk_51 (dk_at dksX6_roadOf_0 10 rfl rfl)
theorem dX6_roadOf_11 : decode cX6_roadOf 11 = .ok (.ireturn, 1) := dk_172 (dk_at dksX6_roadOf_0 11 rfl rfl)
abbrev cX6_net : ByteArray := prog_12_method_83_code
def yX6_net : MethodName := ⟨RX6, "net", "(II)I"⟩
def dkwX6_net_1 : List UInt8 := [167, 0, 5, 16, 254, 172]
abbrev dktX6_net_1 : List UInt8 := dkwX6_net_1 ++ []
def dkwX6_net_0 : List UInt8 := [42, 28, 182, 1, 117, 153, 0, 21, 42, 27, 133, 182, 1, 54, 153, 0, 12, 42, 27, 28, 182, 1, 133]
abbrev dktX6_net_0 : List UInt8 := dkwX6_net_0 ++ dktX6_net_1
theorem dksX6_net_0 : cX6_net.data.toList.drop 0 = dktX6_net_0 := by decide +kernel
theorem dksX6_net_1 : cX6_net.data.toList.drop 23 = dktX6_net_1 := dk_seg dksX6_net_0 23 rfl rfl
theorem dX6_net_0 : decode cX6_net 0 = .ok (.aload_n 0, 1) := dk_42 (dk_at dksX6_net_0 0 rfl rfl)
theorem dX6_net_1 : decode cX6_net 1 = .ok (.iload_n 2, 1) := dk_28 (dk_at dksX6_net_0 1 rfl rfl)
theorem dX6_net_2 : decode cX6_net 2 = .ok (.invokevirtual 373, 3) := dk_182 1 117 (dk_at dksX6_net_0 2 rfl rfl)
theorem dX6_net_5 : decode cX6_net 5 = .ok (.ifCond .eq 21, 3) := dk_153 0 21 (dk_at dksX6_net_0 5 rfl rfl)
theorem dX6_net_8 : decode cX6_net 8 = .ok (.aload_n 0, 1) := dk_42 (dk_at dksX6_net_0 8 rfl rfl)
theorem dX6_net_9 : decode cX6_net 9 = .ok (.iload_n 1, 1) := dk_27 (dk_at dksX6_net_0 9 rfl rfl)
theorem dX6_net_10 : decode cX6_net 10 = .ok (.i2l, 1) := dk_133 (dk_at dksX6_net_0 10 rfl rfl)
theorem dX6_net_11 : decode cX6_net 11 = .ok (.invokevirtual 310, 3) := dk_182 1 54 (dk_at dksX6_net_0 11 rfl rfl)
theorem dX6_net_14 : decode cX6_net 14 = .ok (.ifCond .eq 12, 3) := dk_153 0 12 (dk_at dksX6_net_0 14 rfl rfl)
theorem dX6_net_17 : decode cX6_net 17 = .ok (.aload_n 0, 1) := dk_42 (dk_at dksX6_net_0 17 rfl rfl)
theorem dX6_net_18 : decode cX6_net 18 = .ok (.iload_n 1, 1) := dk_27 (dk_at dksX6_net_0 18 rfl rfl)
theorem dX6_net_19 : decode cX6_net 19 = .ok (.iload_n 2, 1) := dk_28 (dk_at dksX6_net_0 19 rfl rfl)
theorem dX6_net_20 : decode cX6_net 20 = .ok (.invokevirtual 389, 3) := dk_182 1 133 (dk_at dksX6_net_0 20 rfl rfl)
theorem dX6_net_23 : decode cX6_net 23 = .ok (.goto 5, 3) := dk_167 0 5 (dk_at dksX6_net_1 0 rfl rfl)
theorem dX6_net_26 : decode cX6_net 26 = .ok (.bipush (-2), 2) := dk_16 254 (dk_at dksX6_net_1 3 rfl rfl)
theorem dX6_net_28 : decode cX6_net 28 = .ok (.ireturn, 1) := dk_172 (dk_at dksX6_net_1 5 rfl rfl)
abbrev cX6_netOf : ByteArray := prog_12_method_82_code
def yX6_netOf : MethodName := ⟨RX6, "netOf", "(II)I"⟩
def dkwX6_netOf_2 : List UInt8 := [132, 4, 1, 167, 255, 227, 29, 172]
abbrev dktX6_netOf_2 : List UInt8 := dkwX6_netOf_2 ++ []
def dkwX6_netOf_1 : List UInt8 := [16, 80, 162, 0, 28, 29, 42, 180, 0, 76, 21, 4, 46, 2, 159, 0, 7, 4, 167, 0, 4, 3, 96, 62]
abbrev dktX6_netOf_1 : List UInt8 := dkwX6_netOf_1 ++ dktX6_netOf_2
def dkwX6_netOf_0 : List UInt8 := [42, 27, 28, 182, 1, 130, 154, 0, 5, 3, 172, 42, 27, 28, 182, 1, 123, 3, 62, 3, 54, 4, 21, 4]
abbrev dktX6_netOf_0 : List UInt8 := dkwX6_netOf_0 ++ dktX6_netOf_1
theorem dksX6_netOf_0 : cX6_netOf.data.toList.drop 0 = dktX6_netOf_0 := by decide +kernel
theorem dksX6_netOf_1 : cX6_netOf.data.toList.drop 24 = dktX6_netOf_1 := dk_seg dksX6_netOf_0 24 rfl rfl
theorem dksX6_netOf_2 : cX6_netOf.data.toList.drop 48 = dktX6_netOf_2 := dk_seg dksX6_netOf_1 24 rfl rfl
theorem dX6_netOf_0 : decode cX6_netOf 0 = .ok (.aload_n 0, 1) := dk_42 (dk_at dksX6_netOf_0 0 rfl rfl)
theorem dX6_netOf_1 : decode cX6_netOf 1 = .ok (.iload_n 1, 1) := dk_27 (dk_at dksX6_netOf_0 1 rfl rfl)
theorem dX6_netOf_2 : decode cX6_netOf 2 = .ok (.iload_n 2, 1) := dk_28 (dk_at dksX6_netOf_0 2 rfl rfl)
theorem dX6_netOf_3 : decode cX6_netOf 3 = .ok (.invokevirtual 386, 3) := dk_182 1 130 (dk_at dksX6_netOf_0 3 rfl rfl)
theorem dX6_netOf_6 : decode cX6_netOf 6 = .ok (.ifCond .ne 5, 3) := dk_154 0 5 (dk_at dksX6_netOf_0 6 rfl rfl)
theorem dX6_netOf_9 : decode cX6_netOf 9 = .ok (.iconst 0, 1) := dk_3 (dk_at dksX6_netOf_0 9 rfl rfl)
theorem dX6_netOf_10 : decode cX6_netOf 10 = .ok (.ireturn, 1) := dk_172 (dk_at dksX6_netOf_0 10 rfl rfl)
theorem dX6_netOf_11 : decode cX6_netOf 11 = .ok (.aload_n 0, 1) := dk_42 (dk_at dksX6_netOf_0 11 rfl rfl)
theorem dX6_netOf_12 : decode cX6_netOf 12 = .ok (.iload_n 1, 1) := dk_27 (dk_at dksX6_netOf_0 12 rfl rfl)
theorem dX6_netOf_13 : decode cX6_netOf 13 = .ok (.iload_n 2, 1) := dk_28 (dk_at dksX6_netOf_0 13 rfl rfl)
theorem dX6_netOf_14 : decode cX6_netOf 14 = .ok (.invokevirtual 379, 3) := dk_182 1 123 (dk_at dksX6_netOf_0 14 rfl rfl)
theorem dX6_netOf_17 : decode cX6_netOf 17 = .ok (.iconst 0, 1) := dk_3 (dk_at dksX6_netOf_0 17 rfl rfl)
theorem dX6_netOf_18 : decode cX6_netOf 18 = .ok (.istore_n 3, 1) := dk_62 (dk_at dksX6_netOf_0 18 rfl rfl)
theorem dX6_netOf_19 : decode cX6_netOf 19 = .ok (.iconst 0, 1) := dk_3 (dk_at dksX6_netOf_0 19 rfl rfl)
theorem dX6_netOf_20 : decode cX6_netOf 20 = .ok (.istore 4, 2) := dk_54 4 (dk_at dksX6_netOf_0 20 rfl rfl)
theorem dX6_netOf_22 : decode cX6_netOf 22 = .ok (.iload 4, 2) := dk_21 4 (dk_at dksX6_netOf_0 22 rfl rfl)
theorem dX6_netOf_24 : decode cX6_netOf 24 = .ok (.bipush 80, 2) := dk_16 80 (dk_at dksX6_netOf_1 0 rfl rfl)
theorem dX6_netOf_26 : decode cX6_netOf 26 = .ok (.if_icmp .ge 28, 3) := dk_162 0 28 (dk_at dksX6_netOf_1 2 rfl rfl)
theorem dX6_netOf_29 : decode cX6_netOf 29 = .ok (.iload_n 3, 1) := dk_29 (dk_at dksX6_netOf_1 5 rfl rfl)
theorem dX6_netOf_30 : decode cX6_netOf 30 = .ok (.aload_n 0, 1) := dk_42 (dk_at dksX6_netOf_1 6 rfl rfl)
theorem dX6_netOf_31 : decode cX6_netOf 31 = .ok (.getfield 76, 3) := dk_180 0 76 (dk_at dksX6_netOf_1 7 rfl rfl)
theorem dX6_netOf_34 : decode cX6_netOf 34 = .ok (.iload 4, 2) := dk_21 4 (dk_at dksX6_netOf_1 10 rfl rfl)
theorem dX6_netOf_36 : decode cX6_netOf 36 = .ok (.iaload, 1) := dk_46 (dk_at dksX6_netOf_1 12 rfl rfl)
theorem dX6_netOf_37 : decode cX6_netOf 37 = .ok (.iconst (-1), 1) := dk_2 (dk_at dksX6_netOf_1 13 rfl rfl)
theorem dX6_netOf_38 : decode cX6_netOf 38 = .ok (.if_icmp .eq 7, 3) := dk_159 0 7 (dk_at dksX6_netOf_1 14 rfl rfl)
theorem dX6_netOf_41 : decode cX6_netOf 41 = .ok (.iconst 1, 1) := dk_4 (dk_at dksX6_netOf_1 17 rfl rfl)
theorem dX6_netOf_42 : decode cX6_netOf 42 = .ok (.goto 4, 3) := dk_167 0 4 (dk_at dksX6_netOf_1 18 rfl rfl)
theorem dX6_netOf_45 : decode cX6_netOf 45 = .ok (.iconst 0, 1) := dk_3 (dk_at dksX6_netOf_1 21 rfl rfl)
theorem dX6_netOf_46 : decode cX6_netOf 46 = .ok (.iadd, 1) := dk_96 (dk_at dksX6_netOf_1 22 rfl rfl)
theorem dX6_netOf_47 : decode cX6_netOf 47 = .ok (.istore_n 3, 1) := dk_62 (dk_at dksX6_netOf_1 23 rfl rfl)
theorem dX6_netOf_48 : decode cX6_netOf 48 = .ok (.iinc 4 1, 3) := dk_132 4 1 (dk_at dksX6_netOf_2 0 rfl rfl)
theorem dX6_netOf_51 : decode cX6_netOf 51 = .ok (.goto (-29), 3) := dk_167 255 227 (dk_at dksX6_netOf_2 3 rfl rfl)
theorem dX6_netOf_54 : decode cX6_netOf 54 = .ok (.iload_n 3, 1) := dk_29 (dk_at dksX6_netOf_2 6 rfl rfl)
theorem dX6_netOf_55 : decode cX6_netOf 55 = .ok (.ireturn, 1) := dk_172 (dk_at dksX6_netOf_2 7 rfl rfl)
abbrev cX6_farthest : ByteArray := prog_12_method_84_code
def yX6_farthest : MethodName := ⟨RX6, "farthest", "(II)I"⟩
def dkwX6_farthest_4 : List UInt8 := [167, 255, 205, 29, 172]
abbrev dktX6_farthest_4 : List UInt8 := dkwX6_farthest_4 ++ []
def dkwX6_farthest_3 : List UInt8 := [21, 4, 46, 42, 180, 0, 76, 29, 46, 160, 0, 12, 21, 4, 29, 162, 0, 6, 21, 4, 62, 132, 4, 1]
abbrev dktX6_farthest_3 : List UInt8 := dkwX6_farthest_3 ++ dktX6_farthest_4
def dkwX6_farthest_2 : List UInt8 := [162, 0, 50, 42, 180, 0, 76, 21, 4, 46, 42, 180, 0, 76, 29, 46, 163, 0, 25, 42, 180, 0, 76]
abbrev dktX6_farthest_2 : List UInt8 := dkwX6_farthest_2 ++ dktX6_farthest_3
def dkwX6_farthest_1 : List UInt8 := [182, 1, 130, 154, 0, 5, 2, 172, 42, 27, 28, 182, 1, 123, 27, 62, 3, 54, 4, 21, 4, 16, 80]
abbrev dktX6_farthest_1 : List UInt8 := dkwX6_farthest_1 ++ dktX6_farthest_2
def dkwX6_farthest_0 : List UInt8 := [42, 28, 182, 1, 117, 153, 0, 12, 42, 27, 133, 182, 1, 54, 154, 0, 6, 16, 254, 172, 42, 27, 28]
abbrev dktX6_farthest_0 : List UInt8 := dkwX6_farthest_0 ++ dktX6_farthest_1
theorem dksX6_farthest_0 : cX6_farthest.data.toList.drop 0 = dktX6_farthest_0 := by decide +kernel
theorem dksX6_farthest_1 : cX6_farthest.data.toList.drop 23 = dktX6_farthest_1 := dk_seg dksX6_farthest_0 23 rfl rfl
theorem dksX6_farthest_2 : cX6_farthest.data.toList.drop 46 = dktX6_farthest_2 := dk_seg dksX6_farthest_1 23 rfl rfl
theorem dksX6_farthest_3 : cX6_farthest.data.toList.drop 69 = dktX6_farthest_3 := dk_seg dksX6_farthest_2 23 rfl rfl
theorem dksX6_farthest_4 : cX6_farthest.data.toList.drop 93 = dktX6_farthest_4 := dk_seg dksX6_farthest_3 24 rfl rfl
theorem dX6_farthest_0 : decode cX6_farthest 0 = .ok (.aload_n 0, 1) := dk_42 (dk_at dksX6_farthest_0 0 rfl rfl)
theorem dX6_farthest_1 : decode cX6_farthest 1 = .ok (.iload_n 2, 1) := dk_28 (dk_at dksX6_farthest_0 1 rfl rfl)
theorem dX6_farthest_2 : decode cX6_farthest 2 = .ok (.invokevirtual 373, 3) := dk_182 1 117 (dk_at dksX6_farthest_0 2 rfl rfl)
theorem dX6_farthest_5 : decode cX6_farthest 5 = .ok (.ifCond .eq 12, 3) := dk_153 0 12 (dk_at dksX6_farthest_0 5 rfl rfl)
theorem dX6_farthest_8 : decode cX6_farthest 8 = .ok (.aload_n 0, 1) := dk_42 (dk_at dksX6_farthest_0 8 rfl rfl)
theorem dX6_farthest_9 : decode cX6_farthest 9 = .ok (.iload_n 1, 1) := dk_27 (dk_at dksX6_farthest_0 9 rfl rfl)
theorem dX6_farthest_10 : decode cX6_farthest 10 = .ok (.i2l, 1) := dk_133 (dk_at dksX6_farthest_0 10 rfl rfl)
theorem dX6_farthest_11 : decode cX6_farthest 11 = .ok (.invokevirtual 310, 3) := dk_182 1 54 (dk_at dksX6_farthest_0 11 rfl rfl)
theorem dX6_farthest_14 : decode cX6_farthest 14 = .ok (.ifCond .ne 6, 3) := dk_154 0 6 (dk_at dksX6_farthest_0 14 rfl rfl)
theorem dX6_farthest_17 : decode cX6_farthest 17 = .ok (.bipush (-2), 2) := dk_16 254 (dk_at dksX6_farthest_0 17 rfl rfl)
theorem dX6_farthest_19 : decode cX6_farthest 19 = .ok (.ireturn, 1) := dk_172 (dk_at dksX6_farthest_0 19 rfl rfl)
theorem dX6_farthest_20 : decode cX6_farthest 20 = .ok (.aload_n 0, 1) := dk_42 (dk_at dksX6_farthest_0 20 rfl rfl)
theorem dX6_farthest_21 : decode cX6_farthest 21 = .ok (.iload_n 1, 1) := dk_27 (dk_at dksX6_farthest_0 21 rfl rfl)
theorem dX6_farthest_22 : decode cX6_farthest 22 = .ok (.iload_n 2, 1) := dk_28 (dk_at dksX6_farthest_0 22 rfl rfl)
theorem dX6_farthest_23 : decode cX6_farthest 23 = .ok (.invokevirtual 386, 3) := dk_182 1 130 (dk_at dksX6_farthest_1 0 rfl rfl)
theorem dX6_farthest_26 : decode cX6_farthest 26 = .ok (.ifCond .ne 5, 3) := dk_154 0 5 (dk_at dksX6_farthest_1 3 rfl rfl)
theorem dX6_farthest_29 : decode cX6_farthest 29 = .ok (.iconst (-1), 1) := dk_2 (dk_at dksX6_farthest_1 6 rfl rfl)
theorem dX6_farthest_30 : decode cX6_farthest 30 = .ok (.ireturn, 1) := dk_172 (dk_at dksX6_farthest_1 7 rfl rfl)
theorem dX6_farthest_31 : decode cX6_farthest 31 = .ok (.aload_n 0, 1) := dk_42 (dk_at dksX6_farthest_1 8 rfl rfl)
theorem dX6_farthest_32 : decode cX6_farthest 32 = .ok (.iload_n 1, 1) := dk_27 (dk_at dksX6_farthest_1 9 rfl rfl)
theorem dX6_farthest_33 : decode cX6_farthest 33 = .ok (.iload_n 2, 1) := dk_28 (dk_at dksX6_farthest_1 10 rfl rfl)
theorem dX6_farthest_34 : decode cX6_farthest 34 = .ok (.invokevirtual 379, 3) := dk_182 1 123 (dk_at dksX6_farthest_1 11 rfl rfl)
theorem dX6_farthest_37 : decode cX6_farthest 37 = .ok (.iload_n 1, 1) := dk_27 (dk_at dksX6_farthest_1 14 rfl rfl)
theorem dX6_farthest_38 : decode cX6_farthest 38 = .ok (.istore_n 3, 1) := dk_62 (dk_at dksX6_farthest_1 15 rfl rfl)
theorem dX6_farthest_39 : decode cX6_farthest 39 = .ok (.iconst 0, 1) := dk_3 (dk_at dksX6_farthest_1 16 rfl rfl)
theorem dX6_farthest_40 : decode cX6_farthest 40 = .ok (.istore 4, 2) := dk_54 4 (dk_at dksX6_farthest_1 17 rfl rfl)
theorem dX6_farthest_42 : decode cX6_farthest 42 = .ok (.iload 4, 2) := dk_21 4 (dk_at dksX6_farthest_1 19 rfl rfl)
theorem dX6_farthest_44 : decode cX6_farthest 44 = .ok (.bipush 80, 2) := dk_16 80 (dk_at dksX6_farthest_1 21 rfl rfl)
theorem dX6_farthest_46 : decode cX6_farthest 46 = .ok (.if_icmp .ge 50, 3) := dk_162 0 50 (dk_at dksX6_farthest_2 0 rfl rfl)
theorem dX6_farthest_49 : decode cX6_farthest 49 = .ok (.aload_n 0, 1) := dk_42 (dk_at dksX6_farthest_2 3 rfl rfl)
theorem dX6_farthest_50 : decode cX6_farthest 50 = .ok (.getfield 76, 3) := dk_180 0 76 (dk_at dksX6_farthest_2 4 rfl rfl)
theorem dX6_farthest_53 : decode cX6_farthest 53 = .ok (.iload 4, 2) := dk_21 4 (dk_at dksX6_farthest_2 7 rfl rfl)
theorem dX6_farthest_55 : decode cX6_farthest 55 = .ok (.iaload, 1) := dk_46 (dk_at dksX6_farthest_2 9 rfl rfl)
theorem dX6_farthest_56 : decode cX6_farthest 56 = .ok (.aload_n 0, 1) := dk_42 (dk_at dksX6_farthest_2 10 rfl rfl)
theorem dX6_farthest_57 : decode cX6_farthest 57 = .ok (.getfield 76, 3) := dk_180 0 76 (dk_at dksX6_farthest_2 11 rfl rfl)
theorem dX6_farthest_60 : decode cX6_farthest 60 = .ok (.iload_n 3, 1) := dk_29 (dk_at dksX6_farthest_2 14 rfl rfl)
theorem dX6_farthest_61 : decode cX6_farthest 61 = .ok (.iaload, 1) := dk_46 (dk_at dksX6_farthest_2 15 rfl rfl)
theorem dX6_farthest_62 : decode cX6_farthest 62 = .ok (.if_icmp .gt 25, 3) := dk_163 0 25 (dk_at dksX6_farthest_2 16 rfl rfl)
theorem dX6_farthest_65 : decode cX6_farthest 65 = .ok (.aload_n 0, 1) := dk_42 (dk_at dksX6_farthest_2 19 rfl rfl)
theorem dX6_farthest_66 : decode cX6_farthest 66 = .ok (.getfield 76, 3) := dk_180 0 76 (dk_at dksX6_farthest_2 20 rfl rfl)
theorem dX6_farthest_69 : decode cX6_farthest 69 = .ok (.iload 4, 2) := dk_21 4 (dk_at dksX6_farthest_3 0 rfl rfl)
theorem dX6_farthest_71 : decode cX6_farthest 71 = .ok (.iaload, 1) := dk_46 (dk_at dksX6_farthest_3 2 rfl rfl)
theorem dX6_farthest_72 : decode cX6_farthest 72 = .ok (.aload_n 0, 1) := dk_42 (dk_at dksX6_farthest_3 3 rfl rfl)
theorem dX6_farthest_73 : decode cX6_farthest 73 = .ok (.getfield 76, 3) := dk_180 0 76 (dk_at dksX6_farthest_3 4 rfl rfl)
theorem dX6_farthest_76 : decode cX6_farthest 76 = .ok (.iload_n 3, 1) := dk_29 (dk_at dksX6_farthest_3 7 rfl rfl)
theorem dX6_farthest_77 : decode cX6_farthest 77 = .ok (.iaload, 1) := dk_46 (dk_at dksX6_farthest_3 8 rfl rfl)
theorem dX6_farthest_78 : decode cX6_farthest 78 = .ok (.if_icmp .ne 12, 3) := dk_160 0 12 (dk_at dksX6_farthest_3 9 rfl rfl)
theorem dX6_farthest_81 : decode cX6_farthest 81 = .ok (.iload 4, 2) := dk_21 4 (dk_at dksX6_farthest_3 12 rfl rfl)
theorem dX6_farthest_83 : decode cX6_farthest 83 = .ok (.iload_n 3, 1) := dk_29 (dk_at dksX6_farthest_3 14 rfl rfl)
theorem dX6_farthest_84 : decode cX6_farthest 84 = .ok (.if_icmp .ge 6, 3) := dk_162 0 6 (dk_at dksX6_farthest_3 15 rfl rfl)
theorem dX6_farthest_87 : decode cX6_farthest 87 = .ok (.iload 4, 2) := dk_21 4 (dk_at dksX6_farthest_3 18 rfl rfl)
theorem dX6_farthest_89 : decode cX6_farthest 89 = .ok (.istore_n 3, 1) := dk_62 (dk_at dksX6_farthest_3 20 rfl rfl)
theorem dX6_farthest_90 : decode cX6_farthest 90 = .ok (.iinc 4 1, 3) := dk_132 4 1 (dk_at dksX6_farthest_3 21 rfl rfl)
theorem dX6_farthest_93 : decode cX6_farthest 93 = .ok (.goto (-51), 3) := dk_167 255 205 (dk_at dksX6_farthest_4 0 rfl rfl)
theorem dX6_farthest_96 : decode cX6_farthest 96 = .ok (.iload_n 3, 1) := dk_29 (dk_at dksX6_farthest_4 3 rfl rfl)
theorem dX6_farthest_97 : decode cX6_farthest 97 = .ok (.ireturn, 1) := dk_172 (dk_at dksX6_farthest_4 4 rfl rfl)
abbrev cX6_road : ByteArray := prog_12_method_85_code
def yX6_road : MethodName := ⟨RX6, "road", "(II)I"⟩
def dkwX6_road_1 : List UInt8 := [182, 1, 130, 153, 0, 7, 4, 167, 0, 4, 3, 172]
abbrev dktX6_road_1 : List UInt8 := dkwX6_road_1 ++ []
def dkwX6_road_0 : List UInt8 := [42, 28, 182, 1, 117, 153, 0, 12, 42, 27, 133, 182, 1, 54, 154, 0, 6, 16, 254, 172, 42, 27, 28]
abbrev dktX6_road_0 : List UInt8 := dkwX6_road_0 ++ dktX6_road_1
theorem dksX6_road_0 : cX6_road.data.toList.drop 0 = dktX6_road_0 := by decide +kernel
theorem dksX6_road_1 : cX6_road.data.toList.drop 23 = dktX6_road_1 := dk_seg dksX6_road_0 23 rfl rfl
theorem dX6_road_0 : decode cX6_road 0 = .ok (.aload_n 0, 1) := dk_42 (dk_at dksX6_road_0 0 rfl rfl)
theorem dX6_road_1 : decode cX6_road 1 = .ok (.iload_n 2, 1) := dk_28 (dk_at dksX6_road_0 1 rfl rfl)
theorem dX6_road_2 : decode cX6_road 2 = .ok (.invokevirtual 373, 3) := dk_182 1 117 (dk_at dksX6_road_0 2 rfl rfl)
theorem dX6_road_5 : decode cX6_road 5 = .ok (.ifCond .eq 12, 3) := dk_153 0 12 (dk_at dksX6_road_0 5 rfl rfl)
theorem dX6_road_8 : decode cX6_road 8 = .ok (.aload_n 0, 1) := dk_42 (dk_at dksX6_road_0 8 rfl rfl)
theorem dX6_road_9 : decode cX6_road 9 = .ok (.iload_n 1, 1) := dk_27 (dk_at dksX6_road_0 9 rfl rfl)
theorem dX6_road_10 : decode cX6_road 10 = .ok (.i2l, 1) := dk_133 (dk_at dksX6_road_0 10 rfl rfl)
theorem dX6_road_11 : decode cX6_road 11 = .ok (.invokevirtual 310, 3) := dk_182 1 54 (dk_at dksX6_road_0 11 rfl rfl)
theorem dX6_road_14 : decode cX6_road 14 = .ok (.ifCond .ne 6, 3) := dk_154 0 6 (dk_at dksX6_road_0 14 rfl rfl)
theorem dX6_road_17 : decode cX6_road 17 = .ok (.bipush (-2), 2) := dk_16 254 (dk_at dksX6_road_0 17 rfl rfl)
theorem dX6_road_19 : decode cX6_road 19 = .ok (.ireturn, 1) := dk_172 (dk_at dksX6_road_0 19 rfl rfl)
theorem dX6_road_20 : decode cX6_road 20 = .ok (.aload_n 0, 1) := dk_42 (dk_at dksX6_road_0 20 rfl rfl)
theorem dX6_road_21 : decode cX6_road 21 = .ok (.iload_n 1, 1) := dk_27 (dk_at dksX6_road_0 21 rfl rfl)
theorem dX6_road_22 : decode cX6_road 22 = .ok (.iload_n 2, 1) := dk_28 (dk_at dksX6_road_0 22 rfl rfl)
theorem dX6_road_23 : decode cX6_road 23 = .ok (.invokevirtual 386, 3) := dk_182 1 130 (dk_at dksX6_road_1 0 rfl rfl)
theorem dX6_road_26 : decode cX6_road 26 = .ok (.ifCond .eq 7, 3) := dk_153 0 7 (dk_at dksX6_road_1 3 rfl rfl)
theorem dX6_road_29 : decode cX6_road 29 = .ok (.iconst 1, 1) := dk_4 (dk_at dksX6_road_1 6 rfl rfl)
theorem dX6_road_30 : decode cX6_road 30 = .ok (.goto 4, 3) := dk_167 0 4 (dk_at dksX6_road_1 7 rfl rfl)
theorem dX6_road_33 : decode cX6_road 33 = .ok (.iconst 0, 1) := dk_3 (dk_at dksX6_road_1 10 rfl rfl)
theorem dX6_road_34 : decode cX6_road 34 = .ok (.ireturn, 1) := dk_172 (dk_at dksX6_road_1 11 rfl rfl)
abbrev cX6_roads : ByteArray := prog_12_method_87_code
def yX6_roads : MethodName := ⟨RX6, "roads", "(I)I"⟩
def dkwX6_roads_0 : List UInt8 := [42, 27, 182, 1, 117, 153, 0, 11, 42, 27, 182, 1, 136, 167, 0, 5, 16, 254, 172]
abbrev dktX6_roads_0 : List UInt8 := dkwX6_roads_0 ++ []
theorem dksX6_roads_0 : cX6_roads.data.toList.drop 0 = dktX6_roads_0 := by decide +kernel
theorem dX6_roads_0 : decode cX6_roads 0 = .ok (.aload_n 0, 1) := dk_42 (dk_at dksX6_roads_0 0 rfl rfl)
theorem dX6_roads_1 : decode cX6_roads 1 = .ok (.iload_n 1, 1) := dk_27 (dk_at dksX6_roads_0 1 rfl rfl)
theorem dX6_roads_2 : decode cX6_roads 2 = .ok (.invokevirtual 373, 3) := dk_182 1 117 (dk_at dksX6_roads_0 2 rfl rfl)
theorem dX6_roads_5 : decode cX6_roads 5 = .ok (.ifCond .eq 11, 3) := dk_153 0 11 (dk_at dksX6_roads_0 5 rfl rfl)
theorem dX6_roads_8 : decode cX6_roads 8 = .ok (.aload_n 0, 1) := dk_42 (dk_at dksX6_roads_0 8 rfl rfl)
theorem dX6_roads_9 : decode cX6_roads 9 = .ok (.iload_n 1, 1) := dk_27 (dk_at dksX6_roads_0 9 rfl rfl)
theorem dX6_roads_10 : decode cX6_roads 10 = .ok (.invokevirtual 392, 3) := dk_182 1 136 (dk_at dksX6_roads_0 10 rfl rfl)
theorem dX6_roads_13 : decode cX6_roads 13 = .ok (.goto 5, 3) := dk_167 0 5 (dk_at dksX6_roads_0 13 rfl rfl)
theorem dX6_roads_16 : decode cX6_roads 16 = .ok (.bipush (-2), 2) := dk_16 254 (dk_at dksX6_roads_0 16 rfl rfl)
theorem dX6_roads_18 : decode cX6_roads 18 = .ok (.ireturn, 1) := dk_172 (dk_at dksX6_roads_0 18 rfl rfl)
abbrev cX6_roadMany : ByteArray := prog_12_method_86_code
def yX6_roadMany : MethodName := ⟨RX6, "roadMany", "(I)I"⟩
def dkwX6_roadMany_1 : List UInt8 := [3, 96, 61, 132, 3, 1, 167, 255, 230, 28, 172]
abbrev dktX6_roadMany_1 : List UInt8 := dkwX6_roadMany_1 ++ []
def dkwX6_roadMany_0 : List UInt8 := [3, 61, 3, 62, 29, 16, 80, 162, 0, 26, 28, 42, 29, 27, 182, 1, 130, 153, 0, 7, 4, 167, 0, 4]
abbrev dktX6_roadMany_0 : List UInt8 := dkwX6_roadMany_0 ++ dktX6_roadMany_1
theorem dksX6_roadMany_0 : cX6_roadMany.data.toList.drop 0 = dktX6_roadMany_0 := by decide +kernel
theorem dksX6_roadMany_1 : cX6_roadMany.data.toList.drop 24 = dktX6_roadMany_1 := dk_seg dksX6_roadMany_0 24 rfl rfl
theorem dX6_roadMany_0 : decode cX6_roadMany 0 = .ok (.iconst 0, 1) := dk_3 (dk_at dksX6_roadMany_0 0 rfl rfl)
theorem dX6_roadMany_1 : decode cX6_roadMany 1 = .ok (.istore_n 2, 1) := dk_61 (dk_at dksX6_roadMany_0 1 rfl rfl)
theorem dX6_roadMany_2 : decode cX6_roadMany 2 = .ok (.iconst 0, 1) := dk_3 (dk_at dksX6_roadMany_0 2 rfl rfl)
theorem dX6_roadMany_3 : decode cX6_roadMany 3 = .ok (.istore_n 3, 1) := dk_62 (dk_at dksX6_roadMany_0 3 rfl rfl)
theorem dX6_roadMany_4 : decode cX6_roadMany 4 = .ok (.iload_n 3, 1) := dk_29 (dk_at dksX6_roadMany_0 4 rfl rfl)
theorem dX6_roadMany_5 : decode cX6_roadMany 5 = .ok (.bipush 80, 2) := dk_16 80 (dk_at dksX6_roadMany_0 5 rfl rfl)
theorem dX6_roadMany_7 : decode cX6_roadMany 7 = .ok (.if_icmp .ge 26, 3) := dk_162 0 26 (dk_at dksX6_roadMany_0 7 rfl rfl)
theorem dX6_roadMany_10 : decode cX6_roadMany 10 = .ok (.iload_n 2, 1) := dk_28 (dk_at dksX6_roadMany_0 10 rfl rfl)
theorem dX6_roadMany_11 : decode cX6_roadMany 11 = .ok (.aload_n 0, 1) := dk_42 (dk_at dksX6_roadMany_0 11 rfl rfl)
theorem dX6_roadMany_12 : decode cX6_roadMany 12 = .ok (.iload_n 3, 1) := dk_29 (dk_at dksX6_roadMany_0 12 rfl rfl)
theorem dX6_roadMany_13 : decode cX6_roadMany 13 = .ok (.iload_n 1, 1) := dk_27 (dk_at dksX6_roadMany_0 13 rfl rfl)
theorem dX6_roadMany_14 : decode cX6_roadMany 14 = .ok (.invokevirtual 386, 3) := dk_182 1 130 (dk_at dksX6_roadMany_0 14 rfl rfl)
theorem dX6_roadMany_17 : decode cX6_roadMany 17 = .ok (.ifCond .eq 7, 3) := dk_153 0 7 (dk_at dksX6_roadMany_0 17 rfl rfl)
theorem dX6_roadMany_20 : decode cX6_roadMany 20 = .ok (.iconst 1, 1) := dk_4 (dk_at dksX6_roadMany_0 20 rfl rfl)
theorem dX6_roadMany_21 : decode cX6_roadMany 21 = .ok (.goto 4, 3) := dk_167 0 4 (dk_at dksX6_roadMany_0 21 rfl rfl)
theorem dX6_roadMany_24 : decode cX6_roadMany 24 = .ok (.iconst 0, 1) := dk_3 (dk_at dksX6_roadMany_1 0 rfl rfl)
theorem dX6_roadMany_25 : decode cX6_roadMany 25 = .ok (.iadd, 1) := dk_96 (dk_at dksX6_roadMany_1 1 rfl rfl)
theorem dX6_roadMany_26 : decode cX6_roadMany 26 = .ok (.istore_n 2, 1) := dk_61 (dk_at dksX6_roadMany_1 2 rfl rfl)
theorem dX6_roadMany_27 : decode cX6_roadMany 27 = .ok (.iinc 3 1, 3) := dk_132 3 1 (dk_at dksX6_roadMany_1 3 rfl rfl)
theorem dX6_roadMany_30 : decode cX6_roadMany 30 = .ok (.goto (-26), 3) := dk_167 255 230 (dk_at dksX6_roadMany_1 6 rfl rfl)
theorem dX6_roadMany_33 : decode cX6_roadMany 33 = .ok (.iload_n 2, 1) := dk_28 (dk_at dksX6_roadMany_1 9 rfl rfl)
theorem dX6_roadMany_34 : decode cX6_roadMany 34 = .ok (.ireturn, 1) := dk_172 (dk_at dksX6_roadMany_1 10 rfl rfl)
abbrev cX6_pegs : ByteArray := prog_12_method_88_code
def yX6_pegs : MethodName := ⟨RX6, "pegs", "(I)I"⟩
def dkwX6_pegs_0 : List UInt8 := [42, 27, 182, 1, 117, 153, 0, 11, 42, 27, 182, 1, 94, 167, 0, 5, 16, 254, 172]
abbrev dktX6_pegs_0 : List UInt8 := dkwX6_pegs_0 ++ []
theorem dksX6_pegs_0 : cX6_pegs.data.toList.drop 0 = dktX6_pegs_0 := by decide +kernel
theorem dX6_pegs_0 : decode cX6_pegs 0 = .ok (.aload_n 0, 1) := dk_42 (dk_at dksX6_pegs_0 0 rfl rfl)
theorem dX6_pegs_1 : decode cX6_pegs 1 = .ok (.iload_n 1, 1) := dk_27 (dk_at dksX6_pegs_0 1 rfl rfl)
theorem dX6_pegs_2 : decode cX6_pegs 2 = .ok (.invokevirtual 373, 3) := dk_182 1 117 (dk_at dksX6_pegs_0 2 rfl rfl)
theorem dX6_pegs_5 : decode cX6_pegs 5 = .ok (.ifCond .eq 11, 3) := dk_153 0 11 (dk_at dksX6_pegs_0 5 rfl rfl)
theorem dX6_pegs_8 : decode cX6_pegs 8 = .ok (.aload_n 0, 1) := dk_42 (dk_at dksX6_pegs_0 8 rfl rfl)
theorem dX6_pegs_9 : decode cX6_pegs 9 = .ok (.iload_n 1, 1) := dk_27 (dk_at dksX6_pegs_0 9 rfl rfl)
theorem dX6_pegs_10 : decode cX6_pegs 10 = .ok (.invokevirtual 350, 3) := dk_182 1 94 (dk_at dksX6_pegs_0 10 rfl rfl)
theorem dX6_pegs_13 : decode cX6_pegs 13 = .ok (.goto 5, 3) := dk_167 0 5 (dk_at dksX6_pegs_0 13 rfl rfl)
theorem dX6_pegs_16 : decode cX6_pegs 16 = .ok (.bipush (-2), 2) := dk_16 254 (dk_at dksX6_pegs_0 16 rfl rfl)
theorem dX6_pegs_18 : decode cX6_pegs 18 = .ok (.ireturn, 1) := dk_172 (dk_at dksX6_pegs_0 18 rfl rfl)
abbrev cX6_pegMany : ByteArray := prog_12_method_63_code
def yX6_pegMany : MethodName := ⟨RX6, "pegMany", "(I)I"⟩
def dkwX6_pegMany_1 : List UInt8 := [132, 3, 1, 167, 255, 235, 28, 5, 108, 172]
abbrev dktX6_pegMany_1 : List UInt8 := dkwX6_pegMany_1 ++ []
def dkwX6_pegMany_0 : List UInt8 := [3, 61, 3, 62, 29, 16, 80, 162, 0, 21, 28, 42, 29, 27, 182, 1, 88, 184, 1, 91, 96, 61]
abbrev dktX6_pegMany_0 : List UInt8 := dkwX6_pegMany_0 ++ dktX6_pegMany_1
theorem dksX6_pegMany_0 : cX6_pegMany.data.toList.drop 0 = dktX6_pegMany_0 := by decide +kernel
theorem dksX6_pegMany_1 : cX6_pegMany.data.toList.drop 22 = dktX6_pegMany_1 := dk_seg dksX6_pegMany_0 22 rfl rfl
theorem dX6_pegMany_0 : decode cX6_pegMany 0 = .ok (.iconst 0, 1) := dk_3 (dk_at dksX6_pegMany_0 0 rfl rfl)
theorem dX6_pegMany_1 : decode cX6_pegMany 1 = .ok (.istore_n 2, 1) := dk_61 (dk_at dksX6_pegMany_0 1 rfl rfl)
theorem dX6_pegMany_2 : decode cX6_pegMany 2 = .ok (.iconst 0, 1) := dk_3 (dk_at dksX6_pegMany_0 2 rfl rfl)
theorem dX6_pegMany_3 : decode cX6_pegMany 3 = .ok (.istore_n 3, 1) := dk_62 (dk_at dksX6_pegMany_0 3 rfl rfl)
theorem dX6_pegMany_4 : decode cX6_pegMany 4 = .ok (.iload_n 3, 1) := dk_29 (dk_at dksX6_pegMany_0 4 rfl rfl)
theorem dX6_pegMany_5 : decode cX6_pegMany 5 = .ok (.bipush 80, 2) := dk_16 80 (dk_at dksX6_pegMany_0 5 rfl rfl)
theorem dX6_pegMany_7 : decode cX6_pegMany 7 = .ok (.if_icmp .ge 21, 3) := dk_162 0 21 (dk_at dksX6_pegMany_0 7 rfl rfl)
theorem dX6_pegMany_10 : decode cX6_pegMany 10 = .ok (.iload_n 2, 1) := dk_28 (dk_at dksX6_pegMany_0 10 rfl rfl)
theorem dX6_pegMany_11 : decode cX6_pegMany 11 = .ok (.aload_n 0, 1) := dk_42 (dk_at dksX6_pegMany_0 11 rfl rfl)
theorem dX6_pegMany_12 : decode cX6_pegMany 12 = .ok (.iload_n 3, 1) := dk_29 (dk_at dksX6_pegMany_0 12 rfl rfl)
theorem dX6_pegMany_13 : decode cX6_pegMany 13 = .ok (.iload_n 1, 1) := dk_27 (dk_at dksX6_pegMany_0 13 rfl rfl)
theorem dX6_pegMany_14 : decode cX6_pegMany 14 = .ok (.invokevirtual 344, 3) := dk_182 1 88 (dk_at dksX6_pegMany_0 14 rfl rfl)
theorem dX6_pegMany_17 : decode cX6_pegMany 17 = .ok (.invokestatic 347, 3) := dk_184 1 91 (dk_at dksX6_pegMany_0 17 rfl rfl)
theorem dX6_pegMany_20 : decode cX6_pegMany 20 = .ok (.iadd, 1) := dk_96 (dk_at dksX6_pegMany_0 20 rfl rfl)
theorem dX6_pegMany_21 : decode cX6_pegMany 21 = .ok (.istore_n 2, 1) := dk_61 (dk_at dksX6_pegMany_0 21 rfl rfl)
theorem dX6_pegMany_22 : decode cX6_pegMany 22 = .ok (.iinc 3 1, 3) := dk_132 3 1 (dk_at dksX6_pegMany_1 0 rfl rfl)
theorem dX6_pegMany_25 : decode cX6_pegMany 25 = .ok (.goto (-21), 3) := dk_167 255 235 (dk_at dksX6_pegMany_1 3 rfl rfl)
theorem dX6_pegMany_28 : decode cX6_pegMany 28 = .ok (.iload_n 2, 1) := dk_28 (dk_at dksX6_pegMany_1 6 rfl rfl)
theorem dX6_pegMany_29 : decode cX6_pegMany 29 = .ok (.iconst 2, 1) := dk_5 (dk_at dksX6_pegMany_1 7 rfl rfl)
theorem dX6_pegMany_30 : decode cX6_pegMany 30 = .ok (.idiv, 1) := dk_108 (dk_at dksX6_pegMany_1 8 rfl rfl)
theorem dX6_pegMany_31 : decode cX6_pegMany 31 = .ok (.ireturn, 1) := dk_172 (dk_at dksX6_pegMany_1 9 rfl rfl)
abbrev cX6_bits : ByteArray := prog_12_method_4_code
def yX6_bits : MethodName := ⟨RX6, "bits", "(I)I"⟩
def dkwX6_bits_1 : List UInt8 := [27, 172]
abbrev dktX6_bits_1 : List UInt8 := dkwX6_bits_1 ++ []
def dkwX6_bits_0 : List UInt8 := [3, 60, 3, 61, 28, 16, 16, 162, 0, 17, 27, 26, 28, 122, 4, 126, 96, 60, 132, 2, 1, 167, 255, 239]
abbrev dktX6_bits_0 : List UInt8 := dkwX6_bits_0 ++ dktX6_bits_1
theorem dksX6_bits_0 : cX6_bits.data.toList.drop 0 = dktX6_bits_0 := by decide +kernel
theorem dksX6_bits_1 : cX6_bits.data.toList.drop 24 = dktX6_bits_1 := dk_seg dksX6_bits_0 24 rfl rfl
theorem dX6_bits_0 : decode cX6_bits 0 = .ok (.iconst 0, 1) := dk_3 (dk_at dksX6_bits_0 0 rfl rfl)
theorem dX6_bits_1 : decode cX6_bits 1 = .ok (.istore_n 1, 1) := dk_60 (dk_at dksX6_bits_0 1 rfl rfl)
theorem dX6_bits_2 : decode cX6_bits 2 = .ok (.iconst 0, 1) := dk_3 (dk_at dksX6_bits_0 2 rfl rfl)
theorem dX6_bits_3 : decode cX6_bits 3 = .ok (.istore_n 2, 1) := dk_61 (dk_at dksX6_bits_0 3 rfl rfl)
theorem dX6_bits_4 : decode cX6_bits 4 = .ok (.iload_n 2, 1) := dk_28 (dk_at dksX6_bits_0 4 rfl rfl)
theorem dX6_bits_5 : decode cX6_bits 5 = .ok (.bipush 16, 2) := dk_16 16 (dk_at dksX6_bits_0 5 rfl rfl)
theorem dX6_bits_7 : decode cX6_bits 7 = .ok (.if_icmp .ge 17, 3) := dk_162 0 17 (dk_at dksX6_bits_0 7 rfl rfl)
theorem dX6_bits_10 : decode cX6_bits 10 = .ok (.iload_n 1, 1) := dk_27 (dk_at dksX6_bits_0 10 rfl rfl)
theorem dX6_bits_11 : decode cX6_bits 11 = .ok (.iload_n 0, 1) := dk_26 (dk_at dksX6_bits_0 11 rfl rfl)
theorem dX6_bits_12 : decode cX6_bits 12 = .ok (.iload_n 2, 1) := dk_28 (dk_at dksX6_bits_0 12 rfl rfl)
theorem dX6_bits_13 : decode cX6_bits 13 = .ok (.ishr, 1) := dk_122 (dk_at dksX6_bits_0 13 rfl rfl)
theorem dX6_bits_14 : decode cX6_bits 14 = .ok (.iconst 1, 1) := dk_4 (dk_at dksX6_bits_0 14 rfl rfl)
theorem dX6_bits_15 : decode cX6_bits 15 = .ok (.iand, 1) := dk_126 (dk_at dksX6_bits_0 15 rfl rfl)
theorem dX6_bits_16 : decode cX6_bits 16 = .ok (.iadd, 1) := dk_96 (dk_at dksX6_bits_0 16 rfl rfl)
theorem dX6_bits_17 : decode cX6_bits 17 = .ok (.istore_n 1, 1) := dk_60 (dk_at dksX6_bits_0 17 rfl rfl)
theorem dX6_bits_18 : decode cX6_bits 18 = .ok (.iinc 2 1, 3) := dk_132 2 1 (dk_at dksX6_bits_0 18 rfl rfl)
theorem dX6_bits_21 : decode cX6_bits 21 = .ok (.goto (-17), 3) := dk_167 255 239 (dk_at dksX6_bits_0 21 rfl rfl)
theorem dX6_bits_24 : decode cX6_bits 24 = .ok (.iload_n 1, 1) := dk_27 (dk_at dksX6_bits_1 0 rfl rfl)
theorem dX6_bits_25 : decode cX6_bits 25 = .ok (.ireturn, 1) := dk_172 (dk_at dksX6_bits_1 1 rfl rfl)
abbrev cX6_joins : ByteArray := prog_12_method_89_code
def yX6_joins : MethodName := ⟨RX6, "joins", "(II)I"⟩
def dkwX6_joins_1 : List UInt8 := [167, 0, 5, 16, 254, 172]
abbrev dktX6_joins_1 : List UInt8 := dkwX6_joins_1 ++ []
def dkwX6_joins_0 : List UInt8 := [42, 28, 182, 1, 117, 153, 0, 21, 42, 27, 133, 182, 1, 54, 153, 0, 12, 42, 27, 28, 182, 1, 88]
abbrev dktX6_joins_0 : List UInt8 := dkwX6_joins_0 ++ dktX6_joins_1
theorem dksX6_joins_0 : cX6_joins.data.toList.drop 0 = dktX6_joins_0 := by decide +kernel
theorem dksX6_joins_1 : cX6_joins.data.toList.drop 23 = dktX6_joins_1 := dk_seg dksX6_joins_0 23 rfl rfl
theorem dX6_joins_0 : decode cX6_joins 0 = .ok (.aload_n 0, 1) := dk_42 (dk_at dksX6_joins_0 0 rfl rfl)
theorem dX6_joins_1 : decode cX6_joins 1 = .ok (.iload_n 2, 1) := dk_28 (dk_at dksX6_joins_0 1 rfl rfl)
theorem dX6_joins_2 : decode cX6_joins 2 = .ok (.invokevirtual 373, 3) := dk_182 1 117 (dk_at dksX6_joins_0 2 rfl rfl)
theorem dX6_joins_5 : decode cX6_joins 5 = .ok (.ifCond .eq 21, 3) := dk_153 0 21 (dk_at dksX6_joins_0 5 rfl rfl)
theorem dX6_joins_8 : decode cX6_joins 8 = .ok (.aload_n 0, 1) := dk_42 (dk_at dksX6_joins_0 8 rfl rfl)
theorem dX6_joins_9 : decode cX6_joins 9 = .ok (.iload_n 1, 1) := dk_27 (dk_at dksX6_joins_0 9 rfl rfl)
theorem dX6_joins_10 : decode cX6_joins 10 = .ok (.i2l, 1) := dk_133 (dk_at dksX6_joins_0 10 rfl rfl)
theorem dX6_joins_11 : decode cX6_joins 11 = .ok (.invokevirtual 310, 3) := dk_182 1 54 (dk_at dksX6_joins_0 11 rfl rfl)
theorem dX6_joins_14 : decode cX6_joins 14 = .ok (.ifCond .eq 12, 3) := dk_153 0 12 (dk_at dksX6_joins_0 14 rfl rfl)
theorem dX6_joins_17 : decode cX6_joins 17 = .ok (.aload_n 0, 1) := dk_42 (dk_at dksX6_joins_0 17 rfl rfl)
theorem dX6_joins_18 : decode cX6_joins 18 = .ok (.iload_n 1, 1) := dk_27 (dk_at dksX6_joins_0 18 rfl rfl)
theorem dX6_joins_19 : decode cX6_joins 19 = .ok (.iload_n 2, 1) := dk_28 (dk_at dksX6_joins_0 19 rfl rfl)
theorem dX6_joins_20 : decode cX6_joins 20 = .ok (.invokevirtual 344, 3) := dk_182 1 88 (dk_at dksX6_joins_0 20 rfl rfl)
theorem dX6_joins_23 : decode cX6_joins 23 = .ok (.goto 5, 3) := dk_167 0 5 (dk_at dksX6_joins_1 0 rfl rfl)
theorem dX6_joins_26 : decode cX6_joins 26 = .ok (.bipush (-2), 2) := dk_16 254 (dk_at dksX6_joins_1 3 rfl rfl)
theorem dX6_joins_28 : decode cX6_joins 28 = .ok (.ireturn, 1) := dk_172 (dk_at dksX6_joins_1 5 rfl rfl)
abbrev cX6_corners : ByteArray := prog_12_method_90_code
def yX6_corners : MethodName := ⟨RX6, "corners", "(II)I"⟩
def dkwX6_corners_3 : List UInt8 := [167, 255, 214, 29, 172]
abbrev dktX6_corners_3 : List UInt8 := dkwX6_corners_3 ++ []
def dkwX6_corners_2 : List UInt8 := [21, 4, 28, 182, 1, 88, 184, 1, 91, 27, 160, 0, 7, 4, 167, 0, 4, 3, 96, 62, 132, 4, 1]
abbrev dktX6_corners_2 : List UInt8 := dkwX6_corners_2 ++ dktX6_corners_3
def dkwX6_corners_1 : List UInt8 := [62, 3, 54, 4, 21, 4, 16, 80, 162, 0, 41, 29, 42, 21, 4, 28, 182, 1, 130, 153, 0, 21, 42]
abbrev dktX6_corners_1 : List UInt8 := dkwX6_corners_1 ++ dktX6_corners_2
def dkwX6_corners_0 : List UInt8 := [42, 28, 182, 1, 117, 153, 0, 15, 27, 133, 9, 20, 1, 9, 184, 0, 106, 154, 0, 6, 16, 254, 172, 3]
abbrev dktX6_corners_0 : List UInt8 := dkwX6_corners_0 ++ dktX6_corners_1
theorem dksX6_corners_0 : cX6_corners.data.toList.drop 0 = dktX6_corners_0 := by decide +kernel
theorem dksX6_corners_1 : cX6_corners.data.toList.drop 24 = dktX6_corners_1 := dk_seg dksX6_corners_0 24 rfl rfl
theorem dksX6_corners_2 : cX6_corners.data.toList.drop 47 = dktX6_corners_2 := dk_seg dksX6_corners_1 23 rfl rfl
theorem dksX6_corners_3 : cX6_corners.data.toList.drop 70 = dktX6_corners_3 := dk_seg dksX6_corners_2 23 rfl rfl
theorem dX6_corners_0 : decode cX6_corners 0 = .ok (.aload_n 0, 1) := dk_42 (dk_at dksX6_corners_0 0 rfl rfl)
theorem dX6_corners_1 : decode cX6_corners 1 = .ok (.iload_n 2, 1) := dk_28 (dk_at dksX6_corners_0 1 rfl rfl)
theorem dX6_corners_2 : decode cX6_corners 2 = .ok (.invokevirtual 373, 3) := dk_182 1 117 (dk_at dksX6_corners_0 2 rfl rfl)
theorem dX6_corners_5 : decode cX6_corners 5 = .ok (.ifCond .eq 15, 3) := dk_153 0 15 (dk_at dksX6_corners_0 5 rfl rfl)
theorem dX6_corners_8 : decode cX6_corners 8 = .ok (.iload_n 1, 1) := dk_27 (dk_at dksX6_corners_0 8 rfl rfl)
theorem dX6_corners_9 : decode cX6_corners 9 = .ok (.i2l, 1) := dk_133 (dk_at dksX6_corners_0 9 rfl rfl)
theorem dX6_corners_10 : decode cX6_corners 10 = .ok (.lconst 0, 1) := dk_9 (dk_at dksX6_corners_0 10 rfl rfl)
theorem dX6_corners_11 : decode cX6_corners 11 = .ok (.ldc2_w 265, 3) := dk_20 1 9 (dk_at dksX6_corners_0 11 rfl rfl)
theorem dX6_corners_14 : decode cX6_corners 14 = .ok (.invokestatic 106, 3) := dk_184 0 106 (dk_at dksX6_corners_0 14 rfl rfl)
theorem dX6_corners_17 : decode cX6_corners 17 = .ok (.ifCond .ne 6, 3) := dk_154 0 6 (dk_at dksX6_corners_0 17 rfl rfl)
theorem dX6_corners_20 : decode cX6_corners 20 = .ok (.bipush (-2), 2) := dk_16 254 (dk_at dksX6_corners_0 20 rfl rfl)
theorem dX6_corners_22 : decode cX6_corners 22 = .ok (.ireturn, 1) := dk_172 (dk_at dksX6_corners_0 22 rfl rfl)
theorem dX6_corners_23 : decode cX6_corners 23 = .ok (.iconst 0, 1) := dk_3 (dk_at dksX6_corners_0 23 rfl rfl)
theorem dX6_corners_24 : decode cX6_corners 24 = .ok (.istore_n 3, 1) := dk_62 (dk_at dksX6_corners_1 0 rfl rfl)
theorem dX6_corners_25 : decode cX6_corners 25 = .ok (.iconst 0, 1) := dk_3 (dk_at dksX6_corners_1 1 rfl rfl)
theorem dX6_corners_26 : decode cX6_corners 26 = .ok (.istore 4, 2) := dk_54 4 (dk_at dksX6_corners_1 2 rfl rfl)
theorem dX6_corners_28 : decode cX6_corners 28 = .ok (.iload 4, 2) := dk_21 4 (dk_at dksX6_corners_1 4 rfl rfl)
theorem dX6_corners_30 : decode cX6_corners 30 = .ok (.bipush 80, 2) := dk_16 80 (dk_at dksX6_corners_1 6 rfl rfl)
theorem dX6_corners_32 : decode cX6_corners 32 = .ok (.if_icmp .ge 41, 3) := dk_162 0 41 (dk_at dksX6_corners_1 8 rfl rfl)
theorem dX6_corners_35 : decode cX6_corners 35 = .ok (.iload_n 3, 1) := dk_29 (dk_at dksX6_corners_1 11 rfl rfl)
theorem dX6_corners_36 : decode cX6_corners 36 = .ok (.aload_n 0, 1) := dk_42 (dk_at dksX6_corners_1 12 rfl rfl)
theorem dX6_corners_37 : decode cX6_corners 37 = .ok (.iload 4, 2) := dk_21 4 (dk_at dksX6_corners_1 13 rfl rfl)
theorem dX6_corners_39 : decode cX6_corners 39 = .ok (.iload_n 2, 1) := dk_28 (dk_at dksX6_corners_1 15 rfl rfl)
theorem dX6_corners_40 : decode cX6_corners 40 = .ok (.invokevirtual 386, 3) := dk_182 1 130 (dk_at dksX6_corners_1 16 rfl rfl)
theorem dX6_corners_43 : decode cX6_corners 43 = .ok (.ifCond .eq 21, 3) := dk_153 0 21 (dk_at dksX6_corners_1 19 rfl rfl)
theorem dX6_corners_46 : decode cX6_corners 46 = .ok (.aload_n 0, 1) := dk_42 (dk_at dksX6_corners_1 22 rfl rfl)
theorem dX6_corners_47 : decode cX6_corners 47 = .ok (.iload 4, 2) := dk_21 4 (dk_at dksX6_corners_2 0 rfl rfl)
theorem dX6_corners_49 : decode cX6_corners 49 = .ok (.iload_n 2, 1) := dk_28 (dk_at dksX6_corners_2 2 rfl rfl)
theorem dX6_corners_50 : decode cX6_corners 50 = .ok (.invokevirtual 344, 3) := dk_182 1 88 (dk_at dksX6_corners_2 3 rfl rfl)
theorem dX6_corners_53 : decode cX6_corners 53 = .ok (.invokestatic 347, 3) := dk_184 1 91 (dk_at dksX6_corners_2 6 rfl rfl)
theorem dX6_corners_56 : decode cX6_corners 56 = .ok (.iload_n 1, 1) := dk_27 (dk_at dksX6_corners_2 9 rfl rfl)
theorem dX6_corners_57 : decode cX6_corners 57 = .ok (.if_icmp .ne 7, 3) := dk_160 0 7 (dk_at dksX6_corners_2 10 rfl rfl)
theorem dX6_corners_60 : decode cX6_corners 60 = .ok (.iconst 1, 1) := dk_4 (dk_at dksX6_corners_2 13 rfl rfl)
theorem dX6_corners_61 : decode cX6_corners 61 = .ok (.goto 4, 3) := dk_167 0 4 (dk_at dksX6_corners_2 14 rfl rfl)
theorem dX6_corners_64 : decode cX6_corners 64 = .ok (.iconst 0, 1) := dk_3 (dk_at dksX6_corners_2 17 rfl rfl)
theorem dX6_corners_65 : decode cX6_corners 65 = .ok (.iadd, 1) := dk_96 (dk_at dksX6_corners_2 18 rfl rfl)
theorem dX6_corners_66 : decode cX6_corners 66 = .ok (.istore_n 3, 1) := dk_62 (dk_at dksX6_corners_2 19 rfl rfl)
theorem dX6_corners_67 : decode cX6_corners 67 = .ok (.iinc 4 1, 3) := dk_132 4 1 (dk_at dksX6_corners_2 20 rfl rfl)
theorem dX6_corners_70 : decode cX6_corners 70 = .ok (.goto (-42), 3) := dk_167 255 214 (dk_at dksX6_corners_3 0 rfl rfl)
theorem dX6_corners_73 : decode cX6_corners 73 = .ok (.iload_n 3, 1) := dk_29 (dk_at dksX6_corners_3 3 rfl rfl)
theorem dX6_corners_74 : decode cX6_corners 74 = .ok (.ireturn, 1) := dk_172 (dk_at dksX6_corners_3 4 rfl rfl)
abbrev cX6_nets : ByteArray := prog_12_method_92_code
def yX6_nets : MethodName := ⟨RX6, "nets", "(I)I"⟩
def dkwX6_nets_0 : List UInt8 := [42, 27, 182, 1, 117, 153, 0, 11, 42, 27, 182, 1, 139, 167, 0, 5, 16, 254, 172]
abbrev dktX6_nets_0 : List UInt8 := dkwX6_nets_0 ++ []
theorem dksX6_nets_0 : cX6_nets.data.toList.drop 0 = dktX6_nets_0 := by decide +kernel
theorem dX6_nets_0 : decode cX6_nets 0 = .ok (.aload_n 0, 1) := dk_42 (dk_at dksX6_nets_0 0 rfl rfl)
theorem dX6_nets_1 : decode cX6_nets 1 = .ok (.iload_n 1, 1) := dk_27 (dk_at dksX6_nets_0 1 rfl rfl)
theorem dX6_nets_2 : decode cX6_nets 2 = .ok (.invokevirtual 373, 3) := dk_182 1 117 (dk_at dksX6_nets_0 2 rfl rfl)
theorem dX6_nets_5 : decode cX6_nets 5 = .ok (.ifCond .eq 11, 3) := dk_153 0 11 (dk_at dksX6_nets_0 5 rfl rfl)
theorem dX6_nets_8 : decode cX6_nets 8 = .ok (.aload_n 0, 1) := dk_42 (dk_at dksX6_nets_0 8 rfl rfl)
theorem dX6_nets_9 : decode cX6_nets 9 = .ok (.iload_n 1, 1) := dk_27 (dk_at dksX6_nets_0 9 rfl rfl)
theorem dX6_nets_10 : decode cX6_nets 10 = .ok (.invokevirtual 395, 3) := dk_182 1 139 (dk_at dksX6_nets_0 10 rfl rfl)
theorem dX6_nets_13 : decode cX6_nets 13 = .ok (.goto 5, 3) := dk_167 0 5 (dk_at dksX6_nets_0 13 rfl rfl)
theorem dX6_nets_16 : decode cX6_nets 16 = .ok (.bipush (-2), 2) := dk_16 254 (dk_at dksX6_nets_0 16 rfl rfl)
theorem dX6_nets_18 : decode cX6_nets 18 = .ok (.ireturn, 1) := dk_172 (dk_at dksX6_nets_0 18 rfl rfl)
abbrev cX6_netMany : ByteArray := prog_12_method_91_code
def yX6_netMany : MethodName := ⟨RX6, "netMany", "(I)I"⟩
def dkwX6_netMany_5 : List UInt8 := [167, 255, 168, 28, 172]
abbrev dktX6_netMany_5 : List UInt8 := dkwX6_netMany_5 ++ []
def dkwX6_netMany_4 : List UInt8 := [21, 4, 46, 2, 159, 0, 7, 4, 167, 0, 4, 3, 84, 132, 4, 1, 167, 255, 213, 132, 3, 1]
abbrev dktX6_netMany_4 : List UInt8 := dkwX6_netMany_4 ++ dktX6_netMany_5
def dkwX6_netMany_3 : List UInt8 := [162, 0, 42, 42, 180, 0, 79, 21, 4, 42, 180, 0, 79, 21, 4, 51, 154, 0, 14, 42, 180, 0, 76]
abbrev dktX6_netMany_3 : List UInt8 := dkwX6_netMany_3 ++ dktX6_netMany_4
def dkwX6_netMany_2 : List UInt8 := [153, 0, 6, 167, 0, 61, 132, 2, 1, 42, 29, 27, 182, 1, 123, 3, 54, 4, 21, 4, 16, 80]
abbrev dktX6_netMany_2 : List UInt8 := dkwX6_netMany_2 ++ dktX6_netMany_3
def dkwX6_netMany_1 : List UInt8 := [62, 29, 16, 80, 162, 0, 88, 42, 29, 27, 182, 1, 130, 153, 0, 73, 42, 180, 0, 79, 29, 51]
abbrev dktX6_netMany_1 : List UInt8 := dkwX6_netMany_1 ++ dktX6_netMany_2
def dkwX6_netMany_0 : List UInt8 := [3, 61, 3, 62, 29, 16, 80, 162, 0, 16, 42, 180, 0, 79, 29, 3, 84, 132, 3, 1, 167, 255, 240, 3]
abbrev dktX6_netMany_0 : List UInt8 := dkwX6_netMany_0 ++ dktX6_netMany_1
theorem dksX6_netMany_0 : cX6_netMany.data.toList.drop 0 = dktX6_netMany_0 := by decide +kernel
theorem dksX6_netMany_1 : cX6_netMany.data.toList.drop 24 = dktX6_netMany_1 := dk_seg dksX6_netMany_0 24 rfl rfl
theorem dksX6_netMany_2 : cX6_netMany.data.toList.drop 46 = dktX6_netMany_2 := dk_seg dksX6_netMany_1 22 rfl rfl
theorem dksX6_netMany_3 : cX6_netMany.data.toList.drop 68 = dktX6_netMany_3 := dk_seg dksX6_netMany_2 22 rfl rfl
theorem dksX6_netMany_4 : cX6_netMany.data.toList.drop 91 = dktX6_netMany_4 := dk_seg dksX6_netMany_3 23 rfl rfl
theorem dksX6_netMany_5 : cX6_netMany.data.toList.drop 113 = dktX6_netMany_5 := dk_seg dksX6_netMany_4 22 rfl rfl
theorem dX6_netMany_0 : decode cX6_netMany 0 = .ok (.iconst 0, 1) := dk_3 (dk_at dksX6_netMany_0 0 rfl rfl)
theorem dX6_netMany_1 : decode cX6_netMany 1 = .ok (.istore_n 2, 1) := dk_61 (dk_at dksX6_netMany_0 1 rfl rfl)
theorem dX6_netMany_2 : decode cX6_netMany 2 = .ok (.iconst 0, 1) := dk_3 (dk_at dksX6_netMany_0 2 rfl rfl)
theorem dX6_netMany_3 : decode cX6_netMany 3 = .ok (.istore_n 3, 1) := dk_62 (dk_at dksX6_netMany_0 3 rfl rfl)
theorem dX6_netMany_4 : decode cX6_netMany 4 = .ok (.iload_n 3, 1) := dk_29 (dk_at dksX6_netMany_0 4 rfl rfl)
theorem dX6_netMany_5 : decode cX6_netMany 5 = .ok (.bipush 80, 2) := dk_16 80 (dk_at dksX6_netMany_0 5 rfl rfl)
theorem dX6_netMany_7 : decode cX6_netMany 7 = .ok (.if_icmp .ge 16, 3) := dk_162 0 16 (dk_at dksX6_netMany_0 7 rfl rfl)
theorem dX6_netMany_10 : decode cX6_netMany 10 = .ok (.aload_n 0, 1) := dk_42 (dk_at dksX6_netMany_0 10 rfl rfl)
theorem dX6_netMany_11 : decode cX6_netMany 11 = .ok (.getfield 79, 3) := dk_180 0 79 (dk_at dksX6_netMany_0 11 rfl rfl)
theorem dX6_netMany_14 : decode cX6_netMany 14 = .ok (.iload_n 3, 1) := dk_29 (dk_at dksX6_netMany_0 14 rfl rfl)
theorem dX6_netMany_15 : decode cX6_netMany 15 = .ok (.iconst 0, 1) := dk_3 (dk_at dksX6_netMany_0 15 rfl rfl)
theorem dX6_netMany_16 : decode cX6_netMany 16 = .ok (.bastore, 1) := dk_84 (dk_at dksX6_netMany_0 16 rfl rfl)
theorem dX6_netMany_17 : decode cX6_netMany 17 = .ok (.iinc 3 1, 3) := dk_132 3 1 (dk_at dksX6_netMany_0 17 rfl rfl)
theorem dX6_netMany_20 : decode cX6_netMany 20 = .ok (.goto (-16), 3) := dk_167 255 240 (dk_at dksX6_netMany_0 20 rfl rfl)
theorem dX6_netMany_23 : decode cX6_netMany 23 = .ok (.iconst 0, 1) := dk_3 (dk_at dksX6_netMany_0 23 rfl rfl)
theorem dX6_netMany_24 : decode cX6_netMany 24 = .ok (.istore_n 3, 1) := dk_62 (dk_at dksX6_netMany_1 0 rfl rfl)
theorem dX6_netMany_25 : decode cX6_netMany 25 = .ok (.iload_n 3, 1) := dk_29 (dk_at dksX6_netMany_1 1 rfl rfl)
theorem dX6_netMany_26 : decode cX6_netMany 26 = .ok (.bipush 80, 2) := dk_16 80 (dk_at dksX6_netMany_1 2 rfl rfl)
theorem dX6_netMany_28 : decode cX6_netMany 28 = .ok (.if_icmp .ge 88, 3) := dk_162 0 88 (dk_at dksX6_netMany_1 4 rfl rfl)
theorem dX6_netMany_31 : decode cX6_netMany 31 = .ok (.aload_n 0, 1) := dk_42 (dk_at dksX6_netMany_1 7 rfl rfl)
theorem dX6_netMany_32 : decode cX6_netMany 32 = .ok (.iload_n 3, 1) := dk_29 (dk_at dksX6_netMany_1 8 rfl rfl)
theorem dX6_netMany_33 : decode cX6_netMany 33 = .ok (.iload_n 1, 1) := dk_27 (dk_at dksX6_netMany_1 9 rfl rfl)
theorem dX6_netMany_34 : decode cX6_netMany 34 = .ok (.invokevirtual 386, 3) := dk_182 1 130 (dk_at dksX6_netMany_1 10 rfl rfl)
theorem dX6_netMany_37 : decode cX6_netMany 37 = .ok (.ifCond .eq 73, 3) := dk_153 0 73 (dk_at dksX6_netMany_1 13 rfl rfl)
theorem dX6_netMany_40 : decode cX6_netMany 40 = .ok (.aload_n 0, 1) := dk_42 (dk_at dksX6_netMany_1 16 rfl rfl)
theorem dX6_netMany_41 : decode cX6_netMany 41 = .ok (.getfield 79, 3) := dk_180 0 79 (dk_at dksX6_netMany_1 17 rfl rfl)
theorem dX6_netMany_44 : decode cX6_netMany 44 = .ok (.iload_n 3, 1) := dk_29 (dk_at dksX6_netMany_1 20 rfl rfl)
theorem dX6_netMany_45 : decode cX6_netMany 45 = .ok (.baload, 1) := dk_51 (dk_at dksX6_netMany_1 21 rfl rfl)
theorem dX6_netMany_46 : decode cX6_netMany 46 = .ok (.ifCond .eq 6, 3) := dk_153 0 6 (dk_at dksX6_netMany_2 0 rfl rfl)
theorem dX6_netMany_49 : decode cX6_netMany 49 = .ok (.goto 61, 3) := dk_167 0 61 (dk_at dksX6_netMany_2 3 rfl rfl)
theorem dX6_netMany_52 : decode cX6_netMany 52 = .ok (.iinc 2 1, 3) := dk_132 2 1 (dk_at dksX6_netMany_2 6 rfl rfl)
theorem dX6_netMany_55 : decode cX6_netMany 55 = .ok (.aload_n 0, 1) := dk_42 (dk_at dksX6_netMany_2 9 rfl rfl)
theorem dX6_netMany_56 : decode cX6_netMany 56 = .ok (.iload_n 3, 1) := dk_29 (dk_at dksX6_netMany_2 10 rfl rfl)
theorem dX6_netMany_57 : decode cX6_netMany 57 = .ok (.iload_n 1, 1) := dk_27 (dk_at dksX6_netMany_2 11 rfl rfl)
theorem dX6_netMany_58 : decode cX6_netMany 58 = .ok (.invokevirtual 379, 3) := dk_182 1 123 (dk_at dksX6_netMany_2 12 rfl rfl)
theorem dX6_netMany_61 : decode cX6_netMany 61 = .ok (.iconst 0, 1) := dk_3 (dk_at dksX6_netMany_2 15 rfl rfl)
theorem dX6_netMany_62 : decode cX6_netMany 62 = .ok (.istore 4, 2) := dk_54 4 (dk_at dksX6_netMany_2 16 rfl rfl)
theorem dX6_netMany_64 : decode cX6_netMany 64 = .ok (.iload 4, 2) := dk_21 4 (dk_at dksX6_netMany_2 18 rfl rfl)
theorem dX6_netMany_66 : decode cX6_netMany 66 = .ok (.bipush 80, 2) := dk_16 80 (dk_at dksX6_netMany_2 20 rfl rfl)
theorem dX6_netMany_68 : decode cX6_netMany 68 = .ok (.if_icmp .ge 42, 3) := dk_162 0 42 (dk_at dksX6_netMany_3 0 rfl rfl)
theorem dX6_netMany_71 : decode cX6_netMany 71 = .ok (.aload_n 0, 1) := dk_42 (dk_at dksX6_netMany_3 3 rfl rfl)
theorem dX6_netMany_72 : decode cX6_netMany 72 = .ok (.getfield 79, 3) := dk_180 0 79 (dk_at dksX6_netMany_3 4 rfl rfl)
theorem dX6_netMany_75 : decode cX6_netMany 75 = .ok (.iload 4, 2) := dk_21 4 (dk_at dksX6_netMany_3 7 rfl rfl)
theorem dX6_netMany_77 : decode cX6_netMany 77 = .ok (.aload_n 0, 1) := dk_42 (dk_at dksX6_netMany_3 9 rfl rfl)
theorem dX6_netMany_78 : decode cX6_netMany 78 = .ok (.getfield 79, 3) := dk_180 0 79 (dk_at dksX6_netMany_3 10 rfl rfl)
theorem dX6_netMany_81 : decode cX6_netMany 81 = .ok (.iload 4, 2) := dk_21 4 (dk_at dksX6_netMany_3 13 rfl rfl)
theorem dX6_netMany_83 : decode cX6_netMany 83 = .ok (.baload, 1) := dk_51 (dk_at dksX6_netMany_3 15 rfl rfl)
theorem dX6_netMany_84 : decode cX6_netMany 84 = .ok (.ifCond .ne 14, 3) := dk_154 0 14 (dk_at dksX6_netMany_3 16 rfl rfl)
theorem dX6_netMany_87 : decode cX6_netMany 87 = .ok (.aload_n 0, 1) := dk_42 (dk_at dksX6_netMany_3 19 rfl rfl)
theorem dX6_netMany_88 : decode cX6_netMany 88 = .ok (.getfield 76, 3) := dk_180 0 76 (dk_at dksX6_netMany_3 20 rfl rfl)
theorem dX6_netMany_91 : decode cX6_netMany 91 = .ok (.iload 4, 2) := dk_21 4 (dk_at dksX6_netMany_4 0 rfl rfl)
theorem dX6_netMany_93 : decode cX6_netMany 93 = .ok (.iaload, 1) := dk_46 (dk_at dksX6_netMany_4 2 rfl rfl)
theorem dX6_netMany_94 : decode cX6_netMany 94 = .ok (.iconst (-1), 1) := dk_2 (dk_at dksX6_netMany_4 3 rfl rfl)
theorem dX6_netMany_95 : decode cX6_netMany 95 = .ok (.if_icmp .eq 7, 3) := dk_159 0 7 (dk_at dksX6_netMany_4 4 rfl rfl)
theorem dX6_netMany_98 : decode cX6_netMany 98 = .ok (.iconst 1, 1) := dk_4 (dk_at dksX6_netMany_4 7 rfl rfl)
theorem dX6_netMany_99 : decode cX6_netMany 99 = .ok (.goto 4, 3) := dk_167 0 4 (dk_at dksX6_netMany_4 8 rfl rfl)
theorem dX6_netMany_102 : decode cX6_netMany 102 = .ok (.iconst 0, 1) := dk_3 (dk_at dksX6_netMany_4 11 rfl rfl)
theorem dX6_netMany_103 : decode cX6_netMany 103 = .ok (.bastore, 1) := dk_84 (dk_at dksX6_netMany_4 12 rfl rfl)
theorem dX6_netMany_104 : decode cX6_netMany 104 = .ok (.iinc 4 1, 3) := dk_132 4 1 (dk_at dksX6_netMany_4 13 rfl rfl)
theorem dX6_netMany_107 : decode cX6_netMany 107 = .ok (.goto (-43), 3) := dk_167 255 213 (dk_at dksX6_netMany_4 16 rfl rfl)
theorem dX6_netMany_110 : decode cX6_netMany 110 = .ok (.iinc 3 1, 3) := dk_132 3 1 (dk_at dksX6_netMany_4 19 rfl rfl)
theorem dX6_netMany_113 : decode cX6_netMany 113 = .ok (.goto (-88), 3) := dk_167 255 168 (dk_at dksX6_netMany_5 0 rfl rfl)
theorem dX6_netMany_116 : decode cX6_netMany 116 = .ok (.iload_n 2, 1) := dk_28 (dk_at dksX6_netMany_5 3 rfl rfl)
theorem dX6_netMany_117 : decode cX6_netMany 117 = .ok (.ireturn, 1) := dk_172 (dk_at dksX6_netMany_5 4 rfl rfl)
abbrev cX6_missing : ByteArray := prog_12_method_94_code
def yX6_missing : MethodName := ⟨RX6, "missing", "(I)I"⟩
def dkwX6_missing_1 : List UInt8 := [182, 1, 142, 153, 0, 13, 42, 27, 182, 1, 139, 4, 100, 167, 0, 4, 2, 172]
abbrev dktX6_missing_1 : List UInt8 := dkwX6_missing_1 ++ []
def dkwX6_missing_0 : List UInt8 := [42, 27, 182, 1, 117, 154, 0, 6, 16, 254, 172, 42, 27, 182, 1, 136, 154, 0, 5, 3, 172, 42, 27]
abbrev dktX6_missing_0 : List UInt8 := dkwX6_missing_0 ++ dktX6_missing_1
theorem dksX6_missing_0 : cX6_missing.data.toList.drop 0 = dktX6_missing_0 := by decide +kernel
theorem dksX6_missing_1 : cX6_missing.data.toList.drop 23 = dktX6_missing_1 := dk_seg dksX6_missing_0 23 rfl rfl
theorem dX6_missing_0 : decode cX6_missing 0 = .ok (.aload_n 0, 1) := dk_42 (dk_at dksX6_missing_0 0 rfl rfl)
theorem dX6_missing_1 : decode cX6_missing 1 = .ok (.iload_n 1, 1) := dk_27 (dk_at dksX6_missing_0 1 rfl rfl)
theorem dX6_missing_2 : decode cX6_missing 2 = .ok (.invokevirtual 373, 3) := dk_182 1 117 (dk_at dksX6_missing_0 2 rfl rfl)
theorem dX6_missing_5 : decode cX6_missing 5 = .ok (.ifCond .ne 6, 3) := dk_154 0 6 (dk_at dksX6_missing_0 5 rfl rfl)
theorem dX6_missing_8 : decode cX6_missing 8 = .ok (.bipush (-2), 2) := dk_16 254 (dk_at dksX6_missing_0 8 rfl rfl)
theorem dX6_missing_10 : decode cX6_missing 10 = .ok (.ireturn, 1) := dk_172 (dk_at dksX6_missing_0 10 rfl rfl)
theorem dX6_missing_11 : decode cX6_missing 11 = .ok (.aload_n 0, 1) := dk_42 (dk_at dksX6_missing_0 11 rfl rfl)
theorem dX6_missing_12 : decode cX6_missing 12 = .ok (.iload_n 1, 1) := dk_27 (dk_at dksX6_missing_0 12 rfl rfl)
theorem dX6_missing_13 : decode cX6_missing 13 = .ok (.invokevirtual 392, 3) := dk_182 1 136 (dk_at dksX6_missing_0 13 rfl rfl)
theorem dX6_missing_16 : decode cX6_missing 16 = .ok (.ifCond .ne 5, 3) := dk_154 0 5 (dk_at dksX6_missing_0 16 rfl rfl)
theorem dX6_missing_19 : decode cX6_missing 19 = .ok (.iconst 0, 1) := dk_3 (dk_at dksX6_missing_0 19 rfl rfl)
theorem dX6_missing_20 : decode cX6_missing 20 = .ok (.ireturn, 1) := dk_172 (dk_at dksX6_missing_0 20 rfl rfl)
theorem dX6_missing_21 : decode cX6_missing 21 = .ok (.aload_n 0, 1) := dk_42 (dk_at dksX6_missing_0 21 rfl rfl)
theorem dX6_missing_22 : decode cX6_missing 22 = .ok (.iload_n 1, 1) := dk_27 (dk_at dksX6_missing_0 22 rfl rfl)
theorem dX6_missing_23 : decode cX6_missing 23 = .ok (.invokevirtual 398, 3) := dk_182 1 142 (dk_at dksX6_missing_1 0 rfl rfl)
theorem dX6_missing_26 : decode cX6_missing 26 = .ok (.ifCond .eq 13, 3) := dk_153 0 13 (dk_at dksX6_missing_1 3 rfl rfl)
theorem dX6_missing_29 : decode cX6_missing 29 = .ok (.aload_n 0, 1) := dk_42 (dk_at dksX6_missing_1 6 rfl rfl)
theorem dX6_missing_30 : decode cX6_missing 30 = .ok (.iload_n 1, 1) := dk_27 (dk_at dksX6_missing_1 7 rfl rfl)
theorem dX6_missing_31 : decode cX6_missing 31 = .ok (.invokevirtual 395, 3) := dk_182 1 139 (dk_at dksX6_missing_1 8 rfl rfl)
theorem dX6_missing_34 : decode cX6_missing 34 = .ok (.iconst 1, 1) := dk_4 (dk_at dksX6_missing_1 11 rfl rfl)
theorem dX6_missing_35 : decode cX6_missing 35 = .ok (.isub, 1) := dk_100 (dk_at dksX6_missing_1 12 rfl rfl)
theorem dX6_missing_36 : decode cX6_missing 36 = .ok (.goto 4, 3) := dk_167 0 4 (dk_at dksX6_missing_1 13 rfl rfl)
theorem dX6_missing_39 : decode cX6_missing 39 = .ok (.iconst (-1), 1) := dk_2 (dk_at dksX6_missing_1 16 rfl rfl)
theorem dX6_missing_40 : decode cX6_missing 40 = .ok (.ireturn, 1) := dk_172 (dk_at dksX6_missing_1 17 rfl rfl)
abbrev cX6_isOneSideBySide : ByteArray := prog_12_method_93_code
def yX6_isOneSideBySide : MethodName := ⟨RX6, "isOneSideBySide", "(I)Z"⟩
def dkwX6_isOneSideBySide_7 : List UInt8 := [160, 0, 7, 4, 167, 0, 4, 3, 172]
abbrev dktX6_isOneSideBySide_7 : List UInt8 := dkwX6_isOneSideBySide_7 ++ []
def dkwX6_isOneSideBySide_6 : List UInt8 := [132, 6, 1, 167, 255, 197, 132, 5, 1, 167, 255, 168, 132, 4, 1, 167, 255, 152, 29, 42, 27, 182, 1, 136]
abbrev dktX6_isOneSideBySide_6 : List UInt8 := dkwX6_isOneSideBySide_6 ++ dktX6_isOneSideBySide_7
def dkwX6_isOneSideBySide_5 : List UInt8 := [180, 0, 79, 21, 7, 51, 153, 0, 6, 167, 0, 14, 42, 180, 0, 79, 21, 7, 4, 84, 132, 3, 1]
abbrev dktX6_isOneSideBySide_5 : List UInt8 := dkwX6_isOneSideBySide_5 ++ dktX6_isOneSideBySide_6
def dkwX6_isOneSideBySide_4 : List UInt8 := [182, 1, 32, 54, 7, 21, 7, 2, 159, 0, 37, 42, 21, 7, 27, 182, 1, 130, 153, 0, 27, 42]
abbrev dktX6_isOneSideBySide_4 : List UInt8 := dkwX6_isOneSideBySide_4 ++ dktX6_isOneSideBySide_5
def dkwX6_isOneSideBySide_3 : List UInt8 := [21, 5, 51, 154, 0, 6, 167, 0, 68, 3, 54, 6, 21, 6, 7, 162, 0, 59, 42, 21, 5, 21, 6]
abbrev dktX6_isOneSideBySide_3 : List UInt8 := dkwX6_isOneSideBySide_3 ++ dktX6_isOneSideBySide_4
def dkwX6_isOneSideBySide_2 : List UInt8 := [54, 4, 21, 4, 16, 80, 162, 0, 103, 3, 54, 5, 21, 5, 16, 80, 162, 0, 87, 42, 180, 0, 79]
abbrev dktX6_isOneSideBySide_2 : List UInt8 := dkwX6_isOneSideBySide_2 ++ dktX6_isOneSideBySide_3
def dkwX6_isOneSideBySide_1 : List UInt8 := [28, 27, 182, 1, 130, 154, 0, 9, 132, 2, 1, 167, 255, 244, 42, 180, 0, 79, 28, 4, 84, 4, 62, 3]
abbrev dktX6_isOneSideBySide_1 : List UInt8 := dkwX6_isOneSideBySide_1 ++ dktX6_isOneSideBySide_2
def dkwX6_isOneSideBySide_0 : List UInt8 := [3, 61, 28, 16, 80, 162, 0, 16, 42, 180, 0, 79, 28, 3, 84, 132, 2, 1, 167, 255, 240, 3, 61, 42]
abbrev dktX6_isOneSideBySide_0 : List UInt8 := dkwX6_isOneSideBySide_0 ++ dktX6_isOneSideBySide_1
theorem dksX6_isOneSideBySide_0 : cX6_isOneSideBySide.data.toList.drop 0 = dktX6_isOneSideBySide_0 := by decide +kernel
theorem dksX6_isOneSideBySide_1 : cX6_isOneSideBySide.data.toList.drop 24 = dktX6_isOneSideBySide_1 := dk_seg dksX6_isOneSideBySide_0 24 rfl rfl
theorem dksX6_isOneSideBySide_2 : cX6_isOneSideBySide.data.toList.drop 48 = dktX6_isOneSideBySide_2 := dk_seg dksX6_isOneSideBySide_1 24 rfl rfl
theorem dksX6_isOneSideBySide_3 : cX6_isOneSideBySide.data.toList.drop 71 = dktX6_isOneSideBySide_3 := dk_seg dksX6_isOneSideBySide_2 23 rfl rfl
theorem dksX6_isOneSideBySide_4 : cX6_isOneSideBySide.data.toList.drop 94 = dktX6_isOneSideBySide_4 := dk_seg dksX6_isOneSideBySide_3 23 rfl rfl
theorem dksX6_isOneSideBySide_5 : cX6_isOneSideBySide.data.toList.drop 116 = dktX6_isOneSideBySide_5 := dk_seg dksX6_isOneSideBySide_4 22 rfl rfl
theorem dksX6_isOneSideBySide_6 : cX6_isOneSideBySide.data.toList.drop 139 = dktX6_isOneSideBySide_6 := dk_seg dksX6_isOneSideBySide_5 23 rfl rfl
theorem dksX6_isOneSideBySide_7 : cX6_isOneSideBySide.data.toList.drop 163 = dktX6_isOneSideBySide_7 := dk_seg dksX6_isOneSideBySide_6 24 rfl rfl
theorem dX6_isOneSideBySide_0 : decode cX6_isOneSideBySide 0 = .ok (.iconst 0, 1) := dk_3 (dk_at dksX6_isOneSideBySide_0 0 rfl rfl)
theorem dX6_isOneSideBySide_1 : decode cX6_isOneSideBySide 1 = .ok (.istore_n 2, 1) := dk_61 (dk_at dksX6_isOneSideBySide_0 1 rfl rfl)
theorem dX6_isOneSideBySide_2 : decode cX6_isOneSideBySide 2 = .ok (.iload_n 2, 1) := dk_28 (dk_at dksX6_isOneSideBySide_0 2 rfl rfl)
theorem dX6_isOneSideBySide_3 : decode cX6_isOneSideBySide 3 = .ok (.bipush 80, 2) := dk_16 80 (dk_at dksX6_isOneSideBySide_0 3 rfl rfl)
theorem dX6_isOneSideBySide_5 : decode cX6_isOneSideBySide 5 = .ok (.if_icmp .ge 16, 3) := dk_162 0 16 (dk_at dksX6_isOneSideBySide_0 5 rfl rfl)
theorem dX6_isOneSideBySide_8 : decode cX6_isOneSideBySide 8 = .ok (.aload_n 0, 1) := dk_42 (dk_at dksX6_isOneSideBySide_0 8 rfl rfl)
theorem dX6_isOneSideBySide_9 : decode cX6_isOneSideBySide 9 = .ok (.getfield 79, 3) := dk_180 0 79 (dk_at dksX6_isOneSideBySide_0 9 rfl rfl)
theorem dX6_isOneSideBySide_12 : decode cX6_isOneSideBySide 12 = .ok (.iload_n 2, 1) := dk_28 (dk_at dksX6_isOneSideBySide_0 12 rfl rfl)
theorem dX6_isOneSideBySide_13 : decode cX6_isOneSideBySide 13 = .ok (.iconst 0, 1) := dk_3 (dk_at dksX6_isOneSideBySide_0 13 rfl rfl)
theorem dX6_isOneSideBySide_14 : decode cX6_isOneSideBySide 14 = .ok (.bastore, 1) := dk_84 (dk_at dksX6_isOneSideBySide_0 14 rfl rfl)
theorem dX6_isOneSideBySide_15 : decode cX6_isOneSideBySide 15 = .ok (.iinc 2 1, 3) := dk_132 2 1 (dk_at dksX6_isOneSideBySide_0 15 rfl rfl)
theorem dX6_isOneSideBySide_18 : decode cX6_isOneSideBySide 18 = .ok (.goto (-16), 3) := dk_167 255 240 (dk_at dksX6_isOneSideBySide_0 18 rfl rfl)
theorem dX6_isOneSideBySide_21 : decode cX6_isOneSideBySide 21 = .ok (.iconst 0, 1) := dk_3 (dk_at dksX6_isOneSideBySide_0 21 rfl rfl)
theorem dX6_isOneSideBySide_22 : decode cX6_isOneSideBySide 22 = .ok (.istore_n 2, 1) := dk_61 (dk_at dksX6_isOneSideBySide_0 22 rfl rfl)
theorem dX6_isOneSideBySide_23 : decode cX6_isOneSideBySide 23 = .ok (.aload_n 0, 1) := dk_42 (dk_at dksX6_isOneSideBySide_0 23 rfl rfl)
theorem dX6_isOneSideBySide_24 : decode cX6_isOneSideBySide 24 = .ok (.iload_n 2, 1) := dk_28 (dk_at dksX6_isOneSideBySide_1 0 rfl rfl)
theorem dX6_isOneSideBySide_25 : decode cX6_isOneSideBySide 25 = .ok (.iload_n 1, 1) := dk_27 (dk_at dksX6_isOneSideBySide_1 1 rfl rfl)
theorem dX6_isOneSideBySide_26 : decode cX6_isOneSideBySide 26 = .ok (.invokevirtual 386, 3) := dk_182 1 130 (dk_at dksX6_isOneSideBySide_1 2 rfl rfl)
theorem dX6_isOneSideBySide_29 : decode cX6_isOneSideBySide 29 = .ok (.ifCond .ne 9, 3) := dk_154 0 9 (dk_at dksX6_isOneSideBySide_1 5 rfl rfl)
theorem dX6_isOneSideBySide_32 : decode cX6_isOneSideBySide 32 = .ok (.iinc 2 1, 3) := dk_132 2 1 (dk_at dksX6_isOneSideBySide_1 8 rfl rfl)
theorem dX6_isOneSideBySide_35 : decode cX6_isOneSideBySide 35 = .ok (.goto (-12), 3) := dk_167 255 244 (dk_at dksX6_isOneSideBySide_1 11 rfl rfl)
theorem dX6_isOneSideBySide_38 : decode cX6_isOneSideBySide 38 = .ok (.aload_n 0, 1) := dk_42 (dk_at dksX6_isOneSideBySide_1 14 rfl rfl)
theorem dX6_isOneSideBySide_39 : decode cX6_isOneSideBySide 39 = .ok (.getfield 79, 3) := dk_180 0 79 (dk_at dksX6_isOneSideBySide_1 15 rfl rfl)
theorem dX6_isOneSideBySide_42 : decode cX6_isOneSideBySide 42 = .ok (.iload_n 2, 1) := dk_28 (dk_at dksX6_isOneSideBySide_1 18 rfl rfl)
theorem dX6_isOneSideBySide_43 : decode cX6_isOneSideBySide 43 = .ok (.iconst 1, 1) := dk_4 (dk_at dksX6_isOneSideBySide_1 19 rfl rfl)
theorem dX6_isOneSideBySide_44 : decode cX6_isOneSideBySide 44 = .ok (.bastore, 1) := dk_84 (dk_at dksX6_isOneSideBySide_1 20 rfl rfl)
theorem dX6_isOneSideBySide_45 : decode cX6_isOneSideBySide 45 = .ok (.iconst 1, 1) := dk_4 (dk_at dksX6_isOneSideBySide_1 21 rfl rfl)
theorem dX6_isOneSideBySide_46 : decode cX6_isOneSideBySide 46 = .ok (.istore_n 3, 1) := dk_62 (dk_at dksX6_isOneSideBySide_1 22 rfl rfl)
theorem dX6_isOneSideBySide_47 : decode cX6_isOneSideBySide 47 = .ok (.iconst 0, 1) := dk_3 (dk_at dksX6_isOneSideBySide_1 23 rfl rfl)
theorem dX6_isOneSideBySide_48 : decode cX6_isOneSideBySide 48 = .ok (.istore 4, 2) := dk_54 4 (dk_at dksX6_isOneSideBySide_2 0 rfl rfl)
theorem dX6_isOneSideBySide_50 : decode cX6_isOneSideBySide 50 = .ok (.iload 4, 2) := dk_21 4 (dk_at dksX6_isOneSideBySide_2 2 rfl rfl)
theorem dX6_isOneSideBySide_52 : decode cX6_isOneSideBySide 52 = .ok (.bipush 80, 2) := dk_16 80 (dk_at dksX6_isOneSideBySide_2 4 rfl rfl)
theorem dX6_isOneSideBySide_54 : decode cX6_isOneSideBySide 54 = .ok (.if_icmp .ge 103, 3) := dk_162 0 103 (dk_at dksX6_isOneSideBySide_2 6 rfl rfl)
theorem dX6_isOneSideBySide_57 : decode cX6_isOneSideBySide 57 = .ok (.iconst 0, 1) := dk_3 (dk_at dksX6_isOneSideBySide_2 9 rfl rfl)
theorem dX6_isOneSideBySide_58 : decode cX6_isOneSideBySide 58 = .ok (.istore 5, 2) := dk_54 5 (dk_at dksX6_isOneSideBySide_2 10 rfl rfl)
theorem dX6_isOneSideBySide_60 : decode cX6_isOneSideBySide 60 = .ok (.iload 5, 2) := dk_21 5 (dk_at dksX6_isOneSideBySide_2 12 rfl rfl)
theorem dX6_isOneSideBySide_62 : decode cX6_isOneSideBySide 62 = .ok (.bipush 80, 2) := dk_16 80 (dk_at dksX6_isOneSideBySide_2 14 rfl rfl)
theorem dX6_isOneSideBySide_64 : decode cX6_isOneSideBySide 64 = .ok (.if_icmp .ge 87, 3) := dk_162 0 87 (dk_at dksX6_isOneSideBySide_2 16 rfl rfl)
theorem dX6_isOneSideBySide_67 : decode cX6_isOneSideBySide 67 = .ok (.aload_n 0, 1) := dk_42 (dk_at dksX6_isOneSideBySide_2 19 rfl rfl)
theorem dX6_isOneSideBySide_68 : decode cX6_isOneSideBySide 68 = .ok (.getfield 79, 3) := dk_180 0 79 (dk_at dksX6_isOneSideBySide_2 20 rfl rfl)
theorem dX6_isOneSideBySide_71 : decode cX6_isOneSideBySide 71 = .ok (.iload 5, 2) := dk_21 5 (dk_at dksX6_isOneSideBySide_3 0 rfl rfl)
theorem dX6_isOneSideBySide_73 : decode cX6_isOneSideBySide 73 = .ok (.baload, 1) := dk_51 (dk_at dksX6_isOneSideBySide_3 2 rfl rfl)
theorem dX6_isOneSideBySide_74 : decode cX6_isOneSideBySide 74 = .ok (.ifCond .ne 6, 3) := dk_154 0 6 (dk_at dksX6_isOneSideBySide_3 3 rfl rfl)
theorem dX6_isOneSideBySide_77 : decode cX6_isOneSideBySide 77 = .ok (.goto 68, 3) := dk_167 0 68 (dk_at dksX6_isOneSideBySide_3 6 rfl rfl)
theorem dX6_isOneSideBySide_80 : decode cX6_isOneSideBySide 80 = .ok (.iconst 0, 1) := dk_3 (dk_at dksX6_isOneSideBySide_3 9 rfl rfl)
theorem dX6_isOneSideBySide_81 : decode cX6_isOneSideBySide 81 = .ok (.istore 6, 2) := dk_54 6 (dk_at dksX6_isOneSideBySide_3 10 rfl rfl)
theorem dX6_isOneSideBySide_83 : decode cX6_isOneSideBySide 83 = .ok (.iload 6, 2) := dk_21 6 (dk_at dksX6_isOneSideBySide_3 12 rfl rfl)
theorem dX6_isOneSideBySide_85 : decode cX6_isOneSideBySide 85 = .ok (.iconst 4, 1) := dk_7 (dk_at dksX6_isOneSideBySide_3 14 rfl rfl)
theorem dX6_isOneSideBySide_86 : decode cX6_isOneSideBySide 86 = .ok (.if_icmp .ge 59, 3) := dk_162 0 59 (dk_at dksX6_isOneSideBySide_3 15 rfl rfl)
theorem dX6_isOneSideBySide_89 : decode cX6_isOneSideBySide 89 = .ok (.aload_n 0, 1) := dk_42 (dk_at dksX6_isOneSideBySide_3 18 rfl rfl)
theorem dX6_isOneSideBySide_90 : decode cX6_isOneSideBySide 90 = .ok (.iload 5, 2) := dk_21 5 (dk_at dksX6_isOneSideBySide_3 19 rfl rfl)
theorem dX6_isOneSideBySide_92 : decode cX6_isOneSideBySide 92 = .ok (.iload 6, 2) := dk_21 6 (dk_at dksX6_isOneSideBySide_3 21 rfl rfl)
theorem dX6_isOneSideBySide_94 : decode cX6_isOneSideBySide 94 = .ok (.invokevirtual 288, 3) := dk_182 1 32 (dk_at dksX6_isOneSideBySide_4 0 rfl rfl)
theorem dX6_isOneSideBySide_97 : decode cX6_isOneSideBySide 97 = .ok (.istore 7, 2) := dk_54 7 (dk_at dksX6_isOneSideBySide_4 3 rfl rfl)
theorem dX6_isOneSideBySide_99 : decode cX6_isOneSideBySide 99 = .ok (.iload 7, 2) := dk_21 7 (dk_at dksX6_isOneSideBySide_4 5 rfl rfl)
theorem dX6_isOneSideBySide_101 : decode cX6_isOneSideBySide 101 = .ok (.iconst (-1), 1) := dk_2 (dk_at dksX6_isOneSideBySide_4 7 rfl rfl)
theorem dX6_isOneSideBySide_102 : decode cX6_isOneSideBySide 102 = .ok (.if_icmp .eq 37, 3) := dk_159 0 37 (dk_at dksX6_isOneSideBySide_4 8 rfl rfl)
theorem dX6_isOneSideBySide_105 : decode cX6_isOneSideBySide 105 = .ok (.aload_n 0, 1) := dk_42 (dk_at dksX6_isOneSideBySide_4 11 rfl rfl)
theorem dX6_isOneSideBySide_106 : decode cX6_isOneSideBySide 106 = .ok (.iload 7, 2) := dk_21 7 (dk_at dksX6_isOneSideBySide_4 12 rfl rfl)
theorem dX6_isOneSideBySide_108 : decode cX6_isOneSideBySide 108 = .ok (.iload_n 1, 1) := dk_27 (dk_at dksX6_isOneSideBySide_4 14 rfl rfl)
theorem dX6_isOneSideBySide_109 : decode cX6_isOneSideBySide 109 = .ok (.invokevirtual 386, 3) := dk_182 1 130 (dk_at dksX6_isOneSideBySide_4 15 rfl rfl)
theorem dX6_isOneSideBySide_112 : decode cX6_isOneSideBySide 112 = .ok (.ifCond .eq 27, 3) := dk_153 0 27 (dk_at dksX6_isOneSideBySide_4 18 rfl rfl)
theorem dX6_isOneSideBySide_115 : decode cX6_isOneSideBySide 115 = .ok (.aload_n 0, 1) := dk_42 (dk_at dksX6_isOneSideBySide_4 21 rfl rfl)
theorem dX6_isOneSideBySide_116 : decode cX6_isOneSideBySide 116 = .ok (.getfield 79, 3) := dk_180 0 79 (dk_at dksX6_isOneSideBySide_5 0 rfl rfl)
theorem dX6_isOneSideBySide_119 : decode cX6_isOneSideBySide 119 = .ok (.iload 7, 2) := dk_21 7 (dk_at dksX6_isOneSideBySide_5 3 rfl rfl)
theorem dX6_isOneSideBySide_121 : decode cX6_isOneSideBySide 121 = .ok (.baload, 1) := dk_51 (dk_at dksX6_isOneSideBySide_5 5 rfl rfl)
theorem dX6_isOneSideBySide_122 : decode cX6_isOneSideBySide 122 = .ok (.ifCond .eq 6, 3) := dk_153 0 6 (dk_at dksX6_isOneSideBySide_5 6 rfl rfl)
theorem dX6_isOneSideBySide_125 : decode cX6_isOneSideBySide 125 = .ok (.goto 14, 3) := dk_167 0 14 (dk_at dksX6_isOneSideBySide_5 9 rfl rfl)
theorem dX6_isOneSideBySide_128 : decode cX6_isOneSideBySide 128 = .ok (.aload_n 0, 1) := dk_42 (dk_at dksX6_isOneSideBySide_5 12 rfl rfl)
theorem dX6_isOneSideBySide_129 : decode cX6_isOneSideBySide 129 = .ok (.getfield 79, 3) := dk_180 0 79 (dk_at dksX6_isOneSideBySide_5 13 rfl rfl)
theorem dX6_isOneSideBySide_132 : decode cX6_isOneSideBySide 132 = .ok (.iload 7, 2) := dk_21 7 (dk_at dksX6_isOneSideBySide_5 16 rfl rfl)
theorem dX6_isOneSideBySide_134 : decode cX6_isOneSideBySide 134 = .ok (.iconst 1, 1) := dk_4 (dk_at dksX6_isOneSideBySide_5 18 rfl rfl)
theorem dX6_isOneSideBySide_135 : decode cX6_isOneSideBySide 135 = .ok (.bastore, 1) := dk_84 (dk_at dksX6_isOneSideBySide_5 19 rfl rfl)
theorem dX6_isOneSideBySide_136 : decode cX6_isOneSideBySide 136 = .ok (.iinc 3 1, 3) := dk_132 3 1 (dk_at dksX6_isOneSideBySide_5 20 rfl rfl)
theorem dX6_isOneSideBySide_139 : decode cX6_isOneSideBySide 139 = .ok (.iinc 6 1, 3) := dk_132 6 1 (dk_at dksX6_isOneSideBySide_6 0 rfl rfl)
theorem dX6_isOneSideBySide_142 : decode cX6_isOneSideBySide 142 = .ok (.goto (-59), 3) := dk_167 255 197 (dk_at dksX6_isOneSideBySide_6 3 rfl rfl)
theorem dX6_isOneSideBySide_145 : decode cX6_isOneSideBySide 145 = .ok (.iinc 5 1, 3) := dk_132 5 1 (dk_at dksX6_isOneSideBySide_6 6 rfl rfl)
theorem dX6_isOneSideBySide_148 : decode cX6_isOneSideBySide 148 = .ok (.goto (-88), 3) := dk_167 255 168 (dk_at dksX6_isOneSideBySide_6 9 rfl rfl)
theorem dX6_isOneSideBySide_151 : decode cX6_isOneSideBySide 151 = .ok (.iinc 4 1, 3) := dk_132 4 1 (dk_at dksX6_isOneSideBySide_6 12 rfl rfl)
theorem dX6_isOneSideBySide_154 : decode cX6_isOneSideBySide 154 = .ok (.goto (-104), 3) := dk_167 255 152 (dk_at dksX6_isOneSideBySide_6 15 rfl rfl)
theorem dX6_isOneSideBySide_157 : decode cX6_isOneSideBySide 157 = .ok (.iload_n 3, 1) := dk_29 (dk_at dksX6_isOneSideBySide_6 18 rfl rfl)
theorem dX6_isOneSideBySide_158 : decode cX6_isOneSideBySide 158 = .ok (.aload_n 0, 1) := dk_42 (dk_at dksX6_isOneSideBySide_6 19 rfl rfl)
theorem dX6_isOneSideBySide_159 : decode cX6_isOneSideBySide 159 = .ok (.iload_n 1, 1) := dk_27 (dk_at dksX6_isOneSideBySide_6 20 rfl rfl)
theorem dX6_isOneSideBySide_160 : decode cX6_isOneSideBySide 160 = .ok (.invokevirtual 392, 3) := dk_182 1 136 (dk_at dksX6_isOneSideBySide_6 21 rfl rfl)
theorem dX6_isOneSideBySide_163 : decode cX6_isOneSideBySide 163 = .ok (.if_icmp .ne 7, 3) := dk_160 0 7 (dk_at dksX6_isOneSideBySide_7 0 rfl rfl)
theorem dX6_isOneSideBySide_166 : decode cX6_isOneSideBySide 166 = .ok (.iconst 1, 1) := dk_4 (dk_at dksX6_isOneSideBySide_7 3 rfl rfl)
theorem dX6_isOneSideBySide_167 : decode cX6_isOneSideBySide 167 = .ok (.goto 4, 3) := dk_167 0 4 (dk_at dksX6_isOneSideBySide_7 4 rfl rfl)
theorem dX6_isOneSideBySide_170 : decode cX6_isOneSideBySide 170 = .ok (.iconst 0, 1) := dk_3 (dk_at dksX6_isOneSideBySide_7 7 rfl rfl)
theorem dX6_isOneSideBySide_171 : decode cX6_isOneSideBySide 171 = .ok (.ireturn, 1) := dk_172 (dk_at dksX6_isOneSideBySide_7 8 rfl rfl)
abbrev cX6_rings : ByteArray := prog_12_method_95_code
def yX6_rings : MethodName := ⟨RX6, "rings", "(I)I"⟩
def dkwX6_rings_1 : List UInt8 := [96, 167, 0, 5, 16, 254, 172]
abbrev dktX6_rings_1 : List UInt8 := dkwX6_rings_1 ++ []
def dkwX6_rings_0 : List UInt8 := [42, 27, 182, 1, 117, 153, 0, 23, 42, 27, 182, 1, 94, 42, 27, 182, 1, 136, 100, 42, 27, 182, 1, 139]
abbrev dktX6_rings_0 : List UInt8 := dkwX6_rings_0 ++ dktX6_rings_1
theorem dksX6_rings_0 : cX6_rings.data.toList.drop 0 = dktX6_rings_0 := by decide +kernel
theorem dksX6_rings_1 : cX6_rings.data.toList.drop 24 = dktX6_rings_1 := dk_seg dksX6_rings_0 24 rfl rfl
theorem dX6_rings_0 : decode cX6_rings 0 = .ok (.aload_n 0, 1) := dk_42 (dk_at dksX6_rings_0 0 rfl rfl)
theorem dX6_rings_1 : decode cX6_rings 1 = .ok (.iload_n 1, 1) := dk_27 (dk_at dksX6_rings_0 1 rfl rfl)
theorem dX6_rings_2 : decode cX6_rings 2 = .ok (.invokevirtual 373, 3) := dk_182 1 117 (dk_at dksX6_rings_0 2 rfl rfl)
theorem dX6_rings_5 : decode cX6_rings 5 = .ok (.ifCond .eq 23, 3) := dk_153 0 23 (dk_at dksX6_rings_0 5 rfl rfl)
theorem dX6_rings_8 : decode cX6_rings 8 = .ok (.aload_n 0, 1) := dk_42 (dk_at dksX6_rings_0 8 rfl rfl)
theorem dX6_rings_9 : decode cX6_rings 9 = .ok (.iload_n 1, 1) := dk_27 (dk_at dksX6_rings_0 9 rfl rfl)
theorem dX6_rings_10 : decode cX6_rings 10 = .ok (.invokevirtual 350, 3) := dk_182 1 94 (dk_at dksX6_rings_0 10 rfl rfl)
theorem dX6_rings_13 : decode cX6_rings 13 = .ok (.aload_n 0, 1) := dk_42 (dk_at dksX6_rings_0 13 rfl rfl)
theorem dX6_rings_14 : decode cX6_rings 14 = .ok (.iload_n 1, 1) := dk_27 (dk_at dksX6_rings_0 14 rfl rfl)
theorem dX6_rings_15 : decode cX6_rings 15 = .ok (.invokevirtual 392, 3) := dk_182 1 136 (dk_at dksX6_rings_0 15 rfl rfl)
theorem dX6_rings_18 : decode cX6_rings 18 = .ok (.isub, 1) := dk_100 (dk_at dksX6_rings_0 18 rfl rfl)
theorem dX6_rings_19 : decode cX6_rings 19 = .ok (.aload_n 0, 1) := dk_42 (dk_at dksX6_rings_0 19 rfl rfl)
theorem dX6_rings_20 : decode cX6_rings 20 = .ok (.iload_n 1, 1) := dk_27 (dk_at dksX6_rings_0 20 rfl rfl)
theorem dX6_rings_21 : decode cX6_rings 21 = .ok (.invokevirtual 395, 3) := dk_182 1 139 (dk_at dksX6_rings_0 21 rfl rfl)
theorem dX6_rings_24 : decode cX6_rings 24 = .ok (.iadd, 1) := dk_96 (dk_at dksX6_rings_1 0 rfl rfl)
theorem dX6_rings_25 : decode cX6_rings 25 = .ok (.goto 5, 3) := dk_167 0 5 (dk_at dksX6_rings_1 1 rfl rfl)
theorem dX6_rings_28 : decode cX6_rings 28 = .ok (.bipush (-2), 2) := dk_16 254 (dk_at dksX6_rings_1 4 rfl rfl)
theorem dX6_rings_30 : decode cX6_rings 30 = .ok (.ireturn, 1) := dk_172 (dk_at dksX6_rings_1 6 rfl rfl)
abbrev cX6_bridges : ByteArray := prog_12_method_96_code
def yX6_bridges : MethodName := ⟨RX6, "bridges", "(I)I"⟩
def dkwX6_bridges_7 : List UInt8 := [167, 255, 114, 132, 3, 1, 167, 255, 99, 28, 172]
abbrev dktX6_bridges_7 : List UInt8 := dkwX6_bridges_7 ++ []
def dkwX6_bridges_6 : List UInt8 := [16, 80, 27, 104, 21, 5, 96, 92, 46, 4, 21, 4, 5, 96, 7, 112, 120, 130, 79, 132, 4, 1]
abbrev dktX6_bridges_6 : List UInt8 := dkwX6_bridges_6 ++ dktX6_bridges_7
def dkwX6_bridges_5 : List UInt8 := [96, 61, 42, 180, 0, 70, 16, 80, 27, 104, 29, 96, 92, 46, 4, 21, 4, 120, 130, 79, 42, 180, 0, 70]
abbrev dktX6_bridges_5 : List UInt8 := dkwX6_bridges_5 ++ dktX6_bridges_6
def dkwX6_bridges_4 : List UInt8 := [79, 42, 29, 27, 182, 1, 123, 28, 42, 180, 0, 76, 21, 5, 46, 2, 160, 0, 7, 4, 167, 0, 4, 3]
abbrev dktX6_bridges_4 : List UInt8 := dkwX6_bridges_4 ++ dktX6_bridges_5
def dkwX6_bridges_3 : List UInt8 := [130, 79, 42, 180, 0, 70, 16, 80, 27, 104, 21, 5, 96, 92, 46, 4, 21, 4, 5, 96, 7, 112, 120, 130]
abbrev dktX6_bridges_3 : List UInt8 := dkwX6_bridges_3 ++ dktX6_bridges_4
def dkwX6_bridges_2 : List UInt8 := [29, 21, 4, 182, 1, 32, 54, 5, 42, 180, 0, 70, 16, 80, 27, 104, 29, 96, 92, 46, 4, 21, 4, 120]
abbrev dktX6_bridges_2 : List UInt8 := dkwX6_bridges_2 ++ dktX6_bridges_3
def dkwX6_bridges_1 : List UInt8 := [21, 4, 5, 163, 0, 142, 42, 29, 27, 182, 1, 88, 21, 4, 184, 1, 67, 154, 0, 6, 167, 0, 119, 42]
abbrev dktX6_bridges_1 : List UInt8 := dkwX6_bridges_1 ++ dktX6_bridges_2
def dkwX6_bridges_0 : List UInt8 := [42, 27, 182, 1, 117, 154, 0, 6, 16, 254, 172, 3, 61, 3, 62, 29, 16, 80, 162, 0, 157, 4, 54, 4]
abbrev dktX6_bridges_0 : List UInt8 := dkwX6_bridges_0 ++ dktX6_bridges_1
theorem dksX6_bridges_0 : cX6_bridges.data.toList.drop 0 = dktX6_bridges_0 := by decide +kernel
theorem dksX6_bridges_1 : cX6_bridges.data.toList.drop 24 = dktX6_bridges_1 := dk_seg dksX6_bridges_0 24 rfl rfl
theorem dksX6_bridges_2 : cX6_bridges.data.toList.drop 48 = dktX6_bridges_2 := dk_seg dksX6_bridges_1 24 rfl rfl
theorem dksX6_bridges_3 : cX6_bridges.data.toList.drop 72 = dktX6_bridges_3 := dk_seg dksX6_bridges_2 24 rfl rfl
theorem dksX6_bridges_4 : cX6_bridges.data.toList.drop 96 = dktX6_bridges_4 := dk_seg dksX6_bridges_3 24 rfl rfl
theorem dksX6_bridges_5 : cX6_bridges.data.toList.drop 120 = dktX6_bridges_5 := dk_seg dksX6_bridges_4 24 rfl rfl
theorem dksX6_bridges_6 : cX6_bridges.data.toList.drop 144 = dktX6_bridges_6 := dk_seg dksX6_bridges_5 24 rfl rfl
theorem dksX6_bridges_7 : cX6_bridges.data.toList.drop 166 = dktX6_bridges_7 := dk_seg dksX6_bridges_6 22 rfl rfl
theorem dX6_bridges_0 : decode cX6_bridges 0 = .ok (.aload_n 0, 1) := dk_42 (dk_at dksX6_bridges_0 0 rfl rfl)
theorem dX6_bridges_1 : decode cX6_bridges 1 = .ok (.iload_n 1, 1) := dk_27 (dk_at dksX6_bridges_0 1 rfl rfl)
theorem dX6_bridges_2 : decode cX6_bridges 2 = .ok (.invokevirtual 373, 3) := dk_182 1 117 (dk_at dksX6_bridges_0 2 rfl rfl)
theorem dX6_bridges_5 : decode cX6_bridges 5 = .ok (.ifCond .ne 6, 3) := dk_154 0 6 (dk_at dksX6_bridges_0 5 rfl rfl)
theorem dX6_bridges_8 : decode cX6_bridges 8 = .ok (.bipush (-2), 2) := dk_16 254 (dk_at dksX6_bridges_0 8 rfl rfl)
theorem dX6_bridges_10 : decode cX6_bridges 10 = .ok (.ireturn, 1) := dk_172 (dk_at dksX6_bridges_0 10 rfl rfl)
theorem dX6_bridges_11 : decode cX6_bridges 11 = .ok (.iconst 0, 1) := dk_3 (dk_at dksX6_bridges_0 11 rfl rfl)
theorem dX6_bridges_12 : decode cX6_bridges 12 = .ok (.istore_n 2, 1) := dk_61 (dk_at dksX6_bridges_0 12 rfl rfl)
theorem dX6_bridges_13 : decode cX6_bridges 13 = .ok (.iconst 0, 1) := dk_3 (dk_at dksX6_bridges_0 13 rfl rfl)
theorem dX6_bridges_14 : decode cX6_bridges 14 = .ok (.istore_n 3, 1) := dk_62 (dk_at dksX6_bridges_0 14 rfl rfl)
theorem dX6_bridges_15 : decode cX6_bridges 15 = .ok (.iload_n 3, 1) := dk_29 (dk_at dksX6_bridges_0 15 rfl rfl)
theorem dX6_bridges_16 : decode cX6_bridges 16 = .ok (.bipush 80, 2) := dk_16 80 (dk_at dksX6_bridges_0 16 rfl rfl)
theorem dX6_bridges_18 : decode cX6_bridges 18 = .ok (.if_icmp .ge 157, 3) := dk_162 0 157 (dk_at dksX6_bridges_0 18 rfl rfl)
theorem dX6_bridges_21 : decode cX6_bridges 21 = .ok (.iconst 1, 1) := dk_4 (dk_at dksX6_bridges_0 21 rfl rfl)
theorem dX6_bridges_22 : decode cX6_bridges 22 = .ok (.istore 4, 2) := dk_54 4 (dk_at dksX6_bridges_0 22 rfl rfl)
theorem dX6_bridges_24 : decode cX6_bridges 24 = .ok (.iload 4, 2) := dk_21 4 (dk_at dksX6_bridges_1 0 rfl rfl)
theorem dX6_bridges_26 : decode cX6_bridges 26 = .ok (.iconst 2, 1) := dk_5 (dk_at dksX6_bridges_1 2 rfl rfl)
theorem dX6_bridges_27 : decode cX6_bridges 27 = .ok (.if_icmp .gt 142, 3) := dk_163 0 142 (dk_at dksX6_bridges_1 3 rfl rfl)
theorem dX6_bridges_30 : decode cX6_bridges 30 = .ok (.aload_n 0, 1) := dk_42 (dk_at dksX6_bridges_1 6 rfl rfl)
theorem dX6_bridges_31 : decode cX6_bridges 31 = .ok (.iload_n 3, 1) := dk_29 (dk_at dksX6_bridges_1 7 rfl rfl)
theorem dX6_bridges_32 : decode cX6_bridges 32 = .ok (.iload_n 1, 1) := dk_27 (dk_at dksX6_bridges_1 8 rfl rfl)
theorem dX6_bridges_33 : decode cX6_bridges 33 = .ok (.invokevirtual 344, 3) := dk_182 1 88 (dk_at dksX6_bridges_1 9 rfl rfl)
theorem dX6_bridges_36 : decode cX6_bridges 36 = .ok (.iload 4, 2) := dk_21 4 (dk_at dksX6_bridges_1 12 rfl rfl)
theorem dX6_bridges_38 : decode cX6_bridges 38 = .ok (.invokestatic 323, 3) := dk_184 1 67 (dk_at dksX6_bridges_1 14 rfl rfl)
theorem dX6_bridges_41 : decode cX6_bridges 41 = .ok (.ifCond .ne 6, 3) := dk_154 0 6 (dk_at dksX6_bridges_1 17 rfl rfl)
theorem dX6_bridges_44 : decode cX6_bridges 44 = .ok (.goto 119, 3) := dk_167 0 119 (dk_at dksX6_bridges_1 20 rfl rfl)
theorem dX6_bridges_47 : decode cX6_bridges 47 = .ok (.aload_n 0, 1) := dk_42 (dk_at dksX6_bridges_1 23 rfl rfl)
theorem dX6_bridges_48 : decode cX6_bridges 48 = .ok (.iload_n 3, 1) := dk_29 (dk_at dksX6_bridges_2 0 rfl rfl)
theorem dX6_bridges_49 : decode cX6_bridges 49 = .ok (.iload 4, 2) := dk_21 4 (dk_at dksX6_bridges_2 1 rfl rfl)
theorem dX6_bridges_51 : decode cX6_bridges 51 = .ok (.invokevirtual 288, 3) := dk_182 1 32 (dk_at dksX6_bridges_2 3 rfl rfl)
theorem dX6_bridges_54 : decode cX6_bridges 54 = .ok (.istore 5, 2) := dk_54 5 (dk_at dksX6_bridges_2 6 rfl rfl)
theorem dX6_bridges_56 : decode cX6_bridges 56 = .ok (.aload_n 0, 1) := dk_42 (dk_at dksX6_bridges_2 8 rfl rfl)
theorem dX6_bridges_57 : decode cX6_bridges 57 = .ok (.getfield 70, 3) := dk_180 0 70 (dk_at dksX6_bridges_2 9 rfl rfl)
theorem dX6_bridges_60 : decode cX6_bridges 60 = .ok (.bipush 80, 2) := dk_16 80 (dk_at dksX6_bridges_2 12 rfl rfl)
theorem dX6_bridges_62 : decode cX6_bridges 62 = .ok (.iload_n 1, 1) := dk_27 (dk_at dksX6_bridges_2 14 rfl rfl)
theorem dX6_bridges_63 : decode cX6_bridges 63 = .ok (.imul, 1) := dk_104 (dk_at dksX6_bridges_2 15 rfl rfl)
theorem dX6_bridges_64 : decode cX6_bridges 64 = .ok (.iload_n 3, 1) := dk_29 (dk_at dksX6_bridges_2 16 rfl rfl)
theorem dX6_bridges_65 : decode cX6_bridges 65 = .ok (.iadd, 1) := dk_96 (dk_at dksX6_bridges_2 17 rfl rfl)
theorem dX6_bridges_66 : decode cX6_bridges 66 = .ok (.dup2, 1) := dk_92 (dk_at dksX6_bridges_2 18 rfl rfl)
theorem dX6_bridges_67 : decode cX6_bridges 67 = .ok (.iaload, 1) := dk_46 (dk_at dksX6_bridges_2 19 rfl rfl)
theorem dX6_bridges_68 : decode cX6_bridges 68 = .ok (.iconst 1, 1) := dk_4 (dk_at dksX6_bridges_2 20 rfl rfl)
theorem dX6_bridges_69 : decode cX6_bridges 69 = .ok (.iload 4, 2) := dk_21 4 (dk_at dksX6_bridges_2 21 rfl rfl)
theorem dX6_bridges_71 : decode cX6_bridges 71 = .ok (.ishl, 1) := dk_120 (dk_at dksX6_bridges_2 23 rfl rfl)
theorem dX6_bridges_72 : decode cX6_bridges 72 = .ok (.ixor, 1) := dk_130 (dk_at dksX6_bridges_3 0 rfl rfl)
theorem dX6_bridges_73 : decode cX6_bridges 73 = .ok (.iastore, 1) := dk_79 (dk_at dksX6_bridges_3 1 rfl rfl)
theorem dX6_bridges_74 : decode cX6_bridges 74 = .ok (.aload_n 0, 1) := dk_42 (dk_at dksX6_bridges_3 2 rfl rfl)
theorem dX6_bridges_75 : decode cX6_bridges 75 = .ok (.getfield 70, 3) := dk_180 0 70 (dk_at dksX6_bridges_3 3 rfl rfl)
theorem dX6_bridges_78 : decode cX6_bridges 78 = .ok (.bipush 80, 2) := dk_16 80 (dk_at dksX6_bridges_3 6 rfl rfl)
theorem dX6_bridges_80 : decode cX6_bridges 80 = .ok (.iload_n 1, 1) := dk_27 (dk_at dksX6_bridges_3 8 rfl rfl)
theorem dX6_bridges_81 : decode cX6_bridges 81 = .ok (.imul, 1) := dk_104 (dk_at dksX6_bridges_3 9 rfl rfl)
theorem dX6_bridges_82 : decode cX6_bridges 82 = .ok (.iload 5, 2) := dk_21 5 (dk_at dksX6_bridges_3 10 rfl rfl)
theorem dX6_bridges_84 : decode cX6_bridges 84 = .ok (.iadd, 1) := dk_96 (dk_at dksX6_bridges_3 12 rfl rfl)
theorem dX6_bridges_85 : decode cX6_bridges 85 = .ok (.dup2, 1) := dk_92 (dk_at dksX6_bridges_3 13 rfl rfl)
theorem dX6_bridges_86 : decode cX6_bridges 86 = .ok (.iaload, 1) := dk_46 (dk_at dksX6_bridges_3 14 rfl rfl)
theorem dX6_bridges_87 : decode cX6_bridges 87 = .ok (.iconst 1, 1) := dk_4 (dk_at dksX6_bridges_3 15 rfl rfl)
theorem dX6_bridges_88 : decode cX6_bridges 88 = .ok (.iload 4, 2) := dk_21 4 (dk_at dksX6_bridges_3 16 rfl rfl)
theorem dX6_bridges_90 : decode cX6_bridges 90 = .ok (.iconst 2, 1) := dk_5 (dk_at dksX6_bridges_3 18 rfl rfl)
theorem dX6_bridges_91 : decode cX6_bridges 91 = .ok (.iadd, 1) := dk_96 (dk_at dksX6_bridges_3 19 rfl rfl)
theorem dX6_bridges_92 : decode cX6_bridges 92 = .ok (.iconst 4, 1) := dk_7 (dk_at dksX6_bridges_3 20 rfl rfl)
theorem dX6_bridges_93 : decode cX6_bridges 93 = .ok (.irem, 1) := dk_112 (dk_at dksX6_bridges_3 21 rfl rfl)
theorem dX6_bridges_94 : decode cX6_bridges 94 = .ok (.ishl, 1) := dk_120 (dk_at dksX6_bridges_3 22 rfl rfl)
theorem dX6_bridges_95 : decode cX6_bridges 95 = .ok (.ixor, 1) := dk_130 (dk_at dksX6_bridges_3 23 rfl rfl)
theorem dX6_bridges_96 : decode cX6_bridges 96 = .ok (.iastore, 1) := dk_79 (dk_at dksX6_bridges_4 0 rfl rfl)
theorem dX6_bridges_97 : decode cX6_bridges 97 = .ok (.aload_n 0, 1) := dk_42 (dk_at dksX6_bridges_4 1 rfl rfl)
theorem dX6_bridges_98 : decode cX6_bridges 98 = .ok (.iload_n 3, 1) := dk_29 (dk_at dksX6_bridges_4 2 rfl rfl)
theorem dX6_bridges_99 : decode cX6_bridges 99 = .ok (.iload_n 1, 1) := dk_27 (dk_at dksX6_bridges_4 3 rfl rfl)
theorem dX6_bridges_100 : decode cX6_bridges 100 = .ok (.invokevirtual 379, 3) := dk_182 1 123 (dk_at dksX6_bridges_4 4 rfl rfl)
theorem dX6_bridges_103 : decode cX6_bridges 103 = .ok (.iload_n 2, 1) := dk_28 (dk_at dksX6_bridges_4 7 rfl rfl)
theorem dX6_bridges_104 : decode cX6_bridges 104 = .ok (.aload_n 0, 1) := dk_42 (dk_at dksX6_bridges_4 8 rfl rfl)
theorem dX6_bridges_105 : decode cX6_bridges 105 = .ok (.getfield 76, 3) := dk_180 0 76 (dk_at dksX6_bridges_4 9 rfl rfl)
theorem dX6_bridges_108 : decode cX6_bridges 108 = .ok (.iload 5, 2) := dk_21 5 (dk_at dksX6_bridges_4 12 rfl rfl)
theorem dX6_bridges_110 : decode cX6_bridges 110 = .ok (.iaload, 1) := dk_46 (dk_at dksX6_bridges_4 14 rfl rfl)
theorem dX6_bridges_111 : decode cX6_bridges 111 = .ok (.iconst (-1), 1) := dk_2 (dk_at dksX6_bridges_4 15 rfl rfl)
theorem dX6_bridges_112 : decode cX6_bridges 112 = .ok (.if_icmp .ne 7, 3) := dk_160 0 7 (dk_at dksX6_bridges_4 16 rfl rfl)
theorem dX6_bridges_115 : decode cX6_bridges 115 = .ok (.iconst 1, 1) := dk_4 (dk_at dksX6_bridges_4 19 rfl rfl)
theorem dX6_bridges_116 : decode cX6_bridges 116 = .ok (.goto 4, 3) := dk_167 0 4 (dk_at dksX6_bridges_4 20 rfl rfl)
theorem dX6_bridges_119 : decode cX6_bridges 119 = .ok (.iconst 0, 1) := dk_3 (dk_at dksX6_bridges_4 23 rfl rfl)
theorem dX6_bridges_120 : decode cX6_bridges 120 = .ok (.iadd, 1) := dk_96 (dk_at dksX6_bridges_5 0 rfl rfl)
theorem dX6_bridges_121 : decode cX6_bridges 121 = .ok (.istore_n 2, 1) := dk_61 (dk_at dksX6_bridges_5 1 rfl rfl)
theorem dX6_bridges_122 : decode cX6_bridges 122 = .ok (.aload_n 0, 1) := dk_42 (dk_at dksX6_bridges_5 2 rfl rfl)
theorem dX6_bridges_123 : decode cX6_bridges 123 = .ok (.getfield 70, 3) := dk_180 0 70 (dk_at dksX6_bridges_5 3 rfl rfl)
theorem dX6_bridges_126 : decode cX6_bridges 126 = .ok (.bipush 80, 2) := dk_16 80 (dk_at dksX6_bridges_5 6 rfl rfl)
theorem dX6_bridges_128 : decode cX6_bridges 128 = .ok (.iload_n 1, 1) := dk_27 (dk_at dksX6_bridges_5 8 rfl rfl)
theorem dX6_bridges_129 : decode cX6_bridges 129 = .ok (.imul, 1) := dk_104 (dk_at dksX6_bridges_5 9 rfl rfl)
theorem dX6_bridges_130 : decode cX6_bridges 130 = .ok (.iload_n 3, 1) := dk_29 (dk_at dksX6_bridges_5 10 rfl rfl)
theorem dX6_bridges_131 : decode cX6_bridges 131 = .ok (.iadd, 1) := dk_96 (dk_at dksX6_bridges_5 11 rfl rfl)
theorem dX6_bridges_132 : decode cX6_bridges 132 = .ok (.dup2, 1) := dk_92 (dk_at dksX6_bridges_5 12 rfl rfl)
theorem dX6_bridges_133 : decode cX6_bridges 133 = .ok (.iaload, 1) := dk_46 (dk_at dksX6_bridges_5 13 rfl rfl)
theorem dX6_bridges_134 : decode cX6_bridges 134 = .ok (.iconst 1, 1) := dk_4 (dk_at dksX6_bridges_5 14 rfl rfl)
theorem dX6_bridges_135 : decode cX6_bridges 135 = .ok (.iload 4, 2) := dk_21 4 (dk_at dksX6_bridges_5 15 rfl rfl)
theorem dX6_bridges_137 : decode cX6_bridges 137 = .ok (.ishl, 1) := dk_120 (dk_at dksX6_bridges_5 17 rfl rfl)
theorem dX6_bridges_138 : decode cX6_bridges 138 = .ok (.ixor, 1) := dk_130 (dk_at dksX6_bridges_5 18 rfl rfl)
theorem dX6_bridges_139 : decode cX6_bridges 139 = .ok (.iastore, 1) := dk_79 (dk_at dksX6_bridges_5 19 rfl rfl)
theorem dX6_bridges_140 : decode cX6_bridges 140 = .ok (.aload_n 0, 1) := dk_42 (dk_at dksX6_bridges_5 20 rfl rfl)
theorem dX6_bridges_141 : decode cX6_bridges 141 = .ok (.getfield 70, 3) := dk_180 0 70 (dk_at dksX6_bridges_5 21 rfl rfl)
theorem dX6_bridges_144 : decode cX6_bridges 144 = .ok (.bipush 80, 2) := dk_16 80 (dk_at dksX6_bridges_6 0 rfl rfl)
theorem dX6_bridges_146 : decode cX6_bridges 146 = .ok (.iload_n 1, 1) := dk_27 (dk_at dksX6_bridges_6 2 rfl rfl)
theorem dX6_bridges_147 : decode cX6_bridges 147 = .ok (.imul, 1) := dk_104 (dk_at dksX6_bridges_6 3 rfl rfl)
theorem dX6_bridges_148 : decode cX6_bridges 148 = .ok (.iload 5, 2) := dk_21 5 (dk_at dksX6_bridges_6 4 rfl rfl)
theorem dX6_bridges_150 : decode cX6_bridges 150 = .ok (.iadd, 1) := dk_96 (dk_at dksX6_bridges_6 6 rfl rfl)
theorem dX6_bridges_151 : decode cX6_bridges 151 = .ok (.dup2, 1) := dk_92 (dk_at dksX6_bridges_6 7 rfl rfl)
theorem dX6_bridges_152 : decode cX6_bridges 152 = .ok (.iaload, 1) := dk_46 (dk_at dksX6_bridges_6 8 rfl rfl)
theorem dX6_bridges_153 : decode cX6_bridges 153 = .ok (.iconst 1, 1) := dk_4 (dk_at dksX6_bridges_6 9 rfl rfl)
theorem dX6_bridges_154 : decode cX6_bridges 154 = .ok (.iload 4, 2) := dk_21 4 (dk_at dksX6_bridges_6 10 rfl rfl)
theorem dX6_bridges_156 : decode cX6_bridges 156 = .ok (.iconst 2, 1) := dk_5 (dk_at dksX6_bridges_6 12 rfl rfl)
theorem dX6_bridges_157 : decode cX6_bridges 157 = .ok (.iadd, 1) := dk_96 (dk_at dksX6_bridges_6 13 rfl rfl)
theorem dX6_bridges_158 : decode cX6_bridges 158 = .ok (.iconst 4, 1) := dk_7 (dk_at dksX6_bridges_6 14 rfl rfl)
theorem dX6_bridges_159 : decode cX6_bridges 159 = .ok (.irem, 1) := dk_112 (dk_at dksX6_bridges_6 15 rfl rfl)
theorem dX6_bridges_160 : decode cX6_bridges 160 = .ok (.ishl, 1) := dk_120 (dk_at dksX6_bridges_6 16 rfl rfl)
theorem dX6_bridges_161 : decode cX6_bridges 161 = .ok (.ixor, 1) := dk_130 (dk_at dksX6_bridges_6 17 rfl rfl)
theorem dX6_bridges_162 : decode cX6_bridges 162 = .ok (.iastore, 1) := dk_79 (dk_at dksX6_bridges_6 18 rfl rfl)
theorem dX6_bridges_163 : decode cX6_bridges 163 = .ok (.iinc 4 1, 3) := dk_132 4 1 (dk_at dksX6_bridges_6 19 rfl rfl)
theorem dX6_bridges_166 : decode cX6_bridges 166 = .ok (.goto (-142), 3) := dk_167 255 114 (dk_at dksX6_bridges_7 0 rfl rfl)
theorem dX6_bridges_169 : decode cX6_bridges 169 = .ok (.iinc 3 1, 3) := dk_132 3 1 (dk_at dksX6_bridges_7 3 rfl rfl)
theorem dX6_bridges_172 : decode cX6_bridges 172 = .ok (.goto (-157), 3) := dk_167 255 99 (dk_at dksX6_bridges_7 6 rfl rfl)
theorem dX6_bridges_175 : decode cX6_bridges 175 = .ok (.iload_n 2, 1) := dk_28 (dk_at dksX6_bridges_7 9 rfl rfl)
theorem dX6_bridges_176 : decode cX6_bridges 176 = .ok (.ireturn, 1) := dk_172 (dk_at dksX6_bridges_7 10 rfl rfl)
abbrev cX6_line : ByteArray := prog_12_method_97_code
def yX6_line : MethodName := ⟨RX6, "line", "(I)I"⟩
def dkwX6_line_3 : List UInt8 := [184, 1, 145, 61, 132, 4, 1, 167, 255, 202, 132, 3, 1, 167, 255, 187, 28, 172]
abbrev dktX6_line_3 : List UInt8 := dkwX6_line_3 ++ []
def dkwX6_line_2 : List UInt8 := [4, 160, 0, 19, 132, 5, 1, 42, 21, 6, 21, 4, 182, 1, 32, 54, 6, 167, 255, 227, 28, 21, 5]
abbrev dktX6_line_2 : List UInt8 := dkwX6_line_2 ++ dktX6_line_3
def dkwX6_line_1 : List UInt8 := [21, 4, 5, 163, 0, 54, 3, 54, 5, 29, 54, 6, 42, 21, 6, 27, 182, 1, 88, 21, 4, 184, 1, 67]
abbrev dktX6_line_1 : List UInt8 := dkwX6_line_1 ++ dktX6_line_2
def dkwX6_line_0 : List UInt8 := [42, 27, 182, 1, 117, 154, 0, 6, 16, 254, 172, 3, 61, 3, 62, 29, 16, 80, 162, 0, 69, 4, 54, 4]
abbrev dktX6_line_0 : List UInt8 := dkwX6_line_0 ++ dktX6_line_1
theorem dksX6_line_0 : cX6_line.data.toList.drop 0 = dktX6_line_0 := by decide +kernel
theorem dksX6_line_1 : cX6_line.data.toList.drop 24 = dktX6_line_1 := dk_seg dksX6_line_0 24 rfl rfl
theorem dksX6_line_2 : cX6_line.data.toList.drop 48 = dktX6_line_2 := dk_seg dksX6_line_1 24 rfl rfl
theorem dksX6_line_3 : cX6_line.data.toList.drop 71 = dktX6_line_3 := dk_seg dksX6_line_2 23 rfl rfl
theorem dX6_line_0 : decode cX6_line 0 = .ok (.aload_n 0, 1) := dk_42 (dk_at dksX6_line_0 0 rfl rfl)
theorem dX6_line_1 : decode cX6_line 1 = .ok (.iload_n 1, 1) := dk_27 (dk_at dksX6_line_0 1 rfl rfl)
theorem dX6_line_2 : decode cX6_line 2 = .ok (.invokevirtual 373, 3) := dk_182 1 117 (dk_at dksX6_line_0 2 rfl rfl)
theorem dX6_line_5 : decode cX6_line 5 = .ok (.ifCond .ne 6, 3) := dk_154 0 6 (dk_at dksX6_line_0 5 rfl rfl)
theorem dX6_line_8 : decode cX6_line 8 = .ok (.bipush (-2), 2) := dk_16 254 (dk_at dksX6_line_0 8 rfl rfl)
theorem dX6_line_10 : decode cX6_line 10 = .ok (.ireturn, 1) := dk_172 (dk_at dksX6_line_0 10 rfl rfl)
theorem dX6_line_11 : decode cX6_line 11 = .ok (.iconst 0, 1) := dk_3 (dk_at dksX6_line_0 11 rfl rfl)
theorem dX6_line_12 : decode cX6_line 12 = .ok (.istore_n 2, 1) := dk_61 (dk_at dksX6_line_0 12 rfl rfl)
theorem dX6_line_13 : decode cX6_line 13 = .ok (.iconst 0, 1) := dk_3 (dk_at dksX6_line_0 13 rfl rfl)
theorem dX6_line_14 : decode cX6_line 14 = .ok (.istore_n 3, 1) := dk_62 (dk_at dksX6_line_0 14 rfl rfl)
theorem dX6_line_15 : decode cX6_line 15 = .ok (.iload_n 3, 1) := dk_29 (dk_at dksX6_line_0 15 rfl rfl)
theorem dX6_line_16 : decode cX6_line 16 = .ok (.bipush 80, 2) := dk_16 80 (dk_at dksX6_line_0 16 rfl rfl)
theorem dX6_line_18 : decode cX6_line 18 = .ok (.if_icmp .ge 69, 3) := dk_162 0 69 (dk_at dksX6_line_0 18 rfl rfl)
theorem dX6_line_21 : decode cX6_line 21 = .ok (.iconst 1, 1) := dk_4 (dk_at dksX6_line_0 21 rfl rfl)
theorem dX6_line_22 : decode cX6_line 22 = .ok (.istore 4, 2) := dk_54 4 (dk_at dksX6_line_0 22 rfl rfl)
theorem dX6_line_24 : decode cX6_line 24 = .ok (.iload 4, 2) := dk_21 4 (dk_at dksX6_line_1 0 rfl rfl)
theorem dX6_line_26 : decode cX6_line 26 = .ok (.iconst 2, 1) := dk_5 (dk_at dksX6_line_1 2 rfl rfl)
theorem dX6_line_27 : decode cX6_line 27 = .ok (.if_icmp .gt 54, 3) := dk_163 0 54 (dk_at dksX6_line_1 3 rfl rfl)
theorem dX6_line_30 : decode cX6_line 30 = .ok (.iconst 0, 1) := dk_3 (dk_at dksX6_line_1 6 rfl rfl)
theorem dX6_line_31 : decode cX6_line 31 = .ok (.istore 5, 2) := dk_54 5 (dk_at dksX6_line_1 7 rfl rfl)
theorem dX6_line_33 : decode cX6_line 33 = .ok (.iload_n 3, 1) := dk_29 (dk_at dksX6_line_1 9 rfl rfl)
theorem dX6_line_34 : decode cX6_line 34 = .ok (.istore 6, 2) := dk_54 6 (dk_at dksX6_line_1 10 rfl rfl)
theorem dX6_line_36 : decode cX6_line 36 = .ok (.aload_n 0, 1) := dk_42 (dk_at dksX6_line_1 12 rfl rfl)
theorem dX6_line_37 : decode cX6_line 37 = .ok (.iload 6, 2) := dk_21 6 (dk_at dksX6_line_1 13 rfl rfl)
theorem dX6_line_39 : decode cX6_line 39 = .ok (.iload_n 1, 1) := dk_27 (dk_at dksX6_line_1 15 rfl rfl)
theorem dX6_line_40 : decode cX6_line 40 = .ok (.invokevirtual 344, 3) := dk_182 1 88 (dk_at dksX6_line_1 16 rfl rfl)
theorem dX6_line_43 : decode cX6_line 43 = .ok (.iload 4, 2) := dk_21 4 (dk_at dksX6_line_1 19 rfl rfl)
theorem dX6_line_45 : decode cX6_line 45 = .ok (.invokestatic 323, 3) := dk_184 1 67 (dk_at dksX6_line_1 21 rfl rfl)
theorem dX6_line_48 : decode cX6_line 48 = .ok (.iconst 1, 1) := dk_4 (dk_at dksX6_line_2 0 rfl rfl)
theorem dX6_line_49 : decode cX6_line 49 = .ok (.if_icmp .ne 19, 3) := dk_160 0 19 (dk_at dksX6_line_2 1 rfl rfl)
theorem dX6_line_52 : decode cX6_line 52 = .ok (.iinc 5 1, 3) := dk_132 5 1 (dk_at dksX6_line_2 4 rfl rfl)
theorem dX6_line_55 : decode cX6_line 55 = .ok (.aload_n 0, 1) := dk_42 (dk_at dksX6_line_2 7 rfl rfl)
theorem dX6_line_56 : decode cX6_line 56 = .ok (.iload 6, 2) := dk_21 6 (dk_at dksX6_line_2 8 rfl rfl)
theorem dX6_line_58 : decode cX6_line 58 = .ok (.iload 4, 2) := dk_21 4 (dk_at dksX6_line_2 10 rfl rfl)
theorem dX6_line_60 : decode cX6_line 60 = .ok (.invokevirtual 288, 3) := dk_182 1 32 (dk_at dksX6_line_2 12 rfl rfl)
theorem dX6_line_63 : decode cX6_line 63 = .ok (.istore 6, 2) := dk_54 6 (dk_at dksX6_line_2 15 rfl rfl)
theorem dX6_line_65 : decode cX6_line 65 = .ok (.goto (-29), 3) := dk_167 255 227 (dk_at dksX6_line_2 17 rfl rfl)
theorem dX6_line_68 : decode cX6_line 68 = .ok (.iload_n 2, 1) := dk_28 (dk_at dksX6_line_2 20 rfl rfl)
theorem dX6_line_69 : decode cX6_line 69 = .ok (.iload 5, 2) := dk_21 5 (dk_at dksX6_line_2 21 rfl rfl)
theorem dX6_line_71 : decode cX6_line 71 = .ok (.invokestatic 401, 3) := dk_184 1 145 (dk_at dksX6_line_3 0 rfl rfl)
theorem dX6_line_74 : decode cX6_line 74 = .ok (.istore_n 2, 1) := dk_61 (dk_at dksX6_line_3 3 rfl rfl)
theorem dX6_line_75 : decode cX6_line 75 = .ok (.iinc 4 1, 3) := dk_132 4 1 (dk_at dksX6_line_3 4 rfl rfl)
theorem dX6_line_78 : decode cX6_line 78 = .ok (.goto (-54), 3) := dk_167 255 202 (dk_at dksX6_line_3 7 rfl rfl)
theorem dX6_line_81 : decode cX6_line 81 = .ok (.iinc 3 1, 3) := dk_132 3 1 (dk_at dksX6_line_3 10 rfl rfl)
theorem dX6_line_84 : decode cX6_line 84 = .ok (.goto (-69), 3) := dk_167 255 187 (dk_at dksX6_line_3 13 rfl rfl)
theorem dX6_line_87 : decode cX6_line 87 = .ok (.iload_n 2, 1) := dk_28 (dk_at dksX6_line_3 16 rfl rfl)
theorem dX6_line_88 : decode cX6_line 88 = .ok (.ireturn, 1) := dk_172 (dk_at dksX6_line_3 17 rfl rfl)
abbrev cX6_first : ByteArray := prog_12_method_98_code
def yX6_first : MethodName := ⟨RX6, "first", "(I)I"⟩
def dkwX6_first_1 : List UInt8 := [182, 1, 130, 153, 0, 5, 28, 172, 132, 2, 1, 167, 255, 234, 2, 172]
abbrev dktX6_first_1 : List UInt8 := dkwX6_first_1 ++ []
def dkwX6_first_0 : List UInt8 := [42, 27, 182, 1, 97, 154, 0, 6, 16, 254, 172, 3, 61, 28, 42, 182, 0, 118, 163, 0, 20, 42, 27, 28]
abbrev dktX6_first_0 : List UInt8 := dkwX6_first_0 ++ dktX6_first_1
theorem dksX6_first_0 : cX6_first.data.toList.drop 0 = dktX6_first_0 := by decide +kernel
theorem dksX6_first_1 : cX6_first.data.toList.drop 24 = dktX6_first_1 := dk_seg dksX6_first_0 24 rfl rfl
theorem dX6_first_0 : decode cX6_first 0 = .ok (.aload_n 0, 1) := dk_42 (dk_at dksX6_first_0 0 rfl rfl)
theorem dX6_first_1 : decode cX6_first 1 = .ok (.iload_n 1, 1) := dk_27 (dk_at dksX6_first_0 1 rfl rfl)
theorem dX6_first_2 : decode cX6_first 2 = .ok (.invokevirtual 353, 3) := dk_182 1 97 (dk_at dksX6_first_0 2 rfl rfl)
theorem dX6_first_5 : decode cX6_first 5 = .ok (.ifCond .ne 6, 3) := dk_154 0 6 (dk_at dksX6_first_0 5 rfl rfl)
theorem dX6_first_8 : decode cX6_first 8 = .ok (.bipush (-2), 2) := dk_16 254 (dk_at dksX6_first_0 8 rfl rfl)
theorem dX6_first_10 : decode cX6_first 10 = .ok (.ireturn, 1) := dk_172 (dk_at dksX6_first_0 10 rfl rfl)
theorem dX6_first_11 : decode cX6_first 11 = .ok (.iconst 0, 1) := dk_3 (dk_at dksX6_first_0 11 rfl rfl)
theorem dX6_first_12 : decode cX6_first 12 = .ok (.istore_n 2, 1) := dk_61 (dk_at dksX6_first_0 12 rfl rfl)
theorem dX6_first_13 : decode cX6_first 13 = .ok (.iload_n 2, 1) := dk_28 (dk_at dksX6_first_0 13 rfl rfl)
theorem dX6_first_14 : decode cX6_first 14 = .ok (.aload_n 0, 1) := dk_42 (dk_at dksX6_first_0 14 rfl rfl)
theorem dX6_first_15 : decode cX6_first 15 = .ok (.invokevirtual 118, 3) := dk_182 0 118 (dk_at dksX6_first_0 15 rfl rfl)
theorem dX6_first_18 : decode cX6_first 18 = .ok (.if_icmp .gt 20, 3) := dk_163 0 20 (dk_at dksX6_first_0 18 rfl rfl)
theorem dX6_first_21 : decode cX6_first 21 = .ok (.aload_n 0, 1) := dk_42 (dk_at dksX6_first_0 21 rfl rfl)
theorem dX6_first_22 : decode cX6_first 22 = .ok (.iload_n 1, 1) := dk_27 (dk_at dksX6_first_0 22 rfl rfl)
theorem dX6_first_23 : decode cX6_first 23 = .ok (.iload_n 2, 1) := dk_28 (dk_at dksX6_first_0 23 rfl rfl)
theorem dX6_first_24 : decode cX6_first 24 = .ok (.invokevirtual 386, 3) := dk_182 1 130 (dk_at dksX6_first_1 0 rfl rfl)
theorem dX6_first_27 : decode cX6_first 27 = .ok (.ifCond .eq 5, 3) := dk_153 0 5 (dk_at dksX6_first_1 3 rfl rfl)
theorem dX6_first_30 : decode cX6_first 30 = .ok (.iload_n 2, 1) := dk_28 (dk_at dksX6_first_1 6 rfl rfl)
theorem dX6_first_31 : decode cX6_first 31 = .ok (.ireturn, 1) := dk_172 (dk_at dksX6_first_1 7 rfl rfl)
theorem dX6_first_32 : decode cX6_first 32 = .ok (.iinc 2 1, 3) := dk_132 2 1 (dk_at dksX6_first_1 8 rfl rfl)
theorem dX6_first_35 : decode cX6_first 35 = .ok (.goto (-22), 3) := dk_167 255 234 (dk_at dksX6_first_1 11 rfl rfl)
theorem dX6_first_38 : decode cX6_first 38 = .ok (.iconst (-1), 1) := dk_2 (dk_at dksX6_first_1 14 rfl rfl)
theorem dX6_first_39 : decode cX6_first 39 = .ok (.ireturn, 1) := dk_172 (dk_at dksX6_first_1 15 rfl rfl)
abbrev cX6_walked : ByteArray := prog_12_method_100_code
def yX6_walked : MethodName := ⟨RX6, "walked", "(I)I"⟩
def dkwX6_walked_0 : List UInt8 := [42, 27, 182, 1, 97, 153, 0, 11, 42, 27, 182, 1, 148, 167, 0, 5, 16, 254, 172]
abbrev dktX6_walked_0 : List UInt8 := dkwX6_walked_0 ++ []
theorem dksX6_walked_0 : cX6_walked.data.toList.drop 0 = dktX6_walked_0 := by decide +kernel
theorem dX6_walked_0 : decode cX6_walked 0 = .ok (.aload_n 0, 1) := dk_42 (dk_at dksX6_walked_0 0 rfl rfl)
theorem dX6_walked_1 : decode cX6_walked 1 = .ok (.iload_n 1, 1) := dk_27 (dk_at dksX6_walked_0 1 rfl rfl)
theorem dX6_walked_2 : decode cX6_walked 2 = .ok (.invokevirtual 353, 3) := dk_182 1 97 (dk_at dksX6_walked_0 2 rfl rfl)
theorem dX6_walked_5 : decode cX6_walked 5 = .ok (.ifCond .eq 11, 3) := dk_153 0 11 (dk_at dksX6_walked_0 5 rfl rfl)
theorem dX6_walked_8 : decode cX6_walked 8 = .ok (.aload_n 0, 1) := dk_42 (dk_at dksX6_walked_0 8 rfl rfl)
theorem dX6_walked_9 : decode cX6_walked 9 = .ok (.iload_n 1, 1) := dk_27 (dk_at dksX6_walked_0 9 rfl rfl)
theorem dX6_walked_10 : decode cX6_walked 10 = .ok (.invokevirtual 404, 3) := dk_182 1 148 (dk_at dksX6_walked_0 10 rfl rfl)
theorem dX6_walked_13 : decode cX6_walked 13 = .ok (.goto 5, 3) := dk_167 0 5 (dk_at dksX6_walked_0 13 rfl rfl)
theorem dX6_walked_16 : decode cX6_walked 16 = .ok (.bipush (-2), 2) := dk_16 254 (dk_at dksX6_walked_0 16 rfl rfl)
theorem dX6_walked_18 : decode cX6_walked 18 = .ok (.ireturn, 1) := dk_172 (dk_at dksX6_walked_0 18 rfl rfl)
abbrev cX6_walkedOf : ByteArray := prog_12_method_99_code
def yX6_walkedOf : MethodName := ⟨RX6, "walkedOf", "(I)I"⟩
def dkwX6_walkedOf_1 : List UInt8 := [120, 167, 0, 4, 3, 128, 61, 132, 3, 1, 167, 255, 226, 28, 172]
abbrev dktX6_walkedOf_1 : List UInt8 := dkwX6_walkedOf_1 ++ []
def dkwX6_walkedOf_0 : List UInt8 := [3, 61, 3, 62, 29, 42, 182, 0, 110, 162, 0, 28, 28, 42, 29, 27, 182, 1, 108, 153, 0, 9, 4, 29]
abbrev dktX6_walkedOf_0 : List UInt8 := dkwX6_walkedOf_0 ++ dktX6_walkedOf_1
theorem dksX6_walkedOf_0 : cX6_walkedOf.data.toList.drop 0 = dktX6_walkedOf_0 := by decide +kernel
theorem dksX6_walkedOf_1 : cX6_walkedOf.data.toList.drop 24 = dktX6_walkedOf_1 := dk_seg dksX6_walkedOf_0 24 rfl rfl
theorem dX6_walkedOf_0 : decode cX6_walkedOf 0 = .ok (.iconst 0, 1) := dk_3 (dk_at dksX6_walkedOf_0 0 rfl rfl)
theorem dX6_walkedOf_1 : decode cX6_walkedOf 1 = .ok (.istore_n 2, 1) := dk_61 (dk_at dksX6_walkedOf_0 1 rfl rfl)
theorem dX6_walkedOf_2 : decode cX6_walkedOf 2 = .ok (.iconst 0, 1) := dk_3 (dk_at dksX6_walkedOf_0 2 rfl rfl)
theorem dX6_walkedOf_3 : decode cX6_walkedOf 3 = .ok (.istore_n 3, 1) := dk_62 (dk_at dksX6_walkedOf_0 3 rfl rfl)
theorem dX6_walkedOf_4 : decode cX6_walkedOf 4 = .ok (.iload_n 3, 1) := dk_29 (dk_at dksX6_walkedOf_0 4 rfl rfl)
theorem dX6_walkedOf_5 : decode cX6_walkedOf 5 = .ok (.aload_n 0, 1) := dk_42 (dk_at dksX6_walkedOf_0 5 rfl rfl)
theorem dX6_walkedOf_6 : decode cX6_walkedOf 6 = .ok (.invokevirtual 110, 3) := dk_182 0 110 (dk_at dksX6_walkedOf_0 6 rfl rfl)
theorem dX6_walkedOf_9 : decode cX6_walkedOf 9 = .ok (.if_icmp .ge 28, 3) := dk_162 0 28 (dk_at dksX6_walkedOf_0 9 rfl rfl)
theorem dX6_walkedOf_12 : decode cX6_walkedOf 12 = .ok (.iload_n 2, 1) := dk_28 (dk_at dksX6_walkedOf_0 12 rfl rfl)
theorem dX6_walkedOf_13 : decode cX6_walkedOf 13 = .ok (.aload_n 0, 1) := dk_42 (dk_at dksX6_walkedOf_0 13 rfl rfl)
theorem dX6_walkedOf_14 : decode cX6_walkedOf 14 = .ok (.iload_n 3, 1) := dk_29 (dk_at dksX6_walkedOf_0 14 rfl rfl)
theorem dX6_walkedOf_15 : decode cX6_walkedOf 15 = .ok (.iload_n 1, 1) := dk_27 (dk_at dksX6_walkedOf_0 15 rfl rfl)
theorem dX6_walkedOf_16 : decode cX6_walkedOf 16 = .ok (.invokevirtual 364, 3) := dk_182 1 108 (dk_at dksX6_walkedOf_0 16 rfl rfl)
theorem dX6_walkedOf_19 : decode cX6_walkedOf 19 = .ok (.ifCond .eq 9, 3) := dk_153 0 9 (dk_at dksX6_walkedOf_0 19 rfl rfl)
theorem dX6_walkedOf_22 : decode cX6_walkedOf 22 = .ok (.iconst 1, 1) := dk_4 (dk_at dksX6_walkedOf_0 22 rfl rfl)
theorem dX6_walkedOf_23 : decode cX6_walkedOf 23 = .ok (.iload_n 3, 1) := dk_29 (dk_at dksX6_walkedOf_0 23 rfl rfl)
theorem dX6_walkedOf_24 : decode cX6_walkedOf 24 = .ok (.ishl, 1) := dk_120 (dk_at dksX6_walkedOf_1 0 rfl rfl)
theorem dX6_walkedOf_25 : decode cX6_walkedOf 25 = .ok (.goto 4, 3) := dk_167 0 4 (dk_at dksX6_walkedOf_1 1 rfl rfl)
theorem dX6_walkedOf_28 : decode cX6_walkedOf 28 = .ok (.iconst 0, 1) := dk_3 (dk_at dksX6_walkedOf_1 4 rfl rfl)
theorem dX6_walkedOf_29 : decode cX6_walkedOf 29 = .ok (.ior, 1) := dk_128 (dk_at dksX6_walkedOf_1 5 rfl rfl)
theorem dX6_walkedOf_30 : decode cX6_walkedOf 30 = .ok (.istore_n 2, 1) := dk_61 (dk_at dksX6_walkedOf_1 6 rfl rfl)
theorem dX6_walkedOf_31 : decode cX6_walkedOf 31 = .ok (.iinc 3 1, 3) := dk_132 3 1 (dk_at dksX6_walkedOf_1 7 rfl rfl)
theorem dX6_walkedOf_34 : decode cX6_walkedOf 34 = .ok (.goto (-30), 3) := dk_167 255 226 (dk_at dksX6_walkedOf_1 10 rfl rfl)
theorem dX6_walkedOf_37 : decode cX6_walkedOf 37 = .ok (.iload_n 2, 1) := dk_28 (dk_at dksX6_walkedOf_1 13 rfl rfl)
theorem dX6_walkedOf_38 : decode cX6_walkedOf 38 = .ok (.ireturn, 1) := dk_172 (dk_at dksX6_walkedOf_1 14 rfl rfl)
abbrev cX6_crossing : ByteArray := prog_12_method_101_code
def yX6_crossing : MethodName := ⟨RX6, "crossing", "()I"⟩
def dkwX6_crossing_2 : List UInt8 := [164, 0, 5, 28, 60, 132, 2, 1, 167, 255, 217, 27, 172]
abbrev dktX6_crossing_2 : List UInt8 := dkwX6_crossing_2 ++ []
def dkwX6_crossing_1 : List UInt8 := [182, 1, 148, 184, 1, 91, 27, 2, 160, 0, 7, 3, 167, 0, 11, 42, 27, 182, 1, 148, 184, 1, 91]
abbrev dktX6_crossing_1 : List UInt8 := dkwX6_crossing_1 ++ dktX6_crossing_2
def dkwX6_crossing_0 : List UInt8 := [42, 182, 1, 79, 154, 0, 6, 16, 254, 172, 2, 60, 3, 61, 28, 16, 80, 162, 0, 39, 42, 28]
abbrev dktX6_crossing_0 : List UInt8 := dkwX6_crossing_0 ++ dktX6_crossing_1
theorem dksX6_crossing_0 : cX6_crossing.data.toList.drop 0 = dktX6_crossing_0 := by decide +kernel
theorem dksX6_crossing_1 : cX6_crossing.data.toList.drop 22 = dktX6_crossing_1 := dk_seg dksX6_crossing_0 22 rfl rfl
theorem dksX6_crossing_2 : cX6_crossing.data.toList.drop 45 = dktX6_crossing_2 := dk_seg dksX6_crossing_1 23 rfl rfl
theorem dX6_crossing_0 : decode cX6_crossing 0 = .ok (.aload_n 0, 1) := dk_42 (dk_at dksX6_crossing_0 0 rfl rfl)
theorem dX6_crossing_1 : decode cX6_crossing 1 = .ok (.invokevirtual 335, 3) := dk_182 1 79 (dk_at dksX6_crossing_0 1 rfl rfl)
theorem dX6_crossing_4 : decode cX6_crossing 4 = .ok (.ifCond .ne 6, 3) := dk_154 0 6 (dk_at dksX6_crossing_0 4 rfl rfl)
theorem dX6_crossing_7 : decode cX6_crossing 7 = .ok (.bipush (-2), 2) := dk_16 254 (dk_at dksX6_crossing_0 7 rfl rfl)
theorem dX6_crossing_9 : decode cX6_crossing 9 = .ok (.ireturn, 1) := dk_172 (dk_at dksX6_crossing_0 9 rfl rfl)
theorem dX6_crossing_10 : decode cX6_crossing 10 = .ok (.iconst (-1), 1) := dk_2 (dk_at dksX6_crossing_0 10 rfl rfl)
theorem dX6_crossing_11 : decode cX6_crossing 11 = .ok (.istore_n 1, 1) := dk_60 (dk_at dksX6_crossing_0 11 rfl rfl)
theorem dX6_crossing_12 : decode cX6_crossing 12 = .ok (.iconst 0, 1) := dk_3 (dk_at dksX6_crossing_0 12 rfl rfl)
theorem dX6_crossing_13 : decode cX6_crossing 13 = .ok (.istore_n 2, 1) := dk_61 (dk_at dksX6_crossing_0 13 rfl rfl)
theorem dX6_crossing_14 : decode cX6_crossing 14 = .ok (.iload_n 2, 1) := dk_28 (dk_at dksX6_crossing_0 14 rfl rfl)
theorem dX6_crossing_15 : decode cX6_crossing 15 = .ok (.bipush 80, 2) := dk_16 80 (dk_at dksX6_crossing_0 15 rfl rfl)
theorem dX6_crossing_17 : decode cX6_crossing 17 = .ok (.if_icmp .ge 39, 3) := dk_162 0 39 (dk_at dksX6_crossing_0 17 rfl rfl)
theorem dX6_crossing_20 : decode cX6_crossing 20 = .ok (.aload_n 0, 1) := dk_42 (dk_at dksX6_crossing_0 20 rfl rfl)
theorem dX6_crossing_21 : decode cX6_crossing 21 = .ok (.iload_n 2, 1) := dk_28 (dk_at dksX6_crossing_0 21 rfl rfl)
theorem dX6_crossing_22 : decode cX6_crossing 22 = .ok (.invokevirtual 404, 3) := dk_182 1 148 (dk_at dksX6_crossing_1 0 rfl rfl)
theorem dX6_crossing_25 : decode cX6_crossing 25 = .ok (.invokestatic 347, 3) := dk_184 1 91 (dk_at dksX6_crossing_1 3 rfl rfl)
theorem dX6_crossing_28 : decode cX6_crossing 28 = .ok (.iload_n 1, 1) := dk_27 (dk_at dksX6_crossing_1 6 rfl rfl)
theorem dX6_crossing_29 : decode cX6_crossing 29 = .ok (.iconst (-1), 1) := dk_2 (dk_at dksX6_crossing_1 7 rfl rfl)
theorem dX6_crossing_30 : decode cX6_crossing 30 = .ok (.if_icmp .ne 7, 3) := dk_160 0 7 (dk_at dksX6_crossing_1 8 rfl rfl)
theorem dX6_crossing_33 : decode cX6_crossing 33 = .ok (.iconst 0, 1) := dk_3 (dk_at dksX6_crossing_1 11 rfl rfl)
theorem dX6_crossing_34 : decode cX6_crossing 34 = .ok (.goto 11, 3) := dk_167 0 11 (dk_at dksX6_crossing_1 12 rfl rfl)
theorem dX6_crossing_37 : decode cX6_crossing 37 = .ok (.aload_n 0, 1) := dk_42 (dk_at dksX6_crossing_1 15 rfl rfl)
theorem dX6_crossing_38 : decode cX6_crossing 38 = .ok (.iload_n 1, 1) := dk_27 (dk_at dksX6_crossing_1 16 rfl rfl)
theorem dX6_crossing_39 : decode cX6_crossing 39 = .ok (.invokevirtual 404, 3) := dk_182 1 148 (dk_at dksX6_crossing_1 17 rfl rfl)
theorem dX6_crossing_42 : decode cX6_crossing 42 = .ok (.invokestatic 347, 3) := dk_184 1 91 (dk_at dksX6_crossing_1 20 rfl rfl)
theorem dX6_crossing_45 : decode cX6_crossing 45 = .ok (.if_icmp .le 5, 3) := dk_164 0 5 (dk_at dksX6_crossing_2 0 rfl rfl)
theorem dX6_crossing_48 : decode cX6_crossing 48 = .ok (.iload_n 2, 1) := dk_28 (dk_at dksX6_crossing_2 3 rfl rfl)
theorem dX6_crossing_49 : decode cX6_crossing 49 = .ok (.istore_n 1, 1) := dk_60 (dk_at dksX6_crossing_2 4 rfl rfl)
theorem dX6_crossing_50 : decode cX6_crossing 50 = .ok (.iinc 2 1, 3) := dk_132 2 1 (dk_at dksX6_crossing_2 5 rfl rfl)
theorem dX6_crossing_53 : decode cX6_crossing 53 = .ok (.goto (-39), 3) := dk_167 255 217 (dk_at dksX6_crossing_2 8 rfl rfl)
theorem dX6_crossing_56 : decode cX6_crossing 56 = .ok (.iload_n 1, 1) := dk_27 (dk_at dksX6_crossing_2 11 rfl rfl)
theorem dX6_crossing_57 : decode cX6_crossing 57 = .ok (.ireturn, 1) := dk_172 (dk_at dksX6_crossing_2 12 rfl rfl)
abbrev cX6_shared : ByteArray := prog_12_method_102_code
def yX6_shared : MethodName := ⟨RX6, "shared", "(II)I"⟩
def dkwX6_shared_2 : List UInt8 := [182, 1, 108, 153, 0, 7, 4, 167, 0, 4, 3, 96, 62, 132, 4, 1, 167, 255, 218, 29, 172]
abbrev dktX6_shared_2 : List UInt8 := dkwX6_shared_2 ++ []
def dkwX6_shared_1 : List UInt8 := [54, 4, 21, 4, 16, 80, 162, 0, 37, 29, 42, 27, 21, 4, 182, 1, 108, 153, 0, 17, 42, 28, 21, 4]
abbrev dktX6_shared_1 : List UInt8 := dkwX6_shared_1 ++ dktX6_shared_2
def dkwX6_shared_0 : List UInt8 := [42, 27, 182, 1, 100, 153, 0, 12, 42, 28, 133, 182, 1, 5, 154, 0, 6, 16, 254, 172, 3, 62, 3]
abbrev dktX6_shared_0 : List UInt8 := dkwX6_shared_0 ++ dktX6_shared_1
theorem dksX6_shared_0 : cX6_shared.data.toList.drop 0 = dktX6_shared_0 := by decide +kernel
theorem dksX6_shared_1 : cX6_shared.data.toList.drop 23 = dktX6_shared_1 := dk_seg dksX6_shared_0 23 rfl rfl
theorem dksX6_shared_2 : cX6_shared.data.toList.drop 47 = dktX6_shared_2 := dk_seg dksX6_shared_1 24 rfl rfl
theorem dX6_shared_0 : decode cX6_shared 0 = .ok (.aload_n 0, 1) := dk_42 (dk_at dksX6_shared_0 0 rfl rfl)
theorem dX6_shared_1 : decode cX6_shared 1 = .ok (.iload_n 1, 1) := dk_27 (dk_at dksX6_shared_0 1 rfl rfl)
theorem dX6_shared_2 : decode cX6_shared 2 = .ok (.invokevirtual 356, 3) := dk_182 1 100 (dk_at dksX6_shared_0 2 rfl rfl)
theorem dX6_shared_5 : decode cX6_shared 5 = .ok (.ifCond .eq 12, 3) := dk_153 0 12 (dk_at dksX6_shared_0 5 rfl rfl)
theorem dX6_shared_8 : decode cX6_shared 8 = .ok (.aload_n 0, 1) := dk_42 (dk_at dksX6_shared_0 8 rfl rfl)
theorem dX6_shared_9 : decode cX6_shared 9 = .ok (.iload_n 2, 1) := dk_28 (dk_at dksX6_shared_0 9 rfl rfl)
theorem dX6_shared_10 : decode cX6_shared 10 = .ok (.i2l, 1) := dk_133 (dk_at dksX6_shared_0 10 rfl rfl)
theorem dX6_shared_11 : decode cX6_shared 11 = .ok (.invokevirtual 261, 3) := dk_182 1 5 (dk_at dksX6_shared_0 11 rfl rfl)
theorem dX6_shared_14 : decode cX6_shared 14 = .ok (.ifCond .ne 6, 3) := dk_154 0 6 (dk_at dksX6_shared_0 14 rfl rfl)
theorem dX6_shared_17 : decode cX6_shared 17 = .ok (.bipush (-2), 2) := dk_16 254 (dk_at dksX6_shared_0 17 rfl rfl)
theorem dX6_shared_19 : decode cX6_shared 19 = .ok (.ireturn, 1) := dk_172 (dk_at dksX6_shared_0 19 rfl rfl)
theorem dX6_shared_20 : decode cX6_shared 20 = .ok (.iconst 0, 1) := dk_3 (dk_at dksX6_shared_0 20 rfl rfl)
theorem dX6_shared_21 : decode cX6_shared 21 = .ok (.istore_n 3, 1) := dk_62 (dk_at dksX6_shared_0 21 rfl rfl)
theorem dX6_shared_22 : decode cX6_shared 22 = .ok (.iconst 0, 1) := dk_3 (dk_at dksX6_shared_0 22 rfl rfl)
theorem dX6_shared_23 : decode cX6_shared 23 = .ok (.istore 4, 2) := dk_54 4 (dk_at dksX6_shared_1 0 rfl rfl)
theorem dX6_shared_25 : decode cX6_shared 25 = .ok (.iload 4, 2) := dk_21 4 (dk_at dksX6_shared_1 2 rfl rfl)
theorem dX6_shared_27 : decode cX6_shared 27 = .ok (.bipush 80, 2) := dk_16 80 (dk_at dksX6_shared_1 4 rfl rfl)
theorem dX6_shared_29 : decode cX6_shared 29 = .ok (.if_icmp .ge 37, 3) := dk_162 0 37 (dk_at dksX6_shared_1 6 rfl rfl)
theorem dX6_shared_32 : decode cX6_shared 32 = .ok (.iload_n 3, 1) := dk_29 (dk_at dksX6_shared_1 9 rfl rfl)
theorem dX6_shared_33 : decode cX6_shared 33 = .ok (.aload_n 0, 1) := dk_42 (dk_at dksX6_shared_1 10 rfl rfl)
theorem dX6_shared_34 : decode cX6_shared 34 = .ok (.iload_n 1, 1) := dk_27 (dk_at dksX6_shared_1 11 rfl rfl)
theorem dX6_shared_35 : decode cX6_shared 35 = .ok (.iload 4, 2) := dk_21 4 (dk_at dksX6_shared_1 12 rfl rfl)
theorem dX6_shared_37 : decode cX6_shared 37 = .ok (.invokevirtual 364, 3) := dk_182 1 108 (dk_at dksX6_shared_1 14 rfl rfl)
theorem dX6_shared_40 : decode cX6_shared 40 = .ok (.ifCond .eq 17, 3) := dk_153 0 17 (dk_at dksX6_shared_1 17 rfl rfl)
theorem dX6_shared_43 : decode cX6_shared 43 = .ok (.aload_n 0, 1) := dk_42 (dk_at dksX6_shared_1 20 rfl rfl)
theorem dX6_shared_44 : decode cX6_shared 44 = .ok (.iload_n 2, 1) := dk_28 (dk_at dksX6_shared_1 21 rfl rfl)
theorem dX6_shared_45 : decode cX6_shared 45 = .ok (.iload 4, 2) := dk_21 4 (dk_at dksX6_shared_1 22 rfl rfl)
theorem dX6_shared_47 : decode cX6_shared 47 = .ok (.invokevirtual 364, 3) := dk_182 1 108 (dk_at dksX6_shared_2 0 rfl rfl)
theorem dX6_shared_50 : decode cX6_shared 50 = .ok (.ifCond .eq 7, 3) := dk_153 0 7 (dk_at dksX6_shared_2 3 rfl rfl)
theorem dX6_shared_53 : decode cX6_shared 53 = .ok (.iconst 1, 1) := dk_4 (dk_at dksX6_shared_2 6 rfl rfl)
theorem dX6_shared_54 : decode cX6_shared 54 = .ok (.goto 4, 3) := dk_167 0 4 (dk_at dksX6_shared_2 7 rfl rfl)
theorem dX6_shared_57 : decode cX6_shared 57 = .ok (.iconst 0, 1) := dk_3 (dk_at dksX6_shared_2 10 rfl rfl)
theorem dX6_shared_58 : decode cX6_shared 58 = .ok (.iadd, 1) := dk_96 (dk_at dksX6_shared_2 11 rfl rfl)
theorem dX6_shared_59 : decode cX6_shared 59 = .ok (.istore_n 3, 1) := dk_62 (dk_at dksX6_shared_2 12 rfl rfl)
theorem dX6_shared_60 : decode cX6_shared 60 = .ok (.iinc 4 1, 3) := dk_132 4 1 (dk_at dksX6_shared_2 13 rfl rfl)
theorem dX6_shared_63 : decode cX6_shared 63 = .ok (.goto (-38), 3) := dk_167 255 218 (dk_at dksX6_shared_2 16 rfl rfl)
theorem dX6_shared_66 : decode cX6_shared 66 = .ok (.iload_n 3, 1) := dk_29 (dk_at dksX6_shared_2 19 rfl rfl)
theorem dX6_shared_67 : decode cX6_shared 67 = .ok (.ireturn, 1) := dk_172 (dk_at dksX6_shared_2 20 rfl rfl)
abbrev cX6_cover : ByteArray := prog_12_method_104_code
def yX6_cover : MethodName := ⟨RX6, "cover", "()I"⟩
def dkwX6_cover_0 : List UInt8 := [42, 182, 1, 79, 153, 0, 13, 42, 182, 1, 151, 184, 1, 91, 167, 0, 5, 16, 254, 172]
abbrev dktX6_cover_0 : List UInt8 := dkwX6_cover_0 ++ []
theorem dksX6_cover_0 : cX6_cover.data.toList.drop 0 = dktX6_cover_0 := by decide +kernel
theorem dX6_cover_0 : decode cX6_cover 0 = .ok (.aload_n 0, 1) := dk_42 (dk_at dksX6_cover_0 0 rfl rfl)
theorem dX6_cover_1 : decode cX6_cover 1 = .ok (.invokevirtual 335, 3) := dk_182 1 79 (dk_at dksX6_cover_0 1 rfl rfl)
theorem dX6_cover_4 : decode cX6_cover 4 = .ok (.ifCond .eq 13, 3) := dk_153 0 13 (dk_at dksX6_cover_0 4 rfl rfl)
theorem dX6_cover_7 : decode cX6_cover 7 = .ok (.aload_n 0, 1) := dk_42 (dk_at dksX6_cover_0 7 rfl rfl)
theorem dX6_cover_8 : decode cX6_cover 8 = .ok (.invokevirtual 407, 3) := dk_182 1 151 (dk_at dksX6_cover_0 8 rfl rfl)
theorem dX6_cover_11 : decode cX6_cover 11 = .ok (.invokestatic 347, 3) := dk_184 1 91 (dk_at dksX6_cover_0 11 rfl rfl)
theorem dX6_cover_14 : decode cX6_cover 14 = .ok (.goto 5, 3) := dk_167 0 5 (dk_at dksX6_cover_0 14 rfl rfl)
theorem dX6_cover_17 : decode cX6_cover 17 = .ok (.bipush (-2), 2) := dk_16 254 (dk_at dksX6_cover_0 17 rfl rfl)
theorem dX6_cover_19 : decode cX6_cover 19 = .ok (.ireturn, 1) := dk_172 (dk_at dksX6_cover_0 19 rfl rfl)
abbrev cX6_coversOf : ByteArray := prog_12_method_103_code
def yX6_coversOf : MethodName := ⟨RX6, "coversOf", "()I"⟩
def dkwX6_coversOf_4 : List UInt8 := [167, 255, 167, 27, 172]
abbrev dktX6_coversOf_4 : List UInt8 := dkwX6_coversOf_4 ++ []
def dkwX6_coversOf_3 : List UInt8 := [153, 0, 7, 4, 167, 0, 4, 3, 62, 132, 4, 1, 167, 255, 212, 29, 153, 0, 5, 28, 60, 132, 2, 1]
abbrev dktX6_coversOf_3 : List UInt8 := dkwX6_coversOf_3 ++ dktX6_coversOf_4
def dkwX6_coversOf_2 : List UInt8 := [153, 0, 39, 42, 21, 4, 42, 182, 0, 118, 182, 1, 130, 153, 0, 14, 42, 21, 4, 182, 1, 148, 28, 126]
abbrev dktX6_coversOf_2 : List UInt8 := dkwX6_coversOf_2 ++ dktX6_coversOf_3
def dkwX6_coversOf_1 : List UInt8 := [184, 1, 91, 162, 0, 7, 4, 167, 0, 4, 3, 62, 3, 54, 4, 21, 4, 16, 80, 162, 0, 43, 29]
abbrev dktX6_coversOf_1 : List UInt8 := dkwX6_coversOf_1 ++ dktX6_coversOf_2
def dkwX6_coversOf_0 : List UInt8 := [2, 60, 3, 61, 28, 42, 182, 1, 17, 163, 0, 87, 27, 2, 159, 0, 14, 28, 184, 1, 91, 27]
abbrev dktX6_coversOf_0 : List UInt8 := dkwX6_coversOf_0 ++ dktX6_coversOf_1
theorem dksX6_coversOf_0 : cX6_coversOf.data.toList.drop 0 = dktX6_coversOf_0 := by decide +kernel
theorem dksX6_coversOf_1 : cX6_coversOf.data.toList.drop 22 = dktX6_coversOf_1 := dk_seg dksX6_coversOf_0 22 rfl rfl
theorem dksX6_coversOf_2 : cX6_coversOf.data.toList.drop 45 = dktX6_coversOf_2 := dk_seg dksX6_coversOf_1 23 rfl rfl
theorem dksX6_coversOf_3 : cX6_coversOf.data.toList.drop 69 = dktX6_coversOf_3 := dk_seg dksX6_coversOf_2 24 rfl rfl
theorem dksX6_coversOf_4 : cX6_coversOf.data.toList.drop 93 = dktX6_coversOf_4 := dk_seg dksX6_coversOf_3 24 rfl rfl
theorem dX6_coversOf_0 : decode cX6_coversOf 0 = .ok (.iconst (-1), 1) := dk_2 (dk_at dksX6_coversOf_0 0 rfl rfl)
theorem dX6_coversOf_1 : decode cX6_coversOf 1 = .ok (.istore_n 1, 1) := dk_60 (dk_at dksX6_coversOf_0 1 rfl rfl)
theorem dX6_coversOf_2 : decode cX6_coversOf 2 = .ok (.iconst 0, 1) := dk_3 (dk_at dksX6_coversOf_0 2 rfl rfl)
theorem dX6_coversOf_3 : decode cX6_coversOf 3 = .ok (.istore_n 2, 1) := dk_61 (dk_at dksX6_coversOf_0 3 rfl rfl)
theorem dX6_coversOf_4 : decode cX6_coversOf 4 = .ok (.iload_n 2, 1) := dk_28 (dk_at dksX6_coversOf_0 4 rfl rfl)
theorem dX6_coversOf_5 : decode cX6_coversOf 5 = .ok (.aload_n 0, 1) := dk_42 (dk_at dksX6_coversOf_0 5 rfl rfl)
theorem dX6_coversOf_6 : decode cX6_coversOf 6 = .ok (.invokevirtual 273, 3) := dk_182 1 17 (dk_at dksX6_coversOf_0 6 rfl rfl)
theorem dX6_coversOf_9 : decode cX6_coversOf 9 = .ok (.if_icmp .gt 87, 3) := dk_163 0 87 (dk_at dksX6_coversOf_0 9 rfl rfl)
theorem dX6_coversOf_12 : decode cX6_coversOf 12 = .ok (.iload_n 1, 1) := dk_27 (dk_at dksX6_coversOf_0 12 rfl rfl)
theorem dX6_coversOf_13 : decode cX6_coversOf 13 = .ok (.iconst (-1), 1) := dk_2 (dk_at dksX6_coversOf_0 13 rfl rfl)
theorem dX6_coversOf_14 : decode cX6_coversOf 14 = .ok (.if_icmp .eq 14, 3) := dk_159 0 14 (dk_at dksX6_coversOf_0 14 rfl rfl)
theorem dX6_coversOf_17 : decode cX6_coversOf 17 = .ok (.iload_n 2, 1) := dk_28 (dk_at dksX6_coversOf_0 17 rfl rfl)
theorem dX6_coversOf_18 : decode cX6_coversOf 18 = .ok (.invokestatic 347, 3) := dk_184 1 91 (dk_at dksX6_coversOf_0 18 rfl rfl)
theorem dX6_coversOf_21 : decode cX6_coversOf 21 = .ok (.iload_n 1, 1) := dk_27 (dk_at dksX6_coversOf_0 21 rfl rfl)
theorem dX6_coversOf_22 : decode cX6_coversOf 22 = .ok (.invokestatic 347, 3) := dk_184 1 91 (dk_at dksX6_coversOf_1 0 rfl rfl)
theorem dX6_coversOf_25 : decode cX6_coversOf 25 = .ok (.if_icmp .ge 7, 3) := dk_162 0 7 (dk_at dksX6_coversOf_1 3 rfl rfl)
theorem dX6_coversOf_28 : decode cX6_coversOf 28 = .ok (.iconst 1, 1) := dk_4 (dk_at dksX6_coversOf_1 6 rfl rfl)
theorem dX6_coversOf_29 : decode cX6_coversOf 29 = .ok (.goto 4, 3) := dk_167 0 4 (dk_at dksX6_coversOf_1 7 rfl rfl)
theorem dX6_coversOf_32 : decode cX6_coversOf 32 = .ok (.iconst 0, 1) := dk_3 (dk_at dksX6_coversOf_1 10 rfl rfl)
theorem dX6_coversOf_33 : decode cX6_coversOf 33 = .ok (.istore_n 3, 1) := dk_62 (dk_at dksX6_coversOf_1 11 rfl rfl)
theorem dX6_coversOf_34 : decode cX6_coversOf 34 = .ok (.iconst 0, 1) := dk_3 (dk_at dksX6_coversOf_1 12 rfl rfl)
theorem dX6_coversOf_35 : decode cX6_coversOf 35 = .ok (.istore 4, 2) := dk_54 4 (dk_at dksX6_coversOf_1 13 rfl rfl)
theorem dX6_coversOf_37 : decode cX6_coversOf 37 = .ok (.iload 4, 2) := dk_21 4 (dk_at dksX6_coversOf_1 15 rfl rfl)
theorem dX6_coversOf_39 : decode cX6_coversOf 39 = .ok (.bipush 80, 2) := dk_16 80 (dk_at dksX6_coversOf_1 17 rfl rfl)
theorem dX6_coversOf_41 : decode cX6_coversOf 41 = .ok (.if_icmp .ge 43, 3) := dk_162 0 43 (dk_at dksX6_coversOf_1 19 rfl rfl)
theorem dX6_coversOf_44 : decode cX6_coversOf 44 = .ok (.iload_n 3, 1) := dk_29 (dk_at dksX6_coversOf_1 22 rfl rfl)
theorem dX6_coversOf_45 : decode cX6_coversOf 45 = .ok (.ifCond .eq 39, 3) := dk_153 0 39 (dk_at dksX6_coversOf_2 0 rfl rfl)
theorem dX6_coversOf_48 : decode cX6_coversOf 48 = .ok (.aload_n 0, 1) := dk_42 (dk_at dksX6_coversOf_2 3 rfl rfl)
theorem dX6_coversOf_49 : decode cX6_coversOf 49 = .ok (.iload 4, 2) := dk_21 4 (dk_at dksX6_coversOf_2 4 rfl rfl)
theorem dX6_coversOf_51 : decode cX6_coversOf 51 = .ok (.aload_n 0, 1) := dk_42 (dk_at dksX6_coversOf_2 6 rfl rfl)
theorem dX6_coversOf_52 : decode cX6_coversOf 52 = .ok (.invokevirtual 118, 3) := dk_182 0 118 (dk_at dksX6_coversOf_2 7 rfl rfl)
theorem dX6_coversOf_55 : decode cX6_coversOf 55 = .ok (.invokevirtual 386, 3) := dk_182 1 130 (dk_at dksX6_coversOf_2 10 rfl rfl)
theorem dX6_coversOf_58 : decode cX6_coversOf 58 = .ok (.ifCond .eq 14, 3) := dk_153 0 14 (dk_at dksX6_coversOf_2 13 rfl rfl)
theorem dX6_coversOf_61 : decode cX6_coversOf 61 = .ok (.aload_n 0, 1) := dk_42 (dk_at dksX6_coversOf_2 16 rfl rfl)
theorem dX6_coversOf_62 : decode cX6_coversOf 62 = .ok (.iload 4, 2) := dk_21 4 (dk_at dksX6_coversOf_2 17 rfl rfl)
theorem dX6_coversOf_64 : decode cX6_coversOf 64 = .ok (.invokevirtual 404, 3) := dk_182 1 148 (dk_at dksX6_coversOf_2 19 rfl rfl)
theorem dX6_coversOf_67 : decode cX6_coversOf 67 = .ok (.iload_n 2, 1) := dk_28 (dk_at dksX6_coversOf_2 22 rfl rfl)
theorem dX6_coversOf_68 : decode cX6_coversOf 68 = .ok (.iand, 1) := dk_126 (dk_at dksX6_coversOf_2 23 rfl rfl)
theorem dX6_coversOf_69 : decode cX6_coversOf 69 = .ok (.ifCond .eq 7, 3) := dk_153 0 7 (dk_at dksX6_coversOf_3 0 rfl rfl)
theorem dX6_coversOf_72 : decode cX6_coversOf 72 = .ok (.iconst 1, 1) := dk_4 (dk_at dksX6_coversOf_3 3 rfl rfl)
theorem dX6_coversOf_73 : decode cX6_coversOf 73 = .ok (.goto 4, 3) := dk_167 0 4 (dk_at dksX6_coversOf_3 4 rfl rfl)
theorem dX6_coversOf_76 : decode cX6_coversOf 76 = .ok (.iconst 0, 1) := dk_3 (dk_at dksX6_coversOf_3 7 rfl rfl)
theorem dX6_coversOf_77 : decode cX6_coversOf 77 = .ok (.istore_n 3, 1) := dk_62 (dk_at dksX6_coversOf_3 8 rfl rfl)
theorem dX6_coversOf_78 : decode cX6_coversOf 78 = .ok (.iinc 4 1, 3) := dk_132 4 1 (dk_at dksX6_coversOf_3 9 rfl rfl)
theorem dX6_coversOf_81 : decode cX6_coversOf 81 = .ok (.goto (-44), 3) := dk_167 255 212 (dk_at dksX6_coversOf_3 12 rfl rfl)
theorem dX6_coversOf_84 : decode cX6_coversOf 84 = .ok (.iload_n 3, 1) := dk_29 (dk_at dksX6_coversOf_3 15 rfl rfl)
theorem dX6_coversOf_85 : decode cX6_coversOf 85 = .ok (.ifCond .eq 5, 3) := dk_153 0 5 (dk_at dksX6_coversOf_3 16 rfl rfl)
theorem dX6_coversOf_88 : decode cX6_coversOf 88 = .ok (.iload_n 2, 1) := dk_28 (dk_at dksX6_coversOf_3 19 rfl rfl)
theorem dX6_coversOf_89 : decode cX6_coversOf 89 = .ok (.istore_n 1, 1) := dk_60 (dk_at dksX6_coversOf_3 20 rfl rfl)
theorem dX6_coversOf_90 : decode cX6_coversOf 90 = .ok (.iinc 2 1, 3) := dk_132 2 1 (dk_at dksX6_coversOf_3 21 rfl rfl)
theorem dX6_coversOf_93 : decode cX6_coversOf 93 = .ok (.goto (-89), 3) := dk_167 255 167 (dk_at dksX6_coversOf_4 0 rfl rfl)
theorem dX6_coversOf_96 : decode cX6_coversOf 96 = .ok (.iload_n 1, 1) := dk_27 (dk_at dksX6_coversOf_4 3 rfl rfl)
theorem dX6_coversOf_97 : decode cX6_coversOf 97 = .ok (.ireturn, 1) := dk_172 (dk_at dksX6_coversOf_4 4 rfl rfl)
abbrev cX6_covers : ByteArray := prog_12_method_105_code
def yX6_covers : MethodName := ⟨RX6, "covers", "()I"⟩
def dkwX6_covers_0 : List UInt8 := [42, 182, 1, 79, 153, 0, 10, 42, 182, 1, 151, 167, 0, 5, 16, 254, 172]
abbrev dktX6_covers_0 : List UInt8 := dkwX6_covers_0 ++ []
theorem dksX6_covers_0 : cX6_covers.data.toList.drop 0 = dktX6_covers_0 := by decide +kernel
theorem dX6_covers_0 : decode cX6_covers 0 = .ok (.aload_n 0, 1) := dk_42 (dk_at dksX6_covers_0 0 rfl rfl)
theorem dX6_covers_1 : decode cX6_covers 1 = .ok (.invokevirtual 335, 3) := dk_182 1 79 (dk_at dksX6_covers_0 1 rfl rfl)
theorem dX6_covers_4 : decode cX6_covers 4 = .ok (.ifCond .eq 10, 3) := dk_153 0 10 (dk_at dksX6_covers_0 4 rfl rfl)
theorem dX6_covers_7 : decode cX6_covers 7 = .ok (.aload_n 0, 1) := dk_42 (dk_at dksX6_covers_0 7 rfl rfl)
theorem dX6_covers_8 : decode cX6_covers 8 = .ok (.invokevirtual 407, 3) := dk_182 1 151 (dk_at dksX6_covers_0 8 rfl rfl)
theorem dX6_covers_11 : decode cX6_covers 11 = .ok (.goto 5, 3) := dk_167 0 5 (dk_at dksX6_covers_0 11 rfl rfl)
theorem dX6_covers_14 : decode cX6_covers 14 = .ok (.bipush (-2), 2) := dk_16 254 (dk_at dksX6_covers_0 14 rfl rfl)
theorem dX6_covers_16 : decode cX6_covers 16 = .ok (.ireturn, 1) := dk_172 (dk_at dksX6_covers_0 16 rfl rfl)
abbrev cX6_house : ByteArray := prog_12_method_107_code
def yX6_house : MethodName := ⟨RX6, "house", "(II)I"⟩
def dkwX6_house_1 : List UInt8 := [27, 96, 46, 167, 0, 5, 16, 254, 172]
abbrev dktX6_house_1 : List UInt8 := dkwX6_house_1 ++ []
def dkwX6_house_0 : List UInt8 := [42, 28, 182, 1, 117, 153, 0, 25, 42, 27, 182, 1, 154, 153, 0, 17, 42, 180, 0, 73, 16, 6, 28, 104]
abbrev dktX6_house_0 : List UInt8 := dkwX6_house_0 ++ dktX6_house_1
theorem dksX6_house_0 : cX6_house.data.toList.drop 0 = dktX6_house_0 := by decide +kernel
theorem dksX6_house_1 : cX6_house.data.toList.drop 24 = dktX6_house_1 := dk_seg dksX6_house_0 24 rfl rfl
theorem dX6_house_0 : decode cX6_house 0 = .ok (.aload_n 0, 1) := dk_42 (dk_at dksX6_house_0 0 rfl rfl)
theorem dX6_house_1 : decode cX6_house 1 = .ok (.iload_n 2, 1) := dk_28 (dk_at dksX6_house_0 1 rfl rfl)
theorem dX6_house_2 : decode cX6_house 2 = .ok (.invokevirtual 373, 3) := dk_182 1 117 (dk_at dksX6_house_0 2 rfl rfl)
theorem dX6_house_5 : decode cX6_house 5 = .ok (.ifCond .eq 25, 3) := dk_153 0 25 (dk_at dksX6_house_0 5 rfl rfl)
theorem dX6_house_8 : decode cX6_house 8 = .ok (.aload_n 0, 1) := dk_42 (dk_at dksX6_house_0 8 rfl rfl)
theorem dX6_house_9 : decode cX6_house 9 = .ok (.iload_n 1, 1) := dk_27 (dk_at dksX6_house_0 9 rfl rfl)
theorem dX6_house_10 : decode cX6_house 10 = .ok (.invokevirtual 410, 3) := dk_182 1 154 (dk_at dksX6_house_0 10 rfl rfl)
theorem dX6_house_13 : decode cX6_house 13 = .ok (.ifCond .eq 17, 3) := dk_153 0 17 (dk_at dksX6_house_0 13 rfl rfl)
theorem dX6_house_16 : decode cX6_house 16 = .ok (.aload_n 0, 1) := dk_42 (dk_at dksX6_house_0 16 rfl rfl)
theorem dX6_house_17 : decode cX6_house 17 = .ok (.getfield 73, 3) := dk_180 0 73 (dk_at dksX6_house_0 17 rfl rfl)
theorem dX6_house_20 : decode cX6_house 20 = .ok (.bipush 6, 2) := dk_16 6 (dk_at dksX6_house_0 20 rfl rfl)
theorem dX6_house_22 : decode cX6_house 22 = .ok (.iload_n 2, 1) := dk_28 (dk_at dksX6_house_0 22 rfl rfl)
theorem dX6_house_23 : decode cX6_house 23 = .ok (.imul, 1) := dk_104 (dk_at dksX6_house_0 23 rfl rfl)
theorem dX6_house_24 : decode cX6_house 24 = .ok (.iload_n 1, 1) := dk_27 (dk_at dksX6_house_1 0 rfl rfl)
theorem dX6_house_25 : decode cX6_house 25 = .ok (.iadd, 1) := dk_96 (dk_at dksX6_house_1 1 rfl rfl)
theorem dX6_house_26 : decode cX6_house 26 = .ok (.iaload, 1) := dk_46 (dk_at dksX6_house_1 2 rfl rfl)
theorem dX6_house_27 : decode cX6_house 27 = .ok (.goto 5, 3) := dk_167 0 5 (dk_at dksX6_house_1 3 rfl rfl)
theorem dX6_house_30 : decode cX6_house 30 = .ok (.bipush (-2), 2) := dk_16 254 (dk_at dksX6_house_1 6 rfl rfl)
theorem dX6_house_32 : decode cX6_house 32 = .ok (.ireturn, 1) := dk_172 (dk_at dksX6_house_1 8 rfl rfl)
abbrev cX6_isHouseTold : ByteArray := prog_12_method_106_code
def yX6_isHouseTold : MethodName := ⟨RX6, "isHouseTold", "(I)Z"⟩
def dkwX6_isHouseTold_0 : List UInt8 := [27, 133, 9, 42, 182, 1, 51, 4, 100, 133, 184, 0, 106, 172]
abbrev dktX6_isHouseTold_0 : List UInt8 := dkwX6_isHouseTold_0 ++ []
theorem dksX6_isHouseTold_0 : cX6_isHouseTold.data.toList.drop 0 = dktX6_isHouseTold_0 := by decide +kernel
theorem dX6_isHouseTold_0 : decode cX6_isHouseTold 0 = .ok (.iload_n 1, 1) := dk_27 (dk_at dksX6_isHouseTold_0 0 rfl rfl)
theorem dX6_isHouseTold_1 : decode cX6_isHouseTold 1 = .ok (.i2l, 1) := dk_133 (dk_at dksX6_isHouseTold_0 1 rfl rfl)
theorem dX6_isHouseTold_2 : decode cX6_isHouseTold 2 = .ok (.lconst 0, 1) := dk_9 (dk_at dksX6_isHouseTold_0 2 rfl rfl)
theorem dX6_isHouseTold_3 : decode cX6_isHouseTold 3 = .ok (.aload_n 0, 1) := dk_42 (dk_at dksX6_isHouseTold_0 3 rfl rfl)
theorem dX6_isHouseTold_4 : decode cX6_isHouseTold 4 = .ok (.invokevirtual 307, 3) := dk_182 1 51 (dk_at dksX6_isHouseTold_0 4 rfl rfl)
theorem dX6_isHouseTold_7 : decode cX6_isHouseTold 7 = .ok (.iconst 1, 1) := dk_4 (dk_at dksX6_isHouseTold_0 7 rfl rfl)
theorem dX6_isHouseTold_8 : decode cX6_isHouseTold 8 = .ok (.isub, 1) := dk_100 (dk_at dksX6_isHouseTold_0 8 rfl rfl)
theorem dX6_isHouseTold_9 : decode cX6_isHouseTold 9 = .ok (.i2l, 1) := dk_133 (dk_at dksX6_isHouseTold_0 9 rfl rfl)
theorem dX6_isHouseTold_10 : decode cX6_isHouseTold 10 = .ok (.invokestatic 106, 3) := dk_184 0 106 (dk_at dksX6_isHouseTold_0 10 rfl rfl)
theorem dX6_isHouseTold_13 : decode cX6_isHouseTold 13 = .ok (.ireturn, 1) := dk_172 (dk_at dksX6_isHouseTold_0 13 rfl rfl)
abbrev cX6_moved : ByteArray := prog_12_method_108_code
def yX6_moved : MethodName := ⟨RX6, "moved", "(I)I"⟩
def dkwX6_moved_1 : List UInt8 := [172]
abbrev dktX6_moved_1 : List UInt8 := dkwX6_moved_1 ++ []
def dkwX6_moved_0 : List UInt8 := [42, 182, 1, 79, 87, 42, 27, 182, 1, 154, 153, 0, 12, 42, 180, 0, 64, 27, 46, 167, 0, 5, 16, 254]
abbrev dktX6_moved_0 : List UInt8 := dkwX6_moved_0 ++ dktX6_moved_1
theorem dksX6_moved_0 : cX6_moved.data.toList.drop 0 = dktX6_moved_0 := by decide +kernel
theorem dksX6_moved_1 : cX6_moved.data.toList.drop 24 = dktX6_moved_1 := dk_seg dksX6_moved_0 24 rfl rfl
theorem dX6_moved_0 : decode cX6_moved 0 = .ok (.aload_n 0, 1) := dk_42 (dk_at dksX6_moved_0 0 rfl rfl)
theorem dX6_moved_1 : decode cX6_moved 1 = .ok (.invokevirtual 335, 3) := dk_182 1 79 (dk_at dksX6_moved_0 1 rfl rfl)
theorem dX6_moved_4 : decode cX6_moved 4 = .ok (.pop, 1) := dk_87 (dk_at dksX6_moved_0 4 rfl rfl)
theorem dX6_moved_5 : decode cX6_moved 5 = .ok (.aload_n 0, 1) := dk_42 (dk_at dksX6_moved_0 5 rfl rfl)
theorem dX6_moved_6 : decode cX6_moved 6 = .ok (.iload_n 1, 1) := dk_27 (dk_at dksX6_moved_0 6 rfl rfl)
theorem dX6_moved_7 : decode cX6_moved 7 = .ok (.invokevirtual 410, 3) := dk_182 1 154 (dk_at dksX6_moved_0 7 rfl rfl)
theorem dX6_moved_10 : decode cX6_moved 10 = .ok (.ifCond .eq 12, 3) := dk_153 0 12 (dk_at dksX6_moved_0 10 rfl rfl)
theorem dX6_moved_13 : decode cX6_moved 13 = .ok (.aload_n 0, 1) := dk_42 (dk_at dksX6_moved_0 13 rfl rfl)
theorem dX6_moved_14 : decode cX6_moved 14 = .ok (.getfield 64, 3) := dk_180 0 64 (dk_at dksX6_moved_0 14 rfl rfl)
theorem dX6_moved_17 : decode cX6_moved 17 = .ok (.iload_n 1, 1) := dk_27 (dk_at dksX6_moved_0 17 rfl rfl)
theorem dX6_moved_18 : decode cX6_moved 18 = .ok (.iaload, 1) := dk_46 (dk_at dksX6_moved_0 18 rfl rfl)
theorem dX6_moved_19 : decode cX6_moved 19 = .ok (.goto 5, 3) := dk_167 0 5 (dk_at dksX6_moved_0 19 rfl rfl)
theorem dX6_moved_22 : decode cX6_moved 22 = .ok (.bipush (-2), 2) := dk_16 254 (dk_at dksX6_moved_0 22 rfl rfl)
theorem dX6_moved_24 : decode cX6_moved 24 = .ok (.ireturn, 1) := dk_172 (dk_at dksX6_moved_1 0 rfl rfl)
abbrev cX6_moves : ByteArray := prog_12_method_109_code
def yX6_moves : MethodName := ⟨RX6, "moves", "(I)I"⟩
def dkwX6_moves_1 : List UInt8 := [46, 167, 0, 4, 2, 172]
abbrev dktX6_moves_1 : List UInt8 := dkwX6_moves_1 ++ []
def dkwX6_moves_0 : List UInt8 := [42, 27, 182, 1, 100, 154, 0, 6, 16, 254, 172, 42, 27, 182, 1, 105, 153, 0, 12, 42, 180, 0, 61, 27]
abbrev dktX6_moves_0 : List UInt8 := dkwX6_moves_0 ++ dktX6_moves_1
theorem dksX6_moves_0 : cX6_moves.data.toList.drop 0 = dktX6_moves_0 := by decide +kernel
theorem dksX6_moves_1 : cX6_moves.data.toList.drop 24 = dktX6_moves_1 := dk_seg dksX6_moves_0 24 rfl rfl
theorem dX6_moves_0 : decode cX6_moves 0 = .ok (.aload_n 0, 1) := dk_42 (dk_at dksX6_moves_0 0 rfl rfl)
theorem dX6_moves_1 : decode cX6_moves 1 = .ok (.iload_n 1, 1) := dk_27 (dk_at dksX6_moves_0 1 rfl rfl)
theorem dX6_moves_2 : decode cX6_moves 2 = .ok (.invokevirtual 356, 3) := dk_182 1 100 (dk_at dksX6_moves_0 2 rfl rfl)
theorem dX6_moves_5 : decode cX6_moves 5 = .ok (.ifCond .ne 6, 3) := dk_154 0 6 (dk_at dksX6_moves_0 5 rfl rfl)
theorem dX6_moves_8 : decode cX6_moves 8 = .ok (.bipush (-2), 2) := dk_16 254 (dk_at dksX6_moves_0 8 rfl rfl)
theorem dX6_moves_10 : decode cX6_moves 10 = .ok (.ireturn, 1) := dk_172 (dk_at dksX6_moves_0 10 rfl rfl)
theorem dX6_moves_11 : decode cX6_moves 11 = .ok (.aload_n 0, 1) := dk_42 (dk_at dksX6_moves_0 11 rfl rfl)
theorem dX6_moves_12 : decode cX6_moves 12 = .ok (.iload_n 1, 1) := dk_27 (dk_at dksX6_moves_0 12 rfl rfl)
theorem dX6_moves_13 : decode cX6_moves 13 = .ok (.invokevirtual 361, 3) := dk_182 1 105 (dk_at dksX6_moves_0 13 rfl rfl)
theorem dX6_moves_16 : decode cX6_moves 16 = .ok (.ifCond .eq 12, 3) := dk_153 0 12 (dk_at dksX6_moves_0 16 rfl rfl)
theorem dX6_moves_19 : decode cX6_moves 19 = .ok (.aload_n 0, 1) := dk_42 (dk_at dksX6_moves_0 19 rfl rfl)
theorem dX6_moves_20 : decode cX6_moves 20 = .ok (.getfield 61, 3) := dk_180 0 61 (dk_at dksX6_moves_0 20 rfl rfl)
theorem dX6_moves_23 : decode cX6_moves 23 = .ok (.iload_n 1, 1) := dk_27 (dk_at dksX6_moves_0 23 rfl rfl)
theorem dX6_moves_24 : decode cX6_moves 24 = .ok (.iaload, 1) := dk_46 (dk_at dksX6_moves_1 0 rfl rfl)
theorem dX6_moves_25 : decode cX6_moves 25 = .ok (.goto 4, 3) := dk_167 0 4 (dk_at dksX6_moves_1 1 rfl rfl)
theorem dX6_moves_28 : decode cX6_moves 28 = .ok (.iconst (-1), 1) := dk_2 (dk_at dksX6_moves_1 4 rfl rfl)
theorem dX6_moves_29 : decode cX6_moves 29 = .ok (.ireturn, 1) := dk_172 (dk_at dksX6_moves_1 5 rfl rfl)
abbrev cX6_served : ByteArray := prog_12_method_111_code
def yX6_served : MethodName := ⟨RX6, "served", "(I)I"⟩
def dkwX6_served_2 : List UInt8 := [96, 61, 132, 3, 1, 167, 255, 218, 28, 172]
abbrev dktX6_served_2 : List UInt8 := dkwX6_served_2 ++ []
def dkwX6_served_1 : List UInt8 := [42, 42, 180, 0, 73, 16, 6, 27, 104, 29, 96, 46, 27, 182, 1, 157, 153, 0, 7, 4, 167, 0, 4, 3]
abbrev dktX6_served_1 : List UInt8 := dkwX6_served_1 ++ dktX6_served_2
def dkwX6_served_0 : List UInt8 := [42, 27, 182, 1, 117, 154, 0, 6, 16, 254, 172, 3, 61, 3, 62, 29, 42, 182, 1, 51, 162, 0, 36, 28]
abbrev dktX6_served_0 : List UInt8 := dkwX6_served_0 ++ dktX6_served_1
theorem dksX6_served_0 : cX6_served.data.toList.drop 0 = dktX6_served_0 := by decide +kernel
theorem dksX6_served_1 : cX6_served.data.toList.drop 24 = dktX6_served_1 := dk_seg dksX6_served_0 24 rfl rfl
theorem dksX6_served_2 : cX6_served.data.toList.drop 48 = dktX6_served_2 := dk_seg dksX6_served_1 24 rfl rfl
theorem dX6_served_0 : decode cX6_served 0 = .ok (.aload_n 0, 1) := dk_42 (dk_at dksX6_served_0 0 rfl rfl)
theorem dX6_served_1 : decode cX6_served 1 = .ok (.iload_n 1, 1) := dk_27 (dk_at dksX6_served_0 1 rfl rfl)
theorem dX6_served_2 : decode cX6_served 2 = .ok (.invokevirtual 373, 3) := dk_182 1 117 (dk_at dksX6_served_0 2 rfl rfl)
theorem dX6_served_5 : decode cX6_served 5 = .ok (.ifCond .ne 6, 3) := dk_154 0 6 (dk_at dksX6_served_0 5 rfl rfl)
theorem dX6_served_8 : decode cX6_served 8 = .ok (.bipush (-2), 2) := dk_16 254 (dk_at dksX6_served_0 8 rfl rfl)
theorem dX6_served_10 : decode cX6_served 10 = .ok (.ireturn, 1) := dk_172 (dk_at dksX6_served_0 10 rfl rfl)
theorem dX6_served_11 : decode cX6_served 11 = .ok (.iconst 0, 1) := dk_3 (dk_at dksX6_served_0 11 rfl rfl)
theorem dX6_served_12 : decode cX6_served 12 = .ok (.istore_n 2, 1) := dk_61 (dk_at dksX6_served_0 12 rfl rfl)
theorem dX6_served_13 : decode cX6_served 13 = .ok (.iconst 0, 1) := dk_3 (dk_at dksX6_served_0 13 rfl rfl)
theorem dX6_served_14 : decode cX6_served 14 = .ok (.istore_n 3, 1) := dk_62 (dk_at dksX6_served_0 14 rfl rfl)
theorem dX6_served_15 : decode cX6_served 15 = .ok (.iload_n 3, 1) := dk_29 (dk_at dksX6_served_0 15 rfl rfl)
theorem dX6_served_16 : decode cX6_served 16 = .ok (.aload_n 0, 1) := dk_42 (dk_at dksX6_served_0 16 rfl rfl)
theorem dX6_served_17 : decode cX6_served 17 = .ok (.invokevirtual 307, 3) := dk_182 1 51 (dk_at dksX6_served_0 17 rfl rfl)
theorem dX6_served_20 : decode cX6_served 20 = .ok (.if_icmp .ge 36, 3) := dk_162 0 36 (dk_at dksX6_served_0 20 rfl rfl)
theorem dX6_served_23 : decode cX6_served 23 = .ok (.iload_n 2, 1) := dk_28 (dk_at dksX6_served_0 23 rfl rfl)
theorem dX6_served_24 : decode cX6_served 24 = .ok (.aload_n 0, 1) := dk_42 (dk_at dksX6_served_1 0 rfl rfl)
theorem dX6_served_25 : decode cX6_served 25 = .ok (.aload_n 0, 1) := dk_42 (dk_at dksX6_served_1 1 rfl rfl)
theorem dX6_served_26 : decode cX6_served 26 = .ok (.getfield 73, 3) := dk_180 0 73 (dk_at dksX6_served_1 2 rfl rfl)
theorem dX6_served_29 : decode cX6_served 29 = .ok (.bipush 6, 2) := dk_16 6 (dk_at dksX6_served_1 5 rfl rfl)
theorem dX6_served_31 : decode cX6_served 31 = .ok (.iload_n 1, 1) := dk_27 (dk_at dksX6_served_1 7 rfl rfl)
theorem dX6_served_32 : decode cX6_served 32 = .ok (.imul, 1) := dk_104 (dk_at dksX6_served_1 8 rfl rfl)
theorem dX6_served_33 : decode cX6_served 33 = .ok (.iload_n 3, 1) := dk_29 (dk_at dksX6_served_1 9 rfl rfl)
theorem dX6_served_34 : decode cX6_served 34 = .ok (.iadd, 1) := dk_96 (dk_at dksX6_served_1 10 rfl rfl)
theorem dX6_served_35 : decode cX6_served 35 = .ok (.iaload, 1) := dk_46 (dk_at dksX6_served_1 11 rfl rfl)
theorem dX6_served_36 : decode cX6_served 36 = .ok (.iload_n 1, 1) := dk_27 (dk_at dksX6_served_1 12 rfl rfl)
theorem dX6_served_37 : decode cX6_served 37 = .ok (.invokevirtual 413, 3) := dk_182 1 157 (dk_at dksX6_served_1 13 rfl rfl)
theorem dX6_served_40 : decode cX6_served 40 = .ok (.ifCond .eq 7, 3) := dk_153 0 7 (dk_at dksX6_served_1 16 rfl rfl)
theorem dX6_served_43 : decode cX6_served 43 = .ok (.iconst 1, 1) := dk_4 (dk_at dksX6_served_1 19 rfl rfl)
theorem dX6_served_44 : decode cX6_served 44 = .ok (.goto 4, 3) := dk_167 0 4 (dk_at dksX6_served_1 20 rfl rfl)
theorem dX6_served_47 : decode cX6_served 47 = .ok (.iconst 0, 1) := dk_3 (dk_at dksX6_served_1 23 rfl rfl)
theorem dX6_served_48 : decode cX6_served 48 = .ok (.iadd, 1) := dk_96 (dk_at dksX6_served_2 0 rfl rfl)
theorem dX6_served_49 : decode cX6_served 49 = .ok (.istore_n 2, 1) := dk_61 (dk_at dksX6_served_2 1 rfl rfl)
theorem dX6_served_50 : decode cX6_served 50 = .ok (.iinc 3 1, 3) := dk_132 3 1 (dk_at dksX6_served_2 2 rfl rfl)
theorem dX6_served_53 : decode cX6_served 53 = .ok (.goto (-38), 3) := dk_167 255 218 (dk_at dksX6_served_2 5 rfl rfl)
theorem dX6_served_56 : decode cX6_served 56 = .ok (.iload_n 2, 1) := dk_28 (dk_at dksX6_served_2 8 rfl rfl)
theorem dX6_served_57 : decode cX6_served 57 = .ok (.ireturn, 1) := dk_172 (dk_at dksX6_served_2 9 rfl rfl)
abbrev cX6_isServed : ByteArray := prog_12_method_110_code
def yX6_isServed : MethodName := ⟨RX6, "isServed", "(II)Z"⟩
def dkwX6_isServed_2 : List UInt8 := [167, 0, 4, 3, 62, 132, 4, 1, 167, 255, 206, 29, 172]
abbrev dktX6_isServed_2 : List UInt8 := dkwX6_isServed_2 ++ []
def dkwX6_isServed_1 : List UInt8 := [182, 1, 32, 2, 159, 0, 22, 42, 42, 27, 21, 4, 182, 1, 32, 28, 182, 1, 130, 153, 0, 7, 4]
abbrev dktX6_isServed_1 : List UInt8 := dkwX6_isServed_1 ++ dktX6_isServed_2
def dkwX6_isServed_0 : List UInt8 := [3, 62, 3, 54, 4, 21, 4, 7, 162, 0, 50, 27, 2, 159, 0, 45, 29, 154, 0, 29, 42, 27, 21, 4]
abbrev dktX6_isServed_0 : List UInt8 := dkwX6_isServed_0 ++ dktX6_isServed_1
theorem dksX6_isServed_0 : cX6_isServed.data.toList.drop 0 = dktX6_isServed_0 := by decide +kernel
theorem dksX6_isServed_1 : cX6_isServed.data.toList.drop 24 = dktX6_isServed_1 := dk_seg dksX6_isServed_0 24 rfl rfl
theorem dksX6_isServed_2 : cX6_isServed.data.toList.drop 47 = dktX6_isServed_2 := dk_seg dksX6_isServed_1 23 rfl rfl
theorem dX6_isServed_0 : decode cX6_isServed 0 = .ok (.iconst 0, 1) := dk_3 (dk_at dksX6_isServed_0 0 rfl rfl)
theorem dX6_isServed_1 : decode cX6_isServed 1 = .ok (.istore_n 3, 1) := dk_62 (dk_at dksX6_isServed_0 1 rfl rfl)
theorem dX6_isServed_2 : decode cX6_isServed 2 = .ok (.iconst 0, 1) := dk_3 (dk_at dksX6_isServed_0 2 rfl rfl)
theorem dX6_isServed_3 : decode cX6_isServed 3 = .ok (.istore 4, 2) := dk_54 4 (dk_at dksX6_isServed_0 3 rfl rfl)
theorem dX6_isServed_5 : decode cX6_isServed 5 = .ok (.iload 4, 2) := dk_21 4 (dk_at dksX6_isServed_0 5 rfl rfl)
theorem dX6_isServed_7 : decode cX6_isServed 7 = .ok (.iconst 4, 1) := dk_7 (dk_at dksX6_isServed_0 7 rfl rfl)
theorem dX6_isServed_8 : decode cX6_isServed 8 = .ok (.if_icmp .ge 50, 3) := dk_162 0 50 (dk_at dksX6_isServed_0 8 rfl rfl)
theorem dX6_isServed_11 : decode cX6_isServed 11 = .ok (.iload_n 1, 1) := dk_27 (dk_at dksX6_isServed_0 11 rfl rfl)
theorem dX6_isServed_12 : decode cX6_isServed 12 = .ok (.iconst (-1), 1) := dk_2 (dk_at dksX6_isServed_0 12 rfl rfl)
theorem dX6_isServed_13 : decode cX6_isServed 13 = .ok (.if_icmp .eq 45, 3) := dk_159 0 45 (dk_at dksX6_isServed_0 13 rfl rfl)
theorem dX6_isServed_16 : decode cX6_isServed 16 = .ok (.iload_n 3, 1) := dk_29 (dk_at dksX6_isServed_0 16 rfl rfl)
theorem dX6_isServed_17 : decode cX6_isServed 17 = .ok (.ifCond .ne 29, 3) := dk_154 0 29 (dk_at dksX6_isServed_0 17 rfl rfl)
theorem dX6_isServed_20 : decode cX6_isServed 20 = .ok (.aload_n 0, 1) := dk_42 (dk_at dksX6_isServed_0 20 rfl rfl)
theorem dX6_isServed_21 : decode cX6_isServed 21 = .ok (.iload_n 1, 1) := dk_27 (dk_at dksX6_isServed_0 21 rfl rfl)
theorem dX6_isServed_22 : decode cX6_isServed 22 = .ok (.iload 4, 2) := dk_21 4 (dk_at dksX6_isServed_0 22 rfl rfl)
theorem dX6_isServed_24 : decode cX6_isServed 24 = .ok (.invokevirtual 288, 3) := dk_182 1 32 (dk_at dksX6_isServed_1 0 rfl rfl)
theorem dX6_isServed_27 : decode cX6_isServed 27 = .ok (.iconst (-1), 1) := dk_2 (dk_at dksX6_isServed_1 3 rfl rfl)
theorem dX6_isServed_28 : decode cX6_isServed 28 = .ok (.if_icmp .eq 22, 3) := dk_159 0 22 (dk_at dksX6_isServed_1 4 rfl rfl)
theorem dX6_isServed_31 : decode cX6_isServed 31 = .ok (.aload_n 0, 1) := dk_42 (dk_at dksX6_isServed_1 7 rfl rfl)
theorem dX6_isServed_32 : decode cX6_isServed 32 = .ok (.aload_n 0, 1) := dk_42 (dk_at dksX6_isServed_1 8 rfl rfl)
theorem dX6_isServed_33 : decode cX6_isServed 33 = .ok (.iload_n 1, 1) := dk_27 (dk_at dksX6_isServed_1 9 rfl rfl)
theorem dX6_isServed_34 : decode cX6_isServed 34 = .ok (.iload 4, 2) := dk_21 4 (dk_at dksX6_isServed_1 10 rfl rfl)
theorem dX6_isServed_36 : decode cX6_isServed 36 = .ok (.invokevirtual 288, 3) := dk_182 1 32 (dk_at dksX6_isServed_1 12 rfl rfl)
theorem dX6_isServed_39 : decode cX6_isServed 39 = .ok (.iload_n 2, 1) := dk_28 (dk_at dksX6_isServed_1 15 rfl rfl)
theorem dX6_isServed_40 : decode cX6_isServed 40 = .ok (.invokevirtual 386, 3) := dk_182 1 130 (dk_at dksX6_isServed_1 16 rfl rfl)
theorem dX6_isServed_43 : decode cX6_isServed 43 = .ok (.ifCond .eq 7, 3) := dk_153 0 7 (dk_at dksX6_isServed_1 19 rfl rfl)
theorem dX6_isServed_46 : decode cX6_isServed 46 = .ok (.iconst 1, 1) := dk_4 (dk_at dksX6_isServed_1 22 rfl rfl)
theorem dX6_isServed_47 : decode cX6_isServed 47 = .ok (.goto 4, 3) := dk_167 0 4 (dk_at dksX6_isServed_2 0 rfl rfl)
theorem dX6_isServed_50 : decode cX6_isServed 50 = .ok (.iconst 0, 1) := dk_3 (dk_at dksX6_isServed_2 3 rfl rfl)
theorem dX6_isServed_51 : decode cX6_isServed 51 = .ok (.istore_n 3, 1) := dk_62 (dk_at dksX6_isServed_2 4 rfl rfl)
theorem dX6_isServed_52 : decode cX6_isServed 52 = .ok (.iinc 4 1, 3) := dk_132 4 1 (dk_at dksX6_isServed_2 5 rfl rfl)
theorem dX6_isServed_55 : decode cX6_isServed 55 = .ok (.goto (-50), 3) := dk_167 255 206 (dk_at dksX6_isServed_2 8 rfl rfl)
theorem dX6_isServed_58 : decode cX6_isServed 58 = .ok (.iload_n 3, 1) := dk_29 (dk_at dksX6_isServed_2 11 rfl rfl)
theorem dX6_isServed_59 : decode cX6_isServed 59 = .ok (.ireturn, 1) := dk_172 (dk_at dksX6_isServed_2 12 rfl rfl)
abbrev cX6_blame : ByteArray := prog_12_method_113_code
def yX6_blame : MethodName := ⟨RX6, "blame", "()I"⟩
def dkwX6_blame_3 : List UInt8 := [132, 4, 1, 167, 255, 209, 28, 172]
abbrev dktX6_blame_3 : List UInt8 := dkwX6_blame_3 ++ []
def dkwX6_blame_2 : List UInt8 := [182, 1, 76, 42, 182, 1, 160, 27, 161, 0, 6, 167, 0, 11, 42, 182, 1, 160, 60, 21, 4, 61]
abbrev dktX6_blame_2 : List UInt8 := dkwX6_blame_2 ++ dktX6_blame_3
def dkwX6_blame_1 : List UInt8 := [54, 4, 21, 4, 42, 182, 0, 110, 162, 0, 44, 42, 29, 4, 21, 4, 120, 2, 130, 126, 181, 1, 20, 42]
abbrev dktX6_blame_1 : List UInt8 := dkwX6_blame_1 ++ dktX6_blame_2
def dkwX6_blame_0 : List UInt8 := [42, 182, 1, 79, 154, 0, 6, 16, 254, 172, 42, 182, 1, 160, 60, 2, 61, 42, 180, 1, 20, 62, 3]
abbrev dktX6_blame_0 : List UInt8 := dkwX6_blame_0 ++ dktX6_blame_1
theorem dksX6_blame_0 : cX6_blame.data.toList.drop 0 = dktX6_blame_0 := by decide +kernel
theorem dksX6_blame_1 : cX6_blame.data.toList.drop 23 = dktX6_blame_1 := dk_seg dksX6_blame_0 23 rfl rfl
theorem dksX6_blame_2 : cX6_blame.data.toList.drop 47 = dktX6_blame_2 := dk_seg dksX6_blame_1 24 rfl rfl
theorem dksX6_blame_3 : cX6_blame.data.toList.drop 69 = dktX6_blame_3 := dk_seg dksX6_blame_2 22 rfl rfl
theorem dX6_blame_0 : decode cX6_blame 0 = .ok (.aload_n 0, 1) := dk_42 (dk_at dksX6_blame_0 0 rfl rfl)
theorem dX6_blame_1 : decode cX6_blame 1 = .ok (.invokevirtual 335, 3) := dk_182 1 79 (dk_at dksX6_blame_0 1 rfl rfl)
theorem dX6_blame_4 : decode cX6_blame 4 = .ok (.ifCond .ne 6, 3) := dk_154 0 6 (dk_at dksX6_blame_0 4 rfl rfl)
theorem dX6_blame_7 : decode cX6_blame 7 = .ok (.bipush (-2), 2) := dk_16 254 (dk_at dksX6_blame_0 7 rfl rfl)
theorem dX6_blame_9 : decode cX6_blame 9 = .ok (.ireturn, 1) := dk_172 (dk_at dksX6_blame_0 9 rfl rfl)
theorem dX6_blame_10 : decode cX6_blame 10 = .ok (.aload_n 0, 1) := dk_42 (dk_at dksX6_blame_0 10 rfl rfl)
theorem dX6_blame_11 : decode cX6_blame 11 = .ok (.invokevirtual 416, 3) := dk_182 1 160 (dk_at dksX6_blame_0 11 rfl rfl)
theorem dX6_blame_14 : decode cX6_blame 14 = .ok (.istore_n 1, 1) := dk_60 (dk_at dksX6_blame_0 14 rfl rfl)
theorem dX6_blame_15 : decode cX6_blame 15 = .ok (.iconst (-1), 1) := dk_2 (dk_at dksX6_blame_0 15 rfl rfl)
theorem dX6_blame_16 : decode cX6_blame 16 = .ok (.istore_n 2, 1) := dk_61 (dk_at dksX6_blame_0 16 rfl rfl)
theorem dX6_blame_17 : decode cX6_blame 17 = .ok (.aload_n 0, 1) := dk_42 (dk_at dksX6_blame_0 17 rfl rfl)
theorem dX6_blame_18 : decode cX6_blame 18 = .ok (.getfield 276, 3) := dk_180 1 20 (dk_at dksX6_blame_0 18 rfl rfl)
theorem dX6_blame_21 : decode cX6_blame 21 = .ok (.istore_n 3, 1) := dk_62 (dk_at dksX6_blame_0 21 rfl rfl)
theorem dX6_blame_22 : decode cX6_blame 22 = .ok (.iconst 0, 1) := dk_3 (dk_at dksX6_blame_0 22 rfl rfl)
theorem dX6_blame_23 : decode cX6_blame 23 = .ok (.istore 4, 2) := dk_54 4 (dk_at dksX6_blame_1 0 rfl rfl)
theorem dX6_blame_25 : decode cX6_blame 25 = .ok (.iload 4, 2) := dk_21 4 (dk_at dksX6_blame_1 2 rfl rfl)
theorem dX6_blame_27 : decode cX6_blame 27 = .ok (.aload_n 0, 1) := dk_42 (dk_at dksX6_blame_1 4 rfl rfl)
theorem dX6_blame_28 : decode cX6_blame 28 = .ok (.invokevirtual 110, 3) := dk_182 0 110 (dk_at dksX6_blame_1 5 rfl rfl)
theorem dX6_blame_31 : decode cX6_blame 31 = .ok (.if_icmp .ge 44, 3) := dk_162 0 44 (dk_at dksX6_blame_1 8 rfl rfl)
theorem dX6_blame_34 : decode cX6_blame 34 = .ok (.aload_n 0, 1) := dk_42 (dk_at dksX6_blame_1 11 rfl rfl)
theorem dX6_blame_35 : decode cX6_blame 35 = .ok (.iload_n 3, 1) := dk_29 (dk_at dksX6_blame_1 12 rfl rfl)
theorem dX6_blame_36 : decode cX6_blame 36 = .ok (.iconst 1, 1) := dk_4 (dk_at dksX6_blame_1 13 rfl rfl)
theorem dX6_blame_37 : decode cX6_blame 37 = .ok (.iload 4, 2) := dk_21 4 (dk_at dksX6_blame_1 14 rfl rfl)
theorem dX6_blame_39 : decode cX6_blame 39 = .ok (.ishl, 1) := dk_120 (dk_at dksX6_blame_1 16 rfl rfl)
theorem dX6_blame_40 : decode cX6_blame 40 = .ok (.iconst (-1), 1) := dk_2 (dk_at dksX6_blame_1 17 rfl rfl)
theorem dX6_blame_41 : decode cX6_blame 41 = .ok (.ixor, 1) := dk_130 (dk_at dksX6_blame_1 18 rfl rfl)
theorem dX6_blame_42 : decode cX6_blame 42 = .ok (.iand, 1) := dk_126 (dk_at dksX6_blame_1 19 rfl rfl)
theorem dX6_blame_43 : decode cX6_blame 43 = .ok (.putfield 276, 3) := dk_181 1 20 (dk_at dksX6_blame_1 20 rfl rfl)
theorem dX6_blame_46 : decode cX6_blame 46 = .ok (.aload_n 0, 1) := dk_42 (dk_at dksX6_blame_1 23 rfl rfl)
theorem dX6_blame_47 : decode cX6_blame 47 = .ok (.invokevirtual 332, 3) := dk_182 1 76 (dk_at dksX6_blame_2 0 rfl rfl)
theorem dX6_blame_50 : decode cX6_blame 50 = .ok (.aload_n 0, 1) := dk_42 (dk_at dksX6_blame_2 3 rfl rfl)
theorem dX6_blame_51 : decode cX6_blame 51 = .ok (.invokevirtual 416, 3) := dk_182 1 160 (dk_at dksX6_blame_2 4 rfl rfl)
theorem dX6_blame_54 : decode cX6_blame 54 = .ok (.iload_n 1, 1) := dk_27 (dk_at dksX6_blame_2 7 rfl rfl)
theorem dX6_blame_55 : decode cX6_blame 55 = .ok (.if_icmp .lt 6, 3) := dk_161 0 6 (dk_at dksX6_blame_2 8 rfl rfl)
theorem dX6_blame_58 : decode cX6_blame 58 = .ok (.goto 11, 3) := dk_167 0 11 (dk_at dksX6_blame_2 11 rfl rfl)
theorem dX6_blame_61 : decode cX6_blame 61 = .ok (.aload_n 0, 1) := dk_42 (dk_at dksX6_blame_2 14 rfl rfl)
theorem dX6_blame_62 : decode cX6_blame 62 = .ok (.invokevirtual 416, 3) := dk_182 1 160 (dk_at dksX6_blame_2 15 rfl rfl)
theorem dX6_blame_65 : decode cX6_blame 65 = .ok (.istore_n 1, 1) := dk_60 (dk_at dksX6_blame_2 18 rfl rfl)
theorem dX6_blame_66 : decode cX6_blame 66 = .ok (.iload 4, 2) := dk_21 4 (dk_at dksX6_blame_2 19 rfl rfl)
theorem dX6_blame_68 : decode cX6_blame 68 = .ok (.istore_n 2, 1) := dk_61 (dk_at dksX6_blame_2 21 rfl rfl)
theorem dX6_blame_69 : decode cX6_blame 69 = .ok (.iinc 4 1, 3) := dk_132 4 1 (dk_at dksX6_blame_3 0 rfl rfl)
theorem dX6_blame_72 : decode cX6_blame 72 = .ok (.goto (-47), 3) := dk_167 255 209 (dk_at dksX6_blame_3 3 rfl rfl)
theorem dX6_blame_75 : decode cX6_blame 75 = .ok (.iload_n 2, 1) := dk_28 (dk_at dksX6_blame_3 6 rfl rfl)
theorem dX6_blame_76 : decode cX6_blame 76 = .ok (.ireturn, 1) := dk_172 (dk_at dksX6_blame_3 7 rfl rfl)
abbrev cX6_movedAll : ByteArray := prog_12_method_112_code
def yX6_movedAll : MethodName := ⟨RX6, "movedAll", "()I"⟩
def dkwX6_movedAll_1 : List UInt8 := [167, 255, 236, 27, 172]
abbrev dktX6_movedAll_1 : List UInt8 := dkwX6_movedAll_1 ++ []
def dkwX6_movedAll_0 : List UInt8 := [3, 60, 3, 61, 28, 42, 182, 1, 51, 162, 0, 18, 27, 42, 180, 0, 64, 28, 46, 96, 60, 132, 2, 1]
abbrev dktX6_movedAll_0 : List UInt8 := dkwX6_movedAll_0 ++ dktX6_movedAll_1
theorem dksX6_movedAll_0 : cX6_movedAll.data.toList.drop 0 = dktX6_movedAll_0 := by decide +kernel
theorem dksX6_movedAll_1 : cX6_movedAll.data.toList.drop 24 = dktX6_movedAll_1 := dk_seg dksX6_movedAll_0 24 rfl rfl
theorem dX6_movedAll_0 : decode cX6_movedAll 0 = .ok (.iconst 0, 1) := dk_3 (dk_at dksX6_movedAll_0 0 rfl rfl)
theorem dX6_movedAll_1 : decode cX6_movedAll 1 = .ok (.istore_n 1, 1) := dk_60 (dk_at dksX6_movedAll_0 1 rfl rfl)
theorem dX6_movedAll_2 : decode cX6_movedAll 2 = .ok (.iconst 0, 1) := dk_3 (dk_at dksX6_movedAll_0 2 rfl rfl)
theorem dX6_movedAll_3 : decode cX6_movedAll 3 = .ok (.istore_n 2, 1) := dk_61 (dk_at dksX6_movedAll_0 3 rfl rfl)
theorem dX6_movedAll_4 : decode cX6_movedAll 4 = .ok (.iload_n 2, 1) := dk_28 (dk_at dksX6_movedAll_0 4 rfl rfl)
theorem dX6_movedAll_5 : decode cX6_movedAll 5 = .ok (.aload_n 0, 1) := dk_42 (dk_at dksX6_movedAll_0 5 rfl rfl)
theorem dX6_movedAll_6 : decode cX6_movedAll 6 = .ok (.invokevirtual 307, 3) := dk_182 1 51 (dk_at dksX6_movedAll_0 6 rfl rfl)
theorem dX6_movedAll_9 : decode cX6_movedAll 9 = .ok (.if_icmp .ge 18, 3) := dk_162 0 18 (dk_at dksX6_movedAll_0 9 rfl rfl)
theorem dX6_movedAll_12 : decode cX6_movedAll 12 = .ok (.iload_n 1, 1) := dk_27 (dk_at dksX6_movedAll_0 12 rfl rfl)
theorem dX6_movedAll_13 : decode cX6_movedAll 13 = .ok (.aload_n 0, 1) := dk_42 (dk_at dksX6_movedAll_0 13 rfl rfl)
theorem dX6_movedAll_14 : decode cX6_movedAll 14 = .ok (.getfield 64, 3) := dk_180 0 64 (dk_at dksX6_movedAll_0 14 rfl rfl)
theorem dX6_movedAll_17 : decode cX6_movedAll 17 = .ok (.iload_n 2, 1) := dk_28 (dk_at dksX6_movedAll_0 17 rfl rfl)
theorem dX6_movedAll_18 : decode cX6_movedAll 18 = .ok (.iaload, 1) := dk_46 (dk_at dksX6_movedAll_0 18 rfl rfl)
theorem dX6_movedAll_19 : decode cX6_movedAll 19 = .ok (.iadd, 1) := dk_96 (dk_at dksX6_movedAll_0 19 rfl rfl)
theorem dX6_movedAll_20 : decode cX6_movedAll 20 = .ok (.istore_n 1, 1) := dk_60 (dk_at dksX6_movedAll_0 20 rfl rfl)
theorem dX6_movedAll_21 : decode cX6_movedAll 21 = .ok (.iinc 2 1, 3) := dk_132 2 1 (dk_at dksX6_movedAll_0 21 rfl rfl)
theorem dX6_movedAll_24 : decode cX6_movedAll 24 = .ok (.goto (-20), 3) := dk_167 255 236 (dk_at dksX6_movedAll_1 0 rfl rfl)
theorem dX6_movedAll_27 : decode cX6_movedAll 27 = .ok (.iload_n 1, 1) := dk_27 (dk_at dksX6_movedAll_1 3 rfl rfl)
theorem dX6_movedAll_28 : decode cX6_movedAll 28 = .ok (.ireturn, 1) := dk_172 (dk_at dksX6_movedAll_1 4 rfl rfl)
abbrev cX6_ford : ByteArray := prog_12_method_114_code
def yX6_ford : MethodName := ⟨RX6, "ford", "()I"⟩
def dkwX6_ford_4 : List UInt8 := [182, 1, 163, 60, 29, 61, 132, 3, 1, 167, 255, 174, 28, 172]
abbrev dktX6_ford_4 : List UInt8 := dkwX6_ford_4 ++ []
def dkwX6_ford_3 : List UInt8 := [180, 0, 9, 16, 10, 29, 96, 46, 21, 4, 84, 42, 182, 1, 163, 27, 163, 0, 6, 167, 0, 10, 42]
abbrev dktX6_ford_3 : List UInt8 := dkwX6_ford_3 ++ dktX6_ford_4
def dkwX6_ford_2 : List UInt8 := [180, 0, 34, 42, 180, 0, 9, 16, 10, 29, 96, 46, 3, 84, 42, 182, 1, 76, 42, 180, 0, 34, 42]
abbrev dktX6_ford_2 : List UInt8 := dkwX6_ford_2 ++ dktX6_ford_3
def dkwX6_ford_1 : List UInt8 := [8, 46, 162, 0, 78, 42, 180, 0, 34, 42, 180, 0, 9, 16, 10, 29, 96, 46, 51, 54, 4, 42]
abbrev dktX6_ford_1 : List UInt8 := dkwX6_ford_1 ++ dktX6_ford_2
def dkwX6_ford_0 : List UInt8 := [42, 182, 1, 79, 154, 0, 6, 16, 254, 172, 42, 182, 1, 163, 60, 2, 61, 3, 62, 29, 42, 180, 0, 9]
abbrev dktX6_ford_0 : List UInt8 := dkwX6_ford_0 ++ dktX6_ford_1
theorem dksX6_ford_0 : cX6_ford.data.toList.drop 0 = dktX6_ford_0 := by decide +kernel
theorem dksX6_ford_1 : cX6_ford.data.toList.drop 24 = dktX6_ford_1 := dk_seg dksX6_ford_0 24 rfl rfl
theorem dksX6_ford_2 : cX6_ford.data.toList.drop 46 = dktX6_ford_2 := dk_seg dksX6_ford_1 22 rfl rfl
theorem dksX6_ford_3 : cX6_ford.data.toList.drop 69 = dktX6_ford_3 := dk_seg dksX6_ford_2 23 rfl rfl
theorem dksX6_ford_4 : cX6_ford.data.toList.drop 92 = dktX6_ford_4 := dk_seg dksX6_ford_3 23 rfl rfl
theorem dX6_ford_0 : decode cX6_ford 0 = .ok (.aload_n 0, 1) := dk_42 (dk_at dksX6_ford_0 0 rfl rfl)
theorem dX6_ford_1 : decode cX6_ford 1 = .ok (.invokevirtual 335, 3) := dk_182 1 79 (dk_at dksX6_ford_0 1 rfl rfl)
theorem dX6_ford_4 : decode cX6_ford 4 = .ok (.ifCond .ne 6, 3) := dk_154 0 6 (dk_at dksX6_ford_0 4 rfl rfl)
theorem dX6_ford_7 : decode cX6_ford 7 = .ok (.bipush (-2), 2) := dk_16 254 (dk_at dksX6_ford_0 7 rfl rfl)
theorem dX6_ford_9 : decode cX6_ford 9 = .ok (.ireturn, 1) := dk_172 (dk_at dksX6_ford_0 9 rfl rfl)
theorem dX6_ford_10 : decode cX6_ford 10 = .ok (.aload_n 0, 1) := dk_42 (dk_at dksX6_ford_0 10 rfl rfl)
theorem dX6_ford_11 : decode cX6_ford 11 = .ok (.invokevirtual 419, 3) := dk_182 1 163 (dk_at dksX6_ford_0 11 rfl rfl)
theorem dX6_ford_14 : decode cX6_ford 14 = .ok (.istore_n 1, 1) := dk_60 (dk_at dksX6_ford_0 14 rfl rfl)
theorem dX6_ford_15 : decode cX6_ford 15 = .ok (.iconst (-1), 1) := dk_2 (dk_at dksX6_ford_0 15 rfl rfl)
theorem dX6_ford_16 : decode cX6_ford 16 = .ok (.istore_n 2, 1) := dk_61 (dk_at dksX6_ford_0 16 rfl rfl)
theorem dX6_ford_17 : decode cX6_ford 17 = .ok (.iconst 0, 1) := dk_3 (dk_at dksX6_ford_0 17 rfl rfl)
theorem dX6_ford_18 : decode cX6_ford 18 = .ok (.istore_n 3, 1) := dk_62 (dk_at dksX6_ford_0 18 rfl rfl)
theorem dX6_ford_19 : decode cX6_ford 19 = .ok (.iload_n 3, 1) := dk_29 (dk_at dksX6_ford_0 19 rfl rfl)
theorem dX6_ford_20 : decode cX6_ford 20 = .ok (.aload_n 0, 1) := dk_42 (dk_at dksX6_ford_0 20 rfl rfl)
theorem dX6_ford_21 : decode cX6_ford 21 = .ok (.getfield 9, 3) := dk_180 0 9 (dk_at dksX6_ford_0 21 rfl rfl)
theorem dX6_ford_24 : decode cX6_ford 24 = .ok (.iconst 5, 1) := dk_8 (dk_at dksX6_ford_1 0 rfl rfl)
theorem dX6_ford_25 : decode cX6_ford 25 = .ok (.iaload, 1) := dk_46 (dk_at dksX6_ford_1 1 rfl rfl)
theorem dX6_ford_26 : decode cX6_ford 26 = .ok (.if_icmp .ge 78, 3) := dk_162 0 78 (dk_at dksX6_ford_1 2 rfl rfl)
theorem dX6_ford_29 : decode cX6_ford 29 = .ok (.aload_n 0, 1) := dk_42 (dk_at dksX6_ford_1 5 rfl rfl)
theorem dX6_ford_30 : decode cX6_ford 30 = .ok (.getfield 34, 3) := dk_180 0 34 (dk_at dksX6_ford_1 6 rfl rfl)
theorem dX6_ford_33 : decode cX6_ford 33 = .ok (.aload_n 0, 1) := dk_42 (dk_at dksX6_ford_1 9 rfl rfl)
theorem dX6_ford_34 : decode cX6_ford 34 = .ok (.getfield 9, 3) := dk_180 0 9 (dk_at dksX6_ford_1 10 rfl rfl)
theorem dX6_ford_37 : decode cX6_ford 37 = .ok (.bipush 10, 2) := dk_16 10 (dk_at dksX6_ford_1 13 rfl rfl)
theorem dX6_ford_39 : decode cX6_ford 39 = .ok (.iload_n 3, 1) := dk_29 (dk_at dksX6_ford_1 15 rfl rfl)
theorem dX6_ford_40 : decode cX6_ford 40 = .ok (.iadd, 1) := dk_96 (dk_at dksX6_ford_1 16 rfl rfl)
theorem dX6_ford_41 : decode cX6_ford 41 = .ok (.iaload, 1) := dk_46 (dk_at dksX6_ford_1 17 rfl rfl)
theorem dX6_ford_42 : decode cX6_ford 42 = .ok (.baload, 1) := dk_51 (dk_at dksX6_ford_1 18 rfl rfl)
theorem dX6_ford_43 : decode cX6_ford 43 = .ok (.istore 4, 2) := dk_54 4 (dk_at dksX6_ford_1 19 rfl rfl)
theorem dX6_ford_45 : decode cX6_ford 45 = .ok (.aload_n 0, 1) := dk_42 (dk_at dksX6_ford_1 21 rfl rfl)
theorem dX6_ford_46 : decode cX6_ford 46 = .ok (.getfield 34, 3) := dk_180 0 34 (dk_at dksX6_ford_2 0 rfl rfl)
theorem dX6_ford_49 : decode cX6_ford 49 = .ok (.aload_n 0, 1) := dk_42 (dk_at dksX6_ford_2 3 rfl rfl)
theorem dX6_ford_50 : decode cX6_ford 50 = .ok (.getfield 9, 3) := dk_180 0 9 (dk_at dksX6_ford_2 4 rfl rfl)
theorem dX6_ford_53 : decode cX6_ford 53 = .ok (.bipush 10, 2) := dk_16 10 (dk_at dksX6_ford_2 7 rfl rfl)
theorem dX6_ford_55 : decode cX6_ford 55 = .ok (.iload_n 3, 1) := dk_29 (dk_at dksX6_ford_2 9 rfl rfl)
theorem dX6_ford_56 : decode cX6_ford 56 = .ok (.iadd, 1) := dk_96 (dk_at dksX6_ford_2 10 rfl rfl)
theorem dX6_ford_57 : decode cX6_ford 57 = .ok (.iaload, 1) := dk_46 (dk_at dksX6_ford_2 11 rfl rfl)
theorem dX6_ford_58 : decode cX6_ford 58 = .ok (.iconst 0, 1) := dk_3 (dk_at dksX6_ford_2 12 rfl rfl)
theorem dX6_ford_59 : decode cX6_ford 59 = .ok (.bastore, 1) := dk_84 (dk_at dksX6_ford_2 13 rfl rfl)
theorem dX6_ford_60 : decode cX6_ford 60 = .ok (.aload_n 0, 1) := dk_42 (dk_at dksX6_ford_2 14 rfl rfl)
theorem dX6_ford_61 : decode cX6_ford 61 = .ok (.invokevirtual 332, 3) := dk_182 1 76 (dk_at dksX6_ford_2 15 rfl rfl)
theorem dX6_ford_64 : decode cX6_ford 64 = .ok (.aload_n 0, 1) := dk_42 (dk_at dksX6_ford_2 18 rfl rfl)
theorem dX6_ford_65 : decode cX6_ford 65 = .ok (.getfield 34, 3) := dk_180 0 34 (dk_at dksX6_ford_2 19 rfl rfl)
theorem dX6_ford_68 : decode cX6_ford 68 = .ok (.aload_n 0, 1) := dk_42 (dk_at dksX6_ford_2 22 rfl rfl)
theorem dX6_ford_69 : decode cX6_ford 69 = .ok (.getfield 9, 3) := dk_180 0 9 (dk_at dksX6_ford_3 0 rfl rfl)
theorem dX6_ford_72 : decode cX6_ford 72 = .ok (.bipush 10, 2) := dk_16 10 (dk_at dksX6_ford_3 3 rfl rfl)
theorem dX6_ford_74 : decode cX6_ford 74 = .ok (.iload_n 3, 1) := dk_29 (dk_at dksX6_ford_3 5 rfl rfl)
theorem dX6_ford_75 : decode cX6_ford 75 = .ok (.iadd, 1) := dk_96 (dk_at dksX6_ford_3 6 rfl rfl)
theorem dX6_ford_76 : decode cX6_ford 76 = .ok (.iaload, 1) := dk_46 (dk_at dksX6_ford_3 7 rfl rfl)
theorem dX6_ford_77 : decode cX6_ford 77 = .ok (.iload 4, 2) := dk_21 4 (dk_at dksX6_ford_3 8 rfl rfl)
theorem dX6_ford_79 : decode cX6_ford 79 = .ok (.bastore, 1) := dk_84 (dk_at dksX6_ford_3 10 rfl rfl)
theorem dX6_ford_80 : decode cX6_ford 80 = .ok (.aload_n 0, 1) := dk_42 (dk_at dksX6_ford_3 11 rfl rfl)
theorem dX6_ford_81 : decode cX6_ford 81 = .ok (.invokevirtual 419, 3) := dk_182 1 163 (dk_at dksX6_ford_3 12 rfl rfl)
theorem dX6_ford_84 : decode cX6_ford 84 = .ok (.iload_n 1, 1) := dk_27 (dk_at dksX6_ford_3 15 rfl rfl)
theorem dX6_ford_85 : decode cX6_ford 85 = .ok (.if_icmp .gt 6, 3) := dk_163 0 6 (dk_at dksX6_ford_3 16 rfl rfl)
theorem dX6_ford_88 : decode cX6_ford 88 = .ok (.goto 10, 3) := dk_167 0 10 (dk_at dksX6_ford_3 19 rfl rfl)
theorem dX6_ford_91 : decode cX6_ford 91 = .ok (.aload_n 0, 1) := dk_42 (dk_at dksX6_ford_3 22 rfl rfl)
theorem dX6_ford_92 : decode cX6_ford 92 = .ok (.invokevirtual 419, 3) := dk_182 1 163 (dk_at dksX6_ford_4 0 rfl rfl)
theorem dX6_ford_95 : decode cX6_ford 95 = .ok (.istore_n 1, 1) := dk_60 (dk_at dksX6_ford_4 3 rfl rfl)
theorem dX6_ford_96 : decode cX6_ford 96 = .ok (.iload_n 3, 1) := dk_29 (dk_at dksX6_ford_4 4 rfl rfl)
theorem dX6_ford_97 : decode cX6_ford 97 = .ok (.istore_n 2, 1) := dk_61 (dk_at dksX6_ford_4 5 rfl rfl)
theorem dX6_ford_98 : decode cX6_ford 98 = .ok (.iinc 3 1, 3) := dk_132 3 1 (dk_at dksX6_ford_4 6 rfl rfl)
theorem dX6_ford_101 : decode cX6_ford 101 = .ok (.goto (-82), 3) := dk_167 255 174 (dk_at dksX6_ford_4 9 rfl rfl)
theorem dX6_ford_104 : decode cX6_ford 104 = .ok (.iload_n 2, 1) := dk_28 (dk_at dksX6_ford_4 12 rfl rfl)
theorem dX6_ford_105 : decode cX6_ford 105 = .ok (.ireturn, 1) := dk_172 (dk_at dksX6_ford_4 13 rfl rfl)
abbrev cX6_pegsLast : ByteArray := prog_12_method_64_code
def yX6_pegsLast : MethodName := ⟨RX6, "pegsLast", "()I"⟩
def dkwX6_pegsLast_0 : List UInt8 := [42, 42, 182, 0, 118, 182, 1, 94, 172]
abbrev dktX6_pegsLast_0 : List UInt8 := dkwX6_pegsLast_0 ++ []
theorem dksX6_pegsLast_0 : cX6_pegsLast.data.toList.drop 0 = dktX6_pegsLast_0 := by decide +kernel
theorem dX6_pegsLast_0 : decode cX6_pegsLast 0 = .ok (.aload_n 0, 1) := dk_42 (dk_at dksX6_pegsLast_0 0 rfl rfl)
theorem dX6_pegsLast_1 : decode cX6_pegsLast 1 = .ok (.aload_n 0, 1) := dk_42 (dk_at dksX6_pegsLast_0 1 rfl rfl)
theorem dX6_pegsLast_2 : decode cX6_pegsLast 2 = .ok (.invokevirtual 118, 3) := dk_182 0 118 (dk_at dksX6_pegsLast_0 2 rfl rfl)
theorem dX6_pegsLast_5 : decode cX6_pegsLast 5 = .ok (.invokevirtual 350, 3) := dk_182 1 94 (dk_at dksX6_pegsLast_0 5 rfl rfl)
theorem dX6_pegsLast_8 : decode cX6_pegsLast 8 = .ok (.ireturn, 1) := dk_172 (dk_at dksX6_pegsLast_0 8 rfl rfl)
abbrev cX6_faced : ByteArray := prog_12_method_120_code
def yX6_faced : MethodName := ⟨RX6, "faced", "(II)I"⟩
def dkwX6_faced_0 : List UInt8 := [42, 27, 28, 182, 1, 179, 62, 29, 156, 0, 7, 29, 167, 0, 9, 42, 27, 28, 182, 1, 181, 172]
abbrev dktX6_faced_0 : List UInt8 := dkwX6_faced_0 ++ []
theorem dksX6_faced_0 : cX6_faced.data.toList.drop 0 = dktX6_faced_0 := by decide +kernel
theorem dX6_faced_0 : decode cX6_faced 0 = .ok (.aload_n 0, 1) := dk_42 (dk_at dksX6_faced_0 0 rfl rfl)
theorem dX6_faced_1 : decode cX6_faced 1 = .ok (.iload_n 1, 1) := dk_27 (dk_at dksX6_faced_0 1 rfl rfl)
theorem dX6_faced_2 : decode cX6_faced 2 = .ok (.iload_n 2, 1) := dk_28 (dk_at dksX6_faced_0 2 rfl rfl)
theorem dX6_faced_3 : decode cX6_faced 3 = .ok (.invokevirtual 435, 3) := dk_182 1 179 (dk_at dksX6_faced_0 3 rfl rfl)
theorem dX6_faced_6 : decode cX6_faced 6 = .ok (.istore_n 3, 1) := dk_62 (dk_at dksX6_faced_0 6 rfl rfl)
theorem dX6_faced_7 : decode cX6_faced 7 = .ok (.iload_n 3, 1) := dk_29 (dk_at dksX6_faced_0 7 rfl rfl)
theorem dX6_faced_8 : decode cX6_faced 8 = .ok (.ifCond .ge 7, 3) := dk_156 0 7 (dk_at dksX6_faced_0 8 rfl rfl)
theorem dX6_faced_11 : decode cX6_faced 11 = .ok (.iload_n 3, 1) := dk_29 (dk_at dksX6_faced_0 11 rfl rfl)
theorem dX6_faced_12 : decode cX6_faced 12 = .ok (.goto 9, 3) := dk_167 0 9 (dk_at dksX6_faced_0 12 rfl rfl)
theorem dX6_faced_15 : decode cX6_faced 15 = .ok (.aload_n 0, 1) := dk_42 (dk_at dksX6_faced_0 15 rfl rfl)
theorem dX6_faced_16 : decode cX6_faced 16 = .ok (.iload_n 1, 1) := dk_27 (dk_at dksX6_faced_0 16 rfl rfl)
theorem dX6_faced_17 : decode cX6_faced 17 = .ok (.iload_n 2, 1) := dk_28 (dk_at dksX6_faced_0 17 rfl rfl)
theorem dX6_faced_18 : decode cX6_faced 18 = .ok (.invokevirtual 437, 3) := dk_182 1 181 (dk_at dksX6_faced_0 18 rfl rfl)
theorem dX6_faced_21 : decode cX6_faced 21 = .ok (.ireturn, 1) := dk_172 (dk_at dksX6_faced_0 21 rfl rfl)
abbrev cX6_askSeen : ByteArray := prog_12_method_117_code
def yX6_askSeen : MethodName := ⟨RX6, "askSeen", "(II)I"⟩
def dkwX6_askSeen_0 : List UInt8 := [42, 28, 133, 182, 1, 5, 153, 0, 11, 42, 27, 182, 1, 173, 167, 0, 5, 16, 254, 172]
abbrev dktX6_askSeen_0 : List UInt8 := dkwX6_askSeen_0 ++ []
theorem dksX6_askSeen_0 : cX6_askSeen.data.toList.drop 0 = dktX6_askSeen_0 := by decide +kernel
theorem dX6_askSeen_0 : decode cX6_askSeen 0 = .ok (.aload_n 0, 1) := dk_42 (dk_at dksX6_askSeen_0 0 rfl rfl)
theorem dX6_askSeen_1 : decode cX6_askSeen 1 = .ok (.iload_n 2, 1) := dk_28 (dk_at dksX6_askSeen_0 1 rfl rfl)
theorem dX6_askSeen_2 : decode cX6_askSeen 2 = .ok (.i2l, 1) := dk_133 (dk_at dksX6_askSeen_0 2 rfl rfl)
theorem dX6_askSeen_3 : decode cX6_askSeen 3 = .ok (.invokevirtual 261, 3) := dk_182 1 5 (dk_at dksX6_askSeen_0 3 rfl rfl)
theorem dX6_askSeen_6 : decode cX6_askSeen 6 = .ok (.ifCond .eq 11, 3) := dk_153 0 11 (dk_at dksX6_askSeen_0 6 rfl rfl)
theorem dX6_askSeen_9 : decode cX6_askSeen 9 = .ok (.aload_n 0, 1) := dk_42 (dk_at dksX6_askSeen_0 9 rfl rfl)
theorem dX6_askSeen_10 : decode cX6_askSeen 10 = .ok (.iload_n 1, 1) := dk_27 (dk_at dksX6_askSeen_0 10 rfl rfl)
theorem dX6_askSeen_11 : decode cX6_askSeen 11 = .ok (.invokevirtual 429, 3) := dk_182 1 173 (dk_at dksX6_askSeen_0 11 rfl rfl)
theorem dX6_askSeen_14 : decode cX6_askSeen 14 = .ok (.goto 5, 3) := dk_167 0 5 (dk_at dksX6_askSeen_0 14 rfl rfl)
theorem dX6_askSeen_17 : decode cX6_askSeen 17 = .ok (.bipush (-2), 2) := dk_16 254 (dk_at dksX6_askSeen_0 17 rfl rfl)
theorem dX6_askSeen_19 : decode cX6_askSeen 19 = .ok (.ireturn, 1) := dk_172 (dk_at dksX6_askSeen_0 19 rfl rfl)
abbrev cX6_askSeen_2 : ByteArray := prog_12_method_116_code
def yX6_askSeen_2 : MethodName := ⟨RX6, "askSeen", "(I)I"⟩
def dkwX6_askSeen_2_4 : List UInt8 := [182, 1, 54, 154, 0, 6, 16, 254, 172, 132, 2, 3, 167, 255, 194, 42, 182, 1, 73, 3, 172]
abbrev dktX6_askSeen_2_4 : List UInt8 := dkwX6_askSeen_2_4 ++ []
def dkwX6_askSeen_2_3 : List UInt8 := [4, 96, 182, 1, 169, 9, 20, 1, 103, 184, 0, 106, 153, 0, 18, 42, 42, 27, 28, 5, 96, 182, 1, 169]
abbrev dktX6_askSeen_2_3 : List UInt8 := dkwX6_askSeen_2_3 ++ dktX6_askSeen_2_4
def dkwX6_askSeen_2_2 : List UInt8 := [180, 0, 88, 27, 46, 162, 0, 58, 42, 42, 27, 28, 182, 1, 169, 182, 1, 5, 153, 0, 36, 42, 27, 28]
abbrev dktX6_askSeen_2_2 : List UInt8 := dkwX6_askSeen_2_2 ++ dktX6_askSeen_2_3
def dkwX6_askSeen_2_1 : List UInt8 := [160, 0, 6, 16, 250, 172, 42, 180, 0, 88, 27, 46, 6, 112, 153, 0, 6, 16, 254, 172, 3, 61, 28, 42]
abbrev dktX6_askSeen_2_1 : List UInt8 := dkwX6_askSeen_2_1 ++ dktX6_askSeen_2_2
def dkwX6_askSeen_2_0 : List UInt8 := [27, 184, 1, 166, 153, 0, 10, 42, 182, 0, 114, 154, 0, 6, 16, 254, 172, 42, 180, 0, 88, 27, 46, 2]
abbrev dktX6_askSeen_2_0 : List UInt8 := dkwX6_askSeen_2_0 ++ dktX6_askSeen_2_1
theorem dksX6_askSeen_2_0 : cX6_askSeen_2.data.toList.drop 0 = dktX6_askSeen_2_0 := by decide +kernel
theorem dksX6_askSeen_2_1 : cX6_askSeen_2.data.toList.drop 24 = dktX6_askSeen_2_1 := dk_seg dksX6_askSeen_2_0 24 rfl rfl
theorem dksX6_askSeen_2_2 : cX6_askSeen_2.data.toList.drop 48 = dktX6_askSeen_2_2 := dk_seg dksX6_askSeen_2_1 24 rfl rfl
theorem dksX6_askSeen_2_3 : cX6_askSeen_2.data.toList.drop 72 = dktX6_askSeen_2_3 := dk_seg dksX6_askSeen_2_2 24 rfl rfl
theorem dksX6_askSeen_2_4 : cX6_askSeen_2.data.toList.drop 96 = dktX6_askSeen_2_4 := dk_seg dksX6_askSeen_2_3 24 rfl rfl
theorem dX6_askSeen_2_0 : decode cX6_askSeen_2 0 = .ok (.iload_n 1, 1) := dk_27 (dk_at dksX6_askSeen_2_0 0 rfl rfl)
theorem dX6_askSeen_2_1 : decode cX6_askSeen_2 1 = .ok (.invokestatic 422, 3) := dk_184 1 166 (dk_at dksX6_askSeen_2_0 1 rfl rfl)
theorem dX6_askSeen_2_4 : decode cX6_askSeen_2 4 = .ok (.ifCond .eq 10, 3) := dk_153 0 10 (dk_at dksX6_askSeen_2_0 4 rfl rfl)
theorem dX6_askSeen_2_7 : decode cX6_askSeen_2 7 = .ok (.aload_n 0, 1) := dk_42 (dk_at dksX6_askSeen_2_0 7 rfl rfl)
theorem dX6_askSeen_2_8 : decode cX6_askSeen_2 8 = .ok (.invokevirtual 114, 3) := dk_182 0 114 (dk_at dksX6_askSeen_2_0 8 rfl rfl)
theorem dX6_askSeen_2_11 : decode cX6_askSeen_2 11 = .ok (.ifCond .ne 6, 3) := dk_154 0 6 (dk_at dksX6_askSeen_2_0 11 rfl rfl)
theorem dX6_askSeen_2_14 : decode cX6_askSeen_2 14 = .ok (.bipush (-2), 2) := dk_16 254 (dk_at dksX6_askSeen_2_0 14 rfl rfl)
theorem dX6_askSeen_2_16 : decode cX6_askSeen_2 16 = .ok (.ireturn, 1) := dk_172 (dk_at dksX6_askSeen_2_0 16 rfl rfl)
theorem dX6_askSeen_2_17 : decode cX6_askSeen_2 17 = .ok (.aload_n 0, 1) := dk_42 (dk_at dksX6_askSeen_2_0 17 rfl rfl)
theorem dX6_askSeen_2_18 : decode cX6_askSeen_2 18 = .ok (.getfield 88, 3) := dk_180 0 88 (dk_at dksX6_askSeen_2_0 18 rfl rfl)
theorem dX6_askSeen_2_21 : decode cX6_askSeen_2 21 = .ok (.iload_n 1, 1) := dk_27 (dk_at dksX6_askSeen_2_0 21 rfl rfl)
theorem dX6_askSeen_2_22 : decode cX6_askSeen_2 22 = .ok (.iaload, 1) := dk_46 (dk_at dksX6_askSeen_2_0 22 rfl rfl)
theorem dX6_askSeen_2_23 : decode cX6_askSeen_2 23 = .ok (.iconst (-1), 1) := dk_2 (dk_at dksX6_askSeen_2_0 23 rfl rfl)
theorem dX6_askSeen_2_24 : decode cX6_askSeen_2 24 = .ok (.if_icmp .ne 6, 3) := dk_160 0 6 (dk_at dksX6_askSeen_2_1 0 rfl rfl)
theorem dX6_askSeen_2_27 : decode cX6_askSeen_2 27 = .ok (.bipush (-6), 2) := dk_16 250 (dk_at dksX6_askSeen_2_1 3 rfl rfl)
theorem dX6_askSeen_2_29 : decode cX6_askSeen_2 29 = .ok (.ireturn, 1) := dk_172 (dk_at dksX6_askSeen_2_1 5 rfl rfl)
theorem dX6_askSeen_2_30 : decode cX6_askSeen_2 30 = .ok (.aload_n 0, 1) := dk_42 (dk_at dksX6_askSeen_2_1 6 rfl rfl)
theorem dX6_askSeen_2_31 : decode cX6_askSeen_2 31 = .ok (.getfield 88, 3) := dk_180 0 88 (dk_at dksX6_askSeen_2_1 7 rfl rfl)
theorem dX6_askSeen_2_34 : decode cX6_askSeen_2 34 = .ok (.iload_n 1, 1) := dk_27 (dk_at dksX6_askSeen_2_1 10 rfl rfl)
theorem dX6_askSeen_2_35 : decode cX6_askSeen_2 35 = .ok (.iaload, 1) := dk_46 (dk_at dksX6_askSeen_2_1 11 rfl rfl)
theorem dX6_askSeen_2_36 : decode cX6_askSeen_2 36 = .ok (.iconst 3, 1) := dk_6 (dk_at dksX6_askSeen_2_1 12 rfl rfl)
theorem dX6_askSeen_2_37 : decode cX6_askSeen_2 37 = .ok (.irem, 1) := dk_112 (dk_at dksX6_askSeen_2_1 13 rfl rfl)
theorem dX6_askSeen_2_38 : decode cX6_askSeen_2 38 = .ok (.ifCond .eq 6, 3) := dk_153 0 6 (dk_at dksX6_askSeen_2_1 14 rfl rfl)
theorem dX6_askSeen_2_41 : decode cX6_askSeen_2 41 = .ok (.bipush (-2), 2) := dk_16 254 (dk_at dksX6_askSeen_2_1 17 rfl rfl)
theorem dX6_askSeen_2_43 : decode cX6_askSeen_2 43 = .ok (.ireturn, 1) := dk_172 (dk_at dksX6_askSeen_2_1 19 rfl rfl)
theorem dX6_askSeen_2_44 : decode cX6_askSeen_2 44 = .ok (.iconst 0, 1) := dk_3 (dk_at dksX6_askSeen_2_1 20 rfl rfl)
theorem dX6_askSeen_2_45 : decode cX6_askSeen_2 45 = .ok (.istore_n 2, 1) := dk_61 (dk_at dksX6_askSeen_2_1 21 rfl rfl)
theorem dX6_askSeen_2_46 : decode cX6_askSeen_2 46 = .ok (.iload_n 2, 1) := dk_28 (dk_at dksX6_askSeen_2_1 22 rfl rfl)
theorem dX6_askSeen_2_47 : decode cX6_askSeen_2 47 = .ok (.aload_n 0, 1) := dk_42 (dk_at dksX6_askSeen_2_1 23 rfl rfl)
theorem dX6_askSeen_2_48 : decode cX6_askSeen_2 48 = .ok (.getfield 88, 3) := dk_180 0 88 (dk_at dksX6_askSeen_2_2 0 rfl rfl)
theorem dX6_askSeen_2_51 : decode cX6_askSeen_2 51 = .ok (.iload_n 1, 1) := dk_27 (dk_at dksX6_askSeen_2_2 3 rfl rfl)
theorem dX6_askSeen_2_52 : decode cX6_askSeen_2 52 = .ok (.iaload, 1) := dk_46 (dk_at dksX6_askSeen_2_2 4 rfl rfl)
theorem dX6_askSeen_2_53 : decode cX6_askSeen_2 53 = .ok (.if_icmp .ge 58, 3) := dk_162 0 58 (dk_at dksX6_askSeen_2_2 5 rfl rfl)
theorem dX6_askSeen_2_56 : decode cX6_askSeen_2 56 = .ok (.aload_n 0, 1) := dk_42 (dk_at dksX6_askSeen_2_2 8 rfl rfl)
theorem dX6_askSeen_2_57 : decode cX6_askSeen_2 57 = .ok (.aload_n 0, 1) := dk_42 (dk_at dksX6_askSeen_2_2 9 rfl rfl)
theorem dX6_askSeen_2_58 : decode cX6_askSeen_2 58 = .ok (.iload_n 1, 1) := dk_27 (dk_at dksX6_askSeen_2_2 10 rfl rfl)
theorem dX6_askSeen_2_59 : decode cX6_askSeen_2 59 = .ok (.iload_n 2, 1) := dk_28 (dk_at dksX6_askSeen_2_2 11 rfl rfl)
theorem dX6_askSeen_2_60 : decode cX6_askSeen_2 60 = .ok (.invokevirtual 425, 3) := dk_182 1 169 (dk_at dksX6_askSeen_2_2 12 rfl rfl)
theorem dX6_askSeen_2_63 : decode cX6_askSeen_2 63 = .ok (.invokevirtual 261, 3) := dk_182 1 5 (dk_at dksX6_askSeen_2_2 15 rfl rfl)
theorem dX6_askSeen_2_66 : decode cX6_askSeen_2 66 = .ok (.ifCond .eq 36, 3) := dk_153 0 36 (dk_at dksX6_askSeen_2_2 18 rfl rfl)
theorem dX6_askSeen_2_69 : decode cX6_askSeen_2 69 = .ok (.aload_n 0, 1) := dk_42 (dk_at dksX6_askSeen_2_2 21 rfl rfl)
theorem dX6_askSeen_2_70 : decode cX6_askSeen_2 70 = .ok (.iload_n 1, 1) := dk_27 (dk_at dksX6_askSeen_2_2 22 rfl rfl)
theorem dX6_askSeen_2_71 : decode cX6_askSeen_2 71 = .ok (.iload_n 2, 1) := dk_28 (dk_at dksX6_askSeen_2_2 23 rfl rfl)
theorem dX6_askSeen_2_72 : decode cX6_askSeen_2 72 = .ok (.iconst 1, 1) := dk_4 (dk_at dksX6_askSeen_2_3 0 rfl rfl)
theorem dX6_askSeen_2_73 : decode cX6_askSeen_2 73 = .ok (.iadd, 1) := dk_96 (dk_at dksX6_askSeen_2_3 1 rfl rfl)
theorem dX6_askSeen_2_74 : decode cX6_askSeen_2 74 = .ok (.invokevirtual 425, 3) := dk_182 1 169 (dk_at dksX6_askSeen_2_3 2 rfl rfl)
theorem dX6_askSeen_2_77 : decode cX6_askSeen_2 77 = .ok (.lconst 0, 1) := dk_9 (dk_at dksX6_askSeen_2_3 5 rfl rfl)
theorem dX6_askSeen_2_78 : decode cX6_askSeen_2 78 = .ok (.ldc2_w 359, 3) := dk_20 1 103 (dk_at dksX6_askSeen_2_3 6 rfl rfl)
theorem dX6_askSeen_2_81 : decode cX6_askSeen_2 81 = .ok (.invokestatic 106, 3) := dk_184 0 106 (dk_at dksX6_askSeen_2_3 9 rfl rfl)
theorem dX6_askSeen_2_84 : decode cX6_askSeen_2 84 = .ok (.ifCond .eq 18, 3) := dk_153 0 18 (dk_at dksX6_askSeen_2_3 12 rfl rfl)
theorem dX6_askSeen_2_87 : decode cX6_askSeen_2 87 = .ok (.aload_n 0, 1) := dk_42 (dk_at dksX6_askSeen_2_3 15 rfl rfl)
theorem dX6_askSeen_2_88 : decode cX6_askSeen_2 88 = .ok (.aload_n 0, 1) := dk_42 (dk_at dksX6_askSeen_2_3 16 rfl rfl)
theorem dX6_askSeen_2_89 : decode cX6_askSeen_2 89 = .ok (.iload_n 1, 1) := dk_27 (dk_at dksX6_askSeen_2_3 17 rfl rfl)
theorem dX6_askSeen_2_90 : decode cX6_askSeen_2 90 = .ok (.iload_n 2, 1) := dk_28 (dk_at dksX6_askSeen_2_3 18 rfl rfl)
theorem dX6_askSeen_2_91 : decode cX6_askSeen_2 91 = .ok (.iconst 2, 1) := dk_5 (dk_at dksX6_askSeen_2_3 19 rfl rfl)
theorem dX6_askSeen_2_92 : decode cX6_askSeen_2 92 = .ok (.iadd, 1) := dk_96 (dk_at dksX6_askSeen_2_3 20 rfl rfl)
theorem dX6_askSeen_2_93 : decode cX6_askSeen_2 93 = .ok (.invokevirtual 425, 3) := dk_182 1 169 (dk_at dksX6_askSeen_2_3 21 rfl rfl)
theorem dX6_askSeen_2_96 : decode cX6_askSeen_2 96 = .ok (.invokevirtual 310, 3) := dk_182 1 54 (dk_at dksX6_askSeen_2_4 0 rfl rfl)
theorem dX6_askSeen_2_99 : decode cX6_askSeen_2 99 = .ok (.ifCond .ne 6, 3) := dk_154 0 6 (dk_at dksX6_askSeen_2_4 3 rfl rfl)
theorem dX6_askSeen_2_102 : decode cX6_askSeen_2 102 = .ok (.bipush (-2), 2) := dk_16 254 (dk_at dksX6_askSeen_2_4 6 rfl rfl)
theorem dX6_askSeen_2_104 : decode cX6_askSeen_2 104 = .ok (.ireturn, 1) := dk_172 (dk_at dksX6_askSeen_2_4 8 rfl rfl)
theorem dX6_askSeen_2_105 : decode cX6_askSeen_2 105 = .ok (.iinc 2 3, 3) := dk_132 2 3 (dk_at dksX6_askSeen_2_4 9 rfl rfl)
theorem dX6_askSeen_2_108 : decode cX6_askSeen_2 108 = .ok (.goto (-62), 3) := dk_167 255 194 (dk_at dksX6_askSeen_2_4 12 rfl rfl)
theorem dX6_askSeen_2_111 : decode cX6_askSeen_2 111 = .ok (.aload_n 0, 1) := dk_42 (dk_at dksX6_askSeen_2_4 15 rfl rfl)
theorem dX6_askSeen_2_112 : decode cX6_askSeen_2 112 = .ok (.invokevirtual 329, 3) := dk_182 1 73 (dk_at dksX6_askSeen_2_4 16 rfl rfl)
theorem dX6_askSeen_2_115 : decode cX6_askSeen_2 115 = .ok (.iconst 0, 1) := dk_3 (dk_at dksX6_askSeen_2_4 19 rfl rfl)
theorem dX6_askSeen_2_116 : decode cX6_askSeen_2 116 = .ok (.ireturn, 1) := dk_172 (dk_at dksX6_askSeen_2_4 20 rfl rfl)
abbrev cX6_isSlot : ByteArray := prog_12_method_155_code
def yX6_isSlot : MethodName := ⟨RX6, "isSlot", "(I)Z"⟩
def dkwX6_isSlot_0 : List UInt8 := [26, 133, 9, 20, 1, 193, 184, 0, 106, 172]
abbrev dktX6_isSlot_0 : List UInt8 := dkwX6_isSlot_0 ++ []
theorem dksX6_isSlot_0 : cX6_isSlot.data.toList.drop 0 = dktX6_isSlot_0 := by decide +kernel
theorem dX6_isSlot_0 : decode cX6_isSlot 0 = .ok (.iload_n 0, 1) := dk_26 (dk_at dksX6_isSlot_0 0 rfl rfl)
theorem dX6_isSlot_1 : decode cX6_isSlot 1 = .ok (.i2l, 1) := dk_133 (dk_at dksX6_isSlot_0 1 rfl rfl)
theorem dX6_isSlot_2 : decode cX6_isSlot 2 = .ok (.lconst 0, 1) := dk_9 (dk_at dksX6_isSlot_0 2 rfl rfl)
theorem dX6_isSlot_3 : decode cX6_isSlot 3 = .ok (.ldc2_w 449, 3) := dk_20 1 193 (dk_at dksX6_isSlot_0 3 rfl rfl)
theorem dX6_isSlot_6 : decode cX6_isSlot 6 = .ok (.invokestatic 106, 3) := dk_184 0 106 (dk_at dksX6_isSlot_0 6 rfl rfl)
theorem dX6_isSlot_9 : decode cX6_isSlot 9 = .ok (.ireturn, 1) := dk_172 (dk_at dksX6_isSlot_0 9 rfl rfl)
abbrev cX6_numberAt : ByteArray := prog_12_method_115_code
def yX6_numberAt : MethodName := ⟨RX6, "numberAt", "(II)J"⟩
def dkwX6_numberAt_0 : List UInt8 := [42, 180, 0, 94, 16, 60, 27, 104, 28, 96, 47, 173]
abbrev dktX6_numberAt_0 : List UInt8 := dkwX6_numberAt_0 ++ []
theorem dksX6_numberAt_0 : cX6_numberAt.data.toList.drop 0 = dktX6_numberAt_0 := by decide +kernel
theorem dX6_numberAt_0 : decode cX6_numberAt 0 = .ok (.aload_n 0, 1) := dk_42 (dk_at dksX6_numberAt_0 0 rfl rfl)
theorem dX6_numberAt_1 : decode cX6_numberAt 1 = .ok (.getfield 94, 3) := dk_180 0 94 (dk_at dksX6_numberAt_0 1 rfl rfl)
theorem dX6_numberAt_4 : decode cX6_numberAt 4 = .ok (.bipush 60, 2) := dk_16 60 (dk_at dksX6_numberAt_0 4 rfl rfl)
theorem dX6_numberAt_6 : decode cX6_numberAt 6 = .ok (.iload_n 1, 1) := dk_27 (dk_at dksX6_numberAt_0 6 rfl rfl)
theorem dX6_numberAt_7 : decode cX6_numberAt 7 = .ok (.imul, 1) := dk_104 (dk_at dksX6_numberAt_0 7 rfl rfl)
theorem dX6_numberAt_8 : decode cX6_numberAt 8 = .ok (.iload_n 2, 1) := dk_28 (dk_at dksX6_numberAt_0 8 rfl rfl)
theorem dX6_numberAt_9 : decode cX6_numberAt 9 = .ok (.iadd, 1) := dk_96 (dk_at dksX6_numberAt_0 9 rfl rfl)
theorem dX6_numberAt_10 : decode cX6_numberAt 10 = .ok (.laload, 1) := dk_47 (dk_at dksX6_numberAt_0 10 rfl rfl)
theorem dX6_numberAt_11 : decode cX6_numberAt 11 = .ok (.lreturn, 1) := dk_173 (dk_at dksX6_numberAt_0 11 rfl rfl)
abbrev cX6_facedOf : ByteArray := prog_12_method_119_code
def yX6_facedOf : MethodName := ⟨RX6, "facedOf", "(II)I"⟩
def dkwX6_facedOf_3 : List UInt8 := [132, 5, 1, 167, 255, 226, 132, 4, 1, 167, 255, 184, 29, 172]
abbrev dktX6_facedOf_3 : List UInt8 := dkwX6_facedOf_3 ++ []
def dkwX6_facedOf_2 : List UInt8 := [163, 0, 29, 42, 180, 0, 82, 16, 41, 21, 4, 104, 21, 5, 96, 42, 28, 21, 5, 182, 1, 85, 79]
abbrev dktX6_facedOf_2 : List UInt8 := dkwX6_facedOf_2 ++ dktX6_facedOf_3
def dkwX6_facedOf_1 : List UInt8 := [182, 1, 176, 153, 0, 10, 4, 21, 4, 120, 167, 0, 4, 3, 128, 62, 3, 54, 5, 21, 5, 16, 40]
abbrev dktX6_facedOf_1 : List UInt8 := dkwX6_facedOf_1 ++ dktX6_facedOf_2
def dkwX6_facedOf_0 : List UInt8 := [3, 62, 3, 54, 4, 21, 4, 7, 162, 0, 72, 42, 180, 0, 37, 28, 21, 4, 79, 29, 42, 27]
abbrev dktX6_facedOf_0 : List UInt8 := dkwX6_facedOf_0 ++ dktX6_facedOf_1
theorem dksX6_facedOf_0 : cX6_facedOf.data.toList.drop 0 = dktX6_facedOf_0 := by decide +kernel
theorem dksX6_facedOf_1 : cX6_facedOf.data.toList.drop 22 = dktX6_facedOf_1 := dk_seg dksX6_facedOf_0 22 rfl rfl
theorem dksX6_facedOf_2 : cX6_facedOf.data.toList.drop 45 = dktX6_facedOf_2 := dk_seg dksX6_facedOf_1 23 rfl rfl
theorem dksX6_facedOf_3 : cX6_facedOf.data.toList.drop 68 = dktX6_facedOf_3 := dk_seg dksX6_facedOf_2 23 rfl rfl
theorem dX6_facedOf_0 : decode cX6_facedOf 0 = .ok (.iconst 0, 1) := dk_3 (dk_at dksX6_facedOf_0 0 rfl rfl)
theorem dX6_facedOf_1 : decode cX6_facedOf 1 = .ok (.istore_n 3, 1) := dk_62 (dk_at dksX6_facedOf_0 1 rfl rfl)
theorem dX6_facedOf_2 : decode cX6_facedOf 2 = .ok (.iconst 0, 1) := dk_3 (dk_at dksX6_facedOf_0 2 rfl rfl)
theorem dX6_facedOf_3 : decode cX6_facedOf 3 = .ok (.istore 4, 2) := dk_54 4 (dk_at dksX6_facedOf_0 3 rfl rfl)
theorem dX6_facedOf_5 : decode cX6_facedOf 5 = .ok (.iload 4, 2) := dk_21 4 (dk_at dksX6_facedOf_0 5 rfl rfl)
theorem dX6_facedOf_7 : decode cX6_facedOf 7 = .ok (.iconst 4, 1) := dk_7 (dk_at dksX6_facedOf_0 7 rfl rfl)
theorem dX6_facedOf_8 : decode cX6_facedOf 8 = .ok (.if_icmp .ge 72, 3) := dk_162 0 72 (dk_at dksX6_facedOf_0 8 rfl rfl)
theorem dX6_facedOf_11 : decode cX6_facedOf 11 = .ok (.aload_n 0, 1) := dk_42 (dk_at dksX6_facedOf_0 11 rfl rfl)
theorem dX6_facedOf_12 : decode cX6_facedOf 12 = .ok (.getfield 37, 3) := dk_180 0 37 (dk_at dksX6_facedOf_0 12 rfl rfl)
theorem dX6_facedOf_15 : decode cX6_facedOf 15 = .ok (.iload_n 2, 1) := dk_28 (dk_at dksX6_facedOf_0 15 rfl rfl)
theorem dX6_facedOf_16 : decode cX6_facedOf 16 = .ok (.iload 4, 2) := dk_21 4 (dk_at dksX6_facedOf_0 16 rfl rfl)
theorem dX6_facedOf_18 : decode cX6_facedOf 18 = .ok (.iastore, 1) := dk_79 (dk_at dksX6_facedOf_0 18 rfl rfl)
theorem dX6_facedOf_19 : decode cX6_facedOf 19 = .ok (.iload_n 3, 1) := dk_29 (dk_at dksX6_facedOf_0 19 rfl rfl)
theorem dX6_facedOf_20 : decode cX6_facedOf 20 = .ok (.aload_n 0, 1) := dk_42 (dk_at dksX6_facedOf_0 20 rfl rfl)
theorem dX6_facedOf_21 : decode cX6_facedOf 21 = .ok (.iload_n 1, 1) := dk_27 (dk_at dksX6_facedOf_0 21 rfl rfl)
theorem dX6_facedOf_22 : decode cX6_facedOf 22 = .ok (.invokevirtual 432, 3) := dk_182 1 176 (dk_at dksX6_facedOf_1 0 rfl rfl)
theorem dX6_facedOf_25 : decode cX6_facedOf 25 = .ok (.ifCond .eq 10, 3) := dk_153 0 10 (dk_at dksX6_facedOf_1 3 rfl rfl)
theorem dX6_facedOf_28 : decode cX6_facedOf 28 = .ok (.iconst 1, 1) := dk_4 (dk_at dksX6_facedOf_1 6 rfl rfl)
theorem dX6_facedOf_29 : decode cX6_facedOf 29 = .ok (.iload 4, 2) := dk_21 4 (dk_at dksX6_facedOf_1 7 rfl rfl)
theorem dX6_facedOf_31 : decode cX6_facedOf 31 = .ok (.ishl, 1) := dk_120 (dk_at dksX6_facedOf_1 9 rfl rfl)
theorem dX6_facedOf_32 : decode cX6_facedOf 32 = .ok (.goto 4, 3) := dk_167 0 4 (dk_at dksX6_facedOf_1 10 rfl rfl)
theorem dX6_facedOf_35 : decode cX6_facedOf 35 = .ok (.iconst 0, 1) := dk_3 (dk_at dksX6_facedOf_1 13 rfl rfl)
theorem dX6_facedOf_36 : decode cX6_facedOf 36 = .ok (.ior, 1) := dk_128 (dk_at dksX6_facedOf_1 14 rfl rfl)
theorem dX6_facedOf_37 : decode cX6_facedOf 37 = .ok (.istore_n 3, 1) := dk_62 (dk_at dksX6_facedOf_1 15 rfl rfl)
theorem dX6_facedOf_38 : decode cX6_facedOf 38 = .ok (.iconst 0, 1) := dk_3 (dk_at dksX6_facedOf_1 16 rfl rfl)
theorem dX6_facedOf_39 : decode cX6_facedOf 39 = .ok (.istore 5, 2) := dk_54 5 (dk_at dksX6_facedOf_1 17 rfl rfl)
theorem dX6_facedOf_41 : decode cX6_facedOf 41 = .ok (.iload 5, 2) := dk_21 5 (dk_at dksX6_facedOf_1 19 rfl rfl)
theorem dX6_facedOf_43 : decode cX6_facedOf 43 = .ok (.bipush 40, 2) := dk_16 40 (dk_at dksX6_facedOf_1 21 rfl rfl)
theorem dX6_facedOf_45 : decode cX6_facedOf 45 = .ok (.if_icmp .gt 29, 3) := dk_163 0 29 (dk_at dksX6_facedOf_2 0 rfl rfl)
theorem dX6_facedOf_48 : decode cX6_facedOf 48 = .ok (.aload_n 0, 1) := dk_42 (dk_at dksX6_facedOf_2 3 rfl rfl)
theorem dX6_facedOf_49 : decode cX6_facedOf 49 = .ok (.getfield 82, 3) := dk_180 0 82 (dk_at dksX6_facedOf_2 4 rfl rfl)
theorem dX6_facedOf_52 : decode cX6_facedOf 52 = .ok (.bipush 41, 2) := dk_16 41 (dk_at dksX6_facedOf_2 7 rfl rfl)
theorem dX6_facedOf_54 : decode cX6_facedOf 54 = .ok (.iload 4, 2) := dk_21 4 (dk_at dksX6_facedOf_2 9 rfl rfl)
theorem dX6_facedOf_56 : decode cX6_facedOf 56 = .ok (.imul, 1) := dk_104 (dk_at dksX6_facedOf_2 11 rfl rfl)
theorem dX6_facedOf_57 : decode cX6_facedOf 57 = .ok (.iload 5, 2) := dk_21 5 (dk_at dksX6_facedOf_2 12 rfl rfl)
theorem dX6_facedOf_59 : decode cX6_facedOf 59 = .ok (.iadd, 1) := dk_96 (dk_at dksX6_facedOf_2 14 rfl rfl)
theorem dX6_facedOf_60 : decode cX6_facedOf 60 = .ok (.aload_n 0, 1) := dk_42 (dk_at dksX6_facedOf_2 15 rfl rfl)
theorem dX6_facedOf_61 : decode cX6_facedOf 61 = .ok (.iload_n 2, 1) := dk_28 (dk_at dksX6_facedOf_2 16 rfl rfl)
theorem dX6_facedOf_62 : decode cX6_facedOf 62 = .ok (.iload 5, 2) := dk_21 5 (dk_at dksX6_facedOf_2 17 rfl rfl)
theorem dX6_facedOf_64 : decode cX6_facedOf 64 = .ok (.invokevirtual 341, 3) := dk_182 1 85 (dk_at dksX6_facedOf_2 19 rfl rfl)
theorem dX6_facedOf_67 : decode cX6_facedOf 67 = .ok (.iastore, 1) := dk_79 (dk_at dksX6_facedOf_2 22 rfl rfl)
theorem dX6_facedOf_68 : decode cX6_facedOf 68 = .ok (.iinc 5 1, 3) := dk_132 5 1 (dk_at dksX6_facedOf_3 0 rfl rfl)
theorem dX6_facedOf_71 : decode cX6_facedOf 71 = .ok (.goto (-30), 3) := dk_167 255 226 (dk_at dksX6_facedOf_3 3 rfl rfl)
theorem dX6_facedOf_74 : decode cX6_facedOf 74 = .ok (.iinc 4 1, 3) := dk_132 4 1 (dk_at dksX6_facedOf_3 6 rfl rfl)
theorem dX6_facedOf_77 : decode cX6_facedOf 77 = .ok (.goto (-72), 3) := dk_167 255 184 (dk_at dksX6_facedOf_3 9 rfl rfl)
theorem dX6_facedOf_80 : decode cX6_facedOf 80 = .ok (.iload_n 3, 1) := dk_29 (dk_at dksX6_facedOf_3 12 rfl rfl)
theorem dX6_facedOf_81 : decode cX6_facedOf 81 = .ok (.ireturn, 1) := dk_172 (dk_at dksX6_facedOf_3 13 rfl rfl)
abbrev cX6_isSeen : ByteArray := prog_12_method_118_code
def yX6_isSeen : MethodName := ⟨RX6, "isSeen", "(I)Z"⟩
def dkwX6_isSeen_2 : List UInt8 := [153, 0, 5, 3, 172, 132, 2, 3, 167, 255, 208, 4, 172]
abbrev dktX6_isSeen_2 : List UInt8 := dkwX6_isSeen_2 ++ []
def dkwX6_isSeen_1 : List UInt8 := [42, 27, 28, 4, 96, 182, 1, 169, 136, 182, 1, 85, 133, 42, 27, 28, 5, 96, 182, 1, 169, 148]
abbrev dktX6_isSeen_1 : List UInt8 := dkwX6_isSeen_1 ++ dktX6_isSeen_2
def dkwX6_isSeen_0 : List UInt8 := [42, 182, 1, 76, 3, 61, 28, 42, 180, 0, 88, 27, 46, 162, 0, 44, 42, 42, 27, 28, 182, 1, 169, 136]
abbrev dktX6_isSeen_0 : List UInt8 := dkwX6_isSeen_0 ++ dktX6_isSeen_1
theorem dksX6_isSeen_0 : cX6_isSeen.data.toList.drop 0 = dktX6_isSeen_0 := by decide +kernel
theorem dksX6_isSeen_1 : cX6_isSeen.data.toList.drop 24 = dktX6_isSeen_1 := dk_seg dksX6_isSeen_0 24 rfl rfl
theorem dksX6_isSeen_2 : cX6_isSeen.data.toList.drop 46 = dktX6_isSeen_2 := dk_seg dksX6_isSeen_1 22 rfl rfl
theorem dX6_isSeen_0 : decode cX6_isSeen 0 = .ok (.aload_n 0, 1) := dk_42 (dk_at dksX6_isSeen_0 0 rfl rfl)
theorem dX6_isSeen_1 : decode cX6_isSeen 1 = .ok (.invokevirtual 332, 3) := dk_182 1 76 (dk_at dksX6_isSeen_0 1 rfl rfl)
theorem dX6_isSeen_4 : decode cX6_isSeen 4 = .ok (.iconst 0, 1) := dk_3 (dk_at dksX6_isSeen_0 4 rfl rfl)
theorem dX6_isSeen_5 : decode cX6_isSeen 5 = .ok (.istore_n 2, 1) := dk_61 (dk_at dksX6_isSeen_0 5 rfl rfl)
theorem dX6_isSeen_6 : decode cX6_isSeen 6 = .ok (.iload_n 2, 1) := dk_28 (dk_at dksX6_isSeen_0 6 rfl rfl)
theorem dX6_isSeen_7 : decode cX6_isSeen 7 = .ok (.aload_n 0, 1) := dk_42 (dk_at dksX6_isSeen_0 7 rfl rfl)
theorem dX6_isSeen_8 : decode cX6_isSeen 8 = .ok (.getfield 88, 3) := dk_180 0 88 (dk_at dksX6_isSeen_0 8 rfl rfl)
theorem dX6_isSeen_11 : decode cX6_isSeen 11 = .ok (.iload_n 1, 1) := dk_27 (dk_at dksX6_isSeen_0 11 rfl rfl)
theorem dX6_isSeen_12 : decode cX6_isSeen 12 = .ok (.iaload, 1) := dk_46 (dk_at dksX6_isSeen_0 12 rfl rfl)
theorem dX6_isSeen_13 : decode cX6_isSeen 13 = .ok (.if_icmp .ge 44, 3) := dk_162 0 44 (dk_at dksX6_isSeen_0 13 rfl rfl)
theorem dX6_isSeen_16 : decode cX6_isSeen 16 = .ok (.aload_n 0, 1) := dk_42 (dk_at dksX6_isSeen_0 16 rfl rfl)
theorem dX6_isSeen_17 : decode cX6_isSeen 17 = .ok (.aload_n 0, 1) := dk_42 (dk_at dksX6_isSeen_0 17 rfl rfl)
theorem dX6_isSeen_18 : decode cX6_isSeen 18 = .ok (.iload_n 1, 1) := dk_27 (dk_at dksX6_isSeen_0 18 rfl rfl)
theorem dX6_isSeen_19 : decode cX6_isSeen 19 = .ok (.iload_n 2, 1) := dk_28 (dk_at dksX6_isSeen_0 19 rfl rfl)
theorem dX6_isSeen_20 : decode cX6_isSeen 20 = .ok (.invokevirtual 425, 3) := dk_182 1 169 (dk_at dksX6_isSeen_0 20 rfl rfl)
theorem dX6_isSeen_23 : decode cX6_isSeen 23 = .ok (.l2i, 1) := dk_136 (dk_at dksX6_isSeen_0 23 rfl rfl)
theorem dX6_isSeen_24 : decode cX6_isSeen 24 = .ok (.aload_n 0, 1) := dk_42 (dk_at dksX6_isSeen_1 0 rfl rfl)
theorem dX6_isSeen_25 : decode cX6_isSeen 25 = .ok (.iload_n 1, 1) := dk_27 (dk_at dksX6_isSeen_1 1 rfl rfl)
theorem dX6_isSeen_26 : decode cX6_isSeen 26 = .ok (.iload_n 2, 1) := dk_28 (dk_at dksX6_isSeen_1 2 rfl rfl)
theorem dX6_isSeen_27 : decode cX6_isSeen 27 = .ok (.iconst 1, 1) := dk_4 (dk_at dksX6_isSeen_1 3 rfl rfl)
theorem dX6_isSeen_28 : decode cX6_isSeen 28 = .ok (.iadd, 1) := dk_96 (dk_at dksX6_isSeen_1 4 rfl rfl)
theorem dX6_isSeen_29 : decode cX6_isSeen 29 = .ok (.invokevirtual 425, 3) := dk_182 1 169 (dk_at dksX6_isSeen_1 5 rfl rfl)
theorem dX6_isSeen_32 : decode cX6_isSeen 32 = .ok (.l2i, 1) := dk_136 (dk_at dksX6_isSeen_1 8 rfl rfl)
theorem dX6_isSeen_33 : decode cX6_isSeen 33 = .ok (.invokevirtual 341, 3) := dk_182 1 85 (dk_at dksX6_isSeen_1 9 rfl rfl)
theorem dX6_isSeen_36 : decode cX6_isSeen 36 = .ok (.i2l, 1) := dk_133 (dk_at dksX6_isSeen_1 12 rfl rfl)
theorem dX6_isSeen_37 : decode cX6_isSeen 37 = .ok (.aload_n 0, 1) := dk_42 (dk_at dksX6_isSeen_1 13 rfl rfl)
theorem dX6_isSeen_38 : decode cX6_isSeen 38 = .ok (.iload_n 1, 1) := dk_27 (dk_at dksX6_isSeen_1 14 rfl rfl)
theorem dX6_isSeen_39 : decode cX6_isSeen 39 = .ok (.iload_n 2, 1) := dk_28 (dk_at dksX6_isSeen_1 15 rfl rfl)
theorem dX6_isSeen_40 : decode cX6_isSeen 40 = .ok (.iconst 2, 1) := dk_5 (dk_at dksX6_isSeen_1 16 rfl rfl)
theorem dX6_isSeen_41 : decode cX6_isSeen 41 = .ok (.iadd, 1) := dk_96 (dk_at dksX6_isSeen_1 17 rfl rfl)
theorem dX6_isSeen_42 : decode cX6_isSeen 42 = .ok (.invokevirtual 425, 3) := dk_182 1 169 (dk_at dksX6_isSeen_1 18 rfl rfl)
theorem dX6_isSeen_45 : decode cX6_isSeen 45 = .ok (.lcmp, 1) := dk_148 (dk_at dksX6_isSeen_1 21 rfl rfl)
theorem dX6_isSeen_46 : decode cX6_isSeen 46 = .ok (.ifCond .eq 5, 3) := dk_153 0 5 (dk_at dksX6_isSeen_2 0 rfl rfl)
theorem dX6_isSeen_49 : decode cX6_isSeen 49 = .ok (.iconst 0, 1) := dk_3 (dk_at dksX6_isSeen_2 3 rfl rfl)
theorem dX6_isSeen_50 : decode cX6_isSeen 50 = .ok (.ireturn, 1) := dk_172 (dk_at dksX6_isSeen_2 4 rfl rfl)
theorem dX6_isSeen_51 : decode cX6_isSeen 51 = .ok (.iinc 2 3, 3) := dk_132 2 3 (dk_at dksX6_isSeen_2 5 rfl rfl)
theorem dX6_isSeen_54 : decode cX6_isSeen 54 = .ok (.goto (-48), 3) := dk_167 255 208 (dk_at dksX6_isSeen_2 8 rfl rfl)
theorem dX6_isSeen_57 : decode cX6_isSeen 57 = .ok (.iconst 1, 1) := dk_4 (dk_at dksX6_isSeen_2 11 rfl rfl)
theorem dX6_isSeen_58 : decode cX6_isSeen 58 = .ok (.ireturn, 1) := dk_172 (dk_at dksX6_isSeen_2 12 rfl rfl)
abbrev cX6_griefs : ByteArray := prog_12_method_121_code
def yX6_griefs : MethodName := ⟨RX6, "griefs", "(II)I"⟩
def dkwX6_griefs_3 : List UInt8 := [21, 4, 172]
abbrev dktX6_griefs_3 : List UInt8 := dkwX6_griefs_3 ++ []
def dkwX6_griefs_2 : List UInt8 := [180, 1, 39, 120, 167, 0, 4, 3, 128, 54, 4, 42, 89, 180, 1, 39, 4, 96, 181, 1, 39, 167, 255, 215]
abbrev dktX6_griefs_2 : List UInt8 := dkwX6_griefs_2 ++ dktX6_griefs_3
def dkwX6_griefs_1 : List UInt8 := [181, 1, 39, 42, 180, 1, 39, 7, 162, 0, 39, 21, 4, 42, 27, 182, 1, 176, 153, 0, 12, 4, 42]
abbrev dktX6_griefs_1 : List UInt8 := dkwX6_griefs_1 ++ dktX6_griefs_2
def dkwX6_griefs_0 : List UInt8 := [42, 27, 28, 182, 1, 179, 62, 29, 156, 0, 5, 29, 172, 3, 54, 4, 42, 28, 181, 1, 23, 42, 3]
abbrev dktX6_griefs_0 : List UInt8 := dkwX6_griefs_0 ++ dktX6_griefs_1
theorem dksX6_griefs_0 : cX6_griefs.data.toList.drop 0 = dktX6_griefs_0 := by decide +kernel
theorem dksX6_griefs_1 : cX6_griefs.data.toList.drop 23 = dktX6_griefs_1 := dk_seg dksX6_griefs_0 23 rfl rfl
theorem dksX6_griefs_2 : cX6_griefs.data.toList.drop 46 = dktX6_griefs_2 := dk_seg dksX6_griefs_1 23 rfl rfl
theorem dksX6_griefs_3 : cX6_griefs.data.toList.drop 70 = dktX6_griefs_3 := dk_seg dksX6_griefs_2 24 rfl rfl
theorem dX6_griefs_0 : decode cX6_griefs 0 = .ok (.aload_n 0, 1) := dk_42 (dk_at dksX6_griefs_0 0 rfl rfl)
theorem dX6_griefs_1 : decode cX6_griefs 1 = .ok (.iload_n 1, 1) := dk_27 (dk_at dksX6_griefs_0 1 rfl rfl)
theorem dX6_griefs_2 : decode cX6_griefs 2 = .ok (.iload_n 2, 1) := dk_28 (dk_at dksX6_griefs_0 2 rfl rfl)
theorem dX6_griefs_3 : decode cX6_griefs 3 = .ok (.invokevirtual 435, 3) := dk_182 1 179 (dk_at dksX6_griefs_0 3 rfl rfl)
theorem dX6_griefs_6 : decode cX6_griefs 6 = .ok (.istore_n 3, 1) := dk_62 (dk_at dksX6_griefs_0 6 rfl rfl)
theorem dX6_griefs_7 : decode cX6_griefs 7 = .ok (.iload_n 3, 1) := dk_29 (dk_at dksX6_griefs_0 7 rfl rfl)
theorem dX6_griefs_8 : decode cX6_griefs 8 = .ok (.ifCond .ge 5, 3) := dk_156 0 5 (dk_at dksX6_griefs_0 8 rfl rfl)
theorem dX6_griefs_11 : decode cX6_griefs 11 = .ok (.iload_n 3, 1) := dk_29 (dk_at dksX6_griefs_0 11 rfl rfl)
theorem dX6_griefs_12 : decode cX6_griefs 12 = .ok (.ireturn, 1) := dk_172 (dk_at dksX6_griefs_0 12 rfl rfl)
theorem dX6_griefs_13 : decode cX6_griefs 13 = .ok (.iconst 0, 1) := dk_3 (dk_at dksX6_griefs_0 13 rfl rfl)
theorem dX6_griefs_14 : decode cX6_griefs 14 = .ok (.istore 4, 2) := dk_54 4 (dk_at dksX6_griefs_0 14 rfl rfl)
theorem dX6_griefs_16 : decode cX6_griefs 16 = .ok (.aload_n 0, 1) := dk_42 (dk_at dksX6_griefs_0 16 rfl rfl)
theorem dX6_griefs_17 : decode cX6_griefs 17 = .ok (.iload_n 2, 1) := dk_28 (dk_at dksX6_griefs_0 17 rfl rfl)
theorem dX6_griefs_18 : decode cX6_griefs 18 = .ok (.putfield 279, 3) := dk_181 1 23 (dk_at dksX6_griefs_0 18 rfl rfl)
theorem dX6_griefs_21 : decode cX6_griefs 21 = .ok (.aload_n 0, 1) := dk_42 (dk_at dksX6_griefs_0 21 rfl rfl)
theorem dX6_griefs_22 : decode cX6_griefs 22 = .ok (.iconst 0, 1) := dk_3 (dk_at dksX6_griefs_0 22 rfl rfl)
theorem dX6_griefs_23 : decode cX6_griefs 23 = .ok (.putfield 295, 3) := dk_181 1 39 (dk_at dksX6_griefs_1 0 rfl rfl)
theorem dX6_griefs_26 : decode cX6_griefs 26 = .ok (.aload_n 0, 1) := dk_42 (dk_at dksX6_griefs_1 3 rfl rfl)
theorem dX6_griefs_27 : decode cX6_griefs 27 = .ok (.getfield 295, 3) := dk_180 1 39 (dk_at dksX6_griefs_1 4 rfl rfl)
theorem dX6_griefs_30 : decode cX6_griefs 30 = .ok (.iconst 4, 1) := dk_7 (dk_at dksX6_griefs_1 7 rfl rfl)
theorem dX6_griefs_31 : decode cX6_griefs 31 = .ok (.if_icmp .ge 39, 3) := dk_162 0 39 (dk_at dksX6_griefs_1 8 rfl rfl)
theorem dX6_griefs_34 : decode cX6_griefs 34 = .ok (.iload 4, 2) := dk_21 4 (dk_at dksX6_griefs_1 11 rfl rfl)
theorem dX6_griefs_36 : decode cX6_griefs 36 = .ok (.aload_n 0, 1) := dk_42 (dk_at dksX6_griefs_1 13 rfl rfl)
theorem dX6_griefs_37 : decode cX6_griefs 37 = .ok (.iload_n 1, 1) := dk_27 (dk_at dksX6_griefs_1 14 rfl rfl)
theorem dX6_griefs_38 : decode cX6_griefs 38 = .ok (.invokevirtual 432, 3) := dk_182 1 176 (dk_at dksX6_griefs_1 15 rfl rfl)
theorem dX6_griefs_41 : decode cX6_griefs 41 = .ok (.ifCond .eq 12, 3) := dk_153 0 12 (dk_at dksX6_griefs_1 18 rfl rfl)
theorem dX6_griefs_44 : decode cX6_griefs 44 = .ok (.iconst 1, 1) := dk_4 (dk_at dksX6_griefs_1 21 rfl rfl)
theorem dX6_griefs_45 : decode cX6_griefs 45 = .ok (.aload_n 0, 1) := dk_42 (dk_at dksX6_griefs_1 22 rfl rfl)
theorem dX6_griefs_46 : decode cX6_griefs 46 = .ok (.getfield 295, 3) := dk_180 1 39 (dk_at dksX6_griefs_2 0 rfl rfl)
theorem dX6_griefs_49 : decode cX6_griefs 49 = .ok (.ishl, 1) := dk_120 (dk_at dksX6_griefs_2 3 rfl rfl)
theorem dX6_griefs_50 : decode cX6_griefs 50 = .ok (.goto 4, 3) := dk_167 0 4 (dk_at dksX6_griefs_2 4 rfl rfl)
theorem dX6_griefs_53 : decode cX6_griefs 53 = .ok (.iconst 0, 1) := dk_3 (dk_at dksX6_griefs_2 7 rfl rfl)
theorem dX6_griefs_54 : decode cX6_griefs 54 = .ok (.ior, 1) := dk_128 (dk_at dksX6_griefs_2 8 rfl rfl)
theorem dX6_griefs_55 : decode cX6_griefs 55 = .ok (.istore 4, 2) := dk_54 4 (dk_at dksX6_griefs_2 9 rfl rfl)
theorem dX6_griefs_57 : decode cX6_griefs 57 = .ok (.aload_n 0, 1) := dk_42 (dk_at dksX6_griefs_2 11 rfl rfl)
theorem dX6_griefs_58 : decode cX6_griefs 58 = .ok (.dup, 1) := dk_89 (dk_at dksX6_griefs_2 12 rfl rfl)
theorem dX6_griefs_59 : decode cX6_griefs 59 = .ok (.getfield 295, 3) := dk_180 1 39 (dk_at dksX6_griefs_2 13 rfl rfl)
theorem dX6_griefs_62 : decode cX6_griefs 62 = .ok (.iconst 1, 1) := dk_4 (dk_at dksX6_griefs_2 16 rfl rfl)
theorem dX6_griefs_63 : decode cX6_griefs 63 = .ok (.iadd, 1) := dk_96 (dk_at dksX6_griefs_2 17 rfl rfl)
theorem dX6_griefs_64 : decode cX6_griefs 64 = .ok (.putfield 295, 3) := dk_181 1 39 (dk_at dksX6_griefs_2 18 rfl rfl)
theorem dX6_griefs_67 : decode cX6_griefs 67 = .ok (.goto (-41), 3) := dk_167 255 215 (dk_at dksX6_griefs_2 21 rfl rfl)
theorem dX6_griefs_70 : decode cX6_griefs 70 = .ok (.iload 4, 2) := dk_21 4 (dk_at dksX6_griefs_3 0 rfl rfl)
theorem dX6_griefs_72 : decode cX6_griefs 72 = .ok (.ireturn, 1) := dk_172 (dk_at dksX6_griefs_3 2 rfl rfl)
abbrev cX6_ask : ByteArray := prog_12_method_124_code
def yX6_ask : MethodName := ⟨RX6, "ask", "(II)I"⟩
def dkwX6_ask_1 : List UInt8 := [182, 1, 190, 172]
abbrev dktX6_ask_1 : List UInt8 := dkwX6_ask_1 ++ []
def dkwX6_ask_0 : List UInt8 := [42, 27, 28, 182, 1, 179, 62, 29, 156, 0, 7, 29, 167, 0, 13, 42, 42, 27, 28, 182, 1, 181]
abbrev dktX6_ask_0 : List UInt8 := dkwX6_ask_0 ++ dktX6_ask_1
theorem dksX6_ask_0 : cX6_ask.data.toList.drop 0 = dktX6_ask_0 := by decide +kernel
theorem dksX6_ask_1 : cX6_ask.data.toList.drop 22 = dktX6_ask_1 := dk_seg dksX6_ask_0 22 rfl rfl
theorem dX6_ask_0 : decode cX6_ask 0 = .ok (.aload_n 0, 1) := dk_42 (dk_at dksX6_ask_0 0 rfl rfl)
theorem dX6_ask_1 : decode cX6_ask 1 = .ok (.iload_n 1, 1) := dk_27 (dk_at dksX6_ask_0 1 rfl rfl)
theorem dX6_ask_2 : decode cX6_ask 2 = .ok (.iload_n 2, 1) := dk_28 (dk_at dksX6_ask_0 2 rfl rfl)
theorem dX6_ask_3 : decode cX6_ask 3 = .ok (.invokevirtual 435, 3) := dk_182 1 179 (dk_at dksX6_ask_0 3 rfl rfl)
theorem dX6_ask_6 : decode cX6_ask 6 = .ok (.istore_n 3, 1) := dk_62 (dk_at dksX6_ask_0 6 rfl rfl)
theorem dX6_ask_7 : decode cX6_ask 7 = .ok (.iload_n 3, 1) := dk_29 (dk_at dksX6_ask_0 7 rfl rfl)
theorem dX6_ask_8 : decode cX6_ask 8 = .ok (.ifCond .ge 7, 3) := dk_156 0 7 (dk_at dksX6_ask_0 8 rfl rfl)
theorem dX6_ask_11 : decode cX6_ask 11 = .ok (.iload_n 3, 1) := dk_29 (dk_at dksX6_ask_0 11 rfl rfl)
theorem dX6_ask_12 : decode cX6_ask 12 = .ok (.goto 13, 3) := dk_167 0 13 (dk_at dksX6_ask_0 12 rfl rfl)
theorem dX6_ask_15 : decode cX6_ask 15 = .ok (.aload_n 0, 1) := dk_42 (dk_at dksX6_ask_0 15 rfl rfl)
theorem dX6_ask_16 : decode cX6_ask 16 = .ok (.aload_n 0, 1) := dk_42 (dk_at dksX6_ask_0 16 rfl rfl)
theorem dX6_ask_17 : decode cX6_ask 17 = .ok (.iload_n 1, 1) := dk_27 (dk_at dksX6_ask_0 17 rfl rfl)
theorem dX6_ask_18 : decode cX6_ask 18 = .ok (.iload_n 2, 1) := dk_28 (dk_at dksX6_ask_0 18 rfl rfl)
theorem dX6_ask_19 : decode cX6_ask 19 = .ok (.invokevirtual 437, 3) := dk_182 1 181 (dk_at dksX6_ask_0 19 rfl rfl)
theorem dX6_ask_22 : decode cX6_ask 22 = .ok (.invokevirtual 446, 3) := dk_182 1 190 (dk_at dksX6_ask_1 0 rfl rfl)
theorem dX6_ask_25 : decode cX6_ask 25 = .ok (.ireturn, 1) := dk_172 (dk_at dksX6_ask_1 3 rfl rfl)
abbrev cX6_askOf : ByteArray := prog_12_method_123_code
def yX6_askOf : MethodName := ⟨RX6, "askOf", "(I)I"⟩
def dkwX6_askOf_2 : List UInt8 := [132, 3, 1, 167, 255, 219, 28, 172]
abbrev dktX6_askOf_2 : List UInt8 := dkwX6_askOf_2 ++ []
def dkwX6_askOf_1 : List UInt8 := [54, 4, 21, 4, 42, 180, 1, 184, 161, 0, 6, 167, 0, 11, 42, 21, 4, 181, 1, 184, 29, 61]
abbrev dktX6_askOf_1 : List UInt8 := dkwX6_askOf_1 ++ dktX6_askOf_2
def dkwX6_askOf_0 : List UInt8 := [42, 27, 184, 1, 91, 181, 1, 184, 2, 61, 3, 62, 29, 16, 40, 163, 0, 37, 42, 27, 29, 182, 1, 187]
abbrev dktX6_askOf_0 : List UInt8 := dkwX6_askOf_0 ++ dktX6_askOf_1
theorem dksX6_askOf_0 : cX6_askOf.data.toList.drop 0 = dktX6_askOf_0 := by decide +kernel
theorem dksX6_askOf_1 : cX6_askOf.data.toList.drop 24 = dktX6_askOf_1 := dk_seg dksX6_askOf_0 24 rfl rfl
theorem dksX6_askOf_2 : cX6_askOf.data.toList.drop 46 = dktX6_askOf_2 := dk_seg dksX6_askOf_1 22 rfl rfl
theorem dX6_askOf_0 : decode cX6_askOf 0 = .ok (.aload_n 0, 1) := dk_42 (dk_at dksX6_askOf_0 0 rfl rfl)
theorem dX6_askOf_1 : decode cX6_askOf 1 = .ok (.iload_n 1, 1) := dk_27 (dk_at dksX6_askOf_0 1 rfl rfl)
theorem dX6_askOf_2 : decode cX6_askOf 2 = .ok (.invokestatic 347, 3) := dk_184 1 91 (dk_at dksX6_askOf_0 2 rfl rfl)
theorem dX6_askOf_5 : decode cX6_askOf 5 = .ok (.putfield 440, 3) := dk_181 1 184 (dk_at dksX6_askOf_0 5 rfl rfl)
theorem dX6_askOf_8 : decode cX6_askOf 8 = .ok (.iconst (-1), 1) := dk_2 (dk_at dksX6_askOf_0 8 rfl rfl)
theorem dX6_askOf_9 : decode cX6_askOf 9 = .ok (.istore_n 2, 1) := dk_61 (dk_at dksX6_askOf_0 9 rfl rfl)
theorem dX6_askOf_10 : decode cX6_askOf 10 = .ok (.iconst 0, 1) := dk_3 (dk_at dksX6_askOf_0 10 rfl rfl)
theorem dX6_askOf_11 : decode cX6_askOf 11 = .ok (.istore_n 3, 1) := dk_62 (dk_at dksX6_askOf_0 11 rfl rfl)
theorem dX6_askOf_12 : decode cX6_askOf 12 = .ok (.iload_n 3, 1) := dk_29 (dk_at dksX6_askOf_0 12 rfl rfl)
theorem dX6_askOf_13 : decode cX6_askOf 13 = .ok (.bipush 40, 2) := dk_16 40 (dk_at dksX6_askOf_0 13 rfl rfl)
theorem dX6_askOf_15 : decode cX6_askOf 15 = .ok (.if_icmp .gt 37, 3) := dk_163 0 37 (dk_at dksX6_askOf_0 15 rfl rfl)
theorem dX6_askOf_18 : decode cX6_askOf 18 = .ok (.aload_n 0, 1) := dk_42 (dk_at dksX6_askOf_0 18 rfl rfl)
theorem dX6_askOf_19 : decode cX6_askOf 19 = .ok (.iload_n 1, 1) := dk_27 (dk_at dksX6_askOf_0 19 rfl rfl)
theorem dX6_askOf_20 : decode cX6_askOf 20 = .ok (.iload_n 3, 1) := dk_29 (dk_at dksX6_askOf_0 20 rfl rfl)
theorem dX6_askOf_21 : decode cX6_askOf 21 = .ok (.invokevirtual 443, 3) := dk_182 1 187 (dk_at dksX6_askOf_0 21 rfl rfl)
theorem dX6_askOf_24 : decode cX6_askOf 24 = .ok (.istore 4, 2) := dk_54 4 (dk_at dksX6_askOf_1 0 rfl rfl)
theorem dX6_askOf_26 : decode cX6_askOf 26 = .ok (.iload 4, 2) := dk_21 4 (dk_at dksX6_askOf_1 2 rfl rfl)
theorem dX6_askOf_28 : decode cX6_askOf 28 = .ok (.aload_n 0, 1) := dk_42 (dk_at dksX6_askOf_1 4 rfl rfl)
theorem dX6_askOf_29 : decode cX6_askOf 29 = .ok (.getfield 440, 3) := dk_180 1 184 (dk_at dksX6_askOf_1 5 rfl rfl)
theorem dX6_askOf_32 : decode cX6_askOf 32 = .ok (.if_icmp .lt 6, 3) := dk_161 0 6 (dk_at dksX6_askOf_1 8 rfl rfl)
theorem dX6_askOf_35 : decode cX6_askOf 35 = .ok (.goto 11, 3) := dk_167 0 11 (dk_at dksX6_askOf_1 11 rfl rfl)
theorem dX6_askOf_38 : decode cX6_askOf 38 = .ok (.aload_n 0, 1) := dk_42 (dk_at dksX6_askOf_1 14 rfl rfl)
theorem dX6_askOf_39 : decode cX6_askOf 39 = .ok (.iload 4, 2) := dk_21 4 (dk_at dksX6_askOf_1 15 rfl rfl)
theorem dX6_askOf_41 : decode cX6_askOf 41 = .ok (.putfield 440, 3) := dk_181 1 184 (dk_at dksX6_askOf_1 17 rfl rfl)
theorem dX6_askOf_44 : decode cX6_askOf 44 = .ok (.iload_n 3, 1) := dk_29 (dk_at dksX6_askOf_1 20 rfl rfl)
theorem dX6_askOf_45 : decode cX6_askOf 45 = .ok (.istore_n 2, 1) := dk_61 (dk_at dksX6_askOf_1 21 rfl rfl)
theorem dX6_askOf_46 : decode cX6_askOf 46 = .ok (.iinc 3 1, 3) := dk_132 3 1 (dk_at dksX6_askOf_2 0 rfl rfl)
theorem dX6_askOf_49 : decode cX6_askOf 49 = .ok (.goto (-37), 3) := dk_167 255 219 (dk_at dksX6_askOf_2 3 rfl rfl)
theorem dX6_askOf_52 : decode cX6_askOf 52 = .ok (.iload_n 2, 1) := dk_28 (dk_at dksX6_askOf_2 6 rfl rfl)
theorem dX6_askOf_53 : decode cX6_askOf 53 = .ok (.ireturn, 1) := dk_172 (dk_at dksX6_askOf_2 7 rfl rfl)
abbrev cX6_worstOf : ByteArray := prog_12_method_122_code
def yX6_worstOf : MethodName := ⟨RX6, "worstOf", "(II)I"⟩
def dkwX6_worstOf_4 : List UInt8 := [132, 4, 1, 167, 255, 165, 29, 172]
abbrev dktX6_worstOf_4 : List UInt8 := dkwX6_worstOf_4 ++ []
def dkwX6_worstOf_3 : List UInt8 := [160, 0, 7, 4, 167, 0, 4, 3, 96, 54, 5, 132, 6, 1, 167, 255, 190, 29, 21, 5, 184, 1, 145, 62]
abbrev dktX6_worstOf_3 : List UInt8 := dkwX6_worstOf_3 ++ dktX6_worstOf_4
def dkwX6_worstOf_2 : List UInt8 := [180, 0, 82, 16, 41, 21, 4, 104, 28, 96, 46, 42, 180, 0, 82, 16, 41, 21, 6, 104, 28, 96, 46]
abbrev dktX6_worstOf_2 : List UInt8 := dkwX6_worstOf_2 ++ dktX6_worstOf_3
def dkwX6_worstOf_1 : List UInt8 := [21, 5, 27, 21, 4, 184, 1, 67, 4, 160, 0, 44, 27, 21, 6, 184, 1, 67, 4, 160, 0, 34, 42]
abbrev dktX6_worstOf_1 : List UInt8 := dkwX6_worstOf_1 ++ dktX6_worstOf_2
def dkwX6_worstOf_0 : List UInt8 := [3, 62, 3, 54, 4, 21, 4, 7, 162, 0, 91, 3, 54, 5, 3, 54, 6, 21, 6, 7, 162, 0, 66]
abbrev dktX6_worstOf_0 : List UInt8 := dkwX6_worstOf_0 ++ dktX6_worstOf_1
theorem dksX6_worstOf_0 : cX6_worstOf.data.toList.drop 0 = dktX6_worstOf_0 := by decide +kernel
theorem dksX6_worstOf_1 : cX6_worstOf.data.toList.drop 23 = dktX6_worstOf_1 := dk_seg dksX6_worstOf_0 23 rfl rfl
theorem dksX6_worstOf_2 : cX6_worstOf.data.toList.drop 46 = dktX6_worstOf_2 := dk_seg dksX6_worstOf_1 23 rfl rfl
theorem dksX6_worstOf_3 : cX6_worstOf.data.toList.drop 69 = dktX6_worstOf_3 := dk_seg dksX6_worstOf_2 23 rfl rfl
theorem dksX6_worstOf_4 : cX6_worstOf.data.toList.drop 93 = dktX6_worstOf_4 := dk_seg dksX6_worstOf_3 24 rfl rfl
theorem dX6_worstOf_0 : decode cX6_worstOf 0 = .ok (.iconst 0, 1) := dk_3 (dk_at dksX6_worstOf_0 0 rfl rfl)
theorem dX6_worstOf_1 : decode cX6_worstOf 1 = .ok (.istore_n 3, 1) := dk_62 (dk_at dksX6_worstOf_0 1 rfl rfl)
theorem dX6_worstOf_2 : decode cX6_worstOf 2 = .ok (.iconst 0, 1) := dk_3 (dk_at dksX6_worstOf_0 2 rfl rfl)
theorem dX6_worstOf_3 : decode cX6_worstOf 3 = .ok (.istore 4, 2) := dk_54 4 (dk_at dksX6_worstOf_0 3 rfl rfl)
theorem dX6_worstOf_5 : decode cX6_worstOf 5 = .ok (.iload 4, 2) := dk_21 4 (dk_at dksX6_worstOf_0 5 rfl rfl)
theorem dX6_worstOf_7 : decode cX6_worstOf 7 = .ok (.iconst 4, 1) := dk_7 (dk_at dksX6_worstOf_0 7 rfl rfl)
theorem dX6_worstOf_8 : decode cX6_worstOf 8 = .ok (.if_icmp .ge 91, 3) := dk_162 0 91 (dk_at dksX6_worstOf_0 8 rfl rfl)
theorem dX6_worstOf_11 : decode cX6_worstOf 11 = .ok (.iconst 0, 1) := dk_3 (dk_at dksX6_worstOf_0 11 rfl rfl)
theorem dX6_worstOf_12 : decode cX6_worstOf 12 = .ok (.istore 5, 2) := dk_54 5 (dk_at dksX6_worstOf_0 12 rfl rfl)
theorem dX6_worstOf_14 : decode cX6_worstOf 14 = .ok (.iconst 0, 1) := dk_3 (dk_at dksX6_worstOf_0 14 rfl rfl)
theorem dX6_worstOf_15 : decode cX6_worstOf 15 = .ok (.istore 6, 2) := dk_54 6 (dk_at dksX6_worstOf_0 15 rfl rfl)
theorem dX6_worstOf_17 : decode cX6_worstOf 17 = .ok (.iload 6, 2) := dk_21 6 (dk_at dksX6_worstOf_0 17 rfl rfl)
theorem dX6_worstOf_19 : decode cX6_worstOf 19 = .ok (.iconst 4, 1) := dk_7 (dk_at dksX6_worstOf_0 19 rfl rfl)
theorem dX6_worstOf_20 : decode cX6_worstOf 20 = .ok (.if_icmp .ge 66, 3) := dk_162 0 66 (dk_at dksX6_worstOf_0 20 rfl rfl)
theorem dX6_worstOf_23 : decode cX6_worstOf 23 = .ok (.iload 5, 2) := dk_21 5 (dk_at dksX6_worstOf_1 0 rfl rfl)
theorem dX6_worstOf_25 : decode cX6_worstOf 25 = .ok (.iload_n 1, 1) := dk_27 (dk_at dksX6_worstOf_1 2 rfl rfl)
theorem dX6_worstOf_26 : decode cX6_worstOf 26 = .ok (.iload 4, 2) := dk_21 4 (dk_at dksX6_worstOf_1 3 rfl rfl)
theorem dX6_worstOf_28 : decode cX6_worstOf 28 = .ok (.invokestatic 323, 3) := dk_184 1 67 (dk_at dksX6_worstOf_1 5 rfl rfl)
theorem dX6_worstOf_31 : decode cX6_worstOf 31 = .ok (.iconst 1, 1) := dk_4 (dk_at dksX6_worstOf_1 8 rfl rfl)
theorem dX6_worstOf_32 : decode cX6_worstOf 32 = .ok (.if_icmp .ne 44, 3) := dk_160 0 44 (dk_at dksX6_worstOf_1 9 rfl rfl)
theorem dX6_worstOf_35 : decode cX6_worstOf 35 = .ok (.iload_n 1, 1) := dk_27 (dk_at dksX6_worstOf_1 12 rfl rfl)
theorem dX6_worstOf_36 : decode cX6_worstOf 36 = .ok (.iload 6, 2) := dk_21 6 (dk_at dksX6_worstOf_1 13 rfl rfl)
theorem dX6_worstOf_38 : decode cX6_worstOf 38 = .ok (.invokestatic 323, 3) := dk_184 1 67 (dk_at dksX6_worstOf_1 15 rfl rfl)
theorem dX6_worstOf_41 : decode cX6_worstOf 41 = .ok (.iconst 1, 1) := dk_4 (dk_at dksX6_worstOf_1 18 rfl rfl)
theorem dX6_worstOf_42 : decode cX6_worstOf 42 = .ok (.if_icmp .ne 34, 3) := dk_160 0 34 (dk_at dksX6_worstOf_1 19 rfl rfl)
theorem dX6_worstOf_45 : decode cX6_worstOf 45 = .ok (.aload_n 0, 1) := dk_42 (dk_at dksX6_worstOf_1 22 rfl rfl)
theorem dX6_worstOf_46 : decode cX6_worstOf 46 = .ok (.getfield 82, 3) := dk_180 0 82 (dk_at dksX6_worstOf_2 0 rfl rfl)
theorem dX6_worstOf_49 : decode cX6_worstOf 49 = .ok (.bipush 41, 2) := dk_16 41 (dk_at dksX6_worstOf_2 3 rfl rfl)
theorem dX6_worstOf_51 : decode cX6_worstOf 51 = .ok (.iload 4, 2) := dk_21 4 (dk_at dksX6_worstOf_2 5 rfl rfl)
theorem dX6_worstOf_53 : decode cX6_worstOf 53 = .ok (.imul, 1) := dk_104 (dk_at dksX6_worstOf_2 7 rfl rfl)
theorem dX6_worstOf_54 : decode cX6_worstOf 54 = .ok (.iload_n 2, 1) := dk_28 (dk_at dksX6_worstOf_2 8 rfl rfl)
theorem dX6_worstOf_55 : decode cX6_worstOf 55 = .ok (.iadd, 1) := dk_96 (dk_at dksX6_worstOf_2 9 rfl rfl)
theorem dX6_worstOf_56 : decode cX6_worstOf 56 = .ok (.iaload, 1) := dk_46 (dk_at dksX6_worstOf_2 10 rfl rfl)
theorem dX6_worstOf_57 : decode cX6_worstOf 57 = .ok (.aload_n 0, 1) := dk_42 (dk_at dksX6_worstOf_2 11 rfl rfl)
theorem dX6_worstOf_58 : decode cX6_worstOf 58 = .ok (.getfield 82, 3) := dk_180 0 82 (dk_at dksX6_worstOf_2 12 rfl rfl)
theorem dX6_worstOf_61 : decode cX6_worstOf 61 = .ok (.bipush 41, 2) := dk_16 41 (dk_at dksX6_worstOf_2 15 rfl rfl)
theorem dX6_worstOf_63 : decode cX6_worstOf 63 = .ok (.iload 6, 2) := dk_21 6 (dk_at dksX6_worstOf_2 17 rfl rfl)
theorem dX6_worstOf_65 : decode cX6_worstOf 65 = .ok (.imul, 1) := dk_104 (dk_at dksX6_worstOf_2 19 rfl rfl)
theorem dX6_worstOf_66 : decode cX6_worstOf 66 = .ok (.iload_n 2, 1) := dk_28 (dk_at dksX6_worstOf_2 20 rfl rfl)
theorem dX6_worstOf_67 : decode cX6_worstOf 67 = .ok (.iadd, 1) := dk_96 (dk_at dksX6_worstOf_2 21 rfl rfl)
theorem dX6_worstOf_68 : decode cX6_worstOf 68 = .ok (.iaload, 1) := dk_46 (dk_at dksX6_worstOf_2 22 rfl rfl)
theorem dX6_worstOf_69 : decode cX6_worstOf 69 = .ok (.if_icmp .ne 7, 3) := dk_160 0 7 (dk_at dksX6_worstOf_3 0 rfl rfl)
theorem dX6_worstOf_72 : decode cX6_worstOf 72 = .ok (.iconst 1, 1) := dk_4 (dk_at dksX6_worstOf_3 3 rfl rfl)
theorem dX6_worstOf_73 : decode cX6_worstOf 73 = .ok (.goto 4, 3) := dk_167 0 4 (dk_at dksX6_worstOf_3 4 rfl rfl)
theorem dX6_worstOf_76 : decode cX6_worstOf 76 = .ok (.iconst 0, 1) := dk_3 (dk_at dksX6_worstOf_3 7 rfl rfl)
theorem dX6_worstOf_77 : decode cX6_worstOf 77 = .ok (.iadd, 1) := dk_96 (dk_at dksX6_worstOf_3 8 rfl rfl)
theorem dX6_worstOf_78 : decode cX6_worstOf 78 = .ok (.istore 5, 2) := dk_54 5 (dk_at dksX6_worstOf_3 9 rfl rfl)
theorem dX6_worstOf_80 : decode cX6_worstOf 80 = .ok (.iinc 6 1, 3) := dk_132 6 1 (dk_at dksX6_worstOf_3 11 rfl rfl)
theorem dX6_worstOf_83 : decode cX6_worstOf 83 = .ok (.goto (-66), 3) := dk_167 255 190 (dk_at dksX6_worstOf_3 14 rfl rfl)
theorem dX6_worstOf_86 : decode cX6_worstOf 86 = .ok (.iload_n 3, 1) := dk_29 (dk_at dksX6_worstOf_3 17 rfl rfl)
theorem dX6_worstOf_87 : decode cX6_worstOf 87 = .ok (.iload 5, 2) := dk_21 5 (dk_at dksX6_worstOf_3 18 rfl rfl)
theorem dX6_worstOf_89 : decode cX6_worstOf 89 = .ok (.invokestatic 401, 3) := dk_184 1 145 (dk_at dksX6_worstOf_3 20 rfl rfl)
theorem dX6_worstOf_92 : decode cX6_worstOf 92 = .ok (.istore_n 3, 1) := dk_62 (dk_at dksX6_worstOf_3 23 rfl rfl)
theorem dX6_worstOf_93 : decode cX6_worstOf 93 = .ok (.iinc 4 1, 3) := dk_132 4 1 (dk_at dksX6_worstOf_4 0 rfl rfl)
theorem dX6_worstOf_96 : decode cX6_worstOf 96 = .ok (.goto (-91), 3) := dk_167 255 165 (dk_at dksX6_worstOf_4 3 rfl rfl)
theorem dX6_worstOf_99 : decode cX6_worstOf 99 = .ok (.iload_n 3, 1) := dk_29 (dk_at dksX6_worstOf_4 6 rfl rfl)
theorem dX6_worstOf_100 : decode cX6_worstOf 100 = .ok (.ireturn, 1) := dk_172 (dk_at dksX6_worstOf_4 7 rfl rfl)
abbrev cX6_leaves : ByteArray := prog_12_method_125_code
def yX6_leaves : MethodName := ⟨RX6, "leaves", "(II)I"⟩
def dkwX6_leaves_1 : List UInt8 := [42, 180, 1, 184, 172]
abbrev dktX6_leaves_1 : List UInt8 := dkwX6_leaves_1 ++ []
def dkwX6_leaves_0 : List UInt8 := [42, 27, 28, 182, 1, 179, 62, 29, 156, 0, 5, 29, 172, 42, 42, 27, 28, 182, 1, 181, 182, 1, 190, 87]
abbrev dktX6_leaves_0 : List UInt8 := dkwX6_leaves_0 ++ dktX6_leaves_1
theorem dksX6_leaves_0 : cX6_leaves.data.toList.drop 0 = dktX6_leaves_0 := by decide +kernel
theorem dksX6_leaves_1 : cX6_leaves.data.toList.drop 24 = dktX6_leaves_1 := dk_seg dksX6_leaves_0 24 rfl rfl
theorem dX6_leaves_0 : decode cX6_leaves 0 = .ok (.aload_n 0, 1) := dk_42 (dk_at dksX6_leaves_0 0 rfl rfl)
theorem dX6_leaves_1 : decode cX6_leaves 1 = .ok (.iload_n 1, 1) := dk_27 (dk_at dksX6_leaves_0 1 rfl rfl)
theorem dX6_leaves_2 : decode cX6_leaves 2 = .ok (.iload_n 2, 1) := dk_28 (dk_at dksX6_leaves_0 2 rfl rfl)
theorem dX6_leaves_3 : decode cX6_leaves 3 = .ok (.invokevirtual 435, 3) := dk_182 1 179 (dk_at dksX6_leaves_0 3 rfl rfl)
theorem dX6_leaves_6 : decode cX6_leaves 6 = .ok (.istore_n 3, 1) := dk_62 (dk_at dksX6_leaves_0 6 rfl rfl)
theorem dX6_leaves_7 : decode cX6_leaves 7 = .ok (.iload_n 3, 1) := dk_29 (dk_at dksX6_leaves_0 7 rfl rfl)
theorem dX6_leaves_8 : decode cX6_leaves 8 = .ok (.ifCond .ge 5, 3) := dk_156 0 5 (dk_at dksX6_leaves_0 8 rfl rfl)
theorem dX6_leaves_11 : decode cX6_leaves 11 = .ok (.iload_n 3, 1) := dk_29 (dk_at dksX6_leaves_0 11 rfl rfl)
theorem dX6_leaves_12 : decode cX6_leaves 12 = .ok (.ireturn, 1) := dk_172 (dk_at dksX6_leaves_0 12 rfl rfl)
theorem dX6_leaves_13 : decode cX6_leaves 13 = .ok (.aload_n 0, 1) := dk_42 (dk_at dksX6_leaves_0 13 rfl rfl)
theorem dX6_leaves_14 : decode cX6_leaves 14 = .ok (.aload_n 0, 1) := dk_42 (dk_at dksX6_leaves_0 14 rfl rfl)
theorem dX6_leaves_15 : decode cX6_leaves 15 = .ok (.iload_n 1, 1) := dk_27 (dk_at dksX6_leaves_0 15 rfl rfl)
theorem dX6_leaves_16 : decode cX6_leaves 16 = .ok (.iload_n 2, 1) := dk_28 (dk_at dksX6_leaves_0 16 rfl rfl)
theorem dX6_leaves_17 : decode cX6_leaves 17 = .ok (.invokevirtual 437, 3) := dk_182 1 181 (dk_at dksX6_leaves_0 17 rfl rfl)
theorem dX6_leaves_20 : decode cX6_leaves 20 = .ok (.invokevirtual 446, 3) := dk_182 1 190 (dk_at dksX6_leaves_0 20 rfl rfl)
theorem dX6_leaves_23 : decode cX6_leaves 23 = .ok (.pop, 1) := dk_87 (dk_at dksX6_leaves_0 23 rfl rfl)
theorem dX6_leaves_24 : decode cX6_leaves 24 = .ok (.aload_n 0, 1) := dk_42 (dk_at dksX6_leaves_1 0 rfl rfl)
theorem dX6_leaves_25 : decode cX6_leaves 25 = .ok (.getfield 440, 3) := dk_180 1 184 (dk_at dksX6_leaves_1 1 rfl rfl)
theorem dX6_leaves_28 : decode cX6_leaves 28 = .ok (.ireturn, 1) := dk_172 (dk_at dksX6_leaves_1 4 rfl rfl)
abbrev cX6_laws : ByteArray := prog_12_method_126_code
def yX6_laws : MethodName := ⟨RX6, "laws", "(I)I"⟩
def dkwX6_laws_2 : List UInt8 := [42, 89, 180, 1, 14, 4, 96, 181, 1, 14, 167, 255, 217, 29, 172]
abbrev dktX6_laws_2 : List UInt8 := dkwX6_laws_2 ++ []
def dkwX6_laws_1 : List UInt8 := [162, 0, 37, 29, 42, 27, 182, 1, 176, 153, 0, 12, 4, 42, 180, 1, 14, 120, 167, 0, 4, 3, 128, 62]
abbrev dktX6_laws_1 : List UInt8 := dkwX6_laws_1 ++ dktX6_laws_2
def dkwX6_laws_0 : List UInt8 := [42, 27, 182, 1, 173, 61, 28, 156, 0, 5, 28, 172, 3, 62, 42, 3, 181, 1, 14, 42, 180, 1, 14, 7]
abbrev dktX6_laws_0 : List UInt8 := dkwX6_laws_0 ++ dktX6_laws_1
theorem dksX6_laws_0 : cX6_laws.data.toList.drop 0 = dktX6_laws_0 := by decide +kernel
theorem dksX6_laws_1 : cX6_laws.data.toList.drop 24 = dktX6_laws_1 := dk_seg dksX6_laws_0 24 rfl rfl
theorem dksX6_laws_2 : cX6_laws.data.toList.drop 48 = dktX6_laws_2 := dk_seg dksX6_laws_1 24 rfl rfl
theorem dX6_laws_0 : decode cX6_laws 0 = .ok (.aload_n 0, 1) := dk_42 (dk_at dksX6_laws_0 0 rfl rfl)
theorem dX6_laws_1 : decode cX6_laws 1 = .ok (.iload_n 1, 1) := dk_27 (dk_at dksX6_laws_0 1 rfl rfl)
theorem dX6_laws_2 : decode cX6_laws 2 = .ok (.invokevirtual 429, 3) := dk_182 1 173 (dk_at dksX6_laws_0 2 rfl rfl)
theorem dX6_laws_5 : decode cX6_laws 5 = .ok (.istore_n 2, 1) := dk_61 (dk_at dksX6_laws_0 5 rfl rfl)
theorem dX6_laws_6 : decode cX6_laws 6 = .ok (.iload_n 2, 1) := dk_28 (dk_at dksX6_laws_0 6 rfl rfl)
theorem dX6_laws_7 : decode cX6_laws 7 = .ok (.ifCond .ge 5, 3) := dk_156 0 5 (dk_at dksX6_laws_0 7 rfl rfl)
theorem dX6_laws_10 : decode cX6_laws 10 = .ok (.iload_n 2, 1) := dk_28 (dk_at dksX6_laws_0 10 rfl rfl)
theorem dX6_laws_11 : decode cX6_laws 11 = .ok (.ireturn, 1) := dk_172 (dk_at dksX6_laws_0 11 rfl rfl)
theorem dX6_laws_12 : decode cX6_laws 12 = .ok (.iconst 0, 1) := dk_3 (dk_at dksX6_laws_0 12 rfl rfl)
theorem dX6_laws_13 : decode cX6_laws 13 = .ok (.istore_n 3, 1) := dk_62 (dk_at dksX6_laws_0 13 rfl rfl)
theorem dX6_laws_14 : decode cX6_laws 14 = .ok (.aload_n 0, 1) := dk_42 (dk_at dksX6_laws_0 14 rfl rfl)
theorem dX6_laws_15 : decode cX6_laws 15 = .ok (.iconst 0, 1) := dk_3 (dk_at dksX6_laws_0 15 rfl rfl)
theorem dX6_laws_16 : decode cX6_laws 16 = .ok (.putfield 270, 3) := dk_181 1 14 (dk_at dksX6_laws_0 16 rfl rfl)
theorem dX6_laws_19 : decode cX6_laws 19 = .ok (.aload_n 0, 1) := dk_42 (dk_at dksX6_laws_0 19 rfl rfl)
theorem dX6_laws_20 : decode cX6_laws 20 = .ok (.getfield 270, 3) := dk_180 1 14 (dk_at dksX6_laws_0 20 rfl rfl)
theorem dX6_laws_23 : decode cX6_laws 23 = .ok (.iconst 4, 1) := dk_7 (dk_at dksX6_laws_0 23 rfl rfl)
theorem dX6_laws_24 : decode cX6_laws 24 = .ok (.if_icmp .ge 37, 3) := dk_162 0 37 (dk_at dksX6_laws_1 0 rfl rfl)
theorem dX6_laws_27 : decode cX6_laws 27 = .ok (.iload_n 3, 1) := dk_29 (dk_at dksX6_laws_1 3 rfl rfl)
theorem dX6_laws_28 : decode cX6_laws 28 = .ok (.aload_n 0, 1) := dk_42 (dk_at dksX6_laws_1 4 rfl rfl)
theorem dX6_laws_29 : decode cX6_laws 29 = .ok (.iload_n 1, 1) := dk_27 (dk_at dksX6_laws_1 5 rfl rfl)
theorem dX6_laws_30 : decode cX6_laws 30 = .ok (.invokevirtual 432, 3) := dk_182 1 176 (dk_at dksX6_laws_1 6 rfl rfl)
theorem dX6_laws_33 : decode cX6_laws 33 = .ok (.ifCond .eq 12, 3) := dk_153 0 12 (dk_at dksX6_laws_1 9 rfl rfl)
theorem dX6_laws_36 : decode cX6_laws 36 = .ok (.iconst 1, 1) := dk_4 (dk_at dksX6_laws_1 12 rfl rfl)
theorem dX6_laws_37 : decode cX6_laws 37 = .ok (.aload_n 0, 1) := dk_42 (dk_at dksX6_laws_1 13 rfl rfl)
theorem dX6_laws_38 : decode cX6_laws 38 = .ok (.getfield 270, 3) := dk_180 1 14 (dk_at dksX6_laws_1 14 rfl rfl)
theorem dX6_laws_41 : decode cX6_laws 41 = .ok (.ishl, 1) := dk_120 (dk_at dksX6_laws_1 17 rfl rfl)
theorem dX6_laws_42 : decode cX6_laws 42 = .ok (.goto 4, 3) := dk_167 0 4 (dk_at dksX6_laws_1 18 rfl rfl)
theorem dX6_laws_45 : decode cX6_laws 45 = .ok (.iconst 0, 1) := dk_3 (dk_at dksX6_laws_1 21 rfl rfl)
theorem dX6_laws_46 : decode cX6_laws 46 = .ok (.ior, 1) := dk_128 (dk_at dksX6_laws_1 22 rfl rfl)
theorem dX6_laws_47 : decode cX6_laws 47 = .ok (.istore_n 3, 1) := dk_62 (dk_at dksX6_laws_1 23 rfl rfl)
theorem dX6_laws_48 : decode cX6_laws 48 = .ok (.aload_n 0, 1) := dk_42 (dk_at dksX6_laws_2 0 rfl rfl)
theorem dX6_laws_49 : decode cX6_laws 49 = .ok (.dup, 1) := dk_89 (dk_at dksX6_laws_2 1 rfl rfl)
theorem dX6_laws_50 : decode cX6_laws 50 = .ok (.getfield 270, 3) := dk_180 1 14 (dk_at dksX6_laws_2 2 rfl rfl)
theorem dX6_laws_53 : decode cX6_laws 53 = .ok (.iconst 1, 1) := dk_4 (dk_at dksX6_laws_2 5 rfl rfl)
theorem dX6_laws_54 : decode cX6_laws 54 = .ok (.iadd, 1) := dk_96 (dk_at dksX6_laws_2 6 rfl rfl)
theorem dX6_laws_55 : decode cX6_laws 55 = .ok (.putfield 270, 3) := dk_181 1 14 (dk_at dksX6_laws_2 7 rfl rfl)
theorem dX6_laws_58 : decode cX6_laws 58 = .ok (.goto (-39), 3) := dk_167 255 217 (dk_at dksX6_laws_2 10 rfl rfl)
theorem dX6_laws_61 : decode cX6_laws 61 = .ok (.iload_n 3, 1) := dk_29 (dk_at dksX6_laws_2 13 rfl rfl)
theorem dX6_laws_62 : decode cX6_laws 62 = .ok (.ireturn, 1) := dk_172 (dk_at dksX6_laws_2 14 rfl rfl)
abbrev cX6_by : ByteArray := prog_12_method_128_code
def yX6_by : MethodName := ⟨RX6, "by", "(I)I"⟩
def dkwX6_by_1 : List UInt8 := [167, 0, 5, 16, 254, 172]
abbrev dktX6_by_1 : List UInt8 := dkwX6_by_1 ++ []
def dkwX6_by_0 : List UInt8 := [42, 182, 1, 79, 153, 0, 23, 27, 133, 9, 20, 1, 193, 184, 0, 106, 153, 0, 11, 42, 27, 182, 1, 195]
abbrev dktX6_by_0 : List UInt8 := dkwX6_by_0 ++ dktX6_by_1
theorem dksX6_by_0 : cX6_by.data.toList.drop 0 = dktX6_by_0 := by decide +kernel
theorem dksX6_by_1 : cX6_by.data.toList.drop 24 = dktX6_by_1 := dk_seg dksX6_by_0 24 rfl rfl
theorem dX6_by_0 : decode cX6_by 0 = .ok (.aload_n 0, 1) := dk_42 (dk_at dksX6_by_0 0 rfl rfl)
theorem dX6_by_1 : decode cX6_by 1 = .ok (.invokevirtual 335, 3) := dk_182 1 79 (dk_at dksX6_by_0 1 rfl rfl)
theorem dX6_by_4 : decode cX6_by 4 = .ok (.ifCond .eq 23, 3) := dk_153 0 23 (dk_at dksX6_by_0 4 rfl rfl)
theorem dX6_by_7 : decode cX6_by 7 = .ok (.iload_n 1, 1) := dk_27 (dk_at dksX6_by_0 7 rfl rfl)
theorem dX6_by_8 : decode cX6_by 8 = .ok (.i2l, 1) := dk_133 (dk_at dksX6_by_0 8 rfl rfl)
theorem dX6_by_9 : decode cX6_by 9 = .ok (.lconst 0, 1) := dk_9 (dk_at dksX6_by_0 9 rfl rfl)
theorem dX6_by_10 : decode cX6_by 10 = .ok (.ldc2_w 449, 3) := dk_20 1 193 (dk_at dksX6_by_0 10 rfl rfl)
theorem dX6_by_13 : decode cX6_by 13 = .ok (.invokestatic 106, 3) := dk_184 0 106 (dk_at dksX6_by_0 13 rfl rfl)
theorem dX6_by_16 : decode cX6_by 16 = .ok (.ifCond .eq 11, 3) := dk_153 0 11 (dk_at dksX6_by_0 16 rfl rfl)
theorem dX6_by_19 : decode cX6_by 19 = .ok (.aload_n 0, 1) := dk_42 (dk_at dksX6_by_0 19 rfl rfl)
theorem dX6_by_20 : decode cX6_by 20 = .ok (.iload_n 1, 1) := dk_27 (dk_at dksX6_by_0 20 rfl rfl)
theorem dX6_by_21 : decode cX6_by 21 = .ok (.invokevirtual 451, 3) := dk_182 1 195 (dk_at dksX6_by_0 21 rfl rfl)
theorem dX6_by_24 : decode cX6_by 24 = .ok (.goto 5, 3) := dk_167 0 5 (dk_at dksX6_by_1 0 rfl rfl)
theorem dX6_by_27 : decode cX6_by 27 = .ok (.bipush (-2), 2) := dk_16 254 (dk_at dksX6_by_1 3 rfl rfl)
theorem dX6_by_29 : decode cX6_by 29 = .ok (.ireturn, 1) := dk_172 (dk_at dksX6_by_1 5 rfl rfl)
abbrev cX6_pegsBy : ByteArray := prog_12_method_127_code
def yX6_pegsBy : MethodName := ⟨RX6, "pegsBy", "(I)I"⟩
def dkwX6_pegsBy_0 : List UInt8 := [42, 27, 181, 1, 14, 42, 182, 1, 76, 42, 182, 1, 163, 172]
abbrev dktX6_pegsBy_0 : List UInt8 := dkwX6_pegsBy_0 ++ []
theorem dksX6_pegsBy_0 : cX6_pegsBy.data.toList.drop 0 = dktX6_pegsBy_0 := by decide +kernel
theorem dX6_pegsBy_0 : decode cX6_pegsBy 0 = .ok (.aload_n 0, 1) := dk_42 (dk_at dksX6_pegsBy_0 0 rfl rfl)
theorem dX6_pegsBy_1 : decode cX6_pegsBy 1 = .ok (.iload_n 1, 1) := dk_27 (dk_at dksX6_pegsBy_0 1 rfl rfl)
theorem dX6_pegsBy_2 : decode cX6_pegsBy 2 = .ok (.putfield 270, 3) := dk_181 1 14 (dk_at dksX6_pegsBy_0 2 rfl rfl)
theorem dX6_pegsBy_5 : decode cX6_pegsBy 5 = .ok (.aload_n 0, 1) := dk_42 (dk_at dksX6_pegsBy_0 5 rfl rfl)
theorem dX6_pegsBy_6 : decode cX6_pegsBy 6 = .ok (.invokevirtual 332, 3) := dk_182 1 76 (dk_at dksX6_pegsBy_0 6 rfl rfl)
theorem dX6_pegsBy_9 : decode cX6_pegsBy 9 = .ok (.aload_n 0, 1) := dk_42 (dk_at dksX6_pegsBy_0 9 rfl rfl)
theorem dX6_pegsBy_10 : decode cX6_pegsBy 10 = .ok (.invokevirtual 419, 3) := dk_182 1 163 (dk_at dksX6_pegsBy_0 10 rfl rfl)
theorem dX6_pegsBy_13 : decode cX6_pegsBy 13 = .ok (.ireturn, 1) := dk_172 (dk_at dksX6_pegsBy_0 13 rfl rfl)
abbrev cX6_law : ByteArray := prog_12_method_129_code
def yX6_law : MethodName := ⟨RX6, "law", "()I"⟩
def dkwX6_law_1 : List UInt8 := [42, 27, 182, 1, 195, 164, 0, 7, 28, 167, 0, 4, 27, 60, 132, 2, 1, 167, 255, 229, 27, 172]
abbrev dktX6_law_1 : List UInt8 := dkwX6_law_1 ++ []
def dkwX6_law_0 : List UInt8 := [42, 182, 1, 79, 154, 0, 6, 16, 254, 172, 3, 60, 4, 61, 28, 7, 162, 0, 28, 42, 28, 182, 1, 195]
abbrev dktX6_law_0 : List UInt8 := dkwX6_law_0 ++ dktX6_law_1
theorem dksX6_law_0 : cX6_law.data.toList.drop 0 = dktX6_law_0 := by decide +kernel
theorem dksX6_law_1 : cX6_law.data.toList.drop 24 = dktX6_law_1 := dk_seg dksX6_law_0 24 rfl rfl
theorem dX6_law_0 : decode cX6_law 0 = .ok (.aload_n 0, 1) := dk_42 (dk_at dksX6_law_0 0 rfl rfl)
theorem dX6_law_1 : decode cX6_law 1 = .ok (.invokevirtual 335, 3) := dk_182 1 79 (dk_at dksX6_law_0 1 rfl rfl)
theorem dX6_law_4 : decode cX6_law 4 = .ok (.ifCond .ne 6, 3) := dk_154 0 6 (dk_at dksX6_law_0 4 rfl rfl)
theorem dX6_law_7 : decode cX6_law 7 = .ok (.bipush (-2), 2) := dk_16 254 (dk_at dksX6_law_0 7 rfl rfl)
theorem dX6_law_9 : decode cX6_law 9 = .ok (.ireturn, 1) := dk_172 (dk_at dksX6_law_0 9 rfl rfl)
theorem dX6_law_10 : decode cX6_law 10 = .ok (.iconst 0, 1) := dk_3 (dk_at dksX6_law_0 10 rfl rfl)
theorem dX6_law_11 : decode cX6_law 11 = .ok (.istore_n 1, 1) := dk_60 (dk_at dksX6_law_0 11 rfl rfl)
theorem dX6_law_12 : decode cX6_law 12 = .ok (.iconst 1, 1) := dk_4 (dk_at dksX6_law_0 12 rfl rfl)
theorem dX6_law_13 : decode cX6_law 13 = .ok (.istore_n 2, 1) := dk_61 (dk_at dksX6_law_0 13 rfl rfl)
theorem dX6_law_14 : decode cX6_law 14 = .ok (.iload_n 2, 1) := dk_28 (dk_at dksX6_law_0 14 rfl rfl)
theorem dX6_law_15 : decode cX6_law 15 = .ok (.iconst 4, 1) := dk_7 (dk_at dksX6_law_0 15 rfl rfl)
theorem dX6_law_16 : decode cX6_law 16 = .ok (.if_icmp .ge 28, 3) := dk_162 0 28 (dk_at dksX6_law_0 16 rfl rfl)
theorem dX6_law_19 : decode cX6_law 19 = .ok (.aload_n 0, 1) := dk_42 (dk_at dksX6_law_0 19 rfl rfl)
theorem dX6_law_20 : decode cX6_law 20 = .ok (.iload_n 2, 1) := dk_28 (dk_at dksX6_law_0 20 rfl rfl)
theorem dX6_law_21 : decode cX6_law 21 = .ok (.invokevirtual 451, 3) := dk_182 1 195 (dk_at dksX6_law_0 21 rfl rfl)
theorem dX6_law_24 : decode cX6_law 24 = .ok (.aload_n 0, 1) := dk_42 (dk_at dksX6_law_1 0 rfl rfl)
theorem dX6_law_25 : decode cX6_law 25 = .ok (.iload_n 1, 1) := dk_27 (dk_at dksX6_law_1 1 rfl rfl)
theorem dX6_law_26 : decode cX6_law 26 = .ok (.invokevirtual 451, 3) := dk_182 1 195 (dk_at dksX6_law_1 2 rfl rfl)
theorem dX6_law_29 : decode cX6_law 29 = .ok (.if_icmp .le 7, 3) := dk_164 0 7 (dk_at dksX6_law_1 5 rfl rfl)
theorem dX6_law_32 : decode cX6_law 32 = .ok (.iload_n 2, 1) := dk_28 (dk_at dksX6_law_1 8 rfl rfl)
theorem dX6_law_33 : decode cX6_law 33 = .ok (.goto 4, 3) := dk_167 0 4 (dk_at dksX6_law_1 9 rfl rfl)
theorem dX6_law_36 : decode cX6_law 36 = .ok (.iload_n 1, 1) := dk_27 (dk_at dksX6_law_1 12 rfl rfl)
theorem dX6_law_37 : decode cX6_law 37 = .ok (.istore_n 1, 1) := dk_60 (dk_at dksX6_law_1 13 rfl rfl)
theorem dX6_law_38 : decode cX6_law 38 = .ok (.iinc 2 1, 3) := dk_132 2 1 (dk_at dksX6_law_1 14 rfl rfl)
theorem dX6_law_41 : decode cX6_law 41 = .ok (.goto (-27), 3) := dk_167 255 229 (dk_at dksX6_law_1 17 rfl rfl)
theorem dX6_law_44 : decode cX6_law 44 = .ok (.iload_n 1, 1) := dk_27 (dk_at dksX6_law_1 20 rfl rfl)
theorem dX6_law_45 : decode cX6_law 45 = .ok (.ireturn, 1) := dk_172 (dk_at dksX6_law_1 21 rfl rfl)
abbrev cX6_worth : ByteArray := prog_12_method_132_code
def yX6_worth : MethodName := ⟨RX6, "worth", "(I)I"⟩
def dkwX6_worth_1 : List UInt8 := [153, 0, 11, 42, 27, 182, 1, 204, 167, 0, 5, 16, 254, 172]
abbrev dktX6_worth_1 : List UInt8 := dkwX6_worth_1 ++ []
def dkwX6_worth_0 : List UInt8 := [42, 182, 1, 201, 42, 182, 0, 114, 153, 0, 25, 27, 133, 9, 42, 182, 1, 17, 133, 184, 0, 106]
abbrev dktX6_worth_0 : List UInt8 := dkwX6_worth_0 ++ dktX6_worth_1
theorem dksX6_worth_0 : cX6_worth.data.toList.drop 0 = dktX6_worth_0 := by decide +kernel
theorem dksX6_worth_1 : cX6_worth.data.toList.drop 22 = dktX6_worth_1 := dk_seg dksX6_worth_0 22 rfl rfl
theorem dX6_worth_0 : decode cX6_worth 0 = .ok (.aload_n 0, 1) := dk_42 (dk_at dksX6_worth_0 0 rfl rfl)
theorem dX6_worth_1 : decode cX6_worth 1 = .ok (.invokevirtual 457, 3) := dk_182 1 201 (dk_at dksX6_worth_0 1 rfl rfl)
theorem dX6_worth_4 : decode cX6_worth 4 = .ok (.aload_n 0, 1) := dk_42 (dk_at dksX6_worth_0 4 rfl rfl)
theorem dX6_worth_5 : decode cX6_worth 5 = .ok (.invokevirtual 114, 3) := dk_182 0 114 (dk_at dksX6_worth_0 5 rfl rfl)
theorem dX6_worth_8 : decode cX6_worth 8 = .ok (.ifCond .eq 25, 3) := dk_153 0 25 (dk_at dksX6_worth_0 8 rfl rfl)
theorem dX6_worth_11 : decode cX6_worth 11 = .ok (.iload_n 1, 1) := dk_27 (dk_at dksX6_worth_0 11 rfl rfl)
theorem dX6_worth_12 : decode cX6_worth 12 = .ok (.i2l, 1) := dk_133 (dk_at dksX6_worth_0 12 rfl rfl)
theorem dX6_worth_13 : decode cX6_worth 13 = .ok (.lconst 0, 1) := dk_9 (dk_at dksX6_worth_0 13 rfl rfl)
theorem dX6_worth_14 : decode cX6_worth 14 = .ok (.aload_n 0, 1) := dk_42 (dk_at dksX6_worth_0 14 rfl rfl)
theorem dX6_worth_15 : decode cX6_worth 15 = .ok (.invokevirtual 273, 3) := dk_182 1 17 (dk_at dksX6_worth_0 15 rfl rfl)
theorem dX6_worth_18 : decode cX6_worth 18 = .ok (.i2l, 1) := dk_133 (dk_at dksX6_worth_0 18 rfl rfl)
theorem dX6_worth_19 : decode cX6_worth 19 = .ok (.invokestatic 106, 3) := dk_184 0 106 (dk_at dksX6_worth_0 19 rfl rfl)
theorem dX6_worth_22 : decode cX6_worth 22 = .ok (.ifCond .eq 11, 3) := dk_153 0 11 (dk_at dksX6_worth_1 0 rfl rfl)
theorem dX6_worth_25 : decode cX6_worth 25 = .ok (.aload_n 0, 1) := dk_42 (dk_at dksX6_worth_1 3 rfl rfl)
theorem dX6_worth_26 : decode cX6_worth 26 = .ok (.iload_n 1, 1) := dk_27 (dk_at dksX6_worth_1 4 rfl rfl)
theorem dX6_worth_27 : decode cX6_worth 27 = .ok (.invokevirtual 460, 3) := dk_182 1 204 (dk_at dksX6_worth_1 5 rfl rfl)
theorem dX6_worth_30 : decode cX6_worth 30 = .ok (.goto 5, 3) := dk_167 0 5 (dk_at dksX6_worth_1 8 rfl rfl)
theorem dX6_worth_33 : decode cX6_worth 33 = .ok (.bipush (-2), 2) := dk_16 254 (dk_at dksX6_worth_1 11 rfl rfl)
theorem dX6_worth_35 : decode cX6_worth 35 = .ok (.ireturn, 1) := dk_172 (dk_at dksX6_worth_1 13 rfl rfl)
abbrev cX6_beginSets : ByteArray := prog_12_method_131_code
def yX6_beginSets : MethodName := ⟨RX6, "beginSets", "()V"⟩
def dkwX6_beginSets_0 : List UInt8 := [42, 182, 1, 73, 42, 42, 180, 1, 20, 181, 1, 198, 177]
abbrev dktX6_beginSets_0 : List UInt8 := dkwX6_beginSets_0 ++ []
theorem dksX6_beginSets_0 : cX6_beginSets.data.toList.drop 0 = dktX6_beginSets_0 := by decide +kernel
theorem dX6_beginSets_0 : decode cX6_beginSets 0 = .ok (.aload_n 0, 1) := dk_42 (dk_at dksX6_beginSets_0 0 rfl rfl)
theorem dX6_beginSets_1 : decode cX6_beginSets 1 = .ok (.invokevirtual 329, 3) := dk_182 1 73 (dk_at dksX6_beginSets_0 1 rfl rfl)
theorem dX6_beginSets_4 : decode cX6_beginSets 4 = .ok (.aload_n 0, 1) := dk_42 (dk_at dksX6_beginSets_0 4 rfl rfl)
theorem dX6_beginSets_5 : decode cX6_beginSets 5 = .ok (.aload_n 0, 1) := dk_42 (dk_at dksX6_beginSets_0 5 rfl rfl)
theorem dX6_beginSets_6 : decode cX6_beginSets 6 = .ok (.getfield 276, 3) := dk_180 1 20 (dk_at dksX6_beginSets_0 6 rfl rfl)
theorem dX6_beginSets_9 : decode cX6_beginSets 9 = .ok (.putfield 454, 3) := dk_181 1 198 (dk_at dksX6_beginSets_0 9 rfl rfl)
theorem dX6_beginSets_12 : decode cX6_beginSets 12 = .ok (.return_, 1) := dk_177 (dk_at dksX6_beginSets_0 12 rfl rfl)
abbrev cX6_worthOf : ByteArray := prog_12_method_130_code
def yX6_worthOf : MethodName := ⟨RX6, "worthOf", "(I)I"⟩
def dkwX6_worthOf_0 : List UInt8 := [42, 42, 180, 1, 198, 27, 126, 181, 1, 20, 42, 182, 1, 76, 42, 182, 1, 163, 172]
abbrev dktX6_worthOf_0 : List UInt8 := dkwX6_worthOf_0 ++ []
theorem dksX6_worthOf_0 : cX6_worthOf.data.toList.drop 0 = dktX6_worthOf_0 := by decide +kernel
theorem dX6_worthOf_0 : decode cX6_worthOf 0 = .ok (.aload_n 0, 1) := dk_42 (dk_at dksX6_worthOf_0 0 rfl rfl)
theorem dX6_worthOf_1 : decode cX6_worthOf 1 = .ok (.aload_n 0, 1) := dk_42 (dk_at dksX6_worthOf_0 1 rfl rfl)
theorem dX6_worthOf_2 : decode cX6_worthOf 2 = .ok (.getfield 454, 3) := dk_180 1 198 (dk_at dksX6_worthOf_0 2 rfl rfl)
theorem dX6_worthOf_5 : decode cX6_worthOf 5 = .ok (.iload_n 1, 1) := dk_27 (dk_at dksX6_worthOf_0 5 rfl rfl)
theorem dX6_worthOf_6 : decode cX6_worthOf 6 = .ok (.iand, 1) := dk_126 (dk_at dksX6_worthOf_0 6 rfl rfl)
theorem dX6_worthOf_7 : decode cX6_worthOf 7 = .ok (.putfield 276, 3) := dk_181 1 20 (dk_at dksX6_worthOf_0 7 rfl rfl)
theorem dX6_worthOf_10 : decode cX6_worthOf 10 = .ok (.aload_n 0, 1) := dk_42 (dk_at dksX6_worthOf_0 10 rfl rfl)
theorem dX6_worthOf_11 : decode cX6_worthOf 11 = .ok (.invokevirtual 332, 3) := dk_182 1 76 (dk_at dksX6_worthOf_0 11 rfl rfl)
theorem dX6_worthOf_14 : decode cX6_worthOf 14 = .ok (.aload_n 0, 1) := dk_42 (dk_at dksX6_worthOf_0 14 rfl rfl)
theorem dX6_worthOf_15 : decode cX6_worthOf 15 = .ok (.invokevirtual 419, 3) := dk_182 1 163 (dk_at dksX6_worthOf_0 15 rfl rfl)
theorem dX6_worthOf_18 : decode cX6_worthOf 18 = .ok (.ireturn, 1) := dk_172 (dk_at dksX6_worthOf_0 18 rfl rfl)
abbrev cX6_share : ByteArray := prog_12_method_136_code
def yX6_share : MethodName := ⟨RX6, "share", "(II)I"⟩
def dkwX6_share_6 : List UInt8 := [184, 1, 216, 133, 28, 184, 1, 219, 136, 172]
abbrev dktX6_share_6 : List UInt8 := dkwX6_share_6 ++ []
def dkwX6_share_5 : List UInt8 := [128, 46, 42, 180, 0, 85, 21, 6, 46, 100, 133, 105, 97, 55, 4, 132, 6, 1, 167, 255, 187, 22, 4, 29]
abbrev dktX6_share_5 : List UInt8 := dkwX6_share_5 ++ dktX6_share_6
def dkwX6_share_4 : List UInt8 := [133, 29, 4, 100, 21, 6, 184, 1, 91, 100, 184, 1, 216, 133, 105, 42, 180, 0, 85, 21, 6, 4, 27, 120]
abbrev dktX6_share_4 : List UInt8 := dkwX6_share_4 ++ dktX6_share_5
def dkwX6_share_3 : List UInt8 := [29, 120, 162, 0, 67, 21, 6, 27, 184, 1, 67, 154, 0, 52, 22, 4, 21, 6, 184, 1, 91, 184, 1, 216]
abbrev dktX6_share_3 : List UInt8 := dkwX6_share_3 ++ dktX6_share_4
def dkwX6_share_2 : List UInt8 := [21, 4, 42, 21, 4, 182, 1, 204, 79, 132, 4, 1, 167, 255, 232, 9, 55, 4, 3, 54, 6, 21, 6, 4]
abbrev dktX6_share_2 : List UInt8 := dkwX6_share_2 ++ dktX6_share_3
def dkwX6_share_1 : List UInt8 := [19, 1, 215, 172, 42, 182, 0, 110, 62, 3, 54, 4, 21, 4, 4, 29, 120, 162, 0, 22, 42, 180, 0, 85]
abbrev dktX6_share_1 : List UInt8 := dkwX6_share_1 ++ dktX6_share_2
def dkwX6_share_0 : List UInt8 := [42, 182, 1, 201, 42, 27, 133, 182, 1, 5, 153, 0, 13, 28, 133, 9, 10, 184, 0, 106, 154, 0, 7]
abbrev dktX6_share_0 : List UInt8 := dkwX6_share_0 ++ dktX6_share_1
theorem dksX6_share_0 : cX6_share.data.toList.drop 0 = dktX6_share_0 := by decide +kernel
theorem dksX6_share_1 : cX6_share.data.toList.drop 23 = dktX6_share_1 := dk_seg dksX6_share_0 23 rfl rfl
theorem dksX6_share_2 : cX6_share.data.toList.drop 47 = dktX6_share_2 := dk_seg dksX6_share_1 24 rfl rfl
theorem dksX6_share_3 : cX6_share.data.toList.drop 71 = dktX6_share_3 := dk_seg dksX6_share_2 24 rfl rfl
theorem dksX6_share_4 : cX6_share.data.toList.drop 95 = dktX6_share_4 := dk_seg dksX6_share_3 24 rfl rfl
theorem dksX6_share_5 : cX6_share.data.toList.drop 119 = dktX6_share_5 := dk_seg dksX6_share_4 24 rfl rfl
theorem dksX6_share_6 : cX6_share.data.toList.drop 143 = dktX6_share_6 := dk_seg dksX6_share_5 24 rfl rfl
theorem dX6_share_0 : decode cX6_share 0 = .ok (.aload_n 0, 1) := dk_42 (dk_at dksX6_share_0 0 rfl rfl)
theorem dX6_share_1 : decode cX6_share 1 = .ok (.invokevirtual 457, 3) := dk_182 1 201 (dk_at dksX6_share_0 1 rfl rfl)
theorem dX6_share_4 : decode cX6_share 4 = .ok (.aload_n 0, 1) := dk_42 (dk_at dksX6_share_0 4 rfl rfl)
theorem dX6_share_5 : decode cX6_share 5 = .ok (.iload_n 1, 1) := dk_27 (dk_at dksX6_share_0 5 rfl rfl)
theorem dX6_share_6 : decode cX6_share 6 = .ok (.i2l, 1) := dk_133 (dk_at dksX6_share_0 6 rfl rfl)
theorem dX6_share_7 : decode cX6_share 7 = .ok (.invokevirtual 261, 3) := dk_182 1 5 (dk_at dksX6_share_0 7 rfl rfl)
theorem dX6_share_10 : decode cX6_share 10 = .ok (.ifCond .eq 13, 3) := dk_153 0 13 (dk_at dksX6_share_0 10 rfl rfl)
theorem dX6_share_13 : decode cX6_share 13 = .ok (.iload_n 2, 1) := dk_28 (dk_at dksX6_share_0 13 rfl rfl)
theorem dX6_share_14 : decode cX6_share 14 = .ok (.i2l, 1) := dk_133 (dk_at dksX6_share_0 14 rfl rfl)
theorem dX6_share_15 : decode cX6_share 15 = .ok (.lconst 0, 1) := dk_9 (dk_at dksX6_share_0 15 rfl rfl)
theorem dX6_share_16 : decode cX6_share 16 = .ok (.lconst 1, 1) := dk_10 (dk_at dksX6_share_0 16 rfl rfl)
theorem dX6_share_17 : decode cX6_share 17 = .ok (.invokestatic 106, 3) := dk_184 0 106 (dk_at dksX6_share_0 17 rfl rfl)
theorem dX6_share_20 : decode cX6_share 20 = .ok (.ifCond .ne 7, 3) := dk_154 0 7 (dk_at dksX6_share_0 20 rfl rfl)
theorem dX6_share_23 : decode cX6_share 23 = .ok (.ldc_w 471, 3) := dk_19 1 215 (dk_at dksX6_share_1 0 rfl rfl)
theorem dX6_share_26 : decode cX6_share 26 = .ok (.ireturn, 1) := dk_172 (dk_at dksX6_share_1 3 rfl rfl)
theorem dX6_share_27 : decode cX6_share 27 = .ok (.aload_n 0, 1) := dk_42 (dk_at dksX6_share_1 4 rfl rfl)
theorem dX6_share_28 : decode cX6_share 28 = .ok (.invokevirtual 110, 3) := dk_182 0 110 (dk_at dksX6_share_1 5 rfl rfl)
theorem dX6_share_31 : decode cX6_share 31 = .ok (.istore_n 3, 1) := dk_62 (dk_at dksX6_share_1 8 rfl rfl)
theorem dX6_share_32 : decode cX6_share 32 = .ok (.iconst 0, 1) := dk_3 (dk_at dksX6_share_1 9 rfl rfl)
theorem dX6_share_33 : decode cX6_share 33 = .ok (.istore 4, 2) := dk_54 4 (dk_at dksX6_share_1 10 rfl rfl)
theorem dX6_share_35 : decode cX6_share 35 = .ok (.iload 4, 2) := dk_21 4 (dk_at dksX6_share_1 12 rfl rfl)
theorem dX6_share_37 : decode cX6_share 37 = .ok (.iconst 1, 1) := dk_4 (dk_at dksX6_share_1 14 rfl rfl)
theorem dX6_share_38 : decode cX6_share 38 = .ok (.iload_n 3, 1) := dk_29 (dk_at dksX6_share_1 15 rfl rfl)
theorem dX6_share_39 : decode cX6_share 39 = .ok (.ishl, 1) := dk_120 (dk_at dksX6_share_1 16 rfl rfl)
theorem dX6_share_40 : decode cX6_share 40 = .ok (.if_icmp .ge 22, 3) := dk_162 0 22 (dk_at dksX6_share_1 17 rfl rfl)
theorem dX6_share_43 : decode cX6_share 43 = .ok (.aload_n 0, 1) := dk_42 (dk_at dksX6_share_1 20 rfl rfl)
theorem dX6_share_44 : decode cX6_share 44 = .ok (.getfield 85, 3) := dk_180 0 85 (dk_at dksX6_share_1 21 rfl rfl)
theorem dX6_share_47 : decode cX6_share 47 = .ok (.iload 4, 2) := dk_21 4 (dk_at dksX6_share_2 0 rfl rfl)
theorem dX6_share_49 : decode cX6_share 49 = .ok (.aload_n 0, 1) := dk_42 (dk_at dksX6_share_2 2 rfl rfl)
theorem dX6_share_50 : decode cX6_share 50 = .ok (.iload 4, 2) := dk_21 4 (dk_at dksX6_share_2 3 rfl rfl)
theorem dX6_share_52 : decode cX6_share 52 = .ok (.invokevirtual 460, 3) := dk_182 1 204 (dk_at dksX6_share_2 5 rfl rfl)
theorem dX6_share_55 : decode cX6_share 55 = .ok (.iastore, 1) := dk_79 (dk_at dksX6_share_2 8 rfl rfl)
theorem dX6_share_56 : decode cX6_share 56 = .ok (.iinc 4 1, 3) := dk_132 4 1 (dk_at dksX6_share_2 9 rfl rfl)
theorem dX6_share_59 : decode cX6_share 59 = .ok (.goto (-24), 3) := dk_167 255 232 (dk_at dksX6_share_2 12 rfl rfl)
theorem dX6_share_62 : decode cX6_share 62 = .ok (.lconst 0, 1) := dk_9 (dk_at dksX6_share_2 15 rfl rfl)
theorem dX6_share_63 : decode cX6_share 63 = .ok (.lstore 4, 2) := dk_55 4 (dk_at dksX6_share_2 16 rfl rfl)
theorem dX6_share_65 : decode cX6_share 65 = .ok (.iconst 0, 1) := dk_3 (dk_at dksX6_share_2 18 rfl rfl)
theorem dX6_share_66 : decode cX6_share 66 = .ok (.istore 6, 2) := dk_54 6 (dk_at dksX6_share_2 19 rfl rfl)
theorem dX6_share_68 : decode cX6_share 68 = .ok (.iload 6, 2) := dk_21 6 (dk_at dksX6_share_2 21 rfl rfl)
theorem dX6_share_70 : decode cX6_share 70 = .ok (.iconst 1, 1) := dk_4 (dk_at dksX6_share_2 23 rfl rfl)
theorem dX6_share_71 : decode cX6_share 71 = .ok (.iload_n 3, 1) := dk_29 (dk_at dksX6_share_3 0 rfl rfl)
theorem dX6_share_72 : decode cX6_share 72 = .ok (.ishl, 1) := dk_120 (dk_at dksX6_share_3 1 rfl rfl)
theorem dX6_share_73 : decode cX6_share 73 = .ok (.if_icmp .ge 67, 3) := dk_162 0 67 (dk_at dksX6_share_3 2 rfl rfl)
theorem dX6_share_76 : decode cX6_share 76 = .ok (.iload 6, 2) := dk_21 6 (dk_at dksX6_share_3 5 rfl rfl)
theorem dX6_share_78 : decode cX6_share 78 = .ok (.iload_n 1, 1) := dk_27 (dk_at dksX6_share_3 7 rfl rfl)
theorem dX6_share_79 : decode cX6_share 79 = .ok (.invokestatic 323, 3) := dk_184 1 67 (dk_at dksX6_share_3 8 rfl rfl)
theorem dX6_share_82 : decode cX6_share 82 = .ok (.ifCond .ne 52, 3) := dk_154 0 52 (dk_at dksX6_share_3 11 rfl rfl)
theorem dX6_share_85 : decode cX6_share 85 = .ok (.lload 4, 2) := dk_22 4 (dk_at dksX6_share_3 14 rfl rfl)
theorem dX6_share_87 : decode cX6_share 87 = .ok (.iload 6, 2) := dk_21 6 (dk_at dksX6_share_3 16 rfl rfl)
theorem dX6_share_89 : decode cX6_share 89 = .ok (.invokestatic 347, 3) := dk_184 1 91 (dk_at dksX6_share_3 18 rfl rfl)
theorem dX6_share_92 : decode cX6_share 92 = .ok (.invokestatic 472, 3) := dk_184 1 216 (dk_at dksX6_share_3 21 rfl rfl)
theorem dX6_share_95 : decode cX6_share 95 = .ok (.i2l, 1) := dk_133 (dk_at dksX6_share_4 0 rfl rfl)
theorem dX6_share_96 : decode cX6_share 96 = .ok (.iload_n 3, 1) := dk_29 (dk_at dksX6_share_4 1 rfl rfl)
theorem dX6_share_97 : decode cX6_share 97 = .ok (.iconst 1, 1) := dk_4 (dk_at dksX6_share_4 2 rfl rfl)
theorem dX6_share_98 : decode cX6_share 98 = .ok (.isub, 1) := dk_100 (dk_at dksX6_share_4 3 rfl rfl)
theorem dX6_share_99 : decode cX6_share 99 = .ok (.iload 6, 2) := dk_21 6 (dk_at dksX6_share_4 4 rfl rfl)
theorem dX6_share_101 : decode cX6_share 101 = .ok (.invokestatic 347, 3) := dk_184 1 91 (dk_at dksX6_share_4 6 rfl rfl)
theorem dX6_share_104 : decode cX6_share 104 = .ok (.isub, 1) := dk_100 (dk_at dksX6_share_4 9 rfl rfl)
theorem dX6_share_105 : decode cX6_share 105 = .ok (.invokestatic 472, 3) := dk_184 1 216 (dk_at dksX6_share_4 10 rfl rfl)
theorem dX6_share_108 : decode cX6_share 108 = .ok (.i2l, 1) := dk_133 (dk_at dksX6_share_4 13 rfl rfl)
theorem dX6_share_109 : decode cX6_share 109 = .ok (.lmul, 1) := dk_105 (dk_at dksX6_share_4 14 rfl rfl)
theorem dX6_share_110 : decode cX6_share 110 = .ok (.aload_n 0, 1) := dk_42 (dk_at dksX6_share_4 15 rfl rfl)
theorem dX6_share_111 : decode cX6_share 111 = .ok (.getfield 85, 3) := dk_180 0 85 (dk_at dksX6_share_4 16 rfl rfl)
theorem dX6_share_114 : decode cX6_share 114 = .ok (.iload 6, 2) := dk_21 6 (dk_at dksX6_share_4 19 rfl rfl)
theorem dX6_share_116 : decode cX6_share 116 = .ok (.iconst 1, 1) := dk_4 (dk_at dksX6_share_4 21 rfl rfl)
theorem dX6_share_117 : decode cX6_share 117 = .ok (.iload_n 1, 1) := dk_27 (dk_at dksX6_share_4 22 rfl rfl)
theorem dX6_share_118 : decode cX6_share 118 = .ok (.ishl, 1) := dk_120 (dk_at dksX6_share_4 23 rfl rfl)
theorem dX6_share_119 : decode cX6_share 119 = .ok (.ior, 1) := dk_128 (dk_at dksX6_share_5 0 rfl rfl)
theorem dX6_share_120 : decode cX6_share 120 = .ok (.iaload, 1) := dk_46 (dk_at dksX6_share_5 1 rfl rfl)
theorem dX6_share_121 : decode cX6_share 121 = .ok (.aload_n 0, 1) := dk_42 (dk_at dksX6_share_5 2 rfl rfl)
theorem dX6_share_122 : decode cX6_share 122 = .ok (.getfield 85, 3) := dk_180 0 85 (dk_at dksX6_share_5 3 rfl rfl)
theorem dX6_share_125 : decode cX6_share 125 = .ok (.iload 6, 2) := dk_21 6 (dk_at dksX6_share_5 6 rfl rfl)
theorem dX6_share_127 : decode cX6_share 127 = .ok (.iaload, 1) := dk_46 (dk_at dksX6_share_5 8 rfl rfl)
theorem dX6_share_128 : decode cX6_share 128 = .ok (.isub, 1) := dk_100 (dk_at dksX6_share_5 9 rfl rfl)
theorem dX6_share_129 : decode cX6_share 129 = .ok (.i2l, 1) := dk_133 (dk_at dksX6_share_5 10 rfl rfl)
theorem dX6_share_130 : decode cX6_share 130 = .ok (.lmul, 1) := dk_105 (dk_at dksX6_share_5 11 rfl rfl)
theorem dX6_share_131 : decode cX6_share 131 = .ok (.ladd, 1) := dk_97 (dk_at dksX6_share_5 12 rfl rfl)
theorem dX6_share_132 : decode cX6_share 132 = .ok (.lstore 4, 2) := dk_55 4 (dk_at dksX6_share_5 13 rfl rfl)
theorem dX6_share_134 : decode cX6_share 134 = .ok (.iinc 6 1, 3) := dk_132 6 1 (dk_at dksX6_share_5 15 rfl rfl)
theorem dX6_share_137 : decode cX6_share 137 = .ok (.goto (-69), 3) := dk_167 255 187 (dk_at dksX6_share_5 18 rfl rfl)
theorem dX6_share_140 : decode cX6_share 140 = .ok (.lload 4, 2) := dk_22 4 (dk_at dksX6_share_5 21 rfl rfl)
theorem dX6_share_142 : decode cX6_share 142 = .ok (.iload_n 3, 1) := dk_29 (dk_at dksX6_share_5 23 rfl rfl)
theorem dX6_share_143 : decode cX6_share 143 = .ok (.invokestatic 472, 3) := dk_184 1 216 (dk_at dksX6_share_6 0 rfl rfl)
theorem dX6_share_146 : decode cX6_share 146 = .ok (.i2l, 1) := dk_133 (dk_at dksX6_share_6 3 rfl rfl)
theorem dX6_share_147 : decode cX6_share 147 = .ok (.iload_n 2, 1) := dk_28 (dk_at dksX6_share_6 4 rfl rfl)
theorem dX6_share_148 : decode cX6_share 148 = .ok (.invokestatic 475, 3) := dk_184 1 219 (dk_at dksX6_share_6 5 rfl rfl)
theorem dX6_share_151 : decode cX6_share 151 = .ok (.l2i, 1) := dk_136 (dk_at dksX6_share_6 8 rfl rfl)
theorem dX6_share_152 : decode cX6_share 152 = .ok (.ireturn, 1) := dk_172 (dk_at dksX6_share_6 9 rfl rfl)
abbrev cX6_factorial : ByteArray := prog_12_method_133_code
def yX6_factorial : MethodName := ⟨RX6, "factorial", "(I)I"⟩
def dkwX6_factorial_0 : List UInt8 := [4, 60, 5, 61, 28, 26, 163, 0, 13, 27, 28, 104, 60, 132, 2, 1, 167, 255, 244, 27, 172]
abbrev dktX6_factorial_0 : List UInt8 := dkwX6_factorial_0 ++ []
theorem dksX6_factorial_0 : cX6_factorial.data.toList.drop 0 = dktX6_factorial_0 := by decide +kernel
theorem dX6_factorial_0 : decode cX6_factorial 0 = .ok (.iconst 1, 1) := dk_4 (dk_at dksX6_factorial_0 0 rfl rfl)
theorem dX6_factorial_1 : decode cX6_factorial 1 = .ok (.istore_n 1, 1) := dk_60 (dk_at dksX6_factorial_0 1 rfl rfl)
theorem dX6_factorial_2 : decode cX6_factorial 2 = .ok (.iconst 2, 1) := dk_5 (dk_at dksX6_factorial_0 2 rfl rfl)
theorem dX6_factorial_3 : decode cX6_factorial 3 = .ok (.istore_n 2, 1) := dk_61 (dk_at dksX6_factorial_0 3 rfl rfl)
theorem dX6_factorial_4 : decode cX6_factorial 4 = .ok (.iload_n 2, 1) := dk_28 (dk_at dksX6_factorial_0 4 rfl rfl)
theorem dX6_factorial_5 : decode cX6_factorial 5 = .ok (.iload_n 0, 1) := dk_26 (dk_at dksX6_factorial_0 5 rfl rfl)
theorem dX6_factorial_6 : decode cX6_factorial 6 = .ok (.if_icmp .gt 13, 3) := dk_163 0 13 (dk_at dksX6_factorial_0 6 rfl rfl)
theorem dX6_factorial_9 : decode cX6_factorial 9 = .ok (.iload_n 1, 1) := dk_27 (dk_at dksX6_factorial_0 9 rfl rfl)
theorem dX6_factorial_10 : decode cX6_factorial 10 = .ok (.iload_n 2, 1) := dk_28 (dk_at dksX6_factorial_0 10 rfl rfl)
theorem dX6_factorial_11 : decode cX6_factorial 11 = .ok (.imul, 1) := dk_104 (dk_at dksX6_factorial_0 11 rfl rfl)
theorem dX6_factorial_12 : decode cX6_factorial 12 = .ok (.istore_n 1, 1) := dk_60 (dk_at dksX6_factorial_0 12 rfl rfl)
theorem dX6_factorial_13 : decode cX6_factorial 13 = .ok (.iinc 2 1, 3) := dk_132 2 1 (dk_at dksX6_factorial_0 13 rfl rfl)
theorem dX6_factorial_16 : decode cX6_factorial 16 = .ok (.goto (-12), 3) := dk_167 255 244 (dk_at dksX6_factorial_0 16 rfl rfl)
theorem dX6_factorial_19 : decode cX6_factorial 19 = .ok (.iload_n 1, 1) := dk_27 (dk_at dksX6_factorial_0 19 rfl rfl)
theorem dX6_factorial_20 : decode cX6_factorial 20 = .ok (.ireturn, 1) := dk_172 (dk_at dksX6_factorial_0 20 rfl rfl)
abbrev cX6_part : ByteArray := prog_12_method_135_code
def yX6_part : MethodName := ⟨RX6, "part", "(JJI)J"⟩
def dkwX6_part_0 : List UInt8 := [21, 4, 154, 0, 7, 30, 167, 0, 4, 32, 30, 32, 184, 1, 211, 109, 173]
abbrev dktX6_part_0 : List UInt8 := dkwX6_part_0 ++ []
theorem dksX6_part_0 : cX6_part.data.toList.drop 0 = dktX6_part_0 := by decide +kernel
theorem dX6_part_0 : decode cX6_part 0 = .ok (.iload 4, 2) := dk_21 4 (dk_at dksX6_part_0 0 rfl rfl)
theorem dX6_part_2 : decode cX6_part 2 = .ok (.ifCond .ne 7, 3) := dk_154 0 7 (dk_at dksX6_part_0 2 rfl rfl)
theorem dX6_part_5 : decode cX6_part 5 = .ok (.lload_n 0, 1) := dk_30 (dk_at dksX6_part_0 5 rfl rfl)
theorem dX6_part_6 : decode cX6_part 6 = .ok (.goto 4, 3) := dk_167 0 4 (dk_at dksX6_part_0 6 rfl rfl)
theorem dX6_part_9 : decode cX6_part 9 = .ok (.lload_n 2, 1) := dk_32 (dk_at dksX6_part_0 9 rfl rfl)
theorem dX6_part_10 : decode cX6_part 10 = .ok (.lload_n 0, 1) := dk_30 (dk_at dksX6_part_0 10 rfl rfl)
theorem dX6_part_11 : decode cX6_part 11 = .ok (.lload_n 2, 1) := dk_32 (dk_at dksX6_part_0 11 rfl rfl)
theorem dX6_part_12 : decode cX6_part 12 = .ok (.invokestatic 467, 3) := dk_184 1 211 (dk_at dksX6_part_0 12 rfl rfl)
theorem dX6_part_15 : decode cX6_part 15 = .ok (.ldiv, 1) := dk_109 (dk_at dksX6_part_0 15 rfl rfl)
theorem dX6_part_16 : decode cX6_part 16 = .ok (.lreturn, 1) := dk_173 (dk_at dksX6_part_0 16 rfl rfl)
abbrev cX6_divisor : ByteArray := prog_12_method_134_code
def yX6_divisor : MethodName := ⟨RX6, "divisor", "(JJ)J"⟩
def dkwX6_divisor_1 : List UInt8 := [22, 6, 55, 4, 22, 8, 55, 6, 167, 255, 234, 22, 4, 173]
abbrev dktX6_divisor_1 : List UInt8 := dkwX6_divisor_1 ++ []
def dkwX6_divisor_0 : List UInt8 := [30, 184, 1, 207, 55, 4, 32, 55, 6, 22, 6, 9, 148, 153, 0, 21, 22, 4, 22, 6, 113, 55, 8]
abbrev dktX6_divisor_0 : List UInt8 := dkwX6_divisor_0 ++ dktX6_divisor_1
theorem dksX6_divisor_0 : cX6_divisor.data.toList.drop 0 = dktX6_divisor_0 := by decide +kernel
theorem dksX6_divisor_1 : cX6_divisor.data.toList.drop 23 = dktX6_divisor_1 := dk_seg dksX6_divisor_0 23 rfl rfl
theorem dX6_divisor_0 : decode cX6_divisor 0 = .ok (.lload_n 0, 1) := dk_30 (dk_at dksX6_divisor_0 0 rfl rfl)
theorem dX6_divisor_1 : decode cX6_divisor 1 = .ok (.invokestatic 463, 3) := dk_184 1 207 (dk_at dksX6_divisor_0 1 rfl rfl)
theorem dX6_divisor_4 : decode cX6_divisor 4 = .ok (.lstore 4, 2) := dk_55 4 (dk_at dksX6_divisor_0 4 rfl rfl)
theorem dX6_divisor_6 : decode cX6_divisor 6 = .ok (.lload_n 2, 1) := dk_32 (dk_at dksX6_divisor_0 6 rfl rfl)
theorem dX6_divisor_7 : decode cX6_divisor 7 = .ok (.lstore 6, 2) := dk_55 6 (dk_at dksX6_divisor_0 7 rfl rfl)
theorem dX6_divisor_9 : decode cX6_divisor 9 = .ok (.lload 6, 2) := dk_22 6 (dk_at dksX6_divisor_0 9 rfl rfl)
theorem dX6_divisor_11 : decode cX6_divisor 11 = .ok (.lconst 0, 1) := dk_9 (dk_at dksX6_divisor_0 11 rfl rfl)
theorem dX6_divisor_12 : decode cX6_divisor 12 = .ok (.lcmp, 1) := dk_148 (dk_at dksX6_divisor_0 12 rfl rfl)
theorem dX6_divisor_13 : decode cX6_divisor 13 = .ok (.ifCond .eq 21, 3) := dk_153 0 21 (dk_at dksX6_divisor_0 13 rfl rfl)
theorem dX6_divisor_16 : decode cX6_divisor 16 = .ok (.lload 4, 2) := dk_22 4 (dk_at dksX6_divisor_0 16 rfl rfl)
theorem dX6_divisor_18 : decode cX6_divisor 18 = .ok (.lload 6, 2) := dk_22 6 (dk_at dksX6_divisor_0 18 rfl rfl)
theorem dX6_divisor_20 : decode cX6_divisor 20 = .ok (.lrem, 1) := dk_113 (dk_at dksX6_divisor_0 20 rfl rfl)
theorem dX6_divisor_21 : decode cX6_divisor 21 = .ok (.lstore 8, 2) := dk_55 8 (dk_at dksX6_divisor_0 21 rfl rfl)
theorem dX6_divisor_23 : decode cX6_divisor 23 = .ok (.lload 6, 2) := dk_22 6 (dk_at dksX6_divisor_1 0 rfl rfl)
theorem dX6_divisor_25 : decode cX6_divisor 25 = .ok (.lstore 4, 2) := dk_55 4 (dk_at dksX6_divisor_1 2 rfl rfl)
theorem dX6_divisor_27 : decode cX6_divisor 27 = .ok (.lload 8, 2) := dk_22 8 (dk_at dksX6_divisor_1 4 rfl rfl)
theorem dX6_divisor_29 : decode cX6_divisor 29 = .ok (.lstore 6, 2) := dk_55 6 (dk_at dksX6_divisor_1 6 rfl rfl)
theorem dX6_divisor_31 : decode cX6_divisor 31 = .ok (.goto (-22), 3) := dk_167 255 234 (dk_at dksX6_divisor_1 8 rfl rfl)
theorem dX6_divisor_34 : decode cX6_divisor 34 = .ok (.lload 4, 2) := dk_22 4 (dk_at dksX6_divisor_1 11 rfl rfl)
theorem dX6_divisor_36 : decode cX6_divisor 36 = .ok (.lreturn, 1) := dk_173 (dk_at dksX6_divisor_1 13 rfl rfl)
abbrev cX6_rests : ByteArray := prog_12_method_139_code
def yX6_rests : MethodName := ⟨RX6, "rests", "(II)I"⟩
def dkwX6_rests_5 : List UInt8 := [29, 172]
abbrev dktX6_rests_5 : List UInt8 := dkwX6_rests_5 ++ []
def dkwX6_rests_4 : List UInt8 := [54, 7, 29, 21, 7, 153, 0, 10, 4, 21, 4, 120, 167, 0, 4, 3, 128, 62, 132, 4, 1, 167, 255, 158]
abbrev dktX6_rests_4 : List UInt8 := dkwX6_rests_4 ++ dktX6_rests_5
def dkwX6_rests_3 : List UInt8 := [182, 1, 226, 42, 27, 28, 21, 5, 4, 21, 6, 100, 4, 182, 1, 226, 161, 0, 7, 4, 167, 0, 4, 3]
abbrev dktX6_rests_3 : List UInt8 := dkwX6_rests_3 ++ dktX6_rests_4
def dkwX6_rests_2 : List UInt8 := [27, 28, 4, 21, 5, 100, 21, 6, 3, 182, 1, 226, 161, 0, 34, 42, 27, 28, 21, 5, 21, 6, 4]
abbrev dktX6_rests_2 : List UInt8 := dkwX6_rests_2 ++ dktX6_rests_3
def dkwX6_rests_1 : List UInt8 := [21, 4, 4, 126, 54, 5, 21, 4, 4, 122, 54, 6, 42, 27, 28, 21, 5, 21, 6, 3, 182, 1, 226, 42]
abbrev dktX6_rests_1 : List UInt8 := dkwX6_rests_1 ++ dktX6_rests_2
def dkwX6_rests_0 : List UInt8 := [42, 27, 28, 182, 1, 223, 154, 0, 6, 16, 254, 172, 3, 62, 3, 54, 4, 21, 4, 7, 162, 0, 98]
abbrev dktX6_rests_0 : List UInt8 := dkwX6_rests_0 ++ dktX6_rests_1
theorem dksX6_rests_0 : cX6_rests.data.toList.drop 0 = dktX6_rests_0 := by decide +kernel
theorem dksX6_rests_1 : cX6_rests.data.toList.drop 23 = dktX6_rests_1 := dk_seg dksX6_rests_0 23 rfl rfl
theorem dksX6_rests_2 : cX6_rests.data.toList.drop 47 = dktX6_rests_2 := dk_seg dksX6_rests_1 24 rfl rfl
theorem dksX6_rests_3 : cX6_rests.data.toList.drop 70 = dktX6_rests_3 := dk_seg dksX6_rests_2 23 rfl rfl
theorem dksX6_rests_4 : cX6_rests.data.toList.drop 94 = dktX6_rests_4 := dk_seg dksX6_rests_3 24 rfl rfl
theorem dksX6_rests_5 : cX6_rests.data.toList.drop 118 = dktX6_rests_5 := dk_seg dksX6_rests_4 24 rfl rfl
theorem dX6_rests_0 : decode cX6_rests 0 = .ok (.aload_n 0, 1) := dk_42 (dk_at dksX6_rests_0 0 rfl rfl)
theorem dX6_rests_1 : decode cX6_rests 1 = .ok (.iload_n 1, 1) := dk_27 (dk_at dksX6_rests_0 1 rfl rfl)
theorem dX6_rests_2 : decode cX6_rests 2 = .ok (.iload_n 2, 1) := dk_28 (dk_at dksX6_rests_0 2 rfl rfl)
theorem dX6_rests_3 : decode cX6_rests 3 = .ok (.invokevirtual 479, 3) := dk_182 1 223 (dk_at dksX6_rests_0 3 rfl rfl)
theorem dX6_rests_6 : decode cX6_rests 6 = .ok (.ifCond .ne 6, 3) := dk_154 0 6 (dk_at dksX6_rests_0 6 rfl rfl)
theorem dX6_rests_9 : decode cX6_rests 9 = .ok (.bipush (-2), 2) := dk_16 254 (dk_at dksX6_rests_0 9 rfl rfl)
theorem dX6_rests_11 : decode cX6_rests 11 = .ok (.ireturn, 1) := dk_172 (dk_at dksX6_rests_0 11 rfl rfl)
theorem dX6_rests_12 : decode cX6_rests 12 = .ok (.iconst 0, 1) := dk_3 (dk_at dksX6_rests_0 12 rfl rfl)
theorem dX6_rests_13 : decode cX6_rests 13 = .ok (.istore_n 3, 1) := dk_62 (dk_at dksX6_rests_0 13 rfl rfl)
theorem dX6_rests_14 : decode cX6_rests 14 = .ok (.iconst 0, 1) := dk_3 (dk_at dksX6_rests_0 14 rfl rfl)
theorem dX6_rests_15 : decode cX6_rests 15 = .ok (.istore 4, 2) := dk_54 4 (dk_at dksX6_rests_0 15 rfl rfl)
theorem dX6_rests_17 : decode cX6_rests 17 = .ok (.iload 4, 2) := dk_21 4 (dk_at dksX6_rests_0 17 rfl rfl)
theorem dX6_rests_19 : decode cX6_rests 19 = .ok (.iconst 4, 1) := dk_7 (dk_at dksX6_rests_0 19 rfl rfl)
theorem dX6_rests_20 : decode cX6_rests 20 = .ok (.if_icmp .ge 98, 3) := dk_162 0 98 (dk_at dksX6_rests_0 20 rfl rfl)
theorem dX6_rests_23 : decode cX6_rests 23 = .ok (.iload 4, 2) := dk_21 4 (dk_at dksX6_rests_1 0 rfl rfl)
theorem dX6_rests_25 : decode cX6_rests 25 = .ok (.iconst 1, 1) := dk_4 (dk_at dksX6_rests_1 2 rfl rfl)
theorem dX6_rests_26 : decode cX6_rests 26 = .ok (.iand, 1) := dk_126 (dk_at dksX6_rests_1 3 rfl rfl)
theorem dX6_rests_27 : decode cX6_rests 27 = .ok (.istore 5, 2) := dk_54 5 (dk_at dksX6_rests_1 4 rfl rfl)
theorem dX6_rests_29 : decode cX6_rests 29 = .ok (.iload 4, 2) := dk_21 4 (dk_at dksX6_rests_1 6 rfl rfl)
theorem dX6_rests_31 : decode cX6_rests 31 = .ok (.iconst 1, 1) := dk_4 (dk_at dksX6_rests_1 8 rfl rfl)
theorem dX6_rests_32 : decode cX6_rests 32 = .ok (.ishr, 1) := dk_122 (dk_at dksX6_rests_1 9 rfl rfl)
theorem dX6_rests_33 : decode cX6_rests 33 = .ok (.istore 6, 2) := dk_54 6 (dk_at dksX6_rests_1 10 rfl rfl)
theorem dX6_rests_35 : decode cX6_rests 35 = .ok (.aload_n 0, 1) := dk_42 (dk_at dksX6_rests_1 12 rfl rfl)
theorem dX6_rests_36 : decode cX6_rests 36 = .ok (.iload_n 1, 1) := dk_27 (dk_at dksX6_rests_1 13 rfl rfl)
theorem dX6_rests_37 : decode cX6_rests 37 = .ok (.iload_n 2, 1) := dk_28 (dk_at dksX6_rests_1 14 rfl rfl)
theorem dX6_rests_38 : decode cX6_rests 38 = .ok (.iload 5, 2) := dk_21 5 (dk_at dksX6_rests_1 15 rfl rfl)
theorem dX6_rests_40 : decode cX6_rests 40 = .ok (.iload 6, 2) := dk_21 6 (dk_at dksX6_rests_1 17 rfl rfl)
theorem dX6_rests_42 : decode cX6_rests 42 = .ok (.iconst 0, 1) := dk_3 (dk_at dksX6_rests_1 19 rfl rfl)
theorem dX6_rests_43 : decode cX6_rests 43 = .ok (.invokevirtual 482, 3) := dk_182 1 226 (dk_at dksX6_rests_1 20 rfl rfl)
theorem dX6_rests_46 : decode cX6_rests 46 = .ok (.aload_n 0, 1) := dk_42 (dk_at dksX6_rests_1 23 rfl rfl)
theorem dX6_rests_47 : decode cX6_rests 47 = .ok (.iload_n 1, 1) := dk_27 (dk_at dksX6_rests_2 0 rfl rfl)
theorem dX6_rests_48 : decode cX6_rests 48 = .ok (.iload_n 2, 1) := dk_28 (dk_at dksX6_rests_2 1 rfl rfl)
theorem dX6_rests_49 : decode cX6_rests 49 = .ok (.iconst 1, 1) := dk_4 (dk_at dksX6_rests_2 2 rfl rfl)
theorem dX6_rests_50 : decode cX6_rests 50 = .ok (.iload 5, 2) := dk_21 5 (dk_at dksX6_rests_2 3 rfl rfl)
theorem dX6_rests_52 : decode cX6_rests 52 = .ok (.isub, 1) := dk_100 (dk_at dksX6_rests_2 5 rfl rfl)
theorem dX6_rests_53 : decode cX6_rests 53 = .ok (.iload 6, 2) := dk_21 6 (dk_at dksX6_rests_2 6 rfl rfl)
theorem dX6_rests_55 : decode cX6_rests 55 = .ok (.iconst 0, 1) := dk_3 (dk_at dksX6_rests_2 8 rfl rfl)
theorem dX6_rests_56 : decode cX6_rests 56 = .ok (.invokevirtual 482, 3) := dk_182 1 226 (dk_at dksX6_rests_2 9 rfl rfl)
theorem dX6_rests_59 : decode cX6_rests 59 = .ok (.if_icmp .lt 34, 3) := dk_161 0 34 (dk_at dksX6_rests_2 12 rfl rfl)
theorem dX6_rests_62 : decode cX6_rests 62 = .ok (.aload_n 0, 1) := dk_42 (dk_at dksX6_rests_2 15 rfl rfl)
theorem dX6_rests_63 : decode cX6_rests 63 = .ok (.iload_n 1, 1) := dk_27 (dk_at dksX6_rests_2 16 rfl rfl)
theorem dX6_rests_64 : decode cX6_rests 64 = .ok (.iload_n 2, 1) := dk_28 (dk_at dksX6_rests_2 17 rfl rfl)
theorem dX6_rests_65 : decode cX6_rests 65 = .ok (.iload 5, 2) := dk_21 5 (dk_at dksX6_rests_2 18 rfl rfl)
theorem dX6_rests_67 : decode cX6_rests 67 = .ok (.iload 6, 2) := dk_21 6 (dk_at dksX6_rests_2 20 rfl rfl)
theorem dX6_rests_69 : decode cX6_rests 69 = .ok (.iconst 1, 1) := dk_4 (dk_at dksX6_rests_2 22 rfl rfl)
theorem dX6_rests_70 : decode cX6_rests 70 = .ok (.invokevirtual 482, 3) := dk_182 1 226 (dk_at dksX6_rests_3 0 rfl rfl)
theorem dX6_rests_73 : decode cX6_rests 73 = .ok (.aload_n 0, 1) := dk_42 (dk_at dksX6_rests_3 3 rfl rfl)
theorem dX6_rests_74 : decode cX6_rests 74 = .ok (.iload_n 1, 1) := dk_27 (dk_at dksX6_rests_3 4 rfl rfl)
theorem dX6_rests_75 : decode cX6_rests 75 = .ok (.iload_n 2, 1) := dk_28 (dk_at dksX6_rests_3 5 rfl rfl)
theorem dX6_rests_76 : decode cX6_rests 76 = .ok (.iload 5, 2) := dk_21 5 (dk_at dksX6_rests_3 6 rfl rfl)
theorem dX6_rests_78 : decode cX6_rests 78 = .ok (.iconst 1, 1) := dk_4 (dk_at dksX6_rests_3 8 rfl rfl)
theorem dX6_rests_79 : decode cX6_rests 79 = .ok (.iload 6, 2) := dk_21 6 (dk_at dksX6_rests_3 9 rfl rfl)
theorem dX6_rests_81 : decode cX6_rests 81 = .ok (.isub, 1) := dk_100 (dk_at dksX6_rests_3 11 rfl rfl)
theorem dX6_rests_82 : decode cX6_rests 82 = .ok (.iconst 1, 1) := dk_4 (dk_at dksX6_rests_3 12 rfl rfl)
theorem dX6_rests_83 : decode cX6_rests 83 = .ok (.invokevirtual 482, 3) := dk_182 1 226 (dk_at dksX6_rests_3 13 rfl rfl)
theorem dX6_rests_86 : decode cX6_rests 86 = .ok (.if_icmp .lt 7, 3) := dk_161 0 7 (dk_at dksX6_rests_3 16 rfl rfl)
theorem dX6_rests_89 : decode cX6_rests 89 = .ok (.iconst 1, 1) := dk_4 (dk_at dksX6_rests_3 19 rfl rfl)
theorem dX6_rests_90 : decode cX6_rests 90 = .ok (.goto 4, 3) := dk_167 0 4 (dk_at dksX6_rests_3 20 rfl rfl)
theorem dX6_rests_93 : decode cX6_rests 93 = .ok (.iconst 0, 1) := dk_3 (dk_at dksX6_rests_3 23 rfl rfl)
theorem dX6_rests_94 : decode cX6_rests 94 = .ok (.istore 7, 2) := dk_54 7 (dk_at dksX6_rests_4 0 rfl rfl)
theorem dX6_rests_96 : decode cX6_rests 96 = .ok (.iload_n 3, 1) := dk_29 (dk_at dksX6_rests_4 2 rfl rfl)
theorem dX6_rests_97 : decode cX6_rests 97 = .ok (.iload 7, 2) := dk_21 7 (dk_at dksX6_rests_4 3 rfl rfl)
theorem dX6_rests_99 : decode cX6_rests 99 = .ok (.ifCond .eq 10, 3) := dk_153 0 10 (dk_at dksX6_rests_4 5 rfl rfl)
theorem dX6_rests_102 : decode cX6_rests 102 = .ok (.iconst 1, 1) := dk_4 (dk_at dksX6_rests_4 8 rfl rfl)
theorem dX6_rests_103 : decode cX6_rests 103 = .ok (.iload 4, 2) := dk_21 4 (dk_at dksX6_rests_4 9 rfl rfl)
theorem dX6_rests_105 : decode cX6_rests 105 = .ok (.ishl, 1) := dk_120 (dk_at dksX6_rests_4 11 rfl rfl)
theorem dX6_rests_106 : decode cX6_rests 106 = .ok (.goto 4, 3) := dk_167 0 4 (dk_at dksX6_rests_4 12 rfl rfl)
theorem dX6_rests_109 : decode cX6_rests 109 = .ok (.iconst 0, 1) := dk_3 (dk_at dksX6_rests_4 15 rfl rfl)
theorem dX6_rests_110 : decode cX6_rests 110 = .ok (.ior, 1) := dk_128 (dk_at dksX6_rests_4 16 rfl rfl)
theorem dX6_rests_111 : decode cX6_rests 111 = .ok (.istore_n 3, 1) := dk_62 (dk_at dksX6_rests_4 17 rfl rfl)
theorem dX6_rests_112 : decode cX6_rests 112 = .ok (.iinc 4 1, 3) := dk_132 4 1 (dk_at dksX6_rests_4 18 rfl rfl)
theorem dX6_rests_115 : decode cX6_rests 115 = .ok (.goto (-98), 3) := dk_167 255 158 (dk_at dksX6_rests_4 21 rfl rfl)
theorem dX6_rests_118 : decode cX6_rests 118 = .ok (.iload_n 3, 1) := dk_29 (dk_at dksX6_rests_5 0 rfl rfl)
theorem dX6_rests_119 : decode cX6_rests 119 = .ok (.ireturn, 1) := dk_172 (dk_at dksX6_rests_5 1 rfl rfl)
abbrev cX6_areTwo : ByteArray := prog_12_method_138_code
def yX6_areTwo : MethodName := ⟨RX6, "areTwo", "(II)Z"⟩
def dkwX6_areTwo_1 : List UInt8 := [167, 0, 4, 3, 172]
abbrev dktX6_areTwo_1 : List UInt8 := dkwX6_areTwo_1 ++ []
def dkwX6_areTwo_0 : List UInt8 := [42, 27, 133, 182, 1, 5, 153, 0, 21, 42, 28, 133, 182, 1, 5, 153, 0, 12, 27, 28, 159, 0, 7, 4]
abbrev dktX6_areTwo_0 : List UInt8 := dkwX6_areTwo_0 ++ dktX6_areTwo_1
theorem dksX6_areTwo_0 : cX6_areTwo.data.toList.drop 0 = dktX6_areTwo_0 := by decide +kernel
theorem dksX6_areTwo_1 : cX6_areTwo.data.toList.drop 24 = dktX6_areTwo_1 := dk_seg dksX6_areTwo_0 24 rfl rfl
theorem dX6_areTwo_0 : decode cX6_areTwo 0 = .ok (.aload_n 0, 1) := dk_42 (dk_at dksX6_areTwo_0 0 rfl rfl)
theorem dX6_areTwo_1 : decode cX6_areTwo 1 = .ok (.iload_n 1, 1) := dk_27 (dk_at dksX6_areTwo_0 1 rfl rfl)
theorem dX6_areTwo_2 : decode cX6_areTwo 2 = .ok (.i2l, 1) := dk_133 (dk_at dksX6_areTwo_0 2 rfl rfl)
theorem dX6_areTwo_3 : decode cX6_areTwo 3 = .ok (.invokevirtual 261, 3) := dk_182 1 5 (dk_at dksX6_areTwo_0 3 rfl rfl)
theorem dX6_areTwo_6 : decode cX6_areTwo 6 = .ok (.ifCond .eq 21, 3) := dk_153 0 21 (dk_at dksX6_areTwo_0 6 rfl rfl)
theorem dX6_areTwo_9 : decode cX6_areTwo 9 = .ok (.aload_n 0, 1) := dk_42 (dk_at dksX6_areTwo_0 9 rfl rfl)
theorem dX6_areTwo_10 : decode cX6_areTwo 10 = .ok (.iload_n 2, 1) := dk_28 (dk_at dksX6_areTwo_0 10 rfl rfl)
theorem dX6_areTwo_11 : decode cX6_areTwo 11 = .ok (.i2l, 1) := dk_133 (dk_at dksX6_areTwo_0 11 rfl rfl)
theorem dX6_areTwo_12 : decode cX6_areTwo 12 = .ok (.invokevirtual 261, 3) := dk_182 1 5 (dk_at dksX6_areTwo_0 12 rfl rfl)
theorem dX6_areTwo_15 : decode cX6_areTwo 15 = .ok (.ifCond .eq 12, 3) := dk_153 0 12 (dk_at dksX6_areTwo_0 15 rfl rfl)
theorem dX6_areTwo_18 : decode cX6_areTwo 18 = .ok (.iload_n 1, 1) := dk_27 (dk_at dksX6_areTwo_0 18 rfl rfl)
theorem dX6_areTwo_19 : decode cX6_areTwo 19 = .ok (.iload_n 2, 1) := dk_28 (dk_at dksX6_areTwo_0 19 rfl rfl)
theorem dX6_areTwo_20 : decode cX6_areTwo 20 = .ok (.if_icmp .eq 7, 3) := dk_159 0 7 (dk_at dksX6_areTwo_0 20 rfl rfl)
theorem dX6_areTwo_23 : decode cX6_areTwo 23 = .ok (.iconst 1, 1) := dk_4 (dk_at dksX6_areTwo_0 23 rfl rfl)
theorem dX6_areTwo_24 : decode cX6_areTwo 24 = .ok (.goto 4, 3) := dk_167 0 4 (dk_at dksX6_areTwo_1 0 rfl rfl)
theorem dX6_areTwo_27 : decode cX6_areTwo 27 = .ok (.iconst 0, 1) := dk_3 (dk_at dksX6_areTwo_1 3 rfl rfl)
theorem dX6_areTwo_28 : decode cX6_areTwo 28 = .ok (.ireturn, 1) := dk_172 (dk_at dksX6_areTwo_1 4 rfl rfl)
abbrev cX6_getsBy : ByteArray := prog_12_method_137_code
def yX6_getsBy : MethodName := ⟨RX6, "getsBy", "(IIIII)I"⟩
def dkwX6_getsBy_2 : List UInt8 := [42, 21, 6, 182, 1, 111, 5, 42, 180, 0, 61, 21, 6, 46, 104, 100, 167, 0, 4, 3, 172]
abbrev dktX6_getsBy_2 : List UInt8 := dkwX6_getsBy_2 ++ []
def dkwX6_getsBy_1 : List UInt8 := [182, 1, 76, 21, 5, 154, 0, 7, 27, 167, 0, 4, 28, 54, 6, 42, 21, 6, 182, 1, 105, 153, 0, 22]
abbrev dktX6_getsBy_1 : List UInt8 := dkwX6_getsBy_1 ++ dktX6_getsBy_2
def dkwX6_getsBy_0 : List UInt8 := [42, 182, 1, 73, 42, 89, 180, 1, 20, 29, 27, 120, 21, 4, 28, 120, 128, 2, 130, 126, 181, 1, 20, 42]
abbrev dktX6_getsBy_0 : List UInt8 := dkwX6_getsBy_0 ++ dktX6_getsBy_1
theorem dksX6_getsBy_0 : cX6_getsBy.data.toList.drop 0 = dktX6_getsBy_0 := by decide +kernel
theorem dksX6_getsBy_1 : cX6_getsBy.data.toList.drop 24 = dktX6_getsBy_1 := dk_seg dksX6_getsBy_0 24 rfl rfl
theorem dksX6_getsBy_2 : cX6_getsBy.data.toList.drop 48 = dktX6_getsBy_2 := dk_seg dksX6_getsBy_1 24 rfl rfl
theorem dX6_getsBy_0 : decode cX6_getsBy 0 = .ok (.aload_n 0, 1) := dk_42 (dk_at dksX6_getsBy_0 0 rfl rfl)
theorem dX6_getsBy_1 : decode cX6_getsBy 1 = .ok (.invokevirtual 329, 3) := dk_182 1 73 (dk_at dksX6_getsBy_0 1 rfl rfl)
theorem dX6_getsBy_4 : decode cX6_getsBy 4 = .ok (.aload_n 0, 1) := dk_42 (dk_at dksX6_getsBy_0 4 rfl rfl)
theorem dX6_getsBy_5 : decode cX6_getsBy 5 = .ok (.dup, 1) := dk_89 (dk_at dksX6_getsBy_0 5 rfl rfl)
theorem dX6_getsBy_6 : decode cX6_getsBy 6 = .ok (.getfield 276, 3) := dk_180 1 20 (dk_at dksX6_getsBy_0 6 rfl rfl)
theorem dX6_getsBy_9 : decode cX6_getsBy 9 = .ok (.iload_n 3, 1) := dk_29 (dk_at dksX6_getsBy_0 9 rfl rfl)
theorem dX6_getsBy_10 : decode cX6_getsBy 10 = .ok (.iload_n 1, 1) := dk_27 (dk_at dksX6_getsBy_0 10 rfl rfl)
theorem dX6_getsBy_11 : decode cX6_getsBy 11 = .ok (.ishl, 1) := dk_120 (dk_at dksX6_getsBy_0 11 rfl rfl)
theorem dX6_getsBy_12 : decode cX6_getsBy 12 = .ok (.iload 4, 2) := dk_21 4 (dk_at dksX6_getsBy_0 12 rfl rfl)
theorem dX6_getsBy_14 : decode cX6_getsBy 14 = .ok (.iload_n 2, 1) := dk_28 (dk_at dksX6_getsBy_0 14 rfl rfl)
theorem dX6_getsBy_15 : decode cX6_getsBy 15 = .ok (.ishl, 1) := dk_120 (dk_at dksX6_getsBy_0 15 rfl rfl)
theorem dX6_getsBy_16 : decode cX6_getsBy 16 = .ok (.ior, 1) := dk_128 (dk_at dksX6_getsBy_0 16 rfl rfl)
theorem dX6_getsBy_17 : decode cX6_getsBy 17 = .ok (.iconst (-1), 1) := dk_2 (dk_at dksX6_getsBy_0 17 rfl rfl)
theorem dX6_getsBy_18 : decode cX6_getsBy 18 = .ok (.ixor, 1) := dk_130 (dk_at dksX6_getsBy_0 18 rfl rfl)
theorem dX6_getsBy_19 : decode cX6_getsBy 19 = .ok (.iand, 1) := dk_126 (dk_at dksX6_getsBy_0 19 rfl rfl)
theorem dX6_getsBy_20 : decode cX6_getsBy 20 = .ok (.putfield 276, 3) := dk_181 1 20 (dk_at dksX6_getsBy_0 20 rfl rfl)
theorem dX6_getsBy_23 : decode cX6_getsBy 23 = .ok (.aload_n 0, 1) := dk_42 (dk_at dksX6_getsBy_0 23 rfl rfl)
theorem dX6_getsBy_24 : decode cX6_getsBy 24 = .ok (.invokevirtual 332, 3) := dk_182 1 76 (dk_at dksX6_getsBy_1 0 rfl rfl)
theorem dX6_getsBy_27 : decode cX6_getsBy 27 = .ok (.iload 5, 2) := dk_21 5 (dk_at dksX6_getsBy_1 3 rfl rfl)
theorem dX6_getsBy_29 : decode cX6_getsBy 29 = .ok (.ifCond .ne 7, 3) := dk_154 0 7 (dk_at dksX6_getsBy_1 5 rfl rfl)
theorem dX6_getsBy_32 : decode cX6_getsBy 32 = .ok (.iload_n 1, 1) := dk_27 (dk_at dksX6_getsBy_1 8 rfl rfl)
theorem dX6_getsBy_33 : decode cX6_getsBy 33 = .ok (.goto 4, 3) := dk_167 0 4 (dk_at dksX6_getsBy_1 9 rfl rfl)
theorem dX6_getsBy_36 : decode cX6_getsBy 36 = .ok (.iload_n 2, 1) := dk_28 (dk_at dksX6_getsBy_1 12 rfl rfl)
theorem dX6_getsBy_37 : decode cX6_getsBy 37 = .ok (.istore 6, 2) := dk_54 6 (dk_at dksX6_getsBy_1 13 rfl rfl)
theorem dX6_getsBy_39 : decode cX6_getsBy 39 = .ok (.aload_n 0, 1) := dk_42 (dk_at dksX6_getsBy_1 15 rfl rfl)
theorem dX6_getsBy_40 : decode cX6_getsBy 40 = .ok (.iload 6, 2) := dk_21 6 (dk_at dksX6_getsBy_1 16 rfl rfl)
theorem dX6_getsBy_42 : decode cX6_getsBy 42 = .ok (.invokevirtual 361, 3) := dk_182 1 105 (dk_at dksX6_getsBy_1 18 rfl rfl)
theorem dX6_getsBy_45 : decode cX6_getsBy 45 = .ok (.ifCond .eq 22, 3) := dk_153 0 22 (dk_at dksX6_getsBy_1 21 rfl rfl)
theorem dX6_getsBy_48 : decode cX6_getsBy 48 = .ok (.aload_n 0, 1) := dk_42 (dk_at dksX6_getsBy_2 0 rfl rfl)
theorem dX6_getsBy_49 : decode cX6_getsBy 49 = .ok (.iload 6, 2) := dk_21 6 (dk_at dksX6_getsBy_2 1 rfl rfl)
theorem dX6_getsBy_51 : decode cX6_getsBy 51 = .ok (.invokevirtual 367, 3) := dk_182 1 111 (dk_at dksX6_getsBy_2 3 rfl rfl)
theorem dX6_getsBy_54 : decode cX6_getsBy 54 = .ok (.iconst 2, 1) := dk_5 (dk_at dksX6_getsBy_2 6 rfl rfl)
theorem dX6_getsBy_55 : decode cX6_getsBy 55 = .ok (.aload_n 0, 1) := dk_42 (dk_at dksX6_getsBy_2 7 rfl rfl)
theorem dX6_getsBy_56 : decode cX6_getsBy 56 = .ok (.getfield 61, 3) := dk_180 0 61 (dk_at dksX6_getsBy_2 8 rfl rfl)
theorem dX6_getsBy_59 : decode cX6_getsBy 59 = .ok (.iload 6, 2) := dk_21 6 (dk_at dksX6_getsBy_2 11 rfl rfl)
theorem dX6_getsBy_61 : decode cX6_getsBy 61 = .ok (.iaload, 1) := dk_46 (dk_at dksX6_getsBy_2 13 rfl rfl)
theorem dX6_getsBy_62 : decode cX6_getsBy 62 = .ok (.imul, 1) := dk_104 (dk_at dksX6_getsBy_2 14 rfl rfl)
theorem dX6_getsBy_63 : decode cX6_getsBy 63 = .ok (.isub, 1) := dk_100 (dk_at dksX6_getsBy_2 15 rfl rfl)
theorem dX6_getsBy_64 : decode cX6_getsBy 64 = .ok (.goto 4, 3) := dk_167 0 4 (dk_at dksX6_getsBy_2 16 rfl rfl)
theorem dX6_getsBy_67 : decode cX6_getsBy 67 = .ok (.iconst 0, 1) := dk_3 (dk_at dksX6_getsBy_2 19 rfl rfl)
theorem dX6_getsBy_68 : decode cX6_getsBy 68 = .ok (.ireturn, 1) := dk_172 (dk_at dksX6_getsBy_2 20 rfl rfl)
abbrev cX6_gets : ByteArray := prog_12_method_140_code
def yX6_gets : MethodName := ⟨RX6, "gets", "(IIII)I"⟩
def dkwX6_gets_1 : List UInt8 := [184, 0, 106, 153, 0, 16, 42, 27, 28, 29, 21, 4, 3, 182, 1, 226, 167, 0, 6, 17, 252, 24, 172]
abbrev dktX6_gets_1 : List UInt8 := dkwX6_gets_1 ++ []
def dkwX6_gets_0 : List UInt8 := [42, 27, 28, 182, 1, 223, 153, 0, 37, 29, 133, 9, 10, 184, 0, 106, 153, 0, 27, 21, 4, 133, 9, 10]
abbrev dktX6_gets_0 : List UInt8 := dkwX6_gets_0 ++ dktX6_gets_1
theorem dksX6_gets_0 : cX6_gets.data.toList.drop 0 = dktX6_gets_0 := by decide +kernel
theorem dksX6_gets_1 : cX6_gets.data.toList.drop 24 = dktX6_gets_1 := dk_seg dksX6_gets_0 24 rfl rfl
theorem dX6_gets_0 : decode cX6_gets 0 = .ok (.aload_n 0, 1) := dk_42 (dk_at dksX6_gets_0 0 rfl rfl)
theorem dX6_gets_1 : decode cX6_gets 1 = .ok (.iload_n 1, 1) := dk_27 (dk_at dksX6_gets_0 1 rfl rfl)
theorem dX6_gets_2 : decode cX6_gets 2 = .ok (.iload_n 2, 1) := dk_28 (dk_at dksX6_gets_0 2 rfl rfl)
theorem dX6_gets_3 : decode cX6_gets 3 = .ok (.invokevirtual 479, 3) := dk_182 1 223 (dk_at dksX6_gets_0 3 rfl rfl)
theorem dX6_gets_6 : decode cX6_gets 6 = .ok (.ifCond .eq 37, 3) := dk_153 0 37 (dk_at dksX6_gets_0 6 rfl rfl)
theorem dX6_gets_9 : decode cX6_gets 9 = .ok (.iload_n 3, 1) := dk_29 (dk_at dksX6_gets_0 9 rfl rfl)
theorem dX6_gets_10 : decode cX6_gets 10 = .ok (.i2l, 1) := dk_133 (dk_at dksX6_gets_0 10 rfl rfl)
theorem dX6_gets_11 : decode cX6_gets 11 = .ok (.lconst 0, 1) := dk_9 (dk_at dksX6_gets_0 11 rfl rfl)
theorem dX6_gets_12 : decode cX6_gets 12 = .ok (.lconst 1, 1) := dk_10 (dk_at dksX6_gets_0 12 rfl rfl)
theorem dX6_gets_13 : decode cX6_gets 13 = .ok (.invokestatic 106, 3) := dk_184 0 106 (dk_at dksX6_gets_0 13 rfl rfl)
theorem dX6_gets_16 : decode cX6_gets 16 = .ok (.ifCond .eq 27, 3) := dk_153 0 27 (dk_at dksX6_gets_0 16 rfl rfl)
theorem dX6_gets_19 : decode cX6_gets 19 = .ok (.iload 4, 2) := dk_21 4 (dk_at dksX6_gets_0 19 rfl rfl)
theorem dX6_gets_21 : decode cX6_gets 21 = .ok (.i2l, 1) := dk_133 (dk_at dksX6_gets_0 21 rfl rfl)
theorem dX6_gets_22 : decode cX6_gets 22 = .ok (.lconst 0, 1) := dk_9 (dk_at dksX6_gets_0 22 rfl rfl)
theorem dX6_gets_23 : decode cX6_gets 23 = .ok (.lconst 1, 1) := dk_10 (dk_at dksX6_gets_0 23 rfl rfl)
theorem dX6_gets_24 : decode cX6_gets 24 = .ok (.invokestatic 106, 3) := dk_184 0 106 (dk_at dksX6_gets_1 0 rfl rfl)
theorem dX6_gets_27 : decode cX6_gets 27 = .ok (.ifCond .eq 16, 3) := dk_153 0 16 (dk_at dksX6_gets_1 3 rfl rfl)
theorem dX6_gets_30 : decode cX6_gets 30 = .ok (.aload_n 0, 1) := dk_42 (dk_at dksX6_gets_1 6 rfl rfl)
theorem dX6_gets_31 : decode cX6_gets 31 = .ok (.iload_n 1, 1) := dk_27 (dk_at dksX6_gets_1 7 rfl rfl)
theorem dX6_gets_32 : decode cX6_gets 32 = .ok (.iload_n 2, 1) := dk_28 (dk_at dksX6_gets_1 8 rfl rfl)
theorem dX6_gets_33 : decode cX6_gets 33 = .ok (.iload_n 3, 1) := dk_29 (dk_at dksX6_gets_1 9 rfl rfl)
theorem dX6_gets_34 : decode cX6_gets 34 = .ok (.iload 4, 2) := dk_21 4 (dk_at dksX6_gets_1 10 rfl rfl)
theorem dX6_gets_36 : decode cX6_gets 36 = .ok (.iconst 0, 1) := dk_3 (dk_at dksX6_gets_1 12 rfl rfl)
theorem dX6_gets_37 : decode cX6_gets 37 = .ok (.invokevirtual 482, 3) := dk_182 1 226 (dk_at dksX6_gets_1 13 rfl rfl)
theorem dX6_gets_40 : decode cX6_gets 40 = .ok (.goto 6, 3) := dk_167 0 6 (dk_at dksX6_gets_1 16 rfl rfl)
theorem dX6_gets_43 : decode cX6_gets 43 = .ok (.sipush (-1000), 3) := dk_17 252 24 (dk_at dksX6_gets_1 19 rfl rfl)
theorem dX6_gets_46 : decode cX6_gets 46 = .ok (.ireturn, 1) := dk_172 (dk_at dksX6_gets_1 22 rfl rfl)
abbrev cX6_chance : ByteArray := prog_12_method_142_code
def yX6_chance : MethodName := ⟨RX6, "chance", "(II)J"⟩
def dkwX6_chance_1 : List UInt8 := [27, 182, 1, 242, 42, 180, 1, 234, 42, 180, 1, 230, 28, 184, 1, 219, 173]
abbrev dktX6_chance_1 : List UInt8 := dkwX6_chance_1 ++ []
def dkwX6_chance_0 : List UInt8 := [42, 27, 133, 182, 1, 54, 153, 0, 13, 28, 133, 9, 10, 184, 0, 106, 154, 0, 7, 20, 1, 240, 173, 42]
abbrev dktX6_chance_0 : List UInt8 := dkwX6_chance_0 ++ dktX6_chance_1
theorem dksX6_chance_0 : cX6_chance.data.toList.drop 0 = dktX6_chance_0 := by decide +kernel
theorem dksX6_chance_1 : cX6_chance.data.toList.drop 24 = dktX6_chance_1 := dk_seg dksX6_chance_0 24 rfl rfl
theorem dX6_chance_0 : decode cX6_chance 0 = .ok (.aload_n 0, 1) := dk_42 (dk_at dksX6_chance_0 0 rfl rfl)
theorem dX6_chance_1 : decode cX6_chance 1 = .ok (.iload_n 1, 1) := dk_27 (dk_at dksX6_chance_0 1 rfl rfl)
theorem dX6_chance_2 : decode cX6_chance 2 = .ok (.i2l, 1) := dk_133 (dk_at dksX6_chance_0 2 rfl rfl)
theorem dX6_chance_3 : decode cX6_chance 3 = .ok (.invokevirtual 310, 3) := dk_182 1 54 (dk_at dksX6_chance_0 3 rfl rfl)
theorem dX6_chance_6 : decode cX6_chance 6 = .ok (.ifCond .eq 13, 3) := dk_153 0 13 (dk_at dksX6_chance_0 6 rfl rfl)
theorem dX6_chance_9 : decode cX6_chance 9 = .ok (.iload_n 2, 1) := dk_28 (dk_at dksX6_chance_0 9 rfl rfl)
theorem dX6_chance_10 : decode cX6_chance 10 = .ok (.i2l, 1) := dk_133 (dk_at dksX6_chance_0 10 rfl rfl)
theorem dX6_chance_11 : decode cX6_chance 11 = .ok (.lconst 0, 1) := dk_9 (dk_at dksX6_chance_0 11 rfl rfl)
theorem dX6_chance_12 : decode cX6_chance 12 = .ok (.lconst 1, 1) := dk_10 (dk_at dksX6_chance_0 12 rfl rfl)
theorem dX6_chance_13 : decode cX6_chance 13 = .ok (.invokestatic 106, 3) := dk_184 0 106 (dk_at dksX6_chance_0 13 rfl rfl)
theorem dX6_chance_16 : decode cX6_chance 16 = .ok (.ifCond .ne 7, 3) := dk_154 0 7 (dk_at dksX6_chance_0 16 rfl rfl)
theorem dX6_chance_19 : decode cX6_chance 19 = .ok (.ldc2_w 496, 3) := dk_20 1 240 (dk_at dksX6_chance_0 19 rfl rfl)
theorem dX6_chance_22 : decode cX6_chance 22 = .ok (.lreturn, 1) := dk_173 (dk_at dksX6_chance_0 22 rfl rfl)
theorem dX6_chance_23 : decode cX6_chance 23 = .ok (.aload_n 0, 1) := dk_42 (dk_at dksX6_chance_0 23 rfl rfl)
theorem dX6_chance_24 : decode cX6_chance 24 = .ok (.iload_n 1, 1) := dk_27 (dk_at dksX6_chance_1 0 rfl rfl)
theorem dX6_chance_25 : decode cX6_chance 25 = .ok (.invokevirtual 498, 3) := dk_182 1 242 (dk_at dksX6_chance_1 1 rfl rfl)
theorem dX6_chance_28 : decode cX6_chance 28 = .ok (.aload_n 0, 1) := dk_42 (dk_at dksX6_chance_1 4 rfl rfl)
theorem dX6_chance_29 : decode cX6_chance 29 = .ok (.getfield 490, 3) := dk_180 1 234 (dk_at dksX6_chance_1 5 rfl rfl)
theorem dX6_chance_32 : decode cX6_chance 32 = .ok (.aload_n 0, 1) := dk_42 (dk_at dksX6_chance_1 8 rfl rfl)
theorem dX6_chance_33 : decode cX6_chance 33 = .ok (.getfield 486, 3) := dk_180 1 230 (dk_at dksX6_chance_1 9 rfl rfl)
theorem dX6_chance_36 : decode cX6_chance 36 = .ok (.iload_n 2, 1) := dk_28 (dk_at dksX6_chance_1 12 rfl rfl)
theorem dX6_chance_37 : decode cX6_chance 37 = .ok (.invokestatic 475, 3) := dk_184 1 219 (dk_at dksX6_chance_1 13 rfl rfl)
theorem dX6_chance_40 : decode cX6_chance 40 = .ok (.lreturn, 1) := dk_173 (dk_at dksX6_chance_1 16 rfl rfl)
abbrev cX6_layFog : ByteArray := prog_12_method_141_code
def yX6_layFog : MethodName := ⟨RX6, "layFog", "(I)V"⟩
def dkwX6_layFog_7 : List UInt8 := [132, 3, 1, 167, 255, 116, 177]
abbrev dktX6_layFog_7 : List UInt8 := dkwX6_layFog_7 ++ []
def dkwX6_layFog_6 : List UInt8 := [167, 0, 4, 9, 97, 181, 1, 234, 42, 89, 180, 1, 237, 22, 4, 21, 6, 133, 105, 97, 181, 1, 237]
abbrev dktX6_layFog_6 : List UInt8 := dkwX6_layFog_6 ++ dktX6_layFog_7
def dkwX6_layFog_5 : List UInt8 := [97, 181, 1, 230, 42, 89, 180, 1, 234, 42, 27, 42, 182, 0, 118, 182, 1, 130, 153, 0, 8, 22, 4]
abbrev dktX6_layFog_5 : List UInt8 := dkwX6_layFog_5 ++ dktX6_layFog_6
def dkwX6_layFog_4 : List UInt8 := [167, 0, 70, 42, 42, 182, 1, 17, 29, 2, 130, 126, 182, 1, 204, 54, 6, 42, 89, 180, 1, 230, 22, 4]
abbrev dktX6_layFog_4 : List UInt8 := dkwX6_layFog_4 ++ dktX6_layFog_5
def dkwX6_layFog_3 : List UInt8 := [180, 0, 9, 5, 46, 100, 133, 105, 55, 4, 132, 6, 1, 167, 255, 212, 22, 4, 9, 148, 154, 0, 6]
abbrev dktX6_layFog_3 : List UInt8 := dkwX6_layFog_3 ++ dktX6_layFog_4
def dkwX6_layFog_2 : List UInt8 := [21, 6, 184, 1, 67, 4, 160, 0, 13, 42, 180, 0, 9, 5, 46, 133, 167, 0, 13, 16, 10, 42]
abbrev dktX6_layFog_2 : List UInt8 := dkwX6_layFog_2 ++ dktX6_layFog_3
def dkwX6_layFog_1 : List UInt8 := [3, 62, 29, 4, 28, 120, 162, 0, 139, 10, 55, 4, 3, 54, 6, 21, 6, 28, 162, 0, 44, 22, 4, 29]
abbrev dktX6_layFog_1 : List UInt8 := dkwX6_layFog_1 ++ dktX6_layFog_2
def dkwX6_layFog_0 : List UInt8 := [42, 9, 181, 1, 230, 42, 9, 181, 1, 234, 42, 9, 181, 1, 237, 42, 182, 1, 201, 42, 182, 0, 110, 61]
abbrev dktX6_layFog_0 : List UInt8 := dkwX6_layFog_0 ++ dktX6_layFog_1
theorem dksX6_layFog_0 : cX6_layFog.data.toList.drop 0 = dktX6_layFog_0 := by decide +kernel
theorem dksX6_layFog_1 : cX6_layFog.data.toList.drop 24 = dktX6_layFog_1 := dk_seg dksX6_layFog_0 24 rfl rfl
theorem dksX6_layFog_2 : cX6_layFog.data.toList.drop 48 = dktX6_layFog_2 := dk_seg dksX6_layFog_1 24 rfl rfl
theorem dksX6_layFog_3 : cX6_layFog.data.toList.drop 70 = dktX6_layFog_3 := dk_seg dksX6_layFog_2 22 rfl rfl
theorem dksX6_layFog_4 : cX6_layFog.data.toList.drop 93 = dktX6_layFog_4 := dk_seg dksX6_layFog_3 23 rfl rfl
theorem dksX6_layFog_5 : cX6_layFog.data.toList.drop 117 = dktX6_layFog_5 := dk_seg dksX6_layFog_4 24 rfl rfl
theorem dksX6_layFog_6 : cX6_layFog.data.toList.drop 140 = dktX6_layFog_6 := dk_seg dksX6_layFog_5 23 rfl rfl
theorem dksX6_layFog_7 : cX6_layFog.data.toList.drop 163 = dktX6_layFog_7 := dk_seg dksX6_layFog_6 23 rfl rfl
theorem dX6_layFog_0 : decode cX6_layFog 0 = .ok (.aload_n 0, 1) := dk_42 (dk_at dksX6_layFog_0 0 rfl rfl)
theorem dX6_layFog_1 : decode cX6_layFog 1 = .ok (.lconst 0, 1) := dk_9 (dk_at dksX6_layFog_0 1 rfl rfl)
theorem dX6_layFog_2 : decode cX6_layFog 2 = .ok (.putfield 486, 3) := dk_181 1 230 (dk_at dksX6_layFog_0 2 rfl rfl)
theorem dX6_layFog_5 : decode cX6_layFog 5 = .ok (.aload_n 0, 1) := dk_42 (dk_at dksX6_layFog_0 5 rfl rfl)
theorem dX6_layFog_6 : decode cX6_layFog 6 = .ok (.lconst 0, 1) := dk_9 (dk_at dksX6_layFog_0 6 rfl rfl)
theorem dX6_layFog_7 : decode cX6_layFog 7 = .ok (.putfield 490, 3) := dk_181 1 234 (dk_at dksX6_layFog_0 7 rfl rfl)
theorem dX6_layFog_10 : decode cX6_layFog 10 = .ok (.aload_n 0, 1) := dk_42 (dk_at dksX6_layFog_0 10 rfl rfl)
theorem dX6_layFog_11 : decode cX6_layFog 11 = .ok (.lconst 0, 1) := dk_9 (dk_at dksX6_layFog_0 11 rfl rfl)
theorem dX6_layFog_12 : decode cX6_layFog 12 = .ok (.putfield 493, 3) := dk_181 1 237 (dk_at dksX6_layFog_0 12 rfl rfl)
theorem dX6_layFog_15 : decode cX6_layFog 15 = .ok (.aload_n 0, 1) := dk_42 (dk_at dksX6_layFog_0 15 rfl rfl)
theorem dX6_layFog_16 : decode cX6_layFog 16 = .ok (.invokevirtual 457, 3) := dk_182 1 201 (dk_at dksX6_layFog_0 16 rfl rfl)
theorem dX6_layFog_19 : decode cX6_layFog 19 = .ok (.aload_n 0, 1) := dk_42 (dk_at dksX6_layFog_0 19 rfl rfl)
theorem dX6_layFog_20 : decode cX6_layFog 20 = .ok (.invokevirtual 110, 3) := dk_182 0 110 (dk_at dksX6_layFog_0 20 rfl rfl)
theorem dX6_layFog_23 : decode cX6_layFog 23 = .ok (.istore_n 2, 1) := dk_61 (dk_at dksX6_layFog_0 23 rfl rfl)
theorem dX6_layFog_24 : decode cX6_layFog 24 = .ok (.iconst 0, 1) := dk_3 (dk_at dksX6_layFog_1 0 rfl rfl)
theorem dX6_layFog_25 : decode cX6_layFog 25 = .ok (.istore_n 3, 1) := dk_62 (dk_at dksX6_layFog_1 1 rfl rfl)
theorem dX6_layFog_26 : decode cX6_layFog 26 = .ok (.iload_n 3, 1) := dk_29 (dk_at dksX6_layFog_1 2 rfl rfl)
theorem dX6_layFog_27 : decode cX6_layFog 27 = .ok (.iconst 1, 1) := dk_4 (dk_at dksX6_layFog_1 3 rfl rfl)
theorem dX6_layFog_28 : decode cX6_layFog 28 = .ok (.iload_n 2, 1) := dk_28 (dk_at dksX6_layFog_1 4 rfl rfl)
theorem dX6_layFog_29 : decode cX6_layFog 29 = .ok (.ishl, 1) := dk_120 (dk_at dksX6_layFog_1 5 rfl rfl)
theorem dX6_layFog_30 : decode cX6_layFog 30 = .ok (.if_icmp .ge 139, 3) := dk_162 0 139 (dk_at dksX6_layFog_1 6 rfl rfl)
theorem dX6_layFog_33 : decode cX6_layFog 33 = .ok (.lconst 1, 1) := dk_10 (dk_at dksX6_layFog_1 9 rfl rfl)
theorem dX6_layFog_34 : decode cX6_layFog 34 = .ok (.lstore 4, 2) := dk_55 4 (dk_at dksX6_layFog_1 10 rfl rfl)
theorem dX6_layFog_36 : decode cX6_layFog 36 = .ok (.iconst 0, 1) := dk_3 (dk_at dksX6_layFog_1 12 rfl rfl)
theorem dX6_layFog_37 : decode cX6_layFog 37 = .ok (.istore 6, 2) := dk_54 6 (dk_at dksX6_layFog_1 13 rfl rfl)
theorem dX6_layFog_39 : decode cX6_layFog 39 = .ok (.iload 6, 2) := dk_21 6 (dk_at dksX6_layFog_1 15 rfl rfl)
theorem dX6_layFog_41 : decode cX6_layFog 41 = .ok (.iload_n 2, 1) := dk_28 (dk_at dksX6_layFog_1 17 rfl rfl)
theorem dX6_layFog_42 : decode cX6_layFog 42 = .ok (.if_icmp .ge 44, 3) := dk_162 0 44 (dk_at dksX6_layFog_1 18 rfl rfl)
theorem dX6_layFog_45 : decode cX6_layFog 45 = .ok (.lload 4, 2) := dk_22 4 (dk_at dksX6_layFog_1 21 rfl rfl)
theorem dX6_layFog_47 : decode cX6_layFog 47 = .ok (.iload_n 3, 1) := dk_29 (dk_at dksX6_layFog_1 23 rfl rfl)
theorem dX6_layFog_48 : decode cX6_layFog 48 = .ok (.iload 6, 2) := dk_21 6 (dk_at dksX6_layFog_2 0 rfl rfl)
theorem dX6_layFog_50 : decode cX6_layFog 50 = .ok (.invokestatic 323, 3) := dk_184 1 67 (dk_at dksX6_layFog_2 2 rfl rfl)
theorem dX6_layFog_53 : decode cX6_layFog 53 = .ok (.iconst 1, 1) := dk_4 (dk_at dksX6_layFog_2 5 rfl rfl)
theorem dX6_layFog_54 : decode cX6_layFog 54 = .ok (.if_icmp .ne 13, 3) := dk_160 0 13 (dk_at dksX6_layFog_2 6 rfl rfl)
theorem dX6_layFog_57 : decode cX6_layFog 57 = .ok (.aload_n 0, 1) := dk_42 (dk_at dksX6_layFog_2 9 rfl rfl)
theorem dX6_layFog_58 : decode cX6_layFog 58 = .ok (.getfield 9, 3) := dk_180 0 9 (dk_at dksX6_layFog_2 10 rfl rfl)
theorem dX6_layFog_61 : decode cX6_layFog 61 = .ok (.iconst 2, 1) := dk_5 (dk_at dksX6_layFog_2 13 rfl rfl)
theorem dX6_layFog_62 : decode cX6_layFog 62 = .ok (.iaload, 1) := dk_46 (dk_at dksX6_layFog_2 14 rfl rfl)
theorem dX6_layFog_63 : decode cX6_layFog 63 = .ok (.i2l, 1) := dk_133 (dk_at dksX6_layFog_2 15 rfl rfl)
theorem dX6_layFog_64 : decode cX6_layFog 64 = .ok (.goto 13, 3) := dk_167 0 13 (dk_at dksX6_layFog_2 16 rfl rfl)
theorem dX6_layFog_67 : decode cX6_layFog 67 = .ok (.bipush 10, 2) := dk_16 10 (dk_at dksX6_layFog_2 19 rfl rfl)
theorem dX6_layFog_69 : decode cX6_layFog 69 = .ok (.aload_n 0, 1) := dk_42 (dk_at dksX6_layFog_2 21 rfl rfl)
theorem dX6_layFog_70 : decode cX6_layFog 70 = .ok (.getfield 9, 3) := dk_180 0 9 (dk_at dksX6_layFog_3 0 rfl rfl)
theorem dX6_layFog_73 : decode cX6_layFog 73 = .ok (.iconst 2, 1) := dk_5 (dk_at dksX6_layFog_3 3 rfl rfl)
theorem dX6_layFog_74 : decode cX6_layFog 74 = .ok (.iaload, 1) := dk_46 (dk_at dksX6_layFog_3 4 rfl rfl)
theorem dX6_layFog_75 : decode cX6_layFog 75 = .ok (.isub, 1) := dk_100 (dk_at dksX6_layFog_3 5 rfl rfl)
theorem dX6_layFog_76 : decode cX6_layFog 76 = .ok (.i2l, 1) := dk_133 (dk_at dksX6_layFog_3 6 rfl rfl)
theorem dX6_layFog_77 : decode cX6_layFog 77 = .ok (.lmul, 1) := dk_105 (dk_at dksX6_layFog_3 7 rfl rfl)
theorem dX6_layFog_78 : decode cX6_layFog 78 = .ok (.lstore 4, 2) := dk_55 4 (dk_at dksX6_layFog_3 8 rfl rfl)
theorem dX6_layFog_80 : decode cX6_layFog 80 = .ok (.iinc 6 1, 3) := dk_132 6 1 (dk_at dksX6_layFog_3 10 rfl rfl)
theorem dX6_layFog_83 : decode cX6_layFog 83 = .ok (.goto (-44), 3) := dk_167 255 212 (dk_at dksX6_layFog_3 13 rfl rfl)
theorem dX6_layFog_86 : decode cX6_layFog 86 = .ok (.lload 4, 2) := dk_22 4 (dk_at dksX6_layFog_3 16 rfl rfl)
theorem dX6_layFog_88 : decode cX6_layFog 88 = .ok (.lconst 0, 1) := dk_9 (dk_at dksX6_layFog_3 18 rfl rfl)
theorem dX6_layFog_89 : decode cX6_layFog 89 = .ok (.lcmp, 1) := dk_148 (dk_at dksX6_layFog_3 19 rfl rfl)
theorem dX6_layFog_90 : decode cX6_layFog 90 = .ok (.ifCond .ne 6, 3) := dk_154 0 6 (dk_at dksX6_layFog_3 20 rfl rfl)
theorem dX6_layFog_93 : decode cX6_layFog 93 = .ok (.goto 70, 3) := dk_167 0 70 (dk_at dksX6_layFog_4 0 rfl rfl)
theorem dX6_layFog_96 : decode cX6_layFog 96 = .ok (.aload_n 0, 1) := dk_42 (dk_at dksX6_layFog_4 3 rfl rfl)
theorem dX6_layFog_97 : decode cX6_layFog 97 = .ok (.aload_n 0, 1) := dk_42 (dk_at dksX6_layFog_4 4 rfl rfl)
theorem dX6_layFog_98 : decode cX6_layFog 98 = .ok (.invokevirtual 273, 3) := dk_182 1 17 (dk_at dksX6_layFog_4 5 rfl rfl)
theorem dX6_layFog_101 : decode cX6_layFog 101 = .ok (.iload_n 3, 1) := dk_29 (dk_at dksX6_layFog_4 8 rfl rfl)
theorem dX6_layFog_102 : decode cX6_layFog 102 = .ok (.iconst (-1), 1) := dk_2 (dk_at dksX6_layFog_4 9 rfl rfl)
theorem dX6_layFog_103 : decode cX6_layFog 103 = .ok (.ixor, 1) := dk_130 (dk_at dksX6_layFog_4 10 rfl rfl)
theorem dX6_layFog_104 : decode cX6_layFog 104 = .ok (.iand, 1) := dk_126 (dk_at dksX6_layFog_4 11 rfl rfl)
theorem dX6_layFog_105 : decode cX6_layFog 105 = .ok (.invokevirtual 460, 3) := dk_182 1 204 (dk_at dksX6_layFog_4 12 rfl rfl)
theorem dX6_layFog_108 : decode cX6_layFog 108 = .ok (.istore 6, 2) := dk_54 6 (dk_at dksX6_layFog_4 15 rfl rfl)
theorem dX6_layFog_110 : decode cX6_layFog 110 = .ok (.aload_n 0, 1) := dk_42 (dk_at dksX6_layFog_4 17 rfl rfl)
theorem dX6_layFog_111 : decode cX6_layFog 111 = .ok (.dup, 1) := dk_89 (dk_at dksX6_layFog_4 18 rfl rfl)
theorem dX6_layFog_112 : decode cX6_layFog 112 = .ok (.getfield 486, 3) := dk_180 1 230 (dk_at dksX6_layFog_4 19 rfl rfl)
theorem dX6_layFog_115 : decode cX6_layFog 115 = .ok (.lload 4, 2) := dk_22 4 (dk_at dksX6_layFog_4 22 rfl rfl)
theorem dX6_layFog_117 : decode cX6_layFog 117 = .ok (.ladd, 1) := dk_97 (dk_at dksX6_layFog_5 0 rfl rfl)
theorem dX6_layFog_118 : decode cX6_layFog 118 = .ok (.putfield 486, 3) := dk_181 1 230 (dk_at dksX6_layFog_5 1 rfl rfl)
theorem dX6_layFog_121 : decode cX6_layFog 121 = .ok (.aload_n 0, 1) := dk_42 (dk_at dksX6_layFog_5 4 rfl rfl)
theorem dX6_layFog_122 : decode cX6_layFog 122 = .ok (.dup, 1) := dk_89 (dk_at dksX6_layFog_5 5 rfl rfl)
theorem dX6_layFog_123 : decode cX6_layFog 123 = .ok (.getfield 490, 3) := dk_180 1 234 (dk_at dksX6_layFog_5 6 rfl rfl)
theorem dX6_layFog_126 : decode cX6_layFog 126 = .ok (.aload_n 0, 1) := dk_42 (dk_at dksX6_layFog_5 9 rfl rfl)
theorem dX6_layFog_127 : decode cX6_layFog 127 = .ok (.iload_n 1, 1) := dk_27 (dk_at dksX6_layFog_5 10 rfl rfl)
theorem dX6_layFog_128 : decode cX6_layFog 128 = .ok (.aload_n 0, 1) := dk_42 (dk_at dksX6_layFog_5 11 rfl rfl)
theorem dX6_layFog_129 : decode cX6_layFog 129 = .ok (.invokevirtual 118, 3) := dk_182 0 118 (dk_at dksX6_layFog_5 12 rfl rfl)
theorem dX6_layFog_132 : decode cX6_layFog 132 = .ok (.invokevirtual 386, 3) := dk_182 1 130 (dk_at dksX6_layFog_5 15 rfl rfl)
theorem dX6_layFog_135 : decode cX6_layFog 135 = .ok (.ifCond .eq 8, 3) := dk_153 0 8 (dk_at dksX6_layFog_5 18 rfl rfl)
theorem dX6_layFog_138 : decode cX6_layFog 138 = .ok (.lload 4, 2) := dk_22 4 (dk_at dksX6_layFog_5 21 rfl rfl)
theorem dX6_layFog_140 : decode cX6_layFog 140 = .ok (.goto 4, 3) := dk_167 0 4 (dk_at dksX6_layFog_6 0 rfl rfl)
theorem dX6_layFog_143 : decode cX6_layFog 143 = .ok (.lconst 0, 1) := dk_9 (dk_at dksX6_layFog_6 3 rfl rfl)
theorem dX6_layFog_144 : decode cX6_layFog 144 = .ok (.ladd, 1) := dk_97 (dk_at dksX6_layFog_6 4 rfl rfl)
theorem dX6_layFog_145 : decode cX6_layFog 145 = .ok (.putfield 490, 3) := dk_181 1 234 (dk_at dksX6_layFog_6 5 rfl rfl)
theorem dX6_layFog_148 : decode cX6_layFog 148 = .ok (.aload_n 0, 1) := dk_42 (dk_at dksX6_layFog_6 8 rfl rfl)
theorem dX6_layFog_149 : decode cX6_layFog 149 = .ok (.dup, 1) := dk_89 (dk_at dksX6_layFog_6 9 rfl rfl)
theorem dX6_layFog_150 : decode cX6_layFog 150 = .ok (.getfield 493, 3) := dk_180 1 237 (dk_at dksX6_layFog_6 10 rfl rfl)
theorem dX6_layFog_153 : decode cX6_layFog 153 = .ok (.lload 4, 2) := dk_22 4 (dk_at dksX6_layFog_6 13 rfl rfl)
theorem dX6_layFog_155 : decode cX6_layFog 155 = .ok (.iload 6, 2) := dk_21 6 (dk_at dksX6_layFog_6 15 rfl rfl)
theorem dX6_layFog_157 : decode cX6_layFog 157 = .ok (.i2l, 1) := dk_133 (dk_at dksX6_layFog_6 17 rfl rfl)
theorem dX6_layFog_158 : decode cX6_layFog 158 = .ok (.lmul, 1) := dk_105 (dk_at dksX6_layFog_6 18 rfl rfl)
theorem dX6_layFog_159 : decode cX6_layFog 159 = .ok (.ladd, 1) := dk_97 (dk_at dksX6_layFog_6 19 rfl rfl)
theorem dX6_layFog_160 : decode cX6_layFog 160 = .ok (.putfield 493, 3) := dk_181 1 237 (dk_at dksX6_layFog_6 20 rfl rfl)
theorem dX6_layFog_163 : decode cX6_layFog 163 = .ok (.iinc 3 1, 3) := dk_132 3 1 (dk_at dksX6_layFog_7 0 rfl rfl)
theorem dX6_layFog_166 : decode cX6_layFog 166 = .ok (.goto (-140), 3) := dk_167 255 116 (dk_at dksX6_layFog_7 3 rfl rfl)
theorem dX6_layFog_169 : decode cX6_layFog 169 = .ok (.return_, 1) := dk_177 (dk_at dksX6_layFog_7 6 rfl rfl)
abbrev cX6_mean : ByteArray := prog_12_method_143_code
def yX6_mean : MethodName := ⟨RX6, "mean", "(I)J"⟩
def dkwX6_mean_1 : List UInt8 := [182, 1, 242, 42, 180, 1, 237, 42, 180, 1, 230, 27, 184, 1, 219, 173]
abbrev dktX6_mean_1 : List UInt8 := dkwX6_mean_1 ++ []
def dkwX6_mean_0 : List UInt8 := [42, 182, 0, 114, 153, 0, 13, 27, 133, 9, 10, 184, 0, 106, 154, 0, 7, 20, 1, 240, 173, 42, 3]
abbrev dktX6_mean_0 : List UInt8 := dkwX6_mean_0 ++ dktX6_mean_1
theorem dksX6_mean_0 : cX6_mean.data.toList.drop 0 = dktX6_mean_0 := by decide +kernel
theorem dksX6_mean_1 : cX6_mean.data.toList.drop 23 = dktX6_mean_1 := dk_seg dksX6_mean_0 23 rfl rfl
theorem dX6_mean_0 : decode cX6_mean 0 = .ok (.aload_n 0, 1) := dk_42 (dk_at dksX6_mean_0 0 rfl rfl)
theorem dX6_mean_1 : decode cX6_mean 1 = .ok (.invokevirtual 114, 3) := dk_182 0 114 (dk_at dksX6_mean_0 1 rfl rfl)
theorem dX6_mean_4 : decode cX6_mean 4 = .ok (.ifCond .eq 13, 3) := dk_153 0 13 (dk_at dksX6_mean_0 4 rfl rfl)
theorem dX6_mean_7 : decode cX6_mean 7 = .ok (.iload_n 1, 1) := dk_27 (dk_at dksX6_mean_0 7 rfl rfl)
theorem dX6_mean_8 : decode cX6_mean 8 = .ok (.i2l, 1) := dk_133 (dk_at dksX6_mean_0 8 rfl rfl)
theorem dX6_mean_9 : decode cX6_mean 9 = .ok (.lconst 0, 1) := dk_9 (dk_at dksX6_mean_0 9 rfl rfl)
theorem dX6_mean_10 : decode cX6_mean 10 = .ok (.lconst 1, 1) := dk_10 (dk_at dksX6_mean_0 10 rfl rfl)
theorem dX6_mean_11 : decode cX6_mean 11 = .ok (.invokestatic 106, 3) := dk_184 0 106 (dk_at dksX6_mean_0 11 rfl rfl)
theorem dX6_mean_14 : decode cX6_mean 14 = .ok (.ifCond .ne 7, 3) := dk_154 0 7 (dk_at dksX6_mean_0 14 rfl rfl)
theorem dX6_mean_17 : decode cX6_mean 17 = .ok (.ldc2_w 496, 3) := dk_20 1 240 (dk_at dksX6_mean_0 17 rfl rfl)
theorem dX6_mean_20 : decode cX6_mean 20 = .ok (.lreturn, 1) := dk_173 (dk_at dksX6_mean_0 20 rfl rfl)
theorem dX6_mean_21 : decode cX6_mean 21 = .ok (.aload_n 0, 1) := dk_42 (dk_at dksX6_mean_0 21 rfl rfl)
theorem dX6_mean_22 : decode cX6_mean 22 = .ok (.iconst 0, 1) := dk_3 (dk_at dksX6_mean_0 22 rfl rfl)
theorem dX6_mean_23 : decode cX6_mean 23 = .ok (.invokevirtual 498, 3) := dk_182 1 242 (dk_at dksX6_mean_1 0 rfl rfl)
theorem dX6_mean_26 : decode cX6_mean 26 = .ok (.aload_n 0, 1) := dk_42 (dk_at dksX6_mean_1 3 rfl rfl)
theorem dX6_mean_27 : decode cX6_mean 27 = .ok (.getfield 493, 3) := dk_180 1 237 (dk_at dksX6_mean_1 4 rfl rfl)
theorem dX6_mean_30 : decode cX6_mean 30 = .ok (.aload_n 0, 1) := dk_42 (dk_at dksX6_mean_1 7 rfl rfl)
theorem dX6_mean_31 : decode cX6_mean 31 = .ok (.getfield 486, 3) := dk_180 1 230 (dk_at dksX6_mean_1 8 rfl rfl)
theorem dX6_mean_34 : decode cX6_mean 34 = .ok (.iload_n 1, 1) := dk_27 (dk_at dksX6_mean_1 11 rfl rfl)
theorem dX6_mean_35 : decode cX6_mean 35 = .ok (.invokestatic 475, 3) := dk_184 1 219 (dk_at dksX6_mean_1 12 rfl rfl)
theorem dX6_mean_38 : decode cX6_mean 38 = .ok (.lreturn, 1) := dk_173 (dk_at dksX6_mean_1 15 rfl rfl)
abbrev cX6_bridge : ByteArray := prog_12_method_145_code
def yX6_bridge : MethodName := ⟨RX6, "bridge", "(I)I"⟩
def dkwX6_bridge_0 : List UInt8 := [42, 27, 133, 182, 1, 54, 153, 0, 11, 42, 27, 182, 1, 245, 167, 0, 5, 16, 254, 172]
abbrev dktX6_bridge_0 : List UInt8 := dkwX6_bridge_0 ++ []
theorem dksX6_bridge_0 : cX6_bridge.data.toList.drop 0 = dktX6_bridge_0 := by decide +kernel
theorem dX6_bridge_0 : decode cX6_bridge 0 = .ok (.aload_n 0, 1) := dk_42 (dk_at dksX6_bridge_0 0 rfl rfl)
theorem dX6_bridge_1 : decode cX6_bridge 1 = .ok (.iload_n 1, 1) := dk_27 (dk_at dksX6_bridge_0 1 rfl rfl)
theorem dX6_bridge_2 : decode cX6_bridge 2 = .ok (.i2l, 1) := dk_133 (dk_at dksX6_bridge_0 2 rfl rfl)
theorem dX6_bridge_3 : decode cX6_bridge 3 = .ok (.invokevirtual 310, 3) := dk_182 1 54 (dk_at dksX6_bridge_0 3 rfl rfl)
theorem dX6_bridge_6 : decode cX6_bridge 6 = .ok (.ifCond .eq 11, 3) := dk_153 0 11 (dk_at dksX6_bridge_0 6 rfl rfl)
theorem dX6_bridge_9 : decode cX6_bridge 9 = .ok (.aload_n 0, 1) := dk_42 (dk_at dksX6_bridge_0 9 rfl rfl)
theorem dX6_bridge_10 : decode cX6_bridge 10 = .ok (.iload_n 1, 1) := dk_27 (dk_at dksX6_bridge_0 10 rfl rfl)
theorem dX6_bridge_11 : decode cX6_bridge 11 = .ok (.invokevirtual 501, 3) := dk_182 1 245 (dk_at dksX6_bridge_0 11 rfl rfl)
theorem dX6_bridge_14 : decode cX6_bridge 14 = .ok (.goto 5, 3) := dk_167 0 5 (dk_at dksX6_bridge_0 14 rfl rfl)
theorem dX6_bridge_17 : decode cX6_bridge 17 = .ok (.bipush (-2), 2) := dk_16 254 (dk_at dksX6_bridge_0 17 rfl rfl)
theorem dX6_bridge_19 : decode cX6_bridge 19 = .ok (.ireturn, 1) := dk_172 (dk_at dksX6_bridge_0 19 rfl rfl)
abbrev cX6_keepAct : ByteArray := prog_12_method_144_code
def yX6_keepAct : MethodName := ⟨RX6, "keepAct", "(I)I"⟩
def dkwX6_keepAct_2 : List UInt8 := [87, 42, 182, 1, 163, 172]
abbrev dktX6_keepAct_2 : List UInt8 := dkwX6_keepAct_2 ++ []
def dkwX6_keepAct_1 : List UInt8 := [180, 0, 9, 16, 8, 46, 96, 27, 79, 42, 180, 0, 9, 16, 8, 92, 46, 4, 96, 79, 42, 182, 1, 79]
abbrev dktX6_keepAct_1 : List UInt8 := dkwX6_keepAct_1 ++ dktX6_keepAct_2
def dkwX6_keepAct_0 : List UInt8 := [42, 180, 0, 9, 16, 8, 46, 16, 30, 160, 0, 6, 16, 251, 172, 42, 180, 0, 9, 16, 119, 42]
abbrev dktX6_keepAct_0 : List UInt8 := dkwX6_keepAct_0 ++ dktX6_keepAct_1
theorem dksX6_keepAct_0 : cX6_keepAct.data.toList.drop 0 = dktX6_keepAct_0 := by decide +kernel
theorem dksX6_keepAct_1 : cX6_keepAct.data.toList.drop 22 = dktX6_keepAct_1 := dk_seg dksX6_keepAct_0 22 rfl rfl
theorem dksX6_keepAct_2 : cX6_keepAct.data.toList.drop 46 = dktX6_keepAct_2 := dk_seg dksX6_keepAct_1 24 rfl rfl
theorem dX6_keepAct_0 : decode cX6_keepAct 0 = .ok (.aload_n 0, 1) := dk_42 (dk_at dksX6_keepAct_0 0 rfl rfl)
theorem dX6_keepAct_1 : decode cX6_keepAct 1 = .ok (.getfield 9, 3) := dk_180 0 9 (dk_at dksX6_keepAct_0 1 rfl rfl)
theorem dX6_keepAct_4 : decode cX6_keepAct 4 = .ok (.bipush 8, 2) := dk_16 8 (dk_at dksX6_keepAct_0 4 rfl rfl)
theorem dX6_keepAct_6 : decode cX6_keepAct 6 = .ok (.iaload, 1) := dk_46 (dk_at dksX6_keepAct_0 6 rfl rfl)
theorem dX6_keepAct_7 : decode cX6_keepAct 7 = .ok (.bipush 30, 2) := dk_16 30 (dk_at dksX6_keepAct_0 7 rfl rfl)
theorem dX6_keepAct_9 : decode cX6_keepAct 9 = .ok (.if_icmp .ne 6, 3) := dk_160 0 6 (dk_at dksX6_keepAct_0 9 rfl rfl)
theorem dX6_keepAct_12 : decode cX6_keepAct 12 = .ok (.bipush (-5), 2) := dk_16 251 (dk_at dksX6_keepAct_0 12 rfl rfl)
theorem dX6_keepAct_14 : decode cX6_keepAct 14 = .ok (.ireturn, 1) := dk_172 (dk_at dksX6_keepAct_0 14 rfl rfl)
theorem dX6_keepAct_15 : decode cX6_keepAct 15 = .ok (.aload_n 0, 1) := dk_42 (dk_at dksX6_keepAct_0 15 rfl rfl)
theorem dX6_keepAct_16 : decode cX6_keepAct 16 = .ok (.getfield 9, 3) := dk_180 0 9 (dk_at dksX6_keepAct_0 16 rfl rfl)
theorem dX6_keepAct_19 : decode cX6_keepAct 19 = .ok (.bipush 119, 2) := dk_16 119 (dk_at dksX6_keepAct_0 19 rfl rfl)
theorem dX6_keepAct_21 : decode cX6_keepAct 21 = .ok (.aload_n 0, 1) := dk_42 (dk_at dksX6_keepAct_0 21 rfl rfl)
theorem dX6_keepAct_22 : decode cX6_keepAct 22 = .ok (.getfield 9, 3) := dk_180 0 9 (dk_at dksX6_keepAct_1 0 rfl rfl)
theorem dX6_keepAct_25 : decode cX6_keepAct 25 = .ok (.bipush 8, 2) := dk_16 8 (dk_at dksX6_keepAct_1 3 rfl rfl)
theorem dX6_keepAct_27 : decode cX6_keepAct 27 = .ok (.iaload, 1) := dk_46 (dk_at dksX6_keepAct_1 5 rfl rfl)
theorem dX6_keepAct_28 : decode cX6_keepAct 28 = .ok (.iadd, 1) := dk_96 (dk_at dksX6_keepAct_1 6 rfl rfl)
theorem dX6_keepAct_29 : decode cX6_keepAct 29 = .ok (.iload_n 1, 1) := dk_27 (dk_at dksX6_keepAct_1 7 rfl rfl)
theorem dX6_keepAct_30 : decode cX6_keepAct 30 = .ok (.iastore, 1) := dk_79 (dk_at dksX6_keepAct_1 8 rfl rfl)
theorem dX6_keepAct_31 : decode cX6_keepAct 31 = .ok (.aload_n 0, 1) := dk_42 (dk_at dksX6_keepAct_1 9 rfl rfl)
theorem dX6_keepAct_32 : decode cX6_keepAct 32 = .ok (.getfield 9, 3) := dk_180 0 9 (dk_at dksX6_keepAct_1 10 rfl rfl)
theorem dX6_keepAct_35 : decode cX6_keepAct 35 = .ok (.bipush 8, 2) := dk_16 8 (dk_at dksX6_keepAct_1 13 rfl rfl)
theorem dX6_keepAct_37 : decode cX6_keepAct 37 = .ok (.dup2, 1) := dk_92 (dk_at dksX6_keepAct_1 15 rfl rfl)
theorem dX6_keepAct_38 : decode cX6_keepAct 38 = .ok (.iaload, 1) := dk_46 (dk_at dksX6_keepAct_1 16 rfl rfl)
theorem dX6_keepAct_39 : decode cX6_keepAct 39 = .ok (.iconst 1, 1) := dk_4 (dk_at dksX6_keepAct_1 17 rfl rfl)
theorem dX6_keepAct_40 : decode cX6_keepAct 40 = .ok (.iadd, 1) := dk_96 (dk_at dksX6_keepAct_1 18 rfl rfl)
theorem dX6_keepAct_41 : decode cX6_keepAct 41 = .ok (.iastore, 1) := dk_79 (dk_at dksX6_keepAct_1 19 rfl rfl)
theorem dX6_keepAct_42 : decode cX6_keepAct 42 = .ok (.aload_n 0, 1) := dk_42 (dk_at dksX6_keepAct_1 20 rfl rfl)
theorem dX6_keepAct_43 : decode cX6_keepAct 43 = .ok (.invokevirtual 335, 3) := dk_182 1 79 (dk_at dksX6_keepAct_1 21 rfl rfl)
theorem dX6_keepAct_46 : decode cX6_keepAct 46 = .ok (.pop, 1) := dk_87 (dk_at dksX6_keepAct_2 0 rfl rfl)
theorem dX6_keepAct_47 : decode cX6_keepAct 47 = .ok (.aload_n 0, 1) := dk_42 (dk_at dksX6_keepAct_2 1 rfl rfl)
theorem dX6_keepAct_48 : decode cX6_keepAct 48 = .ok (.invokevirtual 419, 3) := dk_182 1 163 (dk_at dksX6_keepAct_2 2 rfl rfl)
theorem dX6_keepAct_51 : decode cX6_keepAct 51 = .ok (.ireturn, 1) := dk_172 (dk_at dksX6_keepAct_2 5 rfl rfl)
abbrev cX6_keeps : ByteArray := prog_12_method_146_code
def yX6_keeps : MethodName := ⟨RX6, "keeps", "(I)I"⟩
def dkwX6_keeps_0 : List UInt8 := [42, 27, 133, 182, 1, 5, 153, 0, 15, 42, 17, 3, 232, 27, 96, 182, 1, 245, 167, 0, 5, 16, 254, 172]
abbrev dktX6_keeps_0 : List UInt8 := dkwX6_keeps_0 ++ []
theorem dksX6_keeps_0 : cX6_keeps.data.toList.drop 0 = dktX6_keeps_0 := by decide +kernel
theorem dX6_keeps_0 : decode cX6_keeps 0 = .ok (.aload_n 0, 1) := dk_42 (dk_at dksX6_keeps_0 0 rfl rfl)
theorem dX6_keeps_1 : decode cX6_keeps 1 = .ok (.iload_n 1, 1) := dk_27 (dk_at dksX6_keeps_0 1 rfl rfl)
theorem dX6_keeps_2 : decode cX6_keeps 2 = .ok (.i2l, 1) := dk_133 (dk_at dksX6_keeps_0 2 rfl rfl)
theorem dX6_keeps_3 : decode cX6_keeps 3 = .ok (.invokevirtual 261, 3) := dk_182 1 5 (dk_at dksX6_keeps_0 3 rfl rfl)
theorem dX6_keeps_6 : decode cX6_keeps 6 = .ok (.ifCond .eq 15, 3) := dk_153 0 15 (dk_at dksX6_keeps_0 6 rfl rfl)
theorem dX6_keeps_9 : decode cX6_keeps 9 = .ok (.aload_n 0, 1) := dk_42 (dk_at dksX6_keeps_0 9 rfl rfl)
theorem dX6_keeps_10 : decode cX6_keeps 10 = .ok (.sipush 1000, 3) := dk_17 3 232 (dk_at dksX6_keeps_0 10 rfl rfl)
theorem dX6_keeps_13 : decode cX6_keeps 13 = .ok (.iload_n 1, 1) := dk_27 (dk_at dksX6_keeps_0 13 rfl rfl)
theorem dX6_keeps_14 : decode cX6_keeps 14 = .ok (.iadd, 1) := dk_96 (dk_at dksX6_keeps_0 14 rfl rfl)
theorem dX6_keeps_15 : decode cX6_keeps 15 = .ok (.invokevirtual 501, 3) := dk_182 1 245 (dk_at dksX6_keeps_0 15 rfl rfl)
theorem dX6_keeps_18 : decode cX6_keeps 18 = .ok (.goto 5, 3) := dk_167 0 5 (dk_at dksX6_keeps_0 18 rfl rfl)
theorem dX6_keeps_21 : decode cX6_keeps 21 = .ok (.bipush (-2), 2) := dk_16 254 (dk_at dksX6_keeps_0 21 rfl rfl)
theorem dX6_keeps_23 : decode cX6_keeps 23 = .ok (.ireturn, 1) := dk_172 (dk_at dksX6_keeps_0 23 rfl rfl)
abbrev cX6_undo : ByteArray := prog_12_method_147_code
def yX6_undo : MethodName := ⟨RX6, "undo", "()I"⟩
def dkwX6_undo_1 : List UInt8 := [180, 0, 9, 16, 8, 92, 46, 4, 100, 79, 42, 180, 0, 9, 16, 8, 46, 172]
abbrev dktX6_undo_1 : List UInt8 := dkwX6_undo_1 ++ []
def dkwX6_undo_0 : List UInt8 := [42, 182, 0, 114, 154, 0, 6, 16, 254, 172, 42, 180, 0, 9, 16, 8, 46, 154, 0, 6, 16, 251, 172, 42]
abbrev dktX6_undo_0 : List UInt8 := dkwX6_undo_0 ++ dktX6_undo_1
theorem dksX6_undo_0 : cX6_undo.data.toList.drop 0 = dktX6_undo_0 := by decide +kernel
theorem dksX6_undo_1 : cX6_undo.data.toList.drop 24 = dktX6_undo_1 := dk_seg dksX6_undo_0 24 rfl rfl
theorem dX6_undo_0 : decode cX6_undo 0 = .ok (.aload_n 0, 1) := dk_42 (dk_at dksX6_undo_0 0 rfl rfl)
theorem dX6_undo_1 : decode cX6_undo 1 = .ok (.invokevirtual 114, 3) := dk_182 0 114 (dk_at dksX6_undo_0 1 rfl rfl)
theorem dX6_undo_4 : decode cX6_undo 4 = .ok (.ifCond .ne 6, 3) := dk_154 0 6 (dk_at dksX6_undo_0 4 rfl rfl)
theorem dX6_undo_7 : decode cX6_undo 7 = .ok (.bipush (-2), 2) := dk_16 254 (dk_at dksX6_undo_0 7 rfl rfl)
theorem dX6_undo_9 : decode cX6_undo 9 = .ok (.ireturn, 1) := dk_172 (dk_at dksX6_undo_0 9 rfl rfl)
theorem dX6_undo_10 : decode cX6_undo 10 = .ok (.aload_n 0, 1) := dk_42 (dk_at dksX6_undo_0 10 rfl rfl)
theorem dX6_undo_11 : decode cX6_undo 11 = .ok (.getfield 9, 3) := dk_180 0 9 (dk_at dksX6_undo_0 11 rfl rfl)
theorem dX6_undo_14 : decode cX6_undo 14 = .ok (.bipush 8, 2) := dk_16 8 (dk_at dksX6_undo_0 14 rfl rfl)
theorem dX6_undo_16 : decode cX6_undo 16 = .ok (.iaload, 1) := dk_46 (dk_at dksX6_undo_0 16 rfl rfl)
theorem dX6_undo_17 : decode cX6_undo 17 = .ok (.ifCond .ne 6, 3) := dk_154 0 6 (dk_at dksX6_undo_0 17 rfl rfl)
theorem dX6_undo_20 : decode cX6_undo 20 = .ok (.bipush (-5), 2) := dk_16 251 (dk_at dksX6_undo_0 20 rfl rfl)
theorem dX6_undo_22 : decode cX6_undo 22 = .ok (.ireturn, 1) := dk_172 (dk_at dksX6_undo_0 22 rfl rfl)
theorem dX6_undo_23 : decode cX6_undo 23 = .ok (.aload_n 0, 1) := dk_42 (dk_at dksX6_undo_0 23 rfl rfl)
theorem dX6_undo_24 : decode cX6_undo 24 = .ok (.getfield 9, 3) := dk_180 0 9 (dk_at dksX6_undo_1 0 rfl rfl)
theorem dX6_undo_27 : decode cX6_undo 27 = .ok (.bipush 8, 2) := dk_16 8 (dk_at dksX6_undo_1 3 rfl rfl)
theorem dX6_undo_29 : decode cX6_undo 29 = .ok (.dup2, 1) := dk_92 (dk_at dksX6_undo_1 5 rfl rfl)
theorem dX6_undo_30 : decode cX6_undo 30 = .ok (.iaload, 1) := dk_46 (dk_at dksX6_undo_1 6 rfl rfl)
theorem dX6_undo_31 : decode cX6_undo 31 = .ok (.iconst 1, 1) := dk_4 (dk_at dksX6_undo_1 7 rfl rfl)
theorem dX6_undo_32 : decode cX6_undo 32 = .ok (.isub, 1) := dk_100 (dk_at dksX6_undo_1 8 rfl rfl)
theorem dX6_undo_33 : decode cX6_undo 33 = .ok (.iastore, 1) := dk_79 (dk_at dksX6_undo_1 9 rfl rfl)
theorem dX6_undo_34 : decode cX6_undo 34 = .ok (.aload_n 0, 1) := dk_42 (dk_at dksX6_undo_1 10 rfl rfl)
theorem dX6_undo_35 : decode cX6_undo 35 = .ok (.getfield 9, 3) := dk_180 0 9 (dk_at dksX6_undo_1 11 rfl rfl)
theorem dX6_undo_38 : decode cX6_undo 38 = .ok (.bipush 8, 2) := dk_16 8 (dk_at dksX6_undo_1 14 rfl rfl)
theorem dX6_undo_40 : decode cX6_undo 40 = .ok (.iaload, 1) := dk_46 (dk_at dksX6_undo_1 16 rfl rfl)
theorem dX6_undo_41 : decode cX6_undo 41 = .ok (.ireturn, 1) := dk_172 (dk_at dksX6_undo_1 17 rfl rfl)
abbrev cX6_anew : ByteArray := prog_12_method_148_code
def yX6_anew : MethodName := ⟨RX6, "anew", "()I"⟩
def dkwX6_anew_1 : List UInt8 := [3, 79, 27, 172]
abbrev dktX6_anew_1 : List UInt8 := dkwX6_anew_1 ++ []
def dkwX6_anew_0 : List UInt8 := [42, 182, 0, 114, 154, 0, 6, 16, 254, 172, 42, 180, 0, 9, 16, 8, 46, 60, 42, 180, 0, 9, 16, 8]
abbrev dktX6_anew_0 : List UInt8 := dkwX6_anew_0 ++ dktX6_anew_1
theorem dksX6_anew_0 : cX6_anew.data.toList.drop 0 = dktX6_anew_0 := by decide +kernel
theorem dksX6_anew_1 : cX6_anew.data.toList.drop 24 = dktX6_anew_1 := dk_seg dksX6_anew_0 24 rfl rfl
theorem dX6_anew_0 : decode cX6_anew 0 = .ok (.aload_n 0, 1) := dk_42 (dk_at dksX6_anew_0 0 rfl rfl)
theorem dX6_anew_1 : decode cX6_anew 1 = .ok (.invokevirtual 114, 3) := dk_182 0 114 (dk_at dksX6_anew_0 1 rfl rfl)
theorem dX6_anew_4 : decode cX6_anew 4 = .ok (.ifCond .ne 6, 3) := dk_154 0 6 (dk_at dksX6_anew_0 4 rfl rfl)
theorem dX6_anew_7 : decode cX6_anew 7 = .ok (.bipush (-2), 2) := dk_16 254 (dk_at dksX6_anew_0 7 rfl rfl)
theorem dX6_anew_9 : decode cX6_anew 9 = .ok (.ireturn, 1) := dk_172 (dk_at dksX6_anew_0 9 rfl rfl)
theorem dX6_anew_10 : decode cX6_anew 10 = .ok (.aload_n 0, 1) := dk_42 (dk_at dksX6_anew_0 10 rfl rfl)
theorem dX6_anew_11 : decode cX6_anew 11 = .ok (.getfield 9, 3) := dk_180 0 9 (dk_at dksX6_anew_0 11 rfl rfl)
theorem dX6_anew_14 : decode cX6_anew 14 = .ok (.bipush 8, 2) := dk_16 8 (dk_at dksX6_anew_0 14 rfl rfl)
theorem dX6_anew_16 : decode cX6_anew 16 = .ok (.iaload, 1) := dk_46 (dk_at dksX6_anew_0 16 rfl rfl)
theorem dX6_anew_17 : decode cX6_anew 17 = .ok (.istore_n 1, 1) := dk_60 (dk_at dksX6_anew_0 17 rfl rfl)
theorem dX6_anew_18 : decode cX6_anew 18 = .ok (.aload_n 0, 1) := dk_42 (dk_at dksX6_anew_0 18 rfl rfl)
theorem dX6_anew_19 : decode cX6_anew 19 = .ok (.getfield 9, 3) := dk_180 0 9 (dk_at dksX6_anew_0 19 rfl rfl)
theorem dX6_anew_22 : decode cX6_anew 22 = .ok (.bipush 8, 2) := dk_16 8 (dk_at dksX6_anew_0 22 rfl rfl)
theorem dX6_anew_24 : decode cX6_anew 24 = .ok (.iconst 0, 1) := dk_3 (dk_at dksX6_anew_1 0 rfl rfl)
theorem dX6_anew_25 : decode cX6_anew 25 = .ok (.iastore, 1) := dk_79 (dk_at dksX6_anew_1 1 rfl rfl)
theorem dX6_anew_26 : decode cX6_anew 26 = .ok (.iload_n 1, 1) := dk_27 (dk_at dksX6_anew_1 2 rfl rfl)
theorem dX6_anew_27 : decode cX6_anew 27 = .ok (.ireturn, 1) := dk_172 (dk_at dksX6_anew_1 3 rfl rfl)
abbrev cX6_drawn : ByteArray := prog_12_method_151_code
def yX6_drawn : MethodName := ⟨RX6, "drawn", "(II)I"⟩
def dkwX6_drawn_1 : List UInt8 := [16, 254, 172, 42, 27, 133, 182, 2, 5, 62, 28, 154, 0, 7, 29, 167, 0, 7, 42, 182, 1, 163, 172]
abbrev dktX6_drawn_1 : List UInt8 := dkwX6_drawn_1 ++ []
def dkwX6_drawn_0 : List UInt8 := [42, 182, 0, 114, 153, 0, 20, 27, 184, 2, 2, 153, 0, 13, 28, 133, 9, 10, 184, 0, 106, 154, 0, 6]
abbrev dktX6_drawn_0 : List UInt8 := dkwX6_drawn_0 ++ dktX6_drawn_1
theorem dksX6_drawn_0 : cX6_drawn.data.toList.drop 0 = dktX6_drawn_0 := by decide +kernel
theorem dksX6_drawn_1 : cX6_drawn.data.toList.drop 24 = dktX6_drawn_1 := dk_seg dksX6_drawn_0 24 rfl rfl
theorem dX6_drawn_0 : decode cX6_drawn 0 = .ok (.aload_n 0, 1) := dk_42 (dk_at dksX6_drawn_0 0 rfl rfl)
theorem dX6_drawn_1 : decode cX6_drawn 1 = .ok (.invokevirtual 114, 3) := dk_182 0 114 (dk_at dksX6_drawn_0 1 rfl rfl)
theorem dX6_drawn_4 : decode cX6_drawn 4 = .ok (.ifCond .eq 20, 3) := dk_153 0 20 (dk_at dksX6_drawn_0 4 rfl rfl)
theorem dX6_drawn_7 : decode cX6_drawn 7 = .ok (.iload_n 1, 1) := dk_27 (dk_at dksX6_drawn_0 7 rfl rfl)
theorem dX6_drawn_8 : decode cX6_drawn 8 = .ok (.invokestatic 514, 3) := dk_184 2 2 (dk_at dksX6_drawn_0 8 rfl rfl)
theorem dX6_drawn_11 : decode cX6_drawn 11 = .ok (.ifCond .eq 13, 3) := dk_153 0 13 (dk_at dksX6_drawn_0 11 rfl rfl)
theorem dX6_drawn_14 : decode cX6_drawn 14 = .ok (.iload_n 2, 1) := dk_28 (dk_at dksX6_drawn_0 14 rfl rfl)
theorem dX6_drawn_15 : decode cX6_drawn 15 = .ok (.i2l, 1) := dk_133 (dk_at dksX6_drawn_0 15 rfl rfl)
theorem dX6_drawn_16 : decode cX6_drawn 16 = .ok (.lconst 0, 1) := dk_9 (dk_at dksX6_drawn_0 16 rfl rfl)
theorem dX6_drawn_17 : decode cX6_drawn 17 = .ok (.lconst 1, 1) := dk_10 (dk_at dksX6_drawn_0 17 rfl rfl)
theorem dX6_drawn_18 : decode cX6_drawn 18 = .ok (.invokestatic 106, 3) := dk_184 0 106 (dk_at dksX6_drawn_0 18 rfl rfl)
theorem dX6_drawn_21 : decode cX6_drawn 21 = .ok (.ifCond .ne 6, 3) := dk_154 0 6 (dk_at dksX6_drawn_0 21 rfl rfl)
theorem dX6_drawn_24 : decode cX6_drawn 24 = .ok (.bipush (-2), 2) := dk_16 254 (dk_at dksX6_drawn_1 0 rfl rfl)
theorem dX6_drawn_26 : decode cX6_drawn 26 = .ok (.ireturn, 1) := dk_172 (dk_at dksX6_drawn_1 2 rfl rfl)
theorem dX6_drawn_27 : decode cX6_drawn 27 = .ok (.aload_n 0, 1) := dk_42 (dk_at dksX6_drawn_1 3 rfl rfl)
theorem dX6_drawn_28 : decode cX6_drawn 28 = .ok (.iload_n 1, 1) := dk_27 (dk_at dksX6_drawn_1 4 rfl rfl)
theorem dX6_drawn_29 : decode cX6_drawn 29 = .ok (.i2l, 1) := dk_133 (dk_at dksX6_drawn_1 5 rfl rfl)
theorem dX6_drawn_30 : decode cX6_drawn 30 = .ok (.invokevirtual 517, 3) := dk_182 2 5 (dk_at dksX6_drawn_1 6 rfl rfl)
theorem dX6_drawn_33 : decode cX6_drawn 33 = .ok (.istore_n 3, 1) := dk_62 (dk_at dksX6_drawn_1 9 rfl rfl)
theorem dX6_drawn_34 : decode cX6_drawn 34 = .ok (.iload_n 2, 1) := dk_28 (dk_at dksX6_drawn_1 10 rfl rfl)
theorem dX6_drawn_35 : decode cX6_drawn 35 = .ok (.ifCond .ne 7, 3) := dk_154 0 7 (dk_at dksX6_drawn_1 11 rfl rfl)
theorem dX6_drawn_38 : decode cX6_drawn 38 = .ok (.iload_n 3, 1) := dk_29 (dk_at dksX6_drawn_1 14 rfl rfl)
theorem dX6_drawn_39 : decode cX6_drawn 39 = .ok (.goto 7, 3) := dk_167 0 7 (dk_at dksX6_drawn_1 15 rfl rfl)
theorem dX6_drawn_42 : decode cX6_drawn 42 = .ok (.aload_n 0, 1) := dk_42 (dk_at dksX6_drawn_1 18 rfl rfl)
theorem dX6_drawn_43 : decode cX6_drawn 43 = .ok (.invokevirtual 419, 3) := dk_182 1 163 (dk_at dksX6_drawn_1 19 rfl rfl)
theorem dX6_drawn_46 : decode cX6_drawn 46 = .ok (.ireturn, 1) := dk_172 (dk_at dksX6_drawn_1 22 rfl rfl)
abbrev cX6_isSeed : ByteArray := prog_12_method_150_code
def yX6_isSeed : MethodName := ⟨RX6, "isSeed", "(I)Z"⟩
def dkwX6_isSeed_0 : List UInt8 := [26, 133, 9, 20, 2, 0, 184, 0, 106, 172]
abbrev dktX6_isSeed_0 : List UInt8 := dkwX6_isSeed_0 ++ []
theorem dksX6_isSeed_0 : cX6_isSeed.data.toList.drop 0 = dktX6_isSeed_0 := by decide +kernel
theorem dX6_isSeed_0 : decode cX6_isSeed 0 = .ok (.iload_n 0, 1) := dk_26 (dk_at dksX6_isSeed_0 0 rfl rfl)
theorem dX6_isSeed_1 : decode cX6_isSeed 1 = .ok (.i2l, 1) := dk_133 (dk_at dksX6_isSeed_0 1 rfl rfl)
theorem dX6_isSeed_2 : decode cX6_isSeed 2 = .ok (.lconst 0, 1) := dk_9 (dk_at dksX6_isSeed_0 2 rfl rfl)
theorem dX6_isSeed_3 : decode cX6_isSeed 3 = .ok (.ldc2_w 512, 3) := dk_20 2 0 (dk_at dksX6_isSeed_0 3 rfl rfl)
theorem dX6_isSeed_6 : decode cX6_isSeed 6 = .ok (.invokestatic 106, 3) := dk_184 0 106 (dk_at dksX6_isSeed_0 6 rfl rfl)
theorem dX6_isSeed_9 : decode cX6_isSeed 9 = .ok (.ireturn, 1) := dk_172 (dk_at dksX6_isSeed_0 9 rfl rfl)
abbrev cX6_goDrawn : ByteArray := prog_12_method_149_code
def yX6_goDrawn : MethodName := ⟨RX6, "goDrawn", "(J)I"⟩
def dkwX6_goDrawn_3 : List UInt8 := [167, 255, 197, 42, 42, 182, 1, 17, 21, 5, 2, 130, 126, 182, 1, 204, 87, 21, 5, 172]
abbrev dktX6_goDrawn_3 : List UInt8 := dkwX6_goDrawn_3 ++ []
def dkwX6_goDrawn_2 : List UInt8 := [180, 0, 9, 5, 46, 133, 148, 156, 0, 10, 4, 21, 6, 120, 167, 0, 4, 3, 128, 54, 5, 132, 6, 1]
abbrev dktX6_goDrawn_2 : List UInt8 := dkwX6_goDrawn_2 ++ dktX6_goDrawn_3
def dkwX6_goDrawn_1 : List UInt8 := [33, 105, 20, 1, 250, 97, 20, 1, 252, 113, 66, 21, 5, 33, 20, 1, 254, 109, 20, 0, 121, 113, 42]
abbrev dktX6_goDrawn_1 : List UInt8 := dkwX6_goDrawn_1 ++ dktX6_goDrawn_2
def dkwX6_goDrawn_0 : List UInt8 := [42, 182, 1, 201, 31, 66, 3, 54, 5, 3, 54, 6, 21, 6, 42, 182, 0, 110, 162, 0, 56, 20, 1, 248]
abbrev dktX6_goDrawn_0 : List UInt8 := dkwX6_goDrawn_0 ++ dktX6_goDrawn_1
theorem dksX6_goDrawn_0 : cX6_goDrawn.data.toList.drop 0 = dktX6_goDrawn_0 := by decide +kernel
theorem dksX6_goDrawn_1 : cX6_goDrawn.data.toList.drop 24 = dktX6_goDrawn_1 := dk_seg dksX6_goDrawn_0 24 rfl rfl
theorem dksX6_goDrawn_2 : cX6_goDrawn.data.toList.drop 47 = dktX6_goDrawn_2 := dk_seg dksX6_goDrawn_1 23 rfl rfl
theorem dksX6_goDrawn_3 : cX6_goDrawn.data.toList.drop 71 = dktX6_goDrawn_3 := dk_seg dksX6_goDrawn_2 24 rfl rfl
theorem dX6_goDrawn_0 : decode cX6_goDrawn 0 = .ok (.aload_n 0, 1) := dk_42 (dk_at dksX6_goDrawn_0 0 rfl rfl)
theorem dX6_goDrawn_1 : decode cX6_goDrawn 1 = .ok (.invokevirtual 457, 3) := dk_182 1 201 (dk_at dksX6_goDrawn_0 1 rfl rfl)
theorem dX6_goDrawn_4 : decode cX6_goDrawn 4 = .ok (.lload_n 1, 1) := dk_31 (dk_at dksX6_goDrawn_0 4 rfl rfl)
theorem dX6_goDrawn_5 : decode cX6_goDrawn 5 = .ok (.lstore_n 3, 1) := dk_66 (dk_at dksX6_goDrawn_0 5 rfl rfl)
theorem dX6_goDrawn_6 : decode cX6_goDrawn 6 = .ok (.iconst 0, 1) := dk_3 (dk_at dksX6_goDrawn_0 6 rfl rfl)
theorem dX6_goDrawn_7 : decode cX6_goDrawn 7 = .ok (.istore 5, 2) := dk_54 5 (dk_at dksX6_goDrawn_0 7 rfl rfl)
theorem dX6_goDrawn_9 : decode cX6_goDrawn 9 = .ok (.iconst 0, 1) := dk_3 (dk_at dksX6_goDrawn_0 9 rfl rfl)
theorem dX6_goDrawn_10 : decode cX6_goDrawn 10 = .ok (.istore 6, 2) := dk_54 6 (dk_at dksX6_goDrawn_0 10 rfl rfl)
theorem dX6_goDrawn_12 : decode cX6_goDrawn 12 = .ok (.iload 6, 2) := dk_21 6 (dk_at dksX6_goDrawn_0 12 rfl rfl)
theorem dX6_goDrawn_14 : decode cX6_goDrawn 14 = .ok (.aload_n 0, 1) := dk_42 (dk_at dksX6_goDrawn_0 14 rfl rfl)
theorem dX6_goDrawn_15 : decode cX6_goDrawn 15 = .ok (.invokevirtual 110, 3) := dk_182 0 110 (dk_at dksX6_goDrawn_0 15 rfl rfl)
theorem dX6_goDrawn_18 : decode cX6_goDrawn 18 = .ok (.if_icmp .ge 56, 3) := dk_162 0 56 (dk_at dksX6_goDrawn_0 18 rfl rfl)
theorem dX6_goDrawn_21 : decode cX6_goDrawn 21 = .ok (.ldc2_w 504, 3) := dk_20 1 248 (dk_at dksX6_goDrawn_0 21 rfl rfl)
theorem dX6_goDrawn_24 : decode cX6_goDrawn 24 = .ok (.lload_n 3, 1) := dk_33 (dk_at dksX6_goDrawn_1 0 rfl rfl)
theorem dX6_goDrawn_25 : decode cX6_goDrawn 25 = .ok (.lmul, 1) := dk_105 (dk_at dksX6_goDrawn_1 1 rfl rfl)
theorem dX6_goDrawn_26 : decode cX6_goDrawn 26 = .ok (.ldc2_w 506, 3) := dk_20 1 250 (dk_at dksX6_goDrawn_1 2 rfl rfl)
theorem dX6_goDrawn_29 : decode cX6_goDrawn 29 = .ok (.ladd, 1) := dk_97 (dk_at dksX6_goDrawn_1 5 rfl rfl)
theorem dX6_goDrawn_30 : decode cX6_goDrawn 30 = .ok (.ldc2_w 508, 3) := dk_20 1 252 (dk_at dksX6_goDrawn_1 6 rfl rfl)
theorem dX6_goDrawn_33 : decode cX6_goDrawn 33 = .ok (.lrem, 1) := dk_113 (dk_at dksX6_goDrawn_1 9 rfl rfl)
theorem dX6_goDrawn_34 : decode cX6_goDrawn 34 = .ok (.lstore_n 3, 1) := dk_66 (dk_at dksX6_goDrawn_1 10 rfl rfl)
theorem dX6_goDrawn_35 : decode cX6_goDrawn 35 = .ok (.iload 5, 2) := dk_21 5 (dk_at dksX6_goDrawn_1 11 rfl rfl)
theorem dX6_goDrawn_37 : decode cX6_goDrawn 37 = .ok (.lload_n 3, 1) := dk_33 (dk_at dksX6_goDrawn_1 13 rfl rfl)
theorem dX6_goDrawn_38 : decode cX6_goDrawn 38 = .ok (.ldc2_w 510, 3) := dk_20 1 254 (dk_at dksX6_goDrawn_1 14 rfl rfl)
theorem dX6_goDrawn_41 : decode cX6_goDrawn 41 = .ok (.ldiv, 1) := dk_109 (dk_at dksX6_goDrawn_1 17 rfl rfl)
theorem dX6_goDrawn_42 : decode cX6_goDrawn 42 = .ok (.ldc2_w 121, 3) := dk_20 0 121 (dk_at dksX6_goDrawn_1 18 rfl rfl)
theorem dX6_goDrawn_45 : decode cX6_goDrawn 45 = .ok (.lrem, 1) := dk_113 (dk_at dksX6_goDrawn_1 21 rfl rfl)
theorem dX6_goDrawn_46 : decode cX6_goDrawn 46 = .ok (.aload_n 0, 1) := dk_42 (dk_at dksX6_goDrawn_1 22 rfl rfl)
theorem dX6_goDrawn_47 : decode cX6_goDrawn 47 = .ok (.getfield 9, 3) := dk_180 0 9 (dk_at dksX6_goDrawn_2 0 rfl rfl)
theorem dX6_goDrawn_50 : decode cX6_goDrawn 50 = .ok (.iconst 2, 1) := dk_5 (dk_at dksX6_goDrawn_2 3 rfl rfl)
theorem dX6_goDrawn_51 : decode cX6_goDrawn 51 = .ok (.iaload, 1) := dk_46 (dk_at dksX6_goDrawn_2 4 rfl rfl)
theorem dX6_goDrawn_52 : decode cX6_goDrawn 52 = .ok (.i2l, 1) := dk_133 (dk_at dksX6_goDrawn_2 5 rfl rfl)
theorem dX6_goDrawn_53 : decode cX6_goDrawn 53 = .ok (.lcmp, 1) := dk_148 (dk_at dksX6_goDrawn_2 6 rfl rfl)
theorem dX6_goDrawn_54 : decode cX6_goDrawn 54 = .ok (.ifCond .ge 10, 3) := dk_156 0 10 (dk_at dksX6_goDrawn_2 7 rfl rfl)
theorem dX6_goDrawn_57 : decode cX6_goDrawn 57 = .ok (.iconst 1, 1) := dk_4 (dk_at dksX6_goDrawn_2 10 rfl rfl)
theorem dX6_goDrawn_58 : decode cX6_goDrawn 58 = .ok (.iload 6, 2) := dk_21 6 (dk_at dksX6_goDrawn_2 11 rfl rfl)
theorem dX6_goDrawn_60 : decode cX6_goDrawn 60 = .ok (.ishl, 1) := dk_120 (dk_at dksX6_goDrawn_2 13 rfl rfl)
theorem dX6_goDrawn_61 : decode cX6_goDrawn 61 = .ok (.goto 4, 3) := dk_167 0 4 (dk_at dksX6_goDrawn_2 14 rfl rfl)
theorem dX6_goDrawn_64 : decode cX6_goDrawn 64 = .ok (.iconst 0, 1) := dk_3 (dk_at dksX6_goDrawn_2 17 rfl rfl)
theorem dX6_goDrawn_65 : decode cX6_goDrawn 65 = .ok (.ior, 1) := dk_128 (dk_at dksX6_goDrawn_2 18 rfl rfl)
theorem dX6_goDrawn_66 : decode cX6_goDrawn 66 = .ok (.istore 5, 2) := dk_54 5 (dk_at dksX6_goDrawn_2 19 rfl rfl)
theorem dX6_goDrawn_68 : decode cX6_goDrawn 68 = .ok (.iinc 6 1, 3) := dk_132 6 1 (dk_at dksX6_goDrawn_2 21 rfl rfl)
theorem dX6_goDrawn_71 : decode cX6_goDrawn 71 = .ok (.goto (-59), 3) := dk_167 255 197 (dk_at dksX6_goDrawn_3 0 rfl rfl)
theorem dX6_goDrawn_74 : decode cX6_goDrawn 74 = .ok (.aload_n 0, 1) := dk_42 (dk_at dksX6_goDrawn_3 3 rfl rfl)
theorem dX6_goDrawn_75 : decode cX6_goDrawn 75 = .ok (.aload_n 0, 1) := dk_42 (dk_at dksX6_goDrawn_3 4 rfl rfl)
theorem dX6_goDrawn_76 : decode cX6_goDrawn 76 = .ok (.invokevirtual 273, 3) := dk_182 1 17 (dk_at dksX6_goDrawn_3 5 rfl rfl)
theorem dX6_goDrawn_79 : decode cX6_goDrawn 79 = .ok (.iload 5, 2) := dk_21 5 (dk_at dksX6_goDrawn_3 8 rfl rfl)
theorem dX6_goDrawn_81 : decode cX6_goDrawn 81 = .ok (.iconst (-1), 1) := dk_2 (dk_at dksX6_goDrawn_3 10 rfl rfl)
theorem dX6_goDrawn_82 : decode cX6_goDrawn 82 = .ok (.ixor, 1) := dk_130 (dk_at dksX6_goDrawn_3 11 rfl rfl)
theorem dX6_goDrawn_83 : decode cX6_goDrawn 83 = .ok (.iand, 1) := dk_126 (dk_at dksX6_goDrawn_3 12 rfl rfl)
theorem dX6_goDrawn_84 : decode cX6_goDrawn 84 = .ok (.invokevirtual 460, 3) := dk_182 1 204 (dk_at dksX6_goDrawn_3 13 rfl rfl)
theorem dX6_goDrawn_87 : decode cX6_goDrawn 87 = .ok (.pop, 1) := dk_87 (dk_at dksX6_goDrawn_3 16 rfl rfl)
theorem dX6_goDrawn_88 : decode cX6_goDrawn 88 = .ok (.iload 5, 2) := dk_21 5 (dk_at dksX6_goDrawn_3 17 rfl rfl)
theorem dX6_goDrawn_90 : decode cX6_goDrawn 90 = .ok (.ireturn, 1) := dk_172 (dk_at dksX6_goDrawn_3 19 rfl rfl)
abbrev cX6_luck : ByteArray := prog_12_method_152_code
def yX6_luck : MethodName := ⟨RX6, "luck", "(III)I"⟩
def dkwX6_luck_3 : List UInt8 := [167, 0, 4, 3, 96, 54, 4, 132, 5, 1, 167, 255, 214, 21, 4, 172]
abbrev dktX6_luck_3 : List UInt8 := dkwX6_luck_3 ++ []
def dkwX6_luck_2 : List UInt8 := [21, 5, 133, 97, 182, 2, 5, 87, 21, 4, 42, 29, 42, 182, 0, 118, 182, 1, 130, 153, 0, 7, 4]
abbrev dktX6_luck_2 : List UInt8 := dkwX6_luck_2 ++ dktX6_luck_3
def dkwX6_luck_1 : List UInt8 := [182, 1, 54, 154, 0, 6, 16, 254, 172, 3, 54, 4, 3, 54, 5, 21, 5, 28, 162, 0, 42, 42, 27, 133]
abbrev dktX6_luck_1 : List UInt8 := dkwX6_luck_1 ++ dktX6_luck_2
def dkwX6_luck_0 : List UInt8 := [27, 184, 2, 2, 153, 0, 24, 28, 133, 10, 20, 2, 9, 184, 0, 106, 153, 0, 12, 42, 29, 133]
abbrev dktX6_luck_0 : List UInt8 := dkwX6_luck_0 ++ dktX6_luck_1
theorem dksX6_luck_0 : cX6_luck.data.toList.drop 0 = dktX6_luck_0 := by decide +kernel
theorem dksX6_luck_1 : cX6_luck.data.toList.drop 22 = dktX6_luck_1 := dk_seg dksX6_luck_0 22 rfl rfl
theorem dksX6_luck_2 : cX6_luck.data.toList.drop 46 = dktX6_luck_2 := dk_seg dksX6_luck_1 24 rfl rfl
theorem dksX6_luck_3 : cX6_luck.data.toList.drop 69 = dktX6_luck_3 := dk_seg dksX6_luck_2 23 rfl rfl
theorem dX6_luck_0 : decode cX6_luck 0 = .ok (.iload_n 1, 1) := dk_27 (dk_at dksX6_luck_0 0 rfl rfl)
theorem dX6_luck_1 : decode cX6_luck 1 = .ok (.invokestatic 514, 3) := dk_184 2 2 (dk_at dksX6_luck_0 1 rfl rfl)
theorem dX6_luck_4 : decode cX6_luck 4 = .ok (.ifCond .eq 24, 3) := dk_153 0 24 (dk_at dksX6_luck_0 4 rfl rfl)
theorem dX6_luck_7 : decode cX6_luck 7 = .ok (.iload_n 2, 1) := dk_28 (dk_at dksX6_luck_0 7 rfl rfl)
theorem dX6_luck_8 : decode cX6_luck 8 = .ok (.i2l, 1) := dk_133 (dk_at dksX6_luck_0 8 rfl rfl)
theorem dX6_luck_9 : decode cX6_luck 9 = .ok (.lconst 1, 1) := dk_10 (dk_at dksX6_luck_0 9 rfl rfl)
theorem dX6_luck_10 : decode cX6_luck 10 = .ok (.ldc2_w 521, 3) := dk_20 2 9 (dk_at dksX6_luck_0 10 rfl rfl)
theorem dX6_luck_13 : decode cX6_luck 13 = .ok (.invokestatic 106, 3) := dk_184 0 106 (dk_at dksX6_luck_0 13 rfl rfl)
theorem dX6_luck_16 : decode cX6_luck 16 = .ok (.ifCond .eq 12, 3) := dk_153 0 12 (dk_at dksX6_luck_0 16 rfl rfl)
theorem dX6_luck_19 : decode cX6_luck 19 = .ok (.aload_n 0, 1) := dk_42 (dk_at dksX6_luck_0 19 rfl rfl)
theorem dX6_luck_20 : decode cX6_luck 20 = .ok (.iload_n 3, 1) := dk_29 (dk_at dksX6_luck_0 20 rfl rfl)
theorem dX6_luck_21 : decode cX6_luck 21 = .ok (.i2l, 1) := dk_133 (dk_at dksX6_luck_0 21 rfl rfl)
theorem dX6_luck_22 : decode cX6_luck 22 = .ok (.invokevirtual 310, 3) := dk_182 1 54 (dk_at dksX6_luck_1 0 rfl rfl)
theorem dX6_luck_25 : decode cX6_luck 25 = .ok (.ifCond .ne 6, 3) := dk_154 0 6 (dk_at dksX6_luck_1 3 rfl rfl)
theorem dX6_luck_28 : decode cX6_luck 28 = .ok (.bipush (-2), 2) := dk_16 254 (dk_at dksX6_luck_1 6 rfl rfl)
theorem dX6_luck_30 : decode cX6_luck 30 = .ok (.ireturn, 1) := dk_172 (dk_at dksX6_luck_1 8 rfl rfl)
theorem dX6_luck_31 : decode cX6_luck 31 = .ok (.iconst 0, 1) := dk_3 (dk_at dksX6_luck_1 9 rfl rfl)
theorem dX6_luck_32 : decode cX6_luck 32 = .ok (.istore 4, 2) := dk_54 4 (dk_at dksX6_luck_1 10 rfl rfl)
theorem dX6_luck_34 : decode cX6_luck 34 = .ok (.iconst 0, 1) := dk_3 (dk_at dksX6_luck_1 12 rfl rfl)
theorem dX6_luck_35 : decode cX6_luck 35 = .ok (.istore 5, 2) := dk_54 5 (dk_at dksX6_luck_1 13 rfl rfl)
theorem dX6_luck_37 : decode cX6_luck 37 = .ok (.iload 5, 2) := dk_21 5 (dk_at dksX6_luck_1 15 rfl rfl)
theorem dX6_luck_39 : decode cX6_luck 39 = .ok (.iload_n 2, 1) := dk_28 (dk_at dksX6_luck_1 17 rfl rfl)
theorem dX6_luck_40 : decode cX6_luck 40 = .ok (.if_icmp .ge 42, 3) := dk_162 0 42 (dk_at dksX6_luck_1 18 rfl rfl)
theorem dX6_luck_43 : decode cX6_luck 43 = .ok (.aload_n 0, 1) := dk_42 (dk_at dksX6_luck_1 21 rfl rfl)
theorem dX6_luck_44 : decode cX6_luck 44 = .ok (.iload_n 1, 1) := dk_27 (dk_at dksX6_luck_1 22 rfl rfl)
theorem dX6_luck_45 : decode cX6_luck 45 = .ok (.i2l, 1) := dk_133 (dk_at dksX6_luck_1 23 rfl rfl)
theorem dX6_luck_46 : decode cX6_luck 46 = .ok (.iload 5, 2) := dk_21 5 (dk_at dksX6_luck_2 0 rfl rfl)
theorem dX6_luck_48 : decode cX6_luck 48 = .ok (.i2l, 1) := dk_133 (dk_at dksX6_luck_2 2 rfl rfl)
theorem dX6_luck_49 : decode cX6_luck 49 = .ok (.ladd, 1) := dk_97 (dk_at dksX6_luck_2 3 rfl rfl)
theorem dX6_luck_50 : decode cX6_luck 50 = .ok (.invokevirtual 517, 3) := dk_182 2 5 (dk_at dksX6_luck_2 4 rfl rfl)
theorem dX6_luck_53 : decode cX6_luck 53 = .ok (.pop, 1) := dk_87 (dk_at dksX6_luck_2 7 rfl rfl)
theorem dX6_luck_54 : decode cX6_luck 54 = .ok (.iload 4, 2) := dk_21 4 (dk_at dksX6_luck_2 8 rfl rfl)
theorem dX6_luck_56 : decode cX6_luck 56 = .ok (.aload_n 0, 1) := dk_42 (dk_at dksX6_luck_2 10 rfl rfl)
theorem dX6_luck_57 : decode cX6_luck 57 = .ok (.iload_n 3, 1) := dk_29 (dk_at dksX6_luck_2 11 rfl rfl)
theorem dX6_luck_58 : decode cX6_luck 58 = .ok (.aload_n 0, 1) := dk_42 (dk_at dksX6_luck_2 12 rfl rfl)
theorem dX6_luck_59 : decode cX6_luck 59 = .ok (.invokevirtual 118, 3) := dk_182 0 118 (dk_at dksX6_luck_2 13 rfl rfl)
theorem dX6_luck_62 : decode cX6_luck 62 = .ok (.invokevirtual 386, 3) := dk_182 1 130 (dk_at dksX6_luck_2 16 rfl rfl)
theorem dX6_luck_65 : decode cX6_luck 65 = .ok (.ifCond .eq 7, 3) := dk_153 0 7 (dk_at dksX6_luck_2 19 rfl rfl)
theorem dX6_luck_68 : decode cX6_luck 68 = .ok (.iconst 1, 1) := dk_4 (dk_at dksX6_luck_2 22 rfl rfl)
theorem dX6_luck_69 : decode cX6_luck 69 = .ok (.goto 4, 3) := dk_167 0 4 (dk_at dksX6_luck_3 0 rfl rfl)
theorem dX6_luck_72 : decode cX6_luck 72 = .ok (.iconst 0, 1) := dk_3 (dk_at dksX6_luck_3 3 rfl rfl)
theorem dX6_luck_73 : decode cX6_luck 73 = .ok (.iadd, 1) := dk_96 (dk_at dksX6_luck_3 4 rfl rfl)
theorem dX6_luck_74 : decode cX6_luck 74 = .ok (.istore 4, 2) := dk_54 4 (dk_at dksX6_luck_3 5 rfl rfl)
theorem dX6_luck_76 : decode cX6_luck 76 = .ok (.iinc 5 1, 3) := dk_132 5 1 (dk_at dksX6_luck_3 7 rfl rfl)
theorem dX6_luck_79 : decode cX6_luck 79 = .ok (.goto (-42), 3) := dk_167 255 214 (dk_at dksX6_luck_3 10 rfl rfl)
theorem dX6_luck_82 : decode cX6_luck 82 = .ok (.iload 4, 2) := dk_21 4 (dk_at dksX6_luck_3 13 rfl rfl)
theorem dX6_luck_84 : decode cX6_luck 84 = .ok (.ireturn, 1) := dk_172 (dk_at dksX6_luck_3 15 rfl rfl)
abbrev cX6_rate : ByteArray := prog_12_method_153_code
def yX6_rate : MethodName := ⟨RX6, "rate", "(II)I"⟩
def dkwX6_rate_2 : List UInt8 := [16, 28, 16, 13, 27, 104, 96, 5, 96, 28, 79, 29, 172]
abbrev dktX6_rate_2 : List UInt8 := dkwX6_rate_2 ++ []
def dkwX6_rate_1 : List UInt8 := [42, 180, 0, 9, 16, 8, 46, 158, 0, 6, 16, 251, 172, 42, 27, 5, 182, 1, 11, 62, 42, 180, 0, 9]
abbrev dktX6_rate_1 : List UInt8 := dkwX6_rate_1 ++ dktX6_rate_2
def dkwX6_rate_0 : List UInt8 := [42, 27, 133, 182, 1, 5, 153, 0, 15, 28, 133, 10, 20, 1, 103, 184, 0, 106, 154, 0, 6, 16, 254, 172]
abbrev dktX6_rate_0 : List UInt8 := dkwX6_rate_0 ++ dktX6_rate_1
theorem dksX6_rate_0 : cX6_rate.data.toList.drop 0 = dktX6_rate_0 := by decide +kernel
theorem dksX6_rate_1 : cX6_rate.data.toList.drop 24 = dktX6_rate_1 := dk_seg dksX6_rate_0 24 rfl rfl
theorem dksX6_rate_2 : cX6_rate.data.toList.drop 48 = dktX6_rate_2 := dk_seg dksX6_rate_1 24 rfl rfl
theorem dX6_rate_0 : decode cX6_rate 0 = .ok (.aload_n 0, 1) := dk_42 (dk_at dksX6_rate_0 0 rfl rfl)
theorem dX6_rate_1 : decode cX6_rate 1 = .ok (.iload_n 1, 1) := dk_27 (dk_at dksX6_rate_0 1 rfl rfl)
theorem dX6_rate_2 : decode cX6_rate 2 = .ok (.i2l, 1) := dk_133 (dk_at dksX6_rate_0 2 rfl rfl)
theorem dX6_rate_3 : decode cX6_rate 3 = .ok (.invokevirtual 261, 3) := dk_182 1 5 (dk_at dksX6_rate_0 3 rfl rfl)
theorem dX6_rate_6 : decode cX6_rate 6 = .ok (.ifCond .eq 15, 3) := dk_153 0 15 (dk_at dksX6_rate_0 6 rfl rfl)
theorem dX6_rate_9 : decode cX6_rate 9 = .ok (.iload_n 2, 1) := dk_28 (dk_at dksX6_rate_0 9 rfl rfl)
theorem dX6_rate_10 : decode cX6_rate 10 = .ok (.i2l, 1) := dk_133 (dk_at dksX6_rate_0 10 rfl rfl)
theorem dX6_rate_11 : decode cX6_rate 11 = .ok (.lconst 1, 1) := dk_10 (dk_at dksX6_rate_0 11 rfl rfl)
theorem dX6_rate_12 : decode cX6_rate 12 = .ok (.ldc2_w 359, 3) := dk_20 1 103 (dk_at dksX6_rate_0 12 rfl rfl)
theorem dX6_rate_15 : decode cX6_rate 15 = .ok (.invokestatic 106, 3) := dk_184 0 106 (dk_at dksX6_rate_0 15 rfl rfl)
theorem dX6_rate_18 : decode cX6_rate 18 = .ok (.ifCond .ne 6, 3) := dk_154 0 6 (dk_at dksX6_rate_0 18 rfl rfl)
theorem dX6_rate_21 : decode cX6_rate 21 = .ok (.bipush (-2), 2) := dk_16 254 (dk_at dksX6_rate_0 21 rfl rfl)
theorem dX6_rate_23 : decode cX6_rate 23 = .ok (.ireturn, 1) := dk_172 (dk_at dksX6_rate_0 23 rfl rfl)
theorem dX6_rate_24 : decode cX6_rate 24 = .ok (.aload_n 0, 1) := dk_42 (dk_at dksX6_rate_1 0 rfl rfl)
theorem dX6_rate_25 : decode cX6_rate 25 = .ok (.getfield 9, 3) := dk_180 0 9 (dk_at dksX6_rate_1 1 rfl rfl)
theorem dX6_rate_28 : decode cX6_rate 28 = .ok (.bipush 8, 2) := dk_16 8 (dk_at dksX6_rate_1 4 rfl rfl)
theorem dX6_rate_30 : decode cX6_rate 30 = .ok (.iaload, 1) := dk_46 (dk_at dksX6_rate_1 6 rfl rfl)
theorem dX6_rate_31 : decode cX6_rate 31 = .ok (.ifCond .le 6, 3) := dk_158 0 6 (dk_at dksX6_rate_1 7 rfl rfl)
theorem dX6_rate_34 : decode cX6_rate 34 = .ok (.bipush (-5), 2) := dk_16 251 (dk_at dksX6_rate_1 10 rfl rfl)
theorem dX6_rate_36 : decode cX6_rate 36 = .ok (.ireturn, 1) := dk_172 (dk_at dksX6_rate_1 12 rfl rfl)
theorem dX6_rate_37 : decode cX6_rate 37 = .ok (.aload_n 0, 1) := dk_42 (dk_at dksX6_rate_1 13 rfl rfl)
theorem dX6_rate_38 : decode cX6_rate 38 = .ok (.iload_n 1, 1) := dk_27 (dk_at dksX6_rate_1 14 rfl rfl)
theorem dX6_rate_39 : decode cX6_rate 39 = .ok (.iconst 2, 1) := dk_5 (dk_at dksX6_rate_1 15 rfl rfl)
theorem dX6_rate_40 : decode cX6_rate 40 = .ok (.invokevirtual 267, 3) := dk_182 1 11 (dk_at dksX6_rate_1 16 rfl rfl)
theorem dX6_rate_43 : decode cX6_rate 43 = .ok (.istore_n 3, 1) := dk_62 (dk_at dksX6_rate_1 19 rfl rfl)
theorem dX6_rate_44 : decode cX6_rate 44 = .ok (.aload_n 0, 1) := dk_42 (dk_at dksX6_rate_1 20 rfl rfl)
theorem dX6_rate_45 : decode cX6_rate 45 = .ok (.getfield 9, 3) := dk_180 0 9 (dk_at dksX6_rate_1 21 rfl rfl)
theorem dX6_rate_48 : decode cX6_rate 48 = .ok (.bipush 28, 2) := dk_16 28 (dk_at dksX6_rate_2 0 rfl rfl)
theorem dX6_rate_50 : decode cX6_rate 50 = .ok (.bipush 13, 2) := dk_16 13 (dk_at dksX6_rate_2 2 rfl rfl)
theorem dX6_rate_52 : decode cX6_rate 52 = .ok (.iload_n 1, 1) := dk_27 (dk_at dksX6_rate_2 4 rfl rfl)
theorem dX6_rate_53 : decode cX6_rate 53 = .ok (.imul, 1) := dk_104 (dk_at dksX6_rate_2 5 rfl rfl)
theorem dX6_rate_54 : decode cX6_rate 54 = .ok (.iadd, 1) := dk_96 (dk_at dksX6_rate_2 6 rfl rfl)
theorem dX6_rate_55 : decode cX6_rate 55 = .ok (.iconst 2, 1) := dk_5 (dk_at dksX6_rate_2 7 rfl rfl)
theorem dX6_rate_56 : decode cX6_rate 56 = .ok (.iadd, 1) := dk_96 (dk_at dksX6_rate_2 8 rfl rfl)
theorem dX6_rate_57 : decode cX6_rate 57 = .ok (.iload_n 2, 1) := dk_28 (dk_at dksX6_rate_2 9 rfl rfl)
theorem dX6_rate_58 : decode cX6_rate 58 = .ok (.iastore, 1) := dk_79 (dk_at dksX6_rate_2 10 rfl rfl)
theorem dX6_rate_59 : decode cX6_rate 59 = .ok (.iload_n 3, 1) := dk_29 (dk_at dksX6_rate_2 11 rfl rfl)
theorem dX6_rate_60 : decode cX6_rate 60 = .ok (.ireturn, 1) := dk_172 (dk_at dksX6_rate_2 12 rfl rfl)
abbrev cX6_count : ByteArray := prog_12_method_154_code
def yX6_count : MethodName := ⟨RX6, "count", "(I)I"⟩
def dkwX6_count_3 : List UInt8 := [167, 255, 230, 28, 172]
abbrev dktX6_count_3 : List UInt8 := dkwX6_count_3 ++ []
def dkwX6_count_2 : List UInt8 := [162, 0, 27, 28, 42, 180, 0, 88, 29, 46, 2, 160, 0, 7, 3, 167, 0, 4, 4, 96, 61, 132, 3, 1]
abbrev dktX6_count_2 : List UInt8 := dkwX6_count_2 ++ dktX6_count_3
def dkwX6_count_1 : List UInt8 := [160, 0, 8, 42, 180, 0, 123, 172, 27, 16, 11, 159, 0, 5, 2, 172, 3, 61, 3, 62, 29, 7]
abbrev dktX6_count_1 : List UInt8 := dkwX6_count_1 ++ dktX6_count_2
def dkwX6_count_0 : List UInt8 := [27, 133, 9, 20, 2, 11, 184, 0, 106, 153, 0, 10, 42, 180, 0, 9, 27, 46, 172, 27, 16, 10]
abbrev dktX6_count_0 : List UInt8 := dkwX6_count_0 ++ dktX6_count_1
theorem dksX6_count_0 : cX6_count.data.toList.drop 0 = dktX6_count_0 := by decide +kernel
theorem dksX6_count_1 : cX6_count.data.toList.drop 22 = dktX6_count_1 := dk_seg dksX6_count_0 22 rfl rfl
theorem dksX6_count_2 : cX6_count.data.toList.drop 44 = dktX6_count_2 := dk_seg dksX6_count_1 22 rfl rfl
theorem dksX6_count_3 : cX6_count.data.toList.drop 68 = dktX6_count_3 := dk_seg dksX6_count_2 24 rfl rfl
theorem dX6_count_0 : decode cX6_count 0 = .ok (.iload_n 1, 1) := dk_27 (dk_at dksX6_count_0 0 rfl rfl)
theorem dX6_count_1 : decode cX6_count 1 = .ok (.i2l, 1) := dk_133 (dk_at dksX6_count_0 1 rfl rfl)
theorem dX6_count_2 : decode cX6_count 2 = .ok (.lconst 0, 1) := dk_9 (dk_at dksX6_count_0 2 rfl rfl)
theorem dX6_count_3 : decode cX6_count 3 = .ok (.ldc2_w 523, 3) := dk_20 2 11 (dk_at dksX6_count_0 3 rfl rfl)
theorem dX6_count_6 : decode cX6_count 6 = .ok (.invokestatic 106, 3) := dk_184 0 106 (dk_at dksX6_count_0 6 rfl rfl)
theorem dX6_count_9 : decode cX6_count 9 = .ok (.ifCond .eq 10, 3) := dk_153 0 10 (dk_at dksX6_count_0 9 rfl rfl)
theorem dX6_count_12 : decode cX6_count 12 = .ok (.aload_n 0, 1) := dk_42 (dk_at dksX6_count_0 12 rfl rfl)
theorem dX6_count_13 : decode cX6_count 13 = .ok (.getfield 9, 3) := dk_180 0 9 (dk_at dksX6_count_0 13 rfl rfl)
theorem dX6_count_16 : decode cX6_count 16 = .ok (.iload_n 1, 1) := dk_27 (dk_at dksX6_count_0 16 rfl rfl)
theorem dX6_count_17 : decode cX6_count 17 = .ok (.iaload, 1) := dk_46 (dk_at dksX6_count_0 17 rfl rfl)
theorem dX6_count_18 : decode cX6_count 18 = .ok (.ireturn, 1) := dk_172 (dk_at dksX6_count_0 18 rfl rfl)
theorem dX6_count_19 : decode cX6_count 19 = .ok (.iload_n 1, 1) := dk_27 (dk_at dksX6_count_0 19 rfl rfl)
theorem dX6_count_20 : decode cX6_count 20 = .ok (.bipush 10, 2) := dk_16 10 (dk_at dksX6_count_0 20 rfl rfl)
theorem dX6_count_22 : decode cX6_count 22 = .ok (.if_icmp .ne 8, 3) := dk_160 0 8 (dk_at dksX6_count_1 0 rfl rfl)
theorem dX6_count_25 : decode cX6_count 25 = .ok (.aload_n 0, 1) := dk_42 (dk_at dksX6_count_1 3 rfl rfl)
theorem dX6_count_26 : decode cX6_count 26 = .ok (.getfield 123, 3) := dk_180 0 123 (dk_at dksX6_count_1 4 rfl rfl)
theorem dX6_count_29 : decode cX6_count 29 = .ok (.ireturn, 1) := dk_172 (dk_at dksX6_count_1 7 rfl rfl)
theorem dX6_count_30 : decode cX6_count 30 = .ok (.iload_n 1, 1) := dk_27 (dk_at dksX6_count_1 8 rfl rfl)
theorem dX6_count_31 : decode cX6_count 31 = .ok (.bipush 11, 2) := dk_16 11 (dk_at dksX6_count_1 9 rfl rfl)
theorem dX6_count_33 : decode cX6_count 33 = .ok (.if_icmp .eq 5, 3) := dk_159 0 5 (dk_at dksX6_count_1 11 rfl rfl)
theorem dX6_count_36 : decode cX6_count 36 = .ok (.iconst (-1), 1) := dk_2 (dk_at dksX6_count_1 14 rfl rfl)
theorem dX6_count_37 : decode cX6_count 37 = .ok (.ireturn, 1) := dk_172 (dk_at dksX6_count_1 15 rfl rfl)
theorem dX6_count_38 : decode cX6_count 38 = .ok (.iconst 0, 1) := dk_3 (dk_at dksX6_count_1 16 rfl rfl)
theorem dX6_count_39 : decode cX6_count 39 = .ok (.istore_n 2, 1) := dk_61 (dk_at dksX6_count_1 17 rfl rfl)
theorem dX6_count_40 : decode cX6_count 40 = .ok (.iconst 0, 1) := dk_3 (dk_at dksX6_count_1 18 rfl rfl)
theorem dX6_count_41 : decode cX6_count 41 = .ok (.istore_n 3, 1) := dk_62 (dk_at dksX6_count_1 19 rfl rfl)
theorem dX6_count_42 : decode cX6_count 42 = .ok (.iload_n 3, 1) := dk_29 (dk_at dksX6_count_1 20 rfl rfl)
theorem dX6_count_43 : decode cX6_count 43 = .ok (.iconst 4, 1) := dk_7 (dk_at dksX6_count_1 21 rfl rfl)
theorem dX6_count_44 : decode cX6_count 44 = .ok (.if_icmp .ge 27, 3) := dk_162 0 27 (dk_at dksX6_count_2 0 rfl rfl)
theorem dX6_count_47 : decode cX6_count 47 = .ok (.iload_n 2, 1) := dk_28 (dk_at dksX6_count_2 3 rfl rfl)
theorem dX6_count_48 : decode cX6_count 48 = .ok (.aload_n 0, 1) := dk_42 (dk_at dksX6_count_2 4 rfl rfl)
theorem dX6_count_49 : decode cX6_count 49 = .ok (.getfield 88, 3) := dk_180 0 88 (dk_at dksX6_count_2 5 rfl rfl)
theorem dX6_count_52 : decode cX6_count 52 = .ok (.iload_n 3, 1) := dk_29 (dk_at dksX6_count_2 8 rfl rfl)
theorem dX6_count_53 : decode cX6_count 53 = .ok (.iaload, 1) := dk_46 (dk_at dksX6_count_2 9 rfl rfl)
theorem dX6_count_54 : decode cX6_count 54 = .ok (.iconst (-1), 1) := dk_2 (dk_at dksX6_count_2 10 rfl rfl)
theorem dX6_count_55 : decode cX6_count 55 = .ok (.if_icmp .ne 7, 3) := dk_160 0 7 (dk_at dksX6_count_2 11 rfl rfl)
theorem dX6_count_58 : decode cX6_count 58 = .ok (.iconst 0, 1) := dk_3 (dk_at dksX6_count_2 14 rfl rfl)
theorem dX6_count_59 : decode cX6_count 59 = .ok (.goto 4, 3) := dk_167 0 4 (dk_at dksX6_count_2 15 rfl rfl)
theorem dX6_count_62 : decode cX6_count 62 = .ok (.iconst 1, 1) := dk_4 (dk_at dksX6_count_2 18 rfl rfl)
theorem dX6_count_63 : decode cX6_count 63 = .ok (.iadd, 1) := dk_96 (dk_at dksX6_count_2 19 rfl rfl)
theorem dX6_count_64 : decode cX6_count 64 = .ok (.istore_n 2, 1) := dk_61 (dk_at dksX6_count_2 20 rfl rfl)
theorem dX6_count_65 : decode cX6_count 65 = .ok (.iinc 3 1, 3) := dk_132 3 1 (dk_at dksX6_count_2 21 rfl rfl)
theorem dX6_count_68 : decode cX6_count 68 = .ok (.goto (-26), 3) := dk_167 255 230 (dk_at dksX6_count_3 0 rfl rfl)
theorem dX6_count_71 : decode cX6_count 71 = .ok (.iload_n 2, 1) := dk_28 (dk_at dksX6_count_3 3 rfl rfl)
theorem dX6_count_72 : decode cX6_count 72 = .ok (.ireturn, 1) := dk_172 (dk_at dksX6_count_3 4 rfl rfl)
abbrev cX6_row : ByteArray := prog_12_method_157_code
def yX6_row : MethodName := ⟨RX6, "row", "(III)I"⟩
def dkwX6_row_3 : List UInt8 := [9, 80, 132, 4, 1, 167, 255, 233, 3, 172]
abbrev dktX6_row_3 : List UInt8 := dkwX6_row_3 ++ []
def dkwX6_row_2 : List UInt8 := [27, 28, 79, 3, 54, 4, 21, 4, 16, 60, 162, 0, 22, 42, 180, 0, 94, 16, 60, 27, 104, 21, 4, 96]
abbrev dktX6_row_2 : List UInt8 := dkwX6_row_2 ++ dktX6_row_3
def dkwX6_row_1 : List UInt8 := [164, 0, 6, 16, 254, 172, 29, 156, 0, 6, 16, 253, 172, 42, 180, 0, 88, 27, 29, 79, 42, 180, 0, 91]
abbrev dktX6_row_1 : List UInt8 := dkwX6_row_1 ++ dktX6_row_2
def dkwX6_row_0 : List UInt8 := [27, 184, 1, 166, 153, 0, 21, 28, 133, 9, 20, 1, 193, 184, 0, 106, 153, 0, 9, 29, 16, 60]
abbrev dktX6_row_0 : List UInt8 := dkwX6_row_0 ++ dktX6_row_1
theorem dksX6_row_0 : cX6_row.data.toList.drop 0 = dktX6_row_0 := by decide +kernel
theorem dksX6_row_1 : cX6_row.data.toList.drop 22 = dktX6_row_1 := dk_seg dksX6_row_0 22 rfl rfl
theorem dksX6_row_2 : cX6_row.data.toList.drop 46 = dktX6_row_2 := dk_seg dksX6_row_1 24 rfl rfl
theorem dksX6_row_3 : cX6_row.data.toList.drop 70 = dktX6_row_3 := dk_seg dksX6_row_2 24 rfl rfl
theorem dX6_row_0 : decode cX6_row 0 = .ok (.iload_n 1, 1) := dk_27 (dk_at dksX6_row_0 0 rfl rfl)
theorem dX6_row_1 : decode cX6_row 1 = .ok (.invokestatic 422, 3) := dk_184 1 166 (dk_at dksX6_row_0 1 rfl rfl)
theorem dX6_row_4 : decode cX6_row 4 = .ok (.ifCond .eq 21, 3) := dk_153 0 21 (dk_at dksX6_row_0 4 rfl rfl)
theorem dX6_row_7 : decode cX6_row 7 = .ok (.iload_n 2, 1) := dk_28 (dk_at dksX6_row_0 7 rfl rfl)
theorem dX6_row_8 : decode cX6_row 8 = .ok (.i2l, 1) := dk_133 (dk_at dksX6_row_0 8 rfl rfl)
theorem dX6_row_9 : decode cX6_row 9 = .ok (.lconst 0, 1) := dk_9 (dk_at dksX6_row_0 9 rfl rfl)
theorem dX6_row_10 : decode cX6_row 10 = .ok (.ldc2_w 449, 3) := dk_20 1 193 (dk_at dksX6_row_0 10 rfl rfl)
theorem dX6_row_13 : decode cX6_row 13 = .ok (.invokestatic 106, 3) := dk_184 0 106 (dk_at dksX6_row_0 13 rfl rfl)
theorem dX6_row_16 : decode cX6_row 16 = .ok (.ifCond .eq 9, 3) := dk_153 0 9 (dk_at dksX6_row_0 16 rfl rfl)
theorem dX6_row_19 : decode cX6_row 19 = .ok (.iload_n 3, 1) := dk_29 (dk_at dksX6_row_0 19 rfl rfl)
theorem dX6_row_20 : decode cX6_row 20 = .ok (.bipush 60, 2) := dk_16 60 (dk_at dksX6_row_0 20 rfl rfl)
theorem dX6_row_22 : decode cX6_row 22 = .ok (.if_icmp .le 6, 3) := dk_164 0 6 (dk_at dksX6_row_1 0 rfl rfl)
theorem dX6_row_25 : decode cX6_row 25 = .ok (.bipush (-2), 2) := dk_16 254 (dk_at dksX6_row_1 3 rfl rfl)
theorem dX6_row_27 : decode cX6_row 27 = .ok (.ireturn, 1) := dk_172 (dk_at dksX6_row_1 5 rfl rfl)
theorem dX6_row_28 : decode cX6_row 28 = .ok (.iload_n 3, 1) := dk_29 (dk_at dksX6_row_1 6 rfl rfl)
theorem dX6_row_29 : decode cX6_row 29 = .ok (.ifCond .ge 6, 3) := dk_156 0 6 (dk_at dksX6_row_1 7 rfl rfl)
theorem dX6_row_32 : decode cX6_row 32 = .ok (.bipush (-3), 2) := dk_16 253 (dk_at dksX6_row_1 10 rfl rfl)
theorem dX6_row_34 : decode cX6_row 34 = .ok (.ireturn, 1) := dk_172 (dk_at dksX6_row_1 12 rfl rfl)
theorem dX6_row_35 : decode cX6_row 35 = .ok (.aload_n 0, 1) := dk_42 (dk_at dksX6_row_1 13 rfl rfl)
theorem dX6_row_36 : decode cX6_row 36 = .ok (.getfield 88, 3) := dk_180 0 88 (dk_at dksX6_row_1 14 rfl rfl)
theorem dX6_row_39 : decode cX6_row 39 = .ok (.iload_n 1, 1) := dk_27 (dk_at dksX6_row_1 17 rfl rfl)
theorem dX6_row_40 : decode cX6_row 40 = .ok (.iload_n 3, 1) := dk_29 (dk_at dksX6_row_1 18 rfl rfl)
theorem dX6_row_41 : decode cX6_row 41 = .ok (.iastore, 1) := dk_79 (dk_at dksX6_row_1 19 rfl rfl)
theorem dX6_row_42 : decode cX6_row 42 = .ok (.aload_n 0, 1) := dk_42 (dk_at dksX6_row_1 20 rfl rfl)
theorem dX6_row_43 : decode cX6_row 43 = .ok (.getfield 91, 3) := dk_180 0 91 (dk_at dksX6_row_1 21 rfl rfl)
theorem dX6_row_46 : decode cX6_row 46 = .ok (.iload_n 1, 1) := dk_27 (dk_at dksX6_row_2 0 rfl rfl)
theorem dX6_row_47 : decode cX6_row 47 = .ok (.iload_n 2, 1) := dk_28 (dk_at dksX6_row_2 1 rfl rfl)
theorem dX6_row_48 : decode cX6_row 48 = .ok (.iastore, 1) := dk_79 (dk_at dksX6_row_2 2 rfl rfl)
theorem dX6_row_49 : decode cX6_row 49 = .ok (.iconst 0, 1) := dk_3 (dk_at dksX6_row_2 3 rfl rfl)
theorem dX6_row_50 : decode cX6_row 50 = .ok (.istore 4, 2) := dk_54 4 (dk_at dksX6_row_2 4 rfl rfl)
theorem dX6_row_52 : decode cX6_row 52 = .ok (.iload 4, 2) := dk_21 4 (dk_at dksX6_row_2 6 rfl rfl)
theorem dX6_row_54 : decode cX6_row 54 = .ok (.bipush 60, 2) := dk_16 60 (dk_at dksX6_row_2 8 rfl rfl)
theorem dX6_row_56 : decode cX6_row 56 = .ok (.if_icmp .ge 22, 3) := dk_162 0 22 (dk_at dksX6_row_2 10 rfl rfl)
theorem dX6_row_59 : decode cX6_row 59 = .ok (.aload_n 0, 1) := dk_42 (dk_at dksX6_row_2 13 rfl rfl)
theorem dX6_row_60 : decode cX6_row 60 = .ok (.getfield 94, 3) := dk_180 0 94 (dk_at dksX6_row_2 14 rfl rfl)
theorem dX6_row_63 : decode cX6_row 63 = .ok (.bipush 60, 2) := dk_16 60 (dk_at dksX6_row_2 17 rfl rfl)
theorem dX6_row_65 : decode cX6_row 65 = .ok (.iload_n 1, 1) := dk_27 (dk_at dksX6_row_2 19 rfl rfl)
theorem dX6_row_66 : decode cX6_row 66 = .ok (.imul, 1) := dk_104 (dk_at dksX6_row_2 20 rfl rfl)
theorem dX6_row_67 : decode cX6_row 67 = .ok (.iload 4, 2) := dk_21 4 (dk_at dksX6_row_2 21 rfl rfl)
theorem dX6_row_69 : decode cX6_row 69 = .ok (.iadd, 1) := dk_96 (dk_at dksX6_row_2 23 rfl rfl)
theorem dX6_row_70 : decode cX6_row 70 = .ok (.lconst 0, 1) := dk_9 (dk_at dksX6_row_3 0 rfl rfl)
theorem dX6_row_71 : decode cX6_row 71 = .ok (.lastore, 1) := dk_80 (dk_at dksX6_row_3 1 rfl rfl)
theorem dX6_row_72 : decode cX6_row 72 = .ok (.iinc 4 1, 3) := dk_132 4 1 (dk_at dksX6_row_3 2 rfl rfl)
theorem dX6_row_75 : decode cX6_row 75 = .ok (.goto (-23), 3) := dk_167 255 233 (dk_at dksX6_row_3 5 rfl rfl)
theorem dX6_row_78 : decode cX6_row 78 = .ok (.iconst 0, 1) := dk_3 (dk_at dksX6_row_3 8 rfl rfl)
theorem dX6_row_79 : decode cX6_row 79 = .ok (.ireturn, 1) := dk_172 (dk_at dksX6_row_3 9 rfl rfl)
abbrev cX6_write : ByteArray := prog_12_method_158_code
def yX6_write : MethodName := ⟨RX6, "write", "(IIJ)I"⟩
def dkwX6_write_2 : List UInt8 := [16, 60, 27, 104, 28, 96, 33, 42, 180, 0, 91, 27, 46, 184, 2, 13, 80, 3, 172]
abbrev dktX6_write_2 : List UInt8 := dkwX6_write_2 ++ []
def dkwX6_write_1 : List UInt8 := [133, 9, 42, 180, 0, 88, 27, 46, 4, 100, 133, 184, 0, 106, 154, 0, 6, 16, 249, 172, 42, 180, 0, 94]
abbrev dktX6_write_1 : List UInt8 := dkwX6_write_1 ++ dktX6_write_2
def dkwX6_write_0 : List UInt8 := [27, 184, 1, 166, 154, 0, 6, 16, 254, 172, 42, 180, 0, 88, 27, 46, 2, 160, 0, 6, 16, 250, 172, 28]
abbrev dktX6_write_0 : List UInt8 := dkwX6_write_0 ++ dktX6_write_1
theorem dksX6_write_0 : cX6_write.data.toList.drop 0 = dktX6_write_0 := by decide +kernel
theorem dksX6_write_1 : cX6_write.data.toList.drop 24 = dktX6_write_1 := dk_seg dksX6_write_0 24 rfl rfl
theorem dksX6_write_2 : cX6_write.data.toList.drop 48 = dktX6_write_2 := dk_seg dksX6_write_1 24 rfl rfl
theorem dX6_write_0 : decode cX6_write 0 = .ok (.iload_n 1, 1) := dk_27 (dk_at dksX6_write_0 0 rfl rfl)
theorem dX6_write_1 : decode cX6_write 1 = .ok (.invokestatic 422, 3) := dk_184 1 166 (dk_at dksX6_write_0 1 rfl rfl)
theorem dX6_write_4 : decode cX6_write 4 = .ok (.ifCond .ne 6, 3) := dk_154 0 6 (dk_at dksX6_write_0 4 rfl rfl)
theorem dX6_write_7 : decode cX6_write 7 = .ok (.bipush (-2), 2) := dk_16 254 (dk_at dksX6_write_0 7 rfl rfl)
theorem dX6_write_9 : decode cX6_write 9 = .ok (.ireturn, 1) := dk_172 (dk_at dksX6_write_0 9 rfl rfl)
theorem dX6_write_10 : decode cX6_write 10 = .ok (.aload_n 0, 1) := dk_42 (dk_at dksX6_write_0 10 rfl rfl)
theorem dX6_write_11 : decode cX6_write 11 = .ok (.getfield 88, 3) := dk_180 0 88 (dk_at dksX6_write_0 11 rfl rfl)
theorem dX6_write_14 : decode cX6_write 14 = .ok (.iload_n 1, 1) := dk_27 (dk_at dksX6_write_0 14 rfl rfl)
theorem dX6_write_15 : decode cX6_write 15 = .ok (.iaload, 1) := dk_46 (dk_at dksX6_write_0 15 rfl rfl)
theorem dX6_write_16 : decode cX6_write 16 = .ok (.iconst (-1), 1) := dk_2 (dk_at dksX6_write_0 16 rfl rfl)
theorem dX6_write_17 : decode cX6_write 17 = .ok (.if_icmp .ne 6, 3) := dk_160 0 6 (dk_at dksX6_write_0 17 rfl rfl)
theorem dX6_write_20 : decode cX6_write 20 = .ok (.bipush (-6), 2) := dk_16 250 (dk_at dksX6_write_0 20 rfl rfl)
theorem dX6_write_22 : decode cX6_write 22 = .ok (.ireturn, 1) := dk_172 (dk_at dksX6_write_0 22 rfl rfl)
theorem dX6_write_23 : decode cX6_write 23 = .ok (.iload_n 2, 1) := dk_28 (dk_at dksX6_write_0 23 rfl rfl)
theorem dX6_write_24 : decode cX6_write 24 = .ok (.i2l, 1) := dk_133 (dk_at dksX6_write_1 0 rfl rfl)
theorem dX6_write_25 : decode cX6_write 25 = .ok (.lconst 0, 1) := dk_9 (dk_at dksX6_write_1 1 rfl rfl)
theorem dX6_write_26 : decode cX6_write 26 = .ok (.aload_n 0, 1) := dk_42 (dk_at dksX6_write_1 2 rfl rfl)
theorem dX6_write_27 : decode cX6_write 27 = .ok (.getfield 88, 3) := dk_180 0 88 (dk_at dksX6_write_1 3 rfl rfl)
theorem dX6_write_30 : decode cX6_write 30 = .ok (.iload_n 1, 1) := dk_27 (dk_at dksX6_write_1 6 rfl rfl)
theorem dX6_write_31 : decode cX6_write 31 = .ok (.iaload, 1) := dk_46 (dk_at dksX6_write_1 7 rfl rfl)
theorem dX6_write_32 : decode cX6_write 32 = .ok (.iconst 1, 1) := dk_4 (dk_at dksX6_write_1 8 rfl rfl)
theorem dX6_write_33 : decode cX6_write 33 = .ok (.isub, 1) := dk_100 (dk_at dksX6_write_1 9 rfl rfl)
theorem dX6_write_34 : decode cX6_write 34 = .ok (.i2l, 1) := dk_133 (dk_at dksX6_write_1 10 rfl rfl)
theorem dX6_write_35 : decode cX6_write 35 = .ok (.invokestatic 106, 3) := dk_184 0 106 (dk_at dksX6_write_1 11 rfl rfl)
theorem dX6_write_38 : decode cX6_write 38 = .ok (.ifCond .ne 6, 3) := dk_154 0 6 (dk_at dksX6_write_1 14 rfl rfl)
theorem dX6_write_41 : decode cX6_write 41 = .ok (.bipush (-7), 2) := dk_16 249 (dk_at dksX6_write_1 17 rfl rfl)
theorem dX6_write_43 : decode cX6_write 43 = .ok (.ireturn, 1) := dk_172 (dk_at dksX6_write_1 19 rfl rfl)
theorem dX6_write_44 : decode cX6_write 44 = .ok (.aload_n 0, 1) := dk_42 (dk_at dksX6_write_1 20 rfl rfl)
theorem dX6_write_45 : decode cX6_write 45 = .ok (.getfield 94, 3) := dk_180 0 94 (dk_at dksX6_write_1 21 rfl rfl)
theorem dX6_write_48 : decode cX6_write 48 = .ok (.bipush 60, 2) := dk_16 60 (dk_at dksX6_write_2 0 rfl rfl)
theorem dX6_write_50 : decode cX6_write 50 = .ok (.iload_n 1, 1) := dk_27 (dk_at dksX6_write_2 2 rfl rfl)
theorem dX6_write_51 : decode cX6_write 51 = .ok (.imul, 1) := dk_104 (dk_at dksX6_write_2 3 rfl rfl)
theorem dX6_write_52 : decode cX6_write 52 = .ok (.iload_n 2, 1) := dk_28 (dk_at dksX6_write_2 4 rfl rfl)
theorem dX6_write_53 : decode cX6_write 53 = .ok (.iadd, 1) := dk_96 (dk_at dksX6_write_2 5 rfl rfl)
theorem dX6_write_54 : decode cX6_write 54 = .ok (.lload_n 3, 1) := dk_33 (dk_at dksX6_write_2 6 rfl rfl)
theorem dX6_write_55 : decode cX6_write 55 = .ok (.aload_n 0, 1) := dk_42 (dk_at dksX6_write_2 7 rfl rfl)
theorem dX6_write_56 : decode cX6_write 56 = .ok (.getfield 91, 3) := dk_180 0 91 (dk_at dksX6_write_2 8 rfl rfl)
theorem dX6_write_59 : decode cX6_write 59 = .ok (.iload_n 1, 1) := dk_27 (dk_at dksX6_write_2 11 rfl rfl)
theorem dX6_write_60 : decode cX6_write 60 = .ok (.iaload, 1) := dk_46 (dk_at dksX6_write_2 12 rfl rfl)
theorem dX6_write_61 : decode cX6_write 61 = .ok (.invokestatic 525, 3) := dk_184 2 13 (dk_at dksX6_write_2 13 rfl rfl)
theorem dX6_write_64 : decode cX6_write 64 = .ok (.lastore, 1) := dk_80 (dk_at dksX6_write_2 16 rfl rfl)
theorem dX6_write_65 : decode cX6_write 65 = .ok (.iconst 0, 1) := dk_3 (dk_at dksX6_write_2 17 rfl rfl)
theorem dX6_write_66 : decode cX6_write 66 = .ok (.ireturn, 1) := dk_172 (dk_at dksX6_write_2 18 rfl rfl)
abbrev cX6_clipped : ByteArray := prog_12_method_156_code
def yX6_clipped : MethodName := ⟨RX6, "clipped", "(JI)J"⟩
def dkwX6_clipped_0 : List UInt8 := [16, 64, 16, 8, 28, 120, 100, 62, 30, 29, 121, 29, 123, 173]
abbrev dktX6_clipped_0 : List UInt8 := dkwX6_clipped_0 ++ []
theorem dksX6_clipped_0 : cX6_clipped.data.toList.drop 0 = dktX6_clipped_0 := by decide +kernel
theorem dX6_clipped_0 : decode cX6_clipped 0 = .ok (.bipush 64, 2) := dk_16 64 (dk_at dksX6_clipped_0 0 rfl rfl)
theorem dX6_clipped_2 : decode cX6_clipped 2 = .ok (.bipush 8, 2) := dk_16 8 (dk_at dksX6_clipped_0 2 rfl rfl)
theorem dX6_clipped_4 : decode cX6_clipped 4 = .ok (.iload_n 2, 1) := dk_28 (dk_at dksX6_clipped_0 4 rfl rfl)
theorem dX6_clipped_5 : decode cX6_clipped 5 = .ok (.ishl, 1) := dk_120 (dk_at dksX6_clipped_0 5 rfl rfl)
theorem dX6_clipped_6 : decode cX6_clipped 6 = .ok (.isub, 1) := dk_100 (dk_at dksX6_clipped_0 6 rfl rfl)
theorem dX6_clipped_7 : decode cX6_clipped 7 = .ok (.istore_n 3, 1) := dk_62 (dk_at dksX6_clipped_0 7 rfl rfl)
theorem dX6_clipped_8 : decode cX6_clipped 8 = .ok (.lload_n 0, 1) := dk_30 (dk_at dksX6_clipped_0 8 rfl rfl)
theorem dX6_clipped_9 : decode cX6_clipped 9 = .ok (.iload_n 3, 1) := dk_29 (dk_at dksX6_clipped_0 9 rfl rfl)
theorem dX6_clipped_10 : decode cX6_clipped 10 = .ok (.lshl, 1) := dk_121 (dk_at dksX6_clipped_0 10 rfl rfl)
theorem dX6_clipped_11 : decode cX6_clipped 11 = .ok (.iload_n 3, 1) := dk_29 (dk_at dksX6_clipped_0 11 rfl rfl)
theorem dX6_clipped_12 : decode cX6_clipped 12 = .ok (.lshr, 1) := dk_123 (dk_at dksX6_clipped_0 12 rfl rfl)
theorem dX6_clipped_13 : decode cX6_clipped 13 = .ok (.lreturn, 1) := dk_173 (dk_at dksX6_clipped_0 13 rfl rfl)
abbrev cX6_paste : ByteArray := prog_12_method_159_code
def yX6_paste : MethodName := ⟨RX6, "paste", "(IIIII)I"⟩
def dkwX6_paste_7 : List UInt8 := [29, 104, 21, 4, 96, 21, 6, 96, 42, 180, 0, 98, 21, 6, 47, 80, 132, 6, 1, 167, 255, 224, 3, 172]
abbrev dktX6_paste_7 : List UInt8 := dkwX6_paste_7 ++ []
def dkwX6_paste_6 : List UInt8 := [47, 80, 132, 6, 1, 167, 255, 225, 3, 54, 6, 21, 6, 21, 5, 162, 0, 31, 42, 180, 0, 94, 16, 60]
abbrev dktX6_paste_6 : List UInt8 := dkwX6_paste_6 ++ dktX6_paste_7
def dkwX6_paste_5 : List UInt8 := [21, 5, 162, 0, 30, 42, 180, 0, 98, 21, 6, 42, 180, 0, 94, 16, 60, 27, 104, 28, 96, 21, 6, 96]
abbrev dktX6_paste_5 : List UInt8 := dkwX6_paste_5 ++ dktX6_paste_6
def dkwX6_paste_4 : List UInt8 := [21, 5, 133, 97, 42, 180, 0, 88, 29, 46, 133, 148, 158, 0, 6, 16, 249, 172, 3, 54, 6, 21, 6]
abbrev dktX6_paste_4 : List UInt8 := dkwX6_paste_4 ++ dktX6_paste_5
def dkwX6_paste_3 : List UInt8 := [155, 0, 38, 28, 133, 21, 5, 133, 97, 42, 180, 0, 88, 27, 46, 133, 148, 157, 0, 21, 21, 4, 133]
abbrev dktX6_paste_3 : List UInt8 := dkwX6_paste_3 ++ dktX6_paste_4
def dkwX6_paste_2 : List UInt8 := [180, 0, 91, 29, 46, 159, 0, 6, 16, 248, 172, 28, 155, 0, 48, 21, 4, 155, 0, 43, 21, 5]
abbrev dktX6_paste_2 : List UInt8 := dkwX6_paste_2 ++ dktX6_paste_3
def dkwX6_paste_1 : List UInt8 := [159, 0, 13, 42, 180, 0, 88, 29, 46, 2, 160, 0, 6, 16, 250, 172, 42, 180, 0, 91, 27, 46, 42]
abbrev dktX6_paste_1 : List UInt8 := dkwX6_paste_1 ++ dktX6_paste_2
def dkwX6_paste_0 : List UInt8 := [27, 184, 1, 166, 153, 0, 10, 29, 184, 1, 166, 154, 0, 6, 16, 254, 172, 42, 180, 0, 88, 27, 46, 2]
abbrev dktX6_paste_0 : List UInt8 := dkwX6_paste_0 ++ dktX6_paste_1
theorem dksX6_paste_0 : cX6_paste.data.toList.drop 0 = dktX6_paste_0 := by decide +kernel
theorem dksX6_paste_1 : cX6_paste.data.toList.drop 24 = dktX6_paste_1 := dk_seg dksX6_paste_0 24 rfl rfl
theorem dksX6_paste_2 : cX6_paste.data.toList.drop 47 = dktX6_paste_2 := dk_seg dksX6_paste_1 23 rfl rfl
theorem dksX6_paste_3 : cX6_paste.data.toList.drop 69 = dktX6_paste_3 := dk_seg dksX6_paste_2 22 rfl rfl
theorem dksX6_paste_4 : cX6_paste.data.toList.drop 92 = dktX6_paste_4 := dk_seg dksX6_paste_3 23 rfl rfl
theorem dksX6_paste_5 : cX6_paste.data.toList.drop 115 = dktX6_paste_5 := dk_seg dksX6_paste_4 23 rfl rfl
theorem dksX6_paste_6 : cX6_paste.data.toList.drop 139 = dktX6_paste_6 := dk_seg dksX6_paste_5 24 rfl rfl
theorem dksX6_paste_7 : cX6_paste.data.toList.drop 163 = dktX6_paste_7 := dk_seg dksX6_paste_6 24 rfl rfl
theorem dX6_paste_0 : decode cX6_paste 0 = .ok (.iload_n 1, 1) := dk_27 (dk_at dksX6_paste_0 0 rfl rfl)
theorem dX6_paste_1 : decode cX6_paste 1 = .ok (.invokestatic 422, 3) := dk_184 1 166 (dk_at dksX6_paste_0 1 rfl rfl)
theorem dX6_paste_4 : decode cX6_paste 4 = .ok (.ifCond .eq 10, 3) := dk_153 0 10 (dk_at dksX6_paste_0 4 rfl rfl)
theorem dX6_paste_7 : decode cX6_paste 7 = .ok (.iload_n 3, 1) := dk_29 (dk_at dksX6_paste_0 7 rfl rfl)
theorem dX6_paste_8 : decode cX6_paste 8 = .ok (.invokestatic 422, 3) := dk_184 1 166 (dk_at dksX6_paste_0 8 rfl rfl)
theorem dX6_paste_11 : decode cX6_paste 11 = .ok (.ifCond .ne 6, 3) := dk_154 0 6 (dk_at dksX6_paste_0 11 rfl rfl)
theorem dX6_paste_14 : decode cX6_paste 14 = .ok (.bipush (-2), 2) := dk_16 254 (dk_at dksX6_paste_0 14 rfl rfl)
theorem dX6_paste_16 : decode cX6_paste 16 = .ok (.ireturn, 1) := dk_172 (dk_at dksX6_paste_0 16 rfl rfl)
theorem dX6_paste_17 : decode cX6_paste 17 = .ok (.aload_n 0, 1) := dk_42 (dk_at dksX6_paste_0 17 rfl rfl)
theorem dX6_paste_18 : decode cX6_paste 18 = .ok (.getfield 88, 3) := dk_180 0 88 (dk_at dksX6_paste_0 18 rfl rfl)
theorem dX6_paste_21 : decode cX6_paste 21 = .ok (.iload_n 1, 1) := dk_27 (dk_at dksX6_paste_0 21 rfl rfl)
theorem dX6_paste_22 : decode cX6_paste 22 = .ok (.iaload, 1) := dk_46 (dk_at dksX6_paste_0 22 rfl rfl)
theorem dX6_paste_23 : decode cX6_paste 23 = .ok (.iconst (-1), 1) := dk_2 (dk_at dksX6_paste_0 23 rfl rfl)
theorem dX6_paste_24 : decode cX6_paste 24 = .ok (.if_icmp .eq 13, 3) := dk_159 0 13 (dk_at dksX6_paste_1 0 rfl rfl)
theorem dX6_paste_27 : decode cX6_paste 27 = .ok (.aload_n 0, 1) := dk_42 (dk_at dksX6_paste_1 3 rfl rfl)
theorem dX6_paste_28 : decode cX6_paste 28 = .ok (.getfield 88, 3) := dk_180 0 88 (dk_at dksX6_paste_1 4 rfl rfl)
theorem dX6_paste_31 : decode cX6_paste 31 = .ok (.iload_n 3, 1) := dk_29 (dk_at dksX6_paste_1 7 rfl rfl)
theorem dX6_paste_32 : decode cX6_paste 32 = .ok (.iaload, 1) := dk_46 (dk_at dksX6_paste_1 8 rfl rfl)
theorem dX6_paste_33 : decode cX6_paste 33 = .ok (.iconst (-1), 1) := dk_2 (dk_at dksX6_paste_1 9 rfl rfl)
theorem dX6_paste_34 : decode cX6_paste 34 = .ok (.if_icmp .ne 6, 3) := dk_160 0 6 (dk_at dksX6_paste_1 10 rfl rfl)
theorem dX6_paste_37 : decode cX6_paste 37 = .ok (.bipush (-6), 2) := dk_16 250 (dk_at dksX6_paste_1 13 rfl rfl)
theorem dX6_paste_39 : decode cX6_paste 39 = .ok (.ireturn, 1) := dk_172 (dk_at dksX6_paste_1 15 rfl rfl)
theorem dX6_paste_40 : decode cX6_paste 40 = .ok (.aload_n 0, 1) := dk_42 (dk_at dksX6_paste_1 16 rfl rfl)
theorem dX6_paste_41 : decode cX6_paste 41 = .ok (.getfield 91, 3) := dk_180 0 91 (dk_at dksX6_paste_1 17 rfl rfl)
theorem dX6_paste_44 : decode cX6_paste 44 = .ok (.iload_n 1, 1) := dk_27 (dk_at dksX6_paste_1 20 rfl rfl)
theorem dX6_paste_45 : decode cX6_paste 45 = .ok (.iaload, 1) := dk_46 (dk_at dksX6_paste_1 21 rfl rfl)
theorem dX6_paste_46 : decode cX6_paste 46 = .ok (.aload_n 0, 1) := dk_42 (dk_at dksX6_paste_1 22 rfl rfl)
theorem dX6_paste_47 : decode cX6_paste 47 = .ok (.getfield 91, 3) := dk_180 0 91 (dk_at dksX6_paste_2 0 rfl rfl)
theorem dX6_paste_50 : decode cX6_paste 50 = .ok (.iload_n 3, 1) := dk_29 (dk_at dksX6_paste_2 3 rfl rfl)
theorem dX6_paste_51 : decode cX6_paste 51 = .ok (.iaload, 1) := dk_46 (dk_at dksX6_paste_2 4 rfl rfl)
theorem dX6_paste_52 : decode cX6_paste 52 = .ok (.if_icmp .eq 6, 3) := dk_159 0 6 (dk_at dksX6_paste_2 5 rfl rfl)
theorem dX6_paste_55 : decode cX6_paste 55 = .ok (.bipush (-8), 2) := dk_16 248 (dk_at dksX6_paste_2 8 rfl rfl)
theorem dX6_paste_57 : decode cX6_paste 57 = .ok (.ireturn, 1) := dk_172 (dk_at dksX6_paste_2 10 rfl rfl)
theorem dX6_paste_58 : decode cX6_paste 58 = .ok (.iload_n 2, 1) := dk_28 (dk_at dksX6_paste_2 11 rfl rfl)
theorem dX6_paste_59 : decode cX6_paste 59 = .ok (.ifCond .lt 48, 3) := dk_155 0 48 (dk_at dksX6_paste_2 12 rfl rfl)
theorem dX6_paste_62 : decode cX6_paste 62 = .ok (.iload 4, 2) := dk_21 4 (dk_at dksX6_paste_2 15 rfl rfl)
theorem dX6_paste_64 : decode cX6_paste 64 = .ok (.ifCond .lt 43, 3) := dk_155 0 43 (dk_at dksX6_paste_2 17 rfl rfl)
theorem dX6_paste_67 : decode cX6_paste 67 = .ok (.iload 5, 2) := dk_21 5 (dk_at dksX6_paste_2 20 rfl rfl)
theorem dX6_paste_69 : decode cX6_paste 69 = .ok (.ifCond .lt 38, 3) := dk_155 0 38 (dk_at dksX6_paste_3 0 rfl rfl)
theorem dX6_paste_72 : decode cX6_paste 72 = .ok (.iload_n 2, 1) := dk_28 (dk_at dksX6_paste_3 3 rfl rfl)
theorem dX6_paste_73 : decode cX6_paste 73 = .ok (.i2l, 1) := dk_133 (dk_at dksX6_paste_3 4 rfl rfl)
theorem dX6_paste_74 : decode cX6_paste 74 = .ok (.iload 5, 2) := dk_21 5 (dk_at dksX6_paste_3 5 rfl rfl)
theorem dX6_paste_76 : decode cX6_paste 76 = .ok (.i2l, 1) := dk_133 (dk_at dksX6_paste_3 7 rfl rfl)
theorem dX6_paste_77 : decode cX6_paste 77 = .ok (.ladd, 1) := dk_97 (dk_at dksX6_paste_3 8 rfl rfl)
theorem dX6_paste_78 : decode cX6_paste 78 = .ok (.aload_n 0, 1) := dk_42 (dk_at dksX6_paste_3 9 rfl rfl)
theorem dX6_paste_79 : decode cX6_paste 79 = .ok (.getfield 88, 3) := dk_180 0 88 (dk_at dksX6_paste_3 10 rfl rfl)
theorem dX6_paste_82 : decode cX6_paste 82 = .ok (.iload_n 1, 1) := dk_27 (dk_at dksX6_paste_3 13 rfl rfl)
theorem dX6_paste_83 : decode cX6_paste 83 = .ok (.iaload, 1) := dk_46 (dk_at dksX6_paste_3 14 rfl rfl)
theorem dX6_paste_84 : decode cX6_paste 84 = .ok (.i2l, 1) := dk_133 (dk_at dksX6_paste_3 15 rfl rfl)
theorem dX6_paste_85 : decode cX6_paste 85 = .ok (.lcmp, 1) := dk_148 (dk_at dksX6_paste_3 16 rfl rfl)
theorem dX6_paste_86 : decode cX6_paste 86 = .ok (.ifCond .gt 21, 3) := dk_157 0 21 (dk_at dksX6_paste_3 17 rfl rfl)
theorem dX6_paste_89 : decode cX6_paste 89 = .ok (.iload 4, 2) := dk_21 4 (dk_at dksX6_paste_3 20 rfl rfl)
theorem dX6_paste_91 : decode cX6_paste 91 = .ok (.i2l, 1) := dk_133 (dk_at dksX6_paste_3 22 rfl rfl)
theorem dX6_paste_92 : decode cX6_paste 92 = .ok (.iload 5, 2) := dk_21 5 (dk_at dksX6_paste_4 0 rfl rfl)
theorem dX6_paste_94 : decode cX6_paste 94 = .ok (.i2l, 1) := dk_133 (dk_at dksX6_paste_4 2 rfl rfl)
theorem dX6_paste_95 : decode cX6_paste 95 = .ok (.ladd, 1) := dk_97 (dk_at dksX6_paste_4 3 rfl rfl)
theorem dX6_paste_96 : decode cX6_paste 96 = .ok (.aload_n 0, 1) := dk_42 (dk_at dksX6_paste_4 4 rfl rfl)
theorem dX6_paste_97 : decode cX6_paste 97 = .ok (.getfield 88, 3) := dk_180 0 88 (dk_at dksX6_paste_4 5 rfl rfl)
theorem dX6_paste_100 : decode cX6_paste 100 = .ok (.iload_n 3, 1) := dk_29 (dk_at dksX6_paste_4 8 rfl rfl)
theorem dX6_paste_101 : decode cX6_paste 101 = .ok (.iaload, 1) := dk_46 (dk_at dksX6_paste_4 9 rfl rfl)
theorem dX6_paste_102 : decode cX6_paste 102 = .ok (.i2l, 1) := dk_133 (dk_at dksX6_paste_4 10 rfl rfl)
theorem dX6_paste_103 : decode cX6_paste 103 = .ok (.lcmp, 1) := dk_148 (dk_at dksX6_paste_4 11 rfl rfl)
theorem dX6_paste_104 : decode cX6_paste 104 = .ok (.ifCond .le 6, 3) := dk_158 0 6 (dk_at dksX6_paste_4 12 rfl rfl)
theorem dX6_paste_107 : decode cX6_paste 107 = .ok (.bipush (-7), 2) := dk_16 249 (dk_at dksX6_paste_4 15 rfl rfl)
theorem dX6_paste_109 : decode cX6_paste 109 = .ok (.ireturn, 1) := dk_172 (dk_at dksX6_paste_4 17 rfl rfl)
theorem dX6_paste_110 : decode cX6_paste 110 = .ok (.iconst 0, 1) := dk_3 (dk_at dksX6_paste_4 18 rfl rfl)
theorem dX6_paste_111 : decode cX6_paste 111 = .ok (.istore 6, 2) := dk_54 6 (dk_at dksX6_paste_4 19 rfl rfl)
theorem dX6_paste_113 : decode cX6_paste 113 = .ok (.iload 6, 2) := dk_21 6 (dk_at dksX6_paste_4 21 rfl rfl)
theorem dX6_paste_115 : decode cX6_paste 115 = .ok (.iload 5, 2) := dk_21 5 (dk_at dksX6_paste_5 0 rfl rfl)
theorem dX6_paste_117 : decode cX6_paste 117 = .ok (.if_icmp .ge 30, 3) := dk_162 0 30 (dk_at dksX6_paste_5 2 rfl rfl)
theorem dX6_paste_120 : decode cX6_paste 120 = .ok (.aload_n 0, 1) := dk_42 (dk_at dksX6_paste_5 5 rfl rfl)
theorem dX6_paste_121 : decode cX6_paste 121 = .ok (.getfield 98, 3) := dk_180 0 98 (dk_at dksX6_paste_5 6 rfl rfl)
theorem dX6_paste_124 : decode cX6_paste 124 = .ok (.iload 6, 2) := dk_21 6 (dk_at dksX6_paste_5 9 rfl rfl)
theorem dX6_paste_126 : decode cX6_paste 126 = .ok (.aload_n 0, 1) := dk_42 (dk_at dksX6_paste_5 11 rfl rfl)
theorem dX6_paste_127 : decode cX6_paste 127 = .ok (.getfield 94, 3) := dk_180 0 94 (dk_at dksX6_paste_5 12 rfl rfl)
theorem dX6_paste_130 : decode cX6_paste 130 = .ok (.bipush 60, 2) := dk_16 60 (dk_at dksX6_paste_5 15 rfl rfl)
theorem dX6_paste_132 : decode cX6_paste 132 = .ok (.iload_n 1, 1) := dk_27 (dk_at dksX6_paste_5 17 rfl rfl)
theorem dX6_paste_133 : decode cX6_paste 133 = .ok (.imul, 1) := dk_104 (dk_at dksX6_paste_5 18 rfl rfl)
theorem dX6_paste_134 : decode cX6_paste 134 = .ok (.iload_n 2, 1) := dk_28 (dk_at dksX6_paste_5 19 rfl rfl)
theorem dX6_paste_135 : decode cX6_paste 135 = .ok (.iadd, 1) := dk_96 (dk_at dksX6_paste_5 20 rfl rfl)
theorem dX6_paste_136 : decode cX6_paste 136 = .ok (.iload 6, 2) := dk_21 6 (dk_at dksX6_paste_5 21 rfl rfl)
theorem dX6_paste_138 : decode cX6_paste 138 = .ok (.iadd, 1) := dk_96 (dk_at dksX6_paste_5 23 rfl rfl)
theorem dX6_paste_139 : decode cX6_paste 139 = .ok (.laload, 1) := dk_47 (dk_at dksX6_paste_6 0 rfl rfl)
theorem dX6_paste_140 : decode cX6_paste 140 = .ok (.lastore, 1) := dk_80 (dk_at dksX6_paste_6 1 rfl rfl)
theorem dX6_paste_141 : decode cX6_paste 141 = .ok (.iinc 6 1, 3) := dk_132 6 1 (dk_at dksX6_paste_6 2 rfl rfl)
theorem dX6_paste_144 : decode cX6_paste 144 = .ok (.goto (-31), 3) := dk_167 255 225 (dk_at dksX6_paste_6 5 rfl rfl)
theorem dX6_paste_147 : decode cX6_paste 147 = .ok (.iconst 0, 1) := dk_3 (dk_at dksX6_paste_6 8 rfl rfl)
theorem dX6_paste_148 : decode cX6_paste 148 = .ok (.istore 6, 2) := dk_54 6 (dk_at dksX6_paste_6 9 rfl rfl)
theorem dX6_paste_150 : decode cX6_paste 150 = .ok (.iload 6, 2) := dk_21 6 (dk_at dksX6_paste_6 11 rfl rfl)
theorem dX6_paste_152 : decode cX6_paste 152 = .ok (.iload 5, 2) := dk_21 5 (dk_at dksX6_paste_6 13 rfl rfl)
theorem dX6_paste_154 : decode cX6_paste 154 = .ok (.if_icmp .ge 31, 3) := dk_162 0 31 (dk_at dksX6_paste_6 15 rfl rfl)
theorem dX6_paste_157 : decode cX6_paste 157 = .ok (.aload_n 0, 1) := dk_42 (dk_at dksX6_paste_6 18 rfl rfl)
theorem dX6_paste_158 : decode cX6_paste 158 = .ok (.getfield 94, 3) := dk_180 0 94 (dk_at dksX6_paste_6 19 rfl rfl)
theorem dX6_paste_161 : decode cX6_paste 161 = .ok (.bipush 60, 2) := dk_16 60 (dk_at dksX6_paste_6 22 rfl rfl)
theorem dX6_paste_163 : decode cX6_paste 163 = .ok (.iload_n 3, 1) := dk_29 (dk_at dksX6_paste_7 0 rfl rfl)
theorem dX6_paste_164 : decode cX6_paste 164 = .ok (.imul, 1) := dk_104 (dk_at dksX6_paste_7 1 rfl rfl)
theorem dX6_paste_165 : decode cX6_paste 165 = .ok (.iload 4, 2) := dk_21 4 (dk_at dksX6_paste_7 2 rfl rfl)
theorem dX6_paste_167 : decode cX6_paste 167 = .ok (.iadd, 1) := dk_96 (dk_at dksX6_paste_7 4 rfl rfl)
theorem dX6_paste_168 : decode cX6_paste 168 = .ok (.iload 6, 2) := dk_21 6 (dk_at dksX6_paste_7 5 rfl rfl)
theorem dX6_paste_170 : decode cX6_paste 170 = .ok (.iadd, 1) := dk_96 (dk_at dksX6_paste_7 7 rfl rfl)
theorem dX6_paste_171 : decode cX6_paste 171 = .ok (.aload_n 0, 1) := dk_42 (dk_at dksX6_paste_7 8 rfl rfl)
theorem dX6_paste_172 : decode cX6_paste 172 = .ok (.getfield 98, 3) := dk_180 0 98 (dk_at dksX6_paste_7 9 rfl rfl)
theorem dX6_paste_175 : decode cX6_paste 175 = .ok (.iload 6, 2) := dk_21 6 (dk_at dksX6_paste_7 12 rfl rfl)
theorem dX6_paste_177 : decode cX6_paste 177 = .ok (.laload, 1) := dk_47 (dk_at dksX6_paste_7 14 rfl rfl)
theorem dX6_paste_178 : decode cX6_paste 178 = .ok (.lastore, 1) := dk_80 (dk_at dksX6_paste_7 15 rfl rfl)
theorem dX6_paste_179 : decode cX6_paste 179 = .ok (.iinc 6 1, 3) := dk_132 6 1 (dk_at dksX6_paste_7 16 rfl rfl)
theorem dX6_paste_182 : decode cX6_paste 182 = .ok (.goto (-32), 3) := dk_167 255 224 (dk_at dksX6_paste_7 19 rfl rfl)
theorem dX6_paste_185 : decode cX6_paste 185 = .ok (.iconst 0, 1) := dk_3 (dk_at dksX6_paste_7 22 rfl rfl)
theorem dX6_paste_186 : decode cX6_paste 186 = .ok (.ireturn, 1) := dk_172 (dk_at dksX6_paste_7 23 rfl rfl)
theorem q150 : (Jvm.Cond.initialized "WidowRoadsModel") ∈ lw_all := lw_g (lw_at lw_m1 10 rfl) rfl
theorem q894 : (Jvm.Cond.selects "WidowRoadsModel" ({ cls := "java/lang/Object", name := "equals", desc := "(Ljava/lang/Object;)Z" } : Jvm.MethodName) ({ cls := "java/lang/Object", name := "equals", desc := "(Ljava/lang/Object;)Z" } : Jvm.MethodName)) ∈ lw_all := lw_g (lw_at lw_m4 34 rfl) rfl
theorem q961 : (Jvm.Cond.selects "WidowRoadsModel" ({ cls := "java/lang/Object", name := "getClass", desc := "()Ljava/lang/Class;" } : Jvm.MethodName) ({ cls := "java/lang/Object", name := "getClass", desc := "()Ljava/lang/Class;" } : Jvm.MethodName)) ∈ lw_all := lw_g (lw_at lw_m4 101 rfl) rfl
theorem q1780 : (Jvm.Cond.instantiable "WidowRoadsModel" (46 : Nat)) ∈ lw_all := lw_g (lw_at lw_m7 200 rfl) rfl
theorem q1782 : (Jvm.Cond.instanceMethod ({ cls := "WidowRoadsModel", name := "<init>", desc := "()V" } : Jvm.MethodName)) ∈ lw_all := lw_g (lw_at lw_m7 202 rfl) rfl
theorem q1783 : (Jvm.Cond.code ({ cls := "WidowRoadsModel", name := "<init>", desc := "()V" } : Jvm.MethodName) prog_12_method_1_code (1 : Nat) (Option.none : Option Jvm.ClassFile.FieldType)) ∈ lw_all := lw_g (lw_at lw_m7 203 rfl) rfl
theorem q1784 : (Jvm.Cond.methodLink "WidowRoadsModel" (3 : Nat) ({ cls := "java/lang/Object", name := "<init>", desc := "()V" } : Jvm.MethodName)) ∈ lw_all := lw_g (lw_at lw_m7 204 rfl) rfl
theorem q1785 : (Jvm.Cond.fieldLink "WidowRoadsModel" (9 : Nat) "WidowRoadsModel" "world" "[I") ∈ lw_all := lw_g (lw_at lw_m7 205 rfl) rfl
theorem q1786 : (Jvm.Cond.fieldLink "WidowRoadsModel" (13 : Nat) "WidowRoadsModel" "images" "[I") ∈ lw_all := lw_g (lw_at lw_m7 206 rfl) rfl
theorem q1787 : (Jvm.Cond.fieldLink "WidowRoadsModel" (16 : Nat) "WidowRoadsModel" "hasImage" "[Z") ∈ lw_all := lw_g (lw_at lw_m7 207 rfl) rfl
theorem q1788 : (Jvm.Cond.fieldLink "WidowRoadsModel" (20 : Nat) "WidowRoadsModel" "tape" "[B") ∈ lw_all := lw_g (lw_at lw_m7 208 rfl) rfl
theorem q1789 : (Jvm.Cond.fieldLink "WidowRoadsModel" (123 : Nat) "WidowRoadsModel" "taped" "I") ∈ lw_all := lw_g (lw_at lw_m7 209 rfl) rfl
theorem q1790 : (Jvm.Cond.fieldLink "WidowRoadsModel" (24 : Nat) "WidowRoadsModel" "five" "[I") ∈ lw_all := lw_g (lw_at lw_m7 210 rfl) rfl
theorem q1791 : (Jvm.Cond.fieldLink "WidowRoadsModel" (126 : Nat) "WidowRoadsModel" "size" "I") ∈ lw_all := lw_g (lw_at lw_m7 211 rfl) rfl
theorem q1792 : (Jvm.Cond.fieldLink "WidowRoadsModel" (129 : Nat) "WidowRoadsModel" "at" "I") ∈ lw_all := lw_g (lw_at lw_m7 212 rfl) rfl
theorem q1793 : (Jvm.Cond.fieldLink "WidowRoadsModel" (136 : Nat) "WidowRoadsModel" "from" "I") ∈ lw_all := lw_g (lw_at lw_m7 213 rfl) rfl
theorem q1794 : (Jvm.Cond.fieldLink "WidowRoadsModel" (139 : Nat) "WidowRoadsModel" "token" "I") ∈ lw_all := lw_g (lw_at lw_m7 214 rfl) rfl
theorem q1795 : (Jvm.Cond.fieldLink "WidowRoadsModel" (150 : Nat) "WidowRoadsModel" "value" "I") ∈ lw_all := lw_g (lw_at lw_m7 215 rfl) rfl
theorem q1796 : (Jvm.Cond.fieldLink "WidowRoadsModel" (160 : Nat) "WidowRoadsModel" "faultKind" "I") ∈ lw_all := lw_g (lw_at lw_m7 216 rfl) rfl
theorem q1797 : (Jvm.Cond.fieldLink "WidowRoadsModel" (27 : Nat) "WidowRoadsModel" "faultPlace" "I") ∈ lw_all := lw_g (lw_at lw_m7 217 rfl) rfl
theorem q1798 : (Jvm.Cond.fieldLink "WidowRoadsModel" (31 : Nat) "WidowRoadsModel" "fresh" "[I") ∈ lw_all := lw_g (lw_at lw_m7 218 rfl) rfl
theorem q1799 : (Jvm.Cond.fieldLink "WidowRoadsModel" (34 : Nat) "WidowRoadsModel" "isCreek" "[Z") ∈ lw_all := lw_g (lw_at lw_m7 219 rfl) rfl
theorem q1800 : (Jvm.Cond.fieldLink "WidowRoadsModel" (37 : Nat) "WidowRoadsModel" "facesNow" "[I") ∈ lw_all := lw_g (lw_at lw_m7 220 rfl) rfl
theorem q1801 : (Jvm.Cond.fieldLink "WidowRoadsModel" (270 : Nat) "WidowRoadsModel" "lawNow" "I") ∈ lw_all := lw_g (lw_at lw_m7 221 rfl) rfl
theorem q1802 : (Jvm.Cond.fieldLink "WidowRoadsModel" (276 : Nat) "WidowRoadsModel" "walkSet" "I") ∈ lw_all := lw_g (lw_at lw_m7 222 rfl) rfl
theorem q1803 : (Jvm.Cond.fieldLink "WidowRoadsModel" (279 : Nat) "WidowRoadsModel" "oneWidow" "I") ∈ lw_all := lw_g (lw_at lw_m7 223 rfl) rfl
theorem q1804 : (Jvm.Cond.fieldLink "WidowRoadsModel" (295 : Nat) "WidowRoadsModel" "oneTurn" "I") ∈ lw_all := lw_g (lw_at lw_m7 224 rfl) rfl
theorem q1805 : (Jvm.Cond.fieldLink "WidowRoadsModel" (40 : Nat) "WidowRoadsModel" "isRoad" "[Z") ∈ lw_all := lw_g (lw_at lw_m7 225 rfl) rfl
theorem q1806 : (Jvm.Cond.fieldLink "WidowRoadsModel" (43 : Nat) "WidowRoadsModel" "wasRoad" "[Z") ∈ lw_all := lw_g (lw_at lw_m7 226 rfl) rfl
theorem q1807 : (Jvm.Cond.fieldLink "WidowRoadsModel" (46 : Nat) "WidowRoadsModel" "wasIn" "[Z") ∈ lw_all := lw_g (lw_at lw_m7 227 rfl) rfl
theorem q1808 : (Jvm.Cond.fieldLink "WidowRoadsModel" (49 : Nat) "WidowRoadsModel" "pegNow" "[I") ∈ lw_all := lw_g (lw_at lw_m7 228 rfl) rfl
theorem q1809 : (Jvm.Cond.fieldLink "WidowRoadsModel" (52 : Nat) "WidowRoadsModel" "houseNow" "[I") ∈ lw_all := lw_g (lw_at lw_m7 229 rfl) rfl
theorem q1810 : (Jvm.Cond.fieldLink "WidowRoadsModel" (55 : Nat) "WidowRoadsModel" "pathBy" "[I") ∈ lw_all := lw_g (lw_at lw_m7 230 rfl) rfl
theorem q1811 : (Jvm.Cond.fieldLink "WidowRoadsModel" (58 : Nat) "WidowRoadsModel" "stepsBy" "[I") ∈ lw_all := lw_g (lw_at lw_m7 231 rfl) rfl
theorem q1812 : (Jvm.Cond.fieldLink "WidowRoadsModel" (61 : Nat) "WidowRoadsModel" "movesBy" "[I") ∈ lw_all := lw_g (lw_at lw_m7 232 rfl) rfl
theorem q1813 : (Jvm.Cond.fieldLink "WidowRoadsModel" (64 : Nat) "WidowRoadsModel" "movedBy" "[I") ∈ lw_all := lw_g (lw_at lw_m7 233 rfl) rfl
theorem q1814 : (Jvm.Cond.fieldLink "WidowRoadsModel" (67 : Nat) "WidowRoadsModel" "roadAt" "[Z") ∈ lw_all := lw_g (lw_at lw_m7 234 rfl) rfl
theorem q1815 : (Jvm.Cond.fieldLink "WidowRoadsModel" (70 : Nat) "WidowRoadsModel" "pegAt" "[I") ∈ lw_all := lw_g (lw_at lw_m7 235 rfl) rfl
theorem q1816 : (Jvm.Cond.fieldLink "WidowRoadsModel" (73 : Nat) "WidowRoadsModel" "houseAt" "[I") ∈ lw_all := lw_g (lw_at lw_m7 236 rfl) rfl
theorem q1817 : (Jvm.Cond.fieldLink "WidowRoadsModel" (76 : Nat) "WidowRoadsModel" "farNow" "[I") ∈ lw_all := lw_g (lw_at lw_m7 237 rfl) rfl
theorem q1818 : (Jvm.Cond.fieldLink "WidowRoadsModel" (79 : Nat) "WidowRoadsModel" "seen" "[Z") ∈ lw_all := lw_g (lw_at lw_m7 238 rfl) rfl
theorem q1819 : (Jvm.Cond.fieldLink "WidowRoadsModel" (82 : Nat) "WidowRoadsModel" "cellBy" "[I") ∈ lw_all := lw_g (lw_at lw_m7 239 rfl) rfl
theorem q1820 : (Jvm.Cond.fieldLink "WidowRoadsModel" (440 : Nat) "WidowRoadsModel" "askWorst" "I") ∈ lw_all := lw_g (lw_at lw_m8 0 rfl) rfl
theorem q1821 : (Jvm.Cond.fieldLink "WidowRoadsModel" (85 : Nat) "WidowRoadsModel" "worthBy" "[I") ∈ lw_all := lw_g (lw_at lw_m8 1 rfl) rfl
theorem q1822 : (Jvm.Cond.fieldLink "WidowRoadsModel" (454 : Nat) "WidowRoadsModel" "mayWalk" "I") ∈ lw_all := lw_g (lw_at lw_m8 2 rfl) rfl
theorem q1823 : (Jvm.Cond.fieldLink "WidowRoadsModel" (486 : Nat) "WidowRoadsModel" "oftenAll" "J") ∈ lw_all := lw_g (lw_at lw_m8 3 rfl) rfl
theorem q1824 : (Jvm.Cond.fieldLink "WidowRoadsModel" (490 : Nat) "WidowRoadsModel" "oftenRoad" "J") ∈ lw_all := lw_g (lw_at lw_m8 4 rfl) rfl
theorem q1825 : (Jvm.Cond.fieldLink "WidowRoadsModel" (493 : Nat) "WidowRoadsModel" "oftenPegs" "J") ∈ lw_all := lw_g (lw_at lw_m8 5 rfl) rfl
theorem q1826 : (Jvm.Cond.fieldLink "WidowRoadsModel" (88 : Nat) "WidowRoadsModel" "many" "[I") ∈ lw_all := lw_g (lw_at lw_m8 6 rfl) rfl
theorem q1827 : (Jvm.Cond.fieldLink "WidowRoadsModel" (91 : Nat) "WidowRoadsModel" "width" "[I") ∈ lw_all := lw_g (lw_at lw_m8 7 rfl) rfl
theorem q1828 : (Jvm.Cond.fieldLink "WidowRoadsModel" (94 : Nat) "WidowRoadsModel" "numbers" "[J") ∈ lw_all := lw_g (lw_at lw_m8 8 rfl) rfl
theorem q1829 : (Jvm.Cond.fieldLink "WidowRoadsModel" (98 : Nat) "WidowRoadsModel" "moving" "[J") ∈ lw_all := lw_g (lw_at lw_m8 9 rfl) rfl
theorem q1830 : (Jvm.Cond.lays "WidowRoadsModel" "WidowRoadsModel" "thrown" "I") ∈ lw_all := lw_g (lw_at lw_m8 10 rfl) rfl
theorem q1831 : (Jvm.Cond.soleField "WidowRoadsModel" "thrown") ∈ lw_all := lw_g (lw_at lw_m8 11 rfl) rfl
theorem q1832 : (Jvm.Cond.laysFinal "WidowRoadsModel" "WidowRoadsModel" "world" "[I") ∈ lw_all := lw_g (lw_at lw_m8 12 rfl) rfl
theorem q1833 : (Jvm.Cond.soleField "WidowRoadsModel" "world") ∈ lw_all := lw_g (lw_at lw_m8 13 rfl) rfl
theorem q1834 : (Jvm.Cond.laysFinal "WidowRoadsModel" "WidowRoadsModel" "images" "[I") ∈ lw_all := lw_g (lw_at lw_m8 14 rfl) rfl
theorem q1835 : (Jvm.Cond.soleField "WidowRoadsModel" "images") ∈ lw_all := lw_g (lw_at lw_m8 15 rfl) rfl
theorem q1836 : (Jvm.Cond.laysFinal "WidowRoadsModel" "WidowRoadsModel" "hasImage" "[Z") ∈ lw_all := lw_g (lw_at lw_m8 16 rfl) rfl
theorem q1837 : (Jvm.Cond.soleField "WidowRoadsModel" "hasImage") ∈ lw_all := lw_g (lw_at lw_m8 17 rfl) rfl
theorem q1838 : (Jvm.Cond.laysFinal "WidowRoadsModel" "WidowRoadsModel" "tape" "[B") ∈ lw_all := lw_g (lw_at lw_m8 18 rfl) rfl
theorem q1839 : (Jvm.Cond.soleField "WidowRoadsModel" "tape") ∈ lw_all := lw_g (lw_at lw_m8 19 rfl) rfl
theorem q1840 : (Jvm.Cond.lays "WidowRoadsModel" "WidowRoadsModel" "taped" "I") ∈ lw_all := lw_g (lw_at lw_m8 20 rfl) rfl
theorem q1841 : (Jvm.Cond.soleField "WidowRoadsModel" "taped") ∈ lw_all := lw_g (lw_at lw_m8 21 rfl) rfl
theorem q1842 : (Jvm.Cond.laysFinal "WidowRoadsModel" "WidowRoadsModel" "five" "[I") ∈ lw_all := lw_g (lw_at lw_m8 22 rfl) rfl
theorem q1843 : (Jvm.Cond.soleField "WidowRoadsModel" "five") ∈ lw_all := lw_g (lw_at lw_m8 23 rfl) rfl
theorem q1844 : (Jvm.Cond.lays "WidowRoadsModel" "WidowRoadsModel" "size" "I") ∈ lw_all := lw_g (lw_at lw_m8 24 rfl) rfl
theorem q1845 : (Jvm.Cond.soleField "WidowRoadsModel" "size") ∈ lw_all := lw_g (lw_at lw_m8 25 rfl) rfl
theorem q1846 : (Jvm.Cond.lays "WidowRoadsModel" "WidowRoadsModel" "at" "I") ∈ lw_all := lw_g (lw_at lw_m8 26 rfl) rfl
theorem q1847 : (Jvm.Cond.soleField "WidowRoadsModel" "at") ∈ lw_all := lw_g (lw_at lw_m8 27 rfl) rfl
theorem q1848 : (Jvm.Cond.lays "WidowRoadsModel" "WidowRoadsModel" "from" "I") ∈ lw_all := lw_g (lw_at lw_m8 28 rfl) rfl
theorem q1849 : (Jvm.Cond.soleField "WidowRoadsModel" "from") ∈ lw_all := lw_g (lw_at lw_m8 29 rfl) rfl
theorem q1850 : (Jvm.Cond.lays "WidowRoadsModel" "WidowRoadsModel" "token" "I") ∈ lw_all := lw_g (lw_at lw_m8 30 rfl) rfl
theorem q1851 : (Jvm.Cond.soleField "WidowRoadsModel" "token") ∈ lw_all := lw_g (lw_at lw_m8 31 rfl) rfl
theorem q1852 : (Jvm.Cond.lays "WidowRoadsModel" "WidowRoadsModel" "value" "I") ∈ lw_all := lw_g (lw_at lw_m8 32 rfl) rfl
theorem q1853 : (Jvm.Cond.soleField "WidowRoadsModel" "value") ∈ lw_all := lw_g (lw_at lw_m8 33 rfl) rfl
theorem q1854 : (Jvm.Cond.lays "WidowRoadsModel" "WidowRoadsModel" "faultKind" "I") ∈ lw_all := lw_g (lw_at lw_m8 34 rfl) rfl
theorem q1855 : (Jvm.Cond.soleField "WidowRoadsModel" "faultKind") ∈ lw_all := lw_g (lw_at lw_m8 35 rfl) rfl
theorem q1856 : (Jvm.Cond.lays "WidowRoadsModel" "WidowRoadsModel" "faultPlace" "I") ∈ lw_all := lw_g (lw_at lw_m8 36 rfl) rfl
theorem q1857 : (Jvm.Cond.soleField "WidowRoadsModel" "faultPlace") ∈ lw_all := lw_g (lw_at lw_m8 37 rfl) rfl
theorem q1858 : (Jvm.Cond.laysFinal "WidowRoadsModel" "WidowRoadsModel" "fresh" "[I") ∈ lw_all := lw_g (lw_at lw_m8 38 rfl) rfl
theorem q1859 : (Jvm.Cond.soleField "WidowRoadsModel" "fresh") ∈ lw_all := lw_g (lw_at lw_m8 39 rfl) rfl
theorem q1860 : (Jvm.Cond.laysFinal "WidowRoadsModel" "WidowRoadsModel" "isCreek" "[Z") ∈ lw_all := lw_g (lw_at lw_m8 40 rfl) rfl
theorem q1861 : (Jvm.Cond.soleField "WidowRoadsModel" "isCreek") ∈ lw_all := lw_g (lw_at lw_m8 41 rfl) rfl
theorem q1862 : (Jvm.Cond.laysFinal "WidowRoadsModel" "WidowRoadsModel" "facesNow" "[I") ∈ lw_all := lw_g (lw_at lw_m8 42 rfl) rfl
theorem q1863 : (Jvm.Cond.soleField "WidowRoadsModel" "facesNow") ∈ lw_all := lw_g (lw_at lw_m8 43 rfl) rfl
theorem q1864 : (Jvm.Cond.lays "WidowRoadsModel" "WidowRoadsModel" "lawNow" "I") ∈ lw_all := lw_g (lw_at lw_m8 44 rfl) rfl
theorem q1865 : (Jvm.Cond.soleField "WidowRoadsModel" "lawNow") ∈ lw_all := lw_g (lw_at lw_m8 45 rfl) rfl
theorem q1866 : (Jvm.Cond.lays "WidowRoadsModel" "WidowRoadsModel" "walkSet" "I") ∈ lw_all := lw_g (lw_at lw_m8 46 rfl) rfl
theorem q1867 : (Jvm.Cond.soleField "WidowRoadsModel" "walkSet") ∈ lw_all := lw_g (lw_at lw_m8 47 rfl) rfl
theorem q1868 : (Jvm.Cond.lays "WidowRoadsModel" "WidowRoadsModel" "oneWidow" "I") ∈ lw_all := lw_g (lw_at lw_m8 48 rfl) rfl
theorem q1869 : (Jvm.Cond.soleField "WidowRoadsModel" "oneWidow") ∈ lw_all := lw_g (lw_at lw_m8 49 rfl) rfl
theorem q1870 : (Jvm.Cond.lays "WidowRoadsModel" "WidowRoadsModel" "oneTurn" "I") ∈ lw_all := lw_g (lw_at lw_m8 50 rfl) rfl
theorem q1871 : (Jvm.Cond.soleField "WidowRoadsModel" "oneTurn") ∈ lw_all := lw_g (lw_at lw_m8 51 rfl) rfl
theorem q1872 : (Jvm.Cond.laysFinal "WidowRoadsModel" "WidowRoadsModel" "isRoad" "[Z") ∈ lw_all := lw_g (lw_at lw_m8 52 rfl) rfl
theorem q1873 : (Jvm.Cond.soleField "WidowRoadsModel" "isRoad") ∈ lw_all := lw_g (lw_at lw_m8 53 rfl) rfl
theorem q1874 : (Jvm.Cond.laysFinal "WidowRoadsModel" "WidowRoadsModel" "wasRoad" "[Z") ∈ lw_all := lw_g (lw_at lw_m8 54 rfl) rfl
theorem q1875 : (Jvm.Cond.soleField "WidowRoadsModel" "wasRoad") ∈ lw_all := lw_g (lw_at lw_m8 55 rfl) rfl
theorem q1876 : (Jvm.Cond.laysFinal "WidowRoadsModel" "WidowRoadsModel" "wasIn" "[Z") ∈ lw_all := lw_g (lw_at lw_m8 56 rfl) rfl
theorem q1877 : (Jvm.Cond.soleField "WidowRoadsModel" "wasIn") ∈ lw_all := lw_g (lw_at lw_m8 57 rfl) rfl
theorem q1878 : (Jvm.Cond.laysFinal "WidowRoadsModel" "WidowRoadsModel" "pegNow" "[I") ∈ lw_all := lw_g (lw_at lw_m8 58 rfl) rfl
theorem q1879 : (Jvm.Cond.soleField "WidowRoadsModel" "pegNow") ∈ lw_all := lw_g (lw_at lw_m8 59 rfl) rfl
theorem q1880 : (Jvm.Cond.laysFinal "WidowRoadsModel" "WidowRoadsModel" "houseNow" "[I") ∈ lw_all := lw_g (lw_at lw_m8 60 rfl) rfl
theorem q1881 : (Jvm.Cond.soleField "WidowRoadsModel" "houseNow") ∈ lw_all := lw_g (lw_at lw_m8 61 rfl) rfl
theorem q1882 : (Jvm.Cond.laysFinal "WidowRoadsModel" "WidowRoadsModel" "pathBy" "[I") ∈ lw_all := lw_g (lw_at lw_m8 62 rfl) rfl
theorem q1883 : (Jvm.Cond.soleField "WidowRoadsModel" "pathBy") ∈ lw_all := lw_g (lw_at lw_m8 63 rfl) rfl
theorem q1884 : (Jvm.Cond.laysFinal "WidowRoadsModel" "WidowRoadsModel" "stepsBy" "[I") ∈ lw_all := lw_g (lw_at lw_m8 64 rfl) rfl
theorem q1885 : (Jvm.Cond.soleField "WidowRoadsModel" "stepsBy") ∈ lw_all := lw_g (lw_at lw_m8 65 rfl) rfl
theorem q1886 : (Jvm.Cond.laysFinal "WidowRoadsModel" "WidowRoadsModel" "movesBy" "[I") ∈ lw_all := lw_g (lw_at lw_m8 66 rfl) rfl
theorem q1887 : (Jvm.Cond.soleField "WidowRoadsModel" "movesBy") ∈ lw_all := lw_g (lw_at lw_m8 67 rfl) rfl
theorem q1888 : (Jvm.Cond.laysFinal "WidowRoadsModel" "WidowRoadsModel" "movedBy" "[I") ∈ lw_all := lw_g (lw_at lw_m8 68 rfl) rfl
theorem q1889 : (Jvm.Cond.soleField "WidowRoadsModel" "movedBy") ∈ lw_all := lw_g (lw_at lw_m8 69 rfl) rfl
theorem q1890 : (Jvm.Cond.laysFinal "WidowRoadsModel" "WidowRoadsModel" "roadAt" "[Z") ∈ lw_all := lw_g (lw_at lw_m8 70 rfl) rfl
theorem q1891 : (Jvm.Cond.soleField "WidowRoadsModel" "roadAt") ∈ lw_all := lw_g (lw_at lw_m8 71 rfl) rfl
theorem q1892 : (Jvm.Cond.laysFinal "WidowRoadsModel" "WidowRoadsModel" "pegAt" "[I") ∈ lw_all := lw_g (lw_at lw_m8 72 rfl) rfl
theorem q1893 : (Jvm.Cond.soleField "WidowRoadsModel" "pegAt") ∈ lw_all := lw_g (lw_at lw_m8 73 rfl) rfl
theorem q1894 : (Jvm.Cond.laysFinal "WidowRoadsModel" "WidowRoadsModel" "houseAt" "[I") ∈ lw_all := lw_g (lw_at lw_m8 74 rfl) rfl
theorem q1895 : (Jvm.Cond.soleField "WidowRoadsModel" "houseAt") ∈ lw_all := lw_g (lw_at lw_m8 75 rfl) rfl
theorem q1896 : (Jvm.Cond.laysFinal "WidowRoadsModel" "WidowRoadsModel" "farNow" "[I") ∈ lw_all := lw_g (lw_at lw_m8 76 rfl) rfl
theorem q1897 : (Jvm.Cond.soleField "WidowRoadsModel" "farNow") ∈ lw_all := lw_g (lw_at lw_m8 77 rfl) rfl
theorem q1898 : (Jvm.Cond.laysFinal "WidowRoadsModel" "WidowRoadsModel" "seen" "[Z") ∈ lw_all := lw_g (lw_at lw_m8 78 rfl) rfl
theorem q1899 : (Jvm.Cond.soleField "WidowRoadsModel" "seen") ∈ lw_all := lw_g (lw_at lw_m8 79 rfl) rfl
theorem q1900 : (Jvm.Cond.laysFinal "WidowRoadsModel" "WidowRoadsModel" "cellBy" "[I") ∈ lw_all := lw_g (lw_at lw_m8 80 rfl) rfl
theorem q1901 : (Jvm.Cond.soleField "WidowRoadsModel" "cellBy") ∈ lw_all := lw_g (lw_at lw_m8 81 rfl) rfl
theorem q1902 : (Jvm.Cond.lays "WidowRoadsModel" "WidowRoadsModel" "askWorst" "I") ∈ lw_all := lw_g (lw_at lw_m8 82 rfl) rfl
theorem q1903 : (Jvm.Cond.soleField "WidowRoadsModel" "askWorst") ∈ lw_all := lw_g (lw_at lw_m8 83 rfl) rfl
theorem q1904 : (Jvm.Cond.laysFinal "WidowRoadsModel" "WidowRoadsModel" "worthBy" "[I") ∈ lw_all := lw_g (lw_at lw_m8 84 rfl) rfl
theorem q1905 : (Jvm.Cond.soleField "WidowRoadsModel" "worthBy") ∈ lw_all := lw_g (lw_at lw_m8 85 rfl) rfl
theorem q1906 : (Jvm.Cond.lays "WidowRoadsModel" "WidowRoadsModel" "mayWalk" "I") ∈ lw_all := lw_g (lw_at lw_m8 86 rfl) rfl
theorem q1907 : (Jvm.Cond.soleField "WidowRoadsModel" "mayWalk") ∈ lw_all := lw_g (lw_at lw_m8 87 rfl) rfl
theorem q1908 : (Jvm.Cond.lays "WidowRoadsModel" "WidowRoadsModel" "oftenAll" "J") ∈ lw_all := lw_g (lw_at lw_m8 88 rfl) rfl
theorem q1909 : (Jvm.Cond.soleField "WidowRoadsModel" "oftenAll") ∈ lw_all := lw_g (lw_at lw_m8 89 rfl) rfl
theorem q1910 : (Jvm.Cond.lays "WidowRoadsModel" "WidowRoadsModel" "oftenRoad" "J") ∈ lw_all := lw_g (lw_at lw_m8 90 rfl) rfl
theorem q1911 : (Jvm.Cond.soleField "WidowRoadsModel" "oftenRoad") ∈ lw_all := lw_g (lw_at lw_m8 91 rfl) rfl
theorem q1912 : (Jvm.Cond.lays "WidowRoadsModel" "WidowRoadsModel" "oftenPegs" "J") ∈ lw_all := lw_g (lw_at lw_m8 92 rfl) rfl
theorem q1913 : (Jvm.Cond.soleField "WidowRoadsModel" "oftenPegs") ∈ lw_all := lw_g (lw_at lw_m8 93 rfl) rfl
theorem q1914 : (Jvm.Cond.laysFinal "WidowRoadsModel" "WidowRoadsModel" "many" "[I") ∈ lw_all := lw_g (lw_at lw_m8 94 rfl) rfl
theorem q1915 : (Jvm.Cond.soleField "WidowRoadsModel" "many") ∈ lw_all := lw_g (lw_at lw_m8 95 rfl) rfl
theorem q1916 : (Jvm.Cond.laysFinal "WidowRoadsModel" "WidowRoadsModel" "width" "[I") ∈ lw_all := lw_g (lw_at lw_m8 96 rfl) rfl
theorem q1917 : (Jvm.Cond.soleField "WidowRoadsModel" "width") ∈ lw_all := lw_g (lw_at lw_m8 97 rfl) rfl
theorem q1918 : (Jvm.Cond.laysFinal "WidowRoadsModel" "WidowRoadsModel" "numbers" "[J") ∈ lw_all := lw_g (lw_at lw_m8 98 rfl) rfl
theorem q1919 : (Jvm.Cond.soleField "WidowRoadsModel" "numbers") ∈ lw_all := lw_g (lw_at lw_m8 99 rfl) rfl
theorem q1920 : (Jvm.Cond.laysFinal "WidowRoadsModel" "WidowRoadsModel" "moving" "[J") ∈ lw_all := lw_g (lw_at lw_m8 100 rfl) rfl
theorem q1921 : (Jvm.Cond.soleField "WidowRoadsModel" "moving") ∈ lw_all := lw_g (lw_at lw_m8 101 rfl) rfl
theorem q1922 : (Jvm.Cond.superclass "WidowRoadsModel" "java/lang/Object") ∈ lw_all := lw_g (lw_at lw_m8 102 rfl) rfl
theorem q1925 : (Jvm.Cond.instanceMethod ({ cls := "WidowRoadsModel", name := "image", desc := "(I)I" } : Jvm.MethodName)) ∈ lw_all := lw_g (lw_at lw_m8 105 rfl) rfl
theorem q1926 : (Jvm.Cond.selects "WidowRoadsModel" ({ cls := "WidowRoadsModel", name := "image", desc := "(I)I" } : Jvm.MethodName) ({ cls := "WidowRoadsModel", name := "image", desc := "(I)I" } : Jvm.MethodName)) ∈ lw_all := lw_g (lw_at lw_m8 106 rfl) rfl
theorem q1927 : (Jvm.Cond.code ({ cls := "WidowRoadsModel", name := "image", desc := "(I)I" } : Jvm.MethodName) prog_12_method_6_code (3 : Nat) (Option.some Jvm.ClassFile.FieldType.int)) ∈ lw_all := lw_g (lw_at lw_m8 107 rfl) rfl
theorem q1928 : (Jvm.Cond.constantLong "WidowRoadsModel" (104 : Nat) (2 : Int64)) ∈ lw_all := lw_g (lw_at lw_m8 108 rfl) rfl
theorem q1929 : (Jvm.Cond.methodLink "WidowRoadsModel" (106 : Nat) ({ cls := "WidowRoadsModel", name := "in", desc := "(JJJ)Z" } : Jvm.MethodName)) ∈ lw_all := lw_g (lw_at lw_m8 109 rfl) rfl
theorem q1930 : (Jvm.Cond.static ({ cls := "WidowRoadsModel", name := "in", desc := "(JJJ)Z" } : Jvm.MethodName)) ∈ lw_all := lw_g (lw_at lw_m8 110 rfl) rfl
theorem q1931 : (Jvm.Cond.code ({ cls := "WidowRoadsModel", name := "in", desc := "(JJJ)Z" } : Jvm.MethodName) prog_12_method_3_code (6 : Nat) (Option.some Jvm.ClassFile.FieldType.boolean)) ∈ lw_all := lw_g (lw_at lw_m8 111 rfl) rfl
theorem q1933 : (Jvm.Cond.instanceMethod ({ cls := "WidowRoadsModel", name := "back", desc := "(I)I" } : Jvm.MethodName)) ∈ lw_all := lw_g (lw_at lw_m8 113 rfl) rfl
theorem q1934 : (Jvm.Cond.selects "WidowRoadsModel" ({ cls := "WidowRoadsModel", name := "back", desc := "(I)I" } : Jvm.MethodName) ({ cls := "WidowRoadsModel", name := "back", desc := "(I)I" } : Jvm.MethodName)) ∈ lw_all := lw_g (lw_at lw_m8 114 rfl) rfl
theorem q1935 : (Jvm.Cond.code ({ cls := "WidowRoadsModel", name := "back", desc := "(I)I" } : Jvm.MethodName) prog_12_method_7_code (3 : Nat) (Option.some Jvm.ClassFile.FieldType.int)) ∈ lw_all := lw_g (lw_at lw_m8 115 rfl) rfl
theorem q1937 : (Jvm.Cond.instanceMethod ({ cls := "WidowRoadsModel", name := "feed", desc := "(IIIII)I" } : Jvm.MethodName)) ∈ lw_all := lw_g (lw_at lw_m8 117 rfl) rfl
theorem q1938 : (Jvm.Cond.selects "WidowRoadsModel" ({ cls := "WidowRoadsModel", name := "feed", desc := "(IIIII)I" } : Jvm.MethodName) ({ cls := "WidowRoadsModel", name := "feed", desc := "(IIIII)I" } : Jvm.MethodName)) ∈ lw_all := lw_g (lw_at lw_m8 118 rfl) rfl
theorem q1939 : (Jvm.Cond.code ({ cls := "WidowRoadsModel", name := "feed", desc := "(IIIII)I" } : Jvm.MethodName) prog_12_method_17_code (7 : Nat) (Option.some Jvm.ClassFile.FieldType.int)) ∈ lw_all := lw_g (lw_at lw_m8 119 rfl) rfl
theorem q1941 : (Jvm.Cond.instanceMethod ({ cls := "WidowRoadsModel", name := "end", desc := "(I)I" } : Jvm.MethodName)) ∈ lw_all := lw_g (lw_at lw_m8 121 rfl) rfl
theorem q1942 : (Jvm.Cond.selects "WidowRoadsModel" ({ cls := "WidowRoadsModel", name := "end", desc := "(I)I" } : Jvm.MethodName) ({ cls := "WidowRoadsModel", name := "end", desc := "(I)I" } : Jvm.MethodName)) ∈ lw_all := lw_g (lw_at lw_m8 122 rfl) rfl
theorem q1943 : (Jvm.Cond.code ({ cls := "WidowRoadsModel", name := "end", desc := "(I)I" } : Jvm.MethodName) prog_12_method_18_code (2 : Nat) (Option.some Jvm.ClassFile.FieldType.int)) ∈ lw_all := lw_g (lw_at lw_m8 123 rfl) rfl
theorem q1945 : (Jvm.Cond.instanceMethod ({ cls := "WidowRoadsModel", name := "fault", desc := "(I)I" } : Jvm.MethodName)) ∈ lw_all := lw_g (lw_at lw_m8 125 rfl) rfl
theorem q1946 : (Jvm.Cond.selects "WidowRoadsModel" ({ cls := "WidowRoadsModel", name := "fault", desc := "(I)I" } : Jvm.MethodName) ({ cls := "WidowRoadsModel", name := "fault", desc := "(I)I" } : Jvm.MethodName)) ∈ lw_all := lw_g (lw_at lw_m8 126 rfl) rfl
theorem q1947 : (Jvm.Cond.code ({ cls := "WidowRoadsModel", name := "fault", desc := "(I)I" } : Jvm.MethodName) prog_12_method_28_code (2 : Nat) (Option.some Jvm.ClassFile.FieldType.int)) ∈ lw_all := lw_g (lw_at lw_m8 127 rfl) rfl
theorem q1949 : (Jvm.Cond.instanceMethod ({ cls := "WidowRoadsModel", name := "colony", desc := "()I" } : Jvm.MethodName)) ∈ lw_all := lw_g (lw_at lw_m8 129 rfl) rfl
theorem q1950 : (Jvm.Cond.selects "WidowRoadsModel" ({ cls := "WidowRoadsModel", name := "colony", desc := "()I" } : Jvm.MethodName) ({ cls := "WidowRoadsModel", name := "colony", desc := "()I" } : Jvm.MethodName)) ∈ lw_all := lw_g (lw_at lw_m8 130 rfl) rfl
theorem q1951 : (Jvm.Cond.code ({ cls := "WidowRoadsModel", name := "colony", desc := "()I" } : Jvm.MethodName) prog_12_method_38_code (2 : Nat) (Option.some Jvm.ClassFile.FieldType.int)) ∈ lw_all := lw_g (lw_at lw_m8 131 rfl) rfl
theorem q1952 : (Jvm.Cond.methodLink "WidowRoadsModel" (179 : Nat) ({ cls := "WidowRoadsModel", name := "advance", desc := "()V" } : Jvm.MethodName)) ∈ lw_all := lw_g (lw_at lw_m8 132 rfl) rfl
theorem q1953 : (Jvm.Cond.privateMethod ({ cls := "WidowRoadsModel", name := "advance", desc := "()V" } : Jvm.MethodName)) ∈ lw_tbl := lw_at lw_m8 133 rfl
theorem q1954 : (Jvm.Cond.instanceMethod ({ cls := "WidowRoadsModel", name := "advance", desc := "()V" } : Jvm.MethodName)) ∈ lw_all := lw_g (lw_at lw_m8 134 rfl) rfl
theorem q1955 : (Jvm.Cond.code ({ cls := "WidowRoadsModel", name := "advance", desc := "()V" } : Jvm.MethodName) prog_12_method_20_code (2 : Nat) (Option.none : Option Jvm.ClassFile.FieldType)) ∈ lw_all := lw_g (lw_at lw_m8 135 rfl) rfl
theorem q1956 : (Jvm.Cond.methodLink "WidowRoadsModel" (132 : Nat) ({ cls := "WidowRoadsModel", name := "see", desc := "(I)I" } : Jvm.MethodName)) ∈ lw_all := lw_g (lw_at lw_m8 136 rfl) rfl
theorem q1957 : (Jvm.Cond.privateMethod ({ cls := "WidowRoadsModel", name := "see", desc := "(I)I" } : Jvm.MethodName)) ∈ lw_tbl := lw_at lw_m8 137 rfl
theorem q1958 : (Jvm.Cond.instanceMethod ({ cls := "WidowRoadsModel", name := "see", desc := "(I)I" } : Jvm.MethodName)) ∈ lw_all := lw_g (lw_at lw_m8 138 rfl) rfl
theorem q1959 : (Jvm.Cond.code ({ cls := "WidowRoadsModel", name := "see", desc := "(I)I" } : Jvm.MethodName) prog_12_method_19_code (2 : Nat) (Option.some Jvm.ClassFile.FieldType.int)) ∈ lw_all := lw_g (lw_at lw_m8 139 rfl) rfl
theorem q1960 : (Jvm.Cond.constantLong "WidowRoadsModel" (142 : Nat) (97 : Int64)) ∈ lw_all := lw_g (lw_at lw_m8 140 rfl) rfl
theorem q1961 : (Jvm.Cond.constantLong "WidowRoadsModel" (144 : Nat) (122 : Int64)) ∈ lw_all := lw_g (lw_at lw_m8 141 rfl) rfl
theorem q1962 : (Jvm.Cond.constantLong "WidowRoadsModel" (146 : Nat) (48 : Int64)) ∈ lw_all := lw_g (lw_at lw_m8 142 rfl) rfl
theorem q1963 : (Jvm.Cond.constantLong "WidowRoadsModel" (148 : Nat) (57 : Int64)) ∈ lw_all := lw_g (lw_at lw_m8 143 rfl) rfl
theorem q1964 : (Jvm.Cond.constant "WidowRoadsModel" (153 : Nat) (99999 : Int32)) ∈ lw_all := lw_g (lw_at lw_m8 144 rfl) rfl
theorem q1965 : (Jvm.Cond.methodLink "WidowRoadsModel" (154 : Nat) ({ cls := "java/lang/Math", name := "min", desc := "(II)I" } : Jvm.MethodName)) ∈ lw_all := lw_g (lw_at lw_m8 145 rfl) rfl
theorem q1966 : (Jvm.Cond.methodLink "WidowRoadsModel" (163 : Nat) ({ cls := "WidowRoadsModel", name := "good", desc := "()Z" } : Jvm.MethodName)) ∈ lw_all := lw_g (lw_at lw_m8 146 rfl) rfl
theorem q1967 : (Jvm.Cond.privateMethod ({ cls := "WidowRoadsModel", name := "good", desc := "()Z" } : Jvm.MethodName)) ∈ lw_tbl := lw_at lw_m8 147 rfl
theorem q1968 : (Jvm.Cond.instanceMethod ({ cls := "WidowRoadsModel", name := "good", desc := "()Z" } : Jvm.MethodName)) ∈ lw_all := lw_g (lw_at lw_m8 148 rfl) rfl
theorem q1969 : (Jvm.Cond.code ({ cls := "WidowRoadsModel", name := "good", desc := "()Z" } : Jvm.MethodName) prog_12_method_21_code (1 : Nat) (Option.some Jvm.ClassFile.FieldType.boolean)) ∈ lw_all := lw_g (lw_at lw_m8 149 rfl) rfl
theorem q1970 : (Jvm.Cond.methodLink "WidowRoadsModel" (258 : Nat) ({ cls := "WidowRoadsModel", name := "readLine", desc := "()V" } : Jvm.MethodName)) ∈ lw_all := lw_g (lw_at lw_m8 150 rfl) rfl
theorem q1971 : (Jvm.Cond.privateMethod ({ cls := "WidowRoadsModel", name := "readLine", desc := "()V" } : Jvm.MethodName)) ∈ lw_tbl := lw_at lw_m8 151 rfl
theorem q1972 : (Jvm.Cond.instanceMethod ({ cls := "WidowRoadsModel", name := "readLine", desc := "()V" } : Jvm.MethodName)) ∈ lw_all := lw_g (lw_at lw_m8 152 rfl) rfl
theorem q1973 : (Jvm.Cond.code ({ cls := "WidowRoadsModel", name := "readLine", desc := "()V" } : Jvm.MethodName) prog_12_method_37_code (1 : Nat) (Option.none : Option Jvm.ClassFile.FieldType)) ∈ lw_all := lw_g (lw_at lw_m8 153 rfl) rfl
theorem q1974 : (Jvm.Cond.methodLink "WidowRoadsModel" (252 : Nat) ({ cls := "WidowRoadsModel", name := "readFirst", desc := "()V" } : Jvm.MethodName)) ∈ lw_all := lw_g (lw_at lw_m8 154 rfl) rfl
theorem q1975 : (Jvm.Cond.privateMethod ({ cls := "WidowRoadsModel", name := "readFirst", desc := "()V" } : Jvm.MethodName)) ∈ lw_tbl := lw_at lw_m8 155 rfl
theorem q1976 : (Jvm.Cond.instanceMethod ({ cls := "WidowRoadsModel", name := "readFirst", desc := "()V" } : Jvm.MethodName)) ∈ lw_all := lw_g (lw_at lw_m8 156 rfl) rfl
theorem q1977 : (Jvm.Cond.code ({ cls := "WidowRoadsModel", name := "readFirst", desc := "()V" } : Jvm.MethodName) prog_12_method_29_code (1 : Nat) (Option.none : Option Jvm.ClassFile.FieldType)) ∈ lw_all := lw_g (lw_at lw_m8 157 rfl) rfl
theorem q1978 : (Jvm.Cond.stringRef "WidowRoadsModel" (196 : Nat) "colony") ∈ lw_tbl := lw_at lw_m8 158 rfl
theorem q1979 : (Jvm.Cond.methodLink "WidowRoadsModel" (189 : Nat) ({ cls := "WidowRoadsModel", name := "expects", desc := "(Ljava/lang/String;)V" } : Jvm.MethodName)) ∈ lw_all := lw_g (lw_at lw_m8 159 rfl) rfl
theorem q1980 : (Jvm.Cond.privateMethod ({ cls := "WidowRoadsModel", name := "expects", desc := "(Ljava/lang/String;)V" } : Jvm.MethodName)) ∈ lw_tbl := lw_at lw_m8 160 rfl
theorem q1981 : (Jvm.Cond.instanceMethod ({ cls := "WidowRoadsModel", name := "expects", desc := "(Ljava/lang/String;)V" } : Jvm.MethodName)) ∈ lw_all := lw_g (lw_at lw_m8 161 rfl) rfl
theorem q1982 : (Jvm.Cond.code ({ cls := "WidowRoadsModel", name := "expects", desc := "(Ljava/lang/String;)V" } : Jvm.MethodName) prog_12_method_25_code (2 : Nat) (Option.none : Option Jvm.ClassFile.FieldType)) ∈ lw_all := lw_g (lw_at lw_m8 162 rfl) rfl
theorem q1983 : (Jvm.Cond.methodLink "WidowRoadsModel" (182 : Nat) ({ cls := "WidowRoadsModel", name := "takes", desc := "(Ljava/lang/String;)Z" } : Jvm.MethodName)) ∈ lw_all := lw_g (lw_at lw_m8 163 rfl) rfl
theorem q1984 : (Jvm.Cond.privateMethod ({ cls := "WidowRoadsModel", name := "takes", desc := "(Ljava/lang/String;)Z" } : Jvm.MethodName)) ∈ lw_tbl := lw_at lw_m8 164 rfl
theorem q1985 : (Jvm.Cond.instanceMethod ({ cls := "WidowRoadsModel", name := "takes", desc := "(Ljava/lang/String;)Z" } : Jvm.MethodName)) ∈ lw_all := lw_g (lw_at lw_m8 165 rfl) rfl
theorem q1986 : (Jvm.Cond.code ({ cls := "WidowRoadsModel", name := "takes", desc := "(Ljava/lang/String;)Z" } : Jvm.MethodName) prog_12_method_24_code (3 : Nat) (Option.some Jvm.ClassFile.FieldType.boolean)) ∈ lw_all := lw_g (lw_at lw_m8 166 rfl) rfl
theorem q1987 : (Jvm.Cond.methodLink "WidowRoadsModel" (175 : Nat) ({ cls := "WidowRoadsModel", name := "is", desc := "(Ljava/lang/String;)Z" } : Jvm.MethodName)) ∈ lw_all := lw_g (lw_at lw_m8 167 rfl) rfl
theorem q1988 : (Jvm.Cond.privateMethod ({ cls := "WidowRoadsModel", name := "is", desc := "(Ljava/lang/String;)Z" } : Jvm.MethodName)) ∈ lw_tbl := lw_at lw_m8 168 rfl
theorem q1989 : (Jvm.Cond.instanceMethod ({ cls := "WidowRoadsModel", name := "is", desc := "(Ljava/lang/String;)Z" } : Jvm.MethodName)) ∈ lw_all := lw_g (lw_at lw_m8 169 rfl) rfl
theorem q1990 : (Jvm.Cond.code ({ cls := "WidowRoadsModel", name := "is", desc := "(Ljava/lang/String;)Z" } : Jvm.MethodName) prog_12_method_23_code (4 : Nat) (Option.some Jvm.ClassFile.FieldType.boolean)) ∈ lw_all := lw_g (lw_at lw_m8 170 rfl) rfl
theorem q1991 : (Jvm.Cond.methodLink "WidowRoadsModel" (166 : Nat) ({ cls := "java/lang/String", name := "length", desc := "()I" } : Jvm.MethodName)) ∈ lw_all := lw_g (lw_at lw_m8 171 rfl) rfl
theorem q1992 : (Jvm.Cond.methodLink "WidowRoadsModel" (171 : Nat) ({ cls := "java/lang/String", name := "charAt", desc := "(I)C" } : Jvm.MethodName)) ∈ lw_all := lw_g (lw_at lw_m8 172 rfl) rfl
theorem q1993 : (Jvm.Cond.methodLink "WidowRoadsModel" (185 : Nat) ({ cls := "WidowRoadsModel", name := "errs", desc := "(I)V" } : Jvm.MethodName)) ∈ lw_all := lw_g (lw_at lw_m8 173 rfl) rfl
theorem q1994 : (Jvm.Cond.privateMethod ({ cls := "WidowRoadsModel", name := "errs", desc := "(I)V" } : Jvm.MethodName)) ∈ lw_tbl := lw_at lw_m8 174 rfl
theorem q1995 : (Jvm.Cond.instanceMethod ({ cls := "WidowRoadsModel", name := "errs", desc := "(I)V" } : Jvm.MethodName)) ∈ lw_all := lw_g (lw_at lw_m8 175 rfl) rfl
theorem q1996 : (Jvm.Cond.code ({ cls := "WidowRoadsModel", name := "errs", desc := "(I)V" } : Jvm.MethodName) prog_12_method_22_code (2 : Nat) (Option.none : Option Jvm.ClassFile.FieldType)) ∈ lw_all := lw_g (lw_at lw_m8 176 rfl) rfl
theorem q1997 : (Jvm.Cond.stringRef "WidowRoadsModel" (198 : Nat) "years") ∈ lw_tbl := lw_at lw_m8 177 rfl
theorem q1998 : (Jvm.Cond.methodLink "WidowRoadsModel" (199 : Nat) ({ cls := "WidowRoadsModel", name := "toldBy", desc := "(Ljava/lang/String;II)I" } : Jvm.MethodName)) ∈ lw_all := lw_g (lw_at lw_m8 178 rfl) rfl
theorem q1999 : (Jvm.Cond.privateMethod ({ cls := "WidowRoadsModel", name := "toldBy", desc := "(Ljava/lang/String;II)I" } : Jvm.MethodName)) ∈ lw_tbl := lw_at lw_m8 179 rfl
theorem q2000 : (Jvm.Cond.instanceMethod ({ cls := "WidowRoadsModel", name := "toldBy", desc := "(Ljava/lang/String;II)I" } : Jvm.MethodName)) ∈ lw_all := lw_g (lw_at lw_m8 180 rfl) rfl
theorem q2001 : (Jvm.Cond.code ({ cls := "WidowRoadsModel", name := "toldBy", desc := "(Ljava/lang/String;II)I" } : Jvm.MethodName) prog_12_method_27_code (4 : Nat) (Option.some Jvm.ClassFile.FieldType.int)) ∈ lw_all := lw_g (lw_at lw_m8 181 rfl) rfl
theorem q2002 : (Jvm.Cond.methodLink "WidowRoadsModel" (193 : Nat) ({ cls := "WidowRoadsModel", name := "number", desc := "(II)I" } : Jvm.MethodName)) ∈ lw_all := lw_g (lw_at lw_m8 182 rfl) rfl
theorem q2003 : (Jvm.Cond.privateMethod ({ cls := "WidowRoadsModel", name := "number", desc := "(II)I" } : Jvm.MethodName)) ∈ lw_tbl := lw_at lw_m8 183 rfl
theorem q2004 : (Jvm.Cond.instanceMethod ({ cls := "WidowRoadsModel", name := "number", desc := "(II)I" } : Jvm.MethodName)) ∈ lw_all := lw_g (lw_at lw_m8 184 rfl) rfl
theorem q2005 : (Jvm.Cond.code ({ cls := "WidowRoadsModel", name := "number", desc := "(II)I" } : Jvm.MethodName) prog_12_method_26_code (4 : Nat) (Option.some Jvm.ClassFile.FieldType.int)) ∈ lw_all := lw_g (lw_at lw_m8 185 rfl) rfl
theorem q2006 : (Jvm.Cond.stringRef "WidowRoadsModel" (203 : Nat) "law") ∈ lw_tbl := lw_at lw_m8 186 rfl
theorem q2007 : (Jvm.Cond.stringRef "WidowRoadsModel" (205 : Nat) "odds") ∈ lw_tbl := lw_at lw_m8 187 rfl
theorem q2008 : (Jvm.Cond.stringRef "WidowRoadsModel" (207 : Nat) "wide") ∈ lw_tbl := lw_at lw_m8 188 rfl
theorem q2009 : (Jvm.Cond.stringRef "WidowRoadsModel" (209 : Nat) "high") ∈ lw_tbl := lw_at lw_m8 189 rfl
theorem q2010 : (Jvm.Cond.methodLink "WidowRoadsModel" (255 : Nat) ({ cls := "WidowRoadsModel", name := "readNext", desc := "()V" } : Jvm.MethodName)) ∈ lw_all := lw_g (lw_at lw_m8 190 rfl) rfl
theorem q2011 : (Jvm.Cond.privateMethod ({ cls := "WidowRoadsModel", name := "readNext", desc := "()V" } : Jvm.MethodName)) ∈ lw_tbl := lw_at lw_m8 191 rfl
theorem q2012 : (Jvm.Cond.instanceMethod ({ cls := "WidowRoadsModel", name := "readNext", desc := "()V" } : Jvm.MethodName)) ∈ lw_all := lw_g (lw_at lw_m8 192 rfl) rfl
theorem q2013 : (Jvm.Cond.code ({ cls := "WidowRoadsModel", name := "readNext", desc := "()V" } : Jvm.MethodName) prog_12_method_36_code (3 : Nat) (Option.none : Option Jvm.ClassFile.FieldType)) ∈ lw_all := lw_g (lw_at lw_m8 193 rfl) rfl
theorem q2014 : (Jvm.Cond.stringRef "WidowRoadsModel" (240 : Nat) "creek") ∈ lw_tbl := lw_at lw_m8 194 rfl
theorem q2015 : (Jvm.Cond.stringRef "WidowRoadsModel" (242 : Nat) "house") ∈ lw_tbl := lw_at lw_m8 195 rfl
theorem q2016 : (Jvm.Cond.stringRef "WidowRoadsModel" (244 : Nat) "widow") ∈ lw_tbl := lw_at lw_m8 196 rfl
theorem q2017 : (Jvm.Cond.methodLink "WidowRoadsModel" (246 : Nat) ({ cls := "WidowRoadsModel", name := "isFull", desc := "()Z" } : Jvm.MethodName)) ∈ lw_all := lw_g (lw_at lw_m8 197 rfl) rfl
theorem q2018 : (Jvm.Cond.privateMethod ({ cls := "WidowRoadsModel", name := "isFull", desc := "()Z" } : Jvm.MethodName)) ∈ lw_tbl := lw_at lw_m8 198 rfl
theorem q2019 : (Jvm.Cond.instanceMethod ({ cls := "WidowRoadsModel", name := "isFull", desc := "()Z" } : Jvm.MethodName)) ∈ lw_all := lw_g (lw_at lw_m8 199 rfl) rfl
theorem q2020 : (Jvm.Cond.code ({ cls := "WidowRoadsModel", name := "isFull", desc := "()Z" } : Jvm.MethodName) prog_12_method_35_code (1 : Nat) (Option.some Jvm.ClassFile.FieldType.boolean)) ∈ lw_all := lw_g (lw_at lw_m8 200 rfl) rfl
theorem q2021 : (Jvm.Cond.methodLink "WidowRoadsModel" (226 : Nat) ({ cls := "WidowRoadsModel", name := "readCell", desc := "(Z)I" } : Jvm.MethodName)) ∈ lw_all := lw_g (lw_at lw_m8 201 rfl) rfl
theorem q2022 : (Jvm.Cond.privateMethod ({ cls := "WidowRoadsModel", name := "readCell", desc := "(Z)I" } : Jvm.MethodName)) ∈ lw_tbl := lw_at lw_m8 202 rfl
theorem q2023 : (Jvm.Cond.instanceMethod ({ cls := "WidowRoadsModel", name := "readCell", desc := "(Z)I" } : Jvm.MethodName)) ∈ lw_all := lw_g (lw_at lw_m8 203 rfl) rfl
theorem q2024 : (Jvm.Cond.code ({ cls := "WidowRoadsModel", name := "readCell", desc := "(Z)I" } : Jvm.MethodName) prog_12_method_31_code (4 : Nat) (Option.some Jvm.ClassFile.FieldType.int)) ∈ lw_all := lw_g (lw_at lw_m8 204 rfl) rfl
theorem q2025 : (Jvm.Cond.methodLink "WidowRoadsModel" (211 : Nat) ({ cls := "WidowRoadsModel", name := "isTaken", desc := "(III)Z" } : Jvm.MethodName)) ∈ lw_all := lw_g (lw_at lw_m8 205 rfl) rfl
theorem q2026 : (Jvm.Cond.privateMethod ({ cls := "WidowRoadsModel", name := "isTaken", desc := "(III)Z" } : Jvm.MethodName)) ∈ lw_tbl := lw_at lw_m8 206 rfl
theorem q2027 : (Jvm.Cond.instanceMethod ({ cls := "WidowRoadsModel", name := "isTaken", desc := "(III)Z" } : Jvm.MethodName)) ∈ lw_all := lw_g (lw_at lw_m8 207 rfl) rfl
theorem q2028 : (Jvm.Cond.code ({ cls := "WidowRoadsModel", name := "isTaken", desc := "(III)Z" } : Jvm.MethodName) prog_12_method_30_code (6 : Nat) (Option.some Jvm.ClassFile.FieldType.boolean)) ∈ lw_all := lw_g (lw_at lw_m8 208 rfl) rfl
theorem q2029 : (Jvm.Cond.methodLink "WidowRoadsModel" (249 : Nat) ({ cls := "WidowRoadsModel", name := "readWidow", desc := "()V" } : Jvm.MethodName)) ∈ lw_all := lw_g (lw_at lw_m8 209 rfl) rfl
theorem q2030 : (Jvm.Cond.privateMethod ({ cls := "WidowRoadsModel", name := "readWidow", desc := "()V" } : Jvm.MethodName)) ∈ lw_tbl := lw_at lw_m8 210 rfl
theorem q2031 : (Jvm.Cond.instanceMethod ({ cls := "WidowRoadsModel", name := "readWidow", desc := "()V" } : Jvm.MethodName)) ∈ lw_all := lw_g (lw_at lw_m8 211 rfl) rfl
theorem q2032 : (Jvm.Cond.code ({ cls := "WidowRoadsModel", name := "readWidow", desc := "()V" } : Jvm.MethodName) prog_12_method_34_code (2 : Nat) (Option.none : Option Jvm.ClassFile.FieldType)) ∈ lw_all := lw_g (lw_at lw_m8 212 rfl) rfl
theorem q2033 : (Jvm.Cond.stringRef "WidowRoadsModel" (230 : Nat) "faces") ∈ lw_tbl := lw_at lw_m8 213 rfl
theorem q2034 : (Jvm.Cond.stringRef "WidowRoadsModel" (232 : Nat) "steps") ∈ lw_tbl := lw_at lw_m8 214 rfl
theorem q2035 : (Jvm.Cond.stringRef "WidowRoadsModel" (234 : Nat) "at") ∈ lw_tbl := lw_at lw_m8 215 rfl
theorem q2036 : (Jvm.Cond.stringRef "WidowRoadsModel" (235 : Nat) "grief") ∈ lw_tbl := lw_at lw_m8 216 rfl
theorem q2037 : (Jvm.Cond.methodLink "WidowRoadsModel" (237 : Nat) ({ cls := "WidowRoadsModel", name := "readTurn", desc := "(I)V" } : Jvm.MethodName)) ∈ lw_all := lw_g (lw_at lw_m8 217 rfl) rfl
theorem q2038 : (Jvm.Cond.privateMethod ({ cls := "WidowRoadsModel", name := "readTurn", desc := "(I)V" } : Jvm.MethodName)) ∈ lw_tbl := lw_at lw_m8 218 rfl
theorem q2039 : (Jvm.Cond.instanceMethod ({ cls := "WidowRoadsModel", name := "readTurn", desc := "(I)V" } : Jvm.MethodName)) ∈ lw_all := lw_g (lw_at lw_m8 219 rfl) rfl
theorem q2040 : (Jvm.Cond.code ({ cls := "WidowRoadsModel", name := "readTurn", desc := "(I)V" } : Jvm.MethodName) prog_12_method_33_code (3 : Nat) (Option.none : Option Jvm.ClassFile.FieldType)) ∈ lw_all := lw_g (lw_at lw_m8 220 rfl) rfl
theorem q2041 : (Jvm.Cond.methodLink "WidowRoadsModel" (223 : Nat) ({ cls := "WidowRoadsModel", name := "turnWord", desc := "()I" } : Jvm.MethodName)) ∈ lw_all := lw_g (lw_at lw_m8 221 rfl) rfl
theorem q2042 : (Jvm.Cond.privateMethod ({ cls := "WidowRoadsModel", name := "turnWord", desc := "()I" } : Jvm.MethodName)) ∈ lw_tbl := lw_at lw_m8 222 rfl
theorem q2043 : (Jvm.Cond.instanceMethod ({ cls := "WidowRoadsModel", name := "turnWord", desc := "()I" } : Jvm.MethodName)) ∈ lw_all := lw_g (lw_at lw_m8 223 rfl) rfl
theorem q2044 : (Jvm.Cond.code ({ cls := "WidowRoadsModel", name := "turnWord", desc := "()I" } : Jvm.MethodName) prog_12_method_32_code (1 : Nat) (Option.some Jvm.ClassFile.FieldType.int)) ∈ lw_all := lw_g (lw_at lw_m8 224 rfl) rfl
theorem q2045 : (Jvm.Cond.stringRef "WidowRoadsModel" (215 : Nat) "on") ∈ lw_tbl := lw_at lw_m8 225 rfl
theorem q2046 : (Jvm.Cond.stringRef "WidowRoadsModel" (217 : Nat) "right") ∈ lw_tbl := lw_at lw_m8 226 rfl
theorem q2047 : (Jvm.Cond.stringRef "WidowRoadsModel" (219 : Nat) "back") ∈ lw_tbl := lw_at lw_m8 227 rfl
theorem q2048 : (Jvm.Cond.stringRef "WidowRoadsModel" (221 : Nat) "left") ∈ lw_tbl := lw_at lw_m8 228 rfl
theorem q2050 : (Jvm.Cond.instanceMethod ({ cls := "WidowRoadsModel", name := "widow", desc := "(II)I" } : Jvm.MethodName)) ∈ lw_all := lw_g (lw_at lw_m8 230 rfl) rfl
theorem q2051 : (Jvm.Cond.selects "WidowRoadsModel" ({ cls := "WidowRoadsModel", name := "widow", desc := "(II)I" } : Jvm.MethodName) ({ cls := "WidowRoadsModel", name := "widow", desc := "(II)I" } : Jvm.MethodName)) ∈ lw_all := lw_g (lw_at lw_m8 231 rfl) rfl
theorem q2052 : (Jvm.Cond.code ({ cls := "WidowRoadsModel", name := "widow", desc := "(II)I" } : Jvm.MethodName) prog_12_method_39_code (3 : Nat) (Option.some Jvm.ClassFile.FieldType.int)) ∈ lw_all := lw_g (lw_at lw_m8 232 rfl) rfl
theorem q2053 : (Jvm.Cond.methodLink "WidowRoadsModel" (261 : Nat) ({ cls := "WidowRoadsModel", name := "isWidow", desc := "(J)Z" } : Jvm.MethodName)) ∈ lw_all := lw_g (lw_at lw_m8 233 rfl) rfl
theorem q2054 : (Jvm.Cond.privateMethod ({ cls := "WidowRoadsModel", name := "isWidow", desc := "(J)Z" } : Jvm.MethodName)) ∈ lw_tbl := lw_at lw_m8 234 rfl
theorem q2055 : (Jvm.Cond.instanceMethod ({ cls := "WidowRoadsModel", name := "isWidow", desc := "(J)Z" } : Jvm.MethodName)) ∈ lw_all := lw_g (lw_at lw_m8 235 rfl) rfl
theorem q2056 : (Jvm.Cond.code ({ cls := "WidowRoadsModel", name := "isWidow", desc := "(J)Z" } : Jvm.MethodName) prog_12_method_15_code (3 : Nat) (Option.some Jvm.ClassFile.FieldType.boolean)) ∈ lw_all := lw_g (lw_at lw_m8 236 rfl) rfl
theorem q2057 : (Jvm.Cond.methodLink "WidowRoadsModel" (110 : Nat) ({ cls := "WidowRoadsModel", name := "widows", desc := "()I" } : Jvm.MethodName)) ∈ lw_all := lw_g (lw_at lw_m8 237 rfl) rfl
theorem q2058 : (Jvm.Cond.privateMethod ({ cls := "WidowRoadsModel", name := "widows", desc := "()I" } : Jvm.MethodName)) ∈ lw_tbl := lw_at lw_m8 238 rfl
theorem q2059 : (Jvm.Cond.instanceMethod ({ cls := "WidowRoadsModel", name := "widows", desc := "()I" } : Jvm.MethodName)) ∈ lw_all := lw_g (lw_at lw_m8 239 rfl) rfl
theorem q2060 : (Jvm.Cond.code ({ cls := "WidowRoadsModel", name := "widows", desc := "()I" } : Jvm.MethodName) prog_12_method_10_code (1 : Nat) (Option.some Jvm.ClassFile.FieldType.int)) ∈ lw_all := lw_g (lw_at lw_m9 0 rfl) rfl
theorem q2061 : (Jvm.Cond.constantLong "WidowRoadsModel" (265 : Nat) (4 : Int64)) ∈ lw_all := lw_g (lw_at lw_m9 1 rfl) rfl
theorem q2062 : (Jvm.Cond.methodLink "WidowRoadsModel" (267 : Nat) ({ cls := "WidowRoadsModel", name := "widowOf", desc := "(II)I" } : Jvm.MethodName)) ∈ lw_all := lw_g (lw_at lw_m9 2 rfl) rfl
theorem q2063 : (Jvm.Cond.privateMethod ({ cls := "WidowRoadsModel", name := "widowOf", desc := "(II)I" } : Jvm.MethodName)) ∈ lw_tbl := lw_at lw_m9 3 rfl
theorem q2064 : (Jvm.Cond.instanceMethod ({ cls := "WidowRoadsModel", name := "widowOf", desc := "(II)I" } : Jvm.MethodName)) ∈ lw_all := lw_g (lw_at lw_m9 4 rfl) rfl
theorem q2065 : (Jvm.Cond.code ({ cls := "WidowRoadsModel", name := "widowOf", desc := "(II)I" } : Jvm.MethodName) prog_12_method_16_code (3 : Nat) (Option.some Jvm.ClassFile.FieldType.int)) ∈ lw_all := lw_g (lw_at lw_m9 5 rfl) rfl
theorem q2067 : (Jvm.Cond.instanceMethod ({ cls := "WidowRoadsModel", name := "grief", desc := "(II)I" } : Jvm.MethodName)) ∈ lw_all := lw_g (lw_at lw_m9 7 rfl) rfl
theorem q2068 : (Jvm.Cond.selects "WidowRoadsModel" ({ cls := "WidowRoadsModel", name := "grief", desc := "(II)I" } : Jvm.MethodName) ({ cls := "WidowRoadsModel", name := "grief", desc := "(II)I" } : Jvm.MethodName)) ∈ lw_all := lw_g (lw_at lw_m9 8 rfl) rfl
theorem q2069 : (Jvm.Cond.code ({ cls := "WidowRoadsModel", name := "grief", desc := "(II)I" } : Jvm.MethodName) prog_12_method_40_code (3 : Nat) (Option.some Jvm.ClassFile.FieldType.int)) ∈ lw_all := lw_g (lw_at lw_m9 9 rfl) rfl
theorem q2071 : (Jvm.Cond.instanceMethod ({ cls := "WidowRoadsModel", name := "creek", desc := "(I)I" } : Jvm.MethodName)) ∈ lw_all := lw_g (lw_at lw_m9 11 rfl) rfl
theorem q2072 : (Jvm.Cond.selects "WidowRoadsModel" ({ cls := "WidowRoadsModel", name := "creek", desc := "(I)I" } : Jvm.MethodName) ({ cls := "WidowRoadsModel", name := "creek", desc := "(I)I" } : Jvm.MethodName)) ∈ lw_all := lw_g (lw_at lw_m9 12 rfl) rfl
theorem q2073 : (Jvm.Cond.code ({ cls := "WidowRoadsModel", name := "creek", desc := "(I)I" } : Jvm.MethodName) prog_12_method_65_code (2 : Nat) (Option.some Jvm.ClassFile.FieldType.int)) ∈ lw_all := lw_g (lw_at lw_m9 13 rfl) rfl
theorem q2074 : (Jvm.Cond.methodLink "WidowRoadsModel" (353 : Nat) ({ cls := "WidowRoadsModel", name := "asksCell", desc := "(I)Z" } : Jvm.MethodName)) ∈ lw_all := lw_g (lw_at lw_m9 14 rfl) rfl
theorem q2075 : (Jvm.Cond.privateMethod ({ cls := "WidowRoadsModel", name := "asksCell", desc := "(I)Z" } : Jvm.MethodName)) ∈ lw_tbl := lw_at lw_m9 15 rfl
theorem q2076 : (Jvm.Cond.instanceMethod ({ cls := "WidowRoadsModel", name := "asksCell", desc := "(I)Z" } : Jvm.MethodName)) ∈ lw_all := lw_g (lw_at lw_m9 16 rfl) rfl
theorem q2077 : (Jvm.Cond.code ({ cls := "WidowRoadsModel", name := "asksCell", desc := "(I)Z" } : Jvm.MethodName) prog_12_method_57_code (2 : Nat) (Option.some Jvm.ClassFile.FieldType.boolean)) ∈ lw_all := lw_g (lw_at lw_m9 17 rfl) rfl
theorem q2078 : (Jvm.Cond.methodLink "WidowRoadsModel" (335 : Nat) ({ cls := "WidowRoadsModel", name := "asksColony", desc := "()Z" } : Jvm.MethodName)) ∈ lw_all := lw_g (lw_at lw_m9 18 rfl) rfl
theorem q2079 : (Jvm.Cond.privateMethod ({ cls := "WidowRoadsModel", name := "asksColony", desc := "()Z" } : Jvm.MethodName)) ∈ lw_tbl := lw_at lw_m9 19 rfl
theorem q2080 : (Jvm.Cond.instanceMethod ({ cls := "WidowRoadsModel", name := "asksColony", desc := "()Z" } : Jvm.MethodName)) ∈ lw_all := lw_g (lw_at lw_m9 20 rfl) rfl
theorem q2081 : (Jvm.Cond.code ({ cls := "WidowRoadsModel", name := "asksColony", desc := "()Z" } : Jvm.MethodName) prog_12_method_54_code (1 : Nat) (Option.some Jvm.ClassFile.FieldType.boolean)) ∈ lw_all := lw_g (lw_at lw_m9 21 rfl) rfl
theorem q2082 : (Jvm.Cond.methodLink "WidowRoadsModel" (329 : Nat) ({ cls := "WidowRoadsModel", name := "asItIs", desc := "()V" } : Jvm.MethodName)) ∈ lw_all := lw_g (lw_at lw_m9 22 rfl) rfl
theorem q2083 : (Jvm.Cond.privateMethod ({ cls := "WidowRoadsModel", name := "asItIs", desc := "()V" } : Jvm.MethodName)) ∈ lw_tbl := lw_at lw_m9 23 rfl
theorem q2084 : (Jvm.Cond.instanceMethod ({ cls := "WidowRoadsModel", name := "asItIs", desc := "()V" } : Jvm.MethodName)) ∈ lw_all := lw_g (lw_at lw_m9 24 rfl) rfl
theorem q2085 : (Jvm.Cond.code ({ cls := "WidowRoadsModel", name := "asItIs", desc := "()V" } : Jvm.MethodName) prog_12_method_41_code (3 : Nat) (Option.none : Option Jvm.ClassFile.FieldType)) ∈ lw_all := lw_g (lw_at lw_m9 25 rfl) rfl
theorem q2086 : (Jvm.Cond.methodLink "WidowRoadsModel" (273 : Nat) ({ cls := "WidowRoadsModel", name := "allWidows", desc := "()I" } : Jvm.MethodName)) ∈ lw_all := lw_g (lw_at lw_m9 26 rfl) rfl
theorem q2087 : (Jvm.Cond.privateMethod ({ cls := "WidowRoadsModel", name := "allWidows", desc := "()I" } : Jvm.MethodName)) ∈ lw_tbl := lw_at lw_m9 27 rfl
theorem q2088 : (Jvm.Cond.instanceMethod ({ cls := "WidowRoadsModel", name := "allWidows", desc := "()I" } : Jvm.MethodName)) ∈ lw_all := lw_g (lw_at lw_m9 28 rfl) rfl
theorem q2089 : (Jvm.Cond.code ({ cls := "WidowRoadsModel", name := "allWidows", desc := "()I" } : Jvm.MethodName) prog_12_method_12_code (1 : Nat) (Option.some Jvm.ClassFile.FieldType.int)) ∈ lw_all := lw_g (lw_at lw_m9 29 rfl) rfl
theorem q2090 : (Jvm.Cond.methodLink "WidowRoadsModel" (332 : Nat) ({ cls := "WidowRoadsModel", name := "goAll", desc := "()V" } : Jvm.MethodName)) ∈ lw_all := lw_g (lw_at lw_m9 30 rfl) rfl
theorem q2091 : (Jvm.Cond.privateMethod ({ cls := "WidowRoadsModel", name := "goAll", desc := "()V" } : Jvm.MethodName)) ∈ lw_tbl := lw_at lw_m9 31 rfl
theorem q2092 : (Jvm.Cond.instanceMethod ({ cls := "WidowRoadsModel", name := "goAll", desc := "()V" } : Jvm.MethodName)) ∈ lw_all := lw_g (lw_at lw_m9 32 rfl) rfl
theorem q2093 : (Jvm.Cond.code ({ cls := "WidowRoadsModel", name := "goAll", desc := "()V" } : Jvm.MethodName) prog_12_method_53_code (3 : Nat) (Option.none : Option Jvm.ClassFile.FieldType)) ∈ lw_all := lw_g (lw_at lw_m9 33 rfl) rfl
theorem q2094 : (Jvm.Cond.methodLink "WidowRoadsModel" (118 : Nat) ({ cls := "WidowRoadsModel", name := "years", desc := "()I" } : Jvm.MethodName)) ∈ lw_all := lw_g (lw_at lw_m9 34 rfl) rfl
theorem q2095 : (Jvm.Cond.privateMethod ({ cls := "WidowRoadsModel", name := "years", desc := "()I" } : Jvm.MethodName)) ∈ lw_tbl := lw_at lw_m9 35 rfl
theorem q2096 : (Jvm.Cond.instanceMethod ({ cls := "WidowRoadsModel", name := "years", desc := "()I" } : Jvm.MethodName)) ∈ lw_all := lw_g (lw_at lw_m9 36 rfl) rfl
theorem q2097 : (Jvm.Cond.code ({ cls := "WidowRoadsModel", name := "years", desc := "()I" } : Jvm.MethodName) prog_12_method_9_code (1 : Nat) (Option.some Jvm.ClassFile.FieldType.int)) ∈ lw_all := lw_g (lw_at lw_m9 37 rfl) rfl
theorem q2098 : (Jvm.Cond.methodLink "WidowRoadsModel" (320 : Nat) ({ cls := "WidowRoadsModel", name := "keepYear", desc := "(I)V" } : Jvm.MethodName)) ∈ lw_all := lw_g (lw_at lw_m9 38 rfl) rfl
theorem q2099 : (Jvm.Cond.privateMethod ({ cls := "WidowRoadsModel", name := "keepYear", desc := "(I)V" } : Jvm.MethodName)) ∈ lw_tbl := lw_at lw_m9 39 rfl
theorem q2100 : (Jvm.Cond.instanceMethod ({ cls := "WidowRoadsModel", name := "keepYear", desc := "(I)V" } : Jvm.MethodName)) ∈ lw_all := lw_g (lw_at lw_m9 40 rfl) rfl
theorem q2101 : (Jvm.Cond.code ({ cls := "WidowRoadsModel", name := "keepYear", desc := "(I)V" } : Jvm.MethodName) prog_12_method_52_code (3 : Nat) (Option.none : Option Jvm.ClassFile.FieldType)) ∈ lw_all := lw_g (lw_at lw_m9 41 rfl) rfl
theorem q2102 : (Jvm.Cond.methodLink "WidowRoadsModel" (323 : Nat) ({ cls := "WidowRoadsModel", name := "bit", desc := "(II)I" } : Jvm.MethodName)) ∈ lw_all := lw_g (lw_at lw_m9 42 rfl) rfl
theorem q2103 : (Jvm.Cond.static ({ cls := "WidowRoadsModel", name := "bit", desc := "(II)I" } : Jvm.MethodName)) ∈ lw_all := lw_g (lw_at lw_m9 43 rfl) rfl
theorem q2104 : (Jvm.Cond.code ({ cls := "WidowRoadsModel", name := "bit", desc := "(II)I" } : Jvm.MethodName) prog_12_method_5_code (2 : Nat) (Option.some Jvm.ClassFile.FieldType.int)) ∈ lw_all := lw_g (lw_at lw_m9 44 rfl) rfl
theorem q2105 : (Jvm.Cond.methodLink "WidowRoadsModel" (326 : Nat) ({ cls := "WidowRoadsModel", name := "walk", desc := "(I)V" } : Jvm.MethodName)) ∈ lw_all := lw_g (lw_at lw_m9 45 rfl) rfl
theorem q2106 : (Jvm.Cond.privateMethod ({ cls := "WidowRoadsModel", name := "walk", desc := "(I)V" } : Jvm.MethodName)) ∈ lw_tbl := lw_at lw_m9 46 rfl
theorem q2107 : (Jvm.Cond.instanceMethod ({ cls := "WidowRoadsModel", name := "walk", desc := "(I)V" } : Jvm.MethodName)) ∈ lw_all := lw_g (lw_at lw_m9 47 rfl) rfl
theorem q2108 : (Jvm.Cond.code ({ cls := "WidowRoadsModel", name := "walk", desc := "(I)V" } : Jvm.MethodName) prog_12_method_48_code (10 : Nat) (Option.none : Option Jvm.ClassFile.FieldType)) ∈ lw_all := lw_g (lw_at lw_m9 48 rfl) rfl
theorem q2109 : (Jvm.Cond.methodLink "WidowRoadsModel" (298 : Nat) ({ cls := "WidowRoadsModel", name := "turnAt", desc := "(II)I" } : Jvm.MethodName)) ∈ lw_all := lw_g (lw_at lw_m9 49 rfl) rfl
theorem q2110 : (Jvm.Cond.privateMethod ({ cls := "WidowRoadsModel", name := "turnAt", desc := "(II)I" } : Jvm.MethodName)) ∈ lw_tbl := lw_at lw_m9 50 rfl
theorem q2111 : (Jvm.Cond.instanceMethod ({ cls := "WidowRoadsModel", name := "turnAt", desc := "(II)I" } : Jvm.MethodName)) ∈ lw_all := lw_g (lw_at lw_m9 51 rfl) rfl
theorem q2112 : (Jvm.Cond.code ({ cls := "WidowRoadsModel", name := "turnAt", desc := "(II)I" } : Jvm.MethodName) prog_12_method_47_code (3 : Nat) (Option.some Jvm.ClassFile.FieldType.int)) ∈ lw_all := lw_g (lw_at lw_m9 52 rfl) rfl
theorem q2113 : (Jvm.Cond.methodLink "WidowRoadsModel" (301 : Nat) ({ cls := "WidowRoadsModel", name := "isAnyFree", desc := "(II)Z" } : Jvm.MethodName)) ∈ lw_all := lw_g (lw_at lw_m9 53 rfl) rfl
theorem q2114 : (Jvm.Cond.privateMethod ({ cls := "WidowRoadsModel", name := "isAnyFree", desc := "(II)Z" } : Jvm.MethodName)) ∈ lw_tbl := lw_at lw_m9 54 rfl
theorem q2115 : (Jvm.Cond.instanceMethod ({ cls := "WidowRoadsModel", name := "isAnyFree", desc := "(II)Z" } : Jvm.MethodName)) ∈ lw_all := lw_g (lw_at lw_m9 55 rfl) rfl
theorem q2116 : (Jvm.Cond.code ({ cls := "WidowRoadsModel", name := "isAnyFree", desc := "(II)Z" } : Jvm.MethodName) prog_12_method_46_code (5 : Nat) (Option.some Jvm.ClassFile.FieldType.boolean)) ∈ lw_all := lw_g (lw_at lw_m9 56 rfl) rfl
theorem q2117 : (Jvm.Cond.methodLink "WidowRoadsModel" (288 : Nat) ({ cls := "WidowRoadsModel", name := "beside", desc := "(II)I" } : Jvm.MethodName)) ∈ lw_all := lw_g (lw_at lw_m9 57 rfl) rfl
theorem q2118 : (Jvm.Cond.privateMethod ({ cls := "WidowRoadsModel", name := "beside", desc := "(II)I" } : Jvm.MethodName)) ∈ lw_tbl := lw_at lw_m9 58 rfl
theorem q2119 : (Jvm.Cond.instanceMethod ({ cls := "WidowRoadsModel", name := "beside", desc := "(II)I" } : Jvm.MethodName)) ∈ lw_all := lw_g (lw_at lw_m9 59 rfl) rfl
theorem q2120 : (Jvm.Cond.code ({ cls := "WidowRoadsModel", name := "beside", desc := "(II)I" } : Jvm.MethodName) prog_12_method_44_code (5 : Nat) (Option.some Jvm.ClassFile.FieldType.int)) ∈ lw_all := lw_g (lw_at lw_m9 60 rfl) rfl
theorem q2121 : (Jvm.Cond.methodLink "WidowRoadsModel" (282 : Nat) ({ cls := "WidowRoadsModel", name := "acrossOf", desc := "(I)I" } : Jvm.MethodName)) ∈ lw_all := lw_g (lw_at lw_m9 61 rfl) rfl
theorem q2122 : (Jvm.Cond.static ({ cls := "WidowRoadsModel", name := "acrossOf", desc := "(I)I" } : Jvm.MethodName)) ∈ lw_all := lw_g (lw_at lw_m9 62 rfl) rfl
theorem q2123 : (Jvm.Cond.code ({ cls := "WidowRoadsModel", name := "acrossOf", desc := "(I)I" } : Jvm.MethodName) prog_12_method_42_code (1 : Nat) (Option.some Jvm.ClassFile.FieldType.int)) ∈ lw_all := lw_g (lw_at lw_m9 63 rfl) rfl
theorem q2124 : (Jvm.Cond.methodLink "WidowRoadsModel" (285 : Nat) ({ cls := "WidowRoadsModel", name := "downOf", desc := "(I)I" } : Jvm.MethodName)) ∈ lw_all := lw_g (lw_at lw_m9 64 rfl) rfl
theorem q2125 : (Jvm.Cond.static ({ cls := "WidowRoadsModel", name := "downOf", desc := "(I)I" } : Jvm.MethodName)) ∈ lw_all := lw_g (lw_at lw_m9 65 rfl) rfl
theorem q2126 : (Jvm.Cond.code ({ cls := "WidowRoadsModel", name := "downOf", desc := "(I)I" } : Jvm.MethodName) prog_12_method_43_code (1 : Nat) (Option.some Jvm.ClassFile.FieldType.int)) ∈ lw_all := lw_g (lw_at lw_m9 66 rfl) rfl
theorem q2127 : (Jvm.Cond.methodLink "WidowRoadsModel" (291 : Nat) ({ cls := "WidowRoadsModel", name := "isFree", desc := "(II)Z" } : Jvm.MethodName)) ∈ lw_all := lw_g (lw_at lw_m9 67 rfl) rfl
theorem q2128 : (Jvm.Cond.privateMethod ({ cls := "WidowRoadsModel", name := "isFree", desc := "(II)Z" } : Jvm.MethodName)) ∈ lw_tbl := lw_at lw_m9 68 rfl
theorem q2129 : (Jvm.Cond.instanceMethod ({ cls := "WidowRoadsModel", name := "isFree", desc := "(II)Z" } : Jvm.MethodName)) ∈ lw_all := lw_g (lw_at lw_m9 69 rfl) rfl
theorem q2130 : (Jvm.Cond.code ({ cls := "WidowRoadsModel", name := "isFree", desc := "(II)Z" } : Jvm.MethodName) prog_12_method_45_code (3 : Nat) (Option.some Jvm.ClassFile.FieldType.boolean)) ∈ lw_all := lw_g (lw_at lw_m9 70 rfl) rfl
theorem q2131 : (Jvm.Cond.methodLink "WidowRoadsModel" (304 : Nat) ({ cls := "WidowRoadsModel", name := "moveHouses", desc := "(I)V" } : Jvm.MethodName)) ∈ lw_all := lw_g (lw_at lw_m9 71 rfl) rfl
theorem q2132 : (Jvm.Cond.privateMethod ({ cls := "WidowRoadsModel", name := "moveHouses", desc := "(I)V" } : Jvm.MethodName)) ∈ lw_tbl := lw_at lw_m9 72 rfl
theorem q2133 : (Jvm.Cond.instanceMethod ({ cls := "WidowRoadsModel", name := "moveHouses", desc := "(I)V" } : Jvm.MethodName)) ∈ lw_all := lw_g (lw_at lw_m9 73 rfl) rfl
theorem q2134 : (Jvm.Cond.code ({ cls := "WidowRoadsModel", name := "moveHouses", desc := "(I)V" } : Jvm.MethodName) prog_12_method_51_code (3 : Nat) (Option.none : Option Jvm.ClassFile.FieldType)) ∈ lw_all := lw_g (lw_at lw_m9 74 rfl) rfl
theorem q2135 : (Jvm.Cond.methodLink "WidowRoadsModel" (307 : Nat) ({ cls := "WidowRoadsModel", name := "houses", desc := "()I" } : Jvm.MethodName)) ∈ lw_all := lw_g (lw_at lw_m9 75 rfl) rfl
theorem q2136 : (Jvm.Cond.privateMethod ({ cls := "WidowRoadsModel", name := "houses", desc := "()I" } : Jvm.MethodName)) ∈ lw_tbl := lw_at lw_m9 76 rfl
theorem q2137 : (Jvm.Cond.instanceMethod ({ cls := "WidowRoadsModel", name := "houses", desc := "()I" } : Jvm.MethodName)) ∈ lw_all := lw_g (lw_at lw_m9 77 rfl) rfl
theorem q2138 : (Jvm.Cond.code ({ cls := "WidowRoadsModel", name := "houses", desc := "()I" } : Jvm.MethodName) prog_12_method_11_code (1 : Nat) (Option.some Jvm.ClassFile.FieldType.int)) ∈ lw_all := lw_g (lw_at lw_m9 78 rfl) rfl
theorem q2139 : (Jvm.Cond.methodLink "WidowRoadsModel" (317 : Nat) ({ cls := "WidowRoadsModel", name := "emptyCell", desc := "()I" } : Jvm.MethodName)) ∈ lw_all := lw_g (lw_at lw_m9 79 rfl) rfl
theorem q2140 : (Jvm.Cond.privateMethod ({ cls := "WidowRoadsModel", name := "emptyCell", desc := "()I" } : Jvm.MethodName)) ∈ lw_tbl := lw_at lw_m9 80 rfl
theorem q2141 : (Jvm.Cond.instanceMethod ({ cls := "WidowRoadsModel", name := "emptyCell", desc := "()I" } : Jvm.MethodName)) ∈ lw_all := lw_g (lw_at lw_m9 81 rfl) rfl
theorem q2142 : (Jvm.Cond.code ({ cls := "WidowRoadsModel", name := "emptyCell", desc := "()I" } : Jvm.MethodName) prog_12_method_50_code (2 : Nat) (Option.some Jvm.ClassFile.FieldType.int)) ∈ lw_all := lw_g (lw_at lw_m9 82 rfl) rfl
theorem q2143 : (Jvm.Cond.methodLink "WidowRoadsModel" (310 : Nat) ({ cls := "WidowRoadsModel", name := "isCell", desc := "(J)Z" } : Jvm.MethodName)) ∈ lw_all := lw_g (lw_at lw_m9 83 rfl) rfl
theorem q2144 : (Jvm.Cond.privateMethod ({ cls := "WidowRoadsModel", name := "isCell", desc := "(J)Z" } : Jvm.MethodName)) ∈ lw_tbl := lw_at lw_m9 84 rfl
theorem q2145 : (Jvm.Cond.instanceMethod ({ cls := "WidowRoadsModel", name := "isCell", desc := "(J)Z" } : Jvm.MethodName)) ∈ lw_all := lw_g (lw_at lw_m9 85 rfl) rfl
theorem q2146 : (Jvm.Cond.code ({ cls := "WidowRoadsModel", name := "isCell", desc := "(J)Z" } : Jvm.MethodName) prog_12_method_14_code (3 : Nat) (Option.some Jvm.ClassFile.FieldType.boolean)) ∈ lw_all := lw_g (lw_at lw_m9 86 rfl) rfl
theorem q2147 : (Jvm.Cond.methodLink "WidowRoadsModel" (114 : Nat) ({ cls := "WidowRoadsModel", name := "isColony", desc := "()Z" } : Jvm.MethodName)) ∈ lw_all := lw_g (lw_at lw_m9 87 rfl) rfl
theorem q2148 : (Jvm.Cond.privateMethod ({ cls := "WidowRoadsModel", name := "isColony", desc := "()Z" } : Jvm.MethodName)) ∈ lw_tbl := lw_at lw_m9 88 rfl
theorem q2149 : (Jvm.Cond.instanceMethod ({ cls := "WidowRoadsModel", name := "isColony", desc := "()Z" } : Jvm.MethodName)) ∈ lw_all := lw_g (lw_at lw_m9 89 rfl) rfl
theorem q2150 : (Jvm.Cond.code ({ cls := "WidowRoadsModel", name := "isColony", desc := "()Z" } : Jvm.MethodName) prog_12_method_8_code (1 : Nat) (Option.some Jvm.ClassFile.FieldType.boolean)) ∈ lw_all := lw_g (lw_at lw_m9 90 rfl) rfl
theorem q2151 : (Jvm.Cond.constantLong "WidowRoadsModel" (121 : Nat) (10 : Int64)) ∈ lw_all := lw_g (lw_at lw_m9 91 rfl) rfl
theorem q2152 : (Jvm.Cond.methodLink "WidowRoadsModel" (313 : Nat) ({ cls := "WidowRoadsModel", name := "isHouse", desc := "(I)Z" } : Jvm.MethodName)) ∈ lw_all := lw_g (lw_at lw_m9 92 rfl) rfl
theorem q2153 : (Jvm.Cond.privateMethod ({ cls := "WidowRoadsModel", name := "isHouse", desc := "(I)Z" } : Jvm.MethodName)) ∈ lw_tbl := lw_at lw_m9 93 rfl
theorem q2154 : (Jvm.Cond.instanceMethod ({ cls := "WidowRoadsModel", name := "isHouse", desc := "(I)Z" } : Jvm.MethodName)) ∈ lw_all := lw_g (lw_at lw_m9 94 rfl) rfl
theorem q2155 : (Jvm.Cond.code ({ cls := "WidowRoadsModel", name := "isHouse", desc := "(I)Z" } : Jvm.MethodName) prog_12_method_49_code (4 : Nat) (Option.some Jvm.ClassFile.FieldType.boolean)) ∈ lw_all := lw_g (lw_at lw_m9 95 rfl) rfl
theorem q2157 : (Jvm.Cond.instanceMethod ({ cls := "WidowRoadsModel", name := "at", desc := "(II)I" } : Jvm.MethodName)) ∈ lw_all := lw_g (lw_at lw_m9 97 rfl) rfl
theorem q2158 : (Jvm.Cond.selects "WidowRoadsModel" ({ cls := "WidowRoadsModel", name := "at", desc := "(II)I" } : Jvm.MethodName) ({ cls := "WidowRoadsModel", name := "at", desc := "(II)I" } : Jvm.MethodName)) ∈ lw_all := lw_g (lw_at lw_m9 98 rfl) rfl
theorem q2159 : (Jvm.Cond.code ({ cls := "WidowRoadsModel", name := "at", desc := "(II)I" } : Jvm.MethodName) prog_12_method_66_code (3 : Nat) (Option.some Jvm.ClassFile.FieldType.int)) ∈ lw_all := lw_g (lw_at lw_m9 99 rfl) rfl
theorem q2160 : (Jvm.Cond.methodLink "WidowRoadsModel" (356 : Nat) ({ cls := "WidowRoadsModel", name := "asksWidow", desc := "(I)Z" } : Jvm.MethodName)) ∈ lw_all := lw_g (lw_at lw_m9 100 rfl) rfl
theorem q2161 : (Jvm.Cond.privateMethod ({ cls := "WidowRoadsModel", name := "asksWidow", desc := "(I)Z" } : Jvm.MethodName)) ∈ lw_tbl := lw_at lw_m9 101 rfl
theorem q2162 : (Jvm.Cond.instanceMethod ({ cls := "WidowRoadsModel", name := "asksWidow", desc := "(I)Z" } : Jvm.MethodName)) ∈ lw_all := lw_g (lw_at lw_m9 102 rfl) rfl
theorem q2163 : (Jvm.Cond.code ({ cls := "WidowRoadsModel", name := "asksWidow", desc := "(I)Z" } : Jvm.MethodName) prog_12_method_56_code (2 : Nat) (Option.some Jvm.ClassFile.FieldType.boolean)) ∈ lw_all := lw_g (lw_at lw_m9 103 rfl) rfl
theorem q2164 : (Jvm.Cond.constantLong "WidowRoadsModel" (359 : Nat) (40 : Int64)) ∈ lw_all := lw_g (lw_at lw_m9 104 rfl) rfl
theorem q2165 : (Jvm.Cond.methodLink "WidowRoadsModel" (341 : Nat) ({ cls := "WidowRoadsModel", name := "pathOf", desc := "(II)I" } : Jvm.MethodName)) ∈ lw_all := lw_g (lw_at lw_m9 105 rfl) rfl
theorem q2166 : (Jvm.Cond.privateMethod ({ cls := "WidowRoadsModel", name := "pathOf", desc := "(II)I" } : Jvm.MethodName)) ∈ lw_tbl := lw_at lw_m9 106 rfl
theorem q2167 : (Jvm.Cond.instanceMethod ({ cls := "WidowRoadsModel", name := "pathOf", desc := "(II)I" } : Jvm.MethodName)) ∈ lw_all := lw_g (lw_at lw_m9 107 rfl) rfl
theorem q2168 : (Jvm.Cond.code ({ cls := "WidowRoadsModel", name := "pathOf", desc := "(II)I" } : Jvm.MethodName) prog_12_method_59_code (3 : Nat) (Option.some Jvm.ClassFile.FieldType.int)) ∈ lw_all := lw_g (lw_at lw_m9 108 rfl) rfl
theorem q2170 : (Jvm.Cond.instanceMethod ({ cls := "WidowRoadsModel", name := "steps", desc := "(I)I" } : Jvm.MethodName)) ∈ lw_all := lw_g (lw_at lw_m9 110 rfl) rfl
theorem q2171 : (Jvm.Cond.selects "WidowRoadsModel" ({ cls := "WidowRoadsModel", name := "steps", desc := "(I)I" } : Jvm.MethodName) ({ cls := "WidowRoadsModel", name := "steps", desc := "(I)I" } : Jvm.MethodName)) ∈ lw_all := lw_g (lw_at lw_m9 111 rfl) rfl
theorem q2172 : (Jvm.Cond.code ({ cls := "WidowRoadsModel", name := "steps", desc := "(I)I" } : Jvm.MethodName) prog_12_method_67_code (2 : Nat) (Option.some Jvm.ClassFile.FieldType.int)) ∈ lw_all := lw_g (lw_at lw_m9 112 rfl) rfl
theorem q2174 : (Jvm.Cond.instanceMethod ({ cls := "WidowRoadsModel", name := "stands", desc := "(I)I" } : Jvm.MethodName)) ∈ lw_all := lw_g (lw_at lw_m9 114 rfl) rfl
theorem q2175 : (Jvm.Cond.selects "WidowRoadsModel" ({ cls := "WidowRoadsModel", name := "stands", desc := "(I)I" } : Jvm.MethodName) ({ cls := "WidowRoadsModel", name := "stands", desc := "(I)I" } : Jvm.MethodName)) ∈ lw_all := lw_g (lw_at lw_m9 115 rfl) rfl
theorem q2176 : (Jvm.Cond.code ({ cls := "WidowRoadsModel", name := "stands", desc := "(I)I" } : Jvm.MethodName) prog_12_method_68_code (4 : Nat) (Option.some Jvm.ClassFile.FieldType.int)) ∈ lw_all := lw_g (lw_at lw_m9 116 rfl) rfl
theorem q2177 : (Jvm.Cond.methodLink "WidowRoadsModel" (361 : Nat) ({ cls := "WidowRoadsModel", name := "walks", desc := "(I)Z" } : Jvm.MethodName)) ∈ lw_all := lw_g (lw_at lw_m9 117 rfl) rfl
theorem q2178 : (Jvm.Cond.privateMethod ({ cls := "WidowRoadsModel", name := "walks", desc := "(I)Z" } : Jvm.MethodName)) ∈ lw_tbl := lw_at lw_m9 118 rfl
theorem q2179 : (Jvm.Cond.instanceMethod ({ cls := "WidowRoadsModel", name := "walks", desc := "(I)Z" } : Jvm.MethodName)) ∈ lw_all := lw_g (lw_at lw_m9 119 rfl) rfl
theorem q2180 : (Jvm.Cond.code ({ cls := "WidowRoadsModel", name := "walks", desc := "(I)Z" } : Jvm.MethodName) prog_12_method_58_code (2 : Nat) (Option.some Jvm.ClassFile.FieldType.boolean)) ∈ lw_all := lw_g (lw_at lw_m9 120 rfl) rfl
theorem q2182 : (Jvm.Cond.instanceMethod ({ cls := "WidowRoadsModel", name := "ground", desc := "(I)I" } : Jvm.MethodName)) ∈ lw_all := lw_g (lw_at lw_m9 122 rfl) rfl
theorem q2183 : (Jvm.Cond.selects "WidowRoadsModel" ({ cls := "WidowRoadsModel", name := "ground", desc := "(I)I" } : Jvm.MethodName) ({ cls := "WidowRoadsModel", name := "ground", desc := "(I)I" } : Jvm.MethodName)) ∈ lw_all := lw_g (lw_at lw_m9 123 rfl) rfl
theorem q2184 : (Jvm.Cond.code ({ cls := "WidowRoadsModel", name := "ground", desc := "(I)I" } : Jvm.MethodName) prog_12_method_70_code (2 : Nat) (Option.some Jvm.ClassFile.FieldType.int)) ∈ lw_all := lw_g (lw_at lw_m9 124 rfl) rfl
theorem q2185 : (Jvm.Cond.methodLink "WidowRoadsModel" (367 : Nat) ({ cls := "WidowRoadsModel", name := "groundOf", desc := "(I)I" } : Jvm.MethodName)) ∈ lw_all := lw_g (lw_at lw_m9 125 rfl) rfl
theorem q2186 : (Jvm.Cond.privateMethod ({ cls := "WidowRoadsModel", name := "groundOf", desc := "(I)I" } : Jvm.MethodName)) ∈ lw_tbl := lw_at lw_m9 126 rfl
theorem q2187 : (Jvm.Cond.instanceMethod ({ cls := "WidowRoadsModel", name := "groundOf", desc := "(I)I" } : Jvm.MethodName)) ∈ lw_all := lw_g (lw_at lw_m9 127 rfl) rfl
theorem q2188 : (Jvm.Cond.code ({ cls := "WidowRoadsModel", name := "groundOf", desc := "(I)I" } : Jvm.MethodName) prog_12_method_69_code (4 : Nat) (Option.some Jvm.ClassFile.FieldType.int)) ∈ lw_all := lw_g (lw_at lw_m9 128 rfl) rfl
theorem q2189 : (Jvm.Cond.methodLink "WidowRoadsModel" (364 : Nat) ({ cls := "WidowRoadsModel", name := "isIn", desc := "(II)Z" } : Jvm.MethodName)) ∈ lw_all := lw_g (lw_at lw_m9 129 rfl) rfl
theorem q2190 : (Jvm.Cond.privateMethod ({ cls := "WidowRoadsModel", name := "isIn", desc := "(II)Z" } : Jvm.MethodName)) ∈ lw_tbl := lw_at lw_m9 130 rfl
theorem q2191 : (Jvm.Cond.instanceMethod ({ cls := "WidowRoadsModel", name := "isIn", desc := "(II)Z" } : Jvm.MethodName)) ∈ lw_all := lw_g (lw_at lw_m9 131 rfl) rfl
theorem q2192 : (Jvm.Cond.code ({ cls := "WidowRoadsModel", name := "isIn", desc := "(II)Z" } : Jvm.MethodName) prog_12_method_60_code (5 : Nat) (Option.some Jvm.ClassFile.FieldType.boolean)) ∈ lw_all := lw_g (lw_at lw_m9 132 rfl) rfl
theorem q2194 : (Jvm.Cond.instanceMethod ({ cls := "WidowRoadsModel", name := "loop", desc := "(I)I" } : Jvm.MethodName)) ∈ lw_all := lw_g (lw_at lw_m9 134 rfl) rfl
theorem q2195 : (Jvm.Cond.selects "WidowRoadsModel" ({ cls := "WidowRoadsModel", name := "loop", desc := "(I)I" } : Jvm.MethodName) ({ cls := "WidowRoadsModel", name := "loop", desc := "(I)I" } : Jvm.MethodName)) ∈ lw_all := lw_g (lw_at lw_m9 135 rfl) rfl
theorem q2196 : (Jvm.Cond.code ({ cls := "WidowRoadsModel", name := "loop", desc := "(I)I" } : Jvm.MethodName) prog_12_method_71_code (3 : Nat) (Option.some Jvm.ClassFile.FieldType.int)) ∈ lw_all := lw_g (lw_at lw_m9 136 rfl) rfl
theorem q2198 : (Jvm.Cond.instanceMethod ({ cls := "WidowRoadsModel", name := "haunt", desc := "(I)I" } : Jvm.MethodName)) ∈ lw_all := lw_g (lw_at lw_m9 138 rfl) rfl
theorem q2199 : (Jvm.Cond.selects "WidowRoadsModel" ({ cls := "WidowRoadsModel", name := "haunt", desc := "(I)I" } : Jvm.MethodName) ({ cls := "WidowRoadsModel", name := "haunt", desc := "(I)I" } : Jvm.MethodName)) ∈ lw_all := lw_g (lw_at lw_m9 139 rfl) rfl
theorem q2200 : (Jvm.Cond.code ({ cls := "WidowRoadsModel", name := "haunt", desc := "(I)I" } : Jvm.MethodName) prog_12_method_73_code (4 : Nat) (Option.some Jvm.ClassFile.FieldType.int)) ∈ lw_all := lw_g (lw_at lw_m9 140 rfl) rfl
theorem q2201 : (Jvm.Cond.methodLink "WidowRoadsModel" (370 : Nat) ({ cls := "WidowRoadsModel", name := "visitsOf", desc := "(II)I" } : Jvm.MethodName)) ∈ lw_all := lw_g (lw_at lw_m9 141 rfl) rfl
theorem q2202 : (Jvm.Cond.privateMethod ({ cls := "WidowRoadsModel", name := "visitsOf", desc := "(II)I" } : Jvm.MethodName)) ∈ lw_tbl := lw_at lw_m9 142 rfl
theorem q2203 : (Jvm.Cond.instanceMethod ({ cls := "WidowRoadsModel", name := "visitsOf", desc := "(II)I" } : Jvm.MethodName)) ∈ lw_all := lw_g (lw_at lw_m9 143 rfl) rfl
theorem q2204 : (Jvm.Cond.code ({ cls := "WidowRoadsModel", name := "visitsOf", desc := "(II)I" } : Jvm.MethodName) prog_12_method_72_code (5 : Nat) (Option.some Jvm.ClassFile.FieldType.int)) ∈ lw_all := lw_g (lw_at lw_m9 144 rfl) rfl
theorem q2206 : (Jvm.Cond.instanceMethod ({ cls := "WidowRoadsModel", name := "visits", desc := "(II)I" } : Jvm.MethodName)) ∈ lw_all := lw_g (lw_at lw_m9 146 rfl) rfl
theorem q2207 : (Jvm.Cond.selects "WidowRoadsModel" ({ cls := "WidowRoadsModel", name := "visits", desc := "(II)I" } : Jvm.MethodName) ({ cls := "WidowRoadsModel", name := "visits", desc := "(II)I" } : Jvm.MethodName)) ∈ lw_all := lw_g (lw_at lw_m9 147 rfl) rfl
theorem q2208 : (Jvm.Cond.code ({ cls := "WidowRoadsModel", name := "visits", desc := "(II)I" } : Jvm.MethodName) prog_12_method_74_code (3 : Nat) (Option.some Jvm.ClassFile.FieldType.int)) ∈ lw_all := lw_g (lw_at lw_m9 148 rfl) rfl
theorem q2210 : (Jvm.Cond.instanceMethod ({ cls := "WidowRoadsModel", name := "evening", desc := "(I)I" } : Jvm.MethodName)) ∈ lw_all := lw_g (lw_at lw_m9 150 rfl) rfl
theorem q2211 : (Jvm.Cond.selects "WidowRoadsModel" ({ cls := "WidowRoadsModel", name := "evening", desc := "(I)I" } : Jvm.MethodName) ({ cls := "WidowRoadsModel", name := "evening", desc := "(I)I" } : Jvm.MethodName)) ∈ lw_all := lw_g (lw_at lw_m9 151 rfl) rfl
theorem q2212 : (Jvm.Cond.code ({ cls := "WidowRoadsModel", name := "evening", desc := "(I)I" } : Jvm.MethodName) prog_12_method_75_code (4 : Nat) (Option.some Jvm.ClassFile.FieldType.int)) ∈ lw_all := lw_g (lw_at lw_m9 152 rfl) rfl
theorem q2213 : (Jvm.Cond.methodLink "WidowRoadsModel" (373 : Nat) ({ cls := "WidowRoadsModel", name := "asksYear", desc := "(I)Z" } : Jvm.MethodName)) ∈ lw_all := lw_g (lw_at lw_m9 153 rfl) rfl
theorem q2214 : (Jvm.Cond.privateMethod ({ cls := "WidowRoadsModel", name := "asksYear", desc := "(I)Z" } : Jvm.MethodName)) ∈ lw_tbl := lw_at lw_m9 154 rfl
theorem q2215 : (Jvm.Cond.instanceMethod ({ cls := "WidowRoadsModel", name := "asksYear", desc := "(I)Z" } : Jvm.MethodName)) ∈ lw_all := lw_g (lw_at lw_m9 155 rfl) rfl
theorem q2216 : (Jvm.Cond.code ({ cls := "WidowRoadsModel", name := "asksYear", desc := "(I)Z" } : Jvm.MethodName) prog_12_method_55_code (2 : Nat) (Option.some Jvm.ClassFile.FieldType.boolean)) ∈ lw_all := lw_g (lw_at lw_m9 156 rfl) rfl
theorem q2217 : (Jvm.Cond.methodLink "WidowRoadsModel" (338 : Nat) ({ cls := "WidowRoadsModel", name := "isYear", desc := "(J)Z" } : Jvm.MethodName)) ∈ lw_all := lw_g (lw_at lw_m9 157 rfl) rfl
theorem q2218 : (Jvm.Cond.privateMethod ({ cls := "WidowRoadsModel", name := "isYear", desc := "(J)Z" } : Jvm.MethodName)) ∈ lw_tbl := lw_at lw_m9 158 rfl
theorem q2219 : (Jvm.Cond.instanceMethod ({ cls := "WidowRoadsModel", name := "isYear", desc := "(J)Z" } : Jvm.MethodName)) ∈ lw_all := lw_g (lw_at lw_m9 159 rfl) rfl
theorem q2220 : (Jvm.Cond.code ({ cls := "WidowRoadsModel", name := "isYear", desc := "(J)Z" } : Jvm.MethodName) prog_12_method_13_code (3 : Nat) (Option.some Jvm.ClassFile.FieldType.boolean)) ∈ lw_all := lw_g (lw_at lw_m9 160 rfl) rfl
theorem q2222 : (Jvm.Cond.instanceMethod ({ cls := "WidowRoadsModel", name := "straight", desc := "(I)I" } : Jvm.MethodName)) ∈ lw_all := lw_g (lw_at lw_m9 162 rfl) rfl
theorem q2223 : (Jvm.Cond.selects "WidowRoadsModel" ({ cls := "WidowRoadsModel", name := "straight", desc := "(I)I" } : Jvm.MethodName) ({ cls := "WidowRoadsModel", name := "straight", desc := "(I)I" } : Jvm.MethodName)) ∈ lw_all := lw_g (lw_at lw_m9 163 rfl) rfl
theorem q2224 : (Jvm.Cond.code ({ cls := "WidowRoadsModel", name := "straight", desc := "(I)I" } : Jvm.MethodName) prog_12_method_79_code (3 : Nat) (Option.some Jvm.ClassFile.FieldType.int)) ∈ lw_all := lw_g (lw_at lw_m9 164 rfl) rfl
theorem q2225 : (Jvm.Cond.methodLink "WidowRoadsModel" (383 : Nat) ({ cls := "WidowRoadsModel", name := "straightBy", desc := "(II)I" } : Jvm.MethodName)) ∈ lw_all := lw_g (lw_at lw_m9 165 rfl) rfl
theorem q2226 : (Jvm.Cond.privateMethod ({ cls := "WidowRoadsModel", name := "straightBy", desc := "(II)I" } : Jvm.MethodName)) ∈ lw_tbl := lw_at lw_m9 166 rfl
theorem q2227 : (Jvm.Cond.instanceMethod ({ cls := "WidowRoadsModel", name := "straightBy", desc := "(II)I" } : Jvm.MethodName)) ∈ lw_all := lw_g (lw_at lw_m9 167 rfl) rfl
theorem q2228 : (Jvm.Cond.code ({ cls := "WidowRoadsModel", name := "straightBy", desc := "(II)I" } : Jvm.MethodName) prog_12_method_78_code (3 : Nat) (Option.some Jvm.ClassFile.FieldType.int)) ∈ lw_all := lw_g (lw_at lw_m9 168 rfl) rfl
theorem q2229 : (Jvm.Cond.methodLink "WidowRoadsModel" (379 : Nat) ({ cls := "WidowRoadsModel", name := "layFar", desc := "(II)V" } : Jvm.MethodName)) ∈ lw_all := lw_g (lw_at lw_m9 169 rfl) rfl
theorem q2230 : (Jvm.Cond.privateMethod ({ cls := "WidowRoadsModel", name := "layFar", desc := "(II)V" } : Jvm.MethodName)) ∈ lw_tbl := lw_at lw_m9 170 rfl
theorem q2231 : (Jvm.Cond.instanceMethod ({ cls := "WidowRoadsModel", name := "layFar", desc := "(II)V" } : Jvm.MethodName)) ∈ lw_all := lw_g (lw_at lw_m9 171 rfl) rfl
theorem q2232 : (Jvm.Cond.code ({ cls := "WidowRoadsModel", name := "layFar", desc := "(II)V" } : Jvm.MethodName) prog_12_method_77_code (7 : Nat) (Option.none : Option Jvm.ClassFile.FieldType)) ∈ lw_all := lw_g (lw_at lw_m9 172 rfl) rfl
theorem q2233 : (Jvm.Cond.methodLink "WidowRoadsModel" (376 : Nat) ({ cls := "WidowRoadsModel", name := "leads", desc := "(III)Z" } : Jvm.MethodName)) ∈ lw_all := lw_g (lw_at lw_m9 173 rfl) rfl
theorem q2234 : (Jvm.Cond.privateMethod ({ cls := "WidowRoadsModel", name := "leads", desc := "(III)Z" } : Jvm.MethodName)) ∈ lw_tbl := lw_at lw_m9 174 rfl
theorem q2235 : (Jvm.Cond.instanceMethod ({ cls := "WidowRoadsModel", name := "leads", desc := "(III)Z" } : Jvm.MethodName)) ∈ lw_all := lw_g (lw_at lw_m9 175 rfl) rfl
theorem q2236 : (Jvm.Cond.code ({ cls := "WidowRoadsModel", name := "leads", desc := "(III)Z" } : Jvm.MethodName) prog_12_method_76_code (5 : Nat) (Option.some Jvm.ClassFile.FieldType.boolean)) ∈ lw_all := lw_g (lw_at lw_m9 176 rfl) rfl
theorem q2237 : (Jvm.Cond.methodLink "WidowRoadsModel" (344 : Nat) ({ cls := "WidowRoadsModel", name := "pegsOf", desc := "(II)I" } : Jvm.MethodName)) ∈ lw_all := lw_g (lw_at lw_m9 177 rfl) rfl
theorem q2238 : (Jvm.Cond.privateMethod ({ cls := "WidowRoadsModel", name := "pegsOf", desc := "(II)I" } : Jvm.MethodName)) ∈ lw_tbl := lw_at lw_m9 178 rfl
theorem q2239 : (Jvm.Cond.instanceMethod ({ cls := "WidowRoadsModel", name := "pegsOf", desc := "(II)I" } : Jvm.MethodName)) ∈ lw_all := lw_g (lw_at lw_m9 179 rfl) rfl
theorem q2240 : (Jvm.Cond.code ({ cls := "WidowRoadsModel", name := "pegsOf", desc := "(II)I" } : Jvm.MethodName) prog_12_method_61_code (3 : Nat) (Option.some Jvm.ClassFile.FieldType.int)) ∈ lw_all := lw_g (lw_at lw_m9 180 rfl) rfl
theorem q2242 : (Jvm.Cond.instanceMethod ({ cls := "WidowRoadsModel", name := "beeline", desc := "(II)I" } : Jvm.MethodName)) ∈ lw_all := lw_g (lw_at lw_m9 182 rfl) rfl
theorem q2243 : (Jvm.Cond.selects "WidowRoadsModel" ({ cls := "WidowRoadsModel", name := "beeline", desc := "(II)I" } : Jvm.MethodName) ({ cls := "WidowRoadsModel", name := "beeline", desc := "(II)I" } : Jvm.MethodName)) ∈ lw_all := lw_g (lw_at lw_m9 183 rfl) rfl
theorem q2244 : (Jvm.Cond.code ({ cls := "WidowRoadsModel", name := "beeline", desc := "(II)I" } : Jvm.MethodName) prog_12_method_80_code (3 : Nat) (Option.some Jvm.ClassFile.FieldType.int)) ∈ lw_all := lw_g (lw_at lw_m9 184 rfl) rfl
theorem q2246 : (Jvm.Cond.instanceMethod ({ cls := "WidowRoadsModel", name := "way", desc := "(III)I" } : Jvm.MethodName)) ∈ lw_all := lw_g (lw_at lw_m9 186 rfl) rfl
theorem q2247 : (Jvm.Cond.selects "WidowRoadsModel" ({ cls := "WidowRoadsModel", name := "way", desc := "(III)I" } : Jvm.MethodName) ({ cls := "WidowRoadsModel", name := "way", desc := "(III)I" } : Jvm.MethodName)) ∈ lw_all := lw_g (lw_at lw_m9 187 rfl) rfl
theorem q2248 : (Jvm.Cond.code ({ cls := "WidowRoadsModel", name := "way", desc := "(III)I" } : Jvm.MethodName) prog_12_method_81_code (4 : Nat) (Option.some Jvm.ClassFile.FieldType.int)) ∈ lw_all := lw_g (lw_at lw_m9 188 rfl) rfl
theorem q2249 : (Jvm.Cond.methodLink "WidowRoadsModel" (386 : Nat) ({ cls := "WidowRoadsModel", name := "roadOf", desc := "(II)Z" } : Jvm.MethodName)) ∈ lw_all := lw_g (lw_at lw_m9 189 rfl) rfl
theorem q2250 : (Jvm.Cond.privateMethod ({ cls := "WidowRoadsModel", name := "roadOf", desc := "(II)Z" } : Jvm.MethodName)) ∈ lw_tbl := lw_at lw_m9 190 rfl
theorem q2251 : (Jvm.Cond.instanceMethod ({ cls := "WidowRoadsModel", name := "roadOf", desc := "(II)Z" } : Jvm.MethodName)) ∈ lw_all := lw_g (lw_at lw_m9 191 rfl) rfl
theorem q2252 : (Jvm.Cond.code ({ cls := "WidowRoadsModel", name := "roadOf", desc := "(II)Z" } : Jvm.MethodName) prog_12_method_62_code (3 : Nat) (Option.some Jvm.ClassFile.FieldType.boolean)) ∈ lw_all := lw_g (lw_at lw_m9 192 rfl) rfl
theorem q2254 : (Jvm.Cond.instanceMethod ({ cls := "WidowRoadsModel", name := "net", desc := "(II)I" } : Jvm.MethodName)) ∈ lw_all := lw_g (lw_at lw_m9 194 rfl) rfl
theorem q2255 : (Jvm.Cond.selects "WidowRoadsModel" ({ cls := "WidowRoadsModel", name := "net", desc := "(II)I" } : Jvm.MethodName) ({ cls := "WidowRoadsModel", name := "net", desc := "(II)I" } : Jvm.MethodName)) ∈ lw_all := lw_g (lw_at lw_m9 195 rfl) rfl
theorem q2256 : (Jvm.Cond.code ({ cls := "WidowRoadsModel", name := "net", desc := "(II)I" } : Jvm.MethodName) prog_12_method_83_code (3 : Nat) (Option.some Jvm.ClassFile.FieldType.int)) ∈ lw_all := lw_g (lw_at lw_m9 196 rfl) rfl
theorem q2257 : (Jvm.Cond.methodLink "WidowRoadsModel" (389 : Nat) ({ cls := "WidowRoadsModel", name := "netOf", desc := "(II)I" } : Jvm.MethodName)) ∈ lw_all := lw_g (lw_at lw_m9 197 rfl) rfl
theorem q2258 : (Jvm.Cond.privateMethod ({ cls := "WidowRoadsModel", name := "netOf", desc := "(II)I" } : Jvm.MethodName)) ∈ lw_tbl := lw_at lw_m9 198 rfl
theorem q2259 : (Jvm.Cond.instanceMethod ({ cls := "WidowRoadsModel", name := "netOf", desc := "(II)I" } : Jvm.MethodName)) ∈ lw_all := lw_g (lw_at lw_m9 199 rfl) rfl
theorem q2260 : (Jvm.Cond.code ({ cls := "WidowRoadsModel", name := "netOf", desc := "(II)I" } : Jvm.MethodName) prog_12_method_82_code (5 : Nat) (Option.some Jvm.ClassFile.FieldType.int)) ∈ lw_all := lw_g (lw_at lw_m9 200 rfl) rfl
theorem q2262 : (Jvm.Cond.instanceMethod ({ cls := "WidowRoadsModel", name := "farthest", desc := "(II)I" } : Jvm.MethodName)) ∈ lw_all := lw_g (lw_at lw_m9 202 rfl) rfl
theorem q2263 : (Jvm.Cond.selects "WidowRoadsModel" ({ cls := "WidowRoadsModel", name := "farthest", desc := "(II)I" } : Jvm.MethodName) ({ cls := "WidowRoadsModel", name := "farthest", desc := "(II)I" } : Jvm.MethodName)) ∈ lw_all := lw_g (lw_at lw_m9 203 rfl) rfl
theorem q2264 : (Jvm.Cond.code ({ cls := "WidowRoadsModel", name := "farthest", desc := "(II)I" } : Jvm.MethodName) prog_12_method_84_code (5 : Nat) (Option.some Jvm.ClassFile.FieldType.int)) ∈ lw_all := lw_g (lw_at lw_m9 204 rfl) rfl
theorem q2266 : (Jvm.Cond.instanceMethod ({ cls := "WidowRoadsModel", name := "road", desc := "(II)I" } : Jvm.MethodName)) ∈ lw_all := lw_g (lw_at lw_m9 206 rfl) rfl
theorem q2267 : (Jvm.Cond.selects "WidowRoadsModel" ({ cls := "WidowRoadsModel", name := "road", desc := "(II)I" } : Jvm.MethodName) ({ cls := "WidowRoadsModel", name := "road", desc := "(II)I" } : Jvm.MethodName)) ∈ lw_all := lw_g (lw_at lw_m9 207 rfl) rfl
theorem q2268 : (Jvm.Cond.code ({ cls := "WidowRoadsModel", name := "road", desc := "(II)I" } : Jvm.MethodName) prog_12_method_85_code (3 : Nat) (Option.some Jvm.ClassFile.FieldType.int)) ∈ lw_all := lw_g (lw_at lw_m9 208 rfl) rfl
theorem q2270 : (Jvm.Cond.instanceMethod ({ cls := "WidowRoadsModel", name := "roads", desc := "(I)I" } : Jvm.MethodName)) ∈ lw_all := lw_g (lw_at lw_m9 210 rfl) rfl
theorem q2271 : (Jvm.Cond.selects "WidowRoadsModel" ({ cls := "WidowRoadsModel", name := "roads", desc := "(I)I" } : Jvm.MethodName) ({ cls := "WidowRoadsModel", name := "roads", desc := "(I)I" } : Jvm.MethodName)) ∈ lw_all := lw_g (lw_at lw_m9 211 rfl) rfl
theorem q2272 : (Jvm.Cond.code ({ cls := "WidowRoadsModel", name := "roads", desc := "(I)I" } : Jvm.MethodName) prog_12_method_87_code (2 : Nat) (Option.some Jvm.ClassFile.FieldType.int)) ∈ lw_all := lw_g (lw_at lw_m9 212 rfl) rfl
theorem q2273 : (Jvm.Cond.methodLink "WidowRoadsModel" (392 : Nat) ({ cls := "WidowRoadsModel", name := "roadMany", desc := "(I)I" } : Jvm.MethodName)) ∈ lw_all := lw_g (lw_at lw_m9 213 rfl) rfl
theorem q2274 : (Jvm.Cond.privateMethod ({ cls := "WidowRoadsModel", name := "roadMany", desc := "(I)I" } : Jvm.MethodName)) ∈ lw_tbl := lw_at lw_m9 214 rfl
theorem q2275 : (Jvm.Cond.instanceMethod ({ cls := "WidowRoadsModel", name := "roadMany", desc := "(I)I" } : Jvm.MethodName)) ∈ lw_all := lw_g (lw_at lw_m9 215 rfl) rfl
theorem q2276 : (Jvm.Cond.code ({ cls := "WidowRoadsModel", name := "roadMany", desc := "(I)I" } : Jvm.MethodName) prog_12_method_86_code (4 : Nat) (Option.some Jvm.ClassFile.FieldType.int)) ∈ lw_all := lw_g (lw_at lw_m9 216 rfl) rfl
theorem q2278 : (Jvm.Cond.instanceMethod ({ cls := "WidowRoadsModel", name := "pegs", desc := "(I)I" } : Jvm.MethodName)) ∈ lw_all := lw_g (lw_at lw_m9 218 rfl) rfl
theorem q2279 : (Jvm.Cond.selects "WidowRoadsModel" ({ cls := "WidowRoadsModel", name := "pegs", desc := "(I)I" } : Jvm.MethodName) ({ cls := "WidowRoadsModel", name := "pegs", desc := "(I)I" } : Jvm.MethodName)) ∈ lw_all := lw_g (lw_at lw_m9 219 rfl) rfl
theorem q2280 : (Jvm.Cond.code ({ cls := "WidowRoadsModel", name := "pegs", desc := "(I)I" } : Jvm.MethodName) prog_12_method_88_code (2 : Nat) (Option.some Jvm.ClassFile.FieldType.int)) ∈ lw_all := lw_g (lw_at lw_m9 220 rfl) rfl
theorem q2281 : (Jvm.Cond.methodLink "WidowRoadsModel" (350 : Nat) ({ cls := "WidowRoadsModel", name := "pegMany", desc := "(I)I" } : Jvm.MethodName)) ∈ lw_all := lw_g (lw_at lw_m9 221 rfl) rfl
theorem q2282 : (Jvm.Cond.privateMethod ({ cls := "WidowRoadsModel", name := "pegMany", desc := "(I)I" } : Jvm.MethodName)) ∈ lw_tbl := lw_at lw_m9 222 rfl
theorem q2283 : (Jvm.Cond.instanceMethod ({ cls := "WidowRoadsModel", name := "pegMany", desc := "(I)I" } : Jvm.MethodName)) ∈ lw_all := lw_g (lw_at lw_m9 223 rfl) rfl
theorem q2284 : (Jvm.Cond.code ({ cls := "WidowRoadsModel", name := "pegMany", desc := "(I)I" } : Jvm.MethodName) prog_12_method_63_code (4 : Nat) (Option.some Jvm.ClassFile.FieldType.int)) ∈ lw_all := lw_g (lw_at lw_m9 224 rfl) rfl
theorem q2285 : (Jvm.Cond.methodLink "WidowRoadsModel" (347 : Nat) ({ cls := "WidowRoadsModel", name := "bits", desc := "(I)I" } : Jvm.MethodName)) ∈ lw_all := lw_g (lw_at lw_m9 225 rfl) rfl
theorem q2286 : (Jvm.Cond.static ({ cls := "WidowRoadsModel", name := "bits", desc := "(I)I" } : Jvm.MethodName)) ∈ lw_all := lw_g (lw_at lw_m9 226 rfl) rfl
theorem q2287 : (Jvm.Cond.code ({ cls := "WidowRoadsModel", name := "bits", desc := "(I)I" } : Jvm.MethodName) prog_12_method_4_code (3 : Nat) (Option.some Jvm.ClassFile.FieldType.int)) ∈ lw_all := lw_g (lw_at lw_m9 227 rfl) rfl
theorem q2289 : (Jvm.Cond.instanceMethod ({ cls := "WidowRoadsModel", name := "joins", desc := "(II)I" } : Jvm.MethodName)) ∈ lw_all := lw_g (lw_at lw_m9 229 rfl) rfl
theorem q2290 : (Jvm.Cond.selects "WidowRoadsModel" ({ cls := "WidowRoadsModel", name := "joins", desc := "(II)I" } : Jvm.MethodName) ({ cls := "WidowRoadsModel", name := "joins", desc := "(II)I" } : Jvm.MethodName)) ∈ lw_all := lw_g (lw_at lw_m9 230 rfl) rfl
theorem q2291 : (Jvm.Cond.code ({ cls := "WidowRoadsModel", name := "joins", desc := "(II)I" } : Jvm.MethodName) prog_12_method_89_code (3 : Nat) (Option.some Jvm.ClassFile.FieldType.int)) ∈ lw_all := lw_g (lw_at lw_m9 231 rfl) rfl
theorem q2293 : (Jvm.Cond.instanceMethod ({ cls := "WidowRoadsModel", name := "corners", desc := "(II)I" } : Jvm.MethodName)) ∈ lw_all := lw_g (lw_at lw_m9 233 rfl) rfl
theorem q2294 : (Jvm.Cond.selects "WidowRoadsModel" ({ cls := "WidowRoadsModel", name := "corners", desc := "(II)I" } : Jvm.MethodName) ({ cls := "WidowRoadsModel", name := "corners", desc := "(II)I" } : Jvm.MethodName)) ∈ lw_all := lw_g (lw_at lw_m9 234 rfl) rfl
theorem q2295 : (Jvm.Cond.code ({ cls := "WidowRoadsModel", name := "corners", desc := "(II)I" } : Jvm.MethodName) prog_12_method_90_code (5 : Nat) (Option.some Jvm.ClassFile.FieldType.int)) ∈ lw_all := lw_g (lw_at lw_m9 235 rfl) rfl
theorem q2297 : (Jvm.Cond.instanceMethod ({ cls := "WidowRoadsModel", name := "nets", desc := "(I)I" } : Jvm.MethodName)) ∈ lw_all := lw_g (lw_at lw_m9 237 rfl) rfl
theorem q2298 : (Jvm.Cond.selects "WidowRoadsModel" ({ cls := "WidowRoadsModel", name := "nets", desc := "(I)I" } : Jvm.MethodName) ({ cls := "WidowRoadsModel", name := "nets", desc := "(I)I" } : Jvm.MethodName)) ∈ lw_all := lw_g (lw_at lw_m9 238 rfl) rfl
theorem q2299 : (Jvm.Cond.code ({ cls := "WidowRoadsModel", name := "nets", desc := "(I)I" } : Jvm.MethodName) prog_12_method_92_code (2 : Nat) (Option.some Jvm.ClassFile.FieldType.int)) ∈ lw_all := lw_g (lw_at lw_m9 239 rfl) rfl
theorem q2300 : (Jvm.Cond.methodLink "WidowRoadsModel" (395 : Nat) ({ cls := "WidowRoadsModel", name := "netMany", desc := "(I)I" } : Jvm.MethodName)) ∈ lw_all := lw_g (lw_at lw_m10 0 rfl) rfl
theorem q2301 : (Jvm.Cond.privateMethod ({ cls := "WidowRoadsModel", name := "netMany", desc := "(I)I" } : Jvm.MethodName)) ∈ lw_tbl := lw_at lw_m10 1 rfl
theorem q2302 : (Jvm.Cond.instanceMethod ({ cls := "WidowRoadsModel", name := "netMany", desc := "(I)I" } : Jvm.MethodName)) ∈ lw_all := lw_g (lw_at lw_m10 2 rfl) rfl
theorem q2303 : (Jvm.Cond.code ({ cls := "WidowRoadsModel", name := "netMany", desc := "(I)I" } : Jvm.MethodName) prog_12_method_91_code (5 : Nat) (Option.some Jvm.ClassFile.FieldType.int)) ∈ lw_all := lw_g (lw_at lw_m10 3 rfl) rfl
theorem q2305 : (Jvm.Cond.instanceMethod ({ cls := "WidowRoadsModel", name := "missing", desc := "(I)I" } : Jvm.MethodName)) ∈ lw_all := lw_g (lw_at lw_m10 5 rfl) rfl
theorem q2306 : (Jvm.Cond.selects "WidowRoadsModel" ({ cls := "WidowRoadsModel", name := "missing", desc := "(I)I" } : Jvm.MethodName) ({ cls := "WidowRoadsModel", name := "missing", desc := "(I)I" } : Jvm.MethodName)) ∈ lw_all := lw_g (lw_at lw_m10 6 rfl) rfl
theorem q2307 : (Jvm.Cond.code ({ cls := "WidowRoadsModel", name := "missing", desc := "(I)I" } : Jvm.MethodName) prog_12_method_94_code (2 : Nat) (Option.some Jvm.ClassFile.FieldType.int)) ∈ lw_all := lw_g (lw_at lw_m10 7 rfl) rfl
theorem q2308 : (Jvm.Cond.methodLink "WidowRoadsModel" (398 : Nat) ({ cls := "WidowRoadsModel", name := "isOneSideBySide", desc := "(I)Z" } : Jvm.MethodName)) ∈ lw_all := lw_g (lw_at lw_m10 8 rfl) rfl
theorem q2309 : (Jvm.Cond.privateMethod ({ cls := "WidowRoadsModel", name := "isOneSideBySide", desc := "(I)Z" } : Jvm.MethodName)) ∈ lw_tbl := lw_at lw_m10 9 rfl
theorem q2310 : (Jvm.Cond.instanceMethod ({ cls := "WidowRoadsModel", name := "isOneSideBySide", desc := "(I)Z" } : Jvm.MethodName)) ∈ lw_all := lw_g (lw_at lw_m10 10 rfl) rfl
theorem q2311 : (Jvm.Cond.code ({ cls := "WidowRoadsModel", name := "isOneSideBySide", desc := "(I)Z" } : Jvm.MethodName) prog_12_method_93_code (8 : Nat) (Option.some Jvm.ClassFile.FieldType.boolean)) ∈ lw_all := lw_g (lw_at lw_m10 11 rfl) rfl
theorem q2313 : (Jvm.Cond.instanceMethod ({ cls := "WidowRoadsModel", name := "rings", desc := "(I)I" } : Jvm.MethodName)) ∈ lw_all := lw_g (lw_at lw_m10 13 rfl) rfl
theorem q2314 : (Jvm.Cond.selects "WidowRoadsModel" ({ cls := "WidowRoadsModel", name := "rings", desc := "(I)I" } : Jvm.MethodName) ({ cls := "WidowRoadsModel", name := "rings", desc := "(I)I" } : Jvm.MethodName)) ∈ lw_all := lw_g (lw_at lw_m10 14 rfl) rfl
theorem q2315 : (Jvm.Cond.code ({ cls := "WidowRoadsModel", name := "rings", desc := "(I)I" } : Jvm.MethodName) prog_12_method_95_code (2 : Nat) (Option.some Jvm.ClassFile.FieldType.int)) ∈ lw_all := lw_g (lw_at lw_m10 15 rfl) rfl
theorem q2317 : (Jvm.Cond.instanceMethod ({ cls := "WidowRoadsModel", name := "bridges", desc := "(I)I" } : Jvm.MethodName)) ∈ lw_all := lw_g (lw_at lw_m10 17 rfl) rfl
theorem q2318 : (Jvm.Cond.selects "WidowRoadsModel" ({ cls := "WidowRoadsModel", name := "bridges", desc := "(I)I" } : Jvm.MethodName) ({ cls := "WidowRoadsModel", name := "bridges", desc := "(I)I" } : Jvm.MethodName)) ∈ lw_all := lw_g (lw_at lw_m10 18 rfl) rfl
theorem q2319 : (Jvm.Cond.code ({ cls := "WidowRoadsModel", name := "bridges", desc := "(I)I" } : Jvm.MethodName) prog_12_method_96_code (6 : Nat) (Option.some Jvm.ClassFile.FieldType.int)) ∈ lw_all := lw_g (lw_at lw_m10 19 rfl) rfl
theorem q2321 : (Jvm.Cond.instanceMethod ({ cls := "WidowRoadsModel", name := "line", desc := "(I)I" } : Jvm.MethodName)) ∈ lw_all := lw_g (lw_at lw_m10 21 rfl) rfl
theorem q2322 : (Jvm.Cond.selects "WidowRoadsModel" ({ cls := "WidowRoadsModel", name := "line", desc := "(I)I" } : Jvm.MethodName) ({ cls := "WidowRoadsModel", name := "line", desc := "(I)I" } : Jvm.MethodName)) ∈ lw_all := lw_g (lw_at lw_m10 22 rfl) rfl
theorem q2323 : (Jvm.Cond.code ({ cls := "WidowRoadsModel", name := "line", desc := "(I)I" } : Jvm.MethodName) prog_12_method_97_code (7 : Nat) (Option.some Jvm.ClassFile.FieldType.int)) ∈ lw_all := lw_g (lw_at lw_m10 23 rfl) rfl
theorem q2324 : (Jvm.Cond.methodLink "WidowRoadsModel" (401 : Nat) ({ cls := "java/lang/Math", name := "max", desc := "(II)I" } : Jvm.MethodName)) ∈ lw_all := lw_g (lw_at lw_m10 24 rfl) rfl
theorem q2326 : (Jvm.Cond.instanceMethod ({ cls := "WidowRoadsModel", name := "first", desc := "(I)I" } : Jvm.MethodName)) ∈ lw_all := lw_g (lw_at lw_m10 26 rfl) rfl
theorem q2327 : (Jvm.Cond.selects "WidowRoadsModel" ({ cls := "WidowRoadsModel", name := "first", desc := "(I)I" } : Jvm.MethodName) ({ cls := "WidowRoadsModel", name := "first", desc := "(I)I" } : Jvm.MethodName)) ∈ lw_all := lw_g (lw_at lw_m10 27 rfl) rfl
theorem q2328 : (Jvm.Cond.code ({ cls := "WidowRoadsModel", name := "first", desc := "(I)I" } : Jvm.MethodName) prog_12_method_98_code (3 : Nat) (Option.some Jvm.ClassFile.FieldType.int)) ∈ lw_all := lw_g (lw_at lw_m10 28 rfl) rfl
theorem q2330 : (Jvm.Cond.instanceMethod ({ cls := "WidowRoadsModel", name := "walked", desc := "(I)I" } : Jvm.MethodName)) ∈ lw_all := lw_g (lw_at lw_m10 30 rfl) rfl
theorem q2331 : (Jvm.Cond.selects "WidowRoadsModel" ({ cls := "WidowRoadsModel", name := "walked", desc := "(I)I" } : Jvm.MethodName) ({ cls := "WidowRoadsModel", name := "walked", desc := "(I)I" } : Jvm.MethodName)) ∈ lw_all := lw_g (lw_at lw_m10 31 rfl) rfl
theorem q2332 : (Jvm.Cond.code ({ cls := "WidowRoadsModel", name := "walked", desc := "(I)I" } : Jvm.MethodName) prog_12_method_100_code (2 : Nat) (Option.some Jvm.ClassFile.FieldType.int)) ∈ lw_all := lw_g (lw_at lw_m10 32 rfl) rfl
theorem q2333 : (Jvm.Cond.methodLink "WidowRoadsModel" (404 : Nat) ({ cls := "WidowRoadsModel", name := "walkedOf", desc := "(I)I" } : Jvm.MethodName)) ∈ lw_all := lw_g (lw_at lw_m10 33 rfl) rfl
theorem q2334 : (Jvm.Cond.privateMethod ({ cls := "WidowRoadsModel", name := "walkedOf", desc := "(I)I" } : Jvm.MethodName)) ∈ lw_tbl := lw_at lw_m10 34 rfl
theorem q2335 : (Jvm.Cond.instanceMethod ({ cls := "WidowRoadsModel", name := "walkedOf", desc := "(I)I" } : Jvm.MethodName)) ∈ lw_all := lw_g (lw_at lw_m10 35 rfl) rfl
theorem q2336 : (Jvm.Cond.code ({ cls := "WidowRoadsModel", name := "walkedOf", desc := "(I)I" } : Jvm.MethodName) prog_12_method_99_code (4 : Nat) (Option.some Jvm.ClassFile.FieldType.int)) ∈ lw_all := lw_g (lw_at lw_m10 36 rfl) rfl
theorem q2338 : (Jvm.Cond.instanceMethod ({ cls := "WidowRoadsModel", name := "crossing", desc := "()I" } : Jvm.MethodName)) ∈ lw_all := lw_g (lw_at lw_m10 38 rfl) rfl
theorem q2339 : (Jvm.Cond.selects "WidowRoadsModel" ({ cls := "WidowRoadsModel", name := "crossing", desc := "()I" } : Jvm.MethodName) ({ cls := "WidowRoadsModel", name := "crossing", desc := "()I" } : Jvm.MethodName)) ∈ lw_all := lw_g (lw_at lw_m10 39 rfl) rfl
theorem q2340 : (Jvm.Cond.code ({ cls := "WidowRoadsModel", name := "crossing", desc := "()I" } : Jvm.MethodName) prog_12_method_101_code (3 : Nat) (Option.some Jvm.ClassFile.FieldType.int)) ∈ lw_all := lw_g (lw_at lw_m10 40 rfl) rfl
theorem q2342 : (Jvm.Cond.instanceMethod ({ cls := "WidowRoadsModel", name := "shared", desc := "(II)I" } : Jvm.MethodName)) ∈ lw_all := lw_g (lw_at lw_m10 42 rfl) rfl
theorem q2343 : (Jvm.Cond.selects "WidowRoadsModel" ({ cls := "WidowRoadsModel", name := "shared", desc := "(II)I" } : Jvm.MethodName) ({ cls := "WidowRoadsModel", name := "shared", desc := "(II)I" } : Jvm.MethodName)) ∈ lw_all := lw_g (lw_at lw_m10 43 rfl) rfl
theorem q2344 : (Jvm.Cond.code ({ cls := "WidowRoadsModel", name := "shared", desc := "(II)I" } : Jvm.MethodName) prog_12_method_102_code (5 : Nat) (Option.some Jvm.ClassFile.FieldType.int)) ∈ lw_all := lw_g (lw_at lw_m10 44 rfl) rfl
theorem q2346 : (Jvm.Cond.instanceMethod ({ cls := "WidowRoadsModel", name := "cover", desc := "()I" } : Jvm.MethodName)) ∈ lw_all := lw_g (lw_at lw_m10 46 rfl) rfl
theorem q2347 : (Jvm.Cond.selects "WidowRoadsModel" ({ cls := "WidowRoadsModel", name := "cover", desc := "()I" } : Jvm.MethodName) ({ cls := "WidowRoadsModel", name := "cover", desc := "()I" } : Jvm.MethodName)) ∈ lw_all := lw_g (lw_at lw_m10 47 rfl) rfl
theorem q2348 : (Jvm.Cond.code ({ cls := "WidowRoadsModel", name := "cover", desc := "()I" } : Jvm.MethodName) prog_12_method_104_code (1 : Nat) (Option.some Jvm.ClassFile.FieldType.int)) ∈ lw_all := lw_g (lw_at lw_m10 48 rfl) rfl
theorem q2349 : (Jvm.Cond.methodLink "WidowRoadsModel" (407 : Nat) ({ cls := "WidowRoadsModel", name := "coversOf", desc := "()I" } : Jvm.MethodName)) ∈ lw_all := lw_g (lw_at lw_m10 49 rfl) rfl
theorem q2350 : (Jvm.Cond.privateMethod ({ cls := "WidowRoadsModel", name := "coversOf", desc := "()I" } : Jvm.MethodName)) ∈ lw_tbl := lw_at lw_m10 50 rfl
theorem q2351 : (Jvm.Cond.instanceMethod ({ cls := "WidowRoadsModel", name := "coversOf", desc := "()I" } : Jvm.MethodName)) ∈ lw_all := lw_g (lw_at lw_m10 51 rfl) rfl
theorem q2352 : (Jvm.Cond.code ({ cls := "WidowRoadsModel", name := "coversOf", desc := "()I" } : Jvm.MethodName) prog_12_method_103_code (5 : Nat) (Option.some Jvm.ClassFile.FieldType.int)) ∈ lw_all := lw_g (lw_at lw_m10 52 rfl) rfl
theorem q2354 : (Jvm.Cond.instanceMethod ({ cls := "WidowRoadsModel", name := "covers", desc := "()I" } : Jvm.MethodName)) ∈ lw_all := lw_g (lw_at lw_m10 54 rfl) rfl
theorem q2355 : (Jvm.Cond.selects "WidowRoadsModel" ({ cls := "WidowRoadsModel", name := "covers", desc := "()I" } : Jvm.MethodName) ({ cls := "WidowRoadsModel", name := "covers", desc := "()I" } : Jvm.MethodName)) ∈ lw_all := lw_g (lw_at lw_m10 55 rfl) rfl
theorem q2356 : (Jvm.Cond.code ({ cls := "WidowRoadsModel", name := "covers", desc := "()I" } : Jvm.MethodName) prog_12_method_105_code (1 : Nat) (Option.some Jvm.ClassFile.FieldType.int)) ∈ lw_all := lw_g (lw_at lw_m10 56 rfl) rfl
theorem q2358 : (Jvm.Cond.instanceMethod ({ cls := "WidowRoadsModel", name := "house", desc := "(II)I" } : Jvm.MethodName)) ∈ lw_all := lw_g (lw_at lw_m10 58 rfl) rfl
theorem q2359 : (Jvm.Cond.selects "WidowRoadsModel" ({ cls := "WidowRoadsModel", name := "house", desc := "(II)I" } : Jvm.MethodName) ({ cls := "WidowRoadsModel", name := "house", desc := "(II)I" } : Jvm.MethodName)) ∈ lw_all := lw_g (lw_at lw_m10 59 rfl) rfl
theorem q2360 : (Jvm.Cond.code ({ cls := "WidowRoadsModel", name := "house", desc := "(II)I" } : Jvm.MethodName) prog_12_method_107_code (3 : Nat) (Option.some Jvm.ClassFile.FieldType.int)) ∈ lw_all := lw_g (lw_at lw_m10 60 rfl) rfl
theorem q2361 : (Jvm.Cond.methodLink "WidowRoadsModel" (410 : Nat) ({ cls := "WidowRoadsModel", name := "isHouseTold", desc := "(I)Z" } : Jvm.MethodName)) ∈ lw_all := lw_g (lw_at lw_m10 61 rfl) rfl
theorem q2362 : (Jvm.Cond.privateMethod ({ cls := "WidowRoadsModel", name := "isHouseTold", desc := "(I)Z" } : Jvm.MethodName)) ∈ lw_tbl := lw_at lw_m10 62 rfl
theorem q2363 : (Jvm.Cond.instanceMethod ({ cls := "WidowRoadsModel", name := "isHouseTold", desc := "(I)Z" } : Jvm.MethodName)) ∈ lw_all := lw_g (lw_at lw_m10 63 rfl) rfl
theorem q2364 : (Jvm.Cond.code ({ cls := "WidowRoadsModel", name := "isHouseTold", desc := "(I)Z" } : Jvm.MethodName) prog_12_method_106_code (2 : Nat) (Option.some Jvm.ClassFile.FieldType.boolean)) ∈ lw_all := lw_g (lw_at lw_m10 64 rfl) rfl
theorem q2366 : (Jvm.Cond.instanceMethod ({ cls := "WidowRoadsModel", name := "moved", desc := "(I)I" } : Jvm.MethodName)) ∈ lw_all := lw_g (lw_at lw_m10 66 rfl) rfl
theorem q2367 : (Jvm.Cond.selects "WidowRoadsModel" ({ cls := "WidowRoadsModel", name := "moved", desc := "(I)I" } : Jvm.MethodName) ({ cls := "WidowRoadsModel", name := "moved", desc := "(I)I" } : Jvm.MethodName)) ∈ lw_all := lw_g (lw_at lw_m10 67 rfl) rfl
theorem q2368 : (Jvm.Cond.code ({ cls := "WidowRoadsModel", name := "moved", desc := "(I)I" } : Jvm.MethodName) prog_12_method_108_code (2 : Nat) (Option.some Jvm.ClassFile.FieldType.int)) ∈ lw_all := lw_g (lw_at lw_m10 68 rfl) rfl
theorem q2370 : (Jvm.Cond.instanceMethod ({ cls := "WidowRoadsModel", name := "moves", desc := "(I)I" } : Jvm.MethodName)) ∈ lw_all := lw_g (lw_at lw_m10 70 rfl) rfl
theorem q2371 : (Jvm.Cond.selects "WidowRoadsModel" ({ cls := "WidowRoadsModel", name := "moves", desc := "(I)I" } : Jvm.MethodName) ({ cls := "WidowRoadsModel", name := "moves", desc := "(I)I" } : Jvm.MethodName)) ∈ lw_all := lw_g (lw_at lw_m10 71 rfl) rfl
theorem q2372 : (Jvm.Cond.code ({ cls := "WidowRoadsModel", name := "moves", desc := "(I)I" } : Jvm.MethodName) prog_12_method_109_code (2 : Nat) (Option.some Jvm.ClassFile.FieldType.int)) ∈ lw_all := lw_g (lw_at lw_m10 72 rfl) rfl
theorem q2374 : (Jvm.Cond.instanceMethod ({ cls := "WidowRoadsModel", name := "served", desc := "(I)I" } : Jvm.MethodName)) ∈ lw_all := lw_g (lw_at lw_m10 74 rfl) rfl
theorem q2375 : (Jvm.Cond.selects "WidowRoadsModel" ({ cls := "WidowRoadsModel", name := "served", desc := "(I)I" } : Jvm.MethodName) ({ cls := "WidowRoadsModel", name := "served", desc := "(I)I" } : Jvm.MethodName)) ∈ lw_all := lw_g (lw_at lw_m10 75 rfl) rfl
theorem q2376 : (Jvm.Cond.code ({ cls := "WidowRoadsModel", name := "served", desc := "(I)I" } : Jvm.MethodName) prog_12_method_111_code (4 : Nat) (Option.some Jvm.ClassFile.FieldType.int)) ∈ lw_all := lw_g (lw_at lw_m10 76 rfl) rfl
theorem q2377 : (Jvm.Cond.methodLink "WidowRoadsModel" (413 : Nat) ({ cls := "WidowRoadsModel", name := "isServed", desc := "(II)Z" } : Jvm.MethodName)) ∈ lw_all := lw_g (lw_at lw_m10 77 rfl) rfl
theorem q2378 : (Jvm.Cond.privateMethod ({ cls := "WidowRoadsModel", name := "isServed", desc := "(II)Z" } : Jvm.MethodName)) ∈ lw_tbl := lw_at lw_m10 78 rfl
theorem q2379 : (Jvm.Cond.instanceMethod ({ cls := "WidowRoadsModel", name := "isServed", desc := "(II)Z" } : Jvm.MethodName)) ∈ lw_all := lw_g (lw_at lw_m10 79 rfl) rfl
theorem q2380 : (Jvm.Cond.code ({ cls := "WidowRoadsModel", name := "isServed", desc := "(II)Z" } : Jvm.MethodName) prog_12_method_110_code (5 : Nat) (Option.some Jvm.ClassFile.FieldType.boolean)) ∈ lw_all := lw_g (lw_at lw_m10 80 rfl) rfl
theorem q2382 : (Jvm.Cond.instanceMethod ({ cls := "WidowRoadsModel", name := "blame", desc := "()I" } : Jvm.MethodName)) ∈ lw_all := lw_g (lw_at lw_m10 82 rfl) rfl
theorem q2383 : (Jvm.Cond.selects "WidowRoadsModel" ({ cls := "WidowRoadsModel", name := "blame", desc := "()I" } : Jvm.MethodName) ({ cls := "WidowRoadsModel", name := "blame", desc := "()I" } : Jvm.MethodName)) ∈ lw_all := lw_g (lw_at lw_m10 83 rfl) rfl
theorem q2384 : (Jvm.Cond.code ({ cls := "WidowRoadsModel", name := "blame", desc := "()I" } : Jvm.MethodName) prog_12_method_113_code (5 : Nat) (Option.some Jvm.ClassFile.FieldType.int)) ∈ lw_all := lw_g (lw_at lw_m10 84 rfl) rfl
theorem q2385 : (Jvm.Cond.methodLink "WidowRoadsModel" (416 : Nat) ({ cls := "WidowRoadsModel", name := "movedAll", desc := "()I" } : Jvm.MethodName)) ∈ lw_all := lw_g (lw_at lw_m10 85 rfl) rfl
theorem q2386 : (Jvm.Cond.privateMethod ({ cls := "WidowRoadsModel", name := "movedAll", desc := "()I" } : Jvm.MethodName)) ∈ lw_tbl := lw_at lw_m10 86 rfl
theorem q2387 : (Jvm.Cond.instanceMethod ({ cls := "WidowRoadsModel", name := "movedAll", desc := "()I" } : Jvm.MethodName)) ∈ lw_all := lw_g (lw_at lw_m10 87 rfl) rfl
theorem q2388 : (Jvm.Cond.code ({ cls := "WidowRoadsModel", name := "movedAll", desc := "()I" } : Jvm.MethodName) prog_12_method_112_code (3 : Nat) (Option.some Jvm.ClassFile.FieldType.int)) ∈ lw_all := lw_g (lw_at lw_m10 88 rfl) rfl
theorem q2390 : (Jvm.Cond.instanceMethod ({ cls := "WidowRoadsModel", name := "ford", desc := "()I" } : Jvm.MethodName)) ∈ lw_all := lw_g (lw_at lw_m10 90 rfl) rfl
theorem q2391 : (Jvm.Cond.selects "WidowRoadsModel" ({ cls := "WidowRoadsModel", name := "ford", desc := "()I" } : Jvm.MethodName) ({ cls := "WidowRoadsModel", name := "ford", desc := "()I" } : Jvm.MethodName)) ∈ lw_all := lw_g (lw_at lw_m10 91 rfl) rfl
theorem q2392 : (Jvm.Cond.code ({ cls := "WidowRoadsModel", name := "ford", desc := "()I" } : Jvm.MethodName) prog_12_method_114_code (5 : Nat) (Option.some Jvm.ClassFile.FieldType.int)) ∈ lw_all := lw_g (lw_at lw_m10 92 rfl) rfl
theorem q2393 : (Jvm.Cond.methodLink "WidowRoadsModel" (419 : Nat) ({ cls := "WidowRoadsModel", name := "pegsLast", desc := "()I" } : Jvm.MethodName)) ∈ lw_all := lw_g (lw_at lw_m10 93 rfl) rfl
theorem q2394 : (Jvm.Cond.privateMethod ({ cls := "WidowRoadsModel", name := "pegsLast", desc := "()I" } : Jvm.MethodName)) ∈ lw_tbl := lw_at lw_m10 94 rfl
theorem q2395 : (Jvm.Cond.instanceMethod ({ cls := "WidowRoadsModel", name := "pegsLast", desc := "()I" } : Jvm.MethodName)) ∈ lw_all := lw_g (lw_at lw_m10 95 rfl) rfl
theorem q2396 : (Jvm.Cond.code ({ cls := "WidowRoadsModel", name := "pegsLast", desc := "()I" } : Jvm.MethodName) prog_12_method_64_code (1 : Nat) (Option.some Jvm.ClassFile.FieldType.int)) ∈ lw_all := lw_g (lw_at lw_m10 96 rfl) rfl
theorem q2398 : (Jvm.Cond.instanceMethod ({ cls := "WidowRoadsModel", name := "faced", desc := "(II)I" } : Jvm.MethodName)) ∈ lw_all := lw_g (lw_at lw_m10 98 rfl) rfl
theorem q2399 : (Jvm.Cond.selects "WidowRoadsModel" ({ cls := "WidowRoadsModel", name := "faced", desc := "(II)I" } : Jvm.MethodName) ({ cls := "WidowRoadsModel", name := "faced", desc := "(II)I" } : Jvm.MethodName)) ∈ lw_all := lw_g (lw_at lw_m10 99 rfl) rfl
theorem q2400 : (Jvm.Cond.code ({ cls := "WidowRoadsModel", name := "faced", desc := "(II)I" } : Jvm.MethodName) prog_12_method_120_code (4 : Nat) (Option.some Jvm.ClassFile.FieldType.int)) ∈ lw_all := lw_g (lw_at lw_m10 100 rfl) rfl
theorem q2401 : (Jvm.Cond.methodLink "WidowRoadsModel" (435 : Nat) ({ cls := "WidowRoadsModel", name := "askSeen", desc := "(II)I" } : Jvm.MethodName)) ∈ lw_all := lw_g (lw_at lw_m10 101 rfl) rfl
theorem q2402 : (Jvm.Cond.privateMethod ({ cls := "WidowRoadsModel", name := "askSeen", desc := "(II)I" } : Jvm.MethodName)) ∈ lw_tbl := lw_at lw_m10 102 rfl
theorem q2403 : (Jvm.Cond.instanceMethod ({ cls := "WidowRoadsModel", name := "askSeen", desc := "(II)I" } : Jvm.MethodName)) ∈ lw_all := lw_g (lw_at lw_m10 103 rfl) rfl
theorem q2404 : (Jvm.Cond.code ({ cls := "WidowRoadsModel", name := "askSeen", desc := "(II)I" } : Jvm.MethodName) prog_12_method_117_code (3 : Nat) (Option.some Jvm.ClassFile.FieldType.int)) ∈ lw_all := lw_g (lw_at lw_m10 104 rfl) rfl
theorem q2405 : (Jvm.Cond.methodLink "WidowRoadsModel" (429 : Nat) ({ cls := "WidowRoadsModel", name := "askSeen", desc := "(I)I" } : Jvm.MethodName)) ∈ lw_all := lw_g (lw_at lw_m10 105 rfl) rfl
theorem q2406 : (Jvm.Cond.privateMethod ({ cls := "WidowRoadsModel", name := "askSeen", desc := "(I)I" } : Jvm.MethodName)) ∈ lw_tbl := lw_at lw_m10 106 rfl
theorem q2407 : (Jvm.Cond.instanceMethod ({ cls := "WidowRoadsModel", name := "askSeen", desc := "(I)I" } : Jvm.MethodName)) ∈ lw_all := lw_g (lw_at lw_m10 107 rfl) rfl
theorem q2408 : (Jvm.Cond.code ({ cls := "WidowRoadsModel", name := "askSeen", desc := "(I)I" } : Jvm.MethodName) prog_12_method_116_code (3 : Nat) (Option.some Jvm.ClassFile.FieldType.int)) ∈ lw_all := lw_g (lw_at lw_m10 108 rfl) rfl
theorem q2409 : (Jvm.Cond.methodLink "WidowRoadsModel" (422 : Nat) ({ cls := "WidowRoadsModel", name := "isSlot", desc := "(I)Z" } : Jvm.MethodName)) ∈ lw_all := lw_g (lw_at lw_m10 109 rfl) rfl
theorem q2410 : (Jvm.Cond.static ({ cls := "WidowRoadsModel", name := "isSlot", desc := "(I)Z" } : Jvm.MethodName)) ∈ lw_all := lw_g (lw_at lw_m10 110 rfl) rfl
theorem q2411 : (Jvm.Cond.code ({ cls := "WidowRoadsModel", name := "isSlot", desc := "(I)Z" } : Jvm.MethodName) prog_12_method_155_code (1 : Nat) (Option.some Jvm.ClassFile.FieldType.boolean)) ∈ lw_all := lw_g (lw_at lw_m10 111 rfl) rfl
theorem q2412 : (Jvm.Cond.constantLong "WidowRoadsModel" (449 : Nat) (3 : Int64)) ∈ lw_all := lw_g (lw_at lw_m10 112 rfl) rfl
theorem q2413 : (Jvm.Cond.methodLink "WidowRoadsModel" (425 : Nat) ({ cls := "WidowRoadsModel", name := "numberAt", desc := "(II)J" } : Jvm.MethodName)) ∈ lw_all := lw_g (lw_at lw_m10 113 rfl) rfl
theorem q2414 : (Jvm.Cond.privateMethod ({ cls := "WidowRoadsModel", name := "numberAt", desc := "(II)J" } : Jvm.MethodName)) ∈ lw_tbl := lw_at lw_m10 114 rfl
theorem q2415 : (Jvm.Cond.instanceMethod ({ cls := "WidowRoadsModel", name := "numberAt", desc := "(II)J" } : Jvm.MethodName)) ∈ lw_all := lw_g (lw_at lw_m10 115 rfl) rfl
theorem q2416 : (Jvm.Cond.code ({ cls := "WidowRoadsModel", name := "numberAt", desc := "(II)J" } : Jvm.MethodName) prog_12_method_115_code (3 : Nat) (Option.some Jvm.ClassFile.FieldType.long)) ∈ lw_all := lw_g (lw_at lw_m10 116 rfl) rfl
theorem q2417 : (Jvm.Cond.methodLink "WidowRoadsModel" (437 : Nat) ({ cls := "WidowRoadsModel", name := "facedOf", desc := "(II)I" } : Jvm.MethodName)) ∈ lw_all := lw_g (lw_at lw_m10 117 rfl) rfl
theorem q2418 : (Jvm.Cond.privateMethod ({ cls := "WidowRoadsModel", name := "facedOf", desc := "(II)I" } : Jvm.MethodName)) ∈ lw_tbl := lw_at lw_m10 118 rfl
theorem q2419 : (Jvm.Cond.instanceMethod ({ cls := "WidowRoadsModel", name := "facedOf", desc := "(II)I" } : Jvm.MethodName)) ∈ lw_all := lw_g (lw_at lw_m10 119 rfl) rfl
theorem q2420 : (Jvm.Cond.code ({ cls := "WidowRoadsModel", name := "facedOf", desc := "(II)I" } : Jvm.MethodName) prog_12_method_119_code (6 : Nat) (Option.some Jvm.ClassFile.FieldType.int)) ∈ lw_all := lw_g (lw_at lw_m10 120 rfl) rfl
theorem q2421 : (Jvm.Cond.methodLink "WidowRoadsModel" (432 : Nat) ({ cls := "WidowRoadsModel", name := "isSeen", desc := "(I)Z" } : Jvm.MethodName)) ∈ lw_all := lw_g (lw_at lw_m10 121 rfl) rfl
theorem q2422 : (Jvm.Cond.privateMethod ({ cls := "WidowRoadsModel", name := "isSeen", desc := "(I)Z" } : Jvm.MethodName)) ∈ lw_tbl := lw_at lw_m10 122 rfl
theorem q2423 : (Jvm.Cond.instanceMethod ({ cls := "WidowRoadsModel", name := "isSeen", desc := "(I)Z" } : Jvm.MethodName)) ∈ lw_all := lw_g (lw_at lw_m10 123 rfl) rfl
theorem q2424 : (Jvm.Cond.code ({ cls := "WidowRoadsModel", name := "isSeen", desc := "(I)Z" } : Jvm.MethodName) prog_12_method_118_code (3 : Nat) (Option.some Jvm.ClassFile.FieldType.boolean)) ∈ lw_all := lw_g (lw_at lw_m10 124 rfl) rfl
theorem q2426 : (Jvm.Cond.instanceMethod ({ cls := "WidowRoadsModel", name := "griefs", desc := "(II)I" } : Jvm.MethodName)) ∈ lw_all := lw_g (lw_at lw_m10 126 rfl) rfl
theorem q2427 : (Jvm.Cond.selects "WidowRoadsModel" ({ cls := "WidowRoadsModel", name := "griefs", desc := "(II)I" } : Jvm.MethodName) ({ cls := "WidowRoadsModel", name := "griefs", desc := "(II)I" } : Jvm.MethodName)) ∈ lw_all := lw_g (lw_at lw_m10 127 rfl) rfl
theorem q2428 : (Jvm.Cond.code ({ cls := "WidowRoadsModel", name := "griefs", desc := "(II)I" } : Jvm.MethodName) prog_12_method_121_code (5 : Nat) (Option.some Jvm.ClassFile.FieldType.int)) ∈ lw_all := lw_g (lw_at lw_m10 128 rfl) rfl
theorem q2430 : (Jvm.Cond.instanceMethod ({ cls := "WidowRoadsModel", name := "ask", desc := "(II)I" } : Jvm.MethodName)) ∈ lw_all := lw_g (lw_at lw_m10 130 rfl) rfl
theorem q2431 : (Jvm.Cond.selects "WidowRoadsModel" ({ cls := "WidowRoadsModel", name := "ask", desc := "(II)I" } : Jvm.MethodName) ({ cls := "WidowRoadsModel", name := "ask", desc := "(II)I" } : Jvm.MethodName)) ∈ lw_all := lw_g (lw_at lw_m10 131 rfl) rfl
theorem q2432 : (Jvm.Cond.code ({ cls := "WidowRoadsModel", name := "ask", desc := "(II)I" } : Jvm.MethodName) prog_12_method_124_code (4 : Nat) (Option.some Jvm.ClassFile.FieldType.int)) ∈ lw_all := lw_g (lw_at lw_m10 132 rfl) rfl
theorem q2433 : (Jvm.Cond.methodLink "WidowRoadsModel" (446 : Nat) ({ cls := "WidowRoadsModel", name := "askOf", desc := "(I)I" } : Jvm.MethodName)) ∈ lw_all := lw_g (lw_at lw_m10 133 rfl) rfl
theorem q2434 : (Jvm.Cond.privateMethod ({ cls := "WidowRoadsModel", name := "askOf", desc := "(I)I" } : Jvm.MethodName)) ∈ lw_tbl := lw_at lw_m10 134 rfl
theorem q2435 : (Jvm.Cond.instanceMethod ({ cls := "WidowRoadsModel", name := "askOf", desc := "(I)I" } : Jvm.MethodName)) ∈ lw_all := lw_g (lw_at lw_m10 135 rfl) rfl
theorem q2436 : (Jvm.Cond.code ({ cls := "WidowRoadsModel", name := "askOf", desc := "(I)I" } : Jvm.MethodName) prog_12_method_123_code (5 : Nat) (Option.some Jvm.ClassFile.FieldType.int)) ∈ lw_all := lw_g (lw_at lw_m10 136 rfl) rfl
theorem q2437 : (Jvm.Cond.methodLink "WidowRoadsModel" (443 : Nat) ({ cls := "WidowRoadsModel", name := "worstOf", desc := "(II)I" } : Jvm.MethodName)) ∈ lw_all := lw_g (lw_at lw_m10 137 rfl) rfl
theorem q2438 : (Jvm.Cond.privateMethod ({ cls := "WidowRoadsModel", name := "worstOf", desc := "(II)I" } : Jvm.MethodName)) ∈ lw_tbl := lw_at lw_m10 138 rfl
theorem q2439 : (Jvm.Cond.instanceMethod ({ cls := "WidowRoadsModel", name := "worstOf", desc := "(II)I" } : Jvm.MethodName)) ∈ lw_all := lw_g (lw_at lw_m10 139 rfl) rfl
theorem q2440 : (Jvm.Cond.code ({ cls := "WidowRoadsModel", name := "worstOf", desc := "(II)I" } : Jvm.MethodName) prog_12_method_122_code (7 : Nat) (Option.some Jvm.ClassFile.FieldType.int)) ∈ lw_all := lw_g (lw_at lw_m10 140 rfl) rfl
theorem q2442 : (Jvm.Cond.instanceMethod ({ cls := "WidowRoadsModel", name := "leaves", desc := "(II)I" } : Jvm.MethodName)) ∈ lw_all := lw_g (lw_at lw_m10 142 rfl) rfl
theorem q2443 : (Jvm.Cond.selects "WidowRoadsModel" ({ cls := "WidowRoadsModel", name := "leaves", desc := "(II)I" } : Jvm.MethodName) ({ cls := "WidowRoadsModel", name := "leaves", desc := "(II)I" } : Jvm.MethodName)) ∈ lw_all := lw_g (lw_at lw_m10 143 rfl) rfl
theorem q2444 : (Jvm.Cond.code ({ cls := "WidowRoadsModel", name := "leaves", desc := "(II)I" } : Jvm.MethodName) prog_12_method_125_code (4 : Nat) (Option.some Jvm.ClassFile.FieldType.int)) ∈ lw_all := lw_g (lw_at lw_m10 144 rfl) rfl
theorem q2446 : (Jvm.Cond.instanceMethod ({ cls := "WidowRoadsModel", name := "laws", desc := "(I)I" } : Jvm.MethodName)) ∈ lw_all := lw_g (lw_at lw_m10 146 rfl) rfl
theorem q2447 : (Jvm.Cond.selects "WidowRoadsModel" ({ cls := "WidowRoadsModel", name := "laws", desc := "(I)I" } : Jvm.MethodName) ({ cls := "WidowRoadsModel", name := "laws", desc := "(I)I" } : Jvm.MethodName)) ∈ lw_all := lw_g (lw_at lw_m10 147 rfl) rfl
theorem q2448 : (Jvm.Cond.code ({ cls := "WidowRoadsModel", name := "laws", desc := "(I)I" } : Jvm.MethodName) prog_12_method_126_code (4 : Nat) (Option.some Jvm.ClassFile.FieldType.int)) ∈ lw_all := lw_g (lw_at lw_m10 148 rfl) rfl
theorem q2450 : (Jvm.Cond.instanceMethod ({ cls := "WidowRoadsModel", name := "by", desc := "(I)I" } : Jvm.MethodName)) ∈ lw_all := lw_g (lw_at lw_m10 150 rfl) rfl
theorem q2451 : (Jvm.Cond.selects "WidowRoadsModel" ({ cls := "WidowRoadsModel", name := "by", desc := "(I)I" } : Jvm.MethodName) ({ cls := "WidowRoadsModel", name := "by", desc := "(I)I" } : Jvm.MethodName)) ∈ lw_all := lw_g (lw_at lw_m10 151 rfl) rfl
theorem q2452 : (Jvm.Cond.code ({ cls := "WidowRoadsModel", name := "by", desc := "(I)I" } : Jvm.MethodName) prog_12_method_128_code (2 : Nat) (Option.some Jvm.ClassFile.FieldType.int)) ∈ lw_all := lw_g (lw_at lw_m10 152 rfl) rfl
theorem q2453 : (Jvm.Cond.methodLink "WidowRoadsModel" (451 : Nat) ({ cls := "WidowRoadsModel", name := "pegsBy", desc := "(I)I" } : Jvm.MethodName)) ∈ lw_all := lw_g (lw_at lw_m10 153 rfl) rfl
theorem q2454 : (Jvm.Cond.privateMethod ({ cls := "WidowRoadsModel", name := "pegsBy", desc := "(I)I" } : Jvm.MethodName)) ∈ lw_tbl := lw_at lw_m10 154 rfl
theorem q2455 : (Jvm.Cond.instanceMethod ({ cls := "WidowRoadsModel", name := "pegsBy", desc := "(I)I" } : Jvm.MethodName)) ∈ lw_all := lw_g (lw_at lw_m10 155 rfl) rfl
theorem q2456 : (Jvm.Cond.code ({ cls := "WidowRoadsModel", name := "pegsBy", desc := "(I)I" } : Jvm.MethodName) prog_12_method_127_code (2 : Nat) (Option.some Jvm.ClassFile.FieldType.int)) ∈ lw_all := lw_g (lw_at lw_m10 156 rfl) rfl
theorem q2458 : (Jvm.Cond.instanceMethod ({ cls := "WidowRoadsModel", name := "law", desc := "()I" } : Jvm.MethodName)) ∈ lw_all := lw_g (lw_at lw_m10 158 rfl) rfl
theorem q2459 : (Jvm.Cond.selects "WidowRoadsModel" ({ cls := "WidowRoadsModel", name := "law", desc := "()I" } : Jvm.MethodName) ({ cls := "WidowRoadsModel", name := "law", desc := "()I" } : Jvm.MethodName)) ∈ lw_all := lw_g (lw_at lw_m10 159 rfl) rfl
theorem q2460 : (Jvm.Cond.code ({ cls := "WidowRoadsModel", name := "law", desc := "()I" } : Jvm.MethodName) prog_12_method_129_code (3 : Nat) (Option.some Jvm.ClassFile.FieldType.int)) ∈ lw_all := lw_g (lw_at lw_m10 160 rfl) rfl
theorem q2462 : (Jvm.Cond.instanceMethod ({ cls := "WidowRoadsModel", name := "worth", desc := "(I)I" } : Jvm.MethodName)) ∈ lw_all := lw_g (lw_at lw_m10 162 rfl) rfl
theorem q2463 : (Jvm.Cond.selects "WidowRoadsModel" ({ cls := "WidowRoadsModel", name := "worth", desc := "(I)I" } : Jvm.MethodName) ({ cls := "WidowRoadsModel", name := "worth", desc := "(I)I" } : Jvm.MethodName)) ∈ lw_all := lw_g (lw_at lw_m10 163 rfl) rfl
theorem q2464 : (Jvm.Cond.code ({ cls := "WidowRoadsModel", name := "worth", desc := "(I)I" } : Jvm.MethodName) prog_12_method_132_code (2 : Nat) (Option.some Jvm.ClassFile.FieldType.int)) ∈ lw_all := lw_g (lw_at lw_m10 164 rfl) rfl
theorem q2465 : (Jvm.Cond.methodLink "WidowRoadsModel" (457 : Nat) ({ cls := "WidowRoadsModel", name := "beginSets", desc := "()V" } : Jvm.MethodName)) ∈ lw_all := lw_g (lw_at lw_m10 165 rfl) rfl
theorem q2466 : (Jvm.Cond.privateMethod ({ cls := "WidowRoadsModel", name := "beginSets", desc := "()V" } : Jvm.MethodName)) ∈ lw_tbl := lw_at lw_m10 166 rfl
theorem q2467 : (Jvm.Cond.instanceMethod ({ cls := "WidowRoadsModel", name := "beginSets", desc := "()V" } : Jvm.MethodName)) ∈ lw_all := lw_g (lw_at lw_m10 167 rfl) rfl
theorem q2468 : (Jvm.Cond.code ({ cls := "WidowRoadsModel", name := "beginSets", desc := "()V" } : Jvm.MethodName) prog_12_method_131_code (1 : Nat) (Option.none : Option Jvm.ClassFile.FieldType)) ∈ lw_all := lw_g (lw_at lw_m10 168 rfl) rfl
theorem q2469 : (Jvm.Cond.methodLink "WidowRoadsModel" (460 : Nat) ({ cls := "WidowRoadsModel", name := "worthOf", desc := "(I)I" } : Jvm.MethodName)) ∈ lw_all := lw_g (lw_at lw_m10 169 rfl) rfl
theorem q2470 : (Jvm.Cond.privateMethod ({ cls := "WidowRoadsModel", name := "worthOf", desc := "(I)I" } : Jvm.MethodName)) ∈ lw_tbl := lw_at lw_m10 170 rfl
theorem q2471 : (Jvm.Cond.instanceMethod ({ cls := "WidowRoadsModel", name := "worthOf", desc := "(I)I" } : Jvm.MethodName)) ∈ lw_all := lw_g (lw_at lw_m10 171 rfl) rfl
theorem q2472 : (Jvm.Cond.code ({ cls := "WidowRoadsModel", name := "worthOf", desc := "(I)I" } : Jvm.MethodName) prog_12_method_130_code (2 : Nat) (Option.some Jvm.ClassFile.FieldType.int)) ∈ lw_all := lw_g (lw_at lw_m10 172 rfl) rfl
theorem q2474 : (Jvm.Cond.instanceMethod ({ cls := "WidowRoadsModel", name := "share", desc := "(II)I" } : Jvm.MethodName)) ∈ lw_all := lw_g (lw_at lw_m10 174 rfl) rfl
theorem q2475 : (Jvm.Cond.selects "WidowRoadsModel" ({ cls := "WidowRoadsModel", name := "share", desc := "(II)I" } : Jvm.MethodName) ({ cls := "WidowRoadsModel", name := "share", desc := "(II)I" } : Jvm.MethodName)) ∈ lw_all := lw_g (lw_at lw_m10 175 rfl) rfl
theorem q2476 : (Jvm.Cond.code ({ cls := "WidowRoadsModel", name := "share", desc := "(II)I" } : Jvm.MethodName) prog_12_method_136_code (7 : Nat) (Option.some Jvm.ClassFile.FieldType.int)) ∈ lw_all := lw_g (lw_at lw_m10 176 rfl) rfl
theorem q2477 : (Jvm.Cond.constant "WidowRoadsModel" (471 : Nat) (-1000000 : Int32)) ∈ lw_all := lw_g (lw_at lw_m10 177 rfl) rfl
theorem q2478 : (Jvm.Cond.methodLink "WidowRoadsModel" (472 : Nat) ({ cls := "WidowRoadsModel", name := "factorial", desc := "(I)I" } : Jvm.MethodName)) ∈ lw_all := lw_g (lw_at lw_m10 178 rfl) rfl
theorem q2479 : (Jvm.Cond.static ({ cls := "WidowRoadsModel", name := "factorial", desc := "(I)I" } : Jvm.MethodName)) ∈ lw_all := lw_g (lw_at lw_m10 179 rfl) rfl
theorem q2480 : (Jvm.Cond.code ({ cls := "WidowRoadsModel", name := "factorial", desc := "(I)I" } : Jvm.MethodName) prog_12_method_133_code (3 : Nat) (Option.some Jvm.ClassFile.FieldType.int)) ∈ lw_all := lw_g (lw_at lw_m10 180 rfl) rfl
theorem q2481 : (Jvm.Cond.methodLink "WidowRoadsModel" (475 : Nat) ({ cls := "WidowRoadsModel", name := "part", desc := "(JJI)J" } : Jvm.MethodName)) ∈ lw_all := lw_g (lw_at lw_m10 181 rfl) rfl
theorem q2482 : (Jvm.Cond.static ({ cls := "WidowRoadsModel", name := "part", desc := "(JJI)J" } : Jvm.MethodName)) ∈ lw_all := lw_g (lw_at lw_m10 182 rfl) rfl
theorem q2483 : (Jvm.Cond.code ({ cls := "WidowRoadsModel", name := "part", desc := "(JJI)J" } : Jvm.MethodName) prog_12_method_135_code (5 : Nat) (Option.some Jvm.ClassFile.FieldType.long)) ∈ lw_all := lw_g (lw_at lw_m10 183 rfl) rfl
theorem q2484 : (Jvm.Cond.methodLink "WidowRoadsModel" (467 : Nat) ({ cls := "WidowRoadsModel", name := "divisor", desc := "(JJ)J" } : Jvm.MethodName)) ∈ lw_all := lw_g (lw_at lw_m10 184 rfl) rfl
theorem q2485 : (Jvm.Cond.static ({ cls := "WidowRoadsModel", name := "divisor", desc := "(JJ)J" } : Jvm.MethodName)) ∈ lw_all := lw_g (lw_at lw_m10 185 rfl) rfl
theorem q2486 : (Jvm.Cond.code ({ cls := "WidowRoadsModel", name := "divisor", desc := "(JJ)J" } : Jvm.MethodName) prog_12_method_134_code (10 : Nat) (Option.some Jvm.ClassFile.FieldType.long)) ∈ lw_all := lw_g (lw_at lw_m10 186 rfl) rfl
theorem q2487 : (Jvm.Cond.methodLink "WidowRoadsModel" (463 : Nat) ({ cls := "java/lang/Math", name := "abs", desc := "(J)J" } : Jvm.MethodName)) ∈ lw_all := lw_g (lw_at lw_m10 187 rfl) rfl
theorem q2489 : (Jvm.Cond.instanceMethod ({ cls := "WidowRoadsModel", name := "rests", desc := "(II)I" } : Jvm.MethodName)) ∈ lw_all := lw_g (lw_at lw_m10 189 rfl) rfl
theorem q2490 : (Jvm.Cond.selects "WidowRoadsModel" ({ cls := "WidowRoadsModel", name := "rests", desc := "(II)I" } : Jvm.MethodName) ({ cls := "WidowRoadsModel", name := "rests", desc := "(II)I" } : Jvm.MethodName)) ∈ lw_all := lw_g (lw_at lw_m10 190 rfl) rfl
theorem q2491 : (Jvm.Cond.code ({ cls := "WidowRoadsModel", name := "rests", desc := "(II)I" } : Jvm.MethodName) prog_12_method_139_code (8 : Nat) (Option.some Jvm.ClassFile.FieldType.int)) ∈ lw_all := lw_g (lw_at lw_m10 191 rfl) rfl
theorem q2492 : (Jvm.Cond.methodLink "WidowRoadsModel" (479 : Nat) ({ cls := "WidowRoadsModel", name := "areTwo", desc := "(II)Z" } : Jvm.MethodName)) ∈ lw_all := lw_g (lw_at lw_m10 192 rfl) rfl
theorem q2493 : (Jvm.Cond.privateMethod ({ cls := "WidowRoadsModel", name := "areTwo", desc := "(II)Z" } : Jvm.MethodName)) ∈ lw_tbl := lw_at lw_m10 193 rfl
theorem q2494 : (Jvm.Cond.instanceMethod ({ cls := "WidowRoadsModel", name := "areTwo", desc := "(II)Z" } : Jvm.MethodName)) ∈ lw_all := lw_g (lw_at lw_m10 194 rfl) rfl
theorem q2495 : (Jvm.Cond.code ({ cls := "WidowRoadsModel", name := "areTwo", desc := "(II)Z" } : Jvm.MethodName) prog_12_method_138_code (3 : Nat) (Option.some Jvm.ClassFile.FieldType.boolean)) ∈ lw_all := lw_g (lw_at lw_m10 195 rfl) rfl
theorem q2496 : (Jvm.Cond.methodLink "WidowRoadsModel" (482 : Nat) ({ cls := "WidowRoadsModel", name := "getsBy", desc := "(IIIII)I" } : Jvm.MethodName)) ∈ lw_all := lw_g (lw_at lw_m10 196 rfl) rfl
theorem q2497 : (Jvm.Cond.privateMethod ({ cls := "WidowRoadsModel", name := "getsBy", desc := "(IIIII)I" } : Jvm.MethodName)) ∈ lw_tbl := lw_at lw_m10 197 rfl
theorem q2498 : (Jvm.Cond.instanceMethod ({ cls := "WidowRoadsModel", name := "getsBy", desc := "(IIIII)I" } : Jvm.MethodName)) ∈ lw_all := lw_g (lw_at lw_m10 198 rfl) rfl
theorem q2499 : (Jvm.Cond.code ({ cls := "WidowRoadsModel", name := "getsBy", desc := "(IIIII)I" } : Jvm.MethodName) prog_12_method_137_code (7 : Nat) (Option.some Jvm.ClassFile.FieldType.int)) ∈ lw_all := lw_g (lw_at lw_m10 199 rfl) rfl
theorem q2501 : (Jvm.Cond.instanceMethod ({ cls := "WidowRoadsModel", name := "gets", desc := "(IIII)I" } : Jvm.MethodName)) ∈ lw_all := lw_g (lw_at lw_m10 201 rfl) rfl
theorem q2502 : (Jvm.Cond.selects "WidowRoadsModel" ({ cls := "WidowRoadsModel", name := "gets", desc := "(IIII)I" } : Jvm.MethodName) ({ cls := "WidowRoadsModel", name := "gets", desc := "(IIII)I" } : Jvm.MethodName)) ∈ lw_all := lw_g (lw_at lw_m10 202 rfl) rfl
theorem q2503 : (Jvm.Cond.code ({ cls := "WidowRoadsModel", name := "gets", desc := "(IIII)I" } : Jvm.MethodName) prog_12_method_140_code (5 : Nat) (Option.some Jvm.ClassFile.FieldType.int)) ∈ lw_all := lw_g (lw_at lw_m10 203 rfl) rfl
theorem q2505 : (Jvm.Cond.instanceMethod ({ cls := "WidowRoadsModel", name := "chance", desc := "(II)J" } : Jvm.MethodName)) ∈ lw_all := lw_g (lw_at lw_m10 205 rfl) rfl
theorem q2506 : (Jvm.Cond.selects "WidowRoadsModel" ({ cls := "WidowRoadsModel", name := "chance", desc := "(II)J" } : Jvm.MethodName) ({ cls := "WidowRoadsModel", name := "chance", desc := "(II)J" } : Jvm.MethodName)) ∈ lw_all := lw_g (lw_at lw_m10 206 rfl) rfl
theorem q2507 : (Jvm.Cond.code ({ cls := "WidowRoadsModel", name := "chance", desc := "(II)J" } : Jvm.MethodName) prog_12_method_142_code (3 : Nat) (Option.some Jvm.ClassFile.FieldType.long)) ∈ lw_all := lw_g (lw_at lw_m10 207 rfl) rfl
theorem q2508 : (Jvm.Cond.constantLong "WidowRoadsModel" (496 : Nat) (-2 : Int64)) ∈ lw_all := lw_g (lw_at lw_m10 208 rfl) rfl
theorem q2509 : (Jvm.Cond.methodLink "WidowRoadsModel" (498 : Nat) ({ cls := "WidowRoadsModel", name := "layFog", desc := "(I)V" } : Jvm.MethodName)) ∈ lw_all := lw_g (lw_at lw_m10 209 rfl) rfl
theorem q2510 : (Jvm.Cond.privateMethod ({ cls := "WidowRoadsModel", name := "layFog", desc := "(I)V" } : Jvm.MethodName)) ∈ lw_tbl := lw_at lw_m10 210 rfl
theorem q2511 : (Jvm.Cond.instanceMethod ({ cls := "WidowRoadsModel", name := "layFog", desc := "(I)V" } : Jvm.MethodName)) ∈ lw_all := lw_g (lw_at lw_m10 211 rfl) rfl
theorem q2512 : (Jvm.Cond.code ({ cls := "WidowRoadsModel", name := "layFog", desc := "(I)V" } : Jvm.MethodName) prog_12_method_141_code (7 : Nat) (Option.none : Option Jvm.ClassFile.FieldType)) ∈ lw_all := lw_g (lw_at lw_m10 212 rfl) rfl
theorem q2514 : (Jvm.Cond.instanceMethod ({ cls := "WidowRoadsModel", name := "mean", desc := "(I)J" } : Jvm.MethodName)) ∈ lw_all := lw_g (lw_at lw_m10 214 rfl) rfl
theorem q2515 : (Jvm.Cond.selects "WidowRoadsModel" ({ cls := "WidowRoadsModel", name := "mean", desc := "(I)J" } : Jvm.MethodName) ({ cls := "WidowRoadsModel", name := "mean", desc := "(I)J" } : Jvm.MethodName)) ∈ lw_all := lw_g (lw_at lw_m10 215 rfl) rfl
theorem q2516 : (Jvm.Cond.code ({ cls := "WidowRoadsModel", name := "mean", desc := "(I)J" } : Jvm.MethodName) prog_12_method_143_code (2 : Nat) (Option.some Jvm.ClassFile.FieldType.long)) ∈ lw_all := lw_g (lw_at lw_m10 216 rfl) rfl
theorem q2518 : (Jvm.Cond.instanceMethod ({ cls := "WidowRoadsModel", name := "bridge", desc := "(I)I" } : Jvm.MethodName)) ∈ lw_all := lw_g (lw_at lw_m10 218 rfl) rfl
theorem q2519 : (Jvm.Cond.selects "WidowRoadsModel" ({ cls := "WidowRoadsModel", name := "bridge", desc := "(I)I" } : Jvm.MethodName) ({ cls := "WidowRoadsModel", name := "bridge", desc := "(I)I" } : Jvm.MethodName)) ∈ lw_all := lw_g (lw_at lw_m10 219 rfl) rfl
theorem q2520 : (Jvm.Cond.code ({ cls := "WidowRoadsModel", name := "bridge", desc := "(I)I" } : Jvm.MethodName) prog_12_method_145_code (2 : Nat) (Option.some Jvm.ClassFile.FieldType.int)) ∈ lw_all := lw_g (lw_at lw_m10 220 rfl) rfl
theorem q2521 : (Jvm.Cond.methodLink "WidowRoadsModel" (501 : Nat) ({ cls := "WidowRoadsModel", name := "keepAct", desc := "(I)I" } : Jvm.MethodName)) ∈ lw_all := lw_g (lw_at lw_m10 221 rfl) rfl
theorem q2522 : (Jvm.Cond.privateMethod ({ cls := "WidowRoadsModel", name := "keepAct", desc := "(I)I" } : Jvm.MethodName)) ∈ lw_tbl := lw_at lw_m10 222 rfl
theorem q2523 : (Jvm.Cond.instanceMethod ({ cls := "WidowRoadsModel", name := "keepAct", desc := "(I)I" } : Jvm.MethodName)) ∈ lw_all := lw_g (lw_at lw_m10 223 rfl) rfl
theorem q2524 : (Jvm.Cond.code ({ cls := "WidowRoadsModel", name := "keepAct", desc := "(I)I" } : Jvm.MethodName) prog_12_method_144_code (2 : Nat) (Option.some Jvm.ClassFile.FieldType.int)) ∈ lw_all := lw_g (lw_at lw_m10 224 rfl) rfl
theorem q2526 : (Jvm.Cond.instanceMethod ({ cls := "WidowRoadsModel", name := "keeps", desc := "(I)I" } : Jvm.MethodName)) ∈ lw_all := lw_g (lw_at lw_m10 226 rfl) rfl
theorem q2527 : (Jvm.Cond.selects "WidowRoadsModel" ({ cls := "WidowRoadsModel", name := "keeps", desc := "(I)I" } : Jvm.MethodName) ({ cls := "WidowRoadsModel", name := "keeps", desc := "(I)I" } : Jvm.MethodName)) ∈ lw_all := lw_g (lw_at lw_m10 227 rfl) rfl
theorem q2528 : (Jvm.Cond.code ({ cls := "WidowRoadsModel", name := "keeps", desc := "(I)I" } : Jvm.MethodName) prog_12_method_146_code (2 : Nat) (Option.some Jvm.ClassFile.FieldType.int)) ∈ lw_all := lw_g (lw_at lw_m10 228 rfl) rfl
theorem q2530 : (Jvm.Cond.instanceMethod ({ cls := "WidowRoadsModel", name := "undo", desc := "()I" } : Jvm.MethodName)) ∈ lw_all := lw_g (lw_at lw_m10 230 rfl) rfl
theorem q2531 : (Jvm.Cond.selects "WidowRoadsModel" ({ cls := "WidowRoadsModel", name := "undo", desc := "()I" } : Jvm.MethodName) ({ cls := "WidowRoadsModel", name := "undo", desc := "()I" } : Jvm.MethodName)) ∈ lw_all := lw_g (lw_at lw_m10 231 rfl) rfl
theorem q2532 : (Jvm.Cond.code ({ cls := "WidowRoadsModel", name := "undo", desc := "()I" } : Jvm.MethodName) prog_12_method_147_code (1 : Nat) (Option.some Jvm.ClassFile.FieldType.int)) ∈ lw_all := lw_g (lw_at lw_m10 232 rfl) rfl
theorem q2534 : (Jvm.Cond.instanceMethod ({ cls := "WidowRoadsModel", name := "anew", desc := "()I" } : Jvm.MethodName)) ∈ lw_all := lw_g (lw_at lw_m10 234 rfl) rfl
theorem q2535 : (Jvm.Cond.selects "WidowRoadsModel" ({ cls := "WidowRoadsModel", name := "anew", desc := "()I" } : Jvm.MethodName) ({ cls := "WidowRoadsModel", name := "anew", desc := "()I" } : Jvm.MethodName)) ∈ lw_all := lw_g (lw_at lw_m10 235 rfl) rfl
theorem q2536 : (Jvm.Cond.code ({ cls := "WidowRoadsModel", name := "anew", desc := "()I" } : Jvm.MethodName) prog_12_method_148_code (2 : Nat) (Option.some Jvm.ClassFile.FieldType.int)) ∈ lw_all := lw_g (lw_at lw_m10 236 rfl) rfl
theorem q2538 : (Jvm.Cond.instanceMethod ({ cls := "WidowRoadsModel", name := "drawn", desc := "(II)I" } : Jvm.MethodName)) ∈ lw_all := lw_g (lw_at lw_m10 238 rfl) rfl
theorem q2539 : (Jvm.Cond.selects "WidowRoadsModel" ({ cls := "WidowRoadsModel", name := "drawn", desc := "(II)I" } : Jvm.MethodName) ({ cls := "WidowRoadsModel", name := "drawn", desc := "(II)I" } : Jvm.MethodName)) ∈ lw_all := lw_g (lw_at lw_m10 239 rfl) rfl
theorem q2540 : (Jvm.Cond.code ({ cls := "WidowRoadsModel", name := "drawn", desc := "(II)I" } : Jvm.MethodName) prog_12_method_151_code (4 : Nat) (Option.some Jvm.ClassFile.FieldType.int)) ∈ lw_all := lw_g (lw_at lw_m11 0 rfl) rfl
theorem q2541 : (Jvm.Cond.methodLink "WidowRoadsModel" (514 : Nat) ({ cls := "WidowRoadsModel", name := "isSeed", desc := "(I)Z" } : Jvm.MethodName)) ∈ lw_all := lw_g (lw_at lw_m11 1 rfl) rfl
theorem q2542 : (Jvm.Cond.static ({ cls := "WidowRoadsModel", name := "isSeed", desc := "(I)Z" } : Jvm.MethodName)) ∈ lw_all := lw_g (lw_at lw_m11 2 rfl) rfl
theorem q2543 : (Jvm.Cond.code ({ cls := "WidowRoadsModel", name := "isSeed", desc := "(I)Z" } : Jvm.MethodName) prog_12_method_150_code (1 : Nat) (Option.some Jvm.ClassFile.FieldType.boolean)) ∈ lw_all := lw_g (lw_at lw_m11 3 rfl) rfl
theorem q2544 : (Jvm.Cond.constantLong "WidowRoadsModel" (512 : Nat) (2000000000 : Int64)) ∈ lw_all := lw_g (lw_at lw_m11 4 rfl) rfl
theorem q2545 : (Jvm.Cond.methodLink "WidowRoadsModel" (517 : Nat) ({ cls := "WidowRoadsModel", name := "goDrawn", desc := "(J)I" } : Jvm.MethodName)) ∈ lw_all := lw_g (lw_at lw_m11 5 rfl) rfl
theorem q2546 : (Jvm.Cond.privateMethod ({ cls := "WidowRoadsModel", name := "goDrawn", desc := "(J)I" } : Jvm.MethodName)) ∈ lw_tbl := lw_at lw_m11 6 rfl
theorem q2547 : (Jvm.Cond.instanceMethod ({ cls := "WidowRoadsModel", name := "goDrawn", desc := "(J)I" } : Jvm.MethodName)) ∈ lw_all := lw_g (lw_at lw_m11 7 rfl) rfl
theorem q2548 : (Jvm.Cond.code ({ cls := "WidowRoadsModel", name := "goDrawn", desc := "(J)I" } : Jvm.MethodName) prog_12_method_149_code (7 : Nat) (Option.some Jvm.ClassFile.FieldType.int)) ∈ lw_all := lw_g (lw_at lw_m11 8 rfl) rfl
theorem q2549 : (Jvm.Cond.constantLong "WidowRoadsModel" (504 : Nat) (1103515245 : Int64)) ∈ lw_all := lw_g (lw_at lw_m11 9 rfl) rfl
theorem q2550 : (Jvm.Cond.constantLong "WidowRoadsModel" (506 : Nat) (12345 : Int64)) ∈ lw_all := lw_g (lw_at lw_m11 10 rfl) rfl
theorem q2551 : (Jvm.Cond.constantLong "WidowRoadsModel" (508 : Nat) (2147483648 : Int64)) ∈ lw_all := lw_g (lw_at lw_m11 11 rfl) rfl
theorem q2552 : (Jvm.Cond.constantLong "WidowRoadsModel" (510 : Nat) (65536 : Int64)) ∈ lw_all := lw_g (lw_at lw_m11 12 rfl) rfl
theorem q2554 : (Jvm.Cond.instanceMethod ({ cls := "WidowRoadsModel", name := "luck", desc := "(III)I" } : Jvm.MethodName)) ∈ lw_all := lw_g (lw_at lw_m11 14 rfl) rfl
theorem q2555 : (Jvm.Cond.selects "WidowRoadsModel" ({ cls := "WidowRoadsModel", name := "luck", desc := "(III)I" } : Jvm.MethodName) ({ cls := "WidowRoadsModel", name := "luck", desc := "(III)I" } : Jvm.MethodName)) ∈ lw_all := lw_g (lw_at lw_m11 15 rfl) rfl
theorem q2556 : (Jvm.Cond.code ({ cls := "WidowRoadsModel", name := "luck", desc := "(III)I" } : Jvm.MethodName) prog_12_method_152_code (6 : Nat) (Option.some Jvm.ClassFile.FieldType.int)) ∈ lw_all := lw_g (lw_at lw_m11 16 rfl) rfl
theorem q2557 : (Jvm.Cond.constantLong "WidowRoadsModel" (521 : Nat) (20 : Int64)) ∈ lw_all := lw_g (lw_at lw_m11 17 rfl) rfl
theorem q2559 : (Jvm.Cond.instanceMethod ({ cls := "WidowRoadsModel", name := "rate", desc := "(II)I" } : Jvm.MethodName)) ∈ lw_all := lw_g (lw_at lw_m11 19 rfl) rfl
theorem q2560 : (Jvm.Cond.selects "WidowRoadsModel" ({ cls := "WidowRoadsModel", name := "rate", desc := "(II)I" } : Jvm.MethodName) ({ cls := "WidowRoadsModel", name := "rate", desc := "(II)I" } : Jvm.MethodName)) ∈ lw_all := lw_g (lw_at lw_m11 20 rfl) rfl
theorem q2561 : (Jvm.Cond.code ({ cls := "WidowRoadsModel", name := "rate", desc := "(II)I" } : Jvm.MethodName) prog_12_method_153_code (4 : Nat) (Option.some Jvm.ClassFile.FieldType.int)) ∈ lw_all := lw_g (lw_at lw_m11 21 rfl) rfl
theorem q2563 : (Jvm.Cond.instanceMethod ({ cls := "WidowRoadsModel", name := "count", desc := "(I)I" } : Jvm.MethodName)) ∈ lw_all := lw_g (lw_at lw_m11 23 rfl) rfl
theorem q2564 : (Jvm.Cond.selects "WidowRoadsModel" ({ cls := "WidowRoadsModel", name := "count", desc := "(I)I" } : Jvm.MethodName) ({ cls := "WidowRoadsModel", name := "count", desc := "(I)I" } : Jvm.MethodName)) ∈ lw_all := lw_g (lw_at lw_m11 24 rfl) rfl
theorem q2565 : (Jvm.Cond.code ({ cls := "WidowRoadsModel", name := "count", desc := "(I)I" } : Jvm.MethodName) prog_12_method_154_code (4 : Nat) (Option.some Jvm.ClassFile.FieldType.int)) ∈ lw_all := lw_g (lw_at lw_m11 25 rfl) rfl
theorem q2566 : (Jvm.Cond.constantLong "WidowRoadsModel" (523 : Nat) (9 : Int64)) ∈ lw_all := lw_g (lw_at lw_m11 26 rfl) rfl
theorem q2568 : (Jvm.Cond.instanceMethod ({ cls := "WidowRoadsModel", name := "row", desc := "(III)I" } : Jvm.MethodName)) ∈ lw_all := lw_g (lw_at lw_m11 28 rfl) rfl
theorem q2569 : (Jvm.Cond.selects "WidowRoadsModel" ({ cls := "WidowRoadsModel", name := "row", desc := "(III)I" } : Jvm.MethodName) ({ cls := "WidowRoadsModel", name := "row", desc := "(III)I" } : Jvm.MethodName)) ∈ lw_all := lw_g (lw_at lw_m11 29 rfl) rfl
theorem q2570 : (Jvm.Cond.code ({ cls := "WidowRoadsModel", name := "row", desc := "(III)I" } : Jvm.MethodName) prog_12_method_157_code (5 : Nat) (Option.some Jvm.ClassFile.FieldType.int)) ∈ lw_all := lw_g (lw_at lw_m11 30 rfl) rfl
theorem q2572 : (Jvm.Cond.instanceMethod ({ cls := "WidowRoadsModel", name := "write", desc := "(IIJ)I" } : Jvm.MethodName)) ∈ lw_all := lw_g (lw_at lw_m11 32 rfl) rfl
theorem q2573 : (Jvm.Cond.selects "WidowRoadsModel" ({ cls := "WidowRoadsModel", name := "write", desc := "(IIJ)I" } : Jvm.MethodName) ({ cls := "WidowRoadsModel", name := "write", desc := "(IIJ)I" } : Jvm.MethodName)) ∈ lw_all := lw_g (lw_at lw_m11 33 rfl) rfl
theorem q2574 : (Jvm.Cond.code ({ cls := "WidowRoadsModel", name := "write", desc := "(IIJ)I" } : Jvm.MethodName) prog_12_method_158_code (5 : Nat) (Option.some Jvm.ClassFile.FieldType.int)) ∈ lw_all := lw_g (lw_at lw_m11 34 rfl) rfl
theorem q2575 : (Jvm.Cond.methodLink "WidowRoadsModel" (525 : Nat) ({ cls := "WidowRoadsModel", name := "clipped", desc := "(JI)J" } : Jvm.MethodName)) ∈ lw_all := lw_g (lw_at lw_m11 35 rfl) rfl
theorem q2576 : (Jvm.Cond.static ({ cls := "WidowRoadsModel", name := "clipped", desc := "(JI)J" } : Jvm.MethodName)) ∈ lw_all := lw_g (lw_at lw_m11 36 rfl) rfl
theorem q2577 : (Jvm.Cond.code ({ cls := "WidowRoadsModel", name := "clipped", desc := "(JI)J" } : Jvm.MethodName) prog_12_method_156_code (4 : Nat) (Option.some Jvm.ClassFile.FieldType.long)) ∈ lw_all := lw_g (lw_at lw_m11 37 rfl) rfl
theorem q2579 : (Jvm.Cond.instanceMethod ({ cls := "WidowRoadsModel", name := "paste", desc := "(IIIII)I" } : Jvm.MethodName)) ∈ lw_all := lw_g (lw_at lw_m11 39 rfl) rfl
theorem q2580 : (Jvm.Cond.selects "WidowRoadsModel" ({ cls := "WidowRoadsModel", name := "paste", desc := "(IIIII)I" } : Jvm.MethodName) ({ cls := "WidowRoadsModel", name := "paste", desc := "(IIIII)I" } : Jvm.MethodName)) ∈ lw_all := lw_g (lw_at lw_m11 40 rfl) rfl
theorem q2581 : (Jvm.Cond.code ({ cls := "WidowRoadsModel", name := "paste", desc := "(IIIII)I" } : Jvm.MethodName) prog_12_method_159_code (7 : Nat) (Option.some Jvm.ClassFile.FieldType.int)) ∈ lw_all := lw_g (lw_at lw_m11 41 rfl) rfl
theorem q2593 : (Jvm.Cond.castable "WidowRoadsModel" "java/lang/Object") ∈ lw_tbl := lw_at lw_m11 53 rfl
theorem in_X6 : ∀ w ∈ wsX60, w ∈ lw_all := lw_in wsX60 [1830, 1832, 1834, 1836, 1838, 1840, 1842, 1844, 1846, 1848, 1850, 1852, 1854, 1856, 1858, 1860, 1862, 1864, 1866, 1868, 1870, 1872, 1874, 1876, 1878, 1880, 1882, 1884, 1886, 1888, 1890, 1892, 1894, 1896, 1898, 1900, 1902, 1904, 1906, 1908, 1910, 1912, 1914, 1916, 1918, 1920] (by decide +kernel) (by decide +kernel)
