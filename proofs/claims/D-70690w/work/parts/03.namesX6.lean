/-! InterestTakenModel -/
set_option maxRecDepth 100000
def RX6 : String := "InterestTakenModel"
def TX6 : u_T := fun k => match k with
  | 0 => ("InterestTakenModel", "typed", "[I", true)
  | 1 => ("InterestTakenModel", "texts", "[I", true)
  | 2 => ("InterestTakenModel", "savers", "I", false)
  | 3 => ("InterestTakenModel", "sums", "[I", true)
  | 4 => ("InterestTakenModel", "keepers", "[I", true)
  | 5 => ("InterestTakenModel", "talks", "[I", true)
  | 6 => ("InterestTakenModel", "partners", "I", false)
  | 7 => ("InterestTakenModel", "sits", "[I", true)
  | 8 => ("InterestTakenModel", "cares", "[I", true)
  | 9 => ("InterestTakenModel", "rateTold", "I", false)
  | 10 => ("InterestTakenModel", "limitTold", "I", false)
  | 11 => ("InterestTakenModel", "calls", "I", false)
  | 12 => ("InterestTakenModel", "callDay", "[I", true)
  | 13 => ("InterestTakenModel", "callSaver", "[I", true)
  | 14 => ("InterestTakenModel", "wars", "I", false)
  | 15 => ("InterestTakenModel", "warDay", "[I", true)
  | 16 => ("InterestTakenModel", "rateNow", "I", false)
  | 17 => ("InterestTakenModel", "isCalled", "[Z", true)
  | 18 => ("InterestTakenModel", "isWar", "[Z", true)
  | 19 => ("InterestTakenModel", "owes", "[I", true)
  | 20 => ("InterestTakenModel", "owedAt", "[I", true)
  | 21 => ("InterestTakenModel", "heardAt", "[I", true)
  | 22 => ("InterestTakenModel", "yawnAt", "[I", true)
  | 23 => ("InterestTakenModel", "minutes", "[I", true)
  | 24 => ("InterestTakenModel", "leftAt", "[I", true)
  | 25 => ("InterestTakenModel", "runNow", "I", false)
  | 26 => ("InterestTakenModel", "yawnDay", "I", false)
  | 27 => ("InterestTakenModel", "yawnWho", "I", false)
  | 28 => ("InterestTakenModel", "sitBy", "[I", true)
  | 29 => ("InterestTakenModel", "seens", "I", false)
  | 30 => ("InterestTakenModel", "seenDay", "[I", true)
  | 31 => ("InterestTakenModel", "seenSaver", "[I", true)
  | 32 => ("InterestTakenModel", "seenMuch", "[I", true)
  | 33 => ("InterestTakenModel", "owedBy", "[I", true)
  | 34 => ("InterestTakenModel", "isThere", "[Z", true)
  | 35 => ("InterestTakenModel", "forms", "[I", true)
  | 36 => ("InterestTakenModel", "sizes", "[I", true)
  | 37 => ("InterestTakenModel", "items", "[I", true)
  | 38 => ("InterestTakenModel", "moved", "[I", true)
  | _ => ("InterestTakenModel", "finding", "I", false)
def tyX6 : Nat → FieldType := fun k => match k with
  | 0 => .array .int
  | 1 => .array .int
  | 2 => .int
  | 3 => .array .int
  | 4 => .array .int
  | 5 => .array .int
  | 6 => .int
  | 7 => .array .int
  | 8 => .array .int
  | 9 => .int
  | 10 => .int
  | 11 => .int
  | 12 => .array .int
  | 13 => .array .int
  | 14 => .int
  | 15 => .array .int
  | 16 => .int
  | 17 => .array .boolean
  | 18 => .array .boolean
  | 19 => .array .int
  | 20 => .array .int
  | 21 => .array .int
  | 22 => .array .int
  | 23 => .array .int
  | 24 => .array .int
  | 25 => .int
  | 26 => .int
  | 27 => .int
  | 28 => .array .int
  | 29 => .int
  | 30 => .array .int
  | 31 => .array .int
  | 32 => .array .int
  | 33 => .array .int
  | 34 => .array .boolean
  | 35 => .array .int
  | 36 => .array .int
  | 37 => .array .int
  | 38 => .array .int
  | _ => .int
abbrev wsX60 : List Cond := u_ws RX6 TX6 40
set_option maxRecDepth 100000 in
theorem nmX6 : ∀ a, a < 40 → ∀ b, b < 40 → a ≠ b → (TX6 a).2.1 ≠ (TX6 b).2.1 := by decide +kernel
set_option maxRecDepth 100000 in
theorem tyX6_ok : ∀ k, k < 40 → parseFieldDescriptor (TX6 k).2.2.1 = some (tyX6 k) := by decide +kernel
abbrev cX6_init : ByteArray := prog_14_method_1_code
def yX6_init : MethodName := ⟨RX6, "<init>", "()V"⟩
def dkwX6_init_10 : List UInt8 := [181, 0, 95, 42, 17, 1, 44, 181, 0, 99, 177]
abbrev dktX6_init_10 : List UInt8 := dkwX6_init_10 ++ []
def dkwX6_init_9 : List UInt8 := [188, 10, 181, 0, 86, 42, 17, 0, 240, 188, 10, 181, 0, 89, 42, 16, 60, 188, 10, 181, 0, 92, 42, 5]
abbrev dktX6_init_9 : List UInt8 := dkwX6_init_9 ++ dktX6_init_10
def dkwX6_init_8 : List UInt8 := [17, 0, 200, 188, 10, 181, 0, 77, 42, 7, 188, 4, 181, 0, 80, 42, 7, 188, 10, 181, 0, 83, 42, 7]
abbrev dktX6_init_8 : List UInt8 := dkwX6_init_8 ++ dktX6_init_9
def dkwX6_init_7 : List UInt8 := [188, 10, 181, 0, 68, 42, 16, 8, 188, 10, 181, 0, 71, 42, 16, 8, 188, 10, 181, 0, 74, 42]
abbrev dktX6_init_7 : List UInt8 := dkwX6_init_7 ++ dktX6_init_8
def dkwX6_init_6 : List UInt8 := [181, 0, 59, 42, 17, 0, 180, 188, 10, 181, 0, 62, 42, 17, 1, 0, 188, 10, 181, 0, 65, 42, 16, 8]
abbrev dktX6_init_6 : List UInt8 := dkwX6_init_6 ++ dktX6_init_7
def dkwX6_init_5 : List UInt8 := [17, 0, 160, 188, 10, 181, 0, 53, 42, 17, 0, 160, 188, 10, 181, 0, 56, 42, 16, 9, 188, 10]
abbrev dktX6_init_5 : List UInt8 := dkwX6_init_5 ++ dktX6_init_6
def dkwX6_init_4 : List UInt8 := [188, 4, 181, 0, 44, 42, 16, 8, 188, 10, 181, 0, 47, 42, 17, 0, 160, 188, 10, 181, 0, 50, 42]
abbrev dktX6_init_4 : List UInt8 := dkwX6_init_4 ++ dktX6_init_5
def dkwX6_init_3 : List UInt8 := [181, 0, 34, 42, 16, 6, 188, 10, 181, 0, 37, 42, 17, 0, 160, 188, 4, 181, 0, 40, 42, 16, 20]
abbrev dktX6_init_3 : List UInt8 := dkwX6_init_3 ++ dktX6_init_4
def dkwX6_init_2 : List UInt8 := [181, 0, 25, 42, 16, 9, 188, 10, 181, 0, 28, 42, 16, 8, 188, 10, 181, 0, 31, 42, 16, 8, 188, 10]
abbrev dktX6_init_2 : List UInt8 := dkwX6_init_2 ++ dktX6_init_3
def dkwX6_init_1 : List UInt8 := [181, 0, 16, 42, 16, 9, 188, 10, 181, 0, 19, 42, 16, 9, 188, 10, 181, 0, 22, 42, 16, 9, 188, 10]
abbrev dktX6_init_1 : List UInt8 := dkwX6_init_1 ++ dktX6_init_2
def dkwX6_init_0 : List UInt8 := [42, 183, 0, 1, 42, 5, 188, 10, 181, 0, 7, 42, 16, 62, 188, 10, 181, 0, 13, 42, 16, 9, 188, 10]
abbrev dktX6_init_0 : List UInt8 := dkwX6_init_0 ++ dktX6_init_1
theorem dksX6_init_0 : cX6_init.data.toList.drop 0 = dktX6_init_0 := by decide +kernel
theorem dksX6_init_1 : cX6_init.data.toList.drop 24 = dktX6_init_1 := dk_seg dksX6_init_0 24 rfl rfl
theorem dksX6_init_2 : cX6_init.data.toList.drop 48 = dktX6_init_2 := dk_seg dksX6_init_1 24 rfl rfl
theorem dksX6_init_3 : cX6_init.data.toList.drop 72 = dktX6_init_3 := dk_seg dksX6_init_2 24 rfl rfl
theorem dksX6_init_4 : cX6_init.data.toList.drop 95 = dktX6_init_4 := dk_seg dksX6_init_3 23 rfl rfl
theorem dksX6_init_5 : cX6_init.data.toList.drop 118 = dktX6_init_5 := dk_seg dksX6_init_4 23 rfl rfl
theorem dksX6_init_6 : cX6_init.data.toList.drop 140 = dktX6_init_6 := dk_seg dksX6_init_5 22 rfl rfl
theorem dksX6_init_7 : cX6_init.data.toList.drop 164 = dktX6_init_7 := dk_seg dksX6_init_6 24 rfl rfl
theorem dksX6_init_8 : cX6_init.data.toList.drop 186 = dktX6_init_8 := dk_seg dksX6_init_7 22 rfl rfl
theorem dksX6_init_9 : cX6_init.data.toList.drop 210 = dktX6_init_9 := dk_seg dksX6_init_8 24 rfl rfl
theorem dksX6_init_10 : cX6_init.data.toList.drop 234 = dktX6_init_10 := dk_seg dksX6_init_9 24 rfl rfl
theorem dX6_init_0 : decode cX6_init 0 = .ok (.aload_n 0, 1) := dk_42 (dk_at dksX6_init_0 0 rfl rfl)
theorem dX6_init_1 : decode cX6_init 1 = .ok (.invokespecial 1, 3) := dk_183 0 1 (dk_at dksX6_init_0 1 rfl rfl)
theorem dX6_init_4 : decode cX6_init 4 = .ok (.aload_n 0, 1) := dk_42 (dk_at dksX6_init_0 4 rfl rfl)
theorem dX6_init_5 : decode cX6_init 5 = .ok (.iconst 2, 1) := dk_5 (dk_at dksX6_init_0 5 rfl rfl)
theorem dX6_init_6 : decode cX6_init 6 = .ok (.newarray .int, 2) := dk_188_10 (dk_at dksX6_init_0 6 rfl rfl)
theorem dX6_init_8 : decode cX6_init 8 = .ok (.putfield 7, 3) := dk_181 0 7 (dk_at dksX6_init_0 8 rfl rfl)
theorem dX6_init_11 : decode cX6_init 11 = .ok (.aload_n 0, 1) := dk_42 (dk_at dksX6_init_0 11 rfl rfl)
theorem dX6_init_12 : decode cX6_init 12 = .ok (.bipush 62, 2) := dk_16 62 (dk_at dksX6_init_0 12 rfl rfl)
theorem dX6_init_14 : decode cX6_init 14 = .ok (.newarray .int, 2) := dk_188_10 (dk_at dksX6_init_0 14 rfl rfl)
theorem dX6_init_16 : decode cX6_init 16 = .ok (.putfield 13, 3) := dk_181 0 13 (dk_at dksX6_init_0 16 rfl rfl)
theorem dX6_init_19 : decode cX6_init 19 = .ok (.aload_n 0, 1) := dk_42 (dk_at dksX6_init_0 19 rfl rfl)
theorem dX6_init_20 : decode cX6_init 20 = .ok (.bipush 9, 2) := dk_16 9 (dk_at dksX6_init_0 20 rfl rfl)
theorem dX6_init_22 : decode cX6_init 22 = .ok (.newarray .int, 2) := dk_188_10 (dk_at dksX6_init_0 22 rfl rfl)
theorem dX6_init_24 : decode cX6_init 24 = .ok (.putfield 16, 3) := dk_181 0 16 (dk_at dksX6_init_1 0 rfl rfl)
theorem dX6_init_27 : decode cX6_init 27 = .ok (.aload_n 0, 1) := dk_42 (dk_at dksX6_init_1 3 rfl rfl)
theorem dX6_init_28 : decode cX6_init 28 = .ok (.bipush 9, 2) := dk_16 9 (dk_at dksX6_init_1 4 rfl rfl)
theorem dX6_init_30 : decode cX6_init 30 = .ok (.newarray .int, 2) := dk_188_10 (dk_at dksX6_init_1 6 rfl rfl)
theorem dX6_init_32 : decode cX6_init 32 = .ok (.putfield 19, 3) := dk_181 0 19 (dk_at dksX6_init_1 8 rfl rfl)
theorem dX6_init_35 : decode cX6_init 35 = .ok (.aload_n 0, 1) := dk_42 (dk_at dksX6_init_1 11 rfl rfl)
theorem dX6_init_36 : decode cX6_init 36 = .ok (.bipush 9, 2) := dk_16 9 (dk_at dksX6_init_1 12 rfl rfl)
theorem dX6_init_38 : decode cX6_init 38 = .ok (.newarray .int, 2) := dk_188_10 (dk_at dksX6_init_1 14 rfl rfl)
theorem dX6_init_40 : decode cX6_init 40 = .ok (.putfield 22, 3) := dk_181 0 22 (dk_at dksX6_init_1 16 rfl rfl)
theorem dX6_init_43 : decode cX6_init 43 = .ok (.aload_n 0, 1) := dk_42 (dk_at dksX6_init_1 19 rfl rfl)
theorem dX6_init_44 : decode cX6_init 44 = .ok (.bipush 9, 2) := dk_16 9 (dk_at dksX6_init_1 20 rfl rfl)
theorem dX6_init_46 : decode cX6_init 46 = .ok (.newarray .int, 2) := dk_188_10 (dk_at dksX6_init_1 22 rfl rfl)
theorem dX6_init_48 : decode cX6_init 48 = .ok (.putfield 25, 3) := dk_181 0 25 (dk_at dksX6_init_2 0 rfl rfl)
theorem dX6_init_51 : decode cX6_init 51 = .ok (.aload_n 0, 1) := dk_42 (dk_at dksX6_init_2 3 rfl rfl)
theorem dX6_init_52 : decode cX6_init 52 = .ok (.bipush 9, 2) := dk_16 9 (dk_at dksX6_init_2 4 rfl rfl)
theorem dX6_init_54 : decode cX6_init 54 = .ok (.newarray .int, 2) := dk_188_10 (dk_at dksX6_init_2 6 rfl rfl)
theorem dX6_init_56 : decode cX6_init 56 = .ok (.putfield 28, 3) := dk_181 0 28 (dk_at dksX6_init_2 8 rfl rfl)
theorem dX6_init_59 : decode cX6_init 59 = .ok (.aload_n 0, 1) := dk_42 (dk_at dksX6_init_2 11 rfl rfl)
theorem dX6_init_60 : decode cX6_init 60 = .ok (.bipush 8, 2) := dk_16 8 (dk_at dksX6_init_2 12 rfl rfl)
theorem dX6_init_62 : decode cX6_init 62 = .ok (.newarray .int, 2) := dk_188_10 (dk_at dksX6_init_2 14 rfl rfl)
theorem dX6_init_64 : decode cX6_init 64 = .ok (.putfield 31, 3) := dk_181 0 31 (dk_at dksX6_init_2 16 rfl rfl)
theorem dX6_init_67 : decode cX6_init 67 = .ok (.aload_n 0, 1) := dk_42 (dk_at dksX6_init_2 19 rfl rfl)
theorem dX6_init_68 : decode cX6_init 68 = .ok (.bipush 8, 2) := dk_16 8 (dk_at dksX6_init_2 20 rfl rfl)
theorem dX6_init_70 : decode cX6_init 70 = .ok (.newarray .int, 2) := dk_188_10 (dk_at dksX6_init_2 22 rfl rfl)
theorem dX6_init_72 : decode cX6_init 72 = .ok (.putfield 34, 3) := dk_181 0 34 (dk_at dksX6_init_3 0 rfl rfl)
theorem dX6_init_75 : decode cX6_init 75 = .ok (.aload_n 0, 1) := dk_42 (dk_at dksX6_init_3 3 rfl rfl)
theorem dX6_init_76 : decode cX6_init 76 = .ok (.bipush 6, 2) := dk_16 6 (dk_at dksX6_init_3 4 rfl rfl)
theorem dX6_init_78 : decode cX6_init 78 = .ok (.newarray .int, 2) := dk_188_10 (dk_at dksX6_init_3 6 rfl rfl)
theorem dX6_init_80 : decode cX6_init 80 = .ok (.putfield 37, 3) := dk_181 0 37 (dk_at dksX6_init_3 8 rfl rfl)
theorem dX6_init_83 : decode cX6_init 83 = .ok (.aload_n 0, 1) := dk_42 (dk_at dksX6_init_3 11 rfl rfl)
theorem dX6_init_84 : decode cX6_init 84 = .ok (.sipush 160, 3) := dk_17 0 160 (dk_at dksX6_init_3 12 rfl rfl)
theorem dX6_init_87 : decode cX6_init 87 = .ok (.newarray .boolean, 2) := dk_188_4 (dk_at dksX6_init_3 15 rfl rfl)
theorem dX6_init_89 : decode cX6_init 89 = .ok (.putfield 40, 3) := dk_181 0 40 (dk_at dksX6_init_3 17 rfl rfl)
theorem dX6_init_92 : decode cX6_init 92 = .ok (.aload_n 0, 1) := dk_42 (dk_at dksX6_init_3 20 rfl rfl)
theorem dX6_init_93 : decode cX6_init 93 = .ok (.bipush 20, 2) := dk_16 20 (dk_at dksX6_init_3 21 rfl rfl)
theorem dX6_init_95 : decode cX6_init 95 = .ok (.newarray .boolean, 2) := dk_188_4 (dk_at dksX6_init_4 0 rfl rfl)
theorem dX6_init_97 : decode cX6_init 97 = .ok (.putfield 44, 3) := dk_181 0 44 (dk_at dksX6_init_4 2 rfl rfl)
theorem dX6_init_100 : decode cX6_init 100 = .ok (.aload_n 0, 1) := dk_42 (dk_at dksX6_init_4 5 rfl rfl)
theorem dX6_init_101 : decode cX6_init 101 = .ok (.bipush 8, 2) := dk_16 8 (dk_at dksX6_init_4 6 rfl rfl)
theorem dX6_init_103 : decode cX6_init 103 = .ok (.newarray .int, 2) := dk_188_10 (dk_at dksX6_init_4 8 rfl rfl)
theorem dX6_init_105 : decode cX6_init 105 = .ok (.putfield 47, 3) := dk_181 0 47 (dk_at dksX6_init_4 10 rfl rfl)
theorem dX6_init_108 : decode cX6_init 108 = .ok (.aload_n 0, 1) := dk_42 (dk_at dksX6_init_4 13 rfl rfl)
theorem dX6_init_109 : decode cX6_init 109 = .ok (.sipush 160, 3) := dk_17 0 160 (dk_at dksX6_init_4 14 rfl rfl)
theorem dX6_init_112 : decode cX6_init 112 = .ok (.newarray .int, 2) := dk_188_10 (dk_at dksX6_init_4 17 rfl rfl)
theorem dX6_init_114 : decode cX6_init 114 = .ok (.putfield 50, 3) := dk_181 0 50 (dk_at dksX6_init_4 19 rfl rfl)
theorem dX6_init_117 : decode cX6_init 117 = .ok (.aload_n 0, 1) := dk_42 (dk_at dksX6_init_4 22 rfl rfl)
theorem dX6_init_118 : decode cX6_init 118 = .ok (.sipush 160, 3) := dk_17 0 160 (dk_at dksX6_init_5 0 rfl rfl)
theorem dX6_init_121 : decode cX6_init 121 = .ok (.newarray .int, 2) := dk_188_10 (dk_at dksX6_init_5 3 rfl rfl)
theorem dX6_init_123 : decode cX6_init 123 = .ok (.putfield 53, 3) := dk_181 0 53 (dk_at dksX6_init_5 5 rfl rfl)
theorem dX6_init_126 : decode cX6_init 126 = .ok (.aload_n 0, 1) := dk_42 (dk_at dksX6_init_5 8 rfl rfl)
theorem dX6_init_127 : decode cX6_init 127 = .ok (.sipush 160, 3) := dk_17 0 160 (dk_at dksX6_init_5 9 rfl rfl)
theorem dX6_init_130 : decode cX6_init 130 = .ok (.newarray .int, 2) := dk_188_10 (dk_at dksX6_init_5 12 rfl rfl)
theorem dX6_init_132 : decode cX6_init 132 = .ok (.putfield 56, 3) := dk_181 0 56 (dk_at dksX6_init_5 14 rfl rfl)
theorem dX6_init_135 : decode cX6_init 135 = .ok (.aload_n 0, 1) := dk_42 (dk_at dksX6_init_5 17 rfl rfl)
theorem dX6_init_136 : decode cX6_init 136 = .ok (.bipush 9, 2) := dk_16 9 (dk_at dksX6_init_5 18 rfl rfl)
theorem dX6_init_138 : decode cX6_init 138 = .ok (.newarray .int, 2) := dk_188_10 (dk_at dksX6_init_5 20 rfl rfl)
theorem dX6_init_140 : decode cX6_init 140 = .ok (.putfield 59, 3) := dk_181 0 59 (dk_at dksX6_init_6 0 rfl rfl)
theorem dX6_init_143 : decode cX6_init 143 = .ok (.aload_n 0, 1) := dk_42 (dk_at dksX6_init_6 3 rfl rfl)
theorem dX6_init_144 : decode cX6_init 144 = .ok (.sipush 180, 3) := dk_17 0 180 (dk_at dksX6_init_6 4 rfl rfl)
theorem dX6_init_147 : decode cX6_init 147 = .ok (.newarray .int, 2) := dk_188_10 (dk_at dksX6_init_6 7 rfl rfl)
theorem dX6_init_149 : decode cX6_init 149 = .ok (.putfield 62, 3) := dk_181 0 62 (dk_at dksX6_init_6 9 rfl rfl)
theorem dX6_init_152 : decode cX6_init 152 = .ok (.aload_n 0, 1) := dk_42 (dk_at dksX6_init_6 12 rfl rfl)
theorem dX6_init_153 : decode cX6_init 153 = .ok (.sipush 256, 3) := dk_17 1 0 (dk_at dksX6_init_6 13 rfl rfl)
theorem dX6_init_156 : decode cX6_init 156 = .ok (.newarray .int, 2) := dk_188_10 (dk_at dksX6_init_6 16 rfl rfl)
theorem dX6_init_158 : decode cX6_init 158 = .ok (.putfield 65, 3) := dk_181 0 65 (dk_at dksX6_init_6 18 rfl rfl)
theorem dX6_init_161 : decode cX6_init 161 = .ok (.aload_n 0, 1) := dk_42 (dk_at dksX6_init_6 21 rfl rfl)
theorem dX6_init_162 : decode cX6_init 162 = .ok (.bipush 8, 2) := dk_16 8 (dk_at dksX6_init_6 22 rfl rfl)
theorem dX6_init_164 : decode cX6_init 164 = .ok (.newarray .int, 2) := dk_188_10 (dk_at dksX6_init_7 0 rfl rfl)
theorem dX6_init_166 : decode cX6_init 166 = .ok (.putfield 68, 3) := dk_181 0 68 (dk_at dksX6_init_7 2 rfl rfl)
theorem dX6_init_169 : decode cX6_init 169 = .ok (.aload_n 0, 1) := dk_42 (dk_at dksX6_init_7 5 rfl rfl)
theorem dX6_init_170 : decode cX6_init 170 = .ok (.bipush 8, 2) := dk_16 8 (dk_at dksX6_init_7 6 rfl rfl)
theorem dX6_init_172 : decode cX6_init 172 = .ok (.newarray .int, 2) := dk_188_10 (dk_at dksX6_init_7 8 rfl rfl)
theorem dX6_init_174 : decode cX6_init 174 = .ok (.putfield 71, 3) := dk_181 0 71 (dk_at dksX6_init_7 10 rfl rfl)
theorem dX6_init_177 : decode cX6_init 177 = .ok (.aload_n 0, 1) := dk_42 (dk_at dksX6_init_7 13 rfl rfl)
theorem dX6_init_178 : decode cX6_init 178 = .ok (.bipush 8, 2) := dk_16 8 (dk_at dksX6_init_7 14 rfl rfl)
theorem dX6_init_180 : decode cX6_init 180 = .ok (.newarray .int, 2) := dk_188_10 (dk_at dksX6_init_7 16 rfl rfl)
theorem dX6_init_182 : decode cX6_init 182 = .ok (.putfield 74, 3) := dk_181 0 74 (dk_at dksX6_init_7 18 rfl rfl)
theorem dX6_init_185 : decode cX6_init 185 = .ok (.aload_n 0, 1) := dk_42 (dk_at dksX6_init_7 21 rfl rfl)
theorem dX6_init_186 : decode cX6_init 186 = .ok (.sipush 200, 3) := dk_17 0 200 (dk_at dksX6_init_8 0 rfl rfl)
theorem dX6_init_189 : decode cX6_init 189 = .ok (.newarray .int, 2) := dk_188_10 (dk_at dksX6_init_8 3 rfl rfl)
theorem dX6_init_191 : decode cX6_init 191 = .ok (.putfield 77, 3) := dk_181 0 77 (dk_at dksX6_init_8 5 rfl rfl)
theorem dX6_init_194 : decode cX6_init 194 = .ok (.aload_n 0, 1) := dk_42 (dk_at dksX6_init_8 8 rfl rfl)
theorem dX6_init_195 : decode cX6_init 195 = .ok (.iconst 4, 1) := dk_7 (dk_at dksX6_init_8 9 rfl rfl)
theorem dX6_init_196 : decode cX6_init 196 = .ok (.newarray .boolean, 2) := dk_188_4 (dk_at dksX6_init_8 10 rfl rfl)
theorem dX6_init_198 : decode cX6_init 198 = .ok (.putfield 80, 3) := dk_181 0 80 (dk_at dksX6_init_8 12 rfl rfl)
theorem dX6_init_201 : decode cX6_init 201 = .ok (.aload_n 0, 1) := dk_42 (dk_at dksX6_init_8 15 rfl rfl)
theorem dX6_init_202 : decode cX6_init 202 = .ok (.iconst 4, 1) := dk_7 (dk_at dksX6_init_8 16 rfl rfl)
theorem dX6_init_203 : decode cX6_init 203 = .ok (.newarray .int, 2) := dk_188_10 (dk_at dksX6_init_8 17 rfl rfl)
theorem dX6_init_205 : decode cX6_init 205 = .ok (.putfield 83, 3) := dk_181 0 83 (dk_at dksX6_init_8 19 rfl rfl)
theorem dX6_init_208 : decode cX6_init 208 = .ok (.aload_n 0, 1) := dk_42 (dk_at dksX6_init_8 22 rfl rfl)
theorem dX6_init_209 : decode cX6_init 209 = .ok (.iconst 4, 1) := dk_7 (dk_at dksX6_init_8 23 rfl rfl)
theorem dX6_init_210 : decode cX6_init 210 = .ok (.newarray .int, 2) := dk_188_10 (dk_at dksX6_init_9 0 rfl rfl)
theorem dX6_init_212 : decode cX6_init 212 = .ok (.putfield 86, 3) := dk_181 0 86 (dk_at dksX6_init_9 2 rfl rfl)
theorem dX6_init_215 : decode cX6_init 215 = .ok (.aload_n 0, 1) := dk_42 (dk_at dksX6_init_9 5 rfl rfl)
theorem dX6_init_216 : decode cX6_init 216 = .ok (.sipush 240, 3) := dk_17 0 240 (dk_at dksX6_init_9 6 rfl rfl)
theorem dX6_init_219 : decode cX6_init 219 = .ok (.newarray .int, 2) := dk_188_10 (dk_at dksX6_init_9 9 rfl rfl)
theorem dX6_init_221 : decode cX6_init 221 = .ok (.putfield 89, 3) := dk_181 0 89 (dk_at dksX6_init_9 11 rfl rfl)
theorem dX6_init_224 : decode cX6_init 224 = .ok (.aload_n 0, 1) := dk_42 (dk_at dksX6_init_9 14 rfl rfl)
theorem dX6_init_225 : decode cX6_init 225 = .ok (.bipush 60, 2) := dk_16 60 (dk_at dksX6_init_9 15 rfl rfl)
theorem dX6_init_227 : decode cX6_init 227 = .ok (.newarray .int, 2) := dk_188_10 (dk_at dksX6_init_9 17 rfl rfl)
theorem dX6_init_229 : decode cX6_init 229 = .ok (.putfield 92, 3) := dk_181 0 92 (dk_at dksX6_init_9 19 rfl rfl)
theorem dX6_init_232 : decode cX6_init 232 = .ok (.aload_n 0, 1) := dk_42 (dk_at dksX6_init_9 22 rfl rfl)
theorem dX6_init_233 : decode cX6_init 233 = .ok (.iconst 2, 1) := dk_5 (dk_at dksX6_init_9 23 rfl rfl)
theorem dX6_init_234 : decode cX6_init 234 = .ok (.putfield 95, 3) := dk_181 0 95 (dk_at dksX6_init_10 0 rfl rfl)
theorem dX6_init_237 : decode cX6_init 237 = .ok (.aload_n 0, 1) := dk_42 (dk_at dksX6_init_10 3 rfl rfl)
theorem dX6_init_238 : decode cX6_init 238 = .ok (.sipush 300, 3) := dk_17 1 44 (dk_at dksX6_init_10 4 rfl rfl)
theorem dX6_init_241 : decode cX6_init 241 = .ok (.putfield 99, 3) := dk_181 0 99 (dk_at dksX6_init_10 7 rfl rfl)
theorem dX6_init_244 : decode cX6_init 244 = .ok (.return_, 1) := dk_177 (dk_at dksX6_init_10 10 rfl rfl)
abbrev cX6_type : ByteArray := prog_14_method_9_code
def yX6_type : MethodName := ⟨RX6, "type", "(II)I"⟩
def dkwX6_type_3 : List UInt8 := [96, 79, 42, 180, 0, 7, 27, 46, 172]
abbrev dktX6_type_3 : List UInt8 := dkwX6_type_3 ++ []
def dkwX6_type_2 : List UInt8 := [180, 0, 13, 16, 31, 27, 104, 42, 180, 0, 7, 27, 46, 96, 28, 79, 42, 180, 0, 7, 27, 92, 46, 4]
abbrev dktX6_type_2 : List UInt8 := dkwX6_type_2 ++ dktX6_type_3
def dkwX6_type_1 : List UInt8 := [180, 0, 7, 27, 46, 27, 154, 0, 8, 16, 31, 167, 0, 5, 16, 23, 160, 0, 6, 16, 252, 172, 42]
abbrev dktX6_type_1 : List UInt8 := dkwX6_type_1 ++ dktX6_type_2
def dkwX6_type_0 : List UInt8 := [27, 184, 0, 108, 153, 0, 14, 28, 3, 17, 0, 255, 184, 0, 104, 154, 0, 6, 16, 254, 172, 42]
abbrev dktX6_type_0 : List UInt8 := dkwX6_type_0 ++ dktX6_type_1
theorem dksX6_type_0 : cX6_type.data.toList.drop 0 = dktX6_type_0 := by decide +kernel
theorem dksX6_type_1 : cX6_type.data.toList.drop 22 = dktX6_type_1 := dk_seg dksX6_type_0 22 rfl rfl
theorem dksX6_type_2 : cX6_type.data.toList.drop 45 = dktX6_type_2 := dk_seg dksX6_type_1 23 rfl rfl
theorem dksX6_type_3 : cX6_type.data.toList.drop 69 = dktX6_type_3 := dk_seg dksX6_type_2 24 rfl rfl
theorem dX6_type_0 : decode cX6_type 0 = .ok (.iload_n 1, 1) := dk_27 (dk_at dksX6_type_0 0 rfl rfl)
theorem dX6_type_1 : decode cX6_type 1 = .ok (.invokestatic 108, 3) := dk_184 0 108 (dk_at dksX6_type_0 1 rfl rfl)
theorem dX6_type_4 : decode cX6_type 4 = .ok (.ifCond .eq 14, 3) := dk_153 0 14 (dk_at dksX6_type_0 4 rfl rfl)
theorem dX6_type_7 : decode cX6_type 7 = .ok (.iload_n 2, 1) := dk_28 (dk_at dksX6_type_0 7 rfl rfl)
theorem dX6_type_8 : decode cX6_type 8 = .ok (.iconst 0, 1) := dk_3 (dk_at dksX6_type_0 8 rfl rfl)
theorem dX6_type_9 : decode cX6_type 9 = .ok (.sipush 255, 3) := dk_17 0 255 (dk_at dksX6_type_0 9 rfl rfl)
theorem dX6_type_12 : decode cX6_type 12 = .ok (.invokestatic 104, 3) := dk_184 0 104 (dk_at dksX6_type_0 12 rfl rfl)
theorem dX6_type_15 : decode cX6_type 15 = .ok (.ifCond .ne 6, 3) := dk_154 0 6 (dk_at dksX6_type_0 15 rfl rfl)
theorem dX6_type_18 : decode cX6_type 18 = .ok (.bipush (-2), 2) := dk_16 254 (dk_at dksX6_type_0 18 rfl rfl)
theorem dX6_type_20 : decode cX6_type 20 = .ok (.ireturn, 1) := dk_172 (dk_at dksX6_type_0 20 rfl rfl)
theorem dX6_type_21 : decode cX6_type 21 = .ok (.aload_n 0, 1) := dk_42 (dk_at dksX6_type_0 21 rfl rfl)
theorem dX6_type_22 : decode cX6_type 22 = .ok (.getfield 7, 3) := dk_180 0 7 (dk_at dksX6_type_1 0 rfl rfl)
theorem dX6_type_25 : decode cX6_type 25 = .ok (.iload_n 1, 1) := dk_27 (dk_at dksX6_type_1 3 rfl rfl)
theorem dX6_type_26 : decode cX6_type 26 = .ok (.iaload, 1) := dk_46 (dk_at dksX6_type_1 4 rfl rfl)
theorem dX6_type_27 : decode cX6_type 27 = .ok (.iload_n 1, 1) := dk_27 (dk_at dksX6_type_1 5 rfl rfl)
theorem dX6_type_28 : decode cX6_type 28 = .ok (.ifCond .ne 8, 3) := dk_154 0 8 (dk_at dksX6_type_1 6 rfl rfl)
theorem dX6_type_31 : decode cX6_type 31 = .ok (.bipush 31, 2) := dk_16 31 (dk_at dksX6_type_1 9 rfl rfl)
theorem dX6_type_33 : decode cX6_type 33 = .ok (.goto 5, 3) := dk_167 0 5 (dk_at dksX6_type_1 11 rfl rfl)
theorem dX6_type_36 : decode cX6_type 36 = .ok (.bipush 23, 2) := dk_16 23 (dk_at dksX6_type_1 14 rfl rfl)
theorem dX6_type_38 : decode cX6_type 38 = .ok (.if_icmp .ne 6, 3) := dk_160 0 6 (dk_at dksX6_type_1 16 rfl rfl)
theorem dX6_type_41 : decode cX6_type 41 = .ok (.bipush (-4), 2) := dk_16 252 (dk_at dksX6_type_1 19 rfl rfl)
theorem dX6_type_43 : decode cX6_type 43 = .ok (.ireturn, 1) := dk_172 (dk_at dksX6_type_1 21 rfl rfl)
theorem dX6_type_44 : decode cX6_type 44 = .ok (.aload_n 0, 1) := dk_42 (dk_at dksX6_type_1 22 rfl rfl)
theorem dX6_type_45 : decode cX6_type 45 = .ok (.getfield 13, 3) := dk_180 0 13 (dk_at dksX6_type_2 0 rfl rfl)
theorem dX6_type_48 : decode cX6_type 48 = .ok (.bipush 31, 2) := dk_16 31 (dk_at dksX6_type_2 3 rfl rfl)
theorem dX6_type_50 : decode cX6_type 50 = .ok (.iload_n 1, 1) := dk_27 (dk_at dksX6_type_2 5 rfl rfl)
theorem dX6_type_51 : decode cX6_type 51 = .ok (.imul, 1) := dk_104 (dk_at dksX6_type_2 6 rfl rfl)
theorem dX6_type_52 : decode cX6_type 52 = .ok (.aload_n 0, 1) := dk_42 (dk_at dksX6_type_2 7 rfl rfl)
theorem dX6_type_53 : decode cX6_type 53 = .ok (.getfield 7, 3) := dk_180 0 7 (dk_at dksX6_type_2 8 rfl rfl)
theorem dX6_type_56 : decode cX6_type 56 = .ok (.iload_n 1, 1) := dk_27 (dk_at dksX6_type_2 11 rfl rfl)
theorem dX6_type_57 : decode cX6_type 57 = .ok (.iaload, 1) := dk_46 (dk_at dksX6_type_2 12 rfl rfl)
theorem dX6_type_58 : decode cX6_type 58 = .ok (.iadd, 1) := dk_96 (dk_at dksX6_type_2 13 rfl rfl)
theorem dX6_type_59 : decode cX6_type 59 = .ok (.iload_n 2, 1) := dk_28 (dk_at dksX6_type_2 14 rfl rfl)
theorem dX6_type_60 : decode cX6_type 60 = .ok (.iastore, 1) := dk_79 (dk_at dksX6_type_2 15 rfl rfl)
theorem dX6_type_61 : decode cX6_type 61 = .ok (.aload_n 0, 1) := dk_42 (dk_at dksX6_type_2 16 rfl rfl)
theorem dX6_type_62 : decode cX6_type 62 = .ok (.getfield 7, 3) := dk_180 0 7 (dk_at dksX6_type_2 17 rfl rfl)
theorem dX6_type_65 : decode cX6_type 65 = .ok (.iload_n 1, 1) := dk_27 (dk_at dksX6_type_2 20 rfl rfl)
theorem dX6_type_66 : decode cX6_type 66 = .ok (.dup2, 1) := dk_92 (dk_at dksX6_type_2 21 rfl rfl)
theorem dX6_type_67 : decode cX6_type 67 = .ok (.iaload, 1) := dk_46 (dk_at dksX6_type_2 22 rfl rfl)
theorem dX6_type_68 : decode cX6_type 68 = .ok (.iconst 1, 1) := dk_4 (dk_at dksX6_type_2 23 rfl rfl)
theorem dX6_type_69 : decode cX6_type 69 = .ok (.iadd, 1) := dk_96 (dk_at dksX6_type_3 0 rfl rfl)
theorem dX6_type_70 : decode cX6_type 70 = .ok (.iastore, 1) := dk_79 (dk_at dksX6_type_3 1 rfl rfl)
theorem dX6_type_71 : decode cX6_type 71 = .ok (.aload_n 0, 1) := dk_42 (dk_at dksX6_type_3 2 rfl rfl)
theorem dX6_type_72 : decode cX6_type 72 = .ok (.getfield 7, 3) := dk_180 0 7 (dk_at dksX6_type_3 3 rfl rfl)
theorem dX6_type_75 : decode cX6_type 75 = .ok (.iload_n 1, 1) := dk_27 (dk_at dksX6_type_3 6 rfl rfl)
theorem dX6_type_76 : decode cX6_type 76 = .ok (.iaload, 1) := dk_46 (dk_at dksX6_type_3 7 rfl rfl)
theorem dX6_type_77 : decode cX6_type 77 = .ok (.ireturn, 1) := dk_172 (dk_at dksX6_type_3 8 rfl rfl)
abbrev cX6_isText : ByteArray := prog_14_method_7_code
def yX6_isText : MethodName := ⟨RX6, "isText", "(I)Z"⟩
def dkwX6_isText_0 : List UInt8 := [26, 3, 4, 184, 0, 104, 172]
abbrev dktX6_isText_0 : List UInt8 := dkwX6_isText_0 ++ []
theorem dksX6_isText_0 : cX6_isText.data.toList.drop 0 = dktX6_isText_0 := by decide +kernel
theorem dX6_isText_0 : decode cX6_isText 0 = .ok (.iload_n 0, 1) := dk_26 (dk_at dksX6_isText_0 0 rfl rfl)
theorem dX6_isText_1 : decode cX6_isText 1 = .ok (.iconst 0, 1) := dk_3 (dk_at dksX6_isText_0 1 rfl rfl)
theorem dX6_isText_2 : decode cX6_isText 2 = .ok (.iconst 1, 1) := dk_4 (dk_at dksX6_isText_0 2 rfl rfl)
theorem dX6_isText_3 : decode cX6_isText 3 = .ok (.invokestatic 104, 3) := dk_184 0 104 (dk_at dksX6_isText_0 3 rfl rfl)
theorem dX6_isText_6 : decode cX6_isText 6 = .ok (.ireturn, 1) := dk_172 (dk_at dksX6_isText_0 6 rfl rfl)
abbrev cX6_in : ByteArray := prog_14_method_3_code
def yX6_in : MethodName := ⟨RX6, "in", "(III)Z"⟩
def dkwX6_in_0 : List UInt8 := [26, 27, 161, 0, 12, 26, 28, 163, 0, 7, 4, 167, 0, 4, 3, 172]
abbrev dktX6_in_0 : List UInt8 := dkwX6_in_0 ++ []
theorem dksX6_in_0 : cX6_in.data.toList.drop 0 = dktX6_in_0 := by decide +kernel
theorem dX6_in_0 : decode cX6_in 0 = .ok (.iload_n 0, 1) := dk_26 (dk_at dksX6_in_0 0 rfl rfl)
theorem dX6_in_1 : decode cX6_in 1 = .ok (.iload_n 1, 1) := dk_27 (dk_at dksX6_in_0 1 rfl rfl)
theorem dX6_in_2 : decode cX6_in 2 = .ok (.if_icmp .lt 12, 3) := dk_161 0 12 (dk_at dksX6_in_0 2 rfl rfl)
theorem dX6_in_5 : decode cX6_in 5 = .ok (.iload_n 0, 1) := dk_26 (dk_at dksX6_in_0 5 rfl rfl)
theorem dX6_in_6 : decode cX6_in 6 = .ok (.iload_n 2, 1) := dk_28 (dk_at dksX6_in_0 6 rfl rfl)
theorem dX6_in_7 : decode cX6_in 7 = .ok (.if_icmp .gt 7, 3) := dk_163 0 7 (dk_at dksX6_in_0 7 rfl rfl)
theorem dX6_in_10 : decode cX6_in 10 = .ok (.iconst 1, 1) := dk_4 (dk_at dksX6_in_0 10 rfl rfl)
theorem dX6_in_11 : decode cX6_in 11 = .ok (.goto 4, 3) := dk_167 0 4 (dk_at dksX6_in_0 11 rfl rfl)
theorem dX6_in_14 : decode cX6_in 14 = .ok (.iconst 0, 1) := dk_3 (dk_at dksX6_in_0 14 rfl rfl)
theorem dX6_in_15 : decode cX6_in 15 = .ok (.ireturn, 1) := dk_172 (dk_at dksX6_in_0 15 rfl rfl)
abbrev cX6_wipe : ByteArray := prog_14_method_10_code
def yX6_wipe : MethodName := ⟨RX6, "wipe", "(I)I"⟩
def dkwX6_wipe_1 : List UInt8 := [28, 172]
abbrev dktX6_wipe_1 : List UInt8 := dkwX6_wipe_1 ++ []
def dkwX6_wipe_0 : List UInt8 := [27, 184, 0, 108, 154, 0, 6, 16, 254, 172, 42, 180, 0, 7, 27, 46, 61, 42, 180, 0, 7, 27, 3, 79]
abbrev dktX6_wipe_0 : List UInt8 := dkwX6_wipe_0 ++ dktX6_wipe_1
theorem dksX6_wipe_0 : cX6_wipe.data.toList.drop 0 = dktX6_wipe_0 := by decide +kernel
theorem dksX6_wipe_1 : cX6_wipe.data.toList.drop 24 = dktX6_wipe_1 := dk_seg dksX6_wipe_0 24 rfl rfl
theorem dX6_wipe_0 : decode cX6_wipe 0 = .ok (.iload_n 1, 1) := dk_27 (dk_at dksX6_wipe_0 0 rfl rfl)
theorem dX6_wipe_1 : decode cX6_wipe 1 = .ok (.invokestatic 108, 3) := dk_184 0 108 (dk_at dksX6_wipe_0 1 rfl rfl)
theorem dX6_wipe_4 : decode cX6_wipe 4 = .ok (.ifCond .ne 6, 3) := dk_154 0 6 (dk_at dksX6_wipe_0 4 rfl rfl)
theorem dX6_wipe_7 : decode cX6_wipe 7 = .ok (.bipush (-2), 2) := dk_16 254 (dk_at dksX6_wipe_0 7 rfl rfl)
theorem dX6_wipe_9 : decode cX6_wipe 9 = .ok (.ireturn, 1) := dk_172 (dk_at dksX6_wipe_0 9 rfl rfl)
theorem dX6_wipe_10 : decode cX6_wipe 10 = .ok (.aload_n 0, 1) := dk_42 (dk_at dksX6_wipe_0 10 rfl rfl)
theorem dX6_wipe_11 : decode cX6_wipe 11 = .ok (.getfield 7, 3) := dk_180 0 7 (dk_at dksX6_wipe_0 11 rfl rfl)
theorem dX6_wipe_14 : decode cX6_wipe 14 = .ok (.iload_n 1, 1) := dk_27 (dk_at dksX6_wipe_0 14 rfl rfl)
theorem dX6_wipe_15 : decode cX6_wipe 15 = .ok (.iaload, 1) := dk_46 (dk_at dksX6_wipe_0 15 rfl rfl)
theorem dX6_wipe_16 : decode cX6_wipe 16 = .ok (.istore_n 2, 1) := dk_61 (dk_at dksX6_wipe_0 16 rfl rfl)
theorem dX6_wipe_17 : decode cX6_wipe 17 = .ok (.aload_n 0, 1) := dk_42 (dk_at dksX6_wipe_0 17 rfl rfl)
theorem dX6_wipe_18 : decode cX6_wipe 18 = .ok (.getfield 7, 3) := dk_180 0 7 (dk_at dksX6_wipe_0 18 rfl rfl)
theorem dX6_wipe_21 : decode cX6_wipe 21 = .ok (.iload_n 1, 1) := dk_27 (dk_at dksX6_wipe_0 21 rfl rfl)
theorem dX6_wipe_22 : decode cX6_wipe 22 = .ok (.iconst 0, 1) := dk_3 (dk_at dksX6_wipe_0 22 rfl rfl)
theorem dX6_wipe_23 : decode cX6_wipe 23 = .ok (.iastore, 1) := dk_79 (dk_at dksX6_wipe_0 23 rfl rfl)
theorem dX6_wipe_24 : decode cX6_wipe 24 = .ok (.iload_n 2, 1) := dk_28 (dk_at dksX6_wipe_1 0 rfl rfl)
theorem dX6_wipe_25 : decode cX6_wipe 25 = .ok (.ireturn, 1) := dk_172 (dk_at dksX6_wipe_1 1 rfl rfl)
abbrev cX6_undo : ByteArray := prog_14_method_11_code
def yX6_undo : MethodName := ⟨RX6, "undo", "(I)I"⟩
def dkwX6_undo_1 : List UInt8 := [180, 0, 7, 27, 92, 46, 4, 100, 79, 42, 180, 0, 7, 27, 46, 172]
abbrev dktX6_undo_1 : List UInt8 := dkwX6_undo_1 ++ []
def dkwX6_undo_0 : List UInt8 := [27, 184, 0, 108, 154, 0, 6, 16, 254, 172, 42, 180, 0, 7, 27, 46, 154, 0, 6, 16, 253, 172, 42]
abbrev dktX6_undo_0 : List UInt8 := dkwX6_undo_0 ++ dktX6_undo_1
theorem dksX6_undo_0 : cX6_undo.data.toList.drop 0 = dktX6_undo_0 := by decide +kernel
theorem dksX6_undo_1 : cX6_undo.data.toList.drop 23 = dktX6_undo_1 := dk_seg dksX6_undo_0 23 rfl rfl
theorem dX6_undo_0 : decode cX6_undo 0 = .ok (.iload_n 1, 1) := dk_27 (dk_at dksX6_undo_0 0 rfl rfl)
theorem dX6_undo_1 : decode cX6_undo 1 = .ok (.invokestatic 108, 3) := dk_184 0 108 (dk_at dksX6_undo_0 1 rfl rfl)
theorem dX6_undo_4 : decode cX6_undo 4 = .ok (.ifCond .ne 6, 3) := dk_154 0 6 (dk_at dksX6_undo_0 4 rfl rfl)
theorem dX6_undo_7 : decode cX6_undo 7 = .ok (.bipush (-2), 2) := dk_16 254 (dk_at dksX6_undo_0 7 rfl rfl)
theorem dX6_undo_9 : decode cX6_undo 9 = .ok (.ireturn, 1) := dk_172 (dk_at dksX6_undo_0 9 rfl rfl)
theorem dX6_undo_10 : decode cX6_undo 10 = .ok (.aload_n 0, 1) := dk_42 (dk_at dksX6_undo_0 10 rfl rfl)
theorem dX6_undo_11 : decode cX6_undo 11 = .ok (.getfield 7, 3) := dk_180 0 7 (dk_at dksX6_undo_0 11 rfl rfl)
theorem dX6_undo_14 : decode cX6_undo 14 = .ok (.iload_n 1, 1) := dk_27 (dk_at dksX6_undo_0 14 rfl rfl)
theorem dX6_undo_15 : decode cX6_undo 15 = .ok (.iaload, 1) := dk_46 (dk_at dksX6_undo_0 15 rfl rfl)
theorem dX6_undo_16 : decode cX6_undo 16 = .ok (.ifCond .ne 6, 3) := dk_154 0 6 (dk_at dksX6_undo_0 16 rfl rfl)
theorem dX6_undo_19 : decode cX6_undo 19 = .ok (.bipush (-3), 2) := dk_16 253 (dk_at dksX6_undo_0 19 rfl rfl)
theorem dX6_undo_21 : decode cX6_undo 21 = .ok (.ireturn, 1) := dk_172 (dk_at dksX6_undo_0 21 rfl rfl)
theorem dX6_undo_22 : decode cX6_undo 22 = .ok (.aload_n 0, 1) := dk_42 (dk_at dksX6_undo_0 22 rfl rfl)
theorem dX6_undo_23 : decode cX6_undo 23 = .ok (.getfield 7, 3) := dk_180 0 7 (dk_at dksX6_undo_1 0 rfl rfl)
theorem dX6_undo_26 : decode cX6_undo 26 = .ok (.iload_n 1, 1) := dk_27 (dk_at dksX6_undo_1 3 rfl rfl)
theorem dX6_undo_27 : decode cX6_undo 27 = .ok (.dup2, 1) := dk_92 (dk_at dksX6_undo_1 4 rfl rfl)
theorem dX6_undo_28 : decode cX6_undo 28 = .ok (.iaload, 1) := dk_46 (dk_at dksX6_undo_1 5 rfl rfl)
theorem dX6_undo_29 : decode cX6_undo 29 = .ok (.iconst 1, 1) := dk_4 (dk_at dksX6_undo_1 6 rfl rfl)
theorem dX6_undo_30 : decode cX6_undo 30 = .ok (.isub, 1) := dk_100 (dk_at dksX6_undo_1 7 rfl rfl)
theorem dX6_undo_31 : decode cX6_undo 31 = .ok (.iastore, 1) := dk_79 (dk_at dksX6_undo_1 8 rfl rfl)
theorem dX6_undo_32 : decode cX6_undo 32 = .ok (.aload_n 0, 1) := dk_42 (dk_at dksX6_undo_1 9 rfl rfl)
theorem dX6_undo_33 : decode cX6_undo 33 = .ok (.getfield 7, 3) := dk_180 0 7 (dk_at dksX6_undo_1 10 rfl rfl)
theorem dX6_undo_36 : decode cX6_undo 36 = .ok (.iload_n 1, 1) := dk_27 (dk_at dksX6_undo_1 13 rfl rfl)
theorem dX6_undo_37 : decode cX6_undo 37 = .ok (.iaload, 1) := dk_46 (dk_at dksX6_undo_1 14 rfl rfl)
theorem dX6_undo_38 : decode cX6_undo 38 = .ok (.ireturn, 1) := dk_172 (dk_at dksX6_undo_1 15 rfl rfl)
abbrev cX6_fault : ByteArray := prog_14_method_20_code
def yX6_fault : MethodName := ⟨RX6, "fault", "(I)I"⟩
def dkwX6_fault_0 : List UInt8 := [27, 184, 0, 108, 153, 0, 11, 42, 27, 182, 0, 138, 167, 0, 5, 16, 254, 172]
abbrev dktX6_fault_0 : List UInt8 := dkwX6_fault_0 ++ []
theorem dksX6_fault_0 : cX6_fault.data.toList.drop 0 = dktX6_fault_0 := by decide +kernel
theorem dX6_fault_0 : decode cX6_fault 0 = .ok (.iload_n 1, 1) := dk_27 (dk_at dksX6_fault_0 0 rfl rfl)
theorem dX6_fault_1 : decode cX6_fault 1 = .ok (.invokestatic 108, 3) := dk_184 0 108 (dk_at dksX6_fault_0 1 rfl rfl)
theorem dX6_fault_4 : decode cX6_fault 4 = .ok (.ifCond .eq 11, 3) := dk_153 0 11 (dk_at dksX6_fault_0 4 rfl rfl)
theorem dX6_fault_7 : decode cX6_fault 7 = .ok (.aload_n 0, 1) := dk_42 (dk_at dksX6_fault_0 7 rfl rfl)
theorem dX6_fault_8 : decode cX6_fault 8 = .ok (.iload_n 1, 1) := dk_27 (dk_at dksX6_fault_0 8 rfl rfl)
theorem dX6_fault_9 : decode cX6_fault 9 = .ok (.invokevirtual 138, 3) := dk_182 0 138 (dk_at dksX6_fault_0 9 rfl rfl)
theorem dX6_fault_12 : decode cX6_fault 12 = .ok (.goto 5, 3) := dk_167 0 5 (dk_at dksX6_fault_0 12 rfl rfl)
theorem dX6_fault_15 : decode cX6_fault 15 = .ok (.bipush (-2), 2) := dk_16 254 (dk_at dksX6_fault_0 15 rfl rfl)
theorem dX6_fault_17 : decode cX6_fault 17 = .ok (.ireturn, 1) := dk_172 (dk_at dksX6_fault_0 17 rfl rfl)
abbrev cX6_faultOf : ByteArray := prog_14_method_18_code
def yX6_faultOf : MethodName := ⟨RX6, "faultOf", "(I)I"⟩
def dkwX6_faultOf_0 : List UInt8 := [42, 3, 182, 0, 134, 61, 42, 4, 182, 0, 134, 62, 27, 154, 0, 7, 28, 167, 0, 4, 29, 172]
abbrev dktX6_faultOf_0 : List UInt8 := dkwX6_faultOf_0 ++ []
theorem dksX6_faultOf_0 : cX6_faultOf.data.toList.drop 0 = dktX6_faultOf_0 := by decide +kernel
theorem dX6_faultOf_0 : decode cX6_faultOf 0 = .ok (.aload_n 0, 1) := dk_42 (dk_at dksX6_faultOf_0 0 rfl rfl)
theorem dX6_faultOf_1 : decode cX6_faultOf 1 = .ok (.iconst 0, 1) := dk_3 (dk_at dksX6_faultOf_0 1 rfl rfl)
theorem dX6_faultOf_2 : decode cX6_faultOf 2 = .ok (.invokevirtual 134, 3) := dk_182 0 134 (dk_at dksX6_faultOf_0 2 rfl rfl)
theorem dX6_faultOf_5 : decode cX6_faultOf 5 = .ok (.istore_n 2, 1) := dk_61 (dk_at dksX6_faultOf_0 5 rfl rfl)
theorem dX6_faultOf_6 : decode cX6_faultOf 6 = .ok (.aload_n 0, 1) := dk_42 (dk_at dksX6_faultOf_0 6 rfl rfl)
theorem dX6_faultOf_7 : decode cX6_faultOf 7 = .ok (.iconst 1, 1) := dk_4 (dk_at dksX6_faultOf_0 7 rfl rfl)
theorem dX6_faultOf_8 : decode cX6_faultOf 8 = .ok (.invokevirtual 134, 3) := dk_182 0 134 (dk_at dksX6_faultOf_0 8 rfl rfl)
theorem dX6_faultOf_11 : decode cX6_faultOf 11 = .ok (.istore_n 3, 1) := dk_62 (dk_at dksX6_faultOf_0 11 rfl rfl)
theorem dX6_faultOf_12 : decode cX6_faultOf 12 = .ok (.iload_n 1, 1) := dk_27 (dk_at dksX6_faultOf_0 12 rfl rfl)
theorem dX6_faultOf_13 : decode cX6_faultOf 13 = .ok (.ifCond .ne 7, 3) := dk_154 0 7 (dk_at dksX6_faultOf_0 13 rfl rfl)
theorem dX6_faultOf_16 : decode cX6_faultOf 16 = .ok (.iload_n 2, 1) := dk_28 (dk_at dksX6_faultOf_0 16 rfl rfl)
theorem dX6_faultOf_17 : decode cX6_faultOf 17 = .ok (.goto 4, 3) := dk_167 0 4 (dk_at dksX6_faultOf_0 17 rfl rfl)
theorem dX6_faultOf_20 : decode cX6_faultOf 20 = .ok (.iload_n 3, 1) := dk_29 (dk_at dksX6_faultOf_0 20 rfl rfl)
theorem dX6_faultOf_21 : decode cX6_faultOf 21 = .ok (.ireturn, 1) := dk_172 (dk_at dksX6_faultOf_0 21 rfl rfl)
abbrev cX6_readsParts : ByteArray := prog_14_method_17_code
def yX6_readsParts : MethodName := ⟨RX6, "readsParts", "(I)I"⟩
def dkwX6_readsParts_7 : List UInt8 := [21, 4, 182, 0, 112, 16, 59, 159, 0, 6, 21, 4, 172, 132, 4, 1, 167, 255, 122, 2, 172]
abbrev dktX6_readsParts_7 : List UInt8 := dkwX6_readsParts_7 ++ []
def dkwX6_readsParts_6 : List UInt8 := [181, 0, 122, 42, 27, 4, 160, 0, 7, 29, 167, 0, 7, 42, 180, 0, 125, 181, 0, 125, 2, 172, 42, 27]
abbrev dktX6_readsParts_6 : List UInt8 := dkwX6_readsParts_6 ++ dktX6_readsParts_7
def dkwX6_readsParts_5 : List UInt8 := [21, 4, 42, 180, 0, 7, 27, 46, 160, 0, 38, 42, 27, 154, 0, 7, 29, 167, 0, 7, 42, 180, 0, 122]
abbrev dktX6_readsParts_5 : List UInt8 := dkwX6_readsParts_5 ++ dktX6_readsParts_6
def dkwX6_readsParts_4 : List UInt8 := [54, 5, 21, 5, 28, 162, 0, 9, 21, 4, 21, 5, 96, 172, 132, 3, 1, 21, 4, 28, 96, 54, 4]
abbrev dktX6_readsParts_4 : List UInt8 := dkwX6_readsParts_4 ++ dktX6_readsParts_5
def dkwX6_readsParts_3 : List UInt8 := [167, 0, 24, 27, 154, 0, 13, 42, 29, 21, 4, 182, 0, 128, 167, 0, 10, 42, 29, 21, 4, 182, 0, 131]
abbrev dktX6_readsParts_3 : List UInt8 := dkwX6_readsParts_3 ++ dktX6_readsParts_4
def dkwX6_readsParts_2 : List UInt8 := [21, 4, 42, 180, 0, 7, 27, 46, 161, 0, 8, 21, 4, 158, 0, 124, 29, 16, 8, 160, 0, 7, 3]
abbrev dktX6_readsParts_2 : List UInt8 := dkwX6_readsParts_2 ++ dktX6_readsParts_3
def dkwX6_readsParts_1 : List UInt8 := [42, 180, 0, 122, 181, 0, 122, 42, 27, 4, 160, 0, 7, 3, 167, 0, 7, 42, 180, 0, 125, 181, 0, 125]
abbrev dktX6_readsParts_1 : List UInt8 := dkwX6_readsParts_1 ++ dktX6_readsParts_2
def dkwX6_readsParts_0 : List UInt8 := [27, 154, 0, 7, 6, 167, 0, 4, 5, 61, 3, 62, 3, 54, 4, 42, 27, 154, 0, 7, 3, 167, 0, 7]
abbrev dktX6_readsParts_0 : List UInt8 := dkwX6_readsParts_0 ++ dktX6_readsParts_1
theorem dksX6_readsParts_0 : cX6_readsParts.data.toList.drop 0 = dktX6_readsParts_0 := by decide +kernel
theorem dksX6_readsParts_1 : cX6_readsParts.data.toList.drop 24 = dktX6_readsParts_1 := dk_seg dksX6_readsParts_0 24 rfl rfl
theorem dksX6_readsParts_2 : cX6_readsParts.data.toList.drop 48 = dktX6_readsParts_2 := dk_seg dksX6_readsParts_1 24 rfl rfl
theorem dksX6_readsParts_3 : cX6_readsParts.data.toList.drop 71 = dktX6_readsParts_3 := dk_seg dksX6_readsParts_2 23 rfl rfl
theorem dksX6_readsParts_4 : cX6_readsParts.data.toList.drop 95 = dktX6_readsParts_4 := dk_seg dksX6_readsParts_3 24 rfl rfl
theorem dksX6_readsParts_5 : cX6_readsParts.data.toList.drop 118 = dktX6_readsParts_5 := dk_seg dksX6_readsParts_4 23 rfl rfl
theorem dksX6_readsParts_6 : cX6_readsParts.data.toList.drop 142 = dktX6_readsParts_6 := dk_seg dksX6_readsParts_5 24 rfl rfl
theorem dksX6_readsParts_7 : cX6_readsParts.data.toList.drop 166 = dktX6_readsParts_7 := dk_seg dksX6_readsParts_6 24 rfl rfl
theorem dX6_readsParts_0 : decode cX6_readsParts 0 = .ok (.iload_n 1, 1) := dk_27 (dk_at dksX6_readsParts_0 0 rfl rfl)
theorem dX6_readsParts_1 : decode cX6_readsParts 1 = .ok (.ifCond .ne 7, 3) := dk_154 0 7 (dk_at dksX6_readsParts_0 1 rfl rfl)
theorem dX6_readsParts_4 : decode cX6_readsParts 4 = .ok (.iconst 3, 1) := dk_6 (dk_at dksX6_readsParts_0 4 rfl rfl)
theorem dX6_readsParts_5 : decode cX6_readsParts 5 = .ok (.goto 4, 3) := dk_167 0 4 (dk_at dksX6_readsParts_0 5 rfl rfl)
theorem dX6_readsParts_8 : decode cX6_readsParts 8 = .ok (.iconst 2, 1) := dk_5 (dk_at dksX6_readsParts_0 8 rfl rfl)
theorem dX6_readsParts_9 : decode cX6_readsParts 9 = .ok (.istore_n 2, 1) := dk_61 (dk_at dksX6_readsParts_0 9 rfl rfl)
theorem dX6_readsParts_10 : decode cX6_readsParts 10 = .ok (.iconst 0, 1) := dk_3 (dk_at dksX6_readsParts_0 10 rfl rfl)
theorem dX6_readsParts_11 : decode cX6_readsParts 11 = .ok (.istore_n 3, 1) := dk_62 (dk_at dksX6_readsParts_0 11 rfl rfl)
theorem dX6_readsParts_12 : decode cX6_readsParts 12 = .ok (.iconst 0, 1) := dk_3 (dk_at dksX6_readsParts_0 12 rfl rfl)
theorem dX6_readsParts_13 : decode cX6_readsParts 13 = .ok (.istore 4, 2) := dk_54 4 (dk_at dksX6_readsParts_0 13 rfl rfl)
theorem dX6_readsParts_15 : decode cX6_readsParts 15 = .ok (.aload_n 0, 1) := dk_42 (dk_at dksX6_readsParts_0 15 rfl rfl)
theorem dX6_readsParts_16 : decode cX6_readsParts 16 = .ok (.iload_n 1, 1) := dk_27 (dk_at dksX6_readsParts_0 16 rfl rfl)
theorem dX6_readsParts_17 : decode cX6_readsParts 17 = .ok (.ifCond .ne 7, 3) := dk_154 0 7 (dk_at dksX6_readsParts_0 17 rfl rfl)
theorem dX6_readsParts_20 : decode cX6_readsParts 20 = .ok (.iconst 0, 1) := dk_3 (dk_at dksX6_readsParts_0 20 rfl rfl)
theorem dX6_readsParts_21 : decode cX6_readsParts 21 = .ok (.goto 7, 3) := dk_167 0 7 (dk_at dksX6_readsParts_0 21 rfl rfl)
theorem dX6_readsParts_24 : decode cX6_readsParts 24 = .ok (.aload_n 0, 1) := dk_42 (dk_at dksX6_readsParts_1 0 rfl rfl)
theorem dX6_readsParts_25 : decode cX6_readsParts 25 = .ok (.getfield 122, 3) := dk_180 0 122 (dk_at dksX6_readsParts_1 1 rfl rfl)
theorem dX6_readsParts_28 : decode cX6_readsParts 28 = .ok (.putfield 122, 3) := dk_181 0 122 (dk_at dksX6_readsParts_1 4 rfl rfl)
theorem dX6_readsParts_31 : decode cX6_readsParts 31 = .ok (.aload_n 0, 1) := dk_42 (dk_at dksX6_readsParts_1 7 rfl rfl)
theorem dX6_readsParts_32 : decode cX6_readsParts 32 = .ok (.iload_n 1, 1) := dk_27 (dk_at dksX6_readsParts_1 8 rfl rfl)
theorem dX6_readsParts_33 : decode cX6_readsParts 33 = .ok (.iconst 1, 1) := dk_4 (dk_at dksX6_readsParts_1 9 rfl rfl)
theorem dX6_readsParts_34 : decode cX6_readsParts 34 = .ok (.if_icmp .ne 7, 3) := dk_160 0 7 (dk_at dksX6_readsParts_1 10 rfl rfl)
theorem dX6_readsParts_37 : decode cX6_readsParts 37 = .ok (.iconst 0, 1) := dk_3 (dk_at dksX6_readsParts_1 13 rfl rfl)
theorem dX6_readsParts_38 : decode cX6_readsParts 38 = .ok (.goto 7, 3) := dk_167 0 7 (dk_at dksX6_readsParts_1 14 rfl rfl)
theorem dX6_readsParts_41 : decode cX6_readsParts 41 = .ok (.aload_n 0, 1) := dk_42 (dk_at dksX6_readsParts_1 17 rfl rfl)
theorem dX6_readsParts_42 : decode cX6_readsParts 42 = .ok (.getfield 125, 3) := dk_180 0 125 (dk_at dksX6_readsParts_1 18 rfl rfl)
theorem dX6_readsParts_45 : decode cX6_readsParts 45 = .ok (.putfield 125, 3) := dk_181 0 125 (dk_at dksX6_readsParts_1 21 rfl rfl)
theorem dX6_readsParts_48 : decode cX6_readsParts 48 = .ok (.iload 4, 2) := dk_21 4 (dk_at dksX6_readsParts_2 0 rfl rfl)
theorem dX6_readsParts_50 : decode cX6_readsParts 50 = .ok (.aload_n 0, 1) := dk_42 (dk_at dksX6_readsParts_2 2 rfl rfl)
theorem dX6_readsParts_51 : decode cX6_readsParts 51 = .ok (.getfield 7, 3) := dk_180 0 7 (dk_at dksX6_readsParts_2 3 rfl rfl)
theorem dX6_readsParts_54 : decode cX6_readsParts 54 = .ok (.iload_n 1, 1) := dk_27 (dk_at dksX6_readsParts_2 6 rfl rfl)
theorem dX6_readsParts_55 : decode cX6_readsParts 55 = .ok (.iaload, 1) := dk_46 (dk_at dksX6_readsParts_2 7 rfl rfl)
theorem dX6_readsParts_56 : decode cX6_readsParts 56 = .ok (.if_icmp .lt 8, 3) := dk_161 0 8 (dk_at dksX6_readsParts_2 8 rfl rfl)
theorem dX6_readsParts_59 : decode cX6_readsParts 59 = .ok (.iload 4, 2) := dk_21 4 (dk_at dksX6_readsParts_2 11 rfl rfl)
theorem dX6_readsParts_61 : decode cX6_readsParts 61 = .ok (.ifCond .le 124, 3) := dk_158 0 124 (dk_at dksX6_readsParts_2 13 rfl rfl)
theorem dX6_readsParts_64 : decode cX6_readsParts 64 = .ok (.iload_n 3, 1) := dk_29 (dk_at dksX6_readsParts_2 16 rfl rfl)
theorem dX6_readsParts_65 : decode cX6_readsParts 65 = .ok (.bipush 8, 2) := dk_16 8 (dk_at dksX6_readsParts_2 17 rfl rfl)
theorem dX6_readsParts_67 : decode cX6_readsParts 67 = .ok (.if_icmp .ne 7, 3) := dk_160 0 7 (dk_at dksX6_readsParts_2 19 rfl rfl)
theorem dX6_readsParts_70 : decode cX6_readsParts 70 = .ok (.iconst 0, 1) := dk_3 (dk_at dksX6_readsParts_2 22 rfl rfl)
theorem dX6_readsParts_71 : decode cX6_readsParts 71 = .ok (.goto 24, 3) := dk_167 0 24 (dk_at dksX6_readsParts_3 0 rfl rfl)
theorem dX6_readsParts_74 : decode cX6_readsParts 74 = .ok (.iload_n 1, 1) := dk_27 (dk_at dksX6_readsParts_3 3 rfl rfl)
theorem dX6_readsParts_75 : decode cX6_readsParts 75 = .ok (.ifCond .ne 13, 3) := dk_154 0 13 (dk_at dksX6_readsParts_3 4 rfl rfl)
theorem dX6_readsParts_78 : decode cX6_readsParts 78 = .ok (.aload_n 0, 1) := dk_42 (dk_at dksX6_readsParts_3 7 rfl rfl)
theorem dX6_readsParts_79 : decode cX6_readsParts 79 = .ok (.iload_n 3, 1) := dk_29 (dk_at dksX6_readsParts_3 8 rfl rfl)
theorem dX6_readsParts_80 : decode cX6_readsParts 80 = .ok (.iload 4, 2) := dk_21 4 (dk_at dksX6_readsParts_3 9 rfl rfl)
theorem dX6_readsParts_82 : decode cX6_readsParts 82 = .ok (.invokevirtual 128, 3) := dk_182 0 128 (dk_at dksX6_readsParts_3 11 rfl rfl)
theorem dX6_readsParts_85 : decode cX6_readsParts 85 = .ok (.goto 10, 3) := dk_167 0 10 (dk_at dksX6_readsParts_3 14 rfl rfl)
theorem dX6_readsParts_88 : decode cX6_readsParts 88 = .ok (.aload_n 0, 1) := dk_42 (dk_at dksX6_readsParts_3 17 rfl rfl)
theorem dX6_readsParts_89 : decode cX6_readsParts 89 = .ok (.iload_n 3, 1) := dk_29 (dk_at dksX6_readsParts_3 18 rfl rfl)
theorem dX6_readsParts_90 : decode cX6_readsParts 90 = .ok (.iload 4, 2) := dk_21 4 (dk_at dksX6_readsParts_3 19 rfl rfl)
theorem dX6_readsParts_92 : decode cX6_readsParts 92 = .ok (.invokevirtual 131, 3) := dk_182 0 131 (dk_at dksX6_readsParts_3 21 rfl rfl)
theorem dX6_readsParts_95 : decode cX6_readsParts 95 = .ok (.istore 5, 2) := dk_54 5 (dk_at dksX6_readsParts_4 0 rfl rfl)
theorem dX6_readsParts_97 : decode cX6_readsParts 97 = .ok (.iload 5, 2) := dk_21 5 (dk_at dksX6_readsParts_4 2 rfl rfl)
theorem dX6_readsParts_99 : decode cX6_readsParts 99 = .ok (.iload_n 2, 1) := dk_28 (dk_at dksX6_readsParts_4 4 rfl rfl)
theorem dX6_readsParts_100 : decode cX6_readsParts 100 = .ok (.if_icmp .ge 9, 3) := dk_162 0 9 (dk_at dksX6_readsParts_4 5 rfl rfl)
theorem dX6_readsParts_103 : decode cX6_readsParts 103 = .ok (.iload 4, 2) := dk_21 4 (dk_at dksX6_readsParts_4 8 rfl rfl)
theorem dX6_readsParts_105 : decode cX6_readsParts 105 = .ok (.iload 5, 2) := dk_21 5 (dk_at dksX6_readsParts_4 10 rfl rfl)
theorem dX6_readsParts_107 : decode cX6_readsParts 107 = .ok (.iadd, 1) := dk_96 (dk_at dksX6_readsParts_4 12 rfl rfl)
theorem dX6_readsParts_108 : decode cX6_readsParts 108 = .ok (.ireturn, 1) := dk_172 (dk_at dksX6_readsParts_4 13 rfl rfl)
theorem dX6_readsParts_109 : decode cX6_readsParts 109 = .ok (.iinc 3 1, 3) := dk_132 3 1 (dk_at dksX6_readsParts_4 14 rfl rfl)
theorem dX6_readsParts_112 : decode cX6_readsParts 112 = .ok (.iload 4, 2) := dk_21 4 (dk_at dksX6_readsParts_4 17 rfl rfl)
theorem dX6_readsParts_114 : decode cX6_readsParts 114 = .ok (.iload_n 2, 1) := dk_28 (dk_at dksX6_readsParts_4 19 rfl rfl)
theorem dX6_readsParts_115 : decode cX6_readsParts 115 = .ok (.iadd, 1) := dk_96 (dk_at dksX6_readsParts_4 20 rfl rfl)
theorem dX6_readsParts_116 : decode cX6_readsParts 116 = .ok (.istore 4, 2) := dk_54 4 (dk_at dksX6_readsParts_4 21 rfl rfl)
theorem dX6_readsParts_118 : decode cX6_readsParts 118 = .ok (.iload 4, 2) := dk_21 4 (dk_at dksX6_readsParts_5 0 rfl rfl)
theorem dX6_readsParts_120 : decode cX6_readsParts 120 = .ok (.aload_n 0, 1) := dk_42 (dk_at dksX6_readsParts_5 2 rfl rfl)
theorem dX6_readsParts_121 : decode cX6_readsParts 121 = .ok (.getfield 7, 3) := dk_180 0 7 (dk_at dksX6_readsParts_5 3 rfl rfl)
theorem dX6_readsParts_124 : decode cX6_readsParts 124 = .ok (.iload_n 1, 1) := dk_27 (dk_at dksX6_readsParts_5 6 rfl rfl)
theorem dX6_readsParts_125 : decode cX6_readsParts 125 = .ok (.iaload, 1) := dk_46 (dk_at dksX6_readsParts_5 7 rfl rfl)
theorem dX6_readsParts_126 : decode cX6_readsParts 126 = .ok (.if_icmp .ne 38, 3) := dk_160 0 38 (dk_at dksX6_readsParts_5 8 rfl rfl)
theorem dX6_readsParts_129 : decode cX6_readsParts 129 = .ok (.aload_n 0, 1) := dk_42 (dk_at dksX6_readsParts_5 11 rfl rfl)
theorem dX6_readsParts_130 : decode cX6_readsParts 130 = .ok (.iload_n 1, 1) := dk_27 (dk_at dksX6_readsParts_5 12 rfl rfl)
theorem dX6_readsParts_131 : decode cX6_readsParts 131 = .ok (.ifCond .ne 7, 3) := dk_154 0 7 (dk_at dksX6_readsParts_5 13 rfl rfl)
theorem dX6_readsParts_134 : decode cX6_readsParts 134 = .ok (.iload_n 3, 1) := dk_29 (dk_at dksX6_readsParts_5 16 rfl rfl)
theorem dX6_readsParts_135 : decode cX6_readsParts 135 = .ok (.goto 7, 3) := dk_167 0 7 (dk_at dksX6_readsParts_5 17 rfl rfl)
theorem dX6_readsParts_138 : decode cX6_readsParts 138 = .ok (.aload_n 0, 1) := dk_42 (dk_at dksX6_readsParts_5 20 rfl rfl)
theorem dX6_readsParts_139 : decode cX6_readsParts 139 = .ok (.getfield 122, 3) := dk_180 0 122 (dk_at dksX6_readsParts_5 21 rfl rfl)
theorem dX6_readsParts_142 : decode cX6_readsParts 142 = .ok (.putfield 122, 3) := dk_181 0 122 (dk_at dksX6_readsParts_6 0 rfl rfl)
theorem dX6_readsParts_145 : decode cX6_readsParts 145 = .ok (.aload_n 0, 1) := dk_42 (dk_at dksX6_readsParts_6 3 rfl rfl)
theorem dX6_readsParts_146 : decode cX6_readsParts 146 = .ok (.iload_n 1, 1) := dk_27 (dk_at dksX6_readsParts_6 4 rfl rfl)
theorem dX6_readsParts_147 : decode cX6_readsParts 147 = .ok (.iconst 1, 1) := dk_4 (dk_at dksX6_readsParts_6 5 rfl rfl)
theorem dX6_readsParts_148 : decode cX6_readsParts 148 = .ok (.if_icmp .ne 7, 3) := dk_160 0 7 (dk_at dksX6_readsParts_6 6 rfl rfl)
theorem dX6_readsParts_151 : decode cX6_readsParts 151 = .ok (.iload_n 3, 1) := dk_29 (dk_at dksX6_readsParts_6 9 rfl rfl)
theorem dX6_readsParts_152 : decode cX6_readsParts 152 = .ok (.goto 7, 3) := dk_167 0 7 (dk_at dksX6_readsParts_6 10 rfl rfl)
theorem dX6_readsParts_155 : decode cX6_readsParts 155 = .ok (.aload_n 0, 1) := dk_42 (dk_at dksX6_readsParts_6 13 rfl rfl)
theorem dX6_readsParts_156 : decode cX6_readsParts 156 = .ok (.getfield 125, 3) := dk_180 0 125 (dk_at dksX6_readsParts_6 14 rfl rfl)
theorem dX6_readsParts_159 : decode cX6_readsParts 159 = .ok (.putfield 125, 3) := dk_181 0 125 (dk_at dksX6_readsParts_6 17 rfl rfl)
theorem dX6_readsParts_162 : decode cX6_readsParts 162 = .ok (.iconst (-1), 1) := dk_2 (dk_at dksX6_readsParts_6 20 rfl rfl)
theorem dX6_readsParts_163 : decode cX6_readsParts 163 = .ok (.ireturn, 1) := dk_172 (dk_at dksX6_readsParts_6 21 rfl rfl)
theorem dX6_readsParts_164 : decode cX6_readsParts 164 = .ok (.aload_n 0, 1) := dk_42 (dk_at dksX6_readsParts_6 22 rfl rfl)
theorem dX6_readsParts_165 : decode cX6_readsParts 165 = .ok (.iload_n 1, 1) := dk_27 (dk_at dksX6_readsParts_6 23 rfl rfl)
theorem dX6_readsParts_166 : decode cX6_readsParts 166 = .ok (.iload 4, 2) := dk_21 4 (dk_at dksX6_readsParts_7 0 rfl rfl)
theorem dX6_readsParts_168 : decode cX6_readsParts 168 = .ok (.invokevirtual 112, 3) := dk_182 0 112 (dk_at dksX6_readsParts_7 2 rfl rfl)
theorem dX6_readsParts_171 : decode cX6_readsParts 171 = .ok (.bipush 59, 2) := dk_16 59 (dk_at dksX6_readsParts_7 5 rfl rfl)
theorem dX6_readsParts_173 : decode cX6_readsParts 173 = .ok (.if_icmp .eq 6, 3) := dk_159 0 6 (dk_at dksX6_readsParts_7 7 rfl rfl)
theorem dX6_readsParts_176 : decode cX6_readsParts 176 = .ok (.iload 4, 2) := dk_21 4 (dk_at dksX6_readsParts_7 10 rfl rfl)
theorem dX6_readsParts_178 : decode cX6_readsParts 178 = .ok (.ireturn, 1) := dk_172 (dk_at dksX6_readsParts_7 12 rfl rfl)
theorem dX6_readsParts_179 : decode cX6_readsParts 179 = .ok (.iinc 4 1, 3) := dk_132 4 1 (dk_at dksX6_readsParts_7 13 rfl rfl)
theorem dX6_readsParts_182 : decode cX6_readsParts 182 = .ok (.goto (-134), 3) := dk_167 255 122 (dk_at dksX6_readsParts_7 16 rfl rfl)
theorem dX6_readsParts_185 : decode cX6_readsParts 185 = .ok (.iconst (-1), 1) := dk_2 (dk_at dksX6_readsParts_7 19 rfl rfl)
theorem dX6_readsParts_186 : decode cX6_readsParts 186 = .ok (.ireturn, 1) := dk_172 (dk_at dksX6_readsParts_7 20 rfl rfl)
abbrev cX6_readsSaver : ByteArray := prog_14_method_15_code
def yX6_readsSaver : MethodName := ⟨RX6, "readsSaver", "(II)I"⟩
def dkwX6_readsSaver_3 : List UInt8 := [27, 21, 4, 16, 107, 160, 0, 7, 4, 167, 0, 4, 3, 79, 42, 180, 0, 22, 27, 21, 5, 79, 6, 172]
abbrev dktX6_readsSaver_3 : List UInt8 := dkwX6_readsSaver_3 ++ []
def dkwX6_readsSaver_2 : List UInt8 := [159, 0, 5, 4, 172, 21, 5, 2, 160, 0, 5, 5, 172, 42, 180, 0, 16, 27, 29, 79, 42, 180, 0, 19]
abbrev dktX6_readsSaver_2 : List UInt8 := dkwX6_readsSaver_2 ++ dktX6_readsSaver_3
def dkwX6_readsSaver_1 : List UInt8 := [182, 0, 119, 54, 5, 29, 2, 160, 0, 5, 3, 172, 21, 4, 16, 100, 159, 0, 12, 21, 4, 16, 107]
abbrev dktX6_readsSaver_1 : List UInt8 := dkwX6_readsSaver_1 ++ dktX6_readsSaver_2
def dkwX6_readsSaver_0 : List UInt8 := [42, 3, 28, 182, 0, 116, 62, 42, 3, 28, 4, 96, 182, 0, 112, 54, 4, 42, 3, 28, 5, 96]
abbrev dktX6_readsSaver_0 : List UInt8 := dkwX6_readsSaver_0 ++ dktX6_readsSaver_1
theorem dksX6_readsSaver_0 : cX6_readsSaver.data.toList.drop 0 = dktX6_readsSaver_0 := by decide +kernel
theorem dksX6_readsSaver_1 : cX6_readsSaver.data.toList.drop 22 = dktX6_readsSaver_1 := dk_seg dksX6_readsSaver_0 22 rfl rfl
theorem dksX6_readsSaver_2 : cX6_readsSaver.data.toList.drop 45 = dktX6_readsSaver_2 := dk_seg dksX6_readsSaver_1 23 rfl rfl
theorem dksX6_readsSaver_3 : cX6_readsSaver.data.toList.drop 69 = dktX6_readsSaver_3 := dk_seg dksX6_readsSaver_2 24 rfl rfl
theorem dX6_readsSaver_0 : decode cX6_readsSaver 0 = .ok (.aload_n 0, 1) := dk_42 (dk_at dksX6_readsSaver_0 0 rfl rfl)
theorem dX6_readsSaver_1 : decode cX6_readsSaver 1 = .ok (.iconst 0, 1) := dk_3 (dk_at dksX6_readsSaver_0 1 rfl rfl)
theorem dX6_readsSaver_2 : decode cX6_readsSaver 2 = .ok (.iload_n 2, 1) := dk_28 (dk_at dksX6_readsSaver_0 2 rfl rfl)
theorem dX6_readsSaver_3 : decode cX6_readsSaver 3 = .ok (.invokevirtual 116, 3) := dk_182 0 116 (dk_at dksX6_readsSaver_0 3 rfl rfl)
theorem dX6_readsSaver_6 : decode cX6_readsSaver 6 = .ok (.istore_n 3, 1) := dk_62 (dk_at dksX6_readsSaver_0 6 rfl rfl)
theorem dX6_readsSaver_7 : decode cX6_readsSaver 7 = .ok (.aload_n 0, 1) := dk_42 (dk_at dksX6_readsSaver_0 7 rfl rfl)
theorem dX6_readsSaver_8 : decode cX6_readsSaver 8 = .ok (.iconst 0, 1) := dk_3 (dk_at dksX6_readsSaver_0 8 rfl rfl)
theorem dX6_readsSaver_9 : decode cX6_readsSaver 9 = .ok (.iload_n 2, 1) := dk_28 (dk_at dksX6_readsSaver_0 9 rfl rfl)
theorem dX6_readsSaver_10 : decode cX6_readsSaver 10 = .ok (.iconst 1, 1) := dk_4 (dk_at dksX6_readsSaver_0 10 rfl rfl)
theorem dX6_readsSaver_11 : decode cX6_readsSaver 11 = .ok (.iadd, 1) := dk_96 (dk_at dksX6_readsSaver_0 11 rfl rfl)
theorem dX6_readsSaver_12 : decode cX6_readsSaver 12 = .ok (.invokevirtual 112, 3) := dk_182 0 112 (dk_at dksX6_readsSaver_0 12 rfl rfl)
theorem dX6_readsSaver_15 : decode cX6_readsSaver 15 = .ok (.istore 4, 2) := dk_54 4 (dk_at dksX6_readsSaver_0 15 rfl rfl)
theorem dX6_readsSaver_17 : decode cX6_readsSaver 17 = .ok (.aload_n 0, 1) := dk_42 (dk_at dksX6_readsSaver_0 17 rfl rfl)
theorem dX6_readsSaver_18 : decode cX6_readsSaver 18 = .ok (.iconst 0, 1) := dk_3 (dk_at dksX6_readsSaver_0 18 rfl rfl)
theorem dX6_readsSaver_19 : decode cX6_readsSaver 19 = .ok (.iload_n 2, 1) := dk_28 (dk_at dksX6_readsSaver_0 19 rfl rfl)
theorem dX6_readsSaver_20 : decode cX6_readsSaver 20 = .ok (.iconst 2, 1) := dk_5 (dk_at dksX6_readsSaver_0 20 rfl rfl)
theorem dX6_readsSaver_21 : decode cX6_readsSaver 21 = .ok (.iadd, 1) := dk_96 (dk_at dksX6_readsSaver_0 21 rfl rfl)
theorem dX6_readsSaver_22 : decode cX6_readsSaver 22 = .ok (.invokevirtual 119, 3) := dk_182 0 119 (dk_at dksX6_readsSaver_1 0 rfl rfl)
theorem dX6_readsSaver_25 : decode cX6_readsSaver 25 = .ok (.istore 5, 2) := dk_54 5 (dk_at dksX6_readsSaver_1 3 rfl rfl)
theorem dX6_readsSaver_27 : decode cX6_readsSaver 27 = .ok (.iload_n 3, 1) := dk_29 (dk_at dksX6_readsSaver_1 5 rfl rfl)
theorem dX6_readsSaver_28 : decode cX6_readsSaver 28 = .ok (.iconst (-1), 1) := dk_2 (dk_at dksX6_readsSaver_1 6 rfl rfl)
theorem dX6_readsSaver_29 : decode cX6_readsSaver 29 = .ok (.if_icmp .ne 5, 3) := dk_160 0 5 (dk_at dksX6_readsSaver_1 7 rfl rfl)
theorem dX6_readsSaver_32 : decode cX6_readsSaver 32 = .ok (.iconst 0, 1) := dk_3 (dk_at dksX6_readsSaver_1 10 rfl rfl)
theorem dX6_readsSaver_33 : decode cX6_readsSaver 33 = .ok (.ireturn, 1) := dk_172 (dk_at dksX6_readsSaver_1 11 rfl rfl)
theorem dX6_readsSaver_34 : decode cX6_readsSaver 34 = .ok (.iload 4, 2) := dk_21 4 (dk_at dksX6_readsSaver_1 12 rfl rfl)
theorem dX6_readsSaver_36 : decode cX6_readsSaver 36 = .ok (.bipush 100, 2) := dk_16 100 (dk_at dksX6_readsSaver_1 14 rfl rfl)
theorem dX6_readsSaver_38 : decode cX6_readsSaver 38 = .ok (.if_icmp .eq 12, 3) := dk_159 0 12 (dk_at dksX6_readsSaver_1 16 rfl rfl)
theorem dX6_readsSaver_41 : decode cX6_readsSaver 41 = .ok (.iload 4, 2) := dk_21 4 (dk_at dksX6_readsSaver_1 19 rfl rfl)
theorem dX6_readsSaver_43 : decode cX6_readsSaver 43 = .ok (.bipush 107, 2) := dk_16 107 (dk_at dksX6_readsSaver_1 21 rfl rfl)
theorem dX6_readsSaver_45 : decode cX6_readsSaver 45 = .ok (.if_icmp .eq 5, 3) := dk_159 0 5 (dk_at dksX6_readsSaver_2 0 rfl rfl)
theorem dX6_readsSaver_48 : decode cX6_readsSaver 48 = .ok (.iconst 1, 1) := dk_4 (dk_at dksX6_readsSaver_2 3 rfl rfl)
theorem dX6_readsSaver_49 : decode cX6_readsSaver 49 = .ok (.ireturn, 1) := dk_172 (dk_at dksX6_readsSaver_2 4 rfl rfl)
theorem dX6_readsSaver_50 : decode cX6_readsSaver 50 = .ok (.iload 5, 2) := dk_21 5 (dk_at dksX6_readsSaver_2 5 rfl rfl)
theorem dX6_readsSaver_52 : decode cX6_readsSaver 52 = .ok (.iconst (-1), 1) := dk_2 (dk_at dksX6_readsSaver_2 7 rfl rfl)
theorem dX6_readsSaver_53 : decode cX6_readsSaver 53 = .ok (.if_icmp .ne 5, 3) := dk_160 0 5 (dk_at dksX6_readsSaver_2 8 rfl rfl)
theorem dX6_readsSaver_56 : decode cX6_readsSaver 56 = .ok (.iconst 2, 1) := dk_5 (dk_at dksX6_readsSaver_2 11 rfl rfl)
theorem dX6_readsSaver_57 : decode cX6_readsSaver 57 = .ok (.ireturn, 1) := dk_172 (dk_at dksX6_readsSaver_2 12 rfl rfl)
theorem dX6_readsSaver_58 : decode cX6_readsSaver 58 = .ok (.aload_n 0, 1) := dk_42 (dk_at dksX6_readsSaver_2 13 rfl rfl)
theorem dX6_readsSaver_59 : decode cX6_readsSaver 59 = .ok (.getfield 16, 3) := dk_180 0 16 (dk_at dksX6_readsSaver_2 14 rfl rfl)
theorem dX6_readsSaver_62 : decode cX6_readsSaver 62 = .ok (.iload_n 1, 1) := dk_27 (dk_at dksX6_readsSaver_2 17 rfl rfl)
theorem dX6_readsSaver_63 : decode cX6_readsSaver 63 = .ok (.iload_n 3, 1) := dk_29 (dk_at dksX6_readsSaver_2 18 rfl rfl)
theorem dX6_readsSaver_64 : decode cX6_readsSaver 64 = .ok (.iastore, 1) := dk_79 (dk_at dksX6_readsSaver_2 19 rfl rfl)
theorem dX6_readsSaver_65 : decode cX6_readsSaver 65 = .ok (.aload_n 0, 1) := dk_42 (dk_at dksX6_readsSaver_2 20 rfl rfl)
theorem dX6_readsSaver_66 : decode cX6_readsSaver 66 = .ok (.getfield 19, 3) := dk_180 0 19 (dk_at dksX6_readsSaver_2 21 rfl rfl)
theorem dX6_readsSaver_69 : decode cX6_readsSaver 69 = .ok (.iload_n 1, 1) := dk_27 (dk_at dksX6_readsSaver_3 0 rfl rfl)
theorem dX6_readsSaver_70 : decode cX6_readsSaver 70 = .ok (.iload 4, 2) := dk_21 4 (dk_at dksX6_readsSaver_3 1 rfl rfl)
theorem dX6_readsSaver_72 : decode cX6_readsSaver 72 = .ok (.bipush 107, 2) := dk_16 107 (dk_at dksX6_readsSaver_3 3 rfl rfl)
theorem dX6_readsSaver_74 : decode cX6_readsSaver 74 = .ok (.if_icmp .ne 7, 3) := dk_160 0 7 (dk_at dksX6_readsSaver_3 5 rfl rfl)
theorem dX6_readsSaver_77 : decode cX6_readsSaver 77 = .ok (.iconst 1, 1) := dk_4 (dk_at dksX6_readsSaver_3 8 rfl rfl)
theorem dX6_readsSaver_78 : decode cX6_readsSaver 78 = .ok (.goto 4, 3) := dk_167 0 4 (dk_at dksX6_readsSaver_3 9 rfl rfl)
theorem dX6_readsSaver_81 : decode cX6_readsSaver 81 = .ok (.iconst 0, 1) := dk_3 (dk_at dksX6_readsSaver_3 12 rfl rfl)
theorem dX6_readsSaver_82 : decode cX6_readsSaver 82 = .ok (.iastore, 1) := dk_79 (dk_at dksX6_readsSaver_3 13 rfl rfl)
theorem dX6_readsSaver_83 : decode cX6_readsSaver 83 = .ok (.aload_n 0, 1) := dk_42 (dk_at dksX6_readsSaver_3 14 rfl rfl)
theorem dX6_readsSaver_84 : decode cX6_readsSaver 84 = .ok (.getfield 22, 3) := dk_180 0 22 (dk_at dksX6_readsSaver_3 15 rfl rfl)
theorem dX6_readsSaver_87 : decode cX6_readsSaver 87 = .ok (.iload_n 1, 1) := dk_27 (dk_at dksX6_readsSaver_3 18 rfl rfl)
theorem dX6_readsSaver_88 : decode cX6_readsSaver 88 = .ok (.iload 5, 2) := dk_21 5 (dk_at dksX6_readsSaver_3 19 rfl rfl)
theorem dX6_readsSaver_90 : decode cX6_readsSaver 90 = .ok (.iastore, 1) := dk_79 (dk_at dksX6_readsSaver_3 21 rfl rfl)
theorem dX6_readsSaver_91 : decode cX6_readsSaver 91 = .ok (.iconst 3, 1) := dk_6 (dk_at dksX6_readsSaver_3 22 rfl rfl)
theorem dX6_readsSaver_92 : decode cX6_readsSaver 92 = .ok (.ireturn, 1) := dk_172 (dk_at dksX6_readsSaver_3 23 rfl rfl)
abbrev cX6_figureAt : ByteArray := prog_14_method_13_code
def yX6_figureAt : MethodName := ⟨RX6, "figureAt", "(II)I"⟩
def dkwX6_figureAt_1 : List UInt8 := [2, 172]
abbrev dktX6_figureAt_1 : List UInt8 := dkwX6_figureAt_1 ++ []
def dkwX6_figureAt_0 : List UInt8 := [42, 27, 28, 182, 0, 112, 16, 48, 100, 62, 29, 3, 16, 9, 184, 0, 104, 153, 0, 7, 29, 167, 0, 4]
abbrev dktX6_figureAt_0 : List UInt8 := dkwX6_figureAt_0 ++ dktX6_figureAt_1
theorem dksX6_figureAt_0 : cX6_figureAt.data.toList.drop 0 = dktX6_figureAt_0 := by decide +kernel
theorem dksX6_figureAt_1 : cX6_figureAt.data.toList.drop 24 = dktX6_figureAt_1 := dk_seg dksX6_figureAt_0 24 rfl rfl
theorem dX6_figureAt_0 : decode cX6_figureAt 0 = .ok (.aload_n 0, 1) := dk_42 (dk_at dksX6_figureAt_0 0 rfl rfl)
theorem dX6_figureAt_1 : decode cX6_figureAt 1 = .ok (.iload_n 1, 1) := dk_27 (dk_at dksX6_figureAt_0 1 rfl rfl)
theorem dX6_figureAt_2 : decode cX6_figureAt 2 = .ok (.iload_n 2, 1) := dk_28 (dk_at dksX6_figureAt_0 2 rfl rfl)
theorem dX6_figureAt_3 : decode cX6_figureAt 3 = .ok (.invokevirtual 112, 3) := dk_182 0 112 (dk_at dksX6_figureAt_0 3 rfl rfl)
theorem dX6_figureAt_6 : decode cX6_figureAt 6 = .ok (.bipush 48, 2) := dk_16 48 (dk_at dksX6_figureAt_0 6 rfl rfl)
theorem dX6_figureAt_8 : decode cX6_figureAt 8 = .ok (.isub, 1) := dk_100 (dk_at dksX6_figureAt_0 8 rfl rfl)
theorem dX6_figureAt_9 : decode cX6_figureAt 9 = .ok (.istore_n 3, 1) := dk_62 (dk_at dksX6_figureAt_0 9 rfl rfl)
theorem dX6_figureAt_10 : decode cX6_figureAt 10 = .ok (.iload_n 3, 1) := dk_29 (dk_at dksX6_figureAt_0 10 rfl rfl)
theorem dX6_figureAt_11 : decode cX6_figureAt 11 = .ok (.iconst 0, 1) := dk_3 (dk_at dksX6_figureAt_0 11 rfl rfl)
theorem dX6_figureAt_12 : decode cX6_figureAt 12 = .ok (.bipush 9, 2) := dk_16 9 (dk_at dksX6_figureAt_0 12 rfl rfl)
theorem dX6_figureAt_14 : decode cX6_figureAt 14 = .ok (.invokestatic 104, 3) := dk_184 0 104 (dk_at dksX6_figureAt_0 14 rfl rfl)
theorem dX6_figureAt_17 : decode cX6_figureAt 17 = .ok (.ifCond .eq 7, 3) := dk_153 0 7 (dk_at dksX6_figureAt_0 17 rfl rfl)
theorem dX6_figureAt_20 : decode cX6_figureAt 20 = .ok (.iload_n 3, 1) := dk_29 (dk_at dksX6_figureAt_0 20 rfl rfl)
theorem dX6_figureAt_21 : decode cX6_figureAt 21 = .ok (.goto 4, 3) := dk_167 0 4 (dk_at dksX6_figureAt_0 21 rfl rfl)
theorem dX6_figureAt_24 : decode cX6_figureAt 24 = .ok (.iconst (-1), 1) := dk_2 (dk_at dksX6_figureAt_1 0 rfl rfl)
theorem dX6_figureAt_25 : decode cX6_figureAt 25 = .ok (.ireturn, 1) := dk_172 (dk_at dksX6_figureAt_1 1 rfl rfl)
abbrev cX6_byteAt : ByteArray := prog_14_method_12_code
def yX6_byteAt : MethodName := ⟨RX6, "byteAt", "(II)I"⟩
def dkwX6_byteAt_1 : List UInt8 := [2, 172]
abbrev dktX6_byteAt_1 : List UInt8 := dkwX6_byteAt_1 ++ []
def dkwX6_byteAt_0 : List UInt8 := [28, 42, 180, 0, 7, 27, 46, 162, 0, 17, 42, 180, 0, 13, 16, 31, 27, 104, 28, 96, 46, 167, 0, 4]
abbrev dktX6_byteAt_0 : List UInt8 := dkwX6_byteAt_0 ++ dktX6_byteAt_1
theorem dksX6_byteAt_0 : cX6_byteAt.data.toList.drop 0 = dktX6_byteAt_0 := by decide +kernel
theorem dksX6_byteAt_1 : cX6_byteAt.data.toList.drop 24 = dktX6_byteAt_1 := dk_seg dksX6_byteAt_0 24 rfl rfl
theorem dX6_byteAt_0 : decode cX6_byteAt 0 = .ok (.iload_n 2, 1) := dk_28 (dk_at dksX6_byteAt_0 0 rfl rfl)
theorem dX6_byteAt_1 : decode cX6_byteAt 1 = .ok (.aload_n 0, 1) := dk_42 (dk_at dksX6_byteAt_0 1 rfl rfl)
theorem dX6_byteAt_2 : decode cX6_byteAt 2 = .ok (.getfield 7, 3) := dk_180 0 7 (dk_at dksX6_byteAt_0 2 rfl rfl)
theorem dX6_byteAt_5 : decode cX6_byteAt 5 = .ok (.iload_n 1, 1) := dk_27 (dk_at dksX6_byteAt_0 5 rfl rfl)
theorem dX6_byteAt_6 : decode cX6_byteAt 6 = .ok (.iaload, 1) := dk_46 (dk_at dksX6_byteAt_0 6 rfl rfl)
theorem dX6_byteAt_7 : decode cX6_byteAt 7 = .ok (.if_icmp .ge 17, 3) := dk_162 0 17 (dk_at dksX6_byteAt_0 7 rfl rfl)
theorem dX6_byteAt_10 : decode cX6_byteAt 10 = .ok (.aload_n 0, 1) := dk_42 (dk_at dksX6_byteAt_0 10 rfl rfl)
theorem dX6_byteAt_11 : decode cX6_byteAt 11 = .ok (.getfield 13, 3) := dk_180 0 13 (dk_at dksX6_byteAt_0 11 rfl rfl)
theorem dX6_byteAt_14 : decode cX6_byteAt 14 = .ok (.bipush 31, 2) := dk_16 31 (dk_at dksX6_byteAt_0 14 rfl rfl)
theorem dX6_byteAt_16 : decode cX6_byteAt 16 = .ok (.iload_n 1, 1) := dk_27 (dk_at dksX6_byteAt_0 16 rfl rfl)
theorem dX6_byteAt_17 : decode cX6_byteAt 17 = .ok (.imul, 1) := dk_104 (dk_at dksX6_byteAt_0 17 rfl rfl)
theorem dX6_byteAt_18 : decode cX6_byteAt 18 = .ok (.iload_n 2, 1) := dk_28 (dk_at dksX6_byteAt_0 18 rfl rfl)
theorem dX6_byteAt_19 : decode cX6_byteAt 19 = .ok (.iadd, 1) := dk_96 (dk_at dksX6_byteAt_0 19 rfl rfl)
theorem dX6_byteAt_20 : decode cX6_byteAt 20 = .ok (.iaload, 1) := dk_46 (dk_at dksX6_byteAt_0 20 rfl rfl)
theorem dX6_byteAt_21 : decode cX6_byteAt 21 = .ok (.goto 4, 3) := dk_167 0 4 (dk_at dksX6_byteAt_0 21 rfl rfl)
theorem dX6_byteAt_24 : decode cX6_byteAt 24 = .ok (.iconst (-1), 1) := dk_2 (dk_at dksX6_byteAt_1 0 rfl rfl)
theorem dX6_byteAt_25 : decode cX6_byteAt 25 = .ok (.ireturn, 1) := dk_172 (dk_at dksX6_byteAt_1 1 rfl rfl)
abbrev cX6_letterAt : ByteArray := prog_14_method_14_code
def yX6_letterAt : MethodName := ⟨RX6, "letterAt", "(II)I"⟩
def dkwX6_letterAt_1 : List UInt8 := [172]
abbrev dktX6_letterAt_1 : List UInt8 := dkwX6_letterAt_1 ++ []
def dkwX6_letterAt_0 : List UInt8 := [42, 27, 28, 182, 0, 112, 16, 97, 100, 62, 29, 3, 6, 184, 0, 104, 153, 0, 7, 29, 167, 0, 4, 2]
abbrev dktX6_letterAt_0 : List UInt8 := dkwX6_letterAt_0 ++ dktX6_letterAt_1
theorem dksX6_letterAt_0 : cX6_letterAt.data.toList.drop 0 = dktX6_letterAt_0 := by decide +kernel
theorem dksX6_letterAt_1 : cX6_letterAt.data.toList.drop 24 = dktX6_letterAt_1 := dk_seg dksX6_letterAt_0 24 rfl rfl
theorem dX6_letterAt_0 : decode cX6_letterAt 0 = .ok (.aload_n 0, 1) := dk_42 (dk_at dksX6_letterAt_0 0 rfl rfl)
theorem dX6_letterAt_1 : decode cX6_letterAt 1 = .ok (.iload_n 1, 1) := dk_27 (dk_at dksX6_letterAt_0 1 rfl rfl)
theorem dX6_letterAt_2 : decode cX6_letterAt 2 = .ok (.iload_n 2, 1) := dk_28 (dk_at dksX6_letterAt_0 2 rfl rfl)
theorem dX6_letterAt_3 : decode cX6_letterAt 3 = .ok (.invokevirtual 112, 3) := dk_182 0 112 (dk_at dksX6_letterAt_0 3 rfl rfl)
theorem dX6_letterAt_6 : decode cX6_letterAt 6 = .ok (.bipush 97, 2) := dk_16 97 (dk_at dksX6_letterAt_0 6 rfl rfl)
theorem dX6_letterAt_8 : decode cX6_letterAt 8 = .ok (.isub, 1) := dk_100 (dk_at dksX6_letterAt_0 8 rfl rfl)
theorem dX6_letterAt_9 : decode cX6_letterAt 9 = .ok (.istore_n 3, 1) := dk_62 (dk_at dksX6_letterAt_0 9 rfl rfl)
theorem dX6_letterAt_10 : decode cX6_letterAt 10 = .ok (.iload_n 3, 1) := dk_29 (dk_at dksX6_letterAt_0 10 rfl rfl)
theorem dX6_letterAt_11 : decode cX6_letterAt 11 = .ok (.iconst 0, 1) := dk_3 (dk_at dksX6_letterAt_0 11 rfl rfl)
theorem dX6_letterAt_12 : decode cX6_letterAt 12 = .ok (.iconst 3, 1) := dk_6 (dk_at dksX6_letterAt_0 12 rfl rfl)
theorem dX6_letterAt_13 : decode cX6_letterAt 13 = .ok (.invokestatic 104, 3) := dk_184 0 104 (dk_at dksX6_letterAt_0 13 rfl rfl)
theorem dX6_letterAt_16 : decode cX6_letterAt 16 = .ok (.ifCond .eq 7, 3) := dk_153 0 7 (dk_at dksX6_letterAt_0 16 rfl rfl)
theorem dX6_letterAt_19 : decode cX6_letterAt 19 = .ok (.iload_n 3, 1) := dk_29 (dk_at dksX6_letterAt_0 19 rfl rfl)
theorem dX6_letterAt_20 : decode cX6_letterAt 20 = .ok (.goto 4, 3) := dk_167 0 4 (dk_at dksX6_letterAt_0 20 rfl rfl)
theorem dX6_letterAt_23 : decode cX6_letterAt 23 = .ok (.iconst (-1), 1) := dk_2 (dk_at dksX6_letterAt_0 23 rfl rfl)
theorem dX6_letterAt_24 : decode cX6_letterAt 24 = .ok (.ireturn, 1) := dk_172 (dk_at dksX6_letterAt_1 0 rfl rfl)
abbrev cX6_readsPartner : ByteArray := prog_14_method_16_code
def yX6_readsPartner : MethodName := ⟨RX6, "readsPartner", "(II)I"⟩
def dkwX6_readsPartner_2 : List UInt8 := [172]
abbrev dktX6_readsPartner_2 : List UInt8 := dkwX6_readsPartner_2 ++ []
def dkwX6_readsPartner_1 : List UInt8 := [21, 4, 2, 160, 0, 5, 4, 172, 42, 180, 0, 25, 27, 29, 79, 42, 180, 0, 28, 27, 21, 4, 79, 5]
abbrev dktX6_readsPartner_1 : List UInt8 := dkwX6_readsPartner_1 ++ dktX6_readsPartner_2
def dkwX6_readsPartner_0 : List UInt8 := [42, 4, 28, 182, 0, 116, 62, 42, 4, 28, 4, 96, 182, 0, 119, 54, 4, 29, 2, 160, 0, 5, 3, 172]
abbrev dktX6_readsPartner_0 : List UInt8 := dkwX6_readsPartner_0 ++ dktX6_readsPartner_1
theorem dksX6_readsPartner_0 : cX6_readsPartner.data.toList.drop 0 = dktX6_readsPartner_0 := by decide +kernel
theorem dksX6_readsPartner_1 : cX6_readsPartner.data.toList.drop 24 = dktX6_readsPartner_1 := dk_seg dksX6_readsPartner_0 24 rfl rfl
theorem dksX6_readsPartner_2 : cX6_readsPartner.data.toList.drop 48 = dktX6_readsPartner_2 := dk_seg dksX6_readsPartner_1 24 rfl rfl
theorem dX6_readsPartner_0 : decode cX6_readsPartner 0 = .ok (.aload_n 0, 1) := dk_42 (dk_at dksX6_readsPartner_0 0 rfl rfl)
theorem dX6_readsPartner_1 : decode cX6_readsPartner 1 = .ok (.iconst 1, 1) := dk_4 (dk_at dksX6_readsPartner_0 1 rfl rfl)
theorem dX6_readsPartner_2 : decode cX6_readsPartner 2 = .ok (.iload_n 2, 1) := dk_28 (dk_at dksX6_readsPartner_0 2 rfl rfl)
theorem dX6_readsPartner_3 : decode cX6_readsPartner 3 = .ok (.invokevirtual 116, 3) := dk_182 0 116 (dk_at dksX6_readsPartner_0 3 rfl rfl)
theorem dX6_readsPartner_6 : decode cX6_readsPartner 6 = .ok (.istore_n 3, 1) := dk_62 (dk_at dksX6_readsPartner_0 6 rfl rfl)
theorem dX6_readsPartner_7 : decode cX6_readsPartner 7 = .ok (.aload_n 0, 1) := dk_42 (dk_at dksX6_readsPartner_0 7 rfl rfl)
theorem dX6_readsPartner_8 : decode cX6_readsPartner 8 = .ok (.iconst 1, 1) := dk_4 (dk_at dksX6_readsPartner_0 8 rfl rfl)
theorem dX6_readsPartner_9 : decode cX6_readsPartner 9 = .ok (.iload_n 2, 1) := dk_28 (dk_at dksX6_readsPartner_0 9 rfl rfl)
theorem dX6_readsPartner_10 : decode cX6_readsPartner 10 = .ok (.iconst 1, 1) := dk_4 (dk_at dksX6_readsPartner_0 10 rfl rfl)
theorem dX6_readsPartner_11 : decode cX6_readsPartner 11 = .ok (.iadd, 1) := dk_96 (dk_at dksX6_readsPartner_0 11 rfl rfl)
theorem dX6_readsPartner_12 : decode cX6_readsPartner 12 = .ok (.invokevirtual 119, 3) := dk_182 0 119 (dk_at dksX6_readsPartner_0 12 rfl rfl)
theorem dX6_readsPartner_15 : decode cX6_readsPartner 15 = .ok (.istore 4, 2) := dk_54 4 (dk_at dksX6_readsPartner_0 15 rfl rfl)
theorem dX6_readsPartner_17 : decode cX6_readsPartner 17 = .ok (.iload_n 3, 1) := dk_29 (dk_at dksX6_readsPartner_0 17 rfl rfl)
theorem dX6_readsPartner_18 : decode cX6_readsPartner 18 = .ok (.iconst (-1), 1) := dk_2 (dk_at dksX6_readsPartner_0 18 rfl rfl)
theorem dX6_readsPartner_19 : decode cX6_readsPartner 19 = .ok (.if_icmp .ne 5, 3) := dk_160 0 5 (dk_at dksX6_readsPartner_0 19 rfl rfl)
theorem dX6_readsPartner_22 : decode cX6_readsPartner 22 = .ok (.iconst 0, 1) := dk_3 (dk_at dksX6_readsPartner_0 22 rfl rfl)
theorem dX6_readsPartner_23 : decode cX6_readsPartner 23 = .ok (.ireturn, 1) := dk_172 (dk_at dksX6_readsPartner_0 23 rfl rfl)
theorem dX6_readsPartner_24 : decode cX6_readsPartner 24 = .ok (.iload 4, 2) := dk_21 4 (dk_at dksX6_readsPartner_1 0 rfl rfl)
theorem dX6_readsPartner_26 : decode cX6_readsPartner 26 = .ok (.iconst (-1), 1) := dk_2 (dk_at dksX6_readsPartner_1 2 rfl rfl)
theorem dX6_readsPartner_27 : decode cX6_readsPartner 27 = .ok (.if_icmp .ne 5, 3) := dk_160 0 5 (dk_at dksX6_readsPartner_1 3 rfl rfl)
theorem dX6_readsPartner_30 : decode cX6_readsPartner 30 = .ok (.iconst 1, 1) := dk_4 (dk_at dksX6_readsPartner_1 6 rfl rfl)
theorem dX6_readsPartner_31 : decode cX6_readsPartner 31 = .ok (.ireturn, 1) := dk_172 (dk_at dksX6_readsPartner_1 7 rfl rfl)
theorem dX6_readsPartner_32 : decode cX6_readsPartner 32 = .ok (.aload_n 0, 1) := dk_42 (dk_at dksX6_readsPartner_1 8 rfl rfl)
theorem dX6_readsPartner_33 : decode cX6_readsPartner 33 = .ok (.getfield 25, 3) := dk_180 0 25 (dk_at dksX6_readsPartner_1 9 rfl rfl)
theorem dX6_readsPartner_36 : decode cX6_readsPartner 36 = .ok (.iload_n 1, 1) := dk_27 (dk_at dksX6_readsPartner_1 12 rfl rfl)
theorem dX6_readsPartner_37 : decode cX6_readsPartner 37 = .ok (.iload_n 3, 1) := dk_29 (dk_at dksX6_readsPartner_1 13 rfl rfl)
theorem dX6_readsPartner_38 : decode cX6_readsPartner 38 = .ok (.iastore, 1) := dk_79 (dk_at dksX6_readsPartner_1 14 rfl rfl)
theorem dX6_readsPartner_39 : decode cX6_readsPartner 39 = .ok (.aload_n 0, 1) := dk_42 (dk_at dksX6_readsPartner_1 15 rfl rfl)
theorem dX6_readsPartner_40 : decode cX6_readsPartner 40 = .ok (.getfield 28, 3) := dk_180 0 28 (dk_at dksX6_readsPartner_1 16 rfl rfl)
theorem dX6_readsPartner_43 : decode cX6_readsPartner 43 = .ok (.iload_n 1, 1) := dk_27 (dk_at dksX6_readsPartner_1 19 rfl rfl)
theorem dX6_readsPartner_44 : decode cX6_readsPartner 44 = .ok (.iload 4, 2) := dk_21 4 (dk_at dksX6_readsPartner_1 20 rfl rfl)
theorem dX6_readsPartner_46 : decode cX6_readsPartner 46 = .ok (.iastore, 1) := dk_79 (dk_at dksX6_readsPartner_1 22 rfl rfl)
theorem dX6_readsPartner_47 : decode cX6_readsPartner 47 = .ok (.iconst 2, 1) := dk_5 (dk_at dksX6_readsPartner_1 23 rfl rfl)
theorem dX6_readsPartner_48 : decode cX6_readsPartner 48 = .ok (.ireturn, 1) := dk_172 (dk_at dksX6_readsPartner_2 0 rfl rfl)
abbrev cX6_saver : ByteArray := prog_14_method_24_code
def yX6_saver : MethodName := ⟨RX6, "saver", "(II)I"⟩
def dkwX6_saver_1 : List UInt8 := [167, 0, 5, 16, 254, 172]
abbrev dktX6_saver_1 : List UInt8 := dkwX6_saver_1 ++ []
def dkwX6_saver_0 : List UInt8 := [42, 27, 182, 0, 144, 153, 0, 21, 28, 3, 5, 184, 0, 104, 153, 0, 12, 42, 27, 28, 182, 0, 147]
abbrev dktX6_saver_0 : List UInt8 := dkwX6_saver_0 ++ dktX6_saver_1
theorem dksX6_saver_0 : cX6_saver.data.toList.drop 0 = dktX6_saver_0 := by decide +kernel
theorem dksX6_saver_1 : cX6_saver.data.toList.drop 23 = dktX6_saver_1 := dk_seg dksX6_saver_0 23 rfl rfl
theorem dX6_saver_0 : decode cX6_saver 0 = .ok (.aload_n 0, 1) := dk_42 (dk_at dksX6_saver_0 0 rfl rfl)
theorem dX6_saver_1 : decode cX6_saver 1 = .ok (.iload_n 1, 1) := dk_27 (dk_at dksX6_saver_0 1 rfl rfl)
theorem dX6_saver_2 : decode cX6_saver 2 = .ok (.invokevirtual 144, 3) := dk_182 0 144 (dk_at dksX6_saver_0 2 rfl rfl)
theorem dX6_saver_5 : decode cX6_saver 5 = .ok (.ifCond .eq 21, 3) := dk_153 0 21 (dk_at dksX6_saver_0 5 rfl rfl)
theorem dX6_saver_8 : decode cX6_saver 8 = .ok (.iload_n 2, 1) := dk_28 (dk_at dksX6_saver_0 8 rfl rfl)
theorem dX6_saver_9 : decode cX6_saver 9 = .ok (.iconst 0, 1) := dk_3 (dk_at dksX6_saver_0 9 rfl rfl)
theorem dX6_saver_10 : decode cX6_saver 10 = .ok (.iconst 2, 1) := dk_5 (dk_at dksX6_saver_0 10 rfl rfl)
theorem dX6_saver_11 : decode cX6_saver 11 = .ok (.invokestatic 104, 3) := dk_184 0 104 (dk_at dksX6_saver_0 11 rfl rfl)
theorem dX6_saver_14 : decode cX6_saver 14 = .ok (.ifCond .eq 12, 3) := dk_153 0 12 (dk_at dksX6_saver_0 14 rfl rfl)
theorem dX6_saver_17 : decode cX6_saver 17 = .ok (.aload_n 0, 1) := dk_42 (dk_at dksX6_saver_0 17 rfl rfl)
theorem dX6_saver_18 : decode cX6_saver 18 = .ok (.iload_n 1, 1) := dk_27 (dk_at dksX6_saver_0 18 rfl rfl)
theorem dX6_saver_19 : decode cX6_saver 19 = .ok (.iload_n 2, 1) := dk_28 (dk_at dksX6_saver_0 19 rfl rfl)
theorem dX6_saver_20 : decode cX6_saver 20 = .ok (.invokevirtual 147, 3) := dk_182 0 147 (dk_at dksX6_saver_0 20 rfl rfl)
theorem dX6_saver_23 : decode cX6_saver 23 = .ok (.goto 5, 3) := dk_167 0 5 (dk_at dksX6_saver_1 0 rfl rfl)
theorem dX6_saver_26 : decode cX6_saver 26 = .ok (.bipush (-2), 2) := dk_16 254 (dk_at dksX6_saver_1 3 rfl rfl)
theorem dX6_saver_28 : decode cX6_saver 28 = .ok (.ireturn, 1) := dk_172 (dk_at dksX6_saver_1 5 rfl rfl)
abbrev cX6_isSaver : ByteArray := prog_14_method_21_code
def yX6_isSaver : MethodName := ⟨RX6, "isSaver", "(I)Z"⟩
def dkwX6_isSaver_0 : List UInt8 := [42, 182, 0, 141, 27, 3, 42, 180, 0, 122, 4, 100, 184, 0, 104, 172]
abbrev dktX6_isSaver_0 : List UInt8 := dkwX6_isSaver_0 ++ []
theorem dksX6_isSaver_0 : cX6_isSaver.data.toList.drop 0 = dktX6_isSaver_0 := by decide +kernel
theorem dX6_isSaver_0 : decode cX6_isSaver 0 = .ok (.aload_n 0, 1) := dk_42 (dk_at dksX6_isSaver_0 0 rfl rfl)
theorem dX6_isSaver_1 : decode cX6_isSaver 1 = .ok (.invokevirtual 141, 3) := dk_182 0 141 (dk_at dksX6_isSaver_0 1 rfl rfl)
theorem dX6_isSaver_4 : decode cX6_isSaver 4 = .ok (.iload_n 1, 1) := dk_27 (dk_at dksX6_isSaver_0 4 rfl rfl)
theorem dX6_isSaver_5 : decode cX6_isSaver 5 = .ok (.iconst 0, 1) := dk_3 (dk_at dksX6_isSaver_0 5 rfl rfl)
theorem dX6_isSaver_6 : decode cX6_isSaver 6 = .ok (.aload_n 0, 1) := dk_42 (dk_at dksX6_isSaver_0 6 rfl rfl)
theorem dX6_isSaver_7 : decode cX6_isSaver 7 = .ok (.getfield 122, 3) := dk_180 0 122 (dk_at dksX6_isSaver_0 7 rfl rfl)
theorem dX6_isSaver_10 : decode cX6_isSaver 10 = .ok (.iconst 1, 1) := dk_4 (dk_at dksX6_isSaver_0 10 rfl rfl)
theorem dX6_isSaver_11 : decode cX6_isSaver 11 = .ok (.isub, 1) := dk_100 (dk_at dksX6_isSaver_0 11 rfl rfl)
theorem dX6_isSaver_12 : decode cX6_isSaver 12 = .ok (.invokestatic 104, 3) := dk_184 0 104 (dk_at dksX6_isSaver_0 12 rfl rfl)
theorem dX6_isSaver_15 : decode cX6_isSaver 15 = .ok (.ireturn, 1) := dk_172 (dk_at dksX6_isSaver_0 15 rfl rfl)
abbrev cX6_reads : ByteArray := prog_14_method_19_code
def yX6_reads : MethodName := ⟨RX6, "reads", "()V"⟩
def dkwX6_reads_0 : List UInt8 := [42, 3, 182, 0, 138, 60, 177]
abbrev dktX6_reads_0 : List UInt8 := dkwX6_reads_0 ++ []
theorem dksX6_reads_0 : cX6_reads.data.toList.drop 0 = dktX6_reads_0 := by decide +kernel
theorem dX6_reads_0 : decode cX6_reads 0 = .ok (.aload_n 0, 1) := dk_42 (dk_at dksX6_reads_0 0 rfl rfl)
theorem dX6_reads_1 : decode cX6_reads 1 = .ok (.iconst 0, 1) := dk_3 (dk_at dksX6_reads_0 1 rfl rfl)
theorem dX6_reads_2 : decode cX6_reads 2 = .ok (.invokevirtual 138, 3) := dk_182 0 138 (dk_at dksX6_reads_0 2 rfl rfl)
theorem dX6_reads_5 : decode cX6_reads 5 = .ok (.istore_n 1, 1) := dk_60 (dk_at dksX6_reads_0 5 rfl rfl)
theorem dX6_reads_6 : decode cX6_reads 6 = .ok (.return_, 1) := dk_177 (dk_at dksX6_reads_0 6 rfl rfl)
abbrev cX6_saverOf : ByteArray := prog_14_method_23_code
def yX6_saverOf : MethodName := ⟨RX6, "saverOf", "(II)I"⟩
def dkwX6_saverOf_1 : List UInt8 := [167, 0, 9, 42, 180, 0, 22, 27, 46, 172]
abbrev dktX6_saverOf_1 : List UInt8 := dkwX6_saverOf_1 ++ []
def dkwX6_saverOf_0 : List UInt8 := [28, 154, 0, 12, 42, 180, 0, 16, 27, 46, 167, 0, 23, 28, 4, 160, 0, 12, 42, 180, 0, 19, 27, 46]
abbrev dktX6_saverOf_0 : List UInt8 := dkwX6_saverOf_0 ++ dktX6_saverOf_1
theorem dksX6_saverOf_0 : cX6_saverOf.data.toList.drop 0 = dktX6_saverOf_0 := by decide +kernel
theorem dksX6_saverOf_1 : cX6_saverOf.data.toList.drop 24 = dktX6_saverOf_1 := dk_seg dksX6_saverOf_0 24 rfl rfl
theorem dX6_saverOf_0 : decode cX6_saverOf 0 = .ok (.iload_n 2, 1) := dk_28 (dk_at dksX6_saverOf_0 0 rfl rfl)
theorem dX6_saverOf_1 : decode cX6_saverOf 1 = .ok (.ifCond .ne 12, 3) := dk_154 0 12 (dk_at dksX6_saverOf_0 1 rfl rfl)
theorem dX6_saverOf_4 : decode cX6_saverOf 4 = .ok (.aload_n 0, 1) := dk_42 (dk_at dksX6_saverOf_0 4 rfl rfl)
theorem dX6_saverOf_5 : decode cX6_saverOf 5 = .ok (.getfield 16, 3) := dk_180 0 16 (dk_at dksX6_saverOf_0 5 rfl rfl)
theorem dX6_saverOf_8 : decode cX6_saverOf 8 = .ok (.iload_n 1, 1) := dk_27 (dk_at dksX6_saverOf_0 8 rfl rfl)
theorem dX6_saverOf_9 : decode cX6_saverOf 9 = .ok (.iaload, 1) := dk_46 (dk_at dksX6_saverOf_0 9 rfl rfl)
theorem dX6_saverOf_10 : decode cX6_saverOf 10 = .ok (.goto 23, 3) := dk_167 0 23 (dk_at dksX6_saverOf_0 10 rfl rfl)
theorem dX6_saverOf_13 : decode cX6_saverOf 13 = .ok (.iload_n 2, 1) := dk_28 (dk_at dksX6_saverOf_0 13 rfl rfl)
theorem dX6_saverOf_14 : decode cX6_saverOf 14 = .ok (.iconst 1, 1) := dk_4 (dk_at dksX6_saverOf_0 14 rfl rfl)
theorem dX6_saverOf_15 : decode cX6_saverOf 15 = .ok (.if_icmp .ne 12, 3) := dk_160 0 12 (dk_at dksX6_saverOf_0 15 rfl rfl)
theorem dX6_saverOf_18 : decode cX6_saverOf 18 = .ok (.aload_n 0, 1) := dk_42 (dk_at dksX6_saverOf_0 18 rfl rfl)
theorem dX6_saverOf_19 : decode cX6_saverOf 19 = .ok (.getfield 19, 3) := dk_180 0 19 (dk_at dksX6_saverOf_0 19 rfl rfl)
theorem dX6_saverOf_22 : decode cX6_saverOf 22 = .ok (.iload_n 1, 1) := dk_27 (dk_at dksX6_saverOf_0 22 rfl rfl)
theorem dX6_saverOf_23 : decode cX6_saverOf 23 = .ok (.iaload, 1) := dk_46 (dk_at dksX6_saverOf_0 23 rfl rfl)
theorem dX6_saverOf_24 : decode cX6_saverOf 24 = .ok (.goto 9, 3) := dk_167 0 9 (dk_at dksX6_saverOf_1 0 rfl rfl)
theorem dX6_saverOf_27 : decode cX6_saverOf 27 = .ok (.aload_n 0, 1) := dk_42 (dk_at dksX6_saverOf_1 3 rfl rfl)
theorem dX6_saverOf_28 : decode cX6_saverOf 28 = .ok (.getfield 22, 3) := dk_180 0 22 (dk_at dksX6_saverOf_1 4 rfl rfl)
theorem dX6_saverOf_31 : decode cX6_saverOf 31 = .ok (.iload_n 1, 1) := dk_27 (dk_at dksX6_saverOf_1 7 rfl rfl)
theorem dX6_saverOf_32 : decode cX6_saverOf 32 = .ok (.iaload, 1) := dk_46 (dk_at dksX6_saverOf_1 8 rfl rfl)
theorem dX6_saverOf_33 : decode cX6_saverOf 33 = .ok (.ireturn, 1) := dk_172 (dk_at dksX6_saverOf_1 9 rfl rfl)
abbrev cX6_partner : ByteArray := prog_14_method_25_code
def yX6_partner : MethodName := ⟨RX6, "partner", "(II)I"⟩
def dkwX6_partner_1 : List UInt8 := [180, 0, 25, 27, 46, 167, 0, 14, 42, 180, 0, 28, 27, 46, 167, 0, 5, 16, 254, 172]
abbrev dktX6_partner_1 : List UInt8 := dkwX6_partner_1 ++ []
def dkwX6_partner_0 : List UInt8 := [42, 27, 182, 0, 150, 153, 0, 34, 28, 3, 4, 184, 0, 104, 153, 0, 25, 28, 154, 0, 12, 42]
abbrev dktX6_partner_0 : List UInt8 := dkwX6_partner_0 ++ dktX6_partner_1
theorem dksX6_partner_0 : cX6_partner.data.toList.drop 0 = dktX6_partner_0 := by decide +kernel
theorem dksX6_partner_1 : cX6_partner.data.toList.drop 22 = dktX6_partner_1 := dk_seg dksX6_partner_0 22 rfl rfl
theorem dX6_partner_0 : decode cX6_partner 0 = .ok (.aload_n 0, 1) := dk_42 (dk_at dksX6_partner_0 0 rfl rfl)
theorem dX6_partner_1 : decode cX6_partner 1 = .ok (.iload_n 1, 1) := dk_27 (dk_at dksX6_partner_0 1 rfl rfl)
theorem dX6_partner_2 : decode cX6_partner 2 = .ok (.invokevirtual 150, 3) := dk_182 0 150 (dk_at dksX6_partner_0 2 rfl rfl)
theorem dX6_partner_5 : decode cX6_partner 5 = .ok (.ifCond .eq 34, 3) := dk_153 0 34 (dk_at dksX6_partner_0 5 rfl rfl)
theorem dX6_partner_8 : decode cX6_partner 8 = .ok (.iload_n 2, 1) := dk_28 (dk_at dksX6_partner_0 8 rfl rfl)
theorem dX6_partner_9 : decode cX6_partner 9 = .ok (.iconst 0, 1) := dk_3 (dk_at dksX6_partner_0 9 rfl rfl)
theorem dX6_partner_10 : decode cX6_partner 10 = .ok (.iconst 1, 1) := dk_4 (dk_at dksX6_partner_0 10 rfl rfl)
theorem dX6_partner_11 : decode cX6_partner 11 = .ok (.invokestatic 104, 3) := dk_184 0 104 (dk_at dksX6_partner_0 11 rfl rfl)
theorem dX6_partner_14 : decode cX6_partner 14 = .ok (.ifCond .eq 25, 3) := dk_153 0 25 (dk_at dksX6_partner_0 14 rfl rfl)
theorem dX6_partner_17 : decode cX6_partner 17 = .ok (.iload_n 2, 1) := dk_28 (dk_at dksX6_partner_0 17 rfl rfl)
theorem dX6_partner_18 : decode cX6_partner 18 = .ok (.ifCond .ne 12, 3) := dk_154 0 12 (dk_at dksX6_partner_0 18 rfl rfl)
theorem dX6_partner_21 : decode cX6_partner 21 = .ok (.aload_n 0, 1) := dk_42 (dk_at dksX6_partner_0 21 rfl rfl)
theorem dX6_partner_22 : decode cX6_partner 22 = .ok (.getfield 25, 3) := dk_180 0 25 (dk_at dksX6_partner_1 0 rfl rfl)
theorem dX6_partner_25 : decode cX6_partner 25 = .ok (.iload_n 1, 1) := dk_27 (dk_at dksX6_partner_1 3 rfl rfl)
theorem dX6_partner_26 : decode cX6_partner 26 = .ok (.iaload, 1) := dk_46 (dk_at dksX6_partner_1 4 rfl rfl)
theorem dX6_partner_27 : decode cX6_partner 27 = .ok (.goto 14, 3) := dk_167 0 14 (dk_at dksX6_partner_1 5 rfl rfl)
theorem dX6_partner_30 : decode cX6_partner 30 = .ok (.aload_n 0, 1) := dk_42 (dk_at dksX6_partner_1 8 rfl rfl)
theorem dX6_partner_31 : decode cX6_partner 31 = .ok (.getfield 28, 3) := dk_180 0 28 (dk_at dksX6_partner_1 9 rfl rfl)
theorem dX6_partner_34 : decode cX6_partner 34 = .ok (.iload_n 1, 1) := dk_27 (dk_at dksX6_partner_1 12 rfl rfl)
theorem dX6_partner_35 : decode cX6_partner 35 = .ok (.iaload, 1) := dk_46 (dk_at dksX6_partner_1 13 rfl rfl)
theorem dX6_partner_36 : decode cX6_partner 36 = .ok (.goto 5, 3) := dk_167 0 5 (dk_at dksX6_partner_1 14 rfl rfl)
theorem dX6_partner_39 : decode cX6_partner 39 = .ok (.bipush (-2), 2) := dk_16 254 (dk_at dksX6_partner_1 17 rfl rfl)
theorem dX6_partner_41 : decode cX6_partner 41 = .ok (.ireturn, 1) := dk_172 (dk_at dksX6_partner_1 19 rfl rfl)
abbrev cX6_isPartner : ByteArray := prog_14_method_22_code
def yX6_isPartner : MethodName := ⟨RX6, "isPartner", "(I)Z"⟩
def dkwX6_isPartner_0 : List UInt8 := [42, 182, 0, 141, 27, 3, 42, 180, 0, 125, 4, 100, 184, 0, 104, 172]
abbrev dktX6_isPartner_0 : List UInt8 := dkwX6_isPartner_0 ++ []
theorem dksX6_isPartner_0 : cX6_isPartner.data.toList.drop 0 = dktX6_isPartner_0 := by decide +kernel
theorem dX6_isPartner_0 : decode cX6_isPartner 0 = .ok (.aload_n 0, 1) := dk_42 (dk_at dksX6_isPartner_0 0 rfl rfl)
theorem dX6_isPartner_1 : decode cX6_isPartner 1 = .ok (.invokevirtual 141, 3) := dk_182 0 141 (dk_at dksX6_isPartner_0 1 rfl rfl)
theorem dX6_isPartner_4 : decode cX6_isPartner 4 = .ok (.iload_n 1, 1) := dk_27 (dk_at dksX6_isPartner_0 4 rfl rfl)
theorem dX6_isPartner_5 : decode cX6_isPartner 5 = .ok (.iconst 0, 1) := dk_3 (dk_at dksX6_isPartner_0 5 rfl rfl)
theorem dX6_isPartner_6 : decode cX6_isPartner 6 = .ok (.aload_n 0, 1) := dk_42 (dk_at dksX6_isPartner_0 6 rfl rfl)
theorem dX6_isPartner_7 : decode cX6_isPartner 7 = .ok (.getfield 125, 3) := dk_180 0 125 (dk_at dksX6_isPartner_0 7 rfl rfl)
theorem dX6_isPartner_10 : decode cX6_isPartner 10 = .ok (.iconst 1, 1) := dk_4 (dk_at dksX6_isPartner_0 10 rfl rfl)
theorem dX6_isPartner_11 : decode cX6_isPartner 11 = .ok (.isub, 1) := dk_100 (dk_at dksX6_isPartner_0 11 rfl rfl)
theorem dX6_isPartner_12 : decode cX6_isPartner 12 = .ok (.invokestatic 104, 3) := dk_184 0 104 (dk_at dksX6_isPartner_0 12 rfl rfl)
theorem dX6_isPartner_15 : decode cX6_isPartner 15 = .ok (.ireturn, 1) := dk_172 (dk_at dksX6_isPartner_0 15 rfl rfl)
abbrev cX6_set : ByteArray := prog_14_method_26_code
def yX6_set : MethodName := ⟨RX6, "set", "(II)I"⟩
def dkwX6_set_3 : List UInt8 := [167, 0, 7, 42, 180, 0, 99, 181, 0, 99, 29, 172]
abbrev dktX6_set_3 : List UInt8 := dkwX6_set_3 ++ []
def dkwX6_set_2 : List UInt8 := [62, 42, 27, 154, 0, 7, 28, 167, 0, 7, 42, 180, 0, 95, 181, 0, 95, 42, 27, 4, 160, 0, 7, 28]
abbrev dktX6_set_2 : List UInt8 := dkwX6_set_2 ++ dktX6_set_3
def dkwX6_set_1 : List UInt8 := [184, 0, 104, 154, 0, 6, 16, 254, 172, 27, 154, 0, 10, 42, 180, 0, 95, 167, 0, 7, 42, 180, 0, 99]
abbrev dktX6_set_1 : List UInt8 := dkwX6_set_1 ++ dktX6_set_2
def dkwX6_set_0 : List UInt8 := [27, 3, 4, 184, 0, 104, 153, 0, 23, 28, 3, 27, 154, 0, 8, 16, 9, 167, 0, 6, 17, 3, 231]
abbrev dktX6_set_0 : List UInt8 := dkwX6_set_0 ++ dktX6_set_1
theorem dksX6_set_0 : cX6_set.data.toList.drop 0 = dktX6_set_0 := by decide +kernel
theorem dksX6_set_1 : cX6_set.data.toList.drop 23 = dktX6_set_1 := dk_seg dksX6_set_0 23 rfl rfl
theorem dksX6_set_2 : cX6_set.data.toList.drop 47 = dktX6_set_2 := dk_seg dksX6_set_1 24 rfl rfl
theorem dksX6_set_3 : cX6_set.data.toList.drop 71 = dktX6_set_3 := dk_seg dksX6_set_2 24 rfl rfl
theorem dX6_set_0 : decode cX6_set 0 = .ok (.iload_n 1, 1) := dk_27 (dk_at dksX6_set_0 0 rfl rfl)
theorem dX6_set_1 : decode cX6_set 1 = .ok (.iconst 0, 1) := dk_3 (dk_at dksX6_set_0 1 rfl rfl)
theorem dX6_set_2 : decode cX6_set 2 = .ok (.iconst 1, 1) := dk_4 (dk_at dksX6_set_0 2 rfl rfl)
theorem dX6_set_3 : decode cX6_set 3 = .ok (.invokestatic 104, 3) := dk_184 0 104 (dk_at dksX6_set_0 3 rfl rfl)
theorem dX6_set_6 : decode cX6_set 6 = .ok (.ifCond .eq 23, 3) := dk_153 0 23 (dk_at dksX6_set_0 6 rfl rfl)
theorem dX6_set_9 : decode cX6_set 9 = .ok (.iload_n 2, 1) := dk_28 (dk_at dksX6_set_0 9 rfl rfl)
theorem dX6_set_10 : decode cX6_set 10 = .ok (.iconst 0, 1) := dk_3 (dk_at dksX6_set_0 10 rfl rfl)
theorem dX6_set_11 : decode cX6_set 11 = .ok (.iload_n 1, 1) := dk_27 (dk_at dksX6_set_0 11 rfl rfl)
theorem dX6_set_12 : decode cX6_set 12 = .ok (.ifCond .ne 8, 3) := dk_154 0 8 (dk_at dksX6_set_0 12 rfl rfl)
theorem dX6_set_15 : decode cX6_set 15 = .ok (.bipush 9, 2) := dk_16 9 (dk_at dksX6_set_0 15 rfl rfl)
theorem dX6_set_17 : decode cX6_set 17 = .ok (.goto 6, 3) := dk_167 0 6 (dk_at dksX6_set_0 17 rfl rfl)
theorem dX6_set_20 : decode cX6_set 20 = .ok (.sipush 999, 3) := dk_17 3 231 (dk_at dksX6_set_0 20 rfl rfl)
theorem dX6_set_23 : decode cX6_set 23 = .ok (.invokestatic 104, 3) := dk_184 0 104 (dk_at dksX6_set_1 0 rfl rfl)
theorem dX6_set_26 : decode cX6_set 26 = .ok (.ifCond .ne 6, 3) := dk_154 0 6 (dk_at dksX6_set_1 3 rfl rfl)
theorem dX6_set_29 : decode cX6_set 29 = .ok (.bipush (-2), 2) := dk_16 254 (dk_at dksX6_set_1 6 rfl rfl)
theorem dX6_set_31 : decode cX6_set 31 = .ok (.ireturn, 1) := dk_172 (dk_at dksX6_set_1 8 rfl rfl)
theorem dX6_set_32 : decode cX6_set 32 = .ok (.iload_n 1, 1) := dk_27 (dk_at dksX6_set_1 9 rfl rfl)
theorem dX6_set_33 : decode cX6_set 33 = .ok (.ifCond .ne 10, 3) := dk_154 0 10 (dk_at dksX6_set_1 10 rfl rfl)
theorem dX6_set_36 : decode cX6_set 36 = .ok (.aload_n 0, 1) := dk_42 (dk_at dksX6_set_1 13 rfl rfl)
theorem dX6_set_37 : decode cX6_set 37 = .ok (.getfield 95, 3) := dk_180 0 95 (dk_at dksX6_set_1 14 rfl rfl)
theorem dX6_set_40 : decode cX6_set 40 = .ok (.goto 7, 3) := dk_167 0 7 (dk_at dksX6_set_1 17 rfl rfl)
theorem dX6_set_43 : decode cX6_set 43 = .ok (.aload_n 0, 1) := dk_42 (dk_at dksX6_set_1 20 rfl rfl)
theorem dX6_set_44 : decode cX6_set 44 = .ok (.getfield 99, 3) := dk_180 0 99 (dk_at dksX6_set_1 21 rfl rfl)
theorem dX6_set_47 : decode cX6_set 47 = .ok (.istore_n 3, 1) := dk_62 (dk_at dksX6_set_2 0 rfl rfl)
theorem dX6_set_48 : decode cX6_set 48 = .ok (.aload_n 0, 1) := dk_42 (dk_at dksX6_set_2 1 rfl rfl)
theorem dX6_set_49 : decode cX6_set 49 = .ok (.iload_n 1, 1) := dk_27 (dk_at dksX6_set_2 2 rfl rfl)
theorem dX6_set_50 : decode cX6_set 50 = .ok (.ifCond .ne 7, 3) := dk_154 0 7 (dk_at dksX6_set_2 3 rfl rfl)
theorem dX6_set_53 : decode cX6_set 53 = .ok (.iload_n 2, 1) := dk_28 (dk_at dksX6_set_2 6 rfl rfl)
theorem dX6_set_54 : decode cX6_set 54 = .ok (.goto 7, 3) := dk_167 0 7 (dk_at dksX6_set_2 7 rfl rfl)
theorem dX6_set_57 : decode cX6_set 57 = .ok (.aload_n 0, 1) := dk_42 (dk_at dksX6_set_2 10 rfl rfl)
theorem dX6_set_58 : decode cX6_set 58 = .ok (.getfield 95, 3) := dk_180 0 95 (dk_at dksX6_set_2 11 rfl rfl)
theorem dX6_set_61 : decode cX6_set 61 = .ok (.putfield 95, 3) := dk_181 0 95 (dk_at dksX6_set_2 14 rfl rfl)
theorem dX6_set_64 : decode cX6_set 64 = .ok (.aload_n 0, 1) := dk_42 (dk_at dksX6_set_2 17 rfl rfl)
theorem dX6_set_65 : decode cX6_set 65 = .ok (.iload_n 1, 1) := dk_27 (dk_at dksX6_set_2 18 rfl rfl)
theorem dX6_set_66 : decode cX6_set 66 = .ok (.iconst 1, 1) := dk_4 (dk_at dksX6_set_2 19 rfl rfl)
theorem dX6_set_67 : decode cX6_set 67 = .ok (.if_icmp .ne 7, 3) := dk_160 0 7 (dk_at dksX6_set_2 20 rfl rfl)
theorem dX6_set_70 : decode cX6_set 70 = .ok (.iload_n 2, 1) := dk_28 (dk_at dksX6_set_2 23 rfl rfl)
theorem dX6_set_71 : decode cX6_set 71 = .ok (.goto 7, 3) := dk_167 0 7 (dk_at dksX6_set_3 0 rfl rfl)
theorem dX6_set_74 : decode cX6_set 74 = .ok (.aload_n 0, 1) := dk_42 (dk_at dksX6_set_3 3 rfl rfl)
theorem dX6_set_75 : decode cX6_set 75 = .ok (.getfield 99, 3) := dk_180 0 99 (dk_at dksX6_set_3 4 rfl rfl)
theorem dX6_set_78 : decode cX6_set 78 = .ok (.putfield 99, 3) := dk_181 0 99 (dk_at dksX6_set_3 7 rfl rfl)
theorem dX6_set_81 : decode cX6_set 81 = .ok (.iload_n 3, 1) := dk_29 (dk_at dksX6_set_3 10 rfl rfl)
theorem dX6_set_82 : decode cX6_set 82 = .ok (.ireturn, 1) := dk_172 (dk_at dksX6_set_3 11 rfl rfl)
abbrev cX6_call : ByteArray := prog_14_method_27_code
def yX6_call : MethodName := ⟨RX6, "call", "(II)I"⟩
def dkwX6_call_2 : List UInt8 := [180, 0, 156, 28, 79, 42, 89, 180, 0, 156, 4, 96, 181, 0, 156, 42, 180, 0, 156, 172]
abbrev dktX6_call_2 : List UInt8 := dkwX6_call_2 ++ []
def dkwX6_call_1 : List UInt8 := [16, 8, 160, 0, 6, 16, 252, 172, 42, 180, 0, 31, 42, 180, 0, 156, 27, 79, 42, 180, 0, 34, 42]
abbrev dktX6_call_1 : List UInt8 := dkwX6_call_1 ++ dktX6_call_2
def dkwX6_call_0 : List UInt8 := [27, 184, 0, 153, 153, 0, 13, 28, 3, 16, 7, 184, 0, 104, 154, 0, 6, 16, 254, 172, 42, 180, 0, 156]
abbrev dktX6_call_0 : List UInt8 := dkwX6_call_0 ++ dktX6_call_1
theorem dksX6_call_0 : cX6_call.data.toList.drop 0 = dktX6_call_0 := by decide +kernel
theorem dksX6_call_1 : cX6_call.data.toList.drop 24 = dktX6_call_1 := dk_seg dksX6_call_0 24 rfl rfl
theorem dksX6_call_2 : cX6_call.data.toList.drop 47 = dktX6_call_2 := dk_seg dksX6_call_1 23 rfl rfl
theorem dX6_call_0 : decode cX6_call 0 = .ok (.iload_n 1, 1) := dk_27 (dk_at dksX6_call_0 0 rfl rfl)
theorem dX6_call_1 : decode cX6_call 1 = .ok (.invokestatic 153, 3) := dk_184 0 153 (dk_at dksX6_call_0 1 rfl rfl)
theorem dX6_call_4 : decode cX6_call 4 = .ok (.ifCond .eq 13, 3) := dk_153 0 13 (dk_at dksX6_call_0 4 rfl rfl)
theorem dX6_call_7 : decode cX6_call 7 = .ok (.iload_n 2, 1) := dk_28 (dk_at dksX6_call_0 7 rfl rfl)
theorem dX6_call_8 : decode cX6_call 8 = .ok (.iconst 0, 1) := dk_3 (dk_at dksX6_call_0 8 rfl rfl)
theorem dX6_call_9 : decode cX6_call 9 = .ok (.bipush 7, 2) := dk_16 7 (dk_at dksX6_call_0 9 rfl rfl)
theorem dX6_call_11 : decode cX6_call 11 = .ok (.invokestatic 104, 3) := dk_184 0 104 (dk_at dksX6_call_0 11 rfl rfl)
theorem dX6_call_14 : decode cX6_call 14 = .ok (.ifCond .ne 6, 3) := dk_154 0 6 (dk_at dksX6_call_0 14 rfl rfl)
theorem dX6_call_17 : decode cX6_call 17 = .ok (.bipush (-2), 2) := dk_16 254 (dk_at dksX6_call_0 17 rfl rfl)
theorem dX6_call_19 : decode cX6_call 19 = .ok (.ireturn, 1) := dk_172 (dk_at dksX6_call_0 19 rfl rfl)
theorem dX6_call_20 : decode cX6_call 20 = .ok (.aload_n 0, 1) := dk_42 (dk_at dksX6_call_0 20 rfl rfl)
theorem dX6_call_21 : decode cX6_call 21 = .ok (.getfield 156, 3) := dk_180 0 156 (dk_at dksX6_call_0 21 rfl rfl)
theorem dX6_call_24 : decode cX6_call 24 = .ok (.bipush 8, 2) := dk_16 8 (dk_at dksX6_call_1 0 rfl rfl)
theorem dX6_call_26 : decode cX6_call 26 = .ok (.if_icmp .ne 6, 3) := dk_160 0 6 (dk_at dksX6_call_1 2 rfl rfl)
theorem dX6_call_29 : decode cX6_call 29 = .ok (.bipush (-4), 2) := dk_16 252 (dk_at dksX6_call_1 5 rfl rfl)
theorem dX6_call_31 : decode cX6_call 31 = .ok (.ireturn, 1) := dk_172 (dk_at dksX6_call_1 7 rfl rfl)
theorem dX6_call_32 : decode cX6_call 32 = .ok (.aload_n 0, 1) := dk_42 (dk_at dksX6_call_1 8 rfl rfl)
theorem dX6_call_33 : decode cX6_call 33 = .ok (.getfield 31, 3) := dk_180 0 31 (dk_at dksX6_call_1 9 rfl rfl)
theorem dX6_call_36 : decode cX6_call 36 = .ok (.aload_n 0, 1) := dk_42 (dk_at dksX6_call_1 12 rfl rfl)
theorem dX6_call_37 : decode cX6_call 37 = .ok (.getfield 156, 3) := dk_180 0 156 (dk_at dksX6_call_1 13 rfl rfl)
theorem dX6_call_40 : decode cX6_call 40 = .ok (.iload_n 1, 1) := dk_27 (dk_at dksX6_call_1 16 rfl rfl)
theorem dX6_call_41 : decode cX6_call 41 = .ok (.iastore, 1) := dk_79 (dk_at dksX6_call_1 17 rfl rfl)
theorem dX6_call_42 : decode cX6_call 42 = .ok (.aload_n 0, 1) := dk_42 (dk_at dksX6_call_1 18 rfl rfl)
theorem dX6_call_43 : decode cX6_call 43 = .ok (.getfield 34, 3) := dk_180 0 34 (dk_at dksX6_call_1 19 rfl rfl)
theorem dX6_call_46 : decode cX6_call 46 = .ok (.aload_n 0, 1) := dk_42 (dk_at dksX6_call_1 22 rfl rfl)
theorem dX6_call_47 : decode cX6_call 47 = .ok (.getfield 156, 3) := dk_180 0 156 (dk_at dksX6_call_2 0 rfl rfl)
theorem dX6_call_50 : decode cX6_call 50 = .ok (.iload_n 2, 1) := dk_28 (dk_at dksX6_call_2 3 rfl rfl)
theorem dX6_call_51 : decode cX6_call 51 = .ok (.iastore, 1) := dk_79 (dk_at dksX6_call_2 4 rfl rfl)
theorem dX6_call_52 : decode cX6_call 52 = .ok (.aload_n 0, 1) := dk_42 (dk_at dksX6_call_2 5 rfl rfl)
theorem dX6_call_53 : decode cX6_call 53 = .ok (.dup, 1) := dk_89 (dk_at dksX6_call_2 6 rfl rfl)
theorem dX6_call_54 : decode cX6_call 54 = .ok (.getfield 156, 3) := dk_180 0 156 (dk_at dksX6_call_2 7 rfl rfl)
theorem dX6_call_57 : decode cX6_call 57 = .ok (.iconst 1, 1) := dk_4 (dk_at dksX6_call_2 10 rfl rfl)
theorem dX6_call_58 : decode cX6_call 58 = .ok (.iadd, 1) := dk_96 (dk_at dksX6_call_2 11 rfl rfl)
theorem dX6_call_59 : decode cX6_call 59 = .ok (.putfield 156, 3) := dk_181 0 156 (dk_at dksX6_call_2 12 rfl rfl)
theorem dX6_call_62 : decode cX6_call 62 = .ok (.aload_n 0, 1) := dk_42 (dk_at dksX6_call_2 15 rfl rfl)
theorem dX6_call_63 : decode cX6_call 63 = .ok (.getfield 156, 3) := dk_180 0 156 (dk_at dksX6_call_2 16 rfl rfl)
theorem dX6_call_66 : decode cX6_call 66 = .ok (.ireturn, 1) := dk_172 (dk_at dksX6_call_2 19 rfl rfl)
abbrev cX6_isDay : ByteArray := prog_14_method_8_code
def yX6_isDay : MethodName := ⟨RX6, "isDay", "(I)Z"⟩
def dkwX6_isDay_0 : List UInt8 := [26, 3, 16, 19, 184, 0, 104, 172]
abbrev dktX6_isDay_0 : List UInt8 := dkwX6_isDay_0 ++ []
theorem dksX6_isDay_0 : cX6_isDay.data.toList.drop 0 = dktX6_isDay_0 := by decide +kernel
theorem dX6_isDay_0 : decode cX6_isDay 0 = .ok (.iload_n 0, 1) := dk_26 (dk_at dksX6_isDay_0 0 rfl rfl)
theorem dX6_isDay_1 : decode cX6_isDay 1 = .ok (.iconst 0, 1) := dk_3 (dk_at dksX6_isDay_0 1 rfl rfl)
theorem dX6_isDay_2 : decode cX6_isDay 2 = .ok (.bipush 19, 2) := dk_16 19 (dk_at dksX6_isDay_0 2 rfl rfl)
theorem dX6_isDay_4 : decode cX6_isDay 4 = .ok (.invokestatic 104, 3) := dk_184 0 104 (dk_at dksX6_isDay_0 4 rfl rfl)
theorem dX6_isDay_7 : decode cX6_isDay 7 = .ok (.ireturn, 1) := dk_172 (dk_at dksX6_isDay_0 7 rfl rfl)
abbrev cX6_war : ByteArray := prog_14_method_28_code
def yX6_war : MethodName := ⟨RX6, "war", "(I)I"⟩
def dkwX6_war_1 : List UInt8 := [180, 0, 37, 42, 180, 0, 159, 27, 79, 42, 89, 180, 0, 159, 4, 96, 181, 0, 159, 42, 180, 0, 159, 172]
abbrev dktX6_war_1 : List UInt8 := dkwX6_war_1 ++ []
def dkwX6_war_0 : List UInt8 := [27, 184, 0, 153, 154, 0, 6, 16, 254, 172, 42, 180, 0, 159, 16, 6, 160, 0, 6, 16, 252, 172, 42]
abbrev dktX6_war_0 : List UInt8 := dkwX6_war_0 ++ dktX6_war_1
theorem dksX6_war_0 : cX6_war.data.toList.drop 0 = dktX6_war_0 := by decide +kernel
theorem dksX6_war_1 : cX6_war.data.toList.drop 23 = dktX6_war_1 := dk_seg dksX6_war_0 23 rfl rfl
theorem dX6_war_0 : decode cX6_war 0 = .ok (.iload_n 1, 1) := dk_27 (dk_at dksX6_war_0 0 rfl rfl)
theorem dX6_war_1 : decode cX6_war 1 = .ok (.invokestatic 153, 3) := dk_184 0 153 (dk_at dksX6_war_0 1 rfl rfl)
theorem dX6_war_4 : decode cX6_war 4 = .ok (.ifCond .ne 6, 3) := dk_154 0 6 (dk_at dksX6_war_0 4 rfl rfl)
theorem dX6_war_7 : decode cX6_war 7 = .ok (.bipush (-2), 2) := dk_16 254 (dk_at dksX6_war_0 7 rfl rfl)
theorem dX6_war_9 : decode cX6_war 9 = .ok (.ireturn, 1) := dk_172 (dk_at dksX6_war_0 9 rfl rfl)
theorem dX6_war_10 : decode cX6_war 10 = .ok (.aload_n 0, 1) := dk_42 (dk_at dksX6_war_0 10 rfl rfl)
theorem dX6_war_11 : decode cX6_war 11 = .ok (.getfield 159, 3) := dk_180 0 159 (dk_at dksX6_war_0 11 rfl rfl)
theorem dX6_war_14 : decode cX6_war 14 = .ok (.bipush 6, 2) := dk_16 6 (dk_at dksX6_war_0 14 rfl rfl)
theorem dX6_war_16 : decode cX6_war 16 = .ok (.if_icmp .ne 6, 3) := dk_160 0 6 (dk_at dksX6_war_0 16 rfl rfl)
theorem dX6_war_19 : decode cX6_war 19 = .ok (.bipush (-4), 2) := dk_16 252 (dk_at dksX6_war_0 19 rfl rfl)
theorem dX6_war_21 : decode cX6_war 21 = .ok (.ireturn, 1) := dk_172 (dk_at dksX6_war_0 21 rfl rfl)
theorem dX6_war_22 : decode cX6_war 22 = .ok (.aload_n 0, 1) := dk_42 (dk_at dksX6_war_0 22 rfl rfl)
theorem dX6_war_23 : decode cX6_war 23 = .ok (.getfield 37, 3) := dk_180 0 37 (dk_at dksX6_war_1 0 rfl rfl)
theorem dX6_war_26 : decode cX6_war 26 = .ok (.aload_n 0, 1) := dk_42 (dk_at dksX6_war_1 3 rfl rfl)
theorem dX6_war_27 : decode cX6_war 27 = .ok (.getfield 159, 3) := dk_180 0 159 (dk_at dksX6_war_1 4 rfl rfl)
theorem dX6_war_30 : decode cX6_war 30 = .ok (.iload_n 1, 1) := dk_27 (dk_at dksX6_war_1 7 rfl rfl)
theorem dX6_war_31 : decode cX6_war 31 = .ok (.iastore, 1) := dk_79 (dk_at dksX6_war_1 8 rfl rfl)
theorem dX6_war_32 : decode cX6_war 32 = .ok (.aload_n 0, 1) := dk_42 (dk_at dksX6_war_1 9 rfl rfl)
theorem dX6_war_33 : decode cX6_war 33 = .ok (.dup, 1) := dk_89 (dk_at dksX6_war_1 10 rfl rfl)
theorem dX6_war_34 : decode cX6_war 34 = .ok (.getfield 159, 3) := dk_180 0 159 (dk_at dksX6_war_1 11 rfl rfl)
theorem dX6_war_37 : decode cX6_war 37 = .ok (.iconst 1, 1) := dk_4 (dk_at dksX6_war_1 14 rfl rfl)
theorem dX6_war_38 : decode cX6_war 38 = .ok (.iadd, 1) := dk_96 (dk_at dksX6_war_1 15 rfl rfl)
theorem dX6_war_39 : decode cX6_war 39 = .ok (.putfield 159, 3) := dk_181 0 159 (dk_at dksX6_war_1 16 rfl rfl)
theorem dX6_war_42 : decode cX6_war 42 = .ok (.aload_n 0, 1) := dk_42 (dk_at dksX6_war_1 19 rfl rfl)
theorem dX6_war_43 : decode cX6_war 43 = .ok (.getfield 159, 3) := dk_180 0 159 (dk_at dksX6_war_1 20 rfl rfl)
theorem dX6_war_46 : decode cX6_war 46 = .ok (.ireturn, 1) := dk_172 (dk_at dksX6_war_1 23 rfl rfl)
abbrev cX6_back : ByteArray := prog_14_method_29_code
def yX6_back : MethodName := ⟨RX6, "back", "(I)I"⟩
def dkwX6_back_3 : List UInt8 := [28, 4, 100, 172]
abbrev dktX6_back_3 : List UInt8 := dkwX6_back_3 ++ []
def dkwX6_back_2 : List UInt8 := [3, 100, 181, 0, 156, 42, 89, 180, 0, 159, 27, 4, 160, 0, 7, 4, 167, 0, 4, 3, 100, 181, 0, 159]
abbrev dktX6_back_2 : List UInt8 := dkwX6_back_2 ++ dktX6_back_3
def dkwX6_back_1 : List UInt8 := [180, 0, 159, 61, 28, 154, 0, 6, 16, 253, 172, 42, 89, 180, 0, 156, 27, 154, 0, 7, 4, 167, 0, 4]
abbrev dktX6_back_1 : List UInt8 := dkwX6_back_1 ++ dktX6_back_2
def dkwX6_back_0 : List UInt8 := [27, 3, 4, 184, 0, 104, 154, 0, 6, 16, 254, 172, 27, 154, 0, 10, 42, 180, 0, 156, 167, 0, 7, 42]
abbrev dktX6_back_0 : List UInt8 := dkwX6_back_0 ++ dktX6_back_1
theorem dksX6_back_0 : cX6_back.data.toList.drop 0 = dktX6_back_0 := by decide +kernel
theorem dksX6_back_1 : cX6_back.data.toList.drop 24 = dktX6_back_1 := dk_seg dksX6_back_0 24 rfl rfl
theorem dksX6_back_2 : cX6_back.data.toList.drop 48 = dktX6_back_2 := dk_seg dksX6_back_1 24 rfl rfl
theorem dksX6_back_3 : cX6_back.data.toList.drop 72 = dktX6_back_3 := dk_seg dksX6_back_2 24 rfl rfl
theorem dX6_back_0 : decode cX6_back 0 = .ok (.iload_n 1, 1) := dk_27 (dk_at dksX6_back_0 0 rfl rfl)
theorem dX6_back_1 : decode cX6_back 1 = .ok (.iconst 0, 1) := dk_3 (dk_at dksX6_back_0 1 rfl rfl)
theorem dX6_back_2 : decode cX6_back 2 = .ok (.iconst 1, 1) := dk_4 (dk_at dksX6_back_0 2 rfl rfl)
theorem dX6_back_3 : decode cX6_back 3 = .ok (.invokestatic 104, 3) := dk_184 0 104 (dk_at dksX6_back_0 3 rfl rfl)
theorem dX6_back_6 : decode cX6_back 6 = .ok (.ifCond .ne 6, 3) := dk_154 0 6 (dk_at dksX6_back_0 6 rfl rfl)
theorem dX6_back_9 : decode cX6_back 9 = .ok (.bipush (-2), 2) := dk_16 254 (dk_at dksX6_back_0 9 rfl rfl)
theorem dX6_back_11 : decode cX6_back 11 = .ok (.ireturn, 1) := dk_172 (dk_at dksX6_back_0 11 rfl rfl)
theorem dX6_back_12 : decode cX6_back 12 = .ok (.iload_n 1, 1) := dk_27 (dk_at dksX6_back_0 12 rfl rfl)
theorem dX6_back_13 : decode cX6_back 13 = .ok (.ifCond .ne 10, 3) := dk_154 0 10 (dk_at dksX6_back_0 13 rfl rfl)
theorem dX6_back_16 : decode cX6_back 16 = .ok (.aload_n 0, 1) := dk_42 (dk_at dksX6_back_0 16 rfl rfl)
theorem dX6_back_17 : decode cX6_back 17 = .ok (.getfield 156, 3) := dk_180 0 156 (dk_at dksX6_back_0 17 rfl rfl)
theorem dX6_back_20 : decode cX6_back 20 = .ok (.goto 7, 3) := dk_167 0 7 (dk_at dksX6_back_0 20 rfl rfl)
theorem dX6_back_23 : decode cX6_back 23 = .ok (.aload_n 0, 1) := dk_42 (dk_at dksX6_back_0 23 rfl rfl)
theorem dX6_back_24 : decode cX6_back 24 = .ok (.getfield 159, 3) := dk_180 0 159 (dk_at dksX6_back_1 0 rfl rfl)
theorem dX6_back_27 : decode cX6_back 27 = .ok (.istore_n 2, 1) := dk_61 (dk_at dksX6_back_1 3 rfl rfl)
theorem dX6_back_28 : decode cX6_back 28 = .ok (.iload_n 2, 1) := dk_28 (dk_at dksX6_back_1 4 rfl rfl)
theorem dX6_back_29 : decode cX6_back 29 = .ok (.ifCond .ne 6, 3) := dk_154 0 6 (dk_at dksX6_back_1 5 rfl rfl)
theorem dX6_back_32 : decode cX6_back 32 = .ok (.bipush (-3), 2) := dk_16 253 (dk_at dksX6_back_1 8 rfl rfl)
theorem dX6_back_34 : decode cX6_back 34 = .ok (.ireturn, 1) := dk_172 (dk_at dksX6_back_1 10 rfl rfl)
theorem dX6_back_35 : decode cX6_back 35 = .ok (.aload_n 0, 1) := dk_42 (dk_at dksX6_back_1 11 rfl rfl)
theorem dX6_back_36 : decode cX6_back 36 = .ok (.dup, 1) := dk_89 (dk_at dksX6_back_1 12 rfl rfl)
theorem dX6_back_37 : decode cX6_back 37 = .ok (.getfield 156, 3) := dk_180 0 156 (dk_at dksX6_back_1 13 rfl rfl)
theorem dX6_back_40 : decode cX6_back 40 = .ok (.iload_n 1, 1) := dk_27 (dk_at dksX6_back_1 16 rfl rfl)
theorem dX6_back_41 : decode cX6_back 41 = .ok (.ifCond .ne 7, 3) := dk_154 0 7 (dk_at dksX6_back_1 17 rfl rfl)
theorem dX6_back_44 : decode cX6_back 44 = .ok (.iconst 1, 1) := dk_4 (dk_at dksX6_back_1 20 rfl rfl)
theorem dX6_back_45 : decode cX6_back 45 = .ok (.goto 4, 3) := dk_167 0 4 (dk_at dksX6_back_1 21 rfl rfl)
theorem dX6_back_48 : decode cX6_back 48 = .ok (.iconst 0, 1) := dk_3 (dk_at dksX6_back_2 0 rfl rfl)
theorem dX6_back_49 : decode cX6_back 49 = .ok (.isub, 1) := dk_100 (dk_at dksX6_back_2 1 rfl rfl)
theorem dX6_back_50 : decode cX6_back 50 = .ok (.putfield 156, 3) := dk_181 0 156 (dk_at dksX6_back_2 2 rfl rfl)
theorem dX6_back_53 : decode cX6_back 53 = .ok (.aload_n 0, 1) := dk_42 (dk_at dksX6_back_2 5 rfl rfl)
theorem dX6_back_54 : decode cX6_back 54 = .ok (.dup, 1) := dk_89 (dk_at dksX6_back_2 6 rfl rfl)
theorem dX6_back_55 : decode cX6_back 55 = .ok (.getfield 159, 3) := dk_180 0 159 (dk_at dksX6_back_2 7 rfl rfl)
theorem dX6_back_58 : decode cX6_back 58 = .ok (.iload_n 1, 1) := dk_27 (dk_at dksX6_back_2 10 rfl rfl)
theorem dX6_back_59 : decode cX6_back 59 = .ok (.iconst 1, 1) := dk_4 (dk_at dksX6_back_2 11 rfl rfl)
theorem dX6_back_60 : decode cX6_back 60 = .ok (.if_icmp .ne 7, 3) := dk_160 0 7 (dk_at dksX6_back_2 12 rfl rfl)
theorem dX6_back_63 : decode cX6_back 63 = .ok (.iconst 1, 1) := dk_4 (dk_at dksX6_back_2 15 rfl rfl)
theorem dX6_back_64 : decode cX6_back 64 = .ok (.goto 4, 3) := dk_167 0 4 (dk_at dksX6_back_2 16 rfl rfl)
theorem dX6_back_67 : decode cX6_back 67 = .ok (.iconst 0, 1) := dk_3 (dk_at dksX6_back_2 19 rfl rfl)
theorem dX6_back_68 : decode cX6_back 68 = .ok (.isub, 1) := dk_100 (dk_at dksX6_back_2 20 rfl rfl)
theorem dX6_back_69 : decode cX6_back 69 = .ok (.putfield 159, 3) := dk_181 0 159 (dk_at dksX6_back_2 21 rfl rfl)
theorem dX6_back_72 : decode cX6_back 72 = .ok (.iload_n 2, 1) := dk_28 (dk_at dksX6_back_3 0 rfl rfl)
theorem dX6_back_73 : decode cX6_back 73 = .ok (.iconst 1, 1) := dk_4 (dk_at dksX6_back_3 1 rfl rfl)
theorem dX6_back_74 : decode cX6_back 74 = .ok (.isub, 1) := dk_100 (dk_at dksX6_back_3 2 rfl rfl)
theorem dX6_back_75 : decode cX6_back 75 = .ok (.ireturn, 1) := dk_172 (dk_at dksX6_back_3 3 rfl rfl)
abbrev cX6_read : ByteArray := prog_14_method_30_code
def yX6_read : MethodName := ⟨RX6, "read", "(I)I"⟩
def dkwX6_read_3 : List UInt8 := [182, 0, 168, 158, 0, 9, 132, 2, 1, 167, 255, 204, 28, 172]
abbrev dktX6_read_3 : List UInt8 := dkwX6_read_3 ++ []
def dkwX6_read_2 : List UInt8 := [27, 104, 5, 28, 104, 96, 46, 42, 180, 0, 89, 16, 60, 27, 104, 5, 28, 104, 96, 4, 96, 46]
abbrev dktX6_read_2 : List UInt8 := dkwX6_read_2 ++ dktX6_read_3
def dkwX6_read_1 : List UInt8 := [172, 3, 61, 5, 28, 104, 4, 96, 42, 180, 0, 86, 27, 46, 162, 0, 44, 42, 42, 180, 0, 89, 16, 60]
abbrev dktX6_read_1 : List UInt8 := dkwX6_read_1 ++ dktX6_read_2
def dkwX6_read_0 : List UInt8 := [27, 184, 0, 162, 154, 0, 6, 16, 254, 172, 42, 180, 0, 80, 27, 51, 154, 0, 9, 42, 4, 182, 0, 165]
abbrev dktX6_read_0 : List UInt8 := dkwX6_read_0 ++ dktX6_read_1
theorem dksX6_read_0 : cX6_read.data.toList.drop 0 = dktX6_read_0 := by decide +kernel
theorem dksX6_read_1 : cX6_read.data.toList.drop 24 = dktX6_read_1 := dk_seg dksX6_read_0 24 rfl rfl
theorem dksX6_read_2 : cX6_read.data.toList.drop 48 = dktX6_read_2 := dk_seg dksX6_read_1 24 rfl rfl
theorem dksX6_read_3 : cX6_read.data.toList.drop 70 = dktX6_read_3 := dk_seg dksX6_read_2 22 rfl rfl
theorem dX6_read_0 : decode cX6_read 0 = .ok (.iload_n 1, 1) := dk_27 (dk_at dksX6_read_0 0 rfl rfl)
theorem dX6_read_1 : decode cX6_read 1 = .ok (.invokestatic 162, 3) := dk_184 0 162 (dk_at dksX6_read_0 1 rfl rfl)
theorem dX6_read_4 : decode cX6_read 4 = .ok (.ifCond .ne 6, 3) := dk_154 0 6 (dk_at dksX6_read_0 4 rfl rfl)
theorem dX6_read_7 : decode cX6_read 7 = .ok (.bipush (-2), 2) := dk_16 254 (dk_at dksX6_read_0 7 rfl rfl)
theorem dX6_read_9 : decode cX6_read 9 = .ok (.ireturn, 1) := dk_172 (dk_at dksX6_read_0 9 rfl rfl)
theorem dX6_read_10 : decode cX6_read 10 = .ok (.aload_n 0, 1) := dk_42 (dk_at dksX6_read_0 10 rfl rfl)
theorem dX6_read_11 : decode cX6_read 11 = .ok (.getfield 80, 3) := dk_180 0 80 (dk_at dksX6_read_0 11 rfl rfl)
theorem dX6_read_14 : decode cX6_read 14 = .ok (.iload_n 1, 1) := dk_27 (dk_at dksX6_read_0 14 rfl rfl)
theorem dX6_read_15 : decode cX6_read 15 = .ok (.baload, 1) := dk_51 (dk_at dksX6_read_0 15 rfl rfl)
theorem dX6_read_16 : decode cX6_read 16 = .ok (.ifCond .ne 9, 3) := dk_154 0 9 (dk_at dksX6_read_0 16 rfl rfl)
theorem dX6_read_19 : decode cX6_read 19 = .ok (.aload_n 0, 1) := dk_42 (dk_at dksX6_read_0 19 rfl rfl)
theorem dX6_read_20 : decode cX6_read 20 = .ok (.iconst 1, 1) := dk_4 (dk_at dksX6_read_0 20 rfl rfl)
theorem dX6_read_21 : decode cX6_read 21 = .ok (.invokevirtual 165, 3) := dk_182 0 165 (dk_at dksX6_read_0 21 rfl rfl)
theorem dX6_read_24 : decode cX6_read 24 = .ok (.ireturn, 1) := dk_172 (dk_at dksX6_read_1 0 rfl rfl)
theorem dX6_read_25 : decode cX6_read 25 = .ok (.iconst 0, 1) := dk_3 (dk_at dksX6_read_1 1 rfl rfl)
theorem dX6_read_26 : decode cX6_read 26 = .ok (.istore_n 2, 1) := dk_61 (dk_at dksX6_read_1 2 rfl rfl)
theorem dX6_read_27 : decode cX6_read 27 = .ok (.iconst 2, 1) := dk_5 (dk_at dksX6_read_1 3 rfl rfl)
theorem dX6_read_28 : decode cX6_read 28 = .ok (.iload_n 2, 1) := dk_28 (dk_at dksX6_read_1 4 rfl rfl)
theorem dX6_read_29 : decode cX6_read 29 = .ok (.imul, 1) := dk_104 (dk_at dksX6_read_1 5 rfl rfl)
theorem dX6_read_30 : decode cX6_read 30 = .ok (.iconst 1, 1) := dk_4 (dk_at dksX6_read_1 6 rfl rfl)
theorem dX6_read_31 : decode cX6_read 31 = .ok (.iadd, 1) := dk_96 (dk_at dksX6_read_1 7 rfl rfl)
theorem dX6_read_32 : decode cX6_read 32 = .ok (.aload_n 0, 1) := dk_42 (dk_at dksX6_read_1 8 rfl rfl)
theorem dX6_read_33 : decode cX6_read 33 = .ok (.getfield 86, 3) := dk_180 0 86 (dk_at dksX6_read_1 9 rfl rfl)
theorem dX6_read_36 : decode cX6_read 36 = .ok (.iload_n 1, 1) := dk_27 (dk_at dksX6_read_1 12 rfl rfl)
theorem dX6_read_37 : decode cX6_read 37 = .ok (.iaload, 1) := dk_46 (dk_at dksX6_read_1 13 rfl rfl)
theorem dX6_read_38 : decode cX6_read 38 = .ok (.if_icmp .ge 44, 3) := dk_162 0 44 (dk_at dksX6_read_1 14 rfl rfl)
theorem dX6_read_41 : decode cX6_read 41 = .ok (.aload_n 0, 1) := dk_42 (dk_at dksX6_read_1 17 rfl rfl)
theorem dX6_read_42 : decode cX6_read 42 = .ok (.aload_n 0, 1) := dk_42 (dk_at dksX6_read_1 18 rfl rfl)
theorem dX6_read_43 : decode cX6_read 43 = .ok (.getfield 89, 3) := dk_180 0 89 (dk_at dksX6_read_1 19 rfl rfl)
theorem dX6_read_46 : decode cX6_read 46 = .ok (.bipush 60, 2) := dk_16 60 (dk_at dksX6_read_1 22 rfl rfl)
theorem dX6_read_48 : decode cX6_read 48 = .ok (.iload_n 1, 1) := dk_27 (dk_at dksX6_read_2 0 rfl rfl)
theorem dX6_read_49 : decode cX6_read 49 = .ok (.imul, 1) := dk_104 (dk_at dksX6_read_2 1 rfl rfl)
theorem dX6_read_50 : decode cX6_read 50 = .ok (.iconst 2, 1) := dk_5 (dk_at dksX6_read_2 2 rfl rfl)
theorem dX6_read_51 : decode cX6_read 51 = .ok (.iload_n 2, 1) := dk_28 (dk_at dksX6_read_2 3 rfl rfl)
theorem dX6_read_52 : decode cX6_read 52 = .ok (.imul, 1) := dk_104 (dk_at dksX6_read_2 4 rfl rfl)
theorem dX6_read_53 : decode cX6_read 53 = .ok (.iadd, 1) := dk_96 (dk_at dksX6_read_2 5 rfl rfl)
theorem dX6_read_54 : decode cX6_read 54 = .ok (.iaload, 1) := dk_46 (dk_at dksX6_read_2 6 rfl rfl)
theorem dX6_read_55 : decode cX6_read 55 = .ok (.aload_n 0, 1) := dk_42 (dk_at dksX6_read_2 7 rfl rfl)
theorem dX6_read_56 : decode cX6_read 56 = .ok (.getfield 89, 3) := dk_180 0 89 (dk_at dksX6_read_2 8 rfl rfl)
theorem dX6_read_59 : decode cX6_read 59 = .ok (.bipush 60, 2) := dk_16 60 (dk_at dksX6_read_2 11 rfl rfl)
theorem dX6_read_61 : decode cX6_read 61 = .ok (.iload_n 1, 1) := dk_27 (dk_at dksX6_read_2 13 rfl rfl)
theorem dX6_read_62 : decode cX6_read 62 = .ok (.imul, 1) := dk_104 (dk_at dksX6_read_2 14 rfl rfl)
theorem dX6_read_63 : decode cX6_read 63 = .ok (.iconst 2, 1) := dk_5 (dk_at dksX6_read_2 15 rfl rfl)
theorem dX6_read_64 : decode cX6_read 64 = .ok (.iload_n 2, 1) := dk_28 (dk_at dksX6_read_2 16 rfl rfl)
theorem dX6_read_65 : decode cX6_read 65 = .ok (.imul, 1) := dk_104 (dk_at dksX6_read_2 17 rfl rfl)
theorem dX6_read_66 : decode cX6_read 66 = .ok (.iadd, 1) := dk_96 (dk_at dksX6_read_2 18 rfl rfl)
theorem dX6_read_67 : decode cX6_read 67 = .ok (.iconst 1, 1) := dk_4 (dk_at dksX6_read_2 19 rfl rfl)
theorem dX6_read_68 : decode cX6_read 68 = .ok (.iadd, 1) := dk_96 (dk_at dksX6_read_2 20 rfl rfl)
theorem dX6_read_69 : decode cX6_read 69 = .ok (.iaload, 1) := dk_46 (dk_at dksX6_read_2 21 rfl rfl)
theorem dX6_read_70 : decode cX6_read 70 = .ok (.invokevirtual 168, 3) := dk_182 0 168 (dk_at dksX6_read_3 0 rfl rfl)
theorem dX6_read_73 : decode cX6_read 73 = .ok (.ifCond .le 9, 3) := dk_158 0 9 (dk_at dksX6_read_3 3 rfl rfl)
theorem dX6_read_76 : decode cX6_read 76 = .ok (.iinc 2 1, 3) := dk_132 2 1 (dk_at dksX6_read_3 6 rfl rfl)
theorem dX6_read_79 : decode cX6_read 79 = .ok (.goto (-52), 3) := dk_167 255 204 (dk_at dksX6_read_3 9 rfl rfl)
theorem dX6_read_82 : decode cX6_read 82 = .ok (.iload_n 2, 1) := dk_28 (dk_at dksX6_read_3 12 rfl rfl)
theorem dX6_read_83 : decode cX6_read 83 = .ok (.ireturn, 1) := dk_172 (dk_at dksX6_read_3 13 rfl rfl)
abbrev cX6_isSheet : ByteArray := prog_14_method_76_code
def yX6_isSheet : MethodName := ⟨RX6, "isSheet", "(I)Z"⟩
def dkwX6_isSheet_0 : List UInt8 := [26, 3, 6, 184, 0, 104, 172]
abbrev dktX6_isSheet_0 : List UInt8 := dkwX6_isSheet_0 ++ []
theorem dksX6_isSheet_0 : cX6_isSheet.data.toList.drop 0 = dktX6_isSheet_0 := by decide +kernel
theorem dX6_isSheet_0 : decode cX6_isSheet 0 = .ok (.iload_n 0, 1) := dk_26 (dk_at dksX6_isSheet_0 0 rfl rfl)
theorem dX6_isSheet_1 : decode cX6_isSheet 1 = .ok (.iconst 0, 1) := dk_3 (dk_at dksX6_isSheet_0 1 rfl rfl)
theorem dX6_isSheet_2 : decode cX6_isSheet 2 = .ok (.iconst 3, 1) := dk_6 (dk_at dksX6_isSheet_0 2 rfl rfl)
theorem dX6_isSheet_3 : decode cX6_isSheet 3 = .ok (.invokestatic 104, 3) := dk_184 0 104 (dk_at dksX6_isSheet_0 3 rfl rfl)
theorem dX6_isSheet_6 : decode cX6_isSheet 6 = .ok (.ireturn, 1) := dk_172 (dk_at dksX6_isSheet_0 6 rfl rfl)
abbrev cX6_meets : ByteArray := prog_14_method_75_code
def yX6_meets : MethodName := ⟨RX6, "meets", "(I)I"⟩
def dkwX6_meets_0 : List UInt8 := [42, 27, 181, 1, 27, 16, 246, 27, 100, 172]
abbrev dktX6_meets_0 : List UInt8 := dkwX6_meets_0 ++ []
theorem dksX6_meets_0 : cX6_meets.data.toList.drop 0 = dktX6_meets_0 := by decide +kernel
theorem dX6_meets_0 : decode cX6_meets 0 = .ok (.aload_n 0, 1) := dk_42 (dk_at dksX6_meets_0 0 rfl rfl)
theorem dX6_meets_1 : decode cX6_meets 1 = .ok (.iload_n 1, 1) := dk_27 (dk_at dksX6_meets_0 1 rfl rfl)
theorem dX6_meets_2 : decode cX6_meets 2 = .ok (.putfield 283, 3) := dk_181 1 27 (dk_at dksX6_meets_0 2 rfl rfl)
theorem dX6_meets_5 : decode cX6_meets 5 = .ok (.bipush (-10), 2) := dk_16 246 (dk_at dksX6_meets_0 5 rfl rfl)
theorem dX6_meets_7 : decode cX6_meets 7 = .ok (.iload_n 1, 1) := dk_27 (dk_at dksX6_meets_0 7 rfl rfl)
theorem dX6_meets_8 : decode cX6_meets 8 = .ok (.isub, 1) := dk_100 (dk_at dksX6_meets_0 8 rfl rfl)
theorem dX6_meets_9 : decode cX6_meets 9 = .ok (.ireturn, 1) := dk_172 (dk_at dksX6_meets_0 9 rfl rfl)
abbrev cX6_owed : ByteArray := prog_14_method_40_code
def yX6_owed : MethodName := ⟨RX6, "owed", "(II)I"⟩
def dkwX6_owed_1 : List UInt8 := [182, 0, 213, 167, 0, 5, 16, 254, 172]
abbrev dktX6_owed_1 : List UInt8 := dkwX6_owed_1 ++ []
def dkwX6_owed_0 : List UInt8 := [27, 184, 0, 153, 153, 0, 25, 28, 2, 159, 0, 11, 42, 28, 182, 0, 144, 153, 0, 12, 42, 27, 28]
abbrev dktX6_owed_0 : List UInt8 := dkwX6_owed_0 ++ dktX6_owed_1
theorem dksX6_owed_0 : cX6_owed.data.toList.drop 0 = dktX6_owed_0 := by decide +kernel
theorem dksX6_owed_1 : cX6_owed.data.toList.drop 23 = dktX6_owed_1 := dk_seg dksX6_owed_0 23 rfl rfl
theorem dX6_owed_0 : decode cX6_owed 0 = .ok (.iload_n 1, 1) := dk_27 (dk_at dksX6_owed_0 0 rfl rfl)
theorem dX6_owed_1 : decode cX6_owed 1 = .ok (.invokestatic 153, 3) := dk_184 0 153 (dk_at dksX6_owed_0 1 rfl rfl)
theorem dX6_owed_4 : decode cX6_owed 4 = .ok (.ifCond .eq 25, 3) := dk_153 0 25 (dk_at dksX6_owed_0 4 rfl rfl)
theorem dX6_owed_7 : decode cX6_owed 7 = .ok (.iload_n 2, 1) := dk_28 (dk_at dksX6_owed_0 7 rfl rfl)
theorem dX6_owed_8 : decode cX6_owed 8 = .ok (.iconst (-1), 1) := dk_2 (dk_at dksX6_owed_0 8 rfl rfl)
theorem dX6_owed_9 : decode cX6_owed 9 = .ok (.if_icmp .eq 11, 3) := dk_159 0 11 (dk_at dksX6_owed_0 9 rfl rfl)
theorem dX6_owed_12 : decode cX6_owed 12 = .ok (.aload_n 0, 1) := dk_42 (dk_at dksX6_owed_0 12 rfl rfl)
theorem dX6_owed_13 : decode cX6_owed 13 = .ok (.iload_n 2, 1) := dk_28 (dk_at dksX6_owed_0 13 rfl rfl)
theorem dX6_owed_14 : decode cX6_owed 14 = .ok (.invokevirtual 144, 3) := dk_182 0 144 (dk_at dksX6_owed_0 14 rfl rfl)
theorem dX6_owed_17 : decode cX6_owed 17 = .ok (.ifCond .eq 12, 3) := dk_153 0 12 (dk_at dksX6_owed_0 17 rfl rfl)
theorem dX6_owed_20 : decode cX6_owed 20 = .ok (.aload_n 0, 1) := dk_42 (dk_at dksX6_owed_0 20 rfl rfl)
theorem dX6_owed_21 : decode cX6_owed 21 = .ok (.iload_n 1, 1) := dk_27 (dk_at dksX6_owed_0 21 rfl rfl)
theorem dX6_owed_22 : decode cX6_owed 22 = .ok (.iload_n 2, 1) := dk_28 (dk_at dksX6_owed_0 22 rfl rfl)
theorem dX6_owed_23 : decode cX6_owed 23 = .ok (.invokevirtual 213, 3) := dk_182 0 213 (dk_at dksX6_owed_1 0 rfl rfl)
theorem dX6_owed_26 : decode cX6_owed 26 = .ok (.goto 5, 3) := dk_167 0 5 (dk_at dksX6_owed_1 3 rfl rfl)
theorem dX6_owed_29 : decode cX6_owed 29 = .ok (.bipush (-2), 2) := dk_16 254 (dk_at dksX6_owed_1 6 rfl rfl)
theorem dX6_owed_31 : decode cX6_owed 31 = .ok (.ireturn, 1) := dk_172 (dk_at dksX6_owed_1 8 rfl rfl)
abbrev cX6_owedOf : ByteArray := prog_14_method_39_code
def yX6_owedOf : MethodName := ⟨RX6, "owedOf", "(II)I"⟩
def dkwX6_owedOf_1 : List UInt8 := [104, 27, 96, 46, 172]
abbrev dktX6_owedOf_1 : List UInt8 := dkwX6_owedOf_1 ++ []
def dkwX6_owedOf_0 : List UInt8 := [42, 182, 0, 207, 28, 2, 160, 0, 11, 42, 27, 182, 0, 210, 167, 0, 14, 42, 180, 0, 50, 16, 20, 28]
abbrev dktX6_owedOf_0 : List UInt8 := dkwX6_owedOf_0 ++ dktX6_owedOf_1
theorem dksX6_owedOf_0 : cX6_owedOf.data.toList.drop 0 = dktX6_owedOf_0 := by decide +kernel
theorem dksX6_owedOf_1 : cX6_owedOf.data.toList.drop 24 = dktX6_owedOf_1 := dk_seg dksX6_owedOf_0 24 rfl rfl
theorem dX6_owedOf_0 : decode cX6_owedOf 0 = .ok (.aload_n 0, 1) := dk_42 (dk_at dksX6_owedOf_0 0 rfl rfl)
theorem dX6_owedOf_1 : decode cX6_owedOf 1 = .ok (.invokevirtual 207, 3) := dk_182 0 207 (dk_at dksX6_owedOf_0 1 rfl rfl)
theorem dX6_owedOf_4 : decode cX6_owedOf 4 = .ok (.iload_n 2, 1) := dk_28 (dk_at dksX6_owedOf_0 4 rfl rfl)
theorem dX6_owedOf_5 : decode cX6_owedOf 5 = .ok (.iconst (-1), 1) := dk_2 (dk_at dksX6_owedOf_0 5 rfl rfl)
theorem dX6_owedOf_6 : decode cX6_owedOf 6 = .ok (.if_icmp .ne 11, 3) := dk_160 0 11 (dk_at dksX6_owedOf_0 6 rfl rfl)
theorem dX6_owedOf_9 : decode cX6_owedOf 9 = .ok (.aload_n 0, 1) := dk_42 (dk_at dksX6_owedOf_0 9 rfl rfl)
theorem dX6_owedOf_10 : decode cX6_owedOf 10 = .ok (.iload_n 1, 1) := dk_27 (dk_at dksX6_owedOf_0 10 rfl rfl)
theorem dX6_owedOf_11 : decode cX6_owedOf 11 = .ok (.invokevirtual 210, 3) := dk_182 0 210 (dk_at dksX6_owedOf_0 11 rfl rfl)
theorem dX6_owedOf_14 : decode cX6_owedOf 14 = .ok (.goto 14, 3) := dk_167 0 14 (dk_at dksX6_owedOf_0 14 rfl rfl)
theorem dX6_owedOf_17 : decode cX6_owedOf 17 = .ok (.aload_n 0, 1) := dk_42 (dk_at dksX6_owedOf_0 17 rfl rfl)
theorem dX6_owedOf_18 : decode cX6_owedOf 18 = .ok (.getfield 50, 3) := dk_180 0 50 (dk_at dksX6_owedOf_0 18 rfl rfl)
theorem dX6_owedOf_21 : decode cX6_owedOf 21 = .ok (.bipush 20, 2) := dk_16 20 (dk_at dksX6_owedOf_0 21 rfl rfl)
theorem dX6_owedOf_23 : decode cX6_owedOf 23 = .ok (.iload_n 2, 1) := dk_28 (dk_at dksX6_owedOf_0 23 rfl rfl)
theorem dX6_owedOf_24 : decode cX6_owedOf 24 = .ok (.imul, 1) := dk_104 (dk_at dksX6_owedOf_1 0 rfl rfl)
theorem dX6_owedOf_25 : decode cX6_owedOf 25 = .ok (.iload_n 1, 1) := dk_27 (dk_at dksX6_owedOf_1 1 rfl rfl)
theorem dX6_owedOf_26 : decode cX6_owedOf 26 = .ok (.iadd, 1) := dk_96 (dk_at dksX6_owedOf_1 2 rfl rfl)
theorem dX6_owedOf_27 : decode cX6_owedOf 27 = .ok (.iaload, 1) := dk_46 (dk_at dksX6_owedOf_1 3 rfl rfl)
theorem dX6_owedOf_28 : decode cX6_owedOf 28 = .ok (.ireturn, 1) := dk_172 (dk_at dksX6_owedOf_1 4 rfl rfl)
abbrev cX6_runsTold : ByteArray := prog_14_method_37_code
def yX6_runsTold : MethodName := ⟨RX6, "runsTold", "()V"⟩
def dkwX6_runsTold_0 : List UInt8 := [42, 182, 0, 201, 42, 182, 0, 204, 177]
abbrev dktX6_runsTold_0 : List UInt8 := dkwX6_runsTold_0 ++ []
theorem dksX6_runsTold_0 : cX6_runsTold.data.toList.drop 0 = dktX6_runsTold_0 := by decide +kernel
theorem dX6_runsTold_0 : decode cX6_runsTold 0 = .ok (.aload_n 0, 1) := dk_42 (dk_at dksX6_runsTold_0 0 rfl rfl)
theorem dX6_runsTold_1 : decode cX6_runsTold 1 = .ok (.invokevirtual 201, 3) := dk_182 0 201 (dk_at dksX6_runsTold_0 1 rfl rfl)
theorem dX6_runsTold_4 : decode cX6_runsTold 4 = .ok (.aload_n 0, 1) := dk_42 (dk_at dksX6_runsTold_0 4 rfl rfl)
theorem dX6_runsTold_5 : decode cX6_runsTold 5 = .ok (.invokevirtual 204, 3) := dk_182 0 204 (dk_at dksX6_runsTold_0 5 rfl rfl)
theorem dX6_runsTold_8 : decode cX6_runsTold 8 = .ok (.return_, 1) := dk_177 (dk_at dksX6_runsTold_0 8 rfl rfl)
abbrev cX6_asTold : ByteArray := prog_14_method_33_code
def yX6_asTold : MethodName := ⟨RX6, "asTold", "()V"⟩
def dkwX6_asTold_0 : List UInt8 := [42, 182, 0, 141, 42, 42, 180, 0, 95, 181, 0, 178, 42, 3, 3, 182, 0, 181, 177]
abbrev dktX6_asTold_0 : List UInt8 := dkwX6_asTold_0 ++ []
theorem dksX6_asTold_0 : cX6_asTold.data.toList.drop 0 = dktX6_asTold_0 := by decide +kernel
theorem dX6_asTold_0 : decode cX6_asTold 0 = .ok (.aload_n 0, 1) := dk_42 (dk_at dksX6_asTold_0 0 rfl rfl)
theorem dX6_asTold_1 : decode cX6_asTold 1 = .ok (.invokevirtual 141, 3) := dk_182 0 141 (dk_at dksX6_asTold_0 1 rfl rfl)
theorem dX6_asTold_4 : decode cX6_asTold 4 = .ok (.aload_n 0, 1) := dk_42 (dk_at dksX6_asTold_0 4 rfl rfl)
theorem dX6_asTold_5 : decode cX6_asTold 5 = .ok (.aload_n 0, 1) := dk_42 (dk_at dksX6_asTold_0 5 rfl rfl)
theorem dX6_asTold_6 : decode cX6_asTold 6 = .ok (.getfield 95, 3) := dk_180 0 95 (dk_at dksX6_asTold_0 6 rfl rfl)
theorem dX6_asTold_9 : decode cX6_asTold 9 = .ok (.putfield 178, 3) := dk_181 0 178 (dk_at dksX6_asTold_0 9 rfl rfl)
theorem dX6_asTold_12 : decode cX6_asTold 12 = .ok (.aload_n 0, 1) := dk_42 (dk_at dksX6_asTold_0 12 rfl rfl)
theorem dX6_asTold_13 : decode cX6_asTold 13 = .ok (.iconst 0, 1) := dk_3 (dk_at dksX6_asTold_0 13 rfl rfl)
theorem dX6_asTold_14 : decode cX6_asTold 14 = .ok (.iconst 0, 1) := dk_3 (dk_at dksX6_asTold_0 14 rfl rfl)
theorem dX6_asTold_15 : decode cX6_asTold 15 = .ok (.invokevirtual 181, 3) := dk_182 0 181 (dk_at dksX6_asTold_0 15 rfl rfl)
theorem dX6_asTold_18 : decode cX6_asTold 18 = .ok (.return_, 1) := dk_177 (dk_at dksX6_asTold_0 18 rfl rfl)
abbrev cX6_lays : ByteArray := prog_14_method_32_code
def yX6_lays : MethodName := ⟨RX6, "lays", "(II)V"⟩
def dkwX6_lays_6 : List UInt8 := [167, 255, 207, 177]
abbrev dktX6_lays_6 : List UInt8 := dkwX6_lays_6 ++ []
def dkwX6_lays_5 : List UInt8 := [29, 46, 51, 154, 0, 11, 28, 29, 184, 0, 174, 154, 0, 7, 4, 167, 0, 4, 3, 84, 132, 3, 1]
abbrev dktX6_lays_5 : List UInt8 := dkwX6_lays_5 ++ dktX6_lays_6
def dkwX6_lays_4 : List UInt8 := [180, 0, 159, 162, 0, 47, 42, 180, 0, 44, 42, 180, 0, 37, 29, 46, 42, 180, 0, 44, 42, 180, 0, 37]
abbrev dktX6_lays_4 : List UInt8 := dkwX6_lays_4 ++ dktX6_lays_5
def dkwX6_lays_3 : List UInt8 := [27, 29, 184, 0, 174, 154, 0, 7, 4, 167, 0, 4, 3, 84, 132, 3, 1, 167, 255, 197, 3, 62, 29, 42]
abbrev dktX6_lays_3 : List UInt8 := dkwX6_lays_3 ++ dktX6_lays_4
def dkwX6_lays_2 : List UInt8 := [180, 0, 31, 29, 46, 96, 54, 4, 42, 180, 0, 40, 21, 4, 42, 180, 0, 40, 21, 4, 51, 154, 0, 11]
abbrev dktX6_lays_2 : List UInt8 := dkwX6_lays_2 ++ dktX6_lays_3
def dkwX6_lays_1 : List UInt8 := [167, 255, 240, 3, 62, 29, 42, 180, 0, 156, 162, 0, 57, 16, 20, 42, 180, 0, 34, 29, 46, 104, 42]
abbrev dktX6_lays_1 : List UInt8 := dkwX6_lays_1 ++ dktX6_lays_2
def dkwX6_lays_0 : List UInt8 := [42, 182, 0, 171, 3, 62, 29, 16, 20, 162, 0, 16, 42, 180, 0, 44, 29, 3, 84, 132, 3, 1]
abbrev dktX6_lays_0 : List UInt8 := dkwX6_lays_0 ++ dktX6_lays_1
theorem dksX6_lays_0 : cX6_lays.data.toList.drop 0 = dktX6_lays_0 := by decide +kernel
theorem dksX6_lays_1 : cX6_lays.data.toList.drop 22 = dktX6_lays_1 := dk_seg dksX6_lays_0 22 rfl rfl
theorem dksX6_lays_2 : cX6_lays.data.toList.drop 45 = dktX6_lays_2 := dk_seg dksX6_lays_1 23 rfl rfl
theorem dksX6_lays_3 : cX6_lays.data.toList.drop 69 = dktX6_lays_3 := dk_seg dksX6_lays_2 24 rfl rfl
theorem dksX6_lays_4 : cX6_lays.data.toList.drop 93 = dktX6_lays_4 := dk_seg dksX6_lays_3 24 rfl rfl
theorem dksX6_lays_5 : cX6_lays.data.toList.drop 117 = dktX6_lays_5 := dk_seg dksX6_lays_4 24 rfl rfl
theorem dksX6_lays_6 : cX6_lays.data.toList.drop 140 = dktX6_lays_6 := dk_seg dksX6_lays_5 23 rfl rfl
theorem dX6_lays_0 : decode cX6_lays 0 = .ok (.aload_n 0, 1) := dk_42 (dk_at dksX6_lays_0 0 rfl rfl)
theorem dX6_lays_1 : decode cX6_lays 1 = .ok (.invokevirtual 171, 3) := dk_182 0 171 (dk_at dksX6_lays_0 1 rfl rfl)
theorem dX6_lays_4 : decode cX6_lays 4 = .ok (.iconst 0, 1) := dk_3 (dk_at dksX6_lays_0 4 rfl rfl)
theorem dX6_lays_5 : decode cX6_lays 5 = .ok (.istore_n 3, 1) := dk_62 (dk_at dksX6_lays_0 5 rfl rfl)
theorem dX6_lays_6 : decode cX6_lays 6 = .ok (.iload_n 3, 1) := dk_29 (dk_at dksX6_lays_0 6 rfl rfl)
theorem dX6_lays_7 : decode cX6_lays 7 = .ok (.bipush 20, 2) := dk_16 20 (dk_at dksX6_lays_0 7 rfl rfl)
theorem dX6_lays_9 : decode cX6_lays 9 = .ok (.if_icmp .ge 16, 3) := dk_162 0 16 (dk_at dksX6_lays_0 9 rfl rfl)
theorem dX6_lays_12 : decode cX6_lays 12 = .ok (.aload_n 0, 1) := dk_42 (dk_at dksX6_lays_0 12 rfl rfl)
theorem dX6_lays_13 : decode cX6_lays 13 = .ok (.getfield 44, 3) := dk_180 0 44 (dk_at dksX6_lays_0 13 rfl rfl)
theorem dX6_lays_16 : decode cX6_lays 16 = .ok (.iload_n 3, 1) := dk_29 (dk_at dksX6_lays_0 16 rfl rfl)
theorem dX6_lays_17 : decode cX6_lays 17 = .ok (.iconst 0, 1) := dk_3 (dk_at dksX6_lays_0 17 rfl rfl)
theorem dX6_lays_18 : decode cX6_lays 18 = .ok (.bastore, 1) := dk_84 (dk_at dksX6_lays_0 18 rfl rfl)
theorem dX6_lays_19 : decode cX6_lays 19 = .ok (.iinc 3 1, 3) := dk_132 3 1 (dk_at dksX6_lays_0 19 rfl rfl)
theorem dX6_lays_22 : decode cX6_lays 22 = .ok (.goto (-16), 3) := dk_167 255 240 (dk_at dksX6_lays_1 0 rfl rfl)
theorem dX6_lays_25 : decode cX6_lays 25 = .ok (.iconst 0, 1) := dk_3 (dk_at dksX6_lays_1 3 rfl rfl)
theorem dX6_lays_26 : decode cX6_lays 26 = .ok (.istore_n 3, 1) := dk_62 (dk_at dksX6_lays_1 4 rfl rfl)
theorem dX6_lays_27 : decode cX6_lays 27 = .ok (.iload_n 3, 1) := dk_29 (dk_at dksX6_lays_1 5 rfl rfl)
theorem dX6_lays_28 : decode cX6_lays 28 = .ok (.aload_n 0, 1) := dk_42 (dk_at dksX6_lays_1 6 rfl rfl)
theorem dX6_lays_29 : decode cX6_lays 29 = .ok (.getfield 156, 3) := dk_180 0 156 (dk_at dksX6_lays_1 7 rfl rfl)
theorem dX6_lays_32 : decode cX6_lays 32 = .ok (.if_icmp .ge 57, 3) := dk_162 0 57 (dk_at dksX6_lays_1 10 rfl rfl)
theorem dX6_lays_35 : decode cX6_lays 35 = .ok (.bipush 20, 2) := dk_16 20 (dk_at dksX6_lays_1 13 rfl rfl)
theorem dX6_lays_37 : decode cX6_lays 37 = .ok (.aload_n 0, 1) := dk_42 (dk_at dksX6_lays_1 15 rfl rfl)
theorem dX6_lays_38 : decode cX6_lays 38 = .ok (.getfield 34, 3) := dk_180 0 34 (dk_at dksX6_lays_1 16 rfl rfl)
theorem dX6_lays_41 : decode cX6_lays 41 = .ok (.iload_n 3, 1) := dk_29 (dk_at dksX6_lays_1 19 rfl rfl)
theorem dX6_lays_42 : decode cX6_lays 42 = .ok (.iaload, 1) := dk_46 (dk_at dksX6_lays_1 20 rfl rfl)
theorem dX6_lays_43 : decode cX6_lays 43 = .ok (.imul, 1) := dk_104 (dk_at dksX6_lays_1 21 rfl rfl)
theorem dX6_lays_44 : decode cX6_lays 44 = .ok (.aload_n 0, 1) := dk_42 (dk_at dksX6_lays_1 22 rfl rfl)
theorem dX6_lays_45 : decode cX6_lays 45 = .ok (.getfield 31, 3) := dk_180 0 31 (dk_at dksX6_lays_2 0 rfl rfl)
theorem dX6_lays_48 : decode cX6_lays 48 = .ok (.iload_n 3, 1) := dk_29 (dk_at dksX6_lays_2 3 rfl rfl)
theorem dX6_lays_49 : decode cX6_lays 49 = .ok (.iaload, 1) := dk_46 (dk_at dksX6_lays_2 4 rfl rfl)
theorem dX6_lays_50 : decode cX6_lays 50 = .ok (.iadd, 1) := dk_96 (dk_at dksX6_lays_2 5 rfl rfl)
theorem dX6_lays_51 : decode cX6_lays 51 = .ok (.istore 4, 2) := dk_54 4 (dk_at dksX6_lays_2 6 rfl rfl)
theorem dX6_lays_53 : decode cX6_lays 53 = .ok (.aload_n 0, 1) := dk_42 (dk_at dksX6_lays_2 8 rfl rfl)
theorem dX6_lays_54 : decode cX6_lays 54 = .ok (.getfield 40, 3) := dk_180 0 40 (dk_at dksX6_lays_2 9 rfl rfl)
theorem dX6_lays_57 : decode cX6_lays 57 = .ok (.iload 4, 2) := dk_21 4 (dk_at dksX6_lays_2 12 rfl rfl)
theorem dX6_lays_59 : decode cX6_lays 59 = .ok (.aload_n 0, 1) := dk_42 (dk_at dksX6_lays_2 14 rfl rfl)
theorem dX6_lays_60 : decode cX6_lays 60 = .ok (.getfield 40, 3) := dk_180 0 40 (dk_at dksX6_lays_2 15 rfl rfl)
theorem dX6_lays_63 : decode cX6_lays 63 = .ok (.iload 4, 2) := dk_21 4 (dk_at dksX6_lays_2 18 rfl rfl)
theorem dX6_lays_65 : decode cX6_lays 65 = .ok (.baload, 1) := dk_51 (dk_at dksX6_lays_2 20 rfl rfl)
theorem dX6_lays_66 : decode cX6_lays 66 = .ok (.ifCond .ne 11, 3) := dk_154 0 11 (dk_at dksX6_lays_2 21 rfl rfl)
theorem dX6_lays_69 : decode cX6_lays 69 = .ok (.iload_n 1, 1) := dk_27 (dk_at dksX6_lays_3 0 rfl rfl)
theorem dX6_lays_70 : decode cX6_lays 70 = .ok (.iload_n 3, 1) := dk_29 (dk_at dksX6_lays_3 1 rfl rfl)
theorem dX6_lays_71 : decode cX6_lays 71 = .ok (.invokestatic 174, 3) := dk_184 0 174 (dk_at dksX6_lays_3 2 rfl rfl)
theorem dX6_lays_74 : decode cX6_lays 74 = .ok (.ifCond .ne 7, 3) := dk_154 0 7 (dk_at dksX6_lays_3 5 rfl rfl)
theorem dX6_lays_77 : decode cX6_lays 77 = .ok (.iconst 1, 1) := dk_4 (dk_at dksX6_lays_3 8 rfl rfl)
theorem dX6_lays_78 : decode cX6_lays 78 = .ok (.goto 4, 3) := dk_167 0 4 (dk_at dksX6_lays_3 9 rfl rfl)
theorem dX6_lays_81 : decode cX6_lays 81 = .ok (.iconst 0, 1) := dk_3 (dk_at dksX6_lays_3 12 rfl rfl)
theorem dX6_lays_82 : decode cX6_lays 82 = .ok (.bastore, 1) := dk_84 (dk_at dksX6_lays_3 13 rfl rfl)
theorem dX6_lays_83 : decode cX6_lays 83 = .ok (.iinc 3 1, 3) := dk_132 3 1 (dk_at dksX6_lays_3 14 rfl rfl)
theorem dX6_lays_86 : decode cX6_lays 86 = .ok (.goto (-59), 3) := dk_167 255 197 (dk_at dksX6_lays_3 17 rfl rfl)
theorem dX6_lays_89 : decode cX6_lays 89 = .ok (.iconst 0, 1) := dk_3 (dk_at dksX6_lays_3 20 rfl rfl)
theorem dX6_lays_90 : decode cX6_lays 90 = .ok (.istore_n 3, 1) := dk_62 (dk_at dksX6_lays_3 21 rfl rfl)
theorem dX6_lays_91 : decode cX6_lays 91 = .ok (.iload_n 3, 1) := dk_29 (dk_at dksX6_lays_3 22 rfl rfl)
theorem dX6_lays_92 : decode cX6_lays 92 = .ok (.aload_n 0, 1) := dk_42 (dk_at dksX6_lays_3 23 rfl rfl)
theorem dX6_lays_93 : decode cX6_lays 93 = .ok (.getfield 159, 3) := dk_180 0 159 (dk_at dksX6_lays_4 0 rfl rfl)
theorem dX6_lays_96 : decode cX6_lays 96 = .ok (.if_icmp .ge 47, 3) := dk_162 0 47 (dk_at dksX6_lays_4 3 rfl rfl)
theorem dX6_lays_99 : decode cX6_lays 99 = .ok (.aload_n 0, 1) := dk_42 (dk_at dksX6_lays_4 6 rfl rfl)
theorem dX6_lays_100 : decode cX6_lays 100 = .ok (.getfield 44, 3) := dk_180 0 44 (dk_at dksX6_lays_4 7 rfl rfl)
theorem dX6_lays_103 : decode cX6_lays 103 = .ok (.aload_n 0, 1) := dk_42 (dk_at dksX6_lays_4 10 rfl rfl)
theorem dX6_lays_104 : decode cX6_lays 104 = .ok (.getfield 37, 3) := dk_180 0 37 (dk_at dksX6_lays_4 11 rfl rfl)
theorem dX6_lays_107 : decode cX6_lays 107 = .ok (.iload_n 3, 1) := dk_29 (dk_at dksX6_lays_4 14 rfl rfl)
theorem dX6_lays_108 : decode cX6_lays 108 = .ok (.iaload, 1) := dk_46 (dk_at dksX6_lays_4 15 rfl rfl)
theorem dX6_lays_109 : decode cX6_lays 109 = .ok (.aload_n 0, 1) := dk_42 (dk_at dksX6_lays_4 16 rfl rfl)
theorem dX6_lays_110 : decode cX6_lays 110 = .ok (.getfield 44, 3) := dk_180 0 44 (dk_at dksX6_lays_4 17 rfl rfl)
theorem dX6_lays_113 : decode cX6_lays 113 = .ok (.aload_n 0, 1) := dk_42 (dk_at dksX6_lays_4 20 rfl rfl)
theorem dX6_lays_114 : decode cX6_lays 114 = .ok (.getfield 37, 3) := dk_180 0 37 (dk_at dksX6_lays_4 21 rfl rfl)
theorem dX6_lays_117 : decode cX6_lays 117 = .ok (.iload_n 3, 1) := dk_29 (dk_at dksX6_lays_5 0 rfl rfl)
theorem dX6_lays_118 : decode cX6_lays 118 = .ok (.iaload, 1) := dk_46 (dk_at dksX6_lays_5 1 rfl rfl)
theorem dX6_lays_119 : decode cX6_lays 119 = .ok (.baload, 1) := dk_51 (dk_at dksX6_lays_5 2 rfl rfl)
theorem dX6_lays_120 : decode cX6_lays 120 = .ok (.ifCond .ne 11, 3) := dk_154 0 11 (dk_at dksX6_lays_5 3 rfl rfl)
theorem dX6_lays_123 : decode cX6_lays 123 = .ok (.iload_n 2, 1) := dk_28 (dk_at dksX6_lays_5 6 rfl rfl)
theorem dX6_lays_124 : decode cX6_lays 124 = .ok (.iload_n 3, 1) := dk_29 (dk_at dksX6_lays_5 7 rfl rfl)
theorem dX6_lays_125 : decode cX6_lays 125 = .ok (.invokestatic 174, 3) := dk_184 0 174 (dk_at dksX6_lays_5 8 rfl rfl)
theorem dX6_lays_128 : decode cX6_lays 128 = .ok (.ifCond .ne 7, 3) := dk_154 0 7 (dk_at dksX6_lays_5 11 rfl rfl)
theorem dX6_lays_131 : decode cX6_lays 131 = .ok (.iconst 1, 1) := dk_4 (dk_at dksX6_lays_5 14 rfl rfl)
theorem dX6_lays_132 : decode cX6_lays 132 = .ok (.goto 4, 3) := dk_167 0 4 (dk_at dksX6_lays_5 15 rfl rfl)
theorem dX6_lays_135 : decode cX6_lays 135 = .ok (.iconst 0, 1) := dk_3 (dk_at dksX6_lays_5 18 rfl rfl)
theorem dX6_lays_136 : decode cX6_lays 136 = .ok (.bastore, 1) := dk_84 (dk_at dksX6_lays_5 19 rfl rfl)
theorem dX6_lays_137 : decode cX6_lays 137 = .ok (.iinc 3 1, 3) := dk_132 3 1 (dk_at dksX6_lays_5 20 rfl rfl)
theorem dX6_lays_140 : decode cX6_lays 140 = .ok (.goto (-49), 3) := dk_167 255 207 (dk_at dksX6_lays_6 0 rfl rfl)
theorem dX6_lays_143 : decode cX6_lays 143 = .ok (.return_, 1) := dk_177 (dk_at dksX6_lays_6 3 rfl rfl)
abbrev cX6_noCalls : ByteArray := prog_14_method_31_code
def yX6_noCalls : MethodName := ⟨RX6, "noCalls", "()V"⟩
def dkwX6_noCalls_0 : List UInt8 := [3, 60, 27, 17, 0, 160, 162, 0, 16, 42, 180, 0, 40, 27, 3, 84, 132, 1, 1, 167, 255, 239, 177]
abbrev dktX6_noCalls_0 : List UInt8 := dkwX6_noCalls_0 ++ []
theorem dksX6_noCalls_0 : cX6_noCalls.data.toList.drop 0 = dktX6_noCalls_0 := by decide +kernel
theorem dX6_noCalls_0 : decode cX6_noCalls 0 = .ok (.iconst 0, 1) := dk_3 (dk_at dksX6_noCalls_0 0 rfl rfl)
theorem dX6_noCalls_1 : decode cX6_noCalls 1 = .ok (.istore_n 1, 1) := dk_60 (dk_at dksX6_noCalls_0 1 rfl rfl)
theorem dX6_noCalls_2 : decode cX6_noCalls 2 = .ok (.iload_n 1, 1) := dk_27 (dk_at dksX6_noCalls_0 2 rfl rfl)
theorem dX6_noCalls_3 : decode cX6_noCalls 3 = .ok (.sipush 160, 3) := dk_17 0 160 (dk_at dksX6_noCalls_0 3 rfl rfl)
theorem dX6_noCalls_6 : decode cX6_noCalls 6 = .ok (.if_icmp .ge 16, 3) := dk_162 0 16 (dk_at dksX6_noCalls_0 6 rfl rfl)
theorem dX6_noCalls_9 : decode cX6_noCalls 9 = .ok (.aload_n 0, 1) := dk_42 (dk_at dksX6_noCalls_0 9 rfl rfl)
theorem dX6_noCalls_10 : decode cX6_noCalls 10 = .ok (.getfield 40, 3) := dk_180 0 40 (dk_at dksX6_noCalls_0 10 rfl rfl)
theorem dX6_noCalls_13 : decode cX6_noCalls 13 = .ok (.iload_n 1, 1) := dk_27 (dk_at dksX6_noCalls_0 13 rfl rfl)
theorem dX6_noCalls_14 : decode cX6_noCalls 14 = .ok (.iconst 0, 1) := dk_3 (dk_at dksX6_noCalls_0 14 rfl rfl)
theorem dX6_noCalls_15 : decode cX6_noCalls 15 = .ok (.bastore, 1) := dk_84 (dk_at dksX6_noCalls_0 15 rfl rfl)
theorem dX6_noCalls_16 : decode cX6_noCalls 16 = .ok (.iinc 1 1, 3) := dk_132 1 1 (dk_at dksX6_noCalls_0 16 rfl rfl)
theorem dX6_noCalls_19 : decode cX6_noCalls 19 = .ok (.goto (-17), 3) := dk_167 255 239 (dk_at dksX6_noCalls_0 19 rfl rfl)
theorem dX6_noCalls_22 : decode cX6_noCalls 22 = .ok (.return_, 1) := dk_177 (dk_at dksX6_noCalls_0 22 rfl rfl)
abbrev cX6_isIn : ByteArray := prog_14_method_4_code
def yX6_isIn : MethodName := ⟨RX6, "isIn", "(II)Z"⟩
def dkwX6_isIn_0 : List UInt8 := [26, 27, 122, 4, 126, 4, 160, 0, 7, 4, 167, 0, 4, 3, 172]
abbrev dktX6_isIn_0 : List UInt8 := dkwX6_isIn_0 ++ []
theorem dksX6_isIn_0 : cX6_isIn.data.toList.drop 0 = dktX6_isIn_0 := by decide +kernel
theorem dX6_isIn_0 : decode cX6_isIn 0 = .ok (.iload_n 0, 1) := dk_26 (dk_at dksX6_isIn_0 0 rfl rfl)
theorem dX6_isIn_1 : decode cX6_isIn 1 = .ok (.iload_n 1, 1) := dk_27 (dk_at dksX6_isIn_0 1 rfl rfl)
theorem dX6_isIn_2 : decode cX6_isIn 2 = .ok (.ishr, 1) := dk_122 (dk_at dksX6_isIn_0 2 rfl rfl)
theorem dX6_isIn_3 : decode cX6_isIn 3 = .ok (.iconst 1, 1) := dk_4 (dk_at dksX6_isIn_0 3 rfl rfl)
theorem dX6_isIn_4 : decode cX6_isIn 4 = .ok (.iand, 1) := dk_126 (dk_at dksX6_isIn_0 4 rfl rfl)
theorem dX6_isIn_5 : decode cX6_isIn 5 = .ok (.iconst 1, 1) := dk_4 (dk_at dksX6_isIn_0 5 rfl rfl)
theorem dX6_isIn_6 : decode cX6_isIn 6 = .ok (.if_icmp .ne 7, 3) := dk_160 0 7 (dk_at dksX6_isIn_0 6 rfl rfl)
theorem dX6_isIn_9 : decode cX6_isIn 9 = .ok (.iconst 1, 1) := dk_4 (dk_at dksX6_isIn_0 9 rfl rfl)
theorem dX6_isIn_10 : decode cX6_isIn 10 = .ok (.goto 4, 3) := dk_167 0 4 (dk_at dksX6_isIn_0 10 rfl rfl)
theorem dX6_isIn_13 : decode cX6_isIn 13 = .ok (.iconst 0, 1) := dk_3 (dk_at dksX6_isIn_0 13 rfl rfl)
theorem dX6_isIn_14 : decode cX6_isIn 14 = .ok (.ireturn, 1) := dk_172 (dk_at dksX6_isIn_0 14 rfl rfl)
abbrev cX6_runs : ByteArray := prog_14_method_36_code
def yX6_runs : MethodName := ⟨RX6, "runs", "()V"⟩
def dkwX6_runs_2 : List UInt8 := [182, 0, 197, 132, 1, 1, 167, 255, 242, 177]
abbrev dktX6_runs_2 : List UInt8 := dkwX6_runs_2 ++ []
def dkwX6_runs_1 : List UInt8 := [180, 0, 47, 27, 3, 79, 132, 1, 1, 167, 255, 240, 3, 60, 27, 16, 20, 162, 0, 14, 42, 27]
abbrev dktX6_runs_1 : List UInt8 := dkwX6_runs_1 ++ dktX6_runs_2
def dkwX6_runs_0 : List UInt8 := [42, 2, 181, 0, 191, 42, 2, 181, 0, 185, 42, 2, 181, 0, 188, 3, 60, 27, 16, 8, 162, 0, 16, 42]
abbrev dktX6_runs_0 : List UInt8 := dkwX6_runs_0 ++ dktX6_runs_1
theorem dksX6_runs_0 : cX6_runs.data.toList.drop 0 = dktX6_runs_0 := by decide +kernel
theorem dksX6_runs_1 : cX6_runs.data.toList.drop 24 = dktX6_runs_1 := dk_seg dksX6_runs_0 24 rfl rfl
theorem dksX6_runs_2 : cX6_runs.data.toList.drop 46 = dktX6_runs_2 := dk_seg dksX6_runs_1 22 rfl rfl
theorem dX6_runs_0 : decode cX6_runs 0 = .ok (.aload_n 0, 1) := dk_42 (dk_at dksX6_runs_0 0 rfl rfl)
theorem dX6_runs_1 : decode cX6_runs 1 = .ok (.iconst (-1), 1) := dk_2 (dk_at dksX6_runs_0 1 rfl rfl)
theorem dX6_runs_2 : decode cX6_runs 2 = .ok (.putfield 191, 3) := dk_181 0 191 (dk_at dksX6_runs_0 2 rfl rfl)
theorem dX6_runs_5 : decode cX6_runs 5 = .ok (.aload_n 0, 1) := dk_42 (dk_at dksX6_runs_0 5 rfl rfl)
theorem dX6_runs_6 : decode cX6_runs 6 = .ok (.iconst (-1), 1) := dk_2 (dk_at dksX6_runs_0 6 rfl rfl)
theorem dX6_runs_7 : decode cX6_runs 7 = .ok (.putfield 185, 3) := dk_181 0 185 (dk_at dksX6_runs_0 7 rfl rfl)
theorem dX6_runs_10 : decode cX6_runs 10 = .ok (.aload_n 0, 1) := dk_42 (dk_at dksX6_runs_0 10 rfl rfl)
theorem dX6_runs_11 : decode cX6_runs 11 = .ok (.iconst (-1), 1) := dk_2 (dk_at dksX6_runs_0 11 rfl rfl)
theorem dX6_runs_12 : decode cX6_runs 12 = .ok (.putfield 188, 3) := dk_181 0 188 (dk_at dksX6_runs_0 12 rfl rfl)
theorem dX6_runs_15 : decode cX6_runs 15 = .ok (.iconst 0, 1) := dk_3 (dk_at dksX6_runs_0 15 rfl rfl)
theorem dX6_runs_16 : decode cX6_runs 16 = .ok (.istore_n 1, 1) := dk_60 (dk_at dksX6_runs_0 16 rfl rfl)
theorem dX6_runs_17 : decode cX6_runs 17 = .ok (.iload_n 1, 1) := dk_27 (dk_at dksX6_runs_0 17 rfl rfl)
theorem dX6_runs_18 : decode cX6_runs 18 = .ok (.bipush 8, 2) := dk_16 8 (dk_at dksX6_runs_0 18 rfl rfl)
theorem dX6_runs_20 : decode cX6_runs 20 = .ok (.if_icmp .ge 16, 3) := dk_162 0 16 (dk_at dksX6_runs_0 20 rfl rfl)
theorem dX6_runs_23 : decode cX6_runs 23 = .ok (.aload_n 0, 1) := dk_42 (dk_at dksX6_runs_0 23 rfl rfl)
theorem dX6_runs_24 : decode cX6_runs 24 = .ok (.getfield 47, 3) := dk_180 0 47 (dk_at dksX6_runs_1 0 rfl rfl)
theorem dX6_runs_27 : decode cX6_runs 27 = .ok (.iload_n 1, 1) := dk_27 (dk_at dksX6_runs_1 3 rfl rfl)
theorem dX6_runs_28 : decode cX6_runs 28 = .ok (.iconst 0, 1) := dk_3 (dk_at dksX6_runs_1 4 rfl rfl)
theorem dX6_runs_29 : decode cX6_runs 29 = .ok (.iastore, 1) := dk_79 (dk_at dksX6_runs_1 5 rfl rfl)
theorem dX6_runs_30 : decode cX6_runs 30 = .ok (.iinc 1 1, 3) := dk_132 1 1 (dk_at dksX6_runs_1 6 rfl rfl)
theorem dX6_runs_33 : decode cX6_runs 33 = .ok (.goto (-16), 3) := dk_167 255 240 (dk_at dksX6_runs_1 9 rfl rfl)
theorem dX6_runs_36 : decode cX6_runs 36 = .ok (.iconst 0, 1) := dk_3 (dk_at dksX6_runs_1 12 rfl rfl)
theorem dX6_runs_37 : decode cX6_runs 37 = .ok (.istore_n 1, 1) := dk_60 (dk_at dksX6_runs_1 13 rfl rfl)
theorem dX6_runs_38 : decode cX6_runs 38 = .ok (.iload_n 1, 1) := dk_27 (dk_at dksX6_runs_1 14 rfl rfl)
theorem dX6_runs_39 : decode cX6_runs 39 = .ok (.bipush 20, 2) := dk_16 20 (dk_at dksX6_runs_1 15 rfl rfl)
theorem dX6_runs_41 : decode cX6_runs 41 = .ok (.if_icmp .ge 14, 3) := dk_162 0 14 (dk_at dksX6_runs_1 17 rfl rfl)
theorem dX6_runs_44 : decode cX6_runs 44 = .ok (.aload_n 0, 1) := dk_42 (dk_at dksX6_runs_1 20 rfl rfl)
theorem dX6_runs_45 : decode cX6_runs 45 = .ok (.iload_n 1, 1) := dk_27 (dk_at dksX6_runs_1 21 rfl rfl)
theorem dX6_runs_46 : decode cX6_runs 46 = .ok (.invokevirtual 197, 3) := dk_182 0 197 (dk_at dksX6_runs_2 0 rfl rfl)
theorem dX6_runs_49 : decode cX6_runs 49 = .ok (.iinc 1 1, 3) := dk_132 1 1 (dk_at dksX6_runs_2 3 rfl rfl)
theorem dX6_runs_52 : decode cX6_runs 52 = .ok (.goto (-14), 3) := dk_167 255 242 (dk_at dksX6_runs_2 6 rfl rfl)
theorem dX6_runs_55 : decode cX6_runs 55 = .ok (.return_, 1) := dk_177 (dk_at dksX6_runs_2 9 rfl rfl)
abbrev cX6_goesBy : ByteArray := prog_14_method_35_code
def yX6_goesBy : MethodName := ⟨RX6, "goesBy", "(I)V"⟩
def dkwX6_goesBy_13 : List UInt8 := [167, 0, 7, 42, 180, 0, 191, 181, 0, 191, 177]
abbrev dktX6_goesBy_13 : List UInt8 := dkwX6_goesBy_13 ++ []
def dkwX6_goesBy_12 : List UInt8 := [180, 0, 191, 2, 160, 0, 23, 28, 42, 180, 0, 99, 164, 0, 15, 27, 16, 19, 162, 0, 9, 27, 4, 96]
abbrev dktX6_goesBy_12 : List UInt8 := dkwX6_goesBy_12 ++ dktX6_goesBy_13
def dkwX6_goesBy_11 : List UInt8 := [180, 0, 62, 16, 20, 29, 104, 27, 96, 42, 180, 0, 59, 29, 46, 79, 132, 3, 1, 167, 255, 228, 42, 42]
abbrev dktX6_goesBy_11 : List UInt8 := dkwX6_goesBy_11 ++ dktX6_goesBy_12
def dkwX6_goesBy_10 : List UInt8 := [180, 0, 47, 29, 46, 96, 61, 132, 3, 1, 167, 255, 236, 3, 62, 29, 42, 180, 0, 125, 162, 0, 26, 42]
abbrev dktX6_goesBy_10 : List UInt8 := dkwX6_goesBy_10 ++ dktX6_goesBy_11
def dkwX6_goesBy_9 : List UInt8 := [180, 0, 47, 29, 46, 79, 132, 3, 1, 167, 255, 159, 3, 62, 29, 42, 180, 0, 122, 162, 0, 18, 28, 42]
abbrev dktX6_goesBy_9 : List UInt8 := dkwX6_goesBy_9 ++ dktX6_goesBy_10
def dkwX6_goesBy_8 : List UInt8 := [180, 0, 191, 161, 0, 9, 42, 29, 27, 182, 0, 194, 42, 180, 0, 50, 16, 20, 29, 104, 27, 96, 42]
abbrev dktX6_goesBy_8 : List UInt8 := dkwX6_goesBy_8 ++ dktX6_goesBy_9
def dkwX6_goesBy_7 : List UInt8 := [180, 0, 40, 16, 20, 29, 104, 27, 96, 51, 154, 0, 19, 42, 180, 0, 191, 2, 159, 0, 17, 27, 42]
abbrev dktX6_goesBy_7 : List UInt8 := dkwX6_goesBy_7 ++ dktX6_goesBy_8
def dkwX6_goesBy_6 : List UInt8 := [79, 42, 180, 0, 56, 16, 20, 29, 104, 27, 96, 3, 79, 42, 180, 0, 19, 29, 46, 153, 0, 33, 42]
abbrev dktX6_goesBy_6 : List UInt8 := dkwX6_goesBy_6 ++ dktX6_goesBy_7
def dkwX6_goesBy_5 : List UInt8 := [167, 255, 193, 3, 62, 29, 42, 180, 0, 122, 162, 0, 95, 42, 180, 0, 53, 16, 20, 29, 104, 27, 96, 3]
abbrev dktX6_goesBy_5 : List UInt8 := dkwX6_goesBy_5 ++ dktX6_goesBy_6
def dkwX6_goesBy_4 : List UInt8 := [42, 180, 0, 47, 29, 92, 46, 42, 180, 0, 16, 29, 46, 42, 180, 0, 178, 104, 96, 79, 132, 3, 1]
abbrev dktX6_goesBy_4 : List UInt8 := dkwX6_goesBy_4 ++ dktX6_goesBy_5
def dkwX6_goesBy_3 : List UInt8 := [180, 0, 19, 29, 46, 4, 160, 0, 15, 42, 180, 0, 47, 29, 46, 16, 10, 108, 167, 0, 4, 3, 96, 79]
abbrev dktX6_goesBy_3 : List UInt8 := dkwX6_goesBy_3 ++ dktX6_goesBy_4
def dkwX6_goesBy_2 : List UInt8 := [132, 3, 1, 167, 255, 210, 3, 62, 29, 42, 180, 0, 122, 162, 0, 61, 42, 180, 0, 47, 29, 92, 46, 42]
abbrev dktX6_goesBy_2 : List UInt8 := dkwX6_goesBy_2 ++ dktX6_goesBy_3
def dkwX6_goesBy_1 : List UInt8 := [153, 0, 14, 8, 42, 180, 0, 25, 29, 46, 104, 167, 0, 12, 16, 10, 42, 180, 0, 25, 29, 46, 104, 79]
abbrev dktX6_goesBy_1 : List UInt8 := dkwX6_goesBy_1 ++ dktX6_goesBy_2
def dkwX6_goesBy_0 : List UInt8 := [3, 61, 3, 62, 29, 42, 180, 0, 125, 162, 0, 44, 42, 180, 0, 59, 29, 42, 180, 0, 44, 27, 51]
abbrev dktX6_goesBy_0 : List UInt8 := dkwX6_goesBy_0 ++ dktX6_goesBy_1
theorem dksX6_goesBy_0 : cX6_goesBy.data.toList.drop 0 = dktX6_goesBy_0 := by decide +kernel
theorem dksX6_goesBy_1 : cX6_goesBy.data.toList.drop 23 = dktX6_goesBy_1 := dk_seg dksX6_goesBy_0 23 rfl rfl
theorem dksX6_goesBy_2 : cX6_goesBy.data.toList.drop 47 = dktX6_goesBy_2 := dk_seg dksX6_goesBy_1 24 rfl rfl
theorem dksX6_goesBy_3 : cX6_goesBy.data.toList.drop 71 = dktX6_goesBy_3 := dk_seg dksX6_goesBy_2 24 rfl rfl
theorem dksX6_goesBy_4 : cX6_goesBy.data.toList.drop 95 = dktX6_goesBy_4 := dk_seg dksX6_goesBy_3 24 rfl rfl
theorem dksX6_goesBy_5 : cX6_goesBy.data.toList.drop 118 = dktX6_goesBy_5 := dk_seg dksX6_goesBy_4 23 rfl rfl
theorem dksX6_goesBy_6 : cX6_goesBy.data.toList.drop 142 = dktX6_goesBy_6 := dk_seg dksX6_goesBy_5 24 rfl rfl
theorem dksX6_goesBy_7 : cX6_goesBy.data.toList.drop 165 = dktX6_goesBy_7 := dk_seg dksX6_goesBy_6 23 rfl rfl
theorem dksX6_goesBy_8 : cX6_goesBy.data.toList.drop 188 = dktX6_goesBy_8 := dk_seg dksX6_goesBy_7 23 rfl rfl
theorem dksX6_goesBy_9 : cX6_goesBy.data.toList.drop 211 = dktX6_goesBy_9 := dk_seg dksX6_goesBy_8 23 rfl rfl
theorem dksX6_goesBy_10 : cX6_goesBy.data.toList.drop 235 = dktX6_goesBy_10 := dk_seg dksX6_goesBy_9 24 rfl rfl
theorem dksX6_goesBy_11 : cX6_goesBy.data.toList.drop 259 = dktX6_goesBy_11 := dk_seg dksX6_goesBy_10 24 rfl rfl
theorem dksX6_goesBy_12 : cX6_goesBy.data.toList.drop 283 = dktX6_goesBy_12 := dk_seg dksX6_goesBy_11 24 rfl rfl
theorem dksX6_goesBy_13 : cX6_goesBy.data.toList.drop 307 = dktX6_goesBy_13 := dk_seg dksX6_goesBy_12 24 rfl rfl
theorem dX6_goesBy_0 : decode cX6_goesBy 0 = .ok (.iconst 0, 1) := dk_3 (dk_at dksX6_goesBy_0 0 rfl rfl)
theorem dX6_goesBy_1 : decode cX6_goesBy 1 = .ok (.istore_n 2, 1) := dk_61 (dk_at dksX6_goesBy_0 1 rfl rfl)
theorem dX6_goesBy_2 : decode cX6_goesBy 2 = .ok (.iconst 0, 1) := dk_3 (dk_at dksX6_goesBy_0 2 rfl rfl)
theorem dX6_goesBy_3 : decode cX6_goesBy 3 = .ok (.istore_n 3, 1) := dk_62 (dk_at dksX6_goesBy_0 3 rfl rfl)
theorem dX6_goesBy_4 : decode cX6_goesBy 4 = .ok (.iload_n 3, 1) := dk_29 (dk_at dksX6_goesBy_0 4 rfl rfl)
theorem dX6_goesBy_5 : decode cX6_goesBy 5 = .ok (.aload_n 0, 1) := dk_42 (dk_at dksX6_goesBy_0 5 rfl rfl)
theorem dX6_goesBy_6 : decode cX6_goesBy 6 = .ok (.getfield 125, 3) := dk_180 0 125 (dk_at dksX6_goesBy_0 6 rfl rfl)
theorem dX6_goesBy_9 : decode cX6_goesBy 9 = .ok (.if_icmp .ge 44, 3) := dk_162 0 44 (dk_at dksX6_goesBy_0 9 rfl rfl)
theorem dX6_goesBy_12 : decode cX6_goesBy 12 = .ok (.aload_n 0, 1) := dk_42 (dk_at dksX6_goesBy_0 12 rfl rfl)
theorem dX6_goesBy_13 : decode cX6_goesBy 13 = .ok (.getfield 59, 3) := dk_180 0 59 (dk_at dksX6_goesBy_0 13 rfl rfl)
theorem dX6_goesBy_16 : decode cX6_goesBy 16 = .ok (.iload_n 3, 1) := dk_29 (dk_at dksX6_goesBy_0 16 rfl rfl)
theorem dX6_goesBy_17 : decode cX6_goesBy 17 = .ok (.aload_n 0, 1) := dk_42 (dk_at dksX6_goesBy_0 17 rfl rfl)
theorem dX6_goesBy_18 : decode cX6_goesBy 18 = .ok (.getfield 44, 3) := dk_180 0 44 (dk_at dksX6_goesBy_0 18 rfl rfl)
theorem dX6_goesBy_21 : decode cX6_goesBy 21 = .ok (.iload_n 1, 1) := dk_27 (dk_at dksX6_goesBy_0 21 rfl rfl)
theorem dX6_goesBy_22 : decode cX6_goesBy 22 = .ok (.baload, 1) := dk_51 (dk_at dksX6_goesBy_0 22 rfl rfl)
theorem dX6_goesBy_23 : decode cX6_goesBy 23 = .ok (.ifCond .eq 14, 3) := dk_153 0 14 (dk_at dksX6_goesBy_1 0 rfl rfl)
theorem dX6_goesBy_26 : decode cX6_goesBy 26 = .ok (.iconst 5, 1) := dk_8 (dk_at dksX6_goesBy_1 3 rfl rfl)
theorem dX6_goesBy_27 : decode cX6_goesBy 27 = .ok (.aload_n 0, 1) := dk_42 (dk_at dksX6_goesBy_1 4 rfl rfl)
theorem dX6_goesBy_28 : decode cX6_goesBy 28 = .ok (.getfield 25, 3) := dk_180 0 25 (dk_at dksX6_goesBy_1 5 rfl rfl)
theorem dX6_goesBy_31 : decode cX6_goesBy 31 = .ok (.iload_n 3, 1) := dk_29 (dk_at dksX6_goesBy_1 8 rfl rfl)
theorem dX6_goesBy_32 : decode cX6_goesBy 32 = .ok (.iaload, 1) := dk_46 (dk_at dksX6_goesBy_1 9 rfl rfl)
theorem dX6_goesBy_33 : decode cX6_goesBy 33 = .ok (.imul, 1) := dk_104 (dk_at dksX6_goesBy_1 10 rfl rfl)
theorem dX6_goesBy_34 : decode cX6_goesBy 34 = .ok (.goto 12, 3) := dk_167 0 12 (dk_at dksX6_goesBy_1 11 rfl rfl)
theorem dX6_goesBy_37 : decode cX6_goesBy 37 = .ok (.bipush 10, 2) := dk_16 10 (dk_at dksX6_goesBy_1 14 rfl rfl)
theorem dX6_goesBy_39 : decode cX6_goesBy 39 = .ok (.aload_n 0, 1) := dk_42 (dk_at dksX6_goesBy_1 16 rfl rfl)
theorem dX6_goesBy_40 : decode cX6_goesBy 40 = .ok (.getfield 25, 3) := dk_180 0 25 (dk_at dksX6_goesBy_1 17 rfl rfl)
theorem dX6_goesBy_43 : decode cX6_goesBy 43 = .ok (.iload_n 3, 1) := dk_29 (dk_at dksX6_goesBy_1 20 rfl rfl)
theorem dX6_goesBy_44 : decode cX6_goesBy 44 = .ok (.iaload, 1) := dk_46 (dk_at dksX6_goesBy_1 21 rfl rfl)
theorem dX6_goesBy_45 : decode cX6_goesBy 45 = .ok (.imul, 1) := dk_104 (dk_at dksX6_goesBy_1 22 rfl rfl)
theorem dX6_goesBy_46 : decode cX6_goesBy 46 = .ok (.iastore, 1) := dk_79 (dk_at dksX6_goesBy_1 23 rfl rfl)
theorem dX6_goesBy_47 : decode cX6_goesBy 47 = .ok (.iinc 3 1, 3) := dk_132 3 1 (dk_at dksX6_goesBy_2 0 rfl rfl)
theorem dX6_goesBy_50 : decode cX6_goesBy 50 = .ok (.goto (-46), 3) := dk_167 255 210 (dk_at dksX6_goesBy_2 3 rfl rfl)
theorem dX6_goesBy_53 : decode cX6_goesBy 53 = .ok (.iconst 0, 1) := dk_3 (dk_at dksX6_goesBy_2 6 rfl rfl)
theorem dX6_goesBy_54 : decode cX6_goesBy 54 = .ok (.istore_n 3, 1) := dk_62 (dk_at dksX6_goesBy_2 7 rfl rfl)
theorem dX6_goesBy_55 : decode cX6_goesBy 55 = .ok (.iload_n 3, 1) := dk_29 (dk_at dksX6_goesBy_2 8 rfl rfl)
theorem dX6_goesBy_56 : decode cX6_goesBy 56 = .ok (.aload_n 0, 1) := dk_42 (dk_at dksX6_goesBy_2 9 rfl rfl)
theorem dX6_goesBy_57 : decode cX6_goesBy 57 = .ok (.getfield 122, 3) := dk_180 0 122 (dk_at dksX6_goesBy_2 10 rfl rfl)
theorem dX6_goesBy_60 : decode cX6_goesBy 60 = .ok (.if_icmp .ge 61, 3) := dk_162 0 61 (dk_at dksX6_goesBy_2 13 rfl rfl)
theorem dX6_goesBy_63 : decode cX6_goesBy 63 = .ok (.aload_n 0, 1) := dk_42 (dk_at dksX6_goesBy_2 16 rfl rfl)
theorem dX6_goesBy_64 : decode cX6_goesBy 64 = .ok (.getfield 47, 3) := dk_180 0 47 (dk_at dksX6_goesBy_2 17 rfl rfl)
theorem dX6_goesBy_67 : decode cX6_goesBy 67 = .ok (.iload_n 3, 1) := dk_29 (dk_at dksX6_goesBy_2 20 rfl rfl)
theorem dX6_goesBy_68 : decode cX6_goesBy 68 = .ok (.dup2, 1) := dk_92 (dk_at dksX6_goesBy_2 21 rfl rfl)
theorem dX6_goesBy_69 : decode cX6_goesBy 69 = .ok (.iaload, 1) := dk_46 (dk_at dksX6_goesBy_2 22 rfl rfl)
theorem dX6_goesBy_70 : decode cX6_goesBy 70 = .ok (.aload_n 0, 1) := dk_42 (dk_at dksX6_goesBy_2 23 rfl rfl)
theorem dX6_goesBy_71 : decode cX6_goesBy 71 = .ok (.getfield 19, 3) := dk_180 0 19 (dk_at dksX6_goesBy_3 0 rfl rfl)
theorem dX6_goesBy_74 : decode cX6_goesBy 74 = .ok (.iload_n 3, 1) := dk_29 (dk_at dksX6_goesBy_3 3 rfl rfl)
theorem dX6_goesBy_75 : decode cX6_goesBy 75 = .ok (.iaload, 1) := dk_46 (dk_at dksX6_goesBy_3 4 rfl rfl)
theorem dX6_goesBy_76 : decode cX6_goesBy 76 = .ok (.iconst 1, 1) := dk_4 (dk_at dksX6_goesBy_3 5 rfl rfl)
theorem dX6_goesBy_77 : decode cX6_goesBy 77 = .ok (.if_icmp .ne 15, 3) := dk_160 0 15 (dk_at dksX6_goesBy_3 6 rfl rfl)
theorem dX6_goesBy_80 : decode cX6_goesBy 80 = .ok (.aload_n 0, 1) := dk_42 (dk_at dksX6_goesBy_3 9 rfl rfl)
theorem dX6_goesBy_81 : decode cX6_goesBy 81 = .ok (.getfield 47, 3) := dk_180 0 47 (dk_at dksX6_goesBy_3 10 rfl rfl)
theorem dX6_goesBy_84 : decode cX6_goesBy 84 = .ok (.iload_n 3, 1) := dk_29 (dk_at dksX6_goesBy_3 13 rfl rfl)
theorem dX6_goesBy_85 : decode cX6_goesBy 85 = .ok (.iaload, 1) := dk_46 (dk_at dksX6_goesBy_3 14 rfl rfl)
theorem dX6_goesBy_86 : decode cX6_goesBy 86 = .ok (.bipush 10, 2) := dk_16 10 (dk_at dksX6_goesBy_3 15 rfl rfl)
theorem dX6_goesBy_88 : decode cX6_goesBy 88 = .ok (.idiv, 1) := dk_108 (dk_at dksX6_goesBy_3 17 rfl rfl)
theorem dX6_goesBy_89 : decode cX6_goesBy 89 = .ok (.goto 4, 3) := dk_167 0 4 (dk_at dksX6_goesBy_3 18 rfl rfl)
theorem dX6_goesBy_92 : decode cX6_goesBy 92 = .ok (.iconst 0, 1) := dk_3 (dk_at dksX6_goesBy_3 21 rfl rfl)
theorem dX6_goesBy_93 : decode cX6_goesBy 93 = .ok (.iadd, 1) := dk_96 (dk_at dksX6_goesBy_3 22 rfl rfl)
theorem dX6_goesBy_94 : decode cX6_goesBy 94 = .ok (.iastore, 1) := dk_79 (dk_at dksX6_goesBy_3 23 rfl rfl)
theorem dX6_goesBy_95 : decode cX6_goesBy 95 = .ok (.aload_n 0, 1) := dk_42 (dk_at dksX6_goesBy_4 0 rfl rfl)
theorem dX6_goesBy_96 : decode cX6_goesBy 96 = .ok (.getfield 47, 3) := dk_180 0 47 (dk_at dksX6_goesBy_4 1 rfl rfl)
theorem dX6_goesBy_99 : decode cX6_goesBy 99 = .ok (.iload_n 3, 1) := dk_29 (dk_at dksX6_goesBy_4 4 rfl rfl)
theorem dX6_goesBy_100 : decode cX6_goesBy 100 = .ok (.dup2, 1) := dk_92 (dk_at dksX6_goesBy_4 5 rfl rfl)
theorem dX6_goesBy_101 : decode cX6_goesBy 101 = .ok (.iaload, 1) := dk_46 (dk_at dksX6_goesBy_4 6 rfl rfl)
theorem dX6_goesBy_102 : decode cX6_goesBy 102 = .ok (.aload_n 0, 1) := dk_42 (dk_at dksX6_goesBy_4 7 rfl rfl)
theorem dX6_goesBy_103 : decode cX6_goesBy 103 = .ok (.getfield 16, 3) := dk_180 0 16 (dk_at dksX6_goesBy_4 8 rfl rfl)
theorem dX6_goesBy_106 : decode cX6_goesBy 106 = .ok (.iload_n 3, 1) := dk_29 (dk_at dksX6_goesBy_4 11 rfl rfl)
theorem dX6_goesBy_107 : decode cX6_goesBy 107 = .ok (.iaload, 1) := dk_46 (dk_at dksX6_goesBy_4 12 rfl rfl)
theorem dX6_goesBy_108 : decode cX6_goesBy 108 = .ok (.aload_n 0, 1) := dk_42 (dk_at dksX6_goesBy_4 13 rfl rfl)
theorem dX6_goesBy_109 : decode cX6_goesBy 109 = .ok (.getfield 178, 3) := dk_180 0 178 (dk_at dksX6_goesBy_4 14 rfl rfl)
theorem dX6_goesBy_112 : decode cX6_goesBy 112 = .ok (.imul, 1) := dk_104 (dk_at dksX6_goesBy_4 17 rfl rfl)
theorem dX6_goesBy_113 : decode cX6_goesBy 113 = .ok (.iadd, 1) := dk_96 (dk_at dksX6_goesBy_4 18 rfl rfl)
theorem dX6_goesBy_114 : decode cX6_goesBy 114 = .ok (.iastore, 1) := dk_79 (dk_at dksX6_goesBy_4 19 rfl rfl)
theorem dX6_goesBy_115 : decode cX6_goesBy 115 = .ok (.iinc 3 1, 3) := dk_132 3 1 (dk_at dksX6_goesBy_4 20 rfl rfl)
theorem dX6_goesBy_118 : decode cX6_goesBy 118 = .ok (.goto (-63), 3) := dk_167 255 193 (dk_at dksX6_goesBy_5 0 rfl rfl)
theorem dX6_goesBy_121 : decode cX6_goesBy 121 = .ok (.iconst 0, 1) := dk_3 (dk_at dksX6_goesBy_5 3 rfl rfl)
theorem dX6_goesBy_122 : decode cX6_goesBy 122 = .ok (.istore_n 3, 1) := dk_62 (dk_at dksX6_goesBy_5 4 rfl rfl)
theorem dX6_goesBy_123 : decode cX6_goesBy 123 = .ok (.iload_n 3, 1) := dk_29 (dk_at dksX6_goesBy_5 5 rfl rfl)
theorem dX6_goesBy_124 : decode cX6_goesBy 124 = .ok (.aload_n 0, 1) := dk_42 (dk_at dksX6_goesBy_5 6 rfl rfl)
theorem dX6_goesBy_125 : decode cX6_goesBy 125 = .ok (.getfield 122, 3) := dk_180 0 122 (dk_at dksX6_goesBy_5 7 rfl rfl)
theorem dX6_goesBy_128 : decode cX6_goesBy 128 = .ok (.if_icmp .ge 95, 3) := dk_162 0 95 (dk_at dksX6_goesBy_5 10 rfl rfl)
theorem dX6_goesBy_131 : decode cX6_goesBy 131 = .ok (.aload_n 0, 1) := dk_42 (dk_at dksX6_goesBy_5 13 rfl rfl)
theorem dX6_goesBy_132 : decode cX6_goesBy 132 = .ok (.getfield 53, 3) := dk_180 0 53 (dk_at dksX6_goesBy_5 14 rfl rfl)
theorem dX6_goesBy_135 : decode cX6_goesBy 135 = .ok (.bipush 20, 2) := dk_16 20 (dk_at dksX6_goesBy_5 17 rfl rfl)
theorem dX6_goesBy_137 : decode cX6_goesBy 137 = .ok (.iload_n 3, 1) := dk_29 (dk_at dksX6_goesBy_5 19 rfl rfl)
theorem dX6_goesBy_138 : decode cX6_goesBy 138 = .ok (.imul, 1) := dk_104 (dk_at dksX6_goesBy_5 20 rfl rfl)
theorem dX6_goesBy_139 : decode cX6_goesBy 139 = .ok (.iload_n 1, 1) := dk_27 (dk_at dksX6_goesBy_5 21 rfl rfl)
theorem dX6_goesBy_140 : decode cX6_goesBy 140 = .ok (.iadd, 1) := dk_96 (dk_at dksX6_goesBy_5 22 rfl rfl)
theorem dX6_goesBy_141 : decode cX6_goesBy 141 = .ok (.iconst 0, 1) := dk_3 (dk_at dksX6_goesBy_5 23 rfl rfl)
theorem dX6_goesBy_142 : decode cX6_goesBy 142 = .ok (.iastore, 1) := dk_79 (dk_at dksX6_goesBy_6 0 rfl rfl)
theorem dX6_goesBy_143 : decode cX6_goesBy 143 = .ok (.aload_n 0, 1) := dk_42 (dk_at dksX6_goesBy_6 1 rfl rfl)
theorem dX6_goesBy_144 : decode cX6_goesBy 144 = .ok (.getfield 56, 3) := dk_180 0 56 (dk_at dksX6_goesBy_6 2 rfl rfl)
theorem dX6_goesBy_147 : decode cX6_goesBy 147 = .ok (.bipush 20, 2) := dk_16 20 (dk_at dksX6_goesBy_6 5 rfl rfl)
theorem dX6_goesBy_149 : decode cX6_goesBy 149 = .ok (.iload_n 3, 1) := dk_29 (dk_at dksX6_goesBy_6 7 rfl rfl)
theorem dX6_goesBy_150 : decode cX6_goesBy 150 = .ok (.imul, 1) := dk_104 (dk_at dksX6_goesBy_6 8 rfl rfl)
theorem dX6_goesBy_151 : decode cX6_goesBy 151 = .ok (.iload_n 1, 1) := dk_27 (dk_at dksX6_goesBy_6 9 rfl rfl)
theorem dX6_goesBy_152 : decode cX6_goesBy 152 = .ok (.iadd, 1) := dk_96 (dk_at dksX6_goesBy_6 10 rfl rfl)
theorem dX6_goesBy_153 : decode cX6_goesBy 153 = .ok (.iconst 0, 1) := dk_3 (dk_at dksX6_goesBy_6 11 rfl rfl)
theorem dX6_goesBy_154 : decode cX6_goesBy 154 = .ok (.iastore, 1) := dk_79 (dk_at dksX6_goesBy_6 12 rfl rfl)
theorem dX6_goesBy_155 : decode cX6_goesBy 155 = .ok (.aload_n 0, 1) := dk_42 (dk_at dksX6_goesBy_6 13 rfl rfl)
theorem dX6_goesBy_156 : decode cX6_goesBy 156 = .ok (.getfield 19, 3) := dk_180 0 19 (dk_at dksX6_goesBy_6 14 rfl rfl)
theorem dX6_goesBy_159 : decode cX6_goesBy 159 = .ok (.iload_n 3, 1) := dk_29 (dk_at dksX6_goesBy_6 17 rfl rfl)
theorem dX6_goesBy_160 : decode cX6_goesBy 160 = .ok (.iaload, 1) := dk_46 (dk_at dksX6_goesBy_6 18 rfl rfl)
theorem dX6_goesBy_161 : decode cX6_goesBy 161 = .ok (.ifCond .eq 33, 3) := dk_153 0 33 (dk_at dksX6_goesBy_6 19 rfl rfl)
theorem dX6_goesBy_164 : decode cX6_goesBy 164 = .ok (.aload_n 0, 1) := dk_42 (dk_at dksX6_goesBy_6 22 rfl rfl)
theorem dX6_goesBy_165 : decode cX6_goesBy 165 = .ok (.getfield 40, 3) := dk_180 0 40 (dk_at dksX6_goesBy_7 0 rfl rfl)
theorem dX6_goesBy_168 : decode cX6_goesBy 168 = .ok (.bipush 20, 2) := dk_16 20 (dk_at dksX6_goesBy_7 3 rfl rfl)
theorem dX6_goesBy_170 : decode cX6_goesBy 170 = .ok (.iload_n 3, 1) := dk_29 (dk_at dksX6_goesBy_7 5 rfl rfl)
theorem dX6_goesBy_171 : decode cX6_goesBy 171 = .ok (.imul, 1) := dk_104 (dk_at dksX6_goesBy_7 6 rfl rfl)
theorem dX6_goesBy_172 : decode cX6_goesBy 172 = .ok (.iload_n 1, 1) := dk_27 (dk_at dksX6_goesBy_7 7 rfl rfl)
theorem dX6_goesBy_173 : decode cX6_goesBy 173 = .ok (.iadd, 1) := dk_96 (dk_at dksX6_goesBy_7 8 rfl rfl)
theorem dX6_goesBy_174 : decode cX6_goesBy 174 = .ok (.baload, 1) := dk_51 (dk_at dksX6_goesBy_7 9 rfl rfl)
theorem dX6_goesBy_175 : decode cX6_goesBy 175 = .ok (.ifCond .ne 19, 3) := dk_154 0 19 (dk_at dksX6_goesBy_7 10 rfl rfl)
theorem dX6_goesBy_178 : decode cX6_goesBy 178 = .ok (.aload_n 0, 1) := dk_42 (dk_at dksX6_goesBy_7 13 rfl rfl)
theorem dX6_goesBy_179 : decode cX6_goesBy 179 = .ok (.getfield 191, 3) := dk_180 0 191 (dk_at dksX6_goesBy_7 14 rfl rfl)
theorem dX6_goesBy_182 : decode cX6_goesBy 182 = .ok (.iconst (-1), 1) := dk_2 (dk_at dksX6_goesBy_7 17 rfl rfl)
theorem dX6_goesBy_183 : decode cX6_goesBy 183 = .ok (.if_icmp .eq 17, 3) := dk_159 0 17 (dk_at dksX6_goesBy_7 18 rfl rfl)
theorem dX6_goesBy_186 : decode cX6_goesBy 186 = .ok (.iload_n 1, 1) := dk_27 (dk_at dksX6_goesBy_7 21 rfl rfl)
theorem dX6_goesBy_187 : decode cX6_goesBy 187 = .ok (.aload_n 0, 1) := dk_42 (dk_at dksX6_goesBy_7 22 rfl rfl)
theorem dX6_goesBy_188 : decode cX6_goesBy 188 = .ok (.getfield 191, 3) := dk_180 0 191 (dk_at dksX6_goesBy_8 0 rfl rfl)
theorem dX6_goesBy_191 : decode cX6_goesBy 191 = .ok (.if_icmp .lt 9, 3) := dk_161 0 9 (dk_at dksX6_goesBy_8 3 rfl rfl)
theorem dX6_goesBy_194 : decode cX6_goesBy 194 = .ok (.aload_n 0, 1) := dk_42 (dk_at dksX6_goesBy_8 6 rfl rfl)
theorem dX6_goesBy_195 : decode cX6_goesBy 195 = .ok (.iload_n 3, 1) := dk_29 (dk_at dksX6_goesBy_8 7 rfl rfl)
theorem dX6_goesBy_196 : decode cX6_goesBy 196 = .ok (.iload_n 1, 1) := dk_27 (dk_at dksX6_goesBy_8 8 rfl rfl)
theorem dX6_goesBy_197 : decode cX6_goesBy 197 = .ok (.invokevirtual 194, 3) := dk_182 0 194 (dk_at dksX6_goesBy_8 9 rfl rfl)
theorem dX6_goesBy_200 : decode cX6_goesBy 200 = .ok (.aload_n 0, 1) := dk_42 (dk_at dksX6_goesBy_8 12 rfl rfl)
theorem dX6_goesBy_201 : decode cX6_goesBy 201 = .ok (.getfield 50, 3) := dk_180 0 50 (dk_at dksX6_goesBy_8 13 rfl rfl)
theorem dX6_goesBy_204 : decode cX6_goesBy 204 = .ok (.bipush 20, 2) := dk_16 20 (dk_at dksX6_goesBy_8 16 rfl rfl)
theorem dX6_goesBy_206 : decode cX6_goesBy 206 = .ok (.iload_n 3, 1) := dk_29 (dk_at dksX6_goesBy_8 18 rfl rfl)
theorem dX6_goesBy_207 : decode cX6_goesBy 207 = .ok (.imul, 1) := dk_104 (dk_at dksX6_goesBy_8 19 rfl rfl)
theorem dX6_goesBy_208 : decode cX6_goesBy 208 = .ok (.iload_n 1, 1) := dk_27 (dk_at dksX6_goesBy_8 20 rfl rfl)
theorem dX6_goesBy_209 : decode cX6_goesBy 209 = .ok (.iadd, 1) := dk_96 (dk_at dksX6_goesBy_8 21 rfl rfl)
theorem dX6_goesBy_210 : decode cX6_goesBy 210 = .ok (.aload_n 0, 1) := dk_42 (dk_at dksX6_goesBy_8 22 rfl rfl)
theorem dX6_goesBy_211 : decode cX6_goesBy 211 = .ok (.getfield 47, 3) := dk_180 0 47 (dk_at dksX6_goesBy_9 0 rfl rfl)
theorem dX6_goesBy_214 : decode cX6_goesBy 214 = .ok (.iload_n 3, 1) := dk_29 (dk_at dksX6_goesBy_9 3 rfl rfl)
theorem dX6_goesBy_215 : decode cX6_goesBy 215 = .ok (.iaload, 1) := dk_46 (dk_at dksX6_goesBy_9 4 rfl rfl)
theorem dX6_goesBy_216 : decode cX6_goesBy 216 = .ok (.iastore, 1) := dk_79 (dk_at dksX6_goesBy_9 5 rfl rfl)
theorem dX6_goesBy_217 : decode cX6_goesBy 217 = .ok (.iinc 3 1, 3) := dk_132 3 1 (dk_at dksX6_goesBy_9 6 rfl rfl)
theorem dX6_goesBy_220 : decode cX6_goesBy 220 = .ok (.goto (-97), 3) := dk_167 255 159 (dk_at dksX6_goesBy_9 9 rfl rfl)
theorem dX6_goesBy_223 : decode cX6_goesBy 223 = .ok (.iconst 0, 1) := dk_3 (dk_at dksX6_goesBy_9 12 rfl rfl)
theorem dX6_goesBy_224 : decode cX6_goesBy 224 = .ok (.istore_n 3, 1) := dk_62 (dk_at dksX6_goesBy_9 13 rfl rfl)
theorem dX6_goesBy_225 : decode cX6_goesBy 225 = .ok (.iload_n 3, 1) := dk_29 (dk_at dksX6_goesBy_9 14 rfl rfl)
theorem dX6_goesBy_226 : decode cX6_goesBy 226 = .ok (.aload_n 0, 1) := dk_42 (dk_at dksX6_goesBy_9 15 rfl rfl)
theorem dX6_goesBy_227 : decode cX6_goesBy 227 = .ok (.getfield 122, 3) := dk_180 0 122 (dk_at dksX6_goesBy_9 16 rfl rfl)
theorem dX6_goesBy_230 : decode cX6_goesBy 230 = .ok (.if_icmp .ge 18, 3) := dk_162 0 18 (dk_at dksX6_goesBy_9 19 rfl rfl)
theorem dX6_goesBy_233 : decode cX6_goesBy 233 = .ok (.iload_n 2, 1) := dk_28 (dk_at dksX6_goesBy_9 22 rfl rfl)
theorem dX6_goesBy_234 : decode cX6_goesBy 234 = .ok (.aload_n 0, 1) := dk_42 (dk_at dksX6_goesBy_9 23 rfl rfl)
theorem dX6_goesBy_235 : decode cX6_goesBy 235 = .ok (.getfield 47, 3) := dk_180 0 47 (dk_at dksX6_goesBy_10 0 rfl rfl)
theorem dX6_goesBy_238 : decode cX6_goesBy 238 = .ok (.iload_n 3, 1) := dk_29 (dk_at dksX6_goesBy_10 3 rfl rfl)
theorem dX6_goesBy_239 : decode cX6_goesBy 239 = .ok (.iaload, 1) := dk_46 (dk_at dksX6_goesBy_10 4 rfl rfl)
theorem dX6_goesBy_240 : decode cX6_goesBy 240 = .ok (.iadd, 1) := dk_96 (dk_at dksX6_goesBy_10 5 rfl rfl)
theorem dX6_goesBy_241 : decode cX6_goesBy 241 = .ok (.istore_n 2, 1) := dk_61 (dk_at dksX6_goesBy_10 6 rfl rfl)
theorem dX6_goesBy_242 : decode cX6_goesBy 242 = .ok (.iinc 3 1, 3) := dk_132 3 1 (dk_at dksX6_goesBy_10 7 rfl rfl)
theorem dX6_goesBy_245 : decode cX6_goesBy 245 = .ok (.goto (-20), 3) := dk_167 255 236 (dk_at dksX6_goesBy_10 10 rfl rfl)
theorem dX6_goesBy_248 : decode cX6_goesBy 248 = .ok (.iconst 0, 1) := dk_3 (dk_at dksX6_goesBy_10 13 rfl rfl)
theorem dX6_goesBy_249 : decode cX6_goesBy 249 = .ok (.istore_n 3, 1) := dk_62 (dk_at dksX6_goesBy_10 14 rfl rfl)
theorem dX6_goesBy_250 : decode cX6_goesBy 250 = .ok (.iload_n 3, 1) := dk_29 (dk_at dksX6_goesBy_10 15 rfl rfl)
theorem dX6_goesBy_251 : decode cX6_goesBy 251 = .ok (.aload_n 0, 1) := dk_42 (dk_at dksX6_goesBy_10 16 rfl rfl)
theorem dX6_goesBy_252 : decode cX6_goesBy 252 = .ok (.getfield 125, 3) := dk_180 0 125 (dk_at dksX6_goesBy_10 17 rfl rfl)
theorem dX6_goesBy_255 : decode cX6_goesBy 255 = .ok (.if_icmp .ge 26, 3) := dk_162 0 26 (dk_at dksX6_goesBy_10 20 rfl rfl)
theorem dX6_goesBy_258 : decode cX6_goesBy 258 = .ok (.aload_n 0, 1) := dk_42 (dk_at dksX6_goesBy_10 23 rfl rfl)
theorem dX6_goesBy_259 : decode cX6_goesBy 259 = .ok (.getfield 62, 3) := dk_180 0 62 (dk_at dksX6_goesBy_11 0 rfl rfl)
theorem dX6_goesBy_262 : decode cX6_goesBy 262 = .ok (.bipush 20, 2) := dk_16 20 (dk_at dksX6_goesBy_11 3 rfl rfl)
theorem dX6_goesBy_264 : decode cX6_goesBy 264 = .ok (.iload_n 3, 1) := dk_29 (dk_at dksX6_goesBy_11 5 rfl rfl)
theorem dX6_goesBy_265 : decode cX6_goesBy 265 = .ok (.imul, 1) := dk_104 (dk_at dksX6_goesBy_11 6 rfl rfl)
theorem dX6_goesBy_266 : decode cX6_goesBy 266 = .ok (.iload_n 1, 1) := dk_27 (dk_at dksX6_goesBy_11 7 rfl rfl)
theorem dX6_goesBy_267 : decode cX6_goesBy 267 = .ok (.iadd, 1) := dk_96 (dk_at dksX6_goesBy_11 8 rfl rfl)
theorem dX6_goesBy_268 : decode cX6_goesBy 268 = .ok (.aload_n 0, 1) := dk_42 (dk_at dksX6_goesBy_11 9 rfl rfl)
theorem dX6_goesBy_269 : decode cX6_goesBy 269 = .ok (.getfield 59, 3) := dk_180 0 59 (dk_at dksX6_goesBy_11 10 rfl rfl)
theorem dX6_goesBy_272 : decode cX6_goesBy 272 = .ok (.iload_n 3, 1) := dk_29 (dk_at dksX6_goesBy_11 13 rfl rfl)
theorem dX6_goesBy_273 : decode cX6_goesBy 273 = .ok (.iaload, 1) := dk_46 (dk_at dksX6_goesBy_11 14 rfl rfl)
theorem dX6_goesBy_274 : decode cX6_goesBy 274 = .ok (.iastore, 1) := dk_79 (dk_at dksX6_goesBy_11 15 rfl rfl)
theorem dX6_goesBy_275 : decode cX6_goesBy 275 = .ok (.iinc 3 1, 3) := dk_132 3 1 (dk_at dksX6_goesBy_11 16 rfl rfl)
theorem dX6_goesBy_278 : decode cX6_goesBy 278 = .ok (.goto (-28), 3) := dk_167 255 228 (dk_at dksX6_goesBy_11 19 rfl rfl)
theorem dX6_goesBy_281 : decode cX6_goesBy 281 = .ok (.aload_n 0, 1) := dk_42 (dk_at dksX6_goesBy_11 22 rfl rfl)
theorem dX6_goesBy_282 : decode cX6_goesBy 282 = .ok (.aload_n 0, 1) := dk_42 (dk_at dksX6_goesBy_11 23 rfl rfl)
theorem dX6_goesBy_283 : decode cX6_goesBy 283 = .ok (.getfield 191, 3) := dk_180 0 191 (dk_at dksX6_goesBy_12 0 rfl rfl)
theorem dX6_goesBy_286 : decode cX6_goesBy 286 = .ok (.iconst (-1), 1) := dk_2 (dk_at dksX6_goesBy_12 3 rfl rfl)
theorem dX6_goesBy_287 : decode cX6_goesBy 287 = .ok (.if_icmp .ne 23, 3) := dk_160 0 23 (dk_at dksX6_goesBy_12 4 rfl rfl)
theorem dX6_goesBy_290 : decode cX6_goesBy 290 = .ok (.iload_n 2, 1) := dk_28 (dk_at dksX6_goesBy_12 7 rfl rfl)
theorem dX6_goesBy_291 : decode cX6_goesBy 291 = .ok (.aload_n 0, 1) := dk_42 (dk_at dksX6_goesBy_12 8 rfl rfl)
theorem dX6_goesBy_292 : decode cX6_goesBy 292 = .ok (.getfield 99, 3) := dk_180 0 99 (dk_at dksX6_goesBy_12 9 rfl rfl)
theorem dX6_goesBy_295 : decode cX6_goesBy 295 = .ok (.if_icmp .le 15, 3) := dk_164 0 15 (dk_at dksX6_goesBy_12 12 rfl rfl)
theorem dX6_goesBy_298 : decode cX6_goesBy 298 = .ok (.iload_n 1, 1) := dk_27 (dk_at dksX6_goesBy_12 15 rfl rfl)
theorem dX6_goesBy_299 : decode cX6_goesBy 299 = .ok (.bipush 19, 2) := dk_16 19 (dk_at dksX6_goesBy_12 16 rfl rfl)
theorem dX6_goesBy_301 : decode cX6_goesBy 301 = .ok (.if_icmp .ge 9, 3) := dk_162 0 9 (dk_at dksX6_goesBy_12 18 rfl rfl)
theorem dX6_goesBy_304 : decode cX6_goesBy 304 = .ok (.iload_n 1, 1) := dk_27 (dk_at dksX6_goesBy_12 21 rfl rfl)
theorem dX6_goesBy_305 : decode cX6_goesBy 305 = .ok (.iconst 1, 1) := dk_4 (dk_at dksX6_goesBy_12 22 rfl rfl)
theorem dX6_goesBy_306 : decode cX6_goesBy 306 = .ok (.iadd, 1) := dk_96 (dk_at dksX6_goesBy_12 23 rfl rfl)
theorem dX6_goesBy_307 : decode cX6_goesBy 307 = .ok (.goto 7, 3) := dk_167 0 7 (dk_at dksX6_goesBy_13 0 rfl rfl)
theorem dX6_goesBy_310 : decode cX6_goesBy 310 = .ok (.aload_n 0, 1) := dk_42 (dk_at dksX6_goesBy_13 3 rfl rfl)
theorem dX6_goesBy_311 : decode cX6_goesBy 311 = .ok (.getfield 191, 3) := dk_180 0 191 (dk_at dksX6_goesBy_13 4 rfl rfl)
theorem dX6_goesBy_314 : decode cX6_goesBy 314 = .ok (.putfield 191, 3) := dk_181 0 191 (dk_at dksX6_goesBy_13 7 rfl rfl)
theorem dX6_goesBy_317 : decode cX6_goesBy 317 = .ok (.return_, 1) := dk_177 (dk_at dksX6_goesBy_13 10 rfl rfl)
abbrev cX6_hears : ByteArray := prog_14_method_34_code
def yX6_hears : MethodName := ⟨RX6, "hears", "(II)V"⟩
def dkwX6_hears_11 : List UInt8 := [2, 160, 0, 7, 28, 167, 0, 7, 42, 180, 0, 185, 181, 0, 185, 132, 4, 1, 167, 255, 93, 177]
abbrev dktX6_hears_11 : List UInt8 := dkwX6_hears_11 ++ []
def dkwX6_hears_10 : List UInt8 := [160, 0, 7, 27, 167, 0, 7, 42, 180, 0, 188, 181, 0, 188, 42, 21, 5, 158, 0, 15, 42, 180, 0, 185]
abbrev dktX6_hears_10 : List UInt8 := dkwX6_hears_10 ++ dktX6_hears_11
def dkwX6_hears_9 : List UInt8 := [79, 42, 180, 0, 56, 29, 92, 46, 21, 5, 96, 79, 42, 21, 5, 158, 0, 15, 42, 180, 0, 185, 2]
abbrev dktX6_hears_9 : List UInt8 := dkwX6_hears_9 ++ dktX6_hears_10
def dkwX6_hears_8 : List UInt8 := [104, 100, 79, 42, 180, 0, 47, 27, 92, 46, 21, 5, 100, 79, 42, 180, 0, 53, 29, 92, 46, 21, 5, 96]
abbrev dktX6_hears_8 : List UInt8 := dkwX6_hears_8 ++ dktX6_hears_9
def dkwX6_hears_7 : List UInt8 := [5, 108, 167, 0, 9, 42, 180, 0, 47, 27, 46, 54, 5, 42, 180, 0, 59, 21, 4, 92, 46, 5, 21, 5]
abbrev dktX6_hears_7 : List UInt8 := dkwX6_hears_7 ++ dktX6_hears_8
def dkwX6_hears_6 : List UInt8 := [180, 0, 59, 21, 4, 46, 5, 108, 42, 180, 0, 47, 27, 46, 162, 0, 15, 42, 180, 0, 59, 21, 4, 46]
abbrev dktX6_hears_6 : List UInt8 := dkwX6_hears_6 ++ dktX6_hears_7
def dkwX6_hears_5 : List UInt8 := [180, 0, 125, 162, 0, 160, 42, 180, 0, 28, 21, 4, 46, 42, 180, 0, 22, 27, 46, 159, 0, 138, 42]
abbrev dktX6_hears_5 : List UInt8 := dkwX6_hears_5 ++ dktX6_hears_6
def dkwX6_hears_4 : List UInt8 := [180, 0, 53, 29, 92, 46, 21, 5, 96, 79, 132, 4, 1, 167, 255, 160, 3, 54, 4, 21, 4, 42]
abbrev dktX6_hears_4 : List UInt8 := dkwX6_hears_4 ++ dktX6_hears_5
def dkwX6_hears_3 : List UInt8 := [180, 0, 59, 21, 4, 92, 46, 21, 5, 100, 79, 42, 180, 0, 47, 27, 92, 46, 21, 5, 100, 79, 42]
abbrev dktX6_hears_3 : List UInt8 := dkwX6_hears_3 ++ dktX6_hears_4
def dkwX6_hears_2 : List UInt8 := [46, 162, 0, 13, 42, 180, 0, 59, 21, 4, 46, 167, 0, 9, 42, 180, 0, 47, 27, 46, 54, 5, 42]
abbrev dktX6_hears_2 : List UInt8 := dkwX6_hears_2 ++ dktX6_hears_3
def dkwX6_hears_1 : List UInt8 := [21, 4, 46, 42, 180, 0, 22, 27, 46, 160, 0, 71, 42, 180, 0, 59, 21, 4, 46, 42, 180, 0, 47, 27]
abbrev dktX6_hears_1 : List UInt8 := dkwX6_hears_1 ++ dktX6_hears_2
def dkwX6_hears_0 : List UInt8 := [16, 20, 27, 104, 28, 96, 62, 3, 54, 4, 21, 4, 42, 180, 0, 125, 162, 0, 93, 42, 180, 0, 28]
abbrev dktX6_hears_0 : List UInt8 := dkwX6_hears_0 ++ dktX6_hears_1
theorem dksX6_hears_0 : cX6_hears.data.toList.drop 0 = dktX6_hears_0 := by decide +kernel
theorem dksX6_hears_1 : cX6_hears.data.toList.drop 23 = dktX6_hears_1 := dk_seg dksX6_hears_0 23 rfl rfl
theorem dksX6_hears_2 : cX6_hears.data.toList.drop 47 = dktX6_hears_2 := dk_seg dksX6_hears_1 24 rfl rfl
theorem dksX6_hears_3 : cX6_hears.data.toList.drop 70 = dktX6_hears_3 := dk_seg dksX6_hears_2 23 rfl rfl
theorem dksX6_hears_4 : cX6_hears.data.toList.drop 93 = dktX6_hears_4 := dk_seg dksX6_hears_3 23 rfl rfl
theorem dksX6_hears_5 : cX6_hears.data.toList.drop 115 = dktX6_hears_5 := dk_seg dksX6_hears_4 22 rfl rfl
theorem dksX6_hears_6 : cX6_hears.data.toList.drop 138 = dktX6_hears_6 := dk_seg dksX6_hears_5 23 rfl rfl
theorem dksX6_hears_7 : cX6_hears.data.toList.drop 162 = dktX6_hears_7 := dk_seg dksX6_hears_6 24 rfl rfl
theorem dksX6_hears_8 : cX6_hears.data.toList.drop 186 = dktX6_hears_8 := dk_seg dksX6_hears_7 24 rfl rfl
theorem dksX6_hears_9 : cX6_hears.data.toList.drop 210 = dktX6_hears_9 := dk_seg dksX6_hears_8 24 rfl rfl
theorem dksX6_hears_10 : cX6_hears.data.toList.drop 233 = dktX6_hears_10 := dk_seg dksX6_hears_9 23 rfl rfl
theorem dksX6_hears_11 : cX6_hears.data.toList.drop 257 = dktX6_hears_11 := dk_seg dksX6_hears_10 24 rfl rfl
theorem dX6_hears_0 : decode cX6_hears 0 = .ok (.bipush 20, 2) := dk_16 20 (dk_at dksX6_hears_0 0 rfl rfl)
theorem dX6_hears_2 : decode cX6_hears 2 = .ok (.iload_n 1, 1) := dk_27 (dk_at dksX6_hears_0 2 rfl rfl)
theorem dX6_hears_3 : decode cX6_hears 3 = .ok (.imul, 1) := dk_104 (dk_at dksX6_hears_0 3 rfl rfl)
theorem dX6_hears_4 : decode cX6_hears 4 = .ok (.iload_n 2, 1) := dk_28 (dk_at dksX6_hears_0 4 rfl rfl)
theorem dX6_hears_5 : decode cX6_hears 5 = .ok (.iadd, 1) := dk_96 (dk_at dksX6_hears_0 5 rfl rfl)
theorem dX6_hears_6 : decode cX6_hears 6 = .ok (.istore_n 3, 1) := dk_62 (dk_at dksX6_hears_0 6 rfl rfl)
theorem dX6_hears_7 : decode cX6_hears 7 = .ok (.iconst 0, 1) := dk_3 (dk_at dksX6_hears_0 7 rfl rfl)
theorem dX6_hears_8 : decode cX6_hears 8 = .ok (.istore 4, 2) := dk_54 4 (dk_at dksX6_hears_0 8 rfl rfl)
theorem dX6_hears_10 : decode cX6_hears 10 = .ok (.iload 4, 2) := dk_21 4 (dk_at dksX6_hears_0 10 rfl rfl)
theorem dX6_hears_12 : decode cX6_hears 12 = .ok (.aload_n 0, 1) := dk_42 (dk_at dksX6_hears_0 12 rfl rfl)
theorem dX6_hears_13 : decode cX6_hears 13 = .ok (.getfield 125, 3) := dk_180 0 125 (dk_at dksX6_hears_0 13 rfl rfl)
theorem dX6_hears_16 : decode cX6_hears 16 = .ok (.if_icmp .ge 93, 3) := dk_162 0 93 (dk_at dksX6_hears_0 16 rfl rfl)
theorem dX6_hears_19 : decode cX6_hears 19 = .ok (.aload_n 0, 1) := dk_42 (dk_at dksX6_hears_0 19 rfl rfl)
theorem dX6_hears_20 : decode cX6_hears 20 = .ok (.getfield 28, 3) := dk_180 0 28 (dk_at dksX6_hears_0 20 rfl rfl)
theorem dX6_hears_23 : decode cX6_hears 23 = .ok (.iload 4, 2) := dk_21 4 (dk_at dksX6_hears_1 0 rfl rfl)
theorem dX6_hears_25 : decode cX6_hears 25 = .ok (.iaload, 1) := dk_46 (dk_at dksX6_hears_1 2 rfl rfl)
theorem dX6_hears_26 : decode cX6_hears 26 = .ok (.aload_n 0, 1) := dk_42 (dk_at dksX6_hears_1 3 rfl rfl)
theorem dX6_hears_27 : decode cX6_hears 27 = .ok (.getfield 22, 3) := dk_180 0 22 (dk_at dksX6_hears_1 4 rfl rfl)
theorem dX6_hears_30 : decode cX6_hears 30 = .ok (.iload_n 1, 1) := dk_27 (dk_at dksX6_hears_1 7 rfl rfl)
theorem dX6_hears_31 : decode cX6_hears 31 = .ok (.iaload, 1) := dk_46 (dk_at dksX6_hears_1 8 rfl rfl)
theorem dX6_hears_32 : decode cX6_hears 32 = .ok (.if_icmp .ne 71, 3) := dk_160 0 71 (dk_at dksX6_hears_1 9 rfl rfl)
theorem dX6_hears_35 : decode cX6_hears 35 = .ok (.aload_n 0, 1) := dk_42 (dk_at dksX6_hears_1 12 rfl rfl)
theorem dX6_hears_36 : decode cX6_hears 36 = .ok (.getfield 59, 3) := dk_180 0 59 (dk_at dksX6_hears_1 13 rfl rfl)
theorem dX6_hears_39 : decode cX6_hears 39 = .ok (.iload 4, 2) := dk_21 4 (dk_at dksX6_hears_1 16 rfl rfl)
theorem dX6_hears_41 : decode cX6_hears 41 = .ok (.iaload, 1) := dk_46 (dk_at dksX6_hears_1 18 rfl rfl)
theorem dX6_hears_42 : decode cX6_hears 42 = .ok (.aload_n 0, 1) := dk_42 (dk_at dksX6_hears_1 19 rfl rfl)
theorem dX6_hears_43 : decode cX6_hears 43 = .ok (.getfield 47, 3) := dk_180 0 47 (dk_at dksX6_hears_1 20 rfl rfl)
theorem dX6_hears_46 : decode cX6_hears 46 = .ok (.iload_n 1, 1) := dk_27 (dk_at dksX6_hears_1 23 rfl rfl)
theorem dX6_hears_47 : decode cX6_hears 47 = .ok (.iaload, 1) := dk_46 (dk_at dksX6_hears_2 0 rfl rfl)
theorem dX6_hears_48 : decode cX6_hears 48 = .ok (.if_icmp .ge 13, 3) := dk_162 0 13 (dk_at dksX6_hears_2 1 rfl rfl)
theorem dX6_hears_51 : decode cX6_hears 51 = .ok (.aload_n 0, 1) := dk_42 (dk_at dksX6_hears_2 4 rfl rfl)
theorem dX6_hears_52 : decode cX6_hears 52 = .ok (.getfield 59, 3) := dk_180 0 59 (dk_at dksX6_hears_2 5 rfl rfl)
theorem dX6_hears_55 : decode cX6_hears 55 = .ok (.iload 4, 2) := dk_21 4 (dk_at dksX6_hears_2 8 rfl rfl)
theorem dX6_hears_57 : decode cX6_hears 57 = .ok (.iaload, 1) := dk_46 (dk_at dksX6_hears_2 10 rfl rfl)
theorem dX6_hears_58 : decode cX6_hears 58 = .ok (.goto 9, 3) := dk_167 0 9 (dk_at dksX6_hears_2 11 rfl rfl)
theorem dX6_hears_61 : decode cX6_hears 61 = .ok (.aload_n 0, 1) := dk_42 (dk_at dksX6_hears_2 14 rfl rfl)
theorem dX6_hears_62 : decode cX6_hears 62 = .ok (.getfield 47, 3) := dk_180 0 47 (dk_at dksX6_hears_2 15 rfl rfl)
theorem dX6_hears_65 : decode cX6_hears 65 = .ok (.iload_n 1, 1) := dk_27 (dk_at dksX6_hears_2 18 rfl rfl)
theorem dX6_hears_66 : decode cX6_hears 66 = .ok (.iaload, 1) := dk_46 (dk_at dksX6_hears_2 19 rfl rfl)
theorem dX6_hears_67 : decode cX6_hears 67 = .ok (.istore 5, 2) := dk_54 5 (dk_at dksX6_hears_2 20 rfl rfl)
theorem dX6_hears_69 : decode cX6_hears 69 = .ok (.aload_n 0, 1) := dk_42 (dk_at dksX6_hears_2 22 rfl rfl)
theorem dX6_hears_70 : decode cX6_hears 70 = .ok (.getfield 59, 3) := dk_180 0 59 (dk_at dksX6_hears_3 0 rfl rfl)
theorem dX6_hears_73 : decode cX6_hears 73 = .ok (.iload 4, 2) := dk_21 4 (dk_at dksX6_hears_3 3 rfl rfl)
theorem dX6_hears_75 : decode cX6_hears 75 = .ok (.dup2, 1) := dk_92 (dk_at dksX6_hears_3 5 rfl rfl)
theorem dX6_hears_76 : decode cX6_hears 76 = .ok (.iaload, 1) := dk_46 (dk_at dksX6_hears_3 6 rfl rfl)
theorem dX6_hears_77 : decode cX6_hears 77 = .ok (.iload 5, 2) := dk_21 5 (dk_at dksX6_hears_3 7 rfl rfl)
theorem dX6_hears_79 : decode cX6_hears 79 = .ok (.isub, 1) := dk_100 (dk_at dksX6_hears_3 9 rfl rfl)
theorem dX6_hears_80 : decode cX6_hears 80 = .ok (.iastore, 1) := dk_79 (dk_at dksX6_hears_3 10 rfl rfl)
theorem dX6_hears_81 : decode cX6_hears 81 = .ok (.aload_n 0, 1) := dk_42 (dk_at dksX6_hears_3 11 rfl rfl)
theorem dX6_hears_82 : decode cX6_hears 82 = .ok (.getfield 47, 3) := dk_180 0 47 (dk_at dksX6_hears_3 12 rfl rfl)
theorem dX6_hears_85 : decode cX6_hears 85 = .ok (.iload_n 1, 1) := dk_27 (dk_at dksX6_hears_3 15 rfl rfl)
theorem dX6_hears_86 : decode cX6_hears 86 = .ok (.dup2, 1) := dk_92 (dk_at dksX6_hears_3 16 rfl rfl)
theorem dX6_hears_87 : decode cX6_hears 87 = .ok (.iaload, 1) := dk_46 (dk_at dksX6_hears_3 17 rfl rfl)
theorem dX6_hears_88 : decode cX6_hears 88 = .ok (.iload 5, 2) := dk_21 5 (dk_at dksX6_hears_3 18 rfl rfl)
theorem dX6_hears_90 : decode cX6_hears 90 = .ok (.isub, 1) := dk_100 (dk_at dksX6_hears_3 20 rfl rfl)
theorem dX6_hears_91 : decode cX6_hears 91 = .ok (.iastore, 1) := dk_79 (dk_at dksX6_hears_3 21 rfl rfl)
theorem dX6_hears_92 : decode cX6_hears 92 = .ok (.aload_n 0, 1) := dk_42 (dk_at dksX6_hears_3 22 rfl rfl)
theorem dX6_hears_93 : decode cX6_hears 93 = .ok (.getfield 53, 3) := dk_180 0 53 (dk_at dksX6_hears_4 0 rfl rfl)
theorem dX6_hears_96 : decode cX6_hears 96 = .ok (.iload_n 3, 1) := dk_29 (dk_at dksX6_hears_4 3 rfl rfl)
theorem dX6_hears_97 : decode cX6_hears 97 = .ok (.dup2, 1) := dk_92 (dk_at dksX6_hears_4 4 rfl rfl)
theorem dX6_hears_98 : decode cX6_hears 98 = .ok (.iaload, 1) := dk_46 (dk_at dksX6_hears_4 5 rfl rfl)
theorem dX6_hears_99 : decode cX6_hears 99 = .ok (.iload 5, 2) := dk_21 5 (dk_at dksX6_hears_4 6 rfl rfl)
theorem dX6_hears_101 : decode cX6_hears 101 = .ok (.iadd, 1) := dk_96 (dk_at dksX6_hears_4 8 rfl rfl)
theorem dX6_hears_102 : decode cX6_hears 102 = .ok (.iastore, 1) := dk_79 (dk_at dksX6_hears_4 9 rfl rfl)
theorem dX6_hears_103 : decode cX6_hears 103 = .ok (.iinc 4 1, 3) := dk_132 4 1 (dk_at dksX6_hears_4 10 rfl rfl)
theorem dX6_hears_106 : decode cX6_hears 106 = .ok (.goto (-96), 3) := dk_167 255 160 (dk_at dksX6_hears_4 13 rfl rfl)
theorem dX6_hears_109 : decode cX6_hears 109 = .ok (.iconst 0, 1) := dk_3 (dk_at dksX6_hears_4 16 rfl rfl)
theorem dX6_hears_110 : decode cX6_hears 110 = .ok (.istore 4, 2) := dk_54 4 (dk_at dksX6_hears_4 17 rfl rfl)
theorem dX6_hears_112 : decode cX6_hears 112 = .ok (.iload 4, 2) := dk_21 4 (dk_at dksX6_hears_4 19 rfl rfl)
theorem dX6_hears_114 : decode cX6_hears 114 = .ok (.aload_n 0, 1) := dk_42 (dk_at dksX6_hears_4 21 rfl rfl)
theorem dX6_hears_115 : decode cX6_hears 115 = .ok (.getfield 125, 3) := dk_180 0 125 (dk_at dksX6_hears_5 0 rfl rfl)
theorem dX6_hears_118 : decode cX6_hears 118 = .ok (.if_icmp .ge 160, 3) := dk_162 0 160 (dk_at dksX6_hears_5 3 rfl rfl)
theorem dX6_hears_121 : decode cX6_hears 121 = .ok (.aload_n 0, 1) := dk_42 (dk_at dksX6_hears_5 6 rfl rfl)
theorem dX6_hears_122 : decode cX6_hears 122 = .ok (.getfield 28, 3) := dk_180 0 28 (dk_at dksX6_hears_5 7 rfl rfl)
theorem dX6_hears_125 : decode cX6_hears 125 = .ok (.iload 4, 2) := dk_21 4 (dk_at dksX6_hears_5 10 rfl rfl)
theorem dX6_hears_127 : decode cX6_hears 127 = .ok (.iaload, 1) := dk_46 (dk_at dksX6_hears_5 12 rfl rfl)
theorem dX6_hears_128 : decode cX6_hears 128 = .ok (.aload_n 0, 1) := dk_42 (dk_at dksX6_hears_5 13 rfl rfl)
theorem dX6_hears_129 : decode cX6_hears 129 = .ok (.getfield 22, 3) := dk_180 0 22 (dk_at dksX6_hears_5 14 rfl rfl)
theorem dX6_hears_132 : decode cX6_hears 132 = .ok (.iload_n 1, 1) := dk_27 (dk_at dksX6_hears_5 17 rfl rfl)
theorem dX6_hears_133 : decode cX6_hears 133 = .ok (.iaload, 1) := dk_46 (dk_at dksX6_hears_5 18 rfl rfl)
theorem dX6_hears_134 : decode cX6_hears 134 = .ok (.if_icmp .eq 138, 3) := dk_159 0 138 (dk_at dksX6_hears_5 19 rfl rfl)
theorem dX6_hears_137 : decode cX6_hears 137 = .ok (.aload_n 0, 1) := dk_42 (dk_at dksX6_hears_5 22 rfl rfl)
theorem dX6_hears_138 : decode cX6_hears 138 = .ok (.getfield 59, 3) := dk_180 0 59 (dk_at dksX6_hears_6 0 rfl rfl)
theorem dX6_hears_141 : decode cX6_hears 141 = .ok (.iload 4, 2) := dk_21 4 (dk_at dksX6_hears_6 3 rfl rfl)
theorem dX6_hears_143 : decode cX6_hears 143 = .ok (.iaload, 1) := dk_46 (dk_at dksX6_hears_6 5 rfl rfl)
theorem dX6_hears_144 : decode cX6_hears 144 = .ok (.iconst 2, 1) := dk_5 (dk_at dksX6_hears_6 6 rfl rfl)
theorem dX6_hears_145 : decode cX6_hears 145 = .ok (.idiv, 1) := dk_108 (dk_at dksX6_hears_6 7 rfl rfl)
theorem dX6_hears_146 : decode cX6_hears 146 = .ok (.aload_n 0, 1) := dk_42 (dk_at dksX6_hears_6 8 rfl rfl)
theorem dX6_hears_147 : decode cX6_hears 147 = .ok (.getfield 47, 3) := dk_180 0 47 (dk_at dksX6_hears_6 9 rfl rfl)
theorem dX6_hears_150 : decode cX6_hears 150 = .ok (.iload_n 1, 1) := dk_27 (dk_at dksX6_hears_6 12 rfl rfl)
theorem dX6_hears_151 : decode cX6_hears 151 = .ok (.iaload, 1) := dk_46 (dk_at dksX6_hears_6 13 rfl rfl)
theorem dX6_hears_152 : decode cX6_hears 152 = .ok (.if_icmp .ge 15, 3) := dk_162 0 15 (dk_at dksX6_hears_6 14 rfl rfl)
theorem dX6_hears_155 : decode cX6_hears 155 = .ok (.aload_n 0, 1) := dk_42 (dk_at dksX6_hears_6 17 rfl rfl)
theorem dX6_hears_156 : decode cX6_hears 156 = .ok (.getfield 59, 3) := dk_180 0 59 (dk_at dksX6_hears_6 18 rfl rfl)
theorem dX6_hears_159 : decode cX6_hears 159 = .ok (.iload 4, 2) := dk_21 4 (dk_at dksX6_hears_6 21 rfl rfl)
theorem dX6_hears_161 : decode cX6_hears 161 = .ok (.iaload, 1) := dk_46 (dk_at dksX6_hears_6 23 rfl rfl)
theorem dX6_hears_162 : decode cX6_hears 162 = .ok (.iconst 2, 1) := dk_5 (dk_at dksX6_hears_7 0 rfl rfl)
theorem dX6_hears_163 : decode cX6_hears 163 = .ok (.idiv, 1) := dk_108 (dk_at dksX6_hears_7 1 rfl rfl)
theorem dX6_hears_164 : decode cX6_hears 164 = .ok (.goto 9, 3) := dk_167 0 9 (dk_at dksX6_hears_7 2 rfl rfl)
theorem dX6_hears_167 : decode cX6_hears 167 = .ok (.aload_n 0, 1) := dk_42 (dk_at dksX6_hears_7 5 rfl rfl)
theorem dX6_hears_168 : decode cX6_hears 168 = .ok (.getfield 47, 3) := dk_180 0 47 (dk_at dksX6_hears_7 6 rfl rfl)
theorem dX6_hears_171 : decode cX6_hears 171 = .ok (.iload_n 1, 1) := dk_27 (dk_at dksX6_hears_7 9 rfl rfl)
theorem dX6_hears_172 : decode cX6_hears 172 = .ok (.iaload, 1) := dk_46 (dk_at dksX6_hears_7 10 rfl rfl)
theorem dX6_hears_173 : decode cX6_hears 173 = .ok (.istore 5, 2) := dk_54 5 (dk_at dksX6_hears_7 11 rfl rfl)
theorem dX6_hears_175 : decode cX6_hears 175 = .ok (.aload_n 0, 1) := dk_42 (dk_at dksX6_hears_7 13 rfl rfl)
theorem dX6_hears_176 : decode cX6_hears 176 = .ok (.getfield 59, 3) := dk_180 0 59 (dk_at dksX6_hears_7 14 rfl rfl)
theorem dX6_hears_179 : decode cX6_hears 179 = .ok (.iload 4, 2) := dk_21 4 (dk_at dksX6_hears_7 17 rfl rfl)
theorem dX6_hears_181 : decode cX6_hears 181 = .ok (.dup2, 1) := dk_92 (dk_at dksX6_hears_7 19 rfl rfl)
theorem dX6_hears_182 : decode cX6_hears 182 = .ok (.iaload, 1) := dk_46 (dk_at dksX6_hears_7 20 rfl rfl)
theorem dX6_hears_183 : decode cX6_hears 183 = .ok (.iconst 2, 1) := dk_5 (dk_at dksX6_hears_7 21 rfl rfl)
theorem dX6_hears_184 : decode cX6_hears 184 = .ok (.iload 5, 2) := dk_21 5 (dk_at dksX6_hears_7 22 rfl rfl)
theorem dX6_hears_186 : decode cX6_hears 186 = .ok (.imul, 1) := dk_104 (dk_at dksX6_hears_8 0 rfl rfl)
theorem dX6_hears_187 : decode cX6_hears 187 = .ok (.isub, 1) := dk_100 (dk_at dksX6_hears_8 1 rfl rfl)
theorem dX6_hears_188 : decode cX6_hears 188 = .ok (.iastore, 1) := dk_79 (dk_at dksX6_hears_8 2 rfl rfl)
theorem dX6_hears_189 : decode cX6_hears 189 = .ok (.aload_n 0, 1) := dk_42 (dk_at dksX6_hears_8 3 rfl rfl)
theorem dX6_hears_190 : decode cX6_hears 190 = .ok (.getfield 47, 3) := dk_180 0 47 (dk_at dksX6_hears_8 4 rfl rfl)
theorem dX6_hears_193 : decode cX6_hears 193 = .ok (.iload_n 1, 1) := dk_27 (dk_at dksX6_hears_8 7 rfl rfl)
theorem dX6_hears_194 : decode cX6_hears 194 = .ok (.dup2, 1) := dk_92 (dk_at dksX6_hears_8 8 rfl rfl)
theorem dX6_hears_195 : decode cX6_hears 195 = .ok (.iaload, 1) := dk_46 (dk_at dksX6_hears_8 9 rfl rfl)
theorem dX6_hears_196 : decode cX6_hears 196 = .ok (.iload 5, 2) := dk_21 5 (dk_at dksX6_hears_8 10 rfl rfl)
theorem dX6_hears_198 : decode cX6_hears 198 = .ok (.isub, 1) := dk_100 (dk_at dksX6_hears_8 12 rfl rfl)
theorem dX6_hears_199 : decode cX6_hears 199 = .ok (.iastore, 1) := dk_79 (dk_at dksX6_hears_8 13 rfl rfl)
theorem dX6_hears_200 : decode cX6_hears 200 = .ok (.aload_n 0, 1) := dk_42 (dk_at dksX6_hears_8 14 rfl rfl)
theorem dX6_hears_201 : decode cX6_hears 201 = .ok (.getfield 53, 3) := dk_180 0 53 (dk_at dksX6_hears_8 15 rfl rfl)
theorem dX6_hears_204 : decode cX6_hears 204 = .ok (.iload_n 3, 1) := dk_29 (dk_at dksX6_hears_8 18 rfl rfl)
theorem dX6_hears_205 : decode cX6_hears 205 = .ok (.dup2, 1) := dk_92 (dk_at dksX6_hears_8 19 rfl rfl)
theorem dX6_hears_206 : decode cX6_hears 206 = .ok (.iaload, 1) := dk_46 (dk_at dksX6_hears_8 20 rfl rfl)
theorem dX6_hears_207 : decode cX6_hears 207 = .ok (.iload 5, 2) := dk_21 5 (dk_at dksX6_hears_8 21 rfl rfl)
theorem dX6_hears_209 : decode cX6_hears 209 = .ok (.iadd, 1) := dk_96 (dk_at dksX6_hears_8 23 rfl rfl)
theorem dX6_hears_210 : decode cX6_hears 210 = .ok (.iastore, 1) := dk_79 (dk_at dksX6_hears_9 0 rfl rfl)
theorem dX6_hears_211 : decode cX6_hears 211 = .ok (.aload_n 0, 1) := dk_42 (dk_at dksX6_hears_9 1 rfl rfl)
theorem dX6_hears_212 : decode cX6_hears 212 = .ok (.getfield 56, 3) := dk_180 0 56 (dk_at dksX6_hears_9 2 rfl rfl)
theorem dX6_hears_215 : decode cX6_hears 215 = .ok (.iload_n 3, 1) := dk_29 (dk_at dksX6_hears_9 5 rfl rfl)
theorem dX6_hears_216 : decode cX6_hears 216 = .ok (.dup2, 1) := dk_92 (dk_at dksX6_hears_9 6 rfl rfl)
theorem dX6_hears_217 : decode cX6_hears 217 = .ok (.iaload, 1) := dk_46 (dk_at dksX6_hears_9 7 rfl rfl)
theorem dX6_hears_218 : decode cX6_hears 218 = .ok (.iload 5, 2) := dk_21 5 (dk_at dksX6_hears_9 8 rfl rfl)
theorem dX6_hears_220 : decode cX6_hears 220 = .ok (.iadd, 1) := dk_96 (dk_at dksX6_hears_9 10 rfl rfl)
theorem dX6_hears_221 : decode cX6_hears 221 = .ok (.iastore, 1) := dk_79 (dk_at dksX6_hears_9 11 rfl rfl)
theorem dX6_hears_222 : decode cX6_hears 222 = .ok (.aload_n 0, 1) := dk_42 (dk_at dksX6_hears_9 12 rfl rfl)
theorem dX6_hears_223 : decode cX6_hears 223 = .ok (.iload 5, 2) := dk_21 5 (dk_at dksX6_hears_9 13 rfl rfl)
theorem dX6_hears_225 : decode cX6_hears 225 = .ok (.ifCond .le 15, 3) := dk_158 0 15 (dk_at dksX6_hears_9 15 rfl rfl)
theorem dX6_hears_228 : decode cX6_hears 228 = .ok (.aload_n 0, 1) := dk_42 (dk_at dksX6_hears_9 18 rfl rfl)
theorem dX6_hears_229 : decode cX6_hears 229 = .ok (.getfield 185, 3) := dk_180 0 185 (dk_at dksX6_hears_9 19 rfl rfl)
theorem dX6_hears_232 : decode cX6_hears 232 = .ok (.iconst (-1), 1) := dk_2 (dk_at dksX6_hears_9 22 rfl rfl)
theorem dX6_hears_233 : decode cX6_hears 233 = .ok (.if_icmp .ne 7, 3) := dk_160 0 7 (dk_at dksX6_hears_10 0 rfl rfl)
theorem dX6_hears_236 : decode cX6_hears 236 = .ok (.iload_n 1, 1) := dk_27 (dk_at dksX6_hears_10 3 rfl rfl)
theorem dX6_hears_237 : decode cX6_hears 237 = .ok (.goto 7, 3) := dk_167 0 7 (dk_at dksX6_hears_10 4 rfl rfl)
theorem dX6_hears_240 : decode cX6_hears 240 = .ok (.aload_n 0, 1) := dk_42 (dk_at dksX6_hears_10 7 rfl rfl)
theorem dX6_hears_241 : decode cX6_hears 241 = .ok (.getfield 188, 3) := dk_180 0 188 (dk_at dksX6_hears_10 8 rfl rfl)
theorem dX6_hears_244 : decode cX6_hears 244 = .ok (.putfield 188, 3) := dk_181 0 188 (dk_at dksX6_hears_10 11 rfl rfl)
theorem dX6_hears_247 : decode cX6_hears 247 = .ok (.aload_n 0, 1) := dk_42 (dk_at dksX6_hears_10 14 rfl rfl)
theorem dX6_hears_248 : decode cX6_hears 248 = .ok (.iload 5, 2) := dk_21 5 (dk_at dksX6_hears_10 15 rfl rfl)
theorem dX6_hears_250 : decode cX6_hears 250 = .ok (.ifCond .le 15, 3) := dk_158 0 15 (dk_at dksX6_hears_10 17 rfl rfl)
theorem dX6_hears_253 : decode cX6_hears 253 = .ok (.aload_n 0, 1) := dk_42 (dk_at dksX6_hears_10 20 rfl rfl)
theorem dX6_hears_254 : decode cX6_hears 254 = .ok (.getfield 185, 3) := dk_180 0 185 (dk_at dksX6_hears_10 21 rfl rfl)
theorem dX6_hears_257 : decode cX6_hears 257 = .ok (.iconst (-1), 1) := dk_2 (dk_at dksX6_hears_11 0 rfl rfl)
theorem dX6_hears_258 : decode cX6_hears 258 = .ok (.if_icmp .ne 7, 3) := dk_160 0 7 (dk_at dksX6_hears_11 1 rfl rfl)
theorem dX6_hears_261 : decode cX6_hears 261 = .ok (.iload_n 2, 1) := dk_28 (dk_at dksX6_hears_11 4 rfl rfl)
theorem dX6_hears_262 : decode cX6_hears 262 = .ok (.goto 7, 3) := dk_167 0 7 (dk_at dksX6_hears_11 5 rfl rfl)
theorem dX6_hears_265 : decode cX6_hears 265 = .ok (.aload_n 0, 1) := dk_42 (dk_at dksX6_hears_11 8 rfl rfl)
theorem dX6_hears_266 : decode cX6_hears 266 = .ok (.getfield 185, 3) := dk_180 0 185 (dk_at dksX6_hears_11 9 rfl rfl)
theorem dX6_hears_269 : decode cX6_hears 269 = .ok (.putfield 185, 3) := dk_181 0 185 (dk_at dksX6_hears_11 12 rfl rfl)
theorem dX6_hears_272 : decode cX6_hears 272 = .ok (.iinc 4 1, 3) := dk_132 4 1 (dk_at dksX6_hears_11 15 rfl rfl)
theorem dX6_hears_275 : decode cX6_hears 275 = .ok (.goto (-163), 3) := dk_167 255 93 (dk_at dksX6_hears_11 18 rfl rfl)
theorem dX6_hears_278 : decode cX6_hears 278 = .ok (.return_, 1) := dk_177 (dk_at dksX6_hears_11 21 rfl rfl)
abbrev cX6_allOwed : ByteArray := prog_14_method_38_code
def yX6_allOwed : MethodName := ⟨RX6, "allOwed", "(I)I"⟩
def dkwX6_allOwed_1 : List UInt8 := [96, 61, 132, 3, 1, 167, 255, 231, 28, 172]
abbrev dktX6_allOwed_1 : List UInt8 := dkwX6_allOwed_1 ++ []
def dkwX6_allOwed_0 : List UInt8 := [3, 61, 3, 62, 29, 42, 180, 0, 122, 162, 0, 23, 28, 42, 180, 0, 50, 16, 20, 29, 104, 27, 96, 46]
abbrev dktX6_allOwed_0 : List UInt8 := dkwX6_allOwed_0 ++ dktX6_allOwed_1
theorem dksX6_allOwed_0 : cX6_allOwed.data.toList.drop 0 = dktX6_allOwed_0 := by decide +kernel
theorem dksX6_allOwed_1 : cX6_allOwed.data.toList.drop 24 = dktX6_allOwed_1 := dk_seg dksX6_allOwed_0 24 rfl rfl
theorem dX6_allOwed_0 : decode cX6_allOwed 0 = .ok (.iconst 0, 1) := dk_3 (dk_at dksX6_allOwed_0 0 rfl rfl)
theorem dX6_allOwed_1 : decode cX6_allOwed 1 = .ok (.istore_n 2, 1) := dk_61 (dk_at dksX6_allOwed_0 1 rfl rfl)
theorem dX6_allOwed_2 : decode cX6_allOwed 2 = .ok (.iconst 0, 1) := dk_3 (dk_at dksX6_allOwed_0 2 rfl rfl)
theorem dX6_allOwed_3 : decode cX6_allOwed 3 = .ok (.istore_n 3, 1) := dk_62 (dk_at dksX6_allOwed_0 3 rfl rfl)
theorem dX6_allOwed_4 : decode cX6_allOwed 4 = .ok (.iload_n 3, 1) := dk_29 (dk_at dksX6_allOwed_0 4 rfl rfl)
theorem dX6_allOwed_5 : decode cX6_allOwed 5 = .ok (.aload_n 0, 1) := dk_42 (dk_at dksX6_allOwed_0 5 rfl rfl)
theorem dX6_allOwed_6 : decode cX6_allOwed 6 = .ok (.getfield 122, 3) := dk_180 0 122 (dk_at dksX6_allOwed_0 6 rfl rfl)
theorem dX6_allOwed_9 : decode cX6_allOwed 9 = .ok (.if_icmp .ge 23, 3) := dk_162 0 23 (dk_at dksX6_allOwed_0 9 rfl rfl)
theorem dX6_allOwed_12 : decode cX6_allOwed 12 = .ok (.iload_n 2, 1) := dk_28 (dk_at dksX6_allOwed_0 12 rfl rfl)
theorem dX6_allOwed_13 : decode cX6_allOwed 13 = .ok (.aload_n 0, 1) := dk_42 (dk_at dksX6_allOwed_0 13 rfl rfl)
theorem dX6_allOwed_14 : decode cX6_allOwed 14 = .ok (.getfield 50, 3) := dk_180 0 50 (dk_at dksX6_allOwed_0 14 rfl rfl)
theorem dX6_allOwed_17 : decode cX6_allOwed 17 = .ok (.bipush 20, 2) := dk_16 20 (dk_at dksX6_allOwed_0 17 rfl rfl)
theorem dX6_allOwed_19 : decode cX6_allOwed 19 = .ok (.iload_n 3, 1) := dk_29 (dk_at dksX6_allOwed_0 19 rfl rfl)
theorem dX6_allOwed_20 : decode cX6_allOwed 20 = .ok (.imul, 1) := dk_104 (dk_at dksX6_allOwed_0 20 rfl rfl)
theorem dX6_allOwed_21 : decode cX6_allOwed 21 = .ok (.iload_n 1, 1) := dk_27 (dk_at dksX6_allOwed_0 21 rfl rfl)
theorem dX6_allOwed_22 : decode cX6_allOwed 22 = .ok (.iadd, 1) := dk_96 (dk_at dksX6_allOwed_0 22 rfl rfl)
theorem dX6_allOwed_23 : decode cX6_allOwed 23 = .ok (.iaload, 1) := dk_46 (dk_at dksX6_allOwed_0 23 rfl rfl)
theorem dX6_allOwed_24 : decode cX6_allOwed 24 = .ok (.iadd, 1) := dk_96 (dk_at dksX6_allOwed_1 0 rfl rfl)
theorem dX6_allOwed_25 : decode cX6_allOwed 25 = .ok (.istore_n 2, 1) := dk_61 (dk_at dksX6_allOwed_1 1 rfl rfl)
theorem dX6_allOwed_26 : decode cX6_allOwed 26 = .ok (.iinc 3 1, 3) := dk_132 3 1 (dk_at dksX6_allOwed_1 2 rfl rfl)
theorem dX6_allOwed_29 : decode cX6_allOwed 29 = .ok (.goto (-25), 3) := dk_167 255 231 (dk_at dksX6_allOwed_1 5 rfl rfl)
theorem dX6_allOwed_32 : decode cX6_allOwed 32 = .ok (.iload_n 2, 1) := dk_28 (dk_at dksX6_allOwed_1 8 rfl rfl)
theorem dX6_allOwed_33 : decode cX6_allOwed 33 = .ok (.ireturn, 1) := dk_172 (dk_at dksX6_allOwed_1 9 rfl rfl)
abbrev cX6_heard : ByteArray := prog_14_method_42_code
def yX6_heard : MethodName := ⟨RX6, "heard", "(III)I"⟩
def dkwX6_heard_1 : List UInt8 := [42, 27, 28, 29, 182, 0, 216, 167, 0, 5, 16, 254, 172]
abbrev dktX6_heard_1 : List UInt8 := dkwX6_heard_1 ++ []
def dkwX6_heard_0 : List UInt8 := [27, 184, 0, 153, 153, 0, 30, 42, 28, 182, 0, 144, 153, 0, 22, 29, 3, 4, 184, 0, 104, 153, 0, 13]
abbrev dktX6_heard_0 : List UInt8 := dkwX6_heard_0 ++ dktX6_heard_1
theorem dksX6_heard_0 : cX6_heard.data.toList.drop 0 = dktX6_heard_0 := by decide +kernel
theorem dksX6_heard_1 : cX6_heard.data.toList.drop 24 = dktX6_heard_1 := dk_seg dksX6_heard_0 24 rfl rfl
theorem dX6_heard_0 : decode cX6_heard 0 = .ok (.iload_n 1, 1) := dk_27 (dk_at dksX6_heard_0 0 rfl rfl)
theorem dX6_heard_1 : decode cX6_heard 1 = .ok (.invokestatic 153, 3) := dk_184 0 153 (dk_at dksX6_heard_0 1 rfl rfl)
theorem dX6_heard_4 : decode cX6_heard 4 = .ok (.ifCond .eq 30, 3) := dk_153 0 30 (dk_at dksX6_heard_0 4 rfl rfl)
theorem dX6_heard_7 : decode cX6_heard 7 = .ok (.aload_n 0, 1) := dk_42 (dk_at dksX6_heard_0 7 rfl rfl)
theorem dX6_heard_8 : decode cX6_heard 8 = .ok (.iload_n 2, 1) := dk_28 (dk_at dksX6_heard_0 8 rfl rfl)
theorem dX6_heard_9 : decode cX6_heard 9 = .ok (.invokevirtual 144, 3) := dk_182 0 144 (dk_at dksX6_heard_0 9 rfl rfl)
theorem dX6_heard_12 : decode cX6_heard 12 = .ok (.ifCond .eq 22, 3) := dk_153 0 22 (dk_at dksX6_heard_0 12 rfl rfl)
theorem dX6_heard_15 : decode cX6_heard 15 = .ok (.iload_n 3, 1) := dk_29 (dk_at dksX6_heard_0 15 rfl rfl)
theorem dX6_heard_16 : decode cX6_heard 16 = .ok (.iconst 0, 1) := dk_3 (dk_at dksX6_heard_0 16 rfl rfl)
theorem dX6_heard_17 : decode cX6_heard 17 = .ok (.iconst 1, 1) := dk_4 (dk_at dksX6_heard_0 17 rfl rfl)
theorem dX6_heard_18 : decode cX6_heard 18 = .ok (.invokestatic 104, 3) := dk_184 0 104 (dk_at dksX6_heard_0 18 rfl rfl)
theorem dX6_heard_21 : decode cX6_heard 21 = .ok (.ifCond .eq 13, 3) := dk_153 0 13 (dk_at dksX6_heard_0 21 rfl rfl)
theorem dX6_heard_24 : decode cX6_heard 24 = .ok (.aload_n 0, 1) := dk_42 (dk_at dksX6_heard_1 0 rfl rfl)
theorem dX6_heard_25 : decode cX6_heard 25 = .ok (.iload_n 1, 1) := dk_27 (dk_at dksX6_heard_1 1 rfl rfl)
theorem dX6_heard_26 : decode cX6_heard 26 = .ok (.iload_n 2, 1) := dk_28 (dk_at dksX6_heard_1 2 rfl rfl)
theorem dX6_heard_27 : decode cX6_heard 27 = .ok (.iload_n 3, 1) := dk_29 (dk_at dksX6_heard_1 3 rfl rfl)
theorem dX6_heard_28 : decode cX6_heard 28 = .ok (.invokevirtual 216, 3) := dk_182 0 216 (dk_at dksX6_heard_1 4 rfl rfl)
theorem dX6_heard_31 : decode cX6_heard 31 = .ok (.goto 5, 3) := dk_167 0 5 (dk_at dksX6_heard_1 7 rfl rfl)
theorem dX6_heard_34 : decode cX6_heard 34 = .ok (.bipush (-2), 2) := dk_16 254 (dk_at dksX6_heard_1 10 rfl rfl)
theorem dX6_heard_36 : decode cX6_heard 36 = .ok (.ireturn, 1) := dk_172 (dk_at dksX6_heard_1 12 rfl rfl)
abbrev cX6_heardOf : ByteArray := prog_14_method_41_code
def yX6_heardOf : MethodName := ⟨RX6, "heardOf", "(III)I"⟩
def dkwX6_heardOf_1 : List UInt8 := [180, 0, 56, 16, 20, 28, 104, 27, 96, 46, 172]
abbrev dktX6_heardOf_1 : List UInt8 := dkwX6_heardOf_1 ++ []
def dkwX6_heardOf_0 : List UInt8 := [42, 182, 0, 207, 29, 154, 0, 17, 42, 180, 0, 53, 16, 20, 28, 104, 27, 96, 46, 167, 0, 14, 42]
abbrev dktX6_heardOf_0 : List UInt8 := dkwX6_heardOf_0 ++ dktX6_heardOf_1
theorem dksX6_heardOf_0 : cX6_heardOf.data.toList.drop 0 = dktX6_heardOf_0 := by decide +kernel
theorem dksX6_heardOf_1 : cX6_heardOf.data.toList.drop 23 = dktX6_heardOf_1 := dk_seg dksX6_heardOf_0 23 rfl rfl
theorem dX6_heardOf_0 : decode cX6_heardOf 0 = .ok (.aload_n 0, 1) := dk_42 (dk_at dksX6_heardOf_0 0 rfl rfl)
theorem dX6_heardOf_1 : decode cX6_heardOf 1 = .ok (.invokevirtual 207, 3) := dk_182 0 207 (dk_at dksX6_heardOf_0 1 rfl rfl)
theorem dX6_heardOf_4 : decode cX6_heardOf 4 = .ok (.iload_n 3, 1) := dk_29 (dk_at dksX6_heardOf_0 4 rfl rfl)
theorem dX6_heardOf_5 : decode cX6_heardOf 5 = .ok (.ifCond .ne 17, 3) := dk_154 0 17 (dk_at dksX6_heardOf_0 5 rfl rfl)
theorem dX6_heardOf_8 : decode cX6_heardOf 8 = .ok (.aload_n 0, 1) := dk_42 (dk_at dksX6_heardOf_0 8 rfl rfl)
theorem dX6_heardOf_9 : decode cX6_heardOf 9 = .ok (.getfield 53, 3) := dk_180 0 53 (dk_at dksX6_heardOf_0 9 rfl rfl)
theorem dX6_heardOf_12 : decode cX6_heardOf 12 = .ok (.bipush 20, 2) := dk_16 20 (dk_at dksX6_heardOf_0 12 rfl rfl)
theorem dX6_heardOf_14 : decode cX6_heardOf 14 = .ok (.iload_n 2, 1) := dk_28 (dk_at dksX6_heardOf_0 14 rfl rfl)
theorem dX6_heardOf_15 : decode cX6_heardOf 15 = .ok (.imul, 1) := dk_104 (dk_at dksX6_heardOf_0 15 rfl rfl)
theorem dX6_heardOf_16 : decode cX6_heardOf 16 = .ok (.iload_n 1, 1) := dk_27 (dk_at dksX6_heardOf_0 16 rfl rfl)
theorem dX6_heardOf_17 : decode cX6_heardOf 17 = .ok (.iadd, 1) := dk_96 (dk_at dksX6_heardOf_0 17 rfl rfl)
theorem dX6_heardOf_18 : decode cX6_heardOf 18 = .ok (.iaload, 1) := dk_46 (dk_at dksX6_heardOf_0 18 rfl rfl)
theorem dX6_heardOf_19 : decode cX6_heardOf 19 = .ok (.goto 14, 3) := dk_167 0 14 (dk_at dksX6_heardOf_0 19 rfl rfl)
theorem dX6_heardOf_22 : decode cX6_heardOf 22 = .ok (.aload_n 0, 1) := dk_42 (dk_at dksX6_heardOf_0 22 rfl rfl)
theorem dX6_heardOf_23 : decode cX6_heardOf 23 = .ok (.getfield 56, 3) := dk_180 0 56 (dk_at dksX6_heardOf_1 0 rfl rfl)
theorem dX6_heardOf_26 : decode cX6_heardOf 26 = .ok (.bipush 20, 2) := dk_16 20 (dk_at dksX6_heardOf_1 3 rfl rfl)
theorem dX6_heardOf_28 : decode cX6_heardOf 28 = .ok (.iload_n 2, 1) := dk_28 (dk_at dksX6_heardOf_1 5 rfl rfl)
theorem dX6_heardOf_29 : decode cX6_heardOf 29 = .ok (.imul, 1) := dk_104 (dk_at dksX6_heardOf_1 6 rfl rfl)
theorem dX6_heardOf_30 : decode cX6_heardOf 30 = .ok (.iload_n 1, 1) := dk_27 (dk_at dksX6_heardOf_1 7 rfl rfl)
theorem dX6_heardOf_31 : decode cX6_heardOf 31 = .ok (.iadd, 1) := dk_96 (dk_at dksX6_heardOf_1 8 rfl rfl)
theorem dX6_heardOf_32 : decode cX6_heardOf 32 = .ok (.iaload, 1) := dk_46 (dk_at dksX6_heardOf_1 9 rfl rfl)
theorem dX6_heardOf_33 : decode cX6_heardOf 33 = .ok (.ireturn, 1) := dk_172 (dk_at dksX6_heardOf_1 10 rfl rfl)
abbrev cX6_left : ByteArray := prog_14_method_44_code
def yX6_left : MethodName := ⟨RX6, "left", "(II)I"⟩
def dkwX6_left_1 : List UInt8 := [16, 254, 172]
abbrev dktX6_left_1 : List UInt8 := dkwX6_left_1 ++ []
def dkwX6_left_0 : List UInt8 := [27, 184, 0, 153, 153, 0, 20, 42, 28, 182, 0, 150, 153, 0, 12, 42, 27, 28, 182, 0, 220, 167, 0, 5]
abbrev dktX6_left_0 : List UInt8 := dkwX6_left_0 ++ dktX6_left_1
theorem dksX6_left_0 : cX6_left.data.toList.drop 0 = dktX6_left_0 := by decide +kernel
theorem dksX6_left_1 : cX6_left.data.toList.drop 24 = dktX6_left_1 := dk_seg dksX6_left_0 24 rfl rfl
theorem dX6_left_0 : decode cX6_left 0 = .ok (.iload_n 1, 1) := dk_27 (dk_at dksX6_left_0 0 rfl rfl)
theorem dX6_left_1 : decode cX6_left 1 = .ok (.invokestatic 153, 3) := dk_184 0 153 (dk_at dksX6_left_0 1 rfl rfl)
theorem dX6_left_4 : decode cX6_left 4 = .ok (.ifCond .eq 20, 3) := dk_153 0 20 (dk_at dksX6_left_0 4 rfl rfl)
theorem dX6_left_7 : decode cX6_left 7 = .ok (.aload_n 0, 1) := dk_42 (dk_at dksX6_left_0 7 rfl rfl)
theorem dX6_left_8 : decode cX6_left 8 = .ok (.iload_n 2, 1) := dk_28 (dk_at dksX6_left_0 8 rfl rfl)
theorem dX6_left_9 : decode cX6_left 9 = .ok (.invokevirtual 150, 3) := dk_182 0 150 (dk_at dksX6_left_0 9 rfl rfl)
theorem dX6_left_12 : decode cX6_left 12 = .ok (.ifCond .eq 12, 3) := dk_153 0 12 (dk_at dksX6_left_0 12 rfl rfl)
theorem dX6_left_15 : decode cX6_left 15 = .ok (.aload_n 0, 1) := dk_42 (dk_at dksX6_left_0 15 rfl rfl)
theorem dX6_left_16 : decode cX6_left 16 = .ok (.iload_n 1, 1) := dk_27 (dk_at dksX6_left_0 16 rfl rfl)
theorem dX6_left_17 : decode cX6_left 17 = .ok (.iload_n 2, 1) := dk_28 (dk_at dksX6_left_0 17 rfl rfl)
theorem dX6_left_18 : decode cX6_left 18 = .ok (.invokevirtual 220, 3) := dk_182 0 220 (dk_at dksX6_left_0 18 rfl rfl)
theorem dX6_left_21 : decode cX6_left 21 = .ok (.goto 5, 3) := dk_167 0 5 (dk_at dksX6_left_0 21 rfl rfl)
theorem dX6_left_24 : decode cX6_left 24 = .ok (.bipush (-2), 2) := dk_16 254 (dk_at dksX6_left_1 0 rfl rfl)
theorem dX6_left_26 : decode cX6_left 26 = .ok (.ireturn, 1) := dk_172 (dk_at dksX6_left_1 2 rfl rfl)
abbrev cX6_leftOf : ByteArray := prog_14_method_43_code
def yX6_leftOf : MethodName := ⟨RX6, "leftOf", "(II)I"⟩
def dkwX6_leftOf_0 : List UInt8 := [42, 182, 0, 207, 42, 180, 0, 62, 16, 20, 28, 104, 27, 96, 46, 172]
abbrev dktX6_leftOf_0 : List UInt8 := dkwX6_leftOf_0 ++ []
theorem dksX6_leftOf_0 : cX6_leftOf.data.toList.drop 0 = dktX6_leftOf_0 := by decide +kernel
theorem dX6_leftOf_0 : decode cX6_leftOf 0 = .ok (.aload_n 0, 1) := dk_42 (dk_at dksX6_leftOf_0 0 rfl rfl)
theorem dX6_leftOf_1 : decode cX6_leftOf 1 = .ok (.invokevirtual 207, 3) := dk_182 0 207 (dk_at dksX6_leftOf_0 1 rfl rfl)
theorem dX6_leftOf_4 : decode cX6_leftOf 4 = .ok (.aload_n 0, 1) := dk_42 (dk_at dksX6_leftOf_0 4 rfl rfl)
theorem dX6_leftOf_5 : decode cX6_leftOf 5 = .ok (.getfield 62, 3) := dk_180 0 62 (dk_at dksX6_leftOf_0 5 rfl rfl)
theorem dX6_leftOf_8 : decode cX6_leftOf 8 = .ok (.bipush 20, 2) := dk_16 20 (dk_at dksX6_leftOf_0 8 rfl rfl)
theorem dX6_leftOf_10 : decode cX6_leftOf 10 = .ok (.iload_n 2, 1) := dk_28 (dk_at dksX6_leftOf_0 10 rfl rfl)
theorem dX6_leftOf_11 : decode cX6_leftOf 11 = .ok (.imul, 1) := dk_104 (dk_at dksX6_leftOf_0 11 rfl rfl)
theorem dX6_leftOf_12 : decode cX6_leftOf 12 = .ok (.iload_n 1, 1) := dk_27 (dk_at dksX6_leftOf_0 12 rfl rfl)
theorem dX6_leftOf_13 : decode cX6_leftOf 13 = .ok (.iadd, 1) := dk_96 (dk_at dksX6_leftOf_0 13 rfl rfl)
theorem dX6_leftOf_14 : decode cX6_leftOf 14 = .ok (.iaload, 1) := dk_46 (dk_at dksX6_leftOf_0 14 rfl rfl)
theorem dX6_leftOf_15 : decode cX6_leftOf 15 = .ok (.ireturn, 1) := dk_172 (dk_at dksX6_leftOf_0 15 rfl rfl)
abbrev cX6_run : ByteArray := prog_14_method_46_code
def yX6_run : MethodName := ⟨RX6, "run", "()I"⟩
theorem dX6_run_0 : decode cX6_run 0 = .ok (.aload_n 0, 1) := by decide +kernel
theorem dX6_run_1 : decode cX6_run 1 = .ok (.invokevirtual 223, 3) := by decide +kernel
theorem dX6_run_4 : decode cX6_run 4 = .ok (.ireturn, 1) := by decide +kernel
abbrev cX6_runOf : ByteArray := prog_14_method_45_code
def yX6_runOf : MethodName := ⟨RX6, "runOf", "()I"⟩
def dkwX6_runOf_0 : List UInt8 := [42, 182, 0, 207, 42, 180, 0, 191, 172]
abbrev dktX6_runOf_0 : List UInt8 := dkwX6_runOf_0 ++ []
theorem dksX6_runOf_0 : cX6_runOf.data.toList.drop 0 = dktX6_runOf_0 := by decide +kernel
theorem dX6_runOf_0 : decode cX6_runOf 0 = .ok (.aload_n 0, 1) := dk_42 (dk_at dksX6_runOf_0 0 rfl rfl)
theorem dX6_runOf_1 : decode cX6_runOf 1 = .ok (.invokevirtual 207, 3) := dk_182 0 207 (dk_at dksX6_runOf_0 1 rfl rfl)
theorem dX6_runOf_4 : decode cX6_runOf 4 = .ok (.aload_n 0, 1) := dk_42 (dk_at dksX6_runOf_0 4 rfl rfl)
theorem dX6_runOf_5 : decode cX6_runOf 5 = .ok (.getfield 191, 3) := dk_180 0 191 (dk_at dksX6_runOf_0 5 rfl rfl)
theorem dX6_runOf_8 : decode cX6_runOf 8 = .ok (.ireturn, 1) := dk_172 (dk_at dksX6_runOf_0 8 rfl rfl)
abbrev cX6_yawn : ByteArray := prog_14_method_48_code
def yX6_yawn : MethodName := ⟨RX6, "yawn", "(I)I"⟩
def dkwX6_yawn_0 : List UInt8 := [27, 3, 4, 184, 0, 104, 153, 0, 11, 42, 27, 182, 0, 227, 167, 0, 5, 16, 254, 172]
abbrev dktX6_yawn_0 : List UInt8 := dkwX6_yawn_0 ++ []
theorem dksX6_yawn_0 : cX6_yawn.data.toList.drop 0 = dktX6_yawn_0 := by decide +kernel
theorem dX6_yawn_0 : decode cX6_yawn 0 = .ok (.iload_n 1, 1) := dk_27 (dk_at dksX6_yawn_0 0 rfl rfl)
theorem dX6_yawn_1 : decode cX6_yawn 1 = .ok (.iconst 0, 1) := dk_3 (dk_at dksX6_yawn_0 1 rfl rfl)
theorem dX6_yawn_2 : decode cX6_yawn 2 = .ok (.iconst 1, 1) := dk_4 (dk_at dksX6_yawn_0 2 rfl rfl)
theorem dX6_yawn_3 : decode cX6_yawn 3 = .ok (.invokestatic 104, 3) := dk_184 0 104 (dk_at dksX6_yawn_0 3 rfl rfl)
theorem dX6_yawn_6 : decode cX6_yawn 6 = .ok (.ifCond .eq 11, 3) := dk_153 0 11 (dk_at dksX6_yawn_0 6 rfl rfl)
theorem dX6_yawn_9 : decode cX6_yawn 9 = .ok (.aload_n 0, 1) := dk_42 (dk_at dksX6_yawn_0 9 rfl rfl)
theorem dX6_yawn_10 : decode cX6_yawn 10 = .ok (.iload_n 1, 1) := dk_27 (dk_at dksX6_yawn_0 10 rfl rfl)
theorem dX6_yawn_11 : decode cX6_yawn 11 = .ok (.invokevirtual 227, 3) := dk_182 0 227 (dk_at dksX6_yawn_0 11 rfl rfl)
theorem dX6_yawn_14 : decode cX6_yawn 14 = .ok (.goto 5, 3) := dk_167 0 5 (dk_at dksX6_yawn_0 14 rfl rfl)
theorem dX6_yawn_17 : decode cX6_yawn 17 = .ok (.bipush (-2), 2) := dk_16 254 (dk_at dksX6_yawn_0 17 rfl rfl)
theorem dX6_yawn_19 : decode cX6_yawn 19 = .ok (.ireturn, 1) := dk_172 (dk_at dksX6_yawn_0 19 rfl rfl)
abbrev cX6_yawnOf : ByteArray := prog_14_method_47_code
def yX6_yawnOf : MethodName := ⟨RX6, "yawnOf", "(I)I"⟩
def dkwX6_yawnOf_0 : List UInt8 := [42, 182, 0, 207, 27, 154, 0, 10, 42, 180, 0, 185, 167, 0, 7, 42, 180, 0, 188, 172]
abbrev dktX6_yawnOf_0 : List UInt8 := dkwX6_yawnOf_0 ++ []
theorem dksX6_yawnOf_0 : cX6_yawnOf.data.toList.drop 0 = dktX6_yawnOf_0 := by decide +kernel
theorem dX6_yawnOf_0 : decode cX6_yawnOf 0 = .ok (.aload_n 0, 1) := dk_42 (dk_at dksX6_yawnOf_0 0 rfl rfl)
theorem dX6_yawnOf_1 : decode cX6_yawnOf 1 = .ok (.invokevirtual 207, 3) := dk_182 0 207 (dk_at dksX6_yawnOf_0 1 rfl rfl)
theorem dX6_yawnOf_4 : decode cX6_yawnOf 4 = .ok (.iload_n 1, 1) := dk_27 (dk_at dksX6_yawnOf_0 4 rfl rfl)
theorem dX6_yawnOf_5 : decode cX6_yawnOf 5 = .ok (.ifCond .ne 10, 3) := dk_154 0 10 (dk_at dksX6_yawnOf_0 5 rfl rfl)
theorem dX6_yawnOf_8 : decode cX6_yawnOf 8 = .ok (.aload_n 0, 1) := dk_42 (dk_at dksX6_yawnOf_0 8 rfl rfl)
theorem dX6_yawnOf_9 : decode cX6_yawnOf 9 = .ok (.getfield 185, 3) := dk_180 0 185 (dk_at dksX6_yawnOf_0 9 rfl rfl)
theorem dX6_yawnOf_12 : decode cX6_yawnOf 12 = .ok (.goto 7, 3) := dk_167 0 7 (dk_at dksX6_yawnOf_0 12 rfl rfl)
theorem dX6_yawnOf_15 : decode cX6_yawnOf 15 = .ok (.aload_n 0, 1) := dk_42 (dk_at dksX6_yawnOf_0 15 rfl rfl)
theorem dX6_yawnOf_16 : decode cX6_yawnOf 16 = .ok (.getfield 188, 3) := dk_180 0 188 (dk_at dksX6_yawnOf_0 16 rfl rfl)
theorem dX6_yawnOf_19 : decode cX6_yawnOf 19 = .ok (.ireturn, 1) := dk_172 (dk_at dksX6_yawnOf_0 19 rfl rfl)
abbrev cX6_most : ByteArray := prog_14_method_51_code
def yX6_most : MethodName := ⟨RX6, "most", "()I"⟩
theorem dX6_most_0 : decode cX6_most 0 = .ok (.aload_n 0, 1) := by decide +kernel
theorem dX6_most_1 : decode cX6_most 1 = .ok (.invokevirtual 233, 3) := by decide +kernel
theorem dX6_most_4 : decode cX6_most 4 = .ok (.ireturn, 1) := by decide +kernel
abbrev cX6_mostNow : ByteArray := prog_14_method_50_code
def yX6_mostNow : MethodName := ⟨RX6, "mostNow", "()I"⟩
def dkwX6_mostNow_2 : List UInt8 := [172]
abbrev dktX6_mostNow_2 : List UInt8 := dkwX6_mostNow_2 ++ []
def dkwX6_mostNow_1 : List UInt8 := [182, 0, 230, 42, 27, 182, 0, 230, 164, 0, 7, 28, 167, 0, 4, 27, 60, 132, 2, 1, 167, 255, 221, 27]
abbrev dktX6_mostNow_1 : List UInt8 := dkwX6_mostNow_1 ++ dktX6_mostNow_2
def dkwX6_mostNow_0 : List UInt8 := [42, 182, 0, 207, 2, 60, 3, 61, 28, 42, 180, 0, 122, 162, 0, 33, 27, 2, 159, 0, 16, 42, 28]
abbrev dktX6_mostNow_0 : List UInt8 := dkwX6_mostNow_0 ++ dktX6_mostNow_1
theorem dksX6_mostNow_0 : cX6_mostNow.data.toList.drop 0 = dktX6_mostNow_0 := by decide +kernel
theorem dksX6_mostNow_1 : cX6_mostNow.data.toList.drop 23 = dktX6_mostNow_1 := dk_seg dksX6_mostNow_0 23 rfl rfl
theorem dksX6_mostNow_2 : cX6_mostNow.data.toList.drop 47 = dktX6_mostNow_2 := dk_seg dksX6_mostNow_1 24 rfl rfl
theorem dX6_mostNow_0 : decode cX6_mostNow 0 = .ok (.aload_n 0, 1) := dk_42 (dk_at dksX6_mostNow_0 0 rfl rfl)
theorem dX6_mostNow_1 : decode cX6_mostNow 1 = .ok (.invokevirtual 207, 3) := dk_182 0 207 (dk_at dksX6_mostNow_0 1 rfl rfl)
theorem dX6_mostNow_4 : decode cX6_mostNow 4 = .ok (.iconst (-1), 1) := dk_2 (dk_at dksX6_mostNow_0 4 rfl rfl)
theorem dX6_mostNow_5 : decode cX6_mostNow 5 = .ok (.istore_n 1, 1) := dk_60 (dk_at dksX6_mostNow_0 5 rfl rfl)
theorem dX6_mostNow_6 : decode cX6_mostNow 6 = .ok (.iconst 0, 1) := dk_3 (dk_at dksX6_mostNow_0 6 rfl rfl)
theorem dX6_mostNow_7 : decode cX6_mostNow 7 = .ok (.istore_n 2, 1) := dk_61 (dk_at dksX6_mostNow_0 7 rfl rfl)
theorem dX6_mostNow_8 : decode cX6_mostNow 8 = .ok (.iload_n 2, 1) := dk_28 (dk_at dksX6_mostNow_0 8 rfl rfl)
theorem dX6_mostNow_9 : decode cX6_mostNow 9 = .ok (.aload_n 0, 1) := dk_42 (dk_at dksX6_mostNow_0 9 rfl rfl)
theorem dX6_mostNow_10 : decode cX6_mostNow 10 = .ok (.getfield 122, 3) := dk_180 0 122 (dk_at dksX6_mostNow_0 10 rfl rfl)
theorem dX6_mostNow_13 : decode cX6_mostNow 13 = .ok (.if_icmp .ge 33, 3) := dk_162 0 33 (dk_at dksX6_mostNow_0 13 rfl rfl)
theorem dX6_mostNow_16 : decode cX6_mostNow 16 = .ok (.iload_n 1, 1) := dk_27 (dk_at dksX6_mostNow_0 16 rfl rfl)
theorem dX6_mostNow_17 : decode cX6_mostNow 17 = .ok (.iconst (-1), 1) := dk_2 (dk_at dksX6_mostNow_0 17 rfl rfl)
theorem dX6_mostNow_18 : decode cX6_mostNow 18 = .ok (.if_icmp .eq 16, 3) := dk_159 0 16 (dk_at dksX6_mostNow_0 18 rfl rfl)
theorem dX6_mostNow_21 : decode cX6_mostNow 21 = .ok (.aload_n 0, 1) := dk_42 (dk_at dksX6_mostNow_0 21 rfl rfl)
theorem dX6_mostNow_22 : decode cX6_mostNow 22 = .ok (.iload_n 2, 1) := dk_28 (dk_at dksX6_mostNow_0 22 rfl rfl)
theorem dX6_mostNow_23 : decode cX6_mostNow 23 = .ok (.invokevirtual 230, 3) := dk_182 0 230 (dk_at dksX6_mostNow_1 0 rfl rfl)
theorem dX6_mostNow_26 : decode cX6_mostNow 26 = .ok (.aload_n 0, 1) := dk_42 (dk_at dksX6_mostNow_1 3 rfl rfl)
theorem dX6_mostNow_27 : decode cX6_mostNow 27 = .ok (.iload_n 1, 1) := dk_27 (dk_at dksX6_mostNow_1 4 rfl rfl)
theorem dX6_mostNow_28 : decode cX6_mostNow 28 = .ok (.invokevirtual 230, 3) := dk_182 0 230 (dk_at dksX6_mostNow_1 5 rfl rfl)
theorem dX6_mostNow_31 : decode cX6_mostNow 31 = .ok (.if_icmp .le 7, 3) := dk_164 0 7 (dk_at dksX6_mostNow_1 8 rfl rfl)
theorem dX6_mostNow_34 : decode cX6_mostNow 34 = .ok (.iload_n 2, 1) := dk_28 (dk_at dksX6_mostNow_1 11 rfl rfl)
theorem dX6_mostNow_35 : decode cX6_mostNow 35 = .ok (.goto 4, 3) := dk_167 0 4 (dk_at dksX6_mostNow_1 12 rfl rfl)
theorem dX6_mostNow_38 : decode cX6_mostNow 38 = .ok (.iload_n 1, 1) := dk_27 (dk_at dksX6_mostNow_1 15 rfl rfl)
theorem dX6_mostNow_39 : decode cX6_mostNow 39 = .ok (.istore_n 1, 1) := dk_60 (dk_at dksX6_mostNow_1 16 rfl rfl)
theorem dX6_mostNow_40 : decode cX6_mostNow 40 = .ok (.iinc 2 1, 3) := dk_132 2 1 (dk_at dksX6_mostNow_1 17 rfl rfl)
theorem dX6_mostNow_43 : decode cX6_mostNow 43 = .ok (.goto (-35), 3) := dk_167 255 221 (dk_at dksX6_mostNow_1 20 rfl rfl)
theorem dX6_mostNow_46 : decode cX6_mostNow 46 = .ok (.iload_n 1, 1) := dk_27 (dk_at dksX6_mostNow_1 23 rfl rfl)
theorem dX6_mostNow_47 : decode cX6_mostNow 47 = .ok (.ireturn, 1) := dk_172 (dk_at dksX6_mostNow_2 0 rfl rfl)
abbrev cX6_allHeard : ByteArray := prog_14_method_49_code
def yX6_allHeard : MethodName := ⟨RX6, "allHeard", "(I)I"⟩
def dkwX6_allHeard_1 : List UInt8 := [132, 3, 1, 167, 255, 233, 28, 172]
abbrev dktX6_allHeard_1 : List UInt8 := dkwX6_allHeard_1 ++ []
def dkwX6_allHeard_0 : List UInt8 := [3, 61, 3, 62, 29, 16, 20, 162, 0, 23, 28, 42, 180, 0, 53, 16, 20, 27, 104, 29, 96, 46, 96, 61]
abbrev dktX6_allHeard_0 : List UInt8 := dkwX6_allHeard_0 ++ dktX6_allHeard_1
theorem dksX6_allHeard_0 : cX6_allHeard.data.toList.drop 0 = dktX6_allHeard_0 := by decide +kernel
theorem dksX6_allHeard_1 : cX6_allHeard.data.toList.drop 24 = dktX6_allHeard_1 := dk_seg dksX6_allHeard_0 24 rfl rfl
theorem dX6_allHeard_0 : decode cX6_allHeard 0 = .ok (.iconst 0, 1) := dk_3 (dk_at dksX6_allHeard_0 0 rfl rfl)
theorem dX6_allHeard_1 : decode cX6_allHeard 1 = .ok (.istore_n 2, 1) := dk_61 (dk_at dksX6_allHeard_0 1 rfl rfl)
theorem dX6_allHeard_2 : decode cX6_allHeard 2 = .ok (.iconst 0, 1) := dk_3 (dk_at dksX6_allHeard_0 2 rfl rfl)
theorem dX6_allHeard_3 : decode cX6_allHeard 3 = .ok (.istore_n 3, 1) := dk_62 (dk_at dksX6_allHeard_0 3 rfl rfl)
theorem dX6_allHeard_4 : decode cX6_allHeard 4 = .ok (.iload_n 3, 1) := dk_29 (dk_at dksX6_allHeard_0 4 rfl rfl)
theorem dX6_allHeard_5 : decode cX6_allHeard 5 = .ok (.bipush 20, 2) := dk_16 20 (dk_at dksX6_allHeard_0 5 rfl rfl)
theorem dX6_allHeard_7 : decode cX6_allHeard 7 = .ok (.if_icmp .ge 23, 3) := dk_162 0 23 (dk_at dksX6_allHeard_0 7 rfl rfl)
theorem dX6_allHeard_10 : decode cX6_allHeard 10 = .ok (.iload_n 2, 1) := dk_28 (dk_at dksX6_allHeard_0 10 rfl rfl)
theorem dX6_allHeard_11 : decode cX6_allHeard 11 = .ok (.aload_n 0, 1) := dk_42 (dk_at dksX6_allHeard_0 11 rfl rfl)
theorem dX6_allHeard_12 : decode cX6_allHeard 12 = .ok (.getfield 53, 3) := dk_180 0 53 (dk_at dksX6_allHeard_0 12 rfl rfl)
theorem dX6_allHeard_15 : decode cX6_allHeard 15 = .ok (.bipush 20, 2) := dk_16 20 (dk_at dksX6_allHeard_0 15 rfl rfl)
theorem dX6_allHeard_17 : decode cX6_allHeard 17 = .ok (.iload_n 1, 1) := dk_27 (dk_at dksX6_allHeard_0 17 rfl rfl)
theorem dX6_allHeard_18 : decode cX6_allHeard 18 = .ok (.imul, 1) := dk_104 (dk_at dksX6_allHeard_0 18 rfl rfl)
theorem dX6_allHeard_19 : decode cX6_allHeard 19 = .ok (.iload_n 3, 1) := dk_29 (dk_at dksX6_allHeard_0 19 rfl rfl)
theorem dX6_allHeard_20 : decode cX6_allHeard 20 = .ok (.iadd, 1) := dk_96 (dk_at dksX6_allHeard_0 20 rfl rfl)
theorem dX6_allHeard_21 : decode cX6_allHeard 21 = .ok (.iaload, 1) := dk_46 (dk_at dksX6_allHeard_0 21 rfl rfl)
theorem dX6_allHeard_22 : decode cX6_allHeard 22 = .ok (.iadd, 1) := dk_96 (dk_at dksX6_allHeard_0 22 rfl rfl)
theorem dX6_allHeard_23 : decode cX6_allHeard 23 = .ok (.istore_n 2, 1) := dk_61 (dk_at dksX6_allHeard_0 23 rfl rfl)
theorem dX6_allHeard_24 : decode cX6_allHeard 24 = .ok (.iinc 3 1, 3) := dk_132 3 1 (dk_at dksX6_allHeard_1 0 rfl rfl)
theorem dX6_allHeard_27 : decode cX6_allHeard 27 = .ok (.goto (-23), 3) := dk_167 255 233 (dk_at dksX6_allHeard_1 3 rfl rfl)
theorem dX6_allHeard_30 : decode cX6_allHeard 30 = .ok (.iload_n 2, 1) := dk_28 (dk_at dksX6_allHeard_1 6 rfl rfl)
theorem dX6_allHeard_31 : decode cX6_allHeard 31 = .ok (.ireturn, 1) := dk_172 (dk_at dksX6_allHeard_1 7 rfl rfl)
abbrev cX6_hold : ByteArray := prog_14_method_53_code
def yX6_hold : MethodName := ⟨RX6, "hold", "()I"⟩
theorem dX6_hold_0 : decode cX6_hold 0 = .ok (.aload_n 0, 1) := by decide +kernel
theorem dX6_hold_1 : decode cX6_hold 1 = .ok (.invokevirtual 236, 3) := by decide +kernel
theorem dX6_hold_4 : decode cX6_hold 4 = .ok (.ireturn, 1) := by decide +kernel
abbrev cX6_holdNow : ByteArray := prog_14_method_52_code
def yX6_holdNow : MethodName := ⟨RX6, "holdNow", "()I"⟩
def dkwX6_holdNow_1 : List UInt8 := [180, 0, 191, 2, 160, 0, 7, 28, 167, 0, 4, 27, 60, 132, 2, 1, 167, 255, 224, 27, 172]
abbrev dktX6_holdNow_1 : List UInt8 := dkwX6_holdNow_1 ++ []
def dkwX6_holdNow_0 : List UInt8 := [42, 182, 0, 201, 2, 60, 3, 61, 28, 16, 10, 162, 0, 32, 42, 28, 181, 0, 178, 42, 182, 0, 204, 42]
abbrev dktX6_holdNow_0 : List UInt8 := dkwX6_holdNow_0 ++ dktX6_holdNow_1
theorem dksX6_holdNow_0 : cX6_holdNow.data.toList.drop 0 = dktX6_holdNow_0 := by decide +kernel
theorem dksX6_holdNow_1 : cX6_holdNow.data.toList.drop 24 = dktX6_holdNow_1 := dk_seg dksX6_holdNow_0 24 rfl rfl
theorem dX6_holdNow_0 : decode cX6_holdNow 0 = .ok (.aload_n 0, 1) := dk_42 (dk_at dksX6_holdNow_0 0 rfl rfl)
theorem dX6_holdNow_1 : decode cX6_holdNow 1 = .ok (.invokevirtual 201, 3) := dk_182 0 201 (dk_at dksX6_holdNow_0 1 rfl rfl)
theorem dX6_holdNow_4 : decode cX6_holdNow 4 = .ok (.iconst (-1), 1) := dk_2 (dk_at dksX6_holdNow_0 4 rfl rfl)
theorem dX6_holdNow_5 : decode cX6_holdNow 5 = .ok (.istore_n 1, 1) := dk_60 (dk_at dksX6_holdNow_0 5 rfl rfl)
theorem dX6_holdNow_6 : decode cX6_holdNow 6 = .ok (.iconst 0, 1) := dk_3 (dk_at dksX6_holdNow_0 6 rfl rfl)
theorem dX6_holdNow_7 : decode cX6_holdNow 7 = .ok (.istore_n 2, 1) := dk_61 (dk_at dksX6_holdNow_0 7 rfl rfl)
theorem dX6_holdNow_8 : decode cX6_holdNow 8 = .ok (.iload_n 2, 1) := dk_28 (dk_at dksX6_holdNow_0 8 rfl rfl)
theorem dX6_holdNow_9 : decode cX6_holdNow 9 = .ok (.bipush 10, 2) := dk_16 10 (dk_at dksX6_holdNow_0 9 rfl rfl)
theorem dX6_holdNow_11 : decode cX6_holdNow 11 = .ok (.if_icmp .ge 32, 3) := dk_162 0 32 (dk_at dksX6_holdNow_0 11 rfl rfl)
theorem dX6_holdNow_14 : decode cX6_holdNow 14 = .ok (.aload_n 0, 1) := dk_42 (dk_at dksX6_holdNow_0 14 rfl rfl)
theorem dX6_holdNow_15 : decode cX6_holdNow 15 = .ok (.iload_n 2, 1) := dk_28 (dk_at dksX6_holdNow_0 15 rfl rfl)
theorem dX6_holdNow_16 : decode cX6_holdNow 16 = .ok (.putfield 178, 3) := dk_181 0 178 (dk_at dksX6_holdNow_0 16 rfl rfl)
theorem dX6_holdNow_19 : decode cX6_holdNow 19 = .ok (.aload_n 0, 1) := dk_42 (dk_at dksX6_holdNow_0 19 rfl rfl)
theorem dX6_holdNow_20 : decode cX6_holdNow 20 = .ok (.invokevirtual 204, 3) := dk_182 0 204 (dk_at dksX6_holdNow_0 20 rfl rfl)
theorem dX6_holdNow_23 : decode cX6_holdNow 23 = .ok (.aload_n 0, 1) := dk_42 (dk_at dksX6_holdNow_0 23 rfl rfl)
theorem dX6_holdNow_24 : decode cX6_holdNow 24 = .ok (.getfield 191, 3) := dk_180 0 191 (dk_at dksX6_holdNow_1 0 rfl rfl)
theorem dX6_holdNow_27 : decode cX6_holdNow 27 = .ok (.iconst (-1), 1) := dk_2 (dk_at dksX6_holdNow_1 3 rfl rfl)
theorem dX6_holdNow_28 : decode cX6_holdNow 28 = .ok (.if_icmp .ne 7, 3) := dk_160 0 7 (dk_at dksX6_holdNow_1 4 rfl rfl)
theorem dX6_holdNow_31 : decode cX6_holdNow 31 = .ok (.iload_n 2, 1) := dk_28 (dk_at dksX6_holdNow_1 7 rfl rfl)
theorem dX6_holdNow_32 : decode cX6_holdNow 32 = .ok (.goto 4, 3) := dk_167 0 4 (dk_at dksX6_holdNow_1 8 rfl rfl)
theorem dX6_holdNow_35 : decode cX6_holdNow 35 = .ok (.iload_n 1, 1) := dk_27 (dk_at dksX6_holdNow_1 11 rfl rfl)
theorem dX6_holdNow_36 : decode cX6_holdNow 36 = .ok (.istore_n 1, 1) := dk_60 (dk_at dksX6_holdNow_1 12 rfl rfl)
theorem dX6_holdNow_37 : decode cX6_holdNow 37 = .ok (.iinc 2 1, 3) := dk_132 2 1 (dk_at dksX6_holdNow_1 13 rfl rfl)
theorem dX6_holdNow_40 : decode cX6_holdNow 40 = .ok (.goto (-32), 3) := dk_167 255 224 (dk_at dksX6_holdNow_1 16 rfl rfl)
theorem dX6_holdNow_43 : decode cX6_holdNow 43 = .ok (.iload_n 1, 1) := dk_27 (dk_at dksX6_holdNow_1 19 rfl rfl)
theorem dX6_holdNow_44 : decode cX6_holdNow 44 = .ok (.ireturn, 1) := dk_172 (dk_at dksX6_holdNow_1 20 rfl rfl)
abbrev cX6_draw : ByteArray := prog_14_method_55_code
def yX6_draw : MethodName := ⟨RX6, "draw", "(II)I"⟩
def dkwX6_draw_1 : List UInt8 := [167, 0, 5, 16, 254, 172]
abbrev dktX6_draw_1 : List UInt8 := dkwX6_draw_1 ++ []
def dkwX6_draw_0 : List UInt8 := [42, 27, 182, 0, 144, 153, 0, 21, 28, 3, 4, 184, 0, 104, 153, 0, 12, 42, 27, 28, 182, 0, 239]
abbrev dktX6_draw_0 : List UInt8 := dkwX6_draw_0 ++ dktX6_draw_1
theorem dksX6_draw_0 : cX6_draw.data.toList.drop 0 = dktX6_draw_0 := by decide +kernel
theorem dksX6_draw_1 : cX6_draw.data.toList.drop 23 = dktX6_draw_1 := dk_seg dksX6_draw_0 23 rfl rfl
theorem dX6_draw_0 : decode cX6_draw 0 = .ok (.aload_n 0, 1) := dk_42 (dk_at dksX6_draw_0 0 rfl rfl)
theorem dX6_draw_1 : decode cX6_draw 1 = .ok (.iload_n 1, 1) := dk_27 (dk_at dksX6_draw_0 1 rfl rfl)
theorem dX6_draw_2 : decode cX6_draw 2 = .ok (.invokevirtual 144, 3) := dk_182 0 144 (dk_at dksX6_draw_0 2 rfl rfl)
theorem dX6_draw_5 : decode cX6_draw 5 = .ok (.ifCond .eq 21, 3) := dk_153 0 21 (dk_at dksX6_draw_0 5 rfl rfl)
theorem dX6_draw_8 : decode cX6_draw 8 = .ok (.iload_n 2, 1) := dk_28 (dk_at dksX6_draw_0 8 rfl rfl)
theorem dX6_draw_9 : decode cX6_draw 9 = .ok (.iconst 0, 1) := dk_3 (dk_at dksX6_draw_0 9 rfl rfl)
theorem dX6_draw_10 : decode cX6_draw 10 = .ok (.iconst 1, 1) := dk_4 (dk_at dksX6_draw_0 10 rfl rfl)
theorem dX6_draw_11 : decode cX6_draw 11 = .ok (.invokestatic 104, 3) := dk_184 0 104 (dk_at dksX6_draw_0 11 rfl rfl)
theorem dX6_draw_14 : decode cX6_draw 14 = .ok (.ifCond .eq 12, 3) := dk_153 0 12 (dk_at dksX6_draw_0 14 rfl rfl)
theorem dX6_draw_17 : decode cX6_draw 17 = .ok (.aload_n 0, 1) := dk_42 (dk_at dksX6_draw_0 17 rfl rfl)
theorem dX6_draw_18 : decode cX6_draw 18 = .ok (.iload_n 1, 1) := dk_27 (dk_at dksX6_draw_0 18 rfl rfl)
theorem dX6_draw_19 : decode cX6_draw 19 = .ok (.iload_n 2, 1) := dk_28 (dk_at dksX6_draw_0 19 rfl rfl)
theorem dX6_draw_20 : decode cX6_draw 20 = .ok (.invokevirtual 239, 3) := dk_182 0 239 (dk_at dksX6_draw_0 20 rfl rfl)
theorem dX6_draw_23 : decode cX6_draw 23 = .ok (.goto 5, 3) := dk_167 0 5 (dk_at dksX6_draw_1 0 rfl rfl)
theorem dX6_draw_26 : decode cX6_draw 26 = .ok (.bipush (-2), 2) := dk_16 254 (dk_at dksX6_draw_1 3 rfl rfl)
theorem dX6_draw_28 : decode cX6_draw 28 = .ok (.ireturn, 1) := dk_172 (dk_at dksX6_draw_1 5 rfl rfl)
abbrev cX6_drawOf : ByteArray := prog_14_method_54_code
def yX6_drawOf : MethodName := ⟨RX6, "drawOf", "(II)I"⟩
def dkwX6_drawOf_5 : List UInt8 := [167, 255, 150, 28, 154, 0, 7, 29, 167, 0, 5, 21, 4, 172]
abbrev dktX6_drawOf_5 : List UInt8 := dkwX6_drawOf_5 ++ []
def dkwX6_drawOf_4 : List UInt8 := [167, 0, 4, 29, 62, 21, 7, 153, 0, 8, 21, 6, 167, 0, 5, 21, 4, 54, 4, 132, 5, 1]
abbrev dktX6_drawOf_4 : List UInt8 := dkwX6_drawOf_4 ++ dktX6_drawOf_5
def dkwX6_drawOf_3 : List UInt8 := [159, 0, 10, 21, 6, 21, 4, 164, 0, 7, 4, 167, 0, 4, 3, 54, 7, 21, 7, 153, 0, 8, 21, 5]
abbrev dktX6_drawOf_3 : List UInt8 := dkwX6_drawOf_3 ++ dktX6_drawOf_4
def dkwX6_drawOf_2 : List UInt8 := [167, 0, 4, 3, 84, 132, 6, 1, 167, 255, 222, 42, 182, 0, 204, 42, 27, 182, 0, 230, 54, 6, 29, 2]
abbrev dktX6_drawOf_2 : List UInt8 := dkwX6_drawOf_2 ++ dktX6_drawOf_3
def dkwX6_drawOf_1 : List UInt8 := [16, 20, 162, 0, 33, 42, 180, 0, 40, 16, 20, 27, 104, 21, 6, 96, 21, 6, 21, 5, 160, 0, 7, 4]
abbrev dktX6_drawOf_1 : List UInt8 := dkwX6_drawOf_1 ++ dktX6_drawOf_2
def dkwX6_drawOf_0 : List UInt8 := [42, 182, 0, 201, 2, 62, 3, 54, 4, 3, 54, 5, 21, 5, 16, 20, 162, 0, 105, 3, 54, 6, 21, 6]
abbrev dktX6_drawOf_0 : List UInt8 := dkwX6_drawOf_0 ++ dktX6_drawOf_1
theorem dksX6_drawOf_0 : cX6_drawOf.data.toList.drop 0 = dktX6_drawOf_0 := by decide +kernel
theorem dksX6_drawOf_1 : cX6_drawOf.data.toList.drop 24 = dktX6_drawOf_1 := dk_seg dksX6_drawOf_0 24 rfl rfl
theorem dksX6_drawOf_2 : cX6_drawOf.data.toList.drop 48 = dktX6_drawOf_2 := dk_seg dksX6_drawOf_1 24 rfl rfl
theorem dksX6_drawOf_3 : cX6_drawOf.data.toList.drop 72 = dktX6_drawOf_3 := dk_seg dksX6_drawOf_2 24 rfl rfl
theorem dksX6_drawOf_4 : cX6_drawOf.data.toList.drop 96 = dktX6_drawOf_4 := dk_seg dksX6_drawOf_3 24 rfl rfl
theorem dksX6_drawOf_5 : cX6_drawOf.data.toList.drop 118 = dktX6_drawOf_5 := dk_seg dksX6_drawOf_4 22 rfl rfl
theorem dX6_drawOf_0 : decode cX6_drawOf 0 = .ok (.aload_n 0, 1) := dk_42 (dk_at dksX6_drawOf_0 0 rfl rfl)
theorem dX6_drawOf_1 : decode cX6_drawOf 1 = .ok (.invokevirtual 201, 3) := dk_182 0 201 (dk_at dksX6_drawOf_0 1 rfl rfl)
theorem dX6_drawOf_4 : decode cX6_drawOf 4 = .ok (.iconst (-1), 1) := dk_2 (dk_at dksX6_drawOf_0 4 rfl rfl)
theorem dX6_drawOf_5 : decode cX6_drawOf 5 = .ok (.istore_n 3, 1) := dk_62 (dk_at dksX6_drawOf_0 5 rfl rfl)
theorem dX6_drawOf_6 : decode cX6_drawOf 6 = .ok (.iconst 0, 1) := dk_3 (dk_at dksX6_drawOf_0 6 rfl rfl)
theorem dX6_drawOf_7 : decode cX6_drawOf 7 = .ok (.istore 4, 2) := dk_54 4 (dk_at dksX6_drawOf_0 7 rfl rfl)
theorem dX6_drawOf_9 : decode cX6_drawOf 9 = .ok (.iconst 0, 1) := dk_3 (dk_at dksX6_drawOf_0 9 rfl rfl)
theorem dX6_drawOf_10 : decode cX6_drawOf 10 = .ok (.istore 5, 2) := dk_54 5 (dk_at dksX6_drawOf_0 10 rfl rfl)
theorem dX6_drawOf_12 : decode cX6_drawOf 12 = .ok (.iload 5, 2) := dk_21 5 (dk_at dksX6_drawOf_0 12 rfl rfl)
theorem dX6_drawOf_14 : decode cX6_drawOf 14 = .ok (.bipush 20, 2) := dk_16 20 (dk_at dksX6_drawOf_0 14 rfl rfl)
theorem dX6_drawOf_16 : decode cX6_drawOf 16 = .ok (.if_icmp .ge 105, 3) := dk_162 0 105 (dk_at dksX6_drawOf_0 16 rfl rfl)
theorem dX6_drawOf_19 : decode cX6_drawOf 19 = .ok (.iconst 0, 1) := dk_3 (dk_at dksX6_drawOf_0 19 rfl rfl)
theorem dX6_drawOf_20 : decode cX6_drawOf 20 = .ok (.istore 6, 2) := dk_54 6 (dk_at dksX6_drawOf_0 20 rfl rfl)
theorem dX6_drawOf_22 : decode cX6_drawOf 22 = .ok (.iload 6, 2) := dk_21 6 (dk_at dksX6_drawOf_0 22 rfl rfl)
theorem dX6_drawOf_24 : decode cX6_drawOf 24 = .ok (.bipush 20, 2) := dk_16 20 (dk_at dksX6_drawOf_1 0 rfl rfl)
theorem dX6_drawOf_26 : decode cX6_drawOf 26 = .ok (.if_icmp .ge 33, 3) := dk_162 0 33 (dk_at dksX6_drawOf_1 2 rfl rfl)
theorem dX6_drawOf_29 : decode cX6_drawOf 29 = .ok (.aload_n 0, 1) := dk_42 (dk_at dksX6_drawOf_1 5 rfl rfl)
theorem dX6_drawOf_30 : decode cX6_drawOf 30 = .ok (.getfield 40, 3) := dk_180 0 40 (dk_at dksX6_drawOf_1 6 rfl rfl)
theorem dX6_drawOf_33 : decode cX6_drawOf 33 = .ok (.bipush 20, 2) := dk_16 20 (dk_at dksX6_drawOf_1 9 rfl rfl)
theorem dX6_drawOf_35 : decode cX6_drawOf 35 = .ok (.iload_n 1, 1) := dk_27 (dk_at dksX6_drawOf_1 11 rfl rfl)
theorem dX6_drawOf_36 : decode cX6_drawOf 36 = .ok (.imul, 1) := dk_104 (dk_at dksX6_drawOf_1 12 rfl rfl)
theorem dX6_drawOf_37 : decode cX6_drawOf 37 = .ok (.iload 6, 2) := dk_21 6 (dk_at dksX6_drawOf_1 13 rfl rfl)
theorem dX6_drawOf_39 : decode cX6_drawOf 39 = .ok (.iadd, 1) := dk_96 (dk_at dksX6_drawOf_1 15 rfl rfl)
theorem dX6_drawOf_40 : decode cX6_drawOf 40 = .ok (.iload 6, 2) := dk_21 6 (dk_at dksX6_drawOf_1 16 rfl rfl)
theorem dX6_drawOf_42 : decode cX6_drawOf 42 = .ok (.iload 5, 2) := dk_21 5 (dk_at dksX6_drawOf_1 18 rfl rfl)
theorem dX6_drawOf_44 : decode cX6_drawOf 44 = .ok (.if_icmp .ne 7, 3) := dk_160 0 7 (dk_at dksX6_drawOf_1 20 rfl rfl)
theorem dX6_drawOf_47 : decode cX6_drawOf 47 = .ok (.iconst 1, 1) := dk_4 (dk_at dksX6_drawOf_1 23 rfl rfl)
theorem dX6_drawOf_48 : decode cX6_drawOf 48 = .ok (.goto 4, 3) := dk_167 0 4 (dk_at dksX6_drawOf_2 0 rfl rfl)
theorem dX6_drawOf_51 : decode cX6_drawOf 51 = .ok (.iconst 0, 1) := dk_3 (dk_at dksX6_drawOf_2 3 rfl rfl)
theorem dX6_drawOf_52 : decode cX6_drawOf 52 = .ok (.bastore, 1) := dk_84 (dk_at dksX6_drawOf_2 4 rfl rfl)
theorem dX6_drawOf_53 : decode cX6_drawOf 53 = .ok (.iinc 6 1, 3) := dk_132 6 1 (dk_at dksX6_drawOf_2 5 rfl rfl)
theorem dX6_drawOf_56 : decode cX6_drawOf 56 = .ok (.goto (-34), 3) := dk_167 255 222 (dk_at dksX6_drawOf_2 8 rfl rfl)
theorem dX6_drawOf_59 : decode cX6_drawOf 59 = .ok (.aload_n 0, 1) := dk_42 (dk_at dksX6_drawOf_2 11 rfl rfl)
theorem dX6_drawOf_60 : decode cX6_drawOf 60 = .ok (.invokevirtual 204, 3) := dk_182 0 204 (dk_at dksX6_drawOf_2 12 rfl rfl)
theorem dX6_drawOf_63 : decode cX6_drawOf 63 = .ok (.aload_n 0, 1) := dk_42 (dk_at dksX6_drawOf_2 15 rfl rfl)
theorem dX6_drawOf_64 : decode cX6_drawOf 64 = .ok (.iload_n 1, 1) := dk_27 (dk_at dksX6_drawOf_2 16 rfl rfl)
theorem dX6_drawOf_65 : decode cX6_drawOf 65 = .ok (.invokevirtual 230, 3) := dk_182 0 230 (dk_at dksX6_drawOf_2 17 rfl rfl)
theorem dX6_drawOf_68 : decode cX6_drawOf 68 = .ok (.istore 6, 2) := dk_54 6 (dk_at dksX6_drawOf_2 20 rfl rfl)
theorem dX6_drawOf_70 : decode cX6_drawOf 70 = .ok (.iload_n 3, 1) := dk_29 (dk_at dksX6_drawOf_2 22 rfl rfl)
theorem dX6_drawOf_71 : decode cX6_drawOf 71 = .ok (.iconst (-1), 1) := dk_2 (dk_at dksX6_drawOf_2 23 rfl rfl)
theorem dX6_drawOf_72 : decode cX6_drawOf 72 = .ok (.if_icmp .eq 10, 3) := dk_159 0 10 (dk_at dksX6_drawOf_3 0 rfl rfl)
theorem dX6_drawOf_75 : decode cX6_drawOf 75 = .ok (.iload 6, 2) := dk_21 6 (dk_at dksX6_drawOf_3 3 rfl rfl)
theorem dX6_drawOf_77 : decode cX6_drawOf 77 = .ok (.iload 4, 2) := dk_21 4 (dk_at dksX6_drawOf_3 5 rfl rfl)
theorem dX6_drawOf_79 : decode cX6_drawOf 79 = .ok (.if_icmp .le 7, 3) := dk_164 0 7 (dk_at dksX6_drawOf_3 7 rfl rfl)
theorem dX6_drawOf_82 : decode cX6_drawOf 82 = .ok (.iconst 1, 1) := dk_4 (dk_at dksX6_drawOf_3 10 rfl rfl)
theorem dX6_drawOf_83 : decode cX6_drawOf 83 = .ok (.goto 4, 3) := dk_167 0 4 (dk_at dksX6_drawOf_3 11 rfl rfl)
theorem dX6_drawOf_86 : decode cX6_drawOf 86 = .ok (.iconst 0, 1) := dk_3 (dk_at dksX6_drawOf_3 14 rfl rfl)
theorem dX6_drawOf_87 : decode cX6_drawOf 87 = .ok (.istore 7, 2) := dk_54 7 (dk_at dksX6_drawOf_3 15 rfl rfl)
theorem dX6_drawOf_89 : decode cX6_drawOf 89 = .ok (.iload 7, 2) := dk_21 7 (dk_at dksX6_drawOf_3 17 rfl rfl)
theorem dX6_drawOf_91 : decode cX6_drawOf 91 = .ok (.ifCond .eq 8, 3) := dk_153 0 8 (dk_at dksX6_drawOf_3 19 rfl rfl)
theorem dX6_drawOf_94 : decode cX6_drawOf 94 = .ok (.iload 5, 2) := dk_21 5 (dk_at dksX6_drawOf_3 22 rfl rfl)
theorem dX6_drawOf_96 : decode cX6_drawOf 96 = .ok (.goto 4, 3) := dk_167 0 4 (dk_at dksX6_drawOf_4 0 rfl rfl)
theorem dX6_drawOf_99 : decode cX6_drawOf 99 = .ok (.iload_n 3, 1) := dk_29 (dk_at dksX6_drawOf_4 3 rfl rfl)
theorem dX6_drawOf_100 : decode cX6_drawOf 100 = .ok (.istore_n 3, 1) := dk_62 (dk_at dksX6_drawOf_4 4 rfl rfl)
theorem dX6_drawOf_101 : decode cX6_drawOf 101 = .ok (.iload 7, 2) := dk_21 7 (dk_at dksX6_drawOf_4 5 rfl rfl)
theorem dX6_drawOf_103 : decode cX6_drawOf 103 = .ok (.ifCond .eq 8, 3) := dk_153 0 8 (dk_at dksX6_drawOf_4 7 rfl rfl)
theorem dX6_drawOf_106 : decode cX6_drawOf 106 = .ok (.iload 6, 2) := dk_21 6 (dk_at dksX6_drawOf_4 10 rfl rfl)
theorem dX6_drawOf_108 : decode cX6_drawOf 108 = .ok (.goto 5, 3) := dk_167 0 5 (dk_at dksX6_drawOf_4 12 rfl rfl)
theorem dX6_drawOf_111 : decode cX6_drawOf 111 = .ok (.iload 4, 2) := dk_21 4 (dk_at dksX6_drawOf_4 15 rfl rfl)
theorem dX6_drawOf_113 : decode cX6_drawOf 113 = .ok (.istore 4, 2) := dk_54 4 (dk_at dksX6_drawOf_4 17 rfl rfl)
theorem dX6_drawOf_115 : decode cX6_drawOf 115 = .ok (.iinc 5 1, 3) := dk_132 5 1 (dk_at dksX6_drawOf_4 19 rfl rfl)
theorem dX6_drawOf_118 : decode cX6_drawOf 118 = .ok (.goto (-106), 3) := dk_167 255 150 (dk_at dksX6_drawOf_5 0 rfl rfl)
theorem dX6_drawOf_121 : decode cX6_drawOf 121 = .ok (.iload_n 2, 1) := dk_28 (dk_at dksX6_drawOf_5 3 rfl rfl)
theorem dX6_drawOf_122 : decode cX6_drawOf 122 = .ok (.ifCond .ne 7, 3) := dk_154 0 7 (dk_at dksX6_drawOf_5 4 rfl rfl)
theorem dX6_drawOf_125 : decode cX6_drawOf 125 = .ok (.iload_n 3, 1) := dk_29 (dk_at dksX6_drawOf_5 7 rfl rfl)
theorem dX6_drawOf_126 : decode cX6_drawOf 126 = .ok (.goto 5, 3) := dk_167 0 5 (dk_at dksX6_drawOf_5 8 rfl rfl)
theorem dX6_drawOf_129 : decode cX6_drawOf 129 = .ok (.iload 4, 2) := dk_21 4 (dk_at dksX6_drawOf_5 11 rfl rfl)
theorem dX6_drawOf_131 : decode cX6_drawOf 131 = .ok (.ireturn, 1) := dk_172 (dk_at dksX6_drawOf_5 13 rfl rfl)
abbrev cX6_hire : ByteArray := prog_14_method_57_code
def yX6_hire : MethodName := ⟨RX6, "hire", "(I)I"⟩
def dkwX6_hire_0 : List UInt8 := [27, 3, 4, 184, 0, 104, 153, 0, 11, 42, 27, 182, 0, 242, 167, 0, 5, 16, 254, 172]
abbrev dktX6_hire_0 : List UInt8 := dkwX6_hire_0 ++ []
theorem dksX6_hire_0 : cX6_hire.data.toList.drop 0 = dktX6_hire_0 := by decide +kernel
theorem dX6_hire_0 : decode cX6_hire 0 = .ok (.iload_n 1, 1) := dk_27 (dk_at dksX6_hire_0 0 rfl rfl)
theorem dX6_hire_1 : decode cX6_hire 1 = .ok (.iconst 0, 1) := dk_3 (dk_at dksX6_hire_0 1 rfl rfl)
theorem dX6_hire_2 : decode cX6_hire 2 = .ok (.iconst 1, 1) := dk_4 (dk_at dksX6_hire_0 2 rfl rfl)
theorem dX6_hire_3 : decode cX6_hire 3 = .ok (.invokestatic 104, 3) := dk_184 0 104 (dk_at dksX6_hire_0 3 rfl rfl)
theorem dX6_hire_6 : decode cX6_hire 6 = .ok (.ifCond .eq 11, 3) := dk_153 0 11 (dk_at dksX6_hire_0 6 rfl rfl)
theorem dX6_hire_9 : decode cX6_hire 9 = .ok (.aload_n 0, 1) := dk_42 (dk_at dksX6_hire_0 9 rfl rfl)
theorem dX6_hire_10 : decode cX6_hire 10 = .ok (.iload_n 1, 1) := dk_27 (dk_at dksX6_hire_0 10 rfl rfl)
theorem dX6_hire_11 : decode cX6_hire 11 = .ok (.invokevirtual 242, 3) := dk_182 0 242 (dk_at dksX6_hire_0 11 rfl rfl)
theorem dX6_hire_14 : decode cX6_hire 14 = .ok (.goto 5, 3) := dk_167 0 5 (dk_at dksX6_hire_0 14 rfl rfl)
theorem dX6_hire_17 : decode cX6_hire 17 = .ok (.bipush (-2), 2) := dk_16 254 (dk_at dksX6_hire_0 17 rfl rfl)
theorem dX6_hire_19 : decode cX6_hire 19 = .ok (.ireturn, 1) := dk_172 (dk_at dksX6_hire_0 19 rfl rfl)
abbrev cX6_hireOf : ByteArray := prog_14_method_56_code
def yX6_hireOf : MethodName := ⟨RX6, "hireOf", "(I)I"⟩
def dkwX6_hireOf_5 : List UInt8 := [154, 0, 7, 29, 167, 0, 5, 21, 4, 172]
abbrev dktX6_hireOf_5 : List UInt8 := dkwX6_hireOf_5 ++ []
def dkwX6_hireOf_4 : List UInt8 := [153, 0, 8, 21, 6, 167, 0, 5, 21, 4, 54, 4, 132, 5, 1, 167, 255, 182, 42, 28, 181, 0, 125, 27]
abbrev dktX6_hireOf_4 : List UInt8 := dkwX6_hireOf_4 ++ dktX6_hireOf_5
def dkwX6_hireOf_3 : List UInt8 := [162, 0, 7, 4, 167, 0, 4, 3, 54, 7, 21, 7, 153, 0, 8, 21, 5, 167, 0, 4, 29, 62, 21, 7]
abbrev dktX6_hireOf_3 : List UInt8 := dkwX6_hireOf_3 ++ dktX6_hireOf_4
def dkwX6_hireOf_2 : List UInt8 := [79, 42, 182, 0, 204, 42, 16, 19, 182, 0, 210, 54, 6, 29, 2, 159, 0, 10, 21, 6, 21, 4]
abbrev dktX6_hireOf_2 : List UInt8 := dkwX6_hireOf_2 ++ dktX6_hireOf_3
def dkwX6_hireOf_1 : List UInt8 := [180, 0, 125, 4, 96, 181, 0, 125, 3, 54, 5, 21, 5, 7, 162, 0, 74, 42, 180, 0, 28, 28, 21, 5]
abbrev dktX6_hireOf_1 : List UInt8 := dkwX6_hireOf_1 ++ dktX6_hireOf_2
def dkwX6_hireOf_0 : List UInt8 := [42, 182, 0, 201, 42, 180, 0, 125, 61, 2, 62, 3, 54, 4, 42, 180, 0, 25, 28, 16, 9, 79, 42, 89]
abbrev dktX6_hireOf_0 : List UInt8 := dkwX6_hireOf_0 ++ dktX6_hireOf_1
theorem dksX6_hireOf_0 : cX6_hireOf.data.toList.drop 0 = dktX6_hireOf_0 := by decide +kernel
theorem dksX6_hireOf_1 : cX6_hireOf.data.toList.drop 24 = dktX6_hireOf_1 := dk_seg dksX6_hireOf_0 24 rfl rfl
theorem dksX6_hireOf_2 : cX6_hireOf.data.toList.drop 48 = dktX6_hireOf_2 := dk_seg dksX6_hireOf_1 24 rfl rfl
theorem dksX6_hireOf_3 : cX6_hireOf.data.toList.drop 70 = dktX6_hireOf_3 := dk_seg dksX6_hireOf_2 22 rfl rfl
theorem dksX6_hireOf_4 : cX6_hireOf.data.toList.drop 94 = dktX6_hireOf_4 := dk_seg dksX6_hireOf_3 24 rfl rfl
theorem dksX6_hireOf_5 : cX6_hireOf.data.toList.drop 118 = dktX6_hireOf_5 := dk_seg dksX6_hireOf_4 24 rfl rfl
theorem dX6_hireOf_0 : decode cX6_hireOf 0 = .ok (.aload_n 0, 1) := dk_42 (dk_at dksX6_hireOf_0 0 rfl rfl)
theorem dX6_hireOf_1 : decode cX6_hireOf 1 = .ok (.invokevirtual 201, 3) := dk_182 0 201 (dk_at dksX6_hireOf_0 1 rfl rfl)
theorem dX6_hireOf_4 : decode cX6_hireOf 4 = .ok (.aload_n 0, 1) := dk_42 (dk_at dksX6_hireOf_0 4 rfl rfl)
theorem dX6_hireOf_5 : decode cX6_hireOf 5 = .ok (.getfield 125, 3) := dk_180 0 125 (dk_at dksX6_hireOf_0 5 rfl rfl)
theorem dX6_hireOf_8 : decode cX6_hireOf 8 = .ok (.istore_n 2, 1) := dk_61 (dk_at dksX6_hireOf_0 8 rfl rfl)
theorem dX6_hireOf_9 : decode cX6_hireOf 9 = .ok (.iconst (-1), 1) := dk_2 (dk_at dksX6_hireOf_0 9 rfl rfl)
theorem dX6_hireOf_10 : decode cX6_hireOf 10 = .ok (.istore_n 3, 1) := dk_62 (dk_at dksX6_hireOf_0 10 rfl rfl)
theorem dX6_hireOf_11 : decode cX6_hireOf 11 = .ok (.iconst 0, 1) := dk_3 (dk_at dksX6_hireOf_0 11 rfl rfl)
theorem dX6_hireOf_12 : decode cX6_hireOf 12 = .ok (.istore 4, 2) := dk_54 4 (dk_at dksX6_hireOf_0 12 rfl rfl)
theorem dX6_hireOf_14 : decode cX6_hireOf 14 = .ok (.aload_n 0, 1) := dk_42 (dk_at dksX6_hireOf_0 14 rfl rfl)
theorem dX6_hireOf_15 : decode cX6_hireOf 15 = .ok (.getfield 25, 3) := dk_180 0 25 (dk_at dksX6_hireOf_0 15 rfl rfl)
theorem dX6_hireOf_18 : decode cX6_hireOf 18 = .ok (.iload_n 2, 1) := dk_28 (dk_at dksX6_hireOf_0 18 rfl rfl)
theorem dX6_hireOf_19 : decode cX6_hireOf 19 = .ok (.bipush 9, 2) := dk_16 9 (dk_at dksX6_hireOf_0 19 rfl rfl)
theorem dX6_hireOf_21 : decode cX6_hireOf 21 = .ok (.iastore, 1) := dk_79 (dk_at dksX6_hireOf_0 21 rfl rfl)
theorem dX6_hireOf_22 : decode cX6_hireOf 22 = .ok (.aload_n 0, 1) := dk_42 (dk_at dksX6_hireOf_0 22 rfl rfl)
theorem dX6_hireOf_23 : decode cX6_hireOf 23 = .ok (.dup, 1) := dk_89 (dk_at dksX6_hireOf_0 23 rfl rfl)
theorem dX6_hireOf_24 : decode cX6_hireOf 24 = .ok (.getfield 125, 3) := dk_180 0 125 (dk_at dksX6_hireOf_1 0 rfl rfl)
theorem dX6_hireOf_27 : decode cX6_hireOf 27 = .ok (.iconst 1, 1) := dk_4 (dk_at dksX6_hireOf_1 3 rfl rfl)
theorem dX6_hireOf_28 : decode cX6_hireOf 28 = .ok (.iadd, 1) := dk_96 (dk_at dksX6_hireOf_1 4 rfl rfl)
theorem dX6_hireOf_29 : decode cX6_hireOf 29 = .ok (.putfield 125, 3) := dk_181 0 125 (dk_at dksX6_hireOf_1 5 rfl rfl)
theorem dX6_hireOf_32 : decode cX6_hireOf 32 = .ok (.iconst 0, 1) := dk_3 (dk_at dksX6_hireOf_1 8 rfl rfl)
theorem dX6_hireOf_33 : decode cX6_hireOf 33 = .ok (.istore 5, 2) := dk_54 5 (dk_at dksX6_hireOf_1 9 rfl rfl)
theorem dX6_hireOf_35 : decode cX6_hireOf 35 = .ok (.iload 5, 2) := dk_21 5 (dk_at dksX6_hireOf_1 11 rfl rfl)
theorem dX6_hireOf_37 : decode cX6_hireOf 37 = .ok (.iconst 4, 1) := dk_7 (dk_at dksX6_hireOf_1 13 rfl rfl)
theorem dX6_hireOf_38 : decode cX6_hireOf 38 = .ok (.if_icmp .ge 74, 3) := dk_162 0 74 (dk_at dksX6_hireOf_1 14 rfl rfl)
theorem dX6_hireOf_41 : decode cX6_hireOf 41 = .ok (.aload_n 0, 1) := dk_42 (dk_at dksX6_hireOf_1 17 rfl rfl)
theorem dX6_hireOf_42 : decode cX6_hireOf 42 = .ok (.getfield 28, 3) := dk_180 0 28 (dk_at dksX6_hireOf_1 18 rfl rfl)
theorem dX6_hireOf_45 : decode cX6_hireOf 45 = .ok (.iload_n 2, 1) := dk_28 (dk_at dksX6_hireOf_1 21 rfl rfl)
theorem dX6_hireOf_46 : decode cX6_hireOf 46 = .ok (.iload 5, 2) := dk_21 5 (dk_at dksX6_hireOf_1 22 rfl rfl)
theorem dX6_hireOf_48 : decode cX6_hireOf 48 = .ok (.iastore, 1) := dk_79 (dk_at dksX6_hireOf_2 0 rfl rfl)
theorem dX6_hireOf_49 : decode cX6_hireOf 49 = .ok (.aload_n 0, 1) := dk_42 (dk_at dksX6_hireOf_2 1 rfl rfl)
theorem dX6_hireOf_50 : decode cX6_hireOf 50 = .ok (.invokevirtual 204, 3) := dk_182 0 204 (dk_at dksX6_hireOf_2 2 rfl rfl)
theorem dX6_hireOf_53 : decode cX6_hireOf 53 = .ok (.aload_n 0, 1) := dk_42 (dk_at dksX6_hireOf_2 5 rfl rfl)
theorem dX6_hireOf_54 : decode cX6_hireOf 54 = .ok (.bipush 19, 2) := dk_16 19 (dk_at dksX6_hireOf_2 6 rfl rfl)
theorem dX6_hireOf_56 : decode cX6_hireOf 56 = .ok (.invokevirtual 210, 3) := dk_182 0 210 (dk_at dksX6_hireOf_2 8 rfl rfl)
theorem dX6_hireOf_59 : decode cX6_hireOf 59 = .ok (.istore 6, 2) := dk_54 6 (dk_at dksX6_hireOf_2 11 rfl rfl)
theorem dX6_hireOf_61 : decode cX6_hireOf 61 = .ok (.iload_n 3, 1) := dk_29 (dk_at dksX6_hireOf_2 13 rfl rfl)
theorem dX6_hireOf_62 : decode cX6_hireOf 62 = .ok (.iconst (-1), 1) := dk_2 (dk_at dksX6_hireOf_2 14 rfl rfl)
theorem dX6_hireOf_63 : decode cX6_hireOf 63 = .ok (.if_icmp .eq 10, 3) := dk_159 0 10 (dk_at dksX6_hireOf_2 15 rfl rfl)
theorem dX6_hireOf_66 : decode cX6_hireOf 66 = .ok (.iload 6, 2) := dk_21 6 (dk_at dksX6_hireOf_2 18 rfl rfl)
theorem dX6_hireOf_68 : decode cX6_hireOf 68 = .ok (.iload 4, 2) := dk_21 4 (dk_at dksX6_hireOf_2 20 rfl rfl)
theorem dX6_hireOf_70 : decode cX6_hireOf 70 = .ok (.if_icmp .ge 7, 3) := dk_162 0 7 (dk_at dksX6_hireOf_3 0 rfl rfl)
theorem dX6_hireOf_73 : decode cX6_hireOf 73 = .ok (.iconst 1, 1) := dk_4 (dk_at dksX6_hireOf_3 3 rfl rfl)
theorem dX6_hireOf_74 : decode cX6_hireOf 74 = .ok (.goto 4, 3) := dk_167 0 4 (dk_at dksX6_hireOf_3 4 rfl rfl)
theorem dX6_hireOf_77 : decode cX6_hireOf 77 = .ok (.iconst 0, 1) := dk_3 (dk_at dksX6_hireOf_3 7 rfl rfl)
theorem dX6_hireOf_78 : decode cX6_hireOf 78 = .ok (.istore 7, 2) := dk_54 7 (dk_at dksX6_hireOf_3 8 rfl rfl)
theorem dX6_hireOf_80 : decode cX6_hireOf 80 = .ok (.iload 7, 2) := dk_21 7 (dk_at dksX6_hireOf_3 10 rfl rfl)
theorem dX6_hireOf_82 : decode cX6_hireOf 82 = .ok (.ifCond .eq 8, 3) := dk_153 0 8 (dk_at dksX6_hireOf_3 12 rfl rfl)
theorem dX6_hireOf_85 : decode cX6_hireOf 85 = .ok (.iload 5, 2) := dk_21 5 (dk_at dksX6_hireOf_3 15 rfl rfl)
theorem dX6_hireOf_87 : decode cX6_hireOf 87 = .ok (.goto 4, 3) := dk_167 0 4 (dk_at dksX6_hireOf_3 17 rfl rfl)
theorem dX6_hireOf_90 : decode cX6_hireOf 90 = .ok (.iload_n 3, 1) := dk_29 (dk_at dksX6_hireOf_3 20 rfl rfl)
theorem dX6_hireOf_91 : decode cX6_hireOf 91 = .ok (.istore_n 3, 1) := dk_62 (dk_at dksX6_hireOf_3 21 rfl rfl)
theorem dX6_hireOf_92 : decode cX6_hireOf 92 = .ok (.iload 7, 2) := dk_21 7 (dk_at dksX6_hireOf_3 22 rfl rfl)
theorem dX6_hireOf_94 : decode cX6_hireOf 94 = .ok (.ifCond .eq 8, 3) := dk_153 0 8 (dk_at dksX6_hireOf_4 0 rfl rfl)
theorem dX6_hireOf_97 : decode cX6_hireOf 97 = .ok (.iload 6, 2) := dk_21 6 (dk_at dksX6_hireOf_4 3 rfl rfl)
theorem dX6_hireOf_99 : decode cX6_hireOf 99 = .ok (.goto 5, 3) := dk_167 0 5 (dk_at dksX6_hireOf_4 5 rfl rfl)
theorem dX6_hireOf_102 : decode cX6_hireOf 102 = .ok (.iload 4, 2) := dk_21 4 (dk_at dksX6_hireOf_4 8 rfl rfl)
theorem dX6_hireOf_104 : decode cX6_hireOf 104 = .ok (.istore 4, 2) := dk_54 4 (dk_at dksX6_hireOf_4 10 rfl rfl)
theorem dX6_hireOf_106 : decode cX6_hireOf 106 = .ok (.iinc 5 1, 3) := dk_132 5 1 (dk_at dksX6_hireOf_4 12 rfl rfl)
theorem dX6_hireOf_109 : decode cX6_hireOf 109 = .ok (.goto (-74), 3) := dk_167 255 182 (dk_at dksX6_hireOf_4 15 rfl rfl)
theorem dX6_hireOf_112 : decode cX6_hireOf 112 = .ok (.aload_n 0, 1) := dk_42 (dk_at dksX6_hireOf_4 18 rfl rfl)
theorem dX6_hireOf_113 : decode cX6_hireOf 113 = .ok (.iload_n 2, 1) := dk_28 (dk_at dksX6_hireOf_4 19 rfl rfl)
theorem dX6_hireOf_114 : decode cX6_hireOf 114 = .ok (.putfield 125, 3) := dk_181 0 125 (dk_at dksX6_hireOf_4 20 rfl rfl)
theorem dX6_hireOf_117 : decode cX6_hireOf 117 = .ok (.iload_n 1, 1) := dk_27 (dk_at dksX6_hireOf_4 23 rfl rfl)
theorem dX6_hireOf_118 : decode cX6_hireOf 118 = .ok (.ifCond .ne 7, 3) := dk_154 0 7 (dk_at dksX6_hireOf_5 0 rfl rfl)
theorem dX6_hireOf_121 : decode cX6_hireOf 121 = .ok (.iload_n 3, 1) := dk_29 (dk_at dksX6_hireOf_5 3 rfl rfl)
theorem dX6_hireOf_122 : decode cX6_hireOf 122 = .ok (.goto 5, 3) := dk_167 0 5 (dk_at dksX6_hireOf_5 4 rfl rfl)
theorem dX6_hireOf_125 : decode cX6_hireOf 125 = .ok (.iload 4, 2) := dk_21 4 (dk_at dksX6_hireOf_5 7 rfl rfl)
theorem dX6_hireOf_127 : decode cX6_hireOf 127 = .ok (.ireturn, 1) := dk_172 (dk_at dksX6_hireOf_5 9 rfl rfl)
abbrev cX6_match : ByteArray := prog_14_method_59_code
def yX6_match : MethodName := ⟨RX6, "match", "()I"⟩
theorem dX6_match_0 : decode cX6_match 0 = .ok (.aload_n 0, 1) := by decide +kernel
theorem dX6_match_1 : decode cX6_match 1 = .ok (.invokevirtual 245, 3) := by decide +kernel
theorem dX6_match_4 : decode cX6_match 4 = .ok (.ireturn, 1) := by decide +kernel
abbrev cX6_matchNow : ByteArray := prog_14_method_58_code
def yX6_matchNow : MethodName := ⟨RX6, "matchNow", "()I"⟩
def dkwX6_matchNow_9 : List UInt8 := [27, 164, 0, 12, 42, 180, 0, 65, 28, 46, 167, 0, 4, 27, 60, 132, 2, 1, 167, 255, 222, 27, 172]
abbrev dktX6_matchNow_9 : List UInt8 := dkwX6_matchNow_9 ++ []
def dkwX6_matchNow_8 : List UInt8 := [132, 2, 1, 167, 255, 98, 3, 61, 28, 4, 42, 180, 0, 125, 120, 162, 0, 30, 42, 180, 0, 65, 28, 46]
abbrev dktX6_matchNow_8 : List UInt8 := dkwX6_matchNow_8 ++ dktX6_matchNow_9
def dkwX6_matchNow_7 : List UInt8 := [21, 6, 167, 0, 9, 42, 180, 0, 65, 29, 46, 79, 132, 4, 1, 167, 255, 134, 132, 3, 255, 167, 255, 121]
abbrev dktX6_matchNow_7 : List UInt8 := dkwX6_matchNow_7 ++ dktX6_matchNow_8
def dkwX6_matchNow_6 : List UInt8 := [4, 96, 167, 0, 4, 3, 54, 6, 42, 180, 0, 65, 29, 21, 6, 42, 180, 0, 65, 29, 46, 164, 0, 8]
abbrev dktX6_matchNow_6 : List UInt8 := dkwX6_matchNow_6 ++ dktX6_matchNow_7
def dkwX6_matchNow_5 : List UInt8 := [167, 0, 4, 3, 54, 5, 21, 5, 153, 0, 21, 42, 180, 0, 65, 29, 4, 21, 4, 120, 2, 130, 126, 46]
abbrev dktX6_matchNow_5 : List UInt8 := dkwX6_matchNow_5 ++ dktX6_matchNow_6
def dkwX6_matchNow_4 : List UInt8 := [180, 0, 25, 21, 4, 46, 104, 42, 180, 0, 16, 28, 46, 42, 180, 0, 178, 104, 161, 0, 7, 4]
abbrev dktX6_matchNow_4 : List UInt8 := dkwX6_matchNow_4 ++ dktX6_matchNow_5
def dkwX6_matchNow_3 : List UInt8 := [153, 0, 47, 42, 180, 0, 28, 21, 4, 46, 42, 180, 0, 22, 28, 46, 160, 0, 31, 16, 10, 42]
abbrev dktX6_matchNow_3 : List UInt8 := dkwX6_matchNow_3 ++ dktX6_matchNow_4
def dkwX6_matchNow_2 : List UInt8 := [62, 29, 158, 0, 137, 3, 54, 4, 21, 4, 42, 180, 0, 125, 162, 0, 119, 29, 21, 4, 184, 0, 174]
abbrev dktX6_matchNow_2 : List UInt8 := dkwX6_matchNow_2 ++ dktX6_matchNow_3
def dkwX6_matchNow_1 : List UInt8 := [132, 2, 1, 167, 255, 239, 3, 61, 28, 42, 180, 0, 122, 162, 0, 156, 4, 42, 180, 0, 125, 120, 4, 100]
abbrev dktX6_matchNow_1 : List UInt8 := dkwX6_matchNow_1 ++ dktX6_matchNow_2
def dkwX6_matchNow_0 : List UInt8 := [42, 182, 0, 201, 3, 60, 3, 61, 28, 17, 1, 0, 162, 0, 16, 42, 180, 0, 65, 28, 3, 79]
abbrev dktX6_matchNow_0 : List UInt8 := dkwX6_matchNow_0 ++ dktX6_matchNow_1
theorem dksX6_matchNow_0 : cX6_matchNow.data.toList.drop 0 = dktX6_matchNow_0 := by decide +kernel
theorem dksX6_matchNow_1 : cX6_matchNow.data.toList.drop 22 = dktX6_matchNow_1 := dk_seg dksX6_matchNow_0 22 rfl rfl
theorem dksX6_matchNow_2 : cX6_matchNow.data.toList.drop 46 = dktX6_matchNow_2 := dk_seg dksX6_matchNow_1 24 rfl rfl
theorem dksX6_matchNow_3 : cX6_matchNow.data.toList.drop 69 = dktX6_matchNow_3 := dk_seg dksX6_matchNow_2 23 rfl rfl
theorem dksX6_matchNow_4 : cX6_matchNow.data.toList.drop 91 = dktX6_matchNow_4 := dk_seg dksX6_matchNow_3 22 rfl rfl
theorem dksX6_matchNow_5 : cX6_matchNow.data.toList.drop 113 = dktX6_matchNow_5 := dk_seg dksX6_matchNow_4 22 rfl rfl
theorem dksX6_matchNow_6 : cX6_matchNow.data.toList.drop 137 = dktX6_matchNow_6 := dk_seg dksX6_matchNow_5 24 rfl rfl
theorem dksX6_matchNow_7 : cX6_matchNow.data.toList.drop 161 = dktX6_matchNow_7 := dk_seg dksX6_matchNow_6 24 rfl rfl
theorem dksX6_matchNow_8 : cX6_matchNow.data.toList.drop 185 = dktX6_matchNow_8 := dk_seg dksX6_matchNow_7 24 rfl rfl
theorem dksX6_matchNow_9 : cX6_matchNow.data.toList.drop 209 = dktX6_matchNow_9 := dk_seg dksX6_matchNow_8 24 rfl rfl
theorem dX6_matchNow_0 : decode cX6_matchNow 0 = .ok (.aload_n 0, 1) := dk_42 (dk_at dksX6_matchNow_0 0 rfl rfl)
theorem dX6_matchNow_1 : decode cX6_matchNow 1 = .ok (.invokevirtual 201, 3) := dk_182 0 201 (dk_at dksX6_matchNow_0 1 rfl rfl)
theorem dX6_matchNow_4 : decode cX6_matchNow 4 = .ok (.iconst 0, 1) := dk_3 (dk_at dksX6_matchNow_0 4 rfl rfl)
theorem dX6_matchNow_5 : decode cX6_matchNow 5 = .ok (.istore_n 1, 1) := dk_60 (dk_at dksX6_matchNow_0 5 rfl rfl)
theorem dX6_matchNow_6 : decode cX6_matchNow 6 = .ok (.iconst 0, 1) := dk_3 (dk_at dksX6_matchNow_0 6 rfl rfl)
theorem dX6_matchNow_7 : decode cX6_matchNow 7 = .ok (.istore_n 2, 1) := dk_61 (dk_at dksX6_matchNow_0 7 rfl rfl)
theorem dX6_matchNow_8 : decode cX6_matchNow 8 = .ok (.iload_n 2, 1) := dk_28 (dk_at dksX6_matchNow_0 8 rfl rfl)
theorem dX6_matchNow_9 : decode cX6_matchNow 9 = .ok (.sipush 256, 3) := dk_17 1 0 (dk_at dksX6_matchNow_0 9 rfl rfl)
theorem dX6_matchNow_12 : decode cX6_matchNow 12 = .ok (.if_icmp .ge 16, 3) := dk_162 0 16 (dk_at dksX6_matchNow_0 12 rfl rfl)
theorem dX6_matchNow_15 : decode cX6_matchNow 15 = .ok (.aload_n 0, 1) := dk_42 (dk_at dksX6_matchNow_0 15 rfl rfl)
theorem dX6_matchNow_16 : decode cX6_matchNow 16 = .ok (.getfield 65, 3) := dk_180 0 65 (dk_at dksX6_matchNow_0 16 rfl rfl)
theorem dX6_matchNow_19 : decode cX6_matchNow 19 = .ok (.iload_n 2, 1) := dk_28 (dk_at dksX6_matchNow_0 19 rfl rfl)
theorem dX6_matchNow_20 : decode cX6_matchNow 20 = .ok (.iconst 0, 1) := dk_3 (dk_at dksX6_matchNow_0 20 rfl rfl)
theorem dX6_matchNow_21 : decode cX6_matchNow 21 = .ok (.iastore, 1) := dk_79 (dk_at dksX6_matchNow_0 21 rfl rfl)
theorem dX6_matchNow_22 : decode cX6_matchNow 22 = .ok (.iinc 2 1, 3) := dk_132 2 1 (dk_at dksX6_matchNow_1 0 rfl rfl)
theorem dX6_matchNow_25 : decode cX6_matchNow 25 = .ok (.goto (-17), 3) := dk_167 255 239 (dk_at dksX6_matchNow_1 3 rfl rfl)
theorem dX6_matchNow_28 : decode cX6_matchNow 28 = .ok (.iconst 0, 1) := dk_3 (dk_at dksX6_matchNow_1 6 rfl rfl)
theorem dX6_matchNow_29 : decode cX6_matchNow 29 = .ok (.istore_n 2, 1) := dk_61 (dk_at dksX6_matchNow_1 7 rfl rfl)
theorem dX6_matchNow_30 : decode cX6_matchNow 30 = .ok (.iload_n 2, 1) := dk_28 (dk_at dksX6_matchNow_1 8 rfl rfl)
theorem dX6_matchNow_31 : decode cX6_matchNow 31 = .ok (.aload_n 0, 1) := dk_42 (dk_at dksX6_matchNow_1 9 rfl rfl)
theorem dX6_matchNow_32 : decode cX6_matchNow 32 = .ok (.getfield 122, 3) := dk_180 0 122 (dk_at dksX6_matchNow_1 10 rfl rfl)
theorem dX6_matchNow_35 : decode cX6_matchNow 35 = .ok (.if_icmp .ge 156, 3) := dk_162 0 156 (dk_at dksX6_matchNow_1 13 rfl rfl)
theorem dX6_matchNow_38 : decode cX6_matchNow 38 = .ok (.iconst 1, 1) := dk_4 (dk_at dksX6_matchNow_1 16 rfl rfl)
theorem dX6_matchNow_39 : decode cX6_matchNow 39 = .ok (.aload_n 0, 1) := dk_42 (dk_at dksX6_matchNow_1 17 rfl rfl)
theorem dX6_matchNow_40 : decode cX6_matchNow 40 = .ok (.getfield 125, 3) := dk_180 0 125 (dk_at dksX6_matchNow_1 18 rfl rfl)
theorem dX6_matchNow_43 : decode cX6_matchNow 43 = .ok (.ishl, 1) := dk_120 (dk_at dksX6_matchNow_1 21 rfl rfl)
theorem dX6_matchNow_44 : decode cX6_matchNow 44 = .ok (.iconst 1, 1) := dk_4 (dk_at dksX6_matchNow_1 22 rfl rfl)
theorem dX6_matchNow_45 : decode cX6_matchNow 45 = .ok (.isub, 1) := dk_100 (dk_at dksX6_matchNow_1 23 rfl rfl)
theorem dX6_matchNow_46 : decode cX6_matchNow 46 = .ok (.istore_n 3, 1) := dk_62 (dk_at dksX6_matchNow_2 0 rfl rfl)
theorem dX6_matchNow_47 : decode cX6_matchNow 47 = .ok (.iload_n 3, 1) := dk_29 (dk_at dksX6_matchNow_2 1 rfl rfl)
theorem dX6_matchNow_48 : decode cX6_matchNow 48 = .ok (.ifCond .le 137, 3) := dk_158 0 137 (dk_at dksX6_matchNow_2 2 rfl rfl)
theorem dX6_matchNow_51 : decode cX6_matchNow 51 = .ok (.iconst 0, 1) := dk_3 (dk_at dksX6_matchNow_2 5 rfl rfl)
theorem dX6_matchNow_52 : decode cX6_matchNow 52 = .ok (.istore 4, 2) := dk_54 4 (dk_at dksX6_matchNow_2 6 rfl rfl)
theorem dX6_matchNow_54 : decode cX6_matchNow 54 = .ok (.iload 4, 2) := dk_21 4 (dk_at dksX6_matchNow_2 8 rfl rfl)
theorem dX6_matchNow_56 : decode cX6_matchNow 56 = .ok (.aload_n 0, 1) := dk_42 (dk_at dksX6_matchNow_2 10 rfl rfl)
theorem dX6_matchNow_57 : decode cX6_matchNow 57 = .ok (.getfield 125, 3) := dk_180 0 125 (dk_at dksX6_matchNow_2 11 rfl rfl)
theorem dX6_matchNow_60 : decode cX6_matchNow 60 = .ok (.if_icmp .ge 119, 3) := dk_162 0 119 (dk_at dksX6_matchNow_2 14 rfl rfl)
theorem dX6_matchNow_63 : decode cX6_matchNow 63 = .ok (.iload_n 3, 1) := dk_29 (dk_at dksX6_matchNow_2 17 rfl rfl)
theorem dX6_matchNow_64 : decode cX6_matchNow 64 = .ok (.iload 4, 2) := dk_21 4 (dk_at dksX6_matchNow_2 18 rfl rfl)
theorem dX6_matchNow_66 : decode cX6_matchNow 66 = .ok (.invokestatic 174, 3) := dk_184 0 174 (dk_at dksX6_matchNow_2 20 rfl rfl)
theorem dX6_matchNow_69 : decode cX6_matchNow 69 = .ok (.ifCond .eq 47, 3) := dk_153 0 47 (dk_at dksX6_matchNow_3 0 rfl rfl)
theorem dX6_matchNow_72 : decode cX6_matchNow 72 = .ok (.aload_n 0, 1) := dk_42 (dk_at dksX6_matchNow_3 3 rfl rfl)
theorem dX6_matchNow_73 : decode cX6_matchNow 73 = .ok (.getfield 28, 3) := dk_180 0 28 (dk_at dksX6_matchNow_3 4 rfl rfl)
theorem dX6_matchNow_76 : decode cX6_matchNow 76 = .ok (.iload 4, 2) := dk_21 4 (dk_at dksX6_matchNow_3 7 rfl rfl)
theorem dX6_matchNow_78 : decode cX6_matchNow 78 = .ok (.iaload, 1) := dk_46 (dk_at dksX6_matchNow_3 9 rfl rfl)
theorem dX6_matchNow_79 : decode cX6_matchNow 79 = .ok (.aload_n 0, 1) := dk_42 (dk_at dksX6_matchNow_3 10 rfl rfl)
theorem dX6_matchNow_80 : decode cX6_matchNow 80 = .ok (.getfield 22, 3) := dk_180 0 22 (dk_at dksX6_matchNow_3 11 rfl rfl)
theorem dX6_matchNow_83 : decode cX6_matchNow 83 = .ok (.iload_n 2, 1) := dk_28 (dk_at dksX6_matchNow_3 14 rfl rfl)
theorem dX6_matchNow_84 : decode cX6_matchNow 84 = .ok (.iaload, 1) := dk_46 (dk_at dksX6_matchNow_3 15 rfl rfl)
theorem dX6_matchNow_85 : decode cX6_matchNow 85 = .ok (.if_icmp .ne 31, 3) := dk_160 0 31 (dk_at dksX6_matchNow_3 16 rfl rfl)
theorem dX6_matchNow_88 : decode cX6_matchNow 88 = .ok (.bipush 10, 2) := dk_16 10 (dk_at dksX6_matchNow_3 19 rfl rfl)
theorem dX6_matchNow_90 : decode cX6_matchNow 90 = .ok (.aload_n 0, 1) := dk_42 (dk_at dksX6_matchNow_3 21 rfl rfl)
theorem dX6_matchNow_91 : decode cX6_matchNow 91 = .ok (.getfield 25, 3) := dk_180 0 25 (dk_at dksX6_matchNow_4 0 rfl rfl)
theorem dX6_matchNow_94 : decode cX6_matchNow 94 = .ok (.iload 4, 2) := dk_21 4 (dk_at dksX6_matchNow_4 3 rfl rfl)
theorem dX6_matchNow_96 : decode cX6_matchNow 96 = .ok (.iaload, 1) := dk_46 (dk_at dksX6_matchNow_4 5 rfl rfl)
theorem dX6_matchNow_97 : decode cX6_matchNow 97 = .ok (.imul, 1) := dk_104 (dk_at dksX6_matchNow_4 6 rfl rfl)
theorem dX6_matchNow_98 : decode cX6_matchNow 98 = .ok (.aload_n 0, 1) := dk_42 (dk_at dksX6_matchNow_4 7 rfl rfl)
theorem dX6_matchNow_99 : decode cX6_matchNow 99 = .ok (.getfield 16, 3) := dk_180 0 16 (dk_at dksX6_matchNow_4 8 rfl rfl)
theorem dX6_matchNow_102 : decode cX6_matchNow 102 = .ok (.iload_n 2, 1) := dk_28 (dk_at dksX6_matchNow_4 11 rfl rfl)
theorem dX6_matchNow_103 : decode cX6_matchNow 103 = .ok (.iaload, 1) := dk_46 (dk_at dksX6_matchNow_4 12 rfl rfl)
theorem dX6_matchNow_104 : decode cX6_matchNow 104 = .ok (.aload_n 0, 1) := dk_42 (dk_at dksX6_matchNow_4 13 rfl rfl)
theorem dX6_matchNow_105 : decode cX6_matchNow 105 = .ok (.getfield 178, 3) := dk_180 0 178 (dk_at dksX6_matchNow_4 14 rfl rfl)
theorem dX6_matchNow_108 : decode cX6_matchNow 108 = .ok (.imul, 1) := dk_104 (dk_at dksX6_matchNow_4 17 rfl rfl)
theorem dX6_matchNow_109 : decode cX6_matchNow 109 = .ok (.if_icmp .lt 7, 3) := dk_161 0 7 (dk_at dksX6_matchNow_4 18 rfl rfl)
theorem dX6_matchNow_112 : decode cX6_matchNow 112 = .ok (.iconst 1, 1) := dk_4 (dk_at dksX6_matchNow_4 21 rfl rfl)
theorem dX6_matchNow_113 : decode cX6_matchNow 113 = .ok (.goto 4, 3) := dk_167 0 4 (dk_at dksX6_matchNow_5 0 rfl rfl)
theorem dX6_matchNow_116 : decode cX6_matchNow 116 = .ok (.iconst 0, 1) := dk_3 (dk_at dksX6_matchNow_5 3 rfl rfl)
theorem dX6_matchNow_117 : decode cX6_matchNow 117 = .ok (.istore 5, 2) := dk_54 5 (dk_at dksX6_matchNow_5 4 rfl rfl)
theorem dX6_matchNow_119 : decode cX6_matchNow 119 = .ok (.iload 5, 2) := dk_21 5 (dk_at dksX6_matchNow_5 6 rfl rfl)
theorem dX6_matchNow_121 : decode cX6_matchNow 121 = .ok (.ifCond .eq 21, 3) := dk_153 0 21 (dk_at dksX6_matchNow_5 8 rfl rfl)
theorem dX6_matchNow_124 : decode cX6_matchNow 124 = .ok (.aload_n 0, 1) := dk_42 (dk_at dksX6_matchNow_5 11 rfl rfl)
theorem dX6_matchNow_125 : decode cX6_matchNow 125 = .ok (.getfield 65, 3) := dk_180 0 65 (dk_at dksX6_matchNow_5 12 rfl rfl)
theorem dX6_matchNow_128 : decode cX6_matchNow 128 = .ok (.iload_n 3, 1) := dk_29 (dk_at dksX6_matchNow_5 15 rfl rfl)
theorem dX6_matchNow_129 : decode cX6_matchNow 129 = .ok (.iconst 1, 1) := dk_4 (dk_at dksX6_matchNow_5 16 rfl rfl)
theorem dX6_matchNow_130 : decode cX6_matchNow 130 = .ok (.iload 4, 2) := dk_21 4 (dk_at dksX6_matchNow_5 17 rfl rfl)
theorem dX6_matchNow_132 : decode cX6_matchNow 132 = .ok (.ishl, 1) := dk_120 (dk_at dksX6_matchNow_5 19 rfl rfl)
theorem dX6_matchNow_133 : decode cX6_matchNow 133 = .ok (.iconst (-1), 1) := dk_2 (dk_at dksX6_matchNow_5 20 rfl rfl)
theorem dX6_matchNow_134 : decode cX6_matchNow 134 = .ok (.ixor, 1) := dk_130 (dk_at dksX6_matchNow_5 21 rfl rfl)
theorem dX6_matchNow_135 : decode cX6_matchNow 135 = .ok (.iand, 1) := dk_126 (dk_at dksX6_matchNow_5 22 rfl rfl)
theorem dX6_matchNow_136 : decode cX6_matchNow 136 = .ok (.iaload, 1) := dk_46 (dk_at dksX6_matchNow_5 23 rfl rfl)
theorem dX6_matchNow_137 : decode cX6_matchNow 137 = .ok (.iconst 1, 1) := dk_4 (dk_at dksX6_matchNow_6 0 rfl rfl)
theorem dX6_matchNow_138 : decode cX6_matchNow 138 = .ok (.iadd, 1) := dk_96 (dk_at dksX6_matchNow_6 1 rfl rfl)
theorem dX6_matchNow_139 : decode cX6_matchNow 139 = .ok (.goto 4, 3) := dk_167 0 4 (dk_at dksX6_matchNow_6 2 rfl rfl)
theorem dX6_matchNow_142 : decode cX6_matchNow 142 = .ok (.iconst 0, 1) := dk_3 (dk_at dksX6_matchNow_6 5 rfl rfl)
theorem dX6_matchNow_143 : decode cX6_matchNow 143 = .ok (.istore 6, 2) := dk_54 6 (dk_at dksX6_matchNow_6 6 rfl rfl)
theorem dX6_matchNow_145 : decode cX6_matchNow 145 = .ok (.aload_n 0, 1) := dk_42 (dk_at dksX6_matchNow_6 8 rfl rfl)
theorem dX6_matchNow_146 : decode cX6_matchNow 146 = .ok (.getfield 65, 3) := dk_180 0 65 (dk_at dksX6_matchNow_6 9 rfl rfl)
theorem dX6_matchNow_149 : decode cX6_matchNow 149 = .ok (.iload_n 3, 1) := dk_29 (dk_at dksX6_matchNow_6 12 rfl rfl)
theorem dX6_matchNow_150 : decode cX6_matchNow 150 = .ok (.iload 6, 2) := dk_21 6 (dk_at dksX6_matchNow_6 13 rfl rfl)
theorem dX6_matchNow_152 : decode cX6_matchNow 152 = .ok (.aload_n 0, 1) := dk_42 (dk_at dksX6_matchNow_6 15 rfl rfl)
theorem dX6_matchNow_153 : decode cX6_matchNow 153 = .ok (.getfield 65, 3) := dk_180 0 65 (dk_at dksX6_matchNow_6 16 rfl rfl)
theorem dX6_matchNow_156 : decode cX6_matchNow 156 = .ok (.iload_n 3, 1) := dk_29 (dk_at dksX6_matchNow_6 19 rfl rfl)
theorem dX6_matchNow_157 : decode cX6_matchNow 157 = .ok (.iaload, 1) := dk_46 (dk_at dksX6_matchNow_6 20 rfl rfl)
theorem dX6_matchNow_158 : decode cX6_matchNow 158 = .ok (.if_icmp .le 8, 3) := dk_164 0 8 (dk_at dksX6_matchNow_6 21 rfl rfl)
theorem dX6_matchNow_161 : decode cX6_matchNow 161 = .ok (.iload 6, 2) := dk_21 6 (dk_at dksX6_matchNow_7 0 rfl rfl)
theorem dX6_matchNow_163 : decode cX6_matchNow 163 = .ok (.goto 9, 3) := dk_167 0 9 (dk_at dksX6_matchNow_7 2 rfl rfl)
theorem dX6_matchNow_166 : decode cX6_matchNow 166 = .ok (.aload_n 0, 1) := dk_42 (dk_at dksX6_matchNow_7 5 rfl rfl)
theorem dX6_matchNow_167 : decode cX6_matchNow 167 = .ok (.getfield 65, 3) := dk_180 0 65 (dk_at dksX6_matchNow_7 6 rfl rfl)
theorem dX6_matchNow_170 : decode cX6_matchNow 170 = .ok (.iload_n 3, 1) := dk_29 (dk_at dksX6_matchNow_7 9 rfl rfl)
theorem dX6_matchNow_171 : decode cX6_matchNow 171 = .ok (.iaload, 1) := dk_46 (dk_at dksX6_matchNow_7 10 rfl rfl)
theorem dX6_matchNow_172 : decode cX6_matchNow 172 = .ok (.iastore, 1) := dk_79 (dk_at dksX6_matchNow_7 11 rfl rfl)
theorem dX6_matchNow_173 : decode cX6_matchNow 173 = .ok (.iinc 4 1, 3) := dk_132 4 1 (dk_at dksX6_matchNow_7 12 rfl rfl)
theorem dX6_matchNow_176 : decode cX6_matchNow 176 = .ok (.goto (-122), 3) := dk_167 255 134 (dk_at dksX6_matchNow_7 15 rfl rfl)
theorem dX6_matchNow_179 : decode cX6_matchNow 179 = .ok (.iinc 3 (-1), 3) := dk_132 3 255 (dk_at dksX6_matchNow_7 18 rfl rfl)
theorem dX6_matchNow_182 : decode cX6_matchNow 182 = .ok (.goto (-135), 3) := dk_167 255 121 (dk_at dksX6_matchNow_7 21 rfl rfl)
theorem dX6_matchNow_185 : decode cX6_matchNow 185 = .ok (.iinc 2 1, 3) := dk_132 2 1 (dk_at dksX6_matchNow_8 0 rfl rfl)
theorem dX6_matchNow_188 : decode cX6_matchNow 188 = .ok (.goto (-158), 3) := dk_167 255 98 (dk_at dksX6_matchNow_8 3 rfl rfl)
theorem dX6_matchNow_191 : decode cX6_matchNow 191 = .ok (.iconst 0, 1) := dk_3 (dk_at dksX6_matchNow_8 6 rfl rfl)
theorem dX6_matchNow_192 : decode cX6_matchNow 192 = .ok (.istore_n 2, 1) := dk_61 (dk_at dksX6_matchNow_8 7 rfl rfl)
theorem dX6_matchNow_193 : decode cX6_matchNow 193 = .ok (.iload_n 2, 1) := dk_28 (dk_at dksX6_matchNow_8 8 rfl rfl)
theorem dX6_matchNow_194 : decode cX6_matchNow 194 = .ok (.iconst 1, 1) := dk_4 (dk_at dksX6_matchNow_8 9 rfl rfl)
theorem dX6_matchNow_195 : decode cX6_matchNow 195 = .ok (.aload_n 0, 1) := dk_42 (dk_at dksX6_matchNow_8 10 rfl rfl)
theorem dX6_matchNow_196 : decode cX6_matchNow 196 = .ok (.getfield 125, 3) := dk_180 0 125 (dk_at dksX6_matchNow_8 11 rfl rfl)
theorem dX6_matchNow_199 : decode cX6_matchNow 199 = .ok (.ishl, 1) := dk_120 (dk_at dksX6_matchNow_8 14 rfl rfl)
theorem dX6_matchNow_200 : decode cX6_matchNow 200 = .ok (.if_icmp .ge 30, 3) := dk_162 0 30 (dk_at dksX6_matchNow_8 15 rfl rfl)
theorem dX6_matchNow_203 : decode cX6_matchNow 203 = .ok (.aload_n 0, 1) := dk_42 (dk_at dksX6_matchNow_8 18 rfl rfl)
theorem dX6_matchNow_204 : decode cX6_matchNow 204 = .ok (.getfield 65, 3) := dk_180 0 65 (dk_at dksX6_matchNow_8 19 rfl rfl)
theorem dX6_matchNow_207 : decode cX6_matchNow 207 = .ok (.iload_n 2, 1) := dk_28 (dk_at dksX6_matchNow_8 22 rfl rfl)
theorem dX6_matchNow_208 : decode cX6_matchNow 208 = .ok (.iaload, 1) := dk_46 (dk_at dksX6_matchNow_8 23 rfl rfl)
theorem dX6_matchNow_209 : decode cX6_matchNow 209 = .ok (.iload_n 1, 1) := dk_27 (dk_at dksX6_matchNow_9 0 rfl rfl)
theorem dX6_matchNow_210 : decode cX6_matchNow 210 = .ok (.if_icmp .le 12, 3) := dk_164 0 12 (dk_at dksX6_matchNow_9 1 rfl rfl)
theorem dX6_matchNow_213 : decode cX6_matchNow 213 = .ok (.aload_n 0, 1) := dk_42 (dk_at dksX6_matchNow_9 4 rfl rfl)
theorem dX6_matchNow_214 : decode cX6_matchNow 214 = .ok (.getfield 65, 3) := dk_180 0 65 (dk_at dksX6_matchNow_9 5 rfl rfl)
theorem dX6_matchNow_217 : decode cX6_matchNow 217 = .ok (.iload_n 2, 1) := dk_28 (dk_at dksX6_matchNow_9 8 rfl rfl)
theorem dX6_matchNow_218 : decode cX6_matchNow 218 = .ok (.iaload, 1) := dk_46 (dk_at dksX6_matchNow_9 9 rfl rfl)
theorem dX6_matchNow_219 : decode cX6_matchNow 219 = .ok (.goto 4, 3) := dk_167 0 4 (dk_at dksX6_matchNow_9 10 rfl rfl)
theorem dX6_matchNow_222 : decode cX6_matchNow 222 = .ok (.iload_n 1, 1) := dk_27 (dk_at dksX6_matchNow_9 13 rfl rfl)
theorem dX6_matchNow_223 : decode cX6_matchNow 223 = .ok (.istore_n 1, 1) := dk_60 (dk_at dksX6_matchNow_9 14 rfl rfl)
theorem dX6_matchNow_224 : decode cX6_matchNow 224 = .ok (.iinc 2 1, 3) := dk_132 2 1 (dk_at dksX6_matchNow_9 15 rfl rfl)
theorem dX6_matchNow_227 : decode cX6_matchNow 227 = .ok (.goto (-34), 3) := dk_167 255 222 (dk_at dksX6_matchNow_9 18 rfl rfl)
theorem dX6_matchNow_230 : decode cX6_matchNow 230 = .ok (.iload_n 1, 1) := dk_27 (dk_at dksX6_matchNow_9 21 rfl rfl)
theorem dX6_matchNow_231 : decode cX6_matchNow 231 = .ok (.ireturn, 1) := dk_172 (dk_at dksX6_matchNow_9 22 rfl rfl)
abbrev cX6_seen : ByteArray := prog_14_method_60_code
def yX6_seen : MethodName := ⟨RX6, "seen", "(III)I"⟩
def dkwX6_seen_3 : List UInt8 := [180, 0, 248, 29, 79, 42, 89, 180, 0, 248, 4, 96, 181, 0, 248, 42, 180, 0, 248, 172]
abbrev dktX6_seen_3 : List UInt8 := dkwX6_seen_3 ++ []
def dkwX6_seen_2 : List UInt8 := [180, 0, 68, 42, 180, 0, 248, 27, 79, 42, 180, 0, 71, 42, 180, 0, 248, 28, 79, 42, 180, 0, 74, 42]
abbrev dktX6_seen_2 : List UInt8 := dkwX6_seen_2 ++ dktX6_seen_3
def dkwX6_seen_1 : List UInt8 := [184, 0, 104, 154, 0, 6, 16, 254, 172, 42, 180, 0, 248, 16, 8, 160, 0, 6, 16, 252, 172, 42]
abbrev dktX6_seen_1 : List UInt8 := dkwX6_seen_1 ++ dktX6_seen_2
def dkwX6_seen_0 : List UInt8 := [27, 184, 0, 153, 153, 0, 24, 28, 3, 16, 7, 184, 0, 104, 153, 0, 14, 29, 3, 17, 3, 231]
abbrev dktX6_seen_0 : List UInt8 := dkwX6_seen_0 ++ dktX6_seen_1
theorem dksX6_seen_0 : cX6_seen.data.toList.drop 0 = dktX6_seen_0 := by decide +kernel
theorem dksX6_seen_1 : cX6_seen.data.toList.drop 22 = dktX6_seen_1 := dk_seg dksX6_seen_0 22 rfl rfl
theorem dksX6_seen_2 : cX6_seen.data.toList.drop 44 = dktX6_seen_2 := dk_seg dksX6_seen_1 22 rfl rfl
theorem dksX6_seen_3 : cX6_seen.data.toList.drop 68 = dktX6_seen_3 := dk_seg dksX6_seen_2 24 rfl rfl
theorem dX6_seen_0 : decode cX6_seen 0 = .ok (.iload_n 1, 1) := dk_27 (dk_at dksX6_seen_0 0 rfl rfl)
theorem dX6_seen_1 : decode cX6_seen 1 = .ok (.invokestatic 153, 3) := dk_184 0 153 (dk_at dksX6_seen_0 1 rfl rfl)
theorem dX6_seen_4 : decode cX6_seen 4 = .ok (.ifCond .eq 24, 3) := dk_153 0 24 (dk_at dksX6_seen_0 4 rfl rfl)
theorem dX6_seen_7 : decode cX6_seen 7 = .ok (.iload_n 2, 1) := dk_28 (dk_at dksX6_seen_0 7 rfl rfl)
theorem dX6_seen_8 : decode cX6_seen 8 = .ok (.iconst 0, 1) := dk_3 (dk_at dksX6_seen_0 8 rfl rfl)
theorem dX6_seen_9 : decode cX6_seen 9 = .ok (.bipush 7, 2) := dk_16 7 (dk_at dksX6_seen_0 9 rfl rfl)
theorem dX6_seen_11 : decode cX6_seen 11 = .ok (.invokestatic 104, 3) := dk_184 0 104 (dk_at dksX6_seen_0 11 rfl rfl)
theorem dX6_seen_14 : decode cX6_seen 14 = .ok (.ifCond .eq 14, 3) := dk_153 0 14 (dk_at dksX6_seen_0 14 rfl rfl)
theorem dX6_seen_17 : decode cX6_seen 17 = .ok (.iload_n 3, 1) := dk_29 (dk_at dksX6_seen_0 17 rfl rfl)
theorem dX6_seen_18 : decode cX6_seen 18 = .ok (.iconst 0, 1) := dk_3 (dk_at dksX6_seen_0 18 rfl rfl)
theorem dX6_seen_19 : decode cX6_seen 19 = .ok (.sipush 999, 3) := dk_17 3 231 (dk_at dksX6_seen_0 19 rfl rfl)
theorem dX6_seen_22 : decode cX6_seen 22 = .ok (.invokestatic 104, 3) := dk_184 0 104 (dk_at dksX6_seen_1 0 rfl rfl)
theorem dX6_seen_25 : decode cX6_seen 25 = .ok (.ifCond .ne 6, 3) := dk_154 0 6 (dk_at dksX6_seen_1 3 rfl rfl)
theorem dX6_seen_28 : decode cX6_seen 28 = .ok (.bipush (-2), 2) := dk_16 254 (dk_at dksX6_seen_1 6 rfl rfl)
theorem dX6_seen_30 : decode cX6_seen 30 = .ok (.ireturn, 1) := dk_172 (dk_at dksX6_seen_1 8 rfl rfl)
theorem dX6_seen_31 : decode cX6_seen 31 = .ok (.aload_n 0, 1) := dk_42 (dk_at dksX6_seen_1 9 rfl rfl)
theorem dX6_seen_32 : decode cX6_seen 32 = .ok (.getfield 248, 3) := dk_180 0 248 (dk_at dksX6_seen_1 10 rfl rfl)
theorem dX6_seen_35 : decode cX6_seen 35 = .ok (.bipush 8, 2) := dk_16 8 (dk_at dksX6_seen_1 13 rfl rfl)
theorem dX6_seen_37 : decode cX6_seen 37 = .ok (.if_icmp .ne 6, 3) := dk_160 0 6 (dk_at dksX6_seen_1 15 rfl rfl)
theorem dX6_seen_40 : decode cX6_seen 40 = .ok (.bipush (-4), 2) := dk_16 252 (dk_at dksX6_seen_1 18 rfl rfl)
theorem dX6_seen_42 : decode cX6_seen 42 = .ok (.ireturn, 1) := dk_172 (dk_at dksX6_seen_1 20 rfl rfl)
theorem dX6_seen_43 : decode cX6_seen 43 = .ok (.aload_n 0, 1) := dk_42 (dk_at dksX6_seen_1 21 rfl rfl)
theorem dX6_seen_44 : decode cX6_seen 44 = .ok (.getfield 68, 3) := dk_180 0 68 (dk_at dksX6_seen_2 0 rfl rfl)
theorem dX6_seen_47 : decode cX6_seen 47 = .ok (.aload_n 0, 1) := dk_42 (dk_at dksX6_seen_2 3 rfl rfl)
theorem dX6_seen_48 : decode cX6_seen 48 = .ok (.getfield 248, 3) := dk_180 0 248 (dk_at dksX6_seen_2 4 rfl rfl)
theorem dX6_seen_51 : decode cX6_seen 51 = .ok (.iload_n 1, 1) := dk_27 (dk_at dksX6_seen_2 7 rfl rfl)
theorem dX6_seen_52 : decode cX6_seen 52 = .ok (.iastore, 1) := dk_79 (dk_at dksX6_seen_2 8 rfl rfl)
theorem dX6_seen_53 : decode cX6_seen 53 = .ok (.aload_n 0, 1) := dk_42 (dk_at dksX6_seen_2 9 rfl rfl)
theorem dX6_seen_54 : decode cX6_seen 54 = .ok (.getfield 71, 3) := dk_180 0 71 (dk_at dksX6_seen_2 10 rfl rfl)
theorem dX6_seen_57 : decode cX6_seen 57 = .ok (.aload_n 0, 1) := dk_42 (dk_at dksX6_seen_2 13 rfl rfl)
theorem dX6_seen_58 : decode cX6_seen 58 = .ok (.getfield 248, 3) := dk_180 0 248 (dk_at dksX6_seen_2 14 rfl rfl)
theorem dX6_seen_61 : decode cX6_seen 61 = .ok (.iload_n 2, 1) := dk_28 (dk_at dksX6_seen_2 17 rfl rfl)
theorem dX6_seen_62 : decode cX6_seen 62 = .ok (.iastore, 1) := dk_79 (dk_at dksX6_seen_2 18 rfl rfl)
theorem dX6_seen_63 : decode cX6_seen 63 = .ok (.aload_n 0, 1) := dk_42 (dk_at dksX6_seen_2 19 rfl rfl)
theorem dX6_seen_64 : decode cX6_seen 64 = .ok (.getfield 74, 3) := dk_180 0 74 (dk_at dksX6_seen_2 20 rfl rfl)
theorem dX6_seen_67 : decode cX6_seen 67 = .ok (.aload_n 0, 1) := dk_42 (dk_at dksX6_seen_2 23 rfl rfl)
theorem dX6_seen_68 : decode cX6_seen 68 = .ok (.getfield 248, 3) := dk_180 0 248 (dk_at dksX6_seen_3 0 rfl rfl)
theorem dX6_seen_71 : decode cX6_seen 71 = .ok (.iload_n 3, 1) := dk_29 (dk_at dksX6_seen_3 3 rfl rfl)
theorem dX6_seen_72 : decode cX6_seen 72 = .ok (.iastore, 1) := dk_79 (dk_at dksX6_seen_3 4 rfl rfl)
theorem dX6_seen_73 : decode cX6_seen 73 = .ok (.aload_n 0, 1) := dk_42 (dk_at dksX6_seen_3 5 rfl rfl)
theorem dX6_seen_74 : decode cX6_seen 74 = .ok (.dup, 1) := dk_89 (dk_at dksX6_seen_3 6 rfl rfl)
theorem dX6_seen_75 : decode cX6_seen 75 = .ok (.getfield 248, 3) := dk_180 0 248 (dk_at dksX6_seen_3 7 rfl rfl)
theorem dX6_seen_78 : decode cX6_seen 78 = .ok (.iconst 1, 1) := dk_4 (dk_at dksX6_seen_3 10 rfl rfl)
theorem dX6_seen_79 : decode cX6_seen 79 = .ok (.iadd, 1) := dk_96 (dk_at dksX6_seen_3 11 rfl rfl)
theorem dX6_seen_80 : decode cX6_seen 80 = .ok (.putfield 248, 3) := dk_181 0 248 (dk_at dksX6_seen_3 12 rfl rfl)
theorem dX6_seen_83 : decode cX6_seen 83 = .ok (.aload_n 0, 1) := dk_42 (dk_at dksX6_seen_3 15 rfl rfl)
theorem dX6_seen_84 : decode cX6_seen 84 = .ok (.getfield 248, 3) := dk_180 0 248 (dk_at dksX6_seen_3 16 rfl rfl)
theorem dX6_seen_87 : decode cX6_seen 87 = .ok (.ireturn, 1) := dk_172 (dk_at dksX6_seen_3 19 rfl rfl)
abbrev cX6_forget : ByteArray := prog_14_method_61_code
def yX6_forget : MethodName := ⟨RX6, "forget", "()I"⟩
def dkwX6_forget_0 : List UInt8 := [42, 180, 0, 248, 60, 42, 3, 181, 0, 248, 27, 172]
abbrev dktX6_forget_0 : List UInt8 := dkwX6_forget_0 ++ []
theorem dksX6_forget_0 : cX6_forget.data.toList.drop 0 = dktX6_forget_0 := by decide +kernel
theorem dX6_forget_0 : decode cX6_forget 0 = .ok (.aload_n 0, 1) := dk_42 (dk_at dksX6_forget_0 0 rfl rfl)
theorem dX6_forget_1 : decode cX6_forget 1 = .ok (.getfield 248, 3) := dk_180 0 248 (dk_at dksX6_forget_0 1 rfl rfl)
theorem dX6_forget_4 : decode cX6_forget 4 = .ok (.istore_n 1, 1) := dk_60 (dk_at dksX6_forget_0 4 rfl rfl)
theorem dX6_forget_5 : decode cX6_forget 5 = .ok (.aload_n 0, 1) := dk_42 (dk_at dksX6_forget_0 5 rfl rfl)
theorem dX6_forget_6 : decode cX6_forget 6 = .ok (.iconst 0, 1) := dk_3 (dk_at dksX6_forget_0 6 rfl rfl)
theorem dX6_forget_7 : decode cX6_forget 7 = .ok (.putfield 248, 3) := dk_181 0 248 (dk_at dksX6_forget_0 7 rfl rfl)
theorem dX6_forget_10 : decode cX6_forget 10 = .ok (.iload_n 1, 1) := dk_27 (dk_at dksX6_forget_0 10 rfl rfl)
theorem dX6_forget_11 : decode cX6_forget 11 = .ok (.ireturn, 1) := dk_172 (dk_at dksX6_forget_0 11 rfl rfl)
abbrev cX6_never : ByteArray := prog_14_method_64_code
def yX6_never : MethodName := ⟨RX6, "never", "()I"⟩
theorem dX6_never_0 : decode cX6_never 0 = .ok (.aload_n 0, 1) := by decide +kernel
theorem dX6_never_1 : decode cX6_never 1 = .ok (.invokevirtual 255, 3) := by decide +kernel
theorem dX6_never_4 : decode cX6_never 4 = .ok (.ireturn, 1) := by decide +kernel
abbrev cX6_neverNow : ByteArray := prog_14_method_63_code
def yX6_neverNow : MethodName := ⟨RX6, "neverNow", "()I"⟩
def dkwX6_neverNow_2 : List UInt8 := [172]
abbrev dktX6_neverNow_2 : List UInt8 := dkwX6_neverNow_2 ++ []
def dkwX6_neverNow_1 : List UInt8 := [27, 42, 182, 0, 251, 153, 0, 9, 4, 28, 120, 167, 0, 4, 3, 128, 60, 132, 2, 1, 167, 255, 220, 27]
abbrev dktX6_neverNow_1 : List UInt8 := dkwX6_neverNow_1 ++ dktX6_neverNow_2
def dkwX6_neverNow_0 : List UInt8 := [42, 182, 0, 201, 3, 60, 3, 61, 28, 42, 180, 0, 156, 162, 0, 34, 42, 4, 28, 120, 3, 182, 0, 181]
abbrev dktX6_neverNow_0 : List UInt8 := dkwX6_neverNow_0 ++ dktX6_neverNow_1
theorem dksX6_neverNow_0 : cX6_neverNow.data.toList.drop 0 = dktX6_neverNow_0 := by decide +kernel
theorem dksX6_neverNow_1 : cX6_neverNow.data.toList.drop 24 = dktX6_neverNow_1 := dk_seg dksX6_neverNow_0 24 rfl rfl
theorem dksX6_neverNow_2 : cX6_neverNow.data.toList.drop 48 = dktX6_neverNow_2 := dk_seg dksX6_neverNow_1 24 rfl rfl
theorem dX6_neverNow_0 : decode cX6_neverNow 0 = .ok (.aload_n 0, 1) := dk_42 (dk_at dksX6_neverNow_0 0 rfl rfl)
theorem dX6_neverNow_1 : decode cX6_neverNow 1 = .ok (.invokevirtual 201, 3) := dk_182 0 201 (dk_at dksX6_neverNow_0 1 rfl rfl)
theorem dX6_neverNow_4 : decode cX6_neverNow 4 = .ok (.iconst 0, 1) := dk_3 (dk_at dksX6_neverNow_0 4 rfl rfl)
theorem dX6_neverNow_5 : decode cX6_neverNow 5 = .ok (.istore_n 1, 1) := dk_60 (dk_at dksX6_neverNow_0 5 rfl rfl)
theorem dX6_neverNow_6 : decode cX6_neverNow 6 = .ok (.iconst 0, 1) := dk_3 (dk_at dksX6_neverNow_0 6 rfl rfl)
theorem dX6_neverNow_7 : decode cX6_neverNow 7 = .ok (.istore_n 2, 1) := dk_61 (dk_at dksX6_neverNow_0 7 rfl rfl)
theorem dX6_neverNow_8 : decode cX6_neverNow 8 = .ok (.iload_n 2, 1) := dk_28 (dk_at dksX6_neverNow_0 8 rfl rfl)
theorem dX6_neverNow_9 : decode cX6_neverNow 9 = .ok (.aload_n 0, 1) := dk_42 (dk_at dksX6_neverNow_0 9 rfl rfl)
theorem dX6_neverNow_10 : decode cX6_neverNow 10 = .ok (.getfield 156, 3) := dk_180 0 156 (dk_at dksX6_neverNow_0 10 rfl rfl)
theorem dX6_neverNow_13 : decode cX6_neverNow 13 = .ok (.if_icmp .ge 34, 3) := dk_162 0 34 (dk_at dksX6_neverNow_0 13 rfl rfl)
theorem dX6_neverNow_16 : decode cX6_neverNow 16 = .ok (.aload_n 0, 1) := dk_42 (dk_at dksX6_neverNow_0 16 rfl rfl)
theorem dX6_neverNow_17 : decode cX6_neverNow 17 = .ok (.iconst 1, 1) := dk_4 (dk_at dksX6_neverNow_0 17 rfl rfl)
theorem dX6_neverNow_18 : decode cX6_neverNow 18 = .ok (.iload_n 2, 1) := dk_28 (dk_at dksX6_neverNow_0 18 rfl rfl)
theorem dX6_neverNow_19 : decode cX6_neverNow 19 = .ok (.ishl, 1) := dk_120 (dk_at dksX6_neverNow_0 19 rfl rfl)
theorem dX6_neverNow_20 : decode cX6_neverNow 20 = .ok (.iconst 0, 1) := dk_3 (dk_at dksX6_neverNow_0 20 rfl rfl)
theorem dX6_neverNow_21 : decode cX6_neverNow 21 = .ok (.invokevirtual 181, 3) := dk_182 0 181 (dk_at dksX6_neverNow_0 21 rfl rfl)
theorem dX6_neverNow_24 : decode cX6_neverNow 24 = .ok (.iload_n 1, 1) := dk_27 (dk_at dksX6_neverNow_1 0 rfl rfl)
theorem dX6_neverNow_25 : decode cX6_neverNow 25 = .ok (.aload_n 0, 1) := dk_42 (dk_at dksX6_neverNow_1 1 rfl rfl)
theorem dX6_neverNow_26 : decode cX6_neverNow 26 = .ok (.invokevirtual 251, 3) := dk_182 0 251 (dk_at dksX6_neverNow_1 2 rfl rfl)
theorem dX6_neverNow_29 : decode cX6_neverNow 29 = .ok (.ifCond .eq 9, 3) := dk_153 0 9 (dk_at dksX6_neverNow_1 5 rfl rfl)
theorem dX6_neverNow_32 : decode cX6_neverNow 32 = .ok (.iconst 1, 1) := dk_4 (dk_at dksX6_neverNow_1 8 rfl rfl)
theorem dX6_neverNow_33 : decode cX6_neverNow 33 = .ok (.iload_n 2, 1) := dk_28 (dk_at dksX6_neverNow_1 9 rfl rfl)
theorem dX6_neverNow_34 : decode cX6_neverNow 34 = .ok (.ishl, 1) := dk_120 (dk_at dksX6_neverNow_1 10 rfl rfl)
theorem dX6_neverNow_35 : decode cX6_neverNow 35 = .ok (.goto 4, 3) := dk_167 0 4 (dk_at dksX6_neverNow_1 11 rfl rfl)
theorem dX6_neverNow_38 : decode cX6_neverNow 38 = .ok (.iconst 0, 1) := dk_3 (dk_at dksX6_neverNow_1 14 rfl rfl)
theorem dX6_neverNow_39 : decode cX6_neverNow 39 = .ok (.ior, 1) := dk_128 (dk_at dksX6_neverNow_1 15 rfl rfl)
theorem dX6_neverNow_40 : decode cX6_neverNow 40 = .ok (.istore_n 1, 1) := dk_60 (dk_at dksX6_neverNow_1 16 rfl rfl)
theorem dX6_neverNow_41 : decode cX6_neverNow 41 = .ok (.iinc 2 1, 3) := dk_132 2 1 (dk_at dksX6_neverNow_1 17 rfl rfl)
theorem dX6_neverNow_44 : decode cX6_neverNow 44 = .ok (.goto (-36), 3) := dk_167 255 220 (dk_at dksX6_neverNow_1 20 rfl rfl)
theorem dX6_neverNow_47 : decode cX6_neverNow 47 = .ok (.iload_n 1, 1) := dk_27 (dk_at dksX6_neverNow_1 23 rfl rfl)
theorem dX6_neverNow_48 : decode cX6_neverNow 48 = .ok (.ireturn, 1) := dk_172 (dk_at dksX6_neverNow_2 0 rfl rfl)
abbrev cX6_isSeen : ByteArray := prog_14_method_62_code
def yX6_isSeen : MethodName := ⟨RX6, "isSeen", "()Z"⟩
def dkwX6_isSeen_3 : List UInt8 := [132, 2, 1, 167, 255, 192, 27, 172]
abbrev dktX6_isSeen_3 : List UInt8 := dkwX6_isSeen_3 ++ []
def dkwX6_isSeen_2 : List UInt8 := [180, 0, 68, 28, 46, 96, 46, 42, 180, 0, 74, 28, 46, 160, 0, 7, 4, 167, 0, 4, 3, 60]
abbrev dktX6_isSeen_2 : List UInt8 := dkwX6_isSeen_2 ++ dktX6_isSeen_3
def dkwX6_isSeen_1 : List UInt8 := [28, 46, 42, 180, 0, 122, 162, 0, 37, 42, 180, 0, 50, 16, 20, 42, 180, 0, 71, 28, 46, 104, 42]
abbrev dktX6_isSeen_1 : List UInt8 := dkwX6_isSeen_1 ++ dktX6_isSeen_2
def dkwX6_isSeen_0 : List UInt8 := [42, 182, 0, 204, 4, 60, 3, 61, 28, 42, 180, 0, 248, 162, 0, 62, 27, 153, 0, 58, 42, 180, 0, 71]
abbrev dktX6_isSeen_0 : List UInt8 := dkwX6_isSeen_0 ++ dktX6_isSeen_1
theorem dksX6_isSeen_0 : cX6_isSeen.data.toList.drop 0 = dktX6_isSeen_0 := by decide +kernel
theorem dksX6_isSeen_1 : cX6_isSeen.data.toList.drop 24 = dktX6_isSeen_1 := dk_seg dksX6_isSeen_0 24 rfl rfl
theorem dksX6_isSeen_2 : cX6_isSeen.data.toList.drop 47 = dktX6_isSeen_2 := dk_seg dksX6_isSeen_1 23 rfl rfl
theorem dksX6_isSeen_3 : cX6_isSeen.data.toList.drop 69 = dktX6_isSeen_3 := dk_seg dksX6_isSeen_2 22 rfl rfl
theorem dX6_isSeen_0 : decode cX6_isSeen 0 = .ok (.aload_n 0, 1) := dk_42 (dk_at dksX6_isSeen_0 0 rfl rfl)
theorem dX6_isSeen_1 : decode cX6_isSeen 1 = .ok (.invokevirtual 204, 3) := dk_182 0 204 (dk_at dksX6_isSeen_0 1 rfl rfl)
theorem dX6_isSeen_4 : decode cX6_isSeen 4 = .ok (.iconst 1, 1) := dk_4 (dk_at dksX6_isSeen_0 4 rfl rfl)
theorem dX6_isSeen_5 : decode cX6_isSeen 5 = .ok (.istore_n 1, 1) := dk_60 (dk_at dksX6_isSeen_0 5 rfl rfl)
theorem dX6_isSeen_6 : decode cX6_isSeen 6 = .ok (.iconst 0, 1) := dk_3 (dk_at dksX6_isSeen_0 6 rfl rfl)
theorem dX6_isSeen_7 : decode cX6_isSeen 7 = .ok (.istore_n 2, 1) := dk_61 (dk_at dksX6_isSeen_0 7 rfl rfl)
theorem dX6_isSeen_8 : decode cX6_isSeen 8 = .ok (.iload_n 2, 1) := dk_28 (dk_at dksX6_isSeen_0 8 rfl rfl)
theorem dX6_isSeen_9 : decode cX6_isSeen 9 = .ok (.aload_n 0, 1) := dk_42 (dk_at dksX6_isSeen_0 9 rfl rfl)
theorem dX6_isSeen_10 : decode cX6_isSeen 10 = .ok (.getfield 248, 3) := dk_180 0 248 (dk_at dksX6_isSeen_0 10 rfl rfl)
theorem dX6_isSeen_13 : decode cX6_isSeen 13 = .ok (.if_icmp .ge 62, 3) := dk_162 0 62 (dk_at dksX6_isSeen_0 13 rfl rfl)
theorem dX6_isSeen_16 : decode cX6_isSeen 16 = .ok (.iload_n 1, 1) := dk_27 (dk_at dksX6_isSeen_0 16 rfl rfl)
theorem dX6_isSeen_17 : decode cX6_isSeen 17 = .ok (.ifCond .eq 58, 3) := dk_153 0 58 (dk_at dksX6_isSeen_0 17 rfl rfl)
theorem dX6_isSeen_20 : decode cX6_isSeen 20 = .ok (.aload_n 0, 1) := dk_42 (dk_at dksX6_isSeen_0 20 rfl rfl)
theorem dX6_isSeen_21 : decode cX6_isSeen 21 = .ok (.getfield 71, 3) := dk_180 0 71 (dk_at dksX6_isSeen_0 21 rfl rfl)
theorem dX6_isSeen_24 : decode cX6_isSeen 24 = .ok (.iload_n 2, 1) := dk_28 (dk_at dksX6_isSeen_1 0 rfl rfl)
theorem dX6_isSeen_25 : decode cX6_isSeen 25 = .ok (.iaload, 1) := dk_46 (dk_at dksX6_isSeen_1 1 rfl rfl)
theorem dX6_isSeen_26 : decode cX6_isSeen 26 = .ok (.aload_n 0, 1) := dk_42 (dk_at dksX6_isSeen_1 2 rfl rfl)
theorem dX6_isSeen_27 : decode cX6_isSeen 27 = .ok (.getfield 122, 3) := dk_180 0 122 (dk_at dksX6_isSeen_1 3 rfl rfl)
theorem dX6_isSeen_30 : decode cX6_isSeen 30 = .ok (.if_icmp .ge 37, 3) := dk_162 0 37 (dk_at dksX6_isSeen_1 6 rfl rfl)
theorem dX6_isSeen_33 : decode cX6_isSeen 33 = .ok (.aload_n 0, 1) := dk_42 (dk_at dksX6_isSeen_1 9 rfl rfl)
theorem dX6_isSeen_34 : decode cX6_isSeen 34 = .ok (.getfield 50, 3) := dk_180 0 50 (dk_at dksX6_isSeen_1 10 rfl rfl)
theorem dX6_isSeen_37 : decode cX6_isSeen 37 = .ok (.bipush 20, 2) := dk_16 20 (dk_at dksX6_isSeen_1 13 rfl rfl)
theorem dX6_isSeen_39 : decode cX6_isSeen 39 = .ok (.aload_n 0, 1) := dk_42 (dk_at dksX6_isSeen_1 15 rfl rfl)
theorem dX6_isSeen_40 : decode cX6_isSeen 40 = .ok (.getfield 71, 3) := dk_180 0 71 (dk_at dksX6_isSeen_1 16 rfl rfl)
theorem dX6_isSeen_43 : decode cX6_isSeen 43 = .ok (.iload_n 2, 1) := dk_28 (dk_at dksX6_isSeen_1 19 rfl rfl)
theorem dX6_isSeen_44 : decode cX6_isSeen 44 = .ok (.iaload, 1) := dk_46 (dk_at dksX6_isSeen_1 20 rfl rfl)
theorem dX6_isSeen_45 : decode cX6_isSeen 45 = .ok (.imul, 1) := dk_104 (dk_at dksX6_isSeen_1 21 rfl rfl)
theorem dX6_isSeen_46 : decode cX6_isSeen 46 = .ok (.aload_n 0, 1) := dk_42 (dk_at dksX6_isSeen_1 22 rfl rfl)
theorem dX6_isSeen_47 : decode cX6_isSeen 47 = .ok (.getfield 68, 3) := dk_180 0 68 (dk_at dksX6_isSeen_2 0 rfl rfl)
theorem dX6_isSeen_50 : decode cX6_isSeen 50 = .ok (.iload_n 2, 1) := dk_28 (dk_at dksX6_isSeen_2 3 rfl rfl)
theorem dX6_isSeen_51 : decode cX6_isSeen 51 = .ok (.iaload, 1) := dk_46 (dk_at dksX6_isSeen_2 4 rfl rfl)
theorem dX6_isSeen_52 : decode cX6_isSeen 52 = .ok (.iadd, 1) := dk_96 (dk_at dksX6_isSeen_2 5 rfl rfl)
theorem dX6_isSeen_53 : decode cX6_isSeen 53 = .ok (.iaload, 1) := dk_46 (dk_at dksX6_isSeen_2 6 rfl rfl)
theorem dX6_isSeen_54 : decode cX6_isSeen 54 = .ok (.aload_n 0, 1) := dk_42 (dk_at dksX6_isSeen_2 7 rfl rfl)
theorem dX6_isSeen_55 : decode cX6_isSeen 55 = .ok (.getfield 74, 3) := dk_180 0 74 (dk_at dksX6_isSeen_2 8 rfl rfl)
theorem dX6_isSeen_58 : decode cX6_isSeen 58 = .ok (.iload_n 2, 1) := dk_28 (dk_at dksX6_isSeen_2 11 rfl rfl)
theorem dX6_isSeen_59 : decode cX6_isSeen 59 = .ok (.iaload, 1) := dk_46 (dk_at dksX6_isSeen_2 12 rfl rfl)
theorem dX6_isSeen_60 : decode cX6_isSeen 60 = .ok (.if_icmp .ne 7, 3) := dk_160 0 7 (dk_at dksX6_isSeen_2 13 rfl rfl)
theorem dX6_isSeen_63 : decode cX6_isSeen 63 = .ok (.iconst 1, 1) := dk_4 (dk_at dksX6_isSeen_2 16 rfl rfl)
theorem dX6_isSeen_64 : decode cX6_isSeen 64 = .ok (.goto 4, 3) := dk_167 0 4 (dk_at dksX6_isSeen_2 17 rfl rfl)
theorem dX6_isSeen_67 : decode cX6_isSeen 67 = .ok (.iconst 0, 1) := dk_3 (dk_at dksX6_isSeen_2 20 rfl rfl)
theorem dX6_isSeen_68 : decode cX6_isSeen 68 = .ok (.istore_n 1, 1) := dk_60 (dk_at dksX6_isSeen_2 21 rfl rfl)
theorem dX6_isSeen_69 : decode cX6_isSeen 69 = .ok (.iinc 2 1, 3) := dk_132 2 1 (dk_at dksX6_isSeen_3 0 rfl rfl)
theorem dX6_isSeen_72 : decode cX6_isSeen 72 = .ok (.goto (-64), 3) := dk_167 255 192 (dk_at dksX6_isSeen_3 3 rfl rfl)
theorem dX6_isSeen_75 : decode cX6_isSeen 75 = .ok (.iload_n 1, 1) := dk_27 (dk_at dksX6_isSeen_3 6 rfl rfl)
theorem dX6_isSeen_76 : decode cX6_isSeen 76 = .ok (.ireturn, 1) := dk_172 (dk_at dksX6_isSeen_3 7 rfl rfl)
abbrev cX6_sums : ByteArray := prog_14_method_66_code
def yX6_sums : MethodName := ⟨RX6, "sums", "(I)I"⟩
def dkwX6_sums_0 : List UInt8 := [42, 27, 182, 0, 144, 153, 0, 11, 42, 27, 182, 1, 2, 167, 0, 5, 16, 254, 172]
abbrev dktX6_sums_0 : List UInt8 := dkwX6_sums_0 ++ []
theorem dksX6_sums_0 : cX6_sums.data.toList.drop 0 = dktX6_sums_0 := by decide +kernel
theorem dX6_sums_0 : decode cX6_sums 0 = .ok (.aload_n 0, 1) := dk_42 (dk_at dksX6_sums_0 0 rfl rfl)
theorem dX6_sums_1 : decode cX6_sums 1 = .ok (.iload_n 1, 1) := dk_27 (dk_at dksX6_sums_0 1 rfl rfl)
theorem dX6_sums_2 : decode cX6_sums 2 = .ok (.invokevirtual 144, 3) := dk_182 0 144 (dk_at dksX6_sums_0 2 rfl rfl)
theorem dX6_sums_5 : decode cX6_sums 5 = .ok (.ifCond .eq 11, 3) := dk_153 0 11 (dk_at dksX6_sums_0 5 rfl rfl)
theorem dX6_sums_8 : decode cX6_sums 8 = .ok (.aload_n 0, 1) := dk_42 (dk_at dksX6_sums_0 8 rfl rfl)
theorem dX6_sums_9 : decode cX6_sums 9 = .ok (.iload_n 1, 1) := dk_27 (dk_at dksX6_sums_0 9 rfl rfl)
theorem dX6_sums_10 : decode cX6_sums 10 = .ok (.invokevirtual 258, 3) := dk_182 1 2 (dk_at dksX6_sums_0 10 rfl rfl)
theorem dX6_sums_13 : decode cX6_sums 13 = .ok (.goto 5, 3) := dk_167 0 5 (dk_at dksX6_sums_0 13 rfl rfl)
theorem dX6_sums_16 : decode cX6_sums 16 = .ok (.bipush (-2), 2) := dk_16 254 (dk_at dksX6_sums_0 16 rfl rfl)
theorem dX6_sums_18 : decode cX6_sums 18 = .ok (.ireturn, 1) := dk_172 (dk_at dksX6_sums_0 18 rfl rfl)
abbrev cX6_sumsBy : ByteArray := prog_14_method_65_code
def yX6_sumsBy : MethodName := ⟨RX6, "sumsBy", "(I)I"⟩
def dkwX6_sumsBy_4 : List UInt8 := [42, 180, 0, 16, 27, 28, 79, 29, 172]
abbrev dktX6_sumsBy_4 : List UInt8 := dkwX6_sumsBy_4 ++ []
def dkwX6_sumsBy_3 : List UInt8 := [180, 0, 50, 16, 20, 27, 104, 21, 5, 96, 46, 79, 132, 5, 1, 167, 255, 221, 132, 4, 1, 167, 255, 179]
abbrev dktX6_sumsBy_3 : List UInt8 := dkwX6_sumsBy_3 ++ dktX6_sumsBy_4
def dkwX6_sumsBy_2 : List UInt8 := [62, 3, 54, 5, 21, 5, 16, 20, 162, 0, 34, 42, 180, 0, 77, 16, 20, 21, 4, 104, 21, 5, 96, 42]
abbrev dktX6_sumsBy_2 : List UInt8 := dkwX6_sumsBy_2 ++ dktX6_sumsBy_3
def dkwX6_sumsBy_1 : List UInt8 := [180, 0, 16, 27, 21, 4, 79, 29, 42, 182, 0, 251, 153, 0, 10, 4, 21, 4, 120, 167, 0, 4, 3, 128]
abbrev dktX6_sumsBy_1 : List UInt8 := dkwX6_sumsBy_1 ++ dktX6_sumsBy_2
def dkwX6_sumsBy_0 : List UInt8 := [42, 182, 0, 201, 42, 180, 0, 16, 27, 46, 61, 3, 62, 3, 54, 4, 21, 4, 16, 10, 162, 0, 76, 42]
abbrev dktX6_sumsBy_0 : List UInt8 := dkwX6_sumsBy_0 ++ dktX6_sumsBy_1
theorem dksX6_sumsBy_0 : cX6_sumsBy.data.toList.drop 0 = dktX6_sumsBy_0 := by decide +kernel
theorem dksX6_sumsBy_1 : cX6_sumsBy.data.toList.drop 24 = dktX6_sumsBy_1 := dk_seg dksX6_sumsBy_0 24 rfl rfl
theorem dksX6_sumsBy_2 : cX6_sumsBy.data.toList.drop 48 = dktX6_sumsBy_2 := dk_seg dksX6_sumsBy_1 24 rfl rfl
theorem dksX6_sumsBy_3 : cX6_sumsBy.data.toList.drop 72 = dktX6_sumsBy_3 := dk_seg dksX6_sumsBy_2 24 rfl rfl
theorem dksX6_sumsBy_4 : cX6_sumsBy.data.toList.drop 96 = dktX6_sumsBy_4 := dk_seg dksX6_sumsBy_3 24 rfl rfl
theorem dX6_sumsBy_0 : decode cX6_sumsBy 0 = .ok (.aload_n 0, 1) := dk_42 (dk_at dksX6_sumsBy_0 0 rfl rfl)
theorem dX6_sumsBy_1 : decode cX6_sumsBy 1 = .ok (.invokevirtual 201, 3) := dk_182 0 201 (dk_at dksX6_sumsBy_0 1 rfl rfl)
theorem dX6_sumsBy_4 : decode cX6_sumsBy 4 = .ok (.aload_n 0, 1) := dk_42 (dk_at dksX6_sumsBy_0 4 rfl rfl)
theorem dX6_sumsBy_5 : decode cX6_sumsBy 5 = .ok (.getfield 16, 3) := dk_180 0 16 (dk_at dksX6_sumsBy_0 5 rfl rfl)
theorem dX6_sumsBy_8 : decode cX6_sumsBy 8 = .ok (.iload_n 1, 1) := dk_27 (dk_at dksX6_sumsBy_0 8 rfl rfl)
theorem dX6_sumsBy_9 : decode cX6_sumsBy 9 = .ok (.iaload, 1) := dk_46 (dk_at dksX6_sumsBy_0 9 rfl rfl)
theorem dX6_sumsBy_10 : decode cX6_sumsBy 10 = .ok (.istore_n 2, 1) := dk_61 (dk_at dksX6_sumsBy_0 10 rfl rfl)
theorem dX6_sumsBy_11 : decode cX6_sumsBy 11 = .ok (.iconst 0, 1) := dk_3 (dk_at dksX6_sumsBy_0 11 rfl rfl)
theorem dX6_sumsBy_12 : decode cX6_sumsBy 12 = .ok (.istore_n 3, 1) := dk_62 (dk_at dksX6_sumsBy_0 12 rfl rfl)
theorem dX6_sumsBy_13 : decode cX6_sumsBy 13 = .ok (.iconst 0, 1) := dk_3 (dk_at dksX6_sumsBy_0 13 rfl rfl)
theorem dX6_sumsBy_14 : decode cX6_sumsBy 14 = .ok (.istore 4, 2) := dk_54 4 (dk_at dksX6_sumsBy_0 14 rfl rfl)
theorem dX6_sumsBy_16 : decode cX6_sumsBy 16 = .ok (.iload 4, 2) := dk_21 4 (dk_at dksX6_sumsBy_0 16 rfl rfl)
theorem dX6_sumsBy_18 : decode cX6_sumsBy 18 = .ok (.bipush 10, 2) := dk_16 10 (dk_at dksX6_sumsBy_0 18 rfl rfl)
theorem dX6_sumsBy_20 : decode cX6_sumsBy 20 = .ok (.if_icmp .ge 76, 3) := dk_162 0 76 (dk_at dksX6_sumsBy_0 20 rfl rfl)
theorem dX6_sumsBy_23 : decode cX6_sumsBy 23 = .ok (.aload_n 0, 1) := dk_42 (dk_at dksX6_sumsBy_0 23 rfl rfl)
theorem dX6_sumsBy_24 : decode cX6_sumsBy 24 = .ok (.getfield 16, 3) := dk_180 0 16 (dk_at dksX6_sumsBy_1 0 rfl rfl)
theorem dX6_sumsBy_27 : decode cX6_sumsBy 27 = .ok (.iload_n 1, 1) := dk_27 (dk_at dksX6_sumsBy_1 3 rfl rfl)
theorem dX6_sumsBy_28 : decode cX6_sumsBy 28 = .ok (.iload 4, 2) := dk_21 4 (dk_at dksX6_sumsBy_1 4 rfl rfl)
theorem dX6_sumsBy_30 : decode cX6_sumsBy 30 = .ok (.iastore, 1) := dk_79 (dk_at dksX6_sumsBy_1 6 rfl rfl)
theorem dX6_sumsBy_31 : decode cX6_sumsBy 31 = .ok (.iload_n 3, 1) := dk_29 (dk_at dksX6_sumsBy_1 7 rfl rfl)
theorem dX6_sumsBy_32 : decode cX6_sumsBy 32 = .ok (.aload_n 0, 1) := dk_42 (dk_at dksX6_sumsBy_1 8 rfl rfl)
theorem dX6_sumsBy_33 : decode cX6_sumsBy 33 = .ok (.invokevirtual 251, 3) := dk_182 0 251 (dk_at dksX6_sumsBy_1 9 rfl rfl)
theorem dX6_sumsBy_36 : decode cX6_sumsBy 36 = .ok (.ifCond .eq 10, 3) := dk_153 0 10 (dk_at dksX6_sumsBy_1 12 rfl rfl)
theorem dX6_sumsBy_39 : decode cX6_sumsBy 39 = .ok (.iconst 1, 1) := dk_4 (dk_at dksX6_sumsBy_1 15 rfl rfl)
theorem dX6_sumsBy_40 : decode cX6_sumsBy 40 = .ok (.iload 4, 2) := dk_21 4 (dk_at dksX6_sumsBy_1 16 rfl rfl)
theorem dX6_sumsBy_42 : decode cX6_sumsBy 42 = .ok (.ishl, 1) := dk_120 (dk_at dksX6_sumsBy_1 18 rfl rfl)
theorem dX6_sumsBy_43 : decode cX6_sumsBy 43 = .ok (.goto 4, 3) := dk_167 0 4 (dk_at dksX6_sumsBy_1 19 rfl rfl)
theorem dX6_sumsBy_46 : decode cX6_sumsBy 46 = .ok (.iconst 0, 1) := dk_3 (dk_at dksX6_sumsBy_1 22 rfl rfl)
theorem dX6_sumsBy_47 : decode cX6_sumsBy 47 = .ok (.ior, 1) := dk_128 (dk_at dksX6_sumsBy_1 23 rfl rfl)
theorem dX6_sumsBy_48 : decode cX6_sumsBy 48 = .ok (.istore_n 3, 1) := dk_62 (dk_at dksX6_sumsBy_2 0 rfl rfl)
theorem dX6_sumsBy_49 : decode cX6_sumsBy 49 = .ok (.iconst 0, 1) := dk_3 (dk_at dksX6_sumsBy_2 1 rfl rfl)
theorem dX6_sumsBy_50 : decode cX6_sumsBy 50 = .ok (.istore 5, 2) := dk_54 5 (dk_at dksX6_sumsBy_2 2 rfl rfl)
theorem dX6_sumsBy_52 : decode cX6_sumsBy 52 = .ok (.iload 5, 2) := dk_21 5 (dk_at dksX6_sumsBy_2 4 rfl rfl)
theorem dX6_sumsBy_54 : decode cX6_sumsBy 54 = .ok (.bipush 20, 2) := dk_16 20 (dk_at dksX6_sumsBy_2 6 rfl rfl)
theorem dX6_sumsBy_56 : decode cX6_sumsBy 56 = .ok (.if_icmp .ge 34, 3) := dk_162 0 34 (dk_at dksX6_sumsBy_2 8 rfl rfl)
theorem dX6_sumsBy_59 : decode cX6_sumsBy 59 = .ok (.aload_n 0, 1) := dk_42 (dk_at dksX6_sumsBy_2 11 rfl rfl)
theorem dX6_sumsBy_60 : decode cX6_sumsBy 60 = .ok (.getfield 77, 3) := dk_180 0 77 (dk_at dksX6_sumsBy_2 12 rfl rfl)
theorem dX6_sumsBy_63 : decode cX6_sumsBy 63 = .ok (.bipush 20, 2) := dk_16 20 (dk_at dksX6_sumsBy_2 15 rfl rfl)
theorem dX6_sumsBy_65 : decode cX6_sumsBy 65 = .ok (.iload 4, 2) := dk_21 4 (dk_at dksX6_sumsBy_2 17 rfl rfl)
theorem dX6_sumsBy_67 : decode cX6_sumsBy 67 = .ok (.imul, 1) := dk_104 (dk_at dksX6_sumsBy_2 19 rfl rfl)
theorem dX6_sumsBy_68 : decode cX6_sumsBy 68 = .ok (.iload 5, 2) := dk_21 5 (dk_at dksX6_sumsBy_2 20 rfl rfl)
theorem dX6_sumsBy_70 : decode cX6_sumsBy 70 = .ok (.iadd, 1) := dk_96 (dk_at dksX6_sumsBy_2 22 rfl rfl)
theorem dX6_sumsBy_71 : decode cX6_sumsBy 71 = .ok (.aload_n 0, 1) := dk_42 (dk_at dksX6_sumsBy_2 23 rfl rfl)
theorem dX6_sumsBy_72 : decode cX6_sumsBy 72 = .ok (.getfield 50, 3) := dk_180 0 50 (dk_at dksX6_sumsBy_3 0 rfl rfl)
theorem dX6_sumsBy_75 : decode cX6_sumsBy 75 = .ok (.bipush 20, 2) := dk_16 20 (dk_at dksX6_sumsBy_3 3 rfl rfl)
theorem dX6_sumsBy_77 : decode cX6_sumsBy 77 = .ok (.iload_n 1, 1) := dk_27 (dk_at dksX6_sumsBy_3 5 rfl rfl)
theorem dX6_sumsBy_78 : decode cX6_sumsBy 78 = .ok (.imul, 1) := dk_104 (dk_at dksX6_sumsBy_3 6 rfl rfl)
theorem dX6_sumsBy_79 : decode cX6_sumsBy 79 = .ok (.iload 5, 2) := dk_21 5 (dk_at dksX6_sumsBy_3 7 rfl rfl)
theorem dX6_sumsBy_81 : decode cX6_sumsBy 81 = .ok (.iadd, 1) := dk_96 (dk_at dksX6_sumsBy_3 9 rfl rfl)
theorem dX6_sumsBy_82 : decode cX6_sumsBy 82 = .ok (.iaload, 1) := dk_46 (dk_at dksX6_sumsBy_3 10 rfl rfl)
theorem dX6_sumsBy_83 : decode cX6_sumsBy 83 = .ok (.iastore, 1) := dk_79 (dk_at dksX6_sumsBy_3 11 rfl rfl)
theorem dX6_sumsBy_84 : decode cX6_sumsBy 84 = .ok (.iinc 5 1, 3) := dk_132 5 1 (dk_at dksX6_sumsBy_3 12 rfl rfl)
theorem dX6_sumsBy_87 : decode cX6_sumsBy 87 = .ok (.goto (-35), 3) := dk_167 255 221 (dk_at dksX6_sumsBy_3 15 rfl rfl)
theorem dX6_sumsBy_90 : decode cX6_sumsBy 90 = .ok (.iinc 4 1, 3) := dk_132 4 1 (dk_at dksX6_sumsBy_3 18 rfl rfl)
theorem dX6_sumsBy_93 : decode cX6_sumsBy 93 = .ok (.goto (-77), 3) := dk_167 255 179 (dk_at dksX6_sumsBy_3 21 rfl rfl)
theorem dX6_sumsBy_96 : decode cX6_sumsBy 96 = .ok (.aload_n 0, 1) := dk_42 (dk_at dksX6_sumsBy_4 0 rfl rfl)
theorem dX6_sumsBy_97 : decode cX6_sumsBy 97 = .ok (.getfield 16, 3) := dk_180 0 16 (dk_at dksX6_sumsBy_4 1 rfl rfl)
theorem dX6_sumsBy_100 : decode cX6_sumsBy 100 = .ok (.iload_n 1, 1) := dk_27 (dk_at dksX6_sumsBy_4 4 rfl rfl)
theorem dX6_sumsBy_101 : decode cX6_sumsBy 101 = .ok (.iload_n 2, 1) := dk_28 (dk_at dksX6_sumsBy_4 5 rfl rfl)
theorem dX6_sumsBy_102 : decode cX6_sumsBy 102 = .ok (.iastore, 1) := dk_79 (dk_at dksX6_sumsBy_4 6 rfl rfl)
theorem dX6_sumsBy_103 : decode cX6_sumsBy 103 = .ok (.iload_n 3, 1) := dk_29 (dk_at dksX6_sumsBy_4 7 rfl rfl)
theorem dX6_sumsBy_104 : decode cX6_sumsBy 104 = .ok (.ireturn, 1) := dk_172 (dk_at dksX6_sumsBy_4 8 rfl rfl)
abbrev cX6_rates : ByteArray := prog_14_method_68_code
def yX6_rates : MethodName := ⟨RX6, "rates", "()I"⟩
theorem dX6_rates_0 : decode cX6_rates 0 = .ok (.aload_n 0, 1) := by decide +kernel
theorem dX6_rates_1 : decode cX6_rates 1 = .ok (.invokevirtual 261, 3) := by decide +kernel
theorem dX6_rates_4 : decode cX6_rates 4 = .ok (.ireturn, 1) := by decide +kernel
abbrev cX6_ratesNow : ByteArray := prog_14_method_67_code
def yX6_ratesNow : MethodName := ⟨RX6, "ratesNow", "()I"⟩
def dkwX6_ratesNow_1 : List UInt8 := [153, 0, 9, 4, 28, 120, 167, 0, 4, 3, 128, 60, 132, 2, 1, 167, 255, 225, 27, 172]
abbrev dktX6_ratesNow_1 : List UInt8 := dkwX6_ratesNow_1 ++ []
def dkwX6_ratesNow_0 : List UInt8 := [42, 182, 0, 201, 3, 60, 3, 61, 28, 16, 10, 162, 0, 31, 42, 28, 181, 0, 178, 27, 42, 182, 0, 251]
abbrev dktX6_ratesNow_0 : List UInt8 := dkwX6_ratesNow_0 ++ dktX6_ratesNow_1
theorem dksX6_ratesNow_0 : cX6_ratesNow.data.toList.drop 0 = dktX6_ratesNow_0 := by decide +kernel
theorem dksX6_ratesNow_1 : cX6_ratesNow.data.toList.drop 24 = dktX6_ratesNow_1 := dk_seg dksX6_ratesNow_0 24 rfl rfl
theorem dX6_ratesNow_0 : decode cX6_ratesNow 0 = .ok (.aload_n 0, 1) := dk_42 (dk_at dksX6_ratesNow_0 0 rfl rfl)
theorem dX6_ratesNow_1 : decode cX6_ratesNow 1 = .ok (.invokevirtual 201, 3) := dk_182 0 201 (dk_at dksX6_ratesNow_0 1 rfl rfl)
theorem dX6_ratesNow_4 : decode cX6_ratesNow 4 = .ok (.iconst 0, 1) := dk_3 (dk_at dksX6_ratesNow_0 4 rfl rfl)
theorem dX6_ratesNow_5 : decode cX6_ratesNow 5 = .ok (.istore_n 1, 1) := dk_60 (dk_at dksX6_ratesNow_0 5 rfl rfl)
theorem dX6_ratesNow_6 : decode cX6_ratesNow 6 = .ok (.iconst 0, 1) := dk_3 (dk_at dksX6_ratesNow_0 6 rfl rfl)
theorem dX6_ratesNow_7 : decode cX6_ratesNow 7 = .ok (.istore_n 2, 1) := dk_61 (dk_at dksX6_ratesNow_0 7 rfl rfl)
theorem dX6_ratesNow_8 : decode cX6_ratesNow 8 = .ok (.iload_n 2, 1) := dk_28 (dk_at dksX6_ratesNow_0 8 rfl rfl)
theorem dX6_ratesNow_9 : decode cX6_ratesNow 9 = .ok (.bipush 10, 2) := dk_16 10 (dk_at dksX6_ratesNow_0 9 rfl rfl)
theorem dX6_ratesNow_11 : decode cX6_ratesNow 11 = .ok (.if_icmp .ge 31, 3) := dk_162 0 31 (dk_at dksX6_ratesNow_0 11 rfl rfl)
theorem dX6_ratesNow_14 : decode cX6_ratesNow 14 = .ok (.aload_n 0, 1) := dk_42 (dk_at dksX6_ratesNow_0 14 rfl rfl)
theorem dX6_ratesNow_15 : decode cX6_ratesNow 15 = .ok (.iload_n 2, 1) := dk_28 (dk_at dksX6_ratesNow_0 15 rfl rfl)
theorem dX6_ratesNow_16 : decode cX6_ratesNow 16 = .ok (.putfield 178, 3) := dk_181 0 178 (dk_at dksX6_ratesNow_0 16 rfl rfl)
theorem dX6_ratesNow_19 : decode cX6_ratesNow 19 = .ok (.iload_n 1, 1) := dk_27 (dk_at dksX6_ratesNow_0 19 rfl rfl)
theorem dX6_ratesNow_20 : decode cX6_ratesNow 20 = .ok (.aload_n 0, 1) := dk_42 (dk_at dksX6_ratesNow_0 20 rfl rfl)
theorem dX6_ratesNow_21 : decode cX6_ratesNow 21 = .ok (.invokevirtual 251, 3) := dk_182 0 251 (dk_at dksX6_ratesNow_0 21 rfl rfl)
theorem dX6_ratesNow_24 : decode cX6_ratesNow 24 = .ok (.ifCond .eq 9, 3) := dk_153 0 9 (dk_at dksX6_ratesNow_1 0 rfl rfl)
theorem dX6_ratesNow_27 : decode cX6_ratesNow 27 = .ok (.iconst 1, 1) := dk_4 (dk_at dksX6_ratesNow_1 3 rfl rfl)
theorem dX6_ratesNow_28 : decode cX6_ratesNow 28 = .ok (.iload_n 2, 1) := dk_28 (dk_at dksX6_ratesNow_1 4 rfl rfl)
theorem dX6_ratesNow_29 : decode cX6_ratesNow 29 = .ok (.ishl, 1) := dk_120 (dk_at dksX6_ratesNow_1 5 rfl rfl)
theorem dX6_ratesNow_30 : decode cX6_ratesNow 30 = .ok (.goto 4, 3) := dk_167 0 4 (dk_at dksX6_ratesNow_1 6 rfl rfl)
theorem dX6_ratesNow_33 : decode cX6_ratesNow 33 = .ok (.iconst 0, 1) := dk_3 (dk_at dksX6_ratesNow_1 9 rfl rfl)
theorem dX6_ratesNow_34 : decode cX6_ratesNow 34 = .ok (.ior, 1) := dk_128 (dk_at dksX6_ratesNow_1 10 rfl rfl)
theorem dX6_ratesNow_35 : decode cX6_ratesNow 35 = .ok (.istore_n 1, 1) := dk_60 (dk_at dksX6_ratesNow_1 11 rfl rfl)
theorem dX6_ratesNow_36 : decode cX6_ratesNow 36 = .ok (.iinc 2 1, 3) := dk_132 2 1 (dk_at dksX6_ratesNow_1 12 rfl rfl)
theorem dX6_ratesNow_39 : decode cX6_ratesNow 39 = .ok (.goto (-31), 3) := dk_167 255 225 (dk_at dksX6_ratesNow_1 15 rfl rfl)
theorem dX6_ratesNow_42 : decode cX6_ratesNow 42 = .ok (.iload_n 1, 1) := dk_27 (dk_at dksX6_ratesNow_1 18 rfl rfl)
theorem dX6_ratesNow_43 : decode cX6_ratesNow 43 = .ok (.ireturn, 1) := dk_172 (dk_at dksX6_ratesNow_1 19 rfl rfl)
abbrev cX6_ask : ByteArray := prog_14_method_70_code
def yX6_ask : MethodName := ⟨RX6, "ask", "(I)I"⟩
def dkwX6_ask_0 : List UInt8 := [42, 27, 182, 0, 144, 153, 0, 11, 42, 27, 182, 1, 8, 167, 0, 5, 16, 254, 172]
abbrev dktX6_ask_0 : List UInt8 := dkwX6_ask_0 ++ []
theorem dksX6_ask_0 : cX6_ask.data.toList.drop 0 = dktX6_ask_0 := by decide +kernel
theorem dX6_ask_0 : decode cX6_ask 0 = .ok (.aload_n 0, 1) := dk_42 (dk_at dksX6_ask_0 0 rfl rfl)
theorem dX6_ask_1 : decode cX6_ask 1 = .ok (.iload_n 1, 1) := dk_27 (dk_at dksX6_ask_0 1 rfl rfl)
theorem dX6_ask_2 : decode cX6_ask 2 = .ok (.invokevirtual 144, 3) := dk_182 0 144 (dk_at dksX6_ask_0 2 rfl rfl)
theorem dX6_ask_5 : decode cX6_ask 5 = .ok (.ifCond .eq 11, 3) := dk_153 0 11 (dk_at dksX6_ask_0 5 rfl rfl)
theorem dX6_ask_8 : decode cX6_ask 8 = .ok (.aload_n 0, 1) := dk_42 (dk_at dksX6_ask_0 8 rfl rfl)
theorem dX6_ask_9 : decode cX6_ask 9 = .ok (.iload_n 1, 1) := dk_27 (dk_at dksX6_ask_0 9 rfl rfl)
theorem dX6_ask_10 : decode cX6_ask 10 = .ok (.invokevirtual 264, 3) := dk_182 1 8 (dk_at dksX6_ask_0 10 rfl rfl)
theorem dX6_ask_13 : decode cX6_ask 13 = .ok (.goto 5, 3) := dk_167 0 5 (dk_at dksX6_ask_0 13 rfl rfl)
theorem dX6_ask_16 : decode cX6_ask 16 = .ok (.bipush (-2), 2) := dk_16 254 (dk_at dksX6_ask_0 16 rfl rfl)
theorem dX6_ask_18 : decode cX6_ask 18 = .ok (.ireturn, 1) := dk_172 (dk_at dksX6_ask_0 18 rfl rfl)
abbrev cX6_askOf : ByteArray := prog_14_method_69_code
def yX6_askOf : MethodName := ⟨RX6, "askOf", "(I)I"⟩
def dkwX6_askOf_7 : List UInt8 := [153, 0, 8, 21, 6, 167, 0, 5, 21, 4, 54, 4, 132, 5, 1, 167, 255, 90, 29, 172]
abbrev dktX6_askOf_7 : List UInt8 := dkwX6_askOf_7 ++ []
def dkwX6_askOf_6 : List UInt8 := [162, 0, 7, 4, 167, 0, 4, 3, 54, 7, 21, 7, 153, 0, 8, 21, 5, 167, 0, 4, 29, 62, 21, 7]
abbrev dktX6_askOf_6 : List UInt8 := dkwX6_askOf_6 ++ dktX6_askOf_7
def dkwX6_askOf_5 : List UInt8 := [21, 8, 167, 0, 5, 21, 6, 54, 6, 132, 7, 1, 167, 255, 154, 29, 2, 159, 0, 10, 21, 6, 21, 4]
abbrev dktX6_askOf_5 : List UInt8 := dkwX6_askOf_5 ++ dktX6_askOf_6
def dkwX6_askOf_4 : List UInt8 := [160, 0, 7, 4, 167, 0, 4, 3, 96, 54, 8, 132, 9, 1, 167, 255, 189, 21, 8, 21, 6, 164, 0, 8]
abbrev dktX6_askOf_4 : List UInt8 := dkwX6_askOf_4 ++ dktX6_askOf_5
def dkwX6_askOf_3 : List UInt8 := [16, 20, 21, 7, 104, 21, 5, 96, 46, 42, 180, 0, 77, 16, 20, 21, 9, 104, 21, 5, 96, 46]
abbrev dktX6_askOf_3 : List UInt8 := dkwX6_askOf_3 ++ dktX6_askOf_4
def dkwX6_askOf_2 : List UInt8 := [21, 8, 28, 21, 7, 184, 0, 174, 153, 0, 45, 28, 21, 9, 184, 0, 174, 153, 0, 36, 42, 180, 0, 77]
abbrev dktX6_askOf_2 : List UInt8 := dkwX6_askOf_2 ++ dktX6_askOf_3
def dkwX6_askOf_1 : List UInt8 := [3, 54, 7, 21, 7, 16, 10, 162, 0, 101, 3, 54, 8, 3, 54, 9, 21, 9, 16, 10, 162, 0, 66]
abbrev dktX6_askOf_1 : List UInt8 := dkwX6_askOf_1 ++ dktX6_askOf_2
def dkwX6_askOf_0 : List UInt8 := [42, 27, 182, 1, 2, 61, 2, 62, 3, 54, 4, 3, 54, 5, 21, 5, 16, 20, 162, 0, 165, 3, 54, 6]
abbrev dktX6_askOf_0 : List UInt8 := dkwX6_askOf_0 ++ dktX6_askOf_1
theorem dksX6_askOf_0 : cX6_askOf.data.toList.drop 0 = dktX6_askOf_0 := by decide +kernel
theorem dksX6_askOf_1 : cX6_askOf.data.toList.drop 24 = dktX6_askOf_1 := dk_seg dksX6_askOf_0 24 rfl rfl
theorem dksX6_askOf_2 : cX6_askOf.data.toList.drop 47 = dktX6_askOf_2 := dk_seg dksX6_askOf_1 23 rfl rfl
theorem dksX6_askOf_3 : cX6_askOf.data.toList.drop 71 = dktX6_askOf_3 := dk_seg dksX6_askOf_2 24 rfl rfl
theorem dksX6_askOf_4 : cX6_askOf.data.toList.drop 93 = dktX6_askOf_4 := dk_seg dksX6_askOf_3 22 rfl rfl
theorem dksX6_askOf_5 : cX6_askOf.data.toList.drop 117 = dktX6_askOf_5 := dk_seg dksX6_askOf_4 24 rfl rfl
theorem dksX6_askOf_6 : cX6_askOf.data.toList.drop 141 = dktX6_askOf_6 := dk_seg dksX6_askOf_5 24 rfl rfl
theorem dksX6_askOf_7 : cX6_askOf.data.toList.drop 165 = dktX6_askOf_7 := dk_seg dksX6_askOf_6 24 rfl rfl
theorem dX6_askOf_0 : decode cX6_askOf 0 = .ok (.aload_n 0, 1) := dk_42 (dk_at dksX6_askOf_0 0 rfl rfl)
theorem dX6_askOf_1 : decode cX6_askOf 1 = .ok (.iload_n 1, 1) := dk_27 (dk_at dksX6_askOf_0 1 rfl rfl)
theorem dX6_askOf_2 : decode cX6_askOf 2 = .ok (.invokevirtual 258, 3) := dk_182 1 2 (dk_at dksX6_askOf_0 2 rfl rfl)
theorem dX6_askOf_5 : decode cX6_askOf 5 = .ok (.istore_n 2, 1) := dk_61 (dk_at dksX6_askOf_0 5 rfl rfl)
theorem dX6_askOf_6 : decode cX6_askOf 6 = .ok (.iconst (-1), 1) := dk_2 (dk_at dksX6_askOf_0 6 rfl rfl)
theorem dX6_askOf_7 : decode cX6_askOf 7 = .ok (.istore_n 3, 1) := dk_62 (dk_at dksX6_askOf_0 7 rfl rfl)
theorem dX6_askOf_8 : decode cX6_askOf 8 = .ok (.iconst 0, 1) := dk_3 (dk_at dksX6_askOf_0 8 rfl rfl)
theorem dX6_askOf_9 : decode cX6_askOf 9 = .ok (.istore 4, 2) := dk_54 4 (dk_at dksX6_askOf_0 9 rfl rfl)
theorem dX6_askOf_11 : decode cX6_askOf 11 = .ok (.iconst 0, 1) := dk_3 (dk_at dksX6_askOf_0 11 rfl rfl)
theorem dX6_askOf_12 : decode cX6_askOf 12 = .ok (.istore 5, 2) := dk_54 5 (dk_at dksX6_askOf_0 12 rfl rfl)
theorem dX6_askOf_14 : decode cX6_askOf 14 = .ok (.iload 5, 2) := dk_21 5 (dk_at dksX6_askOf_0 14 rfl rfl)
theorem dX6_askOf_16 : decode cX6_askOf 16 = .ok (.bipush 20, 2) := dk_16 20 (dk_at dksX6_askOf_0 16 rfl rfl)
theorem dX6_askOf_18 : decode cX6_askOf 18 = .ok (.if_icmp .ge 165, 3) := dk_162 0 165 (dk_at dksX6_askOf_0 18 rfl rfl)
theorem dX6_askOf_21 : decode cX6_askOf 21 = .ok (.iconst 0, 1) := dk_3 (dk_at dksX6_askOf_0 21 rfl rfl)
theorem dX6_askOf_22 : decode cX6_askOf 22 = .ok (.istore 6, 2) := dk_54 6 (dk_at dksX6_askOf_0 22 rfl rfl)
theorem dX6_askOf_24 : decode cX6_askOf 24 = .ok (.iconst 0, 1) := dk_3 (dk_at dksX6_askOf_1 0 rfl rfl)
theorem dX6_askOf_25 : decode cX6_askOf 25 = .ok (.istore 7, 2) := dk_54 7 (dk_at dksX6_askOf_1 1 rfl rfl)
theorem dX6_askOf_27 : decode cX6_askOf 27 = .ok (.iload 7, 2) := dk_21 7 (dk_at dksX6_askOf_1 3 rfl rfl)
theorem dX6_askOf_29 : decode cX6_askOf 29 = .ok (.bipush 10, 2) := dk_16 10 (dk_at dksX6_askOf_1 5 rfl rfl)
theorem dX6_askOf_31 : decode cX6_askOf 31 = .ok (.if_icmp .ge 101, 3) := dk_162 0 101 (dk_at dksX6_askOf_1 7 rfl rfl)
theorem dX6_askOf_34 : decode cX6_askOf 34 = .ok (.iconst 0, 1) := dk_3 (dk_at dksX6_askOf_1 10 rfl rfl)
theorem dX6_askOf_35 : decode cX6_askOf 35 = .ok (.istore 8, 2) := dk_54 8 (dk_at dksX6_askOf_1 11 rfl rfl)
theorem dX6_askOf_37 : decode cX6_askOf 37 = .ok (.iconst 0, 1) := dk_3 (dk_at dksX6_askOf_1 13 rfl rfl)
theorem dX6_askOf_38 : decode cX6_askOf 38 = .ok (.istore 9, 2) := dk_54 9 (dk_at dksX6_askOf_1 14 rfl rfl)
theorem dX6_askOf_40 : decode cX6_askOf 40 = .ok (.iload 9, 2) := dk_21 9 (dk_at dksX6_askOf_1 16 rfl rfl)
theorem dX6_askOf_42 : decode cX6_askOf 42 = .ok (.bipush 10, 2) := dk_16 10 (dk_at dksX6_askOf_1 18 rfl rfl)
theorem dX6_askOf_44 : decode cX6_askOf 44 = .ok (.if_icmp .ge 66, 3) := dk_162 0 66 (dk_at dksX6_askOf_1 20 rfl rfl)
theorem dX6_askOf_47 : decode cX6_askOf 47 = .ok (.iload 8, 2) := dk_21 8 (dk_at dksX6_askOf_2 0 rfl rfl)
theorem dX6_askOf_49 : decode cX6_askOf 49 = .ok (.iload_n 2, 1) := dk_28 (dk_at dksX6_askOf_2 2 rfl rfl)
theorem dX6_askOf_50 : decode cX6_askOf 50 = .ok (.iload 7, 2) := dk_21 7 (dk_at dksX6_askOf_2 3 rfl rfl)
theorem dX6_askOf_52 : decode cX6_askOf 52 = .ok (.invokestatic 174, 3) := dk_184 0 174 (dk_at dksX6_askOf_2 5 rfl rfl)
theorem dX6_askOf_55 : decode cX6_askOf 55 = .ok (.ifCond .eq 45, 3) := dk_153 0 45 (dk_at dksX6_askOf_2 8 rfl rfl)
theorem dX6_askOf_58 : decode cX6_askOf 58 = .ok (.iload_n 2, 1) := dk_28 (dk_at dksX6_askOf_2 11 rfl rfl)
theorem dX6_askOf_59 : decode cX6_askOf 59 = .ok (.iload 9, 2) := dk_21 9 (dk_at dksX6_askOf_2 12 rfl rfl)
theorem dX6_askOf_61 : decode cX6_askOf 61 = .ok (.invokestatic 174, 3) := dk_184 0 174 (dk_at dksX6_askOf_2 14 rfl rfl)
theorem dX6_askOf_64 : decode cX6_askOf 64 = .ok (.ifCond .eq 36, 3) := dk_153 0 36 (dk_at dksX6_askOf_2 17 rfl rfl)
theorem dX6_askOf_67 : decode cX6_askOf 67 = .ok (.aload_n 0, 1) := dk_42 (dk_at dksX6_askOf_2 20 rfl rfl)
theorem dX6_askOf_68 : decode cX6_askOf 68 = .ok (.getfield 77, 3) := dk_180 0 77 (dk_at dksX6_askOf_2 21 rfl rfl)
theorem dX6_askOf_71 : decode cX6_askOf 71 = .ok (.bipush 20, 2) := dk_16 20 (dk_at dksX6_askOf_3 0 rfl rfl)
theorem dX6_askOf_73 : decode cX6_askOf 73 = .ok (.iload 7, 2) := dk_21 7 (dk_at dksX6_askOf_3 2 rfl rfl)
theorem dX6_askOf_75 : decode cX6_askOf 75 = .ok (.imul, 1) := dk_104 (dk_at dksX6_askOf_3 4 rfl rfl)
theorem dX6_askOf_76 : decode cX6_askOf 76 = .ok (.iload 5, 2) := dk_21 5 (dk_at dksX6_askOf_3 5 rfl rfl)
theorem dX6_askOf_78 : decode cX6_askOf 78 = .ok (.iadd, 1) := dk_96 (dk_at dksX6_askOf_3 7 rfl rfl)
theorem dX6_askOf_79 : decode cX6_askOf 79 = .ok (.iaload, 1) := dk_46 (dk_at dksX6_askOf_3 8 rfl rfl)
theorem dX6_askOf_80 : decode cX6_askOf 80 = .ok (.aload_n 0, 1) := dk_42 (dk_at dksX6_askOf_3 9 rfl rfl)
theorem dX6_askOf_81 : decode cX6_askOf 81 = .ok (.getfield 77, 3) := dk_180 0 77 (dk_at dksX6_askOf_3 10 rfl rfl)
theorem dX6_askOf_84 : decode cX6_askOf 84 = .ok (.bipush 20, 2) := dk_16 20 (dk_at dksX6_askOf_3 13 rfl rfl)
theorem dX6_askOf_86 : decode cX6_askOf 86 = .ok (.iload 9, 2) := dk_21 9 (dk_at dksX6_askOf_3 15 rfl rfl)
theorem dX6_askOf_88 : decode cX6_askOf 88 = .ok (.imul, 1) := dk_104 (dk_at dksX6_askOf_3 17 rfl rfl)
theorem dX6_askOf_89 : decode cX6_askOf 89 = .ok (.iload 5, 2) := dk_21 5 (dk_at dksX6_askOf_3 18 rfl rfl)
theorem dX6_askOf_91 : decode cX6_askOf 91 = .ok (.iadd, 1) := dk_96 (dk_at dksX6_askOf_3 20 rfl rfl)
theorem dX6_askOf_92 : decode cX6_askOf 92 = .ok (.iaload, 1) := dk_46 (dk_at dksX6_askOf_3 21 rfl rfl)
theorem dX6_askOf_93 : decode cX6_askOf 93 = .ok (.if_icmp .ne 7, 3) := dk_160 0 7 (dk_at dksX6_askOf_4 0 rfl rfl)
theorem dX6_askOf_96 : decode cX6_askOf 96 = .ok (.iconst 1, 1) := dk_4 (dk_at dksX6_askOf_4 3 rfl rfl)
theorem dX6_askOf_97 : decode cX6_askOf 97 = .ok (.goto 4, 3) := dk_167 0 4 (dk_at dksX6_askOf_4 4 rfl rfl)
theorem dX6_askOf_100 : decode cX6_askOf 100 = .ok (.iconst 0, 1) := dk_3 (dk_at dksX6_askOf_4 7 rfl rfl)
theorem dX6_askOf_101 : decode cX6_askOf 101 = .ok (.iadd, 1) := dk_96 (dk_at dksX6_askOf_4 8 rfl rfl)
theorem dX6_askOf_102 : decode cX6_askOf 102 = .ok (.istore 8, 2) := dk_54 8 (dk_at dksX6_askOf_4 9 rfl rfl)
theorem dX6_askOf_104 : decode cX6_askOf 104 = .ok (.iinc 9 1, 3) := dk_132 9 1 (dk_at dksX6_askOf_4 11 rfl rfl)
theorem dX6_askOf_107 : decode cX6_askOf 107 = .ok (.goto (-67), 3) := dk_167 255 189 (dk_at dksX6_askOf_4 14 rfl rfl)
theorem dX6_askOf_110 : decode cX6_askOf 110 = .ok (.iload 8, 2) := dk_21 8 (dk_at dksX6_askOf_4 17 rfl rfl)
theorem dX6_askOf_112 : decode cX6_askOf 112 = .ok (.iload 6, 2) := dk_21 6 (dk_at dksX6_askOf_4 19 rfl rfl)
theorem dX6_askOf_114 : decode cX6_askOf 114 = .ok (.if_icmp .le 8, 3) := dk_164 0 8 (dk_at dksX6_askOf_4 21 rfl rfl)
theorem dX6_askOf_117 : decode cX6_askOf 117 = .ok (.iload 8, 2) := dk_21 8 (dk_at dksX6_askOf_5 0 rfl rfl)
theorem dX6_askOf_119 : decode cX6_askOf 119 = .ok (.goto 5, 3) := dk_167 0 5 (dk_at dksX6_askOf_5 2 rfl rfl)
theorem dX6_askOf_122 : decode cX6_askOf 122 = .ok (.iload 6, 2) := dk_21 6 (dk_at dksX6_askOf_5 5 rfl rfl)
theorem dX6_askOf_124 : decode cX6_askOf 124 = .ok (.istore 6, 2) := dk_54 6 (dk_at dksX6_askOf_5 7 rfl rfl)
theorem dX6_askOf_126 : decode cX6_askOf 126 = .ok (.iinc 7 1, 3) := dk_132 7 1 (dk_at dksX6_askOf_5 9 rfl rfl)
theorem dX6_askOf_129 : decode cX6_askOf 129 = .ok (.goto (-102), 3) := dk_167 255 154 (dk_at dksX6_askOf_5 12 rfl rfl)
theorem dX6_askOf_132 : decode cX6_askOf 132 = .ok (.iload_n 3, 1) := dk_29 (dk_at dksX6_askOf_5 15 rfl rfl)
theorem dX6_askOf_133 : decode cX6_askOf 133 = .ok (.iconst (-1), 1) := dk_2 (dk_at dksX6_askOf_5 16 rfl rfl)
theorem dX6_askOf_134 : decode cX6_askOf 134 = .ok (.if_icmp .eq 10, 3) := dk_159 0 10 (dk_at dksX6_askOf_5 17 rfl rfl)
theorem dX6_askOf_137 : decode cX6_askOf 137 = .ok (.iload 6, 2) := dk_21 6 (dk_at dksX6_askOf_5 20 rfl rfl)
theorem dX6_askOf_139 : decode cX6_askOf 139 = .ok (.iload 4, 2) := dk_21 4 (dk_at dksX6_askOf_5 22 rfl rfl)
theorem dX6_askOf_141 : decode cX6_askOf 141 = .ok (.if_icmp .ge 7, 3) := dk_162 0 7 (dk_at dksX6_askOf_6 0 rfl rfl)
theorem dX6_askOf_144 : decode cX6_askOf 144 = .ok (.iconst 1, 1) := dk_4 (dk_at dksX6_askOf_6 3 rfl rfl)
theorem dX6_askOf_145 : decode cX6_askOf 145 = .ok (.goto 4, 3) := dk_167 0 4 (dk_at dksX6_askOf_6 4 rfl rfl)
theorem dX6_askOf_148 : decode cX6_askOf 148 = .ok (.iconst 0, 1) := dk_3 (dk_at dksX6_askOf_6 7 rfl rfl)
theorem dX6_askOf_149 : decode cX6_askOf 149 = .ok (.istore 7, 2) := dk_54 7 (dk_at dksX6_askOf_6 8 rfl rfl)
theorem dX6_askOf_151 : decode cX6_askOf 151 = .ok (.iload 7, 2) := dk_21 7 (dk_at dksX6_askOf_6 10 rfl rfl)
theorem dX6_askOf_153 : decode cX6_askOf 153 = .ok (.ifCond .eq 8, 3) := dk_153 0 8 (dk_at dksX6_askOf_6 12 rfl rfl)
theorem dX6_askOf_156 : decode cX6_askOf 156 = .ok (.iload 5, 2) := dk_21 5 (dk_at dksX6_askOf_6 15 rfl rfl)
theorem dX6_askOf_158 : decode cX6_askOf 158 = .ok (.goto 4, 3) := dk_167 0 4 (dk_at dksX6_askOf_6 17 rfl rfl)
theorem dX6_askOf_161 : decode cX6_askOf 161 = .ok (.iload_n 3, 1) := dk_29 (dk_at dksX6_askOf_6 20 rfl rfl)
theorem dX6_askOf_162 : decode cX6_askOf 162 = .ok (.istore_n 3, 1) := dk_62 (dk_at dksX6_askOf_6 21 rfl rfl)
theorem dX6_askOf_163 : decode cX6_askOf 163 = .ok (.iload 7, 2) := dk_21 7 (dk_at dksX6_askOf_6 22 rfl rfl)
theorem dX6_askOf_165 : decode cX6_askOf 165 = .ok (.ifCond .eq 8, 3) := dk_153 0 8 (dk_at dksX6_askOf_7 0 rfl rfl)
theorem dX6_askOf_168 : decode cX6_askOf 168 = .ok (.iload 6, 2) := dk_21 6 (dk_at dksX6_askOf_7 3 rfl rfl)
theorem dX6_askOf_170 : decode cX6_askOf 170 = .ok (.goto 5, 3) := dk_167 0 5 (dk_at dksX6_askOf_7 5 rfl rfl)
theorem dX6_askOf_173 : decode cX6_askOf 173 = .ok (.iload 4, 2) := dk_21 4 (dk_at dksX6_askOf_7 8 rfl rfl)
theorem dX6_askOf_175 : decode cX6_askOf 175 = .ok (.istore 4, 2) := dk_54 4 (dk_at dksX6_askOf_7 10 rfl rfl)
theorem dX6_askOf_177 : decode cX6_askOf 177 = .ok (.iinc 5 1, 3) := dk_132 5 1 (dk_at dksX6_askOf_7 12 rfl rfl)
theorem dX6_askOf_180 : decode cX6_askOf 180 = .ok (.goto (-166), 3) := dk_167 255 90 (dk_at dksX6_askOf_7 15 rfl rfl)
theorem dX6_askOf_183 : decode cX6_askOf 183 = .ok (.iload_n 3, 1) := dk_29 (dk_at dksX6_askOf_7 18 rfl rfl)
theorem dX6_askOf_184 : decode cX6_askOf 184 = .ok (.ireturn, 1) := dk_172 (dk_at dksX6_askOf_7 19 rfl rfl)
abbrev cX6_peace : ByteArray := prog_14_method_72_code
def yX6_peace : MethodName := ⟨RX6, "peace", "(II)J"⟩
def dkwX6_peace_1 : List UInt8 := [182, 1, 15, 167, 0, 8, 16, 254, 184, 1, 19, 173]
abbrev dktX6_peace_1 : List UInt8 := dkwX6_peace_1 ++ []
def dkwX6_peace_0 : List UInt8 := [27, 3, 16, 16, 184, 0, 104, 153, 0, 21, 28, 3, 4, 184, 0, 104, 153, 0, 12, 42, 27, 28]
abbrev dktX6_peace_0 : List UInt8 := dkwX6_peace_0 ++ dktX6_peace_1
theorem dksX6_peace_0 : cX6_peace.data.toList.drop 0 = dktX6_peace_0 := by decide +kernel
theorem dksX6_peace_1 : cX6_peace.data.toList.drop 22 = dktX6_peace_1 := dk_seg dksX6_peace_0 22 rfl rfl
theorem dX6_peace_0 : decode cX6_peace 0 = .ok (.iload_n 1, 1) := dk_27 (dk_at dksX6_peace_0 0 rfl rfl)
theorem dX6_peace_1 : decode cX6_peace 1 = .ok (.iconst 0, 1) := dk_3 (dk_at dksX6_peace_0 1 rfl rfl)
theorem dX6_peace_2 : decode cX6_peace 2 = .ok (.bipush 16, 2) := dk_16 16 (dk_at dksX6_peace_0 2 rfl rfl)
theorem dX6_peace_4 : decode cX6_peace 4 = .ok (.invokestatic 104, 3) := dk_184 0 104 (dk_at dksX6_peace_0 4 rfl rfl)
theorem dX6_peace_7 : decode cX6_peace 7 = .ok (.ifCond .eq 21, 3) := dk_153 0 21 (dk_at dksX6_peace_0 7 rfl rfl)
theorem dX6_peace_10 : decode cX6_peace 10 = .ok (.iload_n 2, 1) := dk_28 (dk_at dksX6_peace_0 10 rfl rfl)
theorem dX6_peace_11 : decode cX6_peace 11 = .ok (.iconst 0, 1) := dk_3 (dk_at dksX6_peace_0 11 rfl rfl)
theorem dX6_peace_12 : decode cX6_peace 12 = .ok (.iconst 1, 1) := dk_4 (dk_at dksX6_peace_0 12 rfl rfl)
theorem dX6_peace_13 : decode cX6_peace 13 = .ok (.invokestatic 104, 3) := dk_184 0 104 (dk_at dksX6_peace_0 13 rfl rfl)
theorem dX6_peace_16 : decode cX6_peace 16 = .ok (.ifCond .eq 12, 3) := dk_153 0 12 (dk_at dksX6_peace_0 16 rfl rfl)
theorem dX6_peace_19 : decode cX6_peace 19 = .ok (.aload_n 0, 1) := dk_42 (dk_at dksX6_peace_0 19 rfl rfl)
theorem dX6_peace_20 : decode cX6_peace 20 = .ok (.iload_n 1, 1) := dk_27 (dk_at dksX6_peace_0 20 rfl rfl)
theorem dX6_peace_21 : decode cX6_peace 21 = .ok (.iload_n 2, 1) := dk_28 (dk_at dksX6_peace_0 21 rfl rfl)
theorem dX6_peace_22 : decode cX6_peace 22 = .ok (.invokevirtual 271, 3) := dk_182 1 15 (dk_at dksX6_peace_1 0 rfl rfl)
theorem dX6_peace_25 : decode cX6_peace 25 = .ok (.goto 8, 3) := dk_167 0 8 (dk_at dksX6_peace_1 3 rfl rfl)
theorem dX6_peace_28 : decode cX6_peace 28 = .ok (.bipush (-2), 2) := dk_16 254 (dk_at dksX6_peace_1 6 rfl rfl)
theorem dX6_peace_30 : decode cX6_peace 30 = .ok (.invokestatic 275, 3) := dk_184 1 19 (dk_at dksX6_peace_1 8 rfl rfl)
theorem dX6_peace_33 : decode cX6_peace 33 = .ok (.lreturn, 1) := dk_173 (dk_at dksX6_peace_1 11 rfl rfl)
abbrev cX6_peaceOf : ByteArray := prog_14_method_71_code
def yX6_peaceOf : MethodName := ⟨RX6, "peaceOf", "(II)J"⟩
def dkwX6_peaceOf_4 : List UInt8 := [132, 5, 1, 167, 255, 168, 33, 10, 7, 42, 180, 0, 159, 104, 121, 28, 184, 1, 11, 173]
abbrev dktX6_peaceOf_4 : List UInt8 := dkwX6_peaceOf_4 ++ []
def dkwX6_peaceOf_3 : List UInt8 := [182, 0, 181, 42, 182, 0, 204, 33, 42, 180, 0, 191, 2, 160, 0, 8, 22, 6, 167, 0, 4, 9, 97, 66]
abbrev dktX6_peaceOf_3 : List UInt8 := dkwX6_peaceOf_3 ++ dktX6_peaceOf_4
def dkwX6_peaceOf_2 : List UInt8 := [16, 16, 27, 100, 133, 167, 0, 5, 27, 133, 105, 55, 6, 132, 8, 1, 167, 255, 219, 42, 3, 21, 5]
abbrev dktX6_peaceOf_2 : List UInt8 := dkwX6_peaceOf_2 ++ dktX6_peaceOf_3
def dkwX6_peaceOf_1 : List UInt8 := [54, 8, 21, 8, 42, 180, 0, 159, 162, 0, 34, 22, 6, 21, 5, 21, 8, 184, 0, 174, 153, 0, 11]
abbrev dktX6_peaceOf_1 : List UInt8 := dkwX6_peaceOf_1 ++ dktX6_peaceOf_2
def dkwX6_peaceOf_0 : List UInt8 := [42, 182, 0, 201, 9, 66, 3, 54, 5, 21, 5, 4, 42, 180, 0, 159, 120, 162, 0, 83, 10, 55, 6, 3]
abbrev dktX6_peaceOf_0 : List UInt8 := dkwX6_peaceOf_0 ++ dktX6_peaceOf_1
theorem dksX6_peaceOf_0 : cX6_peaceOf.data.toList.drop 0 = dktX6_peaceOf_0 := by decide +kernel
theorem dksX6_peaceOf_1 : cX6_peaceOf.data.toList.drop 24 = dktX6_peaceOf_1 := dk_seg dksX6_peaceOf_0 24 rfl rfl
theorem dksX6_peaceOf_2 : cX6_peaceOf.data.toList.drop 47 = dktX6_peaceOf_2 := dk_seg dksX6_peaceOf_1 23 rfl rfl
theorem dksX6_peaceOf_3 : cX6_peaceOf.data.toList.drop 70 = dktX6_peaceOf_3 := dk_seg dksX6_peaceOf_2 23 rfl rfl
theorem dksX6_peaceOf_4 : cX6_peaceOf.data.toList.drop 94 = dktX6_peaceOf_4 := dk_seg dksX6_peaceOf_3 24 rfl rfl
theorem dX6_peaceOf_0 : decode cX6_peaceOf 0 = .ok (.aload_n 0, 1) := dk_42 (dk_at dksX6_peaceOf_0 0 rfl rfl)
theorem dX6_peaceOf_1 : decode cX6_peaceOf 1 = .ok (.invokevirtual 201, 3) := dk_182 0 201 (dk_at dksX6_peaceOf_0 1 rfl rfl)
theorem dX6_peaceOf_4 : decode cX6_peaceOf 4 = .ok (.lconst 0, 1) := dk_9 (dk_at dksX6_peaceOf_0 4 rfl rfl)
theorem dX6_peaceOf_5 : decode cX6_peaceOf 5 = .ok (.lstore_n 3, 1) := dk_66 (dk_at dksX6_peaceOf_0 5 rfl rfl)
theorem dX6_peaceOf_6 : decode cX6_peaceOf 6 = .ok (.iconst 0, 1) := dk_3 (dk_at dksX6_peaceOf_0 6 rfl rfl)
theorem dX6_peaceOf_7 : decode cX6_peaceOf 7 = .ok (.istore 5, 2) := dk_54 5 (dk_at dksX6_peaceOf_0 7 rfl rfl)
theorem dX6_peaceOf_9 : decode cX6_peaceOf 9 = .ok (.iload 5, 2) := dk_21 5 (dk_at dksX6_peaceOf_0 9 rfl rfl)
theorem dX6_peaceOf_11 : decode cX6_peaceOf 11 = .ok (.iconst 1, 1) := dk_4 (dk_at dksX6_peaceOf_0 11 rfl rfl)
theorem dX6_peaceOf_12 : decode cX6_peaceOf 12 = .ok (.aload_n 0, 1) := dk_42 (dk_at dksX6_peaceOf_0 12 rfl rfl)
theorem dX6_peaceOf_13 : decode cX6_peaceOf 13 = .ok (.getfield 159, 3) := dk_180 0 159 (dk_at dksX6_peaceOf_0 13 rfl rfl)
theorem dX6_peaceOf_16 : decode cX6_peaceOf 16 = .ok (.ishl, 1) := dk_120 (dk_at dksX6_peaceOf_0 16 rfl rfl)
theorem dX6_peaceOf_17 : decode cX6_peaceOf 17 = .ok (.if_icmp .ge 83, 3) := dk_162 0 83 (dk_at dksX6_peaceOf_0 17 rfl rfl)
theorem dX6_peaceOf_20 : decode cX6_peaceOf 20 = .ok (.lconst 1, 1) := dk_10 (dk_at dksX6_peaceOf_0 20 rfl rfl)
theorem dX6_peaceOf_21 : decode cX6_peaceOf 21 = .ok (.lstore 6, 2) := dk_55 6 (dk_at dksX6_peaceOf_0 21 rfl rfl)
theorem dX6_peaceOf_23 : decode cX6_peaceOf 23 = .ok (.iconst 0, 1) := dk_3 (dk_at dksX6_peaceOf_0 23 rfl rfl)
theorem dX6_peaceOf_24 : decode cX6_peaceOf 24 = .ok (.istore 8, 2) := dk_54 8 (dk_at dksX6_peaceOf_1 0 rfl rfl)
theorem dX6_peaceOf_26 : decode cX6_peaceOf 26 = .ok (.iload 8, 2) := dk_21 8 (dk_at dksX6_peaceOf_1 2 rfl rfl)
theorem dX6_peaceOf_28 : decode cX6_peaceOf 28 = .ok (.aload_n 0, 1) := dk_42 (dk_at dksX6_peaceOf_1 4 rfl rfl)
theorem dX6_peaceOf_29 : decode cX6_peaceOf 29 = .ok (.getfield 159, 3) := dk_180 0 159 (dk_at dksX6_peaceOf_1 5 rfl rfl)
theorem dX6_peaceOf_32 : decode cX6_peaceOf 32 = .ok (.if_icmp .ge 34, 3) := dk_162 0 34 (dk_at dksX6_peaceOf_1 8 rfl rfl)
theorem dX6_peaceOf_35 : decode cX6_peaceOf 35 = .ok (.lload 6, 2) := dk_22 6 (dk_at dksX6_peaceOf_1 11 rfl rfl)
theorem dX6_peaceOf_37 : decode cX6_peaceOf 37 = .ok (.iload 5, 2) := dk_21 5 (dk_at dksX6_peaceOf_1 13 rfl rfl)
theorem dX6_peaceOf_39 : decode cX6_peaceOf 39 = .ok (.iload 8, 2) := dk_21 8 (dk_at dksX6_peaceOf_1 15 rfl rfl)
theorem dX6_peaceOf_41 : decode cX6_peaceOf 41 = .ok (.invokestatic 174, 3) := dk_184 0 174 (dk_at dksX6_peaceOf_1 17 rfl rfl)
theorem dX6_peaceOf_44 : decode cX6_peaceOf 44 = .ok (.ifCond .eq 11, 3) := dk_153 0 11 (dk_at dksX6_peaceOf_1 20 rfl rfl)
theorem dX6_peaceOf_47 : decode cX6_peaceOf 47 = .ok (.bipush 16, 2) := dk_16 16 (dk_at dksX6_peaceOf_2 0 rfl rfl)
theorem dX6_peaceOf_49 : decode cX6_peaceOf 49 = .ok (.iload_n 1, 1) := dk_27 (dk_at dksX6_peaceOf_2 2 rfl rfl)
theorem dX6_peaceOf_50 : decode cX6_peaceOf 50 = .ok (.isub, 1) := dk_100 (dk_at dksX6_peaceOf_2 3 rfl rfl)
theorem dX6_peaceOf_51 : decode cX6_peaceOf 51 = .ok (.i2l, 1) := dk_133 (dk_at dksX6_peaceOf_2 4 rfl rfl)
theorem dX6_peaceOf_52 : decode cX6_peaceOf 52 = .ok (.goto 5, 3) := dk_167 0 5 (dk_at dksX6_peaceOf_2 5 rfl rfl)
theorem dX6_peaceOf_55 : decode cX6_peaceOf 55 = .ok (.iload_n 1, 1) := dk_27 (dk_at dksX6_peaceOf_2 8 rfl rfl)
theorem dX6_peaceOf_56 : decode cX6_peaceOf 56 = .ok (.i2l, 1) := dk_133 (dk_at dksX6_peaceOf_2 9 rfl rfl)
theorem dX6_peaceOf_57 : decode cX6_peaceOf 57 = .ok (.lmul, 1) := dk_105 (dk_at dksX6_peaceOf_2 10 rfl rfl)
theorem dX6_peaceOf_58 : decode cX6_peaceOf 58 = .ok (.lstore 6, 2) := dk_55 6 (dk_at dksX6_peaceOf_2 11 rfl rfl)
theorem dX6_peaceOf_60 : decode cX6_peaceOf 60 = .ok (.iinc 8 1, 3) := dk_132 8 1 (dk_at dksX6_peaceOf_2 13 rfl rfl)
theorem dX6_peaceOf_63 : decode cX6_peaceOf 63 = .ok (.goto (-37), 3) := dk_167 255 219 (dk_at dksX6_peaceOf_2 16 rfl rfl)
theorem dX6_peaceOf_66 : decode cX6_peaceOf 66 = .ok (.aload_n 0, 1) := dk_42 (dk_at dksX6_peaceOf_2 19 rfl rfl)
theorem dX6_peaceOf_67 : decode cX6_peaceOf 67 = .ok (.iconst 0, 1) := dk_3 (dk_at dksX6_peaceOf_2 20 rfl rfl)
theorem dX6_peaceOf_68 : decode cX6_peaceOf 68 = .ok (.iload 5, 2) := dk_21 5 (dk_at dksX6_peaceOf_2 21 rfl rfl)
theorem dX6_peaceOf_70 : decode cX6_peaceOf 70 = .ok (.invokevirtual 181, 3) := dk_182 0 181 (dk_at dksX6_peaceOf_3 0 rfl rfl)
theorem dX6_peaceOf_73 : decode cX6_peaceOf 73 = .ok (.aload_n 0, 1) := dk_42 (dk_at dksX6_peaceOf_3 3 rfl rfl)
theorem dX6_peaceOf_74 : decode cX6_peaceOf 74 = .ok (.invokevirtual 204, 3) := dk_182 0 204 (dk_at dksX6_peaceOf_3 4 rfl rfl)
theorem dX6_peaceOf_77 : decode cX6_peaceOf 77 = .ok (.lload_n 3, 1) := dk_33 (dk_at dksX6_peaceOf_3 7 rfl rfl)
theorem dX6_peaceOf_78 : decode cX6_peaceOf 78 = .ok (.aload_n 0, 1) := dk_42 (dk_at dksX6_peaceOf_3 8 rfl rfl)
theorem dX6_peaceOf_79 : decode cX6_peaceOf 79 = .ok (.getfield 191, 3) := dk_180 0 191 (dk_at dksX6_peaceOf_3 9 rfl rfl)
theorem dX6_peaceOf_82 : decode cX6_peaceOf 82 = .ok (.iconst (-1), 1) := dk_2 (dk_at dksX6_peaceOf_3 12 rfl rfl)
theorem dX6_peaceOf_83 : decode cX6_peaceOf 83 = .ok (.if_icmp .ne 8, 3) := dk_160 0 8 (dk_at dksX6_peaceOf_3 13 rfl rfl)
theorem dX6_peaceOf_86 : decode cX6_peaceOf 86 = .ok (.lload 6, 2) := dk_22 6 (dk_at dksX6_peaceOf_3 16 rfl rfl)
theorem dX6_peaceOf_88 : decode cX6_peaceOf 88 = .ok (.goto 4, 3) := dk_167 0 4 (dk_at dksX6_peaceOf_3 18 rfl rfl)
theorem dX6_peaceOf_91 : decode cX6_peaceOf 91 = .ok (.lconst 0, 1) := dk_9 (dk_at dksX6_peaceOf_3 21 rfl rfl)
theorem dX6_peaceOf_92 : decode cX6_peaceOf 92 = .ok (.ladd, 1) := dk_97 (dk_at dksX6_peaceOf_3 22 rfl rfl)
theorem dX6_peaceOf_93 : decode cX6_peaceOf 93 = .ok (.lstore_n 3, 1) := dk_66 (dk_at dksX6_peaceOf_3 23 rfl rfl)
theorem dX6_peaceOf_94 : decode cX6_peaceOf 94 = .ok (.iinc 5 1, 3) := dk_132 5 1 (dk_at dksX6_peaceOf_4 0 rfl rfl)
theorem dX6_peaceOf_97 : decode cX6_peaceOf 97 = .ok (.goto (-88), 3) := dk_167 255 168 (dk_at dksX6_peaceOf_4 3 rfl rfl)
theorem dX6_peaceOf_100 : decode cX6_peaceOf 100 = .ok (.lload_n 3, 1) := dk_33 (dk_at dksX6_peaceOf_4 6 rfl rfl)
theorem dX6_peaceOf_101 : decode cX6_peaceOf 101 = .ok (.lconst 1, 1) := dk_10 (dk_at dksX6_peaceOf_4 7 rfl rfl)
theorem dX6_peaceOf_102 : decode cX6_peaceOf 102 = .ok (.iconst 4, 1) := dk_7 (dk_at dksX6_peaceOf_4 8 rfl rfl)
theorem dX6_peaceOf_103 : decode cX6_peaceOf 103 = .ok (.aload_n 0, 1) := dk_42 (dk_at dksX6_peaceOf_4 9 rfl rfl)
theorem dX6_peaceOf_104 : decode cX6_peaceOf 104 = .ok (.getfield 159, 3) := dk_180 0 159 (dk_at dksX6_peaceOf_4 10 rfl rfl)
theorem dX6_peaceOf_107 : decode cX6_peaceOf 107 = .ok (.imul, 1) := dk_104 (dk_at dksX6_peaceOf_4 13 rfl rfl)
theorem dX6_peaceOf_108 : decode cX6_peaceOf 108 = .ok (.lshl, 1) := dk_121 (dk_at dksX6_peaceOf_4 14 rfl rfl)
theorem dX6_peaceOf_109 : decode cX6_peaceOf 109 = .ok (.iload_n 2, 1) := dk_28 (dk_at dksX6_peaceOf_4 15 rfl rfl)
theorem dX6_peaceOf_110 : decode cX6_peaceOf 110 = .ok (.invokestatic 267, 3) := dk_184 1 11 (dk_at dksX6_peaceOf_4 16 rfl rfl)
theorem dX6_peaceOf_113 : decode cX6_peaceOf 113 = .ok (.lreturn, 1) := dk_173 (dk_at dksX6_peaceOf_4 19 rfl rfl)
abbrev cX6_lowest : ByteArray := prog_14_method_6_code
def yX6_lowest : MethodName := ⟨RX6, "lowest", "(JJI)J"⟩
def dkwX6_lowest_1 : List UInt8 := [22, 9, 55, 7, 167, 255, 234, 21, 4, 154, 0, 10, 30, 22, 5, 109, 167, 0, 7, 32, 22, 5, 109, 173]
abbrev dktX6_lowest_1 : List UInt8 := dkwX6_lowest_1 ++ []
def dkwX6_lowest_0 : List UInt8 := [30, 55, 5, 32, 55, 7, 22, 7, 9, 148, 153, 0, 21, 22, 5, 22, 7, 113, 55, 9, 22, 7, 55, 5]
abbrev dktX6_lowest_0 : List UInt8 := dkwX6_lowest_0 ++ dktX6_lowest_1
theorem dksX6_lowest_0 : cX6_lowest.data.toList.drop 0 = dktX6_lowest_0 := by decide +kernel
theorem dksX6_lowest_1 : cX6_lowest.data.toList.drop 24 = dktX6_lowest_1 := dk_seg dksX6_lowest_0 24 rfl rfl
theorem dX6_lowest_0 : decode cX6_lowest 0 = .ok (.lload_n 0, 1) := dk_30 (dk_at dksX6_lowest_0 0 rfl rfl)
theorem dX6_lowest_1 : decode cX6_lowest 1 = .ok (.lstore 5, 2) := dk_55 5 (dk_at dksX6_lowest_0 1 rfl rfl)
theorem dX6_lowest_3 : decode cX6_lowest 3 = .ok (.lload_n 2, 1) := dk_32 (dk_at dksX6_lowest_0 3 rfl rfl)
theorem dX6_lowest_4 : decode cX6_lowest 4 = .ok (.lstore 7, 2) := dk_55 7 (dk_at dksX6_lowest_0 4 rfl rfl)
theorem dX6_lowest_6 : decode cX6_lowest 6 = .ok (.lload 7, 2) := dk_22 7 (dk_at dksX6_lowest_0 6 rfl rfl)
theorem dX6_lowest_8 : decode cX6_lowest 8 = .ok (.lconst 0, 1) := dk_9 (dk_at dksX6_lowest_0 8 rfl rfl)
theorem dX6_lowest_9 : decode cX6_lowest 9 = .ok (.lcmp, 1) := dk_148 (dk_at dksX6_lowest_0 9 rfl rfl)
theorem dX6_lowest_10 : decode cX6_lowest 10 = .ok (.ifCond .eq 21, 3) := dk_153 0 21 (dk_at dksX6_lowest_0 10 rfl rfl)
theorem dX6_lowest_13 : decode cX6_lowest 13 = .ok (.lload 5, 2) := dk_22 5 (dk_at dksX6_lowest_0 13 rfl rfl)
theorem dX6_lowest_15 : decode cX6_lowest 15 = .ok (.lload 7, 2) := dk_22 7 (dk_at dksX6_lowest_0 15 rfl rfl)
theorem dX6_lowest_17 : decode cX6_lowest 17 = .ok (.lrem, 1) := dk_113 (dk_at dksX6_lowest_0 17 rfl rfl)
theorem dX6_lowest_18 : decode cX6_lowest 18 = .ok (.lstore 9, 2) := dk_55 9 (dk_at dksX6_lowest_0 18 rfl rfl)
theorem dX6_lowest_20 : decode cX6_lowest 20 = .ok (.lload 7, 2) := dk_22 7 (dk_at dksX6_lowest_0 20 rfl rfl)
theorem dX6_lowest_22 : decode cX6_lowest 22 = .ok (.lstore 5, 2) := dk_55 5 (dk_at dksX6_lowest_0 22 rfl rfl)
theorem dX6_lowest_24 : decode cX6_lowest 24 = .ok (.lload 9, 2) := dk_22 9 (dk_at dksX6_lowest_1 0 rfl rfl)
theorem dX6_lowest_26 : decode cX6_lowest 26 = .ok (.lstore 7, 2) := dk_55 7 (dk_at dksX6_lowest_1 2 rfl rfl)
theorem dX6_lowest_28 : decode cX6_lowest 28 = .ok (.goto (-22), 3) := dk_167 255 234 (dk_at dksX6_lowest_1 4 rfl rfl)
theorem dX6_lowest_31 : decode cX6_lowest 31 = .ok (.iload 4, 2) := dk_21 4 (dk_at dksX6_lowest_1 7 rfl rfl)
theorem dX6_lowest_33 : decode cX6_lowest 33 = .ok (.ifCond .ne 10, 3) := dk_154 0 10 (dk_at dksX6_lowest_1 9 rfl rfl)
theorem dX6_lowest_36 : decode cX6_lowest 36 = .ok (.lload_n 0, 1) := dk_30 (dk_at dksX6_lowest_1 12 rfl rfl)
theorem dX6_lowest_37 : decode cX6_lowest 37 = .ok (.lload 5, 2) := dk_22 5 (dk_at dksX6_lowest_1 13 rfl rfl)
theorem dX6_lowest_39 : decode cX6_lowest 39 = .ok (.ldiv, 1) := dk_109 (dk_at dksX6_lowest_1 15 rfl rfl)
theorem dX6_lowest_40 : decode cX6_lowest 40 = .ok (.goto 7, 3) := dk_167 0 7 (dk_at dksX6_lowest_1 16 rfl rfl)
theorem dX6_lowest_43 : decode cX6_lowest 43 = .ok (.lload_n 2, 1) := dk_32 (dk_at dksX6_lowest_1 19 rfl rfl)
theorem dX6_lowest_44 : decode cX6_lowest 44 = .ok (.lload 5, 2) := dk_22 5 (dk_at dksX6_lowest_1 20 rfl rfl)
theorem dX6_lowest_46 : decode cX6_lowest 46 = .ok (.ldiv, 1) := dk_109 (dk_at dksX6_lowest_1 22 rfl rfl)
theorem dX6_lowest_47 : decode cX6_lowest 47 = .ok (.lreturn, 1) := dk_173 (dk_at dksX6_lowest_1 23 rfl rfl)
abbrev cX6_no : ByteArray := prog_14_method_5_code
def yX6_no : MethodName := ⟨RX6, "no", "(I)J"⟩
def dkwX6_no_0 : List UInt8 := [20, 0, 102, 26, 133, 101, 173]
abbrev dktX6_no_0 : List UInt8 := dkwX6_no_0 ++ []
theorem dksX6_no_0 : cX6_no.data.toList.drop 0 = dktX6_no_0 := by decide +kernel
theorem dX6_no_0 : decode cX6_no 0 = .ok (.ldc2_w 102, 3) := dk_20 0 102 (dk_at dksX6_no_0 0 rfl rfl)
theorem dX6_no_3 : decode cX6_no 3 = .ok (.iload_n 0, 1) := dk_26 (dk_at dksX6_no_0 3 rfl rfl)
theorem dX6_no_4 : decode cX6_no 4 = .ok (.i2l, 1) := dk_133 (dk_at dksX6_no_0 4 rfl rfl)
theorem dX6_no_5 : decode cX6_no 5 = .ok (.lsub, 1) := dk_101 (dk_at dksX6_no_0 5 rfl rfl)
theorem dX6_no_6 : decode cX6_no 6 = .ok (.lreturn, 1) := dk_173 (dk_at dksX6_no_0 6 rfl rfl)
abbrev cX6_term : ByteArray := prog_14_method_74_code
def yX6_term : MethodName := ⟨RX6, "term", "(III)I"⟩
def dkwX6_term_1 : List UInt8 := [182, 1, 24, 167, 0, 5, 16, 254, 172]
abbrev dktX6_term_1 : List UInt8 := dkwX6_term_1 ++ []
def dkwX6_term_0 : List UInt8 := [28, 4, 16, 20, 184, 0, 104, 153, 0, 22, 29, 3, 4, 184, 0, 104, 153, 0, 13, 42, 27, 28, 29]
abbrev dktX6_term_0 : List UInt8 := dkwX6_term_0 ++ dktX6_term_1
theorem dksX6_term_0 : cX6_term.data.toList.drop 0 = dktX6_term_0 := by decide +kernel
theorem dksX6_term_1 : cX6_term.data.toList.drop 23 = dktX6_term_1 := dk_seg dksX6_term_0 23 rfl rfl
theorem dX6_term_0 : decode cX6_term 0 = .ok (.iload_n 2, 1) := dk_28 (dk_at dksX6_term_0 0 rfl rfl)
theorem dX6_term_1 : decode cX6_term 1 = .ok (.iconst 1, 1) := dk_4 (dk_at dksX6_term_0 1 rfl rfl)
theorem dX6_term_2 : decode cX6_term 2 = .ok (.bipush 20, 2) := dk_16 20 (dk_at dksX6_term_0 2 rfl rfl)
theorem dX6_term_4 : decode cX6_term 4 = .ok (.invokestatic 104, 3) := dk_184 0 104 (dk_at dksX6_term_0 4 rfl rfl)
theorem dX6_term_7 : decode cX6_term 7 = .ok (.ifCond .eq 22, 3) := dk_153 0 22 (dk_at dksX6_term_0 7 rfl rfl)
theorem dX6_term_10 : decode cX6_term 10 = .ok (.iload_n 3, 1) := dk_29 (dk_at dksX6_term_0 10 rfl rfl)
theorem dX6_term_11 : decode cX6_term 11 = .ok (.iconst 0, 1) := dk_3 (dk_at dksX6_term_0 11 rfl rfl)
theorem dX6_term_12 : decode cX6_term 12 = .ok (.iconst 1, 1) := dk_4 (dk_at dksX6_term_0 12 rfl rfl)
theorem dX6_term_13 : decode cX6_term 13 = .ok (.invokestatic 104, 3) := dk_184 0 104 (dk_at dksX6_term_0 13 rfl rfl)
theorem dX6_term_16 : decode cX6_term 16 = .ok (.ifCond .eq 13, 3) := dk_153 0 13 (dk_at dksX6_term_0 16 rfl rfl)
theorem dX6_term_19 : decode cX6_term 19 = .ok (.aload_n 0, 1) := dk_42 (dk_at dksX6_term_0 19 rfl rfl)
theorem dX6_term_20 : decode cX6_term 20 = .ok (.iload_n 1, 1) := dk_27 (dk_at dksX6_term_0 20 rfl rfl)
theorem dX6_term_21 : decode cX6_term 21 = .ok (.iload_n 2, 1) := dk_28 (dk_at dksX6_term_0 21 rfl rfl)
theorem dX6_term_22 : decode cX6_term 22 = .ok (.iload_n 3, 1) := dk_29 (dk_at dksX6_term_0 22 rfl rfl)
theorem dX6_term_23 : decode cX6_term 23 = .ok (.invokevirtual 280, 3) := dk_182 1 24 (dk_at dksX6_term_1 0 rfl rfl)
theorem dX6_term_26 : decode cX6_term 26 = .ok (.goto 5, 3) := dk_167 0 5 (dk_at dksX6_term_1 3 rfl rfl)
theorem dX6_term_29 : decode cX6_term 29 = .ok (.bipush (-2), 2) := dk_16 254 (dk_at dksX6_term_1 6 rfl rfl)
theorem dX6_term_31 : decode cX6_term 31 = .ok (.ireturn, 1) := dk_172 (dk_at dksX6_term_1 8 rfl rfl)
abbrev cX6_termOf : ByteArray := prog_14_method_73_code
def yX6_termOf : MethodName := ⟨RX6, "termOf", "(III)I"⟩
def dkwX6_termOf_3 : List UInt8 := [29, 154, 0, 12, 42, 16, 19, 182, 0, 210, 167, 0, 7, 42, 180, 0, 191, 172]
abbrev dktX6_termOf_3 : List UInt8 := dkwX6_termOf_3 ++ []
def dkwX6_termOf_2 : List UInt8 := [16, 16, 124, 42, 180, 0, 122, 112, 104, 21, 5, 96, 4, 84, 132, 5, 1, 167, 255, 206, 42, 182, 0, 204]
abbrev dktX6_termOf_2 : List UInt8 := dkwX6_termOf_2 ++ dktX6_termOf_3
def dkwX6_termOf_1 : List UInt8 := [158, 0, 43, 19, 1, 23, 21, 4, 104, 17, 48, 57, 96, 54, 4, 42, 180, 0, 40, 16, 20, 21, 4]
abbrev dktX6_termOf_1 : List UInt8 := dkwX6_termOf_1 ++ dktX6_termOf_2
def dkwX6_termOf_0 : List UInt8 := [42, 182, 0, 201, 27, 54, 4, 42, 182, 0, 171, 3, 54, 5, 21, 5, 28, 162, 0, 50, 42, 180, 0, 122]
abbrev dktX6_termOf_0 : List UInt8 := dkwX6_termOf_0 ++ dktX6_termOf_1
theorem dksX6_termOf_0 : cX6_termOf.data.toList.drop 0 = dktX6_termOf_0 := by decide +kernel
theorem dksX6_termOf_1 : cX6_termOf.data.toList.drop 24 = dktX6_termOf_1 := dk_seg dksX6_termOf_0 24 rfl rfl
theorem dksX6_termOf_2 : cX6_termOf.data.toList.drop 47 = dktX6_termOf_2 := dk_seg dksX6_termOf_1 23 rfl rfl
theorem dksX6_termOf_3 : cX6_termOf.data.toList.drop 71 = dktX6_termOf_3 := dk_seg dksX6_termOf_2 24 rfl rfl
theorem dX6_termOf_0 : decode cX6_termOf 0 = .ok (.aload_n 0, 1) := dk_42 (dk_at dksX6_termOf_0 0 rfl rfl)
theorem dX6_termOf_1 : decode cX6_termOf 1 = .ok (.invokevirtual 201, 3) := dk_182 0 201 (dk_at dksX6_termOf_0 1 rfl rfl)
theorem dX6_termOf_4 : decode cX6_termOf 4 = .ok (.iload_n 1, 1) := dk_27 (dk_at dksX6_termOf_0 4 rfl rfl)
theorem dX6_termOf_5 : decode cX6_termOf 5 = .ok (.istore 4, 2) := dk_54 4 (dk_at dksX6_termOf_0 5 rfl rfl)
theorem dX6_termOf_7 : decode cX6_termOf 7 = .ok (.aload_n 0, 1) := dk_42 (dk_at dksX6_termOf_0 7 rfl rfl)
theorem dX6_termOf_8 : decode cX6_termOf 8 = .ok (.invokevirtual 171, 3) := dk_182 0 171 (dk_at dksX6_termOf_0 8 rfl rfl)
theorem dX6_termOf_11 : decode cX6_termOf 11 = .ok (.iconst 0, 1) := dk_3 (dk_at dksX6_termOf_0 11 rfl rfl)
theorem dX6_termOf_12 : decode cX6_termOf 12 = .ok (.istore 5, 2) := dk_54 5 (dk_at dksX6_termOf_0 12 rfl rfl)
theorem dX6_termOf_14 : decode cX6_termOf 14 = .ok (.iload 5, 2) := dk_21 5 (dk_at dksX6_termOf_0 14 rfl rfl)
theorem dX6_termOf_16 : decode cX6_termOf 16 = .ok (.iload_n 2, 1) := dk_28 (dk_at dksX6_termOf_0 16 rfl rfl)
theorem dX6_termOf_17 : decode cX6_termOf 17 = .ok (.if_icmp .ge 50, 3) := dk_162 0 50 (dk_at dksX6_termOf_0 17 rfl rfl)
theorem dX6_termOf_20 : decode cX6_termOf 20 = .ok (.aload_n 0, 1) := dk_42 (dk_at dksX6_termOf_0 20 rfl rfl)
theorem dX6_termOf_21 : decode cX6_termOf 21 = .ok (.getfield 122, 3) := dk_180 0 122 (dk_at dksX6_termOf_0 21 rfl rfl)
theorem dX6_termOf_24 : decode cX6_termOf 24 = .ok (.ifCond .le 43, 3) := dk_158 0 43 (dk_at dksX6_termOf_1 0 rfl rfl)
theorem dX6_termOf_27 : decode cX6_termOf 27 = .ok (.ldc_w 279, 3) := dk_19 1 23 (dk_at dksX6_termOf_1 3 rfl rfl)
theorem dX6_termOf_30 : decode cX6_termOf 30 = .ok (.iload 4, 2) := dk_21 4 (dk_at dksX6_termOf_1 6 rfl rfl)
theorem dX6_termOf_32 : decode cX6_termOf 32 = .ok (.imul, 1) := dk_104 (dk_at dksX6_termOf_1 8 rfl rfl)
theorem dX6_termOf_33 : decode cX6_termOf 33 = .ok (.sipush 12345, 3) := dk_17 48 57 (dk_at dksX6_termOf_1 9 rfl rfl)
theorem dX6_termOf_36 : decode cX6_termOf 36 = .ok (.iadd, 1) := dk_96 (dk_at dksX6_termOf_1 12 rfl rfl)
theorem dX6_termOf_37 : decode cX6_termOf 37 = .ok (.istore 4, 2) := dk_54 4 (dk_at dksX6_termOf_1 13 rfl rfl)
theorem dX6_termOf_39 : decode cX6_termOf 39 = .ok (.aload_n 0, 1) := dk_42 (dk_at dksX6_termOf_1 15 rfl rfl)
theorem dX6_termOf_40 : decode cX6_termOf 40 = .ok (.getfield 40, 3) := dk_180 0 40 (dk_at dksX6_termOf_1 16 rfl rfl)
theorem dX6_termOf_43 : decode cX6_termOf 43 = .ok (.bipush 20, 2) := dk_16 20 (dk_at dksX6_termOf_1 19 rfl rfl)
theorem dX6_termOf_45 : decode cX6_termOf 45 = .ok (.iload 4, 2) := dk_21 4 (dk_at dksX6_termOf_1 21 rfl rfl)
theorem dX6_termOf_47 : decode cX6_termOf 47 = .ok (.bipush 16, 2) := dk_16 16 (dk_at dksX6_termOf_2 0 rfl rfl)
theorem dX6_termOf_49 : decode cX6_termOf 49 = .ok (.iushr, 1) := dk_124 (dk_at dksX6_termOf_2 2 rfl rfl)
theorem dX6_termOf_50 : decode cX6_termOf 50 = .ok (.aload_n 0, 1) := dk_42 (dk_at dksX6_termOf_2 3 rfl rfl)
theorem dX6_termOf_51 : decode cX6_termOf 51 = .ok (.getfield 122, 3) := dk_180 0 122 (dk_at dksX6_termOf_2 4 rfl rfl)
theorem dX6_termOf_54 : decode cX6_termOf 54 = .ok (.irem, 1) := dk_112 (dk_at dksX6_termOf_2 7 rfl rfl)
theorem dX6_termOf_55 : decode cX6_termOf 55 = .ok (.imul, 1) := dk_104 (dk_at dksX6_termOf_2 8 rfl rfl)
theorem dX6_termOf_56 : decode cX6_termOf 56 = .ok (.iload 5, 2) := dk_21 5 (dk_at dksX6_termOf_2 9 rfl rfl)
theorem dX6_termOf_58 : decode cX6_termOf 58 = .ok (.iadd, 1) := dk_96 (dk_at dksX6_termOf_2 11 rfl rfl)
theorem dX6_termOf_59 : decode cX6_termOf 59 = .ok (.iconst 1, 1) := dk_4 (dk_at dksX6_termOf_2 12 rfl rfl)
theorem dX6_termOf_60 : decode cX6_termOf 60 = .ok (.bastore, 1) := dk_84 (dk_at dksX6_termOf_2 13 rfl rfl)
theorem dX6_termOf_61 : decode cX6_termOf 61 = .ok (.iinc 5 1, 3) := dk_132 5 1 (dk_at dksX6_termOf_2 14 rfl rfl)
theorem dX6_termOf_64 : decode cX6_termOf 64 = .ok (.goto (-50), 3) := dk_167 255 206 (dk_at dksX6_termOf_2 17 rfl rfl)
theorem dX6_termOf_67 : decode cX6_termOf 67 = .ok (.aload_n 0, 1) := dk_42 (dk_at dksX6_termOf_2 20 rfl rfl)
theorem dX6_termOf_68 : decode cX6_termOf 68 = .ok (.invokevirtual 204, 3) := dk_182 0 204 (dk_at dksX6_termOf_2 21 rfl rfl)
theorem dX6_termOf_71 : decode cX6_termOf 71 = .ok (.iload_n 3, 1) := dk_29 (dk_at dksX6_termOf_3 0 rfl rfl)
theorem dX6_termOf_72 : decode cX6_termOf 72 = .ok (.ifCond .ne 12, 3) := dk_154 0 12 (dk_at dksX6_termOf_3 1 rfl rfl)
theorem dX6_termOf_75 : decode cX6_termOf 75 = .ok (.aload_n 0, 1) := dk_42 (dk_at dksX6_termOf_3 4 rfl rfl)
theorem dX6_termOf_76 : decode cX6_termOf 76 = .ok (.bipush 19, 2) := dk_16 19 (dk_at dksX6_termOf_3 5 rfl rfl)
theorem dX6_termOf_78 : decode cX6_termOf 78 = .ok (.invokevirtual 210, 3) := dk_182 0 210 (dk_at dksX6_termOf_3 7 rfl rfl)
theorem dX6_termOf_81 : decode cX6_termOf 81 = .ok (.goto 7, 3) := dk_167 0 7 (dk_at dksX6_termOf_3 10 rfl rfl)
theorem dX6_termOf_84 : decode cX6_termOf 84 = .ok (.aload_n 0, 1) := dk_42 (dk_at dksX6_termOf_3 13 rfl rfl)
theorem dX6_termOf_85 : decode cX6_termOf 85 = .ok (.getfield 191, 3) := dk_180 0 191 (dk_at dksX6_termOf_3 14 rfl rfl)
theorem dX6_termOf_88 : decode cX6_termOf 88 = .ok (.ireturn, 1) := dk_172 (dk_at dksX6_termOf_3 17 rfl rfl)
abbrev cX6_sheet : ByteArray := prog_14_method_77_code
def yX6_sheet : MethodName := ⟨RX6, "sheet", "(III)I"⟩
def dkwX6_sheet_3 : List UInt8 := [27, 104, 21, 4, 96, 3, 79, 132, 4, 1, 167, 255, 233, 29, 172]
abbrev dktX6_sheet_3 : List UInt8 := dkwX6_sheet_3 ++ []
def dkwX6_sheet_2 : List UInt8 := [79, 42, 180, 0, 86, 27, 29, 79, 3, 54, 4, 21, 4, 16, 60, 162, 0, 22, 42, 180, 0, 89, 16, 60]
abbrev dktX6_sheet_2 : List UInt8 := dkwX6_sheet_2 ++ dktX6_sheet_3
def dkwX6_sheet_1 : List UInt8 := [172, 29, 156, 0, 9, 42, 8, 182, 0, 165, 172, 42, 180, 0, 80, 27, 4, 84, 42, 180, 0, 83, 27, 28]
abbrev dktX6_sheet_1 : List UInt8 := dkwX6_sheet_1 ++ dktX6_sheet_2
def dkwX6_sheet_0 : List UInt8 := [27, 184, 0, 162, 153, 0, 18, 28, 3, 5, 184, 0, 104, 153, 0, 9, 29, 16, 60, 164, 0, 6, 16, 254]
abbrev dktX6_sheet_0 : List UInt8 := dkwX6_sheet_0 ++ dktX6_sheet_1
theorem dksX6_sheet_0 : cX6_sheet.data.toList.drop 0 = dktX6_sheet_0 := by decide +kernel
theorem dksX6_sheet_1 : cX6_sheet.data.toList.drop 24 = dktX6_sheet_1 := dk_seg dksX6_sheet_0 24 rfl rfl
theorem dksX6_sheet_2 : cX6_sheet.data.toList.drop 48 = dktX6_sheet_2 := dk_seg dksX6_sheet_1 24 rfl rfl
theorem dksX6_sheet_3 : cX6_sheet.data.toList.drop 72 = dktX6_sheet_3 := dk_seg dksX6_sheet_2 24 rfl rfl
theorem dX6_sheet_0 : decode cX6_sheet 0 = .ok (.iload_n 1, 1) := dk_27 (dk_at dksX6_sheet_0 0 rfl rfl)
theorem dX6_sheet_1 : decode cX6_sheet 1 = .ok (.invokestatic 162, 3) := dk_184 0 162 (dk_at dksX6_sheet_0 1 rfl rfl)
theorem dX6_sheet_4 : decode cX6_sheet 4 = .ok (.ifCond .eq 18, 3) := dk_153 0 18 (dk_at dksX6_sheet_0 4 rfl rfl)
theorem dX6_sheet_7 : decode cX6_sheet 7 = .ok (.iload_n 2, 1) := dk_28 (dk_at dksX6_sheet_0 7 rfl rfl)
theorem dX6_sheet_8 : decode cX6_sheet 8 = .ok (.iconst 0, 1) := dk_3 (dk_at dksX6_sheet_0 8 rfl rfl)
theorem dX6_sheet_9 : decode cX6_sheet 9 = .ok (.iconst 2, 1) := dk_5 (dk_at dksX6_sheet_0 9 rfl rfl)
theorem dX6_sheet_10 : decode cX6_sheet 10 = .ok (.invokestatic 104, 3) := dk_184 0 104 (dk_at dksX6_sheet_0 10 rfl rfl)
theorem dX6_sheet_13 : decode cX6_sheet 13 = .ok (.ifCond .eq 9, 3) := dk_153 0 9 (dk_at dksX6_sheet_0 13 rfl rfl)
theorem dX6_sheet_16 : decode cX6_sheet 16 = .ok (.iload_n 3, 1) := dk_29 (dk_at dksX6_sheet_0 16 rfl rfl)
theorem dX6_sheet_17 : decode cX6_sheet 17 = .ok (.bipush 60, 2) := dk_16 60 (dk_at dksX6_sheet_0 17 rfl rfl)
theorem dX6_sheet_19 : decode cX6_sheet 19 = .ok (.if_icmp .le 6, 3) := dk_164 0 6 (dk_at dksX6_sheet_0 19 rfl rfl)
theorem dX6_sheet_22 : decode cX6_sheet 22 = .ok (.bipush (-2), 2) := dk_16 254 (dk_at dksX6_sheet_0 22 rfl rfl)
theorem dX6_sheet_24 : decode cX6_sheet 24 = .ok (.ireturn, 1) := dk_172 (dk_at dksX6_sheet_1 0 rfl rfl)
theorem dX6_sheet_25 : decode cX6_sheet 25 = .ok (.iload_n 3, 1) := dk_29 (dk_at dksX6_sheet_1 1 rfl rfl)
theorem dX6_sheet_26 : decode cX6_sheet 26 = .ok (.ifCond .ge 9, 3) := dk_156 0 9 (dk_at dksX6_sheet_1 2 rfl rfl)
theorem dX6_sheet_29 : decode cX6_sheet 29 = .ok (.aload_n 0, 1) := dk_42 (dk_at dksX6_sheet_1 5 rfl rfl)
theorem dX6_sheet_30 : decode cX6_sheet 30 = .ok (.iconst 5, 1) := dk_8 (dk_at dksX6_sheet_1 6 rfl rfl)
theorem dX6_sheet_31 : decode cX6_sheet 31 = .ok (.invokevirtual 165, 3) := dk_182 0 165 (dk_at dksX6_sheet_1 7 rfl rfl)
theorem dX6_sheet_34 : decode cX6_sheet 34 = .ok (.ireturn, 1) := dk_172 (dk_at dksX6_sheet_1 10 rfl rfl)
theorem dX6_sheet_35 : decode cX6_sheet 35 = .ok (.aload_n 0, 1) := dk_42 (dk_at dksX6_sheet_1 11 rfl rfl)
theorem dX6_sheet_36 : decode cX6_sheet 36 = .ok (.getfield 80, 3) := dk_180 0 80 (dk_at dksX6_sheet_1 12 rfl rfl)
theorem dX6_sheet_39 : decode cX6_sheet 39 = .ok (.iload_n 1, 1) := dk_27 (dk_at dksX6_sheet_1 15 rfl rfl)
theorem dX6_sheet_40 : decode cX6_sheet 40 = .ok (.iconst 1, 1) := dk_4 (dk_at dksX6_sheet_1 16 rfl rfl)
theorem dX6_sheet_41 : decode cX6_sheet 41 = .ok (.bastore, 1) := dk_84 (dk_at dksX6_sheet_1 17 rfl rfl)
theorem dX6_sheet_42 : decode cX6_sheet 42 = .ok (.aload_n 0, 1) := dk_42 (dk_at dksX6_sheet_1 18 rfl rfl)
theorem dX6_sheet_43 : decode cX6_sheet 43 = .ok (.getfield 83, 3) := dk_180 0 83 (dk_at dksX6_sheet_1 19 rfl rfl)
theorem dX6_sheet_46 : decode cX6_sheet 46 = .ok (.iload_n 1, 1) := dk_27 (dk_at dksX6_sheet_1 22 rfl rfl)
theorem dX6_sheet_47 : decode cX6_sheet 47 = .ok (.iload_n 2, 1) := dk_28 (dk_at dksX6_sheet_1 23 rfl rfl)
theorem dX6_sheet_48 : decode cX6_sheet 48 = .ok (.iastore, 1) := dk_79 (dk_at dksX6_sheet_2 0 rfl rfl)
theorem dX6_sheet_49 : decode cX6_sheet 49 = .ok (.aload_n 0, 1) := dk_42 (dk_at dksX6_sheet_2 1 rfl rfl)
theorem dX6_sheet_50 : decode cX6_sheet 50 = .ok (.getfield 86, 3) := dk_180 0 86 (dk_at dksX6_sheet_2 2 rfl rfl)
theorem dX6_sheet_53 : decode cX6_sheet 53 = .ok (.iload_n 1, 1) := dk_27 (dk_at dksX6_sheet_2 5 rfl rfl)
theorem dX6_sheet_54 : decode cX6_sheet 54 = .ok (.iload_n 3, 1) := dk_29 (dk_at dksX6_sheet_2 6 rfl rfl)
theorem dX6_sheet_55 : decode cX6_sheet 55 = .ok (.iastore, 1) := dk_79 (dk_at dksX6_sheet_2 7 rfl rfl)
theorem dX6_sheet_56 : decode cX6_sheet 56 = .ok (.iconst 0, 1) := dk_3 (dk_at dksX6_sheet_2 8 rfl rfl)
theorem dX6_sheet_57 : decode cX6_sheet 57 = .ok (.istore 4, 2) := dk_54 4 (dk_at dksX6_sheet_2 9 rfl rfl)
theorem dX6_sheet_59 : decode cX6_sheet 59 = .ok (.iload 4, 2) := dk_21 4 (dk_at dksX6_sheet_2 11 rfl rfl)
theorem dX6_sheet_61 : decode cX6_sheet 61 = .ok (.bipush 60, 2) := dk_16 60 (dk_at dksX6_sheet_2 13 rfl rfl)
theorem dX6_sheet_63 : decode cX6_sheet 63 = .ok (.if_icmp .ge 22, 3) := dk_162 0 22 (dk_at dksX6_sheet_2 15 rfl rfl)
theorem dX6_sheet_66 : decode cX6_sheet 66 = .ok (.aload_n 0, 1) := dk_42 (dk_at dksX6_sheet_2 18 rfl rfl)
theorem dX6_sheet_67 : decode cX6_sheet 67 = .ok (.getfield 89, 3) := dk_180 0 89 (dk_at dksX6_sheet_2 19 rfl rfl)
theorem dX6_sheet_70 : decode cX6_sheet 70 = .ok (.bipush 60, 2) := dk_16 60 (dk_at dksX6_sheet_2 22 rfl rfl)
theorem dX6_sheet_72 : decode cX6_sheet 72 = .ok (.iload_n 1, 1) := dk_27 (dk_at dksX6_sheet_3 0 rfl rfl)
theorem dX6_sheet_73 : decode cX6_sheet 73 = .ok (.imul, 1) := dk_104 (dk_at dksX6_sheet_3 1 rfl rfl)
theorem dX6_sheet_74 : decode cX6_sheet 74 = .ok (.iload 4, 2) := dk_21 4 (dk_at dksX6_sheet_3 2 rfl rfl)
theorem dX6_sheet_76 : decode cX6_sheet 76 = .ok (.iadd, 1) := dk_96 (dk_at dksX6_sheet_3 4 rfl rfl)
theorem dX6_sheet_77 : decode cX6_sheet 77 = .ok (.iconst 0, 1) := dk_3 (dk_at dksX6_sheet_3 5 rfl rfl)
theorem dX6_sheet_78 : decode cX6_sheet 78 = .ok (.iastore, 1) := dk_79 (dk_at dksX6_sheet_3 6 rfl rfl)
theorem dX6_sheet_79 : decode cX6_sheet 79 = .ok (.iinc 4 1, 3) := dk_132 4 1 (dk_at dksX6_sheet_3 7 rfl rfl)
theorem dX6_sheet_82 : decode cX6_sheet 82 = .ok (.goto (-23), 3) := dk_167 255 233 (dk_at dksX6_sheet_3 10 rfl rfl)
theorem dX6_sheet_85 : decode cX6_sheet 85 = .ok (.iload_n 3, 1) := dk_29 (dk_at dksX6_sheet_3 13 rfl rfl)
theorem dX6_sheet_86 : decode cX6_sheet 86 = .ok (.ireturn, 1) := dk_172 (dk_at dksX6_sheet_3 14 rfl rfl)
abbrev cX6_lose : ByteArray := prog_14_method_78_code
def yX6_lose : MethodName := ⟨RX6, "lose", "(I)I"⟩
def dkwX6_lose_1 : List UInt8 := [172, 42, 180, 0, 80, 27, 3, 84, 42, 180, 0, 86, 27, 46, 172]
abbrev dktX6_lose_1 : List UInt8 := dkwX6_lose_1 ++ []
def dkwX6_lose_0 : List UInt8 := [27, 184, 0, 162, 154, 0, 6, 16, 254, 172, 42, 180, 0, 80, 27, 51, 154, 0, 9, 42, 4, 182, 0, 165]
abbrev dktX6_lose_0 : List UInt8 := dkwX6_lose_0 ++ dktX6_lose_1
theorem dksX6_lose_0 : cX6_lose.data.toList.drop 0 = dktX6_lose_0 := by decide +kernel
theorem dksX6_lose_1 : cX6_lose.data.toList.drop 24 = dktX6_lose_1 := dk_seg dksX6_lose_0 24 rfl rfl
theorem dX6_lose_0 : decode cX6_lose 0 = .ok (.iload_n 1, 1) := dk_27 (dk_at dksX6_lose_0 0 rfl rfl)
theorem dX6_lose_1 : decode cX6_lose 1 = .ok (.invokestatic 162, 3) := dk_184 0 162 (dk_at dksX6_lose_0 1 rfl rfl)
theorem dX6_lose_4 : decode cX6_lose 4 = .ok (.ifCond .ne 6, 3) := dk_154 0 6 (dk_at dksX6_lose_0 4 rfl rfl)
theorem dX6_lose_7 : decode cX6_lose 7 = .ok (.bipush (-2), 2) := dk_16 254 (dk_at dksX6_lose_0 7 rfl rfl)
theorem dX6_lose_9 : decode cX6_lose 9 = .ok (.ireturn, 1) := dk_172 (dk_at dksX6_lose_0 9 rfl rfl)
theorem dX6_lose_10 : decode cX6_lose 10 = .ok (.aload_n 0, 1) := dk_42 (dk_at dksX6_lose_0 10 rfl rfl)
theorem dX6_lose_11 : decode cX6_lose 11 = .ok (.getfield 80, 3) := dk_180 0 80 (dk_at dksX6_lose_0 11 rfl rfl)
theorem dX6_lose_14 : decode cX6_lose 14 = .ok (.iload_n 1, 1) := dk_27 (dk_at dksX6_lose_0 14 rfl rfl)
theorem dX6_lose_15 : decode cX6_lose 15 = .ok (.baload, 1) := dk_51 (dk_at dksX6_lose_0 15 rfl rfl)
theorem dX6_lose_16 : decode cX6_lose 16 = .ok (.ifCond .ne 9, 3) := dk_154 0 9 (dk_at dksX6_lose_0 16 rfl rfl)
theorem dX6_lose_19 : decode cX6_lose 19 = .ok (.aload_n 0, 1) := dk_42 (dk_at dksX6_lose_0 19 rfl rfl)
theorem dX6_lose_20 : decode cX6_lose 20 = .ok (.iconst 1, 1) := dk_4 (dk_at dksX6_lose_0 20 rfl rfl)
theorem dX6_lose_21 : decode cX6_lose 21 = .ok (.invokevirtual 165, 3) := dk_182 0 165 (dk_at dksX6_lose_0 21 rfl rfl)
theorem dX6_lose_24 : decode cX6_lose 24 = .ok (.ireturn, 1) := dk_172 (dk_at dksX6_lose_1 0 rfl rfl)
theorem dX6_lose_25 : decode cX6_lose 25 = .ok (.aload_n 0, 1) := dk_42 (dk_at dksX6_lose_1 1 rfl rfl)
theorem dX6_lose_26 : decode cX6_lose 26 = .ok (.getfield 80, 3) := dk_180 0 80 (dk_at dksX6_lose_1 2 rfl rfl)
theorem dX6_lose_29 : decode cX6_lose 29 = .ok (.iload_n 1, 1) := dk_27 (dk_at dksX6_lose_1 5 rfl rfl)
theorem dX6_lose_30 : decode cX6_lose 30 = .ok (.iconst 0, 1) := dk_3 (dk_at dksX6_lose_1 6 rfl rfl)
theorem dX6_lose_31 : decode cX6_lose 31 = .ok (.bastore, 1) := dk_84 (dk_at dksX6_lose_1 7 rfl rfl)
theorem dX6_lose_32 : decode cX6_lose 32 = .ok (.aload_n 0, 1) := dk_42 (dk_at dksX6_lose_1 8 rfl rfl)
theorem dX6_lose_33 : decode cX6_lose 33 = .ok (.getfield 86, 3) := dk_180 0 86 (dk_at dksX6_lose_1 9 rfl rfl)
theorem dX6_lose_36 : decode cX6_lose 36 = .ok (.iload_n 1, 1) := dk_27 (dk_at dksX6_lose_1 12 rfl rfl)
theorem dX6_lose_37 : decode cX6_lose 37 = .ok (.iaload, 1) := dk_46 (dk_at dksX6_lose_1 13 rfl rfl)
theorem dX6_lose_38 : decode cX6_lose 38 = .ok (.ireturn, 1) := dk_172 (dk_at dksX6_lose_1 14 rfl rfl)
abbrev cX6_put : ByteArray := prog_14_method_81_code
def yX6_put : MethodName := ⟨RX6, "put", "(IIII)I"⟩
def dkwX6_put_2 : List UInt8 := [182, 1, 33, 4, 172]
abbrev dktX6_put_2 : List UInt8 := dkwX6_put_2 ++ []
def dkwX6_put_1 : List UInt8 := [182, 1, 30, 54, 5, 21, 5, 158, 0, 10, 42, 21, 5, 182, 0, 165, 172, 42, 27, 29, 21, 4]
abbrev dktX6_put_1 : List UInt8 := dkwX6_put_1 ++ dktX6_put_2
def dkwX6_put_0 : List UInt8 := [27, 184, 0, 162, 153, 0, 12, 28, 3, 5, 184, 0, 104, 154, 0, 6, 16, 254, 172, 42, 27, 28, 29]
abbrev dktX6_put_0 : List UInt8 := dkwX6_put_0 ++ dktX6_put_1
theorem dksX6_put_0 : cX6_put.data.toList.drop 0 = dktX6_put_0 := by decide +kernel
theorem dksX6_put_1 : cX6_put.data.toList.drop 23 = dktX6_put_1 := dk_seg dksX6_put_0 23 rfl rfl
theorem dksX6_put_2 : cX6_put.data.toList.drop 45 = dktX6_put_2 := dk_seg dksX6_put_1 22 rfl rfl
theorem dX6_put_0 : decode cX6_put 0 = .ok (.iload_n 1, 1) := dk_27 (dk_at dksX6_put_0 0 rfl rfl)
theorem dX6_put_1 : decode cX6_put 1 = .ok (.invokestatic 162, 3) := dk_184 0 162 (dk_at dksX6_put_0 1 rfl rfl)
theorem dX6_put_4 : decode cX6_put 4 = .ok (.ifCond .eq 12, 3) := dk_153 0 12 (dk_at dksX6_put_0 4 rfl rfl)
theorem dX6_put_7 : decode cX6_put 7 = .ok (.iload_n 2, 1) := dk_28 (dk_at dksX6_put_0 7 rfl rfl)
theorem dX6_put_8 : decode cX6_put 8 = .ok (.iconst 0, 1) := dk_3 (dk_at dksX6_put_0 8 rfl rfl)
theorem dX6_put_9 : decode cX6_put 9 = .ok (.iconst 2, 1) := dk_5 (dk_at dksX6_put_0 9 rfl rfl)
theorem dX6_put_10 : decode cX6_put 10 = .ok (.invokestatic 104, 3) := dk_184 0 104 (dk_at dksX6_put_0 10 rfl rfl)
theorem dX6_put_13 : decode cX6_put 13 = .ok (.ifCond .ne 6, 3) := dk_154 0 6 (dk_at dksX6_put_0 13 rfl rfl)
theorem dX6_put_16 : decode cX6_put 16 = .ok (.bipush (-2), 2) := dk_16 254 (dk_at dksX6_put_0 16 rfl rfl)
theorem dX6_put_18 : decode cX6_put 18 = .ok (.ireturn, 1) := dk_172 (dk_at dksX6_put_0 18 rfl rfl)
theorem dX6_put_19 : decode cX6_put 19 = .ok (.aload_n 0, 1) := dk_42 (dk_at dksX6_put_0 19 rfl rfl)
theorem dX6_put_20 : decode cX6_put 20 = .ok (.iload_n 1, 1) := dk_27 (dk_at dksX6_put_0 20 rfl rfl)
theorem dX6_put_21 : decode cX6_put 21 = .ok (.iload_n 2, 1) := dk_28 (dk_at dksX6_put_0 21 rfl rfl)
theorem dX6_put_22 : decode cX6_put 22 = .ok (.iload_n 3, 1) := dk_29 (dk_at dksX6_put_0 22 rfl rfl)
theorem dX6_put_23 : decode cX6_put 23 = .ok (.invokevirtual 286, 3) := dk_182 1 30 (dk_at dksX6_put_1 0 rfl rfl)
theorem dX6_put_26 : decode cX6_put 26 = .ok (.istore 5, 2) := dk_54 5 (dk_at dksX6_put_1 3 rfl rfl)
theorem dX6_put_28 : decode cX6_put 28 = .ok (.iload 5, 2) := dk_21 5 (dk_at dksX6_put_1 5 rfl rfl)
theorem dX6_put_30 : decode cX6_put 30 = .ok (.ifCond .le 10, 3) := dk_158 0 10 (dk_at dksX6_put_1 7 rfl rfl)
theorem dX6_put_33 : decode cX6_put 33 = .ok (.aload_n 0, 1) := dk_42 (dk_at dksX6_put_1 10 rfl rfl)
theorem dX6_put_34 : decode cX6_put 34 = .ok (.iload 5, 2) := dk_21 5 (dk_at dksX6_put_1 11 rfl rfl)
theorem dX6_put_36 : decode cX6_put 36 = .ok (.invokevirtual 165, 3) := dk_182 0 165 (dk_at dksX6_put_1 13 rfl rfl)
theorem dX6_put_39 : decode cX6_put 39 = .ok (.ireturn, 1) := dk_172 (dk_at dksX6_put_1 16 rfl rfl)
theorem dX6_put_40 : decode cX6_put 40 = .ok (.aload_n 0, 1) := dk_42 (dk_at dksX6_put_1 17 rfl rfl)
theorem dX6_put_41 : decode cX6_put 41 = .ok (.iload_n 1, 1) := dk_27 (dk_at dksX6_put_1 18 rfl rfl)
theorem dX6_put_42 : decode cX6_put 42 = .ok (.iload_n 3, 1) := dk_29 (dk_at dksX6_put_1 19 rfl rfl)
theorem dX6_put_43 : decode cX6_put 43 = .ok (.iload 4, 2) := dk_21 4 (dk_at dksX6_put_1 20 rfl rfl)
theorem dX6_put_45 : decode cX6_put 45 = .ok (.invokevirtual 289, 3) := dk_182 1 33 (dk_at dksX6_put_2 0 rfl rfl)
theorem dX6_put_48 : decode cX6_put 48 = .ok (.iconst 1, 1) := dk_4 (dk_at dksX6_put_2 3 rfl rfl)
theorem dX6_put_49 : decode cX6_put 49 = .ok (.ireturn, 1) := dk_172 (dk_at dksX6_put_2 4 rfl rfl)
abbrev cX6_lacks : ByteArray := prog_14_method_79_code
def yX6_lacks : MethodName := ⟨RX6, "lacks", "(III)I"⟩
def dkwX6_lacks_2 : List UInt8 := [172]
abbrev dktX6_lacks_2 : List UInt8 := dkwX6_lacks_2 ++ []
def dkwX6_lacks_1 : List UInt8 := [167, 0, 24, 29, 3, 42, 180, 0, 86, 27, 46, 4, 100, 184, 0, 104, 153, 0, 7, 3, 167, 0, 4, 5]
abbrev dktX6_lacks_1 : List UInt8 := dkwX6_lacks_1 ++ dktX6_lacks_2
def dkwX6_lacks_0 : List UInt8 := [42, 180, 0, 80, 27, 51, 154, 0, 7, 4, 167, 0, 38, 42, 180, 0, 83, 27, 46, 28, 159, 0, 7, 6]
abbrev dktX6_lacks_0 : List UInt8 := dkwX6_lacks_0 ++ dktX6_lacks_1
theorem dksX6_lacks_0 : cX6_lacks.data.toList.drop 0 = dktX6_lacks_0 := by decide +kernel
theorem dksX6_lacks_1 : cX6_lacks.data.toList.drop 24 = dktX6_lacks_1 := dk_seg dksX6_lacks_0 24 rfl rfl
theorem dksX6_lacks_2 : cX6_lacks.data.toList.drop 48 = dktX6_lacks_2 := dk_seg dksX6_lacks_1 24 rfl rfl
theorem dX6_lacks_0 : decode cX6_lacks 0 = .ok (.aload_n 0, 1) := dk_42 (dk_at dksX6_lacks_0 0 rfl rfl)
theorem dX6_lacks_1 : decode cX6_lacks 1 = .ok (.getfield 80, 3) := dk_180 0 80 (dk_at dksX6_lacks_0 1 rfl rfl)
theorem dX6_lacks_4 : decode cX6_lacks 4 = .ok (.iload_n 1, 1) := dk_27 (dk_at dksX6_lacks_0 4 rfl rfl)
theorem dX6_lacks_5 : decode cX6_lacks 5 = .ok (.baload, 1) := dk_51 (dk_at dksX6_lacks_0 5 rfl rfl)
theorem dX6_lacks_6 : decode cX6_lacks 6 = .ok (.ifCond .ne 7, 3) := dk_154 0 7 (dk_at dksX6_lacks_0 6 rfl rfl)
theorem dX6_lacks_9 : decode cX6_lacks 9 = .ok (.iconst 1, 1) := dk_4 (dk_at dksX6_lacks_0 9 rfl rfl)
theorem dX6_lacks_10 : decode cX6_lacks 10 = .ok (.goto 38, 3) := dk_167 0 38 (dk_at dksX6_lacks_0 10 rfl rfl)
theorem dX6_lacks_13 : decode cX6_lacks 13 = .ok (.aload_n 0, 1) := dk_42 (dk_at dksX6_lacks_0 13 rfl rfl)
theorem dX6_lacks_14 : decode cX6_lacks 14 = .ok (.getfield 83, 3) := dk_180 0 83 (dk_at dksX6_lacks_0 14 rfl rfl)
theorem dX6_lacks_17 : decode cX6_lacks 17 = .ok (.iload_n 1, 1) := dk_27 (dk_at dksX6_lacks_0 17 rfl rfl)
theorem dX6_lacks_18 : decode cX6_lacks 18 = .ok (.iaload, 1) := dk_46 (dk_at dksX6_lacks_0 18 rfl rfl)
theorem dX6_lacks_19 : decode cX6_lacks 19 = .ok (.iload_n 2, 1) := dk_28 (dk_at dksX6_lacks_0 19 rfl rfl)
theorem dX6_lacks_20 : decode cX6_lacks 20 = .ok (.if_icmp .eq 7, 3) := dk_159 0 7 (dk_at dksX6_lacks_0 20 rfl rfl)
theorem dX6_lacks_23 : decode cX6_lacks 23 = .ok (.iconst 3, 1) := dk_6 (dk_at dksX6_lacks_0 23 rfl rfl)
theorem dX6_lacks_24 : decode cX6_lacks 24 = .ok (.goto 24, 3) := dk_167 0 24 (dk_at dksX6_lacks_1 0 rfl rfl)
theorem dX6_lacks_27 : decode cX6_lacks 27 = .ok (.iload_n 3, 1) := dk_29 (dk_at dksX6_lacks_1 3 rfl rfl)
theorem dX6_lacks_28 : decode cX6_lacks 28 = .ok (.iconst 0, 1) := dk_3 (dk_at dksX6_lacks_1 4 rfl rfl)
theorem dX6_lacks_29 : decode cX6_lacks 29 = .ok (.aload_n 0, 1) := dk_42 (dk_at dksX6_lacks_1 5 rfl rfl)
theorem dX6_lacks_30 : decode cX6_lacks 30 = .ok (.getfield 86, 3) := dk_180 0 86 (dk_at dksX6_lacks_1 6 rfl rfl)
theorem dX6_lacks_33 : decode cX6_lacks 33 = .ok (.iload_n 1, 1) := dk_27 (dk_at dksX6_lacks_1 9 rfl rfl)
theorem dX6_lacks_34 : decode cX6_lacks 34 = .ok (.iaload, 1) := dk_46 (dk_at dksX6_lacks_1 10 rfl rfl)
theorem dX6_lacks_35 : decode cX6_lacks 35 = .ok (.iconst 1, 1) := dk_4 (dk_at dksX6_lacks_1 11 rfl rfl)
theorem dX6_lacks_36 : decode cX6_lacks 36 = .ok (.isub, 1) := dk_100 (dk_at dksX6_lacks_1 12 rfl rfl)
theorem dX6_lacks_37 : decode cX6_lacks 37 = .ok (.invokestatic 104, 3) := dk_184 0 104 (dk_at dksX6_lacks_1 13 rfl rfl)
theorem dX6_lacks_40 : decode cX6_lacks 40 = .ok (.ifCond .eq 7, 3) := dk_153 0 7 (dk_at dksX6_lacks_1 16 rfl rfl)
theorem dX6_lacks_43 : decode cX6_lacks 43 = .ok (.iconst 0, 1) := dk_3 (dk_at dksX6_lacks_1 19 rfl rfl)
theorem dX6_lacks_44 : decode cX6_lacks 44 = .ok (.goto 4, 3) := dk_167 0 4 (dk_at dksX6_lacks_1 20 rfl rfl)
theorem dX6_lacks_47 : decode cX6_lacks 47 = .ok (.iconst 2, 1) := dk_5 (dk_at dksX6_lacks_1 23 rfl rfl)
theorem dX6_lacks_48 : decode cX6_lacks 48 = .ok (.ireturn, 1) := dk_172 (dk_at dksX6_lacks_2 0 rfl rfl)
abbrev cX6_keep : ByteArray := prog_14_method_80_code
def yX6_keep : MethodName := ⟨RX6, "keep", "(III)V"⟩
def dkwX6_keep_1 : List UInt8 := [42, 180, 0, 83, 27, 46, 4, 160, 0, 8, 29, 147, 167, 0, 4, 29, 79, 177]
abbrev dktX6_keep_1 : List UInt8 := dkwX6_keep_1 ++ []
def dkwX6_keep_0 : List UInt8 := [42, 180, 0, 89, 16, 60, 27, 104, 28, 96, 42, 180, 0, 83, 27, 46, 154, 0, 8, 29, 145, 167, 0, 19]
abbrev dktX6_keep_0 : List UInt8 := dkwX6_keep_0 ++ dktX6_keep_1
theorem dksX6_keep_0 : cX6_keep.data.toList.drop 0 = dktX6_keep_0 := by decide +kernel
theorem dksX6_keep_1 : cX6_keep.data.toList.drop 24 = dktX6_keep_1 := dk_seg dksX6_keep_0 24 rfl rfl
theorem dX6_keep_0 : decode cX6_keep 0 = .ok (.aload_n 0, 1) := dk_42 (dk_at dksX6_keep_0 0 rfl rfl)
theorem dX6_keep_1 : decode cX6_keep 1 = .ok (.getfield 89, 3) := dk_180 0 89 (dk_at dksX6_keep_0 1 rfl rfl)
theorem dX6_keep_4 : decode cX6_keep 4 = .ok (.bipush 60, 2) := dk_16 60 (dk_at dksX6_keep_0 4 rfl rfl)
theorem dX6_keep_6 : decode cX6_keep 6 = .ok (.iload_n 1, 1) := dk_27 (dk_at dksX6_keep_0 6 rfl rfl)
theorem dX6_keep_7 : decode cX6_keep 7 = .ok (.imul, 1) := dk_104 (dk_at dksX6_keep_0 7 rfl rfl)
theorem dX6_keep_8 : decode cX6_keep 8 = .ok (.iload_n 2, 1) := dk_28 (dk_at dksX6_keep_0 8 rfl rfl)
theorem dX6_keep_9 : decode cX6_keep 9 = .ok (.iadd, 1) := dk_96 (dk_at dksX6_keep_0 9 rfl rfl)
theorem dX6_keep_10 : decode cX6_keep 10 = .ok (.aload_n 0, 1) := dk_42 (dk_at dksX6_keep_0 10 rfl rfl)
theorem dX6_keep_11 : decode cX6_keep 11 = .ok (.getfield 83, 3) := dk_180 0 83 (dk_at dksX6_keep_0 11 rfl rfl)
theorem dX6_keep_14 : decode cX6_keep 14 = .ok (.iload_n 1, 1) := dk_27 (dk_at dksX6_keep_0 14 rfl rfl)
theorem dX6_keep_15 : decode cX6_keep 15 = .ok (.iaload, 1) := dk_46 (dk_at dksX6_keep_0 15 rfl rfl)
theorem dX6_keep_16 : decode cX6_keep 16 = .ok (.ifCond .ne 8, 3) := dk_154 0 8 (dk_at dksX6_keep_0 16 rfl rfl)
theorem dX6_keep_19 : decode cX6_keep 19 = .ok (.iload_n 3, 1) := dk_29 (dk_at dksX6_keep_0 19 rfl rfl)
theorem dX6_keep_20 : decode cX6_keep 20 = .ok (.i2b, 1) := dk_145 (dk_at dksX6_keep_0 20 rfl rfl)
theorem dX6_keep_21 : decode cX6_keep 21 = .ok (.goto 19, 3) := dk_167 0 19 (dk_at dksX6_keep_0 21 rfl rfl)
theorem dX6_keep_24 : decode cX6_keep 24 = .ok (.aload_n 0, 1) := dk_42 (dk_at dksX6_keep_1 0 rfl rfl)
theorem dX6_keep_25 : decode cX6_keep 25 = .ok (.getfield 83, 3) := dk_180 0 83 (dk_at dksX6_keep_1 1 rfl rfl)
theorem dX6_keep_28 : decode cX6_keep 28 = .ok (.iload_n 1, 1) := dk_27 (dk_at dksX6_keep_1 4 rfl rfl)
theorem dX6_keep_29 : decode cX6_keep 29 = .ok (.iaload, 1) := dk_46 (dk_at dksX6_keep_1 5 rfl rfl)
theorem dX6_keep_30 : decode cX6_keep 30 = .ok (.iconst 1, 1) := dk_4 (dk_at dksX6_keep_1 6 rfl rfl)
theorem dX6_keep_31 : decode cX6_keep 31 = .ok (.if_icmp .ne 8, 3) := dk_160 0 8 (dk_at dksX6_keep_1 7 rfl rfl)
theorem dX6_keep_34 : decode cX6_keep 34 = .ok (.iload_n 3, 1) := dk_29 (dk_at dksX6_keep_1 10 rfl rfl)
theorem dX6_keep_35 : decode cX6_keep 35 = .ok (.i2s, 1) := dk_147 (dk_at dksX6_keep_1 11 rfl rfl)
theorem dX6_keep_36 : decode cX6_keep 36 = .ok (.goto 4, 3) := dk_167 0 4 (dk_at dksX6_keep_1 12 rfl rfl)
theorem dX6_keep_39 : decode cX6_keep 39 = .ok (.iload_n 3, 1) := dk_29 (dk_at dksX6_keep_1 15 rfl rfl)
theorem dX6_keep_40 : decode cX6_keep 40 = .ok (.iastore, 1) := dk_79 (dk_at dksX6_keep_1 16 rfl rfl)
theorem dX6_keep_41 : decode cX6_keep 41 = .ok (.return_, 1) := dk_177 (dk_at dksX6_keep_1 17 rfl rfl)
abbrev cX6_get : ByteArray := prog_14_method_82_code
def yX6_get : MethodName := ⟨RX6, "get", "(III)I"⟩
def dkwX6_get_2 : List UInt8 := [16, 60, 27, 104, 29, 96, 46, 172]
abbrev dktX6_get_2 : List UInt8 := dkwX6_get_2 ++ []
def dkwX6_get_1 : List UInt8 := [182, 1, 30, 54, 4, 21, 4, 158, 0, 13, 42, 21, 4, 181, 1, 27, 19, 1, 37, 172, 42, 180, 0, 89]
abbrev dktX6_get_1 : List UInt8 := dkwX6_get_1 ++ dktX6_get_2
def dkwX6_get_0 : List UInt8 := [27, 184, 0, 162, 153, 0, 12, 28, 3, 5, 184, 0, 104, 154, 0, 7, 19, 1, 37, 172, 42, 27, 28, 29]
abbrev dktX6_get_0 : List UInt8 := dkwX6_get_0 ++ dktX6_get_1
theorem dksX6_get_0 : cX6_get.data.toList.drop 0 = dktX6_get_0 := by decide +kernel
theorem dksX6_get_1 : cX6_get.data.toList.drop 24 = dktX6_get_1 := dk_seg dksX6_get_0 24 rfl rfl
theorem dksX6_get_2 : cX6_get.data.toList.drop 48 = dktX6_get_2 := dk_seg dksX6_get_1 24 rfl rfl
theorem dX6_get_0 : decode cX6_get 0 = .ok (.iload_n 1, 1) := dk_27 (dk_at dksX6_get_0 0 rfl rfl)
theorem dX6_get_1 : decode cX6_get 1 = .ok (.invokestatic 162, 3) := dk_184 0 162 (dk_at dksX6_get_0 1 rfl rfl)
theorem dX6_get_4 : decode cX6_get 4 = .ok (.ifCond .eq 12, 3) := dk_153 0 12 (dk_at dksX6_get_0 4 rfl rfl)
theorem dX6_get_7 : decode cX6_get 7 = .ok (.iload_n 2, 1) := dk_28 (dk_at dksX6_get_0 7 rfl rfl)
theorem dX6_get_8 : decode cX6_get 8 = .ok (.iconst 0, 1) := dk_3 (dk_at dksX6_get_0 8 rfl rfl)
theorem dX6_get_9 : decode cX6_get 9 = .ok (.iconst 2, 1) := dk_5 (dk_at dksX6_get_0 9 rfl rfl)
theorem dX6_get_10 : decode cX6_get 10 = .ok (.invokestatic 104, 3) := dk_184 0 104 (dk_at dksX6_get_0 10 rfl rfl)
theorem dX6_get_13 : decode cX6_get 13 = .ok (.ifCond .ne 7, 3) := dk_154 0 7 (dk_at dksX6_get_0 13 rfl rfl)
theorem dX6_get_16 : decode cX6_get 16 = .ok (.ldc_w 293, 3) := dk_19 1 37 (dk_at dksX6_get_0 16 rfl rfl)
theorem dX6_get_19 : decode cX6_get 19 = .ok (.ireturn, 1) := dk_172 (dk_at dksX6_get_0 19 rfl rfl)
theorem dX6_get_20 : decode cX6_get 20 = .ok (.aload_n 0, 1) := dk_42 (dk_at dksX6_get_0 20 rfl rfl)
theorem dX6_get_21 : decode cX6_get 21 = .ok (.iload_n 1, 1) := dk_27 (dk_at dksX6_get_0 21 rfl rfl)
theorem dX6_get_22 : decode cX6_get 22 = .ok (.iload_n 2, 1) := dk_28 (dk_at dksX6_get_0 22 rfl rfl)
theorem dX6_get_23 : decode cX6_get 23 = .ok (.iload_n 3, 1) := dk_29 (dk_at dksX6_get_0 23 rfl rfl)
theorem dX6_get_24 : decode cX6_get 24 = .ok (.invokevirtual 286, 3) := dk_182 1 30 (dk_at dksX6_get_1 0 rfl rfl)
theorem dX6_get_27 : decode cX6_get 27 = .ok (.istore 4, 2) := dk_54 4 (dk_at dksX6_get_1 3 rfl rfl)
theorem dX6_get_29 : decode cX6_get 29 = .ok (.iload 4, 2) := dk_21 4 (dk_at dksX6_get_1 5 rfl rfl)
theorem dX6_get_31 : decode cX6_get 31 = .ok (.ifCond .le 13, 3) := dk_158 0 13 (dk_at dksX6_get_1 7 rfl rfl)
theorem dX6_get_34 : decode cX6_get 34 = .ok (.aload_n 0, 1) := dk_42 (dk_at dksX6_get_1 10 rfl rfl)
theorem dX6_get_35 : decode cX6_get 35 = .ok (.iload 4, 2) := dk_21 4 (dk_at dksX6_get_1 11 rfl rfl)
theorem dX6_get_37 : decode cX6_get 37 = .ok (.putfield 283, 3) := dk_181 1 27 (dk_at dksX6_get_1 13 rfl rfl)
theorem dX6_get_40 : decode cX6_get 40 = .ok (.ldc_w 293, 3) := dk_19 1 37 (dk_at dksX6_get_1 16 rfl rfl)
theorem dX6_get_43 : decode cX6_get 43 = .ok (.ireturn, 1) := dk_172 (dk_at dksX6_get_1 19 rfl rfl)
theorem dX6_get_44 : decode cX6_get 44 = .ok (.aload_n 0, 1) := dk_42 (dk_at dksX6_get_1 20 rfl rfl)
theorem dX6_get_45 : decode cX6_get 45 = .ok (.getfield 89, 3) := dk_180 0 89 (dk_at dksX6_get_1 21 rfl rfl)
theorem dX6_get_48 : decode cX6_get 48 = .ok (.bipush 60, 2) := dk_16 60 (dk_at dksX6_get_2 0 rfl rfl)
theorem dX6_get_50 : decode cX6_get 50 = .ok (.iload_n 1, 1) := dk_27 (dk_at dksX6_get_2 2 rfl rfl)
theorem dX6_get_51 : decode cX6_get 51 = .ok (.imul, 1) := dk_104 (dk_at dksX6_get_2 3 rfl rfl)
theorem dX6_get_52 : decode cX6_get 52 = .ok (.iload_n 3, 1) := dk_29 (dk_at dksX6_get_2 4 rfl rfl)
theorem dX6_get_53 : decode cX6_get 53 = .ok (.iadd, 1) := dk_96 (dk_at dksX6_get_2 5 rfl rfl)
theorem dX6_get_54 : decode cX6_get 54 = .ok (.iaload, 1) := dk_46 (dk_at dksX6_get_2 6 rfl rfl)
theorem dX6_get_55 : decode cX6_get 55 = .ok (.ireturn, 1) := dk_172 (dk_at dksX6_get_2 7 rfl rfl)
abbrev cX6_copy : ByteArray := prog_14_method_83_code
def yX6_copy : MethodName := ⟨RX6, "copy", "(IIIII)I"⟩
def dkwX6_copy_8 : List UInt8 := [167, 255, 224, 4, 172]
abbrev dktX6_copy_8 : List UInt8 := dkwX6_copy_8 ++ []
def dkwX6_copy_7 : List UInt8 := [180, 0, 89, 16, 60, 29, 104, 21, 4, 96, 21, 6, 96, 42, 180, 0, 92, 21, 6, 46, 79, 132, 6, 1]
abbrev dktX6_copy_7 : List UInt8 := dkwX6_copy_7 ++ dktX6_copy_8
def dkwX6_copy_6 : List UInt8 := [96, 21, 6, 96, 46, 79, 132, 6, 1, 167, 255, 225, 3, 54, 6, 21, 6, 21, 5, 162, 0, 31, 42]
abbrev dktX6_copy_6 : List UInt8 := dkwX6_copy_6 ++ dktX6_copy_7
def dkwX6_copy_5 : List UInt8 := [54, 6, 21, 6, 21, 5, 162, 0, 30, 42, 180, 0, 92, 21, 6, 42, 180, 0, 89, 16, 60, 27, 104, 28]
abbrev dktX6_copy_5 : List UInt8 := dkwX6_copy_5 ++ dktX6_copy_6
def dkwX6_copy_4 : List UInt8 := [133, 21, 5, 133, 97, 42, 180, 0, 86, 29, 46, 133, 148, 158, 0, 9, 42, 5, 182, 0, 165, 172, 3]
abbrev dktX6_copy_4 : List UInt8 := dkwX6_copy_4 ++ dktX6_copy_5
def dkwX6_copy_3 : List UInt8 := [21, 5, 155, 0, 38, 28, 133, 21, 5, 133, 97, 42, 180, 0, 86, 27, 46, 133, 148, 157, 0, 21, 21, 4]
abbrev dktX6_copy_3 : List UInt8 := dkwX6_copy_3 ++ dktX6_copy_4
def dkwX6_copy_2 : List UInt8 := [42, 180, 0, 83, 29, 46, 159, 0, 9, 42, 7, 182, 0, 165, 172, 28, 155, 0, 48, 21, 4, 155, 0, 43]
abbrev dktX6_copy_2 : List UInt8 := dkwX6_copy_2 ++ dktX6_copy_3
def dkwX6_copy_1 : List UInt8 := [153, 0, 12, 42, 180, 0, 80, 29, 51, 154, 0, 9, 42, 4, 182, 0, 165, 172, 42, 180, 0, 83, 27, 46]
abbrev dktX6_copy_1 : List UInt8 := dkwX6_copy_1 ++ dktX6_copy_2
def dkwX6_copy_0 : List UInt8 := [27, 184, 0, 162, 153, 0, 10, 29, 184, 0, 162, 154, 0, 6, 16, 254, 172, 42, 180, 0, 80, 27, 51]
abbrev dktX6_copy_0 : List UInt8 := dkwX6_copy_0 ++ dktX6_copy_1
theorem dksX6_copy_0 : cX6_copy.data.toList.drop 0 = dktX6_copy_0 := by decide +kernel
theorem dksX6_copy_1 : cX6_copy.data.toList.drop 23 = dktX6_copy_1 := dk_seg dksX6_copy_0 23 rfl rfl
theorem dksX6_copy_2 : cX6_copy.data.toList.drop 47 = dktX6_copy_2 := dk_seg dksX6_copy_1 24 rfl rfl
theorem dksX6_copy_3 : cX6_copy.data.toList.drop 71 = dktX6_copy_3 := dk_seg dksX6_copy_2 24 rfl rfl
theorem dksX6_copy_4 : cX6_copy.data.toList.drop 95 = dktX6_copy_4 := dk_seg dksX6_copy_3 24 rfl rfl
theorem dksX6_copy_5 : cX6_copy.data.toList.drop 118 = dktX6_copy_5 := dk_seg dksX6_copy_4 23 rfl rfl
theorem dksX6_copy_6 : cX6_copy.data.toList.drop 142 = dktX6_copy_6 := dk_seg dksX6_copy_5 24 rfl rfl
theorem dksX6_copy_7 : cX6_copy.data.toList.drop 165 = dktX6_copy_7 := dk_seg dksX6_copy_6 23 rfl rfl
theorem dksX6_copy_8 : cX6_copy.data.toList.drop 189 = dktX6_copy_8 := dk_seg dksX6_copy_7 24 rfl rfl
theorem dX6_copy_0 : decode cX6_copy 0 = .ok (.iload_n 1, 1) := dk_27 (dk_at dksX6_copy_0 0 rfl rfl)
theorem dX6_copy_1 : decode cX6_copy 1 = .ok (.invokestatic 162, 3) := dk_184 0 162 (dk_at dksX6_copy_0 1 rfl rfl)
theorem dX6_copy_4 : decode cX6_copy 4 = .ok (.ifCond .eq 10, 3) := dk_153 0 10 (dk_at dksX6_copy_0 4 rfl rfl)
theorem dX6_copy_7 : decode cX6_copy 7 = .ok (.iload_n 3, 1) := dk_29 (dk_at dksX6_copy_0 7 rfl rfl)
theorem dX6_copy_8 : decode cX6_copy 8 = .ok (.invokestatic 162, 3) := dk_184 0 162 (dk_at dksX6_copy_0 8 rfl rfl)
theorem dX6_copy_11 : decode cX6_copy 11 = .ok (.ifCond .ne 6, 3) := dk_154 0 6 (dk_at dksX6_copy_0 11 rfl rfl)
theorem dX6_copy_14 : decode cX6_copy 14 = .ok (.bipush (-2), 2) := dk_16 254 (dk_at dksX6_copy_0 14 rfl rfl)
theorem dX6_copy_16 : decode cX6_copy 16 = .ok (.ireturn, 1) := dk_172 (dk_at dksX6_copy_0 16 rfl rfl)
theorem dX6_copy_17 : decode cX6_copy 17 = .ok (.aload_n 0, 1) := dk_42 (dk_at dksX6_copy_0 17 rfl rfl)
theorem dX6_copy_18 : decode cX6_copy 18 = .ok (.getfield 80, 3) := dk_180 0 80 (dk_at dksX6_copy_0 18 rfl rfl)
theorem dX6_copy_21 : decode cX6_copy 21 = .ok (.iload_n 1, 1) := dk_27 (dk_at dksX6_copy_0 21 rfl rfl)
theorem dX6_copy_22 : decode cX6_copy 22 = .ok (.baload, 1) := dk_51 (dk_at dksX6_copy_0 22 rfl rfl)
theorem dX6_copy_23 : decode cX6_copy 23 = .ok (.ifCond .eq 12, 3) := dk_153 0 12 (dk_at dksX6_copy_1 0 rfl rfl)
theorem dX6_copy_26 : decode cX6_copy 26 = .ok (.aload_n 0, 1) := dk_42 (dk_at dksX6_copy_1 3 rfl rfl)
theorem dX6_copy_27 : decode cX6_copy 27 = .ok (.getfield 80, 3) := dk_180 0 80 (dk_at dksX6_copy_1 4 rfl rfl)
theorem dX6_copy_30 : decode cX6_copy 30 = .ok (.iload_n 3, 1) := dk_29 (dk_at dksX6_copy_1 7 rfl rfl)
theorem dX6_copy_31 : decode cX6_copy 31 = .ok (.baload, 1) := dk_51 (dk_at dksX6_copy_1 8 rfl rfl)
theorem dX6_copy_32 : decode cX6_copy 32 = .ok (.ifCond .ne 9, 3) := dk_154 0 9 (dk_at dksX6_copy_1 9 rfl rfl)
theorem dX6_copy_35 : decode cX6_copy 35 = .ok (.aload_n 0, 1) := dk_42 (dk_at dksX6_copy_1 12 rfl rfl)
theorem dX6_copy_36 : decode cX6_copy 36 = .ok (.iconst 1, 1) := dk_4 (dk_at dksX6_copy_1 13 rfl rfl)
theorem dX6_copy_37 : decode cX6_copy 37 = .ok (.invokevirtual 165, 3) := dk_182 0 165 (dk_at dksX6_copy_1 14 rfl rfl)
theorem dX6_copy_40 : decode cX6_copy 40 = .ok (.ireturn, 1) := dk_172 (dk_at dksX6_copy_1 17 rfl rfl)
theorem dX6_copy_41 : decode cX6_copy 41 = .ok (.aload_n 0, 1) := dk_42 (dk_at dksX6_copy_1 18 rfl rfl)
theorem dX6_copy_42 : decode cX6_copy 42 = .ok (.getfield 83, 3) := dk_180 0 83 (dk_at dksX6_copy_1 19 rfl rfl)
theorem dX6_copy_45 : decode cX6_copy 45 = .ok (.iload_n 1, 1) := dk_27 (dk_at dksX6_copy_1 22 rfl rfl)
theorem dX6_copy_46 : decode cX6_copy 46 = .ok (.iaload, 1) := dk_46 (dk_at dksX6_copy_1 23 rfl rfl)
theorem dX6_copy_47 : decode cX6_copy 47 = .ok (.aload_n 0, 1) := dk_42 (dk_at dksX6_copy_2 0 rfl rfl)
theorem dX6_copy_48 : decode cX6_copy 48 = .ok (.getfield 83, 3) := dk_180 0 83 (dk_at dksX6_copy_2 1 rfl rfl)
theorem dX6_copy_51 : decode cX6_copy 51 = .ok (.iload_n 3, 1) := dk_29 (dk_at dksX6_copy_2 4 rfl rfl)
theorem dX6_copy_52 : decode cX6_copy 52 = .ok (.iaload, 1) := dk_46 (dk_at dksX6_copy_2 5 rfl rfl)
theorem dX6_copy_53 : decode cX6_copy 53 = .ok (.if_icmp .eq 9, 3) := dk_159 0 9 (dk_at dksX6_copy_2 6 rfl rfl)
theorem dX6_copy_56 : decode cX6_copy 56 = .ok (.aload_n 0, 1) := dk_42 (dk_at dksX6_copy_2 9 rfl rfl)
theorem dX6_copy_57 : decode cX6_copy 57 = .ok (.iconst 4, 1) := dk_7 (dk_at dksX6_copy_2 10 rfl rfl)
theorem dX6_copy_58 : decode cX6_copy 58 = .ok (.invokevirtual 165, 3) := dk_182 0 165 (dk_at dksX6_copy_2 11 rfl rfl)
theorem dX6_copy_61 : decode cX6_copy 61 = .ok (.ireturn, 1) := dk_172 (dk_at dksX6_copy_2 14 rfl rfl)
theorem dX6_copy_62 : decode cX6_copy 62 = .ok (.iload_n 2, 1) := dk_28 (dk_at dksX6_copy_2 15 rfl rfl)
theorem dX6_copy_63 : decode cX6_copy 63 = .ok (.ifCond .lt 48, 3) := dk_155 0 48 (dk_at dksX6_copy_2 16 rfl rfl)
theorem dX6_copy_66 : decode cX6_copy 66 = .ok (.iload 4, 2) := dk_21 4 (dk_at dksX6_copy_2 19 rfl rfl)
theorem dX6_copy_68 : decode cX6_copy 68 = .ok (.ifCond .lt 43, 3) := dk_155 0 43 (dk_at dksX6_copy_2 21 rfl rfl)
theorem dX6_copy_71 : decode cX6_copy 71 = .ok (.iload 5, 2) := dk_21 5 (dk_at dksX6_copy_3 0 rfl rfl)
theorem dX6_copy_73 : decode cX6_copy 73 = .ok (.ifCond .lt 38, 3) := dk_155 0 38 (dk_at dksX6_copy_3 2 rfl rfl)
theorem dX6_copy_76 : decode cX6_copy 76 = .ok (.iload_n 2, 1) := dk_28 (dk_at dksX6_copy_3 5 rfl rfl)
theorem dX6_copy_77 : decode cX6_copy 77 = .ok (.i2l, 1) := dk_133 (dk_at dksX6_copy_3 6 rfl rfl)
theorem dX6_copy_78 : decode cX6_copy 78 = .ok (.iload 5, 2) := dk_21 5 (dk_at dksX6_copy_3 7 rfl rfl)
theorem dX6_copy_80 : decode cX6_copy 80 = .ok (.i2l, 1) := dk_133 (dk_at dksX6_copy_3 9 rfl rfl)
theorem dX6_copy_81 : decode cX6_copy 81 = .ok (.ladd, 1) := dk_97 (dk_at dksX6_copy_3 10 rfl rfl)
theorem dX6_copy_82 : decode cX6_copy 82 = .ok (.aload_n 0, 1) := dk_42 (dk_at dksX6_copy_3 11 rfl rfl)
theorem dX6_copy_83 : decode cX6_copy 83 = .ok (.getfield 86, 3) := dk_180 0 86 (dk_at dksX6_copy_3 12 rfl rfl)
theorem dX6_copy_86 : decode cX6_copy 86 = .ok (.iload_n 1, 1) := dk_27 (dk_at dksX6_copy_3 15 rfl rfl)
theorem dX6_copy_87 : decode cX6_copy 87 = .ok (.iaload, 1) := dk_46 (dk_at dksX6_copy_3 16 rfl rfl)
theorem dX6_copy_88 : decode cX6_copy 88 = .ok (.i2l, 1) := dk_133 (dk_at dksX6_copy_3 17 rfl rfl)
theorem dX6_copy_89 : decode cX6_copy 89 = .ok (.lcmp, 1) := dk_148 (dk_at dksX6_copy_3 18 rfl rfl)
theorem dX6_copy_90 : decode cX6_copy 90 = .ok (.ifCond .gt 21, 3) := dk_157 0 21 (dk_at dksX6_copy_3 19 rfl rfl)
theorem dX6_copy_93 : decode cX6_copy 93 = .ok (.iload 4, 2) := dk_21 4 (dk_at dksX6_copy_3 22 rfl rfl)
theorem dX6_copy_95 : decode cX6_copy 95 = .ok (.i2l, 1) := dk_133 (dk_at dksX6_copy_4 0 rfl rfl)
theorem dX6_copy_96 : decode cX6_copy 96 = .ok (.iload 5, 2) := dk_21 5 (dk_at dksX6_copy_4 1 rfl rfl)
theorem dX6_copy_98 : decode cX6_copy 98 = .ok (.i2l, 1) := dk_133 (dk_at dksX6_copy_4 3 rfl rfl)
theorem dX6_copy_99 : decode cX6_copy 99 = .ok (.ladd, 1) := dk_97 (dk_at dksX6_copy_4 4 rfl rfl)
theorem dX6_copy_100 : decode cX6_copy 100 = .ok (.aload_n 0, 1) := dk_42 (dk_at dksX6_copy_4 5 rfl rfl)
theorem dX6_copy_101 : decode cX6_copy 101 = .ok (.getfield 86, 3) := dk_180 0 86 (dk_at dksX6_copy_4 6 rfl rfl)
theorem dX6_copy_104 : decode cX6_copy 104 = .ok (.iload_n 3, 1) := dk_29 (dk_at dksX6_copy_4 9 rfl rfl)
theorem dX6_copy_105 : decode cX6_copy 105 = .ok (.iaload, 1) := dk_46 (dk_at dksX6_copy_4 10 rfl rfl)
theorem dX6_copy_106 : decode cX6_copy 106 = .ok (.i2l, 1) := dk_133 (dk_at dksX6_copy_4 11 rfl rfl)
theorem dX6_copy_107 : decode cX6_copy 107 = .ok (.lcmp, 1) := dk_148 (dk_at dksX6_copy_4 12 rfl rfl)
theorem dX6_copy_108 : decode cX6_copy 108 = .ok (.ifCond .le 9, 3) := dk_158 0 9 (dk_at dksX6_copy_4 13 rfl rfl)
theorem dX6_copy_111 : decode cX6_copy 111 = .ok (.aload_n 0, 1) := dk_42 (dk_at dksX6_copy_4 16 rfl rfl)
theorem dX6_copy_112 : decode cX6_copy 112 = .ok (.iconst 2, 1) := dk_5 (dk_at dksX6_copy_4 17 rfl rfl)
theorem dX6_copy_113 : decode cX6_copy 113 = .ok (.invokevirtual 165, 3) := dk_182 0 165 (dk_at dksX6_copy_4 18 rfl rfl)
theorem dX6_copy_116 : decode cX6_copy 116 = .ok (.ireturn, 1) := dk_172 (dk_at dksX6_copy_4 21 rfl rfl)
theorem dX6_copy_117 : decode cX6_copy 117 = .ok (.iconst 0, 1) := dk_3 (dk_at dksX6_copy_4 22 rfl rfl)
theorem dX6_copy_118 : decode cX6_copy 118 = .ok (.istore 6, 2) := dk_54 6 (dk_at dksX6_copy_5 0 rfl rfl)
theorem dX6_copy_120 : decode cX6_copy 120 = .ok (.iload 6, 2) := dk_21 6 (dk_at dksX6_copy_5 2 rfl rfl)
theorem dX6_copy_122 : decode cX6_copy 122 = .ok (.iload 5, 2) := dk_21 5 (dk_at dksX6_copy_5 4 rfl rfl)
theorem dX6_copy_124 : decode cX6_copy 124 = .ok (.if_icmp .ge 30, 3) := dk_162 0 30 (dk_at dksX6_copy_5 6 rfl rfl)
theorem dX6_copy_127 : decode cX6_copy 127 = .ok (.aload_n 0, 1) := dk_42 (dk_at dksX6_copy_5 9 rfl rfl)
theorem dX6_copy_128 : decode cX6_copy 128 = .ok (.getfield 92, 3) := dk_180 0 92 (dk_at dksX6_copy_5 10 rfl rfl)
theorem dX6_copy_131 : decode cX6_copy 131 = .ok (.iload 6, 2) := dk_21 6 (dk_at dksX6_copy_5 13 rfl rfl)
theorem dX6_copy_133 : decode cX6_copy 133 = .ok (.aload_n 0, 1) := dk_42 (dk_at dksX6_copy_5 15 rfl rfl)
theorem dX6_copy_134 : decode cX6_copy 134 = .ok (.getfield 89, 3) := dk_180 0 89 (dk_at dksX6_copy_5 16 rfl rfl)
theorem dX6_copy_137 : decode cX6_copy 137 = .ok (.bipush 60, 2) := dk_16 60 (dk_at dksX6_copy_5 19 rfl rfl)
theorem dX6_copy_139 : decode cX6_copy 139 = .ok (.iload_n 1, 1) := dk_27 (dk_at dksX6_copy_5 21 rfl rfl)
theorem dX6_copy_140 : decode cX6_copy 140 = .ok (.imul, 1) := dk_104 (dk_at dksX6_copy_5 22 rfl rfl)
theorem dX6_copy_141 : decode cX6_copy 141 = .ok (.iload_n 2, 1) := dk_28 (dk_at dksX6_copy_5 23 rfl rfl)
theorem dX6_copy_142 : decode cX6_copy 142 = .ok (.iadd, 1) := dk_96 (dk_at dksX6_copy_6 0 rfl rfl)
theorem dX6_copy_143 : decode cX6_copy 143 = .ok (.iload 6, 2) := dk_21 6 (dk_at dksX6_copy_6 1 rfl rfl)
theorem dX6_copy_145 : decode cX6_copy 145 = .ok (.iadd, 1) := dk_96 (dk_at dksX6_copy_6 3 rfl rfl)
theorem dX6_copy_146 : decode cX6_copy 146 = .ok (.iaload, 1) := dk_46 (dk_at dksX6_copy_6 4 rfl rfl)
theorem dX6_copy_147 : decode cX6_copy 147 = .ok (.iastore, 1) := dk_79 (dk_at dksX6_copy_6 5 rfl rfl)
theorem dX6_copy_148 : decode cX6_copy 148 = .ok (.iinc 6 1, 3) := dk_132 6 1 (dk_at dksX6_copy_6 6 rfl rfl)
theorem dX6_copy_151 : decode cX6_copy 151 = .ok (.goto (-31), 3) := dk_167 255 225 (dk_at dksX6_copy_6 9 rfl rfl)
theorem dX6_copy_154 : decode cX6_copy 154 = .ok (.iconst 0, 1) := dk_3 (dk_at dksX6_copy_6 12 rfl rfl)
theorem dX6_copy_155 : decode cX6_copy 155 = .ok (.istore 6, 2) := dk_54 6 (dk_at dksX6_copy_6 13 rfl rfl)
theorem dX6_copy_157 : decode cX6_copy 157 = .ok (.iload 6, 2) := dk_21 6 (dk_at dksX6_copy_6 15 rfl rfl)
theorem dX6_copy_159 : decode cX6_copy 159 = .ok (.iload 5, 2) := dk_21 5 (dk_at dksX6_copy_6 17 rfl rfl)
theorem dX6_copy_161 : decode cX6_copy 161 = .ok (.if_icmp .ge 31, 3) := dk_162 0 31 (dk_at dksX6_copy_6 19 rfl rfl)
theorem dX6_copy_164 : decode cX6_copy 164 = .ok (.aload_n 0, 1) := dk_42 (dk_at dksX6_copy_6 22 rfl rfl)
theorem dX6_copy_165 : decode cX6_copy 165 = .ok (.getfield 89, 3) := dk_180 0 89 (dk_at dksX6_copy_7 0 rfl rfl)
theorem dX6_copy_168 : decode cX6_copy 168 = .ok (.bipush 60, 2) := dk_16 60 (dk_at dksX6_copy_7 3 rfl rfl)
theorem dX6_copy_170 : decode cX6_copy 170 = .ok (.iload_n 3, 1) := dk_29 (dk_at dksX6_copy_7 5 rfl rfl)
theorem dX6_copy_171 : decode cX6_copy 171 = .ok (.imul, 1) := dk_104 (dk_at dksX6_copy_7 6 rfl rfl)
theorem dX6_copy_172 : decode cX6_copy 172 = .ok (.iload 4, 2) := dk_21 4 (dk_at dksX6_copy_7 7 rfl rfl)
theorem dX6_copy_174 : decode cX6_copy 174 = .ok (.iadd, 1) := dk_96 (dk_at dksX6_copy_7 9 rfl rfl)
theorem dX6_copy_175 : decode cX6_copy 175 = .ok (.iload 6, 2) := dk_21 6 (dk_at dksX6_copy_7 10 rfl rfl)
theorem dX6_copy_177 : decode cX6_copy 177 = .ok (.iadd, 1) := dk_96 (dk_at dksX6_copy_7 12 rfl rfl)
theorem dX6_copy_178 : decode cX6_copy 178 = .ok (.aload_n 0, 1) := dk_42 (dk_at dksX6_copy_7 13 rfl rfl)
theorem dX6_copy_179 : decode cX6_copy 179 = .ok (.getfield 92, 3) := dk_180 0 92 (dk_at dksX6_copy_7 14 rfl rfl)
theorem dX6_copy_182 : decode cX6_copy 182 = .ok (.iload 6, 2) := dk_21 6 (dk_at dksX6_copy_7 17 rfl rfl)
theorem dX6_copy_184 : decode cX6_copy 184 = .ok (.iaload, 1) := dk_46 (dk_at dksX6_copy_7 19 rfl rfl)
theorem dX6_copy_185 : decode cX6_copy 185 = .ok (.iastore, 1) := dk_79 (dk_at dksX6_copy_7 20 rfl rfl)
theorem dX6_copy_186 : decode cX6_copy 186 = .ok (.iinc 6 1, 3) := dk_132 6 1 (dk_at dksX6_copy_7 21 rfl rfl)
theorem dX6_copy_189 : decode cX6_copy 189 = .ok (.goto (-32), 3) := dk_167 255 224 (dk_at dksX6_copy_8 0 rfl rfl)
theorem dX6_copy_192 : decode cX6_copy 192 = .ok (.iconst 1, 1) := dk_4 (dk_at dksX6_copy_8 3 rfl rfl)
theorem dX6_copy_193 : decode cX6_copy 193 = .ok (.ireturn, 1) := dk_172 (dk_at dksX6_copy_8 4 rfl rfl)
abbrev cX6_write : ByteArray := prog_14_method_84_code
def yX6_write : MethodName := ⟨RX6, "write", "(II)I"⟩
def dkwX6_write_2 : List UInt8 := [162, 0, 21, 42, 28, 29, 42, 29, 27, 182, 0, 213, 182, 1, 33, 132, 3, 1, 167, 255, 225, 29, 172]
abbrev dktX6_write_2 : List UInt8 := dkwX6_write_2 ++ []
def dkwX6_write_1 : List UInt8 := [154, 0, 9, 42, 4, 182, 0, 165, 172, 3, 62, 29, 42, 180, 0, 86, 28, 46, 162, 0, 27, 29, 16, 20]
abbrev dktX6_write_1 : List UInt8 := dkwX6_write_1 ++ dktX6_write_2
def dkwX6_write_0 : List UInt8 := [42, 27, 182, 0, 144, 153, 0, 10, 28, 184, 0, 162, 154, 0, 6, 16, 254, 172, 42, 180, 0, 80, 28, 51]
abbrev dktX6_write_0 : List UInt8 := dkwX6_write_0 ++ dktX6_write_1
theorem dksX6_write_0 : cX6_write.data.toList.drop 0 = dktX6_write_0 := by decide +kernel
theorem dksX6_write_1 : cX6_write.data.toList.drop 24 = dktX6_write_1 := dk_seg dksX6_write_0 24 rfl rfl
theorem dksX6_write_2 : cX6_write.data.toList.drop 48 = dktX6_write_2 := dk_seg dksX6_write_1 24 rfl rfl
theorem dX6_write_0 : decode cX6_write 0 = .ok (.aload_n 0, 1) := dk_42 (dk_at dksX6_write_0 0 rfl rfl)
theorem dX6_write_1 : decode cX6_write 1 = .ok (.iload_n 1, 1) := dk_27 (dk_at dksX6_write_0 1 rfl rfl)
theorem dX6_write_2 : decode cX6_write 2 = .ok (.invokevirtual 144, 3) := dk_182 0 144 (dk_at dksX6_write_0 2 rfl rfl)
theorem dX6_write_5 : decode cX6_write 5 = .ok (.ifCond .eq 10, 3) := dk_153 0 10 (dk_at dksX6_write_0 5 rfl rfl)
theorem dX6_write_8 : decode cX6_write 8 = .ok (.iload_n 2, 1) := dk_28 (dk_at dksX6_write_0 8 rfl rfl)
theorem dX6_write_9 : decode cX6_write 9 = .ok (.invokestatic 162, 3) := dk_184 0 162 (dk_at dksX6_write_0 9 rfl rfl)
theorem dX6_write_12 : decode cX6_write 12 = .ok (.ifCond .ne 6, 3) := dk_154 0 6 (dk_at dksX6_write_0 12 rfl rfl)
theorem dX6_write_15 : decode cX6_write 15 = .ok (.bipush (-2), 2) := dk_16 254 (dk_at dksX6_write_0 15 rfl rfl)
theorem dX6_write_17 : decode cX6_write 17 = .ok (.ireturn, 1) := dk_172 (dk_at dksX6_write_0 17 rfl rfl)
theorem dX6_write_18 : decode cX6_write 18 = .ok (.aload_n 0, 1) := dk_42 (dk_at dksX6_write_0 18 rfl rfl)
theorem dX6_write_19 : decode cX6_write 19 = .ok (.getfield 80, 3) := dk_180 0 80 (dk_at dksX6_write_0 19 rfl rfl)
theorem dX6_write_22 : decode cX6_write 22 = .ok (.iload_n 2, 1) := dk_28 (dk_at dksX6_write_0 22 rfl rfl)
theorem dX6_write_23 : decode cX6_write 23 = .ok (.baload, 1) := dk_51 (dk_at dksX6_write_0 23 rfl rfl)
theorem dX6_write_24 : decode cX6_write 24 = .ok (.ifCond .ne 9, 3) := dk_154 0 9 (dk_at dksX6_write_1 0 rfl rfl)
theorem dX6_write_27 : decode cX6_write 27 = .ok (.aload_n 0, 1) := dk_42 (dk_at dksX6_write_1 3 rfl rfl)
theorem dX6_write_28 : decode cX6_write 28 = .ok (.iconst 1, 1) := dk_4 (dk_at dksX6_write_1 4 rfl rfl)
theorem dX6_write_29 : decode cX6_write 29 = .ok (.invokevirtual 165, 3) := dk_182 0 165 (dk_at dksX6_write_1 5 rfl rfl)
theorem dX6_write_32 : decode cX6_write 32 = .ok (.ireturn, 1) := dk_172 (dk_at dksX6_write_1 8 rfl rfl)
theorem dX6_write_33 : decode cX6_write 33 = .ok (.iconst 0, 1) := dk_3 (dk_at dksX6_write_1 9 rfl rfl)
theorem dX6_write_34 : decode cX6_write 34 = .ok (.istore_n 3, 1) := dk_62 (dk_at dksX6_write_1 10 rfl rfl)
theorem dX6_write_35 : decode cX6_write 35 = .ok (.iload_n 3, 1) := dk_29 (dk_at dksX6_write_1 11 rfl rfl)
theorem dX6_write_36 : decode cX6_write 36 = .ok (.aload_n 0, 1) := dk_42 (dk_at dksX6_write_1 12 rfl rfl)
theorem dX6_write_37 : decode cX6_write 37 = .ok (.getfield 86, 3) := dk_180 0 86 (dk_at dksX6_write_1 13 rfl rfl)
theorem dX6_write_40 : decode cX6_write 40 = .ok (.iload_n 2, 1) := dk_28 (dk_at dksX6_write_1 16 rfl rfl)
theorem dX6_write_41 : decode cX6_write 41 = .ok (.iaload, 1) := dk_46 (dk_at dksX6_write_1 17 rfl rfl)
theorem dX6_write_42 : decode cX6_write 42 = .ok (.if_icmp .ge 27, 3) := dk_162 0 27 (dk_at dksX6_write_1 18 rfl rfl)
theorem dX6_write_45 : decode cX6_write 45 = .ok (.iload_n 3, 1) := dk_29 (dk_at dksX6_write_1 21 rfl rfl)
theorem dX6_write_46 : decode cX6_write 46 = .ok (.bipush 20, 2) := dk_16 20 (dk_at dksX6_write_1 22 rfl rfl)
theorem dX6_write_48 : decode cX6_write 48 = .ok (.if_icmp .ge 21, 3) := dk_162 0 21 (dk_at dksX6_write_2 0 rfl rfl)
theorem dX6_write_51 : decode cX6_write 51 = .ok (.aload_n 0, 1) := dk_42 (dk_at dksX6_write_2 3 rfl rfl)
theorem dX6_write_52 : decode cX6_write 52 = .ok (.iload_n 2, 1) := dk_28 (dk_at dksX6_write_2 4 rfl rfl)
theorem dX6_write_53 : decode cX6_write 53 = .ok (.iload_n 3, 1) := dk_29 (dk_at dksX6_write_2 5 rfl rfl)
theorem dX6_write_54 : decode cX6_write 54 = .ok (.aload_n 0, 1) := dk_42 (dk_at dksX6_write_2 6 rfl rfl)
theorem dX6_write_55 : decode cX6_write 55 = .ok (.iload_n 3, 1) := dk_29 (dk_at dksX6_write_2 7 rfl rfl)
theorem dX6_write_56 : decode cX6_write 56 = .ok (.iload_n 1, 1) := dk_27 (dk_at dksX6_write_2 8 rfl rfl)
theorem dX6_write_57 : decode cX6_write 57 = .ok (.invokevirtual 213, 3) := dk_182 0 213 (dk_at dksX6_write_2 9 rfl rfl)
theorem dX6_write_60 : decode cX6_write 60 = .ok (.invokevirtual 289, 3) := dk_182 1 33 (dk_at dksX6_write_2 12 rfl rfl)
theorem dX6_write_63 : decode cX6_write 63 = .ok (.iinc 3 1, 3) := dk_132 3 1 (dk_at dksX6_write_2 15 rfl rfl)
theorem dX6_write_66 : decode cX6_write 66 = .ok (.goto (-31), 3) := dk_167 255 225 (dk_at dksX6_write_2 18 rfl rfl)
theorem dX6_write_69 : decode cX6_write 69 = .ok (.iload_n 3, 1) := dk_29 (dk_at dksX6_write_2 21 rfl rfl)
theorem dX6_write_70 : decode cX6_write 70 = .ok (.ireturn, 1) := dk_172 (dk_at dksX6_write_2 22 rfl rfl)
abbrev cX6_count : ByteArray := prog_14_method_86_code
def yX6_count : MethodName := ⟨RX6, "count", "(I)I"⟩
def dkwX6_count_3 : List UInt8 := [172, 42, 180, 0, 248, 172, 42, 180, 1, 27, 172, 16, 254, 172]
abbrev dktX6_count_3 : List UInt8 := dkwX6_count_3 ++ []
def dkwX6_count_2 : List UInt8 := [42, 27, 182, 1, 38, 172, 42, 180, 0, 7, 27, 5, 100, 46, 172, 42, 180, 0, 156, 172, 42, 180, 0, 159]
abbrev dktX6_count_2 : List UInt8 := dkwX6_count_2 ++ dktX6_count_3
def dkwX6_count_1 : List UInt8 := [170, 0, 0, 0, 0, 0, 86, 0, 0, 0, 0, 0, 0, 0, 8, 0, 0, 0, 51, 0, 0, 0, 51, 0, 0, 0, 57, 0, 0, 0, 57, 0, 0, 0, 66, 0, 0, 0, 71, 0, 0, 0, 51, 0, 0, 0, 76, 0, 0, 0, 81]
abbrev dktX6_count_1 : List UInt8 := dkwX6_count_1 ++ dktX6_count_2
def dkwX6_count_0 : List UInt8 := [27]
abbrev dktX6_count_0 : List UInt8 := dkwX6_count_0 ++ dktX6_count_1
theorem dksX6_count_0 : cX6_count.data.toList.drop 0 = dktX6_count_0 := by decide +kernel
theorem dksX6_count_1 : cX6_count.data.toList.drop 1 = dktX6_count_1 := dk_seg dksX6_count_0 1 rfl rfl
theorem dksX6_count_2 : cX6_count.data.toList.drop 52 = dktX6_count_2 := dk_seg dksX6_count_1 51 rfl rfl
theorem dksX6_count_3 : cX6_count.data.toList.drop 76 = dktX6_count_3 := dk_seg dksX6_count_2 24 rfl rfl
theorem dX6_count_0 : decode cX6_count 0 = .ok (.iload_n 1, 1) := dk_27 (dk_at dksX6_count_0 0 rfl rfl)
theorem dX6_count_1 : decode cX6_count 1 = .ok (.tableswitch 86 0 8 #[51, 51, 57, 57, 66, 71, 51, 76, 81], 51) := by decide +kernel
theorem dX6_count_52 : decode cX6_count 52 = .ok (.aload_n 0, 1) := dk_42 (dk_at dksX6_count_2 0 rfl rfl)
theorem dX6_count_53 : decode cX6_count 53 = .ok (.iload_n 1, 1) := dk_27 (dk_at dksX6_count_2 1 rfl rfl)
theorem dX6_count_54 : decode cX6_count 54 = .ok (.invokevirtual 294, 3) := dk_182 1 38 (dk_at dksX6_count_2 2 rfl rfl)
theorem dX6_count_57 : decode cX6_count 57 = .ok (.ireturn, 1) := dk_172 (dk_at dksX6_count_2 5 rfl rfl)
theorem dX6_count_58 : decode cX6_count 58 = .ok (.aload_n 0, 1) := dk_42 (dk_at dksX6_count_2 6 rfl rfl)
theorem dX6_count_59 : decode cX6_count 59 = .ok (.getfield 7, 3) := dk_180 0 7 (dk_at dksX6_count_2 7 rfl rfl)
theorem dX6_count_62 : decode cX6_count 62 = .ok (.iload_n 1, 1) := dk_27 (dk_at dksX6_count_2 10 rfl rfl)
theorem dX6_count_63 : decode cX6_count 63 = .ok (.iconst 2, 1) := dk_5 (dk_at dksX6_count_2 11 rfl rfl)
theorem dX6_count_64 : decode cX6_count 64 = .ok (.isub, 1) := dk_100 (dk_at dksX6_count_2 12 rfl rfl)
theorem dX6_count_65 : decode cX6_count 65 = .ok (.iaload, 1) := dk_46 (dk_at dksX6_count_2 13 rfl rfl)
theorem dX6_count_66 : decode cX6_count 66 = .ok (.ireturn, 1) := dk_172 (dk_at dksX6_count_2 14 rfl rfl)
theorem dX6_count_67 : decode cX6_count 67 = .ok (.aload_n 0, 1) := dk_42 (dk_at dksX6_count_2 15 rfl rfl)
theorem dX6_count_68 : decode cX6_count 68 = .ok (.getfield 156, 3) := dk_180 0 156 (dk_at dksX6_count_2 16 rfl rfl)
theorem dX6_count_71 : decode cX6_count 71 = .ok (.ireturn, 1) := dk_172 (dk_at dksX6_count_2 19 rfl rfl)
theorem dX6_count_72 : decode cX6_count 72 = .ok (.aload_n 0, 1) := dk_42 (dk_at dksX6_count_2 20 rfl rfl)
theorem dX6_count_73 : decode cX6_count 73 = .ok (.getfield 159, 3) := dk_180 0 159 (dk_at dksX6_count_2 21 rfl rfl)
theorem dX6_count_76 : decode cX6_count 76 = .ok (.ireturn, 1) := dk_172 (dk_at dksX6_count_3 0 rfl rfl)
theorem dX6_count_77 : decode cX6_count 77 = .ok (.aload_n 0, 1) := dk_42 (dk_at dksX6_count_3 1 rfl rfl)
theorem dX6_count_78 : decode cX6_count 78 = .ok (.getfield 248, 3) := dk_180 0 248 (dk_at dksX6_count_3 2 rfl rfl)
theorem dX6_count_81 : decode cX6_count 81 = .ok (.ireturn, 1) := dk_172 (dk_at dksX6_count_3 5 rfl rfl)
theorem dX6_count_82 : decode cX6_count 82 = .ok (.aload_n 0, 1) := dk_42 (dk_at dksX6_count_3 6 rfl rfl)
theorem dX6_count_83 : decode cX6_count 83 = .ok (.getfield 283, 3) := dk_180 1 27 (dk_at dksX6_count_3 7 rfl rfl)
theorem dX6_count_86 : decode cX6_count 86 = .ok (.ireturn, 1) := dk_172 (dk_at dksX6_count_3 10 rfl rfl)
theorem dX6_count_87 : decode cX6_count 87 = .ok (.bipush (-2), 2) := dk_16 254 (dk_at dksX6_count_3 11 rfl rfl)
theorem dX6_count_89 : decode cX6_count 89 = .ok (.ireturn, 1) := dk_172 (dk_at dksX6_count_3 13 rfl rfl)
abbrev cX6_sumOf : ByteArray := prog_14_method_85_code
def yX6_sumOf : MethodName := ⟨RX6, "sumOf", "(I)I"⟩
def dkwX6_sumOf_2 : List UInt8 := [180, 0, 125, 167, 0, 4, 28, 172]
abbrev dktX6_sumOf_2 : List UInt8 := dkwX6_sumOf_2 ++ []
def dkwX6_sumOf_1 : List UInt8 := [132, 3, 1, 167, 255, 237, 27, 154, 0, 10, 42, 180, 0, 122, 167, 0, 16, 27, 4, 160, 0, 10, 42]
abbrev dktX6_sumOf_1 : List UInt8 := dkwX6_sumOf_1 ++ dktX6_sumOf_2
def dkwX6_sumOf_0 : List UInt8 := [42, 182, 0, 207, 3, 61, 3, 62, 29, 42, 180, 0, 122, 162, 0, 17, 28, 42, 29, 182, 0, 230, 96, 61]
abbrev dktX6_sumOf_0 : List UInt8 := dkwX6_sumOf_0 ++ dktX6_sumOf_1
theorem dksX6_sumOf_0 : cX6_sumOf.data.toList.drop 0 = dktX6_sumOf_0 := by decide +kernel
theorem dksX6_sumOf_1 : cX6_sumOf.data.toList.drop 24 = dktX6_sumOf_1 := dk_seg dksX6_sumOf_0 24 rfl rfl
theorem dksX6_sumOf_2 : cX6_sumOf.data.toList.drop 47 = dktX6_sumOf_2 := dk_seg dksX6_sumOf_1 23 rfl rfl
theorem dX6_sumOf_0 : decode cX6_sumOf 0 = .ok (.aload_n 0, 1) := dk_42 (dk_at dksX6_sumOf_0 0 rfl rfl)
theorem dX6_sumOf_1 : decode cX6_sumOf 1 = .ok (.invokevirtual 207, 3) := dk_182 0 207 (dk_at dksX6_sumOf_0 1 rfl rfl)
theorem dX6_sumOf_4 : decode cX6_sumOf 4 = .ok (.iconst 0, 1) := dk_3 (dk_at dksX6_sumOf_0 4 rfl rfl)
theorem dX6_sumOf_5 : decode cX6_sumOf 5 = .ok (.istore_n 2, 1) := dk_61 (dk_at dksX6_sumOf_0 5 rfl rfl)
theorem dX6_sumOf_6 : decode cX6_sumOf 6 = .ok (.iconst 0, 1) := dk_3 (dk_at dksX6_sumOf_0 6 rfl rfl)
theorem dX6_sumOf_7 : decode cX6_sumOf 7 = .ok (.istore_n 3, 1) := dk_62 (dk_at dksX6_sumOf_0 7 rfl rfl)
theorem dX6_sumOf_8 : decode cX6_sumOf 8 = .ok (.iload_n 3, 1) := dk_29 (dk_at dksX6_sumOf_0 8 rfl rfl)
theorem dX6_sumOf_9 : decode cX6_sumOf 9 = .ok (.aload_n 0, 1) := dk_42 (dk_at dksX6_sumOf_0 9 rfl rfl)
theorem dX6_sumOf_10 : decode cX6_sumOf 10 = .ok (.getfield 122, 3) := dk_180 0 122 (dk_at dksX6_sumOf_0 10 rfl rfl)
theorem dX6_sumOf_13 : decode cX6_sumOf 13 = .ok (.if_icmp .ge 17, 3) := dk_162 0 17 (dk_at dksX6_sumOf_0 13 rfl rfl)
theorem dX6_sumOf_16 : decode cX6_sumOf 16 = .ok (.iload_n 2, 1) := dk_28 (dk_at dksX6_sumOf_0 16 rfl rfl)
theorem dX6_sumOf_17 : decode cX6_sumOf 17 = .ok (.aload_n 0, 1) := dk_42 (dk_at dksX6_sumOf_0 17 rfl rfl)
theorem dX6_sumOf_18 : decode cX6_sumOf 18 = .ok (.iload_n 3, 1) := dk_29 (dk_at dksX6_sumOf_0 18 rfl rfl)
theorem dX6_sumOf_19 : decode cX6_sumOf 19 = .ok (.invokevirtual 230, 3) := dk_182 0 230 (dk_at dksX6_sumOf_0 19 rfl rfl)
theorem dX6_sumOf_22 : decode cX6_sumOf 22 = .ok (.iadd, 1) := dk_96 (dk_at dksX6_sumOf_0 22 rfl rfl)
theorem dX6_sumOf_23 : decode cX6_sumOf 23 = .ok (.istore_n 2, 1) := dk_61 (dk_at dksX6_sumOf_0 23 rfl rfl)
theorem dX6_sumOf_24 : decode cX6_sumOf 24 = .ok (.iinc 3 1, 3) := dk_132 3 1 (dk_at dksX6_sumOf_1 0 rfl rfl)
theorem dX6_sumOf_27 : decode cX6_sumOf 27 = .ok (.goto (-19), 3) := dk_167 255 237 (dk_at dksX6_sumOf_1 3 rfl rfl)
theorem dX6_sumOf_30 : decode cX6_sumOf 30 = .ok (.iload_n 1, 1) := dk_27 (dk_at dksX6_sumOf_1 6 rfl rfl)
theorem dX6_sumOf_31 : decode cX6_sumOf 31 = .ok (.ifCond .ne 10, 3) := dk_154 0 10 (dk_at dksX6_sumOf_1 7 rfl rfl)
theorem dX6_sumOf_34 : decode cX6_sumOf 34 = .ok (.aload_n 0, 1) := dk_42 (dk_at dksX6_sumOf_1 10 rfl rfl)
theorem dX6_sumOf_35 : decode cX6_sumOf 35 = .ok (.getfield 122, 3) := dk_180 0 122 (dk_at dksX6_sumOf_1 11 rfl rfl)
theorem dX6_sumOf_38 : decode cX6_sumOf 38 = .ok (.goto 16, 3) := dk_167 0 16 (dk_at dksX6_sumOf_1 14 rfl rfl)
theorem dX6_sumOf_41 : decode cX6_sumOf 41 = .ok (.iload_n 1, 1) := dk_27 (dk_at dksX6_sumOf_1 17 rfl rfl)
theorem dX6_sumOf_42 : decode cX6_sumOf 42 = .ok (.iconst 1, 1) := dk_4 (dk_at dksX6_sumOf_1 18 rfl rfl)
theorem dX6_sumOf_43 : decode cX6_sumOf 43 = .ok (.if_icmp .ne 10, 3) := dk_160 0 10 (dk_at dksX6_sumOf_1 19 rfl rfl)
theorem dX6_sumOf_46 : decode cX6_sumOf 46 = .ok (.aload_n 0, 1) := dk_42 (dk_at dksX6_sumOf_1 22 rfl rfl)
theorem dX6_sumOf_47 : decode cX6_sumOf 47 = .ok (.getfield 125, 3) := dk_180 0 125 (dk_at dksX6_sumOf_2 0 rfl rfl)
theorem dX6_sumOf_50 : decode cX6_sumOf 50 = .ok (.goto 4, 3) := dk_167 0 4 (dk_at dksX6_sumOf_2 3 rfl rfl)
theorem dX6_sumOf_53 : decode cX6_sumOf 53 = .ok (.iload_n 2, 1) := dk_28 (dk_at dksX6_sumOf_2 6 rfl rfl)
theorem dX6_sumOf_54 : decode cX6_sumOf 54 = .ok (.ireturn, 1) := dk_172 (dk_at dksX6_sumOf_2 7 rfl rfl)
abbrev cX6_digest : ByteArray := prog_14_method_89_code
def yX6_digest : MethodName := ⟨RX6, "digest", "()J"⟩
def dkwX6_digest_13 : List UInt8 := [3, 182, 1, 24, 133, 97, 64, 20, 1, 41, 31, 105, 42, 16, 7, 16, 15, 4, 182, 1, 24, 133, 97, 173]
abbrev dktX6_digest_13 : List UInt8 := dkwX6_digest_13 ++ []
def dkwX6_digest_12 : List UInt8 := [64, 20, 1, 41, 31, 105, 42, 8, 4, 182, 1, 15, 97, 64, 20, 1, 41, 31, 105, 42, 16, 7, 16, 15]
abbrev dktX6_digest_12 : List UInt8 := dkwX6_digest_12 ++ dktX6_digest_13
def dkwX6_digest_11 : List UInt8 := [20, 1, 41, 31, 105, 42, 182, 1, 5, 133, 97, 64, 20, 1, 41, 31, 105, 42, 8, 3, 182, 1, 15, 97]
abbrev dktX6_digest_11 : List UInt8 := dkwX6_digest_11 ++ dktX6_digest_12
def dkwX6_digest_10 : List UInt8 := [20, 1, 41, 31, 105, 42, 182, 0, 245, 133, 97, 64, 20, 1, 41, 31, 105, 42, 182, 0, 255, 133, 97, 64]
abbrev dktX6_digest_10 : List UInt8 := dkwX6_digest_10 ++ dktX6_digest_11
def dkwX6_digest_9 : List UInt8 := [105, 42, 3, 182, 0, 242, 133, 97, 64, 20, 1, 41, 31, 105, 42, 4, 182, 0, 242, 133, 97, 64]
abbrev dktX6_digest_9 : List UInt8 := dkwX6_digest_9 ++ dktX6_digest_10
def dkwX6_digest_8 : List UInt8 := [105, 42, 182, 0, 233, 133, 97, 64, 20, 1, 41, 31, 105, 42, 182, 0, 236, 133, 97, 64, 20, 1, 41, 31]
abbrev dktX6_digest_8 : List UInt8 := dkwX6_digest_8 ++ dktX6_digest_9
def dkwX6_digest_7 : List UInt8 := [3, 182, 0, 227, 133, 97, 64, 20, 1, 41, 31, 105, 42, 4, 182, 0, 227, 133, 97, 64, 20, 1, 41, 31]
abbrev dktX6_digest_7 : List UInt8 := dkwX6_digest_7 ++ dktX6_digest_8
def dkwX6_digest_6 : List UInt8 := [182, 0, 213, 133, 97, 64, 20, 1, 41, 31, 105, 42, 182, 0, 223, 133, 97, 64, 20, 1, 41, 31, 105, 42]
abbrev dktX6_digest_6 : List UInt8 := dkwX6_digest_6 ++ dktX6_digest_7
def dkwX6_digest_5 : List UInt8 := [20, 1, 41, 31, 105, 42, 16, 9, 2, 182, 0, 213, 133, 97, 64, 20, 1, 41, 31, 105, 42, 16, 19, 2]
abbrev dktX6_digest_5 : List UInt8 := dkwX6_digest_5 ++ dktX6_digest_6
def dkwX6_digest_4 : List UInt8 := [182, 1, 52, 64, 132, 3, 1, 167, 255, 238, 20, 1, 41, 31, 105, 42, 3, 2, 182, 0, 213, 133, 97, 64]
abbrev dktX6_digest_4 : List UInt8 := dkwX6_digest_4 ++ dktX6_digest_5
def dkwX6_digest_3 : List UInt8 := [182, 1, 48, 64, 132, 3, 1, 167, 255, 238, 3, 62, 29, 42, 180, 0, 125, 162, 0, 16, 42, 31, 29]
abbrev dktX6_digest_3 : List UInt8 := dkwX6_digest_3 ++ dktX6_digest_4
def dkwX6_digest_2 : List UInt8 := [105, 42, 4, 182, 0, 138, 133, 97, 64, 3, 62, 29, 42, 180, 0, 122, 162, 0, 16, 42, 31, 29]
abbrev dktX6_digest_2 : List UInt8 := dkwX6_digest_2 ++ dktX6_digest_3
def dkwX6_digest_1 : List UInt8 := [64, 132, 3, 1, 167, 255, 234, 20, 1, 41, 31, 105, 42, 3, 182, 0, 138, 133, 97, 64, 20, 1, 41, 31]
abbrev dktX6_digest_1 : List UInt8 := dkwX6_digest_1 ++ dktX6_digest_2
def dkwX6_digest_0 : List UInt8 := [20, 1, 43, 64, 3, 62, 29, 16, 8, 162, 0, 22, 20, 1, 41, 31, 105, 42, 29, 182, 1, 45, 133, 97]
abbrev dktX6_digest_0 : List UInt8 := dkwX6_digest_0 ++ dktX6_digest_1
theorem dksX6_digest_0 : cX6_digest.data.toList.drop 0 = dktX6_digest_0 := by decide +kernel
theorem dksX6_digest_1 : cX6_digest.data.toList.drop 24 = dktX6_digest_1 := dk_seg dksX6_digest_0 24 rfl rfl
theorem dksX6_digest_2 : cX6_digest.data.toList.drop 48 = dktX6_digest_2 := dk_seg dksX6_digest_1 24 rfl rfl
theorem dksX6_digest_3 : cX6_digest.data.toList.drop 70 = dktX6_digest_3 := dk_seg dksX6_digest_2 22 rfl rfl
theorem dksX6_digest_4 : cX6_digest.data.toList.drop 93 = dktX6_digest_4 := dk_seg dksX6_digest_3 23 rfl rfl
theorem dksX6_digest_5 : cX6_digest.data.toList.drop 117 = dktX6_digest_5 := dk_seg dksX6_digest_4 24 rfl rfl
theorem dksX6_digest_6 : cX6_digest.data.toList.drop 141 = dktX6_digest_6 := dk_seg dksX6_digest_5 24 rfl rfl
theorem dksX6_digest_7 : cX6_digest.data.toList.drop 165 = dktX6_digest_7 := dk_seg dksX6_digest_6 24 rfl rfl
theorem dksX6_digest_8 : cX6_digest.data.toList.drop 189 = dktX6_digest_8 := dk_seg dksX6_digest_7 24 rfl rfl
theorem dksX6_digest_9 : cX6_digest.data.toList.drop 213 = dktX6_digest_9 := dk_seg dksX6_digest_8 24 rfl rfl
theorem dksX6_digest_10 : cX6_digest.data.toList.drop 235 = dktX6_digest_10 := dk_seg dksX6_digest_9 22 rfl rfl
theorem dksX6_digest_11 : cX6_digest.data.toList.drop 259 = dktX6_digest_11 := dk_seg dksX6_digest_10 24 rfl rfl
theorem dksX6_digest_12 : cX6_digest.data.toList.drop 283 = dktX6_digest_12 := dk_seg dksX6_digest_11 24 rfl rfl
theorem dksX6_digest_13 : cX6_digest.data.toList.drop 307 = dktX6_digest_13 := dk_seg dksX6_digest_12 24 rfl rfl
theorem dX6_digest_0 : decode cX6_digest 0 = .ok (.ldc2_w 299, 3) := dk_20 1 43 (dk_at dksX6_digest_0 0 rfl rfl)
theorem dX6_digest_3 : decode cX6_digest 3 = .ok (.lstore_n 1, 1) := dk_64 (dk_at dksX6_digest_0 3 rfl rfl)
theorem dX6_digest_4 : decode cX6_digest 4 = .ok (.iconst 0, 1) := dk_3 (dk_at dksX6_digest_0 4 rfl rfl)
theorem dX6_digest_5 : decode cX6_digest 5 = .ok (.istore_n 3, 1) := dk_62 (dk_at dksX6_digest_0 5 rfl rfl)
theorem dX6_digest_6 : decode cX6_digest 6 = .ok (.iload_n 3, 1) := dk_29 (dk_at dksX6_digest_0 6 rfl rfl)
theorem dX6_digest_7 : decode cX6_digest 7 = .ok (.bipush 8, 2) := dk_16 8 (dk_at dksX6_digest_0 7 rfl rfl)
theorem dX6_digest_9 : decode cX6_digest 9 = .ok (.if_icmp .ge 22, 3) := dk_162 0 22 (dk_at dksX6_digest_0 9 rfl rfl)
theorem dX6_digest_12 : decode cX6_digest 12 = .ok (.ldc2_w 297, 3) := dk_20 1 41 (dk_at dksX6_digest_0 12 rfl rfl)
theorem dX6_digest_15 : decode cX6_digest 15 = .ok (.lload_n 1, 1) := dk_31 (dk_at dksX6_digest_0 15 rfl rfl)
theorem dX6_digest_16 : decode cX6_digest 16 = .ok (.lmul, 1) := dk_105 (dk_at dksX6_digest_0 16 rfl rfl)
theorem dX6_digest_17 : decode cX6_digest 17 = .ok (.aload_n 0, 1) := dk_42 (dk_at dksX6_digest_0 17 rfl rfl)
theorem dX6_digest_18 : decode cX6_digest 18 = .ok (.iload_n 3, 1) := dk_29 (dk_at dksX6_digest_0 18 rfl rfl)
theorem dX6_digest_19 : decode cX6_digest 19 = .ok (.invokevirtual 301, 3) := dk_182 1 45 (dk_at dksX6_digest_0 19 rfl rfl)
theorem dX6_digest_22 : decode cX6_digest 22 = .ok (.i2l, 1) := dk_133 (dk_at dksX6_digest_0 22 rfl rfl)
theorem dX6_digest_23 : decode cX6_digest 23 = .ok (.ladd, 1) := dk_97 (dk_at dksX6_digest_0 23 rfl rfl)
theorem dX6_digest_24 : decode cX6_digest 24 = .ok (.lstore_n 1, 1) := dk_64 (dk_at dksX6_digest_1 0 rfl rfl)
theorem dX6_digest_25 : decode cX6_digest 25 = .ok (.iinc 3 1, 3) := dk_132 3 1 (dk_at dksX6_digest_1 1 rfl rfl)
theorem dX6_digest_28 : decode cX6_digest 28 = .ok (.goto (-22), 3) := dk_167 255 234 (dk_at dksX6_digest_1 4 rfl rfl)
theorem dX6_digest_31 : decode cX6_digest 31 = .ok (.ldc2_w 297, 3) := dk_20 1 41 (dk_at dksX6_digest_1 7 rfl rfl)
theorem dX6_digest_34 : decode cX6_digest 34 = .ok (.lload_n 1, 1) := dk_31 (dk_at dksX6_digest_1 10 rfl rfl)
theorem dX6_digest_35 : decode cX6_digest 35 = .ok (.lmul, 1) := dk_105 (dk_at dksX6_digest_1 11 rfl rfl)
theorem dX6_digest_36 : decode cX6_digest 36 = .ok (.aload_n 0, 1) := dk_42 (dk_at dksX6_digest_1 12 rfl rfl)
theorem dX6_digest_37 : decode cX6_digest 37 = .ok (.iconst 0, 1) := dk_3 (dk_at dksX6_digest_1 13 rfl rfl)
theorem dX6_digest_38 : decode cX6_digest 38 = .ok (.invokevirtual 138, 3) := dk_182 0 138 (dk_at dksX6_digest_1 14 rfl rfl)
theorem dX6_digest_41 : decode cX6_digest 41 = .ok (.i2l, 1) := dk_133 (dk_at dksX6_digest_1 17 rfl rfl)
theorem dX6_digest_42 : decode cX6_digest 42 = .ok (.ladd, 1) := dk_97 (dk_at dksX6_digest_1 18 rfl rfl)
theorem dX6_digest_43 : decode cX6_digest 43 = .ok (.lstore_n 1, 1) := dk_64 (dk_at dksX6_digest_1 19 rfl rfl)
theorem dX6_digest_44 : decode cX6_digest 44 = .ok (.ldc2_w 297, 3) := dk_20 1 41 (dk_at dksX6_digest_1 20 rfl rfl)
theorem dX6_digest_47 : decode cX6_digest 47 = .ok (.lload_n 1, 1) := dk_31 (dk_at dksX6_digest_1 23 rfl rfl)
theorem dX6_digest_48 : decode cX6_digest 48 = .ok (.lmul, 1) := dk_105 (dk_at dksX6_digest_2 0 rfl rfl)
theorem dX6_digest_49 : decode cX6_digest 49 = .ok (.aload_n 0, 1) := dk_42 (dk_at dksX6_digest_2 1 rfl rfl)
theorem dX6_digest_50 : decode cX6_digest 50 = .ok (.iconst 1, 1) := dk_4 (dk_at dksX6_digest_2 2 rfl rfl)
theorem dX6_digest_51 : decode cX6_digest 51 = .ok (.invokevirtual 138, 3) := dk_182 0 138 (dk_at dksX6_digest_2 3 rfl rfl)
theorem dX6_digest_54 : decode cX6_digest 54 = .ok (.i2l, 1) := dk_133 (dk_at dksX6_digest_2 6 rfl rfl)
theorem dX6_digest_55 : decode cX6_digest 55 = .ok (.ladd, 1) := dk_97 (dk_at dksX6_digest_2 7 rfl rfl)
theorem dX6_digest_56 : decode cX6_digest 56 = .ok (.lstore_n 1, 1) := dk_64 (dk_at dksX6_digest_2 8 rfl rfl)
theorem dX6_digest_57 : decode cX6_digest 57 = .ok (.iconst 0, 1) := dk_3 (dk_at dksX6_digest_2 9 rfl rfl)
theorem dX6_digest_58 : decode cX6_digest 58 = .ok (.istore_n 3, 1) := dk_62 (dk_at dksX6_digest_2 10 rfl rfl)
theorem dX6_digest_59 : decode cX6_digest 59 = .ok (.iload_n 3, 1) := dk_29 (dk_at dksX6_digest_2 11 rfl rfl)
theorem dX6_digest_60 : decode cX6_digest 60 = .ok (.aload_n 0, 1) := dk_42 (dk_at dksX6_digest_2 12 rfl rfl)
theorem dX6_digest_61 : decode cX6_digest 61 = .ok (.getfield 122, 3) := dk_180 0 122 (dk_at dksX6_digest_2 13 rfl rfl)
theorem dX6_digest_64 : decode cX6_digest 64 = .ok (.if_icmp .ge 16, 3) := dk_162 0 16 (dk_at dksX6_digest_2 16 rfl rfl)
theorem dX6_digest_67 : decode cX6_digest 67 = .ok (.aload_n 0, 1) := dk_42 (dk_at dksX6_digest_2 19 rfl rfl)
theorem dX6_digest_68 : decode cX6_digest 68 = .ok (.lload_n 1, 1) := dk_31 (dk_at dksX6_digest_2 20 rfl rfl)
theorem dX6_digest_69 : decode cX6_digest 69 = .ok (.iload_n 3, 1) := dk_29 (dk_at dksX6_digest_2 21 rfl rfl)
theorem dX6_digest_70 : decode cX6_digest 70 = .ok (.invokevirtual 304, 3) := dk_182 1 48 (dk_at dksX6_digest_3 0 rfl rfl)
theorem dX6_digest_73 : decode cX6_digest 73 = .ok (.lstore_n 1, 1) := dk_64 (dk_at dksX6_digest_3 3 rfl rfl)
theorem dX6_digest_74 : decode cX6_digest 74 = .ok (.iinc 3 1, 3) := dk_132 3 1 (dk_at dksX6_digest_3 4 rfl rfl)
theorem dX6_digest_77 : decode cX6_digest 77 = .ok (.goto (-18), 3) := dk_167 255 238 (dk_at dksX6_digest_3 7 rfl rfl)
theorem dX6_digest_80 : decode cX6_digest 80 = .ok (.iconst 0, 1) := dk_3 (dk_at dksX6_digest_3 10 rfl rfl)
theorem dX6_digest_81 : decode cX6_digest 81 = .ok (.istore_n 3, 1) := dk_62 (dk_at dksX6_digest_3 11 rfl rfl)
theorem dX6_digest_82 : decode cX6_digest 82 = .ok (.iload_n 3, 1) := dk_29 (dk_at dksX6_digest_3 12 rfl rfl)
theorem dX6_digest_83 : decode cX6_digest 83 = .ok (.aload_n 0, 1) := dk_42 (dk_at dksX6_digest_3 13 rfl rfl)
theorem dX6_digest_84 : decode cX6_digest 84 = .ok (.getfield 125, 3) := dk_180 0 125 (dk_at dksX6_digest_3 14 rfl rfl)
theorem dX6_digest_87 : decode cX6_digest 87 = .ok (.if_icmp .ge 16, 3) := dk_162 0 16 (dk_at dksX6_digest_3 17 rfl rfl)
theorem dX6_digest_90 : decode cX6_digest 90 = .ok (.aload_n 0, 1) := dk_42 (dk_at dksX6_digest_3 20 rfl rfl)
theorem dX6_digest_91 : decode cX6_digest 91 = .ok (.lload_n 1, 1) := dk_31 (dk_at dksX6_digest_3 21 rfl rfl)
theorem dX6_digest_92 : decode cX6_digest 92 = .ok (.iload_n 3, 1) := dk_29 (dk_at dksX6_digest_3 22 rfl rfl)
theorem dX6_digest_93 : decode cX6_digest 93 = .ok (.invokevirtual 308, 3) := dk_182 1 52 (dk_at dksX6_digest_4 0 rfl rfl)
theorem dX6_digest_96 : decode cX6_digest 96 = .ok (.lstore_n 1, 1) := dk_64 (dk_at dksX6_digest_4 3 rfl rfl)
theorem dX6_digest_97 : decode cX6_digest 97 = .ok (.iinc 3 1, 3) := dk_132 3 1 (dk_at dksX6_digest_4 4 rfl rfl)
theorem dX6_digest_100 : decode cX6_digest 100 = .ok (.goto (-18), 3) := dk_167 255 238 (dk_at dksX6_digest_4 7 rfl rfl)
theorem dX6_digest_103 : decode cX6_digest 103 = .ok (.ldc2_w 297, 3) := dk_20 1 41 (dk_at dksX6_digest_4 10 rfl rfl)
theorem dX6_digest_106 : decode cX6_digest 106 = .ok (.lload_n 1, 1) := dk_31 (dk_at dksX6_digest_4 13 rfl rfl)
theorem dX6_digest_107 : decode cX6_digest 107 = .ok (.lmul, 1) := dk_105 (dk_at dksX6_digest_4 14 rfl rfl)
theorem dX6_digest_108 : decode cX6_digest 108 = .ok (.aload_n 0, 1) := dk_42 (dk_at dksX6_digest_4 15 rfl rfl)
theorem dX6_digest_109 : decode cX6_digest 109 = .ok (.iconst 0, 1) := dk_3 (dk_at dksX6_digest_4 16 rfl rfl)
theorem dX6_digest_110 : decode cX6_digest 110 = .ok (.iconst (-1), 1) := dk_2 (dk_at dksX6_digest_4 17 rfl rfl)
theorem dX6_digest_111 : decode cX6_digest 111 = .ok (.invokevirtual 213, 3) := dk_182 0 213 (dk_at dksX6_digest_4 18 rfl rfl)
theorem dX6_digest_114 : decode cX6_digest 114 = .ok (.i2l, 1) := dk_133 (dk_at dksX6_digest_4 21 rfl rfl)
theorem dX6_digest_115 : decode cX6_digest 115 = .ok (.ladd, 1) := dk_97 (dk_at dksX6_digest_4 22 rfl rfl)
theorem dX6_digest_116 : decode cX6_digest 116 = .ok (.lstore_n 1, 1) := dk_64 (dk_at dksX6_digest_4 23 rfl rfl)
theorem dX6_digest_117 : decode cX6_digest 117 = .ok (.ldc2_w 297, 3) := dk_20 1 41 (dk_at dksX6_digest_5 0 rfl rfl)
theorem dX6_digest_120 : decode cX6_digest 120 = .ok (.lload_n 1, 1) := dk_31 (dk_at dksX6_digest_5 3 rfl rfl)
theorem dX6_digest_121 : decode cX6_digest 121 = .ok (.lmul, 1) := dk_105 (dk_at dksX6_digest_5 4 rfl rfl)
theorem dX6_digest_122 : decode cX6_digest 122 = .ok (.aload_n 0, 1) := dk_42 (dk_at dksX6_digest_5 5 rfl rfl)
theorem dX6_digest_123 : decode cX6_digest 123 = .ok (.bipush 9, 2) := dk_16 9 (dk_at dksX6_digest_5 6 rfl rfl)
theorem dX6_digest_125 : decode cX6_digest 125 = .ok (.iconst (-1), 1) := dk_2 (dk_at dksX6_digest_5 8 rfl rfl)
theorem dX6_digest_126 : decode cX6_digest 126 = .ok (.invokevirtual 213, 3) := dk_182 0 213 (dk_at dksX6_digest_5 9 rfl rfl)
theorem dX6_digest_129 : decode cX6_digest 129 = .ok (.i2l, 1) := dk_133 (dk_at dksX6_digest_5 12 rfl rfl)
theorem dX6_digest_130 : decode cX6_digest 130 = .ok (.ladd, 1) := dk_97 (dk_at dksX6_digest_5 13 rfl rfl)
theorem dX6_digest_131 : decode cX6_digest 131 = .ok (.lstore_n 1, 1) := dk_64 (dk_at dksX6_digest_5 14 rfl rfl)
theorem dX6_digest_132 : decode cX6_digest 132 = .ok (.ldc2_w 297, 3) := dk_20 1 41 (dk_at dksX6_digest_5 15 rfl rfl)
theorem dX6_digest_135 : decode cX6_digest 135 = .ok (.lload_n 1, 1) := dk_31 (dk_at dksX6_digest_5 18 rfl rfl)
theorem dX6_digest_136 : decode cX6_digest 136 = .ok (.lmul, 1) := dk_105 (dk_at dksX6_digest_5 19 rfl rfl)
theorem dX6_digest_137 : decode cX6_digest 137 = .ok (.aload_n 0, 1) := dk_42 (dk_at dksX6_digest_5 20 rfl rfl)
theorem dX6_digest_138 : decode cX6_digest 138 = .ok (.bipush 19, 2) := dk_16 19 (dk_at dksX6_digest_5 21 rfl rfl)
theorem dX6_digest_140 : decode cX6_digest 140 = .ok (.iconst (-1), 1) := dk_2 (dk_at dksX6_digest_5 23 rfl rfl)
theorem dX6_digest_141 : decode cX6_digest 141 = .ok (.invokevirtual 213, 3) := dk_182 0 213 (dk_at dksX6_digest_6 0 rfl rfl)
theorem dX6_digest_144 : decode cX6_digest 144 = .ok (.i2l, 1) := dk_133 (dk_at dksX6_digest_6 3 rfl rfl)
theorem dX6_digest_145 : decode cX6_digest 145 = .ok (.ladd, 1) := dk_97 (dk_at dksX6_digest_6 4 rfl rfl)
theorem dX6_digest_146 : decode cX6_digest 146 = .ok (.lstore_n 1, 1) := dk_64 (dk_at dksX6_digest_6 5 rfl rfl)
theorem dX6_digest_147 : decode cX6_digest 147 = .ok (.ldc2_w 297, 3) := dk_20 1 41 (dk_at dksX6_digest_6 6 rfl rfl)
theorem dX6_digest_150 : decode cX6_digest 150 = .ok (.lload_n 1, 1) := dk_31 (dk_at dksX6_digest_6 9 rfl rfl)
theorem dX6_digest_151 : decode cX6_digest 151 = .ok (.lmul, 1) := dk_105 (dk_at dksX6_digest_6 10 rfl rfl)
theorem dX6_digest_152 : decode cX6_digest 152 = .ok (.aload_n 0, 1) := dk_42 (dk_at dksX6_digest_6 11 rfl rfl)
theorem dX6_digest_153 : decode cX6_digest 153 = .ok (.invokevirtual 223, 3) := dk_182 0 223 (dk_at dksX6_digest_6 12 rfl rfl)
theorem dX6_digest_156 : decode cX6_digest 156 = .ok (.i2l, 1) := dk_133 (dk_at dksX6_digest_6 15 rfl rfl)
theorem dX6_digest_157 : decode cX6_digest 157 = .ok (.ladd, 1) := dk_97 (dk_at dksX6_digest_6 16 rfl rfl)
theorem dX6_digest_158 : decode cX6_digest 158 = .ok (.lstore_n 1, 1) := dk_64 (dk_at dksX6_digest_6 17 rfl rfl)
theorem dX6_digest_159 : decode cX6_digest 159 = .ok (.ldc2_w 297, 3) := dk_20 1 41 (dk_at dksX6_digest_6 18 rfl rfl)
theorem dX6_digest_162 : decode cX6_digest 162 = .ok (.lload_n 1, 1) := dk_31 (dk_at dksX6_digest_6 21 rfl rfl)
theorem dX6_digest_163 : decode cX6_digest 163 = .ok (.lmul, 1) := dk_105 (dk_at dksX6_digest_6 22 rfl rfl)
theorem dX6_digest_164 : decode cX6_digest 164 = .ok (.aload_n 0, 1) := dk_42 (dk_at dksX6_digest_6 23 rfl rfl)
theorem dX6_digest_165 : decode cX6_digest 165 = .ok (.iconst 0, 1) := dk_3 (dk_at dksX6_digest_7 0 rfl rfl)
theorem dX6_digest_166 : decode cX6_digest 166 = .ok (.invokevirtual 227, 3) := dk_182 0 227 (dk_at dksX6_digest_7 1 rfl rfl)
theorem dX6_digest_169 : decode cX6_digest 169 = .ok (.i2l, 1) := dk_133 (dk_at dksX6_digest_7 4 rfl rfl)
theorem dX6_digest_170 : decode cX6_digest 170 = .ok (.ladd, 1) := dk_97 (dk_at dksX6_digest_7 5 rfl rfl)
theorem dX6_digest_171 : decode cX6_digest 171 = .ok (.lstore_n 1, 1) := dk_64 (dk_at dksX6_digest_7 6 rfl rfl)
theorem dX6_digest_172 : decode cX6_digest 172 = .ok (.ldc2_w 297, 3) := dk_20 1 41 (dk_at dksX6_digest_7 7 rfl rfl)
theorem dX6_digest_175 : decode cX6_digest 175 = .ok (.lload_n 1, 1) := dk_31 (dk_at dksX6_digest_7 10 rfl rfl)
theorem dX6_digest_176 : decode cX6_digest 176 = .ok (.lmul, 1) := dk_105 (dk_at dksX6_digest_7 11 rfl rfl)
theorem dX6_digest_177 : decode cX6_digest 177 = .ok (.aload_n 0, 1) := dk_42 (dk_at dksX6_digest_7 12 rfl rfl)
theorem dX6_digest_178 : decode cX6_digest 178 = .ok (.iconst 1, 1) := dk_4 (dk_at dksX6_digest_7 13 rfl rfl)
theorem dX6_digest_179 : decode cX6_digest 179 = .ok (.invokevirtual 227, 3) := dk_182 0 227 (dk_at dksX6_digest_7 14 rfl rfl)
theorem dX6_digest_182 : decode cX6_digest 182 = .ok (.i2l, 1) := dk_133 (dk_at dksX6_digest_7 17 rfl rfl)
theorem dX6_digest_183 : decode cX6_digest 183 = .ok (.ladd, 1) := dk_97 (dk_at dksX6_digest_7 18 rfl rfl)
theorem dX6_digest_184 : decode cX6_digest 184 = .ok (.lstore_n 1, 1) := dk_64 (dk_at dksX6_digest_7 19 rfl rfl)
theorem dX6_digest_185 : decode cX6_digest 185 = .ok (.ldc2_w 297, 3) := dk_20 1 41 (dk_at dksX6_digest_7 20 rfl rfl)
theorem dX6_digest_188 : decode cX6_digest 188 = .ok (.lload_n 1, 1) := dk_31 (dk_at dksX6_digest_7 23 rfl rfl)
theorem dX6_digest_189 : decode cX6_digest 189 = .ok (.lmul, 1) := dk_105 (dk_at dksX6_digest_8 0 rfl rfl)
theorem dX6_digest_190 : decode cX6_digest 190 = .ok (.aload_n 0, 1) := dk_42 (dk_at dksX6_digest_8 1 rfl rfl)
theorem dX6_digest_191 : decode cX6_digest 191 = .ok (.invokevirtual 233, 3) := dk_182 0 233 (dk_at dksX6_digest_8 2 rfl rfl)
theorem dX6_digest_194 : decode cX6_digest 194 = .ok (.i2l, 1) := dk_133 (dk_at dksX6_digest_8 5 rfl rfl)
theorem dX6_digest_195 : decode cX6_digest 195 = .ok (.ladd, 1) := dk_97 (dk_at dksX6_digest_8 6 rfl rfl)
theorem dX6_digest_196 : decode cX6_digest 196 = .ok (.lstore_n 1, 1) := dk_64 (dk_at dksX6_digest_8 7 rfl rfl)
theorem dX6_digest_197 : decode cX6_digest 197 = .ok (.ldc2_w 297, 3) := dk_20 1 41 (dk_at dksX6_digest_8 8 rfl rfl)
theorem dX6_digest_200 : decode cX6_digest 200 = .ok (.lload_n 1, 1) := dk_31 (dk_at dksX6_digest_8 11 rfl rfl)
theorem dX6_digest_201 : decode cX6_digest 201 = .ok (.lmul, 1) := dk_105 (dk_at dksX6_digest_8 12 rfl rfl)
theorem dX6_digest_202 : decode cX6_digest 202 = .ok (.aload_n 0, 1) := dk_42 (dk_at dksX6_digest_8 13 rfl rfl)
theorem dX6_digest_203 : decode cX6_digest 203 = .ok (.invokevirtual 236, 3) := dk_182 0 236 (dk_at dksX6_digest_8 14 rfl rfl)
theorem dX6_digest_206 : decode cX6_digest 206 = .ok (.i2l, 1) := dk_133 (dk_at dksX6_digest_8 17 rfl rfl)
theorem dX6_digest_207 : decode cX6_digest 207 = .ok (.ladd, 1) := dk_97 (dk_at dksX6_digest_8 18 rfl rfl)
theorem dX6_digest_208 : decode cX6_digest 208 = .ok (.lstore_n 1, 1) := dk_64 (dk_at dksX6_digest_8 19 rfl rfl)
theorem dX6_digest_209 : decode cX6_digest 209 = .ok (.ldc2_w 297, 3) := dk_20 1 41 (dk_at dksX6_digest_8 20 rfl rfl)
theorem dX6_digest_212 : decode cX6_digest 212 = .ok (.lload_n 1, 1) := dk_31 (dk_at dksX6_digest_8 23 rfl rfl)
theorem dX6_digest_213 : decode cX6_digest 213 = .ok (.lmul, 1) := dk_105 (dk_at dksX6_digest_9 0 rfl rfl)
theorem dX6_digest_214 : decode cX6_digest 214 = .ok (.aload_n 0, 1) := dk_42 (dk_at dksX6_digest_9 1 rfl rfl)
theorem dX6_digest_215 : decode cX6_digest 215 = .ok (.iconst 0, 1) := dk_3 (dk_at dksX6_digest_9 2 rfl rfl)
theorem dX6_digest_216 : decode cX6_digest 216 = .ok (.invokevirtual 242, 3) := dk_182 0 242 (dk_at dksX6_digest_9 3 rfl rfl)
theorem dX6_digest_219 : decode cX6_digest 219 = .ok (.i2l, 1) := dk_133 (dk_at dksX6_digest_9 6 rfl rfl)
theorem dX6_digest_220 : decode cX6_digest 220 = .ok (.ladd, 1) := dk_97 (dk_at dksX6_digest_9 7 rfl rfl)
theorem dX6_digest_221 : decode cX6_digest 221 = .ok (.lstore_n 1, 1) := dk_64 (dk_at dksX6_digest_9 8 rfl rfl)
theorem dX6_digest_222 : decode cX6_digest 222 = .ok (.ldc2_w 297, 3) := dk_20 1 41 (dk_at dksX6_digest_9 9 rfl rfl)
theorem dX6_digest_225 : decode cX6_digest 225 = .ok (.lload_n 1, 1) := dk_31 (dk_at dksX6_digest_9 12 rfl rfl)
theorem dX6_digest_226 : decode cX6_digest 226 = .ok (.lmul, 1) := dk_105 (dk_at dksX6_digest_9 13 rfl rfl)
theorem dX6_digest_227 : decode cX6_digest 227 = .ok (.aload_n 0, 1) := dk_42 (dk_at dksX6_digest_9 14 rfl rfl)
theorem dX6_digest_228 : decode cX6_digest 228 = .ok (.iconst 1, 1) := dk_4 (dk_at dksX6_digest_9 15 rfl rfl)
theorem dX6_digest_229 : decode cX6_digest 229 = .ok (.invokevirtual 242, 3) := dk_182 0 242 (dk_at dksX6_digest_9 16 rfl rfl)
theorem dX6_digest_232 : decode cX6_digest 232 = .ok (.i2l, 1) := dk_133 (dk_at dksX6_digest_9 19 rfl rfl)
theorem dX6_digest_233 : decode cX6_digest 233 = .ok (.ladd, 1) := dk_97 (dk_at dksX6_digest_9 20 rfl rfl)
theorem dX6_digest_234 : decode cX6_digest 234 = .ok (.lstore_n 1, 1) := dk_64 (dk_at dksX6_digest_9 21 rfl rfl)
theorem dX6_digest_235 : decode cX6_digest 235 = .ok (.ldc2_w 297, 3) := dk_20 1 41 (dk_at dksX6_digest_10 0 rfl rfl)
theorem dX6_digest_238 : decode cX6_digest 238 = .ok (.lload_n 1, 1) := dk_31 (dk_at dksX6_digest_10 3 rfl rfl)
theorem dX6_digest_239 : decode cX6_digest 239 = .ok (.lmul, 1) := dk_105 (dk_at dksX6_digest_10 4 rfl rfl)
theorem dX6_digest_240 : decode cX6_digest 240 = .ok (.aload_n 0, 1) := dk_42 (dk_at dksX6_digest_10 5 rfl rfl)
theorem dX6_digest_241 : decode cX6_digest 241 = .ok (.invokevirtual 245, 3) := dk_182 0 245 (dk_at dksX6_digest_10 6 rfl rfl)
theorem dX6_digest_244 : decode cX6_digest 244 = .ok (.i2l, 1) := dk_133 (dk_at dksX6_digest_10 9 rfl rfl)
theorem dX6_digest_245 : decode cX6_digest 245 = .ok (.ladd, 1) := dk_97 (dk_at dksX6_digest_10 10 rfl rfl)
theorem dX6_digest_246 : decode cX6_digest 246 = .ok (.lstore_n 1, 1) := dk_64 (dk_at dksX6_digest_10 11 rfl rfl)
theorem dX6_digest_247 : decode cX6_digest 247 = .ok (.ldc2_w 297, 3) := dk_20 1 41 (dk_at dksX6_digest_10 12 rfl rfl)
theorem dX6_digest_250 : decode cX6_digest 250 = .ok (.lload_n 1, 1) := dk_31 (dk_at dksX6_digest_10 15 rfl rfl)
theorem dX6_digest_251 : decode cX6_digest 251 = .ok (.lmul, 1) := dk_105 (dk_at dksX6_digest_10 16 rfl rfl)
theorem dX6_digest_252 : decode cX6_digest 252 = .ok (.aload_n 0, 1) := dk_42 (dk_at dksX6_digest_10 17 rfl rfl)
theorem dX6_digest_253 : decode cX6_digest 253 = .ok (.invokevirtual 255, 3) := dk_182 0 255 (dk_at dksX6_digest_10 18 rfl rfl)
theorem dX6_digest_256 : decode cX6_digest 256 = .ok (.i2l, 1) := dk_133 (dk_at dksX6_digest_10 21 rfl rfl)
theorem dX6_digest_257 : decode cX6_digest 257 = .ok (.ladd, 1) := dk_97 (dk_at dksX6_digest_10 22 rfl rfl)
theorem dX6_digest_258 : decode cX6_digest 258 = .ok (.lstore_n 1, 1) := dk_64 (dk_at dksX6_digest_10 23 rfl rfl)
theorem dX6_digest_259 : decode cX6_digest 259 = .ok (.ldc2_w 297, 3) := dk_20 1 41 (dk_at dksX6_digest_11 0 rfl rfl)
theorem dX6_digest_262 : decode cX6_digest 262 = .ok (.lload_n 1, 1) := dk_31 (dk_at dksX6_digest_11 3 rfl rfl)
theorem dX6_digest_263 : decode cX6_digest 263 = .ok (.lmul, 1) := dk_105 (dk_at dksX6_digest_11 4 rfl rfl)
theorem dX6_digest_264 : decode cX6_digest 264 = .ok (.aload_n 0, 1) := dk_42 (dk_at dksX6_digest_11 5 rfl rfl)
theorem dX6_digest_265 : decode cX6_digest 265 = .ok (.invokevirtual 261, 3) := dk_182 1 5 (dk_at dksX6_digest_11 6 rfl rfl)
theorem dX6_digest_268 : decode cX6_digest 268 = .ok (.i2l, 1) := dk_133 (dk_at dksX6_digest_11 9 rfl rfl)
theorem dX6_digest_269 : decode cX6_digest 269 = .ok (.ladd, 1) := dk_97 (dk_at dksX6_digest_11 10 rfl rfl)
theorem dX6_digest_270 : decode cX6_digest 270 = .ok (.lstore_n 1, 1) := dk_64 (dk_at dksX6_digest_11 11 rfl rfl)
theorem dX6_digest_271 : decode cX6_digest 271 = .ok (.ldc2_w 297, 3) := dk_20 1 41 (dk_at dksX6_digest_11 12 rfl rfl)
theorem dX6_digest_274 : decode cX6_digest 274 = .ok (.lload_n 1, 1) := dk_31 (dk_at dksX6_digest_11 15 rfl rfl)
theorem dX6_digest_275 : decode cX6_digest 275 = .ok (.lmul, 1) := dk_105 (dk_at dksX6_digest_11 16 rfl rfl)
theorem dX6_digest_276 : decode cX6_digest 276 = .ok (.aload_n 0, 1) := dk_42 (dk_at dksX6_digest_11 17 rfl rfl)
theorem dX6_digest_277 : decode cX6_digest 277 = .ok (.iconst 5, 1) := dk_8 (dk_at dksX6_digest_11 18 rfl rfl)
theorem dX6_digest_278 : decode cX6_digest 278 = .ok (.iconst 0, 1) := dk_3 (dk_at dksX6_digest_11 19 rfl rfl)
theorem dX6_digest_279 : decode cX6_digest 279 = .ok (.invokevirtual 271, 3) := dk_182 1 15 (dk_at dksX6_digest_11 20 rfl rfl)
theorem dX6_digest_282 : decode cX6_digest 282 = .ok (.ladd, 1) := dk_97 (dk_at dksX6_digest_11 23 rfl rfl)
theorem dX6_digest_283 : decode cX6_digest 283 = .ok (.lstore_n 1, 1) := dk_64 (dk_at dksX6_digest_12 0 rfl rfl)
theorem dX6_digest_284 : decode cX6_digest 284 = .ok (.ldc2_w 297, 3) := dk_20 1 41 (dk_at dksX6_digest_12 1 rfl rfl)
theorem dX6_digest_287 : decode cX6_digest 287 = .ok (.lload_n 1, 1) := dk_31 (dk_at dksX6_digest_12 4 rfl rfl)
theorem dX6_digest_288 : decode cX6_digest 288 = .ok (.lmul, 1) := dk_105 (dk_at dksX6_digest_12 5 rfl rfl)
theorem dX6_digest_289 : decode cX6_digest 289 = .ok (.aload_n 0, 1) := dk_42 (dk_at dksX6_digest_12 6 rfl rfl)
theorem dX6_digest_290 : decode cX6_digest 290 = .ok (.iconst 5, 1) := dk_8 (dk_at dksX6_digest_12 7 rfl rfl)
theorem dX6_digest_291 : decode cX6_digest 291 = .ok (.iconst 1, 1) := dk_4 (dk_at dksX6_digest_12 8 rfl rfl)
theorem dX6_digest_292 : decode cX6_digest 292 = .ok (.invokevirtual 271, 3) := dk_182 1 15 (dk_at dksX6_digest_12 9 rfl rfl)
theorem dX6_digest_295 : decode cX6_digest 295 = .ok (.ladd, 1) := dk_97 (dk_at dksX6_digest_12 12 rfl rfl)
theorem dX6_digest_296 : decode cX6_digest 296 = .ok (.lstore_n 1, 1) := dk_64 (dk_at dksX6_digest_12 13 rfl rfl)
theorem dX6_digest_297 : decode cX6_digest 297 = .ok (.ldc2_w 297, 3) := dk_20 1 41 (dk_at dksX6_digest_12 14 rfl rfl)
theorem dX6_digest_300 : decode cX6_digest 300 = .ok (.lload_n 1, 1) := dk_31 (dk_at dksX6_digest_12 17 rfl rfl)
theorem dX6_digest_301 : decode cX6_digest 301 = .ok (.lmul, 1) := dk_105 (dk_at dksX6_digest_12 18 rfl rfl)
theorem dX6_digest_302 : decode cX6_digest 302 = .ok (.aload_n 0, 1) := dk_42 (dk_at dksX6_digest_12 19 rfl rfl)
theorem dX6_digest_303 : decode cX6_digest 303 = .ok (.bipush 7, 2) := dk_16 7 (dk_at dksX6_digest_12 20 rfl rfl)
theorem dX6_digest_305 : decode cX6_digest 305 = .ok (.bipush 15, 2) := dk_16 15 (dk_at dksX6_digest_12 22 rfl rfl)
theorem dX6_digest_307 : decode cX6_digest 307 = .ok (.iconst 0, 1) := dk_3 (dk_at dksX6_digest_13 0 rfl rfl)
theorem dX6_digest_308 : decode cX6_digest 308 = .ok (.invokevirtual 280, 3) := dk_182 1 24 (dk_at dksX6_digest_13 1 rfl rfl)
theorem dX6_digest_311 : decode cX6_digest 311 = .ok (.i2l, 1) := dk_133 (dk_at dksX6_digest_13 4 rfl rfl)
theorem dX6_digest_312 : decode cX6_digest 312 = .ok (.ladd, 1) := dk_97 (dk_at dksX6_digest_13 5 rfl rfl)
theorem dX6_digest_313 : decode cX6_digest 313 = .ok (.lstore_n 1, 1) := dk_64 (dk_at dksX6_digest_13 6 rfl rfl)
theorem dX6_digest_314 : decode cX6_digest 314 = .ok (.ldc2_w 297, 3) := dk_20 1 41 (dk_at dksX6_digest_13 7 rfl rfl)
theorem dX6_digest_317 : decode cX6_digest 317 = .ok (.lload_n 1, 1) := dk_31 (dk_at dksX6_digest_13 10 rfl rfl)
theorem dX6_digest_318 : decode cX6_digest 318 = .ok (.lmul, 1) := dk_105 (dk_at dksX6_digest_13 11 rfl rfl)
theorem dX6_digest_319 : decode cX6_digest 319 = .ok (.aload_n 0, 1) := dk_42 (dk_at dksX6_digest_13 12 rfl rfl)
theorem dX6_digest_320 : decode cX6_digest 320 = .ok (.bipush 7, 2) := dk_16 7 (dk_at dksX6_digest_13 13 rfl rfl)
theorem dX6_digest_322 : decode cX6_digest 322 = .ok (.bipush 15, 2) := dk_16 15 (dk_at dksX6_digest_13 15 rfl rfl)
theorem dX6_digest_324 : decode cX6_digest 324 = .ok (.iconst 1, 1) := dk_4 (dk_at dksX6_digest_13 17 rfl rfl)
theorem dX6_digest_325 : decode cX6_digest 325 = .ok (.invokevirtual 280, 3) := dk_182 1 24 (dk_at dksX6_digest_13 18 rfl rfl)
theorem dX6_digest_328 : decode cX6_digest 328 = .ok (.i2l, 1) := dk_133 (dk_at dksX6_digest_13 21 rfl rfl)
theorem dX6_digest_329 : decode cX6_digest 329 = .ok (.ladd, 1) := dk_97 (dk_at dksX6_digest_13 22 rfl rfl)
theorem dX6_digest_330 : decode cX6_digest 330 = .ok (.lreturn, 1) := dk_173 (dk_at dksX6_digest_13 23 rfl rfl)
abbrev cX6_saverDigest : ByteArray := prog_14_method_87_code
def yX6_saverDigest : MethodName := ⟨RX6, "saverDigest", "(JI)J"⟩
def dkwX6_saverDigest_9 : List UInt8 := [182, 1, 8, 133, 97, 173]
abbrev dktX6_saverDigest_9 : List UInt8 := dkwX6_saverDigest_9 ++ []
def dkwX6_saverDigest_8 : List UInt8 := [20, 1, 41, 22, 4, 105, 42, 29, 182, 1, 2, 133, 97, 55, 4, 20, 1, 41, 22, 4, 105, 42, 29]
abbrev dktX6_saverDigest_8 : List UInt8 := dkwX6_saverDigest_8 ++ dktX6_saverDigest_9
def dkwX6_saverDigest_7 : List UInt8 := [182, 0, 239, 133, 97, 55, 4, 20, 1, 41, 22, 4, 105, 42, 29, 4, 182, 0, 239, 133, 97, 55, 4]
abbrev dktX6_saverDigest_7 : List UInt8 := dkwX6_saverDigest_7 ++ dktX6_saverDigest_8
def dkwX6_saverDigest_6 : List UInt8 := [22, 4, 105, 42, 16, 19, 29, 4, 182, 0, 216, 133, 97, 55, 4, 20, 1, 41, 22, 4, 105, 42, 29, 3]
abbrev dktX6_saverDigest_6 : List UInt8 := dkwX6_saverDigest_6 ++ dktX6_saverDigest_7
def dkwX6_saverDigest_5 : List UInt8 := [97, 55, 4, 20, 1, 41, 22, 4, 105, 42, 16, 19, 29, 3, 182, 0, 216, 133, 97, 55, 4, 20, 1, 41]
abbrev dktX6_saverDigest_5 : List UInt8 := dkwX6_saverDigest_5 ++ dktX6_saverDigest_6
def dkwX6_saverDigest_4 : List UInt8 := [8, 29, 3, 182, 0, 216, 133, 97, 55, 4, 20, 1, 41, 22, 4, 105, 42, 8, 29, 4, 182, 0, 216, 133]
abbrev dktX6_saverDigest_4 : List UInt8 := dkwX6_saverDigest_4 ++ dktX6_saverDigest_5
def dkwX6_saverDigest_3 : List UInt8 := [20, 1, 41, 22, 4, 105, 42, 16, 19, 29, 182, 0, 213, 133, 97, 55, 4, 20, 1, 41, 22, 4, 105, 42]
abbrev dktX6_saverDigest_3 : List UInt8 := dkwX6_saverDigest_3 ++ dktX6_saverDigest_4
def dkwX6_saverDigest_2 : List UInt8 := [182, 0, 213, 133, 97, 55, 4, 20, 1, 41, 22, 4, 105, 42, 16, 9, 29, 182, 0, 213, 133, 97, 55, 4]
abbrev dktX6_saverDigest_2 : List UInt8 := dkwX6_saverDigest_2 ++ dktX6_saverDigest_3
def dkwX6_saverDigest_1 : List UInt8 := [182, 0, 147, 133, 97, 55, 4, 132, 6, 1, 167, 255, 230, 20, 1, 41, 22, 4, 105, 42, 3, 29]
abbrev dktX6_saverDigest_1 : List UInt8 := dkwX6_saverDigest_1 ++ dktX6_saverDigest_2
def dkwX6_saverDigest_0 : List UInt8 := [31, 55, 4, 3, 54, 6, 21, 6, 6, 162, 0, 26, 20, 1, 41, 22, 4, 105, 42, 29, 21, 6]
abbrev dktX6_saverDigest_0 : List UInt8 := dkwX6_saverDigest_0 ++ dktX6_saverDigest_1
theorem dksX6_saverDigest_0 : cX6_saverDigest.data.toList.drop 0 = dktX6_saverDigest_0 := by decide +kernel
theorem dksX6_saverDigest_1 : cX6_saverDigest.data.toList.drop 22 = dktX6_saverDigest_1 := dk_seg dksX6_saverDigest_0 22 rfl rfl
theorem dksX6_saverDigest_2 : cX6_saverDigest.data.toList.drop 44 = dktX6_saverDigest_2 := dk_seg dksX6_saverDigest_1 22 rfl rfl
theorem dksX6_saverDigest_3 : cX6_saverDigest.data.toList.drop 68 = dktX6_saverDigest_3 := dk_seg dksX6_saverDigest_2 24 rfl rfl
theorem dksX6_saverDigest_4 : cX6_saverDigest.data.toList.drop 92 = dktX6_saverDigest_4 := dk_seg dksX6_saverDigest_3 24 rfl rfl
theorem dksX6_saverDigest_5 : cX6_saverDigest.data.toList.drop 116 = dktX6_saverDigest_5 := dk_seg dksX6_saverDigest_4 24 rfl rfl
theorem dksX6_saverDigest_6 : cX6_saverDigest.data.toList.drop 140 = dktX6_saverDigest_6 := dk_seg dksX6_saverDigest_5 24 rfl rfl
theorem dksX6_saverDigest_7 : cX6_saverDigest.data.toList.drop 164 = dktX6_saverDigest_7 := dk_seg dksX6_saverDigest_6 24 rfl rfl
theorem dksX6_saverDigest_8 : cX6_saverDigest.data.toList.drop 187 = dktX6_saverDigest_8 := dk_seg dksX6_saverDigest_7 23 rfl rfl
theorem dksX6_saverDigest_9 : cX6_saverDigest.data.toList.drop 210 = dktX6_saverDigest_9 := dk_seg dksX6_saverDigest_8 23 rfl rfl
theorem dX6_saverDigest_0 : decode cX6_saverDigest 0 = .ok (.lload_n 1, 1) := dk_31 (dk_at dksX6_saverDigest_0 0 rfl rfl)
theorem dX6_saverDigest_1 : decode cX6_saverDigest 1 = .ok (.lstore 4, 2) := dk_55 4 (dk_at dksX6_saverDigest_0 1 rfl rfl)
theorem dX6_saverDigest_3 : decode cX6_saverDigest 3 = .ok (.iconst 0, 1) := dk_3 (dk_at dksX6_saverDigest_0 3 rfl rfl)
theorem dX6_saverDigest_4 : decode cX6_saverDigest 4 = .ok (.istore 6, 2) := dk_54 6 (dk_at dksX6_saverDigest_0 4 rfl rfl)
theorem dX6_saverDigest_6 : decode cX6_saverDigest 6 = .ok (.iload 6, 2) := dk_21 6 (dk_at dksX6_saverDigest_0 6 rfl rfl)
theorem dX6_saverDigest_8 : decode cX6_saverDigest 8 = .ok (.iconst 3, 1) := dk_6 (dk_at dksX6_saverDigest_0 8 rfl rfl)
theorem dX6_saverDigest_9 : decode cX6_saverDigest 9 = .ok (.if_icmp .ge 26, 3) := dk_162 0 26 (dk_at dksX6_saverDigest_0 9 rfl rfl)
theorem dX6_saverDigest_12 : decode cX6_saverDigest 12 = .ok (.ldc2_w 297, 3) := dk_20 1 41 (dk_at dksX6_saverDigest_0 12 rfl rfl)
theorem dX6_saverDigest_15 : decode cX6_saverDigest 15 = .ok (.lload 4, 2) := dk_22 4 (dk_at dksX6_saverDigest_0 15 rfl rfl)
theorem dX6_saverDigest_17 : decode cX6_saverDigest 17 = .ok (.lmul, 1) := dk_105 (dk_at dksX6_saverDigest_0 17 rfl rfl)
theorem dX6_saverDigest_18 : decode cX6_saverDigest 18 = .ok (.aload_n 0, 1) := dk_42 (dk_at dksX6_saverDigest_0 18 rfl rfl)
theorem dX6_saverDigest_19 : decode cX6_saverDigest 19 = .ok (.iload_n 3, 1) := dk_29 (dk_at dksX6_saverDigest_0 19 rfl rfl)
theorem dX6_saverDigest_20 : decode cX6_saverDigest 20 = .ok (.iload 6, 2) := dk_21 6 (dk_at dksX6_saverDigest_0 20 rfl rfl)
theorem dX6_saverDigest_22 : decode cX6_saverDigest 22 = .ok (.invokevirtual 147, 3) := dk_182 0 147 (dk_at dksX6_saverDigest_1 0 rfl rfl)
theorem dX6_saverDigest_25 : decode cX6_saverDigest 25 = .ok (.i2l, 1) := dk_133 (dk_at dksX6_saverDigest_1 3 rfl rfl)
theorem dX6_saverDigest_26 : decode cX6_saverDigest 26 = .ok (.ladd, 1) := dk_97 (dk_at dksX6_saverDigest_1 4 rfl rfl)
theorem dX6_saverDigest_27 : decode cX6_saverDigest 27 = .ok (.lstore 4, 2) := dk_55 4 (dk_at dksX6_saverDigest_1 5 rfl rfl)
theorem dX6_saverDigest_29 : decode cX6_saverDigest 29 = .ok (.iinc 6 1, 3) := dk_132 6 1 (dk_at dksX6_saverDigest_1 7 rfl rfl)
theorem dX6_saverDigest_32 : decode cX6_saverDigest 32 = .ok (.goto (-26), 3) := dk_167 255 230 (dk_at dksX6_saverDigest_1 10 rfl rfl)
theorem dX6_saverDigest_35 : decode cX6_saverDigest 35 = .ok (.ldc2_w 297, 3) := dk_20 1 41 (dk_at dksX6_saverDigest_1 13 rfl rfl)
theorem dX6_saverDigest_38 : decode cX6_saverDigest 38 = .ok (.lload 4, 2) := dk_22 4 (dk_at dksX6_saverDigest_1 16 rfl rfl)
theorem dX6_saverDigest_40 : decode cX6_saverDigest 40 = .ok (.lmul, 1) := dk_105 (dk_at dksX6_saverDigest_1 18 rfl rfl)
theorem dX6_saverDigest_41 : decode cX6_saverDigest 41 = .ok (.aload_n 0, 1) := dk_42 (dk_at dksX6_saverDigest_1 19 rfl rfl)
theorem dX6_saverDigest_42 : decode cX6_saverDigest 42 = .ok (.iconst 0, 1) := dk_3 (dk_at dksX6_saverDigest_1 20 rfl rfl)
theorem dX6_saverDigest_43 : decode cX6_saverDigest 43 = .ok (.iload_n 3, 1) := dk_29 (dk_at dksX6_saverDigest_1 21 rfl rfl)
theorem dX6_saverDigest_44 : decode cX6_saverDigest 44 = .ok (.invokevirtual 213, 3) := dk_182 0 213 (dk_at dksX6_saverDigest_2 0 rfl rfl)
theorem dX6_saverDigest_47 : decode cX6_saverDigest 47 = .ok (.i2l, 1) := dk_133 (dk_at dksX6_saverDigest_2 3 rfl rfl)
theorem dX6_saverDigest_48 : decode cX6_saverDigest 48 = .ok (.ladd, 1) := dk_97 (dk_at dksX6_saverDigest_2 4 rfl rfl)
theorem dX6_saverDigest_49 : decode cX6_saverDigest 49 = .ok (.lstore 4, 2) := dk_55 4 (dk_at dksX6_saverDigest_2 5 rfl rfl)
theorem dX6_saverDigest_51 : decode cX6_saverDigest 51 = .ok (.ldc2_w 297, 3) := dk_20 1 41 (dk_at dksX6_saverDigest_2 7 rfl rfl)
theorem dX6_saverDigest_54 : decode cX6_saverDigest 54 = .ok (.lload 4, 2) := dk_22 4 (dk_at dksX6_saverDigest_2 10 rfl rfl)
theorem dX6_saverDigest_56 : decode cX6_saverDigest 56 = .ok (.lmul, 1) := dk_105 (dk_at dksX6_saverDigest_2 12 rfl rfl)
theorem dX6_saverDigest_57 : decode cX6_saverDigest 57 = .ok (.aload_n 0, 1) := dk_42 (dk_at dksX6_saverDigest_2 13 rfl rfl)
theorem dX6_saverDigest_58 : decode cX6_saverDigest 58 = .ok (.bipush 9, 2) := dk_16 9 (dk_at dksX6_saverDigest_2 14 rfl rfl)
theorem dX6_saverDigest_60 : decode cX6_saverDigest 60 = .ok (.iload_n 3, 1) := dk_29 (dk_at dksX6_saverDigest_2 16 rfl rfl)
theorem dX6_saverDigest_61 : decode cX6_saverDigest 61 = .ok (.invokevirtual 213, 3) := dk_182 0 213 (dk_at dksX6_saverDigest_2 17 rfl rfl)
theorem dX6_saverDigest_64 : decode cX6_saverDigest 64 = .ok (.i2l, 1) := dk_133 (dk_at dksX6_saverDigest_2 20 rfl rfl)
theorem dX6_saverDigest_65 : decode cX6_saverDigest 65 = .ok (.ladd, 1) := dk_97 (dk_at dksX6_saverDigest_2 21 rfl rfl)
theorem dX6_saverDigest_66 : decode cX6_saverDigest 66 = .ok (.lstore 4, 2) := dk_55 4 (dk_at dksX6_saverDigest_2 22 rfl rfl)
theorem dX6_saverDigest_68 : decode cX6_saverDigest 68 = .ok (.ldc2_w 297, 3) := dk_20 1 41 (dk_at dksX6_saverDigest_3 0 rfl rfl)
theorem dX6_saverDigest_71 : decode cX6_saverDigest 71 = .ok (.lload 4, 2) := dk_22 4 (dk_at dksX6_saverDigest_3 3 rfl rfl)
theorem dX6_saverDigest_73 : decode cX6_saverDigest 73 = .ok (.lmul, 1) := dk_105 (dk_at dksX6_saverDigest_3 5 rfl rfl)
theorem dX6_saverDigest_74 : decode cX6_saverDigest 74 = .ok (.aload_n 0, 1) := dk_42 (dk_at dksX6_saverDigest_3 6 rfl rfl)
theorem dX6_saverDigest_75 : decode cX6_saverDigest 75 = .ok (.bipush 19, 2) := dk_16 19 (dk_at dksX6_saverDigest_3 7 rfl rfl)
theorem dX6_saverDigest_77 : decode cX6_saverDigest 77 = .ok (.iload_n 3, 1) := dk_29 (dk_at dksX6_saverDigest_3 9 rfl rfl)
theorem dX6_saverDigest_78 : decode cX6_saverDigest 78 = .ok (.invokevirtual 213, 3) := dk_182 0 213 (dk_at dksX6_saverDigest_3 10 rfl rfl)
theorem dX6_saverDigest_81 : decode cX6_saverDigest 81 = .ok (.i2l, 1) := dk_133 (dk_at dksX6_saverDigest_3 13 rfl rfl)
theorem dX6_saverDigest_82 : decode cX6_saverDigest 82 = .ok (.ladd, 1) := dk_97 (dk_at dksX6_saverDigest_3 14 rfl rfl)
theorem dX6_saverDigest_83 : decode cX6_saverDigest 83 = .ok (.lstore 4, 2) := dk_55 4 (dk_at dksX6_saverDigest_3 15 rfl rfl)
theorem dX6_saverDigest_85 : decode cX6_saverDigest 85 = .ok (.ldc2_w 297, 3) := dk_20 1 41 (dk_at dksX6_saverDigest_3 17 rfl rfl)
theorem dX6_saverDigest_88 : decode cX6_saverDigest 88 = .ok (.lload 4, 2) := dk_22 4 (dk_at dksX6_saverDigest_3 20 rfl rfl)
theorem dX6_saverDigest_90 : decode cX6_saverDigest 90 = .ok (.lmul, 1) := dk_105 (dk_at dksX6_saverDigest_3 22 rfl rfl)
theorem dX6_saverDigest_91 : decode cX6_saverDigest 91 = .ok (.aload_n 0, 1) := dk_42 (dk_at dksX6_saverDigest_3 23 rfl rfl)
theorem dX6_saverDigest_92 : decode cX6_saverDigest 92 = .ok (.iconst 5, 1) := dk_8 (dk_at dksX6_saverDigest_4 0 rfl rfl)
theorem dX6_saverDigest_93 : decode cX6_saverDigest 93 = .ok (.iload_n 3, 1) := dk_29 (dk_at dksX6_saverDigest_4 1 rfl rfl)
theorem dX6_saverDigest_94 : decode cX6_saverDigest 94 = .ok (.iconst 0, 1) := dk_3 (dk_at dksX6_saverDigest_4 2 rfl rfl)
theorem dX6_saverDigest_95 : decode cX6_saverDigest 95 = .ok (.invokevirtual 216, 3) := dk_182 0 216 (dk_at dksX6_saverDigest_4 3 rfl rfl)
theorem dX6_saverDigest_98 : decode cX6_saverDigest 98 = .ok (.i2l, 1) := dk_133 (dk_at dksX6_saverDigest_4 6 rfl rfl)
theorem dX6_saverDigest_99 : decode cX6_saverDigest 99 = .ok (.ladd, 1) := dk_97 (dk_at dksX6_saverDigest_4 7 rfl rfl)
theorem dX6_saverDigest_100 : decode cX6_saverDigest 100 = .ok (.lstore 4, 2) := dk_55 4 (dk_at dksX6_saverDigest_4 8 rfl rfl)
theorem dX6_saverDigest_102 : decode cX6_saverDigest 102 = .ok (.ldc2_w 297, 3) := dk_20 1 41 (dk_at dksX6_saverDigest_4 10 rfl rfl)
theorem dX6_saverDigest_105 : decode cX6_saverDigest 105 = .ok (.lload 4, 2) := dk_22 4 (dk_at dksX6_saverDigest_4 13 rfl rfl)
theorem dX6_saverDigest_107 : decode cX6_saverDigest 107 = .ok (.lmul, 1) := dk_105 (dk_at dksX6_saverDigest_4 15 rfl rfl)
theorem dX6_saverDigest_108 : decode cX6_saverDigest 108 = .ok (.aload_n 0, 1) := dk_42 (dk_at dksX6_saverDigest_4 16 rfl rfl)
theorem dX6_saverDigest_109 : decode cX6_saverDigest 109 = .ok (.iconst 5, 1) := dk_8 (dk_at dksX6_saverDigest_4 17 rfl rfl)
theorem dX6_saverDigest_110 : decode cX6_saverDigest 110 = .ok (.iload_n 3, 1) := dk_29 (dk_at dksX6_saverDigest_4 18 rfl rfl)
theorem dX6_saverDigest_111 : decode cX6_saverDigest 111 = .ok (.iconst 1, 1) := dk_4 (dk_at dksX6_saverDigest_4 19 rfl rfl)
theorem dX6_saverDigest_112 : decode cX6_saverDigest 112 = .ok (.invokevirtual 216, 3) := dk_182 0 216 (dk_at dksX6_saverDigest_4 20 rfl rfl)
theorem dX6_saverDigest_115 : decode cX6_saverDigest 115 = .ok (.i2l, 1) := dk_133 (dk_at dksX6_saverDigest_4 23 rfl rfl)
theorem dX6_saverDigest_116 : decode cX6_saverDigest 116 = .ok (.ladd, 1) := dk_97 (dk_at dksX6_saverDigest_5 0 rfl rfl)
theorem dX6_saverDigest_117 : decode cX6_saverDigest 117 = .ok (.lstore 4, 2) := dk_55 4 (dk_at dksX6_saverDigest_5 1 rfl rfl)
theorem dX6_saverDigest_119 : decode cX6_saverDigest 119 = .ok (.ldc2_w 297, 3) := dk_20 1 41 (dk_at dksX6_saverDigest_5 3 rfl rfl)
theorem dX6_saverDigest_122 : decode cX6_saverDigest 122 = .ok (.lload 4, 2) := dk_22 4 (dk_at dksX6_saverDigest_5 6 rfl rfl)
theorem dX6_saverDigest_124 : decode cX6_saverDigest 124 = .ok (.lmul, 1) := dk_105 (dk_at dksX6_saverDigest_5 8 rfl rfl)
theorem dX6_saverDigest_125 : decode cX6_saverDigest 125 = .ok (.aload_n 0, 1) := dk_42 (dk_at dksX6_saverDigest_5 9 rfl rfl)
theorem dX6_saverDigest_126 : decode cX6_saverDigest 126 = .ok (.bipush 19, 2) := dk_16 19 (dk_at dksX6_saverDigest_5 10 rfl rfl)
theorem dX6_saverDigest_128 : decode cX6_saverDigest 128 = .ok (.iload_n 3, 1) := dk_29 (dk_at dksX6_saverDigest_5 12 rfl rfl)
theorem dX6_saverDigest_129 : decode cX6_saverDigest 129 = .ok (.iconst 0, 1) := dk_3 (dk_at dksX6_saverDigest_5 13 rfl rfl)
theorem dX6_saverDigest_130 : decode cX6_saverDigest 130 = .ok (.invokevirtual 216, 3) := dk_182 0 216 (dk_at dksX6_saverDigest_5 14 rfl rfl)
theorem dX6_saverDigest_133 : decode cX6_saverDigest 133 = .ok (.i2l, 1) := dk_133 (dk_at dksX6_saverDigest_5 17 rfl rfl)
theorem dX6_saverDigest_134 : decode cX6_saverDigest 134 = .ok (.ladd, 1) := dk_97 (dk_at dksX6_saverDigest_5 18 rfl rfl)
theorem dX6_saverDigest_135 : decode cX6_saverDigest 135 = .ok (.lstore 4, 2) := dk_55 4 (dk_at dksX6_saverDigest_5 19 rfl rfl)
theorem dX6_saverDigest_137 : decode cX6_saverDigest 137 = .ok (.ldc2_w 297, 3) := dk_20 1 41 (dk_at dksX6_saverDigest_5 21 rfl rfl)
theorem dX6_saverDigest_140 : decode cX6_saverDigest 140 = .ok (.lload 4, 2) := dk_22 4 (dk_at dksX6_saverDigest_6 0 rfl rfl)
theorem dX6_saverDigest_142 : decode cX6_saverDigest 142 = .ok (.lmul, 1) := dk_105 (dk_at dksX6_saverDigest_6 2 rfl rfl)
theorem dX6_saverDigest_143 : decode cX6_saverDigest 143 = .ok (.aload_n 0, 1) := dk_42 (dk_at dksX6_saverDigest_6 3 rfl rfl)
theorem dX6_saverDigest_144 : decode cX6_saverDigest 144 = .ok (.bipush 19, 2) := dk_16 19 (dk_at dksX6_saverDigest_6 4 rfl rfl)
theorem dX6_saverDigest_146 : decode cX6_saverDigest 146 = .ok (.iload_n 3, 1) := dk_29 (dk_at dksX6_saverDigest_6 6 rfl rfl)
theorem dX6_saverDigest_147 : decode cX6_saverDigest 147 = .ok (.iconst 1, 1) := dk_4 (dk_at dksX6_saverDigest_6 7 rfl rfl)
theorem dX6_saverDigest_148 : decode cX6_saverDigest 148 = .ok (.invokevirtual 216, 3) := dk_182 0 216 (dk_at dksX6_saverDigest_6 8 rfl rfl)
theorem dX6_saverDigest_151 : decode cX6_saverDigest 151 = .ok (.i2l, 1) := dk_133 (dk_at dksX6_saverDigest_6 11 rfl rfl)
theorem dX6_saverDigest_152 : decode cX6_saverDigest 152 = .ok (.ladd, 1) := dk_97 (dk_at dksX6_saverDigest_6 12 rfl rfl)
theorem dX6_saverDigest_153 : decode cX6_saverDigest 153 = .ok (.lstore 4, 2) := dk_55 4 (dk_at dksX6_saverDigest_6 13 rfl rfl)
theorem dX6_saverDigest_155 : decode cX6_saverDigest 155 = .ok (.ldc2_w 297, 3) := dk_20 1 41 (dk_at dksX6_saverDigest_6 15 rfl rfl)
theorem dX6_saverDigest_158 : decode cX6_saverDigest 158 = .ok (.lload 4, 2) := dk_22 4 (dk_at dksX6_saverDigest_6 18 rfl rfl)
theorem dX6_saverDigest_160 : decode cX6_saverDigest 160 = .ok (.lmul, 1) := dk_105 (dk_at dksX6_saverDigest_6 20 rfl rfl)
theorem dX6_saverDigest_161 : decode cX6_saverDigest 161 = .ok (.aload_n 0, 1) := dk_42 (dk_at dksX6_saverDigest_6 21 rfl rfl)
theorem dX6_saverDigest_162 : decode cX6_saverDigest 162 = .ok (.iload_n 3, 1) := dk_29 (dk_at dksX6_saverDigest_6 22 rfl rfl)
theorem dX6_saverDigest_163 : decode cX6_saverDigest 163 = .ok (.iconst 0, 1) := dk_3 (dk_at dksX6_saverDigest_6 23 rfl rfl)
theorem dX6_saverDigest_164 : decode cX6_saverDigest 164 = .ok (.invokevirtual 239, 3) := dk_182 0 239 (dk_at dksX6_saverDigest_7 0 rfl rfl)
theorem dX6_saverDigest_167 : decode cX6_saverDigest 167 = .ok (.i2l, 1) := dk_133 (dk_at dksX6_saverDigest_7 3 rfl rfl)
theorem dX6_saverDigest_168 : decode cX6_saverDigest 168 = .ok (.ladd, 1) := dk_97 (dk_at dksX6_saverDigest_7 4 rfl rfl)
theorem dX6_saverDigest_169 : decode cX6_saverDigest 169 = .ok (.lstore 4, 2) := dk_55 4 (dk_at dksX6_saverDigest_7 5 rfl rfl)
theorem dX6_saverDigest_171 : decode cX6_saverDigest 171 = .ok (.ldc2_w 297, 3) := dk_20 1 41 (dk_at dksX6_saverDigest_7 7 rfl rfl)
theorem dX6_saverDigest_174 : decode cX6_saverDigest 174 = .ok (.lload 4, 2) := dk_22 4 (dk_at dksX6_saverDigest_7 10 rfl rfl)
theorem dX6_saverDigest_176 : decode cX6_saverDigest 176 = .ok (.lmul, 1) := dk_105 (dk_at dksX6_saverDigest_7 12 rfl rfl)
theorem dX6_saverDigest_177 : decode cX6_saverDigest 177 = .ok (.aload_n 0, 1) := dk_42 (dk_at dksX6_saverDigest_7 13 rfl rfl)
theorem dX6_saverDigest_178 : decode cX6_saverDigest 178 = .ok (.iload_n 3, 1) := dk_29 (dk_at dksX6_saverDigest_7 14 rfl rfl)
theorem dX6_saverDigest_179 : decode cX6_saverDigest 179 = .ok (.iconst 1, 1) := dk_4 (dk_at dksX6_saverDigest_7 15 rfl rfl)
theorem dX6_saverDigest_180 : decode cX6_saverDigest 180 = .ok (.invokevirtual 239, 3) := dk_182 0 239 (dk_at dksX6_saverDigest_7 16 rfl rfl)
theorem dX6_saverDigest_183 : decode cX6_saverDigest 183 = .ok (.i2l, 1) := dk_133 (dk_at dksX6_saverDigest_7 19 rfl rfl)
theorem dX6_saverDigest_184 : decode cX6_saverDigest 184 = .ok (.ladd, 1) := dk_97 (dk_at dksX6_saverDigest_7 20 rfl rfl)
theorem dX6_saverDigest_185 : decode cX6_saverDigest 185 = .ok (.lstore 4, 2) := dk_55 4 (dk_at dksX6_saverDigest_7 21 rfl rfl)
theorem dX6_saverDigest_187 : decode cX6_saverDigest 187 = .ok (.ldc2_w 297, 3) := dk_20 1 41 (dk_at dksX6_saverDigest_8 0 rfl rfl)
theorem dX6_saverDigest_190 : decode cX6_saverDigest 190 = .ok (.lload 4, 2) := dk_22 4 (dk_at dksX6_saverDigest_8 3 rfl rfl)
theorem dX6_saverDigest_192 : decode cX6_saverDigest 192 = .ok (.lmul, 1) := dk_105 (dk_at dksX6_saverDigest_8 5 rfl rfl)
theorem dX6_saverDigest_193 : decode cX6_saverDigest 193 = .ok (.aload_n 0, 1) := dk_42 (dk_at dksX6_saverDigest_8 6 rfl rfl)
theorem dX6_saverDigest_194 : decode cX6_saverDigest 194 = .ok (.iload_n 3, 1) := dk_29 (dk_at dksX6_saverDigest_8 7 rfl rfl)
theorem dX6_saverDigest_195 : decode cX6_saverDigest 195 = .ok (.invokevirtual 258, 3) := dk_182 1 2 (dk_at dksX6_saverDigest_8 8 rfl rfl)
theorem dX6_saverDigest_198 : decode cX6_saverDigest 198 = .ok (.i2l, 1) := dk_133 (dk_at dksX6_saverDigest_8 11 rfl rfl)
theorem dX6_saverDigest_199 : decode cX6_saverDigest 199 = .ok (.ladd, 1) := dk_97 (dk_at dksX6_saverDigest_8 12 rfl rfl)
theorem dX6_saverDigest_200 : decode cX6_saverDigest 200 = .ok (.lstore 4, 2) := dk_55 4 (dk_at dksX6_saverDigest_8 13 rfl rfl)
theorem dX6_saverDigest_202 : decode cX6_saverDigest 202 = .ok (.ldc2_w 297, 3) := dk_20 1 41 (dk_at dksX6_saverDigest_8 15 rfl rfl)
theorem dX6_saverDigest_205 : decode cX6_saverDigest 205 = .ok (.lload 4, 2) := dk_22 4 (dk_at dksX6_saverDigest_8 18 rfl rfl)
theorem dX6_saverDigest_207 : decode cX6_saverDigest 207 = .ok (.lmul, 1) := dk_105 (dk_at dksX6_saverDigest_8 20 rfl rfl)
theorem dX6_saverDigest_208 : decode cX6_saverDigest 208 = .ok (.aload_n 0, 1) := dk_42 (dk_at dksX6_saverDigest_8 21 rfl rfl)
theorem dX6_saverDigest_209 : decode cX6_saverDigest 209 = .ok (.iload_n 3, 1) := dk_29 (dk_at dksX6_saverDigest_8 22 rfl rfl)
theorem dX6_saverDigest_210 : decode cX6_saverDigest 210 = .ok (.invokevirtual 264, 3) := dk_182 1 8 (dk_at dksX6_saverDigest_9 0 rfl rfl)
theorem dX6_saverDigest_213 : decode cX6_saverDigest 213 = .ok (.i2l, 1) := dk_133 (dk_at dksX6_saverDigest_9 3 rfl rfl)
theorem dX6_saverDigest_214 : decode cX6_saverDigest 214 = .ok (.ladd, 1) := dk_97 (dk_at dksX6_saverDigest_9 4 rfl rfl)
theorem dX6_saverDigest_215 : decode cX6_saverDigest 215 = .ok (.lreturn, 1) := dk_173 (dk_at dksX6_saverDigest_9 5 rfl rfl)
abbrev cX6_partnerDigest : ByteArray := prog_14_method_88_code
def yX6_partnerDigest : MethodName := ⟨RX6, "partnerDigest", "(JI)J"⟩
def dkwX6_partnerDigest_3 : List UInt8 := [105, 42, 16, 19, 29, 182, 0, 220, 133, 97, 173]
abbrev dktX6_partnerDigest_3 : List UInt8 := dkwX6_partnerDigest_3 ++ []
def dkwX6_partnerDigest_2 : List UInt8 := [55, 4, 20, 1, 41, 22, 4, 105, 42, 16, 9, 29, 182, 0, 220, 133, 97, 55, 4, 20, 1, 41, 22, 4]
abbrev dktX6_partnerDigest_2 : List UInt8 := dkwX6_partnerDigest_2 ++ dktX6_partnerDigest_3
def dkwX6_partnerDigest_1 : List UInt8 := [180, 0, 28, 29, 46, 133, 97, 55, 4, 20, 1, 41, 22, 4, 105, 42, 3, 29, 182, 0, 220, 133, 97]
abbrev dktX6_partnerDigest_1 : List UInt8 := dkwX6_partnerDigest_1 ++ dktX6_partnerDigest_2
def dkwX6_partnerDigest_0 : List UInt8 := [20, 1, 41, 31, 105, 42, 180, 0, 25, 29, 46, 133, 97, 55, 4, 20, 1, 41, 22, 4, 105, 42]
abbrev dktX6_partnerDigest_0 : List UInt8 := dkwX6_partnerDigest_0 ++ dktX6_partnerDigest_1
theorem dksX6_partnerDigest_0 : cX6_partnerDigest.data.toList.drop 0 = dktX6_partnerDigest_0 := by decide +kernel
theorem dksX6_partnerDigest_1 : cX6_partnerDigest.data.toList.drop 22 = dktX6_partnerDigest_1 := dk_seg dksX6_partnerDigest_0 22 rfl rfl
theorem dksX6_partnerDigest_2 : cX6_partnerDigest.data.toList.drop 45 = dktX6_partnerDigest_2 := dk_seg dksX6_partnerDigest_1 23 rfl rfl
theorem dksX6_partnerDigest_3 : cX6_partnerDigest.data.toList.drop 69 = dktX6_partnerDigest_3 := dk_seg dksX6_partnerDigest_2 24 rfl rfl
theorem dX6_partnerDigest_0 : decode cX6_partnerDigest 0 = .ok (.ldc2_w 297, 3) := dk_20 1 41 (dk_at dksX6_partnerDigest_0 0 rfl rfl)
theorem dX6_partnerDigest_3 : decode cX6_partnerDigest 3 = .ok (.lload_n 1, 1) := dk_31 (dk_at dksX6_partnerDigest_0 3 rfl rfl)
theorem dX6_partnerDigest_4 : decode cX6_partnerDigest 4 = .ok (.lmul, 1) := dk_105 (dk_at dksX6_partnerDigest_0 4 rfl rfl)
theorem dX6_partnerDigest_5 : decode cX6_partnerDigest 5 = .ok (.aload_n 0, 1) := dk_42 (dk_at dksX6_partnerDigest_0 5 rfl rfl)
theorem dX6_partnerDigest_6 : decode cX6_partnerDigest 6 = .ok (.getfield 25, 3) := dk_180 0 25 (dk_at dksX6_partnerDigest_0 6 rfl rfl)
theorem dX6_partnerDigest_9 : decode cX6_partnerDigest 9 = .ok (.iload_n 3, 1) := dk_29 (dk_at dksX6_partnerDigest_0 9 rfl rfl)
theorem dX6_partnerDigest_10 : decode cX6_partnerDigest 10 = .ok (.iaload, 1) := dk_46 (dk_at dksX6_partnerDigest_0 10 rfl rfl)
theorem dX6_partnerDigest_11 : decode cX6_partnerDigest 11 = .ok (.i2l, 1) := dk_133 (dk_at dksX6_partnerDigest_0 11 rfl rfl)
theorem dX6_partnerDigest_12 : decode cX6_partnerDigest 12 = .ok (.ladd, 1) := dk_97 (dk_at dksX6_partnerDigest_0 12 rfl rfl)
theorem dX6_partnerDigest_13 : decode cX6_partnerDigest 13 = .ok (.lstore 4, 2) := dk_55 4 (dk_at dksX6_partnerDigest_0 13 rfl rfl)
theorem dX6_partnerDigest_15 : decode cX6_partnerDigest 15 = .ok (.ldc2_w 297, 3) := dk_20 1 41 (dk_at dksX6_partnerDigest_0 15 rfl rfl)
theorem dX6_partnerDigest_18 : decode cX6_partnerDigest 18 = .ok (.lload 4, 2) := dk_22 4 (dk_at dksX6_partnerDigest_0 18 rfl rfl)
theorem dX6_partnerDigest_20 : decode cX6_partnerDigest 20 = .ok (.lmul, 1) := dk_105 (dk_at dksX6_partnerDigest_0 20 rfl rfl)
theorem dX6_partnerDigest_21 : decode cX6_partnerDigest 21 = .ok (.aload_n 0, 1) := dk_42 (dk_at dksX6_partnerDigest_0 21 rfl rfl)
theorem dX6_partnerDigest_22 : decode cX6_partnerDigest 22 = .ok (.getfield 28, 3) := dk_180 0 28 (dk_at dksX6_partnerDigest_1 0 rfl rfl)
theorem dX6_partnerDigest_25 : decode cX6_partnerDigest 25 = .ok (.iload_n 3, 1) := dk_29 (dk_at dksX6_partnerDigest_1 3 rfl rfl)
theorem dX6_partnerDigest_26 : decode cX6_partnerDigest 26 = .ok (.iaload, 1) := dk_46 (dk_at dksX6_partnerDigest_1 4 rfl rfl)
theorem dX6_partnerDigest_27 : decode cX6_partnerDigest 27 = .ok (.i2l, 1) := dk_133 (dk_at dksX6_partnerDigest_1 5 rfl rfl)
theorem dX6_partnerDigest_28 : decode cX6_partnerDigest 28 = .ok (.ladd, 1) := dk_97 (dk_at dksX6_partnerDigest_1 6 rfl rfl)
theorem dX6_partnerDigest_29 : decode cX6_partnerDigest 29 = .ok (.lstore 4, 2) := dk_55 4 (dk_at dksX6_partnerDigest_1 7 rfl rfl)
theorem dX6_partnerDigest_31 : decode cX6_partnerDigest 31 = .ok (.ldc2_w 297, 3) := dk_20 1 41 (dk_at dksX6_partnerDigest_1 9 rfl rfl)
theorem dX6_partnerDigest_34 : decode cX6_partnerDigest 34 = .ok (.lload 4, 2) := dk_22 4 (dk_at dksX6_partnerDigest_1 12 rfl rfl)
theorem dX6_partnerDigest_36 : decode cX6_partnerDigest 36 = .ok (.lmul, 1) := dk_105 (dk_at dksX6_partnerDigest_1 14 rfl rfl)
theorem dX6_partnerDigest_37 : decode cX6_partnerDigest 37 = .ok (.aload_n 0, 1) := dk_42 (dk_at dksX6_partnerDigest_1 15 rfl rfl)
theorem dX6_partnerDigest_38 : decode cX6_partnerDigest 38 = .ok (.iconst 0, 1) := dk_3 (dk_at dksX6_partnerDigest_1 16 rfl rfl)
theorem dX6_partnerDigest_39 : decode cX6_partnerDigest 39 = .ok (.iload_n 3, 1) := dk_29 (dk_at dksX6_partnerDigest_1 17 rfl rfl)
theorem dX6_partnerDigest_40 : decode cX6_partnerDigest 40 = .ok (.invokevirtual 220, 3) := dk_182 0 220 (dk_at dksX6_partnerDigest_1 18 rfl rfl)
theorem dX6_partnerDigest_43 : decode cX6_partnerDigest 43 = .ok (.i2l, 1) := dk_133 (dk_at dksX6_partnerDigest_1 21 rfl rfl)
theorem dX6_partnerDigest_44 : decode cX6_partnerDigest 44 = .ok (.ladd, 1) := dk_97 (dk_at dksX6_partnerDigest_1 22 rfl rfl)
theorem dX6_partnerDigest_45 : decode cX6_partnerDigest 45 = .ok (.lstore 4, 2) := dk_55 4 (dk_at dksX6_partnerDigest_2 0 rfl rfl)
theorem dX6_partnerDigest_47 : decode cX6_partnerDigest 47 = .ok (.ldc2_w 297, 3) := dk_20 1 41 (dk_at dksX6_partnerDigest_2 2 rfl rfl)
theorem dX6_partnerDigest_50 : decode cX6_partnerDigest 50 = .ok (.lload 4, 2) := dk_22 4 (dk_at dksX6_partnerDigest_2 5 rfl rfl)
theorem dX6_partnerDigest_52 : decode cX6_partnerDigest 52 = .ok (.lmul, 1) := dk_105 (dk_at dksX6_partnerDigest_2 7 rfl rfl)
theorem dX6_partnerDigest_53 : decode cX6_partnerDigest 53 = .ok (.aload_n 0, 1) := dk_42 (dk_at dksX6_partnerDigest_2 8 rfl rfl)
theorem dX6_partnerDigest_54 : decode cX6_partnerDigest 54 = .ok (.bipush 9, 2) := dk_16 9 (dk_at dksX6_partnerDigest_2 9 rfl rfl)
theorem dX6_partnerDigest_56 : decode cX6_partnerDigest 56 = .ok (.iload_n 3, 1) := dk_29 (dk_at dksX6_partnerDigest_2 11 rfl rfl)
theorem dX6_partnerDigest_57 : decode cX6_partnerDigest 57 = .ok (.invokevirtual 220, 3) := dk_182 0 220 (dk_at dksX6_partnerDigest_2 12 rfl rfl)
theorem dX6_partnerDigest_60 : decode cX6_partnerDigest 60 = .ok (.i2l, 1) := dk_133 (dk_at dksX6_partnerDigest_2 15 rfl rfl)
theorem dX6_partnerDigest_61 : decode cX6_partnerDigest 61 = .ok (.ladd, 1) := dk_97 (dk_at dksX6_partnerDigest_2 16 rfl rfl)
theorem dX6_partnerDigest_62 : decode cX6_partnerDigest 62 = .ok (.lstore 4, 2) := dk_55 4 (dk_at dksX6_partnerDigest_2 17 rfl rfl)
theorem dX6_partnerDigest_64 : decode cX6_partnerDigest 64 = .ok (.ldc2_w 297, 3) := dk_20 1 41 (dk_at dksX6_partnerDigest_2 19 rfl rfl)
theorem dX6_partnerDigest_67 : decode cX6_partnerDigest 67 = .ok (.lload 4, 2) := dk_22 4 (dk_at dksX6_partnerDigest_2 22 rfl rfl)
theorem dX6_partnerDigest_69 : decode cX6_partnerDigest 69 = .ok (.lmul, 1) := dk_105 (dk_at dksX6_partnerDigest_3 0 rfl rfl)
theorem dX6_partnerDigest_70 : decode cX6_partnerDigest 70 = .ok (.aload_n 0, 1) := dk_42 (dk_at dksX6_partnerDigest_3 1 rfl rfl)
theorem dX6_partnerDigest_71 : decode cX6_partnerDigest 71 = .ok (.bipush 19, 2) := dk_16 19 (dk_at dksX6_partnerDigest_3 2 rfl rfl)
theorem dX6_partnerDigest_73 : decode cX6_partnerDigest 73 = .ok (.iload_n 3, 1) := dk_29 (dk_at dksX6_partnerDigest_3 4 rfl rfl)
theorem dX6_partnerDigest_74 : decode cX6_partnerDigest 74 = .ok (.invokevirtual 220, 3) := dk_182 0 220 (dk_at dksX6_partnerDigest_3 5 rfl rfl)
theorem dX6_partnerDigest_77 : decode cX6_partnerDigest 77 = .ok (.i2l, 1) := dk_133 (dk_at dksX6_partnerDigest_3 8 rfl rfl)
theorem dX6_partnerDigest_78 : decode cX6_partnerDigest 78 = .ok (.ladd, 1) := dk_97 (dk_at dksX6_partnerDigest_3 9 rfl rfl)
theorem dX6_partnerDigest_79 : decode cX6_partnerDigest 79 = .ok (.lreturn, 1) := dk_173 (dk_at dksX6_partnerDigest_3 10 rfl rfl)
theorem q89 : (Jvm.Cond.initialized "InterestTakenModel") ∈ lw_all := lw_g (lw_at lw_m1 10 rfl) rfl
theorem q633 : (Jvm.Cond.selects "InterestTakenModel" ({ cls := "java/lang/Object", name := "getClass", desc := "()Ljava/lang/Class;" } : Jvm.MethodName) ({ cls := "java/lang/Object", name := "getClass", desc := "()Ljava/lang/Class;" } : Jvm.MethodName)) ∈ lw_all := lw_g (lw_at lw_m3 74 rfl) rfl
theorem q1136 : (Jvm.Cond.instantiable "InterestTakenModel" (40 : Nat)) ∈ lw_all := lw_g (lw_at lw_m5 97 rfl) rfl
theorem q1138 : (Jvm.Cond.instanceMethod ({ cls := "InterestTakenModel", name := "<init>", desc := "()V" } : Jvm.MethodName)) ∈ lw_all := lw_g (lw_at lw_m5 99 rfl) rfl
theorem q1139 : (Jvm.Cond.code ({ cls := "InterestTakenModel", name := "<init>", desc := "()V" } : Jvm.MethodName) prog_14_method_1_code (1 : Nat) (Option.none : Option Jvm.ClassFile.FieldType)) ∈ lw_all := lw_g (lw_at lw_m5 100 rfl) rfl
theorem q1140 : (Jvm.Cond.methodLink "InterestTakenModel" (1 : Nat) ({ cls := "java/lang/Object", name := "<init>", desc := "()V" } : Jvm.MethodName)) ∈ lw_all := lw_g (lw_at lw_m5 101 rfl) rfl
theorem q1141 : (Jvm.Cond.fieldLink "InterestTakenModel" (7 : Nat) "InterestTakenModel" "typed" "[I") ∈ lw_all := lw_g (lw_at lw_m5 102 rfl) rfl
theorem q1142 : (Jvm.Cond.fieldLink "InterestTakenModel" (13 : Nat) "InterestTakenModel" "texts" "[I") ∈ lw_all := lw_g (lw_at lw_m5 103 rfl) rfl
theorem q1143 : (Jvm.Cond.fieldLink "InterestTakenModel" (122 : Nat) "InterestTakenModel" "savers" "I") ∈ lw_all := lw_g (lw_at lw_m5 104 rfl) rfl
theorem q1144 : (Jvm.Cond.fieldLink "InterestTakenModel" (16 : Nat) "InterestTakenModel" "sums" "[I") ∈ lw_all := lw_g (lw_at lw_m5 105 rfl) rfl
theorem q1145 : (Jvm.Cond.fieldLink "InterestTakenModel" (19 : Nat) "InterestTakenModel" "keepers" "[I") ∈ lw_all := lw_g (lw_at lw_m5 106 rfl) rfl
theorem q1146 : (Jvm.Cond.fieldLink "InterestTakenModel" (22 : Nat) "InterestTakenModel" "talks" "[I") ∈ lw_all := lw_g (lw_at lw_m5 107 rfl) rfl
theorem q1147 : (Jvm.Cond.fieldLink "InterestTakenModel" (125 : Nat) "InterestTakenModel" "partners" "I") ∈ lw_all := lw_g (lw_at lw_m5 108 rfl) rfl
theorem q1148 : (Jvm.Cond.fieldLink "InterestTakenModel" (25 : Nat) "InterestTakenModel" "sits" "[I") ∈ lw_all := lw_g (lw_at lw_m5 109 rfl) rfl
theorem q1149 : (Jvm.Cond.fieldLink "InterestTakenModel" (28 : Nat) "InterestTakenModel" "cares" "[I") ∈ lw_all := lw_g (lw_at lw_m5 110 rfl) rfl
theorem q1150 : (Jvm.Cond.fieldLink "InterestTakenModel" (95 : Nat) "InterestTakenModel" "rateTold" "I") ∈ lw_all := lw_g (lw_at lw_m5 111 rfl) rfl
theorem q1151 : (Jvm.Cond.fieldLink "InterestTakenModel" (99 : Nat) "InterestTakenModel" "limitTold" "I") ∈ lw_all := lw_g (lw_at lw_m5 112 rfl) rfl
theorem q1152 : (Jvm.Cond.fieldLink "InterestTakenModel" (156 : Nat) "InterestTakenModel" "calls" "I") ∈ lw_all := lw_g (lw_at lw_m5 113 rfl) rfl
theorem q1153 : (Jvm.Cond.fieldLink "InterestTakenModel" (31 : Nat) "InterestTakenModel" "callDay" "[I") ∈ lw_all := lw_g (lw_at lw_m5 114 rfl) rfl
theorem q1154 : (Jvm.Cond.fieldLink "InterestTakenModel" (34 : Nat) "InterestTakenModel" "callSaver" "[I") ∈ lw_all := lw_g (lw_at lw_m5 115 rfl) rfl
theorem q1155 : (Jvm.Cond.fieldLink "InterestTakenModel" (159 : Nat) "InterestTakenModel" "wars" "I") ∈ lw_all := lw_g (lw_at lw_m5 116 rfl) rfl
theorem q1156 : (Jvm.Cond.fieldLink "InterestTakenModel" (37 : Nat) "InterestTakenModel" "warDay" "[I") ∈ lw_all := lw_g (lw_at lw_m5 117 rfl) rfl
theorem q1157 : (Jvm.Cond.fieldLink "InterestTakenModel" (178 : Nat) "InterestTakenModel" "rateNow" "I") ∈ lw_all := lw_g (lw_at lw_m5 118 rfl) rfl
theorem q1158 : (Jvm.Cond.fieldLink "InterestTakenModel" (40 : Nat) "InterestTakenModel" "isCalled" "[Z") ∈ lw_all := lw_g (lw_at lw_m5 119 rfl) rfl
theorem q1159 : (Jvm.Cond.fieldLink "InterestTakenModel" (44 : Nat) "InterestTakenModel" "isWar" "[Z") ∈ lw_all := lw_g (lw_at lw_m5 120 rfl) rfl
theorem q1160 : (Jvm.Cond.fieldLink "InterestTakenModel" (47 : Nat) "InterestTakenModel" "owes" "[I") ∈ lw_all := lw_g (lw_at lw_m5 121 rfl) rfl
theorem q1161 : (Jvm.Cond.fieldLink "InterestTakenModel" (50 : Nat) "InterestTakenModel" "owedAt" "[I") ∈ lw_all := lw_g (lw_at lw_m5 122 rfl) rfl
theorem q1162 : (Jvm.Cond.fieldLink "InterestTakenModel" (53 : Nat) "InterestTakenModel" "heardAt" "[I") ∈ lw_all := lw_g (lw_at lw_m5 123 rfl) rfl
theorem q1163 : (Jvm.Cond.fieldLink "InterestTakenModel" (56 : Nat) "InterestTakenModel" "yawnAt" "[I") ∈ lw_all := lw_g (lw_at lw_m5 124 rfl) rfl
theorem q1164 : (Jvm.Cond.fieldLink "InterestTakenModel" (59 : Nat) "InterestTakenModel" "minutes" "[I") ∈ lw_all := lw_g (lw_at lw_m5 125 rfl) rfl
theorem q1165 : (Jvm.Cond.fieldLink "InterestTakenModel" (62 : Nat) "InterestTakenModel" "leftAt" "[I") ∈ lw_all := lw_g (lw_at lw_m5 126 rfl) rfl
theorem q1166 : (Jvm.Cond.fieldLink "InterestTakenModel" (191 : Nat) "InterestTakenModel" "runNow" "I") ∈ lw_all := lw_g (lw_at lw_m5 127 rfl) rfl
theorem q1167 : (Jvm.Cond.fieldLink "InterestTakenModel" (185 : Nat) "InterestTakenModel" "yawnDay" "I") ∈ lw_all := lw_g (lw_at lw_m5 128 rfl) rfl
theorem q1168 : (Jvm.Cond.fieldLink "InterestTakenModel" (188 : Nat) "InterestTakenModel" "yawnWho" "I") ∈ lw_all := lw_g (lw_at lw_m5 129 rfl) rfl
theorem q1169 : (Jvm.Cond.fieldLink "InterestTakenModel" (65 : Nat) "InterestTakenModel" "sitBy" "[I") ∈ lw_all := lw_g (lw_at lw_m5 130 rfl) rfl
theorem q1170 : (Jvm.Cond.fieldLink "InterestTakenModel" (248 : Nat) "InterestTakenModel" "seens" "I") ∈ lw_all := lw_g (lw_at lw_m5 131 rfl) rfl
theorem q1171 : (Jvm.Cond.fieldLink "InterestTakenModel" (68 : Nat) "InterestTakenModel" "seenDay" "[I") ∈ lw_all := lw_g (lw_at lw_m5 132 rfl) rfl
theorem q1172 : (Jvm.Cond.fieldLink "InterestTakenModel" (71 : Nat) "InterestTakenModel" "seenSaver" "[I") ∈ lw_all := lw_g (lw_at lw_m5 133 rfl) rfl
theorem q1173 : (Jvm.Cond.fieldLink "InterestTakenModel" (74 : Nat) "InterestTakenModel" "seenMuch" "[I") ∈ lw_all := lw_g (lw_at lw_m5 134 rfl) rfl
theorem q1174 : (Jvm.Cond.fieldLink "InterestTakenModel" (77 : Nat) "InterestTakenModel" "owedBy" "[I") ∈ lw_all := lw_g (lw_at lw_m5 135 rfl) rfl
theorem q1175 : (Jvm.Cond.fieldLink "InterestTakenModel" (80 : Nat) "InterestTakenModel" "isThere" "[Z") ∈ lw_all := lw_g (lw_at lw_m5 136 rfl) rfl
theorem q1176 : (Jvm.Cond.fieldLink "InterestTakenModel" (83 : Nat) "InterestTakenModel" "forms" "[I") ∈ lw_all := lw_g (lw_at lw_m5 137 rfl) rfl
theorem q1177 : (Jvm.Cond.fieldLink "InterestTakenModel" (86 : Nat) "InterestTakenModel" "sizes" "[I") ∈ lw_all := lw_g (lw_at lw_m5 138 rfl) rfl
theorem q1178 : (Jvm.Cond.fieldLink "InterestTakenModel" (89 : Nat) "InterestTakenModel" "items" "[I") ∈ lw_all := lw_g (lw_at lw_m5 139 rfl) rfl
theorem q1179 : (Jvm.Cond.fieldLink "InterestTakenModel" (92 : Nat) "InterestTakenModel" "moved" "[I") ∈ lw_all := lw_g (lw_at lw_m5 140 rfl) rfl
theorem q1180 : (Jvm.Cond.fieldLink "InterestTakenModel" (283 : Nat) "InterestTakenModel" "finding" "I") ∈ lw_all := lw_g (lw_at lw_m5 141 rfl) rfl
theorem q1181 : (Jvm.Cond.laysFinal "InterestTakenModel" "InterestTakenModel" "typed" "[I") ∈ lw_all := lw_g (lw_at lw_m5 142 rfl) rfl
theorem q1182 : (Jvm.Cond.soleField "InterestTakenModel" "typed") ∈ lw_all := lw_g (lw_at lw_m5 143 rfl) rfl
theorem q1183 : (Jvm.Cond.laysFinal "InterestTakenModel" "InterestTakenModel" "texts" "[I") ∈ lw_all := lw_g (lw_at lw_m5 144 rfl) rfl
theorem q1184 : (Jvm.Cond.soleField "InterestTakenModel" "texts") ∈ lw_all := lw_g (lw_at lw_m5 145 rfl) rfl
theorem q1185 : (Jvm.Cond.lays "InterestTakenModel" "InterestTakenModel" "savers" "I") ∈ lw_all := lw_g (lw_at lw_m5 146 rfl) rfl
theorem q1186 : (Jvm.Cond.soleField "InterestTakenModel" "savers") ∈ lw_all := lw_g (lw_at lw_m5 147 rfl) rfl
theorem q1187 : (Jvm.Cond.laysFinal "InterestTakenModel" "InterestTakenModel" "sums" "[I") ∈ lw_all := lw_g (lw_at lw_m5 148 rfl) rfl
theorem q1188 : (Jvm.Cond.soleField "InterestTakenModel" "sums") ∈ lw_all := lw_g (lw_at lw_m5 149 rfl) rfl
theorem q1189 : (Jvm.Cond.laysFinal "InterestTakenModel" "InterestTakenModel" "keepers" "[I") ∈ lw_all := lw_g (lw_at lw_m5 150 rfl) rfl
theorem q1190 : (Jvm.Cond.soleField "InterestTakenModel" "keepers") ∈ lw_all := lw_g (lw_at lw_m5 151 rfl) rfl
theorem q1191 : (Jvm.Cond.laysFinal "InterestTakenModel" "InterestTakenModel" "talks" "[I") ∈ lw_all := lw_g (lw_at lw_m5 152 rfl) rfl
theorem q1192 : (Jvm.Cond.soleField "InterestTakenModel" "talks") ∈ lw_all := lw_g (lw_at lw_m5 153 rfl) rfl
theorem q1193 : (Jvm.Cond.lays "InterestTakenModel" "InterestTakenModel" "partners" "I") ∈ lw_all := lw_g (lw_at lw_m5 154 rfl) rfl
theorem q1194 : (Jvm.Cond.soleField "InterestTakenModel" "partners") ∈ lw_all := lw_g (lw_at lw_m5 155 rfl) rfl
theorem q1195 : (Jvm.Cond.laysFinal "InterestTakenModel" "InterestTakenModel" "sits" "[I") ∈ lw_all := lw_g (lw_at lw_m5 156 rfl) rfl
theorem q1196 : (Jvm.Cond.soleField "InterestTakenModel" "sits") ∈ lw_all := lw_g (lw_at lw_m5 157 rfl) rfl
theorem q1197 : (Jvm.Cond.laysFinal "InterestTakenModel" "InterestTakenModel" "cares" "[I") ∈ lw_all := lw_g (lw_at lw_m5 158 rfl) rfl
theorem q1198 : (Jvm.Cond.soleField "InterestTakenModel" "cares") ∈ lw_all := lw_g (lw_at lw_m5 159 rfl) rfl
theorem q1199 : (Jvm.Cond.lays "InterestTakenModel" "InterestTakenModel" "rateTold" "I") ∈ lw_all := lw_g (lw_at lw_m5 160 rfl) rfl
theorem q1200 : (Jvm.Cond.soleField "InterestTakenModel" "rateTold") ∈ lw_all := lw_g (lw_at lw_m5 161 rfl) rfl
theorem q1201 : (Jvm.Cond.lays "InterestTakenModel" "InterestTakenModel" "limitTold" "I") ∈ lw_all := lw_g (lw_at lw_m5 162 rfl) rfl
theorem q1202 : (Jvm.Cond.soleField "InterestTakenModel" "limitTold") ∈ lw_all := lw_g (lw_at lw_m5 163 rfl) rfl
theorem q1203 : (Jvm.Cond.lays "InterestTakenModel" "InterestTakenModel" "calls" "I") ∈ lw_all := lw_g (lw_at lw_m5 164 rfl) rfl
theorem q1204 : (Jvm.Cond.soleField "InterestTakenModel" "calls") ∈ lw_all := lw_g (lw_at lw_m5 165 rfl) rfl
theorem q1205 : (Jvm.Cond.laysFinal "InterestTakenModel" "InterestTakenModel" "callDay" "[I") ∈ lw_all := lw_g (lw_at lw_m5 166 rfl) rfl
theorem q1206 : (Jvm.Cond.soleField "InterestTakenModel" "callDay") ∈ lw_all := lw_g (lw_at lw_m5 167 rfl) rfl
theorem q1207 : (Jvm.Cond.laysFinal "InterestTakenModel" "InterestTakenModel" "callSaver" "[I") ∈ lw_all := lw_g (lw_at lw_m5 168 rfl) rfl
theorem q1208 : (Jvm.Cond.soleField "InterestTakenModel" "callSaver") ∈ lw_all := lw_g (lw_at lw_m5 169 rfl) rfl
theorem q1209 : (Jvm.Cond.lays "InterestTakenModel" "InterestTakenModel" "wars" "I") ∈ lw_all := lw_g (lw_at lw_m5 170 rfl) rfl
theorem q1210 : (Jvm.Cond.soleField "InterestTakenModel" "wars") ∈ lw_all := lw_g (lw_at lw_m5 171 rfl) rfl
theorem q1211 : (Jvm.Cond.laysFinal "InterestTakenModel" "InterestTakenModel" "warDay" "[I") ∈ lw_all := lw_g (lw_at lw_m5 172 rfl) rfl
theorem q1212 : (Jvm.Cond.soleField "InterestTakenModel" "warDay") ∈ lw_all := lw_g (lw_at lw_m5 173 rfl) rfl
theorem q1213 : (Jvm.Cond.lays "InterestTakenModel" "InterestTakenModel" "rateNow" "I") ∈ lw_all := lw_g (lw_at lw_m5 174 rfl) rfl
theorem q1214 : (Jvm.Cond.soleField "InterestTakenModel" "rateNow") ∈ lw_all := lw_g (lw_at lw_m5 175 rfl) rfl
theorem q1215 : (Jvm.Cond.laysFinal "InterestTakenModel" "InterestTakenModel" "isCalled" "[Z") ∈ lw_all := lw_g (lw_at lw_m5 176 rfl) rfl
theorem q1216 : (Jvm.Cond.soleField "InterestTakenModel" "isCalled") ∈ lw_all := lw_g (lw_at lw_m5 177 rfl) rfl
theorem q1217 : (Jvm.Cond.laysFinal "InterestTakenModel" "InterestTakenModel" "isWar" "[Z") ∈ lw_all := lw_g (lw_at lw_m5 178 rfl) rfl
theorem q1218 : (Jvm.Cond.soleField "InterestTakenModel" "isWar") ∈ lw_all := lw_g (lw_at lw_m5 179 rfl) rfl
theorem q1219 : (Jvm.Cond.laysFinal "InterestTakenModel" "InterestTakenModel" "owes" "[I") ∈ lw_all := lw_g (lw_at lw_m5 180 rfl) rfl
theorem q1220 : (Jvm.Cond.soleField "InterestTakenModel" "owes") ∈ lw_all := lw_g (lw_at lw_m5 181 rfl) rfl
theorem q1221 : (Jvm.Cond.laysFinal "InterestTakenModel" "InterestTakenModel" "owedAt" "[I") ∈ lw_all := lw_g (lw_at lw_m5 182 rfl) rfl
theorem q1222 : (Jvm.Cond.soleField "InterestTakenModel" "owedAt") ∈ lw_all := lw_g (lw_at lw_m5 183 rfl) rfl
theorem q1223 : (Jvm.Cond.laysFinal "InterestTakenModel" "InterestTakenModel" "heardAt" "[I") ∈ lw_all := lw_g (lw_at lw_m5 184 rfl) rfl
theorem q1224 : (Jvm.Cond.soleField "InterestTakenModel" "heardAt") ∈ lw_all := lw_g (lw_at lw_m5 185 rfl) rfl
theorem q1225 : (Jvm.Cond.laysFinal "InterestTakenModel" "InterestTakenModel" "yawnAt" "[I") ∈ lw_all := lw_g (lw_at lw_m5 186 rfl) rfl
theorem q1226 : (Jvm.Cond.soleField "InterestTakenModel" "yawnAt") ∈ lw_all := lw_g (lw_at lw_m5 187 rfl) rfl
theorem q1227 : (Jvm.Cond.laysFinal "InterestTakenModel" "InterestTakenModel" "minutes" "[I") ∈ lw_all := lw_g (lw_at lw_m5 188 rfl) rfl
theorem q1228 : (Jvm.Cond.soleField "InterestTakenModel" "minutes") ∈ lw_all := lw_g (lw_at lw_m5 189 rfl) rfl
theorem q1229 : (Jvm.Cond.laysFinal "InterestTakenModel" "InterestTakenModel" "leftAt" "[I") ∈ lw_all := lw_g (lw_at lw_m5 190 rfl) rfl
theorem q1230 : (Jvm.Cond.soleField "InterestTakenModel" "leftAt") ∈ lw_all := lw_g (lw_at lw_m5 191 rfl) rfl
theorem q1231 : (Jvm.Cond.lays "InterestTakenModel" "InterestTakenModel" "runNow" "I") ∈ lw_all := lw_g (lw_at lw_m5 192 rfl) rfl
theorem q1232 : (Jvm.Cond.soleField "InterestTakenModel" "runNow") ∈ lw_all := lw_g (lw_at lw_m5 193 rfl) rfl
theorem q1233 : (Jvm.Cond.lays "InterestTakenModel" "InterestTakenModel" "yawnDay" "I") ∈ lw_all := lw_g (lw_at lw_m5 194 rfl) rfl
theorem q1234 : (Jvm.Cond.soleField "InterestTakenModel" "yawnDay") ∈ lw_all := lw_g (lw_at lw_m5 195 rfl) rfl
theorem q1235 : (Jvm.Cond.lays "InterestTakenModel" "InterestTakenModel" "yawnWho" "I") ∈ lw_all := lw_g (lw_at lw_m5 196 rfl) rfl
theorem q1236 : (Jvm.Cond.soleField "InterestTakenModel" "yawnWho") ∈ lw_all := lw_g (lw_at lw_m5 197 rfl) rfl
theorem q1237 : (Jvm.Cond.laysFinal "InterestTakenModel" "InterestTakenModel" "sitBy" "[I") ∈ lw_all := lw_g (lw_at lw_m5 198 rfl) rfl
theorem q1238 : (Jvm.Cond.soleField "InterestTakenModel" "sitBy") ∈ lw_all := lw_g (lw_at lw_m5 199 rfl) rfl
theorem q1239 : (Jvm.Cond.lays "InterestTakenModel" "InterestTakenModel" "seens" "I") ∈ lw_all := lw_g (lw_at lw_m5 200 rfl) rfl
theorem q1240 : (Jvm.Cond.soleField "InterestTakenModel" "seens") ∈ lw_all := lw_g (lw_at lw_m5 201 rfl) rfl
theorem q1241 : (Jvm.Cond.laysFinal "InterestTakenModel" "InterestTakenModel" "seenDay" "[I") ∈ lw_all := lw_g (lw_at lw_m5 202 rfl) rfl
theorem q1242 : (Jvm.Cond.soleField "InterestTakenModel" "seenDay") ∈ lw_all := lw_g (lw_at lw_m5 203 rfl) rfl
theorem q1243 : (Jvm.Cond.laysFinal "InterestTakenModel" "InterestTakenModel" "seenSaver" "[I") ∈ lw_all := lw_g (lw_at lw_m5 204 rfl) rfl
theorem q1244 : (Jvm.Cond.soleField "InterestTakenModel" "seenSaver") ∈ lw_all := lw_g (lw_at lw_m5 205 rfl) rfl
theorem q1245 : (Jvm.Cond.laysFinal "InterestTakenModel" "InterestTakenModel" "seenMuch" "[I") ∈ lw_all := lw_g (lw_at lw_m5 206 rfl) rfl
theorem q1246 : (Jvm.Cond.soleField "InterestTakenModel" "seenMuch") ∈ lw_all := lw_g (lw_at lw_m5 207 rfl) rfl
theorem q1247 : (Jvm.Cond.laysFinal "InterestTakenModel" "InterestTakenModel" "owedBy" "[I") ∈ lw_all := lw_g (lw_at lw_m5 208 rfl) rfl
theorem q1248 : (Jvm.Cond.soleField "InterestTakenModel" "owedBy") ∈ lw_all := lw_g (lw_at lw_m5 209 rfl) rfl
theorem q1249 : (Jvm.Cond.laysFinal "InterestTakenModel" "InterestTakenModel" "isThere" "[Z") ∈ lw_all := lw_g (lw_at lw_m5 210 rfl) rfl
theorem q1250 : (Jvm.Cond.soleField "InterestTakenModel" "isThere") ∈ lw_all := lw_g (lw_at lw_m5 211 rfl) rfl
theorem q1251 : (Jvm.Cond.laysFinal "InterestTakenModel" "InterestTakenModel" "forms" "[I") ∈ lw_all := lw_g (lw_at lw_m5 212 rfl) rfl
theorem q1252 : (Jvm.Cond.soleField "InterestTakenModel" "forms") ∈ lw_all := lw_g (lw_at lw_m5 213 rfl) rfl
theorem q1253 : (Jvm.Cond.laysFinal "InterestTakenModel" "InterestTakenModel" "sizes" "[I") ∈ lw_all := lw_g (lw_at lw_m5 214 rfl) rfl
theorem q1254 : (Jvm.Cond.soleField "InterestTakenModel" "sizes") ∈ lw_all := lw_g (lw_at lw_m5 215 rfl) rfl
theorem q1255 : (Jvm.Cond.laysFinal "InterestTakenModel" "InterestTakenModel" "items" "[I") ∈ lw_all := lw_g (lw_at lw_m5 216 rfl) rfl
theorem q1256 : (Jvm.Cond.soleField "InterestTakenModel" "items") ∈ lw_all := lw_g (lw_at lw_m5 217 rfl) rfl
theorem q1257 : (Jvm.Cond.laysFinal "InterestTakenModel" "InterestTakenModel" "moved" "[I") ∈ lw_all := lw_g (lw_at lw_m5 218 rfl) rfl
theorem q1258 : (Jvm.Cond.soleField "InterestTakenModel" "moved") ∈ lw_all := lw_g (lw_at lw_m5 219 rfl) rfl
theorem q1259 : (Jvm.Cond.lays "InterestTakenModel" "InterestTakenModel" "finding" "I") ∈ lw_all := lw_g (lw_at lw_m5 220 rfl) rfl
theorem q1260 : (Jvm.Cond.soleField "InterestTakenModel" "finding") ∈ lw_all := lw_g (lw_at lw_m5 221 rfl) rfl
theorem q1261 : (Jvm.Cond.superclass "InterestTakenModel" "java/lang/Object") ∈ lw_all := lw_g (lw_at lw_m5 222 rfl) rfl
theorem q1263 : (Jvm.Cond.instanceMethod ({ cls := "InterestTakenModel", name := "type", desc := "(II)I" } : Jvm.MethodName)) ∈ lw_all := lw_g (lw_at lw_m5 224 rfl) rfl
theorem q1264 : (Jvm.Cond.selects "InterestTakenModel" ({ cls := "InterestTakenModel", name := "type", desc := "(II)I" } : Jvm.MethodName) ({ cls := "InterestTakenModel", name := "type", desc := "(II)I" } : Jvm.MethodName)) ∈ lw_all := lw_g (lw_at lw_m5 225 rfl) rfl
theorem q1265 : (Jvm.Cond.code ({ cls := "InterestTakenModel", name := "type", desc := "(II)I" } : Jvm.MethodName) prog_14_method_9_code (3 : Nat) (Option.some Jvm.ClassFile.FieldType.int)) ∈ lw_all := lw_g (lw_at lw_m5 226 rfl) rfl
theorem q1266 : (Jvm.Cond.methodLink "InterestTakenModel" (108 : Nat) ({ cls := "InterestTakenModel", name := "isText", desc := "(I)Z" } : Jvm.MethodName)) ∈ lw_all := lw_g (lw_at lw_m5 227 rfl) rfl
theorem q1267 : (Jvm.Cond.static ({ cls := "InterestTakenModel", name := "isText", desc := "(I)Z" } : Jvm.MethodName)) ∈ lw_all := lw_g (lw_at lw_m5 228 rfl) rfl
theorem q1268 : (Jvm.Cond.code ({ cls := "InterestTakenModel", name := "isText", desc := "(I)Z" } : Jvm.MethodName) prog_14_method_7_code (1 : Nat) (Option.some Jvm.ClassFile.FieldType.boolean)) ∈ lw_all := lw_g (lw_at lw_m5 229 rfl) rfl
theorem q1269 : (Jvm.Cond.methodLink "InterestTakenModel" (104 : Nat) ({ cls := "InterestTakenModel", name := "in", desc := "(III)Z" } : Jvm.MethodName)) ∈ lw_all := lw_g (lw_at lw_m5 230 rfl) rfl
theorem q1270 : (Jvm.Cond.static ({ cls := "InterestTakenModel", name := "in", desc := "(III)Z" } : Jvm.MethodName)) ∈ lw_all := lw_g (lw_at lw_m5 231 rfl) rfl
theorem q1271 : (Jvm.Cond.code ({ cls := "InterestTakenModel", name := "in", desc := "(III)Z" } : Jvm.MethodName) prog_14_method_3_code (3 : Nat) (Option.some Jvm.ClassFile.FieldType.boolean)) ∈ lw_all := lw_g (lw_at lw_m5 232 rfl) rfl
theorem q1273 : (Jvm.Cond.instanceMethod ({ cls := "InterestTakenModel", name := "wipe", desc := "(I)I" } : Jvm.MethodName)) ∈ lw_all := lw_g (lw_at lw_m5 234 rfl) rfl
theorem q1274 : (Jvm.Cond.selects "InterestTakenModel" ({ cls := "InterestTakenModel", name := "wipe", desc := "(I)I" } : Jvm.MethodName) ({ cls := "InterestTakenModel", name := "wipe", desc := "(I)I" } : Jvm.MethodName)) ∈ lw_all := lw_g (lw_at lw_m5 235 rfl) rfl
theorem q1275 : (Jvm.Cond.code ({ cls := "InterestTakenModel", name := "wipe", desc := "(I)I" } : Jvm.MethodName) prog_14_method_10_code (3 : Nat) (Option.some Jvm.ClassFile.FieldType.int)) ∈ lw_all := lw_g (lw_at lw_m5 236 rfl) rfl
theorem q1277 : (Jvm.Cond.instanceMethod ({ cls := "InterestTakenModel", name := "undo", desc := "(I)I" } : Jvm.MethodName)) ∈ lw_all := lw_g (lw_at lw_m5 238 rfl) rfl
theorem q1278 : (Jvm.Cond.selects "InterestTakenModel" ({ cls := "InterestTakenModel", name := "undo", desc := "(I)I" } : Jvm.MethodName) ({ cls := "InterestTakenModel", name := "undo", desc := "(I)I" } : Jvm.MethodName)) ∈ lw_all := lw_g (lw_at lw_m5 239 rfl) rfl
theorem q1279 : (Jvm.Cond.code ({ cls := "InterestTakenModel", name := "undo", desc := "(I)I" } : Jvm.MethodName) prog_14_method_11_code (2 : Nat) (Option.some Jvm.ClassFile.FieldType.int)) ∈ lw_all := lw_g (lw_at lw_m6 0 rfl) rfl
theorem q1281 : (Jvm.Cond.instanceMethod ({ cls := "InterestTakenModel", name := "fault", desc := "(I)I" } : Jvm.MethodName)) ∈ lw_all := lw_g (lw_at lw_m6 2 rfl) rfl
theorem q1282 : (Jvm.Cond.selects "InterestTakenModel" ({ cls := "InterestTakenModel", name := "fault", desc := "(I)I" } : Jvm.MethodName) ({ cls := "InterestTakenModel", name := "fault", desc := "(I)I" } : Jvm.MethodName)) ∈ lw_all := lw_g (lw_at lw_m6 3 rfl) rfl
theorem q1283 : (Jvm.Cond.code ({ cls := "InterestTakenModel", name := "fault", desc := "(I)I" } : Jvm.MethodName) prog_14_method_20_code (2 : Nat) (Option.some Jvm.ClassFile.FieldType.int)) ∈ lw_all := lw_g (lw_at lw_m6 4 rfl) rfl
theorem q1284 : (Jvm.Cond.methodLink "InterestTakenModel" (138 : Nat) ({ cls := "InterestTakenModel", name := "faultOf", desc := "(I)I" } : Jvm.MethodName)) ∈ lw_all := lw_g (lw_at lw_m6 5 rfl) rfl
theorem q1285 : (Jvm.Cond.privateMethod ({ cls := "InterestTakenModel", name := "faultOf", desc := "(I)I" } : Jvm.MethodName)) ∈ lw_tbl := lw_at lw_m6 6 rfl
theorem q1286 : (Jvm.Cond.instanceMethod ({ cls := "InterestTakenModel", name := "faultOf", desc := "(I)I" } : Jvm.MethodName)) ∈ lw_all := lw_g (lw_at lw_m6 7 rfl) rfl
theorem q1287 : (Jvm.Cond.code ({ cls := "InterestTakenModel", name := "faultOf", desc := "(I)I" } : Jvm.MethodName) prog_14_method_18_code (4 : Nat) (Option.some Jvm.ClassFile.FieldType.int)) ∈ lw_all := lw_g (lw_at lw_m6 8 rfl) rfl
theorem q1288 : (Jvm.Cond.methodLink "InterestTakenModel" (134 : Nat) ({ cls := "InterestTakenModel", name := "readsParts", desc := "(I)I" } : Jvm.MethodName)) ∈ lw_all := lw_g (lw_at lw_m6 9 rfl) rfl
theorem q1289 : (Jvm.Cond.privateMethod ({ cls := "InterestTakenModel", name := "readsParts", desc := "(I)I" } : Jvm.MethodName)) ∈ lw_tbl := lw_at lw_m6 10 rfl
theorem q1290 : (Jvm.Cond.instanceMethod ({ cls := "InterestTakenModel", name := "readsParts", desc := "(I)I" } : Jvm.MethodName)) ∈ lw_all := lw_g (lw_at lw_m6 11 rfl) rfl
theorem q1291 : (Jvm.Cond.code ({ cls := "InterestTakenModel", name := "readsParts", desc := "(I)I" } : Jvm.MethodName) prog_14_method_17_code (6 : Nat) (Option.some Jvm.ClassFile.FieldType.int)) ∈ lw_all := lw_g (lw_at lw_m6 12 rfl) rfl
theorem q1292 : (Jvm.Cond.methodLink "InterestTakenModel" (128 : Nat) ({ cls := "InterestTakenModel", name := "readsSaver", desc := "(II)I" } : Jvm.MethodName)) ∈ lw_all := lw_g (lw_at lw_m6 13 rfl) rfl
theorem q1293 : (Jvm.Cond.privateMethod ({ cls := "InterestTakenModel", name := "readsSaver", desc := "(II)I" } : Jvm.MethodName)) ∈ lw_tbl := lw_at lw_m6 14 rfl
theorem q1294 : (Jvm.Cond.instanceMethod ({ cls := "InterestTakenModel", name := "readsSaver", desc := "(II)I" } : Jvm.MethodName)) ∈ lw_all := lw_g (lw_at lw_m6 15 rfl) rfl
theorem q1295 : (Jvm.Cond.code ({ cls := "InterestTakenModel", name := "readsSaver", desc := "(II)I" } : Jvm.MethodName) prog_14_method_15_code (6 : Nat) (Option.some Jvm.ClassFile.FieldType.int)) ∈ lw_all := lw_g (lw_at lw_m6 16 rfl) rfl
theorem q1296 : (Jvm.Cond.methodLink "InterestTakenModel" (116 : Nat) ({ cls := "InterestTakenModel", name := "figureAt", desc := "(II)I" } : Jvm.MethodName)) ∈ lw_all := lw_g (lw_at lw_m6 17 rfl) rfl
theorem q1297 : (Jvm.Cond.privateMethod ({ cls := "InterestTakenModel", name := "figureAt", desc := "(II)I" } : Jvm.MethodName)) ∈ lw_tbl := lw_at lw_m6 18 rfl
theorem q1298 : (Jvm.Cond.instanceMethod ({ cls := "InterestTakenModel", name := "figureAt", desc := "(II)I" } : Jvm.MethodName)) ∈ lw_all := lw_g (lw_at lw_m6 19 rfl) rfl
theorem q1299 : (Jvm.Cond.code ({ cls := "InterestTakenModel", name := "figureAt", desc := "(II)I" } : Jvm.MethodName) prog_14_method_13_code (4 : Nat) (Option.some Jvm.ClassFile.FieldType.int)) ∈ lw_all := lw_g (lw_at lw_m6 20 rfl) rfl
theorem q1300 : (Jvm.Cond.methodLink "InterestTakenModel" (112 : Nat) ({ cls := "InterestTakenModel", name := "byteAt", desc := "(II)I" } : Jvm.MethodName)) ∈ lw_all := lw_g (lw_at lw_m6 21 rfl) rfl
theorem q1301 : (Jvm.Cond.privateMethod ({ cls := "InterestTakenModel", name := "byteAt", desc := "(II)I" } : Jvm.MethodName)) ∈ lw_tbl := lw_at lw_m6 22 rfl
theorem q1302 : (Jvm.Cond.instanceMethod ({ cls := "InterestTakenModel", name := "byteAt", desc := "(II)I" } : Jvm.MethodName)) ∈ lw_all := lw_g (lw_at lw_m6 23 rfl) rfl
theorem q1303 : (Jvm.Cond.code ({ cls := "InterestTakenModel", name := "byteAt", desc := "(II)I" } : Jvm.MethodName) prog_14_method_12_code (3 : Nat) (Option.some Jvm.ClassFile.FieldType.int)) ∈ lw_all := lw_g (lw_at lw_m6 24 rfl) rfl
theorem q1304 : (Jvm.Cond.methodLink "InterestTakenModel" (119 : Nat) ({ cls := "InterestTakenModel", name := "letterAt", desc := "(II)I" } : Jvm.MethodName)) ∈ lw_all := lw_g (lw_at lw_m6 25 rfl) rfl
theorem q1305 : (Jvm.Cond.privateMethod ({ cls := "InterestTakenModel", name := "letterAt", desc := "(II)I" } : Jvm.MethodName)) ∈ lw_tbl := lw_at lw_m6 26 rfl
theorem q1306 : (Jvm.Cond.instanceMethod ({ cls := "InterestTakenModel", name := "letterAt", desc := "(II)I" } : Jvm.MethodName)) ∈ lw_all := lw_g (lw_at lw_m6 27 rfl) rfl
theorem q1307 : (Jvm.Cond.code ({ cls := "InterestTakenModel", name := "letterAt", desc := "(II)I" } : Jvm.MethodName) prog_14_method_14_code (4 : Nat) (Option.some Jvm.ClassFile.FieldType.int)) ∈ lw_all := lw_g (lw_at lw_m6 28 rfl) rfl
theorem q1308 : (Jvm.Cond.methodLink "InterestTakenModel" (131 : Nat) ({ cls := "InterestTakenModel", name := "readsPartner", desc := "(II)I" } : Jvm.MethodName)) ∈ lw_all := lw_g (lw_at lw_m6 29 rfl) rfl
theorem q1309 : (Jvm.Cond.privateMethod ({ cls := "InterestTakenModel", name := "readsPartner", desc := "(II)I" } : Jvm.MethodName)) ∈ lw_tbl := lw_at lw_m6 30 rfl
theorem q1310 : (Jvm.Cond.instanceMethod ({ cls := "InterestTakenModel", name := "readsPartner", desc := "(II)I" } : Jvm.MethodName)) ∈ lw_all := lw_g (lw_at lw_m6 31 rfl) rfl
theorem q1311 : (Jvm.Cond.code ({ cls := "InterestTakenModel", name := "readsPartner", desc := "(II)I" } : Jvm.MethodName) prog_14_method_16_code (5 : Nat) (Option.some Jvm.ClassFile.FieldType.int)) ∈ lw_all := lw_g (lw_at lw_m6 32 rfl) rfl
theorem q1313 : (Jvm.Cond.instanceMethod ({ cls := "InterestTakenModel", name := "saver", desc := "(II)I" } : Jvm.MethodName)) ∈ lw_all := lw_g (lw_at lw_m6 34 rfl) rfl
theorem q1314 : (Jvm.Cond.selects "InterestTakenModel" ({ cls := "InterestTakenModel", name := "saver", desc := "(II)I" } : Jvm.MethodName) ({ cls := "InterestTakenModel", name := "saver", desc := "(II)I" } : Jvm.MethodName)) ∈ lw_all := lw_g (lw_at lw_m6 35 rfl) rfl
theorem q1315 : (Jvm.Cond.code ({ cls := "InterestTakenModel", name := "saver", desc := "(II)I" } : Jvm.MethodName) prog_14_method_24_code (3 : Nat) (Option.some Jvm.ClassFile.FieldType.int)) ∈ lw_all := lw_g (lw_at lw_m6 36 rfl) rfl
theorem q1316 : (Jvm.Cond.methodLink "InterestTakenModel" (144 : Nat) ({ cls := "InterestTakenModel", name := "isSaver", desc := "(I)Z" } : Jvm.MethodName)) ∈ lw_all := lw_g (lw_at lw_m6 37 rfl) rfl
theorem q1317 : (Jvm.Cond.privateMethod ({ cls := "InterestTakenModel", name := "isSaver", desc := "(I)Z" } : Jvm.MethodName)) ∈ lw_tbl := lw_at lw_m6 38 rfl
theorem q1318 : (Jvm.Cond.instanceMethod ({ cls := "InterestTakenModel", name := "isSaver", desc := "(I)Z" } : Jvm.MethodName)) ∈ lw_all := lw_g (lw_at lw_m6 39 rfl) rfl
theorem q1319 : (Jvm.Cond.code ({ cls := "InterestTakenModel", name := "isSaver", desc := "(I)Z" } : Jvm.MethodName) prog_14_method_21_code (2 : Nat) (Option.some Jvm.ClassFile.FieldType.boolean)) ∈ lw_all := lw_g (lw_at lw_m6 40 rfl) rfl
theorem q1320 : (Jvm.Cond.methodLink "InterestTakenModel" (141 : Nat) ({ cls := "InterestTakenModel", name := "reads", desc := "()V" } : Jvm.MethodName)) ∈ lw_all := lw_g (lw_at lw_m6 41 rfl) rfl
theorem q1321 : (Jvm.Cond.privateMethod ({ cls := "InterestTakenModel", name := "reads", desc := "()V" } : Jvm.MethodName)) ∈ lw_tbl := lw_at lw_m6 42 rfl
theorem q1322 : (Jvm.Cond.instanceMethod ({ cls := "InterestTakenModel", name := "reads", desc := "()V" } : Jvm.MethodName)) ∈ lw_all := lw_g (lw_at lw_m6 43 rfl) rfl
theorem q1323 : (Jvm.Cond.code ({ cls := "InterestTakenModel", name := "reads", desc := "()V" } : Jvm.MethodName) prog_14_method_19_code (2 : Nat) (Option.none : Option Jvm.ClassFile.FieldType)) ∈ lw_all := lw_g (lw_at lw_m6 44 rfl) rfl
theorem q1324 : (Jvm.Cond.methodLink "InterestTakenModel" (147 : Nat) ({ cls := "InterestTakenModel", name := "saverOf", desc := "(II)I" } : Jvm.MethodName)) ∈ lw_all := lw_g (lw_at lw_m6 45 rfl) rfl
theorem q1325 : (Jvm.Cond.privateMethod ({ cls := "InterestTakenModel", name := "saverOf", desc := "(II)I" } : Jvm.MethodName)) ∈ lw_tbl := lw_at lw_m6 46 rfl
theorem q1326 : (Jvm.Cond.instanceMethod ({ cls := "InterestTakenModel", name := "saverOf", desc := "(II)I" } : Jvm.MethodName)) ∈ lw_all := lw_g (lw_at lw_m6 47 rfl) rfl
theorem q1327 : (Jvm.Cond.code ({ cls := "InterestTakenModel", name := "saverOf", desc := "(II)I" } : Jvm.MethodName) prog_14_method_23_code (3 : Nat) (Option.some Jvm.ClassFile.FieldType.int)) ∈ lw_all := lw_g (lw_at lw_m6 48 rfl) rfl
theorem q1329 : (Jvm.Cond.instanceMethod ({ cls := "InterestTakenModel", name := "partner", desc := "(II)I" } : Jvm.MethodName)) ∈ lw_all := lw_g (lw_at lw_m6 50 rfl) rfl
theorem q1330 : (Jvm.Cond.selects "InterestTakenModel" ({ cls := "InterestTakenModel", name := "partner", desc := "(II)I" } : Jvm.MethodName) ({ cls := "InterestTakenModel", name := "partner", desc := "(II)I" } : Jvm.MethodName)) ∈ lw_all := lw_g (lw_at lw_m6 51 rfl) rfl
theorem q1331 : (Jvm.Cond.code ({ cls := "InterestTakenModel", name := "partner", desc := "(II)I" } : Jvm.MethodName) prog_14_method_25_code (3 : Nat) (Option.some Jvm.ClassFile.FieldType.int)) ∈ lw_all := lw_g (lw_at lw_m6 52 rfl) rfl
theorem q1332 : (Jvm.Cond.methodLink "InterestTakenModel" (150 : Nat) ({ cls := "InterestTakenModel", name := "isPartner", desc := "(I)Z" } : Jvm.MethodName)) ∈ lw_all := lw_g (lw_at lw_m6 53 rfl) rfl
theorem q1333 : (Jvm.Cond.privateMethod ({ cls := "InterestTakenModel", name := "isPartner", desc := "(I)Z" } : Jvm.MethodName)) ∈ lw_tbl := lw_at lw_m6 54 rfl
theorem q1334 : (Jvm.Cond.instanceMethod ({ cls := "InterestTakenModel", name := "isPartner", desc := "(I)Z" } : Jvm.MethodName)) ∈ lw_all := lw_g (lw_at lw_m6 55 rfl) rfl
theorem q1335 : (Jvm.Cond.code ({ cls := "InterestTakenModel", name := "isPartner", desc := "(I)Z" } : Jvm.MethodName) prog_14_method_22_code (2 : Nat) (Option.some Jvm.ClassFile.FieldType.boolean)) ∈ lw_all := lw_g (lw_at lw_m6 56 rfl) rfl
theorem q1337 : (Jvm.Cond.instanceMethod ({ cls := "InterestTakenModel", name := "set", desc := "(II)I" } : Jvm.MethodName)) ∈ lw_all := lw_g (lw_at lw_m6 58 rfl) rfl
theorem q1338 : (Jvm.Cond.selects "InterestTakenModel" ({ cls := "InterestTakenModel", name := "set", desc := "(II)I" } : Jvm.MethodName) ({ cls := "InterestTakenModel", name := "set", desc := "(II)I" } : Jvm.MethodName)) ∈ lw_all := lw_g (lw_at lw_m6 59 rfl) rfl
theorem q1339 : (Jvm.Cond.code ({ cls := "InterestTakenModel", name := "set", desc := "(II)I" } : Jvm.MethodName) prog_14_method_26_code (4 : Nat) (Option.some Jvm.ClassFile.FieldType.int)) ∈ lw_all := lw_g (lw_at lw_m6 60 rfl) rfl
theorem q1341 : (Jvm.Cond.instanceMethod ({ cls := "InterestTakenModel", name := "call", desc := "(II)I" } : Jvm.MethodName)) ∈ lw_all := lw_g (lw_at lw_m6 62 rfl) rfl
theorem q1342 : (Jvm.Cond.selects "InterestTakenModel" ({ cls := "InterestTakenModel", name := "call", desc := "(II)I" } : Jvm.MethodName) ({ cls := "InterestTakenModel", name := "call", desc := "(II)I" } : Jvm.MethodName)) ∈ lw_all := lw_g (lw_at lw_m6 63 rfl) rfl
theorem q1343 : (Jvm.Cond.code ({ cls := "InterestTakenModel", name := "call", desc := "(II)I" } : Jvm.MethodName) prog_14_method_27_code (3 : Nat) (Option.some Jvm.ClassFile.FieldType.int)) ∈ lw_all := lw_g (lw_at lw_m6 64 rfl) rfl
theorem q1344 : (Jvm.Cond.methodLink "InterestTakenModel" (153 : Nat) ({ cls := "InterestTakenModel", name := "isDay", desc := "(I)Z" } : Jvm.MethodName)) ∈ lw_all := lw_g (lw_at lw_m6 65 rfl) rfl
theorem q1345 : (Jvm.Cond.static ({ cls := "InterestTakenModel", name := "isDay", desc := "(I)Z" } : Jvm.MethodName)) ∈ lw_all := lw_g (lw_at lw_m6 66 rfl) rfl
theorem q1346 : (Jvm.Cond.code ({ cls := "InterestTakenModel", name := "isDay", desc := "(I)Z" } : Jvm.MethodName) prog_14_method_8_code (1 : Nat) (Option.some Jvm.ClassFile.FieldType.boolean)) ∈ lw_all := lw_g (lw_at lw_m6 67 rfl) rfl
theorem q1348 : (Jvm.Cond.instanceMethod ({ cls := "InterestTakenModel", name := "war", desc := "(I)I" } : Jvm.MethodName)) ∈ lw_all := lw_g (lw_at lw_m6 69 rfl) rfl
theorem q1349 : (Jvm.Cond.selects "InterestTakenModel" ({ cls := "InterestTakenModel", name := "war", desc := "(I)I" } : Jvm.MethodName) ({ cls := "InterestTakenModel", name := "war", desc := "(I)I" } : Jvm.MethodName)) ∈ lw_all := lw_g (lw_at lw_m6 70 rfl) rfl
theorem q1350 : (Jvm.Cond.code ({ cls := "InterestTakenModel", name := "war", desc := "(I)I" } : Jvm.MethodName) prog_14_method_28_code (2 : Nat) (Option.some Jvm.ClassFile.FieldType.int)) ∈ lw_all := lw_g (lw_at lw_m6 71 rfl) rfl
theorem q1352 : (Jvm.Cond.instanceMethod ({ cls := "InterestTakenModel", name := "back", desc := "(I)I" } : Jvm.MethodName)) ∈ lw_all := lw_g (lw_at lw_m6 73 rfl) rfl
theorem q1353 : (Jvm.Cond.selects "InterestTakenModel" ({ cls := "InterestTakenModel", name := "back", desc := "(I)I" } : Jvm.MethodName) ({ cls := "InterestTakenModel", name := "back", desc := "(I)I" } : Jvm.MethodName)) ∈ lw_all := lw_g (lw_at lw_m6 74 rfl) rfl
theorem q1354 : (Jvm.Cond.code ({ cls := "InterestTakenModel", name := "back", desc := "(I)I" } : Jvm.MethodName) prog_14_method_29_code (3 : Nat) (Option.some Jvm.ClassFile.FieldType.int)) ∈ lw_all := lw_g (lw_at lw_m6 75 rfl) rfl
theorem q1356 : (Jvm.Cond.instanceMethod ({ cls := "InterestTakenModel", name := "read", desc := "(I)I" } : Jvm.MethodName)) ∈ lw_all := lw_g (lw_at lw_m6 77 rfl) rfl
theorem q1357 : (Jvm.Cond.selects "InterestTakenModel" ({ cls := "InterestTakenModel", name := "read", desc := "(I)I" } : Jvm.MethodName) ({ cls := "InterestTakenModel", name := "read", desc := "(I)I" } : Jvm.MethodName)) ∈ lw_all := lw_g (lw_at lw_m6 78 rfl) rfl
theorem q1358 : (Jvm.Cond.code ({ cls := "InterestTakenModel", name := "read", desc := "(I)I" } : Jvm.MethodName) prog_14_method_30_code (3 : Nat) (Option.some Jvm.ClassFile.FieldType.int)) ∈ lw_all := lw_g (lw_at lw_m6 79 rfl) rfl
theorem q1359 : (Jvm.Cond.methodLink "InterestTakenModel" (162 : Nat) ({ cls := "InterestTakenModel", name := "isSheet", desc := "(I)Z" } : Jvm.MethodName)) ∈ lw_all := lw_g (lw_at lw_m6 80 rfl) rfl
theorem q1360 : (Jvm.Cond.static ({ cls := "InterestTakenModel", name := "isSheet", desc := "(I)Z" } : Jvm.MethodName)) ∈ lw_all := lw_g (lw_at lw_m6 81 rfl) rfl
theorem q1361 : (Jvm.Cond.code ({ cls := "InterestTakenModel", name := "isSheet", desc := "(I)Z" } : Jvm.MethodName) prog_14_method_76_code (1 : Nat) (Option.some Jvm.ClassFile.FieldType.boolean)) ∈ lw_all := lw_g (lw_at lw_m6 82 rfl) rfl
theorem q1362 : (Jvm.Cond.methodLink "InterestTakenModel" (165 : Nat) ({ cls := "InterestTakenModel", name := "meets", desc := "(I)I" } : Jvm.MethodName)) ∈ lw_all := lw_g (lw_at lw_m6 83 rfl) rfl
theorem q1363 : (Jvm.Cond.privateMethod ({ cls := "InterestTakenModel", name := "meets", desc := "(I)I" } : Jvm.MethodName)) ∈ lw_tbl := lw_at lw_m6 84 rfl
theorem q1364 : (Jvm.Cond.instanceMethod ({ cls := "InterestTakenModel", name := "meets", desc := "(I)I" } : Jvm.MethodName)) ∈ lw_all := lw_g (lw_at lw_m6 85 rfl) rfl
theorem q1365 : (Jvm.Cond.code ({ cls := "InterestTakenModel", name := "meets", desc := "(I)I" } : Jvm.MethodName) prog_14_method_75_code (2 : Nat) (Option.some Jvm.ClassFile.FieldType.int)) ∈ lw_all := lw_g (lw_at lw_m6 86 rfl) rfl
theorem q1366 : (Jvm.Cond.methodLink "InterestTakenModel" (168 : Nat) ({ cls := "InterestTakenModel", name := "call", desc := "(II)I" } : Jvm.MethodName)) ∈ lw_all := lw_g (lw_at lw_m6 87 rfl) rfl
theorem q1368 : (Jvm.Cond.instanceMethod ({ cls := "InterestTakenModel", name := "owed", desc := "(II)I" } : Jvm.MethodName)) ∈ lw_all := lw_g (lw_at lw_m6 89 rfl) rfl
theorem q1369 : (Jvm.Cond.selects "InterestTakenModel" ({ cls := "InterestTakenModel", name := "owed", desc := "(II)I" } : Jvm.MethodName) ({ cls := "InterestTakenModel", name := "owed", desc := "(II)I" } : Jvm.MethodName)) ∈ lw_all := lw_g (lw_at lw_m6 90 rfl) rfl
theorem q1370 : (Jvm.Cond.code ({ cls := "InterestTakenModel", name := "owed", desc := "(II)I" } : Jvm.MethodName) prog_14_method_40_code (3 : Nat) (Option.some Jvm.ClassFile.FieldType.int)) ∈ lw_all := lw_g (lw_at lw_m6 91 rfl) rfl
theorem q1371 : (Jvm.Cond.methodLink "InterestTakenModel" (213 : Nat) ({ cls := "InterestTakenModel", name := "owedOf", desc := "(II)I" } : Jvm.MethodName)) ∈ lw_all := lw_g (lw_at lw_m6 92 rfl) rfl
theorem q1372 : (Jvm.Cond.privateMethod ({ cls := "InterestTakenModel", name := "owedOf", desc := "(II)I" } : Jvm.MethodName)) ∈ lw_tbl := lw_at lw_m6 93 rfl
theorem q1373 : (Jvm.Cond.instanceMethod ({ cls := "InterestTakenModel", name := "owedOf", desc := "(II)I" } : Jvm.MethodName)) ∈ lw_all := lw_g (lw_at lw_m6 94 rfl) rfl
theorem q1374 : (Jvm.Cond.code ({ cls := "InterestTakenModel", name := "owedOf", desc := "(II)I" } : Jvm.MethodName) prog_14_method_39_code (3 : Nat) (Option.some Jvm.ClassFile.FieldType.int)) ∈ lw_all := lw_g (lw_at lw_m6 95 rfl) rfl
theorem q1375 : (Jvm.Cond.methodLink "InterestTakenModel" (207 : Nat) ({ cls := "InterestTakenModel", name := "runsTold", desc := "()V" } : Jvm.MethodName)) ∈ lw_all := lw_g (lw_at lw_m6 96 rfl) rfl
theorem q1376 : (Jvm.Cond.privateMethod ({ cls := "InterestTakenModel", name := "runsTold", desc := "()V" } : Jvm.MethodName)) ∈ lw_tbl := lw_at lw_m6 97 rfl
theorem q1377 : (Jvm.Cond.instanceMethod ({ cls := "InterestTakenModel", name := "runsTold", desc := "()V" } : Jvm.MethodName)) ∈ lw_all := lw_g (lw_at lw_m6 98 rfl) rfl
theorem q1378 : (Jvm.Cond.code ({ cls := "InterestTakenModel", name := "runsTold", desc := "()V" } : Jvm.MethodName) prog_14_method_37_code (1 : Nat) (Option.none : Option Jvm.ClassFile.FieldType)) ∈ lw_all := lw_g (lw_at lw_m6 99 rfl) rfl
theorem q1379 : (Jvm.Cond.methodLink "InterestTakenModel" (201 : Nat) ({ cls := "InterestTakenModel", name := "asTold", desc := "()V" } : Jvm.MethodName)) ∈ lw_all := lw_g (lw_at lw_m6 100 rfl) rfl
theorem q1380 : (Jvm.Cond.privateMethod ({ cls := "InterestTakenModel", name := "asTold", desc := "()V" } : Jvm.MethodName)) ∈ lw_tbl := lw_at lw_m6 101 rfl
theorem q1381 : (Jvm.Cond.instanceMethod ({ cls := "InterestTakenModel", name := "asTold", desc := "()V" } : Jvm.MethodName)) ∈ lw_all := lw_g (lw_at lw_m6 102 rfl) rfl
theorem q1382 : (Jvm.Cond.code ({ cls := "InterestTakenModel", name := "asTold", desc := "()V" } : Jvm.MethodName) prog_14_method_33_code (1 : Nat) (Option.none : Option Jvm.ClassFile.FieldType)) ∈ lw_all := lw_g (lw_at lw_m6 103 rfl) rfl
theorem q1383 : (Jvm.Cond.methodLink "InterestTakenModel" (181 : Nat) ({ cls := "InterestTakenModel", name := "lays", desc := "(II)V" } : Jvm.MethodName)) ∈ lw_all := lw_g (lw_at lw_m6 104 rfl) rfl
theorem q1384 : (Jvm.Cond.privateMethod ({ cls := "InterestTakenModel", name := "lays", desc := "(II)V" } : Jvm.MethodName)) ∈ lw_tbl := lw_at lw_m6 105 rfl
theorem q1385 : (Jvm.Cond.instanceMethod ({ cls := "InterestTakenModel", name := "lays", desc := "(II)V" } : Jvm.MethodName)) ∈ lw_all := lw_g (lw_at lw_m6 106 rfl) rfl
theorem q1386 : (Jvm.Cond.code ({ cls := "InterestTakenModel", name := "lays", desc := "(II)V" } : Jvm.MethodName) prog_14_method_32_code (5 : Nat) (Option.none : Option Jvm.ClassFile.FieldType)) ∈ lw_all := lw_g (lw_at lw_m6 107 rfl) rfl
theorem q1387 : (Jvm.Cond.methodLink "InterestTakenModel" (171 : Nat) ({ cls := "InterestTakenModel", name := "noCalls", desc := "()V" } : Jvm.MethodName)) ∈ lw_all := lw_g (lw_at lw_m6 108 rfl) rfl
theorem q1388 : (Jvm.Cond.privateMethod ({ cls := "InterestTakenModel", name := "noCalls", desc := "()V" } : Jvm.MethodName)) ∈ lw_tbl := lw_at lw_m6 109 rfl
theorem q1389 : (Jvm.Cond.instanceMethod ({ cls := "InterestTakenModel", name := "noCalls", desc := "()V" } : Jvm.MethodName)) ∈ lw_all := lw_g (lw_at lw_m6 110 rfl) rfl
theorem q1390 : (Jvm.Cond.code ({ cls := "InterestTakenModel", name := "noCalls", desc := "()V" } : Jvm.MethodName) prog_14_method_31_code (2 : Nat) (Option.none : Option Jvm.ClassFile.FieldType)) ∈ lw_all := lw_g (lw_at lw_m6 111 rfl) rfl
theorem q1391 : (Jvm.Cond.methodLink "InterestTakenModel" (174 : Nat) ({ cls := "InterestTakenModel", name := "isIn", desc := "(II)Z" } : Jvm.MethodName)) ∈ lw_all := lw_g (lw_at lw_m6 112 rfl) rfl
theorem q1392 : (Jvm.Cond.static ({ cls := "InterestTakenModel", name := "isIn", desc := "(II)Z" } : Jvm.MethodName)) ∈ lw_all := lw_g (lw_at lw_m6 113 rfl) rfl
theorem q1393 : (Jvm.Cond.code ({ cls := "InterestTakenModel", name := "isIn", desc := "(II)Z" } : Jvm.MethodName) prog_14_method_4_code (2 : Nat) (Option.some Jvm.ClassFile.FieldType.boolean)) ∈ lw_all := lw_g (lw_at lw_m6 114 rfl) rfl
theorem q1394 : (Jvm.Cond.methodLink "InterestTakenModel" (204 : Nat) ({ cls := "InterestTakenModel", name := "runs", desc := "()V" } : Jvm.MethodName)) ∈ lw_all := lw_g (lw_at lw_m6 115 rfl) rfl
theorem q1395 : (Jvm.Cond.privateMethod ({ cls := "InterestTakenModel", name := "runs", desc := "()V" } : Jvm.MethodName)) ∈ lw_tbl := lw_at lw_m6 116 rfl
theorem q1396 : (Jvm.Cond.instanceMethod ({ cls := "InterestTakenModel", name := "runs", desc := "()V" } : Jvm.MethodName)) ∈ lw_all := lw_g (lw_at lw_m6 117 rfl) rfl
theorem q1397 : (Jvm.Cond.code ({ cls := "InterestTakenModel", name := "runs", desc := "()V" } : Jvm.MethodName) prog_14_method_36_code (2 : Nat) (Option.none : Option Jvm.ClassFile.FieldType)) ∈ lw_all := lw_g (lw_at lw_m6 118 rfl) rfl
theorem q1398 : (Jvm.Cond.methodLink "InterestTakenModel" (197 : Nat) ({ cls := "InterestTakenModel", name := "goesBy", desc := "(I)V" } : Jvm.MethodName)) ∈ lw_all := lw_g (lw_at lw_m6 119 rfl) rfl
theorem q1399 : (Jvm.Cond.privateMethod ({ cls := "InterestTakenModel", name := "goesBy", desc := "(I)V" } : Jvm.MethodName)) ∈ lw_tbl := lw_at lw_m6 120 rfl
theorem q1400 : (Jvm.Cond.instanceMethod ({ cls := "InterestTakenModel", name := "goesBy", desc := "(I)V" } : Jvm.MethodName)) ∈ lw_all := lw_g (lw_at lw_m6 121 rfl) rfl
theorem q1401 : (Jvm.Cond.code ({ cls := "InterestTakenModel", name := "goesBy", desc := "(I)V" } : Jvm.MethodName) prog_14_method_35_code (4 : Nat) (Option.none : Option Jvm.ClassFile.FieldType)) ∈ lw_all := lw_g (lw_at lw_m6 122 rfl) rfl
theorem q1402 : (Jvm.Cond.methodLink "InterestTakenModel" (194 : Nat) ({ cls := "InterestTakenModel", name := "hears", desc := "(II)V" } : Jvm.MethodName)) ∈ lw_all := lw_g (lw_at lw_m6 123 rfl) rfl
theorem q1403 : (Jvm.Cond.privateMethod ({ cls := "InterestTakenModel", name := "hears", desc := "(II)V" } : Jvm.MethodName)) ∈ lw_tbl := lw_at lw_m6 124 rfl
theorem q1404 : (Jvm.Cond.instanceMethod ({ cls := "InterestTakenModel", name := "hears", desc := "(II)V" } : Jvm.MethodName)) ∈ lw_all := lw_g (lw_at lw_m6 125 rfl) rfl
theorem q1405 : (Jvm.Cond.code ({ cls := "InterestTakenModel", name := "hears", desc := "(II)V" } : Jvm.MethodName) prog_14_method_34_code (6 : Nat) (Option.none : Option Jvm.ClassFile.FieldType)) ∈ lw_all := lw_g (lw_at lw_m6 126 rfl) rfl
theorem q1406 : (Jvm.Cond.methodLink "InterestTakenModel" (210 : Nat) ({ cls := "InterestTakenModel", name := "allOwed", desc := "(I)I" } : Jvm.MethodName)) ∈ lw_all := lw_g (lw_at lw_m6 127 rfl) rfl
theorem q1407 : (Jvm.Cond.privateMethod ({ cls := "InterestTakenModel", name := "allOwed", desc := "(I)I" } : Jvm.MethodName)) ∈ lw_tbl := lw_at lw_m6 128 rfl
theorem q1408 : (Jvm.Cond.instanceMethod ({ cls := "InterestTakenModel", name := "allOwed", desc := "(I)I" } : Jvm.MethodName)) ∈ lw_all := lw_g (lw_at lw_m6 129 rfl) rfl
theorem q1409 : (Jvm.Cond.code ({ cls := "InterestTakenModel", name := "allOwed", desc := "(I)I" } : Jvm.MethodName) prog_14_method_38_code (4 : Nat) (Option.some Jvm.ClassFile.FieldType.int)) ∈ lw_all := lw_g (lw_at lw_m6 130 rfl) rfl
theorem q1411 : (Jvm.Cond.instanceMethod ({ cls := "InterestTakenModel", name := "heard", desc := "(III)I" } : Jvm.MethodName)) ∈ lw_all := lw_g (lw_at lw_m6 132 rfl) rfl
theorem q1412 : (Jvm.Cond.selects "InterestTakenModel" ({ cls := "InterestTakenModel", name := "heard", desc := "(III)I" } : Jvm.MethodName) ({ cls := "InterestTakenModel", name := "heard", desc := "(III)I" } : Jvm.MethodName)) ∈ lw_all := lw_g (lw_at lw_m6 133 rfl) rfl
theorem q1413 : (Jvm.Cond.code ({ cls := "InterestTakenModel", name := "heard", desc := "(III)I" } : Jvm.MethodName) prog_14_method_42_code (4 : Nat) (Option.some Jvm.ClassFile.FieldType.int)) ∈ lw_all := lw_g (lw_at lw_m6 134 rfl) rfl
theorem q1414 : (Jvm.Cond.methodLink "InterestTakenModel" (216 : Nat) ({ cls := "InterestTakenModel", name := "heardOf", desc := "(III)I" } : Jvm.MethodName)) ∈ lw_all := lw_g (lw_at lw_m6 135 rfl) rfl
theorem q1415 : (Jvm.Cond.privateMethod ({ cls := "InterestTakenModel", name := "heardOf", desc := "(III)I" } : Jvm.MethodName)) ∈ lw_tbl := lw_at lw_m6 136 rfl
theorem q1416 : (Jvm.Cond.instanceMethod ({ cls := "InterestTakenModel", name := "heardOf", desc := "(III)I" } : Jvm.MethodName)) ∈ lw_all := lw_g (lw_at lw_m6 137 rfl) rfl
theorem q1417 : (Jvm.Cond.code ({ cls := "InterestTakenModel", name := "heardOf", desc := "(III)I" } : Jvm.MethodName) prog_14_method_41_code (4 : Nat) (Option.some Jvm.ClassFile.FieldType.int)) ∈ lw_all := lw_g (lw_at lw_m6 138 rfl) rfl
theorem q1419 : (Jvm.Cond.instanceMethod ({ cls := "InterestTakenModel", name := "left", desc := "(II)I" } : Jvm.MethodName)) ∈ lw_all := lw_g (lw_at lw_m6 140 rfl) rfl
theorem q1420 : (Jvm.Cond.selects "InterestTakenModel" ({ cls := "InterestTakenModel", name := "left", desc := "(II)I" } : Jvm.MethodName) ({ cls := "InterestTakenModel", name := "left", desc := "(II)I" } : Jvm.MethodName)) ∈ lw_all := lw_g (lw_at lw_m6 141 rfl) rfl
theorem q1421 : (Jvm.Cond.code ({ cls := "InterestTakenModel", name := "left", desc := "(II)I" } : Jvm.MethodName) prog_14_method_44_code (3 : Nat) (Option.some Jvm.ClassFile.FieldType.int)) ∈ lw_all := lw_g (lw_at lw_m6 142 rfl) rfl
theorem q1422 : (Jvm.Cond.methodLink "InterestTakenModel" (220 : Nat) ({ cls := "InterestTakenModel", name := "leftOf", desc := "(II)I" } : Jvm.MethodName)) ∈ lw_all := lw_g (lw_at lw_m6 143 rfl) rfl
theorem q1423 : (Jvm.Cond.privateMethod ({ cls := "InterestTakenModel", name := "leftOf", desc := "(II)I" } : Jvm.MethodName)) ∈ lw_tbl := lw_at lw_m6 144 rfl
theorem q1424 : (Jvm.Cond.instanceMethod ({ cls := "InterestTakenModel", name := "leftOf", desc := "(II)I" } : Jvm.MethodName)) ∈ lw_all := lw_g (lw_at lw_m6 145 rfl) rfl
theorem q1425 : (Jvm.Cond.code ({ cls := "InterestTakenModel", name := "leftOf", desc := "(II)I" } : Jvm.MethodName) prog_14_method_43_code (3 : Nat) (Option.some Jvm.ClassFile.FieldType.int)) ∈ lw_all := lw_g (lw_at lw_m6 146 rfl) rfl
theorem q1427 : (Jvm.Cond.instanceMethod ({ cls := "InterestTakenModel", name := "run", desc := "()I" } : Jvm.MethodName)) ∈ lw_all := lw_g (lw_at lw_m6 148 rfl) rfl
theorem q1428 : (Jvm.Cond.selects "InterestTakenModel" ({ cls := "InterestTakenModel", name := "run", desc := "()I" } : Jvm.MethodName) ({ cls := "InterestTakenModel", name := "run", desc := "()I" } : Jvm.MethodName)) ∈ lw_all := lw_g (lw_at lw_m6 149 rfl) rfl
theorem q1429 : (Jvm.Cond.code ({ cls := "InterestTakenModel", name := "run", desc := "()I" } : Jvm.MethodName) prog_14_method_46_code (1 : Nat) (Option.some Jvm.ClassFile.FieldType.int)) ∈ lw_all := lw_g (lw_at lw_m6 150 rfl) rfl
theorem q1430 : (Jvm.Cond.methodLink "InterestTakenModel" (223 : Nat) ({ cls := "InterestTakenModel", name := "runOf", desc := "()I" } : Jvm.MethodName)) ∈ lw_all := lw_g (lw_at lw_m6 151 rfl) rfl
theorem q1431 : (Jvm.Cond.privateMethod ({ cls := "InterestTakenModel", name := "runOf", desc := "()I" } : Jvm.MethodName)) ∈ lw_tbl := lw_at lw_m6 152 rfl
theorem q1432 : (Jvm.Cond.instanceMethod ({ cls := "InterestTakenModel", name := "runOf", desc := "()I" } : Jvm.MethodName)) ∈ lw_all := lw_g (lw_at lw_m6 153 rfl) rfl
theorem q1433 : (Jvm.Cond.code ({ cls := "InterestTakenModel", name := "runOf", desc := "()I" } : Jvm.MethodName) prog_14_method_45_code (1 : Nat) (Option.some Jvm.ClassFile.FieldType.int)) ∈ lw_all := lw_g (lw_at lw_m6 154 rfl) rfl
theorem q1435 : (Jvm.Cond.instanceMethod ({ cls := "InterestTakenModel", name := "yawn", desc := "(I)I" } : Jvm.MethodName)) ∈ lw_all := lw_g (lw_at lw_m6 156 rfl) rfl
theorem q1436 : (Jvm.Cond.selects "InterestTakenModel" ({ cls := "InterestTakenModel", name := "yawn", desc := "(I)I" } : Jvm.MethodName) ({ cls := "InterestTakenModel", name := "yawn", desc := "(I)I" } : Jvm.MethodName)) ∈ lw_all := lw_g (lw_at lw_m6 157 rfl) rfl
theorem q1437 : (Jvm.Cond.code ({ cls := "InterestTakenModel", name := "yawn", desc := "(I)I" } : Jvm.MethodName) prog_14_method_48_code (2 : Nat) (Option.some Jvm.ClassFile.FieldType.int)) ∈ lw_all := lw_g (lw_at lw_m6 158 rfl) rfl
theorem q1438 : (Jvm.Cond.methodLink "InterestTakenModel" (227 : Nat) ({ cls := "InterestTakenModel", name := "yawnOf", desc := "(I)I" } : Jvm.MethodName)) ∈ lw_all := lw_g (lw_at lw_m6 159 rfl) rfl
theorem q1439 : (Jvm.Cond.privateMethod ({ cls := "InterestTakenModel", name := "yawnOf", desc := "(I)I" } : Jvm.MethodName)) ∈ lw_tbl := lw_at lw_m6 160 rfl
theorem q1440 : (Jvm.Cond.instanceMethod ({ cls := "InterestTakenModel", name := "yawnOf", desc := "(I)I" } : Jvm.MethodName)) ∈ lw_all := lw_g (lw_at lw_m6 161 rfl) rfl
theorem q1441 : (Jvm.Cond.code ({ cls := "InterestTakenModel", name := "yawnOf", desc := "(I)I" } : Jvm.MethodName) prog_14_method_47_code (2 : Nat) (Option.some Jvm.ClassFile.FieldType.int)) ∈ lw_all := lw_g (lw_at lw_m6 162 rfl) rfl
theorem q1443 : (Jvm.Cond.instanceMethod ({ cls := "InterestTakenModel", name := "most", desc := "()I" } : Jvm.MethodName)) ∈ lw_all := lw_g (lw_at lw_m6 164 rfl) rfl
theorem q1444 : (Jvm.Cond.selects "InterestTakenModel" ({ cls := "InterestTakenModel", name := "most", desc := "()I" } : Jvm.MethodName) ({ cls := "InterestTakenModel", name := "most", desc := "()I" } : Jvm.MethodName)) ∈ lw_all := lw_g (lw_at lw_m6 165 rfl) rfl
theorem q1445 : (Jvm.Cond.code ({ cls := "InterestTakenModel", name := "most", desc := "()I" } : Jvm.MethodName) prog_14_method_51_code (1 : Nat) (Option.some Jvm.ClassFile.FieldType.int)) ∈ lw_all := lw_g (lw_at lw_m6 166 rfl) rfl
theorem q1446 : (Jvm.Cond.methodLink "InterestTakenModel" (233 : Nat) ({ cls := "InterestTakenModel", name := "mostNow", desc := "()I" } : Jvm.MethodName)) ∈ lw_all := lw_g (lw_at lw_m6 167 rfl) rfl
theorem q1447 : (Jvm.Cond.privateMethod ({ cls := "InterestTakenModel", name := "mostNow", desc := "()I" } : Jvm.MethodName)) ∈ lw_tbl := lw_at lw_m6 168 rfl
theorem q1448 : (Jvm.Cond.instanceMethod ({ cls := "InterestTakenModel", name := "mostNow", desc := "()I" } : Jvm.MethodName)) ∈ lw_all := lw_g (lw_at lw_m6 169 rfl) rfl
theorem q1449 : (Jvm.Cond.code ({ cls := "InterestTakenModel", name := "mostNow", desc := "()I" } : Jvm.MethodName) prog_14_method_50_code (3 : Nat) (Option.some Jvm.ClassFile.FieldType.int)) ∈ lw_all := lw_g (lw_at lw_m6 170 rfl) rfl
theorem q1450 : (Jvm.Cond.methodLink "InterestTakenModel" (230 : Nat) ({ cls := "InterestTakenModel", name := "allHeard", desc := "(I)I" } : Jvm.MethodName)) ∈ lw_all := lw_g (lw_at lw_m6 171 rfl) rfl
theorem q1451 : (Jvm.Cond.privateMethod ({ cls := "InterestTakenModel", name := "allHeard", desc := "(I)I" } : Jvm.MethodName)) ∈ lw_tbl := lw_at lw_m6 172 rfl
theorem q1452 : (Jvm.Cond.instanceMethod ({ cls := "InterestTakenModel", name := "allHeard", desc := "(I)I" } : Jvm.MethodName)) ∈ lw_all := lw_g (lw_at lw_m6 173 rfl) rfl
theorem q1453 : (Jvm.Cond.code ({ cls := "InterestTakenModel", name := "allHeard", desc := "(I)I" } : Jvm.MethodName) prog_14_method_49_code (4 : Nat) (Option.some Jvm.ClassFile.FieldType.int)) ∈ lw_all := lw_g (lw_at lw_m6 174 rfl) rfl
theorem q1455 : (Jvm.Cond.instanceMethod ({ cls := "InterestTakenModel", name := "hold", desc := "()I" } : Jvm.MethodName)) ∈ lw_all := lw_g (lw_at lw_m6 176 rfl) rfl
theorem q1456 : (Jvm.Cond.selects "InterestTakenModel" ({ cls := "InterestTakenModel", name := "hold", desc := "()I" } : Jvm.MethodName) ({ cls := "InterestTakenModel", name := "hold", desc := "()I" } : Jvm.MethodName)) ∈ lw_all := lw_g (lw_at lw_m6 177 rfl) rfl
theorem q1457 : (Jvm.Cond.code ({ cls := "InterestTakenModel", name := "hold", desc := "()I" } : Jvm.MethodName) prog_14_method_53_code (1 : Nat) (Option.some Jvm.ClassFile.FieldType.int)) ∈ lw_all := lw_g (lw_at lw_m6 178 rfl) rfl
theorem q1458 : (Jvm.Cond.methodLink "InterestTakenModel" (236 : Nat) ({ cls := "InterestTakenModel", name := "holdNow", desc := "()I" } : Jvm.MethodName)) ∈ lw_all := lw_g (lw_at lw_m6 179 rfl) rfl
theorem q1459 : (Jvm.Cond.privateMethod ({ cls := "InterestTakenModel", name := "holdNow", desc := "()I" } : Jvm.MethodName)) ∈ lw_tbl := lw_at lw_m6 180 rfl
theorem q1460 : (Jvm.Cond.instanceMethod ({ cls := "InterestTakenModel", name := "holdNow", desc := "()I" } : Jvm.MethodName)) ∈ lw_all := lw_g (lw_at lw_m6 181 rfl) rfl
theorem q1461 : (Jvm.Cond.code ({ cls := "InterestTakenModel", name := "holdNow", desc := "()I" } : Jvm.MethodName) prog_14_method_52_code (3 : Nat) (Option.some Jvm.ClassFile.FieldType.int)) ∈ lw_all := lw_g (lw_at lw_m6 182 rfl) rfl
theorem q1463 : (Jvm.Cond.instanceMethod ({ cls := "InterestTakenModel", name := "draw", desc := "(II)I" } : Jvm.MethodName)) ∈ lw_all := lw_g (lw_at lw_m6 184 rfl) rfl
theorem q1464 : (Jvm.Cond.selects "InterestTakenModel" ({ cls := "InterestTakenModel", name := "draw", desc := "(II)I" } : Jvm.MethodName) ({ cls := "InterestTakenModel", name := "draw", desc := "(II)I" } : Jvm.MethodName)) ∈ lw_all := lw_g (lw_at lw_m6 185 rfl) rfl
theorem q1465 : (Jvm.Cond.code ({ cls := "InterestTakenModel", name := "draw", desc := "(II)I" } : Jvm.MethodName) prog_14_method_55_code (3 : Nat) (Option.some Jvm.ClassFile.FieldType.int)) ∈ lw_all := lw_g (lw_at lw_m6 186 rfl) rfl
theorem q1466 : (Jvm.Cond.methodLink "InterestTakenModel" (239 : Nat) ({ cls := "InterestTakenModel", name := "drawOf", desc := "(II)I" } : Jvm.MethodName)) ∈ lw_all := lw_g (lw_at lw_m6 187 rfl) rfl
theorem q1467 : (Jvm.Cond.privateMethod ({ cls := "InterestTakenModel", name := "drawOf", desc := "(II)I" } : Jvm.MethodName)) ∈ lw_tbl := lw_at lw_m6 188 rfl
theorem q1468 : (Jvm.Cond.instanceMethod ({ cls := "InterestTakenModel", name := "drawOf", desc := "(II)I" } : Jvm.MethodName)) ∈ lw_all := lw_g (lw_at lw_m6 189 rfl) rfl
theorem q1469 : (Jvm.Cond.code ({ cls := "InterestTakenModel", name := "drawOf", desc := "(II)I" } : Jvm.MethodName) prog_14_method_54_code (8 : Nat) (Option.some Jvm.ClassFile.FieldType.int)) ∈ lw_all := lw_g (lw_at lw_m6 190 rfl) rfl
theorem q1471 : (Jvm.Cond.instanceMethod ({ cls := "InterestTakenModel", name := "hire", desc := "(I)I" } : Jvm.MethodName)) ∈ lw_all := lw_g (lw_at lw_m6 192 rfl) rfl
theorem q1472 : (Jvm.Cond.selects "InterestTakenModel" ({ cls := "InterestTakenModel", name := "hire", desc := "(I)I" } : Jvm.MethodName) ({ cls := "InterestTakenModel", name := "hire", desc := "(I)I" } : Jvm.MethodName)) ∈ lw_all := lw_g (lw_at lw_m6 193 rfl) rfl
theorem q1473 : (Jvm.Cond.code ({ cls := "InterestTakenModel", name := "hire", desc := "(I)I" } : Jvm.MethodName) prog_14_method_57_code (2 : Nat) (Option.some Jvm.ClassFile.FieldType.int)) ∈ lw_all := lw_g (lw_at lw_m6 194 rfl) rfl
theorem q1474 : (Jvm.Cond.methodLink "InterestTakenModel" (242 : Nat) ({ cls := "InterestTakenModel", name := "hireOf", desc := "(I)I" } : Jvm.MethodName)) ∈ lw_all := lw_g (lw_at lw_m6 195 rfl) rfl
theorem q1475 : (Jvm.Cond.privateMethod ({ cls := "InterestTakenModel", name := "hireOf", desc := "(I)I" } : Jvm.MethodName)) ∈ lw_tbl := lw_at lw_m6 196 rfl
theorem q1476 : (Jvm.Cond.instanceMethod ({ cls := "InterestTakenModel", name := "hireOf", desc := "(I)I" } : Jvm.MethodName)) ∈ lw_all := lw_g (lw_at lw_m6 197 rfl) rfl
theorem q1477 : (Jvm.Cond.code ({ cls := "InterestTakenModel", name := "hireOf", desc := "(I)I" } : Jvm.MethodName) prog_14_method_56_code (8 : Nat) (Option.some Jvm.ClassFile.FieldType.int)) ∈ lw_all := lw_g (lw_at lw_m6 198 rfl) rfl
theorem q1479 : (Jvm.Cond.instanceMethod ({ cls := "InterestTakenModel", name := "match", desc := "()I" } : Jvm.MethodName)) ∈ lw_all := lw_g (lw_at lw_m6 200 rfl) rfl
theorem q1480 : (Jvm.Cond.selects "InterestTakenModel" ({ cls := "InterestTakenModel", name := "match", desc := "()I" } : Jvm.MethodName) ({ cls := "InterestTakenModel", name := "match", desc := "()I" } : Jvm.MethodName)) ∈ lw_all := lw_g (lw_at lw_m6 201 rfl) rfl
theorem q1481 : (Jvm.Cond.code ({ cls := "InterestTakenModel", name := "match", desc := "()I" } : Jvm.MethodName) prog_14_method_59_code (1 : Nat) (Option.some Jvm.ClassFile.FieldType.int)) ∈ lw_all := lw_g (lw_at lw_m6 202 rfl) rfl
theorem q1482 : (Jvm.Cond.methodLink "InterestTakenModel" (245 : Nat) ({ cls := "InterestTakenModel", name := "matchNow", desc := "()I" } : Jvm.MethodName)) ∈ lw_all := lw_g (lw_at lw_m6 203 rfl) rfl
theorem q1483 : (Jvm.Cond.privateMethod ({ cls := "InterestTakenModel", name := "matchNow", desc := "()I" } : Jvm.MethodName)) ∈ lw_tbl := lw_at lw_m6 204 rfl
theorem q1484 : (Jvm.Cond.instanceMethod ({ cls := "InterestTakenModel", name := "matchNow", desc := "()I" } : Jvm.MethodName)) ∈ lw_all := lw_g (lw_at lw_m6 205 rfl) rfl
theorem q1485 : (Jvm.Cond.code ({ cls := "InterestTakenModel", name := "matchNow", desc := "()I" } : Jvm.MethodName) prog_14_method_58_code (7 : Nat) (Option.some Jvm.ClassFile.FieldType.int)) ∈ lw_all := lw_g (lw_at lw_m6 206 rfl) rfl
theorem q1487 : (Jvm.Cond.instanceMethod ({ cls := "InterestTakenModel", name := "seen", desc := "(III)I" } : Jvm.MethodName)) ∈ lw_all := lw_g (lw_at lw_m6 208 rfl) rfl
theorem q1488 : (Jvm.Cond.selects "InterestTakenModel" ({ cls := "InterestTakenModel", name := "seen", desc := "(III)I" } : Jvm.MethodName) ({ cls := "InterestTakenModel", name := "seen", desc := "(III)I" } : Jvm.MethodName)) ∈ lw_all := lw_g (lw_at lw_m6 209 rfl) rfl
theorem q1489 : (Jvm.Cond.code ({ cls := "InterestTakenModel", name := "seen", desc := "(III)I" } : Jvm.MethodName) prog_14_method_60_code (4 : Nat) (Option.some Jvm.ClassFile.FieldType.int)) ∈ lw_all := lw_g (lw_at lw_m6 210 rfl) rfl
theorem q1491 : (Jvm.Cond.instanceMethod ({ cls := "InterestTakenModel", name := "forget", desc := "()I" } : Jvm.MethodName)) ∈ lw_all := lw_g (lw_at lw_m6 212 rfl) rfl
theorem q1492 : (Jvm.Cond.selects "InterestTakenModel" ({ cls := "InterestTakenModel", name := "forget", desc := "()I" } : Jvm.MethodName) ({ cls := "InterestTakenModel", name := "forget", desc := "()I" } : Jvm.MethodName)) ∈ lw_all := lw_g (lw_at lw_m6 213 rfl) rfl
theorem q1493 : (Jvm.Cond.code ({ cls := "InterestTakenModel", name := "forget", desc := "()I" } : Jvm.MethodName) prog_14_method_61_code (2 : Nat) (Option.some Jvm.ClassFile.FieldType.int)) ∈ lw_all := lw_g (lw_at lw_m6 214 rfl) rfl
theorem q1495 : (Jvm.Cond.instanceMethod ({ cls := "InterestTakenModel", name := "never", desc := "()I" } : Jvm.MethodName)) ∈ lw_all := lw_g (lw_at lw_m6 216 rfl) rfl
theorem q1496 : (Jvm.Cond.selects "InterestTakenModel" ({ cls := "InterestTakenModel", name := "never", desc := "()I" } : Jvm.MethodName) ({ cls := "InterestTakenModel", name := "never", desc := "()I" } : Jvm.MethodName)) ∈ lw_all := lw_g (lw_at lw_m6 217 rfl) rfl
theorem q1497 : (Jvm.Cond.code ({ cls := "InterestTakenModel", name := "never", desc := "()I" } : Jvm.MethodName) prog_14_method_64_code (1 : Nat) (Option.some Jvm.ClassFile.FieldType.int)) ∈ lw_all := lw_g (lw_at lw_m6 218 rfl) rfl
theorem q1498 : (Jvm.Cond.methodLink "InterestTakenModel" (255 : Nat) ({ cls := "InterestTakenModel", name := "neverNow", desc := "()I" } : Jvm.MethodName)) ∈ lw_all := lw_g (lw_at lw_m6 219 rfl) rfl
theorem q1499 : (Jvm.Cond.privateMethod ({ cls := "InterestTakenModel", name := "neverNow", desc := "()I" } : Jvm.MethodName)) ∈ lw_tbl := lw_at lw_m6 220 rfl
theorem q1500 : (Jvm.Cond.instanceMethod ({ cls := "InterestTakenModel", name := "neverNow", desc := "()I" } : Jvm.MethodName)) ∈ lw_all := lw_g (lw_at lw_m6 221 rfl) rfl
theorem q1501 : (Jvm.Cond.code ({ cls := "InterestTakenModel", name := "neverNow", desc := "()I" } : Jvm.MethodName) prog_14_method_63_code (3 : Nat) (Option.some Jvm.ClassFile.FieldType.int)) ∈ lw_all := lw_g (lw_at lw_m6 222 rfl) rfl
theorem q1502 : (Jvm.Cond.methodLink "InterestTakenModel" (251 : Nat) ({ cls := "InterestTakenModel", name := "isSeen", desc := "()Z" } : Jvm.MethodName)) ∈ lw_all := lw_g (lw_at lw_m6 223 rfl) rfl
theorem q1503 : (Jvm.Cond.privateMethod ({ cls := "InterestTakenModel", name := "isSeen", desc := "()Z" } : Jvm.MethodName)) ∈ lw_tbl := lw_at lw_m6 224 rfl
theorem q1504 : (Jvm.Cond.instanceMethod ({ cls := "InterestTakenModel", name := "isSeen", desc := "()Z" } : Jvm.MethodName)) ∈ lw_all := lw_g (lw_at lw_m6 225 rfl) rfl
theorem q1505 : (Jvm.Cond.code ({ cls := "InterestTakenModel", name := "isSeen", desc := "()Z" } : Jvm.MethodName) prog_14_method_62_code (3 : Nat) (Option.some Jvm.ClassFile.FieldType.boolean)) ∈ lw_all := lw_g (lw_at lw_m6 226 rfl) rfl
theorem q1507 : (Jvm.Cond.instanceMethod ({ cls := "InterestTakenModel", name := "sums", desc := "(I)I" } : Jvm.MethodName)) ∈ lw_all := lw_g (lw_at lw_m6 228 rfl) rfl
theorem q1508 : (Jvm.Cond.selects "InterestTakenModel" ({ cls := "InterestTakenModel", name := "sums", desc := "(I)I" } : Jvm.MethodName) ({ cls := "InterestTakenModel", name := "sums", desc := "(I)I" } : Jvm.MethodName)) ∈ lw_all := lw_g (lw_at lw_m6 229 rfl) rfl
theorem q1509 : (Jvm.Cond.code ({ cls := "InterestTakenModel", name := "sums", desc := "(I)I" } : Jvm.MethodName) prog_14_method_66_code (2 : Nat) (Option.some Jvm.ClassFile.FieldType.int)) ∈ lw_all := lw_g (lw_at lw_m6 230 rfl) rfl
theorem q1510 : (Jvm.Cond.methodLink "InterestTakenModel" (258 : Nat) ({ cls := "InterestTakenModel", name := "sumsBy", desc := "(I)I" } : Jvm.MethodName)) ∈ lw_all := lw_g (lw_at lw_m6 231 rfl) rfl
theorem q1511 : (Jvm.Cond.privateMethod ({ cls := "InterestTakenModel", name := "sumsBy", desc := "(I)I" } : Jvm.MethodName)) ∈ lw_tbl := lw_at lw_m6 232 rfl
theorem q1512 : (Jvm.Cond.instanceMethod ({ cls := "InterestTakenModel", name := "sumsBy", desc := "(I)I" } : Jvm.MethodName)) ∈ lw_all := lw_g (lw_at lw_m6 233 rfl) rfl
theorem q1513 : (Jvm.Cond.code ({ cls := "InterestTakenModel", name := "sumsBy", desc := "(I)I" } : Jvm.MethodName) prog_14_method_65_code (6 : Nat) (Option.some Jvm.ClassFile.FieldType.int)) ∈ lw_all := lw_g (lw_at lw_m6 234 rfl) rfl
theorem q1515 : (Jvm.Cond.instanceMethod ({ cls := "InterestTakenModel", name := "rates", desc := "()I" } : Jvm.MethodName)) ∈ lw_all := lw_g (lw_at lw_m6 236 rfl) rfl
theorem q1516 : (Jvm.Cond.selects "InterestTakenModel" ({ cls := "InterestTakenModel", name := "rates", desc := "()I" } : Jvm.MethodName) ({ cls := "InterestTakenModel", name := "rates", desc := "()I" } : Jvm.MethodName)) ∈ lw_all := lw_g (lw_at lw_m6 237 rfl) rfl
theorem q1517 : (Jvm.Cond.code ({ cls := "InterestTakenModel", name := "rates", desc := "()I" } : Jvm.MethodName) prog_14_method_68_code (1 : Nat) (Option.some Jvm.ClassFile.FieldType.int)) ∈ lw_all := lw_g (lw_at lw_m6 238 rfl) rfl
theorem q1518 : (Jvm.Cond.methodLink "InterestTakenModel" (261 : Nat) ({ cls := "InterestTakenModel", name := "ratesNow", desc := "()I" } : Jvm.MethodName)) ∈ lw_all := lw_g (lw_at lw_m6 239 rfl) rfl
theorem q1519 : (Jvm.Cond.privateMethod ({ cls := "InterestTakenModel", name := "ratesNow", desc := "()I" } : Jvm.MethodName)) ∈ lw_tbl := lw_at lw_m7 0 rfl
theorem q1520 : (Jvm.Cond.instanceMethod ({ cls := "InterestTakenModel", name := "ratesNow", desc := "()I" } : Jvm.MethodName)) ∈ lw_all := lw_g (lw_at lw_m7 1 rfl) rfl
theorem q1521 : (Jvm.Cond.code ({ cls := "InterestTakenModel", name := "ratesNow", desc := "()I" } : Jvm.MethodName) prog_14_method_67_code (3 : Nat) (Option.some Jvm.ClassFile.FieldType.int)) ∈ lw_all := lw_g (lw_at lw_m7 2 rfl) rfl
theorem q1523 : (Jvm.Cond.instanceMethod ({ cls := "InterestTakenModel", name := "ask", desc := "(I)I" } : Jvm.MethodName)) ∈ lw_all := lw_g (lw_at lw_m7 4 rfl) rfl
theorem q1524 : (Jvm.Cond.selects "InterestTakenModel" ({ cls := "InterestTakenModel", name := "ask", desc := "(I)I" } : Jvm.MethodName) ({ cls := "InterestTakenModel", name := "ask", desc := "(I)I" } : Jvm.MethodName)) ∈ lw_all := lw_g (lw_at lw_m7 5 rfl) rfl
theorem q1525 : (Jvm.Cond.code ({ cls := "InterestTakenModel", name := "ask", desc := "(I)I" } : Jvm.MethodName) prog_14_method_70_code (2 : Nat) (Option.some Jvm.ClassFile.FieldType.int)) ∈ lw_all := lw_g (lw_at lw_m7 6 rfl) rfl
theorem q1526 : (Jvm.Cond.methodLink "InterestTakenModel" (264 : Nat) ({ cls := "InterestTakenModel", name := "askOf", desc := "(I)I" } : Jvm.MethodName)) ∈ lw_all := lw_g (lw_at lw_m7 7 rfl) rfl
theorem q1527 : (Jvm.Cond.privateMethod ({ cls := "InterestTakenModel", name := "askOf", desc := "(I)I" } : Jvm.MethodName)) ∈ lw_tbl := lw_at lw_m7 8 rfl
theorem q1528 : (Jvm.Cond.instanceMethod ({ cls := "InterestTakenModel", name := "askOf", desc := "(I)I" } : Jvm.MethodName)) ∈ lw_all := lw_g (lw_at lw_m7 9 rfl) rfl
theorem q1529 : (Jvm.Cond.code ({ cls := "InterestTakenModel", name := "askOf", desc := "(I)I" } : Jvm.MethodName) prog_14_method_69_code (10 : Nat) (Option.some Jvm.ClassFile.FieldType.int)) ∈ lw_all := lw_g (lw_at lw_m7 10 rfl) rfl
theorem q1531 : (Jvm.Cond.instanceMethod ({ cls := "InterestTakenModel", name := "peace", desc := "(II)J" } : Jvm.MethodName)) ∈ lw_all := lw_g (lw_at lw_m7 12 rfl) rfl
theorem q1532 : (Jvm.Cond.selects "InterestTakenModel" ({ cls := "InterestTakenModel", name := "peace", desc := "(II)J" } : Jvm.MethodName) ({ cls := "InterestTakenModel", name := "peace", desc := "(II)J" } : Jvm.MethodName)) ∈ lw_all := lw_g (lw_at lw_m7 13 rfl) rfl
theorem q1533 : (Jvm.Cond.code ({ cls := "InterestTakenModel", name := "peace", desc := "(II)J" } : Jvm.MethodName) prog_14_method_72_code (3 : Nat) (Option.some Jvm.ClassFile.FieldType.long)) ∈ lw_all := lw_g (lw_at lw_m7 14 rfl) rfl
theorem q1534 : (Jvm.Cond.methodLink "InterestTakenModel" (271 : Nat) ({ cls := "InterestTakenModel", name := "peaceOf", desc := "(II)J" } : Jvm.MethodName)) ∈ lw_all := lw_g (lw_at lw_m7 15 rfl) rfl
theorem q1535 : (Jvm.Cond.privateMethod ({ cls := "InterestTakenModel", name := "peaceOf", desc := "(II)J" } : Jvm.MethodName)) ∈ lw_tbl := lw_at lw_m7 16 rfl
theorem q1536 : (Jvm.Cond.instanceMethod ({ cls := "InterestTakenModel", name := "peaceOf", desc := "(II)J" } : Jvm.MethodName)) ∈ lw_all := lw_g (lw_at lw_m7 17 rfl) rfl
theorem q1537 : (Jvm.Cond.code ({ cls := "InterestTakenModel", name := "peaceOf", desc := "(II)J" } : Jvm.MethodName) prog_14_method_71_code (9 : Nat) (Option.some Jvm.ClassFile.FieldType.long)) ∈ lw_all := lw_g (lw_at lw_m7 18 rfl) rfl
theorem q1538 : (Jvm.Cond.methodLink "InterestTakenModel" (267 : Nat) ({ cls := "InterestTakenModel", name := "lowest", desc := "(JJI)J" } : Jvm.MethodName)) ∈ lw_all := lw_g (lw_at lw_m7 19 rfl) rfl
theorem q1539 : (Jvm.Cond.static ({ cls := "InterestTakenModel", name := "lowest", desc := "(JJI)J" } : Jvm.MethodName)) ∈ lw_all := lw_g (lw_at lw_m7 20 rfl) rfl
theorem q1540 : (Jvm.Cond.code ({ cls := "InterestTakenModel", name := "lowest", desc := "(JJI)J" } : Jvm.MethodName) prog_14_method_6_code (11 : Nat) (Option.some Jvm.ClassFile.FieldType.long)) ∈ lw_all := lw_g (lw_at lw_m7 21 rfl) rfl
theorem q1541 : (Jvm.Cond.methodLink "InterestTakenModel" (275 : Nat) ({ cls := "InterestTakenModel", name := "no", desc := "(I)J" } : Jvm.MethodName)) ∈ lw_all := lw_g (lw_at lw_m7 22 rfl) rfl
theorem q1542 : (Jvm.Cond.static ({ cls := "InterestTakenModel", name := "no", desc := "(I)J" } : Jvm.MethodName)) ∈ lw_all := lw_g (lw_at lw_m7 23 rfl) rfl
theorem q1543 : (Jvm.Cond.code ({ cls := "InterestTakenModel", name := "no", desc := "(I)J" } : Jvm.MethodName) prog_14_method_5_code (1 : Nat) (Option.some Jvm.ClassFile.FieldType.long)) ∈ lw_all := lw_g (lw_at lw_m7 24 rfl) rfl
theorem q1544 : (Jvm.Cond.constantLong "InterestTakenModel" (102 : Nat) (-9223372036854775808 : Int64)) ∈ lw_all := lw_g (lw_at lw_m7 25 rfl) rfl
theorem q1546 : (Jvm.Cond.instanceMethod ({ cls := "InterestTakenModel", name := "term", desc := "(III)I" } : Jvm.MethodName)) ∈ lw_all := lw_g (lw_at lw_m7 27 rfl) rfl
theorem q1547 : (Jvm.Cond.selects "InterestTakenModel" ({ cls := "InterestTakenModel", name := "term", desc := "(III)I" } : Jvm.MethodName) ({ cls := "InterestTakenModel", name := "term", desc := "(III)I" } : Jvm.MethodName)) ∈ lw_all := lw_g (lw_at lw_m7 28 rfl) rfl
theorem q1548 : (Jvm.Cond.code ({ cls := "InterestTakenModel", name := "term", desc := "(III)I" } : Jvm.MethodName) prog_14_method_74_code (4 : Nat) (Option.some Jvm.ClassFile.FieldType.int)) ∈ lw_all := lw_g (lw_at lw_m7 29 rfl) rfl
theorem q1549 : (Jvm.Cond.methodLink "InterestTakenModel" (280 : Nat) ({ cls := "InterestTakenModel", name := "termOf", desc := "(III)I" } : Jvm.MethodName)) ∈ lw_all := lw_g (lw_at lw_m7 30 rfl) rfl
theorem q1550 : (Jvm.Cond.privateMethod ({ cls := "InterestTakenModel", name := "termOf", desc := "(III)I" } : Jvm.MethodName)) ∈ lw_tbl := lw_at lw_m7 31 rfl
theorem q1551 : (Jvm.Cond.instanceMethod ({ cls := "InterestTakenModel", name := "termOf", desc := "(III)I" } : Jvm.MethodName)) ∈ lw_all := lw_g (lw_at lw_m7 32 rfl) rfl
theorem q1552 : (Jvm.Cond.code ({ cls := "InterestTakenModel", name := "termOf", desc := "(III)I" } : Jvm.MethodName) prog_14_method_73_code (6 : Nat) (Option.some Jvm.ClassFile.FieldType.int)) ∈ lw_all := lw_g (lw_at lw_m7 33 rfl) rfl
theorem q1553 : (Jvm.Cond.constant "InterestTakenModel" (279 : Nat) (1103515245 : Int32)) ∈ lw_all := lw_g (lw_at lw_m7 34 rfl) rfl
theorem q1555 : (Jvm.Cond.instanceMethod ({ cls := "InterestTakenModel", name := "sheet", desc := "(III)I" } : Jvm.MethodName)) ∈ lw_all := lw_g (lw_at lw_m7 36 rfl) rfl
theorem q1556 : (Jvm.Cond.selects "InterestTakenModel" ({ cls := "InterestTakenModel", name := "sheet", desc := "(III)I" } : Jvm.MethodName) ({ cls := "InterestTakenModel", name := "sheet", desc := "(III)I" } : Jvm.MethodName)) ∈ lw_all := lw_g (lw_at lw_m7 37 rfl) rfl
theorem q1557 : (Jvm.Cond.code ({ cls := "InterestTakenModel", name := "sheet", desc := "(III)I" } : Jvm.MethodName) prog_14_method_77_code (5 : Nat) (Option.some Jvm.ClassFile.FieldType.int)) ∈ lw_all := lw_g (lw_at lw_m7 38 rfl) rfl
theorem q1559 : (Jvm.Cond.instanceMethod ({ cls := "InterestTakenModel", name := "lose", desc := "(I)I" } : Jvm.MethodName)) ∈ lw_all := lw_g (lw_at lw_m7 40 rfl) rfl
theorem q1560 : (Jvm.Cond.selects "InterestTakenModel" ({ cls := "InterestTakenModel", name := "lose", desc := "(I)I" } : Jvm.MethodName) ({ cls := "InterestTakenModel", name := "lose", desc := "(I)I" } : Jvm.MethodName)) ∈ lw_all := lw_g (lw_at lw_m7 41 rfl) rfl
theorem q1561 : (Jvm.Cond.code ({ cls := "InterestTakenModel", name := "lose", desc := "(I)I" } : Jvm.MethodName) prog_14_method_78_code (2 : Nat) (Option.some Jvm.ClassFile.FieldType.int)) ∈ lw_all := lw_g (lw_at lw_m7 42 rfl) rfl
theorem q1563 : (Jvm.Cond.instanceMethod ({ cls := "InterestTakenModel", name := "put", desc := "(IIII)I" } : Jvm.MethodName)) ∈ lw_all := lw_g (lw_at lw_m7 44 rfl) rfl
theorem q1564 : (Jvm.Cond.selects "InterestTakenModel" ({ cls := "InterestTakenModel", name := "put", desc := "(IIII)I" } : Jvm.MethodName) ({ cls := "InterestTakenModel", name := "put", desc := "(IIII)I" } : Jvm.MethodName)) ∈ lw_all := lw_g (lw_at lw_m7 45 rfl) rfl
theorem q1565 : (Jvm.Cond.code ({ cls := "InterestTakenModel", name := "put", desc := "(IIII)I" } : Jvm.MethodName) prog_14_method_81_code (6 : Nat) (Option.some Jvm.ClassFile.FieldType.int)) ∈ lw_all := lw_g (lw_at lw_m7 46 rfl) rfl
theorem q1566 : (Jvm.Cond.methodLink "InterestTakenModel" (286 : Nat) ({ cls := "InterestTakenModel", name := "lacks", desc := "(III)I" } : Jvm.MethodName)) ∈ lw_all := lw_g (lw_at lw_m7 47 rfl) rfl
theorem q1567 : (Jvm.Cond.privateMethod ({ cls := "InterestTakenModel", name := "lacks", desc := "(III)I" } : Jvm.MethodName)) ∈ lw_tbl := lw_at lw_m7 48 rfl
theorem q1568 : (Jvm.Cond.instanceMethod ({ cls := "InterestTakenModel", name := "lacks", desc := "(III)I" } : Jvm.MethodName)) ∈ lw_all := lw_g (lw_at lw_m7 49 rfl) rfl
theorem q1569 : (Jvm.Cond.code ({ cls := "InterestTakenModel", name := "lacks", desc := "(III)I" } : Jvm.MethodName) prog_14_method_79_code (4 : Nat) (Option.some Jvm.ClassFile.FieldType.int)) ∈ lw_all := lw_g (lw_at lw_m7 50 rfl) rfl
theorem q1570 : (Jvm.Cond.methodLink "InterestTakenModel" (289 : Nat) ({ cls := "InterestTakenModel", name := "keep", desc := "(III)V" } : Jvm.MethodName)) ∈ lw_all := lw_g (lw_at lw_m7 51 rfl) rfl
theorem q1571 : (Jvm.Cond.privateMethod ({ cls := "InterestTakenModel", name := "keep", desc := "(III)V" } : Jvm.MethodName)) ∈ lw_tbl := lw_at lw_m7 52 rfl
theorem q1572 : (Jvm.Cond.instanceMethod ({ cls := "InterestTakenModel", name := "keep", desc := "(III)V" } : Jvm.MethodName)) ∈ lw_all := lw_g (lw_at lw_m7 53 rfl) rfl
theorem q1573 : (Jvm.Cond.code ({ cls := "InterestTakenModel", name := "keep", desc := "(III)V" } : Jvm.MethodName) prog_14_method_80_code (4 : Nat) (Option.none : Option Jvm.ClassFile.FieldType)) ∈ lw_all := lw_g (lw_at lw_m7 54 rfl) rfl
theorem q1575 : (Jvm.Cond.instanceMethod ({ cls := "InterestTakenModel", name := "get", desc := "(III)I" } : Jvm.MethodName)) ∈ lw_all := lw_g (lw_at lw_m7 56 rfl) rfl
theorem q1576 : (Jvm.Cond.selects "InterestTakenModel" ({ cls := "InterestTakenModel", name := "get", desc := "(III)I" } : Jvm.MethodName) ({ cls := "InterestTakenModel", name := "get", desc := "(III)I" } : Jvm.MethodName)) ∈ lw_all := lw_g (lw_at lw_m7 57 rfl) rfl
theorem q1577 : (Jvm.Cond.code ({ cls := "InterestTakenModel", name := "get", desc := "(III)I" } : Jvm.MethodName) prog_14_method_82_code (5 : Nat) (Option.some Jvm.ClassFile.FieldType.int)) ∈ lw_all := lw_g (lw_at lw_m7 58 rfl) rfl
theorem q1578 : (Jvm.Cond.constant "InterestTakenModel" (293 : Nat) (-2147483648 : Int32)) ∈ lw_all := lw_g (lw_at lw_m7 59 rfl) rfl
theorem q1580 : (Jvm.Cond.instanceMethod ({ cls := "InterestTakenModel", name := "copy", desc := "(IIIII)I" } : Jvm.MethodName)) ∈ lw_all := lw_g (lw_at lw_m7 61 rfl) rfl
theorem q1581 : (Jvm.Cond.selects "InterestTakenModel" ({ cls := "InterestTakenModel", name := "copy", desc := "(IIIII)I" } : Jvm.MethodName) ({ cls := "InterestTakenModel", name := "copy", desc := "(IIIII)I" } : Jvm.MethodName)) ∈ lw_all := lw_g (lw_at lw_m7 62 rfl) rfl
theorem q1582 : (Jvm.Cond.code ({ cls := "InterestTakenModel", name := "copy", desc := "(IIIII)I" } : Jvm.MethodName) prog_14_method_83_code (7 : Nat) (Option.some Jvm.ClassFile.FieldType.int)) ∈ lw_all := lw_g (lw_at lw_m7 63 rfl) rfl
theorem q1584 : (Jvm.Cond.instanceMethod ({ cls := "InterestTakenModel", name := "write", desc := "(II)I" } : Jvm.MethodName)) ∈ lw_all := lw_g (lw_at lw_m7 65 rfl) rfl
theorem q1585 : (Jvm.Cond.selects "InterestTakenModel" ({ cls := "InterestTakenModel", name := "write", desc := "(II)I" } : Jvm.MethodName) ({ cls := "InterestTakenModel", name := "write", desc := "(II)I" } : Jvm.MethodName)) ∈ lw_all := lw_g (lw_at lw_m7 66 rfl) rfl
theorem q1586 : (Jvm.Cond.code ({ cls := "InterestTakenModel", name := "write", desc := "(II)I" } : Jvm.MethodName) prog_14_method_84_code (4 : Nat) (Option.some Jvm.ClassFile.FieldType.int)) ∈ lw_all := lw_g (lw_at lw_m7 67 rfl) rfl
theorem q1588 : (Jvm.Cond.instanceMethod ({ cls := "InterestTakenModel", name := "count", desc := "(I)I" } : Jvm.MethodName)) ∈ lw_all := lw_g (lw_at lw_m7 69 rfl) rfl
theorem q1589 : (Jvm.Cond.selects "InterestTakenModel" ({ cls := "InterestTakenModel", name := "count", desc := "(I)I" } : Jvm.MethodName) ({ cls := "InterestTakenModel", name := "count", desc := "(I)I" } : Jvm.MethodName)) ∈ lw_all := lw_g (lw_at lw_m7 70 rfl) rfl
theorem q1590 : (Jvm.Cond.code ({ cls := "InterestTakenModel", name := "count", desc := "(I)I" } : Jvm.MethodName) prog_14_method_86_code (2 : Nat) (Option.some Jvm.ClassFile.FieldType.int)) ∈ lw_all := lw_g (lw_at lw_m7 71 rfl) rfl
theorem q1591 : (Jvm.Cond.methodLink "InterestTakenModel" (294 : Nat) ({ cls := "InterestTakenModel", name := "sumOf", desc := "(I)I" } : Jvm.MethodName)) ∈ lw_all := lw_g (lw_at lw_m7 72 rfl) rfl
theorem q1592 : (Jvm.Cond.privateMethod ({ cls := "InterestTakenModel", name := "sumOf", desc := "(I)I" } : Jvm.MethodName)) ∈ lw_tbl := lw_at lw_m7 73 rfl
theorem q1593 : (Jvm.Cond.instanceMethod ({ cls := "InterestTakenModel", name := "sumOf", desc := "(I)I" } : Jvm.MethodName)) ∈ lw_all := lw_g (lw_at lw_m7 74 rfl) rfl
theorem q1594 : (Jvm.Cond.code ({ cls := "InterestTakenModel", name := "sumOf", desc := "(I)I" } : Jvm.MethodName) prog_14_method_85_code (4 : Nat) (Option.some Jvm.ClassFile.FieldType.int)) ∈ lw_all := lw_g (lw_at lw_m7 75 rfl) rfl
theorem q1596 : (Jvm.Cond.instanceMethod ({ cls := "InterestTakenModel", name := "digest", desc := "()J" } : Jvm.MethodName)) ∈ lw_all := lw_g (lw_at lw_m7 77 rfl) rfl
theorem q1597 : (Jvm.Cond.selects "InterestTakenModel" ({ cls := "InterestTakenModel", name := "digest", desc := "()J" } : Jvm.MethodName) ({ cls := "InterestTakenModel", name := "digest", desc := "()J" } : Jvm.MethodName)) ∈ lw_all := lw_g (lw_at lw_m7 78 rfl) rfl
theorem q1598 : (Jvm.Cond.code ({ cls := "InterestTakenModel", name := "digest", desc := "()J" } : Jvm.MethodName) prog_14_method_89_code (4 : Nat) (Option.some Jvm.ClassFile.FieldType.long)) ∈ lw_all := lw_g (lw_at lw_m7 79 rfl) rfl
theorem q1599 : (Jvm.Cond.constantLong "InterestTakenModel" (299 : Nat) (17 : Int64)) ∈ lw_all := lw_g (lw_at lw_m7 80 rfl) rfl
theorem q1600 : (Jvm.Cond.constantLong "InterestTakenModel" (297 : Nat) (31 : Int64)) ∈ lw_all := lw_g (lw_at lw_m7 81 rfl) rfl
theorem q1601 : (Jvm.Cond.methodLink "InterestTakenModel" (301 : Nat) ({ cls := "InterestTakenModel", name := "count", desc := "(I)I" } : Jvm.MethodName)) ∈ lw_all := lw_g (lw_at lw_m7 82 rfl) rfl
theorem q1602 : (Jvm.Cond.methodLink "InterestTakenModel" (304 : Nat) ({ cls := "InterestTakenModel", name := "saverDigest", desc := "(JI)J" } : Jvm.MethodName)) ∈ lw_all := lw_g (lw_at lw_m7 83 rfl) rfl
theorem q1603 : (Jvm.Cond.privateMethod ({ cls := "InterestTakenModel", name := "saverDigest", desc := "(JI)J" } : Jvm.MethodName)) ∈ lw_tbl := lw_at lw_m7 84 rfl
theorem q1604 : (Jvm.Cond.instanceMethod ({ cls := "InterestTakenModel", name := "saverDigest", desc := "(JI)J" } : Jvm.MethodName)) ∈ lw_all := lw_g (lw_at lw_m7 85 rfl) rfl
theorem q1605 : (Jvm.Cond.code ({ cls := "InterestTakenModel", name := "saverDigest", desc := "(JI)J" } : Jvm.MethodName) prog_14_method_87_code (7 : Nat) (Option.some Jvm.ClassFile.FieldType.long)) ∈ lw_all := lw_g (lw_at lw_m7 86 rfl) rfl
theorem q1606 : (Jvm.Cond.methodLink "InterestTakenModel" (308 : Nat) ({ cls := "InterestTakenModel", name := "partnerDigest", desc := "(JI)J" } : Jvm.MethodName)) ∈ lw_all := lw_g (lw_at lw_m7 87 rfl) rfl
theorem q1607 : (Jvm.Cond.privateMethod ({ cls := "InterestTakenModel", name := "partnerDigest", desc := "(JI)J" } : Jvm.MethodName)) ∈ lw_tbl := lw_at lw_m7 88 rfl
theorem q1608 : (Jvm.Cond.instanceMethod ({ cls := "InterestTakenModel", name := "partnerDigest", desc := "(JI)J" } : Jvm.MethodName)) ∈ lw_all := lw_g (lw_at lw_m7 89 rfl) rfl
theorem q1609 : (Jvm.Cond.code ({ cls := "InterestTakenModel", name := "partnerDigest", desc := "(JI)J" } : Jvm.MethodName) prog_14_method_88_code (6 : Nat) (Option.some Jvm.ClassFile.FieldType.long)) ∈ lw_all := lw_g (lw_at lw_m7 90 rfl) rfl
theorem q1624 : (Jvm.Cond.castable "InterestTakenModel" "java/lang/Object") ∈ lw_tbl := lw_at lw_m7 105 rfl
theorem in_X6 : ∀ w ∈ wsX60, w ∈ lw_all := lw_in wsX60 [1181, 1183, 1185, 1187, 1189, 1191, 1193, 1195, 1197, 1199, 1201, 1203, 1205, 1207, 1209, 1211, 1213, 1215, 1217, 1219, 1221, 1223, 1225, 1227, 1229, 1231, 1233, 1235, 1237, 1239, 1241, 1243, 1245, 1247, 1249, 1251, 1253, 1255, 1257, 1259] (by decide +kernel) (by decide +kernel)
