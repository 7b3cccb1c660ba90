/-! InterestTaken -/
set_option maxRecDepth 100000
def RX0 : String := "InterestTaken"
def TX0 : u_T := fun k => match k with
  | 0 => ("InterestTaken", "latest", "I", false)
  | 1 => ("InterestTaken", "savers", "LInterestTaken$Savers;", true)
  | 2 => ("InterestTaken", "board", "LInterestTaken$Board;", true)
  | 3 => ("InterestTaken", "settings", "[I", true)
  | 4 => ("InterestTaken", "calls", "Ljava/util/ArrayList;", true)
  | 5 => ("InterestTaken", "wars", "Ljava/util/ArrayList;", true)
  | 6 => ("InterestTaken", "owed", "[[I", true)
  | 7 => ("InterestTaken", "heard", "[[I", true)
  | 8 => ("InterestTaken", "yawned", "[[I", true)
  | 9 => ("InterestTaken", "left", "[[I", true)
  | 10 => ("InterestTaken", "run", "I", false)
  | 11 => ("InterestTaken", "yawn", "[I", true)
  | 12 => ("InterestTaken", "gone", "I", false)
  | 13 => ("InterestTaken", "peaces", "I", false)
  | 14 => ("InterestTaken", "oddSaver", "I", false)
  | 15 => ("InterestTaken", "oddDay", "I", false)
  | 16 => ("InterestTaken", "lots", "[I", true)
  | 17 => ("InterestTaken", "lotDays", "I", false)
  | 18 => ("InterestTaken", "more", "LInterestTaken$Partner;", true)
  | 19 => ("InterestTaken", "sitsWith", "[I", true)
  | 20 => ("InterestTaken", "asked", "[Z", true)
  | 21 => ("InterestTaken", "seen", "Ljava/util/ArrayList;", true)
  | 22 => ("InterestTaken", "had", "[[I", true)
  | 23 => ("InterestTaken", "drawn", "I", false)
  | _ => ("InterestTaken", "sheets", "[LInterestTaken$Sheet;", true)
def tyX0 : Nat → FieldType := fun k => match k with
  | 0 => .int
  | 1 => .object "InterestTaken$Savers"
  | 2 => .object "InterestTaken$Board"
  | 3 => .array .int
  | 4 => .object "java/util/ArrayList"
  | 5 => .object "java/util/ArrayList"
  | 6 => .array (.array .int)
  | 7 => .array (.array .int)
  | 8 => .array (.array .int)
  | 9 => .array (.array .int)
  | 10 => .int
  | 11 => .array .int
  | 12 => .int
  | 13 => .int
  | 14 => .int
  | 15 => .int
  | 16 => .array .int
  | 17 => .int
  | 18 => .object "InterestTaken$Partner"
  | 19 => .array .int
  | 20 => .array .boolean
  | 21 => .object "java/util/ArrayList"
  | 22 => .array (.array .int)
  | 23 => .int
  | _ => .array (.object "InterestTaken$Sheet")
abbrev wsX00 : List Cond := u_ws RX0 TX0 25
set_option maxRecDepth 100000 in
theorem nmX0 : ∀ a, a < 25 → ∀ b, b < 25 → a ≠ b → (TX0 a).2.1 ≠ (TX0 b).2.1 := by decide +kernel
set_option maxRecDepth 100000 in
theorem tyX0_ok : ∀ k, k < 25 → parseFieldDescriptor (TX0 k).2.2.1 = some (tyX0 k) := by decide +kernel
abbrev cX0_init : ByteArray := prog_1_method_1_code
def yX0_init : MethodName := ⟨RX0, "<init>", "()V"⟩
def dkwX0_init_10 : List UInt8 := [183, 0, 92, 83, 181, 0, 93, 177]
abbrev dktX0_init_10 : List UInt8 := dkwX0_init_10 ++ []
def dkwX0_init_9 : List UInt8 := [187, 0, 90, 89, 183, 0, 92, 83, 89, 5, 187, 0, 90, 89, 183, 0, 92, 83, 89, 6, 187, 0, 90, 89]
abbrev dktX0_init_9 : List UInt8 := dkwX0_init_9 ++ dktX0_init_10
def dkwX0_init_8 : List UInt8 := [197, 0, 41, 2, 181, 0, 87, 42, 7, 189, 0, 90, 89, 3, 187, 0, 90, 89, 183, 0, 92, 83, 89, 4]
abbrev dktX0_init_8 : List UInt8 := dkwX0_init_8 ++ dktX0_init_9
def dkwX0_init_7 : List UInt8 := [188, 4, 181, 0, 80, 42, 187, 0, 31, 89, 183, 0, 33, 181, 0, 84, 42, 16, 10, 16, 20]
abbrev dktX0_init_7 : List UInt8 := dkwX0_init_7 ++ dktX0_init_8
def dkwX0_init_6 : List UInt8 := [187, 0, 68, 89, 16, 9, 3, 183, 0, 70, 181, 0, 73, 42, 16, 8, 188, 10, 181, 0, 77, 42, 16, 8]
abbrev dktX0_init_6 : List UInt8 := dkwX0_init_6 ++ dktX0_init_7
def dkwX0_init_5 : List UInt8 := [181, 0, 55, 42, 2, 181, 0, 58, 42, 16, 20, 188, 10, 181, 0, 62, 42, 2, 181, 0, 65, 42]
abbrev dktX0_init_5 : List UInt8 := dkwX0_init_5 ++ dktX0_init_6
def dkwX0_init_4 : List UInt8 := [197, 0, 41, 2, 181, 0, 49, 42, 16, 20, 16, 9, 197, 0, 41, 2, 181, 0, 52, 42, 5, 188, 10]
abbrev dktX0_init_4 : List UInt8 := dkwX0_init_4 ++ dktX0_init_5
def dkwX0_init_3 : List UInt8 := [197, 0, 41, 2, 181, 0, 43, 42, 16, 20, 16, 8, 197, 0, 41, 2, 181, 0, 46, 42, 16, 20, 16, 8]
abbrev dktX0_init_3 : List UInt8 := dkwX0_init_3 ++ dktX0_init_4
def dkwX0_init_2 : List UInt8 := [89, 183, 0, 33, 181, 0, 34, 42, 187, 0, 31, 89, 183, 0, 33, 181, 0, 38, 42, 16, 20, 16, 8]
abbrev dktX0_init_2 : List UInt8 := dkwX0_init_2 ++ dktX0_init_3
def dkwX0_init_1 : List UInt8 := [181, 0, 23, 42, 5, 188, 10, 89, 3, 5, 79, 89, 4, 17, 1, 44, 79, 181, 0, 27, 42, 187, 0, 31]
abbrev dktX0_init_1 : List UInt8 := dkwX0_init_1 ++ dktX0_init_2
def dkwX0_init_0 : List UInt8 := [42, 183, 0, 5, 42, 187, 0, 11, 89, 183, 0, 13, 181, 0, 14, 42, 187, 0, 20, 89, 183, 0, 22]
abbrev dktX0_init_0 : List UInt8 := dkwX0_init_0 ++ dktX0_init_1
theorem dksX0_init_0 : cX0_init.data.toList.drop 0 = dktX0_init_0 := by decide +kernel
theorem dksX0_init_1 : cX0_init.data.toList.drop 23 = dktX0_init_1 := dk_seg dksX0_init_0 23 rfl rfl
theorem dksX0_init_2 : cX0_init.data.toList.drop 47 = dktX0_init_2 := dk_seg dksX0_init_1 24 rfl rfl
theorem dksX0_init_3 : cX0_init.data.toList.drop 70 = dktX0_init_3 := dk_seg dksX0_init_2 23 rfl rfl
theorem dksX0_init_4 : cX0_init.data.toList.drop 94 = dktX0_init_4 := dk_seg dksX0_init_3 24 rfl rfl
theorem dksX0_init_5 : cX0_init.data.toList.drop 117 = dktX0_init_5 := dk_seg dksX0_init_4 23 rfl rfl
theorem dksX0_init_6 : cX0_init.data.toList.drop 139 = dktX0_init_6 := dk_seg dksX0_init_5 22 rfl rfl
theorem dksX0_init_7 : cX0_init.data.toList.drop 163 = dktX0_init_7 := dk_seg dksX0_init_6 24 rfl rfl
theorem dksX0_init_8 : cX0_init.data.toList.drop 184 = dktX0_init_8 := dk_seg dksX0_init_7 21 rfl rfl
theorem dksX0_init_9 : cX0_init.data.toList.drop 208 = dktX0_init_9 := dk_seg dksX0_init_8 24 rfl rfl
theorem dksX0_init_10 : cX0_init.data.toList.drop 232 = dktX0_init_10 := dk_seg dksX0_init_9 24 rfl rfl
theorem dX0_init_0 : decode cX0_init 0 = .ok (.aload_n 0, 1) := dk_42 (dk_at dksX0_init_0 0 rfl rfl)
theorem dX0_init_1 : decode cX0_init 1 = .ok (.invokespecial 5, 3) := dk_183 0 5 (dk_at dksX0_init_0 1 rfl rfl)
theorem dX0_init_4 : decode cX0_init 4 = .ok (.aload_n 0, 1) := dk_42 (dk_at dksX0_init_0 4 rfl rfl)
theorem dX0_init_5 : decode cX0_init 5 = .ok (.new 11, 3) := dk_187 0 11 (dk_at dksX0_init_0 5 rfl rfl)
theorem dX0_init_8 : decode cX0_init 8 = .ok (.dup, 1) := dk_89 (dk_at dksX0_init_0 8 rfl rfl)
theorem dX0_init_9 : decode cX0_init 9 = .ok (.invokespecial 13, 3) := dk_183 0 13 (dk_at dksX0_init_0 9 rfl rfl)
theorem dX0_init_12 : decode cX0_init 12 = .ok (.putfield 14, 3) := dk_181 0 14 (dk_at dksX0_init_0 12 rfl rfl)
theorem dX0_init_15 : decode cX0_init 15 = .ok (.aload_n 0, 1) := dk_42 (dk_at dksX0_init_0 15 rfl rfl)
theorem dX0_init_16 : decode cX0_init 16 = .ok (.new 20, 3) := dk_187 0 20 (dk_at dksX0_init_0 16 rfl rfl)
theorem dX0_init_19 : decode cX0_init 19 = .ok (.dup, 1) := dk_89 (dk_at dksX0_init_0 19 rfl rfl)
theorem dX0_init_20 : decode cX0_init 20 = .ok (.invokespecial 22, 3) := dk_183 0 22 (dk_at dksX0_init_0 20 rfl rfl)
theorem dX0_init_23 : decode cX0_init 23 = .ok (.putfield 23, 3) := dk_181 0 23 (dk_at dksX0_init_1 0 rfl rfl)
theorem dX0_init_26 : decode cX0_init 26 = .ok (.aload_n 0, 1) := dk_42 (dk_at dksX0_init_1 3 rfl rfl)
theorem dX0_init_27 : decode cX0_init 27 = .ok (.iconst 2, 1) := dk_5 (dk_at dksX0_init_1 4 rfl rfl)
theorem dX0_init_28 : decode cX0_init 28 = .ok (.newarray .int, 2) := dk_188_10 (dk_at dksX0_init_1 5 rfl rfl)
theorem dX0_init_30 : decode cX0_init 30 = .ok (.dup, 1) := dk_89 (dk_at dksX0_init_1 7 rfl rfl)
theorem dX0_init_31 : decode cX0_init 31 = .ok (.iconst 0, 1) := dk_3 (dk_at dksX0_init_1 8 rfl rfl)
theorem dX0_init_32 : decode cX0_init 32 = .ok (.iconst 2, 1) := dk_5 (dk_at dksX0_init_1 9 rfl rfl)
theorem dX0_init_33 : decode cX0_init 33 = .ok (.iastore, 1) := dk_79 (dk_at dksX0_init_1 10 rfl rfl)
theorem dX0_init_34 : decode cX0_init 34 = .ok (.dup, 1) := dk_89 (dk_at dksX0_init_1 11 rfl rfl)
theorem dX0_init_35 : decode cX0_init 35 = .ok (.iconst 1, 1) := dk_4 (dk_at dksX0_init_1 12 rfl rfl)
theorem dX0_init_36 : decode cX0_init 36 = .ok (.sipush 300, 3) := dk_17 1 44 (dk_at dksX0_init_1 13 rfl rfl)
theorem dX0_init_39 : decode cX0_init 39 = .ok (.iastore, 1) := dk_79 (dk_at dksX0_init_1 16 rfl rfl)
theorem dX0_init_40 : decode cX0_init 40 = .ok (.putfield 27, 3) := dk_181 0 27 (dk_at dksX0_init_1 17 rfl rfl)
theorem dX0_init_43 : decode cX0_init 43 = .ok (.aload_n 0, 1) := dk_42 (dk_at dksX0_init_1 20 rfl rfl)
theorem dX0_init_44 : decode cX0_init 44 = .ok (.new 31, 3) := dk_187 0 31 (dk_at dksX0_init_1 21 rfl rfl)
theorem dX0_init_47 : decode cX0_init 47 = .ok (.dup, 1) := dk_89 (dk_at dksX0_init_2 0 rfl rfl)
theorem dX0_init_48 : decode cX0_init 48 = .ok (.invokespecial 33, 3) := dk_183 0 33 (dk_at dksX0_init_2 1 rfl rfl)
theorem dX0_init_51 : decode cX0_init 51 = .ok (.putfield 34, 3) := dk_181 0 34 (dk_at dksX0_init_2 4 rfl rfl)
theorem dX0_init_54 : decode cX0_init 54 = .ok (.aload_n 0, 1) := dk_42 (dk_at dksX0_init_2 7 rfl rfl)
theorem dX0_init_55 : decode cX0_init 55 = .ok (.new 31, 3) := dk_187 0 31 (dk_at dksX0_init_2 8 rfl rfl)
theorem dX0_init_58 : decode cX0_init 58 = .ok (.dup, 1) := dk_89 (dk_at dksX0_init_2 11 rfl rfl)
theorem dX0_init_59 : decode cX0_init 59 = .ok (.invokespecial 33, 3) := dk_183 0 33 (dk_at dksX0_init_2 12 rfl rfl)
theorem dX0_init_62 : decode cX0_init 62 = .ok (.putfield 38, 3) := dk_181 0 38 (dk_at dksX0_init_2 15 rfl rfl)
theorem dX0_init_65 : decode cX0_init 65 = .ok (.aload_n 0, 1) := dk_42 (dk_at dksX0_init_2 18 rfl rfl)
theorem dX0_init_66 : decode cX0_init 66 = .ok (.bipush 20, 2) := dk_16 20 (dk_at dksX0_init_2 19 rfl rfl)
theorem dX0_init_68 : decode cX0_init 68 = .ok (.bipush 8, 2) := dk_16 8 (dk_at dksX0_init_2 21 rfl rfl)
theorem dX0_init_70 : decode cX0_init 70 = .ok (.multianewarray 41 2, 4) := by decide +kernel
theorem dX0_init_74 : decode cX0_init 74 = .ok (.putfield 43, 3) := dk_181 0 43 (dk_at dksX0_init_3 4 rfl rfl)
theorem dX0_init_77 : decode cX0_init 77 = .ok (.aload_n 0, 1) := dk_42 (dk_at dksX0_init_3 7 rfl rfl)
theorem dX0_init_78 : decode cX0_init 78 = .ok (.bipush 20, 2) := dk_16 20 (dk_at dksX0_init_3 8 rfl rfl)
theorem dX0_init_80 : decode cX0_init 80 = .ok (.bipush 8, 2) := dk_16 8 (dk_at dksX0_init_3 10 rfl rfl)
theorem dX0_init_82 : decode cX0_init 82 = .ok (.multianewarray 41 2, 4) := by decide +kernel
theorem dX0_init_86 : decode cX0_init 86 = .ok (.putfield 46, 3) := dk_181 0 46 (dk_at dksX0_init_3 16 rfl rfl)
theorem dX0_init_89 : decode cX0_init 89 = .ok (.aload_n 0, 1) := dk_42 (dk_at dksX0_init_3 19 rfl rfl)
theorem dX0_init_90 : decode cX0_init 90 = .ok (.bipush 20, 2) := dk_16 20 (dk_at dksX0_init_3 20 rfl rfl)
theorem dX0_init_92 : decode cX0_init 92 = .ok (.bipush 8, 2) := dk_16 8 (dk_at dksX0_init_3 22 rfl rfl)
theorem dX0_init_94 : decode cX0_init 94 = .ok (.multianewarray 41 2, 4) := by decide +kernel
theorem dX0_init_98 : decode cX0_init 98 = .ok (.putfield 49, 3) := dk_181 0 49 (dk_at dksX0_init_4 4 rfl rfl)
theorem dX0_init_101 : decode cX0_init 101 = .ok (.aload_n 0, 1) := dk_42 (dk_at dksX0_init_4 7 rfl rfl)
theorem dX0_init_102 : decode cX0_init 102 = .ok (.bipush 20, 2) := dk_16 20 (dk_at dksX0_init_4 8 rfl rfl)
theorem dX0_init_104 : decode cX0_init 104 = .ok (.bipush 9, 2) := dk_16 9 (dk_at dksX0_init_4 10 rfl rfl)
theorem dX0_init_106 : decode cX0_init 106 = .ok (.multianewarray 41 2, 4) := by decide +kernel
theorem dX0_init_110 : decode cX0_init 110 = .ok (.putfield 52, 3) := dk_181 0 52 (dk_at dksX0_init_4 16 rfl rfl)
theorem dX0_init_113 : decode cX0_init 113 = .ok (.aload_n 0, 1) := dk_42 (dk_at dksX0_init_4 19 rfl rfl)
theorem dX0_init_114 : decode cX0_init 114 = .ok (.iconst 2, 1) := dk_5 (dk_at dksX0_init_4 20 rfl rfl)
theorem dX0_init_115 : decode cX0_init 115 = .ok (.newarray .int, 2) := dk_188_10 (dk_at dksX0_init_4 21 rfl rfl)
theorem dX0_init_117 : decode cX0_init 117 = .ok (.putfield 55, 3) := dk_181 0 55 (dk_at dksX0_init_5 0 rfl rfl)
theorem dX0_init_120 : decode cX0_init 120 = .ok (.aload_n 0, 1) := dk_42 (dk_at dksX0_init_5 3 rfl rfl)
theorem dX0_init_121 : decode cX0_init 121 = .ok (.iconst (-1), 1) := dk_2 (dk_at dksX0_init_5 4 rfl rfl)
theorem dX0_init_122 : decode cX0_init 122 = .ok (.putfield 58, 3) := dk_181 0 58 (dk_at dksX0_init_5 5 rfl rfl)
theorem dX0_init_125 : decode cX0_init 125 = .ok (.aload_n 0, 1) := dk_42 (dk_at dksX0_init_5 8 rfl rfl)
theorem dX0_init_126 : decode cX0_init 126 = .ok (.bipush 20, 2) := dk_16 20 (dk_at dksX0_init_5 9 rfl rfl)
theorem dX0_init_128 : decode cX0_init 128 = .ok (.newarray .int, 2) := dk_188_10 (dk_at dksX0_init_5 11 rfl rfl)
theorem dX0_init_130 : decode cX0_init 130 = .ok (.putfield 62, 3) := dk_181 0 62 (dk_at dksX0_init_5 13 rfl rfl)
theorem dX0_init_133 : decode cX0_init 133 = .ok (.aload_n 0, 1) := dk_42 (dk_at dksX0_init_5 16 rfl rfl)
theorem dX0_init_134 : decode cX0_init 134 = .ok (.iconst (-1), 1) := dk_2 (dk_at dksX0_init_5 17 rfl rfl)
theorem dX0_init_135 : decode cX0_init 135 = .ok (.putfield 65, 3) := dk_181 0 65 (dk_at dksX0_init_5 18 rfl rfl)
theorem dX0_init_138 : decode cX0_init 138 = .ok (.aload_n 0, 1) := dk_42 (dk_at dksX0_init_5 21 rfl rfl)
theorem dX0_init_139 : decode cX0_init 139 = .ok (.new 68, 3) := dk_187 0 68 (dk_at dksX0_init_6 0 rfl rfl)
theorem dX0_init_142 : decode cX0_init 142 = .ok (.dup, 1) := dk_89 (dk_at dksX0_init_6 3 rfl rfl)
theorem dX0_init_143 : decode cX0_init 143 = .ok (.bipush 9, 2) := dk_16 9 (dk_at dksX0_init_6 4 rfl rfl)
theorem dX0_init_145 : decode cX0_init 145 = .ok (.iconst 0, 1) := dk_3 (dk_at dksX0_init_6 6 rfl rfl)
theorem dX0_init_146 : decode cX0_init 146 = .ok (.invokespecial 70, 3) := dk_183 0 70 (dk_at dksX0_init_6 7 rfl rfl)
theorem dX0_init_149 : decode cX0_init 149 = .ok (.putfield 73, 3) := dk_181 0 73 (dk_at dksX0_init_6 10 rfl rfl)
theorem dX0_init_152 : decode cX0_init 152 = .ok (.aload_n 0, 1) := dk_42 (dk_at dksX0_init_6 13 rfl rfl)
theorem dX0_init_153 : decode cX0_init 153 = .ok (.bipush 8, 2) := dk_16 8 (dk_at dksX0_init_6 14 rfl rfl)
theorem dX0_init_155 : decode cX0_init 155 = .ok (.newarray .int, 2) := dk_188_10 (dk_at dksX0_init_6 16 rfl rfl)
theorem dX0_init_157 : decode cX0_init 157 = .ok (.putfield 77, 3) := dk_181 0 77 (dk_at dksX0_init_6 18 rfl rfl)
theorem dX0_init_160 : decode cX0_init 160 = .ok (.aload_n 0, 1) := dk_42 (dk_at dksX0_init_6 21 rfl rfl)
theorem dX0_init_161 : decode cX0_init 161 = .ok (.bipush 8, 2) := dk_16 8 (dk_at dksX0_init_6 22 rfl rfl)
theorem dX0_init_163 : decode cX0_init 163 = .ok (.newarray .boolean, 2) := dk_188_4 (dk_at dksX0_init_7 0 rfl rfl)
theorem dX0_init_165 : decode cX0_init 165 = .ok (.putfield 80, 3) := dk_181 0 80 (dk_at dksX0_init_7 2 rfl rfl)
theorem dX0_init_168 : decode cX0_init 168 = .ok (.aload_n 0, 1) := dk_42 (dk_at dksX0_init_7 5 rfl rfl)
theorem dX0_init_169 : decode cX0_init 169 = .ok (.new 31, 3) := dk_187 0 31 (dk_at dksX0_init_7 6 rfl rfl)
theorem dX0_init_172 : decode cX0_init 172 = .ok (.dup, 1) := dk_89 (dk_at dksX0_init_7 9 rfl rfl)
theorem dX0_init_173 : decode cX0_init 173 = .ok (.invokespecial 33, 3) := dk_183 0 33 (dk_at dksX0_init_7 10 rfl rfl)
theorem dX0_init_176 : decode cX0_init 176 = .ok (.putfield 84, 3) := dk_181 0 84 (dk_at dksX0_init_7 13 rfl rfl)
theorem dX0_init_179 : decode cX0_init 179 = .ok (.aload_n 0, 1) := dk_42 (dk_at dksX0_init_7 16 rfl rfl)
theorem dX0_init_180 : decode cX0_init 180 = .ok (.bipush 10, 2) := dk_16 10 (dk_at dksX0_init_7 17 rfl rfl)
theorem dX0_init_182 : decode cX0_init 182 = .ok (.bipush 20, 2) := dk_16 20 (dk_at dksX0_init_7 19 rfl rfl)
theorem dX0_init_184 : decode cX0_init 184 = .ok (.multianewarray 41 2, 4) := by decide +kernel
theorem dX0_init_188 : decode cX0_init 188 = .ok (.putfield 87, 3) := dk_181 0 87 (dk_at dksX0_init_8 4 rfl rfl)
theorem dX0_init_191 : decode cX0_init 191 = .ok (.aload_n 0, 1) := dk_42 (dk_at dksX0_init_8 7 rfl rfl)
theorem dX0_init_192 : decode cX0_init 192 = .ok (.iconst 4, 1) := dk_7 (dk_at dksX0_init_8 8 rfl rfl)
theorem dX0_init_193 : decode cX0_init 193 = .ok (.anewarray 90, 3) := dk_189 0 90 (dk_at dksX0_init_8 9 rfl rfl)
theorem dX0_init_196 : decode cX0_init 196 = .ok (.dup, 1) := dk_89 (dk_at dksX0_init_8 12 rfl rfl)
theorem dX0_init_197 : decode cX0_init 197 = .ok (.iconst 0, 1) := dk_3 (dk_at dksX0_init_8 13 rfl rfl)
theorem dX0_init_198 : decode cX0_init 198 = .ok (.new 90, 3) := dk_187 0 90 (dk_at dksX0_init_8 14 rfl rfl)
theorem dX0_init_201 : decode cX0_init 201 = .ok (.dup, 1) := dk_89 (dk_at dksX0_init_8 17 rfl rfl)
theorem dX0_init_202 : decode cX0_init 202 = .ok (.invokespecial 92, 3) := dk_183 0 92 (dk_at dksX0_init_8 18 rfl rfl)
theorem dX0_init_205 : decode cX0_init 205 = .ok (.aastore, 1) := dk_83 (dk_at dksX0_init_8 21 rfl rfl)
theorem dX0_init_206 : decode cX0_init 206 = .ok (.dup, 1) := dk_89 (dk_at dksX0_init_8 22 rfl rfl)
theorem dX0_init_207 : decode cX0_init 207 = .ok (.iconst 1, 1) := dk_4 (dk_at dksX0_init_8 23 rfl rfl)
theorem dX0_init_208 : decode cX0_init 208 = .ok (.new 90, 3) := dk_187 0 90 (dk_at dksX0_init_9 0 rfl rfl)
theorem dX0_init_211 : decode cX0_init 211 = .ok (.dup, 1) := dk_89 (dk_at dksX0_init_9 3 rfl rfl)
theorem dX0_init_212 : decode cX0_init 212 = .ok (.invokespecial 92, 3) := dk_183 0 92 (dk_at dksX0_init_9 4 rfl rfl)
theorem dX0_init_215 : decode cX0_init 215 = .ok (.aastore, 1) := dk_83 (dk_at dksX0_init_9 7 rfl rfl)
theorem dX0_init_216 : decode cX0_init 216 = .ok (.dup, 1) := dk_89 (dk_at dksX0_init_9 8 rfl rfl)
theorem dX0_init_217 : decode cX0_init 217 = .ok (.iconst 2, 1) := dk_5 (dk_at dksX0_init_9 9 rfl rfl)
theorem dX0_init_218 : decode cX0_init 218 = .ok (.new 90, 3) := dk_187 0 90 (dk_at dksX0_init_9 10 rfl rfl)
theorem dX0_init_221 : decode cX0_init 221 = .ok (.dup, 1) := dk_89 (dk_at dksX0_init_9 13 rfl rfl)
theorem dX0_init_222 : decode cX0_init 222 = .ok (.invokespecial 92, 3) := dk_183 0 92 (dk_at dksX0_init_9 14 rfl rfl)
theorem dX0_init_225 : decode cX0_init 225 = .ok (.aastore, 1) := dk_83 (dk_at dksX0_init_9 17 rfl rfl)
theorem dX0_init_226 : decode cX0_init 226 = .ok (.dup, 1) := dk_89 (dk_at dksX0_init_9 18 rfl rfl)
theorem dX0_init_227 : decode cX0_init 227 = .ok (.iconst 3, 1) := dk_6 (dk_at dksX0_init_9 19 rfl rfl)
theorem dX0_init_228 : decode cX0_init 228 = .ok (.new 90, 3) := dk_187 0 90 (dk_at dksX0_init_9 20 rfl rfl)
theorem dX0_init_231 : decode cX0_init 231 = .ok (.dup, 1) := dk_89 (dk_at dksX0_init_9 23 rfl rfl)
theorem dX0_init_232 : decode cX0_init 232 = .ok (.invokespecial 92, 3) := dk_183 0 92 (dk_at dksX0_init_10 0 rfl rfl)
theorem dX0_init_235 : decode cX0_init 235 = .ok (.aastore, 1) := dk_83 (dk_at dksX0_init_10 3 rfl rfl)
theorem dX0_init_236 : decode cX0_init 236 = .ok (.putfield 93, 3) := dk_181 0 93 (dk_at dksX0_init_10 4 rfl rfl)
theorem dX0_init_239 : decode cX0_init 239 = .ok (.return_, 1) := dk_177 (dk_at dksX0_init_10 7 rfl rfl)
abbrev cX0_type : ByteArray := prog_1_method_10_code
def yX0_type : MethodName := ⟨RX0, "type", "(II)I"⟩
def dkwX0_type_1 : List UInt8 := [28, 182, 0, 119, 167, 0, 5, 16, 254, 172]
abbrev dktX0_type_1 : List UInt8 := dkwX0_type_1 ++ []
def dkwX0_type_0 : List UInt8 := [27, 184, 0, 109, 153, 0, 27, 28, 133, 9, 20, 0, 113, 184, 0, 103, 153, 0, 15, 42, 27, 182, 0, 115]
abbrev dktX0_type_0 : List UInt8 := dkwX0_type_0 ++ dktX0_type_1
theorem dksX0_type_0 : cX0_type.data.toList.drop 0 = dktX0_type_0 := by decide +kernel
theorem dksX0_type_1 : cX0_type.data.toList.drop 24 = dktX0_type_1 := dk_seg dksX0_type_0 24 rfl rfl
theorem dX0_type_0 : decode cX0_type 0 = .ok (.iload_n 1, 1) := dk_27 (dk_at dksX0_type_0 0 rfl rfl)
theorem dX0_type_1 : decode cX0_type 1 = .ok (.invokestatic 109, 3) := dk_184 0 109 (dk_at dksX0_type_0 1 rfl rfl)
theorem dX0_type_4 : decode cX0_type 4 = .ok (.ifCond .eq 27, 3) := dk_153 0 27 (dk_at dksX0_type_0 4 rfl rfl)
theorem dX0_type_7 : decode cX0_type 7 = .ok (.iload_n 2, 1) := dk_28 (dk_at dksX0_type_0 7 rfl rfl)
theorem dX0_type_8 : decode cX0_type 8 = .ok (.i2l, 1) := dk_133 (dk_at dksX0_type_0 8 rfl rfl)
theorem dX0_type_9 : decode cX0_type 9 = .ok (.lconst 0, 1) := dk_9 (dk_at dksX0_type_0 9 rfl rfl)
theorem dX0_type_10 : decode cX0_type 10 = .ok (.ldc2_w 113, 3) := dk_20 0 113 (dk_at dksX0_type_0 10 rfl rfl)
theorem dX0_type_13 : decode cX0_type 13 = .ok (.invokestatic 103, 3) := dk_184 0 103 (dk_at dksX0_type_0 13 rfl rfl)
theorem dX0_type_16 : decode cX0_type 16 = .ok (.ifCond .eq 15, 3) := dk_153 0 15 (dk_at dksX0_type_0 16 rfl rfl)
theorem dX0_type_19 : decode cX0_type 19 = .ok (.aload_n 0, 1) := dk_42 (dk_at dksX0_type_0 19 rfl rfl)
theorem dX0_type_20 : decode cX0_type 20 = .ok (.iload_n 1, 1) := dk_27 (dk_at dksX0_type_0 20 rfl rfl)
theorem dX0_type_21 : decode cX0_type 21 = .ok (.invokevirtual 115, 3) := dk_182 0 115 (dk_at dksX0_type_0 21 rfl rfl)
theorem dX0_type_24 : decode cX0_type 24 = .ok (.iload_n 2, 1) := dk_28 (dk_at dksX0_type_1 0 rfl rfl)
theorem dX0_type_25 : decode cX0_type 25 = .ok (.invokevirtual 119, 3) := dk_182 0 119 (dk_at dksX0_type_1 1 rfl rfl)
theorem dX0_type_28 : decode cX0_type 28 = .ok (.goto 5, 3) := dk_167 0 5 (dk_at dksX0_type_1 4 rfl rfl)
theorem dX0_type_31 : decode cX0_type 31 = .ok (.bipush (-2), 2) := dk_16 254 (dk_at dksX0_type_1 7 rfl rfl)
theorem dX0_type_33 : decode cX0_type 33 = .ok (.ireturn, 1) := dk_172 (dk_at dksX0_type_1 9 rfl rfl)
abbrev cX0_isTwo : ByteArray := prog_1_method_6_code
def yX0_isTwo : MethodName := ⟨RX0, "isTwo", "(I)Z"⟩
def dkwX0_isTwo_0 : List UInt8 := [26, 133, 9, 10, 184, 0, 103, 172]
abbrev dktX0_isTwo_0 : List UInt8 := dkwX0_isTwo_0 ++ []
theorem dksX0_isTwo_0 : cX0_isTwo.data.toList.drop 0 = dktX0_isTwo_0 := by decide +kernel
theorem dX0_isTwo_0 : decode cX0_isTwo 0 = .ok (.iload_n 0, 1) := dk_26 (dk_at dksX0_isTwo_0 0 rfl rfl)
theorem dX0_isTwo_1 : decode cX0_isTwo 1 = .ok (.i2l, 1) := dk_133 (dk_at dksX0_isTwo_0 1 rfl rfl)
theorem dX0_isTwo_2 : decode cX0_isTwo 2 = .ok (.lconst 0, 1) := dk_9 (dk_at dksX0_isTwo_0 2 rfl rfl)
theorem dX0_isTwo_3 : decode cX0_isTwo 3 = .ok (.lconst 1, 1) := dk_10 (dk_at dksX0_isTwo_0 3 rfl rfl)
theorem dX0_isTwo_4 : decode cX0_isTwo 4 = .ok (.invokestatic 103, 3) := dk_184 0 103 (dk_at dksX0_isTwo_0 4 rfl rfl)
theorem dX0_isTwo_7 : decode cX0_isTwo 7 = .ok (.ireturn, 1) := dk_172 (dk_at dksX0_isTwo_0 7 rfl rfl)
abbrev cX0_in : ByteArray := prog_1_method_2_code
def yX0_in : MethodName := ⟨RX0, "in", "(JJJ)Z"⟩
def dkwX0_in_0 : List UInt8 := [30, 32, 148, 155, 0, 14, 30, 22, 4, 148, 157, 0, 7, 4, 167, 0, 4, 3, 172]
abbrev dktX0_in_0 : List UInt8 := dkwX0_in_0 ++ []
theorem dksX0_in_0 : cX0_in.data.toList.drop 0 = dktX0_in_0 := by decide +kernel
theorem dX0_in_0 : decode cX0_in 0 = .ok (.lload_n 0, 1) := dk_30 (dk_at dksX0_in_0 0 rfl rfl)
theorem dX0_in_1 : decode cX0_in 1 = .ok (.lload_n 2, 1) := dk_32 (dk_at dksX0_in_0 1 rfl rfl)
theorem dX0_in_2 : decode cX0_in 2 = .ok (.lcmp, 1) := dk_148 (dk_at dksX0_in_0 2 rfl rfl)
theorem dX0_in_3 : decode cX0_in 3 = .ok (.ifCond .lt 14, 3) := dk_155 0 14 (dk_at dksX0_in_0 3 rfl rfl)
theorem dX0_in_6 : decode cX0_in 6 = .ok (.lload_n 0, 1) := dk_30 (dk_at dksX0_in_0 6 rfl rfl)
theorem dX0_in_7 : decode cX0_in 7 = .ok (.lload 4, 2) := dk_22 4 (dk_at dksX0_in_0 7 rfl rfl)
theorem dX0_in_9 : decode cX0_in 9 = .ok (.lcmp, 1) := dk_148 (dk_at dksX0_in_0 9 rfl rfl)
theorem dX0_in_10 : decode cX0_in 10 = .ok (.ifCond .gt 7, 3) := dk_157 0 7 (dk_at dksX0_in_0 10 rfl rfl)
theorem dX0_in_13 : decode cX0_in 13 = .ok (.iconst 1, 1) := dk_4 (dk_at dksX0_in_0 13 rfl rfl)
theorem dX0_in_14 : decode cX0_in 14 = .ok (.goto 4, 3) := dk_167 0 4 (dk_at dksX0_in_0 14 rfl rfl)
theorem dX0_in_17 : decode cX0_in 17 = .ok (.iconst 0, 1) := dk_3 (dk_at dksX0_in_0 17 rfl rfl)
theorem dX0_in_18 : decode cX0_in 18 = .ok (.ireturn, 1) := dk_172 (dk_at dksX0_in_0 18 rfl rfl)
abbrev cX0_text : ByteArray := prog_1_method_9_code
def yX0_text : MethodName := ⟨RX0, "text", "(I)LInterestTaken$Text;"⟩
def dkwX0_text_0 : List UInt8 := [27, 154, 0, 10, 42, 180, 0, 14, 167, 0, 7, 42, 180, 0, 23, 176]
abbrev dktX0_text_0 : List UInt8 := dkwX0_text_0 ++ []
theorem dksX0_text_0 : cX0_text.data.toList.drop 0 = dktX0_text_0 := by decide +kernel
theorem dX0_text_0 : decode cX0_text 0 = .ok (.iload_n 1, 1) := dk_27 (dk_at dksX0_text_0 0 rfl rfl)
theorem dX0_text_1 : decode cX0_text 1 = .ok (.ifCond .ne 10, 3) := dk_154 0 10 (dk_at dksX0_text_0 1 rfl rfl)
theorem dX0_text_4 : decode cX0_text 4 = .ok (.aload_n 0, 1) := dk_42 (dk_at dksX0_text_0 4 rfl rfl)
theorem dX0_text_5 : decode cX0_text 5 = .ok (.getfield 14, 3) := dk_180 0 14 (dk_at dksX0_text_0 5 rfl rfl)
theorem dX0_text_8 : decode cX0_text 8 = .ok (.goto 7, 3) := dk_167 0 7 (dk_at dksX0_text_0 8 rfl rfl)
theorem dX0_text_11 : decode cX0_text 11 = .ok (.aload_n 0, 1) := dk_42 (dk_at dksX0_text_0 11 rfl rfl)
theorem dX0_text_12 : decode cX0_text 12 = .ok (.getfield 23, 3) := dk_180 0 23 (dk_at dksX0_text_0 12 rfl rfl)
theorem dX0_text_15 : decode cX0_text 15 = .ok (.areturn, 1) := dk_176 (dk_at dksX0_text_0 15 rfl rfl)
abbrev cX0_wipe : ByteArray := prog_1_method_11_code
def yX0_wipe : MethodName := ⟨RX0, "wipe", "(I)I"⟩
def dkwX0_wipe_0 : List UInt8 := [27, 184, 0, 109, 153, 0, 14, 42, 27, 182, 0, 115, 182, 0, 125, 167, 0, 5, 16, 254, 172]
abbrev dktX0_wipe_0 : List UInt8 := dkwX0_wipe_0 ++ []
theorem dksX0_wipe_0 : cX0_wipe.data.toList.drop 0 = dktX0_wipe_0 := by decide +kernel
theorem dX0_wipe_0 : decode cX0_wipe 0 = .ok (.iload_n 1, 1) := dk_27 (dk_at dksX0_wipe_0 0 rfl rfl)
theorem dX0_wipe_1 : decode cX0_wipe 1 = .ok (.invokestatic 109, 3) := dk_184 0 109 (dk_at dksX0_wipe_0 1 rfl rfl)
theorem dX0_wipe_4 : decode cX0_wipe 4 = .ok (.ifCond .eq 14, 3) := dk_153 0 14 (dk_at dksX0_wipe_0 4 rfl rfl)
theorem dX0_wipe_7 : decode cX0_wipe 7 = .ok (.aload_n 0, 1) := dk_42 (dk_at dksX0_wipe_0 7 rfl rfl)
theorem dX0_wipe_8 : decode cX0_wipe 8 = .ok (.iload_n 1, 1) := dk_27 (dk_at dksX0_wipe_0 8 rfl rfl)
theorem dX0_wipe_9 : decode cX0_wipe 9 = .ok (.invokevirtual 115, 3) := dk_182 0 115 (dk_at dksX0_wipe_0 9 rfl rfl)
theorem dX0_wipe_12 : decode cX0_wipe 12 = .ok (.invokevirtual 125, 3) := dk_182 0 125 (dk_at dksX0_wipe_0 12 rfl rfl)
theorem dX0_wipe_15 : decode cX0_wipe 15 = .ok (.goto 5, 3) := dk_167 0 5 (dk_at dksX0_wipe_0 15 rfl rfl)
theorem dX0_wipe_18 : decode cX0_wipe 18 = .ok (.bipush (-2), 2) := dk_16 254 (dk_at dksX0_wipe_0 18 rfl rfl)
theorem dX0_wipe_20 : decode cX0_wipe 20 = .ok (.ireturn, 1) := dk_172 (dk_at dksX0_wipe_0 20 rfl rfl)
abbrev cX0_undo : ByteArray := prog_1_method_12_code
def yX0_undo : MethodName := ⟨RX0, "undo", "(I)I"⟩
def dkwX0_undo_0 : List UInt8 := [27, 184, 0, 109, 153, 0, 14, 42, 27, 182, 0, 115, 182, 0, 129, 167, 0, 5, 16, 254, 172]
abbrev dktX0_undo_0 : List UInt8 := dkwX0_undo_0 ++ []
theorem dksX0_undo_0 : cX0_undo.data.toList.drop 0 = dktX0_undo_0 := by decide +kernel
theorem dX0_undo_0 : decode cX0_undo 0 = .ok (.iload_n 1, 1) := dk_27 (dk_at dksX0_undo_0 0 rfl rfl)
theorem dX0_undo_1 : decode cX0_undo 1 = .ok (.invokestatic 109, 3) := dk_184 0 109 (dk_at dksX0_undo_0 1 rfl rfl)
theorem dX0_undo_4 : decode cX0_undo 4 = .ok (.ifCond .eq 14, 3) := dk_153 0 14 (dk_at dksX0_undo_0 4 rfl rfl)
theorem dX0_undo_7 : decode cX0_undo 7 = .ok (.aload_n 0, 1) := dk_42 (dk_at dksX0_undo_0 7 rfl rfl)
theorem dX0_undo_8 : decode cX0_undo 8 = .ok (.iload_n 1, 1) := dk_27 (dk_at dksX0_undo_0 8 rfl rfl)
theorem dX0_undo_9 : decode cX0_undo 9 = .ok (.invokevirtual 115, 3) := dk_182 0 115 (dk_at dksX0_undo_0 9 rfl rfl)
theorem dX0_undo_12 : decode cX0_undo 12 = .ok (.invokevirtual 129, 3) := dk_182 0 129 (dk_at dksX0_undo_0 12 rfl rfl)
theorem dX0_undo_15 : decode cX0_undo 15 = .ok (.goto 5, 3) := dk_167 0 5 (dk_at dksX0_undo_0 15 rfl rfl)
theorem dX0_undo_18 : decode cX0_undo 18 = .ok (.bipush (-2), 2) := dk_16 254 (dk_at dksX0_undo_0 18 rfl rfl)
theorem dX0_undo_20 : decode cX0_undo 20 = .ok (.ireturn, 1) := dk_172 (dk_at dksX0_undo_0 20 rfl rfl)
abbrev cX0_fault : ByteArray := prog_1_method_13_code
def yX0_fault : MethodName := ⟨RX0, "fault", "(I)I"⟩
def dkwX0_fault_0 : List UInt8 := [27, 184, 0, 109, 153, 0, 14, 42, 27, 182, 0, 115, 182, 0, 132, 167, 0, 5, 16, 254, 172]
abbrev dktX0_fault_0 : List UInt8 := dkwX0_fault_0 ++ []
theorem dksX0_fault_0 : cX0_fault.data.toList.drop 0 = dktX0_fault_0 := by decide +kernel
theorem dX0_fault_0 : decode cX0_fault 0 = .ok (.iload_n 1, 1) := dk_27 (dk_at dksX0_fault_0 0 rfl rfl)
theorem dX0_fault_1 : decode cX0_fault 1 = .ok (.invokestatic 109, 3) := dk_184 0 109 (dk_at dksX0_fault_0 1 rfl rfl)
theorem dX0_fault_4 : decode cX0_fault 4 = .ok (.ifCond .eq 14, 3) := dk_153 0 14 (dk_at dksX0_fault_0 4 rfl rfl)
theorem dX0_fault_7 : decode cX0_fault 7 = .ok (.aload_n 0, 1) := dk_42 (dk_at dksX0_fault_0 7 rfl rfl)
theorem dX0_fault_8 : decode cX0_fault 8 = .ok (.iload_n 1, 1) := dk_27 (dk_at dksX0_fault_0 8 rfl rfl)
theorem dX0_fault_9 : decode cX0_fault 9 = .ok (.invokevirtual 115, 3) := dk_182 0 115 (dk_at dksX0_fault_0 9 rfl rfl)
theorem dX0_fault_12 : decode cX0_fault 12 = .ok (.invokevirtual 132, 3) := dk_182 0 132 (dk_at dksX0_fault_0 12 rfl rfl)
theorem dX0_fault_15 : decode cX0_fault 15 = .ok (.goto 5, 3) := dk_167 0 5 (dk_at dksX0_fault_0 15 rfl rfl)
theorem dX0_fault_18 : decode cX0_fault 18 = .ok (.bipush (-2), 2) := dk_16 254 (dk_at dksX0_fault_0 18 rfl rfl)
theorem dX0_fault_20 : decode cX0_fault 20 = .ok (.ireturn, 1) := dk_172 (dk_at dksX0_fault_0 20 rfl rfl)
abbrev cX0_saver : ByteArray := prog_1_method_16_code
def yX0_saver : MethodName := ⟨RX0, "saver", "(II)I"⟩
def dkwX0_saver_1 : List UInt8 := [180, 0, 144, 27, 182, 0, 147, 192, 0, 151, 28, 182, 0, 153, 167, 0, 5, 16, 254, 172]
abbrev dktX0_saver_1 : List UInt8 := dkwX0_saver_1 ++ []
def dkwX0_saver_0 : List UInt8 := [42, 27, 182, 0, 139, 153, 0, 36, 28, 133, 9, 20, 0, 142, 184, 0, 103, 153, 0, 24, 42, 180, 0, 14]
abbrev dktX0_saver_0 : List UInt8 := dkwX0_saver_0 ++ dktX0_saver_1
theorem dksX0_saver_0 : cX0_saver.data.toList.drop 0 = dktX0_saver_0 := by decide +kernel
theorem dksX0_saver_1 : cX0_saver.data.toList.drop 24 = dktX0_saver_1 := dk_seg dksX0_saver_0 24 rfl rfl
theorem dX0_saver_0 : decode cX0_saver 0 = .ok (.aload_n 0, 1) := dk_42 (dk_at dksX0_saver_0 0 rfl rfl)
theorem dX0_saver_1 : decode cX0_saver 1 = .ok (.iload_n 1, 1) := dk_27 (dk_at dksX0_saver_0 1 rfl rfl)
theorem dX0_saver_2 : decode cX0_saver 2 = .ok (.invokevirtual 139, 3) := dk_182 0 139 (dk_at dksX0_saver_0 2 rfl rfl)
theorem dX0_saver_5 : decode cX0_saver 5 = .ok (.ifCond .eq 36, 3) := dk_153 0 36 (dk_at dksX0_saver_0 5 rfl rfl)
theorem dX0_saver_8 : decode cX0_saver 8 = .ok (.iload_n 2, 1) := dk_28 (dk_at dksX0_saver_0 8 rfl rfl)
theorem dX0_saver_9 : decode cX0_saver 9 = .ok (.i2l, 1) := dk_133 (dk_at dksX0_saver_0 9 rfl rfl)
theorem dX0_saver_10 : decode cX0_saver 10 = .ok (.lconst 0, 1) := dk_9 (dk_at dksX0_saver_0 10 rfl rfl)
theorem dX0_saver_11 : decode cX0_saver 11 = .ok (.ldc2_w 142, 3) := dk_20 0 142 (dk_at dksX0_saver_0 11 rfl rfl)
theorem dX0_saver_14 : decode cX0_saver 14 = .ok (.invokestatic 103, 3) := dk_184 0 103 (dk_at dksX0_saver_0 14 rfl rfl)
theorem dX0_saver_17 : decode cX0_saver 17 = .ok (.ifCond .eq 24, 3) := dk_153 0 24 (dk_at dksX0_saver_0 17 rfl rfl)
theorem dX0_saver_20 : decode cX0_saver 20 = .ok (.aload_n 0, 1) := dk_42 (dk_at dksX0_saver_0 20 rfl rfl)
theorem dX0_saver_21 : decode cX0_saver 21 = .ok (.getfield 14, 3) := dk_180 0 14 (dk_at dksX0_saver_0 21 rfl rfl)
theorem dX0_saver_24 : decode cX0_saver 24 = .ok (.getfield 144, 3) := dk_180 0 144 (dk_at dksX0_saver_1 0 rfl rfl)
theorem dX0_saver_27 : decode cX0_saver 27 = .ok (.iload_n 1, 1) := dk_27 (dk_at dksX0_saver_1 3 rfl rfl)
theorem dX0_saver_28 : decode cX0_saver 28 = .ok (.invokevirtual 147, 3) := dk_182 0 147 (dk_at dksX0_saver_1 4 rfl rfl)
theorem dX0_saver_31 : decode cX0_saver 31 = .ok (.checkcast 151, 3) := dk_192 0 151 (dk_at dksX0_saver_1 7 rfl rfl)
theorem dX0_saver_34 : decode cX0_saver 34 = .ok (.iload_n 2, 1) := dk_28 (dk_at dksX0_saver_1 10 rfl rfl)
theorem dX0_saver_35 : decode cX0_saver 35 = .ok (.invokevirtual 153, 3) := dk_182 0 153 (dk_at dksX0_saver_1 11 rfl rfl)
theorem dX0_saver_38 : decode cX0_saver 38 = .ok (.goto 5, 3) := dk_167 0 5 (dk_at dksX0_saver_1 14 rfl rfl)
theorem dX0_saver_41 : decode cX0_saver 41 = .ok (.bipush (-2), 2) := dk_16 254 (dk_at dksX0_saver_1 17 rfl rfl)
theorem dX0_saver_43 : decode cX0_saver 43 = .ok (.ireturn, 1) := dk_172 (dk_at dksX0_saver_1 19 rfl rfl)
abbrev cX0_isSaver : ByteArray := prog_1_method_14_code
def yX0_isSaver : MethodName := ⟨RX0, "isSaver", "(I)Z"⟩
def dkwX0_isSaver_0 : List UInt8 := [27, 133, 9, 42, 180, 0, 14, 182, 0, 135, 4, 100, 133, 184, 0, 103, 172]
abbrev dktX0_isSaver_0 : List UInt8 := dkwX0_isSaver_0 ++ []
theorem dksX0_isSaver_0 : cX0_isSaver.data.toList.drop 0 = dktX0_isSaver_0 := by decide +kernel
theorem dX0_isSaver_0 : decode cX0_isSaver 0 = .ok (.iload_n 1, 1) := dk_27 (dk_at dksX0_isSaver_0 0 rfl rfl)
theorem dX0_isSaver_1 : decode cX0_isSaver 1 = .ok (.i2l, 1) := dk_133 (dk_at dksX0_isSaver_0 1 rfl rfl)
theorem dX0_isSaver_2 : decode cX0_isSaver 2 = .ok (.lconst 0, 1) := dk_9 (dk_at dksX0_isSaver_0 2 rfl rfl)
theorem dX0_isSaver_3 : decode cX0_isSaver 3 = .ok (.aload_n 0, 1) := dk_42 (dk_at dksX0_isSaver_0 3 rfl rfl)
theorem dX0_isSaver_4 : decode cX0_isSaver 4 = .ok (.getfield 14, 3) := dk_180 0 14 (dk_at dksX0_isSaver_0 4 rfl rfl)
theorem dX0_isSaver_7 : decode cX0_isSaver 7 = .ok (.invokevirtual 135, 3) := dk_182 0 135 (dk_at dksX0_isSaver_0 7 rfl rfl)
theorem dX0_isSaver_10 : decode cX0_isSaver 10 = .ok (.iconst 1, 1) := dk_4 (dk_at dksX0_isSaver_0 10 rfl rfl)
theorem dX0_isSaver_11 : decode cX0_isSaver 11 = .ok (.isub, 1) := dk_100 (dk_at dksX0_isSaver_0 11 rfl rfl)
theorem dX0_isSaver_12 : decode cX0_isSaver 12 = .ok (.i2l, 1) := dk_133 (dk_at dksX0_isSaver_0 12 rfl rfl)
theorem dX0_isSaver_13 : decode cX0_isSaver 13 = .ok (.invokestatic 103, 3) := dk_184 0 103 (dk_at dksX0_isSaver_0 13 rfl rfl)
theorem dX0_isSaver_16 : decode cX0_isSaver 16 = .ok (.ireturn, 1) := dk_172 (dk_at dksX0_isSaver_0 16 rfl rfl)
abbrev cX0_partner : ByteArray := prog_1_method_17_code
def yX0_partner : MethodName := ⟨RX0, "partner", "(II)I"⟩
def dkwX0_partner_1 : List UInt8 := [182, 0, 147, 192, 0, 68, 28, 182, 0, 160, 167, 0, 5, 16, 254, 172]
abbrev dktX0_partner_1 : List UInt8 := dkwX0_partner_1 ++ []
def dkwX0_partner_0 : List UInt8 := [42, 27, 182, 0, 156, 153, 0, 31, 28, 184, 0, 109, 153, 0, 24, 42, 180, 0, 23, 180, 0, 159, 27]
abbrev dktX0_partner_0 : List UInt8 := dkwX0_partner_0 ++ dktX0_partner_1
theorem dksX0_partner_0 : cX0_partner.data.toList.drop 0 = dktX0_partner_0 := by decide +kernel
theorem dksX0_partner_1 : cX0_partner.data.toList.drop 23 = dktX0_partner_1 := dk_seg dksX0_partner_0 23 rfl rfl
theorem dX0_partner_0 : decode cX0_partner 0 = .ok (.aload_n 0, 1) := dk_42 (dk_at dksX0_partner_0 0 rfl rfl)
theorem dX0_partner_1 : decode cX0_partner 1 = .ok (.iload_n 1, 1) := dk_27 (dk_at dksX0_partner_0 1 rfl rfl)
theorem dX0_partner_2 : decode cX0_partner 2 = .ok (.invokevirtual 156, 3) := dk_182 0 156 (dk_at dksX0_partner_0 2 rfl rfl)
theorem dX0_partner_5 : decode cX0_partner 5 = .ok (.ifCond .eq 31, 3) := dk_153 0 31 (dk_at dksX0_partner_0 5 rfl rfl)
theorem dX0_partner_8 : decode cX0_partner 8 = .ok (.iload_n 2, 1) := dk_28 (dk_at dksX0_partner_0 8 rfl rfl)
theorem dX0_partner_9 : decode cX0_partner 9 = .ok (.invokestatic 109, 3) := dk_184 0 109 (dk_at dksX0_partner_0 9 rfl rfl)
theorem dX0_partner_12 : decode cX0_partner 12 = .ok (.ifCond .eq 24, 3) := dk_153 0 24 (dk_at dksX0_partner_0 12 rfl rfl)
theorem dX0_partner_15 : decode cX0_partner 15 = .ok (.aload_n 0, 1) := dk_42 (dk_at dksX0_partner_0 15 rfl rfl)
theorem dX0_partner_16 : decode cX0_partner 16 = .ok (.getfield 23, 3) := dk_180 0 23 (dk_at dksX0_partner_0 16 rfl rfl)
theorem dX0_partner_19 : decode cX0_partner 19 = .ok (.getfield 159, 3) := dk_180 0 159 (dk_at dksX0_partner_0 19 rfl rfl)
theorem dX0_partner_22 : decode cX0_partner 22 = .ok (.iload_n 1, 1) := dk_27 (dk_at dksX0_partner_0 22 rfl rfl)
theorem dX0_partner_23 : decode cX0_partner 23 = .ok (.invokevirtual 147, 3) := dk_182 0 147 (dk_at dksX0_partner_1 0 rfl rfl)
theorem dX0_partner_26 : decode cX0_partner 26 = .ok (.checkcast 68, 3) := dk_192 0 68 (dk_at dksX0_partner_1 3 rfl rfl)
theorem dX0_partner_29 : decode cX0_partner 29 = .ok (.iload_n 2, 1) := dk_28 (dk_at dksX0_partner_1 6 rfl rfl)
theorem dX0_partner_30 : decode cX0_partner 30 = .ok (.invokevirtual 160, 3) := dk_182 0 160 (dk_at dksX0_partner_1 7 rfl rfl)
theorem dX0_partner_33 : decode cX0_partner 33 = .ok (.goto 5, 3) := dk_167 0 5 (dk_at dksX0_partner_1 10 rfl rfl)
theorem dX0_partner_36 : decode cX0_partner 36 = .ok (.bipush (-2), 2) := dk_16 254 (dk_at dksX0_partner_1 13 rfl rfl)
theorem dX0_partner_38 : decode cX0_partner 38 = .ok (.ireturn, 1) := dk_172 (dk_at dksX0_partner_1 15 rfl rfl)
abbrev cX0_isPartner : ByteArray := prog_1_method_15_code
def yX0_isPartner : MethodName := ⟨RX0, "isPartner", "(I)Z"⟩
def dkwX0_isPartner_0 : List UInt8 := [27, 133, 9, 42, 180, 0, 23, 182, 0, 138, 4, 100, 133, 184, 0, 103, 172]
abbrev dktX0_isPartner_0 : List UInt8 := dkwX0_isPartner_0 ++ []
theorem dksX0_isPartner_0 : cX0_isPartner.data.toList.drop 0 = dktX0_isPartner_0 := by decide +kernel
theorem dX0_isPartner_0 : decode cX0_isPartner 0 = .ok (.iload_n 1, 1) := dk_27 (dk_at dksX0_isPartner_0 0 rfl rfl)
theorem dX0_isPartner_1 : decode cX0_isPartner 1 = .ok (.i2l, 1) := dk_133 (dk_at dksX0_isPartner_0 1 rfl rfl)
theorem dX0_isPartner_2 : decode cX0_isPartner 2 = .ok (.lconst 0, 1) := dk_9 (dk_at dksX0_isPartner_0 2 rfl rfl)
theorem dX0_isPartner_3 : decode cX0_isPartner 3 = .ok (.aload_n 0, 1) := dk_42 (dk_at dksX0_isPartner_0 3 rfl rfl)
theorem dX0_isPartner_4 : decode cX0_isPartner 4 = .ok (.getfield 23, 3) := dk_180 0 23 (dk_at dksX0_isPartner_0 4 rfl rfl)
theorem dX0_isPartner_7 : decode cX0_isPartner 7 = .ok (.invokevirtual 138, 3) := dk_182 0 138 (dk_at dksX0_isPartner_0 7 rfl rfl)
theorem dX0_isPartner_10 : decode cX0_isPartner 10 = .ok (.iconst 1, 1) := dk_4 (dk_at dksX0_isPartner_0 10 rfl rfl)
theorem dX0_isPartner_11 : decode cX0_isPartner 11 = .ok (.isub, 1) := dk_100 (dk_at dksX0_isPartner_0 11 rfl rfl)
theorem dX0_isPartner_12 : decode cX0_isPartner 12 = .ok (.i2l, 1) := dk_133 (dk_at dksX0_isPartner_0 12 rfl rfl)
theorem dX0_isPartner_13 : decode cX0_isPartner 13 = .ok (.invokestatic 103, 3) := dk_184 0 103 (dk_at dksX0_isPartner_0 13 rfl rfl)
theorem dX0_isPartner_16 : decode cX0_isPartner 16 = .ok (.ireturn, 1) := dk_172 (dk_at dksX0_isPartner_0 16 rfl rfl)
abbrev cX0_set : ByteArray := prog_1_method_18_code
def yX0_set : MethodName := ⟨RX0, "set", "(II)I"⟩
def dkwX0_set_2 : List UInt8 := [172]
abbrev dktX0_set_2 : List UInt8 := dkwX0_set_2 ++ []
def dkwX0_set_1 : List UInt8 := [184, 0, 103, 154, 0, 6, 16, 254, 172, 42, 180, 0, 27, 27, 46, 62, 42, 180, 0, 27, 27, 28, 79, 29]
abbrev dktX0_set_1 : List UInt8 := dkwX0_set_1 ++ dktX0_set_2
def dkwX0_set_0 : List UInt8 := [27, 184, 0, 109, 153, 0, 25, 28, 133, 9, 27, 154, 0, 9, 20, 0, 161, 167, 0, 6, 20, 0, 163]
abbrev dktX0_set_0 : List UInt8 := dkwX0_set_0 ++ dktX0_set_1
theorem dksX0_set_0 : cX0_set.data.toList.drop 0 = dktX0_set_0 := by decide +kernel
theorem dksX0_set_1 : cX0_set.data.toList.drop 23 = dktX0_set_1 := dk_seg dksX0_set_0 23 rfl rfl
theorem dksX0_set_2 : cX0_set.data.toList.drop 47 = dktX0_set_2 := dk_seg dksX0_set_1 24 rfl rfl
theorem dX0_set_0 : decode cX0_set 0 = .ok (.iload_n 1, 1) := dk_27 (dk_at dksX0_set_0 0 rfl rfl)
theorem dX0_set_1 : decode cX0_set 1 = .ok (.invokestatic 109, 3) := dk_184 0 109 (dk_at dksX0_set_0 1 rfl rfl)
theorem dX0_set_4 : decode cX0_set 4 = .ok (.ifCond .eq 25, 3) := dk_153 0 25 (dk_at dksX0_set_0 4 rfl rfl)
theorem dX0_set_7 : decode cX0_set 7 = .ok (.iload_n 2, 1) := dk_28 (dk_at dksX0_set_0 7 rfl rfl)
theorem dX0_set_8 : decode cX0_set 8 = .ok (.i2l, 1) := dk_133 (dk_at dksX0_set_0 8 rfl rfl)
theorem dX0_set_9 : decode cX0_set 9 = .ok (.lconst 0, 1) := dk_9 (dk_at dksX0_set_0 9 rfl rfl)
theorem dX0_set_10 : decode cX0_set 10 = .ok (.iload_n 1, 1) := dk_27 (dk_at dksX0_set_0 10 rfl rfl)
theorem dX0_set_11 : decode cX0_set 11 = .ok (.ifCond .ne 9, 3) := dk_154 0 9 (dk_at dksX0_set_0 11 rfl rfl)
theorem dX0_set_14 : decode cX0_set 14 = .ok (.ldc2_w 161, 3) := dk_20 0 161 (dk_at dksX0_set_0 14 rfl rfl)
theorem dX0_set_17 : decode cX0_set 17 = .ok (.goto 6, 3) := dk_167 0 6 (dk_at dksX0_set_0 17 rfl rfl)
theorem dX0_set_20 : decode cX0_set 20 = .ok (.ldc2_w 163, 3) := dk_20 0 163 (dk_at dksX0_set_0 20 rfl rfl)
theorem dX0_set_23 : decode cX0_set 23 = .ok (.invokestatic 103, 3) := dk_184 0 103 (dk_at dksX0_set_1 0 rfl rfl)
theorem dX0_set_26 : decode cX0_set 26 = .ok (.ifCond .ne 6, 3) := dk_154 0 6 (dk_at dksX0_set_1 3 rfl rfl)
theorem dX0_set_29 : decode cX0_set 29 = .ok (.bipush (-2), 2) := dk_16 254 (dk_at dksX0_set_1 6 rfl rfl)
theorem dX0_set_31 : decode cX0_set 31 = .ok (.ireturn, 1) := dk_172 (dk_at dksX0_set_1 8 rfl rfl)
theorem dX0_set_32 : decode cX0_set 32 = .ok (.aload_n 0, 1) := dk_42 (dk_at dksX0_set_1 9 rfl rfl)
theorem dX0_set_33 : decode cX0_set 33 = .ok (.getfield 27, 3) := dk_180 0 27 (dk_at dksX0_set_1 10 rfl rfl)
theorem dX0_set_36 : decode cX0_set 36 = .ok (.iload_n 1, 1) := dk_27 (dk_at dksX0_set_1 13 rfl rfl)
theorem dX0_set_37 : decode cX0_set 37 = .ok (.iaload, 1) := dk_46 (dk_at dksX0_set_1 14 rfl rfl)
theorem dX0_set_38 : decode cX0_set 38 = .ok (.istore_n 3, 1) := dk_62 (dk_at dksX0_set_1 15 rfl rfl)
theorem dX0_set_39 : decode cX0_set 39 = .ok (.aload_n 0, 1) := dk_42 (dk_at dksX0_set_1 16 rfl rfl)
theorem dX0_set_40 : decode cX0_set 40 = .ok (.getfield 27, 3) := dk_180 0 27 (dk_at dksX0_set_1 17 rfl rfl)
theorem dX0_set_43 : decode cX0_set 43 = .ok (.iload_n 1, 1) := dk_27 (dk_at dksX0_set_1 20 rfl rfl)
theorem dX0_set_44 : decode cX0_set 44 = .ok (.iload_n 2, 1) := dk_28 (dk_at dksX0_set_1 21 rfl rfl)
theorem dX0_set_45 : decode cX0_set 45 = .ok (.iastore, 1) := dk_79 (dk_at dksX0_set_1 22 rfl rfl)
theorem dX0_set_46 : decode cX0_set 46 = .ok (.iload_n 3, 1) := dk_29 (dk_at dksX0_set_1 23 rfl rfl)
theorem dX0_set_47 : decode cX0_set 47 = .ok (.ireturn, 1) := dk_172 (dk_at dksX0_set_2 0 rfl rfl)
abbrev cX0_call : ByteArray := prog_1_method_19_code
def yX0_call : MethodName := ⟨RX0, "call", "(II)I"⟩
def dkwX0_call_2 : List UInt8 := [79, 89, 4, 28, 79, 182, 0, 173, 87, 42, 180, 0, 34, 182, 0, 170, 172]
abbrev dktX0_call_2 : List UInt8 := dkwX0_call_2 ++ []
def dkwX0_call_1 : List UInt8 := [180, 0, 34, 182, 0, 170, 16, 8, 160, 0, 6, 16, 252, 172, 42, 180, 0, 34, 5, 188, 10, 89, 3, 27]
abbrev dktX0_call_1 : List UInt8 := dkwX0_call_1 ++ dktX0_call_2
def dkwX0_call_0 : List UInt8 := [27, 184, 0, 165, 153, 0, 15, 28, 133, 9, 20, 0, 168, 184, 0, 103, 154, 0, 6, 16, 254, 172, 42]
abbrev dktX0_call_0 : List UInt8 := dkwX0_call_0 ++ dktX0_call_1
theorem dksX0_call_0 : cX0_call.data.toList.drop 0 = dktX0_call_0 := by decide +kernel
theorem dksX0_call_1 : cX0_call.data.toList.drop 23 = dktX0_call_1 := dk_seg dksX0_call_0 23 rfl rfl
theorem dksX0_call_2 : cX0_call.data.toList.drop 47 = dktX0_call_2 := dk_seg dksX0_call_1 24 rfl rfl
theorem dX0_call_0 : decode cX0_call 0 = .ok (.iload_n 1, 1) := dk_27 (dk_at dksX0_call_0 0 rfl rfl)
theorem dX0_call_1 : decode cX0_call 1 = .ok (.invokestatic 165, 3) := dk_184 0 165 (dk_at dksX0_call_0 1 rfl rfl)
theorem dX0_call_4 : decode cX0_call 4 = .ok (.ifCond .eq 15, 3) := dk_153 0 15 (dk_at dksX0_call_0 4 rfl rfl)
theorem dX0_call_7 : decode cX0_call 7 = .ok (.iload_n 2, 1) := dk_28 (dk_at dksX0_call_0 7 rfl rfl)
theorem dX0_call_8 : decode cX0_call 8 = .ok (.i2l, 1) := dk_133 (dk_at dksX0_call_0 8 rfl rfl)
theorem dX0_call_9 : decode cX0_call 9 = .ok (.lconst 0, 1) := dk_9 (dk_at dksX0_call_0 9 rfl rfl)
theorem dX0_call_10 : decode cX0_call 10 = .ok (.ldc2_w 168, 3) := dk_20 0 168 (dk_at dksX0_call_0 10 rfl rfl)
theorem dX0_call_13 : decode cX0_call 13 = .ok (.invokestatic 103, 3) := dk_184 0 103 (dk_at dksX0_call_0 13 rfl rfl)
theorem dX0_call_16 : decode cX0_call 16 = .ok (.ifCond .ne 6, 3) := dk_154 0 6 (dk_at dksX0_call_0 16 rfl rfl)
theorem dX0_call_19 : decode cX0_call 19 = .ok (.bipush (-2), 2) := dk_16 254 (dk_at dksX0_call_0 19 rfl rfl)
theorem dX0_call_21 : decode cX0_call 21 = .ok (.ireturn, 1) := dk_172 (dk_at dksX0_call_0 21 rfl rfl)
theorem dX0_call_22 : decode cX0_call 22 = .ok (.aload_n 0, 1) := dk_42 (dk_at dksX0_call_0 22 rfl rfl)
theorem dX0_call_23 : decode cX0_call 23 = .ok (.getfield 34, 3) := dk_180 0 34 (dk_at dksX0_call_1 0 rfl rfl)
theorem dX0_call_26 : decode cX0_call 26 = .ok (.invokevirtual 170, 3) := dk_182 0 170 (dk_at dksX0_call_1 3 rfl rfl)
theorem dX0_call_29 : decode cX0_call 29 = .ok (.bipush 8, 2) := dk_16 8 (dk_at dksX0_call_1 6 rfl rfl)
theorem dX0_call_31 : decode cX0_call 31 = .ok (.if_icmp .ne 6, 3) := dk_160 0 6 (dk_at dksX0_call_1 8 rfl rfl)
theorem dX0_call_34 : decode cX0_call 34 = .ok (.bipush (-4), 2) := dk_16 252 (dk_at dksX0_call_1 11 rfl rfl)
theorem dX0_call_36 : decode cX0_call 36 = .ok (.ireturn, 1) := dk_172 (dk_at dksX0_call_1 13 rfl rfl)
theorem dX0_call_37 : decode cX0_call 37 = .ok (.aload_n 0, 1) := dk_42 (dk_at dksX0_call_1 14 rfl rfl)
theorem dX0_call_38 : decode cX0_call 38 = .ok (.getfield 34, 3) := dk_180 0 34 (dk_at dksX0_call_1 15 rfl rfl)
theorem dX0_call_41 : decode cX0_call 41 = .ok (.iconst 2, 1) := dk_5 (dk_at dksX0_call_1 18 rfl rfl)
theorem dX0_call_42 : decode cX0_call 42 = .ok (.newarray .int, 2) := dk_188_10 (dk_at dksX0_call_1 19 rfl rfl)
theorem dX0_call_44 : decode cX0_call 44 = .ok (.dup, 1) := dk_89 (dk_at dksX0_call_1 21 rfl rfl)
theorem dX0_call_45 : decode cX0_call 45 = .ok (.iconst 0, 1) := dk_3 (dk_at dksX0_call_1 22 rfl rfl)
theorem dX0_call_46 : decode cX0_call 46 = .ok (.iload_n 1, 1) := dk_27 (dk_at dksX0_call_1 23 rfl rfl)
theorem dX0_call_47 : decode cX0_call 47 = .ok (.iastore, 1) := dk_79 (dk_at dksX0_call_2 0 rfl rfl)
theorem dX0_call_48 : decode cX0_call 48 = .ok (.dup, 1) := dk_89 (dk_at dksX0_call_2 1 rfl rfl)
theorem dX0_call_49 : decode cX0_call 49 = .ok (.iconst 1, 1) := dk_4 (dk_at dksX0_call_2 2 rfl rfl)
theorem dX0_call_50 : decode cX0_call 50 = .ok (.iload_n 2, 1) := dk_28 (dk_at dksX0_call_2 3 rfl rfl)
theorem dX0_call_51 : decode cX0_call 51 = .ok (.iastore, 1) := dk_79 (dk_at dksX0_call_2 4 rfl rfl)
theorem dX0_call_52 : decode cX0_call 52 = .ok (.invokevirtual 173, 3) := dk_182 0 173 (dk_at dksX0_call_2 5 rfl rfl)
theorem dX0_call_55 : decode cX0_call 55 = .ok (.pop, 1) := dk_87 (dk_at dksX0_call_2 8 rfl rfl)
theorem dX0_call_56 : decode cX0_call 56 = .ok (.aload_n 0, 1) := dk_42 (dk_at dksX0_call_2 9 rfl rfl)
theorem dX0_call_57 : decode cX0_call 57 = .ok (.getfield 34, 3) := dk_180 0 34 (dk_at dksX0_call_2 10 rfl rfl)
theorem dX0_call_60 : decode cX0_call 60 = .ok (.invokevirtual 170, 3) := dk_182 0 170 (dk_at dksX0_call_2 13 rfl rfl)
theorem dX0_call_63 : decode cX0_call 63 = .ok (.ireturn, 1) := dk_172 (dk_at dksX0_call_2 16 rfl rfl)
abbrev cX0_isDay : ByteArray := prog_1_method_8_code
def yX0_isDay : MethodName := ⟨RX0, "isDay", "(I)Z"⟩
def dkwX0_isDay_0 : List UInt8 := [26, 133, 9, 20, 0, 107, 184, 0, 103, 172]
abbrev dktX0_isDay_0 : List UInt8 := dkwX0_isDay_0 ++ []
theorem dksX0_isDay_0 : cX0_isDay.data.toList.drop 0 = dktX0_isDay_0 := by decide +kernel
theorem dX0_isDay_0 : decode cX0_isDay 0 = .ok (.iload_n 0, 1) := dk_26 (dk_at dksX0_isDay_0 0 rfl rfl)
theorem dX0_isDay_1 : decode cX0_isDay 1 = .ok (.i2l, 1) := dk_133 (dk_at dksX0_isDay_0 1 rfl rfl)
theorem dX0_isDay_2 : decode cX0_isDay 2 = .ok (.lconst 0, 1) := dk_9 (dk_at dksX0_isDay_0 2 rfl rfl)
theorem dX0_isDay_3 : decode cX0_isDay 3 = .ok (.ldc2_w 107, 3) := dk_20 0 107 (dk_at dksX0_isDay_0 3 rfl rfl)
theorem dX0_isDay_6 : decode cX0_isDay 6 = .ok (.invokestatic 103, 3) := dk_184 0 103 (dk_at dksX0_isDay_0 6 rfl rfl)
theorem dX0_isDay_9 : decode cX0_isDay 9 = .ok (.ireturn, 1) := dk_172 (dk_at dksX0_isDay_0 9 rfl rfl)
abbrev cX0_war : ByteArray := prog_1_method_20_code
def yX0_war : MethodName := ⟨RX0, "war", "(I)I"⟩
def dkwX0_war_1 : List UInt8 := [172, 42, 180, 0, 38, 4, 188, 10, 89, 3, 27, 79, 182, 0, 173, 87, 42, 180, 0, 38, 182, 0, 170, 172]
abbrev dktX0_war_1 : List UInt8 := dkwX0_war_1 ++ []
def dkwX0_war_0 : List UInt8 := [27, 184, 0, 165, 154, 0, 6, 16, 254, 172, 42, 180, 0, 38, 182, 0, 170, 16, 6, 160, 0, 6, 16, 252]
abbrev dktX0_war_0 : List UInt8 := dkwX0_war_0 ++ dktX0_war_1
theorem dksX0_war_0 : cX0_war.data.toList.drop 0 = dktX0_war_0 := by decide +kernel
theorem dksX0_war_1 : cX0_war.data.toList.drop 24 = dktX0_war_1 := dk_seg dksX0_war_0 24 rfl rfl
theorem dX0_war_0 : decode cX0_war 0 = .ok (.iload_n 1, 1) := dk_27 (dk_at dksX0_war_0 0 rfl rfl)
theorem dX0_war_1 : decode cX0_war 1 = .ok (.invokestatic 165, 3) := dk_184 0 165 (dk_at dksX0_war_0 1 rfl rfl)
theorem dX0_war_4 : decode cX0_war 4 = .ok (.ifCond .ne 6, 3) := dk_154 0 6 (dk_at dksX0_war_0 4 rfl rfl)
theorem dX0_war_7 : decode cX0_war 7 = .ok (.bipush (-2), 2) := dk_16 254 (dk_at dksX0_war_0 7 rfl rfl)
theorem dX0_war_9 : decode cX0_war 9 = .ok (.ireturn, 1) := dk_172 (dk_at dksX0_war_0 9 rfl rfl)
theorem dX0_war_10 : decode cX0_war 10 = .ok (.aload_n 0, 1) := dk_42 (dk_at dksX0_war_0 10 rfl rfl)
theorem dX0_war_11 : decode cX0_war 11 = .ok (.getfield 38, 3) := dk_180 0 38 (dk_at dksX0_war_0 11 rfl rfl)
theorem dX0_war_14 : decode cX0_war 14 = .ok (.invokevirtual 170, 3) := dk_182 0 170 (dk_at dksX0_war_0 14 rfl rfl)
theorem dX0_war_17 : decode cX0_war 17 = .ok (.bipush 6, 2) := dk_16 6 (dk_at dksX0_war_0 17 rfl rfl)
theorem dX0_war_19 : decode cX0_war 19 = .ok (.if_icmp .ne 6, 3) := dk_160 0 6 (dk_at dksX0_war_0 19 rfl rfl)
theorem dX0_war_22 : decode cX0_war 22 = .ok (.bipush (-4), 2) := dk_16 252 (dk_at dksX0_war_0 22 rfl rfl)
theorem dX0_war_24 : decode cX0_war 24 = .ok (.ireturn, 1) := dk_172 (dk_at dksX0_war_1 0 rfl rfl)
theorem dX0_war_25 : decode cX0_war 25 = .ok (.aload_n 0, 1) := dk_42 (dk_at dksX0_war_1 1 rfl rfl)
theorem dX0_war_26 : decode cX0_war 26 = .ok (.getfield 38, 3) := dk_180 0 38 (dk_at dksX0_war_1 2 rfl rfl)
theorem dX0_war_29 : decode cX0_war 29 = .ok (.iconst 1, 1) := dk_4 (dk_at dksX0_war_1 5 rfl rfl)
theorem dX0_war_30 : decode cX0_war 30 = .ok (.newarray .int, 2) := dk_188_10 (dk_at dksX0_war_1 6 rfl rfl)
theorem dX0_war_32 : decode cX0_war 32 = .ok (.dup, 1) := dk_89 (dk_at dksX0_war_1 8 rfl rfl)
theorem dX0_war_33 : decode cX0_war 33 = .ok (.iconst 0, 1) := dk_3 (dk_at dksX0_war_1 9 rfl rfl)
theorem dX0_war_34 : decode cX0_war 34 = .ok (.iload_n 1, 1) := dk_27 (dk_at dksX0_war_1 10 rfl rfl)
theorem dX0_war_35 : decode cX0_war 35 = .ok (.iastore, 1) := dk_79 (dk_at dksX0_war_1 11 rfl rfl)
theorem dX0_war_36 : decode cX0_war 36 = .ok (.invokevirtual 173, 3) := dk_182 0 173 (dk_at dksX0_war_1 12 rfl rfl)
theorem dX0_war_39 : decode cX0_war 39 = .ok (.pop, 1) := dk_87 (dk_at dksX0_war_1 15 rfl rfl)
theorem dX0_war_40 : decode cX0_war 40 = .ok (.aload_n 0, 1) := dk_42 (dk_at dksX0_war_1 16 rfl rfl)
theorem dX0_war_41 : decode cX0_war 41 = .ok (.getfield 38, 3) := dk_180 0 38 (dk_at dksX0_war_1 17 rfl rfl)
theorem dX0_war_44 : decode cX0_war 44 = .ok (.invokevirtual 170, 3) := dk_182 0 170 (dk_at dksX0_war_1 20 rfl rfl)
theorem dX0_war_47 : decode cX0_war 47 = .ok (.ireturn, 1) := dk_172 (dk_at dksX0_war_1 23 rfl rfl)
abbrev cX0_back : ByteArray := prog_1_method_21_code
def yX0_back : MethodName := ⟨RX0, "back", "(I)I"⟩
def dkwX0_back_2 : List UInt8 := [87, 44, 182, 0, 170, 172]
abbrev dktX0_back_2 : List UInt8 := dkwX0_back_2 ++ []
def dkwX0_back_1 : List UInt8 := [180, 0, 38, 77, 44, 182, 0, 177, 153, 0, 6, 16, 253, 172, 44, 44, 182, 0, 170, 4, 100, 182, 0, 181]
abbrev dktX0_back_1 : List UInt8 := dkwX0_back_1 ++ dktX0_back_2
def dkwX0_back_0 : List UInt8 := [27, 184, 0, 109, 154, 0, 6, 16, 254, 172, 27, 154, 0, 10, 42, 180, 0, 34, 167, 0, 7, 42]
abbrev dktX0_back_0 : List UInt8 := dkwX0_back_0 ++ dktX0_back_1
theorem dksX0_back_0 : cX0_back.data.toList.drop 0 = dktX0_back_0 := by decide +kernel
theorem dksX0_back_1 : cX0_back.data.toList.drop 22 = dktX0_back_1 := dk_seg dksX0_back_0 22 rfl rfl
theorem dksX0_back_2 : cX0_back.data.toList.drop 46 = dktX0_back_2 := dk_seg dksX0_back_1 24 rfl rfl
theorem dX0_back_0 : decode cX0_back 0 = .ok (.iload_n 1, 1) := dk_27 (dk_at dksX0_back_0 0 rfl rfl)
theorem dX0_back_1 : decode cX0_back 1 = .ok (.invokestatic 109, 3) := dk_184 0 109 (dk_at dksX0_back_0 1 rfl rfl)
theorem dX0_back_4 : decode cX0_back 4 = .ok (.ifCond .ne 6, 3) := dk_154 0 6 (dk_at dksX0_back_0 4 rfl rfl)
theorem dX0_back_7 : decode cX0_back 7 = .ok (.bipush (-2), 2) := dk_16 254 (dk_at dksX0_back_0 7 rfl rfl)
theorem dX0_back_9 : decode cX0_back 9 = .ok (.ireturn, 1) := dk_172 (dk_at dksX0_back_0 9 rfl rfl)
theorem dX0_back_10 : decode cX0_back 10 = .ok (.iload_n 1, 1) := dk_27 (dk_at dksX0_back_0 10 rfl rfl)
theorem dX0_back_11 : decode cX0_back 11 = .ok (.ifCond .ne 10, 3) := dk_154 0 10 (dk_at dksX0_back_0 11 rfl rfl)
theorem dX0_back_14 : decode cX0_back 14 = .ok (.aload_n 0, 1) := dk_42 (dk_at dksX0_back_0 14 rfl rfl)
theorem dX0_back_15 : decode cX0_back 15 = .ok (.getfield 34, 3) := dk_180 0 34 (dk_at dksX0_back_0 15 rfl rfl)
theorem dX0_back_18 : decode cX0_back 18 = .ok (.goto 7, 3) := dk_167 0 7 (dk_at dksX0_back_0 18 rfl rfl)
theorem dX0_back_21 : decode cX0_back 21 = .ok (.aload_n 0, 1) := dk_42 (dk_at dksX0_back_0 21 rfl rfl)
theorem dX0_back_22 : decode cX0_back 22 = .ok (.getfield 38, 3) := dk_180 0 38 (dk_at dksX0_back_1 0 rfl rfl)
theorem dX0_back_25 : decode cX0_back 25 = .ok (.astore_n 2, 1) := dk_77 (dk_at dksX0_back_1 3 rfl rfl)
theorem dX0_back_26 : decode cX0_back 26 = .ok (.aload_n 2, 1) := dk_44 (dk_at dksX0_back_1 4 rfl rfl)
theorem dX0_back_27 : decode cX0_back 27 = .ok (.invokevirtual 177, 3) := dk_182 0 177 (dk_at dksX0_back_1 5 rfl rfl)
theorem dX0_back_30 : decode cX0_back 30 = .ok (.ifCond .eq 6, 3) := dk_153 0 6 (dk_at dksX0_back_1 8 rfl rfl)
theorem dX0_back_33 : decode cX0_back 33 = .ok (.bipush (-3), 2) := dk_16 253 (dk_at dksX0_back_1 11 rfl rfl)
theorem dX0_back_35 : decode cX0_back 35 = .ok (.ireturn, 1) := dk_172 (dk_at dksX0_back_1 13 rfl rfl)
theorem dX0_back_36 : decode cX0_back 36 = .ok (.aload_n 2, 1) := dk_44 (dk_at dksX0_back_1 14 rfl rfl)
theorem dX0_back_37 : decode cX0_back 37 = .ok (.aload_n 2, 1) := dk_44 (dk_at dksX0_back_1 15 rfl rfl)
theorem dX0_back_38 : decode cX0_back 38 = .ok (.invokevirtual 170, 3) := dk_182 0 170 (dk_at dksX0_back_1 16 rfl rfl)
theorem dX0_back_41 : decode cX0_back 41 = .ok (.iconst 1, 1) := dk_4 (dk_at dksX0_back_1 19 rfl rfl)
theorem dX0_back_42 : decode cX0_back 42 = .ok (.isub, 1) := dk_100 (dk_at dksX0_back_1 20 rfl rfl)
theorem dX0_back_43 : decode cX0_back 43 = .ok (.invokevirtual 181, 3) := dk_182 0 181 (dk_at dksX0_back_1 21 rfl rfl)
theorem dX0_back_46 : decode cX0_back 46 = .ok (.pop, 1) := dk_87 (dk_at dksX0_back_2 0 rfl rfl)
theorem dX0_back_47 : decode cX0_back 47 = .ok (.aload_n 2, 1) := dk_44 (dk_at dksX0_back_2 1 rfl rfl)
theorem dX0_back_48 : decode cX0_back 48 = .ok (.invokevirtual 170, 3) := dk_182 0 170 (dk_at dksX0_back_2 2 rfl rfl)
theorem dX0_back_51 : decode cX0_back 51 = .ok (.ireturn, 1) := dk_172 (dk_at dksX0_back_2 5 rfl rfl)
abbrev cX0_read : ByteArray := prog_1_method_22_code
def yX0_read : MethodName := ⟨RX0, "read", "(I)I"⟩
def dkwX0_read_3 : List UInt8 := [182, 0, 201, 155, 0, 9, 132, 3, 1, 167, 255, 210, 29, 172]
abbrev dktX0_read_3 : List UInt8 := dkwX0_read_3 ++ []
def dkwX0_read_2 : List UInt8 := [182, 0, 195, 5, 29, 104, 182, 0, 197, 44, 44, 182, 0, 195, 5, 29, 104, 4, 96, 182, 0, 197]
abbrev dktX0_read_2 : List UInt8 := dkwX0_read_2 ++ dktX0_read_3
def dkwX0_read_1 : List UInt8 := [42, 4, 182, 0, 191, 172, 3, 62, 5, 29, 104, 5, 96, 44, 182, 0, 194, 163, 0, 40, 42, 44, 44]
abbrev dktX0_read_1 : List UInt8 := dkwX0_read_1 ++ dktX0_read_2
def dkwX0_read_0 : List UInt8 := [27, 184, 0, 184, 154, 0, 6, 16, 254, 172, 42, 180, 0, 93, 27, 50, 77, 44, 180, 0, 187, 199, 0, 9]
abbrev dktX0_read_0 : List UInt8 := dkwX0_read_0 ++ dktX0_read_1
theorem dksX0_read_0 : cX0_read.data.toList.drop 0 = dktX0_read_0 := by decide +kernel
theorem dksX0_read_1 : cX0_read.data.toList.drop 24 = dktX0_read_1 := dk_seg dksX0_read_0 24 rfl rfl
theorem dksX0_read_2 : cX0_read.data.toList.drop 47 = dktX0_read_2 := dk_seg dksX0_read_1 23 rfl rfl
theorem dksX0_read_3 : cX0_read.data.toList.drop 69 = dktX0_read_3 := dk_seg dksX0_read_2 22 rfl rfl
theorem dX0_read_0 : decode cX0_read 0 = .ok (.iload_n 1, 1) := dk_27 (dk_at dksX0_read_0 0 rfl rfl)
theorem dX0_read_1 : decode cX0_read 1 = .ok (.invokestatic 184, 3) := dk_184 0 184 (dk_at dksX0_read_0 1 rfl rfl)
theorem dX0_read_4 : decode cX0_read 4 = .ok (.ifCond .ne 6, 3) := dk_154 0 6 (dk_at dksX0_read_0 4 rfl rfl)
theorem dX0_read_7 : decode cX0_read 7 = .ok (.bipush (-2), 2) := dk_16 254 (dk_at dksX0_read_0 7 rfl rfl)
theorem dX0_read_9 : decode cX0_read 9 = .ok (.ireturn, 1) := dk_172 (dk_at dksX0_read_0 9 rfl rfl)
theorem dX0_read_10 : decode cX0_read 10 = .ok (.aload_n 0, 1) := dk_42 (dk_at dksX0_read_0 10 rfl rfl)
theorem dX0_read_11 : decode cX0_read 11 = .ok (.getfield 93, 3) := dk_180 0 93 (dk_at dksX0_read_0 11 rfl rfl)
theorem dX0_read_14 : decode cX0_read 14 = .ok (.iload_n 1, 1) := dk_27 (dk_at dksX0_read_0 14 rfl rfl)
theorem dX0_read_15 : decode cX0_read 15 = .ok (.aaload, 1) := dk_50 (dk_at dksX0_read_0 15 rfl rfl)
theorem dX0_read_16 : decode cX0_read 16 = .ok (.astore_n 2, 1) := dk_77 (dk_at dksX0_read_0 16 rfl rfl)
theorem dX0_read_17 : decode cX0_read 17 = .ok (.aload_n 2, 1) := dk_44 (dk_at dksX0_read_0 17 rfl rfl)
theorem dX0_read_18 : decode cX0_read 18 = .ok (.getfield 187, 3) := dk_180 0 187 (dk_at dksX0_read_0 18 rfl rfl)
theorem dX0_read_21 : decode cX0_read 21 = .ok (.ifnonnull 9, 3) := dk_199 0 9 (dk_at dksX0_read_0 21 rfl rfl)
theorem dX0_read_24 : decode cX0_read 24 = .ok (.aload_n 0, 1) := dk_42 (dk_at dksX0_read_1 0 rfl rfl)
theorem dX0_read_25 : decode cX0_read 25 = .ok (.iconst 1, 1) := dk_4 (dk_at dksX0_read_1 1 rfl rfl)
theorem dX0_read_26 : decode cX0_read 26 = .ok (.invokevirtual 191, 3) := dk_182 0 191 (dk_at dksX0_read_1 2 rfl rfl)
theorem dX0_read_29 : decode cX0_read 29 = .ok (.ireturn, 1) := dk_172 (dk_at dksX0_read_1 5 rfl rfl)
theorem dX0_read_30 : decode cX0_read 30 = .ok (.iconst 0, 1) := dk_3 (dk_at dksX0_read_1 6 rfl rfl)
theorem dX0_read_31 : decode cX0_read 31 = .ok (.istore_n 3, 1) := dk_62 (dk_at dksX0_read_1 7 rfl rfl)
theorem dX0_read_32 : decode cX0_read 32 = .ok (.iconst 2, 1) := dk_5 (dk_at dksX0_read_1 8 rfl rfl)
theorem dX0_read_33 : decode cX0_read 33 = .ok (.iload_n 3, 1) := dk_29 (dk_at dksX0_read_1 9 rfl rfl)
theorem dX0_read_34 : decode cX0_read 34 = .ok (.imul, 1) := dk_104 (dk_at dksX0_read_1 10 rfl rfl)
theorem dX0_read_35 : decode cX0_read 35 = .ok (.iconst 2, 1) := dk_5 (dk_at dksX0_read_1 11 rfl rfl)
theorem dX0_read_36 : decode cX0_read 36 = .ok (.iadd, 1) := dk_96 (dk_at dksX0_read_1 12 rfl rfl)
theorem dX0_read_37 : decode cX0_read 37 = .ok (.aload_n 2, 1) := dk_44 (dk_at dksX0_read_1 13 rfl rfl)
theorem dX0_read_38 : decode cX0_read 38 = .ok (.invokevirtual 194, 3) := dk_182 0 194 (dk_at dksX0_read_1 14 rfl rfl)
theorem dX0_read_41 : decode cX0_read 41 = .ok (.if_icmp .gt 40, 3) := dk_163 0 40 (dk_at dksX0_read_1 17 rfl rfl)
theorem dX0_read_44 : decode cX0_read 44 = .ok (.aload_n 0, 1) := dk_42 (dk_at dksX0_read_1 20 rfl rfl)
theorem dX0_read_45 : decode cX0_read 45 = .ok (.aload_n 2, 1) := dk_44 (dk_at dksX0_read_1 21 rfl rfl)
theorem dX0_read_46 : decode cX0_read 46 = .ok (.aload_n 2, 1) := dk_44 (dk_at dksX0_read_1 22 rfl rfl)
theorem dX0_read_47 : decode cX0_read 47 = .ok (.invokevirtual 195, 3) := dk_182 0 195 (dk_at dksX0_read_2 0 rfl rfl)
theorem dX0_read_50 : decode cX0_read 50 = .ok (.iconst 2, 1) := dk_5 (dk_at dksX0_read_2 3 rfl rfl)
theorem dX0_read_51 : decode cX0_read 51 = .ok (.iload_n 3, 1) := dk_29 (dk_at dksX0_read_2 4 rfl rfl)
theorem dX0_read_52 : decode cX0_read 52 = .ok (.imul, 1) := dk_104 (dk_at dksX0_read_2 5 rfl rfl)
theorem dX0_read_53 : decode cX0_read 53 = .ok (.invokevirtual 197, 3) := dk_182 0 197 (dk_at dksX0_read_2 6 rfl rfl)
theorem dX0_read_56 : decode cX0_read 56 = .ok (.aload_n 2, 1) := dk_44 (dk_at dksX0_read_2 9 rfl rfl)
theorem dX0_read_57 : decode cX0_read 57 = .ok (.aload_n 2, 1) := dk_44 (dk_at dksX0_read_2 10 rfl rfl)
theorem dX0_read_58 : decode cX0_read 58 = .ok (.invokevirtual 195, 3) := dk_182 0 195 (dk_at dksX0_read_2 11 rfl rfl)
theorem dX0_read_61 : decode cX0_read 61 = .ok (.iconst 2, 1) := dk_5 (dk_at dksX0_read_2 14 rfl rfl)
theorem dX0_read_62 : decode cX0_read 62 = .ok (.iload_n 3, 1) := dk_29 (dk_at dksX0_read_2 15 rfl rfl)
theorem dX0_read_63 : decode cX0_read 63 = .ok (.imul, 1) := dk_104 (dk_at dksX0_read_2 16 rfl rfl)
theorem dX0_read_64 : decode cX0_read 64 = .ok (.iconst 1, 1) := dk_4 (dk_at dksX0_read_2 17 rfl rfl)
theorem dX0_read_65 : decode cX0_read 65 = .ok (.iadd, 1) := dk_96 (dk_at dksX0_read_2 18 rfl rfl)
theorem dX0_read_66 : decode cX0_read 66 = .ok (.invokevirtual 197, 3) := dk_182 0 197 (dk_at dksX0_read_2 19 rfl rfl)
theorem dX0_read_69 : decode cX0_read 69 = .ok (.invokevirtual 201, 3) := dk_182 0 201 (dk_at dksX0_read_3 0 rfl rfl)
theorem dX0_read_72 : decode cX0_read 72 = .ok (.ifCond .lt 9, 3) := dk_155 0 9 (dk_at dksX0_read_3 3 rfl rfl)
theorem dX0_read_75 : decode cX0_read 75 = .ok (.iinc 3 1, 3) := dk_132 3 1 (dk_at dksX0_read_3 6 rfl rfl)
theorem dX0_read_78 : decode cX0_read 78 = .ok (.goto (-46), 3) := dk_167 255 210 (dk_at dksX0_read_3 9 rfl rfl)
theorem dX0_read_81 : decode cX0_read 81 = .ok (.iload_n 3, 1) := dk_29 (dk_at dksX0_read_3 12 rfl rfl)
theorem dX0_read_82 : decode cX0_read 82 = .ok (.ireturn, 1) := dk_172 (dk_at dksX0_read_3 13 rfl rfl)
abbrev cX0_isSheet : ByteArray := prog_1_method_68_code
def yX0_isSheet : MethodName := ⟨RX0, "isSheet", "(I)Z"⟩
def dkwX0_isSheet_0 : List UInt8 := [26, 133, 9, 20, 1, 105, 184, 0, 103, 172]
abbrev dktX0_isSheet_0 : List UInt8 := dkwX0_isSheet_0 ++ []
theorem dksX0_isSheet_0 : cX0_isSheet.data.toList.drop 0 = dktX0_isSheet_0 := by decide +kernel
theorem dX0_isSheet_0 : decode cX0_isSheet 0 = .ok (.iload_n 0, 1) := dk_26 (dk_at dksX0_isSheet_0 0 rfl rfl)
theorem dX0_isSheet_1 : decode cX0_isSheet 1 = .ok (.i2l, 1) := dk_133 (dk_at dksX0_isSheet_0 1 rfl rfl)
theorem dX0_isSheet_2 : decode cX0_isSheet 2 = .ok (.lconst 0, 1) := dk_9 (dk_at dksX0_isSheet_0 2 rfl rfl)
theorem dX0_isSheet_3 : decode cX0_isSheet 3 = .ok (.ldc2_w 361, 3) := dk_20 1 105 (dk_at dksX0_isSheet_0 3 rfl rfl)
theorem dX0_isSheet_6 : decode cX0_isSheet 6 = .ok (.invokestatic 103, 3) := dk_184 0 103 (dk_at dksX0_isSheet_0 6 rfl rfl)
theorem dX0_isSheet_9 : decode cX0_isSheet 9 = .ok (.ireturn, 1) := dk_172 (dk_at dksX0_isSheet_0 9 rfl rfl)
abbrev cX0_met : ByteArray := prog_1_method_4_code
def yX0_met : MethodName := ⟨RX0, "met", "(I)I"⟩
def dkwX0_met_0 : List UInt8 := [42, 27, 181, 0, 99, 16, 246, 27, 100, 172]
abbrev dktX0_met_0 : List UInt8 := dkwX0_met_0 ++ []
theorem dksX0_met_0 : cX0_met.data.toList.drop 0 = dktX0_met_0 := by decide +kernel
theorem dX0_met_0 : decode cX0_met 0 = .ok (.aload_n 0, 1) := dk_42 (dk_at dksX0_met_0 0 rfl rfl)
theorem dX0_met_1 : decode cX0_met 1 = .ok (.iload_n 1, 1) := dk_27 (dk_at dksX0_met_0 1 rfl rfl)
theorem dX0_met_2 : decode cX0_met 2 = .ok (.putfield 99, 3) := dk_181 0 99 (dk_at dksX0_met_0 2 rfl rfl)
theorem dX0_met_5 : decode cX0_met 5 = .ok (.bipush (-10), 2) := dk_16 246 (dk_at dksX0_met_0 5 rfl rfl)
theorem dX0_met_7 : decode cX0_met 7 = .ok (.iload_n 1, 1) := dk_27 (dk_at dksX0_met_0 7 rfl rfl)
theorem dX0_met_8 : decode cX0_met 8 = .ok (.isub, 1) := dk_100 (dk_at dksX0_met_0 8 rfl rfl)
theorem dX0_met_9 : decode cX0_met 9 = .ok (.ireturn, 1) := dk_172 (dk_at dksX0_met_0 9 rfl rfl)
abbrev cX0_owed : ByteArray := prog_1_method_30_code
def yX0_owed : MethodName := ⟨RX0, "owed", "(II)I"⟩
def dkwX0_owed_2 : List UInt8 := [28, 46, 172]
abbrev dktX0_owed_2 : List UInt8 := dkwX0_owed_2 ++ []
def dkwX0_owed_1 : List UInt8 := [16, 254, 167, 0, 24, 28, 2, 160, 0, 11, 42, 27, 182, 1, 17, 167, 0, 11, 42, 180, 0, 43, 27, 50]
abbrev dktX0_owed_1 : List UInt8 := dkwX0_owed_1 ++ dktX0_owed_2
def dkwX0_owed_0 : List UInt8 := [42, 182, 1, 20, 27, 184, 0, 165, 153, 0, 16, 28, 2, 159, 0, 16, 42, 28, 182, 0, 139, 154, 0, 8]
abbrev dktX0_owed_0 : List UInt8 := dkwX0_owed_0 ++ dktX0_owed_1
theorem dksX0_owed_0 : cX0_owed.data.toList.drop 0 = dktX0_owed_0 := by decide +kernel
theorem dksX0_owed_1 : cX0_owed.data.toList.drop 24 = dktX0_owed_1 := dk_seg dksX0_owed_0 24 rfl rfl
theorem dksX0_owed_2 : cX0_owed.data.toList.drop 48 = dktX0_owed_2 := dk_seg dksX0_owed_1 24 rfl rfl
theorem dX0_owed_0 : decode cX0_owed 0 = .ok (.aload_n 0, 1) := dk_42 (dk_at dksX0_owed_0 0 rfl rfl)
theorem dX0_owed_1 : decode cX0_owed 1 = .ok (.invokevirtual 276, 3) := dk_182 1 20 (dk_at dksX0_owed_0 1 rfl rfl)
theorem dX0_owed_4 : decode cX0_owed 4 = .ok (.iload_n 1, 1) := dk_27 (dk_at dksX0_owed_0 4 rfl rfl)
theorem dX0_owed_5 : decode cX0_owed 5 = .ok (.invokestatic 165, 3) := dk_184 0 165 (dk_at dksX0_owed_0 5 rfl rfl)
theorem dX0_owed_8 : decode cX0_owed 8 = .ok (.ifCond .eq 16, 3) := dk_153 0 16 (dk_at dksX0_owed_0 8 rfl rfl)
theorem dX0_owed_11 : decode cX0_owed 11 = .ok (.iload_n 2, 1) := dk_28 (dk_at dksX0_owed_0 11 rfl rfl)
theorem dX0_owed_12 : decode cX0_owed 12 = .ok (.iconst (-1), 1) := dk_2 (dk_at dksX0_owed_0 12 rfl rfl)
theorem dX0_owed_13 : decode cX0_owed 13 = .ok (.if_icmp .eq 16, 3) := dk_159 0 16 (dk_at dksX0_owed_0 13 rfl rfl)
theorem dX0_owed_16 : decode cX0_owed 16 = .ok (.aload_n 0, 1) := dk_42 (dk_at dksX0_owed_0 16 rfl rfl)
theorem dX0_owed_17 : decode cX0_owed 17 = .ok (.iload_n 2, 1) := dk_28 (dk_at dksX0_owed_0 17 rfl rfl)
theorem dX0_owed_18 : decode cX0_owed 18 = .ok (.invokevirtual 139, 3) := dk_182 0 139 (dk_at dksX0_owed_0 18 rfl rfl)
theorem dX0_owed_21 : decode cX0_owed 21 = .ok (.ifCond .ne 8, 3) := dk_154 0 8 (dk_at dksX0_owed_0 21 rfl rfl)
theorem dX0_owed_24 : decode cX0_owed 24 = .ok (.bipush (-2), 2) := dk_16 254 (dk_at dksX0_owed_1 0 rfl rfl)
theorem dX0_owed_26 : decode cX0_owed 26 = .ok (.goto 24, 3) := dk_167 0 24 (dk_at dksX0_owed_1 2 rfl rfl)
theorem dX0_owed_29 : decode cX0_owed 29 = .ok (.iload_n 2, 1) := dk_28 (dk_at dksX0_owed_1 5 rfl rfl)
theorem dX0_owed_30 : decode cX0_owed 30 = .ok (.iconst (-1), 1) := dk_2 (dk_at dksX0_owed_1 6 rfl rfl)
theorem dX0_owed_31 : decode cX0_owed 31 = .ok (.if_icmp .ne 11, 3) := dk_160 0 11 (dk_at dksX0_owed_1 7 rfl rfl)
theorem dX0_owed_34 : decode cX0_owed 34 = .ok (.aload_n 0, 1) := dk_42 (dk_at dksX0_owed_1 10 rfl rfl)
theorem dX0_owed_35 : decode cX0_owed 35 = .ok (.iload_n 1, 1) := dk_27 (dk_at dksX0_owed_1 11 rfl rfl)
theorem dX0_owed_36 : decode cX0_owed 36 = .ok (.invokevirtual 273, 3) := dk_182 1 17 (dk_at dksX0_owed_1 12 rfl rfl)
theorem dX0_owed_39 : decode cX0_owed 39 = .ok (.goto 11, 3) := dk_167 0 11 (dk_at dksX0_owed_1 15 rfl rfl)
theorem dX0_owed_42 : decode cX0_owed 42 = .ok (.aload_n 0, 1) := dk_42 (dk_at dksX0_owed_1 18 rfl rfl)
theorem dX0_owed_43 : decode cX0_owed 43 = .ok (.getfield 43, 3) := dk_180 0 43 (dk_at dksX0_owed_1 19 rfl rfl)
theorem dX0_owed_46 : decode cX0_owed 46 = .ok (.iload_n 1, 1) := dk_27 (dk_at dksX0_owed_1 22 rfl rfl)
theorem dX0_owed_47 : decode cX0_owed 47 = .ok (.aaload, 1) := dk_50 (dk_at dksX0_owed_1 23 rfl rfl)
theorem dX0_owed_48 : decode cX0_owed 48 = .ok (.iload_n 2, 1) := dk_28 (dk_at dksX0_owed_2 0 rfl rfl)
theorem dX0_owed_49 : decode cX0_owed 49 = .ok (.iaload, 1) := dk_46 (dk_at dksX0_owed_2 1 rfl rfl)
theorem dX0_owed_50 : decode cX0_owed 50 = .ok (.ireturn, 1) := dk_172 (dk_at dksX0_owed_2 2 rfl rfl)
abbrev cX0_find : ByteArray := prog_1_method_29_code
def yX0_find : MethodName := ⟨RX0, "find", "()V"⟩
def dkwX0_find_10 : List UInt8 := [4, 46, 164, 0, 10, 42, 27, 4, 96, 181, 0, 252, 132, 1, 1, 167, 255, 45, 177]
abbrev dktX0_find_10 : List UInt8 := dkwX0_find_10 ++ []
def dkwX0_find_9 : List UInt8 := [180, 0, 252, 2, 160, 0, 32, 27, 4, 96, 16, 20, 162, 0, 24, 42, 27, 182, 1, 17, 42, 180, 0, 27]
abbrev dktX0_find_9 : List UInt8 := dkwX0_find_9 ++ dktX0_find_10
def dkwX0_find_8 : List UInt8 := [167, 0, 4, 3, 182, 1, 10, 153, 0, 9, 42, 27, 28, 182, 1, 14, 132, 2, 1, 167, 255, 188, 42]
abbrev dktX0_find_8 : List UInt8 := dkwX0_find_8 ++ dktX0_find_9
def dkwX0_find_7 : List UInt8 := [192, 0, 151, 180, 0, 218, 42, 27, 28, 182, 1, 7, 154, 0, 11, 42, 180, 0, 252, 2, 159, 0, 7, 4]
abbrev dktX0_find_7 : List UInt8 := dkwX0_find_7 ++ dktX0_find_8
def dkwX0_find_6 : List UInt8 := [42, 180, 0, 14, 180, 0, 144, 182, 0, 170, 162, 0, 60, 42, 180, 0, 14, 180, 0, 144, 28, 182, 0, 147]
abbrev dktX0_find_6 : List UInt8 := dkwX0_find_6 ++ dktX0_find_7
def dkwX0_find_5 : List UInt8 := [180, 0, 144, 182, 0, 170, 162, 0, 15, 42, 27, 28, 182, 1, 5, 132, 2, 1, 167, 255, 233, 3, 61, 28]
abbrev dktX0_find_5 : List UInt8 := dkwX0_find_5 ++ dktX0_find_6
def dkwX0_find_4 : List UInt8 := [153, 0, 7, 5, 167, 0, 4, 4, 108, 79, 132, 2, 1, 167, 255, 197, 3, 61, 28, 42, 180, 0, 14]
abbrev dktX0_find_4 : List UInt8 := dkwX0_find_4 ++ dktX0_find_5
def dkwX0_find_3 : List UInt8 := [180, 0, 23, 180, 0, 159, 28, 182, 0, 147, 192, 0, 68, 180, 0, 255, 104, 42, 27, 182, 1, 2]
abbrev dktX0_find_3 : List UInt8 := dkwX0_find_3 ++ dktX0_find_4
def dkwX0_find_2 : List UInt8 := [42, 180, 0, 23, 180, 0, 159, 182, 0, 170, 162, 0, 51, 42, 180, 0, 52, 27, 50, 28, 16, 10, 42]
abbrev dktX0_find_2 : List UInt8 := dkwX0_find_2 ++ dktX0_find_3
def dkwX0_find_1 : List UInt8 := [180, 0, 55, 3, 2, 79, 42, 180, 0, 55, 4, 2, 79, 3, 60, 27, 16, 20, 162, 0, 211, 3, 61, 28]
abbrev dktX0_find_1 : List UInt8 := dkwX0_find_1 ++ dktX0_find_2
def dkwX0_find_0 : List UInt8 := [42, 180, 0, 14, 182, 0, 135, 87, 42, 180, 0, 23, 182, 0, 138, 87, 42, 2, 181, 0, 252, 42]
abbrev dktX0_find_0 : List UInt8 := dkwX0_find_0 ++ dktX0_find_1
theorem dksX0_find_0 : cX0_find.data.toList.drop 0 = dktX0_find_0 := by decide +kernel
theorem dksX0_find_1 : cX0_find.data.toList.drop 22 = dktX0_find_1 := dk_seg dksX0_find_0 22 rfl rfl
theorem dksX0_find_2 : cX0_find.data.toList.drop 46 = dktX0_find_2 := dk_seg dksX0_find_1 24 rfl rfl
theorem dksX0_find_3 : cX0_find.data.toList.drop 69 = dktX0_find_3 := dk_seg dksX0_find_2 23 rfl rfl
theorem dksX0_find_4 : cX0_find.data.toList.drop 91 = dktX0_find_4 := dk_seg dksX0_find_3 22 rfl rfl
theorem dksX0_find_5 : cX0_find.data.toList.drop 114 = dktX0_find_5 := dk_seg dksX0_find_4 23 rfl rfl
theorem dksX0_find_6 : cX0_find.data.toList.drop 138 = dktX0_find_6 := dk_seg dksX0_find_5 24 rfl rfl
theorem dksX0_find_7 : cX0_find.data.toList.drop 162 = dktX0_find_7 := dk_seg dksX0_find_6 24 rfl rfl
theorem dksX0_find_8 : cX0_find.data.toList.drop 186 = dktX0_find_8 := dk_seg dksX0_find_7 24 rfl rfl
theorem dksX0_find_9 : cX0_find.data.toList.drop 209 = dktX0_find_9 := dk_seg dksX0_find_8 23 rfl rfl
theorem dksX0_find_10 : cX0_find.data.toList.drop 233 = dktX0_find_10 := dk_seg dksX0_find_9 24 rfl rfl
theorem dX0_find_0 : decode cX0_find 0 = .ok (.aload_n 0, 1) := dk_42 (dk_at dksX0_find_0 0 rfl rfl)
theorem dX0_find_1 : decode cX0_find 1 = .ok (.getfield 14, 3) := dk_180 0 14 (dk_at dksX0_find_0 1 rfl rfl)
theorem dX0_find_4 : decode cX0_find 4 = .ok (.invokevirtual 135, 3) := dk_182 0 135 (dk_at dksX0_find_0 4 rfl rfl)
theorem dX0_find_7 : decode cX0_find 7 = .ok (.pop, 1) := dk_87 (dk_at dksX0_find_0 7 rfl rfl)
theorem dX0_find_8 : decode cX0_find 8 = .ok (.aload_n 0, 1) := dk_42 (dk_at dksX0_find_0 8 rfl rfl)
theorem dX0_find_9 : decode cX0_find 9 = .ok (.getfield 23, 3) := dk_180 0 23 (dk_at dksX0_find_0 9 rfl rfl)
theorem dX0_find_12 : decode cX0_find 12 = .ok (.invokevirtual 138, 3) := dk_182 0 138 (dk_at dksX0_find_0 12 rfl rfl)
theorem dX0_find_15 : decode cX0_find 15 = .ok (.pop, 1) := dk_87 (dk_at dksX0_find_0 15 rfl rfl)
theorem dX0_find_16 : decode cX0_find 16 = .ok (.aload_n 0, 1) := dk_42 (dk_at dksX0_find_0 16 rfl rfl)
theorem dX0_find_17 : decode cX0_find 17 = .ok (.iconst (-1), 1) := dk_2 (dk_at dksX0_find_0 17 rfl rfl)
theorem dX0_find_18 : decode cX0_find 18 = .ok (.putfield 252, 3) := dk_181 0 252 (dk_at dksX0_find_0 18 rfl rfl)
theorem dX0_find_21 : decode cX0_find 21 = .ok (.aload_n 0, 1) := dk_42 (dk_at dksX0_find_0 21 rfl rfl)
theorem dX0_find_22 : decode cX0_find 22 = .ok (.getfield 55, 3) := dk_180 0 55 (dk_at dksX0_find_1 0 rfl rfl)
theorem dX0_find_25 : decode cX0_find 25 = .ok (.iconst 0, 1) := dk_3 (dk_at dksX0_find_1 3 rfl rfl)
theorem dX0_find_26 : decode cX0_find 26 = .ok (.iconst (-1), 1) := dk_2 (dk_at dksX0_find_1 4 rfl rfl)
theorem dX0_find_27 : decode cX0_find 27 = .ok (.iastore, 1) := dk_79 (dk_at dksX0_find_1 5 rfl rfl)
theorem dX0_find_28 : decode cX0_find 28 = .ok (.aload_n 0, 1) := dk_42 (dk_at dksX0_find_1 6 rfl rfl)
theorem dX0_find_29 : decode cX0_find 29 = .ok (.getfield 55, 3) := dk_180 0 55 (dk_at dksX0_find_1 7 rfl rfl)
theorem dX0_find_32 : decode cX0_find 32 = .ok (.iconst 1, 1) := dk_4 (dk_at dksX0_find_1 10 rfl rfl)
theorem dX0_find_33 : decode cX0_find 33 = .ok (.iconst (-1), 1) := dk_2 (dk_at dksX0_find_1 11 rfl rfl)
theorem dX0_find_34 : decode cX0_find 34 = .ok (.iastore, 1) := dk_79 (dk_at dksX0_find_1 12 rfl rfl)
theorem dX0_find_35 : decode cX0_find 35 = .ok (.iconst 0, 1) := dk_3 (dk_at dksX0_find_1 13 rfl rfl)
theorem dX0_find_36 : decode cX0_find 36 = .ok (.istore_n 1, 1) := dk_60 (dk_at dksX0_find_1 14 rfl rfl)
theorem dX0_find_37 : decode cX0_find 37 = .ok (.iload_n 1, 1) := dk_27 (dk_at dksX0_find_1 15 rfl rfl)
theorem dX0_find_38 : decode cX0_find 38 = .ok (.bipush 20, 2) := dk_16 20 (dk_at dksX0_find_1 16 rfl rfl)
theorem dX0_find_40 : decode cX0_find 40 = .ok (.if_icmp .ge 211, 3) := dk_162 0 211 (dk_at dksX0_find_1 18 rfl rfl)
theorem dX0_find_43 : decode cX0_find 43 = .ok (.iconst 0, 1) := dk_3 (dk_at dksX0_find_1 21 rfl rfl)
theorem dX0_find_44 : decode cX0_find 44 = .ok (.istore_n 2, 1) := dk_61 (dk_at dksX0_find_1 22 rfl rfl)
theorem dX0_find_45 : decode cX0_find 45 = .ok (.iload_n 2, 1) := dk_28 (dk_at dksX0_find_1 23 rfl rfl)
theorem dX0_find_46 : decode cX0_find 46 = .ok (.aload_n 0, 1) := dk_42 (dk_at dksX0_find_2 0 rfl rfl)
theorem dX0_find_47 : decode cX0_find 47 = .ok (.getfield 23, 3) := dk_180 0 23 (dk_at dksX0_find_2 1 rfl rfl)
theorem dX0_find_50 : decode cX0_find 50 = .ok (.getfield 159, 3) := dk_180 0 159 (dk_at dksX0_find_2 4 rfl rfl)
theorem dX0_find_53 : decode cX0_find 53 = .ok (.invokevirtual 170, 3) := dk_182 0 170 (dk_at dksX0_find_2 7 rfl rfl)
theorem dX0_find_56 : decode cX0_find 56 = .ok (.if_icmp .ge 51, 3) := dk_162 0 51 (dk_at dksX0_find_2 10 rfl rfl)
theorem dX0_find_59 : decode cX0_find 59 = .ok (.aload_n 0, 1) := dk_42 (dk_at dksX0_find_2 13 rfl rfl)
theorem dX0_find_60 : decode cX0_find 60 = .ok (.getfield 52, 3) := dk_180 0 52 (dk_at dksX0_find_2 14 rfl rfl)
theorem dX0_find_63 : decode cX0_find 63 = .ok (.iload_n 1, 1) := dk_27 (dk_at dksX0_find_2 17 rfl rfl)
theorem dX0_find_64 : decode cX0_find 64 = .ok (.aaload, 1) := dk_50 (dk_at dksX0_find_2 18 rfl rfl)
theorem dX0_find_65 : decode cX0_find 65 = .ok (.iload_n 2, 1) := dk_28 (dk_at dksX0_find_2 19 rfl rfl)
theorem dX0_find_66 : decode cX0_find 66 = .ok (.bipush 10, 2) := dk_16 10 (dk_at dksX0_find_2 20 rfl rfl)
theorem dX0_find_68 : decode cX0_find 68 = .ok (.aload_n 0, 1) := dk_42 (dk_at dksX0_find_2 22 rfl rfl)
theorem dX0_find_69 : decode cX0_find 69 = .ok (.getfield 23, 3) := dk_180 0 23 (dk_at dksX0_find_3 0 rfl rfl)
theorem dX0_find_72 : decode cX0_find 72 = .ok (.getfield 159, 3) := dk_180 0 159 (dk_at dksX0_find_3 3 rfl rfl)
theorem dX0_find_75 : decode cX0_find 75 = .ok (.iload_n 2, 1) := dk_28 (dk_at dksX0_find_3 6 rfl rfl)
theorem dX0_find_76 : decode cX0_find 76 = .ok (.invokevirtual 147, 3) := dk_182 0 147 (dk_at dksX0_find_3 7 rfl rfl)
theorem dX0_find_79 : decode cX0_find 79 = .ok (.checkcast 68, 3) := dk_192 0 68 (dk_at dksX0_find_3 10 rfl rfl)
theorem dX0_find_82 : decode cX0_find 82 = .ok (.getfield 255, 3) := dk_180 0 255 (dk_at dksX0_find_3 13 rfl rfl)
theorem dX0_find_85 : decode cX0_find 85 = .ok (.imul, 1) := dk_104 (dk_at dksX0_find_3 16 rfl rfl)
theorem dX0_find_86 : decode cX0_find 86 = .ok (.aload_n 0, 1) := dk_42 (dk_at dksX0_find_3 17 rfl rfl)
theorem dX0_find_87 : decode cX0_find 87 = .ok (.iload_n 1, 1) := dk_27 (dk_at dksX0_find_3 18 rfl rfl)
theorem dX0_find_88 : decode cX0_find 88 = .ok (.invokevirtual 258, 3) := dk_182 1 2 (dk_at dksX0_find_3 19 rfl rfl)
theorem dX0_find_91 : decode cX0_find 91 = .ok (.ifCond .eq 7, 3) := dk_153 0 7 (dk_at dksX0_find_4 0 rfl rfl)
theorem dX0_find_94 : decode cX0_find 94 = .ok (.iconst 2, 1) := dk_5 (dk_at dksX0_find_4 3 rfl rfl)
theorem dX0_find_95 : decode cX0_find 95 = .ok (.goto 4, 3) := dk_167 0 4 (dk_at dksX0_find_4 4 rfl rfl)
theorem dX0_find_98 : decode cX0_find 98 = .ok (.iconst 1, 1) := dk_4 (dk_at dksX0_find_4 7 rfl rfl)
theorem dX0_find_99 : decode cX0_find 99 = .ok (.idiv, 1) := dk_108 (dk_at dksX0_find_4 8 rfl rfl)
theorem dX0_find_100 : decode cX0_find 100 = .ok (.iastore, 1) := dk_79 (dk_at dksX0_find_4 9 rfl rfl)
theorem dX0_find_101 : decode cX0_find 101 = .ok (.iinc 2 1, 3) := dk_132 2 1 (dk_at dksX0_find_4 10 rfl rfl)
theorem dX0_find_104 : decode cX0_find 104 = .ok (.goto (-59), 3) := dk_167 255 197 (dk_at dksX0_find_4 13 rfl rfl)
theorem dX0_find_107 : decode cX0_find 107 = .ok (.iconst 0, 1) := dk_3 (dk_at dksX0_find_4 16 rfl rfl)
theorem dX0_find_108 : decode cX0_find 108 = .ok (.istore_n 2, 1) := dk_61 (dk_at dksX0_find_4 17 rfl rfl)
theorem dX0_find_109 : decode cX0_find 109 = .ok (.iload_n 2, 1) := dk_28 (dk_at dksX0_find_4 18 rfl rfl)
theorem dX0_find_110 : decode cX0_find 110 = .ok (.aload_n 0, 1) := dk_42 (dk_at dksX0_find_4 19 rfl rfl)
theorem dX0_find_111 : decode cX0_find 111 = .ok (.getfield 14, 3) := dk_180 0 14 (dk_at dksX0_find_4 20 rfl rfl)
theorem dX0_find_114 : decode cX0_find 114 = .ok (.getfield 144, 3) := dk_180 0 144 (dk_at dksX0_find_5 0 rfl rfl)
theorem dX0_find_117 : decode cX0_find 117 = .ok (.invokevirtual 170, 3) := dk_182 0 170 (dk_at dksX0_find_5 3 rfl rfl)
theorem dX0_find_120 : decode cX0_find 120 = .ok (.if_icmp .ge 15, 3) := dk_162 0 15 (dk_at dksX0_find_5 6 rfl rfl)
theorem dX0_find_123 : decode cX0_find 123 = .ok (.aload_n 0, 1) := dk_42 (dk_at dksX0_find_5 9 rfl rfl)
theorem dX0_find_124 : decode cX0_find 124 = .ok (.iload_n 1, 1) := dk_27 (dk_at dksX0_find_5 10 rfl rfl)
theorem dX0_find_125 : decode cX0_find 125 = .ok (.iload_n 2, 1) := dk_28 (dk_at dksX0_find_5 11 rfl rfl)
theorem dX0_find_126 : decode cX0_find 126 = .ok (.invokevirtual 261, 3) := dk_182 1 5 (dk_at dksX0_find_5 12 rfl rfl)
theorem dX0_find_129 : decode cX0_find 129 = .ok (.iinc 2 1, 3) := dk_132 2 1 (dk_at dksX0_find_5 15 rfl rfl)
theorem dX0_find_132 : decode cX0_find 132 = .ok (.goto (-23), 3) := dk_167 255 233 (dk_at dksX0_find_5 18 rfl rfl)
theorem dX0_find_135 : decode cX0_find 135 = .ok (.iconst 0, 1) := dk_3 (dk_at dksX0_find_5 21 rfl rfl)
theorem dX0_find_136 : decode cX0_find 136 = .ok (.istore_n 2, 1) := dk_61 (dk_at dksX0_find_5 22 rfl rfl)
theorem dX0_find_137 : decode cX0_find 137 = .ok (.iload_n 2, 1) := dk_28 (dk_at dksX0_find_5 23 rfl rfl)
theorem dX0_find_138 : decode cX0_find 138 = .ok (.aload_n 0, 1) := dk_42 (dk_at dksX0_find_6 0 rfl rfl)
theorem dX0_find_139 : decode cX0_find 139 = .ok (.getfield 14, 3) := dk_180 0 14 (dk_at dksX0_find_6 1 rfl rfl)
theorem dX0_find_142 : decode cX0_find 142 = .ok (.getfield 144, 3) := dk_180 0 144 (dk_at dksX0_find_6 4 rfl rfl)
theorem dX0_find_145 : decode cX0_find 145 = .ok (.invokevirtual 170, 3) := dk_182 0 170 (dk_at dksX0_find_6 7 rfl rfl)
theorem dX0_find_148 : decode cX0_find 148 = .ok (.if_icmp .ge 60, 3) := dk_162 0 60 (dk_at dksX0_find_6 10 rfl rfl)
theorem dX0_find_151 : decode cX0_find 151 = .ok (.aload_n 0, 1) := dk_42 (dk_at dksX0_find_6 13 rfl rfl)
theorem dX0_find_152 : decode cX0_find 152 = .ok (.getfield 14, 3) := dk_180 0 14 (dk_at dksX0_find_6 14 rfl rfl)
theorem dX0_find_155 : decode cX0_find 155 = .ok (.getfield 144, 3) := dk_180 0 144 (dk_at dksX0_find_6 17 rfl rfl)
theorem dX0_find_158 : decode cX0_find 158 = .ok (.iload_n 2, 1) := dk_28 (dk_at dksX0_find_6 20 rfl rfl)
theorem dX0_find_159 : decode cX0_find 159 = .ok (.invokevirtual 147, 3) := dk_182 0 147 (dk_at dksX0_find_6 21 rfl rfl)
theorem dX0_find_162 : decode cX0_find 162 = .ok (.checkcast 151, 3) := dk_192 0 151 (dk_at dksX0_find_7 0 rfl rfl)
theorem dX0_find_165 : decode cX0_find 165 = .ok (.getfield 218, 3) := dk_180 0 218 (dk_at dksX0_find_7 3 rfl rfl)
theorem dX0_find_168 : decode cX0_find 168 = .ok (.aload_n 0, 1) := dk_42 (dk_at dksX0_find_7 6 rfl rfl)
theorem dX0_find_169 : decode cX0_find 169 = .ok (.iload_n 1, 1) := dk_27 (dk_at dksX0_find_7 7 rfl rfl)
theorem dX0_find_170 : decode cX0_find 170 = .ok (.iload_n 2, 1) := dk_28 (dk_at dksX0_find_7 8 rfl rfl)
theorem dX0_find_171 : decode cX0_find 171 = .ok (.invokevirtual 263, 3) := dk_182 1 7 (dk_at dksX0_find_7 9 rfl rfl)
theorem dX0_find_174 : decode cX0_find 174 = .ok (.ifCond .ne 11, 3) := dk_154 0 11 (dk_at dksX0_find_7 12 rfl rfl)
theorem dX0_find_177 : decode cX0_find 177 = .ok (.aload_n 0, 1) := dk_42 (dk_at dksX0_find_7 15 rfl rfl)
theorem dX0_find_178 : decode cX0_find 178 = .ok (.getfield 252, 3) := dk_180 0 252 (dk_at dksX0_find_7 16 rfl rfl)
theorem dX0_find_181 : decode cX0_find 181 = .ok (.iconst (-1), 1) := dk_2 (dk_at dksX0_find_7 19 rfl rfl)
theorem dX0_find_182 : decode cX0_find 182 = .ok (.if_icmp .eq 7, 3) := dk_159 0 7 (dk_at dksX0_find_7 20 rfl rfl)
theorem dX0_find_185 : decode cX0_find 185 = .ok (.iconst 1, 1) := dk_4 (dk_at dksX0_find_7 23 rfl rfl)
theorem dX0_find_186 : decode cX0_find 186 = .ok (.goto 4, 3) := dk_167 0 4 (dk_at dksX0_find_8 0 rfl rfl)
theorem dX0_find_189 : decode cX0_find 189 = .ok (.iconst 0, 1) := dk_3 (dk_at dksX0_find_8 3 rfl rfl)
theorem dX0_find_190 : decode cX0_find 190 = .ok (.invokevirtual 266, 3) := dk_182 1 10 (dk_at dksX0_find_8 4 rfl rfl)
theorem dX0_find_193 : decode cX0_find 193 = .ok (.ifCond .eq 9, 3) := dk_153 0 9 (dk_at dksX0_find_8 7 rfl rfl)
theorem dX0_find_196 : decode cX0_find 196 = .ok (.aload_n 0, 1) := dk_42 (dk_at dksX0_find_8 10 rfl rfl)
theorem dX0_find_197 : decode cX0_find 197 = .ok (.iload_n 1, 1) := dk_27 (dk_at dksX0_find_8 11 rfl rfl)
theorem dX0_find_198 : decode cX0_find 198 = .ok (.iload_n 2, 1) := dk_28 (dk_at dksX0_find_8 12 rfl rfl)
theorem dX0_find_199 : decode cX0_find 199 = .ok (.invokevirtual 270, 3) := dk_182 1 14 (dk_at dksX0_find_8 13 rfl rfl)
theorem dX0_find_202 : decode cX0_find 202 = .ok (.iinc 2 1, 3) := dk_132 2 1 (dk_at dksX0_find_8 16 rfl rfl)
theorem dX0_find_205 : decode cX0_find 205 = .ok (.goto (-68), 3) := dk_167 255 188 (dk_at dksX0_find_8 19 rfl rfl)
theorem dX0_find_208 : decode cX0_find 208 = .ok (.aload_n 0, 1) := dk_42 (dk_at dksX0_find_8 22 rfl rfl)
theorem dX0_find_209 : decode cX0_find 209 = .ok (.getfield 252, 3) := dk_180 0 252 (dk_at dksX0_find_9 0 rfl rfl)
theorem dX0_find_212 : decode cX0_find 212 = .ok (.iconst (-1), 1) := dk_2 (dk_at dksX0_find_9 3 rfl rfl)
theorem dX0_find_213 : decode cX0_find 213 = .ok (.if_icmp .ne 32, 3) := dk_160 0 32 (dk_at dksX0_find_9 4 rfl rfl)
theorem dX0_find_216 : decode cX0_find 216 = .ok (.iload_n 1, 1) := dk_27 (dk_at dksX0_find_9 7 rfl rfl)
theorem dX0_find_217 : decode cX0_find 217 = .ok (.iconst 1, 1) := dk_4 (dk_at dksX0_find_9 8 rfl rfl)
theorem dX0_find_218 : decode cX0_find 218 = .ok (.iadd, 1) := dk_96 (dk_at dksX0_find_9 9 rfl rfl)
theorem dX0_find_219 : decode cX0_find 219 = .ok (.bipush 20, 2) := dk_16 20 (dk_at dksX0_find_9 10 rfl rfl)
theorem dX0_find_221 : decode cX0_find 221 = .ok (.if_icmp .ge 24, 3) := dk_162 0 24 (dk_at dksX0_find_9 12 rfl rfl)
theorem dX0_find_224 : decode cX0_find 224 = .ok (.aload_n 0, 1) := dk_42 (dk_at dksX0_find_9 15 rfl rfl)
theorem dX0_find_225 : decode cX0_find 225 = .ok (.iload_n 1, 1) := dk_27 (dk_at dksX0_find_9 16 rfl rfl)
theorem dX0_find_226 : decode cX0_find 226 = .ok (.invokevirtual 273, 3) := dk_182 1 17 (dk_at dksX0_find_9 17 rfl rfl)
theorem dX0_find_229 : decode cX0_find 229 = .ok (.aload_n 0, 1) := dk_42 (dk_at dksX0_find_9 20 rfl rfl)
theorem dX0_find_230 : decode cX0_find 230 = .ok (.getfield 27, 3) := dk_180 0 27 (dk_at dksX0_find_9 21 rfl rfl)
theorem dX0_find_233 : decode cX0_find 233 = .ok (.iconst 1, 1) := dk_4 (dk_at dksX0_find_10 0 rfl rfl)
theorem dX0_find_234 : decode cX0_find 234 = .ok (.iaload, 1) := dk_46 (dk_at dksX0_find_10 1 rfl rfl)
theorem dX0_find_235 : decode cX0_find 235 = .ok (.if_icmp .le 10, 3) := dk_164 0 10 (dk_at dksX0_find_10 2 rfl rfl)
theorem dX0_find_238 : decode cX0_find 238 = .ok (.aload_n 0, 1) := dk_42 (dk_at dksX0_find_10 5 rfl rfl)
theorem dX0_find_239 : decode cX0_find 239 = .ok (.iload_n 1, 1) := dk_27 (dk_at dksX0_find_10 6 rfl rfl)
theorem dX0_find_240 : decode cX0_find 240 = .ok (.iconst 1, 1) := dk_4 (dk_at dksX0_find_10 7 rfl rfl)
theorem dX0_find_241 : decode cX0_find 241 = .ok (.iadd, 1) := dk_96 (dk_at dksX0_find_10 8 rfl rfl)
theorem dX0_find_242 : decode cX0_find 242 = .ok (.putfield 252, 3) := dk_181 0 252 (dk_at dksX0_find_10 9 rfl rfl)
theorem dX0_find_245 : decode cX0_find 245 = .ok (.iinc 1 1, 3) := dk_132 1 1 (dk_at dksX0_find_10 12 rfl rfl)
theorem dX0_find_248 : decode cX0_find 248 = .ok (.goto (-211), 3) := dk_167 255 45 (dk_at dksX0_find_10 15 rfl rfl)
theorem dX0_find_251 : decode cX0_find 251 = .ok (.return_, 1) := dk_177 (dk_at dksX0_find_10 18 rfl rfl)
abbrev cX0_isWar : ByteArray := prog_1_method_23_code
def yX0_isWar : MethodName := ⟨RX0, "isWar", "(I)Z"⟩
def dkwX0_isWar_2 : List UInt8 := [3, 128, 61, 132, 3, 1, 167, 255, 206, 28, 172]
abbrev dktX0_isWar_2 : List UInt8 := dkwX0_isWar_2 ++ []
def dkwX0_isWar_1 : List UInt8 := [192, 0, 204, 3, 46, 27, 160, 0, 18, 42, 180, 0, 205, 29, 184, 0, 208, 154, 0, 7, 4, 167, 0, 4]
abbrev dktX0_isWar_1 : List UInt8 := dkwX0_isWar_1 ++ dktX0_isWar_2
def dkwX0_isWar_0 : List UInt8 := [3, 61, 3, 62, 29, 42, 180, 0, 38, 182, 0, 170, 162, 0, 45, 28, 42, 180, 0, 38, 29, 182, 0, 147]
abbrev dktX0_isWar_0 : List UInt8 := dkwX0_isWar_0 ++ dktX0_isWar_1
theorem dksX0_isWar_0 : cX0_isWar.data.toList.drop 0 = dktX0_isWar_0 := by decide +kernel
theorem dksX0_isWar_1 : cX0_isWar.data.toList.drop 24 = dktX0_isWar_1 := dk_seg dksX0_isWar_0 24 rfl rfl
theorem dksX0_isWar_2 : cX0_isWar.data.toList.drop 48 = dktX0_isWar_2 := dk_seg dksX0_isWar_1 24 rfl rfl
theorem dX0_isWar_0 : decode cX0_isWar 0 = .ok (.iconst 0, 1) := dk_3 (dk_at dksX0_isWar_0 0 rfl rfl)
theorem dX0_isWar_1 : decode cX0_isWar 1 = .ok (.istore_n 2, 1) := dk_61 (dk_at dksX0_isWar_0 1 rfl rfl)
theorem dX0_isWar_2 : decode cX0_isWar 2 = .ok (.iconst 0, 1) := dk_3 (dk_at dksX0_isWar_0 2 rfl rfl)
theorem dX0_isWar_3 : decode cX0_isWar 3 = .ok (.istore_n 3, 1) := dk_62 (dk_at dksX0_isWar_0 3 rfl rfl)
theorem dX0_isWar_4 : decode cX0_isWar 4 = .ok (.iload_n 3, 1) := dk_29 (dk_at dksX0_isWar_0 4 rfl rfl)
theorem dX0_isWar_5 : decode cX0_isWar 5 = .ok (.aload_n 0, 1) := dk_42 (dk_at dksX0_isWar_0 5 rfl rfl)
theorem dX0_isWar_6 : decode cX0_isWar 6 = .ok (.getfield 38, 3) := dk_180 0 38 (dk_at dksX0_isWar_0 6 rfl rfl)
theorem dX0_isWar_9 : decode cX0_isWar 9 = .ok (.invokevirtual 170, 3) := dk_182 0 170 (dk_at dksX0_isWar_0 9 rfl rfl)
theorem dX0_isWar_12 : decode cX0_isWar 12 = .ok (.if_icmp .ge 45, 3) := dk_162 0 45 (dk_at dksX0_isWar_0 12 rfl rfl)
theorem dX0_isWar_15 : decode cX0_isWar 15 = .ok (.iload_n 2, 1) := dk_28 (dk_at dksX0_isWar_0 15 rfl rfl)
theorem dX0_isWar_16 : decode cX0_isWar 16 = .ok (.aload_n 0, 1) := dk_42 (dk_at dksX0_isWar_0 16 rfl rfl)
theorem dX0_isWar_17 : decode cX0_isWar 17 = .ok (.getfield 38, 3) := dk_180 0 38 (dk_at dksX0_isWar_0 17 rfl rfl)
theorem dX0_isWar_20 : decode cX0_isWar 20 = .ok (.iload_n 3, 1) := dk_29 (dk_at dksX0_isWar_0 20 rfl rfl)
theorem dX0_isWar_21 : decode cX0_isWar 21 = .ok (.invokevirtual 147, 3) := dk_182 0 147 (dk_at dksX0_isWar_0 21 rfl rfl)
theorem dX0_isWar_24 : decode cX0_isWar 24 = .ok (.checkcast 204, 3) := dk_192 0 204 (dk_at dksX0_isWar_1 0 rfl rfl)
theorem dX0_isWar_27 : decode cX0_isWar 27 = .ok (.iconst 0, 1) := dk_3 (dk_at dksX0_isWar_1 3 rfl rfl)
theorem dX0_isWar_28 : decode cX0_isWar 28 = .ok (.iaload, 1) := dk_46 (dk_at dksX0_isWar_1 4 rfl rfl)
theorem dX0_isWar_29 : decode cX0_isWar 29 = .ok (.iload_n 1, 1) := dk_27 (dk_at dksX0_isWar_1 5 rfl rfl)
theorem dX0_isWar_30 : decode cX0_isWar 30 = .ok (.if_icmp .ne 18, 3) := dk_160 0 18 (dk_at dksX0_isWar_1 6 rfl rfl)
theorem dX0_isWar_33 : decode cX0_isWar 33 = .ok (.aload_n 0, 1) := dk_42 (dk_at dksX0_isWar_1 9 rfl rfl)
theorem dX0_isWar_34 : decode cX0_isWar 34 = .ok (.getfield 205, 3) := dk_180 0 205 (dk_at dksX0_isWar_1 10 rfl rfl)
theorem dX0_isWar_37 : decode cX0_isWar 37 = .ok (.iload_n 3, 1) := dk_29 (dk_at dksX0_isWar_1 13 rfl rfl)
theorem dX0_isWar_38 : decode cX0_isWar 38 = .ok (.invokestatic 208, 3) := dk_184 0 208 (dk_at dksX0_isWar_1 14 rfl rfl)
theorem dX0_isWar_41 : decode cX0_isWar 41 = .ok (.ifCond .ne 7, 3) := dk_154 0 7 (dk_at dksX0_isWar_1 17 rfl rfl)
theorem dX0_isWar_44 : decode cX0_isWar 44 = .ok (.iconst 1, 1) := dk_4 (dk_at dksX0_isWar_1 20 rfl rfl)
theorem dX0_isWar_45 : decode cX0_isWar 45 = .ok (.goto 4, 3) := dk_167 0 4 (dk_at dksX0_isWar_1 21 rfl rfl)
theorem dX0_isWar_48 : decode cX0_isWar 48 = .ok (.iconst 0, 1) := dk_3 (dk_at dksX0_isWar_2 0 rfl rfl)
theorem dX0_isWar_49 : decode cX0_isWar 49 = .ok (.ior, 1) := dk_128 (dk_at dksX0_isWar_2 1 rfl rfl)
theorem dX0_isWar_50 : decode cX0_isWar 50 = .ok (.istore_n 2, 1) := dk_61 (dk_at dksX0_isWar_2 2 rfl rfl)
theorem dX0_isWar_51 : decode cX0_isWar 51 = .ok (.iinc 3 1, 3) := dk_132 3 1 (dk_at dksX0_isWar_2 3 rfl rfl)
theorem dX0_isWar_54 : decode cX0_isWar 54 = .ok (.goto (-50), 3) := dk_167 255 206 (dk_at dksX0_isWar_2 6 rfl rfl)
theorem dX0_isWar_57 : decode cX0_isWar 57 = .ok (.iload_n 2, 1) := dk_28 (dk_at dksX0_isWar_2 9 rfl rfl)
theorem dX0_isWar_58 : decode cX0_isWar 58 = .ok (.ireturn, 1) := dk_172 (dk_at dksX0_isWar_2 10 rfl rfl)
abbrev cX0_isIn : ByteArray := prog_1_method_7_code
def yX0_isIn : MethodName := ⟨RX0, "isIn", "(II)Z"⟩
def dkwX0_isIn_0 : List UInt8 := [26, 27, 122, 4, 126, 4, 160, 0, 7, 4, 167, 0, 4, 3, 172]
abbrev dktX0_isIn_0 : List UInt8 := dkwX0_isIn_0 ++ []
theorem dksX0_isIn_0 : cX0_isIn.data.toList.drop 0 = dktX0_isIn_0 := by decide +kernel
theorem dX0_isIn_0 : decode cX0_isIn 0 = .ok (.iload_n 0, 1) := dk_26 (dk_at dksX0_isIn_0 0 rfl rfl)
theorem dX0_isIn_1 : decode cX0_isIn 1 = .ok (.iload_n 1, 1) := dk_27 (dk_at dksX0_isIn_0 1 rfl rfl)
theorem dX0_isIn_2 : decode cX0_isIn 2 = .ok (.ishr, 1) := dk_122 (dk_at dksX0_isIn_0 2 rfl rfl)
theorem dX0_isIn_3 : decode cX0_isIn 3 = .ok (.iconst 1, 1) := dk_4 (dk_at dksX0_isIn_0 3 rfl rfl)
theorem dX0_isIn_4 : decode cX0_isIn 4 = .ok (.iand, 1) := dk_126 (dk_at dksX0_isIn_0 4 rfl rfl)
theorem dX0_isIn_5 : decode cX0_isIn 5 = .ok (.iconst 1, 1) := dk_4 (dk_at dksX0_isIn_0 5 rfl rfl)
theorem dX0_isIn_6 : decode cX0_isIn 6 = .ok (.if_icmp .ne 7, 3) := dk_160 0 7 (dk_at dksX0_isIn_0 6 rfl rfl)
theorem dX0_isIn_9 : decode cX0_isIn 9 = .ok (.iconst 1, 1) := dk_4 (dk_at dksX0_isIn_0 9 rfl rfl)
theorem dX0_isIn_10 : decode cX0_isIn 10 = .ok (.goto 4, 3) := dk_167 0 4 (dk_at dksX0_isIn_0 10 rfl rfl)
theorem dX0_isIn_13 : decode cX0_isIn 13 = .ok (.iconst 0, 1) := dk_3 (dk_at dksX0_isIn_0 13 rfl rfl)
theorem dX0_isIn_14 : decode cX0_isIn 14 = .ok (.ireturn, 1) := dk_172 (dk_at dksX0_isIn_0 14 rfl rfl)
abbrev cX0_mounts : ByteArray := prog_1_method_25_code
def yX0_mounts : MethodName := ⟨RX0, "mounts", "(II)V"⟩
def dkwX0_mounts_3 : List UInt8 := [180, 0, 49, 27, 50, 28, 3, 79, 177]
abbrev dktX0_mounts_3 : List UInt8 := dkwX0_mounts_3 ++ []
def dkwX0_mounts_2 : List UInt8 := [45, 180, 0, 227, 42, 180, 0, 27, 3, 46, 104, 96, 79, 42, 180, 0, 46, 27, 50, 28, 3, 79, 42]
abbrev dktX0_mounts_2 : List UInt8 := dkwX0_mounts_2 ++ dktX0_mounts_3
def dkwX0_mounts_1 : List UInt8 := [180, 0, 218, 27, 154, 0, 7, 3, 167, 0, 13, 42, 180, 0, 43, 27, 4, 100, 50, 28, 46, 182, 0, 222]
abbrev dktX0_mounts_1 : List UInt8 := dkwX0_mounts_1 ++ dktX0_mounts_2
def dkwX0_mounts_0 : List UInt8 := [42, 180, 0, 14, 180, 0, 144, 28, 182, 0, 147, 192, 0, 151, 78, 42, 180, 0, 43, 27, 50, 28, 45]
abbrev dktX0_mounts_0 : List UInt8 := dkwX0_mounts_0 ++ dktX0_mounts_1
theorem dksX0_mounts_0 : cX0_mounts.data.toList.drop 0 = dktX0_mounts_0 := by decide +kernel
theorem dksX0_mounts_1 : cX0_mounts.data.toList.drop 23 = dktX0_mounts_1 := dk_seg dksX0_mounts_0 23 rfl rfl
theorem dksX0_mounts_2 : cX0_mounts.data.toList.drop 47 = dktX0_mounts_2 := dk_seg dksX0_mounts_1 24 rfl rfl
theorem dksX0_mounts_3 : cX0_mounts.data.toList.drop 70 = dktX0_mounts_3 := dk_seg dksX0_mounts_2 23 rfl rfl
theorem dX0_mounts_0 : decode cX0_mounts 0 = .ok (.aload_n 0, 1) := dk_42 (dk_at dksX0_mounts_0 0 rfl rfl)
theorem dX0_mounts_1 : decode cX0_mounts 1 = .ok (.getfield 14, 3) := dk_180 0 14 (dk_at dksX0_mounts_0 1 rfl rfl)
theorem dX0_mounts_4 : decode cX0_mounts 4 = .ok (.getfield 144, 3) := dk_180 0 144 (dk_at dksX0_mounts_0 4 rfl rfl)
theorem dX0_mounts_7 : decode cX0_mounts 7 = .ok (.iload_n 2, 1) := dk_28 (dk_at dksX0_mounts_0 7 rfl rfl)
theorem dX0_mounts_8 : decode cX0_mounts 8 = .ok (.invokevirtual 147, 3) := dk_182 0 147 (dk_at dksX0_mounts_0 8 rfl rfl)
theorem dX0_mounts_11 : decode cX0_mounts 11 = .ok (.checkcast 151, 3) := dk_192 0 151 (dk_at dksX0_mounts_0 11 rfl rfl)
theorem dX0_mounts_14 : decode cX0_mounts 14 = .ok (.astore_n 3, 1) := dk_78 (dk_at dksX0_mounts_0 14 rfl rfl)
theorem dX0_mounts_15 : decode cX0_mounts 15 = .ok (.aload_n 0, 1) := dk_42 (dk_at dksX0_mounts_0 15 rfl rfl)
theorem dX0_mounts_16 : decode cX0_mounts 16 = .ok (.getfield 43, 3) := dk_180 0 43 (dk_at dksX0_mounts_0 16 rfl rfl)
theorem dX0_mounts_19 : decode cX0_mounts 19 = .ok (.iload_n 1, 1) := dk_27 (dk_at dksX0_mounts_0 19 rfl rfl)
theorem dX0_mounts_20 : decode cX0_mounts 20 = .ok (.aaload, 1) := dk_50 (dk_at dksX0_mounts_0 20 rfl rfl)
theorem dX0_mounts_21 : decode cX0_mounts 21 = .ok (.iload_n 2, 1) := dk_28 (dk_at dksX0_mounts_0 21 rfl rfl)
theorem dX0_mounts_22 : decode cX0_mounts 22 = .ok (.aload_n 3, 1) := dk_45 (dk_at dksX0_mounts_0 22 rfl rfl)
theorem dX0_mounts_23 : decode cX0_mounts 23 = .ok (.getfield 218, 3) := dk_180 0 218 (dk_at dksX0_mounts_1 0 rfl rfl)
theorem dX0_mounts_26 : decode cX0_mounts 26 = .ok (.iload_n 1, 1) := dk_27 (dk_at dksX0_mounts_1 3 rfl rfl)
theorem dX0_mounts_27 : decode cX0_mounts 27 = .ok (.ifCond .ne 7, 3) := dk_154 0 7 (dk_at dksX0_mounts_1 4 rfl rfl)
theorem dX0_mounts_30 : decode cX0_mounts 30 = .ok (.iconst 0, 1) := dk_3 (dk_at dksX0_mounts_1 7 rfl rfl)
theorem dX0_mounts_31 : decode cX0_mounts 31 = .ok (.goto 13, 3) := dk_167 0 13 (dk_at dksX0_mounts_1 8 rfl rfl)
theorem dX0_mounts_34 : decode cX0_mounts 34 = .ok (.aload_n 0, 1) := dk_42 (dk_at dksX0_mounts_1 11 rfl rfl)
theorem dX0_mounts_35 : decode cX0_mounts 35 = .ok (.getfield 43, 3) := dk_180 0 43 (dk_at dksX0_mounts_1 12 rfl rfl)
theorem dX0_mounts_38 : decode cX0_mounts 38 = .ok (.iload_n 1, 1) := dk_27 (dk_at dksX0_mounts_1 15 rfl rfl)
theorem dX0_mounts_39 : decode cX0_mounts 39 = .ok (.iconst 1, 1) := dk_4 (dk_at dksX0_mounts_1 16 rfl rfl)
theorem dX0_mounts_40 : decode cX0_mounts 40 = .ok (.isub, 1) := dk_100 (dk_at dksX0_mounts_1 17 rfl rfl)
theorem dX0_mounts_41 : decode cX0_mounts 41 = .ok (.aaload, 1) := dk_50 (dk_at dksX0_mounts_1 18 rfl rfl)
theorem dX0_mounts_42 : decode cX0_mounts 42 = .ok (.iload_n 2, 1) := dk_28 (dk_at dksX0_mounts_1 19 rfl rfl)
theorem dX0_mounts_43 : decode cX0_mounts 43 = .ok (.iaload, 1) := dk_46 (dk_at dksX0_mounts_1 20 rfl rfl)
theorem dX0_mounts_44 : decode cX0_mounts 44 = .ok (.invokevirtual 222, 3) := dk_182 0 222 (dk_at dksX0_mounts_1 21 rfl rfl)
theorem dX0_mounts_47 : decode cX0_mounts 47 = .ok (.aload_n 3, 1) := dk_45 (dk_at dksX0_mounts_2 0 rfl rfl)
theorem dX0_mounts_48 : decode cX0_mounts 48 = .ok (.getfield 227, 3) := dk_180 0 227 (dk_at dksX0_mounts_2 1 rfl rfl)
theorem dX0_mounts_51 : decode cX0_mounts 51 = .ok (.aload_n 0, 1) := dk_42 (dk_at dksX0_mounts_2 4 rfl rfl)
theorem dX0_mounts_52 : decode cX0_mounts 52 = .ok (.getfield 27, 3) := dk_180 0 27 (dk_at dksX0_mounts_2 5 rfl rfl)
theorem dX0_mounts_55 : decode cX0_mounts 55 = .ok (.iconst 0, 1) := dk_3 (dk_at dksX0_mounts_2 8 rfl rfl)
theorem dX0_mounts_56 : decode cX0_mounts 56 = .ok (.iaload, 1) := dk_46 (dk_at dksX0_mounts_2 9 rfl rfl)
theorem dX0_mounts_57 : decode cX0_mounts 57 = .ok (.imul, 1) := dk_104 (dk_at dksX0_mounts_2 10 rfl rfl)
theorem dX0_mounts_58 : decode cX0_mounts 58 = .ok (.iadd, 1) := dk_96 (dk_at dksX0_mounts_2 11 rfl rfl)
theorem dX0_mounts_59 : decode cX0_mounts 59 = .ok (.iastore, 1) := dk_79 (dk_at dksX0_mounts_2 12 rfl rfl)
theorem dX0_mounts_60 : decode cX0_mounts 60 = .ok (.aload_n 0, 1) := dk_42 (dk_at dksX0_mounts_2 13 rfl rfl)
theorem dX0_mounts_61 : decode cX0_mounts 61 = .ok (.getfield 46, 3) := dk_180 0 46 (dk_at dksX0_mounts_2 14 rfl rfl)
theorem dX0_mounts_64 : decode cX0_mounts 64 = .ok (.iload_n 1, 1) := dk_27 (dk_at dksX0_mounts_2 17 rfl rfl)
theorem dX0_mounts_65 : decode cX0_mounts 65 = .ok (.aaload, 1) := dk_50 (dk_at dksX0_mounts_2 18 rfl rfl)
theorem dX0_mounts_66 : decode cX0_mounts 66 = .ok (.iload_n 2, 1) := dk_28 (dk_at dksX0_mounts_2 19 rfl rfl)
theorem dX0_mounts_67 : decode cX0_mounts 67 = .ok (.iconst 0, 1) := dk_3 (dk_at dksX0_mounts_2 20 rfl rfl)
theorem dX0_mounts_68 : decode cX0_mounts 68 = .ok (.iastore, 1) := dk_79 (dk_at dksX0_mounts_2 21 rfl rfl)
theorem dX0_mounts_69 : decode cX0_mounts 69 = .ok (.aload_n 0, 1) := dk_42 (dk_at dksX0_mounts_2 22 rfl rfl)
theorem dX0_mounts_70 : decode cX0_mounts 70 = .ok (.getfield 49, 3) := dk_180 0 49 (dk_at dksX0_mounts_3 0 rfl rfl)
theorem dX0_mounts_73 : decode cX0_mounts 73 = .ok (.iload_n 1, 1) := dk_27 (dk_at dksX0_mounts_3 3 rfl rfl)
theorem dX0_mounts_74 : decode cX0_mounts 74 = .ok (.aaload, 1) := dk_50 (dk_at dksX0_mounts_3 4 rfl rfl)
theorem dX0_mounts_75 : decode cX0_mounts 75 = .ok (.iload_n 2, 1) := dk_28 (dk_at dksX0_mounts_3 5 rfl rfl)
theorem dX0_mounts_76 : decode cX0_mounts 76 = .ok (.iconst 0, 1) := dk_3 (dk_at dksX0_mounts_3 6 rfl rfl)
theorem dX0_mounts_77 : decode cX0_mounts 77 = .ok (.iastore, 1) := dk_79 (dk_at dksX0_mounts_3 7 rfl rfl)
theorem dX0_mounts_78 : decode cX0_mounts 78 = .ok (.return_, 1) := dk_177 (dk_at dksX0_mounts_3 8 rfl rfl)
abbrev cX0_isCalled : ByteArray := prog_1_method_24_code
def yX0_isCalled : MethodName := ⟨RX0, "isCalled", "(II)Z"⟩
def dkwX0_isCalled_5 : List UInt8 := [184, 0, 208, 154, 0, 7, 4, 167, 0, 4, 3, 128, 62, 132, 4, 1, 167, 255, 185, 29, 172]
abbrev dktX0_isCalled_5 : List UInt8 := dkwX0_isCalled_5 ++ []
def dkwX0_isCalled_4 : List UInt8 := [180, 0, 34, 21, 4, 182, 0, 147, 192, 0, 204, 4, 46, 28, 160, 0, 19, 42, 180, 0, 215, 21, 4]
abbrev dktX0_isCalled_4 : List UInt8 := dkwX0_isCalled_4 ++ dktX0_isCalled_5
def dkwX0_isCalled_3 : List UInt8 := [162, 0, 65, 29, 42, 180, 0, 34, 21, 4, 182, 0, 147, 192, 0, 204, 3, 46, 27, 160, 0, 37, 42]
abbrev dktX0_isCalled_3 : List UInt8 := dkwX0_isCalled_3 ++ dktX0_isCalled_4
def dkwX0_isCalled_2 : List UInt8 := [160, 0, 7, 4, 167, 0, 4, 3, 172, 3, 62, 3, 54, 4, 21, 4, 42, 180, 0, 34, 182, 0, 170]
abbrev dktX0_isCalled_2 : List UInt8 := dkwX0_isCalled_2 ++ dktX0_isCalled_3
def dkwX0_isCalled_1 : List UInt8 := [160, 0, 7, 4, 167, 0, 4, 3, 172, 28, 42, 180, 0, 58, 160, 0, 17, 27, 42, 180, 0, 212]
abbrev dktX0_isCalled_1 : List UInt8 := dkwX0_isCalled_1 ++ dktX0_isCalled_2
def dkwX0_isCalled_0 : List UInt8 := [42, 180, 0, 65, 2, 159, 0, 27, 27, 42, 180, 0, 65, 162, 0, 17, 42, 180, 0, 62, 27, 46, 28]
abbrev dktX0_isCalled_0 : List UInt8 := dkwX0_isCalled_0 ++ dktX0_isCalled_1
theorem dksX0_isCalled_0 : cX0_isCalled.data.toList.drop 0 = dktX0_isCalled_0 := by decide +kernel
theorem dksX0_isCalled_1 : cX0_isCalled.data.toList.drop 23 = dktX0_isCalled_1 := dk_seg dksX0_isCalled_0 23 rfl rfl
theorem dksX0_isCalled_2 : cX0_isCalled.data.toList.drop 45 = dktX0_isCalled_2 := dk_seg dksX0_isCalled_1 22 rfl rfl
theorem dksX0_isCalled_3 : cX0_isCalled.data.toList.drop 68 = dktX0_isCalled_3 := dk_seg dksX0_isCalled_2 23 rfl rfl
theorem dksX0_isCalled_4 : cX0_isCalled.data.toList.drop 91 = dktX0_isCalled_4 := dk_seg dksX0_isCalled_3 23 rfl rfl
theorem dksX0_isCalled_5 : cX0_isCalled.data.toList.drop 114 = dktX0_isCalled_5 := dk_seg dksX0_isCalled_4 23 rfl rfl
theorem dX0_isCalled_0 : decode cX0_isCalled 0 = .ok (.aload_n 0, 1) := dk_42 (dk_at dksX0_isCalled_0 0 rfl rfl)
theorem dX0_isCalled_1 : decode cX0_isCalled 1 = .ok (.getfield 65, 3) := dk_180 0 65 (dk_at dksX0_isCalled_0 1 rfl rfl)
theorem dX0_isCalled_4 : decode cX0_isCalled 4 = .ok (.iconst (-1), 1) := dk_2 (dk_at dksX0_isCalled_0 4 rfl rfl)
theorem dX0_isCalled_5 : decode cX0_isCalled 5 = .ok (.if_icmp .eq 27, 3) := dk_159 0 27 (dk_at dksX0_isCalled_0 5 rfl rfl)
theorem dX0_isCalled_8 : decode cX0_isCalled 8 = .ok (.iload_n 1, 1) := dk_27 (dk_at dksX0_isCalled_0 8 rfl rfl)
theorem dX0_isCalled_9 : decode cX0_isCalled 9 = .ok (.aload_n 0, 1) := dk_42 (dk_at dksX0_isCalled_0 9 rfl rfl)
theorem dX0_isCalled_10 : decode cX0_isCalled 10 = .ok (.getfield 65, 3) := dk_180 0 65 (dk_at dksX0_isCalled_0 10 rfl rfl)
theorem dX0_isCalled_13 : decode cX0_isCalled 13 = .ok (.if_icmp .ge 17, 3) := dk_162 0 17 (dk_at dksX0_isCalled_0 13 rfl rfl)
theorem dX0_isCalled_16 : decode cX0_isCalled 16 = .ok (.aload_n 0, 1) := dk_42 (dk_at dksX0_isCalled_0 16 rfl rfl)
theorem dX0_isCalled_17 : decode cX0_isCalled 17 = .ok (.getfield 62, 3) := dk_180 0 62 (dk_at dksX0_isCalled_0 17 rfl rfl)
theorem dX0_isCalled_20 : decode cX0_isCalled 20 = .ok (.iload_n 1, 1) := dk_27 (dk_at dksX0_isCalled_0 20 rfl rfl)
theorem dX0_isCalled_21 : decode cX0_isCalled 21 = .ok (.iaload, 1) := dk_46 (dk_at dksX0_isCalled_0 21 rfl rfl)
theorem dX0_isCalled_22 : decode cX0_isCalled 22 = .ok (.iload_n 2, 1) := dk_28 (dk_at dksX0_isCalled_0 22 rfl rfl)
theorem dX0_isCalled_23 : decode cX0_isCalled 23 = .ok (.if_icmp .ne 7, 3) := dk_160 0 7 (dk_at dksX0_isCalled_1 0 rfl rfl)
theorem dX0_isCalled_26 : decode cX0_isCalled 26 = .ok (.iconst 1, 1) := dk_4 (dk_at dksX0_isCalled_1 3 rfl rfl)
theorem dX0_isCalled_27 : decode cX0_isCalled 27 = .ok (.goto 4, 3) := dk_167 0 4 (dk_at dksX0_isCalled_1 4 rfl rfl)
theorem dX0_isCalled_30 : decode cX0_isCalled 30 = .ok (.iconst 0, 1) := dk_3 (dk_at dksX0_isCalled_1 7 rfl rfl)
theorem dX0_isCalled_31 : decode cX0_isCalled 31 = .ok (.ireturn, 1) := dk_172 (dk_at dksX0_isCalled_1 8 rfl rfl)
theorem dX0_isCalled_32 : decode cX0_isCalled 32 = .ok (.iload_n 2, 1) := dk_28 (dk_at dksX0_isCalled_1 9 rfl rfl)
theorem dX0_isCalled_33 : decode cX0_isCalled 33 = .ok (.aload_n 0, 1) := dk_42 (dk_at dksX0_isCalled_1 10 rfl rfl)
theorem dX0_isCalled_34 : decode cX0_isCalled 34 = .ok (.getfield 58, 3) := dk_180 0 58 (dk_at dksX0_isCalled_1 11 rfl rfl)
theorem dX0_isCalled_37 : decode cX0_isCalled 37 = .ok (.if_icmp .ne 17, 3) := dk_160 0 17 (dk_at dksX0_isCalled_1 14 rfl rfl)
theorem dX0_isCalled_40 : decode cX0_isCalled 40 = .ok (.iload_n 1, 1) := dk_27 (dk_at dksX0_isCalled_1 17 rfl rfl)
theorem dX0_isCalled_41 : decode cX0_isCalled 41 = .ok (.aload_n 0, 1) := dk_42 (dk_at dksX0_isCalled_1 18 rfl rfl)
theorem dX0_isCalled_42 : decode cX0_isCalled 42 = .ok (.getfield 212, 3) := dk_180 0 212 (dk_at dksX0_isCalled_1 19 rfl rfl)
theorem dX0_isCalled_45 : decode cX0_isCalled 45 = .ok (.if_icmp .ne 7, 3) := dk_160 0 7 (dk_at dksX0_isCalled_2 0 rfl rfl)
theorem dX0_isCalled_48 : decode cX0_isCalled 48 = .ok (.iconst 1, 1) := dk_4 (dk_at dksX0_isCalled_2 3 rfl rfl)
theorem dX0_isCalled_49 : decode cX0_isCalled 49 = .ok (.goto 4, 3) := dk_167 0 4 (dk_at dksX0_isCalled_2 4 rfl rfl)
theorem dX0_isCalled_52 : decode cX0_isCalled 52 = .ok (.iconst 0, 1) := dk_3 (dk_at dksX0_isCalled_2 7 rfl rfl)
theorem dX0_isCalled_53 : decode cX0_isCalled 53 = .ok (.ireturn, 1) := dk_172 (dk_at dksX0_isCalled_2 8 rfl rfl)
theorem dX0_isCalled_54 : decode cX0_isCalled 54 = .ok (.iconst 0, 1) := dk_3 (dk_at dksX0_isCalled_2 9 rfl rfl)
theorem dX0_isCalled_55 : decode cX0_isCalled 55 = .ok (.istore_n 3, 1) := dk_62 (dk_at dksX0_isCalled_2 10 rfl rfl)
theorem dX0_isCalled_56 : decode cX0_isCalled 56 = .ok (.iconst 0, 1) := dk_3 (dk_at dksX0_isCalled_2 11 rfl rfl)
theorem dX0_isCalled_57 : decode cX0_isCalled 57 = .ok (.istore 4, 2) := dk_54 4 (dk_at dksX0_isCalled_2 12 rfl rfl)
theorem dX0_isCalled_59 : decode cX0_isCalled 59 = .ok (.iload 4, 2) := dk_21 4 (dk_at dksX0_isCalled_2 14 rfl rfl)
theorem dX0_isCalled_61 : decode cX0_isCalled 61 = .ok (.aload_n 0, 1) := dk_42 (dk_at dksX0_isCalled_2 16 rfl rfl)
theorem dX0_isCalled_62 : decode cX0_isCalled 62 = .ok (.getfield 34, 3) := dk_180 0 34 (dk_at dksX0_isCalled_2 17 rfl rfl)
theorem dX0_isCalled_65 : decode cX0_isCalled 65 = .ok (.invokevirtual 170, 3) := dk_182 0 170 (dk_at dksX0_isCalled_2 20 rfl rfl)
theorem dX0_isCalled_68 : decode cX0_isCalled 68 = .ok (.if_icmp .ge 65, 3) := dk_162 0 65 (dk_at dksX0_isCalled_3 0 rfl rfl)
theorem dX0_isCalled_71 : decode cX0_isCalled 71 = .ok (.iload_n 3, 1) := dk_29 (dk_at dksX0_isCalled_3 3 rfl rfl)
theorem dX0_isCalled_72 : decode cX0_isCalled 72 = .ok (.aload_n 0, 1) := dk_42 (dk_at dksX0_isCalled_3 4 rfl rfl)
theorem dX0_isCalled_73 : decode cX0_isCalled 73 = .ok (.getfield 34, 3) := dk_180 0 34 (dk_at dksX0_isCalled_3 5 rfl rfl)
theorem dX0_isCalled_76 : decode cX0_isCalled 76 = .ok (.iload 4, 2) := dk_21 4 (dk_at dksX0_isCalled_3 8 rfl rfl)
theorem dX0_isCalled_78 : decode cX0_isCalled 78 = .ok (.invokevirtual 147, 3) := dk_182 0 147 (dk_at dksX0_isCalled_3 10 rfl rfl)
theorem dX0_isCalled_81 : decode cX0_isCalled 81 = .ok (.checkcast 204, 3) := dk_192 0 204 (dk_at dksX0_isCalled_3 13 rfl rfl)
theorem dX0_isCalled_84 : decode cX0_isCalled 84 = .ok (.iconst 0, 1) := dk_3 (dk_at dksX0_isCalled_3 16 rfl rfl)
theorem dX0_isCalled_85 : decode cX0_isCalled 85 = .ok (.iaload, 1) := dk_46 (dk_at dksX0_isCalled_3 17 rfl rfl)
theorem dX0_isCalled_86 : decode cX0_isCalled 86 = .ok (.iload_n 1, 1) := dk_27 (dk_at dksX0_isCalled_3 18 rfl rfl)
theorem dX0_isCalled_87 : decode cX0_isCalled 87 = .ok (.if_icmp .ne 37, 3) := dk_160 0 37 (dk_at dksX0_isCalled_3 19 rfl rfl)
theorem dX0_isCalled_90 : decode cX0_isCalled 90 = .ok (.aload_n 0, 1) := dk_42 (dk_at dksX0_isCalled_3 22 rfl rfl)
theorem dX0_isCalled_91 : decode cX0_isCalled 91 = .ok (.getfield 34, 3) := dk_180 0 34 (dk_at dksX0_isCalled_4 0 rfl rfl)
theorem dX0_isCalled_94 : decode cX0_isCalled 94 = .ok (.iload 4, 2) := dk_21 4 (dk_at dksX0_isCalled_4 3 rfl rfl)
theorem dX0_isCalled_96 : decode cX0_isCalled 96 = .ok (.invokevirtual 147, 3) := dk_182 0 147 (dk_at dksX0_isCalled_4 5 rfl rfl)
theorem dX0_isCalled_99 : decode cX0_isCalled 99 = .ok (.checkcast 204, 3) := dk_192 0 204 (dk_at dksX0_isCalled_4 8 rfl rfl)
theorem dX0_isCalled_102 : decode cX0_isCalled 102 = .ok (.iconst 1, 1) := dk_4 (dk_at dksX0_isCalled_4 11 rfl rfl)
theorem dX0_isCalled_103 : decode cX0_isCalled 103 = .ok (.iaload, 1) := dk_46 (dk_at dksX0_isCalled_4 12 rfl rfl)
theorem dX0_isCalled_104 : decode cX0_isCalled 104 = .ok (.iload_n 2, 1) := dk_28 (dk_at dksX0_isCalled_4 13 rfl rfl)
theorem dX0_isCalled_105 : decode cX0_isCalled 105 = .ok (.if_icmp .ne 19, 3) := dk_160 0 19 (dk_at dksX0_isCalled_4 14 rfl rfl)
theorem dX0_isCalled_108 : decode cX0_isCalled 108 = .ok (.aload_n 0, 1) := dk_42 (dk_at dksX0_isCalled_4 17 rfl rfl)
theorem dX0_isCalled_109 : decode cX0_isCalled 109 = .ok (.getfield 215, 3) := dk_180 0 215 (dk_at dksX0_isCalled_4 18 rfl rfl)
theorem dX0_isCalled_112 : decode cX0_isCalled 112 = .ok (.iload 4, 2) := dk_21 4 (dk_at dksX0_isCalled_4 21 rfl rfl)
theorem dX0_isCalled_114 : decode cX0_isCalled 114 = .ok (.invokestatic 208, 3) := dk_184 0 208 (dk_at dksX0_isCalled_5 0 rfl rfl)
theorem dX0_isCalled_117 : decode cX0_isCalled 117 = .ok (.ifCond .ne 7, 3) := dk_154 0 7 (dk_at dksX0_isCalled_5 3 rfl rfl)
theorem dX0_isCalled_120 : decode cX0_isCalled 120 = .ok (.iconst 1, 1) := dk_4 (dk_at dksX0_isCalled_5 6 rfl rfl)
theorem dX0_isCalled_121 : decode cX0_isCalled 121 = .ok (.goto 4, 3) := dk_167 0 4 (dk_at dksX0_isCalled_5 7 rfl rfl)
theorem dX0_isCalled_124 : decode cX0_isCalled 124 = .ok (.iconst 0, 1) := dk_3 (dk_at dksX0_isCalled_5 10 rfl rfl)
theorem dX0_isCalled_125 : decode cX0_isCalled 125 = .ok (.ior, 1) := dk_128 (dk_at dksX0_isCalled_5 11 rfl rfl)
theorem dX0_isCalled_126 : decode cX0_isCalled 126 = .ok (.istore_n 3, 1) := dk_62 (dk_at dksX0_isCalled_5 12 rfl rfl)
theorem dX0_isCalled_127 : decode cX0_isCalled 127 = .ok (.iinc 4 1, 3) := dk_132 4 1 (dk_at dksX0_isCalled_5 13 rfl rfl)
theorem dX0_isCalled_130 : decode cX0_isCalled 130 = .ok (.goto (-71), 3) := dk_167 255 185 (dk_at dksX0_isCalled_5 16 rfl rfl)
theorem dX0_isCalled_133 : decode cX0_isCalled 133 = .ok (.iload_n 3, 1) := dk_29 (dk_at dksX0_isCalled_5 19 rfl rfl)
theorem dX0_isCalled_134 : decode cX0_isCalled 134 = .ok (.ireturn, 1) := dk_172 (dk_at dksX0_isCalled_5 20 rfl rfl)
abbrev cX0_hearsAll : ByteArray := prog_1_method_27_code
def yX0_hearsAll : MethodName := ⟨RX0, "hearsAll", "(II)V"⟩
def dkwX0_hearsAll_7 : List UInt8 := [180, 0, 55, 3, 27, 79, 42, 180, 0, 55, 4, 28, 79, 132, 4, 1, 167, 255, 155, 177]
abbrev dktX0_hearsAll_7 : List UInt8 := dkwX0_hearsAll_7 ++ []
def dkwX0_hearsAll_6 : List UInt8 := [46, 21, 5, 96, 79, 21, 5, 153, 0, 30, 42, 180, 0, 55, 3, 46, 2, 159, 0, 6, 167, 0, 17, 42]
abbrev dktX0_hearsAll_6 : List UInt8 := dkwX0_hearsAll_6 ++ dktX0_hearsAll_7
def dkwX0_hearsAll_5 : List UInt8 := [167, 0, 61, 42, 27, 28, 21, 4, 178, 0, 249, 182, 0, 246, 54, 5, 42, 180, 0, 49, 27, 50, 28, 92]
abbrev dktX0_hearsAll_5 : List UInt8 := dkwX0_hearsAll_5 ++ dktX0_hearsAll_6
def dkwX0_hearsAll_4 : List UInt8 := [42, 180, 0, 23, 180, 0, 159, 21, 4, 182, 0, 147, 192, 0, 68, 180, 0, 241, 29, 160, 0, 6]
abbrev dktX0_hearsAll_4 : List UInt8 := dkwX0_hearsAll_4 ++ dktX0_hearsAll_5
def dkwX0_hearsAll_3 : List UInt8 := [132, 4, 1, 167, 255, 204, 3, 54, 4, 21, 4, 42, 180, 0, 23, 180, 0, 159, 182, 0, 170, 162, 0, 92]
abbrev dktX0_hearsAll_3 : List UInt8 := dkwX0_hearsAll_3 ++ dktX0_hearsAll_4
def dkwX0_hearsAll_2 : List UInt8 := [192, 0, 68, 180, 0, 241, 29, 160, 0, 15, 42, 27, 28, 21, 4, 178, 0, 242, 182, 0, 246, 87]
abbrev dktX0_hearsAll_2 : List UInt8 := dkwX0_hearsAll_2 ++ dktX0_hearsAll_3
def dkwX0_hearsAll_1 : List UInt8 := [180, 0, 23, 180, 0, 159, 182, 0, 170, 162, 0, 43, 42, 180, 0, 23, 180, 0, 159, 21, 4, 182, 0, 147]
abbrev dktX0_hearsAll_1 : List UInt8 := dkwX0_hearsAll_1 ++ dktX0_hearsAll_2
def dkwX0_hearsAll_0 : List UInt8 := [42, 180, 0, 14, 180, 0, 144, 28, 182, 0, 147, 192, 0, 151, 180, 0, 238, 62, 3, 54, 4, 21, 4, 42]
abbrev dktX0_hearsAll_0 : List UInt8 := dkwX0_hearsAll_0 ++ dktX0_hearsAll_1
theorem dksX0_hearsAll_0 : cX0_hearsAll.data.toList.drop 0 = dktX0_hearsAll_0 := by decide +kernel
theorem dksX0_hearsAll_1 : cX0_hearsAll.data.toList.drop 24 = dktX0_hearsAll_1 := dk_seg dksX0_hearsAll_0 24 rfl rfl
theorem dksX0_hearsAll_2 : cX0_hearsAll.data.toList.drop 48 = dktX0_hearsAll_2 := dk_seg dksX0_hearsAll_1 24 rfl rfl
theorem dksX0_hearsAll_3 : cX0_hearsAll.data.toList.drop 70 = dktX0_hearsAll_3 := dk_seg dksX0_hearsAll_2 22 rfl rfl
theorem dksX0_hearsAll_4 : cX0_hearsAll.data.toList.drop 94 = dktX0_hearsAll_4 := dk_seg dksX0_hearsAll_3 24 rfl rfl
theorem dksX0_hearsAll_5 : cX0_hearsAll.data.toList.drop 116 = dktX0_hearsAll_5 := dk_seg dksX0_hearsAll_4 22 rfl rfl
theorem dksX0_hearsAll_6 : cX0_hearsAll.data.toList.drop 140 = dktX0_hearsAll_6 := dk_seg dksX0_hearsAll_5 24 rfl rfl
theorem dksX0_hearsAll_7 : cX0_hearsAll.data.toList.drop 164 = dktX0_hearsAll_7 := dk_seg dksX0_hearsAll_6 24 rfl rfl
theorem dX0_hearsAll_0 : decode cX0_hearsAll 0 = .ok (.aload_n 0, 1) := dk_42 (dk_at dksX0_hearsAll_0 0 rfl rfl)
theorem dX0_hearsAll_1 : decode cX0_hearsAll 1 = .ok (.getfield 14, 3) := dk_180 0 14 (dk_at dksX0_hearsAll_0 1 rfl rfl)
theorem dX0_hearsAll_4 : decode cX0_hearsAll 4 = .ok (.getfield 144, 3) := dk_180 0 144 (dk_at dksX0_hearsAll_0 4 rfl rfl)
theorem dX0_hearsAll_7 : decode cX0_hearsAll 7 = .ok (.iload_n 2, 1) := dk_28 (dk_at dksX0_hearsAll_0 7 rfl rfl)
theorem dX0_hearsAll_8 : decode cX0_hearsAll 8 = .ok (.invokevirtual 147, 3) := dk_182 0 147 (dk_at dksX0_hearsAll_0 8 rfl rfl)
theorem dX0_hearsAll_11 : decode cX0_hearsAll 11 = .ok (.checkcast 151, 3) := dk_192 0 151 (dk_at dksX0_hearsAll_0 11 rfl rfl)
theorem dX0_hearsAll_14 : decode cX0_hearsAll 14 = .ok (.getfield 238, 3) := dk_180 0 238 (dk_at dksX0_hearsAll_0 14 rfl rfl)
theorem dX0_hearsAll_17 : decode cX0_hearsAll 17 = .ok (.istore_n 3, 1) := dk_62 (dk_at dksX0_hearsAll_0 17 rfl rfl)
theorem dX0_hearsAll_18 : decode cX0_hearsAll 18 = .ok (.iconst 0, 1) := dk_3 (dk_at dksX0_hearsAll_0 18 rfl rfl)
theorem dX0_hearsAll_19 : decode cX0_hearsAll 19 = .ok (.istore 4, 2) := dk_54 4 (dk_at dksX0_hearsAll_0 19 rfl rfl)
theorem dX0_hearsAll_21 : decode cX0_hearsAll 21 = .ok (.iload 4, 2) := dk_21 4 (dk_at dksX0_hearsAll_0 21 rfl rfl)
theorem dX0_hearsAll_23 : decode cX0_hearsAll 23 = .ok (.aload_n 0, 1) := dk_42 (dk_at dksX0_hearsAll_0 23 rfl rfl)
theorem dX0_hearsAll_24 : decode cX0_hearsAll 24 = .ok (.getfield 23, 3) := dk_180 0 23 (dk_at dksX0_hearsAll_1 0 rfl rfl)
theorem dX0_hearsAll_27 : decode cX0_hearsAll 27 = .ok (.getfield 159, 3) := dk_180 0 159 (dk_at dksX0_hearsAll_1 3 rfl rfl)
theorem dX0_hearsAll_30 : decode cX0_hearsAll 30 = .ok (.invokevirtual 170, 3) := dk_182 0 170 (dk_at dksX0_hearsAll_1 6 rfl rfl)
theorem dX0_hearsAll_33 : decode cX0_hearsAll 33 = .ok (.if_icmp .ge 43, 3) := dk_162 0 43 (dk_at dksX0_hearsAll_1 9 rfl rfl)
theorem dX0_hearsAll_36 : decode cX0_hearsAll 36 = .ok (.aload_n 0, 1) := dk_42 (dk_at dksX0_hearsAll_1 12 rfl rfl)
theorem dX0_hearsAll_37 : decode cX0_hearsAll 37 = .ok (.getfield 23, 3) := dk_180 0 23 (dk_at dksX0_hearsAll_1 13 rfl rfl)
theorem dX0_hearsAll_40 : decode cX0_hearsAll 40 = .ok (.getfield 159, 3) := dk_180 0 159 (dk_at dksX0_hearsAll_1 16 rfl rfl)
theorem dX0_hearsAll_43 : decode cX0_hearsAll 43 = .ok (.iload 4, 2) := dk_21 4 (dk_at dksX0_hearsAll_1 19 rfl rfl)
theorem dX0_hearsAll_45 : decode cX0_hearsAll 45 = .ok (.invokevirtual 147, 3) := dk_182 0 147 (dk_at dksX0_hearsAll_1 21 rfl rfl)
theorem dX0_hearsAll_48 : decode cX0_hearsAll 48 = .ok (.checkcast 68, 3) := dk_192 0 68 (dk_at dksX0_hearsAll_2 0 rfl rfl)
theorem dX0_hearsAll_51 : decode cX0_hearsAll 51 = .ok (.getfield 241, 3) := dk_180 0 241 (dk_at dksX0_hearsAll_2 3 rfl rfl)
theorem dX0_hearsAll_54 : decode cX0_hearsAll 54 = .ok (.iload_n 3, 1) := dk_29 (dk_at dksX0_hearsAll_2 6 rfl rfl)
theorem dX0_hearsAll_55 : decode cX0_hearsAll 55 = .ok (.if_icmp .ne 15, 3) := dk_160 0 15 (dk_at dksX0_hearsAll_2 7 rfl rfl)
theorem dX0_hearsAll_58 : decode cX0_hearsAll 58 = .ok (.aload_n 0, 1) := dk_42 (dk_at dksX0_hearsAll_2 10 rfl rfl)
theorem dX0_hearsAll_59 : decode cX0_hearsAll 59 = .ok (.iload_n 1, 1) := dk_27 (dk_at dksX0_hearsAll_2 11 rfl rfl)
theorem dX0_hearsAll_60 : decode cX0_hearsAll 60 = .ok (.iload_n 2, 1) := dk_28 (dk_at dksX0_hearsAll_2 12 rfl rfl)
theorem dX0_hearsAll_61 : decode cX0_hearsAll 61 = .ok (.iload 4, 2) := dk_21 4 (dk_at dksX0_hearsAll_2 13 rfl rfl)
theorem dX0_hearsAll_63 : decode cX0_hearsAll 63 = .ok (.getstatic 242, 3) := dk_178 0 242 (dk_at dksX0_hearsAll_2 15 rfl rfl)
theorem dX0_hearsAll_66 : decode cX0_hearsAll 66 = .ok (.invokevirtual 246, 3) := dk_182 0 246 (dk_at dksX0_hearsAll_2 18 rfl rfl)
theorem dX0_hearsAll_69 : decode cX0_hearsAll 69 = .ok (.pop, 1) := dk_87 (dk_at dksX0_hearsAll_2 21 rfl rfl)
theorem dX0_hearsAll_70 : decode cX0_hearsAll 70 = .ok (.iinc 4 1, 3) := dk_132 4 1 (dk_at dksX0_hearsAll_3 0 rfl rfl)
theorem dX0_hearsAll_73 : decode cX0_hearsAll 73 = .ok (.goto (-52), 3) := dk_167 255 204 (dk_at dksX0_hearsAll_3 3 rfl rfl)
theorem dX0_hearsAll_76 : decode cX0_hearsAll 76 = .ok (.iconst 0, 1) := dk_3 (dk_at dksX0_hearsAll_3 6 rfl rfl)
theorem dX0_hearsAll_77 : decode cX0_hearsAll 77 = .ok (.istore 4, 2) := dk_54 4 (dk_at dksX0_hearsAll_3 7 rfl rfl)
theorem dX0_hearsAll_79 : decode cX0_hearsAll 79 = .ok (.iload 4, 2) := dk_21 4 (dk_at dksX0_hearsAll_3 9 rfl rfl)
theorem dX0_hearsAll_81 : decode cX0_hearsAll 81 = .ok (.aload_n 0, 1) := dk_42 (dk_at dksX0_hearsAll_3 11 rfl rfl)
theorem dX0_hearsAll_82 : decode cX0_hearsAll 82 = .ok (.getfield 23, 3) := dk_180 0 23 (dk_at dksX0_hearsAll_3 12 rfl rfl)
theorem dX0_hearsAll_85 : decode cX0_hearsAll 85 = .ok (.getfield 159, 3) := dk_180 0 159 (dk_at dksX0_hearsAll_3 15 rfl rfl)
theorem dX0_hearsAll_88 : decode cX0_hearsAll 88 = .ok (.invokevirtual 170, 3) := dk_182 0 170 (dk_at dksX0_hearsAll_3 18 rfl rfl)
theorem dX0_hearsAll_91 : decode cX0_hearsAll 91 = .ok (.if_icmp .ge 92, 3) := dk_162 0 92 (dk_at dksX0_hearsAll_3 21 rfl rfl)
theorem dX0_hearsAll_94 : decode cX0_hearsAll 94 = .ok (.aload_n 0, 1) := dk_42 (dk_at dksX0_hearsAll_4 0 rfl rfl)
theorem dX0_hearsAll_95 : decode cX0_hearsAll 95 = .ok (.getfield 23, 3) := dk_180 0 23 (dk_at dksX0_hearsAll_4 1 rfl rfl)
theorem dX0_hearsAll_98 : decode cX0_hearsAll 98 = .ok (.getfield 159, 3) := dk_180 0 159 (dk_at dksX0_hearsAll_4 4 rfl rfl)
theorem dX0_hearsAll_101 : decode cX0_hearsAll 101 = .ok (.iload 4, 2) := dk_21 4 (dk_at dksX0_hearsAll_4 7 rfl rfl)
theorem dX0_hearsAll_103 : decode cX0_hearsAll 103 = .ok (.invokevirtual 147, 3) := dk_182 0 147 (dk_at dksX0_hearsAll_4 9 rfl rfl)
theorem dX0_hearsAll_106 : decode cX0_hearsAll 106 = .ok (.checkcast 68, 3) := dk_192 0 68 (dk_at dksX0_hearsAll_4 12 rfl rfl)
theorem dX0_hearsAll_109 : decode cX0_hearsAll 109 = .ok (.getfield 241, 3) := dk_180 0 241 (dk_at dksX0_hearsAll_4 15 rfl rfl)
theorem dX0_hearsAll_112 : decode cX0_hearsAll 112 = .ok (.iload_n 3, 1) := dk_29 (dk_at dksX0_hearsAll_4 18 rfl rfl)
theorem dX0_hearsAll_113 : decode cX0_hearsAll 113 = .ok (.if_icmp .ne 6, 3) := dk_160 0 6 (dk_at dksX0_hearsAll_4 19 rfl rfl)
theorem dX0_hearsAll_116 : decode cX0_hearsAll 116 = .ok (.goto 61, 3) := dk_167 0 61 (dk_at dksX0_hearsAll_5 0 rfl rfl)
theorem dX0_hearsAll_119 : decode cX0_hearsAll 119 = .ok (.aload_n 0, 1) := dk_42 (dk_at dksX0_hearsAll_5 3 rfl rfl)
theorem dX0_hearsAll_120 : decode cX0_hearsAll 120 = .ok (.iload_n 1, 1) := dk_27 (dk_at dksX0_hearsAll_5 4 rfl rfl)
theorem dX0_hearsAll_121 : decode cX0_hearsAll 121 = .ok (.iload_n 2, 1) := dk_28 (dk_at dksX0_hearsAll_5 5 rfl rfl)
theorem dX0_hearsAll_122 : decode cX0_hearsAll 122 = .ok (.iload 4, 2) := dk_21 4 (dk_at dksX0_hearsAll_5 6 rfl rfl)
theorem dX0_hearsAll_124 : decode cX0_hearsAll 124 = .ok (.getstatic 249, 3) := dk_178 0 249 (dk_at dksX0_hearsAll_5 8 rfl rfl)
theorem dX0_hearsAll_127 : decode cX0_hearsAll 127 = .ok (.invokevirtual 246, 3) := dk_182 0 246 (dk_at dksX0_hearsAll_5 11 rfl rfl)
theorem dX0_hearsAll_130 : decode cX0_hearsAll 130 = .ok (.istore 5, 2) := dk_54 5 (dk_at dksX0_hearsAll_5 14 rfl rfl)
theorem dX0_hearsAll_132 : decode cX0_hearsAll 132 = .ok (.aload_n 0, 1) := dk_42 (dk_at dksX0_hearsAll_5 16 rfl rfl)
theorem dX0_hearsAll_133 : decode cX0_hearsAll 133 = .ok (.getfield 49, 3) := dk_180 0 49 (dk_at dksX0_hearsAll_5 17 rfl rfl)
theorem dX0_hearsAll_136 : decode cX0_hearsAll 136 = .ok (.iload_n 1, 1) := dk_27 (dk_at dksX0_hearsAll_5 20 rfl rfl)
theorem dX0_hearsAll_137 : decode cX0_hearsAll 137 = .ok (.aaload, 1) := dk_50 (dk_at dksX0_hearsAll_5 21 rfl rfl)
theorem dX0_hearsAll_138 : decode cX0_hearsAll 138 = .ok (.iload_n 2, 1) := dk_28 (dk_at dksX0_hearsAll_5 22 rfl rfl)
theorem dX0_hearsAll_139 : decode cX0_hearsAll 139 = .ok (.dup2, 1) := dk_92 (dk_at dksX0_hearsAll_5 23 rfl rfl)
theorem dX0_hearsAll_140 : decode cX0_hearsAll 140 = .ok (.iaload, 1) := dk_46 (dk_at dksX0_hearsAll_6 0 rfl rfl)
theorem dX0_hearsAll_141 : decode cX0_hearsAll 141 = .ok (.iload 5, 2) := dk_21 5 (dk_at dksX0_hearsAll_6 1 rfl rfl)
theorem dX0_hearsAll_143 : decode cX0_hearsAll 143 = .ok (.iadd, 1) := dk_96 (dk_at dksX0_hearsAll_6 3 rfl rfl)
theorem dX0_hearsAll_144 : decode cX0_hearsAll 144 = .ok (.iastore, 1) := dk_79 (dk_at dksX0_hearsAll_6 4 rfl rfl)
theorem dX0_hearsAll_145 : decode cX0_hearsAll 145 = .ok (.iload 5, 2) := dk_21 5 (dk_at dksX0_hearsAll_6 5 rfl rfl)
theorem dX0_hearsAll_147 : decode cX0_hearsAll 147 = .ok (.ifCond .eq 30, 3) := dk_153 0 30 (dk_at dksX0_hearsAll_6 7 rfl rfl)
theorem dX0_hearsAll_150 : decode cX0_hearsAll 150 = .ok (.aload_n 0, 1) := dk_42 (dk_at dksX0_hearsAll_6 10 rfl rfl)
theorem dX0_hearsAll_151 : decode cX0_hearsAll 151 = .ok (.getfield 55, 3) := dk_180 0 55 (dk_at dksX0_hearsAll_6 11 rfl rfl)
theorem dX0_hearsAll_154 : decode cX0_hearsAll 154 = .ok (.iconst 0, 1) := dk_3 (dk_at dksX0_hearsAll_6 14 rfl rfl)
theorem dX0_hearsAll_155 : decode cX0_hearsAll 155 = .ok (.iaload, 1) := dk_46 (dk_at dksX0_hearsAll_6 15 rfl rfl)
theorem dX0_hearsAll_156 : decode cX0_hearsAll 156 = .ok (.iconst (-1), 1) := dk_2 (dk_at dksX0_hearsAll_6 16 rfl rfl)
theorem dX0_hearsAll_157 : decode cX0_hearsAll 157 = .ok (.if_icmp .eq 6, 3) := dk_159 0 6 (dk_at dksX0_hearsAll_6 17 rfl rfl)
theorem dX0_hearsAll_160 : decode cX0_hearsAll 160 = .ok (.goto 17, 3) := dk_167 0 17 (dk_at dksX0_hearsAll_6 20 rfl rfl)
theorem dX0_hearsAll_163 : decode cX0_hearsAll 163 = .ok (.aload_n 0, 1) := dk_42 (dk_at dksX0_hearsAll_6 23 rfl rfl)
theorem dX0_hearsAll_164 : decode cX0_hearsAll 164 = .ok (.getfield 55, 3) := dk_180 0 55 (dk_at dksX0_hearsAll_7 0 rfl rfl)
theorem dX0_hearsAll_167 : decode cX0_hearsAll 167 = .ok (.iconst 0, 1) := dk_3 (dk_at dksX0_hearsAll_7 3 rfl rfl)
theorem dX0_hearsAll_168 : decode cX0_hearsAll 168 = .ok (.iload_n 1, 1) := dk_27 (dk_at dksX0_hearsAll_7 4 rfl rfl)
theorem dX0_hearsAll_169 : decode cX0_hearsAll 169 = .ok (.iastore, 1) := dk_79 (dk_at dksX0_hearsAll_7 5 rfl rfl)
theorem dX0_hearsAll_170 : decode cX0_hearsAll 170 = .ok (.aload_n 0, 1) := dk_42 (dk_at dksX0_hearsAll_7 6 rfl rfl)
theorem dX0_hearsAll_171 : decode cX0_hearsAll 171 = .ok (.getfield 55, 3) := dk_180 0 55 (dk_at dksX0_hearsAll_7 7 rfl rfl)
theorem dX0_hearsAll_174 : decode cX0_hearsAll 174 = .ok (.iconst 1, 1) := dk_4 (dk_at dksX0_hearsAll_7 10 rfl rfl)
theorem dX0_hearsAll_175 : decode cX0_hearsAll 175 = .ok (.iload_n 2, 1) := dk_28 (dk_at dksX0_hearsAll_7 11 rfl rfl)
theorem dX0_hearsAll_176 : decode cX0_hearsAll 176 = .ok (.iastore, 1) := dk_79 (dk_at dksX0_hearsAll_7 12 rfl rfl)
theorem dX0_hearsAll_177 : decode cX0_hearsAll 177 = .ok (.iinc 4 1, 3) := dk_132 4 1 (dk_at dksX0_hearsAll_7 13 rfl rfl)
theorem dX0_hearsAll_180 : decode cX0_hearsAll 180 = .ok (.goto (-101), 3) := dk_167 255 155 (dk_at dksX0_hearsAll_7 16 rfl rfl)
theorem dX0_hearsAll_183 : decode cX0_hearsAll 183 = .ok (.return_, 1) := dk_177 (dk_at dksX0_hearsAll_7 19 rfl rfl)
abbrev cX0_hears : ByteArray := prog_1_method_26_code
def yX0_hears : MethodName := ⟨RX0, "hears", "(IIILInterestTaken$Ear;)I"⟩
def dkwX0_hears_2 : List UInt8 := [92, 46, 21, 5, 100, 79, 42, 180, 0, 46, 27, 50, 28, 92, 46, 21, 5, 96, 79, 21, 5, 172]
abbrev dktX0_hears_2 : List UInt8 := dkwX0_hears_2 ++ []
def dkwX0_hears_1 : List UInt8 := [180, 0, 52, 27, 50, 29, 92, 46, 25, 4, 21, 5, 182, 0, 235, 100, 79, 42, 180, 0, 43, 27, 50, 28]
abbrev dktX0_hears_1 : List UInt8 := dkwX0_hears_1 ++ dktX0_hears_2
def dkwX0_hears_0 : List UInt8 := [25, 4, 42, 180, 0, 43, 27, 50, 28, 46, 42, 180, 0, 52, 27, 50, 29, 46, 182, 0, 230, 54, 5, 42]
abbrev dktX0_hears_0 : List UInt8 := dkwX0_hears_0 ++ dktX0_hears_1
theorem dksX0_hears_0 : cX0_hears.data.toList.drop 0 = dktX0_hears_0 := by decide +kernel
theorem dksX0_hears_1 : cX0_hears.data.toList.drop 24 = dktX0_hears_1 := dk_seg dksX0_hears_0 24 rfl rfl
theorem dksX0_hears_2 : cX0_hears.data.toList.drop 48 = dktX0_hears_2 := dk_seg dksX0_hears_1 24 rfl rfl
theorem dX0_hears_0 : decode cX0_hears 0 = .ok (.aload 4, 2) := dk_25 4 (dk_at dksX0_hears_0 0 rfl rfl)
theorem dX0_hears_2 : decode cX0_hears 2 = .ok (.aload_n 0, 1) := dk_42 (dk_at dksX0_hears_0 2 rfl rfl)
theorem dX0_hears_3 : decode cX0_hears 3 = .ok (.getfield 43, 3) := dk_180 0 43 (dk_at dksX0_hears_0 3 rfl rfl)
theorem dX0_hears_6 : decode cX0_hears 6 = .ok (.iload_n 1, 1) := dk_27 (dk_at dksX0_hears_0 6 rfl rfl)
theorem dX0_hears_7 : decode cX0_hears 7 = .ok (.aaload, 1) := dk_50 (dk_at dksX0_hears_0 7 rfl rfl)
theorem dX0_hears_8 : decode cX0_hears 8 = .ok (.iload_n 2, 1) := dk_28 (dk_at dksX0_hears_0 8 rfl rfl)
theorem dX0_hears_9 : decode cX0_hears 9 = .ok (.iaload, 1) := dk_46 (dk_at dksX0_hears_0 9 rfl rfl)
theorem dX0_hears_10 : decode cX0_hears 10 = .ok (.aload_n 0, 1) := dk_42 (dk_at dksX0_hears_0 10 rfl rfl)
theorem dX0_hears_11 : decode cX0_hears 11 = .ok (.getfield 52, 3) := dk_180 0 52 (dk_at dksX0_hears_0 11 rfl rfl)
theorem dX0_hears_14 : decode cX0_hears 14 = .ok (.iload_n 1, 1) := dk_27 (dk_at dksX0_hears_0 14 rfl rfl)
theorem dX0_hears_15 : decode cX0_hears 15 = .ok (.aaload, 1) := dk_50 (dk_at dksX0_hears_0 15 rfl rfl)
theorem dX0_hears_16 : decode cX0_hears 16 = .ok (.iload_n 3, 1) := dk_29 (dk_at dksX0_hears_0 16 rfl rfl)
theorem dX0_hears_17 : decode cX0_hears 17 = .ok (.iaload, 1) := dk_46 (dk_at dksX0_hears_0 17 rfl rfl)
theorem dX0_hears_18 : decode cX0_hears 18 = .ok (.invokevirtual 230, 3) := dk_182 0 230 (dk_at dksX0_hears_0 18 rfl rfl)
theorem dX0_hears_21 : decode cX0_hears 21 = .ok (.istore 5, 2) := dk_54 5 (dk_at dksX0_hears_0 21 rfl rfl)
theorem dX0_hears_23 : decode cX0_hears 23 = .ok (.aload_n 0, 1) := dk_42 (dk_at dksX0_hears_0 23 rfl rfl)
theorem dX0_hears_24 : decode cX0_hears 24 = .ok (.getfield 52, 3) := dk_180 0 52 (dk_at dksX0_hears_1 0 rfl rfl)
theorem dX0_hears_27 : decode cX0_hears 27 = .ok (.iload_n 1, 1) := dk_27 (dk_at dksX0_hears_1 3 rfl rfl)
theorem dX0_hears_28 : decode cX0_hears 28 = .ok (.aaload, 1) := dk_50 (dk_at dksX0_hears_1 4 rfl rfl)
theorem dX0_hears_29 : decode cX0_hears 29 = .ok (.iload_n 3, 1) := dk_29 (dk_at dksX0_hears_1 5 rfl rfl)
theorem dX0_hears_30 : decode cX0_hears 30 = .ok (.dup2, 1) := dk_92 (dk_at dksX0_hears_1 6 rfl rfl)
theorem dX0_hears_31 : decode cX0_hears 31 = .ok (.iaload, 1) := dk_46 (dk_at dksX0_hears_1 7 rfl rfl)
theorem dX0_hears_32 : decode cX0_hears 32 = .ok (.aload 4, 2) := dk_25 4 (dk_at dksX0_hears_1 8 rfl rfl)
theorem dX0_hears_34 : decode cX0_hears 34 = .ok (.iload 5, 2) := dk_21 5 (dk_at dksX0_hears_1 10 rfl rfl)
theorem dX0_hears_36 : decode cX0_hears 36 = .ok (.invokevirtual 235, 3) := dk_182 0 235 (dk_at dksX0_hears_1 12 rfl rfl)
theorem dX0_hears_39 : decode cX0_hears 39 = .ok (.isub, 1) := dk_100 (dk_at dksX0_hears_1 15 rfl rfl)
theorem dX0_hears_40 : decode cX0_hears 40 = .ok (.iastore, 1) := dk_79 (dk_at dksX0_hears_1 16 rfl rfl)
theorem dX0_hears_41 : decode cX0_hears 41 = .ok (.aload_n 0, 1) := dk_42 (dk_at dksX0_hears_1 17 rfl rfl)
theorem dX0_hears_42 : decode cX0_hears 42 = .ok (.getfield 43, 3) := dk_180 0 43 (dk_at dksX0_hears_1 18 rfl rfl)
theorem dX0_hears_45 : decode cX0_hears 45 = .ok (.iload_n 1, 1) := dk_27 (dk_at dksX0_hears_1 21 rfl rfl)
theorem dX0_hears_46 : decode cX0_hears 46 = .ok (.aaload, 1) := dk_50 (dk_at dksX0_hears_1 22 rfl rfl)
theorem dX0_hears_47 : decode cX0_hears 47 = .ok (.iload_n 2, 1) := dk_28 (dk_at dksX0_hears_1 23 rfl rfl)
theorem dX0_hears_48 : decode cX0_hears 48 = .ok (.dup2, 1) := dk_92 (dk_at dksX0_hears_2 0 rfl rfl)
theorem dX0_hears_49 : decode cX0_hears 49 = .ok (.iaload, 1) := dk_46 (dk_at dksX0_hears_2 1 rfl rfl)
theorem dX0_hears_50 : decode cX0_hears 50 = .ok (.iload 5, 2) := dk_21 5 (dk_at dksX0_hears_2 2 rfl rfl)
theorem dX0_hears_52 : decode cX0_hears 52 = .ok (.isub, 1) := dk_100 (dk_at dksX0_hears_2 4 rfl rfl)
theorem dX0_hears_53 : decode cX0_hears 53 = .ok (.iastore, 1) := dk_79 (dk_at dksX0_hears_2 5 rfl rfl)
theorem dX0_hears_54 : decode cX0_hears 54 = .ok (.aload_n 0, 1) := dk_42 (dk_at dksX0_hears_2 6 rfl rfl)
theorem dX0_hears_55 : decode cX0_hears 55 = .ok (.getfield 46, 3) := dk_180 0 46 (dk_at dksX0_hears_2 7 rfl rfl)
theorem dX0_hears_58 : decode cX0_hears 58 = .ok (.iload_n 1, 1) := dk_27 (dk_at dksX0_hears_2 10 rfl rfl)
theorem dX0_hears_59 : decode cX0_hears 59 = .ok (.aaload, 1) := dk_50 (dk_at dksX0_hears_2 11 rfl rfl)
theorem dX0_hears_60 : decode cX0_hears 60 = .ok (.iload_n 2, 1) := dk_28 (dk_at dksX0_hears_2 12 rfl rfl)
theorem dX0_hears_61 : decode cX0_hears 61 = .ok (.dup2, 1) := dk_92 (dk_at dksX0_hears_2 13 rfl rfl)
theorem dX0_hears_62 : decode cX0_hears 62 = .ok (.iaload, 1) := dk_46 (dk_at dksX0_hears_2 14 rfl rfl)
theorem dX0_hears_63 : decode cX0_hears 63 = .ok (.iload 5, 2) := dk_21 5 (dk_at dksX0_hears_2 15 rfl rfl)
theorem dX0_hears_65 : decode cX0_hears 65 = .ok (.iadd, 1) := dk_96 (dk_at dksX0_hears_2 17 rfl rfl)
theorem dX0_hears_66 : decode cX0_hears 66 = .ok (.iastore, 1) := dk_79 (dk_at dksX0_hears_2 18 rfl rfl)
theorem dX0_hears_67 : decode cX0_hears 67 = .ok (.iload 5, 2) := dk_21 5 (dk_at dksX0_hears_2 19 rfl rfl)
theorem dX0_hears_69 : decode cX0_hears 69 = .ok (.ireturn, 1) := dk_172 (dk_at dksX0_hears_2 21 rfl rfl)
abbrev cX0_allOwed : ByteArray := prog_1_method_28_code
def yX0_allOwed : MethodName := ⟨RX0, "allOwed", "(I)I"⟩
def dkwX0_allOwed_1 : List UInt8 := [50, 29, 46, 96, 61, 132, 3, 1, 167, 255, 228, 28, 172]
abbrev dktX0_allOwed_1 : List UInt8 := dkwX0_allOwed_1 ++ []
def dkwX0_allOwed_0 : List UInt8 := [3, 61, 3, 62, 29, 42, 180, 0, 14, 180, 0, 144, 182, 0, 170, 162, 0, 20, 28, 42, 180, 0, 43, 27]
abbrev dktX0_allOwed_0 : List UInt8 := dkwX0_allOwed_0 ++ dktX0_allOwed_1
theorem dksX0_allOwed_0 : cX0_allOwed.data.toList.drop 0 = dktX0_allOwed_0 := by decide +kernel
theorem dksX0_allOwed_1 : cX0_allOwed.data.toList.drop 24 = dktX0_allOwed_1 := dk_seg dksX0_allOwed_0 24 rfl rfl
theorem dX0_allOwed_0 : decode cX0_allOwed 0 = .ok (.iconst 0, 1) := dk_3 (dk_at dksX0_allOwed_0 0 rfl rfl)
theorem dX0_allOwed_1 : decode cX0_allOwed 1 = .ok (.istore_n 2, 1) := dk_61 (dk_at dksX0_allOwed_0 1 rfl rfl)
theorem dX0_allOwed_2 : decode cX0_allOwed 2 = .ok (.iconst 0, 1) := dk_3 (dk_at dksX0_allOwed_0 2 rfl rfl)
theorem dX0_allOwed_3 : decode cX0_allOwed 3 = .ok (.istore_n 3, 1) := dk_62 (dk_at dksX0_allOwed_0 3 rfl rfl)
theorem dX0_allOwed_4 : decode cX0_allOwed 4 = .ok (.iload_n 3, 1) := dk_29 (dk_at dksX0_allOwed_0 4 rfl rfl)
theorem dX0_allOwed_5 : decode cX0_allOwed 5 = .ok (.aload_n 0, 1) := dk_42 (dk_at dksX0_allOwed_0 5 rfl rfl)
theorem dX0_allOwed_6 : decode cX0_allOwed 6 = .ok (.getfield 14, 3) := dk_180 0 14 (dk_at dksX0_allOwed_0 6 rfl rfl)
theorem dX0_allOwed_9 : decode cX0_allOwed 9 = .ok (.getfield 144, 3) := dk_180 0 144 (dk_at dksX0_allOwed_0 9 rfl rfl)
theorem dX0_allOwed_12 : decode cX0_allOwed 12 = .ok (.invokevirtual 170, 3) := dk_182 0 170 (dk_at dksX0_allOwed_0 12 rfl rfl)
theorem dX0_allOwed_15 : decode cX0_allOwed 15 = .ok (.if_icmp .ge 20, 3) := dk_162 0 20 (dk_at dksX0_allOwed_0 15 rfl rfl)
theorem dX0_allOwed_18 : decode cX0_allOwed 18 = .ok (.iload_n 2, 1) := dk_28 (dk_at dksX0_allOwed_0 18 rfl rfl)
theorem dX0_allOwed_19 : decode cX0_allOwed 19 = .ok (.aload_n 0, 1) := dk_42 (dk_at dksX0_allOwed_0 19 rfl rfl)
theorem dX0_allOwed_20 : decode cX0_allOwed 20 = .ok (.getfield 43, 3) := dk_180 0 43 (dk_at dksX0_allOwed_0 20 rfl rfl)
theorem dX0_allOwed_23 : decode cX0_allOwed 23 = .ok (.iload_n 1, 1) := dk_27 (dk_at dksX0_allOwed_0 23 rfl rfl)
theorem dX0_allOwed_24 : decode cX0_allOwed 24 = .ok (.aaload, 1) := dk_50 (dk_at dksX0_allOwed_1 0 rfl rfl)
theorem dX0_allOwed_25 : decode cX0_allOwed 25 = .ok (.iload_n 3, 1) := dk_29 (dk_at dksX0_allOwed_1 1 rfl rfl)
theorem dX0_allOwed_26 : decode cX0_allOwed 26 = .ok (.iaload, 1) := dk_46 (dk_at dksX0_allOwed_1 2 rfl rfl)
theorem dX0_allOwed_27 : decode cX0_allOwed 27 = .ok (.iadd, 1) := dk_96 (dk_at dksX0_allOwed_1 3 rfl rfl)
theorem dX0_allOwed_28 : decode cX0_allOwed 28 = .ok (.istore_n 2, 1) := dk_61 (dk_at dksX0_allOwed_1 4 rfl rfl)
theorem dX0_allOwed_29 : decode cX0_allOwed 29 = .ok (.iinc 3 1, 3) := dk_132 3 1 (dk_at dksX0_allOwed_1 5 rfl rfl)
theorem dX0_allOwed_32 : decode cX0_allOwed 32 = .ok (.goto (-28), 3) := dk_167 255 228 (dk_at dksX0_allOwed_1 8 rfl rfl)
theorem dX0_allOwed_35 : decode cX0_allOwed 35 = .ok (.iload_n 2, 1) := dk_28 (dk_at dksX0_allOwed_1 11 rfl rfl)
theorem dX0_allOwed_36 : decode cX0_allOwed 36 = .ok (.ireturn, 1) := dk_172 (dk_at dksX0_allOwed_1 12 rfl rfl)
abbrev cX0_heard : ByteArray := prog_1_method_32_code
def yX0_heard : MethodName := ⟨RX0, "heard", "(III)I"⟩
def dkwX0_heard_1 : List UInt8 := [153, 0, 13, 42, 27, 28, 29, 182, 1, 23, 167, 0, 5, 16, 254, 172]
abbrev dktX0_heard_1 : List UInt8 := dkwX0_heard_1 ++ []
def dkwX0_heard_0 : List UInt8 := [42, 182, 1, 20, 27, 184, 0, 165, 153, 0, 28, 42, 28, 182, 0, 139, 153, 0, 20, 29, 184, 0, 109]
abbrev dktX0_heard_0 : List UInt8 := dkwX0_heard_0 ++ dktX0_heard_1
theorem dksX0_heard_0 : cX0_heard.data.toList.drop 0 = dktX0_heard_0 := by decide +kernel
theorem dksX0_heard_1 : cX0_heard.data.toList.drop 23 = dktX0_heard_1 := dk_seg dksX0_heard_0 23 rfl rfl
theorem dX0_heard_0 : decode cX0_heard 0 = .ok (.aload_n 0, 1) := dk_42 (dk_at dksX0_heard_0 0 rfl rfl)
theorem dX0_heard_1 : decode cX0_heard 1 = .ok (.invokevirtual 276, 3) := dk_182 1 20 (dk_at dksX0_heard_0 1 rfl rfl)
theorem dX0_heard_4 : decode cX0_heard 4 = .ok (.iload_n 1, 1) := dk_27 (dk_at dksX0_heard_0 4 rfl rfl)
theorem dX0_heard_5 : decode cX0_heard 5 = .ok (.invokestatic 165, 3) := dk_184 0 165 (dk_at dksX0_heard_0 5 rfl rfl)
theorem dX0_heard_8 : decode cX0_heard 8 = .ok (.ifCond .eq 28, 3) := dk_153 0 28 (dk_at dksX0_heard_0 8 rfl rfl)
theorem dX0_heard_11 : decode cX0_heard 11 = .ok (.aload_n 0, 1) := dk_42 (dk_at dksX0_heard_0 11 rfl rfl)
theorem dX0_heard_12 : decode cX0_heard 12 = .ok (.iload_n 2, 1) := dk_28 (dk_at dksX0_heard_0 12 rfl rfl)
theorem dX0_heard_13 : decode cX0_heard 13 = .ok (.invokevirtual 139, 3) := dk_182 0 139 (dk_at dksX0_heard_0 13 rfl rfl)
theorem dX0_heard_16 : decode cX0_heard 16 = .ok (.ifCond .eq 20, 3) := dk_153 0 20 (dk_at dksX0_heard_0 16 rfl rfl)
theorem dX0_heard_19 : decode cX0_heard 19 = .ok (.iload_n 3, 1) := dk_29 (dk_at dksX0_heard_0 19 rfl rfl)
theorem dX0_heard_20 : decode cX0_heard 20 = .ok (.invokestatic 109, 3) := dk_184 0 109 (dk_at dksX0_heard_0 20 rfl rfl)
theorem dX0_heard_23 : decode cX0_heard 23 = .ok (.ifCond .eq 13, 3) := dk_153 0 13 (dk_at dksX0_heard_1 0 rfl rfl)
theorem dX0_heard_26 : decode cX0_heard 26 = .ok (.aload_n 0, 1) := dk_42 (dk_at dksX0_heard_1 3 rfl rfl)
theorem dX0_heard_27 : decode cX0_heard 27 = .ok (.iload_n 1, 1) := dk_27 (dk_at dksX0_heard_1 4 rfl rfl)
theorem dX0_heard_28 : decode cX0_heard 28 = .ok (.iload_n 2, 1) := dk_28 (dk_at dksX0_heard_1 5 rfl rfl)
theorem dX0_heard_29 : decode cX0_heard 29 = .ok (.iload_n 3, 1) := dk_29 (dk_at dksX0_heard_1 6 rfl rfl)
theorem dX0_heard_30 : decode cX0_heard 30 = .ok (.invokevirtual 279, 3) := dk_182 1 23 (dk_at dksX0_heard_1 7 rfl rfl)
theorem dX0_heard_33 : decode cX0_heard 33 = .ok (.goto 5, 3) := dk_167 0 5 (dk_at dksX0_heard_1 10 rfl rfl)
theorem dX0_heard_36 : decode cX0_heard 36 = .ok (.bipush (-2), 2) := dk_16 254 (dk_at dksX0_heard_1 13 rfl rfl)
theorem dX0_heard_38 : decode cX0_heard 38 = .ok (.ireturn, 1) := dk_172 (dk_at dksX0_heard_1 15 rfl rfl)
abbrev cX0_heardBy : ByteArray := prog_1_method_31_code
def yX0_heardBy : MethodName := ⟨RX0, "heardBy", "(III)I"⟩
def dkwX0_heardBy_0 : List UInt8 := [29, 154, 0, 14, 42, 180, 0, 46, 27, 50, 28, 46, 167, 0, 11, 42, 180, 0, 49, 27, 50, 28, 46, 172]
abbrev dktX0_heardBy_0 : List UInt8 := dkwX0_heardBy_0 ++ []
theorem dksX0_heardBy_0 : cX0_heardBy.data.toList.drop 0 = dktX0_heardBy_0 := by decide +kernel
theorem dX0_heardBy_0 : decode cX0_heardBy 0 = .ok (.iload_n 3, 1) := dk_29 (dk_at dksX0_heardBy_0 0 rfl rfl)
theorem dX0_heardBy_1 : decode cX0_heardBy 1 = .ok (.ifCond .ne 14, 3) := dk_154 0 14 (dk_at dksX0_heardBy_0 1 rfl rfl)
theorem dX0_heardBy_4 : decode cX0_heardBy 4 = .ok (.aload_n 0, 1) := dk_42 (dk_at dksX0_heardBy_0 4 rfl rfl)
theorem dX0_heardBy_5 : decode cX0_heardBy 5 = .ok (.getfield 46, 3) := dk_180 0 46 (dk_at dksX0_heardBy_0 5 rfl rfl)
theorem dX0_heardBy_8 : decode cX0_heardBy 8 = .ok (.iload_n 1, 1) := dk_27 (dk_at dksX0_heardBy_0 8 rfl rfl)
theorem dX0_heardBy_9 : decode cX0_heardBy 9 = .ok (.aaload, 1) := dk_50 (dk_at dksX0_heardBy_0 9 rfl rfl)
theorem dX0_heardBy_10 : decode cX0_heardBy 10 = .ok (.iload_n 2, 1) := dk_28 (dk_at dksX0_heardBy_0 10 rfl rfl)
theorem dX0_heardBy_11 : decode cX0_heardBy 11 = .ok (.iaload, 1) := dk_46 (dk_at dksX0_heardBy_0 11 rfl rfl)
theorem dX0_heardBy_12 : decode cX0_heardBy 12 = .ok (.goto 11, 3) := dk_167 0 11 (dk_at dksX0_heardBy_0 12 rfl rfl)
theorem dX0_heardBy_15 : decode cX0_heardBy 15 = .ok (.aload_n 0, 1) := dk_42 (dk_at dksX0_heardBy_0 15 rfl rfl)
theorem dX0_heardBy_16 : decode cX0_heardBy 16 = .ok (.getfield 49, 3) := dk_180 0 49 (dk_at dksX0_heardBy_0 16 rfl rfl)
theorem dX0_heardBy_19 : decode cX0_heardBy 19 = .ok (.iload_n 1, 1) := dk_27 (dk_at dksX0_heardBy_0 19 rfl rfl)
theorem dX0_heardBy_20 : decode cX0_heardBy 20 = .ok (.aaload, 1) := dk_50 (dk_at dksX0_heardBy_0 20 rfl rfl)
theorem dX0_heardBy_21 : decode cX0_heardBy 21 = .ok (.iload_n 2, 1) := dk_28 (dk_at dksX0_heardBy_0 21 rfl rfl)
theorem dX0_heardBy_22 : decode cX0_heardBy 22 = .ok (.iaload, 1) := dk_46 (dk_at dksX0_heardBy_0 22 rfl rfl)
theorem dX0_heardBy_23 : decode cX0_heardBy 23 = .ok (.ireturn, 1) := dk_172 (dk_at dksX0_heardBy_0 23 rfl rfl)
abbrev cX0_left : ByteArray := prog_1_method_33_code
def yX0_left : MethodName := ⟨RX0, "left", "(II)I"⟩
def dkwX0_left_1 : List UInt8 := [50, 28, 46, 167, 0, 5, 16, 254, 172]
abbrev dktX0_left_1 : List UInt8 := dkwX0_left_1 ++ []
def dkwX0_left_0 : List UInt8 := [42, 182, 1, 20, 27, 184, 0, 165, 153, 0, 22, 42, 28, 182, 0, 156, 153, 0, 14, 42, 180, 0, 52, 27]
abbrev dktX0_left_0 : List UInt8 := dkwX0_left_0 ++ dktX0_left_1
theorem dksX0_left_0 : cX0_left.data.toList.drop 0 = dktX0_left_0 := by decide +kernel
theorem dksX0_left_1 : cX0_left.data.toList.drop 24 = dktX0_left_1 := dk_seg dksX0_left_0 24 rfl rfl
theorem dX0_left_0 : decode cX0_left 0 = .ok (.aload_n 0, 1) := dk_42 (dk_at dksX0_left_0 0 rfl rfl)
theorem dX0_left_1 : decode cX0_left 1 = .ok (.invokevirtual 276, 3) := dk_182 1 20 (dk_at dksX0_left_0 1 rfl rfl)
theorem dX0_left_4 : decode cX0_left 4 = .ok (.iload_n 1, 1) := dk_27 (dk_at dksX0_left_0 4 rfl rfl)
theorem dX0_left_5 : decode cX0_left 5 = .ok (.invokestatic 165, 3) := dk_184 0 165 (dk_at dksX0_left_0 5 rfl rfl)
theorem dX0_left_8 : decode cX0_left 8 = .ok (.ifCond .eq 22, 3) := dk_153 0 22 (dk_at dksX0_left_0 8 rfl rfl)
theorem dX0_left_11 : decode cX0_left 11 = .ok (.aload_n 0, 1) := dk_42 (dk_at dksX0_left_0 11 rfl rfl)
theorem dX0_left_12 : decode cX0_left 12 = .ok (.iload_n 2, 1) := dk_28 (dk_at dksX0_left_0 12 rfl rfl)
theorem dX0_left_13 : decode cX0_left 13 = .ok (.invokevirtual 156, 3) := dk_182 0 156 (dk_at dksX0_left_0 13 rfl rfl)
theorem dX0_left_16 : decode cX0_left 16 = .ok (.ifCond .eq 14, 3) := dk_153 0 14 (dk_at dksX0_left_0 16 rfl rfl)
theorem dX0_left_19 : decode cX0_left 19 = .ok (.aload_n 0, 1) := dk_42 (dk_at dksX0_left_0 19 rfl rfl)
theorem dX0_left_20 : decode cX0_left 20 = .ok (.getfield 52, 3) := dk_180 0 52 (dk_at dksX0_left_0 20 rfl rfl)
theorem dX0_left_23 : decode cX0_left 23 = .ok (.iload_n 1, 1) := dk_27 (dk_at dksX0_left_0 23 rfl rfl)
theorem dX0_left_24 : decode cX0_left 24 = .ok (.aaload, 1) := dk_50 (dk_at dksX0_left_1 0 rfl rfl)
theorem dX0_left_25 : decode cX0_left 25 = .ok (.iload_n 2, 1) := dk_28 (dk_at dksX0_left_1 1 rfl rfl)
theorem dX0_left_26 : decode cX0_left 26 = .ok (.iaload, 1) := dk_46 (dk_at dksX0_left_1 2 rfl rfl)
theorem dX0_left_27 : decode cX0_left 27 = .ok (.goto 5, 3) := dk_167 0 5 (dk_at dksX0_left_1 3 rfl rfl)
theorem dX0_left_30 : decode cX0_left 30 = .ok (.bipush (-2), 2) := dk_16 254 (dk_at dksX0_left_1 6 rfl rfl)
theorem dX0_left_32 : decode cX0_left 32 = .ok (.ireturn, 1) := dk_172 (dk_at dksX0_left_1 8 rfl rfl)
abbrev cX0_run : ByteArray := prog_1_method_34_code
def yX0_run : MethodName := ⟨RX0, "run", "()I"⟩
def dkwX0_run_0 : List UInt8 := [42, 182, 1, 20, 42, 180, 0, 252, 172]
abbrev dktX0_run_0 : List UInt8 := dkwX0_run_0 ++ []
theorem dksX0_run_0 : cX0_run.data.toList.drop 0 = dktX0_run_0 := by decide +kernel
theorem dX0_run_0 : decode cX0_run 0 = .ok (.aload_n 0, 1) := dk_42 (dk_at dksX0_run_0 0 rfl rfl)
theorem dX0_run_1 : decode cX0_run 1 = .ok (.invokevirtual 276, 3) := dk_182 1 20 (dk_at dksX0_run_0 1 rfl rfl)
theorem dX0_run_4 : decode cX0_run 4 = .ok (.aload_n 0, 1) := dk_42 (dk_at dksX0_run_0 4 rfl rfl)
theorem dX0_run_5 : decode cX0_run 5 = .ok (.getfield 252, 3) := dk_180 0 252 (dk_at dksX0_run_0 5 rfl rfl)
theorem dX0_run_8 : decode cX0_run 8 = .ok (.ireturn, 1) := dk_172 (dk_at dksX0_run_0 8 rfl rfl)
abbrev cX0_yawn : ByteArray := prog_1_method_35_code
def yX0_yawn : MethodName := ⟨RX0, "yawn", "(I)I"⟩
def dkwX0_yawn_0 : List UInt8 := [42, 182, 1, 20, 27, 184, 0, 109, 153, 0, 12, 42, 180, 0, 55, 27, 46, 167, 0, 5, 16, 254, 172]
abbrev dktX0_yawn_0 : List UInt8 := dkwX0_yawn_0 ++ []
theorem dksX0_yawn_0 : cX0_yawn.data.toList.drop 0 = dktX0_yawn_0 := by decide +kernel
theorem dX0_yawn_0 : decode cX0_yawn 0 = .ok (.aload_n 0, 1) := dk_42 (dk_at dksX0_yawn_0 0 rfl rfl)
theorem dX0_yawn_1 : decode cX0_yawn 1 = .ok (.invokevirtual 276, 3) := dk_182 1 20 (dk_at dksX0_yawn_0 1 rfl rfl)
theorem dX0_yawn_4 : decode cX0_yawn 4 = .ok (.iload_n 1, 1) := dk_27 (dk_at dksX0_yawn_0 4 rfl rfl)
theorem dX0_yawn_5 : decode cX0_yawn 5 = .ok (.invokestatic 109, 3) := dk_184 0 109 (dk_at dksX0_yawn_0 5 rfl rfl)
theorem dX0_yawn_8 : decode cX0_yawn 8 = .ok (.ifCond .eq 12, 3) := dk_153 0 12 (dk_at dksX0_yawn_0 8 rfl rfl)
theorem dX0_yawn_11 : decode cX0_yawn 11 = .ok (.aload_n 0, 1) := dk_42 (dk_at dksX0_yawn_0 11 rfl rfl)
theorem dX0_yawn_12 : decode cX0_yawn 12 = .ok (.getfield 55, 3) := dk_180 0 55 (dk_at dksX0_yawn_0 12 rfl rfl)
theorem dX0_yawn_15 : decode cX0_yawn 15 = .ok (.iload_n 1, 1) := dk_27 (dk_at dksX0_yawn_0 15 rfl rfl)
theorem dX0_yawn_16 : decode cX0_yawn 16 = .ok (.iaload, 1) := dk_46 (dk_at dksX0_yawn_0 16 rfl rfl)
theorem dX0_yawn_17 : decode cX0_yawn 17 = .ok (.goto 5, 3) := dk_167 0 5 (dk_at dksX0_yawn_0 17 rfl rfl)
theorem dX0_yawn_20 : decode cX0_yawn 20 = .ok (.bipush (-2), 2) := dk_16 254 (dk_at dksX0_yawn_0 20 rfl rfl)
theorem dX0_yawn_22 : decode cX0_yawn 22 = .ok (.ireturn, 1) := dk_172 (dk_at dksX0_yawn_0 22 rfl rfl)
abbrev cX0_most : ByteArray := prog_1_method_38_code
def yX0_most : MethodName := ⟨RX0, "most", "()I"⟩
def dkwX0_most_0 : List UInt8 := [42, 182, 1, 20, 42, 182, 1, 30, 172]
abbrev dktX0_most_0 : List UInt8 := dkwX0_most_0 ++ []
theorem dksX0_most_0 : cX0_most.data.toList.drop 0 = dktX0_most_0 := by decide +kernel
theorem dX0_most_0 : decode cX0_most 0 = .ok (.aload_n 0, 1) := dk_42 (dk_at dksX0_most_0 0 rfl rfl)
theorem dX0_most_1 : decode cX0_most 1 = .ok (.invokevirtual 276, 3) := dk_182 1 20 (dk_at dksX0_most_0 1 rfl rfl)
theorem dX0_most_4 : decode cX0_most 4 = .ok (.aload_n 0, 1) := dk_42 (dk_at dksX0_most_0 4 rfl rfl)
theorem dX0_most_5 : decode cX0_most 5 = .ok (.invokevirtual 286, 3) := dk_182 1 30 (dk_at dksX0_most_0 5 rfl rfl)
theorem dX0_most_8 : decode cX0_most 8 = .ok (.ireturn, 1) := dk_172 (dk_at dksX0_most_0 8 rfl rfl)
abbrev cX0_mostNow : ByteArray := prog_1_method_37_code
def yX0_mostNow : MethodName := ⟨RX0, "mostNow", "()I"⟩
def dkwX0_mostNow_1 : List UInt8 := [182, 1, 27, 42, 27, 182, 1, 27, 164, 0, 5, 28, 60, 132, 2, 1, 167, 255, 222, 27, 172]
abbrev dktX0_mostNow_1 : List UInt8 := dkwX0_mostNow_1 ++ []
def dkwX0_mostNow_0 : List UInt8 := [2, 60, 3, 61, 28, 42, 180, 0, 14, 182, 0, 135, 162, 0, 29, 27, 2, 159, 0, 16, 42, 28]
abbrev dktX0_mostNow_0 : List UInt8 := dkwX0_mostNow_0 ++ dktX0_mostNow_1
theorem dksX0_mostNow_0 : cX0_mostNow.data.toList.drop 0 = dktX0_mostNow_0 := by decide +kernel
theorem dksX0_mostNow_1 : cX0_mostNow.data.toList.drop 22 = dktX0_mostNow_1 := dk_seg dksX0_mostNow_0 22 rfl rfl
theorem dX0_mostNow_0 : decode cX0_mostNow 0 = .ok (.iconst (-1), 1) := dk_2 (dk_at dksX0_mostNow_0 0 rfl rfl)
theorem dX0_mostNow_1 : decode cX0_mostNow 1 = .ok (.istore_n 1, 1) := dk_60 (dk_at dksX0_mostNow_0 1 rfl rfl)
theorem dX0_mostNow_2 : decode cX0_mostNow 2 = .ok (.iconst 0, 1) := dk_3 (dk_at dksX0_mostNow_0 2 rfl rfl)
theorem dX0_mostNow_3 : decode cX0_mostNow 3 = .ok (.istore_n 2, 1) := dk_61 (dk_at dksX0_mostNow_0 3 rfl rfl)
theorem dX0_mostNow_4 : decode cX0_mostNow 4 = .ok (.iload_n 2, 1) := dk_28 (dk_at dksX0_mostNow_0 4 rfl rfl)
theorem dX0_mostNow_5 : decode cX0_mostNow 5 = .ok (.aload_n 0, 1) := dk_42 (dk_at dksX0_mostNow_0 5 rfl rfl)
theorem dX0_mostNow_6 : decode cX0_mostNow 6 = .ok (.getfield 14, 3) := dk_180 0 14 (dk_at dksX0_mostNow_0 6 rfl rfl)
theorem dX0_mostNow_9 : decode cX0_mostNow 9 = .ok (.invokevirtual 135, 3) := dk_182 0 135 (dk_at dksX0_mostNow_0 9 rfl rfl)
theorem dX0_mostNow_12 : decode cX0_mostNow 12 = .ok (.if_icmp .ge 29, 3) := dk_162 0 29 (dk_at dksX0_mostNow_0 12 rfl rfl)
theorem dX0_mostNow_15 : decode cX0_mostNow 15 = .ok (.iload_n 1, 1) := dk_27 (dk_at dksX0_mostNow_0 15 rfl rfl)
theorem dX0_mostNow_16 : decode cX0_mostNow 16 = .ok (.iconst (-1), 1) := dk_2 (dk_at dksX0_mostNow_0 16 rfl rfl)
theorem dX0_mostNow_17 : decode cX0_mostNow 17 = .ok (.if_icmp .eq 16, 3) := dk_159 0 16 (dk_at dksX0_mostNow_0 17 rfl rfl)
theorem dX0_mostNow_20 : decode cX0_mostNow 20 = .ok (.aload_n 0, 1) := dk_42 (dk_at dksX0_mostNow_0 20 rfl rfl)
theorem dX0_mostNow_21 : decode cX0_mostNow 21 = .ok (.iload_n 2, 1) := dk_28 (dk_at dksX0_mostNow_0 21 rfl rfl)
theorem dX0_mostNow_22 : decode cX0_mostNow 22 = .ok (.invokevirtual 283, 3) := dk_182 1 27 (dk_at dksX0_mostNow_1 0 rfl rfl)
theorem dX0_mostNow_25 : decode cX0_mostNow 25 = .ok (.aload_n 0, 1) := dk_42 (dk_at dksX0_mostNow_1 3 rfl rfl)
theorem dX0_mostNow_26 : decode cX0_mostNow 26 = .ok (.iload_n 1, 1) := dk_27 (dk_at dksX0_mostNow_1 4 rfl rfl)
theorem dX0_mostNow_27 : decode cX0_mostNow 27 = .ok (.invokevirtual 283, 3) := dk_182 1 27 (dk_at dksX0_mostNow_1 5 rfl rfl)
theorem dX0_mostNow_30 : decode cX0_mostNow 30 = .ok (.if_icmp .le 5, 3) := dk_164 0 5 (dk_at dksX0_mostNow_1 8 rfl rfl)
theorem dX0_mostNow_33 : decode cX0_mostNow 33 = .ok (.iload_n 2, 1) := dk_28 (dk_at dksX0_mostNow_1 11 rfl rfl)
theorem dX0_mostNow_34 : decode cX0_mostNow 34 = .ok (.istore_n 1, 1) := dk_60 (dk_at dksX0_mostNow_1 12 rfl rfl)
theorem dX0_mostNow_35 : decode cX0_mostNow 35 = .ok (.iinc 2 1, 3) := dk_132 2 1 (dk_at dksX0_mostNow_1 13 rfl rfl)
theorem dX0_mostNow_38 : decode cX0_mostNow 38 = .ok (.goto (-34), 3) := dk_167 255 222 (dk_at dksX0_mostNow_1 16 rfl rfl)
theorem dX0_mostNow_41 : decode cX0_mostNow 41 = .ok (.iload_n 1, 1) := dk_27 (dk_at dksX0_mostNow_1 19 rfl rfl)
theorem dX0_mostNow_42 : decode cX0_mostNow 42 = .ok (.ireturn, 1) := dk_172 (dk_at dksX0_mostNow_1 20 rfl rfl)
abbrev cX0_heardInAll : ByteArray := prog_1_method_36_code
def yX0_heardInAll : MethodName := ⟨RX0, "heardInAll", "(I)I"⟩
def dkwX0_heardInAll_1 : List UInt8 := [167, 255, 236, 28, 172]
abbrev dktX0_heardInAll_1 : List UInt8 := dkwX0_heardInAll_1 ++ []
def dkwX0_heardInAll_0 : List UInt8 := [3, 61, 3, 62, 29, 16, 20, 162, 0, 20, 28, 42, 180, 0, 46, 29, 50, 27, 46, 96, 61, 132, 3, 1]
abbrev dktX0_heardInAll_0 : List UInt8 := dkwX0_heardInAll_0 ++ dktX0_heardInAll_1
theorem dksX0_heardInAll_0 : cX0_heardInAll.data.toList.drop 0 = dktX0_heardInAll_0 := by decide +kernel
theorem dksX0_heardInAll_1 : cX0_heardInAll.data.toList.drop 24 = dktX0_heardInAll_1 := dk_seg dksX0_heardInAll_0 24 rfl rfl
theorem dX0_heardInAll_0 : decode cX0_heardInAll 0 = .ok (.iconst 0, 1) := dk_3 (dk_at dksX0_heardInAll_0 0 rfl rfl)
theorem dX0_heardInAll_1 : decode cX0_heardInAll 1 = .ok (.istore_n 2, 1) := dk_61 (dk_at dksX0_heardInAll_0 1 rfl rfl)
theorem dX0_heardInAll_2 : decode cX0_heardInAll 2 = .ok (.iconst 0, 1) := dk_3 (dk_at dksX0_heardInAll_0 2 rfl rfl)
theorem dX0_heardInAll_3 : decode cX0_heardInAll 3 = .ok (.istore_n 3, 1) := dk_62 (dk_at dksX0_heardInAll_0 3 rfl rfl)
theorem dX0_heardInAll_4 : decode cX0_heardInAll 4 = .ok (.iload_n 3, 1) := dk_29 (dk_at dksX0_heardInAll_0 4 rfl rfl)
theorem dX0_heardInAll_5 : decode cX0_heardInAll 5 = .ok (.bipush 20, 2) := dk_16 20 (dk_at dksX0_heardInAll_0 5 rfl rfl)
theorem dX0_heardInAll_7 : decode cX0_heardInAll 7 = .ok (.if_icmp .ge 20, 3) := dk_162 0 20 (dk_at dksX0_heardInAll_0 7 rfl rfl)
theorem dX0_heardInAll_10 : decode cX0_heardInAll 10 = .ok (.iload_n 2, 1) := dk_28 (dk_at dksX0_heardInAll_0 10 rfl rfl)
theorem dX0_heardInAll_11 : decode cX0_heardInAll 11 = .ok (.aload_n 0, 1) := dk_42 (dk_at dksX0_heardInAll_0 11 rfl rfl)
theorem dX0_heardInAll_12 : decode cX0_heardInAll 12 = .ok (.getfield 46, 3) := dk_180 0 46 (dk_at dksX0_heardInAll_0 12 rfl rfl)
theorem dX0_heardInAll_15 : decode cX0_heardInAll 15 = .ok (.iload_n 3, 1) := dk_29 (dk_at dksX0_heardInAll_0 15 rfl rfl)
theorem dX0_heardInAll_16 : decode cX0_heardInAll 16 = .ok (.aaload, 1) := dk_50 (dk_at dksX0_heardInAll_0 16 rfl rfl)
theorem dX0_heardInAll_17 : decode cX0_heardInAll 17 = .ok (.iload_n 1, 1) := dk_27 (dk_at dksX0_heardInAll_0 17 rfl rfl)
theorem dX0_heardInAll_18 : decode cX0_heardInAll 18 = .ok (.iaload, 1) := dk_46 (dk_at dksX0_heardInAll_0 18 rfl rfl)
theorem dX0_heardInAll_19 : decode cX0_heardInAll 19 = .ok (.iadd, 1) := dk_96 (dk_at dksX0_heardInAll_0 19 rfl rfl)
theorem dX0_heardInAll_20 : decode cX0_heardInAll 20 = .ok (.istore_n 2, 1) := dk_61 (dk_at dksX0_heardInAll_0 20 rfl rfl)
theorem dX0_heardInAll_21 : decode cX0_heardInAll 21 = .ok (.iinc 3 1, 3) := dk_132 3 1 (dk_at dksX0_heardInAll_0 21 rfl rfl)
theorem dX0_heardInAll_24 : decode cX0_heardInAll 24 = .ok (.goto (-20), 3) := dk_167 255 236 (dk_at dksX0_heardInAll_1 0 rfl rfl)
theorem dX0_heardInAll_27 : decode cX0_heardInAll 27 = .ok (.iload_n 2, 1) := dk_28 (dk_at dksX0_heardInAll_1 3 rfl rfl)
theorem dX0_heardInAll_28 : decode cX0_heardInAll 28 = .ok (.ireturn, 1) := dk_172 (dk_at dksX0_heardInAll_1 4 rfl rfl)
abbrev cX0_hold : ByteArray := prog_1_method_41_code
def yX0_hold : MethodName := ⟨RX0, "hold", "()I"⟩
theorem dX0_hold_0 : decode cX0_hold 0 = .ok (.aload_n 0, 1) := by decide +kernel
theorem dX0_hold_1 : decode cX0_hold 1 = .ok (.invokevirtual 289, 3) := by decide +kernel
theorem dX0_hold_4 : decode cX0_hold 4 = .ok (.ireturn, 1) := by decide +kernel
abbrev cX0_holdNow : ByteArray := prog_1_method_40_code
def yX0_holdNow : MethodName := ⟨RX0, "holdNow", "()I"⟩
def dkwX0_holdNow_3 : List UInt8 := [27, 79, 28, 172, 78, 42, 180, 0, 27, 3, 27, 79, 45, 191]
abbrev dktX0_holdNow_3 : List UInt8 := dkwX0_holdNow_3 ++ []
def dkwX0_holdNow_2 : List UInt8 := [27, 79, 28, 172, 42, 180, 0, 27, 3, 92, 46, 4, 100, 79, 167, 255, 209, 2, 61, 42, 180, 0, 27, 3]
abbrev dktX0_holdNow_2 : List UInt8 := dkwX0_holdNow_2 ++ dktX0_holdNow_3
def dkwX0_holdNow_1 : List UInt8 := [42, 182, 1, 20, 42, 180, 0, 252, 2, 160, 0, 19, 42, 180, 0, 27, 3, 46, 61, 42, 180, 0, 27, 3]
abbrev dktX0_holdNow_1 : List UInt8 := dkwX0_holdNow_1 ++ dktX0_holdNow_2
def dkwX0_holdNow_0 : List UInt8 := [42, 180, 0, 27, 3, 46, 60, 42, 180, 0, 27, 3, 16, 9, 79, 42, 180, 0, 27, 3, 46, 155, 0, 44]
abbrev dktX0_holdNow_0 : List UInt8 := dkwX0_holdNow_0 ++ dktX0_holdNow_1
theorem dksX0_holdNow_0 : cX0_holdNow.data.toList.drop 0 = dktX0_holdNow_0 := by decide +kernel
theorem dksX0_holdNow_1 : cX0_holdNow.data.toList.drop 24 = dktX0_holdNow_1 := dk_seg dksX0_holdNow_0 24 rfl rfl
theorem dksX0_holdNow_2 : cX0_holdNow.data.toList.drop 48 = dktX0_holdNow_2 := dk_seg dksX0_holdNow_1 24 rfl rfl
theorem dksX0_holdNow_3 : cX0_holdNow.data.toList.drop 72 = dktX0_holdNow_3 := dk_seg dksX0_holdNow_2 24 rfl rfl
theorem dX0_holdNow_0 : decode cX0_holdNow 0 = .ok (.aload_n 0, 1) := dk_42 (dk_at dksX0_holdNow_0 0 rfl rfl)
theorem dX0_holdNow_1 : decode cX0_holdNow 1 = .ok (.getfield 27, 3) := dk_180 0 27 (dk_at dksX0_holdNow_0 1 rfl rfl)
theorem dX0_holdNow_4 : decode cX0_holdNow 4 = .ok (.iconst 0, 1) := dk_3 (dk_at dksX0_holdNow_0 4 rfl rfl)
theorem dX0_holdNow_5 : decode cX0_holdNow 5 = .ok (.iaload, 1) := dk_46 (dk_at dksX0_holdNow_0 5 rfl rfl)
theorem dX0_holdNow_6 : decode cX0_holdNow 6 = .ok (.istore_n 1, 1) := dk_60 (dk_at dksX0_holdNow_0 6 rfl rfl)
theorem dX0_holdNow_7 : decode cX0_holdNow 7 = .ok (.aload_n 0, 1) := dk_42 (dk_at dksX0_holdNow_0 7 rfl rfl)
theorem dX0_holdNow_8 : decode cX0_holdNow 8 = .ok (.getfield 27, 3) := dk_180 0 27 (dk_at dksX0_holdNow_0 8 rfl rfl)
theorem dX0_holdNow_11 : decode cX0_holdNow 11 = .ok (.iconst 0, 1) := dk_3 (dk_at dksX0_holdNow_0 11 rfl rfl)
theorem dX0_holdNow_12 : decode cX0_holdNow 12 = .ok (.bipush 9, 2) := dk_16 9 (dk_at dksX0_holdNow_0 12 rfl rfl)
theorem dX0_holdNow_14 : decode cX0_holdNow 14 = .ok (.iastore, 1) := dk_79 (dk_at dksX0_holdNow_0 14 rfl rfl)
theorem dX0_holdNow_15 : decode cX0_holdNow 15 = .ok (.aload_n 0, 1) := dk_42 (dk_at dksX0_holdNow_0 15 rfl rfl)
theorem dX0_holdNow_16 : decode cX0_holdNow 16 = .ok (.getfield 27, 3) := dk_180 0 27 (dk_at dksX0_holdNow_0 16 rfl rfl)
theorem dX0_holdNow_19 : decode cX0_holdNow 19 = .ok (.iconst 0, 1) := dk_3 (dk_at dksX0_holdNow_0 19 rfl rfl)
theorem dX0_holdNow_20 : decode cX0_holdNow 20 = .ok (.iaload, 1) := dk_46 (dk_at dksX0_holdNow_0 20 rfl rfl)
theorem dX0_holdNow_21 : decode cX0_holdNow 21 = .ok (.ifCond .lt 44, 3) := dk_155 0 44 (dk_at dksX0_holdNow_0 21 rfl rfl)
theorem dX0_holdNow_24 : decode cX0_holdNow 24 = .ok (.aload_n 0, 1) := dk_42 (dk_at dksX0_holdNow_1 0 rfl rfl)
theorem dX0_holdNow_25 : decode cX0_holdNow 25 = .ok (.invokevirtual 276, 3) := dk_182 1 20 (dk_at dksX0_holdNow_1 1 rfl rfl)
theorem dX0_holdNow_28 : decode cX0_holdNow 28 = .ok (.aload_n 0, 1) := dk_42 (dk_at dksX0_holdNow_1 4 rfl rfl)
theorem dX0_holdNow_29 : decode cX0_holdNow 29 = .ok (.getfield 252, 3) := dk_180 0 252 (dk_at dksX0_holdNow_1 5 rfl rfl)
theorem dX0_holdNow_32 : decode cX0_holdNow 32 = .ok (.iconst (-1), 1) := dk_2 (dk_at dksX0_holdNow_1 8 rfl rfl)
theorem dX0_holdNow_33 : decode cX0_holdNow 33 = .ok (.if_icmp .ne 19, 3) := dk_160 0 19 (dk_at dksX0_holdNow_1 9 rfl rfl)
theorem dX0_holdNow_36 : decode cX0_holdNow 36 = .ok (.aload_n 0, 1) := dk_42 (dk_at dksX0_holdNow_1 12 rfl rfl)
theorem dX0_holdNow_37 : decode cX0_holdNow 37 = .ok (.getfield 27, 3) := dk_180 0 27 (dk_at dksX0_holdNow_1 13 rfl rfl)
theorem dX0_holdNow_40 : decode cX0_holdNow 40 = .ok (.iconst 0, 1) := dk_3 (dk_at dksX0_holdNow_1 16 rfl rfl)
theorem dX0_holdNow_41 : decode cX0_holdNow 41 = .ok (.iaload, 1) := dk_46 (dk_at dksX0_holdNow_1 17 rfl rfl)
theorem dX0_holdNow_42 : decode cX0_holdNow 42 = .ok (.istore_n 2, 1) := dk_61 (dk_at dksX0_holdNow_1 18 rfl rfl)
theorem dX0_holdNow_43 : decode cX0_holdNow 43 = .ok (.aload_n 0, 1) := dk_42 (dk_at dksX0_holdNow_1 19 rfl rfl)
theorem dX0_holdNow_44 : decode cX0_holdNow 44 = .ok (.getfield 27, 3) := dk_180 0 27 (dk_at dksX0_holdNow_1 20 rfl rfl)
theorem dX0_holdNow_47 : decode cX0_holdNow 47 = .ok (.iconst 0, 1) := dk_3 (dk_at dksX0_holdNow_1 23 rfl rfl)
theorem dX0_holdNow_48 : decode cX0_holdNow 48 = .ok (.iload_n 1, 1) := dk_27 (dk_at dksX0_holdNow_2 0 rfl rfl)
theorem dX0_holdNow_49 : decode cX0_holdNow 49 = .ok (.iastore, 1) := dk_79 (dk_at dksX0_holdNow_2 1 rfl rfl)
theorem dX0_holdNow_50 : decode cX0_holdNow 50 = .ok (.iload_n 2, 1) := dk_28 (dk_at dksX0_holdNow_2 2 rfl rfl)
theorem dX0_holdNow_51 : decode cX0_holdNow 51 = .ok (.ireturn, 1) := dk_172 (dk_at dksX0_holdNow_2 3 rfl rfl)
theorem dX0_holdNow_52 : decode cX0_holdNow 52 = .ok (.aload_n 0, 1) := dk_42 (dk_at dksX0_holdNow_2 4 rfl rfl)
theorem dX0_holdNow_53 : decode cX0_holdNow 53 = .ok (.getfield 27, 3) := dk_180 0 27 (dk_at dksX0_holdNow_2 5 rfl rfl)
theorem dX0_holdNow_56 : decode cX0_holdNow 56 = .ok (.iconst 0, 1) := dk_3 (dk_at dksX0_holdNow_2 8 rfl rfl)
theorem dX0_holdNow_57 : decode cX0_holdNow 57 = .ok (.dup2, 1) := dk_92 (dk_at dksX0_holdNow_2 9 rfl rfl)
theorem dX0_holdNow_58 : decode cX0_holdNow 58 = .ok (.iaload, 1) := dk_46 (dk_at dksX0_holdNow_2 10 rfl rfl)
theorem dX0_holdNow_59 : decode cX0_holdNow 59 = .ok (.iconst 1, 1) := dk_4 (dk_at dksX0_holdNow_2 11 rfl rfl)
theorem dX0_holdNow_60 : decode cX0_holdNow 60 = .ok (.isub, 1) := dk_100 (dk_at dksX0_holdNow_2 12 rfl rfl)
theorem dX0_holdNow_61 : decode cX0_holdNow 61 = .ok (.iastore, 1) := dk_79 (dk_at dksX0_holdNow_2 13 rfl rfl)
theorem dX0_holdNow_62 : decode cX0_holdNow 62 = .ok (.goto (-47), 3) := dk_167 255 209 (dk_at dksX0_holdNow_2 14 rfl rfl)
theorem dX0_holdNow_65 : decode cX0_holdNow 65 = .ok (.iconst (-1), 1) := dk_2 (dk_at dksX0_holdNow_2 17 rfl rfl)
theorem dX0_holdNow_66 : decode cX0_holdNow 66 = .ok (.istore_n 2, 1) := dk_61 (dk_at dksX0_holdNow_2 18 rfl rfl)
theorem dX0_holdNow_67 : decode cX0_holdNow 67 = .ok (.aload_n 0, 1) := dk_42 (dk_at dksX0_holdNow_2 19 rfl rfl)
theorem dX0_holdNow_68 : decode cX0_holdNow 68 = .ok (.getfield 27, 3) := dk_180 0 27 (dk_at dksX0_holdNow_2 20 rfl rfl)
theorem dX0_holdNow_71 : decode cX0_holdNow 71 = .ok (.iconst 0, 1) := dk_3 (dk_at dksX0_holdNow_2 23 rfl rfl)
theorem dX0_holdNow_72 : decode cX0_holdNow 72 = .ok (.iload_n 1, 1) := dk_27 (dk_at dksX0_holdNow_3 0 rfl rfl)
theorem dX0_holdNow_73 : decode cX0_holdNow 73 = .ok (.iastore, 1) := dk_79 (dk_at dksX0_holdNow_3 1 rfl rfl)
theorem dX0_holdNow_74 : decode cX0_holdNow 74 = .ok (.iload_n 2, 1) := dk_28 (dk_at dksX0_holdNow_3 2 rfl rfl)
theorem dX0_holdNow_75 : decode cX0_holdNow 75 = .ok (.ireturn, 1) := dk_172 (dk_at dksX0_holdNow_3 3 rfl rfl)
theorem dX0_holdNow_76 : decode cX0_holdNow 76 = .ok (.astore_n 3, 1) := dk_78 (dk_at dksX0_holdNow_3 4 rfl rfl)
theorem dX0_holdNow_77 : decode cX0_holdNow 77 = .ok (.aload_n 0, 1) := dk_42 (dk_at dksX0_holdNow_3 5 rfl rfl)
theorem dX0_holdNow_78 : decode cX0_holdNow 78 = .ok (.getfield 27, 3) := dk_180 0 27 (dk_at dksX0_holdNow_3 6 rfl rfl)
theorem dX0_holdNow_81 : decode cX0_holdNow 81 = .ok (.iconst 0, 1) := dk_3 (dk_at dksX0_holdNow_3 9 rfl rfl)
theorem dX0_holdNow_82 : decode cX0_holdNow 82 = .ok (.iload_n 1, 1) := dk_27 (dk_at dksX0_holdNow_3 10 rfl rfl)
theorem dX0_holdNow_83 : decode cX0_holdNow 83 = .ok (.iastore, 1) := dk_79 (dk_at dksX0_holdNow_3 11 rfl rfl)
theorem dX0_holdNow_84 : decode cX0_holdNow 84 = .ok (.aload_n 3, 1) := dk_45 (dk_at dksX0_holdNow_3 12 rfl rfl)
theorem dX0_holdNow_85 : decode cX0_holdNow 85 = .ok (.athrow, 1) := dk_191 (dk_at dksX0_holdNow_3 13 rfl rfl)
abbrev cX0_draw : ByteArray := prog_1_method_43_code
def yX0_draw : MethodName := ⟨RX0, "draw", "(II)I"⟩
def dkwX0_draw_1 : List UInt8 := [16, 254, 172]
abbrev dktX0_draw_1 : List UInt8 := dkwX0_draw_1 ++ []
def dkwX0_draw_0 : List UInt8 := [42, 27, 182, 0, 139, 153, 0, 19, 28, 184, 0, 109, 153, 0, 12, 42, 27, 28, 182, 1, 36, 167, 0, 5]
abbrev dktX0_draw_0 : List UInt8 := dkwX0_draw_0 ++ dktX0_draw_1
theorem dksX0_draw_0 : cX0_draw.data.toList.drop 0 = dktX0_draw_0 := by decide +kernel
theorem dksX0_draw_1 : cX0_draw.data.toList.drop 24 = dktX0_draw_1 := dk_seg dksX0_draw_0 24 rfl rfl
theorem dX0_draw_0 : decode cX0_draw 0 = .ok (.aload_n 0, 1) := dk_42 (dk_at dksX0_draw_0 0 rfl rfl)
theorem dX0_draw_1 : decode cX0_draw 1 = .ok (.iload_n 1, 1) := dk_27 (dk_at dksX0_draw_0 1 rfl rfl)
theorem dX0_draw_2 : decode cX0_draw 2 = .ok (.invokevirtual 139, 3) := dk_182 0 139 (dk_at dksX0_draw_0 2 rfl rfl)
theorem dX0_draw_5 : decode cX0_draw 5 = .ok (.ifCond .eq 19, 3) := dk_153 0 19 (dk_at dksX0_draw_0 5 rfl rfl)
theorem dX0_draw_8 : decode cX0_draw 8 = .ok (.iload_n 2, 1) := dk_28 (dk_at dksX0_draw_0 8 rfl rfl)
theorem dX0_draw_9 : decode cX0_draw 9 = .ok (.invokestatic 109, 3) := dk_184 0 109 (dk_at dksX0_draw_0 9 rfl rfl)
theorem dX0_draw_12 : decode cX0_draw 12 = .ok (.ifCond .eq 12, 3) := dk_153 0 12 (dk_at dksX0_draw_0 12 rfl rfl)
theorem dX0_draw_15 : decode cX0_draw 15 = .ok (.aload_n 0, 1) := dk_42 (dk_at dksX0_draw_0 15 rfl rfl)
theorem dX0_draw_16 : decode cX0_draw 16 = .ok (.iload_n 1, 1) := dk_27 (dk_at dksX0_draw_0 16 rfl rfl)
theorem dX0_draw_17 : decode cX0_draw 17 = .ok (.iload_n 2, 1) := dk_28 (dk_at dksX0_draw_0 17 rfl rfl)
theorem dX0_draw_18 : decode cX0_draw 18 = .ok (.invokevirtual 292, 3) := dk_182 1 36 (dk_at dksX0_draw_0 18 rfl rfl)
theorem dX0_draw_21 : decode cX0_draw 21 = .ok (.goto 5, 3) := dk_167 0 5 (dk_at dksX0_draw_0 21 rfl rfl)
theorem dX0_draw_24 : decode cX0_draw 24 = .ok (.bipush (-2), 2) := dk_16 254 (dk_at dksX0_draw_1 0 rfl rfl)
theorem dX0_draw_26 : decode cX0_draw 26 = .ok (.ireturn, 1) := dk_172 (dk_at dksX0_draw_1 2 rfl rfl)
abbrev cX0_drawOf : ByteArray := prog_1_method_42_code
def yX0_drawOf : MethodName := ⟨RX0, "drawOf", "(II)I"⟩
def dkwX0_drawOf_4 : List UInt8 := [21, 4, 172]
abbrev dktX0_drawOf_4 : List UInt8 := dkwX0_drawOf_4 ++ []
def dkwX0_drawOf_3 : List UInt8 := [181, 0, 58, 167, 0, 13, 58, 6, 42, 2, 181, 0, 58, 25, 6, 191, 28, 154, 0, 7, 29, 167, 0, 5]
abbrev dktX0_drawOf_3 : List UInt8 := dkwX0_drawOf_3 ++ dktX0_drawOf_4
def dkwX0_drawOf_2 : List UInt8 := [180, 0, 212, 62, 21, 5, 54, 4, 42, 89, 180, 0, 212, 4, 96, 181, 0, 212, 167, 255, 207, 42, 2]
abbrev dktX0_drawOf_2 : List UInt8 := dkwX0_drawOf_2 ++ dktX0_drawOf_3
def dkwX0_drawOf_1 : List UInt8 := [42, 182, 1, 20, 42, 27, 182, 1, 27, 54, 5, 21, 5, 21, 4, 163, 0, 6, 167, 0, 12, 42]
abbrev dktX0_drawOf_1 : List UInt8 := dkwX0_drawOf_1 ++ dktX0_drawOf_2
def dkwX0_drawOf_0 : List UInt8 := [2, 62, 2, 54, 4, 42, 27, 181, 0, 58, 42, 3, 181, 0, 212, 42, 180, 0, 212, 16, 20, 162, 0, 46]
abbrev dktX0_drawOf_0 : List UInt8 := dkwX0_drawOf_0 ++ dktX0_drawOf_1
theorem dksX0_drawOf_0 : cX0_drawOf.data.toList.drop 0 = dktX0_drawOf_0 := by decide +kernel
theorem dksX0_drawOf_1 : cX0_drawOf.data.toList.drop 24 = dktX0_drawOf_1 := dk_seg dksX0_drawOf_0 24 rfl rfl
theorem dksX0_drawOf_2 : cX0_drawOf.data.toList.drop 46 = dktX0_drawOf_2 := dk_seg dksX0_drawOf_1 22 rfl rfl
theorem dksX0_drawOf_3 : cX0_drawOf.data.toList.drop 69 = dktX0_drawOf_3 := dk_seg dksX0_drawOf_2 23 rfl rfl
theorem dksX0_drawOf_4 : cX0_drawOf.data.toList.drop 93 = dktX0_drawOf_4 := dk_seg dksX0_drawOf_3 24 rfl rfl
theorem dX0_drawOf_0 : decode cX0_drawOf 0 = .ok (.iconst (-1), 1) := dk_2 (dk_at dksX0_drawOf_0 0 rfl rfl)
theorem dX0_drawOf_1 : decode cX0_drawOf 1 = .ok (.istore_n 3, 1) := dk_62 (dk_at dksX0_drawOf_0 1 rfl rfl)
theorem dX0_drawOf_2 : decode cX0_drawOf 2 = .ok (.iconst (-1), 1) := dk_2 (dk_at dksX0_drawOf_0 2 rfl rfl)
theorem dX0_drawOf_3 : decode cX0_drawOf 3 = .ok (.istore 4, 2) := dk_54 4 (dk_at dksX0_drawOf_0 3 rfl rfl)
theorem dX0_drawOf_5 : decode cX0_drawOf 5 = .ok (.aload_n 0, 1) := dk_42 (dk_at dksX0_drawOf_0 5 rfl rfl)
theorem dX0_drawOf_6 : decode cX0_drawOf 6 = .ok (.iload_n 1, 1) := dk_27 (dk_at dksX0_drawOf_0 6 rfl rfl)
theorem dX0_drawOf_7 : decode cX0_drawOf 7 = .ok (.putfield 58, 3) := dk_181 0 58 (dk_at dksX0_drawOf_0 7 rfl rfl)
theorem dX0_drawOf_10 : decode cX0_drawOf 10 = .ok (.aload_n 0, 1) := dk_42 (dk_at dksX0_drawOf_0 10 rfl rfl)
theorem dX0_drawOf_11 : decode cX0_drawOf 11 = .ok (.iconst 0, 1) := dk_3 (dk_at dksX0_drawOf_0 11 rfl rfl)
theorem dX0_drawOf_12 : decode cX0_drawOf 12 = .ok (.putfield 212, 3) := dk_181 0 212 (dk_at dksX0_drawOf_0 12 rfl rfl)
theorem dX0_drawOf_15 : decode cX0_drawOf 15 = .ok (.aload_n 0, 1) := dk_42 (dk_at dksX0_drawOf_0 15 rfl rfl)
theorem dX0_drawOf_16 : decode cX0_drawOf 16 = .ok (.getfield 212, 3) := dk_180 0 212 (dk_at dksX0_drawOf_0 16 rfl rfl)
theorem dX0_drawOf_19 : decode cX0_drawOf 19 = .ok (.bipush 20, 2) := dk_16 20 (dk_at dksX0_drawOf_0 19 rfl rfl)
theorem dX0_drawOf_21 : decode cX0_drawOf 21 = .ok (.if_icmp .ge 46, 3) := dk_162 0 46 (dk_at dksX0_drawOf_0 21 rfl rfl)
theorem dX0_drawOf_24 : decode cX0_drawOf 24 = .ok (.aload_n 0, 1) := dk_42 (dk_at dksX0_drawOf_1 0 rfl rfl)
theorem dX0_drawOf_25 : decode cX0_drawOf 25 = .ok (.invokevirtual 276, 3) := dk_182 1 20 (dk_at dksX0_drawOf_1 1 rfl rfl)
theorem dX0_drawOf_28 : decode cX0_drawOf 28 = .ok (.aload_n 0, 1) := dk_42 (dk_at dksX0_drawOf_1 4 rfl rfl)
theorem dX0_drawOf_29 : decode cX0_drawOf 29 = .ok (.iload_n 1, 1) := dk_27 (dk_at dksX0_drawOf_1 5 rfl rfl)
theorem dX0_drawOf_30 : decode cX0_drawOf 30 = .ok (.invokevirtual 283, 3) := dk_182 1 27 (dk_at dksX0_drawOf_1 6 rfl rfl)
theorem dX0_drawOf_33 : decode cX0_drawOf 33 = .ok (.istore 5, 2) := dk_54 5 (dk_at dksX0_drawOf_1 9 rfl rfl)
theorem dX0_drawOf_35 : decode cX0_drawOf 35 = .ok (.iload 5, 2) := dk_21 5 (dk_at dksX0_drawOf_1 11 rfl rfl)
theorem dX0_drawOf_37 : decode cX0_drawOf 37 = .ok (.iload 4, 2) := dk_21 4 (dk_at dksX0_drawOf_1 13 rfl rfl)
theorem dX0_drawOf_39 : decode cX0_drawOf 39 = .ok (.if_icmp .gt 6, 3) := dk_163 0 6 (dk_at dksX0_drawOf_1 15 rfl rfl)
theorem dX0_drawOf_42 : decode cX0_drawOf 42 = .ok (.goto 12, 3) := dk_167 0 12 (dk_at dksX0_drawOf_1 18 rfl rfl)
theorem dX0_drawOf_45 : decode cX0_drawOf 45 = .ok (.aload_n 0, 1) := dk_42 (dk_at dksX0_drawOf_1 21 rfl rfl)
theorem dX0_drawOf_46 : decode cX0_drawOf 46 = .ok (.getfield 212, 3) := dk_180 0 212 (dk_at dksX0_drawOf_2 0 rfl rfl)
theorem dX0_drawOf_49 : decode cX0_drawOf 49 = .ok (.istore_n 3, 1) := dk_62 (dk_at dksX0_drawOf_2 3 rfl rfl)
theorem dX0_drawOf_50 : decode cX0_drawOf 50 = .ok (.iload 5, 2) := dk_21 5 (dk_at dksX0_drawOf_2 4 rfl rfl)
theorem dX0_drawOf_52 : decode cX0_drawOf 52 = .ok (.istore 4, 2) := dk_54 4 (dk_at dksX0_drawOf_2 6 rfl rfl)
theorem dX0_drawOf_54 : decode cX0_drawOf 54 = .ok (.aload_n 0, 1) := dk_42 (dk_at dksX0_drawOf_2 8 rfl rfl)
theorem dX0_drawOf_55 : decode cX0_drawOf 55 = .ok (.dup, 1) := dk_89 (dk_at dksX0_drawOf_2 9 rfl rfl)
theorem dX0_drawOf_56 : decode cX0_drawOf 56 = .ok (.getfield 212, 3) := dk_180 0 212 (dk_at dksX0_drawOf_2 10 rfl rfl)
theorem dX0_drawOf_59 : decode cX0_drawOf 59 = .ok (.iconst 1, 1) := dk_4 (dk_at dksX0_drawOf_2 13 rfl rfl)
theorem dX0_drawOf_60 : decode cX0_drawOf 60 = .ok (.iadd, 1) := dk_96 (dk_at dksX0_drawOf_2 14 rfl rfl)
theorem dX0_drawOf_61 : decode cX0_drawOf 61 = .ok (.putfield 212, 3) := dk_181 0 212 (dk_at dksX0_drawOf_2 15 rfl rfl)
theorem dX0_drawOf_64 : decode cX0_drawOf 64 = .ok (.goto (-49), 3) := dk_167 255 207 (dk_at dksX0_drawOf_2 18 rfl rfl)
theorem dX0_drawOf_67 : decode cX0_drawOf 67 = .ok (.aload_n 0, 1) := dk_42 (dk_at dksX0_drawOf_2 21 rfl rfl)
theorem dX0_drawOf_68 : decode cX0_drawOf 68 = .ok (.iconst (-1), 1) := dk_2 (dk_at dksX0_drawOf_2 22 rfl rfl)
theorem dX0_drawOf_69 : decode cX0_drawOf 69 = .ok (.putfield 58, 3) := dk_181 0 58 (dk_at dksX0_drawOf_3 0 rfl rfl)
theorem dX0_drawOf_72 : decode cX0_drawOf 72 = .ok (.goto 13, 3) := dk_167 0 13 (dk_at dksX0_drawOf_3 3 rfl rfl)
theorem dX0_drawOf_75 : decode cX0_drawOf 75 = .ok (.astore 6, 2) := dk_58 6 (dk_at dksX0_drawOf_3 6 rfl rfl)
theorem dX0_drawOf_77 : decode cX0_drawOf 77 = .ok (.aload_n 0, 1) := dk_42 (dk_at dksX0_drawOf_3 8 rfl rfl)
theorem dX0_drawOf_78 : decode cX0_drawOf 78 = .ok (.iconst (-1), 1) := dk_2 (dk_at dksX0_drawOf_3 9 rfl rfl)
theorem dX0_drawOf_79 : decode cX0_drawOf 79 = .ok (.putfield 58, 3) := dk_181 0 58 (dk_at dksX0_drawOf_3 10 rfl rfl)
theorem dX0_drawOf_82 : decode cX0_drawOf 82 = .ok (.aload 6, 2) := dk_25 6 (dk_at dksX0_drawOf_3 13 rfl rfl)
theorem dX0_drawOf_84 : decode cX0_drawOf 84 = .ok (.athrow, 1) := dk_191 (dk_at dksX0_drawOf_3 15 rfl rfl)
theorem dX0_drawOf_85 : decode cX0_drawOf 85 = .ok (.iload_n 2, 1) := dk_28 (dk_at dksX0_drawOf_3 16 rfl rfl)
theorem dX0_drawOf_86 : decode cX0_drawOf 86 = .ok (.ifCond .ne 7, 3) := dk_154 0 7 (dk_at dksX0_drawOf_3 17 rfl rfl)
theorem dX0_drawOf_89 : decode cX0_drawOf 89 = .ok (.iload_n 3, 1) := dk_29 (dk_at dksX0_drawOf_3 20 rfl rfl)
theorem dX0_drawOf_90 : decode cX0_drawOf 90 = .ok (.goto 5, 3) := dk_167 0 5 (dk_at dksX0_drawOf_3 21 rfl rfl)
theorem dX0_drawOf_93 : decode cX0_drawOf 93 = .ok (.iload 4, 2) := dk_21 4 (dk_at dksX0_drawOf_4 0 rfl rfl)
theorem dX0_drawOf_95 : decode cX0_drawOf 95 = .ok (.ireturn, 1) := dk_172 (dk_at dksX0_drawOf_4 2 rfl rfl)
abbrev cX0_hire : ByteArray := prog_1_method_45_code
def yX0_hire : MethodName := ⟨RX0, "hire", "(I)I"⟩
def dkwX0_hire_0 : List UInt8 := [27, 184, 0, 109, 153, 0, 11, 42, 27, 182, 1, 39, 167, 0, 5, 16, 254, 172]
abbrev dktX0_hire_0 : List UInt8 := dkwX0_hire_0 ++ []
theorem dksX0_hire_0 : cX0_hire.data.toList.drop 0 = dktX0_hire_0 := by decide +kernel
theorem dX0_hire_0 : decode cX0_hire 0 = .ok (.iload_n 1, 1) := dk_27 (dk_at dksX0_hire_0 0 rfl rfl)
theorem dX0_hire_1 : decode cX0_hire 1 = .ok (.invokestatic 109, 3) := dk_184 0 109 (dk_at dksX0_hire_0 1 rfl rfl)
theorem dX0_hire_4 : decode cX0_hire 4 = .ok (.ifCond .eq 11, 3) := dk_153 0 11 (dk_at dksX0_hire_0 4 rfl rfl)
theorem dX0_hire_7 : decode cX0_hire 7 = .ok (.aload_n 0, 1) := dk_42 (dk_at dksX0_hire_0 7 rfl rfl)
theorem dX0_hire_8 : decode cX0_hire 8 = .ok (.iload_n 1, 1) := dk_27 (dk_at dksX0_hire_0 8 rfl rfl)
theorem dX0_hire_9 : decode cX0_hire 9 = .ok (.invokevirtual 295, 3) := dk_182 1 39 (dk_at dksX0_hire_0 9 rfl rfl)
theorem dX0_hire_12 : decode cX0_hire 12 = .ok (.goto 5, 3) := dk_167 0 5 (dk_at dksX0_hire_0 12 rfl rfl)
theorem dX0_hire_15 : decode cX0_hire 15 = .ok (.bipush (-2), 2) := dk_16 254 (dk_at dksX0_hire_0 15 rfl rfl)
theorem dX0_hire_17 : decode cX0_hire 17 = .ok (.ireturn, 1) := dk_172 (dk_at dksX0_hire_0 17 rfl rfl)
abbrev cX0_hireBy : ByteArray := prog_1_method_44_code
def yX0_hireBy : MethodName := ⟨RX0, "hireBy", "(I)I"⟩
def dkwX0_hireBy_6 : List UInt8 := [29, 172]
abbrev dktX0_hireBy_6 : List UInt8 := dkwX0_hireBy_6 ++ []
def dkwX0_hireBy_5 : List UInt8 := [42, 180, 0, 23, 180, 0, 159, 21, 4, 182, 0, 181, 87, 25, 6, 191, 27, 154, 0, 7, 28, 167, 0, 4]
abbrev dktX0_hireBy_5 : List UInt8 := dkwX0_hireBy_5 ++ dktX0_hireBy_6
def dkwX0_hireBy_4 : List UInt8 := [181, 0, 241, 167, 255, 195, 42, 180, 0, 23, 180, 0, 159, 21, 4, 182, 0, 181, 87, 167, 0, 21, 58, 6]
abbrev dktX0_hireBy_4 : List UInt8 := dkwX0_hireBy_4 ++ dktX0_hireBy_5
def dkwX0_hireBy_3 : List UInt8 := [167, 0, 14, 42, 180, 0, 73, 180, 0, 241, 61, 21, 5, 62, 42, 180, 0, 73, 89, 180, 0, 241, 4, 96]
abbrev dktX0_hireBy_3 : List UInt8 := dkwX0_hireBy_3 ++ dktX0_hireBy_4
def dkwX0_hireBy_2 : List UInt8 := [182, 1, 20, 42, 16, 19, 182, 1, 17, 54, 5, 28, 2, 159, 0, 12, 21, 5, 29, 161, 0, 6]
abbrev dktX0_hireBy_2 : List UInt8 := dkwX0_hireBy_2 ++ dktX0_hireBy_3
def dkwX0_hireBy_1 : List UInt8 := [182, 0, 173, 87, 42, 180, 0, 73, 3, 181, 0, 241, 42, 180, 0, 73, 180, 0, 241, 7, 162, 0, 56, 42]
abbrev dktX0_hireBy_1 : List UInt8 := dkwX0_hireBy_1 ++ dktX0_hireBy_2
def dkwX0_hireBy_0 : List UInt8 := [2, 61, 3, 62, 42, 180, 0, 23, 182, 0, 138, 54, 4, 42, 180, 0, 23, 180, 0, 159, 42, 180, 0, 73]
abbrev dktX0_hireBy_0 : List UInt8 := dkwX0_hireBy_0 ++ dktX0_hireBy_1
theorem dksX0_hireBy_0 : cX0_hireBy.data.toList.drop 0 = dktX0_hireBy_0 := by decide +kernel
theorem dksX0_hireBy_1 : cX0_hireBy.data.toList.drop 24 = dktX0_hireBy_1 := dk_seg dksX0_hireBy_0 24 rfl rfl
theorem dksX0_hireBy_2 : cX0_hireBy.data.toList.drop 48 = dktX0_hireBy_2 := dk_seg dksX0_hireBy_1 24 rfl rfl
theorem dksX0_hireBy_3 : cX0_hireBy.data.toList.drop 70 = dktX0_hireBy_3 := dk_seg dksX0_hireBy_2 22 rfl rfl
theorem dksX0_hireBy_4 : cX0_hireBy.data.toList.drop 94 = dktX0_hireBy_4 := dk_seg dksX0_hireBy_3 24 rfl rfl
theorem dksX0_hireBy_5 : cX0_hireBy.data.toList.drop 118 = dktX0_hireBy_5 := dk_seg dksX0_hireBy_4 24 rfl rfl
theorem dksX0_hireBy_6 : cX0_hireBy.data.toList.drop 142 = dktX0_hireBy_6 := dk_seg dksX0_hireBy_5 24 rfl rfl
theorem dX0_hireBy_0 : decode cX0_hireBy 0 = .ok (.iconst (-1), 1) := dk_2 (dk_at dksX0_hireBy_0 0 rfl rfl)
theorem dX0_hireBy_1 : decode cX0_hireBy 1 = .ok (.istore_n 2, 1) := dk_61 (dk_at dksX0_hireBy_0 1 rfl rfl)
theorem dX0_hireBy_2 : decode cX0_hireBy 2 = .ok (.iconst 0, 1) := dk_3 (dk_at dksX0_hireBy_0 2 rfl rfl)
theorem dX0_hireBy_3 : decode cX0_hireBy 3 = .ok (.istore_n 3, 1) := dk_62 (dk_at dksX0_hireBy_0 3 rfl rfl)
theorem dX0_hireBy_4 : decode cX0_hireBy 4 = .ok (.aload_n 0, 1) := dk_42 (dk_at dksX0_hireBy_0 4 rfl rfl)
theorem dX0_hireBy_5 : decode cX0_hireBy 5 = .ok (.getfield 23, 3) := dk_180 0 23 (dk_at dksX0_hireBy_0 5 rfl rfl)
theorem dX0_hireBy_8 : decode cX0_hireBy 8 = .ok (.invokevirtual 138, 3) := dk_182 0 138 (dk_at dksX0_hireBy_0 8 rfl rfl)
theorem dX0_hireBy_11 : decode cX0_hireBy 11 = .ok (.istore 4, 2) := dk_54 4 (dk_at dksX0_hireBy_0 11 rfl rfl)
theorem dX0_hireBy_13 : decode cX0_hireBy 13 = .ok (.aload_n 0, 1) := dk_42 (dk_at dksX0_hireBy_0 13 rfl rfl)
theorem dX0_hireBy_14 : decode cX0_hireBy 14 = .ok (.getfield 23, 3) := dk_180 0 23 (dk_at dksX0_hireBy_0 14 rfl rfl)
theorem dX0_hireBy_17 : decode cX0_hireBy 17 = .ok (.getfield 159, 3) := dk_180 0 159 (dk_at dksX0_hireBy_0 17 rfl rfl)
theorem dX0_hireBy_20 : decode cX0_hireBy 20 = .ok (.aload_n 0, 1) := dk_42 (dk_at dksX0_hireBy_0 20 rfl rfl)
theorem dX0_hireBy_21 : decode cX0_hireBy 21 = .ok (.getfield 73, 3) := dk_180 0 73 (dk_at dksX0_hireBy_0 21 rfl rfl)
theorem dX0_hireBy_24 : decode cX0_hireBy 24 = .ok (.invokevirtual 173, 3) := dk_182 0 173 (dk_at dksX0_hireBy_1 0 rfl rfl)
theorem dX0_hireBy_27 : decode cX0_hireBy 27 = .ok (.pop, 1) := dk_87 (dk_at dksX0_hireBy_1 3 rfl rfl)
theorem dX0_hireBy_28 : decode cX0_hireBy 28 = .ok (.aload_n 0, 1) := dk_42 (dk_at dksX0_hireBy_1 4 rfl rfl)
theorem dX0_hireBy_29 : decode cX0_hireBy 29 = .ok (.getfield 73, 3) := dk_180 0 73 (dk_at dksX0_hireBy_1 5 rfl rfl)
theorem dX0_hireBy_32 : decode cX0_hireBy 32 = .ok (.iconst 0, 1) := dk_3 (dk_at dksX0_hireBy_1 8 rfl rfl)
theorem dX0_hireBy_33 : decode cX0_hireBy 33 = .ok (.putfield 241, 3) := dk_181 0 241 (dk_at dksX0_hireBy_1 9 rfl rfl)
theorem dX0_hireBy_36 : decode cX0_hireBy 36 = .ok (.aload_n 0, 1) := dk_42 (dk_at dksX0_hireBy_1 12 rfl rfl)
theorem dX0_hireBy_37 : decode cX0_hireBy 37 = .ok (.getfield 73, 3) := dk_180 0 73 (dk_at dksX0_hireBy_1 13 rfl rfl)
theorem dX0_hireBy_40 : decode cX0_hireBy 40 = .ok (.getfield 241, 3) := dk_180 0 241 (dk_at dksX0_hireBy_1 16 rfl rfl)
theorem dX0_hireBy_43 : decode cX0_hireBy 43 = .ok (.iconst 4, 1) := dk_7 (dk_at dksX0_hireBy_1 19 rfl rfl)
theorem dX0_hireBy_44 : decode cX0_hireBy 44 = .ok (.if_icmp .ge 56, 3) := dk_162 0 56 (dk_at dksX0_hireBy_1 20 rfl rfl)
theorem dX0_hireBy_47 : decode cX0_hireBy 47 = .ok (.aload_n 0, 1) := dk_42 (dk_at dksX0_hireBy_1 23 rfl rfl)
theorem dX0_hireBy_48 : decode cX0_hireBy 48 = .ok (.invokevirtual 276, 3) := dk_182 1 20 (dk_at dksX0_hireBy_2 0 rfl rfl)
theorem dX0_hireBy_51 : decode cX0_hireBy 51 = .ok (.aload_n 0, 1) := dk_42 (dk_at dksX0_hireBy_2 3 rfl rfl)
theorem dX0_hireBy_52 : decode cX0_hireBy 52 = .ok (.bipush 19, 2) := dk_16 19 (dk_at dksX0_hireBy_2 4 rfl rfl)
theorem dX0_hireBy_54 : decode cX0_hireBy 54 = .ok (.invokevirtual 273, 3) := dk_182 1 17 (dk_at dksX0_hireBy_2 6 rfl rfl)
theorem dX0_hireBy_57 : decode cX0_hireBy 57 = .ok (.istore 5, 2) := dk_54 5 (dk_at dksX0_hireBy_2 9 rfl rfl)
theorem dX0_hireBy_59 : decode cX0_hireBy 59 = .ok (.iload_n 2, 1) := dk_28 (dk_at dksX0_hireBy_2 11 rfl rfl)
theorem dX0_hireBy_60 : decode cX0_hireBy 60 = .ok (.iconst (-1), 1) := dk_2 (dk_at dksX0_hireBy_2 12 rfl rfl)
theorem dX0_hireBy_61 : decode cX0_hireBy 61 = .ok (.if_icmp .eq 12, 3) := dk_159 0 12 (dk_at dksX0_hireBy_2 13 rfl rfl)
theorem dX0_hireBy_64 : decode cX0_hireBy 64 = .ok (.iload 5, 2) := dk_21 5 (dk_at dksX0_hireBy_2 16 rfl rfl)
theorem dX0_hireBy_66 : decode cX0_hireBy 66 = .ok (.iload_n 3, 1) := dk_29 (dk_at dksX0_hireBy_2 18 rfl rfl)
theorem dX0_hireBy_67 : decode cX0_hireBy 67 = .ok (.if_icmp .lt 6, 3) := dk_161 0 6 (dk_at dksX0_hireBy_2 19 rfl rfl)
theorem dX0_hireBy_70 : decode cX0_hireBy 70 = .ok (.goto 14, 3) := dk_167 0 14 (dk_at dksX0_hireBy_3 0 rfl rfl)
theorem dX0_hireBy_73 : decode cX0_hireBy 73 = .ok (.aload_n 0, 1) := dk_42 (dk_at dksX0_hireBy_3 3 rfl rfl)
theorem dX0_hireBy_74 : decode cX0_hireBy 74 = .ok (.getfield 73, 3) := dk_180 0 73 (dk_at dksX0_hireBy_3 4 rfl rfl)
theorem dX0_hireBy_77 : decode cX0_hireBy 77 = .ok (.getfield 241, 3) := dk_180 0 241 (dk_at dksX0_hireBy_3 7 rfl rfl)
theorem dX0_hireBy_80 : decode cX0_hireBy 80 = .ok (.istore_n 2, 1) := dk_61 (dk_at dksX0_hireBy_3 10 rfl rfl)
theorem dX0_hireBy_81 : decode cX0_hireBy 81 = .ok (.iload 5, 2) := dk_21 5 (dk_at dksX0_hireBy_3 11 rfl rfl)
theorem dX0_hireBy_83 : decode cX0_hireBy 83 = .ok (.istore_n 3, 1) := dk_62 (dk_at dksX0_hireBy_3 13 rfl rfl)
theorem dX0_hireBy_84 : decode cX0_hireBy 84 = .ok (.aload_n 0, 1) := dk_42 (dk_at dksX0_hireBy_3 14 rfl rfl)
theorem dX0_hireBy_85 : decode cX0_hireBy 85 = .ok (.getfield 73, 3) := dk_180 0 73 (dk_at dksX0_hireBy_3 15 rfl rfl)
theorem dX0_hireBy_88 : decode cX0_hireBy 88 = .ok (.dup, 1) := dk_89 (dk_at dksX0_hireBy_3 18 rfl rfl)
theorem dX0_hireBy_89 : decode cX0_hireBy 89 = .ok (.getfield 241, 3) := dk_180 0 241 (dk_at dksX0_hireBy_3 19 rfl rfl)
theorem dX0_hireBy_92 : decode cX0_hireBy 92 = .ok (.iconst 1, 1) := dk_4 (dk_at dksX0_hireBy_3 22 rfl rfl)
theorem dX0_hireBy_93 : decode cX0_hireBy 93 = .ok (.iadd, 1) := dk_96 (dk_at dksX0_hireBy_3 23 rfl rfl)
theorem dX0_hireBy_94 : decode cX0_hireBy 94 = .ok (.putfield 241, 3) := dk_181 0 241 (dk_at dksX0_hireBy_4 0 rfl rfl)
theorem dX0_hireBy_97 : decode cX0_hireBy 97 = .ok (.goto (-61), 3) := dk_167 255 195 (dk_at dksX0_hireBy_4 3 rfl rfl)
theorem dX0_hireBy_100 : decode cX0_hireBy 100 = .ok (.aload_n 0, 1) := dk_42 (dk_at dksX0_hireBy_4 6 rfl rfl)
theorem dX0_hireBy_101 : decode cX0_hireBy 101 = .ok (.getfield 23, 3) := dk_180 0 23 (dk_at dksX0_hireBy_4 7 rfl rfl)
theorem dX0_hireBy_104 : decode cX0_hireBy 104 = .ok (.getfield 159, 3) := dk_180 0 159 (dk_at dksX0_hireBy_4 10 rfl rfl)
theorem dX0_hireBy_107 : decode cX0_hireBy 107 = .ok (.iload 4, 2) := dk_21 4 (dk_at dksX0_hireBy_4 13 rfl rfl)
theorem dX0_hireBy_109 : decode cX0_hireBy 109 = .ok (.invokevirtual 181, 3) := dk_182 0 181 (dk_at dksX0_hireBy_4 15 rfl rfl)
theorem dX0_hireBy_112 : decode cX0_hireBy 112 = .ok (.pop, 1) := dk_87 (dk_at dksX0_hireBy_4 18 rfl rfl)
theorem dX0_hireBy_113 : decode cX0_hireBy 113 = .ok (.goto 21, 3) := dk_167 0 21 (dk_at dksX0_hireBy_4 19 rfl rfl)
theorem dX0_hireBy_116 : decode cX0_hireBy 116 = .ok (.astore 6, 2) := dk_58 6 (dk_at dksX0_hireBy_4 22 rfl rfl)
theorem dX0_hireBy_118 : decode cX0_hireBy 118 = .ok (.aload_n 0, 1) := dk_42 (dk_at dksX0_hireBy_5 0 rfl rfl)
theorem dX0_hireBy_119 : decode cX0_hireBy 119 = .ok (.getfield 23, 3) := dk_180 0 23 (dk_at dksX0_hireBy_5 1 rfl rfl)
theorem dX0_hireBy_122 : decode cX0_hireBy 122 = .ok (.getfield 159, 3) := dk_180 0 159 (dk_at dksX0_hireBy_5 4 rfl rfl)
theorem dX0_hireBy_125 : decode cX0_hireBy 125 = .ok (.iload 4, 2) := dk_21 4 (dk_at dksX0_hireBy_5 7 rfl rfl)
theorem dX0_hireBy_127 : decode cX0_hireBy 127 = .ok (.invokevirtual 181, 3) := dk_182 0 181 (dk_at dksX0_hireBy_5 9 rfl rfl)
theorem dX0_hireBy_130 : decode cX0_hireBy 130 = .ok (.pop, 1) := dk_87 (dk_at dksX0_hireBy_5 12 rfl rfl)
theorem dX0_hireBy_131 : decode cX0_hireBy 131 = .ok (.aload 6, 2) := dk_25 6 (dk_at dksX0_hireBy_5 13 rfl rfl)
theorem dX0_hireBy_133 : decode cX0_hireBy 133 = .ok (.athrow, 1) := dk_191 (dk_at dksX0_hireBy_5 15 rfl rfl)
theorem dX0_hireBy_134 : decode cX0_hireBy 134 = .ok (.iload_n 1, 1) := dk_27 (dk_at dksX0_hireBy_5 16 rfl rfl)
theorem dX0_hireBy_135 : decode cX0_hireBy 135 = .ok (.ifCond .ne 7, 3) := dk_154 0 7 (dk_at dksX0_hireBy_5 17 rfl rfl)
theorem dX0_hireBy_138 : decode cX0_hireBy 138 = .ok (.iload_n 2, 1) := dk_28 (dk_at dksX0_hireBy_5 20 rfl rfl)
theorem dX0_hireBy_139 : decode cX0_hireBy 139 = .ok (.goto 4, 3) := dk_167 0 4 (dk_at dksX0_hireBy_5 21 rfl rfl)
theorem dX0_hireBy_142 : decode cX0_hireBy 142 = .ok (.iload_n 3, 1) := dk_29 (dk_at dksX0_hireBy_6 0 rfl rfl)
theorem dX0_hireBy_143 : decode cX0_hireBy 143 = .ok (.ireturn, 1) := dk_172 (dk_at dksX0_hireBy_6 1 rfl rfl)
abbrev cX0_match : ByteArray := prog_1_method_48_code
def yX0_match : MethodName := ⟨RX0, "match", "()I"⟩
theorem dX0_match_0 : decode cX0_match 0 = .ok (.aload_n 0, 1) := by decide +kernel
theorem dX0_match_1 : decode cX0_match 1 = .ok (.invokevirtual 302, 3) := by decide +kernel
theorem dX0_match_4 : decode cX0_match 4 = .ok (.ireturn, 1) := by decide +kernel
abbrev cX0_matchNow : ByteArray := prog_1_method_47_code
def yX0_matchNow : MethodName := ⟨RX0, "matchNow", "()I"⟩
def dkwX0_matchNow_3 : List UInt8 := [167, 0, 4, 3, 96, 60, 132, 2, 1, 167, 255, 201, 27, 172]
abbrev dktX0_matchNow_3 : List UInt8 := dkwX0_matchNow_3 ++ []
def dkwX0_matchNow_2 : List UInt8 := [29, 3, 84, 132, 3, 1, 167, 255, 240, 27, 42, 28, 42, 180, 0, 80, 182, 1, 42, 153, 0, 7, 4]
abbrev dktX0_matchNow_2 : List UInt8 := dkwX0_matchNow_2 ++ dktX0_matchNow_3
def dkwX0_matchNow_1 : List UInt8 := [61, 28, 42, 180, 0, 14, 182, 0, 135, 162, 0, 50, 3, 62, 29, 16, 8, 162, 0, 16, 42, 180, 0, 80]
abbrev dktX0_matchNow_1 : List UInt8 := dkwX0_matchNow_1 ++ dktX0_matchNow_2
def dkwX0_matchNow_0 : List UInt8 := [3, 60, 27, 16, 8, 162, 0, 16, 42, 180, 0, 77, 27, 2, 79, 132, 1, 1, 167, 255, 240, 3, 60, 3]
abbrev dktX0_matchNow_0 : List UInt8 := dkwX0_matchNow_0 ++ dktX0_matchNow_1
theorem dksX0_matchNow_0 : cX0_matchNow.data.toList.drop 0 = dktX0_matchNow_0 := by decide +kernel
theorem dksX0_matchNow_1 : cX0_matchNow.data.toList.drop 24 = dktX0_matchNow_1 := dk_seg dksX0_matchNow_0 24 rfl rfl
theorem dksX0_matchNow_2 : cX0_matchNow.data.toList.drop 48 = dktX0_matchNow_2 := dk_seg dksX0_matchNow_1 24 rfl rfl
theorem dksX0_matchNow_3 : cX0_matchNow.data.toList.drop 71 = dktX0_matchNow_3 := dk_seg dksX0_matchNow_2 23 rfl rfl
theorem dX0_matchNow_0 : decode cX0_matchNow 0 = .ok (.iconst 0, 1) := dk_3 (dk_at dksX0_matchNow_0 0 rfl rfl)
theorem dX0_matchNow_1 : decode cX0_matchNow 1 = .ok (.istore_n 1, 1) := dk_60 (dk_at dksX0_matchNow_0 1 rfl rfl)
theorem dX0_matchNow_2 : decode cX0_matchNow 2 = .ok (.iload_n 1, 1) := dk_27 (dk_at dksX0_matchNow_0 2 rfl rfl)
theorem dX0_matchNow_3 : decode cX0_matchNow 3 = .ok (.bipush 8, 2) := dk_16 8 (dk_at dksX0_matchNow_0 3 rfl rfl)
theorem dX0_matchNow_5 : decode cX0_matchNow 5 = .ok (.if_icmp .ge 16, 3) := dk_162 0 16 (dk_at dksX0_matchNow_0 5 rfl rfl)
theorem dX0_matchNow_8 : decode cX0_matchNow 8 = .ok (.aload_n 0, 1) := dk_42 (dk_at dksX0_matchNow_0 8 rfl rfl)
theorem dX0_matchNow_9 : decode cX0_matchNow 9 = .ok (.getfield 77, 3) := dk_180 0 77 (dk_at dksX0_matchNow_0 9 rfl rfl)
theorem dX0_matchNow_12 : decode cX0_matchNow 12 = .ok (.iload_n 1, 1) := dk_27 (dk_at dksX0_matchNow_0 12 rfl rfl)
theorem dX0_matchNow_13 : decode cX0_matchNow 13 = .ok (.iconst (-1), 1) := dk_2 (dk_at dksX0_matchNow_0 13 rfl rfl)
theorem dX0_matchNow_14 : decode cX0_matchNow 14 = .ok (.iastore, 1) := dk_79 (dk_at dksX0_matchNow_0 14 rfl rfl)
theorem dX0_matchNow_15 : decode cX0_matchNow 15 = .ok (.iinc 1 1, 3) := dk_132 1 1 (dk_at dksX0_matchNow_0 15 rfl rfl)
theorem dX0_matchNow_18 : decode cX0_matchNow 18 = .ok (.goto (-16), 3) := dk_167 255 240 (dk_at dksX0_matchNow_0 18 rfl rfl)
theorem dX0_matchNow_21 : decode cX0_matchNow 21 = .ok (.iconst 0, 1) := dk_3 (dk_at dksX0_matchNow_0 21 rfl rfl)
theorem dX0_matchNow_22 : decode cX0_matchNow 22 = .ok (.istore_n 1, 1) := dk_60 (dk_at dksX0_matchNow_0 22 rfl rfl)
theorem dX0_matchNow_23 : decode cX0_matchNow 23 = .ok (.iconst 0, 1) := dk_3 (dk_at dksX0_matchNow_0 23 rfl rfl)
theorem dX0_matchNow_24 : decode cX0_matchNow 24 = .ok (.istore_n 2, 1) := dk_61 (dk_at dksX0_matchNow_1 0 rfl rfl)
theorem dX0_matchNow_25 : decode cX0_matchNow 25 = .ok (.iload_n 2, 1) := dk_28 (dk_at dksX0_matchNow_1 1 rfl rfl)
theorem dX0_matchNow_26 : decode cX0_matchNow 26 = .ok (.aload_n 0, 1) := dk_42 (dk_at dksX0_matchNow_1 2 rfl rfl)
theorem dX0_matchNow_27 : decode cX0_matchNow 27 = .ok (.getfield 14, 3) := dk_180 0 14 (dk_at dksX0_matchNow_1 3 rfl rfl)
theorem dX0_matchNow_30 : decode cX0_matchNow 30 = .ok (.invokevirtual 135, 3) := dk_182 0 135 (dk_at dksX0_matchNow_1 6 rfl rfl)
theorem dX0_matchNow_33 : decode cX0_matchNow 33 = .ok (.if_icmp .ge 50, 3) := dk_162 0 50 (dk_at dksX0_matchNow_1 9 rfl rfl)
theorem dX0_matchNow_36 : decode cX0_matchNow 36 = .ok (.iconst 0, 1) := dk_3 (dk_at dksX0_matchNow_1 12 rfl rfl)
theorem dX0_matchNow_37 : decode cX0_matchNow 37 = .ok (.istore_n 3, 1) := dk_62 (dk_at dksX0_matchNow_1 13 rfl rfl)
theorem dX0_matchNow_38 : decode cX0_matchNow 38 = .ok (.iload_n 3, 1) := dk_29 (dk_at dksX0_matchNow_1 14 rfl rfl)
theorem dX0_matchNow_39 : decode cX0_matchNow 39 = .ok (.bipush 8, 2) := dk_16 8 (dk_at dksX0_matchNow_1 15 rfl rfl)
theorem dX0_matchNow_41 : decode cX0_matchNow 41 = .ok (.if_icmp .ge 16, 3) := dk_162 0 16 (dk_at dksX0_matchNow_1 17 rfl rfl)
theorem dX0_matchNow_44 : decode cX0_matchNow 44 = .ok (.aload_n 0, 1) := dk_42 (dk_at dksX0_matchNow_1 20 rfl rfl)
theorem dX0_matchNow_45 : decode cX0_matchNow 45 = .ok (.getfield 80, 3) := dk_180 0 80 (dk_at dksX0_matchNow_1 21 rfl rfl)
theorem dX0_matchNow_48 : decode cX0_matchNow 48 = .ok (.iload_n 3, 1) := dk_29 (dk_at dksX0_matchNow_2 0 rfl rfl)
theorem dX0_matchNow_49 : decode cX0_matchNow 49 = .ok (.iconst 0, 1) := dk_3 (dk_at dksX0_matchNow_2 1 rfl rfl)
theorem dX0_matchNow_50 : decode cX0_matchNow 50 = .ok (.bastore, 1) := dk_84 (dk_at dksX0_matchNow_2 2 rfl rfl)
theorem dX0_matchNow_51 : decode cX0_matchNow 51 = .ok (.iinc 3 1, 3) := dk_132 3 1 (dk_at dksX0_matchNow_2 3 rfl rfl)
theorem dX0_matchNow_54 : decode cX0_matchNow 54 = .ok (.goto (-16), 3) := dk_167 255 240 (dk_at dksX0_matchNow_2 6 rfl rfl)
theorem dX0_matchNow_57 : decode cX0_matchNow 57 = .ok (.iload_n 1, 1) := dk_27 (dk_at dksX0_matchNow_2 9 rfl rfl)
theorem dX0_matchNow_58 : decode cX0_matchNow 58 = .ok (.aload_n 0, 1) := dk_42 (dk_at dksX0_matchNow_2 10 rfl rfl)
theorem dX0_matchNow_59 : decode cX0_matchNow 59 = .ok (.iload_n 2, 1) := dk_28 (dk_at dksX0_matchNow_2 11 rfl rfl)
theorem dX0_matchNow_60 : decode cX0_matchNow 60 = .ok (.aload_n 0, 1) := dk_42 (dk_at dksX0_matchNow_2 12 rfl rfl)
theorem dX0_matchNow_61 : decode cX0_matchNow 61 = .ok (.getfield 80, 3) := dk_180 0 80 (dk_at dksX0_matchNow_2 13 rfl rfl)
theorem dX0_matchNow_64 : decode cX0_matchNow 64 = .ok (.invokevirtual 298, 3) := dk_182 1 42 (dk_at dksX0_matchNow_2 16 rfl rfl)
theorem dX0_matchNow_67 : decode cX0_matchNow 67 = .ok (.ifCond .eq 7, 3) := dk_153 0 7 (dk_at dksX0_matchNow_2 19 rfl rfl)
theorem dX0_matchNow_70 : decode cX0_matchNow 70 = .ok (.iconst 1, 1) := dk_4 (dk_at dksX0_matchNow_2 22 rfl rfl)
theorem dX0_matchNow_71 : decode cX0_matchNow 71 = .ok (.goto 4, 3) := dk_167 0 4 (dk_at dksX0_matchNow_3 0 rfl rfl)
theorem dX0_matchNow_74 : decode cX0_matchNow 74 = .ok (.iconst 0, 1) := dk_3 (dk_at dksX0_matchNow_3 3 rfl rfl)
theorem dX0_matchNow_75 : decode cX0_matchNow 75 = .ok (.iadd, 1) := dk_96 (dk_at dksX0_matchNow_3 4 rfl rfl)
theorem dX0_matchNow_76 : decode cX0_matchNow 76 = .ok (.istore_n 1, 1) := dk_60 (dk_at dksX0_matchNow_3 5 rfl rfl)
theorem dX0_matchNow_77 : decode cX0_matchNow 77 = .ok (.iinc 2 1, 3) := dk_132 2 1 (dk_at dksX0_matchNow_3 6 rfl rfl)
theorem dX0_matchNow_80 : decode cX0_matchNow 80 = .ok (.goto (-55), 3) := dk_167 255 201 (dk_at dksX0_matchNow_3 9 rfl rfl)
theorem dX0_matchNow_83 : decode cX0_matchNow 83 = .ok (.iload_n 1, 1) := dk_27 (dk_at dksX0_matchNow_3 12 rfl rfl)
theorem dX0_matchNow_84 : decode cX0_matchNow 84 = .ok (.ireturn, 1) := dk_172 (dk_at dksX0_matchNow_3 13 rfl rfl)
abbrev cX0_finds : ByteArray := prog_1_method_46_code
def yX0_finds : MethodName := ⟨RX0, "finds", "(I[Z)Z"⟩
def dkwX0_finds_6 : List UInt8 := [167, 255, 136, 3, 172]
abbrev dktX0_finds_6 : List UInt8 := dkwX0_finds_6 ++ []
def dkwX0_finds_5 : List UInt8 := [182, 1, 42, 154, 0, 6, 167, 0, 13, 42, 180, 0, 77, 21, 4, 27, 79, 4, 172, 132, 4, 1]
abbrev dktX0_finds_5 : List UInt8 := dkwX0_finds_5 ++ dktX0_finds_6
def dkwX0_finds_4 : List UInt8 := [4, 84, 42, 180, 0, 77, 21, 4, 46, 2, 159, 0, 21, 42, 42, 180, 0, 77, 21, 4, 46, 44]
abbrev dktX0_finds_4 : List UInt8 := dkwX0_finds_4 ++ dktX0_finds_5
def dkwX0_finds_3 : List UInt8 := [180, 0, 255, 104, 45, 180, 0, 227, 42, 180, 0, 27, 3, 46, 104, 162, 0, 6, 167, 0, 47, 44, 21, 4]
abbrev dktX0_finds_3 : List UInt8 := dkwX0_finds_3 ++ dktX0_finds_4
def dkwX0_finds_2 : List UInt8 := [21, 4, 51, 154, 0, 84, 25, 5, 180, 0, 241, 45, 180, 0, 238, 160, 0, 72, 16, 10, 25, 5]
abbrev dktX0_finds_2 : List UInt8 := dkwX0_finds_2 ++ dktX0_finds_3
def dkwX0_finds_1 : List UInt8 := [182, 0, 138, 162, 0, 114, 42, 180, 0, 23, 180, 0, 159, 21, 4, 182, 0, 147, 192, 0, 68, 58, 5, 44]
abbrev dktX0_finds_1 : List UInt8 := dkwX0_finds_1 ++ dktX0_finds_2
def dkwX0_finds_0 : List UInt8 := [42, 180, 0, 14, 180, 0, 144, 27, 182, 0, 147, 192, 0, 151, 78, 3, 54, 4, 21, 4, 42, 180, 0, 23]
abbrev dktX0_finds_0 : List UInt8 := dkwX0_finds_0 ++ dktX0_finds_1
theorem dksX0_finds_0 : cX0_finds.data.toList.drop 0 = dktX0_finds_0 := by decide +kernel
theorem dksX0_finds_1 : cX0_finds.data.toList.drop 24 = dktX0_finds_1 := dk_seg dksX0_finds_0 24 rfl rfl
theorem dksX0_finds_2 : cX0_finds.data.toList.drop 48 = dktX0_finds_2 := dk_seg dksX0_finds_1 24 rfl rfl
theorem dksX0_finds_3 : cX0_finds.data.toList.drop 70 = dktX0_finds_3 := dk_seg dksX0_finds_2 22 rfl rfl
theorem dksX0_finds_4 : cX0_finds.data.toList.drop 94 = dktX0_finds_4 := dk_seg dksX0_finds_3 24 rfl rfl
theorem dksX0_finds_5 : cX0_finds.data.toList.drop 116 = dktX0_finds_5 := dk_seg dksX0_finds_4 22 rfl rfl
theorem dksX0_finds_6 : cX0_finds.data.toList.drop 138 = dktX0_finds_6 := dk_seg dksX0_finds_5 22 rfl rfl
theorem dX0_finds_0 : decode cX0_finds 0 = .ok (.aload_n 0, 1) := dk_42 (dk_at dksX0_finds_0 0 rfl rfl)
theorem dX0_finds_1 : decode cX0_finds 1 = .ok (.getfield 14, 3) := dk_180 0 14 (dk_at dksX0_finds_0 1 rfl rfl)
theorem dX0_finds_4 : decode cX0_finds 4 = .ok (.getfield 144, 3) := dk_180 0 144 (dk_at dksX0_finds_0 4 rfl rfl)
theorem dX0_finds_7 : decode cX0_finds 7 = .ok (.iload_n 1, 1) := dk_27 (dk_at dksX0_finds_0 7 rfl rfl)
theorem dX0_finds_8 : decode cX0_finds 8 = .ok (.invokevirtual 147, 3) := dk_182 0 147 (dk_at dksX0_finds_0 8 rfl rfl)
theorem dX0_finds_11 : decode cX0_finds 11 = .ok (.checkcast 151, 3) := dk_192 0 151 (dk_at dksX0_finds_0 11 rfl rfl)
theorem dX0_finds_14 : decode cX0_finds 14 = .ok (.astore_n 3, 1) := dk_78 (dk_at dksX0_finds_0 14 rfl rfl)
theorem dX0_finds_15 : decode cX0_finds 15 = .ok (.iconst 0, 1) := dk_3 (dk_at dksX0_finds_0 15 rfl rfl)
theorem dX0_finds_16 : decode cX0_finds 16 = .ok (.istore 4, 2) := dk_54 4 (dk_at dksX0_finds_0 16 rfl rfl)
theorem dX0_finds_18 : decode cX0_finds 18 = .ok (.iload 4, 2) := dk_21 4 (dk_at dksX0_finds_0 18 rfl rfl)
theorem dX0_finds_20 : decode cX0_finds 20 = .ok (.aload_n 0, 1) := dk_42 (dk_at dksX0_finds_0 20 rfl rfl)
theorem dX0_finds_21 : decode cX0_finds 21 = .ok (.getfield 23, 3) := dk_180 0 23 (dk_at dksX0_finds_0 21 rfl rfl)
theorem dX0_finds_24 : decode cX0_finds 24 = .ok (.invokevirtual 138, 3) := dk_182 0 138 (dk_at dksX0_finds_1 0 rfl rfl)
theorem dX0_finds_27 : decode cX0_finds 27 = .ok (.if_icmp .ge 114, 3) := dk_162 0 114 (dk_at dksX0_finds_1 3 rfl rfl)
theorem dX0_finds_30 : decode cX0_finds 30 = .ok (.aload_n 0, 1) := dk_42 (dk_at dksX0_finds_1 6 rfl rfl)
theorem dX0_finds_31 : decode cX0_finds 31 = .ok (.getfield 23, 3) := dk_180 0 23 (dk_at dksX0_finds_1 7 rfl rfl)
theorem dX0_finds_34 : decode cX0_finds 34 = .ok (.getfield 159, 3) := dk_180 0 159 (dk_at dksX0_finds_1 10 rfl rfl)
theorem dX0_finds_37 : decode cX0_finds 37 = .ok (.iload 4, 2) := dk_21 4 (dk_at dksX0_finds_1 13 rfl rfl)
theorem dX0_finds_39 : decode cX0_finds 39 = .ok (.invokevirtual 147, 3) := dk_182 0 147 (dk_at dksX0_finds_1 15 rfl rfl)
theorem dX0_finds_42 : decode cX0_finds 42 = .ok (.checkcast 68, 3) := dk_192 0 68 (dk_at dksX0_finds_1 18 rfl rfl)
theorem dX0_finds_45 : decode cX0_finds 45 = .ok (.astore 5, 2) := dk_58 5 (dk_at dksX0_finds_1 21 rfl rfl)
theorem dX0_finds_47 : decode cX0_finds 47 = .ok (.aload_n 2, 1) := dk_44 (dk_at dksX0_finds_1 23 rfl rfl)
theorem dX0_finds_48 : decode cX0_finds 48 = .ok (.iload 4, 2) := dk_21 4 (dk_at dksX0_finds_2 0 rfl rfl)
theorem dX0_finds_50 : decode cX0_finds 50 = .ok (.baload, 1) := dk_51 (dk_at dksX0_finds_2 2 rfl rfl)
theorem dX0_finds_51 : decode cX0_finds 51 = .ok (.ifCond .ne 84, 3) := dk_154 0 84 (dk_at dksX0_finds_2 3 rfl rfl)
theorem dX0_finds_54 : decode cX0_finds 54 = .ok (.aload 5, 2) := dk_25 5 (dk_at dksX0_finds_2 6 rfl rfl)
theorem dX0_finds_56 : decode cX0_finds 56 = .ok (.getfield 241, 3) := dk_180 0 241 (dk_at dksX0_finds_2 8 rfl rfl)
theorem dX0_finds_59 : decode cX0_finds 59 = .ok (.aload_n 3, 1) := dk_45 (dk_at dksX0_finds_2 11 rfl rfl)
theorem dX0_finds_60 : decode cX0_finds 60 = .ok (.getfield 238, 3) := dk_180 0 238 (dk_at dksX0_finds_2 12 rfl rfl)
theorem dX0_finds_63 : decode cX0_finds 63 = .ok (.if_icmp .ne 72, 3) := dk_160 0 72 (dk_at dksX0_finds_2 15 rfl rfl)
theorem dX0_finds_66 : decode cX0_finds 66 = .ok (.bipush 10, 2) := dk_16 10 (dk_at dksX0_finds_2 18 rfl rfl)
theorem dX0_finds_68 : decode cX0_finds 68 = .ok (.aload 5, 2) := dk_25 5 (dk_at dksX0_finds_2 20 rfl rfl)
theorem dX0_finds_70 : decode cX0_finds 70 = .ok (.getfield 255, 3) := dk_180 0 255 (dk_at dksX0_finds_3 0 rfl rfl)
theorem dX0_finds_73 : decode cX0_finds 73 = .ok (.imul, 1) := dk_104 (dk_at dksX0_finds_3 3 rfl rfl)
theorem dX0_finds_74 : decode cX0_finds 74 = .ok (.aload_n 3, 1) := dk_45 (dk_at dksX0_finds_3 4 rfl rfl)
theorem dX0_finds_75 : decode cX0_finds 75 = .ok (.getfield 227, 3) := dk_180 0 227 (dk_at dksX0_finds_3 5 rfl rfl)
theorem dX0_finds_78 : decode cX0_finds 78 = .ok (.aload_n 0, 1) := dk_42 (dk_at dksX0_finds_3 8 rfl rfl)
theorem dX0_finds_79 : decode cX0_finds 79 = .ok (.getfield 27, 3) := dk_180 0 27 (dk_at dksX0_finds_3 9 rfl rfl)
theorem dX0_finds_82 : decode cX0_finds 82 = .ok (.iconst 0, 1) := dk_3 (dk_at dksX0_finds_3 12 rfl rfl)
theorem dX0_finds_83 : decode cX0_finds 83 = .ok (.iaload, 1) := dk_46 (dk_at dksX0_finds_3 13 rfl rfl)
theorem dX0_finds_84 : decode cX0_finds 84 = .ok (.imul, 1) := dk_104 (dk_at dksX0_finds_3 14 rfl rfl)
theorem dX0_finds_85 : decode cX0_finds 85 = .ok (.if_icmp .ge 6, 3) := dk_162 0 6 (dk_at dksX0_finds_3 15 rfl rfl)
theorem dX0_finds_88 : decode cX0_finds 88 = .ok (.goto 47, 3) := dk_167 0 47 (dk_at dksX0_finds_3 18 rfl rfl)
theorem dX0_finds_91 : decode cX0_finds 91 = .ok (.aload_n 2, 1) := dk_44 (dk_at dksX0_finds_3 21 rfl rfl)
theorem dX0_finds_92 : decode cX0_finds 92 = .ok (.iload 4, 2) := dk_21 4 (dk_at dksX0_finds_3 22 rfl rfl)
theorem dX0_finds_94 : decode cX0_finds 94 = .ok (.iconst 1, 1) := dk_4 (dk_at dksX0_finds_4 0 rfl rfl)
theorem dX0_finds_95 : decode cX0_finds 95 = .ok (.bastore, 1) := dk_84 (dk_at dksX0_finds_4 1 rfl rfl)
theorem dX0_finds_96 : decode cX0_finds 96 = .ok (.aload_n 0, 1) := dk_42 (dk_at dksX0_finds_4 2 rfl rfl)
theorem dX0_finds_97 : decode cX0_finds 97 = .ok (.getfield 77, 3) := dk_180 0 77 (dk_at dksX0_finds_4 3 rfl rfl)
theorem dX0_finds_100 : decode cX0_finds 100 = .ok (.iload 4, 2) := dk_21 4 (dk_at dksX0_finds_4 6 rfl rfl)
theorem dX0_finds_102 : decode cX0_finds 102 = .ok (.iaload, 1) := dk_46 (dk_at dksX0_finds_4 8 rfl rfl)
theorem dX0_finds_103 : decode cX0_finds 103 = .ok (.iconst (-1), 1) := dk_2 (dk_at dksX0_finds_4 9 rfl rfl)
theorem dX0_finds_104 : decode cX0_finds 104 = .ok (.if_icmp .eq 21, 3) := dk_159 0 21 (dk_at dksX0_finds_4 10 rfl rfl)
theorem dX0_finds_107 : decode cX0_finds 107 = .ok (.aload_n 0, 1) := dk_42 (dk_at dksX0_finds_4 13 rfl rfl)
theorem dX0_finds_108 : decode cX0_finds 108 = .ok (.aload_n 0, 1) := dk_42 (dk_at dksX0_finds_4 14 rfl rfl)
theorem dX0_finds_109 : decode cX0_finds 109 = .ok (.getfield 77, 3) := dk_180 0 77 (dk_at dksX0_finds_4 15 rfl rfl)
theorem dX0_finds_112 : decode cX0_finds 112 = .ok (.iload 4, 2) := dk_21 4 (dk_at dksX0_finds_4 18 rfl rfl)
theorem dX0_finds_114 : decode cX0_finds 114 = .ok (.iaload, 1) := dk_46 (dk_at dksX0_finds_4 20 rfl rfl)
theorem dX0_finds_115 : decode cX0_finds 115 = .ok (.aload_n 2, 1) := dk_44 (dk_at dksX0_finds_4 21 rfl rfl)
theorem dX0_finds_116 : decode cX0_finds 116 = .ok (.invokevirtual 298, 3) := dk_182 1 42 (dk_at dksX0_finds_5 0 rfl rfl)
theorem dX0_finds_119 : decode cX0_finds 119 = .ok (.ifCond .ne 6, 3) := dk_154 0 6 (dk_at dksX0_finds_5 3 rfl rfl)
theorem dX0_finds_122 : decode cX0_finds 122 = .ok (.goto 13, 3) := dk_167 0 13 (dk_at dksX0_finds_5 6 rfl rfl)
theorem dX0_finds_125 : decode cX0_finds 125 = .ok (.aload_n 0, 1) := dk_42 (dk_at dksX0_finds_5 9 rfl rfl)
theorem dX0_finds_126 : decode cX0_finds 126 = .ok (.getfield 77, 3) := dk_180 0 77 (dk_at dksX0_finds_5 10 rfl rfl)
theorem dX0_finds_129 : decode cX0_finds 129 = .ok (.iload 4, 2) := dk_21 4 (dk_at dksX0_finds_5 13 rfl rfl)
theorem dX0_finds_131 : decode cX0_finds 131 = .ok (.iload_n 1, 1) := dk_27 (dk_at dksX0_finds_5 15 rfl rfl)
theorem dX0_finds_132 : decode cX0_finds 132 = .ok (.iastore, 1) := dk_79 (dk_at dksX0_finds_5 16 rfl rfl)
theorem dX0_finds_133 : decode cX0_finds 133 = .ok (.iconst 1, 1) := dk_4 (dk_at dksX0_finds_5 17 rfl rfl)
theorem dX0_finds_134 : decode cX0_finds 134 = .ok (.ireturn, 1) := dk_172 (dk_at dksX0_finds_5 18 rfl rfl)
theorem dX0_finds_135 : decode cX0_finds 135 = .ok (.iinc 4 1, 3) := dk_132 4 1 (dk_at dksX0_finds_5 19 rfl rfl)
theorem dX0_finds_138 : decode cX0_finds 138 = .ok (.goto (-120), 3) := dk_167 255 136 (dk_at dksX0_finds_6 0 rfl rfl)
theorem dX0_finds_141 : decode cX0_finds 141 = .ok (.iconst 0, 1) := dk_3 (dk_at dksX0_finds_6 3 rfl rfl)
theorem dX0_finds_142 : decode cX0_finds 142 = .ok (.ireturn, 1) := dk_172 (dk_at dksX0_finds_6 4 rfl rfl)
abbrev cX0_seen : ByteArray := prog_1_method_49_code
def yX0_seen : MethodName := ⟨RX0, "seen", "(III)I"⟩
def dkwX0_seen_3 : List UInt8 := [182, 0, 173, 87, 42, 180, 0, 84, 182, 0, 170, 172]
abbrev dktX0_seen_3 : List UInt8 := dkwX0_seen_3 ++ []
def dkwX0_seen_2 : List UInt8 := [16, 252, 172, 42, 180, 0, 84, 6, 188, 10, 89, 3, 27, 79, 89, 4, 28, 79, 89, 5, 29, 79]
abbrev dktX0_seen_2 : List UInt8 := dkwX0_seen_2 ++ dktX0_seen_3
def dkwX0_seen_1 : List UInt8 := [20, 0, 163, 184, 0, 103, 154, 0, 6, 16, 254, 172, 42, 180, 0, 84, 182, 0, 170, 16, 8, 160, 0, 6]
abbrev dktX0_seen_1 : List UInt8 := dkwX0_seen_1 ++ dktX0_seen_2
def dkwX0_seen_0 : List UInt8 := [27, 184, 0, 165, 153, 0, 27, 28, 133, 9, 20, 0, 168, 184, 0, 103, 153, 0, 15, 29, 133, 9]
abbrev dktX0_seen_0 : List UInt8 := dkwX0_seen_0 ++ dktX0_seen_1
theorem dksX0_seen_0 : cX0_seen.data.toList.drop 0 = dktX0_seen_0 := by decide +kernel
theorem dksX0_seen_1 : cX0_seen.data.toList.drop 22 = dktX0_seen_1 := dk_seg dksX0_seen_0 22 rfl rfl
theorem dksX0_seen_2 : cX0_seen.data.toList.drop 46 = dktX0_seen_2 := dk_seg dksX0_seen_1 24 rfl rfl
theorem dksX0_seen_3 : cX0_seen.data.toList.drop 68 = dktX0_seen_3 := dk_seg dksX0_seen_2 22 rfl rfl
theorem dX0_seen_0 : decode cX0_seen 0 = .ok (.iload_n 1, 1) := dk_27 (dk_at dksX0_seen_0 0 rfl rfl)
theorem dX0_seen_1 : decode cX0_seen 1 = .ok (.invokestatic 165, 3) := dk_184 0 165 (dk_at dksX0_seen_0 1 rfl rfl)
theorem dX0_seen_4 : decode cX0_seen 4 = .ok (.ifCond .eq 27, 3) := dk_153 0 27 (dk_at dksX0_seen_0 4 rfl rfl)
theorem dX0_seen_7 : decode cX0_seen 7 = .ok (.iload_n 2, 1) := dk_28 (dk_at dksX0_seen_0 7 rfl rfl)
theorem dX0_seen_8 : decode cX0_seen 8 = .ok (.i2l, 1) := dk_133 (dk_at dksX0_seen_0 8 rfl rfl)
theorem dX0_seen_9 : decode cX0_seen 9 = .ok (.lconst 0, 1) := dk_9 (dk_at dksX0_seen_0 9 rfl rfl)
theorem dX0_seen_10 : decode cX0_seen 10 = .ok (.ldc2_w 168, 3) := dk_20 0 168 (dk_at dksX0_seen_0 10 rfl rfl)
theorem dX0_seen_13 : decode cX0_seen 13 = .ok (.invokestatic 103, 3) := dk_184 0 103 (dk_at dksX0_seen_0 13 rfl rfl)
theorem dX0_seen_16 : decode cX0_seen 16 = .ok (.ifCond .eq 15, 3) := dk_153 0 15 (dk_at dksX0_seen_0 16 rfl rfl)
theorem dX0_seen_19 : decode cX0_seen 19 = .ok (.iload_n 3, 1) := dk_29 (dk_at dksX0_seen_0 19 rfl rfl)
theorem dX0_seen_20 : decode cX0_seen 20 = .ok (.i2l, 1) := dk_133 (dk_at dksX0_seen_0 20 rfl rfl)
theorem dX0_seen_21 : decode cX0_seen 21 = .ok (.lconst 0, 1) := dk_9 (dk_at dksX0_seen_0 21 rfl rfl)
theorem dX0_seen_22 : decode cX0_seen 22 = .ok (.ldc2_w 163, 3) := dk_20 0 163 (dk_at dksX0_seen_1 0 rfl rfl)
theorem dX0_seen_25 : decode cX0_seen 25 = .ok (.invokestatic 103, 3) := dk_184 0 103 (dk_at dksX0_seen_1 3 rfl rfl)
theorem dX0_seen_28 : decode cX0_seen 28 = .ok (.ifCond .ne 6, 3) := dk_154 0 6 (dk_at dksX0_seen_1 6 rfl rfl)
theorem dX0_seen_31 : decode cX0_seen 31 = .ok (.bipush (-2), 2) := dk_16 254 (dk_at dksX0_seen_1 9 rfl rfl)
theorem dX0_seen_33 : decode cX0_seen 33 = .ok (.ireturn, 1) := dk_172 (dk_at dksX0_seen_1 11 rfl rfl)
theorem dX0_seen_34 : decode cX0_seen 34 = .ok (.aload_n 0, 1) := dk_42 (dk_at dksX0_seen_1 12 rfl rfl)
theorem dX0_seen_35 : decode cX0_seen 35 = .ok (.getfield 84, 3) := dk_180 0 84 (dk_at dksX0_seen_1 13 rfl rfl)
theorem dX0_seen_38 : decode cX0_seen 38 = .ok (.invokevirtual 170, 3) := dk_182 0 170 (dk_at dksX0_seen_1 16 rfl rfl)
theorem dX0_seen_41 : decode cX0_seen 41 = .ok (.bipush 8, 2) := dk_16 8 (dk_at dksX0_seen_1 19 rfl rfl)
theorem dX0_seen_43 : decode cX0_seen 43 = .ok (.if_icmp .ne 6, 3) := dk_160 0 6 (dk_at dksX0_seen_1 21 rfl rfl)
theorem dX0_seen_46 : decode cX0_seen 46 = .ok (.bipush (-4), 2) := dk_16 252 (dk_at dksX0_seen_2 0 rfl rfl)
theorem dX0_seen_48 : decode cX0_seen 48 = .ok (.ireturn, 1) := dk_172 (dk_at dksX0_seen_2 2 rfl rfl)
theorem dX0_seen_49 : decode cX0_seen 49 = .ok (.aload_n 0, 1) := dk_42 (dk_at dksX0_seen_2 3 rfl rfl)
theorem dX0_seen_50 : decode cX0_seen 50 = .ok (.getfield 84, 3) := dk_180 0 84 (dk_at dksX0_seen_2 4 rfl rfl)
theorem dX0_seen_53 : decode cX0_seen 53 = .ok (.iconst 3, 1) := dk_6 (dk_at dksX0_seen_2 7 rfl rfl)
theorem dX0_seen_54 : decode cX0_seen 54 = .ok (.newarray .int, 2) := dk_188_10 (dk_at dksX0_seen_2 8 rfl rfl)
theorem dX0_seen_56 : decode cX0_seen 56 = .ok (.dup, 1) := dk_89 (dk_at dksX0_seen_2 10 rfl rfl)
theorem dX0_seen_57 : decode cX0_seen 57 = .ok (.iconst 0, 1) := dk_3 (dk_at dksX0_seen_2 11 rfl rfl)
theorem dX0_seen_58 : decode cX0_seen 58 = .ok (.iload_n 1, 1) := dk_27 (dk_at dksX0_seen_2 12 rfl rfl)
theorem dX0_seen_59 : decode cX0_seen 59 = .ok (.iastore, 1) := dk_79 (dk_at dksX0_seen_2 13 rfl rfl)
theorem dX0_seen_60 : decode cX0_seen 60 = .ok (.dup, 1) := dk_89 (dk_at dksX0_seen_2 14 rfl rfl)
theorem dX0_seen_61 : decode cX0_seen 61 = .ok (.iconst 1, 1) := dk_4 (dk_at dksX0_seen_2 15 rfl rfl)
theorem dX0_seen_62 : decode cX0_seen 62 = .ok (.iload_n 2, 1) := dk_28 (dk_at dksX0_seen_2 16 rfl rfl)
theorem dX0_seen_63 : decode cX0_seen 63 = .ok (.iastore, 1) := dk_79 (dk_at dksX0_seen_2 17 rfl rfl)
theorem dX0_seen_64 : decode cX0_seen 64 = .ok (.dup, 1) := dk_89 (dk_at dksX0_seen_2 18 rfl rfl)
theorem dX0_seen_65 : decode cX0_seen 65 = .ok (.iconst 2, 1) := dk_5 (dk_at dksX0_seen_2 19 rfl rfl)
theorem dX0_seen_66 : decode cX0_seen 66 = .ok (.iload_n 3, 1) := dk_29 (dk_at dksX0_seen_2 20 rfl rfl)
theorem dX0_seen_67 : decode cX0_seen 67 = .ok (.iastore, 1) := dk_79 (dk_at dksX0_seen_2 21 rfl rfl)
theorem dX0_seen_68 : decode cX0_seen 68 = .ok (.invokevirtual 173, 3) := dk_182 0 173 (dk_at dksX0_seen_3 0 rfl rfl)
theorem dX0_seen_71 : decode cX0_seen 71 = .ok (.pop, 1) := dk_87 (dk_at dksX0_seen_3 3 rfl rfl)
theorem dX0_seen_72 : decode cX0_seen 72 = .ok (.aload_n 0, 1) := dk_42 (dk_at dksX0_seen_3 4 rfl rfl)
theorem dX0_seen_73 : decode cX0_seen 73 = .ok (.getfield 84, 3) := dk_180 0 84 (dk_at dksX0_seen_3 5 rfl rfl)
theorem dX0_seen_76 : decode cX0_seen 76 = .ok (.invokevirtual 170, 3) := dk_182 0 170 (dk_at dksX0_seen_3 8 rfl rfl)
theorem dX0_seen_79 : decode cX0_seen 79 = .ok (.ireturn, 1) := dk_172 (dk_at dksX0_seen_3 11 rfl rfl)
abbrev cX0_forget : ByteArray := prog_1_method_50_code
def yX0_forget : MethodName := ⟨RX0, "forget", "()I"⟩
def dkwX0_forget_0 : List UInt8 := [42, 180, 0, 84, 182, 0, 170, 60, 42, 180, 0, 84, 182, 1, 49, 27, 172]
abbrev dktX0_forget_0 : List UInt8 := dkwX0_forget_0 ++ []
theorem dksX0_forget_0 : cX0_forget.data.toList.drop 0 = dktX0_forget_0 := by decide +kernel
theorem dX0_forget_0 : decode cX0_forget 0 = .ok (.aload_n 0, 1) := dk_42 (dk_at dksX0_forget_0 0 rfl rfl)
theorem dX0_forget_1 : decode cX0_forget 1 = .ok (.getfield 84, 3) := dk_180 0 84 (dk_at dksX0_forget_0 1 rfl rfl)
theorem dX0_forget_4 : decode cX0_forget 4 = .ok (.invokevirtual 170, 3) := dk_182 0 170 (dk_at dksX0_forget_0 4 rfl rfl)
theorem dX0_forget_7 : decode cX0_forget 7 = .ok (.istore_n 1, 1) := dk_60 (dk_at dksX0_forget_0 7 rfl rfl)
theorem dX0_forget_8 : decode cX0_forget 8 = .ok (.aload_n 0, 1) := dk_42 (dk_at dksX0_forget_0 8 rfl rfl)
theorem dX0_forget_9 : decode cX0_forget 9 = .ok (.getfield 84, 3) := dk_180 0 84 (dk_at dksX0_forget_0 9 rfl rfl)
theorem dX0_forget_12 : decode cX0_forget 12 = .ok (.invokevirtual 305, 3) := dk_182 1 49 (dk_at dksX0_forget_0 12 rfl rfl)
theorem dX0_forget_15 : decode cX0_forget 15 = .ok (.iload_n 1, 1) := dk_27 (dk_at dksX0_forget_0 15 rfl rfl)
theorem dX0_forget_16 : decode cX0_forget 16 = .ok (.ireturn, 1) := dk_172 (dk_at dksX0_forget_0 16 rfl rfl)
abbrev cX0_never : ByteArray := prog_1_method_53_code
def yX0_never : MethodName := ⟨RX0, "never", "()I"⟩
theorem dX0_never_0 : decode cX0_never 0 = .ok (.aload_n 0, 1) := by decide +kernel
theorem dX0_never_1 : decode cX0_never 1 = .ok (.invokevirtual 311, 3) := by decide +kernel
theorem dX0_never_4 : decode cX0_never 4 = .ok (.ireturn, 1) := by decide +kernel
abbrev cX0_neverNow : ByteArray := prog_1_method_52_code
def yX0_neverNow : MethodName := ⟨RX0, "neverNow", "()I"⟩
def dkwX0_neverNow_2 : List UInt8 := [181, 0, 215, 167, 0, 11, 78, 42, 3, 181, 0, 215, 45, 191, 27, 172]
abbrev dktX0_neverNow_2 : List UInt8 := dkwX0_neverNow_2 ++ []
def dkwX0_neverNow_1 : List UInt8 := [182, 1, 52, 153, 0, 9, 4, 28, 120, 167, 0, 4, 3, 128, 60, 132, 2, 1, 167, 255, 218, 42, 3]
abbrev dktX0_neverNow_1 : List UInt8 := dkwX0_neverNow_1 ++ dktX0_neverNow_2
def dkwX0_neverNow_0 : List UInt8 := [3, 60, 3, 61, 28, 42, 180, 0, 34, 182, 0, 170, 162, 0, 33, 42, 4, 28, 120, 181, 0, 215, 27, 42]
abbrev dktX0_neverNow_0 : List UInt8 := dkwX0_neverNow_0 ++ dktX0_neverNow_1
theorem dksX0_neverNow_0 : cX0_neverNow.data.toList.drop 0 = dktX0_neverNow_0 := by decide +kernel
theorem dksX0_neverNow_1 : cX0_neverNow.data.toList.drop 24 = dktX0_neverNow_1 := dk_seg dksX0_neverNow_0 24 rfl rfl
theorem dksX0_neverNow_2 : cX0_neverNow.data.toList.drop 47 = dktX0_neverNow_2 := dk_seg dksX0_neverNow_1 23 rfl rfl
theorem dX0_neverNow_0 : decode cX0_neverNow 0 = .ok (.iconst 0, 1) := dk_3 (dk_at dksX0_neverNow_0 0 rfl rfl)
theorem dX0_neverNow_1 : decode cX0_neverNow 1 = .ok (.istore_n 1, 1) := dk_60 (dk_at dksX0_neverNow_0 1 rfl rfl)
theorem dX0_neverNow_2 : decode cX0_neverNow 2 = .ok (.iconst 0, 1) := dk_3 (dk_at dksX0_neverNow_0 2 rfl rfl)
theorem dX0_neverNow_3 : decode cX0_neverNow 3 = .ok (.istore_n 2, 1) := dk_61 (dk_at dksX0_neverNow_0 3 rfl rfl)
theorem dX0_neverNow_4 : decode cX0_neverNow 4 = .ok (.iload_n 2, 1) := dk_28 (dk_at dksX0_neverNow_0 4 rfl rfl)
theorem dX0_neverNow_5 : decode cX0_neverNow 5 = .ok (.aload_n 0, 1) := dk_42 (dk_at dksX0_neverNow_0 5 rfl rfl)
theorem dX0_neverNow_6 : decode cX0_neverNow 6 = .ok (.getfield 34, 3) := dk_180 0 34 (dk_at dksX0_neverNow_0 6 rfl rfl)
theorem dX0_neverNow_9 : decode cX0_neverNow 9 = .ok (.invokevirtual 170, 3) := dk_182 0 170 (dk_at dksX0_neverNow_0 9 rfl rfl)
theorem dX0_neverNow_12 : decode cX0_neverNow 12 = .ok (.if_icmp .ge 33, 3) := dk_162 0 33 (dk_at dksX0_neverNow_0 12 rfl rfl)
theorem dX0_neverNow_15 : decode cX0_neverNow 15 = .ok (.aload_n 0, 1) := dk_42 (dk_at dksX0_neverNow_0 15 rfl rfl)
theorem dX0_neverNow_16 : decode cX0_neverNow 16 = .ok (.iconst 1, 1) := dk_4 (dk_at dksX0_neverNow_0 16 rfl rfl)
theorem dX0_neverNow_17 : decode cX0_neverNow 17 = .ok (.iload_n 2, 1) := dk_28 (dk_at dksX0_neverNow_0 17 rfl rfl)
theorem dX0_neverNow_18 : decode cX0_neverNow 18 = .ok (.ishl, 1) := dk_120 (dk_at dksX0_neverNow_0 18 rfl rfl)
theorem dX0_neverNow_19 : decode cX0_neverNow 19 = .ok (.putfield 215, 3) := dk_181 0 215 (dk_at dksX0_neverNow_0 19 rfl rfl)
theorem dX0_neverNow_22 : decode cX0_neverNow 22 = .ok (.iload_n 1, 1) := dk_27 (dk_at dksX0_neverNow_0 22 rfl rfl)
theorem dX0_neverNow_23 : decode cX0_neverNow 23 = .ok (.aload_n 0, 1) := dk_42 (dk_at dksX0_neverNow_0 23 rfl rfl)
theorem dX0_neverNow_24 : decode cX0_neverNow 24 = .ok (.invokevirtual 308, 3) := dk_182 1 52 (dk_at dksX0_neverNow_1 0 rfl rfl)
theorem dX0_neverNow_27 : decode cX0_neverNow 27 = .ok (.ifCond .eq 9, 3) := dk_153 0 9 (dk_at dksX0_neverNow_1 3 rfl rfl)
theorem dX0_neverNow_30 : decode cX0_neverNow 30 = .ok (.iconst 1, 1) := dk_4 (dk_at dksX0_neverNow_1 6 rfl rfl)
theorem dX0_neverNow_31 : decode cX0_neverNow 31 = .ok (.iload_n 2, 1) := dk_28 (dk_at dksX0_neverNow_1 7 rfl rfl)
theorem dX0_neverNow_32 : decode cX0_neverNow 32 = .ok (.ishl, 1) := dk_120 (dk_at dksX0_neverNow_1 8 rfl rfl)
theorem dX0_neverNow_33 : decode cX0_neverNow 33 = .ok (.goto 4, 3) := dk_167 0 4 (dk_at dksX0_neverNow_1 9 rfl rfl)
theorem dX0_neverNow_36 : decode cX0_neverNow 36 = .ok (.iconst 0, 1) := dk_3 (dk_at dksX0_neverNow_1 12 rfl rfl)
theorem dX0_neverNow_37 : decode cX0_neverNow 37 = .ok (.ior, 1) := dk_128 (dk_at dksX0_neverNow_1 13 rfl rfl)
theorem dX0_neverNow_38 : decode cX0_neverNow 38 = .ok (.istore_n 1, 1) := dk_60 (dk_at dksX0_neverNow_1 14 rfl rfl)
theorem dX0_neverNow_39 : decode cX0_neverNow 39 = .ok (.iinc 2 1, 3) := dk_132 2 1 (dk_at dksX0_neverNow_1 15 rfl rfl)
theorem dX0_neverNow_42 : decode cX0_neverNow 42 = .ok (.goto (-38), 3) := dk_167 255 218 (dk_at dksX0_neverNow_1 18 rfl rfl)
theorem dX0_neverNow_45 : decode cX0_neverNow 45 = .ok (.aload_n 0, 1) := dk_42 (dk_at dksX0_neverNow_1 21 rfl rfl)
theorem dX0_neverNow_46 : decode cX0_neverNow 46 = .ok (.iconst 0, 1) := dk_3 (dk_at dksX0_neverNow_1 22 rfl rfl)
theorem dX0_neverNow_47 : decode cX0_neverNow 47 = .ok (.putfield 215, 3) := dk_181 0 215 (dk_at dksX0_neverNow_2 0 rfl rfl)
theorem dX0_neverNow_50 : decode cX0_neverNow 50 = .ok (.goto 11, 3) := dk_167 0 11 (dk_at dksX0_neverNow_2 3 rfl rfl)
theorem dX0_neverNow_53 : decode cX0_neverNow 53 = .ok (.astore_n 3, 1) := dk_78 (dk_at dksX0_neverNow_2 6 rfl rfl)
theorem dX0_neverNow_54 : decode cX0_neverNow 54 = .ok (.aload_n 0, 1) := dk_42 (dk_at dksX0_neverNow_2 7 rfl rfl)
theorem dX0_neverNow_55 : decode cX0_neverNow 55 = .ok (.iconst 0, 1) := dk_3 (dk_at dksX0_neverNow_2 8 rfl rfl)
theorem dX0_neverNow_56 : decode cX0_neverNow 56 = .ok (.putfield 215, 3) := dk_181 0 215 (dk_at dksX0_neverNow_2 9 rfl rfl)
theorem dX0_neverNow_59 : decode cX0_neverNow 59 = .ok (.aload_n 3, 1) := dk_45 (dk_at dksX0_neverNow_2 12 rfl rfl)
theorem dX0_neverNow_60 : decode cX0_neverNow 60 = .ok (.athrow, 1) := dk_191 (dk_at dksX0_neverNow_2 13 rfl rfl)
theorem dX0_neverNow_61 : decode cX0_neverNow 61 = .ok (.iload_n 1, 1) := dk_27 (dk_at dksX0_neverNow_2 14 rfl rfl)
theorem dX0_neverNow_62 : decode cX0_neverNow 62 = .ok (.ireturn, 1) := dk_172 (dk_at dksX0_neverNow_2 15 rfl rfl)
abbrev cX0_isSeen : ByteArray := prog_1_method_51_code
def yX0_isSeen : MethodName := ⟨RX0, "isSeen", "()Z"⟩
def dkwX0_isSeen_3 : List UInt8 := [132, 2, 1, 167, 255, 192, 27, 172]
abbrev dktX0_isSeen_3 : List UInt8 := dkwX0_isSeen_3 ++ []
def dkwX0_isSeen_2 : List UInt8 := [180, 0, 43, 45, 3, 46, 50, 45, 4, 46, 46, 45, 5, 46, 160, 0, 7, 4, 167, 0, 4, 3, 60]
abbrev dktX0_isSeen_2 : List UInt8 := dkwX0_isSeen_2 ++ dktX0_isSeen_3
def dkwX0_isSeen_1 : List UInt8 := [180, 0, 84, 28, 182, 0, 147, 192, 0, 204, 78, 42, 45, 4, 46, 182, 0, 139, 153, 0, 25, 42]
abbrev dktX0_isSeen_1 : List UInt8 := dkwX0_isSeen_1 ++ dktX0_isSeen_2
def dkwX0_isSeen_0 : List UInt8 := [42, 182, 1, 20, 4, 60, 3, 61, 28, 42, 180, 0, 84, 182, 0, 170, 162, 0, 59, 27, 153, 0, 55, 42]
abbrev dktX0_isSeen_0 : List UInt8 := dkwX0_isSeen_0 ++ dktX0_isSeen_1
theorem dksX0_isSeen_0 : cX0_isSeen.data.toList.drop 0 = dktX0_isSeen_0 := by decide +kernel
theorem dksX0_isSeen_1 : cX0_isSeen.data.toList.drop 24 = dktX0_isSeen_1 := dk_seg dksX0_isSeen_0 24 rfl rfl
theorem dksX0_isSeen_2 : cX0_isSeen.data.toList.drop 46 = dktX0_isSeen_2 := dk_seg dksX0_isSeen_1 22 rfl rfl
theorem dksX0_isSeen_3 : cX0_isSeen.data.toList.drop 69 = dktX0_isSeen_3 := dk_seg dksX0_isSeen_2 23 rfl rfl
theorem dX0_isSeen_0 : decode cX0_isSeen 0 = .ok (.aload_n 0, 1) := dk_42 (dk_at dksX0_isSeen_0 0 rfl rfl)
theorem dX0_isSeen_1 : decode cX0_isSeen 1 = .ok (.invokevirtual 276, 3) := dk_182 1 20 (dk_at dksX0_isSeen_0 1 rfl rfl)
theorem dX0_isSeen_4 : decode cX0_isSeen 4 = .ok (.iconst 1, 1) := dk_4 (dk_at dksX0_isSeen_0 4 rfl rfl)
theorem dX0_isSeen_5 : decode cX0_isSeen 5 = .ok (.istore_n 1, 1) := dk_60 (dk_at dksX0_isSeen_0 5 rfl rfl)
theorem dX0_isSeen_6 : decode cX0_isSeen 6 = .ok (.iconst 0, 1) := dk_3 (dk_at dksX0_isSeen_0 6 rfl rfl)
theorem dX0_isSeen_7 : decode cX0_isSeen 7 = .ok (.istore_n 2, 1) := dk_61 (dk_at dksX0_isSeen_0 7 rfl rfl)
theorem dX0_isSeen_8 : decode cX0_isSeen 8 = .ok (.iload_n 2, 1) := dk_28 (dk_at dksX0_isSeen_0 8 rfl rfl)
theorem dX0_isSeen_9 : decode cX0_isSeen 9 = .ok (.aload_n 0, 1) := dk_42 (dk_at dksX0_isSeen_0 9 rfl rfl)
theorem dX0_isSeen_10 : decode cX0_isSeen 10 = .ok (.getfield 84, 3) := dk_180 0 84 (dk_at dksX0_isSeen_0 10 rfl rfl)
theorem dX0_isSeen_13 : decode cX0_isSeen 13 = .ok (.invokevirtual 170, 3) := dk_182 0 170 (dk_at dksX0_isSeen_0 13 rfl rfl)
theorem dX0_isSeen_16 : decode cX0_isSeen 16 = .ok (.if_icmp .ge 59, 3) := dk_162 0 59 (dk_at dksX0_isSeen_0 16 rfl rfl)
theorem dX0_isSeen_19 : decode cX0_isSeen 19 = .ok (.iload_n 1, 1) := dk_27 (dk_at dksX0_isSeen_0 19 rfl rfl)
theorem dX0_isSeen_20 : decode cX0_isSeen 20 = .ok (.ifCond .eq 55, 3) := dk_153 0 55 (dk_at dksX0_isSeen_0 20 rfl rfl)
theorem dX0_isSeen_23 : decode cX0_isSeen 23 = .ok (.aload_n 0, 1) := dk_42 (dk_at dksX0_isSeen_0 23 rfl rfl)
theorem dX0_isSeen_24 : decode cX0_isSeen 24 = .ok (.getfield 84, 3) := dk_180 0 84 (dk_at dksX0_isSeen_1 0 rfl rfl)
theorem dX0_isSeen_27 : decode cX0_isSeen 27 = .ok (.iload_n 2, 1) := dk_28 (dk_at dksX0_isSeen_1 3 rfl rfl)
theorem dX0_isSeen_28 : decode cX0_isSeen 28 = .ok (.invokevirtual 147, 3) := dk_182 0 147 (dk_at dksX0_isSeen_1 4 rfl rfl)
theorem dX0_isSeen_31 : decode cX0_isSeen 31 = .ok (.checkcast 204, 3) := dk_192 0 204 (dk_at dksX0_isSeen_1 7 rfl rfl)
theorem dX0_isSeen_34 : decode cX0_isSeen 34 = .ok (.astore_n 3, 1) := dk_78 (dk_at dksX0_isSeen_1 10 rfl rfl)
theorem dX0_isSeen_35 : decode cX0_isSeen 35 = .ok (.aload_n 0, 1) := dk_42 (dk_at dksX0_isSeen_1 11 rfl rfl)
theorem dX0_isSeen_36 : decode cX0_isSeen 36 = .ok (.aload_n 3, 1) := dk_45 (dk_at dksX0_isSeen_1 12 rfl rfl)
theorem dX0_isSeen_37 : decode cX0_isSeen 37 = .ok (.iconst 1, 1) := dk_4 (dk_at dksX0_isSeen_1 13 rfl rfl)
theorem dX0_isSeen_38 : decode cX0_isSeen 38 = .ok (.iaload, 1) := dk_46 (dk_at dksX0_isSeen_1 14 rfl rfl)
theorem dX0_isSeen_39 : decode cX0_isSeen 39 = .ok (.invokevirtual 139, 3) := dk_182 0 139 (dk_at dksX0_isSeen_1 15 rfl rfl)
theorem dX0_isSeen_42 : decode cX0_isSeen 42 = .ok (.ifCond .eq 25, 3) := dk_153 0 25 (dk_at dksX0_isSeen_1 18 rfl rfl)
theorem dX0_isSeen_45 : decode cX0_isSeen 45 = .ok (.aload_n 0, 1) := dk_42 (dk_at dksX0_isSeen_1 21 rfl rfl)
theorem dX0_isSeen_46 : decode cX0_isSeen 46 = .ok (.getfield 43, 3) := dk_180 0 43 (dk_at dksX0_isSeen_2 0 rfl rfl)
theorem dX0_isSeen_49 : decode cX0_isSeen 49 = .ok (.aload_n 3, 1) := dk_45 (dk_at dksX0_isSeen_2 3 rfl rfl)
theorem dX0_isSeen_50 : decode cX0_isSeen 50 = .ok (.iconst 0, 1) := dk_3 (dk_at dksX0_isSeen_2 4 rfl rfl)
theorem dX0_isSeen_51 : decode cX0_isSeen 51 = .ok (.iaload, 1) := dk_46 (dk_at dksX0_isSeen_2 5 rfl rfl)
theorem dX0_isSeen_52 : decode cX0_isSeen 52 = .ok (.aaload, 1) := dk_50 (dk_at dksX0_isSeen_2 6 rfl rfl)
theorem dX0_isSeen_53 : decode cX0_isSeen 53 = .ok (.aload_n 3, 1) := dk_45 (dk_at dksX0_isSeen_2 7 rfl rfl)
theorem dX0_isSeen_54 : decode cX0_isSeen 54 = .ok (.iconst 1, 1) := dk_4 (dk_at dksX0_isSeen_2 8 rfl rfl)
theorem dX0_isSeen_55 : decode cX0_isSeen 55 = .ok (.iaload, 1) := dk_46 (dk_at dksX0_isSeen_2 9 rfl rfl)
theorem dX0_isSeen_56 : decode cX0_isSeen 56 = .ok (.iaload, 1) := dk_46 (dk_at dksX0_isSeen_2 10 rfl rfl)
theorem dX0_isSeen_57 : decode cX0_isSeen 57 = .ok (.aload_n 3, 1) := dk_45 (dk_at dksX0_isSeen_2 11 rfl rfl)
theorem dX0_isSeen_58 : decode cX0_isSeen 58 = .ok (.iconst 2, 1) := dk_5 (dk_at dksX0_isSeen_2 12 rfl rfl)
theorem dX0_isSeen_59 : decode cX0_isSeen 59 = .ok (.iaload, 1) := dk_46 (dk_at dksX0_isSeen_2 13 rfl rfl)
theorem dX0_isSeen_60 : decode cX0_isSeen 60 = .ok (.if_icmp .ne 7, 3) := dk_160 0 7 (dk_at dksX0_isSeen_2 14 rfl rfl)
theorem dX0_isSeen_63 : decode cX0_isSeen 63 = .ok (.iconst 1, 1) := dk_4 (dk_at dksX0_isSeen_2 17 rfl rfl)
theorem dX0_isSeen_64 : decode cX0_isSeen 64 = .ok (.goto 4, 3) := dk_167 0 4 (dk_at dksX0_isSeen_2 18 rfl rfl)
theorem dX0_isSeen_67 : decode cX0_isSeen 67 = .ok (.iconst 0, 1) := dk_3 (dk_at dksX0_isSeen_2 21 rfl rfl)
theorem dX0_isSeen_68 : decode cX0_isSeen 68 = .ok (.istore_n 1, 1) := dk_60 (dk_at dksX0_isSeen_2 22 rfl rfl)
theorem dX0_isSeen_69 : decode cX0_isSeen 69 = .ok (.iinc 2 1, 3) := dk_132 2 1 (dk_at dksX0_isSeen_3 0 rfl rfl)
theorem dX0_isSeen_72 : decode cX0_isSeen 72 = .ok (.goto (-64), 3) := dk_167 255 192 (dk_at dksX0_isSeen_3 3 rfl rfl)
theorem dX0_isSeen_75 : decode cX0_isSeen 75 = .ok (.iload_n 1, 1) := dk_27 (dk_at dksX0_isSeen_3 6 rfl rfl)
theorem dX0_isSeen_76 : decode cX0_isSeen 76 = .ok (.ireturn, 1) := dk_172 (dk_at dksX0_isSeen_3 7 rfl rfl)
abbrev cX0_sums : ByteArray := prog_1_method_55_code
def yX0_sums : MethodName := ⟨RX0, "sums", "(I)I"⟩
def dkwX0_sums_0 : List UInt8 := [42, 27, 182, 0, 139, 153, 0, 11, 42, 27, 182, 1, 58, 167, 0, 5, 16, 254, 172]
abbrev dktX0_sums_0 : List UInt8 := dkwX0_sums_0 ++ []
theorem dksX0_sums_0 : cX0_sums.data.toList.drop 0 = dktX0_sums_0 := by decide +kernel
theorem dX0_sums_0 : decode cX0_sums 0 = .ok (.aload_n 0, 1) := dk_42 (dk_at dksX0_sums_0 0 rfl rfl)
theorem dX0_sums_1 : decode cX0_sums 1 = .ok (.iload_n 1, 1) := dk_27 (dk_at dksX0_sums_0 1 rfl rfl)
theorem dX0_sums_2 : decode cX0_sums 2 = .ok (.invokevirtual 139, 3) := dk_182 0 139 (dk_at dksX0_sums_0 2 rfl rfl)
theorem dX0_sums_5 : decode cX0_sums 5 = .ok (.ifCond .eq 11, 3) := dk_153 0 11 (dk_at dksX0_sums_0 5 rfl rfl)
theorem dX0_sums_8 : decode cX0_sums 8 = .ok (.aload_n 0, 1) := dk_42 (dk_at dksX0_sums_0 8 rfl rfl)
theorem dX0_sums_9 : decode cX0_sums 9 = .ok (.iload_n 1, 1) := dk_27 (dk_at dksX0_sums_0 9 rfl rfl)
theorem dX0_sums_10 : decode cX0_sums 10 = .ok (.invokevirtual 314, 3) := dk_182 1 58 (dk_at dksX0_sums_0 10 rfl rfl)
theorem dX0_sums_13 : decode cX0_sums 13 = .ok (.goto 5, 3) := dk_167 0 5 (dk_at dksX0_sums_0 13 rfl rfl)
theorem dX0_sums_16 : decode cX0_sums 16 = .ok (.bipush (-2), 2) := dk_16 254 (dk_at dksX0_sums_0 16 rfl rfl)
theorem dX0_sums_18 : decode cX0_sums 18 = .ok (.ireturn, 1) := dk_172 (dk_at dksX0_sums_0 18 rfl rfl)
abbrev cX0_sumsOf : ByteArray := prog_1_method_54_code
def yX0_sumsOf : MethodName := ⟨RX0, "sumsOf", "(I)I"⟩
def dkwX0_sumsOf_5 : List UInt8 := [58, 6, 44, 29, 181, 0, 227, 25, 6, 191, 21, 4, 172]
abbrev dktX0_sumsOf_5 : List UInt8 := dkwX0_sumsOf_5 ++ []
def dkwX0_sumsOf_4 : List UInt8 := [167, 255, 225, 44, 89, 180, 0, 227, 4, 96, 181, 0, 227, 167, 255, 178, 44, 29, 181, 0, 227, 167, 0, 13]
abbrev dktX0_sumsOf_4 : List UInt8 := dkwX0_sumsOf_4 ++ dktX0_sumsOf_5
def dkwX0_sumsOf_3 : List UInt8 := [180, 0, 87, 44, 180, 0, 227, 50, 21, 5, 42, 180, 0, 43, 21, 5, 50, 27, 46, 79, 132, 5, 1]
abbrev dktX0_sumsOf_3 : List UInt8 := dkwX0_sumsOf_3 ++ dktX0_sumsOf_4
def dkwX0_sumsOf_2 : List UInt8 := [180, 0, 227, 120, 167, 0, 4, 3, 128, 54, 4, 3, 54, 5, 21, 5, 16, 20, 162, 0, 30, 42]
abbrev dktX0_sumsOf_2 : List UInt8 := dkwX0_sumsOf_2 ++ dktX0_sumsOf_3
def dkwX0_sumsOf_1 : List UInt8 := [3, 181, 0, 227, 44, 180, 0, 227, 16, 9, 163, 0, 75, 21, 4, 42, 182, 1, 52, 153, 0, 12, 4, 44]
abbrev dktX0_sumsOf_1 : List UInt8 := dkwX0_sumsOf_1 ++ dktX0_sumsOf_2
def dkwX0_sumsOf_0 : List UInt8 := [42, 180, 0, 14, 180, 0, 144, 27, 182, 0, 147, 192, 0, 151, 77, 44, 180, 0, 227, 62, 3, 54, 4, 44]
abbrev dktX0_sumsOf_0 : List UInt8 := dkwX0_sumsOf_0 ++ dktX0_sumsOf_1
theorem dksX0_sumsOf_0 : cX0_sumsOf.data.toList.drop 0 = dktX0_sumsOf_0 := by decide +kernel
theorem dksX0_sumsOf_1 : cX0_sumsOf.data.toList.drop 24 = dktX0_sumsOf_1 := dk_seg dksX0_sumsOf_0 24 rfl rfl
theorem dksX0_sumsOf_2 : cX0_sumsOf.data.toList.drop 48 = dktX0_sumsOf_2 := dk_seg dksX0_sumsOf_1 24 rfl rfl
theorem dksX0_sumsOf_3 : cX0_sumsOf.data.toList.drop 70 = dktX0_sumsOf_3 := dk_seg dksX0_sumsOf_2 22 rfl rfl
theorem dksX0_sumsOf_4 : cX0_sumsOf.data.toList.drop 93 = dktX0_sumsOf_4 := dk_seg dksX0_sumsOf_3 23 rfl rfl
theorem dksX0_sumsOf_5 : cX0_sumsOf.data.toList.drop 117 = dktX0_sumsOf_5 := dk_seg dksX0_sumsOf_4 24 rfl rfl
theorem dX0_sumsOf_0 : decode cX0_sumsOf 0 = .ok (.aload_n 0, 1) := dk_42 (dk_at dksX0_sumsOf_0 0 rfl rfl)
theorem dX0_sumsOf_1 : decode cX0_sumsOf 1 = .ok (.getfield 14, 3) := dk_180 0 14 (dk_at dksX0_sumsOf_0 1 rfl rfl)
theorem dX0_sumsOf_4 : decode cX0_sumsOf 4 = .ok (.getfield 144, 3) := dk_180 0 144 (dk_at dksX0_sumsOf_0 4 rfl rfl)
theorem dX0_sumsOf_7 : decode cX0_sumsOf 7 = .ok (.iload_n 1, 1) := dk_27 (dk_at dksX0_sumsOf_0 7 rfl rfl)
theorem dX0_sumsOf_8 : decode cX0_sumsOf 8 = .ok (.invokevirtual 147, 3) := dk_182 0 147 (dk_at dksX0_sumsOf_0 8 rfl rfl)
theorem dX0_sumsOf_11 : decode cX0_sumsOf 11 = .ok (.checkcast 151, 3) := dk_192 0 151 (dk_at dksX0_sumsOf_0 11 rfl rfl)
theorem dX0_sumsOf_14 : decode cX0_sumsOf 14 = .ok (.astore_n 2, 1) := dk_77 (dk_at dksX0_sumsOf_0 14 rfl rfl)
theorem dX0_sumsOf_15 : decode cX0_sumsOf 15 = .ok (.aload_n 2, 1) := dk_44 (dk_at dksX0_sumsOf_0 15 rfl rfl)
theorem dX0_sumsOf_16 : decode cX0_sumsOf 16 = .ok (.getfield 227, 3) := dk_180 0 227 (dk_at dksX0_sumsOf_0 16 rfl rfl)
theorem dX0_sumsOf_19 : decode cX0_sumsOf 19 = .ok (.istore_n 3, 1) := dk_62 (dk_at dksX0_sumsOf_0 19 rfl rfl)
theorem dX0_sumsOf_20 : decode cX0_sumsOf 20 = .ok (.iconst 0, 1) := dk_3 (dk_at dksX0_sumsOf_0 20 rfl rfl)
theorem dX0_sumsOf_21 : decode cX0_sumsOf 21 = .ok (.istore 4, 2) := dk_54 4 (dk_at dksX0_sumsOf_0 21 rfl rfl)
theorem dX0_sumsOf_23 : decode cX0_sumsOf 23 = .ok (.aload_n 2, 1) := dk_44 (dk_at dksX0_sumsOf_0 23 rfl rfl)
theorem dX0_sumsOf_24 : decode cX0_sumsOf 24 = .ok (.iconst 0, 1) := dk_3 (dk_at dksX0_sumsOf_1 0 rfl rfl)
theorem dX0_sumsOf_25 : decode cX0_sumsOf 25 = .ok (.putfield 227, 3) := dk_181 0 227 (dk_at dksX0_sumsOf_1 1 rfl rfl)
theorem dX0_sumsOf_28 : decode cX0_sumsOf 28 = .ok (.aload_n 2, 1) := dk_44 (dk_at dksX0_sumsOf_1 4 rfl rfl)
theorem dX0_sumsOf_29 : decode cX0_sumsOf 29 = .ok (.getfield 227, 3) := dk_180 0 227 (dk_at dksX0_sumsOf_1 5 rfl rfl)
theorem dX0_sumsOf_32 : decode cX0_sumsOf 32 = .ok (.bipush 9, 2) := dk_16 9 (dk_at dksX0_sumsOf_1 8 rfl rfl)
theorem dX0_sumsOf_34 : decode cX0_sumsOf 34 = .ok (.if_icmp .gt 75, 3) := dk_163 0 75 (dk_at dksX0_sumsOf_1 10 rfl rfl)
theorem dX0_sumsOf_37 : decode cX0_sumsOf 37 = .ok (.iload 4, 2) := dk_21 4 (dk_at dksX0_sumsOf_1 13 rfl rfl)
theorem dX0_sumsOf_39 : decode cX0_sumsOf 39 = .ok (.aload_n 0, 1) := dk_42 (dk_at dksX0_sumsOf_1 15 rfl rfl)
theorem dX0_sumsOf_40 : decode cX0_sumsOf 40 = .ok (.invokevirtual 308, 3) := dk_182 1 52 (dk_at dksX0_sumsOf_1 16 rfl rfl)
theorem dX0_sumsOf_43 : decode cX0_sumsOf 43 = .ok (.ifCond .eq 12, 3) := dk_153 0 12 (dk_at dksX0_sumsOf_1 19 rfl rfl)
theorem dX0_sumsOf_46 : decode cX0_sumsOf 46 = .ok (.iconst 1, 1) := dk_4 (dk_at dksX0_sumsOf_1 22 rfl rfl)
theorem dX0_sumsOf_47 : decode cX0_sumsOf 47 = .ok (.aload_n 2, 1) := dk_44 (dk_at dksX0_sumsOf_1 23 rfl rfl)
theorem dX0_sumsOf_48 : decode cX0_sumsOf 48 = .ok (.getfield 227, 3) := dk_180 0 227 (dk_at dksX0_sumsOf_2 0 rfl rfl)
theorem dX0_sumsOf_51 : decode cX0_sumsOf 51 = .ok (.ishl, 1) := dk_120 (dk_at dksX0_sumsOf_2 3 rfl rfl)
theorem dX0_sumsOf_52 : decode cX0_sumsOf 52 = .ok (.goto 4, 3) := dk_167 0 4 (dk_at dksX0_sumsOf_2 4 rfl rfl)
theorem dX0_sumsOf_55 : decode cX0_sumsOf 55 = .ok (.iconst 0, 1) := dk_3 (dk_at dksX0_sumsOf_2 7 rfl rfl)
theorem dX0_sumsOf_56 : decode cX0_sumsOf 56 = .ok (.ior, 1) := dk_128 (dk_at dksX0_sumsOf_2 8 rfl rfl)
theorem dX0_sumsOf_57 : decode cX0_sumsOf 57 = .ok (.istore 4, 2) := dk_54 4 (dk_at dksX0_sumsOf_2 9 rfl rfl)
theorem dX0_sumsOf_59 : decode cX0_sumsOf 59 = .ok (.iconst 0, 1) := dk_3 (dk_at dksX0_sumsOf_2 11 rfl rfl)
theorem dX0_sumsOf_60 : decode cX0_sumsOf 60 = .ok (.istore 5, 2) := dk_54 5 (dk_at dksX0_sumsOf_2 12 rfl rfl)
theorem dX0_sumsOf_62 : decode cX0_sumsOf 62 = .ok (.iload 5, 2) := dk_21 5 (dk_at dksX0_sumsOf_2 14 rfl rfl)
theorem dX0_sumsOf_64 : decode cX0_sumsOf 64 = .ok (.bipush 20, 2) := dk_16 20 (dk_at dksX0_sumsOf_2 16 rfl rfl)
theorem dX0_sumsOf_66 : decode cX0_sumsOf 66 = .ok (.if_icmp .ge 30, 3) := dk_162 0 30 (dk_at dksX0_sumsOf_2 18 rfl rfl)
theorem dX0_sumsOf_69 : decode cX0_sumsOf 69 = .ok (.aload_n 0, 1) := dk_42 (dk_at dksX0_sumsOf_2 21 rfl rfl)
theorem dX0_sumsOf_70 : decode cX0_sumsOf 70 = .ok (.getfield 87, 3) := dk_180 0 87 (dk_at dksX0_sumsOf_3 0 rfl rfl)
theorem dX0_sumsOf_73 : decode cX0_sumsOf 73 = .ok (.aload_n 2, 1) := dk_44 (dk_at dksX0_sumsOf_3 3 rfl rfl)
theorem dX0_sumsOf_74 : decode cX0_sumsOf 74 = .ok (.getfield 227, 3) := dk_180 0 227 (dk_at dksX0_sumsOf_3 4 rfl rfl)
theorem dX0_sumsOf_77 : decode cX0_sumsOf 77 = .ok (.aaload, 1) := dk_50 (dk_at dksX0_sumsOf_3 7 rfl rfl)
theorem dX0_sumsOf_78 : decode cX0_sumsOf 78 = .ok (.iload 5, 2) := dk_21 5 (dk_at dksX0_sumsOf_3 8 rfl rfl)
theorem dX0_sumsOf_80 : decode cX0_sumsOf 80 = .ok (.aload_n 0, 1) := dk_42 (dk_at dksX0_sumsOf_3 10 rfl rfl)
theorem dX0_sumsOf_81 : decode cX0_sumsOf 81 = .ok (.getfield 43, 3) := dk_180 0 43 (dk_at dksX0_sumsOf_3 11 rfl rfl)
theorem dX0_sumsOf_84 : decode cX0_sumsOf 84 = .ok (.iload 5, 2) := dk_21 5 (dk_at dksX0_sumsOf_3 14 rfl rfl)
theorem dX0_sumsOf_86 : decode cX0_sumsOf 86 = .ok (.aaload, 1) := dk_50 (dk_at dksX0_sumsOf_3 16 rfl rfl)
theorem dX0_sumsOf_87 : decode cX0_sumsOf 87 = .ok (.iload_n 1, 1) := dk_27 (dk_at dksX0_sumsOf_3 17 rfl rfl)
theorem dX0_sumsOf_88 : decode cX0_sumsOf 88 = .ok (.iaload, 1) := dk_46 (dk_at dksX0_sumsOf_3 18 rfl rfl)
theorem dX0_sumsOf_89 : decode cX0_sumsOf 89 = .ok (.iastore, 1) := dk_79 (dk_at dksX0_sumsOf_3 19 rfl rfl)
theorem dX0_sumsOf_90 : decode cX0_sumsOf 90 = .ok (.iinc 5 1, 3) := dk_132 5 1 (dk_at dksX0_sumsOf_3 20 rfl rfl)
theorem dX0_sumsOf_93 : decode cX0_sumsOf 93 = .ok (.goto (-31), 3) := dk_167 255 225 (dk_at dksX0_sumsOf_4 0 rfl rfl)
theorem dX0_sumsOf_96 : decode cX0_sumsOf 96 = .ok (.aload_n 2, 1) := dk_44 (dk_at dksX0_sumsOf_4 3 rfl rfl)
theorem dX0_sumsOf_97 : decode cX0_sumsOf 97 = .ok (.dup, 1) := dk_89 (dk_at dksX0_sumsOf_4 4 rfl rfl)
theorem dX0_sumsOf_98 : decode cX0_sumsOf 98 = .ok (.getfield 227, 3) := dk_180 0 227 (dk_at dksX0_sumsOf_4 5 rfl rfl)
theorem dX0_sumsOf_101 : decode cX0_sumsOf 101 = .ok (.iconst 1, 1) := dk_4 (dk_at dksX0_sumsOf_4 8 rfl rfl)
theorem dX0_sumsOf_102 : decode cX0_sumsOf 102 = .ok (.iadd, 1) := dk_96 (dk_at dksX0_sumsOf_4 9 rfl rfl)
theorem dX0_sumsOf_103 : decode cX0_sumsOf 103 = .ok (.putfield 227, 3) := dk_181 0 227 (dk_at dksX0_sumsOf_4 10 rfl rfl)
theorem dX0_sumsOf_106 : decode cX0_sumsOf 106 = .ok (.goto (-78), 3) := dk_167 255 178 (dk_at dksX0_sumsOf_4 13 rfl rfl)
theorem dX0_sumsOf_109 : decode cX0_sumsOf 109 = .ok (.aload_n 2, 1) := dk_44 (dk_at dksX0_sumsOf_4 16 rfl rfl)
theorem dX0_sumsOf_110 : decode cX0_sumsOf 110 = .ok (.iload_n 3, 1) := dk_29 (dk_at dksX0_sumsOf_4 17 rfl rfl)
theorem dX0_sumsOf_111 : decode cX0_sumsOf 111 = .ok (.putfield 227, 3) := dk_181 0 227 (dk_at dksX0_sumsOf_4 18 rfl rfl)
theorem dX0_sumsOf_114 : decode cX0_sumsOf 114 = .ok (.goto 13, 3) := dk_167 0 13 (dk_at dksX0_sumsOf_4 21 rfl rfl)
theorem dX0_sumsOf_117 : decode cX0_sumsOf 117 = .ok (.astore 6, 2) := dk_58 6 (dk_at dksX0_sumsOf_5 0 rfl rfl)
theorem dX0_sumsOf_119 : decode cX0_sumsOf 119 = .ok (.aload_n 2, 1) := dk_44 (dk_at dksX0_sumsOf_5 2 rfl rfl)
theorem dX0_sumsOf_120 : decode cX0_sumsOf 120 = .ok (.iload_n 3, 1) := dk_29 (dk_at dksX0_sumsOf_5 3 rfl rfl)
theorem dX0_sumsOf_121 : decode cX0_sumsOf 121 = .ok (.putfield 227, 3) := dk_181 0 227 (dk_at dksX0_sumsOf_5 4 rfl rfl)
theorem dX0_sumsOf_124 : decode cX0_sumsOf 124 = .ok (.aload 6, 2) := dk_25 6 (dk_at dksX0_sumsOf_5 7 rfl rfl)
theorem dX0_sumsOf_126 : decode cX0_sumsOf 126 = .ok (.athrow, 1) := dk_191 (dk_at dksX0_sumsOf_5 9 rfl rfl)
theorem dX0_sumsOf_127 : decode cX0_sumsOf 127 = .ok (.iload 4, 2) := dk_21 4 (dk_at dksX0_sumsOf_5 10 rfl rfl)
theorem dX0_sumsOf_129 : decode cX0_sumsOf 129 = .ok (.ireturn, 1) := dk_172 (dk_at dksX0_sumsOf_5 12 rfl rfl)
abbrev cX0_rates : ByteArray := prog_1_method_57_code
def yX0_rates : MethodName := ⟨RX0, "rates", "()I"⟩
theorem dX0_rates_0 : decode cX0_rates 0 = .ok (.aload_n 0, 1) := by decide +kernel
theorem dX0_rates_1 : decode cX0_rates 1 = .ok (.invokevirtual 317, 3) := by decide +kernel
theorem dX0_rates_4 : decode cX0_rates 4 = .ok (.ireturn, 1) := by decide +kernel
abbrev cX0_ratesNow : ByteArray := prog_1_method_56_code
def yX0_ratesNow : MethodName := ⟨RX0, "ratesNow", "()I"⟩
def dkwX0_ratesNow_3 : List UInt8 := [78, 42, 180, 0, 27, 3, 27, 79, 45, 191, 28, 172]
abbrev dktX0_ratesNow_3 : List UInt8 := dkwX0_ratesNow_3 ++ []
def dkwX0_ratesNow_2 : List UInt8 := [61, 42, 180, 0, 27, 3, 92, 46, 4, 96, 79, 167, 255, 213, 42, 180, 0, 27, 3, 27, 79, 167, 0, 13]
abbrev dktX0_ratesNow_2 : List UInt8 := dkwX0_ratesNow_2 ++ dktX0_ratesNow_3
def dkwX0_ratesNow_1 : List UInt8 := [163, 0, 38, 28, 42, 182, 1, 52, 153, 0, 14, 4, 42, 180, 0, 27, 3, 46, 120, 167, 0, 4, 3, 128]
abbrev dktX0_ratesNow_1 : List UInt8 := dkwX0_ratesNow_1 ++ dktX0_ratesNow_2
def dkwX0_ratesNow_0 : List UInt8 := [42, 180, 0, 27, 3, 46, 60, 3, 61, 42, 180, 0, 27, 3, 3, 79, 42, 180, 0, 27, 3, 46, 16, 9]
abbrev dktX0_ratesNow_0 : List UInt8 := dkwX0_ratesNow_0 ++ dktX0_ratesNow_1
theorem dksX0_ratesNow_0 : cX0_ratesNow.data.toList.drop 0 = dktX0_ratesNow_0 := by decide +kernel
theorem dksX0_ratesNow_1 : cX0_ratesNow.data.toList.drop 24 = dktX0_ratesNow_1 := dk_seg dksX0_ratesNow_0 24 rfl rfl
theorem dksX0_ratesNow_2 : cX0_ratesNow.data.toList.drop 48 = dktX0_ratesNow_2 := dk_seg dksX0_ratesNow_1 24 rfl rfl
theorem dksX0_ratesNow_3 : cX0_ratesNow.data.toList.drop 72 = dktX0_ratesNow_3 := dk_seg dksX0_ratesNow_2 24 rfl rfl
theorem dX0_ratesNow_0 : decode cX0_ratesNow 0 = .ok (.aload_n 0, 1) := dk_42 (dk_at dksX0_ratesNow_0 0 rfl rfl)
theorem dX0_ratesNow_1 : decode cX0_ratesNow 1 = .ok (.getfield 27, 3) := dk_180 0 27 (dk_at dksX0_ratesNow_0 1 rfl rfl)
theorem dX0_ratesNow_4 : decode cX0_ratesNow 4 = .ok (.iconst 0, 1) := dk_3 (dk_at dksX0_ratesNow_0 4 rfl rfl)
theorem dX0_ratesNow_5 : decode cX0_ratesNow 5 = .ok (.iaload, 1) := dk_46 (dk_at dksX0_ratesNow_0 5 rfl rfl)
theorem dX0_ratesNow_6 : decode cX0_ratesNow 6 = .ok (.istore_n 1, 1) := dk_60 (dk_at dksX0_ratesNow_0 6 rfl rfl)
theorem dX0_ratesNow_7 : decode cX0_ratesNow 7 = .ok (.iconst 0, 1) := dk_3 (dk_at dksX0_ratesNow_0 7 rfl rfl)
theorem dX0_ratesNow_8 : decode cX0_ratesNow 8 = .ok (.istore_n 2, 1) := dk_61 (dk_at dksX0_ratesNow_0 8 rfl rfl)
theorem dX0_ratesNow_9 : decode cX0_ratesNow 9 = .ok (.aload_n 0, 1) := dk_42 (dk_at dksX0_ratesNow_0 9 rfl rfl)
theorem dX0_ratesNow_10 : decode cX0_ratesNow 10 = .ok (.getfield 27, 3) := dk_180 0 27 (dk_at dksX0_ratesNow_0 10 rfl rfl)
theorem dX0_ratesNow_13 : decode cX0_ratesNow 13 = .ok (.iconst 0, 1) := dk_3 (dk_at dksX0_ratesNow_0 13 rfl rfl)
theorem dX0_ratesNow_14 : decode cX0_ratesNow 14 = .ok (.iconst 0, 1) := dk_3 (dk_at dksX0_ratesNow_0 14 rfl rfl)
theorem dX0_ratesNow_15 : decode cX0_ratesNow 15 = .ok (.iastore, 1) := dk_79 (dk_at dksX0_ratesNow_0 15 rfl rfl)
theorem dX0_ratesNow_16 : decode cX0_ratesNow 16 = .ok (.aload_n 0, 1) := dk_42 (dk_at dksX0_ratesNow_0 16 rfl rfl)
theorem dX0_ratesNow_17 : decode cX0_ratesNow 17 = .ok (.getfield 27, 3) := dk_180 0 27 (dk_at dksX0_ratesNow_0 17 rfl rfl)
theorem dX0_ratesNow_20 : decode cX0_ratesNow 20 = .ok (.iconst 0, 1) := dk_3 (dk_at dksX0_ratesNow_0 20 rfl rfl)
theorem dX0_ratesNow_21 : decode cX0_ratesNow 21 = .ok (.iaload, 1) := dk_46 (dk_at dksX0_ratesNow_0 21 rfl rfl)
theorem dX0_ratesNow_22 : decode cX0_ratesNow 22 = .ok (.bipush 9, 2) := dk_16 9 (dk_at dksX0_ratesNow_0 22 rfl rfl)
theorem dX0_ratesNow_24 : decode cX0_ratesNow 24 = .ok (.if_icmp .gt 38, 3) := dk_163 0 38 (dk_at dksX0_ratesNow_1 0 rfl rfl)
theorem dX0_ratesNow_27 : decode cX0_ratesNow 27 = .ok (.iload_n 2, 1) := dk_28 (dk_at dksX0_ratesNow_1 3 rfl rfl)
theorem dX0_ratesNow_28 : decode cX0_ratesNow 28 = .ok (.aload_n 0, 1) := dk_42 (dk_at dksX0_ratesNow_1 4 rfl rfl)
theorem dX0_ratesNow_29 : decode cX0_ratesNow 29 = .ok (.invokevirtual 308, 3) := dk_182 1 52 (dk_at dksX0_ratesNow_1 5 rfl rfl)
theorem dX0_ratesNow_32 : decode cX0_ratesNow 32 = .ok (.ifCond .eq 14, 3) := dk_153 0 14 (dk_at dksX0_ratesNow_1 8 rfl rfl)
theorem dX0_ratesNow_35 : decode cX0_ratesNow 35 = .ok (.iconst 1, 1) := dk_4 (dk_at dksX0_ratesNow_1 11 rfl rfl)
theorem dX0_ratesNow_36 : decode cX0_ratesNow 36 = .ok (.aload_n 0, 1) := dk_42 (dk_at dksX0_ratesNow_1 12 rfl rfl)
theorem dX0_ratesNow_37 : decode cX0_ratesNow 37 = .ok (.getfield 27, 3) := dk_180 0 27 (dk_at dksX0_ratesNow_1 13 rfl rfl)
theorem dX0_ratesNow_40 : decode cX0_ratesNow 40 = .ok (.iconst 0, 1) := dk_3 (dk_at dksX0_ratesNow_1 16 rfl rfl)
theorem dX0_ratesNow_41 : decode cX0_ratesNow 41 = .ok (.iaload, 1) := dk_46 (dk_at dksX0_ratesNow_1 17 rfl rfl)
theorem dX0_ratesNow_42 : decode cX0_ratesNow 42 = .ok (.ishl, 1) := dk_120 (dk_at dksX0_ratesNow_1 18 rfl rfl)
theorem dX0_ratesNow_43 : decode cX0_ratesNow 43 = .ok (.goto 4, 3) := dk_167 0 4 (dk_at dksX0_ratesNow_1 19 rfl rfl)
theorem dX0_ratesNow_46 : decode cX0_ratesNow 46 = .ok (.iconst 0, 1) := dk_3 (dk_at dksX0_ratesNow_1 22 rfl rfl)
theorem dX0_ratesNow_47 : decode cX0_ratesNow 47 = .ok (.ior, 1) := dk_128 (dk_at dksX0_ratesNow_1 23 rfl rfl)
theorem dX0_ratesNow_48 : decode cX0_ratesNow 48 = .ok (.istore_n 2, 1) := dk_61 (dk_at dksX0_ratesNow_2 0 rfl rfl)
theorem dX0_ratesNow_49 : decode cX0_ratesNow 49 = .ok (.aload_n 0, 1) := dk_42 (dk_at dksX0_ratesNow_2 1 rfl rfl)
theorem dX0_ratesNow_50 : decode cX0_ratesNow 50 = .ok (.getfield 27, 3) := dk_180 0 27 (dk_at dksX0_ratesNow_2 2 rfl rfl)
theorem dX0_ratesNow_53 : decode cX0_ratesNow 53 = .ok (.iconst 0, 1) := dk_3 (dk_at dksX0_ratesNow_2 5 rfl rfl)
theorem dX0_ratesNow_54 : decode cX0_ratesNow 54 = .ok (.dup2, 1) := dk_92 (dk_at dksX0_ratesNow_2 6 rfl rfl)
theorem dX0_ratesNow_55 : decode cX0_ratesNow 55 = .ok (.iaload, 1) := dk_46 (dk_at dksX0_ratesNow_2 7 rfl rfl)
theorem dX0_ratesNow_56 : decode cX0_ratesNow 56 = .ok (.iconst 1, 1) := dk_4 (dk_at dksX0_ratesNow_2 8 rfl rfl)
theorem dX0_ratesNow_57 : decode cX0_ratesNow 57 = .ok (.iadd, 1) := dk_96 (dk_at dksX0_ratesNow_2 9 rfl rfl)
theorem dX0_ratesNow_58 : decode cX0_ratesNow 58 = .ok (.iastore, 1) := dk_79 (dk_at dksX0_ratesNow_2 10 rfl rfl)
theorem dX0_ratesNow_59 : decode cX0_ratesNow 59 = .ok (.goto (-43), 3) := dk_167 255 213 (dk_at dksX0_ratesNow_2 11 rfl rfl)
theorem dX0_ratesNow_62 : decode cX0_ratesNow 62 = .ok (.aload_n 0, 1) := dk_42 (dk_at dksX0_ratesNow_2 14 rfl rfl)
theorem dX0_ratesNow_63 : decode cX0_ratesNow 63 = .ok (.getfield 27, 3) := dk_180 0 27 (dk_at dksX0_ratesNow_2 15 rfl rfl)
theorem dX0_ratesNow_66 : decode cX0_ratesNow 66 = .ok (.iconst 0, 1) := dk_3 (dk_at dksX0_ratesNow_2 18 rfl rfl)
theorem dX0_ratesNow_67 : decode cX0_ratesNow 67 = .ok (.iload_n 1, 1) := dk_27 (dk_at dksX0_ratesNow_2 19 rfl rfl)
theorem dX0_ratesNow_68 : decode cX0_ratesNow 68 = .ok (.iastore, 1) := dk_79 (dk_at dksX0_ratesNow_2 20 rfl rfl)
theorem dX0_ratesNow_69 : decode cX0_ratesNow 69 = .ok (.goto 13, 3) := dk_167 0 13 (dk_at dksX0_ratesNow_2 21 rfl rfl)
theorem dX0_ratesNow_72 : decode cX0_ratesNow 72 = .ok (.astore_n 3, 1) := dk_78 (dk_at dksX0_ratesNow_3 0 rfl rfl)
theorem dX0_ratesNow_73 : decode cX0_ratesNow 73 = .ok (.aload_n 0, 1) := dk_42 (dk_at dksX0_ratesNow_3 1 rfl rfl)
theorem dX0_ratesNow_74 : decode cX0_ratesNow 74 = .ok (.getfield 27, 3) := dk_180 0 27 (dk_at dksX0_ratesNow_3 2 rfl rfl)
theorem dX0_ratesNow_77 : decode cX0_ratesNow 77 = .ok (.iconst 0, 1) := dk_3 (dk_at dksX0_ratesNow_3 5 rfl rfl)
theorem dX0_ratesNow_78 : decode cX0_ratesNow 78 = .ok (.iload_n 1, 1) := dk_27 (dk_at dksX0_ratesNow_3 6 rfl rfl)
theorem dX0_ratesNow_79 : decode cX0_ratesNow 79 = .ok (.iastore, 1) := dk_79 (dk_at dksX0_ratesNow_3 7 rfl rfl)
theorem dX0_ratesNow_80 : decode cX0_ratesNow 80 = .ok (.aload_n 3, 1) := dk_45 (dk_at dksX0_ratesNow_3 8 rfl rfl)
theorem dX0_ratesNow_81 : decode cX0_ratesNow 81 = .ok (.athrow, 1) := dk_191 (dk_at dksX0_ratesNow_3 9 rfl rfl)
theorem dX0_ratesNow_82 : decode cX0_ratesNow 82 = .ok (.iload_n 2, 1) := dk_28 (dk_at dksX0_ratesNow_3 10 rfl rfl)
theorem dX0_ratesNow_83 : decode cX0_ratesNow 83 = .ok (.ireturn, 1) := dk_172 (dk_at dksX0_ratesNow_3 11 rfl rfl)
abbrev cX0_ask : ByteArray := prog_1_method_60_code
def yX0_ask : MethodName := ⟨RX0, "ask", "(I)I"⟩
def dkwX0_ask_0 : List UInt8 := [42, 27, 182, 0, 139, 153, 0, 11, 42, 27, 182, 1, 72, 167, 0, 5, 16, 254, 172]
abbrev dktX0_ask_0 : List UInt8 := dkwX0_ask_0 ++ []
theorem dksX0_ask_0 : cX0_ask.data.toList.drop 0 = dktX0_ask_0 := by decide +kernel
theorem dX0_ask_0 : decode cX0_ask 0 = .ok (.aload_n 0, 1) := dk_42 (dk_at dksX0_ask_0 0 rfl rfl)
theorem dX0_ask_1 : decode cX0_ask 1 = .ok (.iload_n 1, 1) := dk_27 (dk_at dksX0_ask_0 1 rfl rfl)
theorem dX0_ask_2 : decode cX0_ask 2 = .ok (.invokevirtual 139, 3) := dk_182 0 139 (dk_at dksX0_ask_0 2 rfl rfl)
theorem dX0_ask_5 : decode cX0_ask 5 = .ok (.ifCond .eq 11, 3) := dk_153 0 11 (dk_at dksX0_ask_0 5 rfl rfl)
theorem dX0_ask_8 : decode cX0_ask 8 = .ok (.aload_n 0, 1) := dk_42 (dk_at dksX0_ask_0 8 rfl rfl)
theorem dX0_ask_9 : decode cX0_ask 9 = .ok (.iload_n 1, 1) := dk_27 (dk_at dksX0_ask_0 9 rfl rfl)
theorem dX0_ask_10 : decode cX0_ask 10 = .ok (.invokevirtual 328, 3) := dk_182 1 72 (dk_at dksX0_ask_0 10 rfl rfl)
theorem dX0_ask_13 : decode cX0_ask 13 = .ok (.goto 5, 3) := dk_167 0 5 (dk_at dksX0_ask_0 13 rfl rfl)
theorem dX0_ask_16 : decode cX0_ask 16 = .ok (.bipush (-2), 2) := dk_16 254 (dk_at dksX0_ask_0 16 rfl rfl)
theorem dX0_ask_18 : decode cX0_ask 18 = .ok (.ireturn, 1) := dk_172 (dk_at dksX0_ask_0 18 rfl rfl)
abbrev cX0_askOf : ByteArray := prog_1_method_59_code
def yX0_askOf : MethodName := ⟨RX0, "askOf", "(I)I"⟩
def dkwX0_askOf_2 : List UInt8 := [167, 255, 223, 29, 172]
abbrev dktX0_askOf_2 : List UInt8 := dkwX0_askOf_2 ++ []
def dkwX0_askOf_1 : List UInt8 := [182, 1, 69, 42, 28, 29, 182, 1, 69, 162, 0, 8, 21, 4, 167, 0, 4, 29, 62, 132, 4, 1]
abbrev dktX0_askOf_1 : List UInt8 := dkwX0_askOf_1 ++ dktX0_askOf_2
def dkwX0_askOf_0 : List UInt8 := [42, 27, 182, 1, 58, 61, 3, 62, 4, 54, 4, 21, 4, 16, 20, 162, 0, 32, 42, 28, 21, 4]
abbrev dktX0_askOf_0 : List UInt8 := dkwX0_askOf_0 ++ dktX0_askOf_1
theorem dksX0_askOf_0 : cX0_askOf.data.toList.drop 0 = dktX0_askOf_0 := by decide +kernel
theorem dksX0_askOf_1 : cX0_askOf.data.toList.drop 22 = dktX0_askOf_1 := dk_seg dksX0_askOf_0 22 rfl rfl
theorem dksX0_askOf_2 : cX0_askOf.data.toList.drop 44 = dktX0_askOf_2 := dk_seg dksX0_askOf_1 22 rfl rfl
theorem dX0_askOf_0 : decode cX0_askOf 0 = .ok (.aload_n 0, 1) := dk_42 (dk_at dksX0_askOf_0 0 rfl rfl)
theorem dX0_askOf_1 : decode cX0_askOf 1 = .ok (.iload_n 1, 1) := dk_27 (dk_at dksX0_askOf_0 1 rfl rfl)
theorem dX0_askOf_2 : decode cX0_askOf 2 = .ok (.invokevirtual 314, 3) := dk_182 1 58 (dk_at dksX0_askOf_0 2 rfl rfl)
theorem dX0_askOf_5 : decode cX0_askOf 5 = .ok (.istore_n 2, 1) := dk_61 (dk_at dksX0_askOf_0 5 rfl rfl)
theorem dX0_askOf_6 : decode cX0_askOf 6 = .ok (.iconst 0, 1) := dk_3 (dk_at dksX0_askOf_0 6 rfl rfl)
theorem dX0_askOf_7 : decode cX0_askOf 7 = .ok (.istore_n 3, 1) := dk_62 (dk_at dksX0_askOf_0 7 rfl rfl)
theorem dX0_askOf_8 : decode cX0_askOf 8 = .ok (.iconst 1, 1) := dk_4 (dk_at dksX0_askOf_0 8 rfl rfl)
theorem dX0_askOf_9 : decode cX0_askOf 9 = .ok (.istore 4, 2) := dk_54 4 (dk_at dksX0_askOf_0 9 rfl rfl)
theorem dX0_askOf_11 : decode cX0_askOf 11 = .ok (.iload 4, 2) := dk_21 4 (dk_at dksX0_askOf_0 11 rfl rfl)
theorem dX0_askOf_13 : decode cX0_askOf 13 = .ok (.bipush 20, 2) := dk_16 20 (dk_at dksX0_askOf_0 13 rfl rfl)
theorem dX0_askOf_15 : decode cX0_askOf 15 = .ok (.if_icmp .ge 32, 3) := dk_162 0 32 (dk_at dksX0_askOf_0 15 rfl rfl)
theorem dX0_askOf_18 : decode cX0_askOf 18 = .ok (.aload_n 0, 1) := dk_42 (dk_at dksX0_askOf_0 18 rfl rfl)
theorem dX0_askOf_19 : decode cX0_askOf 19 = .ok (.iload_n 2, 1) := dk_28 (dk_at dksX0_askOf_0 19 rfl rfl)
theorem dX0_askOf_20 : decode cX0_askOf 20 = .ok (.iload 4, 2) := dk_21 4 (dk_at dksX0_askOf_0 20 rfl rfl)
theorem dX0_askOf_22 : decode cX0_askOf 22 = .ok (.invokevirtual 325, 3) := dk_182 1 69 (dk_at dksX0_askOf_1 0 rfl rfl)
theorem dX0_askOf_25 : decode cX0_askOf 25 = .ok (.aload_n 0, 1) := dk_42 (dk_at dksX0_askOf_1 3 rfl rfl)
theorem dX0_askOf_26 : decode cX0_askOf 26 = .ok (.iload_n 2, 1) := dk_28 (dk_at dksX0_askOf_1 4 rfl rfl)
theorem dX0_askOf_27 : decode cX0_askOf 27 = .ok (.iload_n 3, 1) := dk_29 (dk_at dksX0_askOf_1 5 rfl rfl)
theorem dX0_askOf_28 : decode cX0_askOf 28 = .ok (.invokevirtual 325, 3) := dk_182 1 69 (dk_at dksX0_askOf_1 6 rfl rfl)
theorem dX0_askOf_31 : decode cX0_askOf 31 = .ok (.if_icmp .ge 8, 3) := dk_162 0 8 (dk_at dksX0_askOf_1 9 rfl rfl)
theorem dX0_askOf_34 : decode cX0_askOf 34 = .ok (.iload 4, 2) := dk_21 4 (dk_at dksX0_askOf_1 12 rfl rfl)
theorem dX0_askOf_36 : decode cX0_askOf 36 = .ok (.goto 4, 3) := dk_167 0 4 (dk_at dksX0_askOf_1 14 rfl rfl)
theorem dX0_askOf_39 : decode cX0_askOf 39 = .ok (.iload_n 3, 1) := dk_29 (dk_at dksX0_askOf_1 17 rfl rfl)
theorem dX0_askOf_40 : decode cX0_askOf 40 = .ok (.istore_n 3, 1) := dk_62 (dk_at dksX0_askOf_1 18 rfl rfl)
theorem dX0_askOf_41 : decode cX0_askOf 41 = .ok (.iinc 4 1, 3) := dk_132 4 1 (dk_at dksX0_askOf_1 19 rfl rfl)
theorem dX0_askOf_44 : decode cX0_askOf 44 = .ok (.goto (-33), 3) := dk_167 255 223 (dk_at dksX0_askOf_2 0 rfl rfl)
theorem dX0_askOf_47 : decode cX0_askOf 47 = .ok (.iload_n 3, 1) := dk_29 (dk_at dksX0_askOf_2 3 rfl rfl)
theorem dX0_askOf_48 : decode cX0_askOf 48 = .ok (.ireturn, 1) := dk_172 (dk_at dksX0_askOf_2 4 rfl rfl)
abbrev cX0_alike : ByteArray := prog_1_method_58_code
def yX0_alike : MethodName := ⟨RX0, "alike", "(II)I"⟩
def dkwX0_alike_4 : List UInt8 := [172]
abbrev dktX0_alike_4 : List UInt8 := dkwX0_alike_4 ++ []
def dkwX0_alike_3 : List UInt8 := [3, 96, 54, 5, 132, 6, 1, 167, 255, 197, 21, 5, 29, 184, 1, 64, 62, 132, 4, 1, 167, 255, 171, 29]
abbrev dktX0_alike_3 : List UInt8 := dkwX0_alike_3 ++ dktX0_alike_4
def dkwX0_alike_2 : List UInt8 := [180, 0, 87, 21, 4, 50, 28, 46, 42, 180, 0, 87, 21, 6, 50, 28, 46, 160, 0, 7, 4, 167, 0, 4]
abbrev dktX0_alike_2 : List UInt8 := dkwX0_alike_2 ++ dktX0_alike_3
def dkwX0_alike_1 : List UInt8 := [162, 0, 58, 21, 5, 27, 21, 4, 184, 0, 208, 153, 0, 37, 27, 21, 6, 184, 0, 208, 153, 0, 28, 42]
abbrev dktX0_alike_1 : List UInt8 := dkwX0_alike_1 ++ dktX0_alike_2
def dkwX0_alike_0 : List UInt8 := [3, 62, 3, 54, 4, 21, 4, 16, 10, 162, 0, 84, 3, 54, 5, 3, 54, 6, 21, 6, 16, 10]
abbrev dktX0_alike_0 : List UInt8 := dkwX0_alike_0 ++ dktX0_alike_1
theorem dksX0_alike_0 : cX0_alike.data.toList.drop 0 = dktX0_alike_0 := by decide +kernel
theorem dksX0_alike_1 : cX0_alike.data.toList.drop 22 = dktX0_alike_1 := dk_seg dksX0_alike_0 22 rfl rfl
theorem dksX0_alike_2 : cX0_alike.data.toList.drop 46 = dktX0_alike_2 := dk_seg dksX0_alike_1 24 rfl rfl
theorem dksX0_alike_3 : cX0_alike.data.toList.drop 70 = dktX0_alike_3 := dk_seg dksX0_alike_2 24 rfl rfl
theorem dksX0_alike_4 : cX0_alike.data.toList.drop 94 = dktX0_alike_4 := dk_seg dksX0_alike_3 24 rfl rfl
theorem dX0_alike_0 : decode cX0_alike 0 = .ok (.iconst 0, 1) := dk_3 (dk_at dksX0_alike_0 0 rfl rfl)
theorem dX0_alike_1 : decode cX0_alike 1 = .ok (.istore_n 3, 1) := dk_62 (dk_at dksX0_alike_0 1 rfl rfl)
theorem dX0_alike_2 : decode cX0_alike 2 = .ok (.iconst 0, 1) := dk_3 (dk_at dksX0_alike_0 2 rfl rfl)
theorem dX0_alike_3 : decode cX0_alike 3 = .ok (.istore 4, 2) := dk_54 4 (dk_at dksX0_alike_0 3 rfl rfl)
theorem dX0_alike_5 : decode cX0_alike 5 = .ok (.iload 4, 2) := dk_21 4 (dk_at dksX0_alike_0 5 rfl rfl)
theorem dX0_alike_7 : decode cX0_alike 7 = .ok (.bipush 10, 2) := dk_16 10 (dk_at dksX0_alike_0 7 rfl rfl)
theorem dX0_alike_9 : decode cX0_alike 9 = .ok (.if_icmp .ge 84, 3) := dk_162 0 84 (dk_at dksX0_alike_0 9 rfl rfl)
theorem dX0_alike_12 : decode cX0_alike 12 = .ok (.iconst 0, 1) := dk_3 (dk_at dksX0_alike_0 12 rfl rfl)
theorem dX0_alike_13 : decode cX0_alike 13 = .ok (.istore 5, 2) := dk_54 5 (dk_at dksX0_alike_0 13 rfl rfl)
theorem dX0_alike_15 : decode cX0_alike 15 = .ok (.iconst 0, 1) := dk_3 (dk_at dksX0_alike_0 15 rfl rfl)
theorem dX0_alike_16 : decode cX0_alike 16 = .ok (.istore 6, 2) := dk_54 6 (dk_at dksX0_alike_0 16 rfl rfl)
theorem dX0_alike_18 : decode cX0_alike 18 = .ok (.iload 6, 2) := dk_21 6 (dk_at dksX0_alike_0 18 rfl rfl)
theorem dX0_alike_20 : decode cX0_alike 20 = .ok (.bipush 10, 2) := dk_16 10 (dk_at dksX0_alike_0 20 rfl rfl)
theorem dX0_alike_22 : decode cX0_alike 22 = .ok (.if_icmp .ge 58, 3) := dk_162 0 58 (dk_at dksX0_alike_1 0 rfl rfl)
theorem dX0_alike_25 : decode cX0_alike 25 = .ok (.iload 5, 2) := dk_21 5 (dk_at dksX0_alike_1 3 rfl rfl)
theorem dX0_alike_27 : decode cX0_alike 27 = .ok (.iload_n 1, 1) := dk_27 (dk_at dksX0_alike_1 5 rfl rfl)
theorem dX0_alike_28 : decode cX0_alike 28 = .ok (.iload 4, 2) := dk_21 4 (dk_at dksX0_alike_1 6 rfl rfl)
theorem dX0_alike_30 : decode cX0_alike 30 = .ok (.invokestatic 208, 3) := dk_184 0 208 (dk_at dksX0_alike_1 8 rfl rfl)
theorem dX0_alike_33 : decode cX0_alike 33 = .ok (.ifCond .eq 37, 3) := dk_153 0 37 (dk_at dksX0_alike_1 11 rfl rfl)
theorem dX0_alike_36 : decode cX0_alike 36 = .ok (.iload_n 1, 1) := dk_27 (dk_at dksX0_alike_1 14 rfl rfl)
theorem dX0_alike_37 : decode cX0_alike 37 = .ok (.iload 6, 2) := dk_21 6 (dk_at dksX0_alike_1 15 rfl rfl)
theorem dX0_alike_39 : decode cX0_alike 39 = .ok (.invokestatic 208, 3) := dk_184 0 208 (dk_at dksX0_alike_1 17 rfl rfl)
theorem dX0_alike_42 : decode cX0_alike 42 = .ok (.ifCond .eq 28, 3) := dk_153 0 28 (dk_at dksX0_alike_1 20 rfl rfl)
theorem dX0_alike_45 : decode cX0_alike 45 = .ok (.aload_n 0, 1) := dk_42 (dk_at dksX0_alike_1 23 rfl rfl)
theorem dX0_alike_46 : decode cX0_alike 46 = .ok (.getfield 87, 3) := dk_180 0 87 (dk_at dksX0_alike_2 0 rfl rfl)
theorem dX0_alike_49 : decode cX0_alike 49 = .ok (.iload 4, 2) := dk_21 4 (dk_at dksX0_alike_2 3 rfl rfl)
theorem dX0_alike_51 : decode cX0_alike 51 = .ok (.aaload, 1) := dk_50 (dk_at dksX0_alike_2 5 rfl rfl)
theorem dX0_alike_52 : decode cX0_alike 52 = .ok (.iload_n 2, 1) := dk_28 (dk_at dksX0_alike_2 6 rfl rfl)
theorem dX0_alike_53 : decode cX0_alike 53 = .ok (.iaload, 1) := dk_46 (dk_at dksX0_alike_2 7 rfl rfl)
theorem dX0_alike_54 : decode cX0_alike 54 = .ok (.aload_n 0, 1) := dk_42 (dk_at dksX0_alike_2 8 rfl rfl)
theorem dX0_alike_55 : decode cX0_alike 55 = .ok (.getfield 87, 3) := dk_180 0 87 (dk_at dksX0_alike_2 9 rfl rfl)
theorem dX0_alike_58 : decode cX0_alike 58 = .ok (.iload 6, 2) := dk_21 6 (dk_at dksX0_alike_2 12 rfl rfl)
theorem dX0_alike_60 : decode cX0_alike 60 = .ok (.aaload, 1) := dk_50 (dk_at dksX0_alike_2 14 rfl rfl)
theorem dX0_alike_61 : decode cX0_alike 61 = .ok (.iload_n 2, 1) := dk_28 (dk_at dksX0_alike_2 15 rfl rfl)
theorem dX0_alike_62 : decode cX0_alike 62 = .ok (.iaload, 1) := dk_46 (dk_at dksX0_alike_2 16 rfl rfl)
theorem dX0_alike_63 : decode cX0_alike 63 = .ok (.if_icmp .ne 7, 3) := dk_160 0 7 (dk_at dksX0_alike_2 17 rfl rfl)
theorem dX0_alike_66 : decode cX0_alike 66 = .ok (.iconst 1, 1) := dk_4 (dk_at dksX0_alike_2 20 rfl rfl)
theorem dX0_alike_67 : decode cX0_alike 67 = .ok (.goto 4, 3) := dk_167 0 4 (dk_at dksX0_alike_2 21 rfl rfl)
theorem dX0_alike_70 : decode cX0_alike 70 = .ok (.iconst 0, 1) := dk_3 (dk_at dksX0_alike_3 0 rfl rfl)
theorem dX0_alike_71 : decode cX0_alike 71 = .ok (.iadd, 1) := dk_96 (dk_at dksX0_alike_3 1 rfl rfl)
theorem dX0_alike_72 : decode cX0_alike 72 = .ok (.istore 5, 2) := dk_54 5 (dk_at dksX0_alike_3 2 rfl rfl)
theorem dX0_alike_74 : decode cX0_alike 74 = .ok (.iinc 6 1, 3) := dk_132 6 1 (dk_at dksX0_alike_3 4 rfl rfl)
theorem dX0_alike_77 : decode cX0_alike 77 = .ok (.goto (-59), 3) := dk_167 255 197 (dk_at dksX0_alike_3 7 rfl rfl)
theorem dX0_alike_80 : decode cX0_alike 80 = .ok (.iload 5, 2) := dk_21 5 (dk_at dksX0_alike_3 10 rfl rfl)
theorem dX0_alike_82 : decode cX0_alike 82 = .ok (.iload_n 3, 1) := dk_29 (dk_at dksX0_alike_3 12 rfl rfl)
theorem dX0_alike_83 : decode cX0_alike 83 = .ok (.invokestatic 320, 3) := dk_184 1 64 (dk_at dksX0_alike_3 13 rfl rfl)
theorem dX0_alike_86 : decode cX0_alike 86 = .ok (.istore_n 3, 1) := dk_62 (dk_at dksX0_alike_3 16 rfl rfl)
theorem dX0_alike_87 : decode cX0_alike 87 = .ok (.iinc 4 1, 3) := dk_132 4 1 (dk_at dksX0_alike_3 17 rfl rfl)
theorem dX0_alike_90 : decode cX0_alike 90 = .ok (.goto (-85), 3) := dk_167 255 171 (dk_at dksX0_alike_3 20 rfl rfl)
theorem dX0_alike_93 : decode cX0_alike 93 = .ok (.iload_n 3, 1) := dk_29 (dk_at dksX0_alike_3 23 rfl rfl)
theorem dX0_alike_94 : decode cX0_alike 94 = .ok (.ireturn, 1) := dk_172 (dk_at dksX0_alike_4 0 rfl rfl)
abbrev cX0_peace : ByteArray := prog_1_method_64_code
def yX0_peace : MethodName := ⟨RX0, "peace", "(II)J"⟩
def dkwX0_peace_1 : List UInt8 := [182, 1, 85, 167, 0, 8, 16, 254, 184, 1, 89, 173]
abbrev dktX0_peace_1 : List UInt8 := dkwX0_peace_1 ++ []
def dkwX0_peace_0 : List UInt8 := [27, 133, 9, 20, 1, 83, 184, 0, 103, 153, 0, 19, 28, 184, 0, 109, 153, 0, 12, 42, 27, 28]
abbrev dktX0_peace_0 : List UInt8 := dkwX0_peace_0 ++ dktX0_peace_1
theorem dksX0_peace_0 : cX0_peace.data.toList.drop 0 = dktX0_peace_0 := by decide +kernel
theorem dksX0_peace_1 : cX0_peace.data.toList.drop 22 = dktX0_peace_1 := dk_seg dksX0_peace_0 22 rfl rfl
theorem dX0_peace_0 : decode cX0_peace 0 = .ok (.iload_n 1, 1) := dk_27 (dk_at dksX0_peace_0 0 rfl rfl)
theorem dX0_peace_1 : decode cX0_peace 1 = .ok (.i2l, 1) := dk_133 (dk_at dksX0_peace_0 1 rfl rfl)
theorem dX0_peace_2 : decode cX0_peace 2 = .ok (.lconst 0, 1) := dk_9 (dk_at dksX0_peace_0 2 rfl rfl)
theorem dX0_peace_3 : decode cX0_peace 3 = .ok (.ldc2_w 339, 3) := dk_20 1 83 (dk_at dksX0_peace_0 3 rfl rfl)
theorem dX0_peace_6 : decode cX0_peace 6 = .ok (.invokestatic 103, 3) := dk_184 0 103 (dk_at dksX0_peace_0 6 rfl rfl)
theorem dX0_peace_9 : decode cX0_peace 9 = .ok (.ifCond .eq 19, 3) := dk_153 0 19 (dk_at dksX0_peace_0 9 rfl rfl)
theorem dX0_peace_12 : decode cX0_peace 12 = .ok (.iload_n 2, 1) := dk_28 (dk_at dksX0_peace_0 12 rfl rfl)
theorem dX0_peace_13 : decode cX0_peace 13 = .ok (.invokestatic 109, 3) := dk_184 0 109 (dk_at dksX0_peace_0 13 rfl rfl)
theorem dX0_peace_16 : decode cX0_peace 16 = .ok (.ifCond .eq 12, 3) := dk_153 0 12 (dk_at dksX0_peace_0 16 rfl rfl)
theorem dX0_peace_19 : decode cX0_peace 19 = .ok (.aload_n 0, 1) := dk_42 (dk_at dksX0_peace_0 19 rfl rfl)
theorem dX0_peace_20 : decode cX0_peace 20 = .ok (.iload_n 1, 1) := dk_27 (dk_at dksX0_peace_0 20 rfl rfl)
theorem dX0_peace_21 : decode cX0_peace 21 = .ok (.iload_n 2, 1) := dk_28 (dk_at dksX0_peace_0 21 rfl rfl)
theorem dX0_peace_22 : decode cX0_peace 22 = .ok (.invokevirtual 341, 3) := dk_182 1 85 (dk_at dksX0_peace_1 0 rfl rfl)
theorem dX0_peace_25 : decode cX0_peace 25 = .ok (.goto 8, 3) := dk_167 0 8 (dk_at dksX0_peace_1 3 rfl rfl)
theorem dX0_peace_28 : decode cX0_peace 28 = .ok (.bipush (-2), 2) := dk_16 254 (dk_at dksX0_peace_1 6 rfl rfl)
theorem dX0_peace_30 : decode cX0_peace 30 = .ok (.invokestatic 345, 3) := dk_184 1 89 (dk_at dksX0_peace_1 8 rfl rfl)
theorem dX0_peace_33 : decode cX0_peace 33 = .ok (.lreturn, 1) := dk_173 (dk_at dksX0_peace_1 11 rfl rfl)
abbrev cX0_peaceOf : ByteArray := prog_1_method_63_code
def yX0_peaceOf : MethodName := ⟨RX0, "peaceOf", "(II)J"⟩
def dkwX0_peaceOf_5 : List UInt8 := [181, 0, 205, 25, 9, 191, 22, 4, 10, 7, 29, 104, 121, 28, 184, 1, 79, 173]
abbrev dktX0_peaceOf_5 : List UInt8 := dkwX0_peaceOf_5 ++ []
def dkwX0_peaceOf_4 : List UInt8 := [180, 0, 205, 4, 96, 181, 0, 205, 167, 255, 169, 42, 3, 181, 0, 205, 167, 0, 13, 58, 9, 42, 3]
abbrev dktX0_peaceOf_4 : List UInt8 := dkwX0_peaceOf_4 ++ dktX0_peaceOf_5
def dkwX0_peaceOf_3 : List UInt8 := [133, 167, 0, 5, 27, 133, 105, 55, 6, 132, 8, 1, 167, 255, 220, 22, 4, 22, 6, 97, 55, 4, 42, 89]
abbrev dktX0_peaceOf_3 : List UInt8 := dkwX0_peaceOf_3 ++ dktX0_peaceOf_4
def dkwX0_peaceOf_2 : List UInt8 := [21, 8, 29, 162, 0, 36, 22, 6, 42, 180, 0, 205, 21, 8, 184, 0, 208, 153, 0, 11, 16, 16, 27, 100]
abbrev dktX0_peaceOf_2 : List UInt8 := dkwX0_peaceOf_2 ++ dktX0_peaceOf_3
def dkwX0_peaceOf_1 : List UInt8 := [162, 0, 83, 42, 182, 1, 20, 42, 180, 0, 252, 2, 159, 0, 6, 167, 0, 55, 10, 55, 6, 3, 54, 8]
abbrev dktX0_peaceOf_1 : List UInt8 := dkwX0_peaceOf_1 ++ dktX0_peaceOf_2
def dkwX0_peaceOf_0 : List UInt8 := [42, 180, 0, 38, 182, 0, 170, 62, 9, 55, 4, 42, 3, 181, 0, 205, 42, 180, 0, 205, 4, 29, 120]
abbrev dktX0_peaceOf_0 : List UInt8 := dkwX0_peaceOf_0 ++ dktX0_peaceOf_1
theorem dksX0_peaceOf_0 : cX0_peaceOf.data.toList.drop 0 = dktX0_peaceOf_0 := by decide +kernel
theorem dksX0_peaceOf_1 : cX0_peaceOf.data.toList.drop 23 = dktX0_peaceOf_1 := dk_seg dksX0_peaceOf_0 23 rfl rfl
theorem dksX0_peaceOf_2 : cX0_peaceOf.data.toList.drop 47 = dktX0_peaceOf_2 := dk_seg dksX0_peaceOf_1 24 rfl rfl
theorem dksX0_peaceOf_3 : cX0_peaceOf.data.toList.drop 71 = dktX0_peaceOf_3 := dk_seg dksX0_peaceOf_2 24 rfl rfl
theorem dksX0_peaceOf_4 : cX0_peaceOf.data.toList.drop 95 = dktX0_peaceOf_4 := dk_seg dksX0_peaceOf_3 24 rfl rfl
theorem dksX0_peaceOf_5 : cX0_peaceOf.data.toList.drop 118 = dktX0_peaceOf_5 := dk_seg dksX0_peaceOf_4 23 rfl rfl
theorem dX0_peaceOf_0 : decode cX0_peaceOf 0 = .ok (.aload_n 0, 1) := dk_42 (dk_at dksX0_peaceOf_0 0 rfl rfl)
theorem dX0_peaceOf_1 : decode cX0_peaceOf 1 = .ok (.getfield 38, 3) := dk_180 0 38 (dk_at dksX0_peaceOf_0 1 rfl rfl)
theorem dX0_peaceOf_4 : decode cX0_peaceOf 4 = .ok (.invokevirtual 170, 3) := dk_182 0 170 (dk_at dksX0_peaceOf_0 4 rfl rfl)
theorem dX0_peaceOf_7 : decode cX0_peaceOf 7 = .ok (.istore_n 3, 1) := dk_62 (dk_at dksX0_peaceOf_0 7 rfl rfl)
theorem dX0_peaceOf_8 : decode cX0_peaceOf 8 = .ok (.lconst 0, 1) := dk_9 (dk_at dksX0_peaceOf_0 8 rfl rfl)
theorem dX0_peaceOf_9 : decode cX0_peaceOf 9 = .ok (.lstore 4, 2) := dk_55 4 (dk_at dksX0_peaceOf_0 9 rfl rfl)
theorem dX0_peaceOf_11 : decode cX0_peaceOf 11 = .ok (.aload_n 0, 1) := dk_42 (dk_at dksX0_peaceOf_0 11 rfl rfl)
theorem dX0_peaceOf_12 : decode cX0_peaceOf 12 = .ok (.iconst 0, 1) := dk_3 (dk_at dksX0_peaceOf_0 12 rfl rfl)
theorem dX0_peaceOf_13 : decode cX0_peaceOf 13 = .ok (.putfield 205, 3) := dk_181 0 205 (dk_at dksX0_peaceOf_0 13 rfl rfl)
theorem dX0_peaceOf_16 : decode cX0_peaceOf 16 = .ok (.aload_n 0, 1) := dk_42 (dk_at dksX0_peaceOf_0 16 rfl rfl)
theorem dX0_peaceOf_17 : decode cX0_peaceOf 17 = .ok (.getfield 205, 3) := dk_180 0 205 (dk_at dksX0_peaceOf_0 17 rfl rfl)
theorem dX0_peaceOf_20 : decode cX0_peaceOf 20 = .ok (.iconst 1, 1) := dk_4 (dk_at dksX0_peaceOf_0 20 rfl rfl)
theorem dX0_peaceOf_21 : decode cX0_peaceOf 21 = .ok (.iload_n 3, 1) := dk_29 (dk_at dksX0_peaceOf_0 21 rfl rfl)
theorem dX0_peaceOf_22 : decode cX0_peaceOf 22 = .ok (.ishl, 1) := dk_120 (dk_at dksX0_peaceOf_0 22 rfl rfl)
theorem dX0_peaceOf_23 : decode cX0_peaceOf 23 = .ok (.if_icmp .ge 83, 3) := dk_162 0 83 (dk_at dksX0_peaceOf_1 0 rfl rfl)
theorem dX0_peaceOf_26 : decode cX0_peaceOf 26 = .ok (.aload_n 0, 1) := dk_42 (dk_at dksX0_peaceOf_1 3 rfl rfl)
theorem dX0_peaceOf_27 : decode cX0_peaceOf 27 = .ok (.invokevirtual 276, 3) := dk_182 1 20 (dk_at dksX0_peaceOf_1 4 rfl rfl)
theorem dX0_peaceOf_30 : decode cX0_peaceOf 30 = .ok (.aload_n 0, 1) := dk_42 (dk_at dksX0_peaceOf_1 7 rfl rfl)
theorem dX0_peaceOf_31 : decode cX0_peaceOf 31 = .ok (.getfield 252, 3) := dk_180 0 252 (dk_at dksX0_peaceOf_1 8 rfl rfl)
theorem dX0_peaceOf_34 : decode cX0_peaceOf 34 = .ok (.iconst (-1), 1) := dk_2 (dk_at dksX0_peaceOf_1 11 rfl rfl)
theorem dX0_peaceOf_35 : decode cX0_peaceOf 35 = .ok (.if_icmp .eq 6, 3) := dk_159 0 6 (dk_at dksX0_peaceOf_1 12 rfl rfl)
theorem dX0_peaceOf_38 : decode cX0_peaceOf 38 = .ok (.goto 55, 3) := dk_167 0 55 (dk_at dksX0_peaceOf_1 15 rfl rfl)
theorem dX0_peaceOf_41 : decode cX0_peaceOf 41 = .ok (.lconst 1, 1) := dk_10 (dk_at dksX0_peaceOf_1 18 rfl rfl)
theorem dX0_peaceOf_42 : decode cX0_peaceOf 42 = .ok (.lstore 6, 2) := dk_55 6 (dk_at dksX0_peaceOf_1 19 rfl rfl)
theorem dX0_peaceOf_44 : decode cX0_peaceOf 44 = .ok (.iconst 0, 1) := dk_3 (dk_at dksX0_peaceOf_1 21 rfl rfl)
theorem dX0_peaceOf_45 : decode cX0_peaceOf 45 = .ok (.istore 8, 2) := dk_54 8 (dk_at dksX0_peaceOf_1 22 rfl rfl)
theorem dX0_peaceOf_47 : decode cX0_peaceOf 47 = .ok (.iload 8, 2) := dk_21 8 (dk_at dksX0_peaceOf_2 0 rfl rfl)
theorem dX0_peaceOf_49 : decode cX0_peaceOf 49 = .ok (.iload_n 3, 1) := dk_29 (dk_at dksX0_peaceOf_2 2 rfl rfl)
theorem dX0_peaceOf_50 : decode cX0_peaceOf 50 = .ok (.if_icmp .ge 36, 3) := dk_162 0 36 (dk_at dksX0_peaceOf_2 3 rfl rfl)
theorem dX0_peaceOf_53 : decode cX0_peaceOf 53 = .ok (.lload 6, 2) := dk_22 6 (dk_at dksX0_peaceOf_2 6 rfl rfl)
theorem dX0_peaceOf_55 : decode cX0_peaceOf 55 = .ok (.aload_n 0, 1) := dk_42 (dk_at dksX0_peaceOf_2 8 rfl rfl)
theorem dX0_peaceOf_56 : decode cX0_peaceOf 56 = .ok (.getfield 205, 3) := dk_180 0 205 (dk_at dksX0_peaceOf_2 9 rfl rfl)
theorem dX0_peaceOf_59 : decode cX0_peaceOf 59 = .ok (.iload 8, 2) := dk_21 8 (dk_at dksX0_peaceOf_2 12 rfl rfl)
theorem dX0_peaceOf_61 : decode cX0_peaceOf 61 = .ok (.invokestatic 208, 3) := dk_184 0 208 (dk_at dksX0_peaceOf_2 14 rfl rfl)
theorem dX0_peaceOf_64 : decode cX0_peaceOf 64 = .ok (.ifCond .eq 11, 3) := dk_153 0 11 (dk_at dksX0_peaceOf_2 17 rfl rfl)
theorem dX0_peaceOf_67 : decode cX0_peaceOf 67 = .ok (.bipush 16, 2) := dk_16 16 (dk_at dksX0_peaceOf_2 20 rfl rfl)
theorem dX0_peaceOf_69 : decode cX0_peaceOf 69 = .ok (.iload_n 1, 1) := dk_27 (dk_at dksX0_peaceOf_2 22 rfl rfl)
theorem dX0_peaceOf_70 : decode cX0_peaceOf 70 = .ok (.isub, 1) := dk_100 (dk_at dksX0_peaceOf_2 23 rfl rfl)
theorem dX0_peaceOf_71 : decode cX0_peaceOf 71 = .ok (.i2l, 1) := dk_133 (dk_at dksX0_peaceOf_3 0 rfl rfl)
theorem dX0_peaceOf_72 : decode cX0_peaceOf 72 = .ok (.goto 5, 3) := dk_167 0 5 (dk_at dksX0_peaceOf_3 1 rfl rfl)
theorem dX0_peaceOf_75 : decode cX0_peaceOf 75 = .ok (.iload_n 1, 1) := dk_27 (dk_at dksX0_peaceOf_3 4 rfl rfl)
theorem dX0_peaceOf_76 : decode cX0_peaceOf 76 = .ok (.i2l, 1) := dk_133 (dk_at dksX0_peaceOf_3 5 rfl rfl)
theorem dX0_peaceOf_77 : decode cX0_peaceOf 77 = .ok (.lmul, 1) := dk_105 (dk_at dksX0_peaceOf_3 6 rfl rfl)
theorem dX0_peaceOf_78 : decode cX0_peaceOf 78 = .ok (.lstore 6, 2) := dk_55 6 (dk_at dksX0_peaceOf_3 7 rfl rfl)
theorem dX0_peaceOf_80 : decode cX0_peaceOf 80 = .ok (.iinc 8 1, 3) := dk_132 8 1 (dk_at dksX0_peaceOf_3 9 rfl rfl)
theorem dX0_peaceOf_83 : decode cX0_peaceOf 83 = .ok (.goto (-36), 3) := dk_167 255 220 (dk_at dksX0_peaceOf_3 12 rfl rfl)
theorem dX0_peaceOf_86 : decode cX0_peaceOf 86 = .ok (.lload 4, 2) := dk_22 4 (dk_at dksX0_peaceOf_3 15 rfl rfl)
theorem dX0_peaceOf_88 : decode cX0_peaceOf 88 = .ok (.lload 6, 2) := dk_22 6 (dk_at dksX0_peaceOf_3 17 rfl rfl)
theorem dX0_peaceOf_90 : decode cX0_peaceOf 90 = .ok (.ladd, 1) := dk_97 (dk_at dksX0_peaceOf_3 19 rfl rfl)
theorem dX0_peaceOf_91 : decode cX0_peaceOf 91 = .ok (.lstore 4, 2) := dk_55 4 (dk_at dksX0_peaceOf_3 20 rfl rfl)
theorem dX0_peaceOf_93 : decode cX0_peaceOf 93 = .ok (.aload_n 0, 1) := dk_42 (dk_at dksX0_peaceOf_3 22 rfl rfl)
theorem dX0_peaceOf_94 : decode cX0_peaceOf 94 = .ok (.dup, 1) := dk_89 (dk_at dksX0_peaceOf_3 23 rfl rfl)
theorem dX0_peaceOf_95 : decode cX0_peaceOf 95 = .ok (.getfield 205, 3) := dk_180 0 205 (dk_at dksX0_peaceOf_4 0 rfl rfl)
theorem dX0_peaceOf_98 : decode cX0_peaceOf 98 = .ok (.iconst 1, 1) := dk_4 (dk_at dksX0_peaceOf_4 3 rfl rfl)
theorem dX0_peaceOf_99 : decode cX0_peaceOf 99 = .ok (.iadd, 1) := dk_96 (dk_at dksX0_peaceOf_4 4 rfl rfl)
theorem dX0_peaceOf_100 : decode cX0_peaceOf 100 = .ok (.putfield 205, 3) := dk_181 0 205 (dk_at dksX0_peaceOf_4 5 rfl rfl)
theorem dX0_peaceOf_103 : decode cX0_peaceOf 103 = .ok (.goto (-87), 3) := dk_167 255 169 (dk_at dksX0_peaceOf_4 8 rfl rfl)
theorem dX0_peaceOf_106 : decode cX0_peaceOf 106 = .ok (.aload_n 0, 1) := dk_42 (dk_at dksX0_peaceOf_4 11 rfl rfl)
theorem dX0_peaceOf_107 : decode cX0_peaceOf 107 = .ok (.iconst 0, 1) := dk_3 (dk_at dksX0_peaceOf_4 12 rfl rfl)
theorem dX0_peaceOf_108 : decode cX0_peaceOf 108 = .ok (.putfield 205, 3) := dk_181 0 205 (dk_at dksX0_peaceOf_4 13 rfl rfl)
theorem dX0_peaceOf_111 : decode cX0_peaceOf 111 = .ok (.goto 13, 3) := dk_167 0 13 (dk_at dksX0_peaceOf_4 16 rfl rfl)
theorem dX0_peaceOf_114 : decode cX0_peaceOf 114 = .ok (.astore 9, 2) := dk_58 9 (dk_at dksX0_peaceOf_4 19 rfl rfl)
theorem dX0_peaceOf_116 : decode cX0_peaceOf 116 = .ok (.aload_n 0, 1) := dk_42 (dk_at dksX0_peaceOf_4 21 rfl rfl)
theorem dX0_peaceOf_117 : decode cX0_peaceOf 117 = .ok (.iconst 0, 1) := dk_3 (dk_at dksX0_peaceOf_4 22 rfl rfl)
theorem dX0_peaceOf_118 : decode cX0_peaceOf 118 = .ok (.putfield 205, 3) := dk_181 0 205 (dk_at dksX0_peaceOf_5 0 rfl rfl)
theorem dX0_peaceOf_121 : decode cX0_peaceOf 121 = .ok (.aload 9, 2) := dk_25 9 (dk_at dksX0_peaceOf_5 3 rfl rfl)
theorem dX0_peaceOf_123 : decode cX0_peaceOf 123 = .ok (.athrow, 1) := dk_191 (dk_at dksX0_peaceOf_5 5 rfl rfl)
theorem dX0_peaceOf_124 : decode cX0_peaceOf 124 = .ok (.lload 4, 2) := dk_22 4 (dk_at dksX0_peaceOf_5 6 rfl rfl)
theorem dX0_peaceOf_126 : decode cX0_peaceOf 126 = .ok (.lconst 1, 1) := dk_10 (dk_at dksX0_peaceOf_5 8 rfl rfl)
theorem dX0_peaceOf_127 : decode cX0_peaceOf 127 = .ok (.iconst 4, 1) := dk_7 (dk_at dksX0_peaceOf_5 9 rfl rfl)
theorem dX0_peaceOf_128 : decode cX0_peaceOf 128 = .ok (.iload_n 3, 1) := dk_29 (dk_at dksX0_peaceOf_5 10 rfl rfl)
theorem dX0_peaceOf_129 : decode cX0_peaceOf 129 = .ok (.imul, 1) := dk_104 (dk_at dksX0_peaceOf_5 11 rfl rfl)
theorem dX0_peaceOf_130 : decode cX0_peaceOf 130 = .ok (.lshl, 1) := dk_121 (dk_at dksX0_peaceOf_5 12 rfl rfl)
theorem dX0_peaceOf_131 : decode cX0_peaceOf 131 = .ok (.iload_n 2, 1) := dk_28 (dk_at dksX0_peaceOf_5 13 rfl rfl)
theorem dX0_peaceOf_132 : decode cX0_peaceOf 132 = .ok (.invokestatic 335, 3) := dk_184 1 79 (dk_at dksX0_peaceOf_5 14 rfl rfl)
theorem dX0_peaceOf_135 : decode cX0_peaceOf 135 = .ok (.lreturn, 1) := dk_173 (dk_at dksX0_peaceOf_5 17 rfl rfl)
abbrev cX0_part : ByteArray := prog_1_method_62_code
def yX0_part : MethodName := ⟨RX0, "part", "(JJI)J"⟩
def dkwX0_part_0 : List UInt8 := [21, 4, 154, 0, 7, 30, 167, 0, 4, 32, 30, 32, 184, 1, 75, 109, 173]
abbrev dktX0_part_0 : List UInt8 := dkwX0_part_0 ++ []
theorem dksX0_part_0 : cX0_part.data.toList.drop 0 = dktX0_part_0 := by decide +kernel
theorem dX0_part_0 : decode cX0_part 0 = .ok (.iload 4, 2) := dk_21 4 (dk_at dksX0_part_0 0 rfl rfl)
theorem dX0_part_2 : decode cX0_part 2 = .ok (.ifCond .ne 7, 3) := dk_154 0 7 (dk_at dksX0_part_0 2 rfl rfl)
theorem dX0_part_5 : decode cX0_part 5 = .ok (.lload_n 0, 1) := dk_30 (dk_at dksX0_part_0 5 rfl rfl)
theorem dX0_part_6 : decode cX0_part 6 = .ok (.goto 4, 3) := dk_167 0 4 (dk_at dksX0_part_0 6 rfl rfl)
theorem dX0_part_9 : decode cX0_part 9 = .ok (.lload_n 2, 1) := dk_32 (dk_at dksX0_part_0 9 rfl rfl)
theorem dX0_part_10 : decode cX0_part 10 = .ok (.lload_n 0, 1) := dk_30 (dk_at dksX0_part_0 10 rfl rfl)
theorem dX0_part_11 : decode cX0_part 11 = .ok (.lload_n 2, 1) := dk_32 (dk_at dksX0_part_0 11 rfl rfl)
theorem dX0_part_12 : decode cX0_part 12 = .ok (.invokestatic 331, 3) := dk_184 1 75 (dk_at dksX0_part_0 12 rfl rfl)
theorem dX0_part_15 : decode cX0_part 15 = .ok (.ldiv, 1) := dk_109 (dk_at dksX0_part_0 15 rfl rfl)
theorem dX0_part_16 : decode cX0_part 16 = .ok (.lreturn, 1) := dk_173 (dk_at dksX0_part_0 16 rfl rfl)
abbrev cX0_divisor : ByteArray := prog_1_method_61_code
def yX0_divisor : MethodName := ⟨RX0, "divisor", "(JJ)J"⟩
def dkwX0_divisor_0 : List UInt8 := [32, 9, 148, 154, 0, 7, 30, 167, 0, 10, 32, 30, 32, 113, 184, 1, 75, 173]
abbrev dktX0_divisor_0 : List UInt8 := dkwX0_divisor_0 ++ []
theorem dksX0_divisor_0 : cX0_divisor.data.toList.drop 0 = dktX0_divisor_0 := by decide +kernel
theorem dX0_divisor_0 : decode cX0_divisor 0 = .ok (.lload_n 2, 1) := dk_32 (dk_at dksX0_divisor_0 0 rfl rfl)
theorem dX0_divisor_1 : decode cX0_divisor 1 = .ok (.lconst 0, 1) := dk_9 (dk_at dksX0_divisor_0 1 rfl rfl)
theorem dX0_divisor_2 : decode cX0_divisor 2 = .ok (.lcmp, 1) := dk_148 (dk_at dksX0_divisor_0 2 rfl rfl)
theorem dX0_divisor_3 : decode cX0_divisor 3 = .ok (.ifCond .ne 7, 3) := dk_154 0 7 (dk_at dksX0_divisor_0 3 rfl rfl)
theorem dX0_divisor_6 : decode cX0_divisor 6 = .ok (.lload_n 0, 1) := dk_30 (dk_at dksX0_divisor_0 6 rfl rfl)
theorem dX0_divisor_7 : decode cX0_divisor 7 = .ok (.goto 10, 3) := dk_167 0 10 (dk_at dksX0_divisor_0 7 rfl rfl)
theorem dX0_divisor_10 : decode cX0_divisor 10 = .ok (.lload_n 2, 1) := dk_32 (dk_at dksX0_divisor_0 10 rfl rfl)
theorem dX0_divisor_11 : decode cX0_divisor 11 = .ok (.lload_n 0, 1) := dk_30 (dk_at dksX0_divisor_0 11 rfl rfl)
theorem dX0_divisor_12 : decode cX0_divisor 12 = .ok (.lload_n 2, 1) := dk_32 (dk_at dksX0_divisor_0 12 rfl rfl)
theorem dX0_divisor_13 : decode cX0_divisor 13 = .ok (.lrem, 1) := dk_113 (dk_at dksX0_divisor_0 13 rfl rfl)
theorem dX0_divisor_14 : decode cX0_divisor 14 = .ok (.invokestatic 331, 3) := dk_184 1 75 (dk_at dksX0_divisor_0 14 rfl rfl)
theorem dX0_divisor_17 : decode cX0_divisor 17 = .ok (.lreturn, 1) := dk_173 (dk_at dksX0_divisor_0 17 rfl rfl)
abbrev cX0_no : ByteArray := prog_1_method_3_code
def yX0_no : MethodName := ⟨RX0, "no", "(I)J"⟩
def dkwX0_no_0 : List UInt8 := [20, 0, 97, 26, 133, 101, 173]
abbrev dktX0_no_0 : List UInt8 := dkwX0_no_0 ++ []
theorem dksX0_no_0 : cX0_no.data.toList.drop 0 = dktX0_no_0 := by decide +kernel
theorem dX0_no_0 : decode cX0_no 0 = .ok (.ldc2_w 97, 3) := dk_20 0 97 (dk_at dksX0_no_0 0 rfl rfl)
theorem dX0_no_3 : decode cX0_no 3 = .ok (.iload_n 0, 1) := dk_26 (dk_at dksX0_no_0 3 rfl rfl)
theorem dX0_no_4 : decode cX0_no 4 = .ok (.i2l, 1) := dk_133 (dk_at dksX0_no_0 4 rfl rfl)
theorem dX0_no_5 : decode cX0_no 5 = .ok (.lsub, 1) := dk_101 (dk_at dksX0_no_0 5 rfl rfl)
theorem dX0_no_6 : decode cX0_no 6 = .ok (.lreturn, 1) := dk_173 (dk_at dksX0_no_0 6 rfl rfl)
abbrev cX0_term : ByteArray := prog_1_method_67_code
def yX0_term : MethodName := ⟨RX0, "term", "(III)I"⟩
def dkwX0_term_1 : List UInt8 := [182, 1, 102, 167, 0, 5, 16, 254, 172]
abbrev dktX0_term_1 : List UInt8 := dkwX0_term_1 ++ []
def dkwX0_term_0 : List UInt8 := [28, 133, 10, 20, 1, 100, 184, 0, 103, 153, 0, 20, 29, 184, 0, 109, 153, 0, 13, 42, 27, 28, 29]
abbrev dktX0_term_0 : List UInt8 := dkwX0_term_0 ++ dktX0_term_1
theorem dksX0_term_0 : cX0_term.data.toList.drop 0 = dktX0_term_0 := by decide +kernel
theorem dksX0_term_1 : cX0_term.data.toList.drop 23 = dktX0_term_1 := dk_seg dksX0_term_0 23 rfl rfl
theorem dX0_term_0 : decode cX0_term 0 = .ok (.iload_n 2, 1) := dk_28 (dk_at dksX0_term_0 0 rfl rfl)
theorem dX0_term_1 : decode cX0_term 1 = .ok (.i2l, 1) := dk_133 (dk_at dksX0_term_0 1 rfl rfl)
theorem dX0_term_2 : decode cX0_term 2 = .ok (.lconst 1, 1) := dk_10 (dk_at dksX0_term_0 2 rfl rfl)
theorem dX0_term_3 : decode cX0_term 3 = .ok (.ldc2_w 356, 3) := dk_20 1 100 (dk_at dksX0_term_0 3 rfl rfl)
theorem dX0_term_6 : decode cX0_term 6 = .ok (.invokestatic 103, 3) := dk_184 0 103 (dk_at dksX0_term_0 6 rfl rfl)
theorem dX0_term_9 : decode cX0_term 9 = .ok (.ifCond .eq 20, 3) := dk_153 0 20 (dk_at dksX0_term_0 9 rfl rfl)
theorem dX0_term_12 : decode cX0_term 12 = .ok (.iload_n 3, 1) := dk_29 (dk_at dksX0_term_0 12 rfl rfl)
theorem dX0_term_13 : decode cX0_term 13 = .ok (.invokestatic 109, 3) := dk_184 0 109 (dk_at dksX0_term_0 13 rfl rfl)
theorem dX0_term_16 : decode cX0_term 16 = .ok (.ifCond .eq 13, 3) := dk_153 0 13 (dk_at dksX0_term_0 16 rfl rfl)
theorem dX0_term_19 : decode cX0_term 19 = .ok (.aload_n 0, 1) := dk_42 (dk_at dksX0_term_0 19 rfl rfl)
theorem dX0_term_20 : decode cX0_term 20 = .ok (.iload_n 1, 1) := dk_27 (dk_at dksX0_term_0 20 rfl rfl)
theorem dX0_term_21 : decode cX0_term 21 = .ok (.iload_n 2, 1) := dk_28 (dk_at dksX0_term_0 21 rfl rfl)
theorem dX0_term_22 : decode cX0_term 22 = .ok (.iload_n 3, 1) := dk_29 (dk_at dksX0_term_0 22 rfl rfl)
theorem dX0_term_23 : decode cX0_term 23 = .ok (.invokevirtual 358, 3) := dk_182 1 102 (dk_at dksX0_term_1 0 rfl rfl)
theorem dX0_term_26 : decode cX0_term 26 = .ok (.goto 5, 3) := dk_167 0 5 (dk_at dksX0_term_1 3 rfl rfl)
theorem dX0_term_29 : decode cX0_term 29 = .ok (.bipush (-2), 2) := dk_16 254 (dk_at dksX0_term_1 6 rfl rfl)
theorem dX0_term_31 : decode cX0_term 31 = .ok (.ireturn, 1) := dk_172 (dk_at dksX0_term_1 8 rfl rfl)
abbrev cX0_termOf : ByteArray := prog_1_method_66_code
def yX0_termOf : MethodName := ⟨RX0, "termOf", "(III)I"⟩
def dkwX0_termOf_3 : List UInt8 := [180, 0, 252, 54, 5, 42, 2, 181, 0, 65, 21, 5, 172, 58, 6, 42, 2, 181, 0, 65, 25, 6, 191]
abbrev dktX0_termOf_3 : List UInt8 := dkwX0_termOf_3 ++ []
def dkwX0_termOf_2 : List UInt8 := [42, 28, 181, 0, 65, 42, 182, 1, 20, 29, 154, 0, 12, 42, 16, 19, 182, 1, 17, 167, 0, 7, 42]
abbrev dktX0_termOf_2 : List UInt8 := dkwX0_termOf_2 ++ dktX0_termOf_3
def dkwX0_termOf_1 : List UInt8 := [21, 4, 158, 0, 22, 42, 180, 0, 62, 21, 5, 42, 21, 4, 182, 1, 97, 79, 132, 5, 1, 167, 255, 229]
abbrev dktX0_termOf_1 : List UInt8 := dkwX0_termOf_1 ++ dktX0_termOf_2
def dkwX0_termOf_0 : List UInt8 := [42, 27, 181, 1, 94, 42, 180, 0, 14, 182, 0, 135, 54, 4, 3, 54, 5, 21, 5, 28, 162, 0, 27]
abbrev dktX0_termOf_0 : List UInt8 := dkwX0_termOf_0 ++ dktX0_termOf_1
theorem dksX0_termOf_0 : cX0_termOf.data.toList.drop 0 = dktX0_termOf_0 := by decide +kernel
theorem dksX0_termOf_1 : cX0_termOf.data.toList.drop 23 = dktX0_termOf_1 := dk_seg dksX0_termOf_0 23 rfl rfl
theorem dksX0_termOf_2 : cX0_termOf.data.toList.drop 47 = dktX0_termOf_2 := dk_seg dksX0_termOf_1 24 rfl rfl
theorem dksX0_termOf_3 : cX0_termOf.data.toList.drop 70 = dktX0_termOf_3 := dk_seg dksX0_termOf_2 23 rfl rfl
theorem dX0_termOf_0 : decode cX0_termOf 0 = .ok (.aload_n 0, 1) := dk_42 (dk_at dksX0_termOf_0 0 rfl rfl)
theorem dX0_termOf_1 : decode cX0_termOf 1 = .ok (.iload_n 1, 1) := dk_27 (dk_at dksX0_termOf_0 1 rfl rfl)
theorem dX0_termOf_2 : decode cX0_termOf 2 = .ok (.putfield 350, 3) := dk_181 1 94 (dk_at dksX0_termOf_0 2 rfl rfl)
theorem dX0_termOf_5 : decode cX0_termOf 5 = .ok (.aload_n 0, 1) := dk_42 (dk_at dksX0_termOf_0 5 rfl rfl)
theorem dX0_termOf_6 : decode cX0_termOf 6 = .ok (.getfield 14, 3) := dk_180 0 14 (dk_at dksX0_termOf_0 6 rfl rfl)
theorem dX0_termOf_9 : decode cX0_termOf 9 = .ok (.invokevirtual 135, 3) := dk_182 0 135 (dk_at dksX0_termOf_0 9 rfl rfl)
theorem dX0_termOf_12 : decode cX0_termOf 12 = .ok (.istore 4, 2) := dk_54 4 (dk_at dksX0_termOf_0 12 rfl rfl)
theorem dX0_termOf_14 : decode cX0_termOf 14 = .ok (.iconst 0, 1) := dk_3 (dk_at dksX0_termOf_0 14 rfl rfl)
theorem dX0_termOf_15 : decode cX0_termOf 15 = .ok (.istore 5, 2) := dk_54 5 (dk_at dksX0_termOf_0 15 rfl rfl)
theorem dX0_termOf_17 : decode cX0_termOf 17 = .ok (.iload 5, 2) := dk_21 5 (dk_at dksX0_termOf_0 17 rfl rfl)
theorem dX0_termOf_19 : decode cX0_termOf 19 = .ok (.iload_n 2, 1) := dk_28 (dk_at dksX0_termOf_0 19 rfl rfl)
theorem dX0_termOf_20 : decode cX0_termOf 20 = .ok (.if_icmp .ge 27, 3) := dk_162 0 27 (dk_at dksX0_termOf_0 20 rfl rfl)
theorem dX0_termOf_23 : decode cX0_termOf 23 = .ok (.iload 4, 2) := dk_21 4 (dk_at dksX0_termOf_1 0 rfl rfl)
theorem dX0_termOf_25 : decode cX0_termOf 25 = .ok (.ifCond .le 22, 3) := dk_158 0 22 (dk_at dksX0_termOf_1 2 rfl rfl)
theorem dX0_termOf_28 : decode cX0_termOf 28 = .ok (.aload_n 0, 1) := dk_42 (dk_at dksX0_termOf_1 5 rfl rfl)
theorem dX0_termOf_29 : decode cX0_termOf 29 = .ok (.getfield 62, 3) := dk_180 0 62 (dk_at dksX0_termOf_1 6 rfl rfl)
theorem dX0_termOf_32 : decode cX0_termOf 32 = .ok (.iload 5, 2) := dk_21 5 (dk_at dksX0_termOf_1 9 rfl rfl)
theorem dX0_termOf_34 : decode cX0_termOf 34 = .ok (.aload_n 0, 1) := dk_42 (dk_at dksX0_termOf_1 11 rfl rfl)
theorem dX0_termOf_35 : decode cX0_termOf 35 = .ok (.iload 4, 2) := dk_21 4 (dk_at dksX0_termOf_1 12 rfl rfl)
theorem dX0_termOf_37 : decode cX0_termOf 37 = .ok (.invokevirtual 353, 3) := dk_182 1 97 (dk_at dksX0_termOf_1 14 rfl rfl)
theorem dX0_termOf_40 : decode cX0_termOf 40 = .ok (.iastore, 1) := dk_79 (dk_at dksX0_termOf_1 17 rfl rfl)
theorem dX0_termOf_41 : decode cX0_termOf 41 = .ok (.iinc 5 1, 3) := dk_132 5 1 (dk_at dksX0_termOf_1 18 rfl rfl)
theorem dX0_termOf_44 : decode cX0_termOf 44 = .ok (.goto (-27), 3) := dk_167 255 229 (dk_at dksX0_termOf_1 21 rfl rfl)
theorem dX0_termOf_47 : decode cX0_termOf 47 = .ok (.aload_n 0, 1) := dk_42 (dk_at dksX0_termOf_2 0 rfl rfl)
theorem dX0_termOf_48 : decode cX0_termOf 48 = .ok (.iload_n 2, 1) := dk_28 (dk_at dksX0_termOf_2 1 rfl rfl)
theorem dX0_termOf_49 : decode cX0_termOf 49 = .ok (.putfield 65, 3) := dk_181 0 65 (dk_at dksX0_termOf_2 2 rfl rfl)
theorem dX0_termOf_52 : decode cX0_termOf 52 = .ok (.aload_n 0, 1) := dk_42 (dk_at dksX0_termOf_2 5 rfl rfl)
theorem dX0_termOf_53 : decode cX0_termOf 53 = .ok (.invokevirtual 276, 3) := dk_182 1 20 (dk_at dksX0_termOf_2 6 rfl rfl)
theorem dX0_termOf_56 : decode cX0_termOf 56 = .ok (.iload_n 3, 1) := dk_29 (dk_at dksX0_termOf_2 9 rfl rfl)
theorem dX0_termOf_57 : decode cX0_termOf 57 = .ok (.ifCond .ne 12, 3) := dk_154 0 12 (dk_at dksX0_termOf_2 10 rfl rfl)
theorem dX0_termOf_60 : decode cX0_termOf 60 = .ok (.aload_n 0, 1) := dk_42 (dk_at dksX0_termOf_2 13 rfl rfl)
theorem dX0_termOf_61 : decode cX0_termOf 61 = .ok (.bipush 19, 2) := dk_16 19 (dk_at dksX0_termOf_2 14 rfl rfl)
theorem dX0_termOf_63 : decode cX0_termOf 63 = .ok (.invokevirtual 273, 3) := dk_182 1 17 (dk_at dksX0_termOf_2 16 rfl rfl)
theorem dX0_termOf_66 : decode cX0_termOf 66 = .ok (.goto 7, 3) := dk_167 0 7 (dk_at dksX0_termOf_2 19 rfl rfl)
theorem dX0_termOf_69 : decode cX0_termOf 69 = .ok (.aload_n 0, 1) := dk_42 (dk_at dksX0_termOf_2 22 rfl rfl)
theorem dX0_termOf_70 : decode cX0_termOf 70 = .ok (.getfield 252, 3) := dk_180 0 252 (dk_at dksX0_termOf_3 0 rfl rfl)
theorem dX0_termOf_73 : decode cX0_termOf 73 = .ok (.istore 5, 2) := dk_54 5 (dk_at dksX0_termOf_3 3 rfl rfl)
theorem dX0_termOf_75 : decode cX0_termOf 75 = .ok (.aload_n 0, 1) := dk_42 (dk_at dksX0_termOf_3 5 rfl rfl)
theorem dX0_termOf_76 : decode cX0_termOf 76 = .ok (.iconst (-1), 1) := dk_2 (dk_at dksX0_termOf_3 6 rfl rfl)
theorem dX0_termOf_77 : decode cX0_termOf 77 = .ok (.putfield 65, 3) := dk_181 0 65 (dk_at dksX0_termOf_3 7 rfl rfl)
theorem dX0_termOf_80 : decode cX0_termOf 80 = .ok (.iload 5, 2) := dk_21 5 (dk_at dksX0_termOf_3 10 rfl rfl)
theorem dX0_termOf_82 : decode cX0_termOf 82 = .ok (.ireturn, 1) := dk_172 (dk_at dksX0_termOf_3 12 rfl rfl)
theorem dX0_termOf_83 : decode cX0_termOf 83 = .ok (.astore 6, 2) := dk_58 6 (dk_at dksX0_termOf_3 13 rfl rfl)
theorem dX0_termOf_85 : decode cX0_termOf 85 = .ok (.aload_n 0, 1) := dk_42 (dk_at dksX0_termOf_3 15 rfl rfl)
theorem dX0_termOf_86 : decode cX0_termOf 86 = .ok (.iconst (-1), 1) := dk_2 (dk_at dksX0_termOf_3 16 rfl rfl)
theorem dX0_termOf_87 : decode cX0_termOf 87 = .ok (.putfield 65, 3) := dk_181 0 65 (dk_at dksX0_termOf_3 17 rfl rfl)
theorem dX0_termOf_90 : decode cX0_termOf 90 = .ok (.aload 6, 2) := dk_25 6 (dk_at dksX0_termOf_3 20 rfl rfl)
theorem dX0_termOf_92 : decode cX0_termOf 92 = .ok (.athrow, 1) := dk_191 (dk_at dksX0_termOf_3 22 rfl rfl)
abbrev cX0_lot : ByteArray := prog_1_method_65_code
def yX0_lot : MethodName := ⟨RX0, "lot", "(I)I"⟩
def dkwX0_lot_1 : List UInt8 := [112, 172]
abbrev dktX0_lot_1 : List UInt8 := dkwX0_lot_1 ++ []
def dkwX0_lot_0 : List UInt8 := [42, 19, 1, 93, 42, 180, 1, 94, 104, 17, 48, 57, 96, 181, 1, 94, 42, 180, 1, 94, 16, 16, 124, 27]
abbrev dktX0_lot_0 : List UInt8 := dkwX0_lot_0 ++ dktX0_lot_1
theorem dksX0_lot_0 : cX0_lot.data.toList.drop 0 = dktX0_lot_0 := by decide +kernel
theorem dksX0_lot_1 : cX0_lot.data.toList.drop 24 = dktX0_lot_1 := dk_seg dksX0_lot_0 24 rfl rfl
theorem dX0_lot_0 : decode cX0_lot 0 = .ok (.aload_n 0, 1) := dk_42 (dk_at dksX0_lot_0 0 rfl rfl)
theorem dX0_lot_1 : decode cX0_lot 1 = .ok (.ldc_w 349, 3) := dk_19 1 93 (dk_at dksX0_lot_0 1 rfl rfl)
theorem dX0_lot_4 : decode cX0_lot 4 = .ok (.aload_n 0, 1) := dk_42 (dk_at dksX0_lot_0 4 rfl rfl)
theorem dX0_lot_5 : decode cX0_lot 5 = .ok (.getfield 350, 3) := dk_180 1 94 (dk_at dksX0_lot_0 5 rfl rfl)
theorem dX0_lot_8 : decode cX0_lot 8 = .ok (.imul, 1) := dk_104 (dk_at dksX0_lot_0 8 rfl rfl)
theorem dX0_lot_9 : decode cX0_lot 9 = .ok (.sipush 12345, 3) := dk_17 48 57 (dk_at dksX0_lot_0 9 rfl rfl)
theorem dX0_lot_12 : decode cX0_lot 12 = .ok (.iadd, 1) := dk_96 (dk_at dksX0_lot_0 12 rfl rfl)
theorem dX0_lot_13 : decode cX0_lot 13 = .ok (.putfield 350, 3) := dk_181 1 94 (dk_at dksX0_lot_0 13 rfl rfl)
theorem dX0_lot_16 : decode cX0_lot 16 = .ok (.aload_n 0, 1) := dk_42 (dk_at dksX0_lot_0 16 rfl rfl)
theorem dX0_lot_17 : decode cX0_lot 17 = .ok (.getfield 350, 3) := dk_180 1 94 (dk_at dksX0_lot_0 17 rfl rfl)
theorem dX0_lot_20 : decode cX0_lot 20 = .ok (.bipush 16, 2) := dk_16 16 (dk_at dksX0_lot_0 20 rfl rfl)
theorem dX0_lot_22 : decode cX0_lot 22 = .ok (.iushr, 1) := dk_124 (dk_at dksX0_lot_0 22 rfl rfl)
theorem dX0_lot_23 : decode cX0_lot 23 = .ok (.iload_n 1, 1) := dk_27 (dk_at dksX0_lot_0 23 rfl rfl)
theorem dX0_lot_24 : decode cX0_lot 24 = .ok (.irem, 1) := dk_112 (dk_at dksX0_lot_1 0 rfl rfl)
theorem dX0_lot_25 : decode cX0_lot 25 = .ok (.ireturn, 1) := dk_172 (dk_at dksX0_lot_1 1 rfl rfl)
abbrev cX0_sheet : ByteArray := prog_1_method_70_code
def yX0_sheet : MethodName := ⟨RX0, "sheet", "(III)I"⟩
def dkwX0_sheet_2 : List UInt8 := [42, 8, 182, 0, 191, 172]
abbrev dktX0_sheet_2 : List UInt8 := dkwX0_sheet_2 ++ []
def dkwX0_sheet_1 : List UInt8 := [164, 0, 6, 16, 254, 172, 42, 180, 0, 93, 27, 50, 28, 29, 184, 1, 107, 181, 0, 187, 29, 172, 58, 4]
abbrev dktX0_sheet_1 : List UInt8 := dkwX0_sheet_1 ++ dktX0_sheet_2
def dkwX0_sheet_0 : List UInt8 := [27, 184, 0, 184, 153, 0, 21, 28, 133, 9, 20, 0, 142, 184, 0, 103, 153, 0, 9, 29, 16, 60]
abbrev dktX0_sheet_0 : List UInt8 := dkwX0_sheet_0 ++ dktX0_sheet_1
theorem dksX0_sheet_0 : cX0_sheet.data.toList.drop 0 = dktX0_sheet_0 := by decide +kernel
theorem dksX0_sheet_1 : cX0_sheet.data.toList.drop 22 = dktX0_sheet_1 := dk_seg dksX0_sheet_0 22 rfl rfl
theorem dksX0_sheet_2 : cX0_sheet.data.toList.drop 46 = dktX0_sheet_2 := dk_seg dksX0_sheet_1 24 rfl rfl
theorem dX0_sheet_0 : decode cX0_sheet 0 = .ok (.iload_n 1, 1) := dk_27 (dk_at dksX0_sheet_0 0 rfl rfl)
theorem dX0_sheet_1 : decode cX0_sheet 1 = .ok (.invokestatic 184, 3) := dk_184 0 184 (dk_at dksX0_sheet_0 1 rfl rfl)
theorem dX0_sheet_4 : decode cX0_sheet 4 = .ok (.ifCond .eq 21, 3) := dk_153 0 21 (dk_at dksX0_sheet_0 4 rfl rfl)
theorem dX0_sheet_7 : decode cX0_sheet 7 = .ok (.iload_n 2, 1) := dk_28 (dk_at dksX0_sheet_0 7 rfl rfl)
theorem dX0_sheet_8 : decode cX0_sheet 8 = .ok (.i2l, 1) := dk_133 (dk_at dksX0_sheet_0 8 rfl rfl)
theorem dX0_sheet_9 : decode cX0_sheet 9 = .ok (.lconst 0, 1) := dk_9 (dk_at dksX0_sheet_0 9 rfl rfl)
theorem dX0_sheet_10 : decode cX0_sheet 10 = .ok (.ldc2_w 142, 3) := dk_20 0 142 (dk_at dksX0_sheet_0 10 rfl rfl)
theorem dX0_sheet_13 : decode cX0_sheet 13 = .ok (.invokestatic 103, 3) := dk_184 0 103 (dk_at dksX0_sheet_0 13 rfl rfl)
theorem dX0_sheet_16 : decode cX0_sheet 16 = .ok (.ifCond .eq 9, 3) := dk_153 0 9 (dk_at dksX0_sheet_0 16 rfl rfl)
theorem dX0_sheet_19 : decode cX0_sheet 19 = .ok (.iload_n 3, 1) := dk_29 (dk_at dksX0_sheet_0 19 rfl rfl)
theorem dX0_sheet_20 : decode cX0_sheet 20 = .ok (.bipush 60, 2) := dk_16 60 (dk_at dksX0_sheet_0 20 rfl rfl)
theorem dX0_sheet_22 : decode cX0_sheet 22 = .ok (.if_icmp .le 6, 3) := dk_164 0 6 (dk_at dksX0_sheet_1 0 rfl rfl)
theorem dX0_sheet_25 : decode cX0_sheet 25 = .ok (.bipush (-2), 2) := dk_16 254 (dk_at dksX0_sheet_1 3 rfl rfl)
theorem dX0_sheet_27 : decode cX0_sheet 27 = .ok (.ireturn, 1) := dk_172 (dk_at dksX0_sheet_1 5 rfl rfl)
theorem dX0_sheet_28 : decode cX0_sheet 28 = .ok (.aload_n 0, 1) := dk_42 (dk_at dksX0_sheet_1 6 rfl rfl)
theorem dX0_sheet_29 : decode cX0_sheet 29 = .ok (.getfield 93, 3) := dk_180 0 93 (dk_at dksX0_sheet_1 7 rfl rfl)
theorem dX0_sheet_32 : decode cX0_sheet 32 = .ok (.iload_n 1, 1) := dk_27 (dk_at dksX0_sheet_1 10 rfl rfl)
theorem dX0_sheet_33 : decode cX0_sheet 33 = .ok (.aaload, 1) := dk_50 (dk_at dksX0_sheet_1 11 rfl rfl)
theorem dX0_sheet_34 : decode cX0_sheet 34 = .ok (.iload_n 2, 1) := dk_28 (dk_at dksX0_sheet_1 12 rfl rfl)
theorem dX0_sheet_35 : decode cX0_sheet 35 = .ok (.iload_n 3, 1) := dk_29 (dk_at dksX0_sheet_1 13 rfl rfl)
theorem dX0_sheet_36 : decode cX0_sheet 36 = .ok (.invokestatic 363, 3) := dk_184 1 107 (dk_at dksX0_sheet_1 14 rfl rfl)
theorem dX0_sheet_39 : decode cX0_sheet 39 = .ok (.putfield 187, 3) := dk_181 0 187 (dk_at dksX0_sheet_1 17 rfl rfl)
theorem dX0_sheet_42 : decode cX0_sheet 42 = .ok (.iload_n 3, 1) := dk_29 (dk_at dksX0_sheet_1 20 rfl rfl)
theorem dX0_sheet_43 : decode cX0_sheet 43 = .ok (.ireturn, 1) := dk_172 (dk_at dksX0_sheet_1 21 rfl rfl)
theorem dX0_sheet_44 : decode cX0_sheet 44 = .ok (.astore 4, 2) := dk_58 4 (dk_at dksX0_sheet_1 22 rfl rfl)
theorem dX0_sheet_46 : decode cX0_sheet 46 = .ok (.aload_n 0, 1) := dk_42 (dk_at dksX0_sheet_2 0 rfl rfl)
theorem dX0_sheet_47 : decode cX0_sheet 47 = .ok (.iconst 5, 1) := dk_8 (dk_at dksX0_sheet_2 1 rfl rfl)
theorem dX0_sheet_48 : decode cX0_sheet 48 = .ok (.invokevirtual 191, 3) := dk_182 0 191 (dk_at dksX0_sheet_2 2 rfl rfl)
theorem dX0_sheet_51 : decode cX0_sheet 51 = .ok (.ireturn, 1) := dk_172 (dk_at dksX0_sheet_2 5 rfl rfl)
abbrev cX0_rowOf : ByteArray := prog_1_method_69_code
def yX0_rowOf : MethodName := ⟨RX0, "rowOf", "(II)Ljava/lang/Object;"⟩
def dkwX0_rowOf_2 : List UInt8 := [27, 188, 8, 176, 27, 188, 9, 176, 27, 188, 10, 176]
abbrev dktX0_rowOf_2 : List UInt8 := dkwX0_rowOf_2 ++ []
def dkwX0_rowOf_1 : List UInt8 := [171, 0, 0, 0, 0, 0, 35, 0, 0, 0, 2, 0, 0, 0, 0, 0, 0, 0, 27, 0, 0, 0, 1, 0, 0, 0, 31]
abbrev dktX0_rowOf_1 : List UInt8 := dkwX0_rowOf_1 ++ dktX0_rowOf_2
def dkwX0_rowOf_0 : List UInt8 := [26]
abbrev dktX0_rowOf_0 : List UInt8 := dkwX0_rowOf_0 ++ dktX0_rowOf_1
theorem dksX0_rowOf_0 : cX0_rowOf.data.toList.drop 0 = dktX0_rowOf_0 := by decide +kernel
theorem dksX0_rowOf_1 : cX0_rowOf.data.toList.drop 1 = dktX0_rowOf_1 := dk_seg dksX0_rowOf_0 1 rfl rfl
theorem dksX0_rowOf_2 : cX0_rowOf.data.toList.drop 28 = dktX0_rowOf_2 := dk_seg dksX0_rowOf_1 27 rfl rfl
theorem dX0_rowOf_0 : decode cX0_rowOf 0 = .ok (.iload_n 0, 1) := dk_26 (dk_at dksX0_rowOf_0 0 rfl rfl)
theorem dX0_rowOf_1 : decode cX0_rowOf 1 = .ok (.lookupswitch 35 #[(0, 27), (1, 31)], 27) := by decide +kernel
theorem dX0_rowOf_28 : decode cX0_rowOf 28 = .ok (.iload_n 1, 1) := dk_27 (dk_at dksX0_rowOf_2 0 rfl rfl)
theorem dX0_rowOf_29 : decode cX0_rowOf 29 = .ok (.newarray .byte, 2) := dk_188_8 (dk_at dksX0_rowOf_2 1 rfl rfl)
theorem dX0_rowOf_31 : decode cX0_rowOf 31 = .ok (.areturn, 1) := dk_176 (dk_at dksX0_rowOf_2 3 rfl rfl)
theorem dX0_rowOf_32 : decode cX0_rowOf 32 = .ok (.iload_n 1, 1) := dk_27 (dk_at dksX0_rowOf_2 4 rfl rfl)
theorem dX0_rowOf_33 : decode cX0_rowOf 33 = .ok (.newarray .short, 2) := dk_188_9 (dk_at dksX0_rowOf_2 5 rfl rfl)
theorem dX0_rowOf_35 : decode cX0_rowOf 35 = .ok (.areturn, 1) := dk_176 (dk_at dksX0_rowOf_2 7 rfl rfl)
theorem dX0_rowOf_36 : decode cX0_rowOf 36 = .ok (.iload_n 1, 1) := dk_27 (dk_at dksX0_rowOf_2 8 rfl rfl)
theorem dX0_rowOf_37 : decode cX0_rowOf 37 = .ok (.newarray .int, 2) := dk_188_10 (dk_at dksX0_rowOf_2 9 rfl rfl)
theorem dX0_rowOf_39 : decode cX0_rowOf 39 = .ok (.areturn, 1) := dk_176 (dk_at dksX0_rowOf_2 11 rfl rfl)
abbrev cX0_lose : ByteArray := prog_1_method_71_code
def yX0_lose : MethodName := ⟨RX0, "lose", "(I)I"⟩
def dkwX0_lose_2 : List UInt8 := [28, 172]
abbrev dktX0_lose_2 : List UInt8 := dkwX0_lose_2 ++ []
def dkwX0_lose_1 : List UInt8 := [182, 0, 191, 172, 42, 180, 0, 93, 27, 50, 182, 0, 194, 61, 42, 180, 0, 93, 27, 50, 1, 181, 0, 187]
abbrev dktX0_lose_1 : List UInt8 := dkwX0_lose_1 ++ dktX0_lose_2
def dkwX0_lose_0 : List UInt8 := [27, 184, 0, 184, 154, 0, 6, 16, 254, 172, 42, 180, 0, 93, 27, 50, 180, 0, 187, 199, 0, 9, 42, 4]
abbrev dktX0_lose_0 : List UInt8 := dkwX0_lose_0 ++ dktX0_lose_1
theorem dksX0_lose_0 : cX0_lose.data.toList.drop 0 = dktX0_lose_0 := by decide +kernel
theorem dksX0_lose_1 : cX0_lose.data.toList.drop 24 = dktX0_lose_1 := dk_seg dksX0_lose_0 24 rfl rfl
theorem dksX0_lose_2 : cX0_lose.data.toList.drop 48 = dktX0_lose_2 := dk_seg dksX0_lose_1 24 rfl rfl
theorem dX0_lose_0 : decode cX0_lose 0 = .ok (.iload_n 1, 1) := dk_27 (dk_at dksX0_lose_0 0 rfl rfl)
theorem dX0_lose_1 : decode cX0_lose 1 = .ok (.invokestatic 184, 3) := dk_184 0 184 (dk_at dksX0_lose_0 1 rfl rfl)
theorem dX0_lose_4 : decode cX0_lose 4 = .ok (.ifCond .ne 6, 3) := dk_154 0 6 (dk_at dksX0_lose_0 4 rfl rfl)
theorem dX0_lose_7 : decode cX0_lose 7 = .ok (.bipush (-2), 2) := dk_16 254 (dk_at dksX0_lose_0 7 rfl rfl)
theorem dX0_lose_9 : decode cX0_lose 9 = .ok (.ireturn, 1) := dk_172 (dk_at dksX0_lose_0 9 rfl rfl)
theorem dX0_lose_10 : decode cX0_lose 10 = .ok (.aload_n 0, 1) := dk_42 (dk_at dksX0_lose_0 10 rfl rfl)
theorem dX0_lose_11 : decode cX0_lose 11 = .ok (.getfield 93, 3) := dk_180 0 93 (dk_at dksX0_lose_0 11 rfl rfl)
theorem dX0_lose_14 : decode cX0_lose 14 = .ok (.iload_n 1, 1) := dk_27 (dk_at dksX0_lose_0 14 rfl rfl)
theorem dX0_lose_15 : decode cX0_lose 15 = .ok (.aaload, 1) := dk_50 (dk_at dksX0_lose_0 15 rfl rfl)
theorem dX0_lose_16 : decode cX0_lose 16 = .ok (.getfield 187, 3) := dk_180 0 187 (dk_at dksX0_lose_0 16 rfl rfl)
theorem dX0_lose_19 : decode cX0_lose 19 = .ok (.ifnonnull 9, 3) := dk_199 0 9 (dk_at dksX0_lose_0 19 rfl rfl)
theorem dX0_lose_22 : decode cX0_lose 22 = .ok (.aload_n 0, 1) := dk_42 (dk_at dksX0_lose_0 22 rfl rfl)
theorem dX0_lose_23 : decode cX0_lose 23 = .ok (.iconst 1, 1) := dk_4 (dk_at dksX0_lose_0 23 rfl rfl)
theorem dX0_lose_24 : decode cX0_lose 24 = .ok (.invokevirtual 191, 3) := dk_182 0 191 (dk_at dksX0_lose_1 0 rfl rfl)
theorem dX0_lose_27 : decode cX0_lose 27 = .ok (.ireturn, 1) := dk_172 (dk_at dksX0_lose_1 3 rfl rfl)
theorem dX0_lose_28 : decode cX0_lose 28 = .ok (.aload_n 0, 1) := dk_42 (dk_at dksX0_lose_1 4 rfl rfl)
theorem dX0_lose_29 : decode cX0_lose 29 = .ok (.getfield 93, 3) := dk_180 0 93 (dk_at dksX0_lose_1 5 rfl rfl)
theorem dX0_lose_32 : decode cX0_lose 32 = .ok (.iload_n 1, 1) := dk_27 (dk_at dksX0_lose_1 8 rfl rfl)
theorem dX0_lose_33 : decode cX0_lose 33 = .ok (.aaload, 1) := dk_50 (dk_at dksX0_lose_1 9 rfl rfl)
theorem dX0_lose_34 : decode cX0_lose 34 = .ok (.invokevirtual 194, 3) := dk_182 0 194 (dk_at dksX0_lose_1 10 rfl rfl)
theorem dX0_lose_37 : decode cX0_lose 37 = .ok (.istore_n 2, 1) := dk_61 (dk_at dksX0_lose_1 13 rfl rfl)
theorem dX0_lose_38 : decode cX0_lose 38 = .ok (.aload_n 0, 1) := dk_42 (dk_at dksX0_lose_1 14 rfl rfl)
theorem dX0_lose_39 : decode cX0_lose 39 = .ok (.getfield 93, 3) := dk_180 0 93 (dk_at dksX0_lose_1 15 rfl rfl)
theorem dX0_lose_42 : decode cX0_lose 42 = .ok (.iload_n 1, 1) := dk_27 (dk_at dksX0_lose_1 18 rfl rfl)
theorem dX0_lose_43 : decode cX0_lose 43 = .ok (.aaload, 1) := dk_50 (dk_at dksX0_lose_1 19 rfl rfl)
theorem dX0_lose_44 : decode cX0_lose 44 = .ok (.aconst_null, 1) := dk_1 (dk_at dksX0_lose_1 20 rfl rfl)
theorem dX0_lose_45 : decode cX0_lose 45 = .ok (.putfield 187, 3) := dk_181 0 187 (dk_at dksX0_lose_1 21 rfl rfl)
theorem dX0_lose_48 : decode cX0_lose 48 = .ok (.iload_n 2, 1) := dk_28 (dk_at dksX0_lose_2 0 rfl rfl)
theorem dX0_lose_49 : decode cX0_lose 49 = .ok (.ireturn, 1) := dk_172 (dk_at dksX0_lose_2 1 rfl rfl)
abbrev cX0_put : ByteArray := prog_1_method_72_code
def yX0_put : MethodName := ⟨RX0, "put", "(IIII)I"⟩
def dkwX0_put_2 : List UInt8 := [29, 21, 4, 182, 1, 113, 4, 172, 58, 5, 42, 6, 182, 0, 191, 172, 58, 5, 42, 5, 182, 0, 191, 172]
abbrev dktX0_put_2 : List UInt8 := dkwX0_put_2 ++ []
def dkwX0_put_1 : List UInt8 := [180, 0, 93, 27, 50, 180, 0, 187, 199, 0, 9, 42, 4, 182, 0, 191, 172, 42, 180, 0, 93, 27, 50, 28]
abbrev dktX0_put_1 : List UInt8 := dkwX0_put_1 ++ dktX0_put_2
def dkwX0_put_0 : List UInt8 := [27, 184, 0, 184, 153, 0, 15, 28, 133, 9, 20, 0, 142, 184, 0, 103, 154, 0, 6, 16, 254, 172, 42]
abbrev dktX0_put_0 : List UInt8 := dkwX0_put_0 ++ dktX0_put_1
theorem dksX0_put_0 : cX0_put.data.toList.drop 0 = dktX0_put_0 := by decide +kernel
theorem dksX0_put_1 : cX0_put.data.toList.drop 23 = dktX0_put_1 := dk_seg dksX0_put_0 23 rfl rfl
theorem dksX0_put_2 : cX0_put.data.toList.drop 47 = dktX0_put_2 := dk_seg dksX0_put_1 24 rfl rfl
theorem dX0_put_0 : decode cX0_put 0 = .ok (.iload_n 1, 1) := dk_27 (dk_at dksX0_put_0 0 rfl rfl)
theorem dX0_put_1 : decode cX0_put 1 = .ok (.invokestatic 184, 3) := dk_184 0 184 (dk_at dksX0_put_0 1 rfl rfl)
theorem dX0_put_4 : decode cX0_put 4 = .ok (.ifCond .eq 15, 3) := dk_153 0 15 (dk_at dksX0_put_0 4 rfl rfl)
theorem dX0_put_7 : decode cX0_put 7 = .ok (.iload_n 2, 1) := dk_28 (dk_at dksX0_put_0 7 rfl rfl)
theorem dX0_put_8 : decode cX0_put 8 = .ok (.i2l, 1) := dk_133 (dk_at dksX0_put_0 8 rfl rfl)
theorem dX0_put_9 : decode cX0_put 9 = .ok (.lconst 0, 1) := dk_9 (dk_at dksX0_put_0 9 rfl rfl)
theorem dX0_put_10 : decode cX0_put 10 = .ok (.ldc2_w 142, 3) := dk_20 0 142 (dk_at dksX0_put_0 10 rfl rfl)
theorem dX0_put_13 : decode cX0_put 13 = .ok (.invokestatic 103, 3) := dk_184 0 103 (dk_at dksX0_put_0 13 rfl rfl)
theorem dX0_put_16 : decode cX0_put 16 = .ok (.ifCond .ne 6, 3) := dk_154 0 6 (dk_at dksX0_put_0 16 rfl rfl)
theorem dX0_put_19 : decode cX0_put 19 = .ok (.bipush (-2), 2) := dk_16 254 (dk_at dksX0_put_0 19 rfl rfl)
theorem dX0_put_21 : decode cX0_put 21 = .ok (.ireturn, 1) := dk_172 (dk_at dksX0_put_0 21 rfl rfl)
theorem dX0_put_22 : decode cX0_put 22 = .ok (.aload_n 0, 1) := dk_42 (dk_at dksX0_put_0 22 rfl rfl)
theorem dX0_put_23 : decode cX0_put 23 = .ok (.getfield 93, 3) := dk_180 0 93 (dk_at dksX0_put_1 0 rfl rfl)
theorem dX0_put_26 : decode cX0_put 26 = .ok (.iload_n 1, 1) := dk_27 (dk_at dksX0_put_1 3 rfl rfl)
theorem dX0_put_27 : decode cX0_put 27 = .ok (.aaload, 1) := dk_50 (dk_at dksX0_put_1 4 rfl rfl)
theorem dX0_put_28 : decode cX0_put 28 = .ok (.getfield 187, 3) := dk_180 0 187 (dk_at dksX0_put_1 5 rfl rfl)
theorem dX0_put_31 : decode cX0_put 31 = .ok (.ifnonnull 9, 3) := dk_199 0 9 (dk_at dksX0_put_1 8 rfl rfl)
theorem dX0_put_34 : decode cX0_put 34 = .ok (.aload_n 0, 1) := dk_42 (dk_at dksX0_put_1 11 rfl rfl)
theorem dX0_put_35 : decode cX0_put 35 = .ok (.iconst 1, 1) := dk_4 (dk_at dksX0_put_1 12 rfl rfl)
theorem dX0_put_36 : decode cX0_put 36 = .ok (.invokevirtual 191, 3) := dk_182 0 191 (dk_at dksX0_put_1 13 rfl rfl)
theorem dX0_put_39 : decode cX0_put 39 = .ok (.ireturn, 1) := dk_172 (dk_at dksX0_put_1 16 rfl rfl)
theorem dX0_put_40 : decode cX0_put 40 = .ok (.aload_n 0, 1) := dk_42 (dk_at dksX0_put_1 17 rfl rfl)
theorem dX0_put_41 : decode cX0_put 41 = .ok (.getfield 93, 3) := dk_180 0 93 (dk_at dksX0_put_1 18 rfl rfl)
theorem dX0_put_44 : decode cX0_put 44 = .ok (.iload_n 1, 1) := dk_27 (dk_at dksX0_put_1 21 rfl rfl)
theorem dX0_put_45 : decode cX0_put 45 = .ok (.aaload, 1) := dk_50 (dk_at dksX0_put_1 22 rfl rfl)
theorem dX0_put_46 : decode cX0_put 46 = .ok (.iload_n 2, 1) := dk_28 (dk_at dksX0_put_1 23 rfl rfl)
theorem dX0_put_47 : decode cX0_put 47 = .ok (.iload_n 3, 1) := dk_29 (dk_at dksX0_put_2 0 rfl rfl)
theorem dX0_put_48 : decode cX0_put 48 = .ok (.iload 4, 2) := dk_21 4 (dk_at dksX0_put_2 1 rfl rfl)
theorem dX0_put_50 : decode cX0_put 50 = .ok (.invokevirtual 369, 3) := dk_182 1 113 (dk_at dksX0_put_2 3 rfl rfl)
theorem dX0_put_53 : decode cX0_put 53 = .ok (.iconst 1, 1) := dk_4 (dk_at dksX0_put_2 6 rfl rfl)
theorem dX0_put_54 : decode cX0_put 54 = .ok (.ireturn, 1) := dk_172 (dk_at dksX0_put_2 7 rfl rfl)
theorem dX0_put_55 : decode cX0_put 55 = .ok (.astore 5, 2) := dk_58 5 (dk_at dksX0_put_2 8 rfl rfl)
theorem dX0_put_57 : decode cX0_put 57 = .ok (.aload_n 0, 1) := dk_42 (dk_at dksX0_put_2 10 rfl rfl)
theorem dX0_put_58 : decode cX0_put 58 = .ok (.iconst 3, 1) := dk_6 (dk_at dksX0_put_2 11 rfl rfl)
theorem dX0_put_59 : decode cX0_put 59 = .ok (.invokevirtual 191, 3) := dk_182 0 191 (dk_at dksX0_put_2 12 rfl rfl)
theorem dX0_put_62 : decode cX0_put 62 = .ok (.ireturn, 1) := dk_172 (dk_at dksX0_put_2 15 rfl rfl)
theorem dX0_put_63 : decode cX0_put 63 = .ok (.astore 5, 2) := dk_58 5 (dk_at dksX0_put_2 16 rfl rfl)
theorem dX0_put_65 : decode cX0_put 65 = .ok (.aload_n 0, 1) := dk_42 (dk_at dksX0_put_2 18 rfl rfl)
theorem dX0_put_66 : decode cX0_put 66 = .ok (.iconst 2, 1) := dk_5 (dk_at dksX0_put_2 19 rfl rfl)
theorem dX0_put_67 : decode cX0_put 67 = .ok (.invokevirtual 191, 3) := dk_182 0 191 (dk_at dksX0_put_2 20 rfl rfl)
theorem dX0_put_70 : decode cX0_put 70 = .ok (.ireturn, 1) := dk_172 (dk_at dksX0_put_2 23 rfl rfl)
abbrev cX0_get : ByteArray := prog_1_method_73_code
def yX0_get : MethodName := ⟨RX0, "get", "(III)I"⟩
def dkwX0_get_2 : List UInt8 := [29, 182, 0, 197, 172, 58, 4, 42, 6, 182, 1, 121, 172, 58, 4, 42, 5, 182, 1, 121, 172]
abbrev dktX0_get_2 : List UInt8 := dkwX0_get_2 ++ []
def dkwX0_get_1 : List UInt8 := [180, 0, 93, 27, 50, 180, 0, 187, 199, 0, 9, 42, 4, 182, 1, 121, 172, 42, 180, 0, 93, 27, 50, 28]
abbrev dktX0_get_1 : List UInt8 := dkwX0_get_1 ++ dktX0_get_2
def dkwX0_get_0 : List UInt8 := [27, 184, 0, 184, 153, 0, 15, 28, 133, 9, 20, 0, 142, 184, 0, 103, 154, 0, 6, 18, 102, 172, 42]
abbrev dktX0_get_0 : List UInt8 := dkwX0_get_0 ++ dktX0_get_1
theorem dksX0_get_0 : cX0_get.data.toList.drop 0 = dktX0_get_0 := by decide +kernel
theorem dksX0_get_1 : cX0_get.data.toList.drop 23 = dktX0_get_1 := dk_seg dksX0_get_0 23 rfl rfl
theorem dksX0_get_2 : cX0_get.data.toList.drop 47 = dktX0_get_2 := dk_seg dksX0_get_1 24 rfl rfl
theorem dX0_get_0 : decode cX0_get 0 = .ok (.iload_n 1, 1) := dk_27 (dk_at dksX0_get_0 0 rfl rfl)
theorem dX0_get_1 : decode cX0_get 1 = .ok (.invokestatic 184, 3) := dk_184 0 184 (dk_at dksX0_get_0 1 rfl rfl)
theorem dX0_get_4 : decode cX0_get 4 = .ok (.ifCond .eq 15, 3) := dk_153 0 15 (dk_at dksX0_get_0 4 rfl rfl)
theorem dX0_get_7 : decode cX0_get 7 = .ok (.iload_n 2, 1) := dk_28 (dk_at dksX0_get_0 7 rfl rfl)
theorem dX0_get_8 : decode cX0_get 8 = .ok (.i2l, 1) := dk_133 (dk_at dksX0_get_0 8 rfl rfl)
theorem dX0_get_9 : decode cX0_get 9 = .ok (.lconst 0, 1) := dk_9 (dk_at dksX0_get_0 9 rfl rfl)
theorem dX0_get_10 : decode cX0_get 10 = .ok (.ldc2_w 142, 3) := dk_20 0 142 (dk_at dksX0_get_0 10 rfl rfl)
theorem dX0_get_13 : decode cX0_get 13 = .ok (.invokestatic 103, 3) := dk_184 0 103 (dk_at dksX0_get_0 13 rfl rfl)
theorem dX0_get_16 : decode cX0_get 16 = .ok (.ifCond .ne 6, 3) := dk_154 0 6 (dk_at dksX0_get_0 16 rfl rfl)
theorem dX0_get_19 : decode cX0_get 19 = .ok (.ldc 102, 2) := dk_18 102 (dk_at dksX0_get_0 19 rfl rfl)
theorem dX0_get_21 : decode cX0_get 21 = .ok (.ireturn, 1) := dk_172 (dk_at dksX0_get_0 21 rfl rfl)
theorem dX0_get_22 : decode cX0_get 22 = .ok (.aload_n 0, 1) := dk_42 (dk_at dksX0_get_0 22 rfl rfl)
theorem dX0_get_23 : decode cX0_get 23 = .ok (.getfield 93, 3) := dk_180 0 93 (dk_at dksX0_get_1 0 rfl rfl)
theorem dX0_get_26 : decode cX0_get 26 = .ok (.iload_n 1, 1) := dk_27 (dk_at dksX0_get_1 3 rfl rfl)
theorem dX0_get_27 : decode cX0_get 27 = .ok (.aaload, 1) := dk_50 (dk_at dksX0_get_1 4 rfl rfl)
theorem dX0_get_28 : decode cX0_get 28 = .ok (.getfield 187, 3) := dk_180 0 187 (dk_at dksX0_get_1 5 rfl rfl)
theorem dX0_get_31 : decode cX0_get 31 = .ok (.ifnonnull 9, 3) := dk_199 0 9 (dk_at dksX0_get_1 8 rfl rfl)
theorem dX0_get_34 : decode cX0_get 34 = .ok (.aload_n 0, 1) := dk_42 (dk_at dksX0_get_1 11 rfl rfl)
theorem dX0_get_35 : decode cX0_get 35 = .ok (.iconst 1, 1) := dk_4 (dk_at dksX0_get_1 12 rfl rfl)
theorem dX0_get_36 : decode cX0_get 36 = .ok (.invokevirtual 377, 3) := dk_182 1 121 (dk_at dksX0_get_1 13 rfl rfl)
theorem dX0_get_39 : decode cX0_get 39 = .ok (.ireturn, 1) := dk_172 (dk_at dksX0_get_1 16 rfl rfl)
theorem dX0_get_40 : decode cX0_get 40 = .ok (.aload_n 0, 1) := dk_42 (dk_at dksX0_get_1 17 rfl rfl)
theorem dX0_get_41 : decode cX0_get 41 = .ok (.getfield 93, 3) := dk_180 0 93 (dk_at dksX0_get_1 18 rfl rfl)
theorem dX0_get_44 : decode cX0_get 44 = .ok (.iload_n 1, 1) := dk_27 (dk_at dksX0_get_1 21 rfl rfl)
theorem dX0_get_45 : decode cX0_get 45 = .ok (.aaload, 1) := dk_50 (dk_at dksX0_get_1 22 rfl rfl)
theorem dX0_get_46 : decode cX0_get 46 = .ok (.iload_n 2, 1) := dk_28 (dk_at dksX0_get_1 23 rfl rfl)
theorem dX0_get_47 : decode cX0_get 47 = .ok (.iload_n 3, 1) := dk_29 (dk_at dksX0_get_2 0 rfl rfl)
theorem dX0_get_48 : decode cX0_get 48 = .ok (.invokevirtual 197, 3) := dk_182 0 197 (dk_at dksX0_get_2 1 rfl rfl)
theorem dX0_get_51 : decode cX0_get 51 = .ok (.ireturn, 1) := dk_172 (dk_at dksX0_get_2 4 rfl rfl)
theorem dX0_get_52 : decode cX0_get 52 = .ok (.astore 4, 2) := dk_58 4 (dk_at dksX0_get_2 5 rfl rfl)
theorem dX0_get_54 : decode cX0_get 54 = .ok (.aload_n 0, 1) := dk_42 (dk_at dksX0_get_2 7 rfl rfl)
theorem dX0_get_55 : decode cX0_get 55 = .ok (.iconst 3, 1) := dk_6 (dk_at dksX0_get_2 8 rfl rfl)
theorem dX0_get_56 : decode cX0_get 56 = .ok (.invokevirtual 377, 3) := dk_182 1 121 (dk_at dksX0_get_2 9 rfl rfl)
theorem dX0_get_59 : decode cX0_get 59 = .ok (.ireturn, 1) := dk_172 (dk_at dksX0_get_2 12 rfl rfl)
theorem dX0_get_60 : decode cX0_get 60 = .ok (.astore 4, 2) := dk_58 4 (dk_at dksX0_get_2 13 rfl rfl)
theorem dX0_get_62 : decode cX0_get 62 = .ok (.aload_n 0, 1) := dk_42 (dk_at dksX0_get_2 15 rfl rfl)
theorem dX0_get_63 : decode cX0_get 63 = .ok (.iconst 2, 1) := dk_5 (dk_at dksX0_get_2 16 rfl rfl)
theorem dX0_get_64 : decode cX0_get 64 = .ok (.invokevirtual 377, 3) := dk_182 1 121 (dk_at dksX0_get_2 17 rfl rfl)
theorem dX0_get_67 : decode cX0_get 67 = .ok (.ireturn, 1) := dk_172 (dk_at dksX0_get_2 20 rfl rfl)
abbrev cX0_lowest : ByteArray := prog_1_method_5_code
def yX0_lowest : MethodName := ⟨RX0, "lowest", "(I)I"⟩
def dkwX0_lowest_0 : List UInt8 := [42, 27, 181, 0, 99, 18, 102, 172]
abbrev dktX0_lowest_0 : List UInt8 := dkwX0_lowest_0 ++ []
theorem dksX0_lowest_0 : cX0_lowest.data.toList.drop 0 = dktX0_lowest_0 := by decide +kernel
theorem dX0_lowest_0 : decode cX0_lowest 0 = .ok (.aload_n 0, 1) := dk_42 (dk_at dksX0_lowest_0 0 rfl rfl)
theorem dX0_lowest_1 : decode cX0_lowest 1 = .ok (.iload_n 1, 1) := dk_27 (dk_at dksX0_lowest_0 1 rfl rfl)
theorem dX0_lowest_2 : decode cX0_lowest 2 = .ok (.putfield 99, 3) := dk_181 0 99 (dk_at dksX0_lowest_0 2 rfl rfl)
theorem dX0_lowest_5 : decode cX0_lowest 5 = .ok (.ldc 102, 2) := dk_18 102 (dk_at dksX0_lowest_0 5 rfl rfl)
theorem dX0_lowest_7 : decode cX0_lowest 7 = .ok (.ireturn, 1) := dk_172 (dk_at dksX0_lowest_0 7 rfl rfl)
abbrev cX0_copy : ByteArray := prog_1_method_74_code
def yX0_copy : MethodName := ⟨RX0, "copy", "(IIIII)I"⟩
def dkwX0_copy_4 : List UInt8 := [21, 4, 21, 5, 184, 1, 124, 4, 172, 58, 6, 42, 5, 182, 0, 191, 172]
abbrev dktX0_copy_4 : List UInt8 := dkwX0_copy_4 ++ []
def dkwX0_copy_3 : List UInt8 := [182, 0, 191, 172, 42, 180, 0, 93, 27, 50, 180, 0, 187, 28, 42, 180, 0, 93, 29, 50, 180, 0, 187]
abbrev dktX0_copy_3 : List UInt8 := dkwX0_copy_3 ++ dktX0_copy_4
def dkwX0_copy_2 : List UInt8 := [42, 180, 0, 93, 27, 50, 182, 0, 195, 42, 180, 0, 93, 29, 50, 182, 0, 195, 159, 0, 9, 42, 7]
abbrev dktX0_copy_2 : List UInt8 := dkwX0_copy_2 ++ dktX0_copy_3
def dkwX0_copy_1 : List UInt8 := [180, 0, 187, 198, 0, 15, 42, 180, 0, 93, 29, 50, 180, 0, 187, 199, 0, 9, 42, 4, 182, 0, 191, 172]
abbrev dktX0_copy_1 : List UInt8 := dkwX0_copy_1 ++ dktX0_copy_2
def dkwX0_copy_0 : List UInt8 := [27, 184, 0, 184, 153, 0, 10, 29, 184, 0, 184, 154, 0, 6, 16, 254, 172, 42, 180, 0, 93, 27, 50]
abbrev dktX0_copy_0 : List UInt8 := dkwX0_copy_0 ++ dktX0_copy_1
theorem dksX0_copy_0 : cX0_copy.data.toList.drop 0 = dktX0_copy_0 := by decide +kernel
theorem dksX0_copy_1 : cX0_copy.data.toList.drop 23 = dktX0_copy_1 := dk_seg dksX0_copy_0 23 rfl rfl
theorem dksX0_copy_2 : cX0_copy.data.toList.drop 47 = dktX0_copy_2 := dk_seg dksX0_copy_1 24 rfl rfl
theorem dksX0_copy_3 : cX0_copy.data.toList.drop 70 = dktX0_copy_3 := dk_seg dksX0_copy_2 23 rfl rfl
theorem dksX0_copy_4 : cX0_copy.data.toList.drop 93 = dktX0_copy_4 := dk_seg dksX0_copy_3 23 rfl rfl
theorem dX0_copy_0 : decode cX0_copy 0 = .ok (.iload_n 1, 1) := dk_27 (dk_at dksX0_copy_0 0 rfl rfl)
theorem dX0_copy_1 : decode cX0_copy 1 = .ok (.invokestatic 184, 3) := dk_184 0 184 (dk_at dksX0_copy_0 1 rfl rfl)
theorem dX0_copy_4 : decode cX0_copy 4 = .ok (.ifCond .eq 10, 3) := dk_153 0 10 (dk_at dksX0_copy_0 4 rfl rfl)
theorem dX0_copy_7 : decode cX0_copy 7 = .ok (.iload_n 3, 1) := dk_29 (dk_at dksX0_copy_0 7 rfl rfl)
theorem dX0_copy_8 : decode cX0_copy 8 = .ok (.invokestatic 184, 3) := dk_184 0 184 (dk_at dksX0_copy_0 8 rfl rfl)
theorem dX0_copy_11 : decode cX0_copy 11 = .ok (.ifCond .ne 6, 3) := dk_154 0 6 (dk_at dksX0_copy_0 11 rfl rfl)
theorem dX0_copy_14 : decode cX0_copy 14 = .ok (.bipush (-2), 2) := dk_16 254 (dk_at dksX0_copy_0 14 rfl rfl)
theorem dX0_copy_16 : decode cX0_copy 16 = .ok (.ireturn, 1) := dk_172 (dk_at dksX0_copy_0 16 rfl rfl)
theorem dX0_copy_17 : decode cX0_copy 17 = .ok (.aload_n 0, 1) := dk_42 (dk_at dksX0_copy_0 17 rfl rfl)
theorem dX0_copy_18 : decode cX0_copy 18 = .ok (.getfield 93, 3) := dk_180 0 93 (dk_at dksX0_copy_0 18 rfl rfl)
theorem dX0_copy_21 : decode cX0_copy 21 = .ok (.iload_n 1, 1) := dk_27 (dk_at dksX0_copy_0 21 rfl rfl)
theorem dX0_copy_22 : decode cX0_copy 22 = .ok (.aaload, 1) := dk_50 (dk_at dksX0_copy_0 22 rfl rfl)
theorem dX0_copy_23 : decode cX0_copy 23 = .ok (.getfield 187, 3) := dk_180 0 187 (dk_at dksX0_copy_1 0 rfl rfl)
theorem dX0_copy_26 : decode cX0_copy 26 = .ok (.ifnull 15, 3) := dk_198 0 15 (dk_at dksX0_copy_1 3 rfl rfl)
theorem dX0_copy_29 : decode cX0_copy 29 = .ok (.aload_n 0, 1) := dk_42 (dk_at dksX0_copy_1 6 rfl rfl)
theorem dX0_copy_30 : decode cX0_copy 30 = .ok (.getfield 93, 3) := dk_180 0 93 (dk_at dksX0_copy_1 7 rfl rfl)
theorem dX0_copy_33 : decode cX0_copy 33 = .ok (.iload_n 3, 1) := dk_29 (dk_at dksX0_copy_1 10 rfl rfl)
theorem dX0_copy_34 : decode cX0_copy 34 = .ok (.aaload, 1) := dk_50 (dk_at dksX0_copy_1 11 rfl rfl)
theorem dX0_copy_35 : decode cX0_copy 35 = .ok (.getfield 187, 3) := dk_180 0 187 (dk_at dksX0_copy_1 12 rfl rfl)
theorem dX0_copy_38 : decode cX0_copy 38 = .ok (.ifnonnull 9, 3) := dk_199 0 9 (dk_at dksX0_copy_1 15 rfl rfl)
theorem dX0_copy_41 : decode cX0_copy 41 = .ok (.aload_n 0, 1) := dk_42 (dk_at dksX0_copy_1 18 rfl rfl)
theorem dX0_copy_42 : decode cX0_copy 42 = .ok (.iconst 1, 1) := dk_4 (dk_at dksX0_copy_1 19 rfl rfl)
theorem dX0_copy_43 : decode cX0_copy 43 = .ok (.invokevirtual 191, 3) := dk_182 0 191 (dk_at dksX0_copy_1 20 rfl rfl)
theorem dX0_copy_46 : decode cX0_copy 46 = .ok (.ireturn, 1) := dk_172 (dk_at dksX0_copy_1 23 rfl rfl)
theorem dX0_copy_47 : decode cX0_copy 47 = .ok (.aload_n 0, 1) := dk_42 (dk_at dksX0_copy_2 0 rfl rfl)
theorem dX0_copy_48 : decode cX0_copy 48 = .ok (.getfield 93, 3) := dk_180 0 93 (dk_at dksX0_copy_2 1 rfl rfl)
theorem dX0_copy_51 : decode cX0_copy 51 = .ok (.iload_n 1, 1) := dk_27 (dk_at dksX0_copy_2 4 rfl rfl)
theorem dX0_copy_52 : decode cX0_copy 52 = .ok (.aaload, 1) := dk_50 (dk_at dksX0_copy_2 5 rfl rfl)
theorem dX0_copy_53 : decode cX0_copy 53 = .ok (.invokevirtual 195, 3) := dk_182 0 195 (dk_at dksX0_copy_2 6 rfl rfl)
theorem dX0_copy_56 : decode cX0_copy 56 = .ok (.aload_n 0, 1) := dk_42 (dk_at dksX0_copy_2 9 rfl rfl)
theorem dX0_copy_57 : decode cX0_copy 57 = .ok (.getfield 93, 3) := dk_180 0 93 (dk_at dksX0_copy_2 10 rfl rfl)
theorem dX0_copy_60 : decode cX0_copy 60 = .ok (.iload_n 3, 1) := dk_29 (dk_at dksX0_copy_2 13 rfl rfl)
theorem dX0_copy_61 : decode cX0_copy 61 = .ok (.aaload, 1) := dk_50 (dk_at dksX0_copy_2 14 rfl rfl)
theorem dX0_copy_62 : decode cX0_copy 62 = .ok (.invokevirtual 195, 3) := dk_182 0 195 (dk_at dksX0_copy_2 15 rfl rfl)
theorem dX0_copy_65 : decode cX0_copy 65 = .ok (.if_icmp .eq 9, 3) := dk_159 0 9 (dk_at dksX0_copy_2 18 rfl rfl)
theorem dX0_copy_68 : decode cX0_copy 68 = .ok (.aload_n 0, 1) := dk_42 (dk_at dksX0_copy_2 21 rfl rfl)
theorem dX0_copy_69 : decode cX0_copy 69 = .ok (.iconst 4, 1) := dk_7 (dk_at dksX0_copy_2 22 rfl rfl)
theorem dX0_copy_70 : decode cX0_copy 70 = .ok (.invokevirtual 191, 3) := dk_182 0 191 (dk_at dksX0_copy_3 0 rfl rfl)
theorem dX0_copy_73 : decode cX0_copy 73 = .ok (.ireturn, 1) := dk_172 (dk_at dksX0_copy_3 3 rfl rfl)
theorem dX0_copy_74 : decode cX0_copy 74 = .ok (.aload_n 0, 1) := dk_42 (dk_at dksX0_copy_3 4 rfl rfl)
theorem dX0_copy_75 : decode cX0_copy 75 = .ok (.getfield 93, 3) := dk_180 0 93 (dk_at dksX0_copy_3 5 rfl rfl)
theorem dX0_copy_78 : decode cX0_copy 78 = .ok (.iload_n 1, 1) := dk_27 (dk_at dksX0_copy_3 8 rfl rfl)
theorem dX0_copy_79 : decode cX0_copy 79 = .ok (.aaload, 1) := dk_50 (dk_at dksX0_copy_3 9 rfl rfl)
theorem dX0_copy_80 : decode cX0_copy 80 = .ok (.getfield 187, 3) := dk_180 0 187 (dk_at dksX0_copy_3 10 rfl rfl)
theorem dX0_copy_83 : decode cX0_copy 83 = .ok (.iload_n 2, 1) := dk_28 (dk_at dksX0_copy_3 13 rfl rfl)
theorem dX0_copy_84 : decode cX0_copy 84 = .ok (.aload_n 0, 1) := dk_42 (dk_at dksX0_copy_3 14 rfl rfl)
theorem dX0_copy_85 : decode cX0_copy 85 = .ok (.getfield 93, 3) := dk_180 0 93 (dk_at dksX0_copy_3 15 rfl rfl)
theorem dX0_copy_88 : decode cX0_copy 88 = .ok (.iload_n 3, 1) := dk_29 (dk_at dksX0_copy_3 18 rfl rfl)
theorem dX0_copy_89 : decode cX0_copy 89 = .ok (.aaload, 1) := dk_50 (dk_at dksX0_copy_3 19 rfl rfl)
theorem dX0_copy_90 : decode cX0_copy 90 = .ok (.getfield 187, 3) := dk_180 0 187 (dk_at dksX0_copy_3 20 rfl rfl)
theorem dX0_copy_93 : decode cX0_copy 93 = .ok (.iload 4, 2) := dk_21 4 (dk_at dksX0_copy_4 0 rfl rfl)
theorem dX0_copy_95 : decode cX0_copy 95 = .ok (.iload 5, 2) := dk_21 5 (dk_at dksX0_copy_4 2 rfl rfl)
theorem dX0_copy_97 : decode cX0_copy 97 = .ok (.invokestatic 380, 3) := dk_184 1 124 (dk_at dksX0_copy_4 4 rfl rfl)
theorem dX0_copy_100 : decode cX0_copy 100 = .ok (.iconst 1, 1) := dk_4 (dk_at dksX0_copy_4 7 rfl rfl)
theorem dX0_copy_101 : decode cX0_copy 101 = .ok (.ireturn, 1) := dk_172 (dk_at dksX0_copy_4 8 rfl rfl)
theorem dX0_copy_102 : decode cX0_copy 102 = .ok (.astore 6, 2) := dk_58 6 (dk_at dksX0_copy_4 9 rfl rfl)
theorem dX0_copy_104 : decode cX0_copy 104 = .ok (.aload_n 0, 1) := dk_42 (dk_at dksX0_copy_4 11 rfl rfl)
theorem dX0_copy_105 : decode cX0_copy 105 = .ok (.iconst 2, 1) := dk_5 (dk_at dksX0_copy_4 12 rfl rfl)
theorem dX0_copy_106 : decode cX0_copy 106 = .ok (.invokevirtual 191, 3) := dk_182 0 191 (dk_at dksX0_copy_4 13 rfl rfl)
theorem dX0_copy_109 : decode cX0_copy 109 = .ok (.ireturn, 1) := dk_172 (dk_at dksX0_copy_4 16 rfl rfl)
abbrev cX0_write : ByteArray := prog_1_method_75_code
def yX0_write : MethodName := ⟨RX0, "write", "(II)I"⟩
def dkwX0_write_3 : List UInt8 := [180, 0, 43, 21, 5, 50, 27, 46, 182, 1, 113, 132, 5, 1, 167, 255, 227, 21, 4, 172]
abbrev dktX0_write_3 : List UInt8 := dkwX0_write_3 ++ []
def dkwX0_write_2 : List UInt8 := [184, 1, 132, 54, 4, 3, 54, 5, 21, 5, 21, 4, 162, 0, 28, 45, 45, 182, 0, 195, 21, 5, 42]
abbrev dktX0_write_2 : List UInt8 := dkwX0_write_2 ++ dktX0_write_3
def dkwX0_write_1 : List UInt8 := [78, 45, 180, 0, 187, 199, 0, 9, 42, 4, 182, 0, 191, 172, 42, 182, 1, 20, 16, 20, 45, 182, 0, 194]
abbrev dktX0_write_1 : List UInt8 := dkwX0_write_1 ++ dktX0_write_2
def dkwX0_write_0 : List UInt8 := [42, 27, 182, 0, 139, 153, 0, 10, 28, 184, 0, 184, 154, 0, 6, 16, 254, 172, 42, 180, 0, 93, 28, 50]
abbrev dktX0_write_0 : List UInt8 := dkwX0_write_0 ++ dktX0_write_1
theorem dksX0_write_0 : cX0_write.data.toList.drop 0 = dktX0_write_0 := by decide +kernel
theorem dksX0_write_1 : cX0_write.data.toList.drop 24 = dktX0_write_1 := dk_seg dksX0_write_0 24 rfl rfl
theorem dksX0_write_2 : cX0_write.data.toList.drop 48 = dktX0_write_2 := dk_seg dksX0_write_1 24 rfl rfl
theorem dksX0_write_3 : cX0_write.data.toList.drop 71 = dktX0_write_3 := dk_seg dksX0_write_2 23 rfl rfl
theorem dX0_write_0 : decode cX0_write 0 = .ok (.aload_n 0, 1) := dk_42 (dk_at dksX0_write_0 0 rfl rfl)
theorem dX0_write_1 : decode cX0_write 1 = .ok (.iload_n 1, 1) := dk_27 (dk_at dksX0_write_0 1 rfl rfl)
theorem dX0_write_2 : decode cX0_write 2 = .ok (.invokevirtual 139, 3) := dk_182 0 139 (dk_at dksX0_write_0 2 rfl rfl)
theorem dX0_write_5 : decode cX0_write 5 = .ok (.ifCond .eq 10, 3) := dk_153 0 10 (dk_at dksX0_write_0 5 rfl rfl)
theorem dX0_write_8 : decode cX0_write 8 = .ok (.iload_n 2, 1) := dk_28 (dk_at dksX0_write_0 8 rfl rfl)
theorem dX0_write_9 : decode cX0_write 9 = .ok (.invokestatic 184, 3) := dk_184 0 184 (dk_at dksX0_write_0 9 rfl rfl)
theorem dX0_write_12 : decode cX0_write 12 = .ok (.ifCond .ne 6, 3) := dk_154 0 6 (dk_at dksX0_write_0 12 rfl rfl)
theorem dX0_write_15 : decode cX0_write 15 = .ok (.bipush (-2), 2) := dk_16 254 (dk_at dksX0_write_0 15 rfl rfl)
theorem dX0_write_17 : decode cX0_write 17 = .ok (.ireturn, 1) := dk_172 (dk_at dksX0_write_0 17 rfl rfl)
theorem dX0_write_18 : decode cX0_write 18 = .ok (.aload_n 0, 1) := dk_42 (dk_at dksX0_write_0 18 rfl rfl)
theorem dX0_write_19 : decode cX0_write 19 = .ok (.getfield 93, 3) := dk_180 0 93 (dk_at dksX0_write_0 19 rfl rfl)
theorem dX0_write_22 : decode cX0_write 22 = .ok (.iload_n 2, 1) := dk_28 (dk_at dksX0_write_0 22 rfl rfl)
theorem dX0_write_23 : decode cX0_write 23 = .ok (.aaload, 1) := dk_50 (dk_at dksX0_write_0 23 rfl rfl)
theorem dX0_write_24 : decode cX0_write 24 = .ok (.astore_n 3, 1) := dk_78 (dk_at dksX0_write_1 0 rfl rfl)
theorem dX0_write_25 : decode cX0_write 25 = .ok (.aload_n 3, 1) := dk_45 (dk_at dksX0_write_1 1 rfl rfl)
theorem dX0_write_26 : decode cX0_write 26 = .ok (.getfield 187, 3) := dk_180 0 187 (dk_at dksX0_write_1 2 rfl rfl)
theorem dX0_write_29 : decode cX0_write 29 = .ok (.ifnonnull 9, 3) := dk_199 0 9 (dk_at dksX0_write_1 5 rfl rfl)
theorem dX0_write_32 : decode cX0_write 32 = .ok (.aload_n 0, 1) := dk_42 (dk_at dksX0_write_1 8 rfl rfl)
theorem dX0_write_33 : decode cX0_write 33 = .ok (.iconst 1, 1) := dk_4 (dk_at dksX0_write_1 9 rfl rfl)
theorem dX0_write_34 : decode cX0_write 34 = .ok (.invokevirtual 191, 3) := dk_182 0 191 (dk_at dksX0_write_1 10 rfl rfl)
theorem dX0_write_37 : decode cX0_write 37 = .ok (.ireturn, 1) := dk_172 (dk_at dksX0_write_1 13 rfl rfl)
theorem dX0_write_38 : decode cX0_write 38 = .ok (.aload_n 0, 1) := dk_42 (dk_at dksX0_write_1 14 rfl rfl)
theorem dX0_write_39 : decode cX0_write 39 = .ok (.invokevirtual 276, 3) := dk_182 1 20 (dk_at dksX0_write_1 15 rfl rfl)
theorem dX0_write_42 : decode cX0_write 42 = .ok (.bipush 20, 2) := dk_16 20 (dk_at dksX0_write_1 18 rfl rfl)
theorem dX0_write_44 : decode cX0_write 44 = .ok (.aload_n 3, 1) := dk_45 (dk_at dksX0_write_1 20 rfl rfl)
theorem dX0_write_45 : decode cX0_write 45 = .ok (.invokevirtual 194, 3) := dk_182 0 194 (dk_at dksX0_write_1 21 rfl rfl)
theorem dX0_write_48 : decode cX0_write 48 = .ok (.invokestatic 388, 3) := dk_184 1 132 (dk_at dksX0_write_2 0 rfl rfl)
theorem dX0_write_51 : decode cX0_write 51 = .ok (.istore 4, 2) := dk_54 4 (dk_at dksX0_write_2 3 rfl rfl)
theorem dX0_write_53 : decode cX0_write 53 = .ok (.iconst 0, 1) := dk_3 (dk_at dksX0_write_2 5 rfl rfl)
theorem dX0_write_54 : decode cX0_write 54 = .ok (.istore 5, 2) := dk_54 5 (dk_at dksX0_write_2 6 rfl rfl)
theorem dX0_write_56 : decode cX0_write 56 = .ok (.iload 5, 2) := dk_21 5 (dk_at dksX0_write_2 8 rfl rfl)
theorem dX0_write_58 : decode cX0_write 58 = .ok (.iload 4, 2) := dk_21 4 (dk_at dksX0_write_2 10 rfl rfl)
theorem dX0_write_60 : decode cX0_write 60 = .ok (.if_icmp .ge 28, 3) := dk_162 0 28 (dk_at dksX0_write_2 12 rfl rfl)
theorem dX0_write_63 : decode cX0_write 63 = .ok (.aload_n 3, 1) := dk_45 (dk_at dksX0_write_2 15 rfl rfl)
theorem dX0_write_64 : decode cX0_write 64 = .ok (.aload_n 3, 1) := dk_45 (dk_at dksX0_write_2 16 rfl rfl)
theorem dX0_write_65 : decode cX0_write 65 = .ok (.invokevirtual 195, 3) := dk_182 0 195 (dk_at dksX0_write_2 17 rfl rfl)
theorem dX0_write_68 : decode cX0_write 68 = .ok (.iload 5, 2) := dk_21 5 (dk_at dksX0_write_2 20 rfl rfl)
theorem dX0_write_70 : decode cX0_write 70 = .ok (.aload_n 0, 1) := dk_42 (dk_at dksX0_write_2 22 rfl rfl)
theorem dX0_write_71 : decode cX0_write 71 = .ok (.getfield 43, 3) := dk_180 0 43 (dk_at dksX0_write_3 0 rfl rfl)
theorem dX0_write_74 : decode cX0_write 74 = .ok (.iload 5, 2) := dk_21 5 (dk_at dksX0_write_3 3 rfl rfl)
theorem dX0_write_76 : decode cX0_write 76 = .ok (.aaload, 1) := dk_50 (dk_at dksX0_write_3 5 rfl rfl)
theorem dX0_write_77 : decode cX0_write 77 = .ok (.iload_n 1, 1) := dk_27 (dk_at dksX0_write_3 6 rfl rfl)
theorem dX0_write_78 : decode cX0_write 78 = .ok (.iaload, 1) := dk_46 (dk_at dksX0_write_3 7 rfl rfl)
theorem dX0_write_79 : decode cX0_write 79 = .ok (.invokevirtual 369, 3) := dk_182 1 113 (dk_at dksX0_write_3 8 rfl rfl)
theorem dX0_write_82 : decode cX0_write 82 = .ok (.iinc 5 1, 3) := dk_132 5 1 (dk_at dksX0_write_3 11 rfl rfl)
theorem dX0_write_85 : decode cX0_write 85 = .ok (.goto (-29), 3) := dk_167 255 227 (dk_at dksX0_write_3 14 rfl rfl)
theorem dX0_write_88 : decode cX0_write 88 = .ok (.iload 4, 2) := dk_21 4 (dk_at dksX0_write_3 17 rfl rfl)
theorem dX0_write_90 : decode cX0_write 90 = .ok (.ireturn, 1) := dk_172 (dk_at dksX0_write_3 19 rfl rfl)
abbrev cX0_count : ByteArray := prog_1_method_76_code
def yX0_count : MethodName := ⟨RX0, "count", "(I)I"⟩
def dkwX0_count_4 : List UInt8 := [172, 42, 180, 0, 99, 172, 16, 254, 172]
abbrev dktX0_count_4 : List UInt8 := dkwX0_count_4 ++ []
def dkwX0_count_3 : List UInt8 := [182, 0, 170, 172, 42, 180, 0, 38, 182, 0, 170, 172, 42, 182, 1, 139, 172, 42, 180, 0, 84, 182, 0, 170]
abbrev dktX0_count_3 : List UInt8 := dkwX0_count_3 ++ dktX0_count_4
def dkwX0_count_2 : List UInt8 := [42, 27, 182, 0, 115, 182, 1, 135, 172, 42, 27, 5, 100, 182, 0, 115, 182, 1, 136, 172, 42, 180, 0, 34]
abbrev dktX0_count_2 : List UInt8 := dkwX0_count_2 ++ dktX0_count_3
def dkwX0_count_1 : List UInt8 := [170, 0, 0, 0, 0, 0, 105, 0, 0, 0, 0, 0, 0, 0, 8, 0, 0, 0, 51, 0, 0, 0, 51, 0, 0, 0, 60, 0, 0, 0, 60, 0, 0, 0, 71, 0, 0, 0, 79, 0, 0, 0, 87, 0, 0, 0, 92, 0, 0, 0, 100]
abbrev dktX0_count_1 : List UInt8 := dkwX0_count_1 ++ dktX0_count_2
def dkwX0_count_0 : List UInt8 := [42, 182, 1, 20, 27]
abbrev dktX0_count_0 : List UInt8 := dkwX0_count_0 ++ dktX0_count_1
theorem dksX0_count_0 : cX0_count.data.toList.drop 0 = dktX0_count_0 := by decide +kernel
theorem dksX0_count_1 : cX0_count.data.toList.drop 5 = dktX0_count_1 := dk_seg dksX0_count_0 5 rfl rfl
theorem dksX0_count_2 : cX0_count.data.toList.drop 56 = dktX0_count_2 := dk_seg dksX0_count_1 51 rfl rfl
theorem dksX0_count_3 : cX0_count.data.toList.drop 80 = dktX0_count_3 := dk_seg dksX0_count_2 24 rfl rfl
theorem dksX0_count_4 : cX0_count.data.toList.drop 104 = dktX0_count_4 := dk_seg dksX0_count_3 24 rfl rfl
theorem dX0_count_0 : decode cX0_count 0 = .ok (.aload_n 0, 1) := dk_42 (dk_at dksX0_count_0 0 rfl rfl)
theorem dX0_count_1 : decode cX0_count 1 = .ok (.invokevirtual 276, 3) := dk_182 1 20 (dk_at dksX0_count_0 1 rfl rfl)
theorem dX0_count_4 : decode cX0_count 4 = .ok (.iload_n 1, 1) := dk_27 (dk_at dksX0_count_0 4 rfl rfl)
theorem dX0_count_5 : decode cX0_count 5 = .ok (.tableswitch 105 0 8 #[51, 51, 60, 60, 71, 79, 87, 92, 100], 51) := by decide +kernel
theorem dX0_count_56 : decode cX0_count 56 = .ok (.aload_n 0, 1) := dk_42 (dk_at dksX0_count_2 0 rfl rfl)
theorem dX0_count_57 : decode cX0_count 57 = .ok (.iload_n 1, 1) := dk_27 (dk_at dksX0_count_2 1 rfl rfl)
theorem dX0_count_58 : decode cX0_count 58 = .ok (.invokevirtual 115, 3) := dk_182 0 115 (dk_at dksX0_count_2 2 rfl rfl)
theorem dX0_count_61 : decode cX0_count 61 = .ok (.invokevirtual 391, 3) := dk_182 1 135 (dk_at dksX0_count_2 5 rfl rfl)
theorem dX0_count_64 : decode cX0_count 64 = .ok (.ireturn, 1) := dk_172 (dk_at dksX0_count_2 8 rfl rfl)
theorem dX0_count_65 : decode cX0_count 65 = .ok (.aload_n 0, 1) := dk_42 (dk_at dksX0_count_2 9 rfl rfl)
theorem dX0_count_66 : decode cX0_count 66 = .ok (.iload_n 1, 1) := dk_27 (dk_at dksX0_count_2 10 rfl rfl)
theorem dX0_count_67 : decode cX0_count 67 = .ok (.iconst 2, 1) := dk_5 (dk_at dksX0_count_2 11 rfl rfl)
theorem dX0_count_68 : decode cX0_count 68 = .ok (.isub, 1) := dk_100 (dk_at dksX0_count_2 12 rfl rfl)
theorem dX0_count_69 : decode cX0_count 69 = .ok (.invokevirtual 115, 3) := dk_182 0 115 (dk_at dksX0_count_2 13 rfl rfl)
theorem dX0_count_72 : decode cX0_count 72 = .ok (.invokevirtual 392, 3) := dk_182 1 136 (dk_at dksX0_count_2 16 rfl rfl)
theorem dX0_count_75 : decode cX0_count 75 = .ok (.ireturn, 1) := dk_172 (dk_at dksX0_count_2 19 rfl rfl)
theorem dX0_count_76 : decode cX0_count 76 = .ok (.aload_n 0, 1) := dk_42 (dk_at dksX0_count_2 20 rfl rfl)
theorem dX0_count_77 : decode cX0_count 77 = .ok (.getfield 34, 3) := dk_180 0 34 (dk_at dksX0_count_2 21 rfl rfl)
theorem dX0_count_80 : decode cX0_count 80 = .ok (.invokevirtual 170, 3) := dk_182 0 170 (dk_at dksX0_count_3 0 rfl rfl)
theorem dX0_count_83 : decode cX0_count 83 = .ok (.ireturn, 1) := dk_172 (dk_at dksX0_count_3 3 rfl rfl)
theorem dX0_count_84 : decode cX0_count 84 = .ok (.aload_n 0, 1) := dk_42 (dk_at dksX0_count_3 4 rfl rfl)
theorem dX0_count_85 : decode cX0_count 85 = .ok (.getfield 38, 3) := dk_180 0 38 (dk_at dksX0_count_3 5 rfl rfl)
theorem dX0_count_88 : decode cX0_count 88 = .ok (.invokevirtual 170, 3) := dk_182 0 170 (dk_at dksX0_count_3 8 rfl rfl)
theorem dX0_count_91 : decode cX0_count 91 = .ok (.ireturn, 1) := dk_172 (dk_at dksX0_count_3 11 rfl rfl)
theorem dX0_count_92 : decode cX0_count 92 = .ok (.aload_n 0, 1) := dk_42 (dk_at dksX0_count_3 12 rfl rfl)
theorem dX0_count_93 : decode cX0_count 93 = .ok (.invokevirtual 395, 3) := dk_182 1 139 (dk_at dksX0_count_3 13 rfl rfl)
theorem dX0_count_96 : decode cX0_count 96 = .ok (.ireturn, 1) := dk_172 (dk_at dksX0_count_3 16 rfl rfl)
theorem dX0_count_97 : decode cX0_count 97 = .ok (.aload_n 0, 1) := dk_42 (dk_at dksX0_count_3 17 rfl rfl)
theorem dX0_count_98 : decode cX0_count 98 = .ok (.getfield 84, 3) := dk_180 0 84 (dk_at dksX0_count_3 18 rfl rfl)
theorem dX0_count_101 : decode cX0_count 101 = .ok (.invokevirtual 170, 3) := dk_182 0 170 (dk_at dksX0_count_3 21 rfl rfl)
theorem dX0_count_104 : decode cX0_count 104 = .ok (.ireturn, 1) := dk_172 (dk_at dksX0_count_4 0 rfl rfl)
theorem dX0_count_105 : decode cX0_count 105 = .ok (.aload_n 0, 1) := dk_42 (dk_at dksX0_count_4 1 rfl rfl)
theorem dX0_count_106 : decode cX0_count 106 = .ok (.getfield 99, 3) := dk_180 0 99 (dk_at dksX0_count_4 2 rfl rfl)
theorem dX0_count_109 : decode cX0_count 109 = .ok (.ireturn, 1) := dk_172 (dk_at dksX0_count_4 5 rfl rfl)
theorem dX0_count_110 : decode cX0_count 110 = .ok (.bipush (-2), 2) := dk_16 254 (dk_at dksX0_count_4 6 rfl rfl)
theorem dX0_count_112 : decode cX0_count 112 = .ok (.ireturn, 1) := dk_172 (dk_at dksX0_count_4 8 rfl rfl)
abbrev cX0_allHeard : ByteArray := prog_1_method_39_code
def yX0_allHeard : MethodName := ⟨RX0, "allHeard", "()I"⟩
def dkwX0_allHeard_1 : List UInt8 := [132, 2, 1, 167, 255, 234, 27, 172]
abbrev dktX0_allHeard_1 : List UInt8 := dkwX0_allHeard_1 ++ []
def dkwX0_allHeard_0 : List UInt8 := [3, 60, 3, 61, 28, 42, 180, 0, 14, 182, 0, 135, 162, 0, 17, 27, 42, 28, 182, 1, 27, 96, 60]
abbrev dktX0_allHeard_0 : List UInt8 := dkwX0_allHeard_0 ++ dktX0_allHeard_1
theorem dksX0_allHeard_0 : cX0_allHeard.data.toList.drop 0 = dktX0_allHeard_0 := by decide +kernel
theorem dksX0_allHeard_1 : cX0_allHeard.data.toList.drop 23 = dktX0_allHeard_1 := dk_seg dksX0_allHeard_0 23 rfl rfl
theorem dX0_allHeard_0 : decode cX0_allHeard 0 = .ok (.iconst 0, 1) := dk_3 (dk_at dksX0_allHeard_0 0 rfl rfl)
theorem dX0_allHeard_1 : decode cX0_allHeard 1 = .ok (.istore_n 1, 1) := dk_60 (dk_at dksX0_allHeard_0 1 rfl rfl)
theorem dX0_allHeard_2 : decode cX0_allHeard 2 = .ok (.iconst 0, 1) := dk_3 (dk_at dksX0_allHeard_0 2 rfl rfl)
theorem dX0_allHeard_3 : decode cX0_allHeard 3 = .ok (.istore_n 2, 1) := dk_61 (dk_at dksX0_allHeard_0 3 rfl rfl)
theorem dX0_allHeard_4 : decode cX0_allHeard 4 = .ok (.iload_n 2, 1) := dk_28 (dk_at dksX0_allHeard_0 4 rfl rfl)
theorem dX0_allHeard_5 : decode cX0_allHeard 5 = .ok (.aload_n 0, 1) := dk_42 (dk_at dksX0_allHeard_0 5 rfl rfl)
theorem dX0_allHeard_6 : decode cX0_allHeard 6 = .ok (.getfield 14, 3) := dk_180 0 14 (dk_at dksX0_allHeard_0 6 rfl rfl)
theorem dX0_allHeard_9 : decode cX0_allHeard 9 = .ok (.invokevirtual 135, 3) := dk_182 0 135 (dk_at dksX0_allHeard_0 9 rfl rfl)
theorem dX0_allHeard_12 : decode cX0_allHeard 12 = .ok (.if_icmp .ge 17, 3) := dk_162 0 17 (dk_at dksX0_allHeard_0 12 rfl rfl)
theorem dX0_allHeard_15 : decode cX0_allHeard 15 = .ok (.iload_n 1, 1) := dk_27 (dk_at dksX0_allHeard_0 15 rfl rfl)
theorem dX0_allHeard_16 : decode cX0_allHeard 16 = .ok (.aload_n 0, 1) := dk_42 (dk_at dksX0_allHeard_0 16 rfl rfl)
theorem dX0_allHeard_17 : decode cX0_allHeard 17 = .ok (.iload_n 2, 1) := dk_28 (dk_at dksX0_allHeard_0 17 rfl rfl)
theorem dX0_allHeard_18 : decode cX0_allHeard 18 = .ok (.invokevirtual 283, 3) := dk_182 1 27 (dk_at dksX0_allHeard_0 18 rfl rfl)
theorem dX0_allHeard_21 : decode cX0_allHeard 21 = .ok (.iadd, 1) := dk_96 (dk_at dksX0_allHeard_0 21 rfl rfl)
theorem dX0_allHeard_22 : decode cX0_allHeard 22 = .ok (.istore_n 1, 1) := dk_60 (dk_at dksX0_allHeard_0 22 rfl rfl)
theorem dX0_allHeard_23 : decode cX0_allHeard 23 = .ok (.iinc 2 1, 3) := dk_132 2 1 (dk_at dksX0_allHeard_1 0 rfl rfl)
theorem dX0_allHeard_26 : decode cX0_allHeard 26 = .ok (.goto (-22), 3) := dk_167 255 234 (dk_at dksX0_allHeard_1 3 rfl rfl)
theorem dX0_allHeard_29 : decode cX0_allHeard 29 = .ok (.iload_n 1, 1) := dk_27 (dk_at dksX0_allHeard_1 6 rfl rfl)
theorem dX0_allHeard_30 : decode cX0_allHeard 30 = .ok (.ireturn, 1) := dk_172 (dk_at dksX0_allHeard_1 7 rfl rfl)
abbrev cX0_digest : ByteArray := prog_1_method_78_code
def yX0_digest : MethodName := ⟨RX0, "digest", "()J"⟩
def dkwX0_digest_18 : List UInt8 := [167, 255, 231, 31, 173]
abbrev dktX0_digest_18 : List UInt8 := dkwX0_digest_18 ++ []
def dkwX0_digest_17 : List UInt8 := [162, 0, 26, 20, 1, 142, 31, 105, 42, 16, 7, 16, 15, 29, 182, 1, 102, 133, 97, 64, 132, 3, 1]
abbrev dktX0_digest_17 : List UInt8 := dkwX0_digest_17 ++ dktX0_digest_18
def dkwX0_digest_16 : List UInt8 := [20, 1, 142, 31, 105, 42, 8, 29, 182, 1, 85, 97, 64, 132, 3, 1, 167, 255, 235, 3, 62, 29, 5]
abbrev dktX0_digest_16 : List UInt8 := dkwX0_digest_16 ++ dktX0_digest_17
def dkwX0_digest_15 : List UInt8 := [133, 97, 64, 20, 1, 142, 31, 105, 42, 182, 1, 61, 133, 97, 64, 3, 62, 29, 5, 162, 0, 22]
abbrev dktX0_digest_15 : List UInt8 := dkwX0_digest_15 ++ dktX0_digest_16
def dkwX0_digest_14 : List UInt8 := [167, 255, 235, 20, 1, 142, 31, 105, 42, 182, 1, 46, 133, 97, 64, 20, 1, 142, 31, 105, 42, 182, 1, 55]
abbrev dktX0_digest_14 : List UInt8 := dkwX0_digest_14 ++ dktX0_digest_15
def dkwX0_digest_13 : List UInt8 := [3, 62, 29, 5, 162, 0, 22, 20, 1, 142, 31, 105, 42, 29, 182, 1, 39, 133, 97, 64, 132, 3, 1]
abbrev dktX0_digest_13 : List UInt8 := dkwX0_digest_13 ++ dktX0_digest_14
def dkwX0_digest_12 : List UInt8 := [20, 1, 142, 31, 105, 42, 182, 1, 30, 133, 97, 64, 20, 1, 142, 31, 105, 42, 182, 1, 33, 133, 97, 64]
abbrev dktX0_digest_12 : List UInt8 := dkwX0_digest_12 ++ dktX0_digest_13
def dkwX0_digest_11 : List UInt8 := [162, 0, 23, 20, 1, 142, 31, 105, 42, 180, 0, 55, 29, 46, 133, 97, 64, 132, 3, 1, 167, 255, 234]
abbrev dktX0_digest_11 : List UInt8 := dkwX0_digest_11 ++ dktX0_digest_12
def dkwX0_digest_10 : List UInt8 := [182, 1, 17, 133, 97, 64, 20, 1, 142, 31, 105, 42, 180, 0, 252, 133, 97, 64, 3, 62, 29, 5]
abbrev dktX0_digest_10 : List UInt8 := dkwX0_digest_10 ++ dktX0_digest_11
def dkwX0_digest_9 : List UInt8 := [20, 1, 142, 31, 105, 42, 16, 9, 182, 1, 17, 133, 97, 64, 20, 1, 142, 31, 105, 42, 16, 19]
abbrev dktX0_digest_9 : List UInt8 := dkwX0_digest_9 ++ dktX0_digest_10
def dkwX0_digest_8 : List UInt8 := [29, 46, 133, 97, 64, 132, 3, 1, 167, 255, 150, 20, 1, 142, 31, 105, 42, 3, 182, 1, 17, 133, 97, 64]
abbrev dktX0_digest_8 : List UInt8 := dkwX0_digest_8 ++ dktX0_digest_9
def dkwX0_digest_7 : List UInt8 := [42, 180, 0, 52, 16, 9, 50, 29, 46, 133, 97, 64, 20, 1, 142, 31, 105, 42, 180, 0, 52, 16, 19, 50]
abbrev dktX0_digest_7 : List UInt8 := dkwX0_digest_7 ++ dktX0_digest_8
def dkwX0_digest_6 : List UInt8 := [167, 255, 220, 20, 1, 142, 31, 105, 42, 180, 0, 52, 3, 50, 29, 46, 133, 97, 64, 20, 1, 142, 31, 105]
abbrev dktX0_digest_6 : List UInt8 := dkwX0_digest_6 ++ dktX0_digest_7
def dkwX0_digest_5 : List UInt8 := [180, 0, 23, 180, 0, 159, 29, 182, 0, 147, 192, 0, 68, 21, 4, 182, 0, 160, 133, 97, 64, 132, 4, 1]
abbrev dktX0_digest_5 : List UInt8 := dkwX0_digest_5 ++ dktX0_digest_6
def dkwX0_digest_4 : List UInt8 := [180, 0, 23, 182, 0, 138, 162, 0, 101, 3, 54, 4, 21, 4, 5, 162, 0, 36, 20, 1, 142, 31, 105, 42]
abbrev dktX0_digest_4 : List UInt8 := dkwX0_digest_4 ++ dktX0_digest_5
def dkwX0_digest_3 : List UInt8 := [162, 0, 16, 42, 31, 29, 182, 1, 149, 64, 132, 3, 1, 167, 255, 235, 42, 182, 1, 20, 3, 62, 29, 42]
abbrev dktX0_digest_3 : List UInt8 := dkwX0_digest_3 ++ dktX0_digest_4
def dkwX0_digest_2 : List UInt8 := [182, 0, 132, 133, 97, 64, 132, 3, 1, 167, 255, 232, 3, 62, 29, 42, 180, 0, 14, 182, 0, 135]
abbrev dktX0_digest_2 : List UInt8 := dkwX0_digest_2 ++ dktX0_digest_3
def dkwX0_digest_1 : List UInt8 := [64, 132, 3, 1, 167, 255, 234, 3, 62, 29, 5, 162, 0, 25, 20, 1, 142, 31, 105, 42, 29, 182, 0, 115]
abbrev dktX0_digest_1 : List UInt8 := dkwX0_digest_1 ++ dktX0_digest_2
def dkwX0_digest_0 : List UInt8 := [20, 1, 144, 64, 3, 62, 29, 16, 8, 162, 0, 22, 20, 1, 142, 31, 105, 42, 29, 182, 1, 146, 133, 97]
abbrev dktX0_digest_0 : List UInt8 := dkwX0_digest_0 ++ dktX0_digest_1
theorem dksX0_digest_0 : cX0_digest.data.toList.drop 0 = dktX0_digest_0 := by decide +kernel
theorem dksX0_digest_1 : cX0_digest.data.toList.drop 24 = dktX0_digest_1 := dk_seg dksX0_digest_0 24 rfl rfl
theorem dksX0_digest_2 : cX0_digest.data.toList.drop 48 = dktX0_digest_2 := dk_seg dksX0_digest_1 24 rfl rfl
theorem dksX0_digest_3 : cX0_digest.data.toList.drop 70 = dktX0_digest_3 := dk_seg dksX0_digest_2 22 rfl rfl
theorem dksX0_digest_4 : cX0_digest.data.toList.drop 94 = dktX0_digest_4 := dk_seg dksX0_digest_3 24 rfl rfl
theorem dksX0_digest_5 : cX0_digest.data.toList.drop 118 = dktX0_digest_5 := dk_seg dksX0_digest_4 24 rfl rfl
theorem dksX0_digest_6 : cX0_digest.data.toList.drop 142 = dktX0_digest_6 := dk_seg dksX0_digest_5 24 rfl rfl
theorem dksX0_digest_7 : cX0_digest.data.toList.drop 166 = dktX0_digest_7 := dk_seg dksX0_digest_6 24 rfl rfl
theorem dksX0_digest_8 : cX0_digest.data.toList.drop 190 = dktX0_digest_8 := dk_seg dksX0_digest_7 24 rfl rfl
theorem dksX0_digest_9 : cX0_digest.data.toList.drop 214 = dktX0_digest_9 := dk_seg dksX0_digest_8 24 rfl rfl
theorem dksX0_digest_10 : cX0_digest.data.toList.drop 236 = dktX0_digest_10 := dk_seg dksX0_digest_9 22 rfl rfl
theorem dksX0_digest_11 : cX0_digest.data.toList.drop 258 = dktX0_digest_11 := dk_seg dksX0_digest_10 22 rfl rfl
theorem dksX0_digest_12 : cX0_digest.data.toList.drop 281 = dktX0_digest_12 := dk_seg dksX0_digest_11 23 rfl rfl
theorem dksX0_digest_13 : cX0_digest.data.toList.drop 305 = dktX0_digest_13 := dk_seg dksX0_digest_12 24 rfl rfl
theorem dksX0_digest_14 : cX0_digest.data.toList.drop 328 = dktX0_digest_14 := dk_seg dksX0_digest_13 23 rfl rfl
theorem dksX0_digest_15 : cX0_digest.data.toList.drop 352 = dktX0_digest_15 := dk_seg dksX0_digest_14 24 rfl rfl
theorem dksX0_digest_16 : cX0_digest.data.toList.drop 374 = dktX0_digest_16 := dk_seg dksX0_digest_15 22 rfl rfl
theorem dksX0_digest_17 : cX0_digest.data.toList.drop 397 = dktX0_digest_17 := dk_seg dksX0_digest_16 23 rfl rfl
theorem dksX0_digest_18 : cX0_digest.data.toList.drop 420 = dktX0_digest_18 := dk_seg dksX0_digest_17 23 rfl rfl
theorem dX0_digest_0 : decode cX0_digest 0 = .ok (.ldc2_w 400, 3) := dk_20 1 144 (dk_at dksX0_digest_0 0 rfl rfl)
theorem dX0_digest_3 : decode cX0_digest 3 = .ok (.lstore_n 1, 1) := dk_64 (dk_at dksX0_digest_0 3 rfl rfl)
theorem dX0_digest_4 : decode cX0_digest 4 = .ok (.iconst 0, 1) := dk_3 (dk_at dksX0_digest_0 4 rfl rfl)
theorem dX0_digest_5 : decode cX0_digest 5 = .ok (.istore_n 3, 1) := dk_62 (dk_at dksX0_digest_0 5 rfl rfl)
theorem dX0_digest_6 : decode cX0_digest 6 = .ok (.iload_n 3, 1) := dk_29 (dk_at dksX0_digest_0 6 rfl rfl)
theorem dX0_digest_7 : decode cX0_digest 7 = .ok (.bipush 8, 2) := dk_16 8 (dk_at dksX0_digest_0 7 rfl rfl)
theorem dX0_digest_9 : decode cX0_digest 9 = .ok (.if_icmp .ge 22, 3) := dk_162 0 22 (dk_at dksX0_digest_0 9 rfl rfl)
theorem dX0_digest_12 : decode cX0_digest 12 = .ok (.ldc2_w 398, 3) := dk_20 1 142 (dk_at dksX0_digest_0 12 rfl rfl)
theorem dX0_digest_15 : decode cX0_digest 15 = .ok (.lload_n 1, 1) := dk_31 (dk_at dksX0_digest_0 15 rfl rfl)
theorem dX0_digest_16 : decode cX0_digest 16 = .ok (.lmul, 1) := dk_105 (dk_at dksX0_digest_0 16 rfl rfl)
theorem dX0_digest_17 : decode cX0_digest 17 = .ok (.aload_n 0, 1) := dk_42 (dk_at dksX0_digest_0 17 rfl rfl)
theorem dX0_digest_18 : decode cX0_digest 18 = .ok (.iload_n 3, 1) := dk_29 (dk_at dksX0_digest_0 18 rfl rfl)
theorem dX0_digest_19 : decode cX0_digest 19 = .ok (.invokevirtual 402, 3) := dk_182 1 146 (dk_at dksX0_digest_0 19 rfl rfl)
theorem dX0_digest_22 : decode cX0_digest 22 = .ok (.i2l, 1) := dk_133 (dk_at dksX0_digest_0 22 rfl rfl)
theorem dX0_digest_23 : decode cX0_digest 23 = .ok (.ladd, 1) := dk_97 (dk_at dksX0_digest_0 23 rfl rfl)
theorem dX0_digest_24 : decode cX0_digest 24 = .ok (.lstore_n 1, 1) := dk_64 (dk_at dksX0_digest_1 0 rfl rfl)
theorem dX0_digest_25 : decode cX0_digest 25 = .ok (.iinc 3 1, 3) := dk_132 3 1 (dk_at dksX0_digest_1 1 rfl rfl)
theorem dX0_digest_28 : decode cX0_digest 28 = .ok (.goto (-22), 3) := dk_167 255 234 (dk_at dksX0_digest_1 4 rfl rfl)
theorem dX0_digest_31 : decode cX0_digest 31 = .ok (.iconst 0, 1) := dk_3 (dk_at dksX0_digest_1 7 rfl rfl)
theorem dX0_digest_32 : decode cX0_digest 32 = .ok (.istore_n 3, 1) := dk_62 (dk_at dksX0_digest_1 8 rfl rfl)
theorem dX0_digest_33 : decode cX0_digest 33 = .ok (.iload_n 3, 1) := dk_29 (dk_at dksX0_digest_1 9 rfl rfl)
theorem dX0_digest_34 : decode cX0_digest 34 = .ok (.iconst 2, 1) := dk_5 (dk_at dksX0_digest_1 10 rfl rfl)
theorem dX0_digest_35 : decode cX0_digest 35 = .ok (.if_icmp .ge 25, 3) := dk_162 0 25 (dk_at dksX0_digest_1 11 rfl rfl)
theorem dX0_digest_38 : decode cX0_digest 38 = .ok (.ldc2_w 398, 3) := dk_20 1 142 (dk_at dksX0_digest_1 14 rfl rfl)
theorem dX0_digest_41 : decode cX0_digest 41 = .ok (.lload_n 1, 1) := dk_31 (dk_at dksX0_digest_1 17 rfl rfl)
theorem dX0_digest_42 : decode cX0_digest 42 = .ok (.lmul, 1) := dk_105 (dk_at dksX0_digest_1 18 rfl rfl)
theorem dX0_digest_43 : decode cX0_digest 43 = .ok (.aload_n 0, 1) := dk_42 (dk_at dksX0_digest_1 19 rfl rfl)
theorem dX0_digest_44 : decode cX0_digest 44 = .ok (.iload_n 3, 1) := dk_29 (dk_at dksX0_digest_1 20 rfl rfl)
theorem dX0_digest_45 : decode cX0_digest 45 = .ok (.invokevirtual 115, 3) := dk_182 0 115 (dk_at dksX0_digest_1 21 rfl rfl)
theorem dX0_digest_48 : decode cX0_digest 48 = .ok (.invokevirtual 132, 3) := dk_182 0 132 (dk_at dksX0_digest_2 0 rfl rfl)
theorem dX0_digest_51 : decode cX0_digest 51 = .ok (.i2l, 1) := dk_133 (dk_at dksX0_digest_2 3 rfl rfl)
theorem dX0_digest_52 : decode cX0_digest 52 = .ok (.ladd, 1) := dk_97 (dk_at dksX0_digest_2 4 rfl rfl)
theorem dX0_digest_53 : decode cX0_digest 53 = .ok (.lstore_n 1, 1) := dk_64 (dk_at dksX0_digest_2 5 rfl rfl)
theorem dX0_digest_54 : decode cX0_digest 54 = .ok (.iinc 3 1, 3) := dk_132 3 1 (dk_at dksX0_digest_2 6 rfl rfl)
theorem dX0_digest_57 : decode cX0_digest 57 = .ok (.goto (-24), 3) := dk_167 255 232 (dk_at dksX0_digest_2 9 rfl rfl)
theorem dX0_digest_60 : decode cX0_digest 60 = .ok (.iconst 0, 1) := dk_3 (dk_at dksX0_digest_2 12 rfl rfl)
theorem dX0_digest_61 : decode cX0_digest 61 = .ok (.istore_n 3, 1) := dk_62 (dk_at dksX0_digest_2 13 rfl rfl)
theorem dX0_digest_62 : decode cX0_digest 62 = .ok (.iload_n 3, 1) := dk_29 (dk_at dksX0_digest_2 14 rfl rfl)
theorem dX0_digest_63 : decode cX0_digest 63 = .ok (.aload_n 0, 1) := dk_42 (dk_at dksX0_digest_2 15 rfl rfl)
theorem dX0_digest_64 : decode cX0_digest 64 = .ok (.getfield 14, 3) := dk_180 0 14 (dk_at dksX0_digest_2 16 rfl rfl)
theorem dX0_digest_67 : decode cX0_digest 67 = .ok (.invokevirtual 135, 3) := dk_182 0 135 (dk_at dksX0_digest_2 19 rfl rfl)
theorem dX0_digest_70 : decode cX0_digest 70 = .ok (.if_icmp .ge 16, 3) := dk_162 0 16 (dk_at dksX0_digest_3 0 rfl rfl)
theorem dX0_digest_73 : decode cX0_digest 73 = .ok (.aload_n 0, 1) := dk_42 (dk_at dksX0_digest_3 3 rfl rfl)
theorem dX0_digest_74 : decode cX0_digest 74 = .ok (.lload_n 1, 1) := dk_31 (dk_at dksX0_digest_3 4 rfl rfl)
theorem dX0_digest_75 : decode cX0_digest 75 = .ok (.iload_n 3, 1) := dk_29 (dk_at dksX0_digest_3 5 rfl rfl)
theorem dX0_digest_76 : decode cX0_digest 76 = .ok (.invokevirtual 405, 3) := dk_182 1 149 (dk_at dksX0_digest_3 6 rfl rfl)
theorem dX0_digest_79 : decode cX0_digest 79 = .ok (.lstore_n 1, 1) := dk_64 (dk_at dksX0_digest_3 9 rfl rfl)
theorem dX0_digest_80 : decode cX0_digest 80 = .ok (.iinc 3 1, 3) := dk_132 3 1 (dk_at dksX0_digest_3 10 rfl rfl)
theorem dX0_digest_83 : decode cX0_digest 83 = .ok (.goto (-21), 3) := dk_167 255 235 (dk_at dksX0_digest_3 13 rfl rfl)
theorem dX0_digest_86 : decode cX0_digest 86 = .ok (.aload_n 0, 1) := dk_42 (dk_at dksX0_digest_3 16 rfl rfl)
theorem dX0_digest_87 : decode cX0_digest 87 = .ok (.invokevirtual 276, 3) := dk_182 1 20 (dk_at dksX0_digest_3 17 rfl rfl)
theorem dX0_digest_90 : decode cX0_digest 90 = .ok (.iconst 0, 1) := dk_3 (dk_at dksX0_digest_3 20 rfl rfl)
theorem dX0_digest_91 : decode cX0_digest 91 = .ok (.istore_n 3, 1) := dk_62 (dk_at dksX0_digest_3 21 rfl rfl)
theorem dX0_digest_92 : decode cX0_digest 92 = .ok (.iload_n 3, 1) := dk_29 (dk_at dksX0_digest_3 22 rfl rfl)
theorem dX0_digest_93 : decode cX0_digest 93 = .ok (.aload_n 0, 1) := dk_42 (dk_at dksX0_digest_3 23 rfl rfl)
theorem dX0_digest_94 : decode cX0_digest 94 = .ok (.getfield 23, 3) := dk_180 0 23 (dk_at dksX0_digest_4 0 rfl rfl)
theorem dX0_digest_97 : decode cX0_digest 97 = .ok (.invokevirtual 138, 3) := dk_182 0 138 (dk_at dksX0_digest_4 3 rfl rfl)
theorem dX0_digest_100 : decode cX0_digest 100 = .ok (.if_icmp .ge 101, 3) := dk_162 0 101 (dk_at dksX0_digest_4 6 rfl rfl)
theorem dX0_digest_103 : decode cX0_digest 103 = .ok (.iconst 0, 1) := dk_3 (dk_at dksX0_digest_4 9 rfl rfl)
theorem dX0_digest_104 : decode cX0_digest 104 = .ok (.istore 4, 2) := dk_54 4 (dk_at dksX0_digest_4 10 rfl rfl)
theorem dX0_digest_106 : decode cX0_digest 106 = .ok (.iload 4, 2) := dk_21 4 (dk_at dksX0_digest_4 12 rfl rfl)
theorem dX0_digest_108 : decode cX0_digest 108 = .ok (.iconst 2, 1) := dk_5 (dk_at dksX0_digest_4 14 rfl rfl)
theorem dX0_digest_109 : decode cX0_digest 109 = .ok (.if_icmp .ge 36, 3) := dk_162 0 36 (dk_at dksX0_digest_4 15 rfl rfl)
theorem dX0_digest_112 : decode cX0_digest 112 = .ok (.ldc2_w 398, 3) := dk_20 1 142 (dk_at dksX0_digest_4 18 rfl rfl)
theorem dX0_digest_115 : decode cX0_digest 115 = .ok (.lload_n 1, 1) := dk_31 (dk_at dksX0_digest_4 21 rfl rfl)
theorem dX0_digest_116 : decode cX0_digest 116 = .ok (.lmul, 1) := dk_105 (dk_at dksX0_digest_4 22 rfl rfl)
theorem dX0_digest_117 : decode cX0_digest 117 = .ok (.aload_n 0, 1) := dk_42 (dk_at dksX0_digest_4 23 rfl rfl)
theorem dX0_digest_118 : decode cX0_digest 118 = .ok (.getfield 23, 3) := dk_180 0 23 (dk_at dksX0_digest_5 0 rfl rfl)
theorem dX0_digest_121 : decode cX0_digest 121 = .ok (.getfield 159, 3) := dk_180 0 159 (dk_at dksX0_digest_5 3 rfl rfl)
theorem dX0_digest_124 : decode cX0_digest 124 = .ok (.iload_n 3, 1) := dk_29 (dk_at dksX0_digest_5 6 rfl rfl)
theorem dX0_digest_125 : decode cX0_digest 125 = .ok (.invokevirtual 147, 3) := dk_182 0 147 (dk_at dksX0_digest_5 7 rfl rfl)
theorem dX0_digest_128 : decode cX0_digest 128 = .ok (.checkcast 68, 3) := dk_192 0 68 (dk_at dksX0_digest_5 10 rfl rfl)
theorem dX0_digest_131 : decode cX0_digest 131 = .ok (.iload 4, 2) := dk_21 4 (dk_at dksX0_digest_5 13 rfl rfl)
theorem dX0_digest_133 : decode cX0_digest 133 = .ok (.invokevirtual 160, 3) := dk_182 0 160 (dk_at dksX0_digest_5 15 rfl rfl)
theorem dX0_digest_136 : decode cX0_digest 136 = .ok (.i2l, 1) := dk_133 (dk_at dksX0_digest_5 18 rfl rfl)
theorem dX0_digest_137 : decode cX0_digest 137 = .ok (.ladd, 1) := dk_97 (dk_at dksX0_digest_5 19 rfl rfl)
theorem dX0_digest_138 : decode cX0_digest 138 = .ok (.lstore_n 1, 1) := dk_64 (dk_at dksX0_digest_5 20 rfl rfl)
theorem dX0_digest_139 : decode cX0_digest 139 = .ok (.iinc 4 1, 3) := dk_132 4 1 (dk_at dksX0_digest_5 21 rfl rfl)
theorem dX0_digest_142 : decode cX0_digest 142 = .ok (.goto (-36), 3) := dk_167 255 220 (dk_at dksX0_digest_6 0 rfl rfl)
theorem dX0_digest_145 : decode cX0_digest 145 = .ok (.ldc2_w 398, 3) := dk_20 1 142 (dk_at dksX0_digest_6 3 rfl rfl)
theorem dX0_digest_148 : decode cX0_digest 148 = .ok (.lload_n 1, 1) := dk_31 (dk_at dksX0_digest_6 6 rfl rfl)
theorem dX0_digest_149 : decode cX0_digest 149 = .ok (.lmul, 1) := dk_105 (dk_at dksX0_digest_6 7 rfl rfl)
theorem dX0_digest_150 : decode cX0_digest 150 = .ok (.aload_n 0, 1) := dk_42 (dk_at dksX0_digest_6 8 rfl rfl)
theorem dX0_digest_151 : decode cX0_digest 151 = .ok (.getfield 52, 3) := dk_180 0 52 (dk_at dksX0_digest_6 9 rfl rfl)
theorem dX0_digest_154 : decode cX0_digest 154 = .ok (.iconst 0, 1) := dk_3 (dk_at dksX0_digest_6 12 rfl rfl)
theorem dX0_digest_155 : decode cX0_digest 155 = .ok (.aaload, 1) := dk_50 (dk_at dksX0_digest_6 13 rfl rfl)
theorem dX0_digest_156 : decode cX0_digest 156 = .ok (.iload_n 3, 1) := dk_29 (dk_at dksX0_digest_6 14 rfl rfl)
theorem dX0_digest_157 : decode cX0_digest 157 = .ok (.iaload, 1) := dk_46 (dk_at dksX0_digest_6 15 rfl rfl)
theorem dX0_digest_158 : decode cX0_digest 158 = .ok (.i2l, 1) := dk_133 (dk_at dksX0_digest_6 16 rfl rfl)
theorem dX0_digest_159 : decode cX0_digest 159 = .ok (.ladd, 1) := dk_97 (dk_at dksX0_digest_6 17 rfl rfl)
theorem dX0_digest_160 : decode cX0_digest 160 = .ok (.lstore_n 1, 1) := dk_64 (dk_at dksX0_digest_6 18 rfl rfl)
theorem dX0_digest_161 : decode cX0_digest 161 = .ok (.ldc2_w 398, 3) := dk_20 1 142 (dk_at dksX0_digest_6 19 rfl rfl)
theorem dX0_digest_164 : decode cX0_digest 164 = .ok (.lload_n 1, 1) := dk_31 (dk_at dksX0_digest_6 22 rfl rfl)
theorem dX0_digest_165 : decode cX0_digest 165 = .ok (.lmul, 1) := dk_105 (dk_at dksX0_digest_6 23 rfl rfl)
theorem dX0_digest_166 : decode cX0_digest 166 = .ok (.aload_n 0, 1) := dk_42 (dk_at dksX0_digest_7 0 rfl rfl)
theorem dX0_digest_167 : decode cX0_digest 167 = .ok (.getfield 52, 3) := dk_180 0 52 (dk_at dksX0_digest_7 1 rfl rfl)
theorem dX0_digest_170 : decode cX0_digest 170 = .ok (.bipush 9, 2) := dk_16 9 (dk_at dksX0_digest_7 4 rfl rfl)
theorem dX0_digest_172 : decode cX0_digest 172 = .ok (.aaload, 1) := dk_50 (dk_at dksX0_digest_7 6 rfl rfl)
theorem dX0_digest_173 : decode cX0_digest 173 = .ok (.iload_n 3, 1) := dk_29 (dk_at dksX0_digest_7 7 rfl rfl)
theorem dX0_digest_174 : decode cX0_digest 174 = .ok (.iaload, 1) := dk_46 (dk_at dksX0_digest_7 8 rfl rfl)
theorem dX0_digest_175 : decode cX0_digest 175 = .ok (.i2l, 1) := dk_133 (dk_at dksX0_digest_7 9 rfl rfl)
theorem dX0_digest_176 : decode cX0_digest 176 = .ok (.ladd, 1) := dk_97 (dk_at dksX0_digest_7 10 rfl rfl)
theorem dX0_digest_177 : decode cX0_digest 177 = .ok (.lstore_n 1, 1) := dk_64 (dk_at dksX0_digest_7 11 rfl rfl)
theorem dX0_digest_178 : decode cX0_digest 178 = .ok (.ldc2_w 398, 3) := dk_20 1 142 (dk_at dksX0_digest_7 12 rfl rfl)
theorem dX0_digest_181 : decode cX0_digest 181 = .ok (.lload_n 1, 1) := dk_31 (dk_at dksX0_digest_7 15 rfl rfl)
theorem dX0_digest_182 : decode cX0_digest 182 = .ok (.lmul, 1) := dk_105 (dk_at dksX0_digest_7 16 rfl rfl)
theorem dX0_digest_183 : decode cX0_digest 183 = .ok (.aload_n 0, 1) := dk_42 (dk_at dksX0_digest_7 17 rfl rfl)
theorem dX0_digest_184 : decode cX0_digest 184 = .ok (.getfield 52, 3) := dk_180 0 52 (dk_at dksX0_digest_7 18 rfl rfl)
theorem dX0_digest_187 : decode cX0_digest 187 = .ok (.bipush 19, 2) := dk_16 19 (dk_at dksX0_digest_7 21 rfl rfl)
theorem dX0_digest_189 : decode cX0_digest 189 = .ok (.aaload, 1) := dk_50 (dk_at dksX0_digest_7 23 rfl rfl)
theorem dX0_digest_190 : decode cX0_digest 190 = .ok (.iload_n 3, 1) := dk_29 (dk_at dksX0_digest_8 0 rfl rfl)
theorem dX0_digest_191 : decode cX0_digest 191 = .ok (.iaload, 1) := dk_46 (dk_at dksX0_digest_8 1 rfl rfl)
theorem dX0_digest_192 : decode cX0_digest 192 = .ok (.i2l, 1) := dk_133 (dk_at dksX0_digest_8 2 rfl rfl)
theorem dX0_digest_193 : decode cX0_digest 193 = .ok (.ladd, 1) := dk_97 (dk_at dksX0_digest_8 3 rfl rfl)
theorem dX0_digest_194 : decode cX0_digest 194 = .ok (.lstore_n 1, 1) := dk_64 (dk_at dksX0_digest_8 4 rfl rfl)
theorem dX0_digest_195 : decode cX0_digest 195 = .ok (.iinc 3 1, 3) := dk_132 3 1 (dk_at dksX0_digest_8 5 rfl rfl)
theorem dX0_digest_198 : decode cX0_digest 198 = .ok (.goto (-106), 3) := dk_167 255 150 (dk_at dksX0_digest_8 8 rfl rfl)
theorem dX0_digest_201 : decode cX0_digest 201 = .ok (.ldc2_w 398, 3) := dk_20 1 142 (dk_at dksX0_digest_8 11 rfl rfl)
theorem dX0_digest_204 : decode cX0_digest 204 = .ok (.lload_n 1, 1) := dk_31 (dk_at dksX0_digest_8 14 rfl rfl)
theorem dX0_digest_205 : decode cX0_digest 205 = .ok (.lmul, 1) := dk_105 (dk_at dksX0_digest_8 15 rfl rfl)
theorem dX0_digest_206 : decode cX0_digest 206 = .ok (.aload_n 0, 1) := dk_42 (dk_at dksX0_digest_8 16 rfl rfl)
theorem dX0_digest_207 : decode cX0_digest 207 = .ok (.iconst 0, 1) := dk_3 (dk_at dksX0_digest_8 17 rfl rfl)
theorem dX0_digest_208 : decode cX0_digest 208 = .ok (.invokevirtual 273, 3) := dk_182 1 17 (dk_at dksX0_digest_8 18 rfl rfl)
theorem dX0_digest_211 : decode cX0_digest 211 = .ok (.i2l, 1) := dk_133 (dk_at dksX0_digest_8 21 rfl rfl)
theorem dX0_digest_212 : decode cX0_digest 212 = .ok (.ladd, 1) := dk_97 (dk_at dksX0_digest_8 22 rfl rfl)
theorem dX0_digest_213 : decode cX0_digest 213 = .ok (.lstore_n 1, 1) := dk_64 (dk_at dksX0_digest_8 23 rfl rfl)
theorem dX0_digest_214 : decode cX0_digest 214 = .ok (.ldc2_w 398, 3) := dk_20 1 142 (dk_at dksX0_digest_9 0 rfl rfl)
theorem dX0_digest_217 : decode cX0_digest 217 = .ok (.lload_n 1, 1) := dk_31 (dk_at dksX0_digest_9 3 rfl rfl)
theorem dX0_digest_218 : decode cX0_digest 218 = .ok (.lmul, 1) := dk_105 (dk_at dksX0_digest_9 4 rfl rfl)
theorem dX0_digest_219 : decode cX0_digest 219 = .ok (.aload_n 0, 1) := dk_42 (dk_at dksX0_digest_9 5 rfl rfl)
theorem dX0_digest_220 : decode cX0_digest 220 = .ok (.bipush 9, 2) := dk_16 9 (dk_at dksX0_digest_9 6 rfl rfl)
theorem dX0_digest_222 : decode cX0_digest 222 = .ok (.invokevirtual 273, 3) := dk_182 1 17 (dk_at dksX0_digest_9 8 rfl rfl)
theorem dX0_digest_225 : decode cX0_digest 225 = .ok (.i2l, 1) := dk_133 (dk_at dksX0_digest_9 11 rfl rfl)
theorem dX0_digest_226 : decode cX0_digest 226 = .ok (.ladd, 1) := dk_97 (dk_at dksX0_digest_9 12 rfl rfl)
theorem dX0_digest_227 : decode cX0_digest 227 = .ok (.lstore_n 1, 1) := dk_64 (dk_at dksX0_digest_9 13 rfl rfl)
theorem dX0_digest_228 : decode cX0_digest 228 = .ok (.ldc2_w 398, 3) := dk_20 1 142 (dk_at dksX0_digest_9 14 rfl rfl)
theorem dX0_digest_231 : decode cX0_digest 231 = .ok (.lload_n 1, 1) := dk_31 (dk_at dksX0_digest_9 17 rfl rfl)
theorem dX0_digest_232 : decode cX0_digest 232 = .ok (.lmul, 1) := dk_105 (dk_at dksX0_digest_9 18 rfl rfl)
theorem dX0_digest_233 : decode cX0_digest 233 = .ok (.aload_n 0, 1) := dk_42 (dk_at dksX0_digest_9 19 rfl rfl)
theorem dX0_digest_234 : decode cX0_digest 234 = .ok (.bipush 19, 2) := dk_16 19 (dk_at dksX0_digest_9 20 rfl rfl)
theorem dX0_digest_236 : decode cX0_digest 236 = .ok (.invokevirtual 273, 3) := dk_182 1 17 (dk_at dksX0_digest_10 0 rfl rfl)
theorem dX0_digest_239 : decode cX0_digest 239 = .ok (.i2l, 1) := dk_133 (dk_at dksX0_digest_10 3 rfl rfl)
theorem dX0_digest_240 : decode cX0_digest 240 = .ok (.ladd, 1) := dk_97 (dk_at dksX0_digest_10 4 rfl rfl)
theorem dX0_digest_241 : decode cX0_digest 241 = .ok (.lstore_n 1, 1) := dk_64 (dk_at dksX0_digest_10 5 rfl rfl)
theorem dX0_digest_242 : decode cX0_digest 242 = .ok (.ldc2_w 398, 3) := dk_20 1 142 (dk_at dksX0_digest_10 6 rfl rfl)
theorem dX0_digest_245 : decode cX0_digest 245 = .ok (.lload_n 1, 1) := dk_31 (dk_at dksX0_digest_10 9 rfl rfl)
theorem dX0_digest_246 : decode cX0_digest 246 = .ok (.lmul, 1) := dk_105 (dk_at dksX0_digest_10 10 rfl rfl)
theorem dX0_digest_247 : decode cX0_digest 247 = .ok (.aload_n 0, 1) := dk_42 (dk_at dksX0_digest_10 11 rfl rfl)
theorem dX0_digest_248 : decode cX0_digest 248 = .ok (.getfield 252, 3) := dk_180 0 252 (dk_at dksX0_digest_10 12 rfl rfl)
theorem dX0_digest_251 : decode cX0_digest 251 = .ok (.i2l, 1) := dk_133 (dk_at dksX0_digest_10 15 rfl rfl)
theorem dX0_digest_252 : decode cX0_digest 252 = .ok (.ladd, 1) := dk_97 (dk_at dksX0_digest_10 16 rfl rfl)
theorem dX0_digest_253 : decode cX0_digest 253 = .ok (.lstore_n 1, 1) := dk_64 (dk_at dksX0_digest_10 17 rfl rfl)
theorem dX0_digest_254 : decode cX0_digest 254 = .ok (.iconst 0, 1) := dk_3 (dk_at dksX0_digest_10 18 rfl rfl)
theorem dX0_digest_255 : decode cX0_digest 255 = .ok (.istore_n 3, 1) := dk_62 (dk_at dksX0_digest_10 19 rfl rfl)
theorem dX0_digest_256 : decode cX0_digest 256 = .ok (.iload_n 3, 1) := dk_29 (dk_at dksX0_digest_10 20 rfl rfl)
theorem dX0_digest_257 : decode cX0_digest 257 = .ok (.iconst 2, 1) := dk_5 (dk_at dksX0_digest_10 21 rfl rfl)
theorem dX0_digest_258 : decode cX0_digest 258 = .ok (.if_icmp .ge 23, 3) := dk_162 0 23 (dk_at dksX0_digest_11 0 rfl rfl)
theorem dX0_digest_261 : decode cX0_digest 261 = .ok (.ldc2_w 398, 3) := dk_20 1 142 (dk_at dksX0_digest_11 3 rfl rfl)
theorem dX0_digest_264 : decode cX0_digest 264 = .ok (.lload_n 1, 1) := dk_31 (dk_at dksX0_digest_11 6 rfl rfl)
theorem dX0_digest_265 : decode cX0_digest 265 = .ok (.lmul, 1) := dk_105 (dk_at dksX0_digest_11 7 rfl rfl)
theorem dX0_digest_266 : decode cX0_digest 266 = .ok (.aload_n 0, 1) := dk_42 (dk_at dksX0_digest_11 8 rfl rfl)
theorem dX0_digest_267 : decode cX0_digest 267 = .ok (.getfield 55, 3) := dk_180 0 55 (dk_at dksX0_digest_11 9 rfl rfl)
theorem dX0_digest_270 : decode cX0_digest 270 = .ok (.iload_n 3, 1) := dk_29 (dk_at dksX0_digest_11 12 rfl rfl)
theorem dX0_digest_271 : decode cX0_digest 271 = .ok (.iaload, 1) := dk_46 (dk_at dksX0_digest_11 13 rfl rfl)
theorem dX0_digest_272 : decode cX0_digest 272 = .ok (.i2l, 1) := dk_133 (dk_at dksX0_digest_11 14 rfl rfl)
theorem dX0_digest_273 : decode cX0_digest 273 = .ok (.ladd, 1) := dk_97 (dk_at dksX0_digest_11 15 rfl rfl)
theorem dX0_digest_274 : decode cX0_digest 274 = .ok (.lstore_n 1, 1) := dk_64 (dk_at dksX0_digest_11 16 rfl rfl)
theorem dX0_digest_275 : decode cX0_digest 275 = .ok (.iinc 3 1, 3) := dk_132 3 1 (dk_at dksX0_digest_11 17 rfl rfl)
theorem dX0_digest_278 : decode cX0_digest 278 = .ok (.goto (-22), 3) := dk_167 255 234 (dk_at dksX0_digest_11 20 rfl rfl)
theorem dX0_digest_281 : decode cX0_digest 281 = .ok (.ldc2_w 398, 3) := dk_20 1 142 (dk_at dksX0_digest_12 0 rfl rfl)
theorem dX0_digest_284 : decode cX0_digest 284 = .ok (.lload_n 1, 1) := dk_31 (dk_at dksX0_digest_12 3 rfl rfl)
theorem dX0_digest_285 : decode cX0_digest 285 = .ok (.lmul, 1) := dk_105 (dk_at dksX0_digest_12 4 rfl rfl)
theorem dX0_digest_286 : decode cX0_digest 286 = .ok (.aload_n 0, 1) := dk_42 (dk_at dksX0_digest_12 5 rfl rfl)
theorem dX0_digest_287 : decode cX0_digest 287 = .ok (.invokevirtual 286, 3) := dk_182 1 30 (dk_at dksX0_digest_12 6 rfl rfl)
theorem dX0_digest_290 : decode cX0_digest 290 = .ok (.i2l, 1) := dk_133 (dk_at dksX0_digest_12 9 rfl rfl)
theorem dX0_digest_291 : decode cX0_digest 291 = .ok (.ladd, 1) := dk_97 (dk_at dksX0_digest_12 10 rfl rfl)
theorem dX0_digest_292 : decode cX0_digest 292 = .ok (.lstore_n 1, 1) := dk_64 (dk_at dksX0_digest_12 11 rfl rfl)
theorem dX0_digest_293 : decode cX0_digest 293 = .ok (.ldc2_w 398, 3) := dk_20 1 142 (dk_at dksX0_digest_12 12 rfl rfl)
theorem dX0_digest_296 : decode cX0_digest 296 = .ok (.lload_n 1, 1) := dk_31 (dk_at dksX0_digest_12 15 rfl rfl)
theorem dX0_digest_297 : decode cX0_digest 297 = .ok (.lmul, 1) := dk_105 (dk_at dksX0_digest_12 16 rfl rfl)
theorem dX0_digest_298 : decode cX0_digest 298 = .ok (.aload_n 0, 1) := dk_42 (dk_at dksX0_digest_12 17 rfl rfl)
theorem dX0_digest_299 : decode cX0_digest 299 = .ok (.invokevirtual 289, 3) := dk_182 1 33 (dk_at dksX0_digest_12 18 rfl rfl)
theorem dX0_digest_302 : decode cX0_digest 302 = .ok (.i2l, 1) := dk_133 (dk_at dksX0_digest_12 21 rfl rfl)
theorem dX0_digest_303 : decode cX0_digest 303 = .ok (.ladd, 1) := dk_97 (dk_at dksX0_digest_12 22 rfl rfl)
theorem dX0_digest_304 : decode cX0_digest 304 = .ok (.lstore_n 1, 1) := dk_64 (dk_at dksX0_digest_12 23 rfl rfl)
theorem dX0_digest_305 : decode cX0_digest 305 = .ok (.iconst 0, 1) := dk_3 (dk_at dksX0_digest_13 0 rfl rfl)
theorem dX0_digest_306 : decode cX0_digest 306 = .ok (.istore_n 3, 1) := dk_62 (dk_at dksX0_digest_13 1 rfl rfl)
theorem dX0_digest_307 : decode cX0_digest 307 = .ok (.iload_n 3, 1) := dk_29 (dk_at dksX0_digest_13 2 rfl rfl)
theorem dX0_digest_308 : decode cX0_digest 308 = .ok (.iconst 2, 1) := dk_5 (dk_at dksX0_digest_13 3 rfl rfl)
theorem dX0_digest_309 : decode cX0_digest 309 = .ok (.if_icmp .ge 22, 3) := dk_162 0 22 (dk_at dksX0_digest_13 4 rfl rfl)
theorem dX0_digest_312 : decode cX0_digest 312 = .ok (.ldc2_w 398, 3) := dk_20 1 142 (dk_at dksX0_digest_13 7 rfl rfl)
theorem dX0_digest_315 : decode cX0_digest 315 = .ok (.lload_n 1, 1) := dk_31 (dk_at dksX0_digest_13 10 rfl rfl)
theorem dX0_digest_316 : decode cX0_digest 316 = .ok (.lmul, 1) := dk_105 (dk_at dksX0_digest_13 11 rfl rfl)
theorem dX0_digest_317 : decode cX0_digest 317 = .ok (.aload_n 0, 1) := dk_42 (dk_at dksX0_digest_13 12 rfl rfl)
theorem dX0_digest_318 : decode cX0_digest 318 = .ok (.iload_n 3, 1) := dk_29 (dk_at dksX0_digest_13 13 rfl rfl)
theorem dX0_digest_319 : decode cX0_digest 319 = .ok (.invokevirtual 295, 3) := dk_182 1 39 (dk_at dksX0_digest_13 14 rfl rfl)
theorem dX0_digest_322 : decode cX0_digest 322 = .ok (.i2l, 1) := dk_133 (dk_at dksX0_digest_13 17 rfl rfl)
theorem dX0_digest_323 : decode cX0_digest 323 = .ok (.ladd, 1) := dk_97 (dk_at dksX0_digest_13 18 rfl rfl)
theorem dX0_digest_324 : decode cX0_digest 324 = .ok (.lstore_n 1, 1) := dk_64 (dk_at dksX0_digest_13 19 rfl rfl)
theorem dX0_digest_325 : decode cX0_digest 325 = .ok (.iinc 3 1, 3) := dk_132 3 1 (dk_at dksX0_digest_13 20 rfl rfl)
theorem dX0_digest_328 : decode cX0_digest 328 = .ok (.goto (-21), 3) := dk_167 255 235 (dk_at dksX0_digest_14 0 rfl rfl)
theorem dX0_digest_331 : decode cX0_digest 331 = .ok (.ldc2_w 398, 3) := dk_20 1 142 (dk_at dksX0_digest_14 3 rfl rfl)
theorem dX0_digest_334 : decode cX0_digest 334 = .ok (.lload_n 1, 1) := dk_31 (dk_at dksX0_digest_14 6 rfl rfl)
theorem dX0_digest_335 : decode cX0_digest 335 = .ok (.lmul, 1) := dk_105 (dk_at dksX0_digest_14 7 rfl rfl)
theorem dX0_digest_336 : decode cX0_digest 336 = .ok (.aload_n 0, 1) := dk_42 (dk_at dksX0_digest_14 8 rfl rfl)
theorem dX0_digest_337 : decode cX0_digest 337 = .ok (.invokevirtual 302, 3) := dk_182 1 46 (dk_at dksX0_digest_14 9 rfl rfl)
theorem dX0_digest_340 : decode cX0_digest 340 = .ok (.i2l, 1) := dk_133 (dk_at dksX0_digest_14 12 rfl rfl)
theorem dX0_digest_341 : decode cX0_digest 341 = .ok (.ladd, 1) := dk_97 (dk_at dksX0_digest_14 13 rfl rfl)
theorem dX0_digest_342 : decode cX0_digest 342 = .ok (.lstore_n 1, 1) := dk_64 (dk_at dksX0_digest_14 14 rfl rfl)
theorem dX0_digest_343 : decode cX0_digest 343 = .ok (.ldc2_w 398, 3) := dk_20 1 142 (dk_at dksX0_digest_14 15 rfl rfl)
theorem dX0_digest_346 : decode cX0_digest 346 = .ok (.lload_n 1, 1) := dk_31 (dk_at dksX0_digest_14 18 rfl rfl)
theorem dX0_digest_347 : decode cX0_digest 347 = .ok (.lmul, 1) := dk_105 (dk_at dksX0_digest_14 19 rfl rfl)
theorem dX0_digest_348 : decode cX0_digest 348 = .ok (.aload_n 0, 1) := dk_42 (dk_at dksX0_digest_14 20 rfl rfl)
theorem dX0_digest_349 : decode cX0_digest 349 = .ok (.invokevirtual 311, 3) := dk_182 1 55 (dk_at dksX0_digest_14 21 rfl rfl)
theorem dX0_digest_352 : decode cX0_digest 352 = .ok (.i2l, 1) := dk_133 (dk_at dksX0_digest_15 0 rfl rfl)
theorem dX0_digest_353 : decode cX0_digest 353 = .ok (.ladd, 1) := dk_97 (dk_at dksX0_digest_15 1 rfl rfl)
theorem dX0_digest_354 : decode cX0_digest 354 = .ok (.lstore_n 1, 1) := dk_64 (dk_at dksX0_digest_15 2 rfl rfl)
theorem dX0_digest_355 : decode cX0_digest 355 = .ok (.ldc2_w 398, 3) := dk_20 1 142 (dk_at dksX0_digest_15 3 rfl rfl)
theorem dX0_digest_358 : decode cX0_digest 358 = .ok (.lload_n 1, 1) := dk_31 (dk_at dksX0_digest_15 6 rfl rfl)
theorem dX0_digest_359 : decode cX0_digest 359 = .ok (.lmul, 1) := dk_105 (dk_at dksX0_digest_15 7 rfl rfl)
theorem dX0_digest_360 : decode cX0_digest 360 = .ok (.aload_n 0, 1) := dk_42 (dk_at dksX0_digest_15 8 rfl rfl)
theorem dX0_digest_361 : decode cX0_digest 361 = .ok (.invokevirtual 317, 3) := dk_182 1 61 (dk_at dksX0_digest_15 9 rfl rfl)
theorem dX0_digest_364 : decode cX0_digest 364 = .ok (.i2l, 1) := dk_133 (dk_at dksX0_digest_15 12 rfl rfl)
theorem dX0_digest_365 : decode cX0_digest 365 = .ok (.ladd, 1) := dk_97 (dk_at dksX0_digest_15 13 rfl rfl)
theorem dX0_digest_366 : decode cX0_digest 366 = .ok (.lstore_n 1, 1) := dk_64 (dk_at dksX0_digest_15 14 rfl rfl)
theorem dX0_digest_367 : decode cX0_digest 367 = .ok (.iconst 0, 1) := dk_3 (dk_at dksX0_digest_15 15 rfl rfl)
theorem dX0_digest_368 : decode cX0_digest 368 = .ok (.istore_n 3, 1) := dk_62 (dk_at dksX0_digest_15 16 rfl rfl)
theorem dX0_digest_369 : decode cX0_digest 369 = .ok (.iload_n 3, 1) := dk_29 (dk_at dksX0_digest_15 17 rfl rfl)
theorem dX0_digest_370 : decode cX0_digest 370 = .ok (.iconst 2, 1) := dk_5 (dk_at dksX0_digest_15 18 rfl rfl)
theorem dX0_digest_371 : decode cX0_digest 371 = .ok (.if_icmp .ge 22, 3) := dk_162 0 22 (dk_at dksX0_digest_15 19 rfl rfl)
theorem dX0_digest_374 : decode cX0_digest 374 = .ok (.ldc2_w 398, 3) := dk_20 1 142 (dk_at dksX0_digest_16 0 rfl rfl)
theorem dX0_digest_377 : decode cX0_digest 377 = .ok (.lload_n 1, 1) := dk_31 (dk_at dksX0_digest_16 3 rfl rfl)
theorem dX0_digest_378 : decode cX0_digest 378 = .ok (.lmul, 1) := dk_105 (dk_at dksX0_digest_16 4 rfl rfl)
theorem dX0_digest_379 : decode cX0_digest 379 = .ok (.aload_n 0, 1) := dk_42 (dk_at dksX0_digest_16 5 rfl rfl)
theorem dX0_digest_380 : decode cX0_digest 380 = .ok (.iconst 5, 1) := dk_8 (dk_at dksX0_digest_16 6 rfl rfl)
theorem dX0_digest_381 : decode cX0_digest 381 = .ok (.iload_n 3, 1) := dk_29 (dk_at dksX0_digest_16 7 rfl rfl)
theorem dX0_digest_382 : decode cX0_digest 382 = .ok (.invokevirtual 341, 3) := dk_182 1 85 (dk_at dksX0_digest_16 8 rfl rfl)
theorem dX0_digest_385 : decode cX0_digest 385 = .ok (.ladd, 1) := dk_97 (dk_at dksX0_digest_16 11 rfl rfl)
theorem dX0_digest_386 : decode cX0_digest 386 = .ok (.lstore_n 1, 1) := dk_64 (dk_at dksX0_digest_16 12 rfl rfl)
theorem dX0_digest_387 : decode cX0_digest 387 = .ok (.iinc 3 1, 3) := dk_132 3 1 (dk_at dksX0_digest_16 13 rfl rfl)
theorem dX0_digest_390 : decode cX0_digest 390 = .ok (.goto (-21), 3) := dk_167 255 235 (dk_at dksX0_digest_16 16 rfl rfl)
theorem dX0_digest_393 : decode cX0_digest 393 = .ok (.iconst 0, 1) := dk_3 (dk_at dksX0_digest_16 19 rfl rfl)
theorem dX0_digest_394 : decode cX0_digest 394 = .ok (.istore_n 3, 1) := dk_62 (dk_at dksX0_digest_16 20 rfl rfl)
theorem dX0_digest_395 : decode cX0_digest 395 = .ok (.iload_n 3, 1) := dk_29 (dk_at dksX0_digest_16 21 rfl rfl)
theorem dX0_digest_396 : decode cX0_digest 396 = .ok (.iconst 2, 1) := dk_5 (dk_at dksX0_digest_16 22 rfl rfl)
theorem dX0_digest_397 : decode cX0_digest 397 = .ok (.if_icmp .ge 26, 3) := dk_162 0 26 (dk_at dksX0_digest_17 0 rfl rfl)
theorem dX0_digest_400 : decode cX0_digest 400 = .ok (.ldc2_w 398, 3) := dk_20 1 142 (dk_at dksX0_digest_17 3 rfl rfl)
theorem dX0_digest_403 : decode cX0_digest 403 = .ok (.lload_n 1, 1) := dk_31 (dk_at dksX0_digest_17 6 rfl rfl)
theorem dX0_digest_404 : decode cX0_digest 404 = .ok (.lmul, 1) := dk_105 (dk_at dksX0_digest_17 7 rfl rfl)
theorem dX0_digest_405 : decode cX0_digest 405 = .ok (.aload_n 0, 1) := dk_42 (dk_at dksX0_digest_17 8 rfl rfl)
theorem dX0_digest_406 : decode cX0_digest 406 = .ok (.bipush 7, 2) := dk_16 7 (dk_at dksX0_digest_17 9 rfl rfl)
theorem dX0_digest_408 : decode cX0_digest 408 = .ok (.bipush 15, 2) := dk_16 15 (dk_at dksX0_digest_17 11 rfl rfl)
theorem dX0_digest_410 : decode cX0_digest 410 = .ok (.iload_n 3, 1) := dk_29 (dk_at dksX0_digest_17 13 rfl rfl)
theorem dX0_digest_411 : decode cX0_digest 411 = .ok (.invokevirtual 358, 3) := dk_182 1 102 (dk_at dksX0_digest_17 14 rfl rfl)
theorem dX0_digest_414 : decode cX0_digest 414 = .ok (.i2l, 1) := dk_133 (dk_at dksX0_digest_17 17 rfl rfl)
theorem dX0_digest_415 : decode cX0_digest 415 = .ok (.ladd, 1) := dk_97 (dk_at dksX0_digest_17 18 rfl rfl)
theorem dX0_digest_416 : decode cX0_digest 416 = .ok (.lstore_n 1, 1) := dk_64 (dk_at dksX0_digest_17 19 rfl rfl)
theorem dX0_digest_417 : decode cX0_digest 417 = .ok (.iinc 3 1, 3) := dk_132 3 1 (dk_at dksX0_digest_17 20 rfl rfl)
theorem dX0_digest_420 : decode cX0_digest 420 = .ok (.goto (-25), 3) := dk_167 255 231 (dk_at dksX0_digest_18 0 rfl rfl)
theorem dX0_digest_423 : decode cX0_digest 423 = .ok (.lload_n 1, 1) := dk_31 (dk_at dksX0_digest_18 3 rfl rfl)
theorem dX0_digest_424 : decode cX0_digest 424 = .ok (.lreturn, 1) := dk_173 (dk_at dksX0_digest_18 4 rfl rfl)
abbrev cX0_tellsSaver : ByteArray := prog_1_method_77_code
def yX0_tellsSaver : MethodName := ⟨RX0, "tellsSaver", "(JI)J"⟩
def dkwX0_tellsSaver_9 : List UInt8 := [42, 29, 182, 1, 58, 133, 97, 55, 4, 20, 1, 142, 22, 4, 105, 42, 29, 182, 1, 72, 133, 97, 173]
abbrev dktX0_tellsSaver_9 : List UInt8 := dkwX0_tellsSaver_9 ++ []
def dkwX0_tellsSaver_8 : List UInt8 := [105, 42, 29, 21, 6, 182, 1, 36, 133, 97, 55, 4, 132, 6, 1, 167, 255, 230, 20, 1, 142, 22, 4, 105]
abbrev dktX0_tellsSaver_8 : List UInt8 := dkwX0_tellsSaver_8 ++ dktX0_tellsSaver_9
def dkwX0_tellsSaver_7 : List UInt8 := [133, 97, 55, 4, 132, 6, 1, 167, 255, 228, 3, 54, 6, 21, 6, 5, 162, 0, 26, 20, 1, 142, 22, 4]
abbrev dktX0_tellsSaver_7 : List UInt8 := dkwX0_tellsSaver_7 ++ dktX0_tellsSaver_8
def dkwX0_tellsSaver_6 : List UInt8 := [3, 54, 6, 21, 6, 5, 162, 0, 28, 20, 1, 142, 22, 4, 105, 42, 16, 19, 29, 21, 6, 182, 1, 23]
abbrev dktX0_tellsSaver_6 : List UInt8 := dkwX0_tellsSaver_6 ++ dktX0_tellsSaver_7
def dkwX0_tellsSaver_5 : List UInt8 := [20, 1, 142, 22, 4, 105, 42, 8, 29, 21, 6, 182, 1, 23, 133, 97, 55, 4, 132, 6, 1, 167, 255, 229]
abbrev dktX0_tellsSaver_5 : List UInt8 := dkwX0_tellsSaver_5 ++ dktX0_tellsSaver_6
def dkwX0_tellsSaver_4 : List UInt8 := [105, 42, 180, 0, 43, 16, 19, 50, 29, 46, 133, 97, 55, 4, 3, 54, 6, 21, 6, 5, 162, 0, 27]
abbrev dktX0_tellsSaver_4 : List UInt8 := dkwX0_tellsSaver_4 ++ dktX0_tellsSaver_5
def dkwX0_tellsSaver_3 : List UInt8 := [20, 1, 142, 22, 4, 105, 42, 180, 0, 43, 16, 9, 50, 29, 46, 133, 97, 55, 4, 20, 1, 142, 22, 4]
abbrev dktX0_tellsSaver_3 : List UInt8 := dkwX0_tellsSaver_3 ++ dktX0_tellsSaver_4
def dkwX0_tellsSaver_2 : List UInt8 := [132, 6, 1, 167, 255, 218, 20, 1, 142, 22, 4, 105, 42, 180, 0, 43, 3, 50, 29, 46, 133, 97, 55, 4]
abbrev dktX0_tellsSaver_2 : List UInt8 := dkwX0_tellsSaver_2 ++ dktX0_tellsSaver_3
def dkwX0_tellsSaver_1 : List UInt8 := [180, 0, 14, 180, 0, 144, 29, 182, 0, 147, 192, 0, 151, 21, 6, 182, 0, 153, 133, 97, 55, 4]
abbrev dktX0_tellsSaver_1 : List UInt8 := dkwX0_tellsSaver_1 ++ dktX0_tellsSaver_2
def dkwX0_tellsSaver_0 : List UInt8 := [42, 182, 1, 20, 31, 55, 4, 3, 54, 6, 21, 6, 6, 162, 0, 38, 20, 1, 142, 22, 4, 105, 42]
abbrev dktX0_tellsSaver_0 : List UInt8 := dkwX0_tellsSaver_0 ++ dktX0_tellsSaver_1
theorem dksX0_tellsSaver_0 : cX0_tellsSaver.data.toList.drop 0 = dktX0_tellsSaver_0 := by decide +kernel
theorem dksX0_tellsSaver_1 : cX0_tellsSaver.data.toList.drop 23 = dktX0_tellsSaver_1 := dk_seg dksX0_tellsSaver_0 23 rfl rfl
theorem dksX0_tellsSaver_2 : cX0_tellsSaver.data.toList.drop 45 = dktX0_tellsSaver_2 := dk_seg dksX0_tellsSaver_1 22 rfl rfl
theorem dksX0_tellsSaver_3 : cX0_tellsSaver.data.toList.drop 69 = dktX0_tellsSaver_3 := dk_seg dksX0_tellsSaver_2 24 rfl rfl
theorem dksX0_tellsSaver_4 : cX0_tellsSaver.data.toList.drop 93 = dktX0_tellsSaver_4 := dk_seg dksX0_tellsSaver_3 24 rfl rfl
theorem dksX0_tellsSaver_5 : cX0_tellsSaver.data.toList.drop 116 = dktX0_tellsSaver_5 := dk_seg dksX0_tellsSaver_4 23 rfl rfl
theorem dksX0_tellsSaver_6 : cX0_tellsSaver.data.toList.drop 140 = dktX0_tellsSaver_6 := dk_seg dksX0_tellsSaver_5 24 rfl rfl
theorem dksX0_tellsSaver_7 : cX0_tellsSaver.data.toList.drop 164 = dktX0_tellsSaver_7 := dk_seg dksX0_tellsSaver_6 24 rfl rfl
theorem dksX0_tellsSaver_8 : cX0_tellsSaver.data.toList.drop 188 = dktX0_tellsSaver_8 := dk_seg dksX0_tellsSaver_7 24 rfl rfl
theorem dksX0_tellsSaver_9 : cX0_tellsSaver.data.toList.drop 212 = dktX0_tellsSaver_9 := dk_seg dksX0_tellsSaver_8 24 rfl rfl
theorem dX0_tellsSaver_0 : decode cX0_tellsSaver 0 = .ok (.aload_n 0, 1) := dk_42 (dk_at dksX0_tellsSaver_0 0 rfl rfl)
theorem dX0_tellsSaver_1 : decode cX0_tellsSaver 1 = .ok (.invokevirtual 276, 3) := dk_182 1 20 (dk_at dksX0_tellsSaver_0 1 rfl rfl)
theorem dX0_tellsSaver_4 : decode cX0_tellsSaver 4 = .ok (.lload_n 1, 1) := dk_31 (dk_at dksX0_tellsSaver_0 4 rfl rfl)
theorem dX0_tellsSaver_5 : decode cX0_tellsSaver 5 = .ok (.lstore 4, 2) := dk_55 4 (dk_at dksX0_tellsSaver_0 5 rfl rfl)
theorem dX0_tellsSaver_7 : decode cX0_tellsSaver 7 = .ok (.iconst 0, 1) := dk_3 (dk_at dksX0_tellsSaver_0 7 rfl rfl)
theorem dX0_tellsSaver_8 : decode cX0_tellsSaver 8 = .ok (.istore 6, 2) := dk_54 6 (dk_at dksX0_tellsSaver_0 8 rfl rfl)
theorem dX0_tellsSaver_10 : decode cX0_tellsSaver 10 = .ok (.iload 6, 2) := dk_21 6 (dk_at dksX0_tellsSaver_0 10 rfl rfl)
theorem dX0_tellsSaver_12 : decode cX0_tellsSaver 12 = .ok (.iconst 3, 1) := dk_6 (dk_at dksX0_tellsSaver_0 12 rfl rfl)
theorem dX0_tellsSaver_13 : decode cX0_tellsSaver 13 = .ok (.if_icmp .ge 38, 3) := dk_162 0 38 (dk_at dksX0_tellsSaver_0 13 rfl rfl)
theorem dX0_tellsSaver_16 : decode cX0_tellsSaver 16 = .ok (.ldc2_w 398, 3) := dk_20 1 142 (dk_at dksX0_tellsSaver_0 16 rfl rfl)
theorem dX0_tellsSaver_19 : decode cX0_tellsSaver 19 = .ok (.lload 4, 2) := dk_22 4 (dk_at dksX0_tellsSaver_0 19 rfl rfl)
theorem dX0_tellsSaver_21 : decode cX0_tellsSaver 21 = .ok (.lmul, 1) := dk_105 (dk_at dksX0_tellsSaver_0 21 rfl rfl)
theorem dX0_tellsSaver_22 : decode cX0_tellsSaver 22 = .ok (.aload_n 0, 1) := dk_42 (dk_at dksX0_tellsSaver_0 22 rfl rfl)
theorem dX0_tellsSaver_23 : decode cX0_tellsSaver 23 = .ok (.getfield 14, 3) := dk_180 0 14 (dk_at dksX0_tellsSaver_1 0 rfl rfl)
theorem dX0_tellsSaver_26 : decode cX0_tellsSaver 26 = .ok (.getfield 144, 3) := dk_180 0 144 (dk_at dksX0_tellsSaver_1 3 rfl rfl)
theorem dX0_tellsSaver_29 : decode cX0_tellsSaver 29 = .ok (.iload_n 3, 1) := dk_29 (dk_at dksX0_tellsSaver_1 6 rfl rfl)
theorem dX0_tellsSaver_30 : decode cX0_tellsSaver 30 = .ok (.invokevirtual 147, 3) := dk_182 0 147 (dk_at dksX0_tellsSaver_1 7 rfl rfl)
theorem dX0_tellsSaver_33 : decode cX0_tellsSaver 33 = .ok (.checkcast 151, 3) := dk_192 0 151 (dk_at dksX0_tellsSaver_1 10 rfl rfl)
theorem dX0_tellsSaver_36 : decode cX0_tellsSaver 36 = .ok (.iload 6, 2) := dk_21 6 (dk_at dksX0_tellsSaver_1 13 rfl rfl)
theorem dX0_tellsSaver_38 : decode cX0_tellsSaver 38 = .ok (.invokevirtual 153, 3) := dk_182 0 153 (dk_at dksX0_tellsSaver_1 15 rfl rfl)
theorem dX0_tellsSaver_41 : decode cX0_tellsSaver 41 = .ok (.i2l, 1) := dk_133 (dk_at dksX0_tellsSaver_1 18 rfl rfl)
theorem dX0_tellsSaver_42 : decode cX0_tellsSaver 42 = .ok (.ladd, 1) := dk_97 (dk_at dksX0_tellsSaver_1 19 rfl rfl)
theorem dX0_tellsSaver_43 : decode cX0_tellsSaver 43 = .ok (.lstore 4, 2) := dk_55 4 (dk_at dksX0_tellsSaver_1 20 rfl rfl)
theorem dX0_tellsSaver_45 : decode cX0_tellsSaver 45 = .ok (.iinc 6 1, 3) := dk_132 6 1 (dk_at dksX0_tellsSaver_2 0 rfl rfl)
theorem dX0_tellsSaver_48 : decode cX0_tellsSaver 48 = .ok (.goto (-38), 3) := dk_167 255 218 (dk_at dksX0_tellsSaver_2 3 rfl rfl)
theorem dX0_tellsSaver_51 : decode cX0_tellsSaver 51 = .ok (.ldc2_w 398, 3) := dk_20 1 142 (dk_at dksX0_tellsSaver_2 6 rfl rfl)
theorem dX0_tellsSaver_54 : decode cX0_tellsSaver 54 = .ok (.lload 4, 2) := dk_22 4 (dk_at dksX0_tellsSaver_2 9 rfl rfl)
theorem dX0_tellsSaver_56 : decode cX0_tellsSaver 56 = .ok (.lmul, 1) := dk_105 (dk_at dksX0_tellsSaver_2 11 rfl rfl)
theorem dX0_tellsSaver_57 : decode cX0_tellsSaver 57 = .ok (.aload_n 0, 1) := dk_42 (dk_at dksX0_tellsSaver_2 12 rfl rfl)
theorem dX0_tellsSaver_58 : decode cX0_tellsSaver 58 = .ok (.getfield 43, 3) := dk_180 0 43 (dk_at dksX0_tellsSaver_2 13 rfl rfl)
theorem dX0_tellsSaver_61 : decode cX0_tellsSaver 61 = .ok (.iconst 0, 1) := dk_3 (dk_at dksX0_tellsSaver_2 16 rfl rfl)
theorem dX0_tellsSaver_62 : decode cX0_tellsSaver 62 = .ok (.aaload, 1) := dk_50 (dk_at dksX0_tellsSaver_2 17 rfl rfl)
theorem dX0_tellsSaver_63 : decode cX0_tellsSaver 63 = .ok (.iload_n 3, 1) := dk_29 (dk_at dksX0_tellsSaver_2 18 rfl rfl)
theorem dX0_tellsSaver_64 : decode cX0_tellsSaver 64 = .ok (.iaload, 1) := dk_46 (dk_at dksX0_tellsSaver_2 19 rfl rfl)
theorem dX0_tellsSaver_65 : decode cX0_tellsSaver 65 = .ok (.i2l, 1) := dk_133 (dk_at dksX0_tellsSaver_2 20 rfl rfl)
theorem dX0_tellsSaver_66 : decode cX0_tellsSaver 66 = .ok (.ladd, 1) := dk_97 (dk_at dksX0_tellsSaver_2 21 rfl rfl)
theorem dX0_tellsSaver_67 : decode cX0_tellsSaver 67 = .ok (.lstore 4, 2) := dk_55 4 (dk_at dksX0_tellsSaver_2 22 rfl rfl)
theorem dX0_tellsSaver_69 : decode cX0_tellsSaver 69 = .ok (.ldc2_w 398, 3) := dk_20 1 142 (dk_at dksX0_tellsSaver_3 0 rfl rfl)
theorem dX0_tellsSaver_72 : decode cX0_tellsSaver 72 = .ok (.lload 4, 2) := dk_22 4 (dk_at dksX0_tellsSaver_3 3 rfl rfl)
theorem dX0_tellsSaver_74 : decode cX0_tellsSaver 74 = .ok (.lmul, 1) := dk_105 (dk_at dksX0_tellsSaver_3 5 rfl rfl)
theorem dX0_tellsSaver_75 : decode cX0_tellsSaver 75 = .ok (.aload_n 0, 1) := dk_42 (dk_at dksX0_tellsSaver_3 6 rfl rfl)
theorem dX0_tellsSaver_76 : decode cX0_tellsSaver 76 = .ok (.getfield 43, 3) := dk_180 0 43 (dk_at dksX0_tellsSaver_3 7 rfl rfl)
theorem dX0_tellsSaver_79 : decode cX0_tellsSaver 79 = .ok (.bipush 9, 2) := dk_16 9 (dk_at dksX0_tellsSaver_3 10 rfl rfl)
theorem dX0_tellsSaver_81 : decode cX0_tellsSaver 81 = .ok (.aaload, 1) := dk_50 (dk_at dksX0_tellsSaver_3 12 rfl rfl)
theorem dX0_tellsSaver_82 : decode cX0_tellsSaver 82 = .ok (.iload_n 3, 1) := dk_29 (dk_at dksX0_tellsSaver_3 13 rfl rfl)
theorem dX0_tellsSaver_83 : decode cX0_tellsSaver 83 = .ok (.iaload, 1) := dk_46 (dk_at dksX0_tellsSaver_3 14 rfl rfl)
theorem dX0_tellsSaver_84 : decode cX0_tellsSaver 84 = .ok (.i2l, 1) := dk_133 (dk_at dksX0_tellsSaver_3 15 rfl rfl)
theorem dX0_tellsSaver_85 : decode cX0_tellsSaver 85 = .ok (.ladd, 1) := dk_97 (dk_at dksX0_tellsSaver_3 16 rfl rfl)
theorem dX0_tellsSaver_86 : decode cX0_tellsSaver 86 = .ok (.lstore 4, 2) := dk_55 4 (dk_at dksX0_tellsSaver_3 17 rfl rfl)
theorem dX0_tellsSaver_88 : decode cX0_tellsSaver 88 = .ok (.ldc2_w 398, 3) := dk_20 1 142 (dk_at dksX0_tellsSaver_3 19 rfl rfl)
theorem dX0_tellsSaver_91 : decode cX0_tellsSaver 91 = .ok (.lload 4, 2) := dk_22 4 (dk_at dksX0_tellsSaver_3 22 rfl rfl)
theorem dX0_tellsSaver_93 : decode cX0_tellsSaver 93 = .ok (.lmul, 1) := dk_105 (dk_at dksX0_tellsSaver_4 0 rfl rfl)
theorem dX0_tellsSaver_94 : decode cX0_tellsSaver 94 = .ok (.aload_n 0, 1) := dk_42 (dk_at dksX0_tellsSaver_4 1 rfl rfl)
theorem dX0_tellsSaver_95 : decode cX0_tellsSaver 95 = .ok (.getfield 43, 3) := dk_180 0 43 (dk_at dksX0_tellsSaver_4 2 rfl rfl)
theorem dX0_tellsSaver_98 : decode cX0_tellsSaver 98 = .ok (.bipush 19, 2) := dk_16 19 (dk_at dksX0_tellsSaver_4 5 rfl rfl)
theorem dX0_tellsSaver_100 : decode cX0_tellsSaver 100 = .ok (.aaload, 1) := dk_50 (dk_at dksX0_tellsSaver_4 7 rfl rfl)
theorem dX0_tellsSaver_101 : decode cX0_tellsSaver 101 = .ok (.iload_n 3, 1) := dk_29 (dk_at dksX0_tellsSaver_4 8 rfl rfl)
theorem dX0_tellsSaver_102 : decode cX0_tellsSaver 102 = .ok (.iaload, 1) := dk_46 (dk_at dksX0_tellsSaver_4 9 rfl rfl)
theorem dX0_tellsSaver_103 : decode cX0_tellsSaver 103 = .ok (.i2l, 1) := dk_133 (dk_at dksX0_tellsSaver_4 10 rfl rfl)
theorem dX0_tellsSaver_104 : decode cX0_tellsSaver 104 = .ok (.ladd, 1) := dk_97 (dk_at dksX0_tellsSaver_4 11 rfl rfl)
theorem dX0_tellsSaver_105 : decode cX0_tellsSaver 105 = .ok (.lstore 4, 2) := dk_55 4 (dk_at dksX0_tellsSaver_4 12 rfl rfl)
theorem dX0_tellsSaver_107 : decode cX0_tellsSaver 107 = .ok (.iconst 0, 1) := dk_3 (dk_at dksX0_tellsSaver_4 14 rfl rfl)
theorem dX0_tellsSaver_108 : decode cX0_tellsSaver 108 = .ok (.istore 6, 2) := dk_54 6 (dk_at dksX0_tellsSaver_4 15 rfl rfl)
theorem dX0_tellsSaver_110 : decode cX0_tellsSaver 110 = .ok (.iload 6, 2) := dk_21 6 (dk_at dksX0_tellsSaver_4 17 rfl rfl)
theorem dX0_tellsSaver_112 : decode cX0_tellsSaver 112 = .ok (.iconst 2, 1) := dk_5 (dk_at dksX0_tellsSaver_4 19 rfl rfl)
theorem dX0_tellsSaver_113 : decode cX0_tellsSaver 113 = .ok (.if_icmp .ge 27, 3) := dk_162 0 27 (dk_at dksX0_tellsSaver_4 20 rfl rfl)
theorem dX0_tellsSaver_116 : decode cX0_tellsSaver 116 = .ok (.ldc2_w 398, 3) := dk_20 1 142 (dk_at dksX0_tellsSaver_5 0 rfl rfl)
theorem dX0_tellsSaver_119 : decode cX0_tellsSaver 119 = .ok (.lload 4, 2) := dk_22 4 (dk_at dksX0_tellsSaver_5 3 rfl rfl)
theorem dX0_tellsSaver_121 : decode cX0_tellsSaver 121 = .ok (.lmul, 1) := dk_105 (dk_at dksX0_tellsSaver_5 5 rfl rfl)
theorem dX0_tellsSaver_122 : decode cX0_tellsSaver 122 = .ok (.aload_n 0, 1) := dk_42 (dk_at dksX0_tellsSaver_5 6 rfl rfl)
theorem dX0_tellsSaver_123 : decode cX0_tellsSaver 123 = .ok (.iconst 5, 1) := dk_8 (dk_at dksX0_tellsSaver_5 7 rfl rfl)
theorem dX0_tellsSaver_124 : decode cX0_tellsSaver 124 = .ok (.iload_n 3, 1) := dk_29 (dk_at dksX0_tellsSaver_5 8 rfl rfl)
theorem dX0_tellsSaver_125 : decode cX0_tellsSaver 125 = .ok (.iload 6, 2) := dk_21 6 (dk_at dksX0_tellsSaver_5 9 rfl rfl)
theorem dX0_tellsSaver_127 : decode cX0_tellsSaver 127 = .ok (.invokevirtual 279, 3) := dk_182 1 23 (dk_at dksX0_tellsSaver_5 11 rfl rfl)
theorem dX0_tellsSaver_130 : decode cX0_tellsSaver 130 = .ok (.i2l, 1) := dk_133 (dk_at dksX0_tellsSaver_5 14 rfl rfl)
theorem dX0_tellsSaver_131 : decode cX0_tellsSaver 131 = .ok (.ladd, 1) := dk_97 (dk_at dksX0_tellsSaver_5 15 rfl rfl)
theorem dX0_tellsSaver_132 : decode cX0_tellsSaver 132 = .ok (.lstore 4, 2) := dk_55 4 (dk_at dksX0_tellsSaver_5 16 rfl rfl)
theorem dX0_tellsSaver_134 : decode cX0_tellsSaver 134 = .ok (.iinc 6 1, 3) := dk_132 6 1 (dk_at dksX0_tellsSaver_5 18 rfl rfl)
theorem dX0_tellsSaver_137 : decode cX0_tellsSaver 137 = .ok (.goto (-27), 3) := dk_167 255 229 (dk_at dksX0_tellsSaver_5 21 rfl rfl)
theorem dX0_tellsSaver_140 : decode cX0_tellsSaver 140 = .ok (.iconst 0, 1) := dk_3 (dk_at dksX0_tellsSaver_6 0 rfl rfl)
theorem dX0_tellsSaver_141 : decode cX0_tellsSaver 141 = .ok (.istore 6, 2) := dk_54 6 (dk_at dksX0_tellsSaver_6 1 rfl rfl)
theorem dX0_tellsSaver_143 : decode cX0_tellsSaver 143 = .ok (.iload 6, 2) := dk_21 6 (dk_at dksX0_tellsSaver_6 3 rfl rfl)
theorem dX0_tellsSaver_145 : decode cX0_tellsSaver 145 = .ok (.iconst 2, 1) := dk_5 (dk_at dksX0_tellsSaver_6 5 rfl rfl)
theorem dX0_tellsSaver_146 : decode cX0_tellsSaver 146 = .ok (.if_icmp .ge 28, 3) := dk_162 0 28 (dk_at dksX0_tellsSaver_6 6 rfl rfl)
theorem dX0_tellsSaver_149 : decode cX0_tellsSaver 149 = .ok (.ldc2_w 398, 3) := dk_20 1 142 (dk_at dksX0_tellsSaver_6 9 rfl rfl)
theorem dX0_tellsSaver_152 : decode cX0_tellsSaver 152 = .ok (.lload 4, 2) := dk_22 4 (dk_at dksX0_tellsSaver_6 12 rfl rfl)
theorem dX0_tellsSaver_154 : decode cX0_tellsSaver 154 = .ok (.lmul, 1) := dk_105 (dk_at dksX0_tellsSaver_6 14 rfl rfl)
theorem dX0_tellsSaver_155 : decode cX0_tellsSaver 155 = .ok (.aload_n 0, 1) := dk_42 (dk_at dksX0_tellsSaver_6 15 rfl rfl)
theorem dX0_tellsSaver_156 : decode cX0_tellsSaver 156 = .ok (.bipush 19, 2) := dk_16 19 (dk_at dksX0_tellsSaver_6 16 rfl rfl)
theorem dX0_tellsSaver_158 : decode cX0_tellsSaver 158 = .ok (.iload_n 3, 1) := dk_29 (dk_at dksX0_tellsSaver_6 18 rfl rfl)
theorem dX0_tellsSaver_159 : decode cX0_tellsSaver 159 = .ok (.iload 6, 2) := dk_21 6 (dk_at dksX0_tellsSaver_6 19 rfl rfl)
theorem dX0_tellsSaver_161 : decode cX0_tellsSaver 161 = .ok (.invokevirtual 279, 3) := dk_182 1 23 (dk_at dksX0_tellsSaver_6 21 rfl rfl)
theorem dX0_tellsSaver_164 : decode cX0_tellsSaver 164 = .ok (.i2l, 1) := dk_133 (dk_at dksX0_tellsSaver_7 0 rfl rfl)
theorem dX0_tellsSaver_165 : decode cX0_tellsSaver 165 = .ok (.ladd, 1) := dk_97 (dk_at dksX0_tellsSaver_7 1 rfl rfl)
theorem dX0_tellsSaver_166 : decode cX0_tellsSaver 166 = .ok (.lstore 4, 2) := dk_55 4 (dk_at dksX0_tellsSaver_7 2 rfl rfl)
theorem dX0_tellsSaver_168 : decode cX0_tellsSaver 168 = .ok (.iinc 6 1, 3) := dk_132 6 1 (dk_at dksX0_tellsSaver_7 4 rfl rfl)
theorem dX0_tellsSaver_171 : decode cX0_tellsSaver 171 = .ok (.goto (-28), 3) := dk_167 255 228 (dk_at dksX0_tellsSaver_7 7 rfl rfl)
theorem dX0_tellsSaver_174 : decode cX0_tellsSaver 174 = .ok (.iconst 0, 1) := dk_3 (dk_at dksX0_tellsSaver_7 10 rfl rfl)
theorem dX0_tellsSaver_175 : decode cX0_tellsSaver 175 = .ok (.istore 6, 2) := dk_54 6 (dk_at dksX0_tellsSaver_7 11 rfl rfl)
theorem dX0_tellsSaver_177 : decode cX0_tellsSaver 177 = .ok (.iload 6, 2) := dk_21 6 (dk_at dksX0_tellsSaver_7 13 rfl rfl)
theorem dX0_tellsSaver_179 : decode cX0_tellsSaver 179 = .ok (.iconst 2, 1) := dk_5 (dk_at dksX0_tellsSaver_7 15 rfl rfl)
theorem dX0_tellsSaver_180 : decode cX0_tellsSaver 180 = .ok (.if_icmp .ge 26, 3) := dk_162 0 26 (dk_at dksX0_tellsSaver_7 16 rfl rfl)
theorem dX0_tellsSaver_183 : decode cX0_tellsSaver 183 = .ok (.ldc2_w 398, 3) := dk_20 1 142 (dk_at dksX0_tellsSaver_7 19 rfl rfl)
theorem dX0_tellsSaver_186 : decode cX0_tellsSaver 186 = .ok (.lload 4, 2) := dk_22 4 (dk_at dksX0_tellsSaver_7 22 rfl rfl)
theorem dX0_tellsSaver_188 : decode cX0_tellsSaver 188 = .ok (.lmul, 1) := dk_105 (dk_at dksX0_tellsSaver_8 0 rfl rfl)
theorem dX0_tellsSaver_189 : decode cX0_tellsSaver 189 = .ok (.aload_n 0, 1) := dk_42 (dk_at dksX0_tellsSaver_8 1 rfl rfl)
theorem dX0_tellsSaver_190 : decode cX0_tellsSaver 190 = .ok (.iload_n 3, 1) := dk_29 (dk_at dksX0_tellsSaver_8 2 rfl rfl)
theorem dX0_tellsSaver_191 : decode cX0_tellsSaver 191 = .ok (.iload 6, 2) := dk_21 6 (dk_at dksX0_tellsSaver_8 3 rfl rfl)
theorem dX0_tellsSaver_193 : decode cX0_tellsSaver 193 = .ok (.invokevirtual 292, 3) := dk_182 1 36 (dk_at dksX0_tellsSaver_8 5 rfl rfl)
theorem dX0_tellsSaver_196 : decode cX0_tellsSaver 196 = .ok (.i2l, 1) := dk_133 (dk_at dksX0_tellsSaver_8 8 rfl rfl)
theorem dX0_tellsSaver_197 : decode cX0_tellsSaver 197 = .ok (.ladd, 1) := dk_97 (dk_at dksX0_tellsSaver_8 9 rfl rfl)
theorem dX0_tellsSaver_198 : decode cX0_tellsSaver 198 = .ok (.lstore 4, 2) := dk_55 4 (dk_at dksX0_tellsSaver_8 10 rfl rfl)
theorem dX0_tellsSaver_200 : decode cX0_tellsSaver 200 = .ok (.iinc 6 1, 3) := dk_132 6 1 (dk_at dksX0_tellsSaver_8 12 rfl rfl)
theorem dX0_tellsSaver_203 : decode cX0_tellsSaver 203 = .ok (.goto (-26), 3) := dk_167 255 230 (dk_at dksX0_tellsSaver_8 15 rfl rfl)
theorem dX0_tellsSaver_206 : decode cX0_tellsSaver 206 = .ok (.ldc2_w 398, 3) := dk_20 1 142 (dk_at dksX0_tellsSaver_8 18 rfl rfl)
theorem dX0_tellsSaver_209 : decode cX0_tellsSaver 209 = .ok (.lload 4, 2) := dk_22 4 (dk_at dksX0_tellsSaver_8 21 rfl rfl)
theorem dX0_tellsSaver_211 : decode cX0_tellsSaver 211 = .ok (.lmul, 1) := dk_105 (dk_at dksX0_tellsSaver_8 23 rfl rfl)
theorem dX0_tellsSaver_212 : decode cX0_tellsSaver 212 = .ok (.aload_n 0, 1) := dk_42 (dk_at dksX0_tellsSaver_9 0 rfl rfl)
theorem dX0_tellsSaver_213 : decode cX0_tellsSaver 213 = .ok (.iload_n 3, 1) := dk_29 (dk_at dksX0_tellsSaver_9 1 rfl rfl)
theorem dX0_tellsSaver_214 : decode cX0_tellsSaver 214 = .ok (.invokevirtual 314, 3) := dk_182 1 58 (dk_at dksX0_tellsSaver_9 2 rfl rfl)
theorem dX0_tellsSaver_217 : decode cX0_tellsSaver 217 = .ok (.i2l, 1) := dk_133 (dk_at dksX0_tellsSaver_9 5 rfl rfl)
theorem dX0_tellsSaver_218 : decode cX0_tellsSaver 218 = .ok (.ladd, 1) := dk_97 (dk_at dksX0_tellsSaver_9 6 rfl rfl)
theorem dX0_tellsSaver_219 : decode cX0_tellsSaver 219 = .ok (.lstore 4, 2) := dk_55 4 (dk_at dksX0_tellsSaver_9 7 rfl rfl)
theorem dX0_tellsSaver_221 : decode cX0_tellsSaver 221 = .ok (.ldc2_w 398, 3) := dk_20 1 142 (dk_at dksX0_tellsSaver_9 9 rfl rfl)
theorem dX0_tellsSaver_224 : decode cX0_tellsSaver 224 = .ok (.lload 4, 2) := dk_22 4 (dk_at dksX0_tellsSaver_9 12 rfl rfl)
theorem dX0_tellsSaver_226 : decode cX0_tellsSaver 226 = .ok (.lmul, 1) := dk_105 (dk_at dksX0_tellsSaver_9 14 rfl rfl)
theorem dX0_tellsSaver_227 : decode cX0_tellsSaver 227 = .ok (.aload_n 0, 1) := dk_42 (dk_at dksX0_tellsSaver_9 15 rfl rfl)
theorem dX0_tellsSaver_228 : decode cX0_tellsSaver 228 = .ok (.iload_n 3, 1) := dk_29 (dk_at dksX0_tellsSaver_9 16 rfl rfl)
theorem dX0_tellsSaver_229 : decode cX0_tellsSaver 229 = .ok (.invokevirtual 328, 3) := dk_182 1 72 (dk_at dksX0_tellsSaver_9 17 rfl rfl)
theorem dX0_tellsSaver_232 : decode cX0_tellsSaver 232 = .ok (.i2l, 1) := dk_133 (dk_at dksX0_tellsSaver_9 20 rfl rfl)
theorem dX0_tellsSaver_233 : decode cX0_tellsSaver 233 = .ok (.ladd, 1) := dk_97 (dk_at dksX0_tellsSaver_9 21 rfl rfl)
theorem dX0_tellsSaver_234 : decode cX0_tellsSaver 234 = .ok (.lreturn, 1) := dk_173 (dk_at dksX0_tellsSaver_9 22 rfl rfl)
theorem q80 : (Jvm.Cond.initialized "InterestTaken") ∈ lw_all := lw_g (lw_at lw_m1 1 rfl) rfl
theorem q110 : (Jvm.Cond.instantiable "InterestTaken" (25 : Nat)) ∈ lw_all := lw_g (lw_at lw_m1 31 rfl) rfl
theorem q112 : (Jvm.Cond.instanceMethod ({ cls := "InterestTaken", name := "<init>", desc := "()V" } : Jvm.MethodName)) ∈ lw_all := lw_g (lw_at lw_m1 33 rfl) rfl
theorem q113 : (Jvm.Cond.code ({ cls := "InterestTaken", name := "<init>", desc := "()V" } : Jvm.MethodName) prog_1_method_1_code (1 : Nat) (Option.none : Option Jvm.ClassFile.FieldType)) ∈ lw_all := lw_g (lw_at lw_m1 34 rfl) rfl
theorem q114 : (Jvm.Cond.methodLink "InterestTaken" (5 : Nat) ({ cls := "java/lang/Object", name := "<init>", desc := "()V" } : Jvm.MethodName)) ∈ lw_all := lw_g (lw_at lw_m1 35 rfl) rfl
theorem q117 : (Jvm.Cond.classLink "InterestTaken" (11 : Nat) "InterestTaken$Savers") ∈ lw_all := lw_g (lw_at lw_m1 38 rfl) rfl
theorem q119 : (Jvm.Cond.methodLink "InterestTaken" (13 : Nat) ({ cls := "InterestTaken$Savers", name := "<init>", desc := "()V" } : Jvm.MethodName)) ∈ lw_all := lw_g (lw_at lw_m1 40 rfl) rfl
theorem q159 : (Jvm.Cond.fieldLink "InterestTaken" (144 : Nat) "InterestTaken$Savers" "all" "Ljava/util/ArrayList;") ∈ lw_all := lw_g (lw_at lw_m1 80 rfl) rfl
theorem q161 : (Jvm.Cond.fieldLink "InterestTaken" (159 : Nat) "InterestTaken$Board" "all" "Ljava/util/ArrayList;") ∈ lw_all := lw_g (lw_at lw_m1 82 rfl) rfl
theorem q179 : (Jvm.Cond.classLink "InterestTaken" (20 : Nat) "InterestTaken$Board") ∈ lw_all := lw_g (lw_at lw_m1 100 rfl) rfl
theorem q181 : (Jvm.Cond.methodLink "InterestTaken" (22 : Nat) ({ cls := "InterestTaken$Board", name := "<init>", desc := "()V" } : Jvm.MethodName)) ∈ lw_all := lw_g (lw_at lw_m1 102 rfl) rfl
theorem q193 : (Jvm.Cond.classLink "InterestTaken" (31 : Nat) "java/util/ArrayList") ∈ lw_all := lw_g (lw_at lw_m1 114 rfl) rfl
theorem q194 : (Jvm.Cond.methodLink "InterestTaken" (33 : Nat) ({ cls := "java/util/ArrayList", name := "<init>", desc := "()V" } : Jvm.MethodName)) ∈ lw_all := lw_g (lw_at lw_m1 115 rfl) rfl
theorem q195 : (Jvm.Cond.classLink "InterestTaken" (41 : Nat) "[[I") ∈ lw_all := lw_g (lw_at lw_m1 116 rfl) rfl
theorem q197 : (Jvm.Cond.classLink "InterestTaken" (68 : Nat) "InterestTaken$Partner") ∈ lw_all := lw_g (lw_at lw_m1 118 rfl) rfl
theorem q199 : (Jvm.Cond.methodLink "InterestTaken" (70 : Nat) ({ cls := "InterestTaken$Partner", name := "<init>", desc := "(II)V" } : Jvm.MethodName)) ∈ lw_all := lw_g (lw_at lw_m1 120 rfl) rfl
theorem q204 : (Jvm.Cond.fieldLinkNest "InterestTaken" (255 : Nat) "InterestTaken$Partner" "sits" "I" "InterestTaken") ∈ lw_tbl := lw_at lw_m1 125 rfl
theorem q206 : (Jvm.Cond.fieldLinkNest "InterestTaken" (241 : Nat) "InterestTaken$Partner" "topic" "I" "InterestTaken") ∈ lw_tbl := lw_at lw_m1 127 rfl
theorem q213 : (Jvm.Cond.classLink "InterestTaken" (90 : Nat) "InterestTaken$Sheet") ∈ lw_all := lw_g (lw_at lw_m1 134 rfl) rfl
theorem q216 : (Jvm.Cond.methodLinkNest "InterestTaken" (92 : Nat) ({ cls := "InterestTaken$Sheet", name := "<init>", desc := "()V" } : Jvm.MethodName) "InterestTaken") ∈ lw_tbl := lw_at lw_m1 137 rfl
theorem q221 : (Jvm.Cond.fieldLinkNest "InterestTaken" (187 : Nat) "InterestTaken$Sheet" "row" "Ljava/lang/Object;" "InterestTaken") ∈ lw_tbl := lw_at lw_m1 142 rfl
theorem q226 : (Jvm.Cond.fieldLink "InterestTaken" (99 : Nat) "InterestTaken" "latest" "I") ∈ lw_all := lw_g (lw_at lw_m1 147 rfl) rfl
theorem q227 : (Jvm.Cond.fieldLink "InterestTaken" (14 : Nat) "InterestTaken" "savers" "LInterestTaken$Savers;") ∈ lw_all := lw_g (lw_at lw_m1 148 rfl) rfl
theorem q228 : (Jvm.Cond.fieldLink "InterestTaken" (23 : Nat) "InterestTaken" "board" "LInterestTaken$Board;") ∈ lw_all := lw_g (lw_at lw_m1 149 rfl) rfl
theorem q229 : (Jvm.Cond.fieldLink "InterestTaken" (27 : Nat) "InterestTaken" "settings" "[I") ∈ lw_all := lw_g (lw_at lw_m1 150 rfl) rfl
theorem q230 : (Jvm.Cond.fieldLink "InterestTaken" (34 : Nat) "InterestTaken" "calls" "Ljava/util/ArrayList;") ∈ lw_all := lw_g (lw_at lw_m1 151 rfl) rfl
theorem q231 : (Jvm.Cond.fieldLink "InterestTaken" (38 : Nat) "InterestTaken" "wars" "Ljava/util/ArrayList;") ∈ lw_all := lw_g (lw_at lw_m1 152 rfl) rfl
theorem q232 : (Jvm.Cond.fieldLink "InterestTaken" (43 : Nat) "InterestTaken" "owed" "[[I") ∈ lw_all := lw_g (lw_at lw_m1 153 rfl) rfl
theorem q233 : (Jvm.Cond.fieldLink "InterestTaken" (46 : Nat) "InterestTaken" "heard" "[[I") ∈ lw_all := lw_g (lw_at lw_m1 154 rfl) rfl
theorem q234 : (Jvm.Cond.fieldLink "InterestTaken" (49 : Nat) "InterestTaken" "yawned" "[[I") ∈ lw_all := lw_g (lw_at lw_m1 155 rfl) rfl
theorem q235 : (Jvm.Cond.fieldLink "InterestTaken" (52 : Nat) "InterestTaken" "left" "[[I") ∈ lw_all := lw_g (lw_at lw_m1 156 rfl) rfl
theorem q236 : (Jvm.Cond.fieldLink "InterestTaken" (252 : Nat) "InterestTaken" "run" "I") ∈ lw_all := lw_g (lw_at lw_m1 157 rfl) rfl
theorem q237 : (Jvm.Cond.fieldLink "InterestTaken" (55 : Nat) "InterestTaken" "yawn" "[I") ∈ lw_all := lw_g (lw_at lw_m1 158 rfl) rfl
theorem q238 : (Jvm.Cond.fieldLink "InterestTaken" (215 : Nat) "InterestTaken" "gone" "I") ∈ lw_all := lw_g (lw_at lw_m1 159 rfl) rfl
theorem q239 : (Jvm.Cond.fieldLink "InterestTaken" (205 : Nat) "InterestTaken" "peaces" "I") ∈ lw_all := lw_g (lw_at lw_m1 160 rfl) rfl
theorem q240 : (Jvm.Cond.fieldLink "InterestTaken" (58 : Nat) "InterestTaken" "oddSaver" "I") ∈ lw_all := lw_g (lw_at lw_m1 161 rfl) rfl
theorem q241 : (Jvm.Cond.fieldLink "InterestTaken" (212 : Nat) "InterestTaken" "oddDay" "I") ∈ lw_all := lw_g (lw_at lw_m1 162 rfl) rfl
theorem q242 : (Jvm.Cond.fieldLink "InterestTaken" (62 : Nat) "InterestTaken" "lots" "[I") ∈ lw_all := lw_g (lw_at lw_m1 163 rfl) rfl
theorem q243 : (Jvm.Cond.fieldLink "InterestTaken" (65 : Nat) "InterestTaken" "lotDays" "I") ∈ lw_all := lw_g (lw_at lw_m1 164 rfl) rfl
theorem q244 : (Jvm.Cond.fieldLink "InterestTaken" (73 : Nat) "InterestTaken" "more" "LInterestTaken$Partner;") ∈ lw_all := lw_g (lw_at lw_m1 165 rfl) rfl
theorem q245 : (Jvm.Cond.fieldLink "InterestTaken" (77 : Nat) "InterestTaken" "sitsWith" "[I") ∈ lw_all := lw_g (lw_at lw_m1 166 rfl) rfl
theorem q246 : (Jvm.Cond.fieldLink "InterestTaken" (80 : Nat) "InterestTaken" "asked" "[Z") ∈ lw_all := lw_g (lw_at lw_m1 167 rfl) rfl
theorem q247 : (Jvm.Cond.fieldLink "InterestTaken" (84 : Nat) "InterestTaken" "seen" "Ljava/util/ArrayList;") ∈ lw_all := lw_g (lw_at lw_m1 168 rfl) rfl
theorem q248 : (Jvm.Cond.fieldLink "InterestTaken" (87 : Nat) "InterestTaken" "had" "[[I") ∈ lw_all := lw_g (lw_at lw_m1 169 rfl) rfl
theorem q249 : (Jvm.Cond.fieldLink "InterestTaken" (350 : Nat) "InterestTaken" "drawn" "I") ∈ lw_all := lw_g (lw_at lw_m1 170 rfl) rfl
theorem q250 : (Jvm.Cond.fieldLink "InterestTaken" (93 : Nat) "InterestTaken" "sheets" "[LInterestTaken$Sheet;") ∈ lw_all := lw_g (lw_at lw_m1 171 rfl) rfl
theorem q251 : (Jvm.Cond.lays "InterestTaken" "InterestTaken" "latest" "I") ∈ lw_all := lw_g (lw_at lw_m1 172 rfl) rfl
theorem q252 : (Jvm.Cond.soleField "InterestTaken" "latest") ∈ lw_all := lw_g (lw_at lw_m1 173 rfl) rfl
theorem q253 : (Jvm.Cond.laysFinal "InterestTaken" "InterestTaken" "savers" "LInterestTaken$Savers;") ∈ lw_all := lw_g (lw_at lw_m1 174 rfl) rfl
theorem q254 : (Jvm.Cond.soleField "InterestTaken" "savers") ∈ lw_all := lw_g (lw_at lw_m1 175 rfl) rfl
theorem q255 : (Jvm.Cond.laysFinal "InterestTaken" "InterestTaken" "board" "LInterestTaken$Board;") ∈ lw_all := lw_g (lw_at lw_m1 176 rfl) rfl
theorem q256 : (Jvm.Cond.soleField "InterestTaken" "board") ∈ lw_all := lw_g (lw_at lw_m1 177 rfl) rfl
theorem q257 : (Jvm.Cond.laysFinal "InterestTaken" "InterestTaken" "settings" "[I") ∈ lw_all := lw_g (lw_at lw_m1 178 rfl) rfl
theorem q258 : (Jvm.Cond.soleField "InterestTaken" "settings") ∈ lw_all := lw_g (lw_at lw_m1 179 rfl) rfl
theorem q259 : (Jvm.Cond.laysFinal "InterestTaken" "InterestTaken" "calls" "Ljava/util/ArrayList;") ∈ lw_all := lw_g (lw_at lw_m1 180 rfl) rfl
theorem q260 : (Jvm.Cond.soleField "InterestTaken" "calls") ∈ lw_all := lw_g (lw_at lw_m1 181 rfl) rfl
theorem q261 : (Jvm.Cond.laysFinal "InterestTaken" "InterestTaken" "wars" "Ljava/util/ArrayList;") ∈ lw_all := lw_g (lw_at lw_m1 182 rfl) rfl
theorem q262 : (Jvm.Cond.soleField "InterestTaken" "wars") ∈ lw_all := lw_g (lw_at lw_m1 183 rfl) rfl
theorem q263 : (Jvm.Cond.laysFinal "InterestTaken" "InterestTaken" "owed" "[[I") ∈ lw_all := lw_g (lw_at lw_m1 184 rfl) rfl
theorem q264 : (Jvm.Cond.soleField "InterestTaken" "owed") ∈ lw_all := lw_g (lw_at lw_m1 185 rfl) rfl
theorem q265 : (Jvm.Cond.laysFinal "InterestTaken" "InterestTaken" "heard" "[[I") ∈ lw_all := lw_g (lw_at lw_m1 186 rfl) rfl
theorem q266 : (Jvm.Cond.soleField "InterestTaken" "heard") ∈ lw_all := lw_g (lw_at lw_m1 187 rfl) rfl
theorem q267 : (Jvm.Cond.laysFinal "InterestTaken" "InterestTaken" "yawned" "[[I") ∈ lw_all := lw_g (lw_at lw_m1 188 rfl) rfl
theorem q268 : (Jvm.Cond.soleField "InterestTaken" "yawned") ∈ lw_all := lw_g (lw_at lw_m1 189 rfl) rfl
theorem q269 : (Jvm.Cond.laysFinal "InterestTaken" "InterestTaken" "left" "[[I") ∈ lw_all := lw_g (lw_at lw_m1 190 rfl) rfl
theorem q270 : (Jvm.Cond.soleField "InterestTaken" "left") ∈ lw_all := lw_g (lw_at lw_m1 191 rfl) rfl
theorem q271 : (Jvm.Cond.lays "InterestTaken" "InterestTaken" "run" "I") ∈ lw_all := lw_g (lw_at lw_m1 192 rfl) rfl
theorem q272 : (Jvm.Cond.soleField "InterestTaken" "run") ∈ lw_all := lw_g (lw_at lw_m1 193 rfl) rfl
theorem q273 : (Jvm.Cond.laysFinal "InterestTaken" "InterestTaken" "yawn" "[I") ∈ lw_all := lw_g (lw_at lw_m1 194 rfl) rfl
theorem q274 : (Jvm.Cond.soleField "InterestTaken" "yawn") ∈ lw_all := lw_g (lw_at lw_m1 195 rfl) rfl
theorem q275 : (Jvm.Cond.lays "InterestTaken" "InterestTaken" "gone" "I") ∈ lw_all := lw_g (lw_at lw_m1 196 rfl) rfl
theorem q276 : (Jvm.Cond.soleField "InterestTaken" "gone") ∈ lw_all := lw_g (lw_at lw_m1 197 rfl) rfl
theorem q277 : (Jvm.Cond.lays "InterestTaken" "InterestTaken" "peaces" "I") ∈ lw_all := lw_g (lw_at lw_m1 198 rfl) rfl
theorem q278 : (Jvm.Cond.soleField "InterestTaken" "peaces") ∈ lw_all := lw_g (lw_at lw_m1 199 rfl) rfl
theorem q279 : (Jvm.Cond.lays "InterestTaken" "InterestTaken" "oddSaver" "I") ∈ lw_all := lw_g (lw_at lw_m1 200 rfl) rfl
theorem q280 : (Jvm.Cond.soleField "InterestTaken" "oddSaver") ∈ lw_all := lw_g (lw_at lw_m1 201 rfl) rfl
theorem q281 : (Jvm.Cond.lays "InterestTaken" "InterestTaken" "oddDay" "I") ∈ lw_all := lw_g (lw_at lw_m1 202 rfl) rfl
theorem q282 : (Jvm.Cond.soleField "InterestTaken" "oddDay") ∈ lw_all := lw_g (lw_at lw_m1 203 rfl) rfl
theorem q283 : (Jvm.Cond.laysFinal "InterestTaken" "InterestTaken" "lots" "[I") ∈ lw_all := lw_g (lw_at lw_m1 204 rfl) rfl
theorem q284 : (Jvm.Cond.soleField "InterestTaken" "lots") ∈ lw_all := lw_g (lw_at lw_m1 205 rfl) rfl
theorem q285 : (Jvm.Cond.lays "InterestTaken" "InterestTaken" "lotDays" "I") ∈ lw_all := lw_g (lw_at lw_m1 206 rfl) rfl
theorem q286 : (Jvm.Cond.soleField "InterestTaken" "lotDays") ∈ lw_all := lw_g (lw_at lw_m1 207 rfl) rfl
theorem q287 : (Jvm.Cond.laysFinal "InterestTaken" "InterestTaken" "more" "LInterestTaken$Partner;") ∈ lw_all := lw_g (lw_at lw_m1 208 rfl) rfl
theorem q288 : (Jvm.Cond.soleField "InterestTaken" "more") ∈ lw_all := lw_g (lw_at lw_m1 209 rfl) rfl
theorem q289 : (Jvm.Cond.laysFinal "InterestTaken" "InterestTaken" "sitsWith" "[I") ∈ lw_all := lw_g (lw_at lw_m1 210 rfl) rfl
theorem q290 : (Jvm.Cond.soleField "InterestTaken" "sitsWith") ∈ lw_all := lw_g (lw_at lw_m1 211 rfl) rfl
theorem q291 : (Jvm.Cond.laysFinal "InterestTaken" "InterestTaken" "asked" "[Z") ∈ lw_all := lw_g (lw_at lw_m1 212 rfl) rfl
theorem q292 : (Jvm.Cond.soleField "InterestTaken" "asked") ∈ lw_all := lw_g (lw_at lw_m1 213 rfl) rfl
theorem q293 : (Jvm.Cond.laysFinal "InterestTaken" "InterestTaken" "seen" "Ljava/util/ArrayList;") ∈ lw_all := lw_g (lw_at lw_m1 214 rfl) rfl
theorem q294 : (Jvm.Cond.soleField "InterestTaken" "seen") ∈ lw_all := lw_g (lw_at lw_m1 215 rfl) rfl
theorem q295 : (Jvm.Cond.laysFinal "InterestTaken" "InterestTaken" "had" "[[I") ∈ lw_all := lw_g (lw_at lw_m1 216 rfl) rfl
theorem q296 : (Jvm.Cond.soleField "InterestTaken" "had") ∈ lw_all := lw_g (lw_at lw_m1 217 rfl) rfl
theorem q297 : (Jvm.Cond.lays "InterestTaken" "InterestTaken" "drawn" "I") ∈ lw_all := lw_g (lw_at lw_m1 218 rfl) rfl
theorem q298 : (Jvm.Cond.soleField "InterestTaken" "drawn") ∈ lw_all := lw_g (lw_at lw_m1 219 rfl) rfl
theorem q299 : (Jvm.Cond.laysFinal "InterestTaken" "InterestTaken" "sheets" "[LInterestTaken$Sheet;") ∈ lw_all := lw_g (lw_at lw_m1 220 rfl) rfl
theorem q300 : (Jvm.Cond.soleField "InterestTaken" "sheets") ∈ lw_all := lw_g (lw_at lw_m1 221 rfl) rfl
theorem q301 : (Jvm.Cond.superclass "InterestTaken" "java/lang/Object") ∈ lw_all := lw_g (lw_at lw_m1 222 rfl) rfl
theorem q303 : (Jvm.Cond.instanceMethod ({ cls := "InterestTaken", name := "type", desc := "(II)I" } : Jvm.MethodName)) ∈ lw_all := lw_g (lw_at lw_m1 224 rfl) rfl
theorem q304 : (Jvm.Cond.selects "InterestTaken" ({ cls := "InterestTaken", name := "type", desc := "(II)I" } : Jvm.MethodName) ({ cls := "InterestTaken", name := "type", desc := "(II)I" } : Jvm.MethodName)) ∈ lw_all := lw_g (lw_at lw_m1 225 rfl) rfl
theorem q305 : (Jvm.Cond.code ({ cls := "InterestTaken", name := "type", desc := "(II)I" } : Jvm.MethodName) prog_1_method_10_code (3 : Nat) (Option.some Jvm.ClassFile.FieldType.int)) ∈ lw_all := lw_g (lw_at lw_m1 226 rfl) rfl
theorem q306 : (Jvm.Cond.methodLink "InterestTaken" (109 : Nat) ({ cls := "InterestTaken", name := "isTwo", desc := "(I)Z" } : Jvm.MethodName)) ∈ lw_all := lw_g (lw_at lw_m1 227 rfl) rfl
theorem q307 : (Jvm.Cond.static ({ cls := "InterestTaken", name := "isTwo", desc := "(I)Z" } : Jvm.MethodName)) ∈ lw_all := lw_g (lw_at lw_m1 228 rfl) rfl
theorem q308 : (Jvm.Cond.code ({ cls := "InterestTaken", name := "isTwo", desc := "(I)Z" } : Jvm.MethodName) prog_1_method_6_code (1 : Nat) (Option.some Jvm.ClassFile.FieldType.boolean)) ∈ lw_all := lw_g (lw_at lw_m1 229 rfl) rfl
theorem q309 : (Jvm.Cond.methodLink "InterestTaken" (103 : Nat) ({ cls := "InterestTaken", name := "in", desc := "(JJJ)Z" } : Jvm.MethodName)) ∈ lw_all := lw_g (lw_at lw_m1 230 rfl) rfl
theorem q310 : (Jvm.Cond.static ({ cls := "InterestTaken", name := "in", desc := "(JJJ)Z" } : Jvm.MethodName)) ∈ lw_all := lw_g (lw_at lw_m1 231 rfl) rfl
theorem q311 : (Jvm.Cond.code ({ cls := "InterestTaken", name := "in", desc := "(JJJ)Z" } : Jvm.MethodName) prog_1_method_2_code (6 : Nat) (Option.some Jvm.ClassFile.FieldType.boolean)) ∈ lw_all := lw_g (lw_at lw_m1 232 rfl) rfl
theorem q312 : (Jvm.Cond.constantLong "InterestTaken" (113 : Nat) (255 : Int64)) ∈ lw_all := lw_g (lw_at lw_m1 233 rfl) rfl
theorem q313 : (Jvm.Cond.methodLink "InterestTaken" (115 : Nat) ({ cls := "InterestTaken", name := "text", desc := "(I)LInterestTaken$Text;" } : Jvm.MethodName)) ∈ lw_all := lw_g (lw_at lw_m1 234 rfl) rfl
theorem q314 : (Jvm.Cond.privateMethod ({ cls := "InterestTaken", name := "text", desc := "(I)LInterestTaken$Text;" } : Jvm.MethodName)) ∈ lw_tbl := lw_at lw_m1 235 rfl
theorem q315 : (Jvm.Cond.instanceMethod ({ cls := "InterestTaken", name := "text", desc := "(I)LInterestTaken$Text;" } : Jvm.MethodName)) ∈ lw_all := lw_g (lw_at lw_m1 236 rfl) rfl
theorem q316 : (Jvm.Cond.code ({ cls := "InterestTaken", name := "text", desc := "(I)LInterestTaken$Text;" } : Jvm.MethodName) prog_1_method_9_code (2 : Nat) (Option.some (Jvm.ClassFile.FieldType.object "InterestTaken$Text"))) ∈ lw_all := lw_g (lw_at lw_m1 237 rfl) rfl
theorem q317 : (Jvm.Cond.methodLink "InterestTaken" (119 : Nat) ({ cls := "InterestTaken$Text", name := "type", desc := "(I)I" } : Jvm.MethodName)) ∈ lw_all := lw_g (lw_at lw_m1 238 rfl) rfl
theorem q324 : (Jvm.Cond.instanceMethod ({ cls := "InterestTaken", name := "wipe", desc := "(I)I" } : Jvm.MethodName)) ∈ lw_all := lw_g (lw_at lw_m2 5 rfl) rfl
theorem q325 : (Jvm.Cond.selects "InterestTaken" ({ cls := "InterestTaken", name := "wipe", desc := "(I)I" } : Jvm.MethodName) ({ cls := "InterestTaken", name := "wipe", desc := "(I)I" } : Jvm.MethodName)) ∈ lw_all := lw_g (lw_at lw_m2 6 rfl) rfl
theorem q326 : (Jvm.Cond.code ({ cls := "InterestTaken", name := "wipe", desc := "(I)I" } : Jvm.MethodName) prog_1_method_11_code (2 : Nat) (Option.some Jvm.ClassFile.FieldType.int)) ∈ lw_all := lw_g (lw_at lw_m2 7 rfl) rfl
theorem q327 : (Jvm.Cond.methodLink "InterestTaken" (125 : Nat) ({ cls := "InterestTaken$Text", name := "wipe", desc := "()I" } : Jvm.MethodName)) ∈ lw_all := lw_g (lw_at lw_m2 8 rfl) rfl
theorem q334 : (Jvm.Cond.instanceMethod ({ cls := "InterestTaken", name := "undo", desc := "(I)I" } : Jvm.MethodName)) ∈ lw_all := lw_g (lw_at lw_m2 15 rfl) rfl
theorem q335 : (Jvm.Cond.selects "InterestTaken" ({ cls := "InterestTaken", name := "undo", desc := "(I)I" } : Jvm.MethodName) ({ cls := "InterestTaken", name := "undo", desc := "(I)I" } : Jvm.MethodName)) ∈ lw_all := lw_g (lw_at lw_m2 16 rfl) rfl
theorem q336 : (Jvm.Cond.code ({ cls := "InterestTaken", name := "undo", desc := "(I)I" } : Jvm.MethodName) prog_1_method_12_code (2 : Nat) (Option.some Jvm.ClassFile.FieldType.int)) ∈ lw_all := lw_g (lw_at lw_m2 17 rfl) rfl
theorem q337 : (Jvm.Cond.methodLink "InterestTaken" (129 : Nat) ({ cls := "InterestTaken$Text", name := "undo", desc := "()I" } : Jvm.MethodName)) ∈ lw_all := lw_g (lw_at lw_m2 18 rfl) rfl
theorem q344 : (Jvm.Cond.instanceMethod ({ cls := "InterestTaken", name := "fault", desc := "(I)I" } : Jvm.MethodName)) ∈ lw_all := lw_g (lw_at lw_m2 25 rfl) rfl
theorem q345 : (Jvm.Cond.selects "InterestTaken" ({ cls := "InterestTaken", name := "fault", desc := "(I)I" } : Jvm.MethodName) ({ cls := "InterestTaken", name := "fault", desc := "(I)I" } : Jvm.MethodName)) ∈ lw_all := lw_g (lw_at lw_m2 26 rfl) rfl
theorem q346 : (Jvm.Cond.code ({ cls := "InterestTaken", name := "fault", desc := "(I)I" } : Jvm.MethodName) prog_1_method_13_code (2 : Nat) (Option.some Jvm.ClassFile.FieldType.int)) ∈ lw_all := lw_g (lw_at lw_m2 27 rfl) rfl
theorem q347 : (Jvm.Cond.methodLink "InterestTaken" (132 : Nat) ({ cls := "InterestTaken$Text", name := "read", desc := "()I" } : Jvm.MethodName)) ∈ lw_all := lw_g (lw_at lw_m2 28 rfl) rfl
theorem q564 : (Jvm.Cond.laysStatic "InterestTaken" "WAYS" "[LInterestTaken$Way;") ∈ lw_tbl := lw_at lw_m3 5 rfl
theorem q580 : (Jvm.Cond.fieldLinkNest "InterestTaken" (227 : Nat) "InterestTaken$Saver" "sum" "I" "InterestTaken") ∈ lw_tbl := lw_at lw_m3 21 rfl
theorem q582 : (Jvm.Cond.fieldLinkNest "InterestTaken" (218 : Nat) "InterestTaken$Saver" "way" "LInterestTaken$Way;" "InterestTaken") ∈ lw_tbl := lw_at lw_m3 23 rfl
theorem q584 : (Jvm.Cond.fieldLinkNest "InterestTaken" (238 : Nat) "InterestTaken$Saver" "topic" "I" "InterestTaken") ∈ lw_tbl := lw_at lw_m3 25 rfl
theorem q622 : (Jvm.Cond.selects "InterestTaken" ({ cls := "java/lang/Object", name := "getClass", desc := "()Ljava/lang/Class;" } : Jvm.MethodName) ({ cls := "java/lang/Object", name := "getClass", desc := "()Ljava/lang/Class;" } : Jvm.MethodName)) ∈ lw_all := lw_g (lw_at lw_m3 63 rfl) rfl
theorem q653 : (Jvm.Cond.instanceMethod ({ cls := "InterestTaken", name := "saver", desc := "(II)I" } : Jvm.MethodName)) ∈ lw_all := lw_g (lw_at lw_m3 94 rfl) rfl
theorem q654 : (Jvm.Cond.selects "InterestTaken" ({ cls := "InterestTaken", name := "saver", desc := "(II)I" } : Jvm.MethodName) ({ cls := "InterestTaken", name := "saver", desc := "(II)I" } : Jvm.MethodName)) ∈ lw_all := lw_g (lw_at lw_m3 95 rfl) rfl
theorem q655 : (Jvm.Cond.code ({ cls := "InterestTaken", name := "saver", desc := "(II)I" } : Jvm.MethodName) prog_1_method_16_code (3 : Nat) (Option.some Jvm.ClassFile.FieldType.int)) ∈ lw_all := lw_g (lw_at lw_m3 96 rfl) rfl
theorem q656 : (Jvm.Cond.methodLink "InterestTaken" (139 : Nat) ({ cls := "InterestTaken", name := "isSaver", desc := "(I)Z" } : Jvm.MethodName)) ∈ lw_all := lw_g (lw_at lw_m3 97 rfl) rfl
theorem q657 : (Jvm.Cond.privateMethod ({ cls := "InterestTaken", name := "isSaver", desc := "(I)Z" } : Jvm.MethodName)) ∈ lw_tbl := lw_at lw_m3 98 rfl
theorem q658 : (Jvm.Cond.instanceMethod ({ cls := "InterestTaken", name := "isSaver", desc := "(I)Z" } : Jvm.MethodName)) ∈ lw_all := lw_g (lw_at lw_m3 99 rfl) rfl
theorem q659 : (Jvm.Cond.code ({ cls := "InterestTaken", name := "isSaver", desc := "(I)Z" } : Jvm.MethodName) prog_1_method_14_code (2 : Nat) (Option.some Jvm.ClassFile.FieldType.boolean)) ∈ lw_all := lw_g (lw_at lw_m3 100 rfl) rfl
theorem q660 : (Jvm.Cond.methodLink "InterestTaken" (135 : Nat) ({ cls := "InterestTaken$Savers", name := "many", desc := "()I" } : Jvm.MethodName)) ∈ lw_all := lw_g (lw_at lw_m3 101 rfl) rfl
theorem q667 : (Jvm.Cond.constantLong "InterestTaken" (142 : Nat) (2 : Int64)) ∈ lw_all := lw_g (lw_at lw_m3 108 rfl) rfl
theorem q668 : (Jvm.Cond.methodLink "InterestTaken" (147 : Nat) ({ cls := "java/util/ArrayList", name := "get", desc := "(I)Ljava/lang/Object;" } : Jvm.MethodName)) ∈ lw_all := lw_g (lw_at lw_m3 109 rfl) rfl
theorem q682 : (Jvm.Cond.classLink "InterestTaken" (151 : Nat) "InterestTaken$Saver") ∈ lw_all := lw_g (lw_at lw_m3 123 rfl) rfl
theorem q683 : (Jvm.Cond.methodLink "InterestTaken" (153 : Nat) ({ cls := "InterestTaken$Saver", name := "by", desc := "(I)I" } : Jvm.MethodName)) ∈ lw_all := lw_g (lw_at lw_m3 124 rfl) rfl
theorem q698 : (Jvm.Cond.instanceMethod ({ cls := "InterestTaken", name := "partner", desc := "(II)I" } : Jvm.MethodName)) ∈ lw_all := lw_g (lw_at lw_m3 139 rfl) rfl
theorem q699 : (Jvm.Cond.selects "InterestTaken" ({ cls := "InterestTaken", name := "partner", desc := "(II)I" } : Jvm.MethodName) ({ cls := "InterestTaken", name := "partner", desc := "(II)I" } : Jvm.MethodName)) ∈ lw_all := lw_g (lw_at lw_m3 140 rfl) rfl
theorem q700 : (Jvm.Cond.code ({ cls := "InterestTaken", name := "partner", desc := "(II)I" } : Jvm.MethodName) prog_1_method_17_code (3 : Nat) (Option.some Jvm.ClassFile.FieldType.int)) ∈ lw_all := lw_g (lw_at lw_m3 141 rfl) rfl
theorem q701 : (Jvm.Cond.methodLink "InterestTaken" (156 : Nat) ({ cls := "InterestTaken", name := "isPartner", desc := "(I)Z" } : Jvm.MethodName)) ∈ lw_all := lw_g (lw_at lw_m3 142 rfl) rfl
theorem q702 : (Jvm.Cond.privateMethod ({ cls := "InterestTaken", name := "isPartner", desc := "(I)Z" } : Jvm.MethodName)) ∈ lw_tbl := lw_at lw_m3 143 rfl
theorem q703 : (Jvm.Cond.instanceMethod ({ cls := "InterestTaken", name := "isPartner", desc := "(I)Z" } : Jvm.MethodName)) ∈ lw_all := lw_g (lw_at lw_m3 144 rfl) rfl
theorem q704 : (Jvm.Cond.code ({ cls := "InterestTaken", name := "isPartner", desc := "(I)Z" } : Jvm.MethodName) prog_1_method_15_code (2 : Nat) (Option.some Jvm.ClassFile.FieldType.boolean)) ∈ lw_all := lw_g (lw_at lw_m3 145 rfl) rfl
theorem q705 : (Jvm.Cond.methodLink "InterestTaken" (138 : Nat) ({ cls := "InterestTaken$Board", name := "many", desc := "()I" } : Jvm.MethodName)) ∈ lw_all := lw_g (lw_at lw_m3 146 rfl) rfl
theorem q708 : (Jvm.Cond.methodLink "InterestTaken" (160 : Nat) ({ cls := "InterestTaken$Partner", name := "by", desc := "(I)I" } : Jvm.MethodName)) ∈ lw_all := lw_g (lw_at lw_m3 149 rfl) rfl
theorem q713 : (Jvm.Cond.instanceMethod ({ cls := "InterestTaken", name := "set", desc := "(II)I" } : Jvm.MethodName)) ∈ lw_all := lw_g (lw_at lw_m3 154 rfl) rfl
theorem q714 : (Jvm.Cond.selects "InterestTaken" ({ cls := "InterestTaken", name := "set", desc := "(II)I" } : Jvm.MethodName) ({ cls := "InterestTaken", name := "set", desc := "(II)I" } : Jvm.MethodName)) ∈ lw_all := lw_g (lw_at lw_m3 155 rfl) rfl
theorem q715 : (Jvm.Cond.code ({ cls := "InterestTaken", name := "set", desc := "(II)I" } : Jvm.MethodName) prog_1_method_18_code (4 : Nat) (Option.some Jvm.ClassFile.FieldType.int)) ∈ lw_all := lw_g (lw_at lw_m3 156 rfl) rfl
theorem q716 : (Jvm.Cond.constantLong "InterestTaken" (161 : Nat) (9 : Int64)) ∈ lw_all := lw_g (lw_at lw_m3 157 rfl) rfl
theorem q717 : (Jvm.Cond.constantLong "InterestTaken" (163 : Nat) (999 : Int64)) ∈ lw_all := lw_g (lw_at lw_m3 158 rfl) rfl
theorem q719 : (Jvm.Cond.instanceMethod ({ cls := "InterestTaken", name := "call", desc := "(II)I" } : Jvm.MethodName)) ∈ lw_all := lw_g (lw_at lw_m3 160 rfl) rfl
theorem q720 : (Jvm.Cond.selects "InterestTaken" ({ cls := "InterestTaken", name := "call", desc := "(II)I" } : Jvm.MethodName) ({ cls := "InterestTaken", name := "call", desc := "(II)I" } : Jvm.MethodName)) ∈ lw_all := lw_g (lw_at lw_m3 161 rfl) rfl
theorem q721 : (Jvm.Cond.code ({ cls := "InterestTaken", name := "call", desc := "(II)I" } : Jvm.MethodName) prog_1_method_19_code (3 : Nat) (Option.some Jvm.ClassFile.FieldType.int)) ∈ lw_all := lw_g (lw_at lw_m3 162 rfl) rfl
theorem q722 : (Jvm.Cond.methodLink "InterestTaken" (165 : Nat) ({ cls := "InterestTaken", name := "isDay", desc := "(I)Z" } : Jvm.MethodName)) ∈ lw_all := lw_g (lw_at lw_m3 163 rfl) rfl
theorem q723 : (Jvm.Cond.static ({ cls := "InterestTaken", name := "isDay", desc := "(I)Z" } : Jvm.MethodName)) ∈ lw_all := lw_g (lw_at lw_m3 164 rfl) rfl
theorem q724 : (Jvm.Cond.code ({ cls := "InterestTaken", name := "isDay", desc := "(I)Z" } : Jvm.MethodName) prog_1_method_8_code (1 : Nat) (Option.some Jvm.ClassFile.FieldType.boolean)) ∈ lw_all := lw_g (lw_at lw_m3 165 rfl) rfl
theorem q725 : (Jvm.Cond.constantLong "InterestTaken" (107 : Nat) (19 : Int64)) ∈ lw_all := lw_g (lw_at lw_m3 166 rfl) rfl
theorem q726 : (Jvm.Cond.constantLong "InterestTaken" (168 : Nat) (7 : Int64)) ∈ lw_all := lw_g (lw_at lw_m3 167 rfl) rfl
theorem q727 : (Jvm.Cond.methodLink "InterestTaken" (170 : Nat) ({ cls := "java/util/ArrayList", name := "size", desc := "()I" } : Jvm.MethodName)) ∈ lw_all := lw_g (lw_at lw_m3 168 rfl) rfl
theorem q728 : (Jvm.Cond.methodLink "InterestTaken" (173 : Nat) ({ cls := "java/util/ArrayList", name := "add", desc := "(Ljava/lang/Object;)Z" } : Jvm.MethodName)) ∈ lw_all := lw_g (lw_at lw_m3 169 rfl) rfl
theorem q730 : (Jvm.Cond.instanceMethod ({ cls := "InterestTaken", name := "war", desc := "(I)I" } : Jvm.MethodName)) ∈ lw_all := lw_g (lw_at lw_m3 171 rfl) rfl
theorem q731 : (Jvm.Cond.selects "InterestTaken" ({ cls := "InterestTaken", name := "war", desc := "(I)I" } : Jvm.MethodName) ({ cls := "InterestTaken", name := "war", desc := "(I)I" } : Jvm.MethodName)) ∈ lw_all := lw_g (lw_at lw_m3 172 rfl) rfl
theorem q732 : (Jvm.Cond.code ({ cls := "InterestTaken", name := "war", desc := "(I)I" } : Jvm.MethodName) prog_1_method_20_code (2 : Nat) (Option.some Jvm.ClassFile.FieldType.int)) ∈ lw_all := lw_g (lw_at lw_m3 173 rfl) rfl
theorem q734 : (Jvm.Cond.instanceMethod ({ cls := "InterestTaken", name := "back", desc := "(I)I" } : Jvm.MethodName)) ∈ lw_all := lw_g (lw_at lw_m3 175 rfl) rfl
theorem q735 : (Jvm.Cond.selects "InterestTaken" ({ cls := "InterestTaken", name := "back", desc := "(I)I" } : Jvm.MethodName) ({ cls := "InterestTaken", name := "back", desc := "(I)I" } : Jvm.MethodName)) ∈ lw_all := lw_g (lw_at lw_m3 176 rfl) rfl
theorem q736 : (Jvm.Cond.code ({ cls := "InterestTaken", name := "back", desc := "(I)I" } : Jvm.MethodName) prog_1_method_21_code (3 : Nat) (Option.some Jvm.ClassFile.FieldType.int)) ∈ lw_all := lw_g (lw_at lw_m3 177 rfl) rfl
theorem q737 : (Jvm.Cond.methodLink "InterestTaken" (177 : Nat) ({ cls := "java/util/ArrayList", name := "isEmpty", desc := "()Z" } : Jvm.MethodName)) ∈ lw_all := lw_g (lw_at lw_m3 178 rfl) rfl
theorem q741 : (Jvm.Cond.methodLink "InterestTaken" (181 : Nat) ({ cls := "java/util/ArrayList", name := "remove", desc := "(I)Ljava/lang/Object;" } : Jvm.MethodName)) ∈ lw_all := lw_g (lw_at lw_m3 182 rfl) rfl
theorem q751 : (Jvm.Cond.instanceMethod ({ cls := "InterestTaken", name := "read", desc := "(I)I" } : Jvm.MethodName)) ∈ lw_all := lw_g (lw_at lw_m3 192 rfl) rfl
theorem q752 : (Jvm.Cond.selects "InterestTaken" ({ cls := "InterestTaken", name := "read", desc := "(I)I" } : Jvm.MethodName) ({ cls := "InterestTaken", name := "read", desc := "(I)I" } : Jvm.MethodName)) ∈ lw_all := lw_g (lw_at lw_m3 193 rfl) rfl
theorem q753 : (Jvm.Cond.code ({ cls := "InterestTaken", name := "read", desc := "(I)I" } : Jvm.MethodName) prog_1_method_22_code (4 : Nat) (Option.some Jvm.ClassFile.FieldType.int)) ∈ lw_all := lw_g (lw_at lw_m3 194 rfl) rfl
theorem q754 : (Jvm.Cond.methodLink "InterestTaken" (184 : Nat) ({ cls := "InterestTaken", name := "isSheet", desc := "(I)Z" } : Jvm.MethodName)) ∈ lw_all := lw_g (lw_at lw_m3 195 rfl) rfl
theorem q755 : (Jvm.Cond.static ({ cls := "InterestTaken", name := "isSheet", desc := "(I)Z" } : Jvm.MethodName)) ∈ lw_all := lw_g (lw_at lw_m3 196 rfl) rfl
theorem q756 : (Jvm.Cond.code ({ cls := "InterestTaken", name := "isSheet", desc := "(I)Z" } : Jvm.MethodName) prog_1_method_68_code (1 : Nat) (Option.some Jvm.ClassFile.FieldType.boolean)) ∈ lw_all := lw_g (lw_at lw_m3 197 rfl) rfl
theorem q757 : (Jvm.Cond.constantLong "InterestTaken" (361 : Nat) (3 : Int64)) ∈ lw_all := lw_g (lw_at lw_m3 198 rfl) rfl
theorem q758 : (Jvm.Cond.methodLink "InterestTaken" (191 : Nat) ({ cls := "InterestTaken", name := "met", desc := "(I)I" } : Jvm.MethodName)) ∈ lw_all := lw_g (lw_at lw_m3 199 rfl) rfl
theorem q759 : (Jvm.Cond.privateMethod ({ cls := "InterestTaken", name := "met", desc := "(I)I" } : Jvm.MethodName)) ∈ lw_tbl := lw_at lw_m3 200 rfl
theorem q760 : (Jvm.Cond.instanceMethod ({ cls := "InterestTaken", name := "met", desc := "(I)I" } : Jvm.MethodName)) ∈ lw_all := lw_g (lw_at lw_m3 201 rfl) rfl
theorem q761 : (Jvm.Cond.code ({ cls := "InterestTaken", name := "met", desc := "(I)I" } : Jvm.MethodName) prog_1_method_4_code (2 : Nat) (Option.some Jvm.ClassFile.FieldType.int)) ∈ lw_all := lw_g (lw_at lw_m3 202 rfl) rfl
theorem q762 : (Jvm.Cond.methodLink "InterestTaken" (194 : Nat) ({ cls := "InterestTaken$Sheet", name := "size", desc := "()I" } : Jvm.MethodName)) ∈ lw_all := lw_g (lw_at lw_m3 203 rfl) rfl
theorem q773 : (Jvm.Cond.methodLink "InterestTaken" (195 : Nat) ({ cls := "InterestTaken$Sheet", name := "type", desc := "()I" } : Jvm.MethodName)) ∈ lw_all := lw_g (lw_at lw_m3 214 rfl) rfl
theorem q774 : (Jvm.Cond.methodLink "InterestTaken" (197 : Nat) ({ cls := "InterestTaken$Sheet", name := "item", desc := "(II)I" } : Jvm.MethodName)) ∈ lw_all := lw_g (lw_at lw_m3 215 rfl) rfl
theorem q778 : (Jvm.Cond.methodLink "InterestTaken" (201 : Nat) ({ cls := "InterestTaken", name := "call", desc := "(II)I" } : Jvm.MethodName)) ∈ lw_all := lw_g (lw_at lw_m3 219 rfl) rfl
theorem q780 : (Jvm.Cond.instanceMethod ({ cls := "InterestTaken", name := "owed", desc := "(II)I" } : Jvm.MethodName)) ∈ lw_all := lw_g (lw_at lw_m3 221 rfl) rfl
theorem q781 : (Jvm.Cond.selects "InterestTaken" ({ cls := "InterestTaken", name := "owed", desc := "(II)I" } : Jvm.MethodName) ({ cls := "InterestTaken", name := "owed", desc := "(II)I" } : Jvm.MethodName)) ∈ lw_all := lw_g (lw_at lw_m3 222 rfl) rfl
theorem q782 : (Jvm.Cond.code ({ cls := "InterestTaken", name := "owed", desc := "(II)I" } : Jvm.MethodName) prog_1_method_30_code (3 : Nat) (Option.some Jvm.ClassFile.FieldType.int)) ∈ lw_all := lw_g (lw_at lw_m3 223 rfl) rfl
theorem q783 : (Jvm.Cond.methodLink "InterestTaken" (276 : Nat) ({ cls := "InterestTaken", name := "find", desc := "()V" } : Jvm.MethodName)) ∈ lw_all := lw_g (lw_at lw_m3 224 rfl) rfl
theorem q784 : (Jvm.Cond.privateMethod ({ cls := "InterestTaken", name := "find", desc := "()V" } : Jvm.MethodName)) ∈ lw_tbl := lw_at lw_m3 225 rfl
theorem q785 : (Jvm.Cond.instanceMethod ({ cls := "InterestTaken", name := "find", desc := "()V" } : Jvm.MethodName)) ∈ lw_all := lw_g (lw_at lw_m3 226 rfl) rfl
theorem q786 : (Jvm.Cond.code ({ cls := "InterestTaken", name := "find", desc := "()V" } : Jvm.MethodName) prog_1_method_29_code (3 : Nat) (Option.none : Option Jvm.ClassFile.FieldType)) ∈ lw_all := lw_g (lw_at lw_m3 227 rfl) rfl
theorem q787 : (Jvm.Cond.methodLink "InterestTaken" (258 : Nat) ({ cls := "InterestTaken", name := "isWar", desc := "(I)Z" } : Jvm.MethodName)) ∈ lw_all := lw_g (lw_at lw_m3 228 rfl) rfl
theorem q788 : (Jvm.Cond.privateMethod ({ cls := "InterestTaken", name := "isWar", desc := "(I)Z" } : Jvm.MethodName)) ∈ lw_tbl := lw_at lw_m3 229 rfl
theorem q789 : (Jvm.Cond.instanceMethod ({ cls := "InterestTaken", name := "isWar", desc := "(I)Z" } : Jvm.MethodName)) ∈ lw_all := lw_g (lw_at lw_m3 230 rfl) rfl
theorem q790 : (Jvm.Cond.code ({ cls := "InterestTaken", name := "isWar", desc := "(I)Z" } : Jvm.MethodName) prog_1_method_23_code (4 : Nat) (Option.some Jvm.ClassFile.FieldType.boolean)) ∈ lw_all := lw_g (lw_at lw_m3 231 rfl) rfl
theorem q791 : (Jvm.Cond.classLink "InterestTaken" (204 : Nat) "[I") ∈ lw_all := lw_g (lw_at lw_m3 232 rfl) rfl
theorem q792 : (Jvm.Cond.methodLink "InterestTaken" (208 : Nat) ({ cls := "InterestTaken", name := "isIn", desc := "(II)Z" } : Jvm.MethodName)) ∈ lw_all := lw_g (lw_at lw_m3 233 rfl) rfl
theorem q793 : (Jvm.Cond.static ({ cls := "InterestTaken", name := "isIn", desc := "(II)Z" } : Jvm.MethodName)) ∈ lw_all := lw_g (lw_at lw_m3 234 rfl) rfl
theorem q794 : (Jvm.Cond.code ({ cls := "InterestTaken", name := "isIn", desc := "(II)Z" } : Jvm.MethodName) prog_1_method_7_code (2 : Nat) (Option.some Jvm.ClassFile.FieldType.boolean)) ∈ lw_all := lw_g (lw_at lw_m3 235 rfl) rfl
theorem q795 : (Jvm.Cond.methodLink "InterestTaken" (261 : Nat) ({ cls := "InterestTaken", name := "mounts", desc := "(II)V" } : Jvm.MethodName)) ∈ lw_all := lw_g (lw_at lw_m3 236 rfl) rfl
theorem q796 : (Jvm.Cond.privateMethod ({ cls := "InterestTaken", name := "mounts", desc := "(II)V" } : Jvm.MethodName)) ∈ lw_tbl := lw_at lw_m3 237 rfl
theorem q797 : (Jvm.Cond.instanceMethod ({ cls := "InterestTaken", name := "mounts", desc := "(II)V" } : Jvm.MethodName)) ∈ lw_all := lw_g (lw_at lw_m3 238 rfl) rfl
theorem q798 : (Jvm.Cond.code ({ cls := "InterestTaken", name := "mounts", desc := "(II)V" } : Jvm.MethodName) prog_1_method_25_code (4 : Nat) (Option.none : Option Jvm.ClassFile.FieldType)) ∈ lw_all := lw_g (lw_at lw_m3 239 rfl) rfl
theorem q799 : (Jvm.Cond.methodLink "InterestTaken" (222 : Nat) ({ cls := "InterestTaken$Way", name := "mounts", desc := "(I)I" } : Jvm.MethodName)) ∈ lw_all := lw_g (lw_at lw_m4 0 rfl) rfl
theorem q808 : (Jvm.Cond.methodLink "InterestTaken" (263 : Nat) ({ cls := "InterestTaken", name := "isCalled", desc := "(II)Z" } : Jvm.MethodName)) ∈ lw_all := lw_g (lw_at lw_m4 9 rfl) rfl
theorem q809 : (Jvm.Cond.privateMethod ({ cls := "InterestTaken", name := "isCalled", desc := "(II)Z" } : Jvm.MethodName)) ∈ lw_tbl := lw_at lw_m4 10 rfl
theorem q810 : (Jvm.Cond.instanceMethod ({ cls := "InterestTaken", name := "isCalled", desc := "(II)Z" } : Jvm.MethodName)) ∈ lw_all := lw_g (lw_at lw_m4 11 rfl) rfl
theorem q811 : (Jvm.Cond.code ({ cls := "InterestTaken", name := "isCalled", desc := "(II)Z" } : Jvm.MethodName) prog_1_method_24_code (5 : Nat) (Option.some Jvm.ClassFile.FieldType.boolean)) ∈ lw_all := lw_g (lw_at lw_m4 12 rfl) rfl
theorem q812 : (Jvm.Cond.methodLink "InterestTaken" (266 : Nat) ({ cls := "InterestTaken$Way", name := "comes", desc := "(Z)Z" } : Jvm.MethodName)) ∈ lw_all := lw_g (lw_at lw_m4 13 rfl) rfl
theorem q820 : (Jvm.Cond.methodLink "InterestTaken" (270 : Nat) ({ cls := "InterestTaken", name := "hearsAll", desc := "(II)V" } : Jvm.MethodName)) ∈ lw_all := lw_g (lw_at lw_m4 21 rfl) rfl
theorem q821 : (Jvm.Cond.privateMethod ({ cls := "InterestTaken", name := "hearsAll", desc := "(II)V" } : Jvm.MethodName)) ∈ lw_tbl := lw_at lw_m4 22 rfl
theorem q822 : (Jvm.Cond.instanceMethod ({ cls := "InterestTaken", name := "hearsAll", desc := "(II)V" } : Jvm.MethodName)) ∈ lw_all := lw_g (lw_at lw_m4 23 rfl) rfl
theorem q823 : (Jvm.Cond.code ({ cls := "InterestTaken", name := "hearsAll", desc := "(II)V" } : Jvm.MethodName) prog_1_method_27_code (6 : Nat) (Option.none : Option Jvm.ClassFile.FieldType)) ∈ lw_all := lw_g (lw_at lw_m4 24 rfl) rfl
theorem q824 : (Jvm.Cond.fieldLink "InterestTaken" (242 : Nat) "InterestTaken" "CARES" "LInterestTaken$Ear;") ∈ lw_all := lw_g (lw_at lw_m4 25 rfl) rfl
theorem q825 : (Jvm.Cond.laysStatic "InterestTaken" "CARES" "LInterestTaken$Ear;") ∈ lw_tbl := lw_at lw_m4 26 rfl
theorem q826 : (Jvm.Cond.methodLink "InterestTaken" (246 : Nat) ({ cls := "InterestTaken", name := "hears", desc := "(IIILInterestTaken$Ear;)I" } : Jvm.MethodName)) ∈ lw_all := lw_g (lw_at lw_m4 27 rfl) rfl
theorem q827 : (Jvm.Cond.privateMethod ({ cls := "InterestTaken", name := "hears", desc := "(IIILInterestTaken$Ear;)I" } : Jvm.MethodName)) ∈ lw_tbl := lw_at lw_m4 28 rfl
theorem q828 : (Jvm.Cond.instanceMethod ({ cls := "InterestTaken", name := "hears", desc := "(IIILInterestTaken$Ear;)I" } : Jvm.MethodName)) ∈ lw_all := lw_g (lw_at lw_m4 29 rfl) rfl
theorem q829 : (Jvm.Cond.code ({ cls := "InterestTaken", name := "hears", desc := "(IIILInterestTaken$Ear;)I" } : Jvm.MethodName) prog_1_method_26_code (6 : Nat) (Option.some Jvm.ClassFile.FieldType.int)) ∈ lw_all := lw_g (lw_at lw_m4 30 rfl) rfl
theorem q830 : (Jvm.Cond.methodLink "InterestTaken" (230 : Nat) ({ cls := "InterestTaken$Ear", name := "hears", desc := "(II)I" } : Jvm.MethodName)) ∈ lw_all := lw_g (lw_at lw_m4 31 rfl) rfl
theorem q841 : (Jvm.Cond.methodLink "InterestTaken" (235 : Nat) ({ cls := "InterestTaken$Ear", name := "takes", desc := "(I)I" } : Jvm.MethodName)) ∈ lw_all := lw_g (lw_at lw_m4 42 rfl) rfl
theorem q850 : (Jvm.Cond.fieldLink "InterestTaken" (249 : Nat) "InterestTaken" "YAWNS" "LInterestTaken$Ear;") ∈ lw_all := lw_g (lw_at lw_m4 51 rfl) rfl
theorem q851 : (Jvm.Cond.laysStatic "InterestTaken" "YAWNS" "LInterestTaken$Ear;") ∈ lw_tbl := lw_at lw_m4 52 rfl
theorem q852 : (Jvm.Cond.methodLink "InterestTaken" (273 : Nat) ({ cls := "InterestTaken", name := "allOwed", desc := "(I)I" } : Jvm.MethodName)) ∈ lw_all := lw_g (lw_at lw_m4 53 rfl) rfl
theorem q853 : (Jvm.Cond.privateMethod ({ cls := "InterestTaken", name := "allOwed", desc := "(I)I" } : Jvm.MethodName)) ∈ lw_tbl := lw_at lw_m4 54 rfl
theorem q854 : (Jvm.Cond.instanceMethod ({ cls := "InterestTaken", name := "allOwed", desc := "(I)I" } : Jvm.MethodName)) ∈ lw_all := lw_g (lw_at lw_m4 55 rfl) rfl
theorem q855 : (Jvm.Cond.code ({ cls := "InterestTaken", name := "allOwed", desc := "(I)I" } : Jvm.MethodName) prog_1_method_28_code (4 : Nat) (Option.some Jvm.ClassFile.FieldType.int)) ∈ lw_all := lw_g (lw_at lw_m4 56 rfl) rfl
theorem q857 : (Jvm.Cond.instanceMethod ({ cls := "InterestTaken", name := "heard", desc := "(III)I" } : Jvm.MethodName)) ∈ lw_all := lw_g (lw_at lw_m4 58 rfl) rfl
theorem q858 : (Jvm.Cond.selects "InterestTaken" ({ cls := "InterestTaken", name := "heard", desc := "(III)I" } : Jvm.MethodName) ({ cls := "InterestTaken", name := "heard", desc := "(III)I" } : Jvm.MethodName)) ∈ lw_all := lw_g (lw_at lw_m4 59 rfl) rfl
theorem q859 : (Jvm.Cond.code ({ cls := "InterestTaken", name := "heard", desc := "(III)I" } : Jvm.MethodName) prog_1_method_32_code (4 : Nat) (Option.some Jvm.ClassFile.FieldType.int)) ∈ lw_all := lw_g (lw_at lw_m4 60 rfl) rfl
theorem q860 : (Jvm.Cond.methodLink "InterestTaken" (279 : Nat) ({ cls := "InterestTaken", name := "heardBy", desc := "(III)I" } : Jvm.MethodName)) ∈ lw_all := lw_g (lw_at lw_m4 61 rfl) rfl
theorem q861 : (Jvm.Cond.privateMethod ({ cls := "InterestTaken", name := "heardBy", desc := "(III)I" } : Jvm.MethodName)) ∈ lw_tbl := lw_at lw_m4 62 rfl
theorem q862 : (Jvm.Cond.instanceMethod ({ cls := "InterestTaken", name := "heardBy", desc := "(III)I" } : Jvm.MethodName)) ∈ lw_all := lw_g (lw_at lw_m4 63 rfl) rfl
theorem q863 : (Jvm.Cond.code ({ cls := "InterestTaken", name := "heardBy", desc := "(III)I" } : Jvm.MethodName) prog_1_method_31_code (4 : Nat) (Option.some Jvm.ClassFile.FieldType.int)) ∈ lw_all := lw_g (lw_at lw_m4 64 rfl) rfl
theorem q865 : (Jvm.Cond.instanceMethod ({ cls := "InterestTaken", name := "left", desc := "(II)I" } : Jvm.MethodName)) ∈ lw_all := lw_g (lw_at lw_m4 66 rfl) rfl
theorem q866 : (Jvm.Cond.selects "InterestTaken" ({ cls := "InterestTaken", name := "left", desc := "(II)I" } : Jvm.MethodName) ({ cls := "InterestTaken", name := "left", desc := "(II)I" } : Jvm.MethodName)) ∈ lw_all := lw_g (lw_at lw_m4 67 rfl) rfl
theorem q867 : (Jvm.Cond.code ({ cls := "InterestTaken", name := "left", desc := "(II)I" } : Jvm.MethodName) prog_1_method_33_code (3 : Nat) (Option.some Jvm.ClassFile.FieldType.int)) ∈ lw_all := lw_g (lw_at lw_m4 68 rfl) rfl
theorem q869 : (Jvm.Cond.instanceMethod ({ cls := "InterestTaken", name := "run", desc := "()I" } : Jvm.MethodName)) ∈ lw_all := lw_g (lw_at lw_m4 70 rfl) rfl
theorem q870 : (Jvm.Cond.selects "InterestTaken" ({ cls := "InterestTaken", name := "run", desc := "()I" } : Jvm.MethodName) ({ cls := "InterestTaken", name := "run", desc := "()I" } : Jvm.MethodName)) ∈ lw_all := lw_g (lw_at lw_m4 71 rfl) rfl
theorem q871 : (Jvm.Cond.code ({ cls := "InterestTaken", name := "run", desc := "()I" } : Jvm.MethodName) prog_1_method_34_code (1 : Nat) (Option.some Jvm.ClassFile.FieldType.int)) ∈ lw_all := lw_g (lw_at lw_m4 72 rfl) rfl
theorem q873 : (Jvm.Cond.instanceMethod ({ cls := "InterestTaken", name := "yawn", desc := "(I)I" } : Jvm.MethodName)) ∈ lw_all := lw_g (lw_at lw_m4 74 rfl) rfl
theorem q874 : (Jvm.Cond.selects "InterestTaken" ({ cls := "InterestTaken", name := "yawn", desc := "(I)I" } : Jvm.MethodName) ({ cls := "InterestTaken", name := "yawn", desc := "(I)I" } : Jvm.MethodName)) ∈ lw_all := lw_g (lw_at lw_m4 75 rfl) rfl
theorem q875 : (Jvm.Cond.code ({ cls := "InterestTaken", name := "yawn", desc := "(I)I" } : Jvm.MethodName) prog_1_method_35_code (2 : Nat) (Option.some Jvm.ClassFile.FieldType.int)) ∈ lw_all := lw_g (lw_at lw_m4 76 rfl) rfl
theorem q877 : (Jvm.Cond.instanceMethod ({ cls := "InterestTaken", name := "most", desc := "()I" } : Jvm.MethodName)) ∈ lw_all := lw_g (lw_at lw_m4 78 rfl) rfl
theorem q878 : (Jvm.Cond.selects "InterestTaken" ({ cls := "InterestTaken", name := "most", desc := "()I" } : Jvm.MethodName) ({ cls := "InterestTaken", name := "most", desc := "()I" } : Jvm.MethodName)) ∈ lw_all := lw_g (lw_at lw_m4 79 rfl) rfl
theorem q879 : (Jvm.Cond.code ({ cls := "InterestTaken", name := "most", desc := "()I" } : Jvm.MethodName) prog_1_method_38_code (1 : Nat) (Option.some Jvm.ClassFile.FieldType.int)) ∈ lw_all := lw_g (lw_at lw_m4 80 rfl) rfl
theorem q880 : (Jvm.Cond.methodLink "InterestTaken" (286 : Nat) ({ cls := "InterestTaken", name := "mostNow", desc := "()I" } : Jvm.MethodName)) ∈ lw_all := lw_g (lw_at lw_m4 81 rfl) rfl
theorem q881 : (Jvm.Cond.privateMethod ({ cls := "InterestTaken", name := "mostNow", desc := "()I" } : Jvm.MethodName)) ∈ lw_tbl := lw_at lw_m4 82 rfl
theorem q882 : (Jvm.Cond.instanceMethod ({ cls := "InterestTaken", name := "mostNow", desc := "()I" } : Jvm.MethodName)) ∈ lw_all := lw_g (lw_at lw_m4 83 rfl) rfl
theorem q883 : (Jvm.Cond.code ({ cls := "InterestTaken", name := "mostNow", desc := "()I" } : Jvm.MethodName) prog_1_method_37_code (3 : Nat) (Option.some Jvm.ClassFile.FieldType.int)) ∈ lw_all := lw_g (lw_at lw_m4 84 rfl) rfl
theorem q884 : (Jvm.Cond.methodLink "InterestTaken" (283 : Nat) ({ cls := "InterestTaken", name := "heardInAll", desc := "(I)I" } : Jvm.MethodName)) ∈ lw_all := lw_g (lw_at lw_m4 85 rfl) rfl
theorem q885 : (Jvm.Cond.privateMethod ({ cls := "InterestTaken", name := "heardInAll", desc := "(I)I" } : Jvm.MethodName)) ∈ lw_tbl := lw_at lw_m4 86 rfl
theorem q886 : (Jvm.Cond.instanceMethod ({ cls := "InterestTaken", name := "heardInAll", desc := "(I)I" } : Jvm.MethodName)) ∈ lw_all := lw_g (lw_at lw_m4 87 rfl) rfl
theorem q887 : (Jvm.Cond.code ({ cls := "InterestTaken", name := "heardInAll", desc := "(I)I" } : Jvm.MethodName) prog_1_method_36_code (4 : Nat) (Option.some Jvm.ClassFile.FieldType.int)) ∈ lw_all := lw_g (lw_at lw_m4 88 rfl) rfl
theorem q889 : (Jvm.Cond.instanceMethod ({ cls := "InterestTaken", name := "hold", desc := "()I" } : Jvm.MethodName)) ∈ lw_all := lw_g (lw_at lw_m4 90 rfl) rfl
theorem q890 : (Jvm.Cond.selects "InterestTaken" ({ cls := "InterestTaken", name := "hold", desc := "()I" } : Jvm.MethodName) ({ cls := "InterestTaken", name := "hold", desc := "()I" } : Jvm.MethodName)) ∈ lw_all := lw_g (lw_at lw_m4 91 rfl) rfl
theorem q891 : (Jvm.Cond.code ({ cls := "InterestTaken", name := "hold", desc := "()I" } : Jvm.MethodName) prog_1_method_41_code (1 : Nat) (Option.some Jvm.ClassFile.FieldType.int)) ∈ lw_all := lw_g (lw_at lw_m4 92 rfl) rfl
theorem q892 : (Jvm.Cond.methodLink "InterestTaken" (289 : Nat) ({ cls := "InterestTaken", name := "holdNow", desc := "()I" } : Jvm.MethodName)) ∈ lw_all := lw_g (lw_at lw_m4 93 rfl) rfl
theorem q893 : (Jvm.Cond.privateMethod ({ cls := "InterestTaken", name := "holdNow", desc := "()I" } : Jvm.MethodName)) ∈ lw_tbl := lw_at lw_m4 94 rfl
theorem q894 : (Jvm.Cond.instanceMethod ({ cls := "InterestTaken", name := "holdNow", desc := "()I" } : Jvm.MethodName)) ∈ lw_all := lw_g (lw_at lw_m4 95 rfl) rfl
theorem q895 : (Jvm.Cond.codeWith ({ cls := "InterestTaken", name := "holdNow", desc := "()I" } : Jvm.MethodName) prog_1_method_40_code (4 : Nat) (Option.some Jvm.ClassFile.FieldType.int) [((7 : Nat), (43 : Nat), (76 : Nat), (0 : Nat)), ((52 : Nat), (67 : Nat), (76 : Nat), (0 : Nat))]) ∈ lw_all := lw_g (lw_at lw_m4 96 rfl) rfl
theorem q897 : (Jvm.Cond.instanceMethod ({ cls := "InterestTaken", name := "draw", desc := "(II)I" } : Jvm.MethodName)) ∈ lw_all := lw_g (lw_at lw_m4 98 rfl) rfl
theorem q898 : (Jvm.Cond.selects "InterestTaken" ({ cls := "InterestTaken", name := "draw", desc := "(II)I" } : Jvm.MethodName) ({ cls := "InterestTaken", name := "draw", desc := "(II)I" } : Jvm.MethodName)) ∈ lw_all := lw_g (lw_at lw_m4 99 rfl) rfl
theorem q899 : (Jvm.Cond.code ({ cls := "InterestTaken", name := "draw", desc := "(II)I" } : Jvm.MethodName) prog_1_method_43_code (3 : Nat) (Option.some Jvm.ClassFile.FieldType.int)) ∈ lw_all := lw_g (lw_at lw_m4 100 rfl) rfl
theorem q900 : (Jvm.Cond.methodLink "InterestTaken" (292 : Nat) ({ cls := "InterestTaken", name := "drawOf", desc := "(II)I" } : Jvm.MethodName)) ∈ lw_all := lw_g (lw_at lw_m4 101 rfl) rfl
theorem q901 : (Jvm.Cond.privateMethod ({ cls := "InterestTaken", name := "drawOf", desc := "(II)I" } : Jvm.MethodName)) ∈ lw_tbl := lw_at lw_m4 102 rfl
theorem q902 : (Jvm.Cond.instanceMethod ({ cls := "InterestTaken", name := "drawOf", desc := "(II)I" } : Jvm.MethodName)) ∈ lw_all := lw_g (lw_at lw_m4 103 rfl) rfl
theorem q903 : (Jvm.Cond.codeWith ({ cls := "InterestTaken", name := "drawOf", desc := "(II)I" } : Jvm.MethodName) prog_1_method_42_code (7 : Nat) (Option.some Jvm.ClassFile.FieldType.int) [((5 : Nat), (67 : Nat), (75 : Nat), (0 : Nat)), ((75 : Nat), (77 : Nat), (75 : Nat), (0 : Nat))]) ∈ lw_all := lw_g (lw_at lw_m4 104 rfl) rfl
theorem q905 : (Jvm.Cond.instanceMethod ({ cls := "InterestTaken", name := "hire", desc := "(I)I" } : Jvm.MethodName)) ∈ lw_all := lw_g (lw_at lw_m4 106 rfl) rfl
theorem q906 : (Jvm.Cond.selects "InterestTaken" ({ cls := "InterestTaken", name := "hire", desc := "(I)I" } : Jvm.MethodName) ({ cls := "InterestTaken", name := "hire", desc := "(I)I" } : Jvm.MethodName)) ∈ lw_all := lw_g (lw_at lw_m4 107 rfl) rfl
theorem q907 : (Jvm.Cond.code ({ cls := "InterestTaken", name := "hire", desc := "(I)I" } : Jvm.MethodName) prog_1_method_45_code (2 : Nat) (Option.some Jvm.ClassFile.FieldType.int)) ∈ lw_all := lw_g (lw_at lw_m4 108 rfl) rfl
theorem q908 : (Jvm.Cond.methodLink "InterestTaken" (295 : Nat) ({ cls := "InterestTaken", name := "hireBy", desc := "(I)I" } : Jvm.MethodName)) ∈ lw_all := lw_g (lw_at lw_m4 109 rfl) rfl
theorem q909 : (Jvm.Cond.privateMethod ({ cls := "InterestTaken", name := "hireBy", desc := "(I)I" } : Jvm.MethodName)) ∈ lw_tbl := lw_at lw_m4 110 rfl
theorem q910 : (Jvm.Cond.instanceMethod ({ cls := "InterestTaken", name := "hireBy", desc := "(I)I" } : Jvm.MethodName)) ∈ lw_all := lw_g (lw_at lw_m4 111 rfl) rfl
theorem q911 : (Jvm.Cond.codeWith ({ cls := "InterestTaken", name := "hireBy", desc := "(I)I" } : Jvm.MethodName) prog_1_method_44_code (7 : Nat) (Option.some Jvm.ClassFile.FieldType.int) [((28 : Nat), (100 : Nat), (116 : Nat), (0 : Nat)), ((116 : Nat), (118 : Nat), (116 : Nat), (0 : Nat))]) ∈ lw_all := lw_g (lw_at lw_m4 112 rfl) rfl
theorem q913 : (Jvm.Cond.instanceMethod ({ cls := "InterestTaken", name := "match", desc := "()I" } : Jvm.MethodName)) ∈ lw_all := lw_g (lw_at lw_m4 114 rfl) rfl
theorem q914 : (Jvm.Cond.selects "InterestTaken" ({ cls := "InterestTaken", name := "match", desc := "()I" } : Jvm.MethodName) ({ cls := "InterestTaken", name := "match", desc := "()I" } : Jvm.MethodName)) ∈ lw_all := lw_g (lw_at lw_m4 115 rfl) rfl
theorem q915 : (Jvm.Cond.code ({ cls := "InterestTaken", name := "match", desc := "()I" } : Jvm.MethodName) prog_1_method_48_code (1 : Nat) (Option.some Jvm.ClassFile.FieldType.int)) ∈ lw_all := lw_g (lw_at lw_m4 116 rfl) rfl
theorem q916 : (Jvm.Cond.methodLink "InterestTaken" (302 : Nat) ({ cls := "InterestTaken", name := "matchNow", desc := "()I" } : Jvm.MethodName)) ∈ lw_all := lw_g (lw_at lw_m4 117 rfl) rfl
theorem q917 : (Jvm.Cond.privateMethod ({ cls := "InterestTaken", name := "matchNow", desc := "()I" } : Jvm.MethodName)) ∈ lw_tbl := lw_at lw_m4 118 rfl
theorem q918 : (Jvm.Cond.instanceMethod ({ cls := "InterestTaken", name := "matchNow", desc := "()I" } : Jvm.MethodName)) ∈ lw_all := lw_g (lw_at lw_m4 119 rfl) rfl
theorem q919 : (Jvm.Cond.code ({ cls := "InterestTaken", name := "matchNow", desc := "()I" } : Jvm.MethodName) prog_1_method_47_code (4 : Nat) (Option.some Jvm.ClassFile.FieldType.int)) ∈ lw_all := lw_g (lw_at lw_m4 120 rfl) rfl
theorem q920 : (Jvm.Cond.methodLink "InterestTaken" (298 : Nat) ({ cls := "InterestTaken", name := "finds", desc := "(I[Z)Z" } : Jvm.MethodName)) ∈ lw_all := lw_g (lw_at lw_m4 121 rfl) rfl
theorem q921 : (Jvm.Cond.privateMethod ({ cls := "InterestTaken", name := "finds", desc := "(I[Z)Z" } : Jvm.MethodName)) ∈ lw_tbl := lw_at lw_m4 122 rfl
theorem q922 : (Jvm.Cond.instanceMethod ({ cls := "InterestTaken", name := "finds", desc := "(I[Z)Z" } : Jvm.MethodName)) ∈ lw_all := lw_g (lw_at lw_m4 123 rfl) rfl
theorem q923 : (Jvm.Cond.code ({ cls := "InterestTaken", name := "finds", desc := "(I[Z)Z" } : Jvm.MethodName) prog_1_method_46_code (6 : Nat) (Option.some Jvm.ClassFile.FieldType.boolean)) ∈ lw_all := lw_g (lw_at lw_m4 124 rfl) rfl
theorem q925 : (Jvm.Cond.instanceMethod ({ cls := "InterestTaken", name := "seen", desc := "(III)I" } : Jvm.MethodName)) ∈ lw_all := lw_g (lw_at lw_m4 126 rfl) rfl
theorem q926 : (Jvm.Cond.selects "InterestTaken" ({ cls := "InterestTaken", name := "seen", desc := "(III)I" } : Jvm.MethodName) ({ cls := "InterestTaken", name := "seen", desc := "(III)I" } : Jvm.MethodName)) ∈ lw_all := lw_g (lw_at lw_m4 127 rfl) rfl
theorem q927 : (Jvm.Cond.code ({ cls := "InterestTaken", name := "seen", desc := "(III)I" } : Jvm.MethodName) prog_1_method_49_code (4 : Nat) (Option.some Jvm.ClassFile.FieldType.int)) ∈ lw_all := lw_g (lw_at lw_m4 128 rfl) rfl
theorem q929 : (Jvm.Cond.instanceMethod ({ cls := "InterestTaken", name := "forget", desc := "()I" } : Jvm.MethodName)) ∈ lw_all := lw_g (lw_at lw_m4 130 rfl) rfl
theorem q930 : (Jvm.Cond.selects "InterestTaken" ({ cls := "InterestTaken", name := "forget", desc := "()I" } : Jvm.MethodName) ({ cls := "InterestTaken", name := "forget", desc := "()I" } : Jvm.MethodName)) ∈ lw_all := lw_g (lw_at lw_m4 131 rfl) rfl
theorem q931 : (Jvm.Cond.code ({ cls := "InterestTaken", name := "forget", desc := "()I" } : Jvm.MethodName) prog_1_method_50_code (2 : Nat) (Option.some Jvm.ClassFile.FieldType.int)) ∈ lw_all := lw_g (lw_at lw_m4 132 rfl) rfl
theorem q932 : (Jvm.Cond.methodLink "InterestTaken" (305 : Nat) ({ cls := "java/util/ArrayList", name := "clear", desc := "()V" } : Jvm.MethodName)) ∈ lw_all := lw_g (lw_at lw_m4 133 rfl) rfl
theorem q934 : (Jvm.Cond.instanceMethod ({ cls := "InterestTaken", name := "never", desc := "()I" } : Jvm.MethodName)) ∈ lw_all := lw_g (lw_at lw_m4 135 rfl) rfl
theorem q935 : (Jvm.Cond.selects "InterestTaken" ({ cls := "InterestTaken", name := "never", desc := "()I" } : Jvm.MethodName) ({ cls := "InterestTaken", name := "never", desc := "()I" } : Jvm.MethodName)) ∈ lw_all := lw_g (lw_at lw_m4 136 rfl) rfl
theorem q936 : (Jvm.Cond.code ({ cls := "InterestTaken", name := "never", desc := "()I" } : Jvm.MethodName) prog_1_method_53_code (1 : Nat) (Option.some Jvm.ClassFile.FieldType.int)) ∈ lw_all := lw_g (lw_at lw_m4 137 rfl) rfl
theorem q937 : (Jvm.Cond.methodLink "InterestTaken" (311 : Nat) ({ cls := "InterestTaken", name := "neverNow", desc := "()I" } : Jvm.MethodName)) ∈ lw_all := lw_g (lw_at lw_m4 138 rfl) rfl
theorem q938 : (Jvm.Cond.privateMethod ({ cls := "InterestTaken", name := "neverNow", desc := "()I" } : Jvm.MethodName)) ∈ lw_tbl := lw_at lw_m4 139 rfl
theorem q939 : (Jvm.Cond.instanceMethod ({ cls := "InterestTaken", name := "neverNow", desc := "()I" } : Jvm.MethodName)) ∈ lw_all := lw_g (lw_at lw_m4 140 rfl) rfl
theorem q940 : (Jvm.Cond.codeWith ({ cls := "InterestTaken", name := "neverNow", desc := "()I" } : Jvm.MethodName) prog_1_method_52_code (4 : Nat) (Option.some Jvm.ClassFile.FieldType.int) [((2 : Nat), (45 : Nat), (53 : Nat), (0 : Nat))]) ∈ lw_all := lw_g (lw_at lw_m4 141 rfl) rfl
theorem q941 : (Jvm.Cond.methodLink "InterestTaken" (308 : Nat) ({ cls := "InterestTaken", name := "isSeen", desc := "()Z" } : Jvm.MethodName)) ∈ lw_all := lw_g (lw_at lw_m4 142 rfl) rfl
theorem q942 : (Jvm.Cond.privateMethod ({ cls := "InterestTaken", name := "isSeen", desc := "()Z" } : Jvm.MethodName)) ∈ lw_tbl := lw_at lw_m4 143 rfl
theorem q943 : (Jvm.Cond.instanceMethod ({ cls := "InterestTaken", name := "isSeen", desc := "()Z" } : Jvm.MethodName)) ∈ lw_all := lw_g (lw_at lw_m4 144 rfl) rfl
theorem q944 : (Jvm.Cond.code ({ cls := "InterestTaken", name := "isSeen", desc := "()Z" } : Jvm.MethodName) prog_1_method_51_code (4 : Nat) (Option.some Jvm.ClassFile.FieldType.boolean)) ∈ lw_all := lw_g (lw_at lw_m4 145 rfl) rfl
theorem q946 : (Jvm.Cond.instanceMethod ({ cls := "InterestTaken", name := "sums", desc := "(I)I" } : Jvm.MethodName)) ∈ lw_all := lw_g (lw_at lw_m4 147 rfl) rfl
theorem q947 : (Jvm.Cond.selects "InterestTaken" ({ cls := "InterestTaken", name := "sums", desc := "(I)I" } : Jvm.MethodName) ({ cls := "InterestTaken", name := "sums", desc := "(I)I" } : Jvm.MethodName)) ∈ lw_all := lw_g (lw_at lw_m4 148 rfl) rfl
theorem q948 : (Jvm.Cond.code ({ cls := "InterestTaken", name := "sums", desc := "(I)I" } : Jvm.MethodName) prog_1_method_55_code (2 : Nat) (Option.some Jvm.ClassFile.FieldType.int)) ∈ lw_all := lw_g (lw_at lw_m4 149 rfl) rfl
theorem q949 : (Jvm.Cond.methodLink "InterestTaken" (314 : Nat) ({ cls := "InterestTaken", name := "sumsOf", desc := "(I)I" } : Jvm.MethodName)) ∈ lw_all := lw_g (lw_at lw_m4 150 rfl) rfl
theorem q950 : (Jvm.Cond.privateMethod ({ cls := "InterestTaken", name := "sumsOf", desc := "(I)I" } : Jvm.MethodName)) ∈ lw_tbl := lw_at lw_m4 151 rfl
theorem q951 : (Jvm.Cond.instanceMethod ({ cls := "InterestTaken", name := "sumsOf", desc := "(I)I" } : Jvm.MethodName)) ∈ lw_all := lw_g (lw_at lw_m4 152 rfl) rfl
theorem q952 : (Jvm.Cond.codeWith ({ cls := "InterestTaken", name := "sumsOf", desc := "(I)I" } : Jvm.MethodName) prog_1_method_54_code (7 : Nat) (Option.some Jvm.ClassFile.FieldType.int) [((23 : Nat), (109 : Nat), (117 : Nat), (0 : Nat)), ((117 : Nat), (119 : Nat), (117 : Nat), (0 : Nat))]) ∈ lw_all := lw_g (lw_at lw_m4 153 rfl) rfl
theorem q954 : (Jvm.Cond.instanceMethod ({ cls := "InterestTaken", name := "rates", desc := "()I" } : Jvm.MethodName)) ∈ lw_all := lw_g (lw_at lw_m4 155 rfl) rfl
theorem q955 : (Jvm.Cond.selects "InterestTaken" ({ cls := "InterestTaken", name := "rates", desc := "()I" } : Jvm.MethodName) ({ cls := "InterestTaken", name := "rates", desc := "()I" } : Jvm.MethodName)) ∈ lw_all := lw_g (lw_at lw_m4 156 rfl) rfl
theorem q956 : (Jvm.Cond.code ({ cls := "InterestTaken", name := "rates", desc := "()I" } : Jvm.MethodName) prog_1_method_57_code (1 : Nat) (Option.some Jvm.ClassFile.FieldType.int)) ∈ lw_all := lw_g (lw_at lw_m4 157 rfl) rfl
theorem q957 : (Jvm.Cond.methodLink "InterestTaken" (317 : Nat) ({ cls := "InterestTaken", name := "ratesNow", desc := "()I" } : Jvm.MethodName)) ∈ lw_all := lw_g (lw_at lw_m4 158 rfl) rfl
theorem q958 : (Jvm.Cond.privateMethod ({ cls := "InterestTaken", name := "ratesNow", desc := "()I" } : Jvm.MethodName)) ∈ lw_tbl := lw_at lw_m4 159 rfl
theorem q959 : (Jvm.Cond.instanceMethod ({ cls := "InterestTaken", name := "ratesNow", desc := "()I" } : Jvm.MethodName)) ∈ lw_all := lw_g (lw_at lw_m4 160 rfl) rfl
theorem q960 : (Jvm.Cond.codeWith ({ cls := "InterestTaken", name := "ratesNow", desc := "()I" } : Jvm.MethodName) prog_1_method_56_code (4 : Nat) (Option.some Jvm.ClassFile.FieldType.int) [((9 : Nat), (62 : Nat), (72 : Nat), (0 : Nat))]) ∈ lw_all := lw_g (lw_at lw_m4 161 rfl) rfl
theorem q962 : (Jvm.Cond.instanceMethod ({ cls := "InterestTaken", name := "ask", desc := "(I)I" } : Jvm.MethodName)) ∈ lw_all := lw_g (lw_at lw_m4 163 rfl) rfl
theorem q963 : (Jvm.Cond.selects "InterestTaken" ({ cls := "InterestTaken", name := "ask", desc := "(I)I" } : Jvm.MethodName) ({ cls := "InterestTaken", name := "ask", desc := "(I)I" } : Jvm.MethodName)) ∈ lw_all := lw_g (lw_at lw_m4 164 rfl) rfl
theorem q964 : (Jvm.Cond.code ({ cls := "InterestTaken", name := "ask", desc := "(I)I" } : Jvm.MethodName) prog_1_method_60_code (2 : Nat) (Option.some Jvm.ClassFile.FieldType.int)) ∈ lw_all := lw_g (lw_at lw_m4 165 rfl) rfl
theorem q965 : (Jvm.Cond.methodLink "InterestTaken" (328 : Nat) ({ cls := "InterestTaken", name := "askOf", desc := "(I)I" } : Jvm.MethodName)) ∈ lw_all := lw_g (lw_at lw_m4 166 rfl) rfl
theorem q966 : (Jvm.Cond.privateMethod ({ cls := "InterestTaken", name := "askOf", desc := "(I)I" } : Jvm.MethodName)) ∈ lw_tbl := lw_at lw_m4 167 rfl
theorem q967 : (Jvm.Cond.instanceMethod ({ cls := "InterestTaken", name := "askOf", desc := "(I)I" } : Jvm.MethodName)) ∈ lw_all := lw_g (lw_at lw_m4 168 rfl) rfl
theorem q968 : (Jvm.Cond.code ({ cls := "InterestTaken", name := "askOf", desc := "(I)I" } : Jvm.MethodName) prog_1_method_59_code (5 : Nat) (Option.some Jvm.ClassFile.FieldType.int)) ∈ lw_all := lw_g (lw_at lw_m4 169 rfl) rfl
theorem q969 : (Jvm.Cond.methodLink "InterestTaken" (325 : Nat) ({ cls := "InterestTaken", name := "alike", desc := "(II)I" } : Jvm.MethodName)) ∈ lw_all := lw_g (lw_at lw_m4 170 rfl) rfl
theorem q970 : (Jvm.Cond.privateMethod ({ cls := "InterestTaken", name := "alike", desc := "(II)I" } : Jvm.MethodName)) ∈ lw_tbl := lw_at lw_m4 171 rfl
theorem q971 : (Jvm.Cond.instanceMethod ({ cls := "InterestTaken", name := "alike", desc := "(II)I" } : Jvm.MethodName)) ∈ lw_all := lw_g (lw_at lw_m4 172 rfl) rfl
theorem q972 : (Jvm.Cond.code ({ cls := "InterestTaken", name := "alike", desc := "(II)I" } : Jvm.MethodName) prog_1_method_58_code (7 : Nat) (Option.some Jvm.ClassFile.FieldType.int)) ∈ lw_all := lw_g (lw_at lw_m4 173 rfl) rfl
theorem q973 : (Jvm.Cond.methodLink "InterestTaken" (320 : Nat) ({ cls := "java/lang/Math", name := "max", desc := "(II)I" } : Jvm.MethodName)) ∈ lw_all := lw_g (lw_at lw_m4 174 rfl) rfl
theorem q975 : (Jvm.Cond.instanceMethod ({ cls := "InterestTaken", name := "peace", desc := "(II)J" } : Jvm.MethodName)) ∈ lw_all := lw_g (lw_at lw_m4 176 rfl) rfl
theorem q976 : (Jvm.Cond.selects "InterestTaken" ({ cls := "InterestTaken", name := "peace", desc := "(II)J" } : Jvm.MethodName) ({ cls := "InterestTaken", name := "peace", desc := "(II)J" } : Jvm.MethodName)) ∈ lw_all := lw_g (lw_at lw_m4 177 rfl) rfl
theorem q977 : (Jvm.Cond.code ({ cls := "InterestTaken", name := "peace", desc := "(II)J" } : Jvm.MethodName) prog_1_method_64_code (3 : Nat) (Option.some Jvm.ClassFile.FieldType.long)) ∈ lw_all := lw_g (lw_at lw_m4 178 rfl) rfl
theorem q978 : (Jvm.Cond.constantLong "InterestTaken" (339 : Nat) (16 : Int64)) ∈ lw_all := lw_g (lw_at lw_m4 179 rfl) rfl
theorem q979 : (Jvm.Cond.methodLink "InterestTaken" (341 : Nat) ({ cls := "InterestTaken", name := "peaceOf", desc := "(II)J" } : Jvm.MethodName)) ∈ lw_all := lw_g (lw_at lw_m4 180 rfl) rfl
theorem q980 : (Jvm.Cond.privateMethod ({ cls := "InterestTaken", name := "peaceOf", desc := "(II)J" } : Jvm.MethodName)) ∈ lw_tbl := lw_at lw_m4 181 rfl
theorem q981 : (Jvm.Cond.instanceMethod ({ cls := "InterestTaken", name := "peaceOf", desc := "(II)J" } : Jvm.MethodName)) ∈ lw_all := lw_g (lw_at lw_m4 182 rfl) rfl
theorem q982 : (Jvm.Cond.codeWith ({ cls := "InterestTaken", name := "peaceOf", desc := "(II)J" } : Jvm.MethodName) prog_1_method_63_code (10 : Nat) (Option.some Jvm.ClassFile.FieldType.long) [((11 : Nat), (106 : Nat), (114 : Nat), (0 : Nat)), ((114 : Nat), (116 : Nat), (114 : Nat), (0 : Nat))]) ∈ lw_all := lw_g (lw_at lw_m4 183 rfl) rfl
theorem q983 : (Jvm.Cond.methodLink "InterestTaken" (335 : Nat) ({ cls := "InterestTaken", name := "part", desc := "(JJI)J" } : Jvm.MethodName)) ∈ lw_all := lw_g (lw_at lw_m4 184 rfl) rfl
theorem q984 : (Jvm.Cond.static ({ cls := "InterestTaken", name := "part", desc := "(JJI)J" } : Jvm.MethodName)) ∈ lw_all := lw_g (lw_at lw_m4 185 rfl) rfl
theorem q985 : (Jvm.Cond.code ({ cls := "InterestTaken", name := "part", desc := "(JJI)J" } : Jvm.MethodName) prog_1_method_62_code (5 : Nat) (Option.some Jvm.ClassFile.FieldType.long)) ∈ lw_all := lw_g (lw_at lw_m4 186 rfl) rfl
theorem q986 : (Jvm.Cond.methodLink "InterestTaken" (331 : Nat) ({ cls := "InterestTaken", name := "divisor", desc := "(JJ)J" } : Jvm.MethodName)) ∈ lw_all := lw_g (lw_at lw_m4 187 rfl) rfl
theorem q987 : (Jvm.Cond.static ({ cls := "InterestTaken", name := "divisor", desc := "(JJ)J" } : Jvm.MethodName)) ∈ lw_all := lw_g (lw_at lw_m4 188 rfl) rfl
theorem q988 : (Jvm.Cond.code ({ cls := "InterestTaken", name := "divisor", desc := "(JJ)J" } : Jvm.MethodName) prog_1_method_61_code (4 : Nat) (Option.some Jvm.ClassFile.FieldType.long)) ∈ lw_all := lw_g (lw_at lw_m4 189 rfl) rfl
theorem q989 : (Jvm.Cond.methodLink "InterestTaken" (345 : Nat) ({ cls := "InterestTaken", name := "no", desc := "(I)J" } : Jvm.MethodName)) ∈ lw_all := lw_g (lw_at lw_m4 190 rfl) rfl
theorem q990 : (Jvm.Cond.static ({ cls := "InterestTaken", name := "no", desc := "(I)J" } : Jvm.MethodName)) ∈ lw_all := lw_g (lw_at lw_m4 191 rfl) rfl
theorem q991 : (Jvm.Cond.code ({ cls := "InterestTaken", name := "no", desc := "(I)J" } : Jvm.MethodName) prog_1_method_3_code (1 : Nat) (Option.some Jvm.ClassFile.FieldType.long)) ∈ lw_all := lw_g (lw_at lw_m4 192 rfl) rfl
theorem q992 : (Jvm.Cond.constantLong "InterestTaken" (97 : Nat) (-9223372036854775808 : Int64)) ∈ lw_all := lw_g (lw_at lw_m4 193 rfl) rfl
theorem q994 : (Jvm.Cond.instanceMethod ({ cls := "InterestTaken", name := "term", desc := "(III)I" } : Jvm.MethodName)) ∈ lw_all := lw_g (lw_at lw_m4 195 rfl) rfl
theorem q995 : (Jvm.Cond.selects "InterestTaken" ({ cls := "InterestTaken", name := "term", desc := "(III)I" } : Jvm.MethodName) ({ cls := "InterestTaken", name := "term", desc := "(III)I" } : Jvm.MethodName)) ∈ lw_all := lw_g (lw_at lw_m4 196 rfl) rfl
theorem q996 : (Jvm.Cond.code ({ cls := "InterestTaken", name := "term", desc := "(III)I" } : Jvm.MethodName) prog_1_method_67_code (4 : Nat) (Option.some Jvm.ClassFile.FieldType.int)) ∈ lw_all := lw_g (lw_at lw_m4 197 rfl) rfl
theorem q997 : (Jvm.Cond.constantLong "InterestTaken" (356 : Nat) (20 : Int64)) ∈ lw_all := lw_g (lw_at lw_m4 198 rfl) rfl
theorem q998 : (Jvm.Cond.methodLink "InterestTaken" (358 : Nat) ({ cls := "InterestTaken", name := "termOf", desc := "(III)I" } : Jvm.MethodName)) ∈ lw_all := lw_g (lw_at lw_m4 199 rfl) rfl
theorem q999 : (Jvm.Cond.privateMethod ({ cls := "InterestTaken", name := "termOf", desc := "(III)I" } : Jvm.MethodName)) ∈ lw_tbl := lw_at lw_m4 200 rfl
theorem q1000 : (Jvm.Cond.instanceMethod ({ cls := "InterestTaken", name := "termOf", desc := "(III)I" } : Jvm.MethodName)) ∈ lw_all := lw_g (lw_at lw_m4 201 rfl) rfl
theorem q1001 : (Jvm.Cond.codeWith ({ cls := "InterestTaken", name := "termOf", desc := "(III)I" } : Jvm.MethodName) prog_1_method_66_code (7 : Nat) (Option.some Jvm.ClassFile.FieldType.int) [((47 : Nat), (75 : Nat), (83 : Nat), (0 : Nat)), ((83 : Nat), (85 : Nat), (83 : Nat), (0 : Nat))]) ∈ lw_all := lw_g (lw_at lw_m4 202 rfl) rfl
theorem q1002 : (Jvm.Cond.methodLink "InterestTaken" (353 : Nat) ({ cls := "InterestTaken", name := "lot", desc := "(I)I" } : Jvm.MethodName)) ∈ lw_all := lw_g (lw_at lw_m4 203 rfl) rfl
theorem q1003 : (Jvm.Cond.privateMethod ({ cls := "InterestTaken", name := "lot", desc := "(I)I" } : Jvm.MethodName)) ∈ lw_tbl := lw_at lw_m4 204 rfl
theorem q1004 : (Jvm.Cond.instanceMethod ({ cls := "InterestTaken", name := "lot", desc := "(I)I" } : Jvm.MethodName)) ∈ lw_all := lw_g (lw_at lw_m4 205 rfl) rfl
theorem q1005 : (Jvm.Cond.code ({ cls := "InterestTaken", name := "lot", desc := "(I)I" } : Jvm.MethodName) prog_1_method_65_code (2 : Nat) (Option.some Jvm.ClassFile.FieldType.int)) ∈ lw_all := lw_g (lw_at lw_m4 206 rfl) rfl
theorem q1006 : (Jvm.Cond.constant "InterestTaken" (349 : Nat) (1103515245 : Int32)) ∈ lw_all := lw_g (lw_at lw_m4 207 rfl) rfl
theorem q1008 : (Jvm.Cond.instanceMethod ({ cls := "InterestTaken", name := "sheet", desc := "(III)I" } : Jvm.MethodName)) ∈ lw_all := lw_g (lw_at lw_m4 209 rfl) rfl
theorem q1009 : (Jvm.Cond.selects "InterestTaken" ({ cls := "InterestTaken", name := "sheet", desc := "(III)I" } : Jvm.MethodName) ({ cls := "InterestTaken", name := "sheet", desc := "(III)I" } : Jvm.MethodName)) ∈ lw_all := lw_g (lw_at lw_m4 210 rfl) rfl
theorem q1010 : (Jvm.Cond.codeWith ({ cls := "InterestTaken", name := "sheet", desc := "(III)I" } : Jvm.MethodName) prog_1_method_70_code (5 : Nat) (Option.some Jvm.ClassFile.FieldType.int) [((28 : Nat), (43 : Nat), (44 : Nat), (367 : Nat))]) ∈ lw_all := lw_g (lw_at lw_m4 211 rfl) rfl
theorem q1011 : (Jvm.Cond.classLink "InterestTaken" (367 : Nat) "java/lang/NegativeArraySizeException") ∈ lw_all := lw_g (lw_at lw_m4 212 rfl) rfl
theorem q1040 : (Jvm.Cond.methodLink "InterestTaken" (363 : Nat) ({ cls := "InterestTaken", name := "rowOf", desc := "(II)Ljava/lang/Object;" } : Jvm.MethodName)) ∈ lw_all := lw_g (lw_at lw_m5 1 rfl) rfl
theorem q1041 : (Jvm.Cond.static ({ cls := "InterestTaken", name := "rowOf", desc := "(II)Ljava/lang/Object;" } : Jvm.MethodName)) ∈ lw_all := lw_g (lw_at lw_m5 2 rfl) rfl
theorem q1042 : (Jvm.Cond.code ({ cls := "InterestTaken", name := "rowOf", desc := "(II)Ljava/lang/Object;" } : Jvm.MethodName) prog_1_method_69_code (2 : Nat) (Option.some (Jvm.ClassFile.FieldType.object "java/lang/Object"))) ∈ lw_all := lw_g (lw_at lw_m5 3 rfl) rfl
theorem q1045 : (Jvm.Cond.instanceMethod ({ cls := "InterestTaken", name := "lose", desc := "(I)I" } : Jvm.MethodName)) ∈ lw_all := lw_g (lw_at lw_m5 6 rfl) rfl
theorem q1046 : (Jvm.Cond.selects "InterestTaken" ({ cls := "InterestTaken", name := "lose", desc := "(I)I" } : Jvm.MethodName) ({ cls := "InterestTaken", name := "lose", desc := "(I)I" } : Jvm.MethodName)) ∈ lw_all := lw_g (lw_at lw_m5 7 rfl) rfl
theorem q1047 : (Jvm.Cond.code ({ cls := "InterestTaken", name := "lose", desc := "(I)I" } : Jvm.MethodName) prog_1_method_71_code (3 : Nat) (Option.some Jvm.ClassFile.FieldType.int)) ∈ lw_all := lw_g (lw_at lw_m5 8 rfl) rfl
theorem q1049 : (Jvm.Cond.instanceMethod ({ cls := "InterestTaken", name := "put", desc := "(IIII)I" } : Jvm.MethodName)) ∈ lw_all := lw_g (lw_at lw_m5 10 rfl) rfl
theorem q1050 : (Jvm.Cond.selects "InterestTaken" ({ cls := "InterestTaken", name := "put", desc := "(IIII)I" } : Jvm.MethodName) ({ cls := "InterestTaken", name := "put", desc := "(IIII)I" } : Jvm.MethodName)) ∈ lw_all := lw_g (lw_at lw_m5 11 rfl) rfl
theorem q1051 : (Jvm.Cond.codeWith ({ cls := "InterestTaken", name := "put", desc := "(IIII)I" } : Jvm.MethodName) prog_1_method_72_code (6 : Nat) (Option.some Jvm.ClassFile.FieldType.int) [((40 : Nat), (54 : Nat), (55 : Nat), (373 : Nat)), ((40 : Nat), (54 : Nat), (63 : Nat), (375 : Nat))]) ∈ lw_all := lw_g (lw_at lw_m5 12 rfl) rfl
theorem q1052 : (Jvm.Cond.classLink "InterestTaken" (373 : Nat) "java/lang/ClassCastException") ∈ lw_all := lw_g (lw_at lw_m5 13 rfl) rfl
theorem q1066 : (Jvm.Cond.classLink "InterestTaken" (375 : Nat) "java/lang/ArrayIndexOutOfBoundsException") ∈ lw_all := lw_g (lw_at lw_m5 27 rfl) rfl
theorem q1085 : (Jvm.Cond.methodLink "InterestTaken" (369 : Nat) ({ cls := "InterestTaken$Sheet", name := "lay", desc := "(III)V" } : Jvm.MethodName)) ∈ lw_all := lw_g (lw_at lw_m5 46 rfl) rfl
theorem q1090 : (Jvm.Cond.instanceMethod ({ cls := "InterestTaken", name := "get", desc := "(III)I" } : Jvm.MethodName)) ∈ lw_all := lw_g (lw_at lw_m5 51 rfl) rfl
theorem q1091 : (Jvm.Cond.selects "InterestTaken" ({ cls := "InterestTaken", name := "get", desc := "(III)I" } : Jvm.MethodName) ({ cls := "InterestTaken", name := "get", desc := "(III)I" } : Jvm.MethodName)) ∈ lw_all := lw_g (lw_at lw_m5 52 rfl) rfl
theorem q1092 : (Jvm.Cond.codeWith ({ cls := "InterestTaken", name := "get", desc := "(III)I" } : Jvm.MethodName) prog_1_method_73_code (5 : Nat) (Option.some Jvm.ClassFile.FieldType.int) [((40 : Nat), (51 : Nat), (52 : Nat), (373 : Nat)), ((40 : Nat), (51 : Nat), (60 : Nat), (375 : Nat))]) ∈ lw_all := lw_g (lw_at lw_m5 53 rfl) rfl
theorem q1093 : (Jvm.Cond.constant "InterestTaken" (102 : Nat) (-2147483648 : Int32)) ∈ lw_all := lw_g (lw_at lw_m5 54 rfl) rfl
theorem q1094 : (Jvm.Cond.methodLink "InterestTaken" (377 : Nat) ({ cls := "InterestTaken", name := "lowest", desc := "(I)I" } : Jvm.MethodName)) ∈ lw_all := lw_g (lw_at lw_m5 55 rfl) rfl
theorem q1095 : (Jvm.Cond.privateMethod ({ cls := "InterestTaken", name := "lowest", desc := "(I)I" } : Jvm.MethodName)) ∈ lw_tbl := lw_at lw_m5 56 rfl
theorem q1096 : (Jvm.Cond.instanceMethod ({ cls := "InterestTaken", name := "lowest", desc := "(I)I" } : Jvm.MethodName)) ∈ lw_all := lw_g (lw_at lw_m5 57 rfl) rfl
theorem q1097 : (Jvm.Cond.code ({ cls := "InterestTaken", name := "lowest", desc := "(I)I" } : Jvm.MethodName) prog_1_method_5_code (2 : Nat) (Option.some Jvm.ClassFile.FieldType.int)) ∈ lw_all := lw_g (lw_at lw_m5 58 rfl) rfl
theorem q1099 : (Jvm.Cond.instanceMethod ({ cls := "InterestTaken", name := "copy", desc := "(IIIII)I" } : Jvm.MethodName)) ∈ lw_all := lw_g (lw_at lw_m5 60 rfl) rfl
theorem q1100 : (Jvm.Cond.selects "InterestTaken" ({ cls := "InterestTaken", name := "copy", desc := "(IIIII)I" } : Jvm.MethodName) ({ cls := "InterestTaken", name := "copy", desc := "(IIIII)I" } : Jvm.MethodName)) ∈ lw_all := lw_g (lw_at lw_m5 61 rfl) rfl
theorem q1101 : (Jvm.Cond.codeWith ({ cls := "InterestTaken", name := "copy", desc := "(IIIII)I" } : Jvm.MethodName) prog_1_method_74_code (7 : Nat) (Option.some Jvm.ClassFile.FieldType.int) [((74 : Nat), (101 : Nat), (102 : Nat), (386 : Nat))]) ∈ lw_all := lw_g (lw_at lw_m5 62 rfl) rfl
theorem q1102 : (Jvm.Cond.classLink "InterestTaken" (386 : Nat) "java/lang/IndexOutOfBoundsException") ∈ lw_all := lw_g (lw_at lw_m5 63 rfl) rfl
theorem q1103 : (Jvm.Cond.methodLink "InterestTaken" (380 : Nat) ({ cls := "java/lang/System", name := "arraycopy", desc := "(Ljava/lang/Object;ILjava/lang/Object;II)V" } : Jvm.MethodName)) ∈ lw_all := lw_g (lw_at lw_m5 64 rfl) rfl
theorem q1105 : (Jvm.Cond.instanceMethod ({ cls := "InterestTaken", name := "write", desc := "(II)I" } : Jvm.MethodName)) ∈ lw_all := lw_g (lw_at lw_m5 66 rfl) rfl
theorem q1106 : (Jvm.Cond.selects "InterestTaken" ({ cls := "InterestTaken", name := "write", desc := "(II)I" } : Jvm.MethodName) ({ cls := "InterestTaken", name := "write", desc := "(II)I" } : Jvm.MethodName)) ∈ lw_all := lw_g (lw_at lw_m5 67 rfl) rfl
theorem q1107 : (Jvm.Cond.code ({ cls := "InterestTaken", name := "write", desc := "(II)I" } : Jvm.MethodName) prog_1_method_75_code (6 : Nat) (Option.some Jvm.ClassFile.FieldType.int)) ∈ lw_all := lw_g (lw_at lw_m5 68 rfl) rfl
theorem q1108 : (Jvm.Cond.methodLink "InterestTaken" (388 : Nat) ({ cls := "java/lang/Math", name := "min", desc := "(II)I" } : Jvm.MethodName)) ∈ lw_all := lw_g (lw_at lw_m5 69 rfl) rfl
theorem q1110 : (Jvm.Cond.instanceMethod ({ cls := "InterestTaken", name := "count", desc := "(I)I" } : Jvm.MethodName)) ∈ lw_all := lw_g (lw_at lw_m5 71 rfl) rfl
theorem q1111 : (Jvm.Cond.selects "InterestTaken" ({ cls := "InterestTaken", name := "count", desc := "(I)I" } : Jvm.MethodName) ({ cls := "InterestTaken", name := "count", desc := "(I)I" } : Jvm.MethodName)) ∈ lw_all := lw_g (lw_at lw_m5 72 rfl) rfl
theorem q1112 : (Jvm.Cond.code ({ cls := "InterestTaken", name := "count", desc := "(I)I" } : Jvm.MethodName) prog_1_method_76_code (2 : Nat) (Option.some Jvm.ClassFile.FieldType.int)) ∈ lw_all := lw_g (lw_at lw_m5 73 rfl) rfl
theorem q1113 : (Jvm.Cond.methodLink "InterestTaken" (391 : Nat) ({ cls := "InterestTaken$Text", name := "many", desc := "()I" } : Jvm.MethodName)) ∈ lw_all := lw_g (lw_at lw_m5 74 rfl) rfl
theorem q1114 : (Jvm.Cond.methodLink "InterestTaken" (392 : Nat) ({ cls := "InterestTaken$Text", name := "length", desc := "()I" } : Jvm.MethodName)) ∈ lw_all := lw_g (lw_at lw_m5 75 rfl) rfl
theorem q1120 : (Jvm.Cond.methodLink "InterestTaken" (395 : Nat) ({ cls := "InterestTaken", name := "allHeard", desc := "()I" } : Jvm.MethodName)) ∈ lw_all := lw_g (lw_at lw_m5 81 rfl) rfl
theorem q1121 : (Jvm.Cond.privateMethod ({ cls := "InterestTaken", name := "allHeard", desc := "()I" } : Jvm.MethodName)) ∈ lw_tbl := lw_at lw_m5 82 rfl
theorem q1122 : (Jvm.Cond.instanceMethod ({ cls := "InterestTaken", name := "allHeard", desc := "()I" } : Jvm.MethodName)) ∈ lw_all := lw_g (lw_at lw_m5 83 rfl) rfl
theorem q1123 : (Jvm.Cond.code ({ cls := "InterestTaken", name := "allHeard", desc := "()I" } : Jvm.MethodName) prog_1_method_39_code (3 : Nat) (Option.some Jvm.ClassFile.FieldType.int)) ∈ lw_all := lw_g (lw_at lw_m5 84 rfl) rfl
theorem q1125 : (Jvm.Cond.instanceMethod ({ cls := "InterestTaken", name := "digest", desc := "()J" } : Jvm.MethodName)) ∈ lw_all := lw_g (lw_at lw_m5 86 rfl) rfl
theorem q1126 : (Jvm.Cond.selects "InterestTaken" ({ cls := "InterestTaken", name := "digest", desc := "()J" } : Jvm.MethodName) ({ cls := "InterestTaken", name := "digest", desc := "()J" } : Jvm.MethodName)) ∈ lw_all := lw_g (lw_at lw_m5 87 rfl) rfl
theorem q1127 : (Jvm.Cond.code ({ cls := "InterestTaken", name := "digest", desc := "()J" } : Jvm.MethodName) prog_1_method_78_code (5 : Nat) (Option.some Jvm.ClassFile.FieldType.long)) ∈ lw_all := lw_g (lw_at lw_m5 88 rfl) rfl
theorem q1128 : (Jvm.Cond.constantLong "InterestTaken" (400 : Nat) (17 : Int64)) ∈ lw_all := lw_g (lw_at lw_m5 89 rfl) rfl
theorem q1129 : (Jvm.Cond.constantLong "InterestTaken" (398 : Nat) (31 : Int64)) ∈ lw_all := lw_g (lw_at lw_m5 90 rfl) rfl
theorem q1130 : (Jvm.Cond.methodLink "InterestTaken" (402 : Nat) ({ cls := "InterestTaken", name := "count", desc := "(I)I" } : Jvm.MethodName)) ∈ lw_all := lw_g (lw_at lw_m5 91 rfl) rfl
theorem q1131 : (Jvm.Cond.methodLink "InterestTaken" (405 : Nat) ({ cls := "InterestTaken", name := "tellsSaver", desc := "(JI)J" } : Jvm.MethodName)) ∈ lw_all := lw_g (lw_at lw_m5 92 rfl) rfl
theorem q1132 : (Jvm.Cond.privateMethod ({ cls := "InterestTaken", name := "tellsSaver", desc := "(JI)J" } : Jvm.MethodName)) ∈ lw_tbl := lw_at lw_m5 93 rfl
theorem q1133 : (Jvm.Cond.instanceMethod ({ cls := "InterestTaken", name := "tellsSaver", desc := "(JI)J" } : Jvm.MethodName)) ∈ lw_all := lw_g (lw_at lw_m5 94 rfl) rfl
theorem q1134 : (Jvm.Cond.code ({ cls := "InterestTaken", name := "tellsSaver", desc := "(JI)J" } : Jvm.MethodName) prog_1_method_77_code (7 : Nat) (Option.some Jvm.ClassFile.FieldType.long)) ∈ lw_all := lw_g (lw_at lw_m5 95 rfl) rfl
theorem q1619 : (Jvm.Cond.castable "InterestTaken" "java/lang/Object") ∈ lw_tbl := lw_at lw_m7 100 rfl
theorem in_X0 : ∀ w ∈ wsX00, w ∈ lw_all := lw_in wsX00 [251, 253, 255, 257, 259, 261, 263, 265, 267, 269, 271, 273, 275, 277, 279, 281, 283, 285, 287, 289, 291, 293, 295, 297, 299] (by decide +kernel) (by decide +kernel)
