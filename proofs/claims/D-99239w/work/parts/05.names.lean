/-! NapkinDeedsModel -/
set_option maxRecDepth 100000
def RX7 : String := "NapkinDeedsModel"
def TX7 : u_T := fun k => match k with
  | 0 => ("NapkinDeedsModel", "known", "[I", true)
  | 1 => ("NapkinDeedsModel", "telling", "[I", true)
  | 2 => ("NapkinDeedsModel", "images", "[I", true)
  | 3 => ("NapkinDeedsModel", "isImage", "[Z", true)
  | 4 => ("NapkinDeedsModel", "thrown", "I", false)
  | 5 => ("NapkinDeedsModel", "tape", "[I", true)
  | 6 => ("NapkinDeedsModel", "taped", "I", false)
  | 7 => ("NapkinDeedsModel", "length", "I", false)
  | 8 => ("NapkinDeedsModel", "head", "I", false)
  | 9 => ("NapkinDeedsModel", "begin", "I", false)
  | 10 => ("NapkinDeedsModel", "token", "I", false)
  | 11 => ("NapkinDeedsModel", "value", "I", false)
  | 12 => ("NapkinDeedsModel", "bad", "I", false)
  | 13 => ("NapkinDeedsModel", "badPlace", "I", false)
  | 14 => ("NapkinDeedsModel", "faultKind", "I", false)
  | 15 => ("NapkinDeedsModel", "faultPlace", "I", false)
  | 16 => ("NapkinDeedsModel", "deep", "I", false)
  | 17 => ("NapkinDeedsModel", "lawMany", "I", false)
  | 18 => ("NapkinDeedsModel", "lawAt", "I", false)
  | 19 => ("NapkinDeedsModel", "lies", "[I", true)
  | 20 => ("NapkinDeedsModel", "places", "[I", true)
  | 21 => ("NapkinDeedsModel", "lawStack", "[I", true)
  | 22 => ("NapkinDeedsModel", "asked", "[I", true)
  | 23 => ("NapkinDeedsModel", "aside", "[I", true)
  | 24 => ("NapkinDeedsModel", "state", "I", false)
  | 25 => ("NapkinDeedsModel", "row", "[I", true)
  | 26 => ("NapkinDeedsModel", "bestRow", "[I", true)
  | 27 => ("NapkinDeedsModel", "likedNow", "[I", true)
  | 28 => ("NapkinDeedsModel", "askedWhat", "I", false)
  | 29 => ("NapkinDeedsModel", "from", "I", false)
  | 30 => ("NapkinDeedsModel", "rowMany", "I", false)
  | 31 => ("NapkinDeedsModel", "rowBest", "I", false)
  | 32 => ("NapkinDeedsModel", "bestMany", "I", false)
  | 33 => ("NapkinDeedsModel", "askedTray", "I", false)
  | 34 => ("NapkinDeedsModel", "sureSet", "I", false)
  | 35 => ("NapkinDeedsModel", "met", "[J", true)
  | 36 => ("NapkinDeedsModel", "metBy", "[I", true)
  | 37 => ("NapkinDeedsModel", "turn", "I", false)
  | 38 => ("NapkinDeedsModel", "layers", "[I", true)
  | 39 => ("NapkinDeedsModel", "beneathHow", "[I", true)
  | 40 => ("NapkinDeedsModel", "tSort", "[I", true)
  | 41 => ("NapkinDeedsModel", "tMany", "[I", true)
  | _ => ("NapkinDeedsModel", "numbers", "[J", true)
def tyX7 : Nat → FieldType := fun k => match k with
  | 0 => .array .int
  | 1 => .array .int
  | 2 => .array .int
  | 3 => .array .boolean
  | 4 => .int
  | 5 => .array .int
  | 6 => .int
  | 7 => .int
  | 8 => .int
  | 9 => .int
  | 10 => .int
  | 11 => .int
  | 12 => .int
  | 13 => .int
  | 14 => .int
  | 15 => .int
  | 16 => .int
  | 17 => .int
  | 18 => .int
  | 19 => .array .int
  | 20 => .array .int
  | 21 => .array .int
  | 22 => .array .int
  | 23 => .array .int
  | 24 => .int
  | 25 => .array .int
  | 26 => .array .int
  | 27 => .array .int
  | 28 => .int
  | 29 => .int
  | 30 => .int
  | 31 => .int
  | 32 => .int
  | 33 => .int
  | 34 => .int
  | 35 => .array .long
  | 36 => .array .int
  | 37 => .int
  | 38 => .array .int
  | 39 => .array .int
  | 40 => .array .int
  | 41 => .array .int
  | _ => .array .long
abbrev wsX70 : List Cond := u_ws RX7 TX7 43
set_option maxRecDepth 100000 in
theorem nmX7 : ∀ a, a < 43 → ∀ b, b < 43 → a ≠ b → (TX7 a).2.1 ≠ (TX7 b).2.1 := by decide +kernel
set_option maxRecDepth 100000 in
theorem tyX7_ok : ∀ k, k < 43 → parseFieldDescriptor (TX7 k).2.2.1 = some (tyX7 k) := by decide +kernel
abbrev cX7_init : ByteArray := prog_43_method_1_code
def yX7_init : MethodName := ⟨RX7, "<init>", "()V"⟩
def dkwX7_init_7 : List UInt8 := [89, 6, 2, 79, 181, 0, 68, 42, 7, 188, 10, 181, 0, 71, 42, 16, 120, 188, 11, 181, 0, 74, 177]
abbrev dktX7_init_7 : List UInt8 := dkwX7_init_7 ++ []
def dkwX7_init_6 : List UInt8 := [17, 2, 88, 188, 10, 181, 0, 65, 42, 7, 188, 10, 89, 3, 2, 79, 89, 4, 2, 79, 89, 5, 2, 79]
abbrev dktX7_init_6 : List UInt8 := dkwX7_init_6 ++ dktX7_init_7
def dkwX7_init_5 : List UInt8 := [188, 11, 181, 0, 55, 42, 18, 54, 188, 10, 181, 0, 59, 42, 16, 6, 188, 10, 181, 0, 62, 42]
abbrev dktX7_init_5 : List UInt8 := dkwX7_init_5 ++ dktX7_init_6
def dkwX7_init_4 : List UInt8 := [8, 188, 10, 181, 0, 45, 42, 8, 188, 10, 181, 0, 48, 42, 7, 188, 10, 181, 0, 51, 42, 18, 54]
abbrev dktX7_init_4 : List UInt8 := dkwX7_init_4 ++ dktX7_init_5
def dkwX7_init_3 : List UInt8 := [16, 64, 188, 10, 181, 0, 36, 42, 16, 8, 188, 10, 181, 0, 39, 42, 16, 18, 188, 10, 181, 0, 42, 42]
abbrev dktX7_init_3 : List UInt8 := dkwX7_init_3 ++ dktX7_init_4
def dkwX7_init_2 : List UInt8 := [42, 2, 181, 0, 26, 42, 17, 1, 217, 188, 10, 181, 0, 30, 42, 16, 6, 188, 10, 181, 0, 33, 42]
abbrev dktX7_init_2 : List UInt8 := dkwX7_init_2 ++ dktX7_init_3
def dkwX7_init_1 : List UInt8 := [17, 34, 32, 188, 10, 181, 0, 16, 42, 6, 188, 4, 181, 0, 19, 42, 17, 3, 132, 188, 10, 181, 0, 23]
abbrev dktX7_init_1 : List UInt8 := dkwX7_init_1 ++ dktX7_init_2
def dkwX7_init_0 : List UInt8 := [42, 183, 0, 1, 42, 17, 11, 96, 188, 10, 181, 0, 9, 42, 17, 11, 96, 188, 10, 181, 0, 13, 42]
abbrev dktX7_init_0 : List UInt8 := dkwX7_init_0 ++ dktX7_init_1
theorem dksX7_init_0 : cX7_init.data.toList.drop 0 = dktX7_init_0 := by decide +kernel
theorem dksX7_init_1 : cX7_init.data.toList.drop 23 = dktX7_init_1 := dk_seg dksX7_init_0 23 rfl rfl
theorem dksX7_init_2 : cX7_init.data.toList.drop 47 = dktX7_init_2 := dk_seg dksX7_init_1 24 rfl rfl
theorem dksX7_init_3 : cX7_init.data.toList.drop 70 = dktX7_init_3 := dk_seg dksX7_init_2 23 rfl rfl
theorem dksX7_init_4 : cX7_init.data.toList.drop 94 = dktX7_init_4 := dk_seg dksX7_init_3 24 rfl rfl
theorem dksX7_init_5 : cX7_init.data.toList.drop 117 = dktX7_init_5 := dk_seg dksX7_init_4 23 rfl rfl
theorem dksX7_init_6 : cX7_init.data.toList.drop 139 = dktX7_init_6 := dk_seg dksX7_init_5 22 rfl rfl
theorem dksX7_init_7 : cX7_init.data.toList.drop 163 = dktX7_init_7 := dk_seg dksX7_init_6 24 rfl rfl
theorem dX7_init_0 : decode cX7_init 0 = .ok (.aload_n 0, 1) := dk_42 (dk_at dksX7_init_0 0 rfl rfl)
theorem dX7_init_1 : decode cX7_init 1 = .ok (.invokespecial 1, 3) := dk_183 0 1 (dk_at dksX7_init_0 1 rfl rfl)
theorem dX7_init_4 : decode cX7_init 4 = .ok (.aload_n 0, 1) := dk_42 (dk_at dksX7_init_0 4 rfl rfl)
theorem dX7_init_5 : decode cX7_init 5 = .ok (.sipush 2912, 3) := dk_17 11 96 (dk_at dksX7_init_0 5 rfl rfl)
theorem dX7_init_8 : decode cX7_init 8 = .ok (.newarray .int, 2) := dk_188_10 (dk_at dksX7_init_0 8 rfl rfl)
theorem dX7_init_10 : decode cX7_init 10 = .ok (.putfield 9, 3) := dk_181 0 9 (dk_at dksX7_init_0 10 rfl rfl)
theorem dX7_init_13 : decode cX7_init 13 = .ok (.aload_n 0, 1) := dk_42 (dk_at dksX7_init_0 13 rfl rfl)
theorem dX7_init_14 : decode cX7_init 14 = .ok (.sipush 2912, 3) := dk_17 11 96 (dk_at dksX7_init_0 14 rfl rfl)
theorem dX7_init_17 : decode cX7_init 17 = .ok (.newarray .int, 2) := dk_188_10 (dk_at dksX7_init_0 17 rfl rfl)
theorem dX7_init_19 : decode cX7_init 19 = .ok (.putfield 13, 3) := dk_181 0 13 (dk_at dksX7_init_0 19 rfl rfl)
theorem dX7_init_22 : decode cX7_init 22 = .ok (.aload_n 0, 1) := dk_42 (dk_at dksX7_init_0 22 rfl rfl)
theorem dX7_init_23 : decode cX7_init 23 = .ok (.sipush 8736, 3) := dk_17 34 32 (dk_at dksX7_init_1 0 rfl rfl)
theorem dX7_init_26 : decode cX7_init 26 = .ok (.newarray .int, 2) := dk_188_10 (dk_at dksX7_init_1 3 rfl rfl)
theorem dX7_init_28 : decode cX7_init 28 = .ok (.putfield 16, 3) := dk_181 0 16 (dk_at dksX7_init_1 5 rfl rfl)
theorem dX7_init_31 : decode cX7_init 31 = .ok (.aload_n 0, 1) := dk_42 (dk_at dksX7_init_1 8 rfl rfl)
theorem dX7_init_32 : decode cX7_init 32 = .ok (.iconst 3, 1) := dk_6 (dk_at dksX7_init_1 9 rfl rfl)
theorem dX7_init_33 : decode cX7_init 33 = .ok (.newarray .boolean, 2) := dk_188_4 (dk_at dksX7_init_1 10 rfl rfl)
theorem dX7_init_35 : decode cX7_init 35 = .ok (.putfield 19, 3) := dk_181 0 19 (dk_at dksX7_init_1 12 rfl rfl)
theorem dX7_init_38 : decode cX7_init 38 = .ok (.aload_n 0, 1) := dk_42 (dk_at dksX7_init_1 15 rfl rfl)
theorem dX7_init_39 : decode cX7_init 39 = .ok (.sipush 900, 3) := dk_17 3 132 (dk_at dksX7_init_1 16 rfl rfl)
theorem dX7_init_42 : decode cX7_init 42 = .ok (.newarray .int, 2) := dk_188_10 (dk_at dksX7_init_1 19 rfl rfl)
theorem dX7_init_44 : decode cX7_init 44 = .ok (.putfield 23, 3) := dk_181 0 23 (dk_at dksX7_init_1 21 rfl rfl)
theorem dX7_init_47 : decode cX7_init 47 = .ok (.aload_n 0, 1) := dk_42 (dk_at dksX7_init_2 0 rfl rfl)
theorem dX7_init_48 : decode cX7_init 48 = .ok (.iconst (-1), 1) := dk_2 (dk_at dksX7_init_2 1 rfl rfl)
theorem dX7_init_49 : decode cX7_init 49 = .ok (.putfield 26, 3) := dk_181 0 26 (dk_at dksX7_init_2 2 rfl rfl)
theorem dX7_init_52 : decode cX7_init 52 = .ok (.aload_n 0, 1) := dk_42 (dk_at dksX7_init_2 5 rfl rfl)
theorem dX7_init_53 : decode cX7_init 53 = .ok (.sipush 473, 3) := dk_17 1 217 (dk_at dksX7_init_2 6 rfl rfl)
theorem dX7_init_56 : decode cX7_init 56 = .ok (.newarray .int, 2) := dk_188_10 (dk_at dksX7_init_2 9 rfl rfl)
theorem dX7_init_58 : decode cX7_init 58 = .ok (.putfield 30, 3) := dk_181 0 30 (dk_at dksX7_init_2 11 rfl rfl)
theorem dX7_init_61 : decode cX7_init 61 = .ok (.aload_n 0, 1) := dk_42 (dk_at dksX7_init_2 14 rfl rfl)
theorem dX7_init_62 : decode cX7_init 62 = .ok (.bipush 6, 2) := dk_16 6 (dk_at dksX7_init_2 15 rfl rfl)
theorem dX7_init_64 : decode cX7_init 64 = .ok (.newarray .int, 2) := dk_188_10 (dk_at dksX7_init_2 17 rfl rfl)
theorem dX7_init_66 : decode cX7_init 66 = .ok (.putfield 33, 3) := dk_181 0 33 (dk_at dksX7_init_2 19 rfl rfl)
theorem dX7_init_69 : decode cX7_init 69 = .ok (.aload_n 0, 1) := dk_42 (dk_at dksX7_init_2 22 rfl rfl)
theorem dX7_init_70 : decode cX7_init 70 = .ok (.bipush 64, 2) := dk_16 64 (dk_at dksX7_init_3 0 rfl rfl)
theorem dX7_init_72 : decode cX7_init 72 = .ok (.newarray .int, 2) := dk_188_10 (dk_at dksX7_init_3 2 rfl rfl)
theorem dX7_init_74 : decode cX7_init 74 = .ok (.putfield 36, 3) := dk_181 0 36 (dk_at dksX7_init_3 4 rfl rfl)
theorem dX7_init_77 : decode cX7_init 77 = .ok (.aload_n 0, 1) := dk_42 (dk_at dksX7_init_3 7 rfl rfl)
theorem dX7_init_78 : decode cX7_init 78 = .ok (.bipush 8, 2) := dk_16 8 (dk_at dksX7_init_3 8 rfl rfl)
theorem dX7_init_80 : decode cX7_init 80 = .ok (.newarray .int, 2) := dk_188_10 (dk_at dksX7_init_3 10 rfl rfl)
theorem dX7_init_82 : decode cX7_init 82 = .ok (.putfield 39, 3) := dk_181 0 39 (dk_at dksX7_init_3 12 rfl rfl)
theorem dX7_init_85 : decode cX7_init 85 = .ok (.aload_n 0, 1) := dk_42 (dk_at dksX7_init_3 15 rfl rfl)
theorem dX7_init_86 : decode cX7_init 86 = .ok (.bipush 18, 2) := dk_16 18 (dk_at dksX7_init_3 16 rfl rfl)
theorem dX7_init_88 : decode cX7_init 88 = .ok (.newarray .int, 2) := dk_188_10 (dk_at dksX7_init_3 18 rfl rfl)
theorem dX7_init_90 : decode cX7_init 90 = .ok (.putfield 42, 3) := dk_181 0 42 (dk_at dksX7_init_3 20 rfl rfl)
theorem dX7_init_93 : decode cX7_init 93 = .ok (.aload_n 0, 1) := dk_42 (dk_at dksX7_init_3 23 rfl rfl)
theorem dX7_init_94 : decode cX7_init 94 = .ok (.iconst 5, 1) := dk_8 (dk_at dksX7_init_4 0 rfl rfl)
theorem dX7_init_95 : decode cX7_init 95 = .ok (.newarray .int, 2) := dk_188_10 (dk_at dksX7_init_4 1 rfl rfl)
theorem dX7_init_97 : decode cX7_init 97 = .ok (.putfield 45, 3) := dk_181 0 45 (dk_at dksX7_init_4 3 rfl rfl)
theorem dX7_init_100 : decode cX7_init 100 = .ok (.aload_n 0, 1) := dk_42 (dk_at dksX7_init_4 6 rfl rfl)
theorem dX7_init_101 : decode cX7_init 101 = .ok (.iconst 5, 1) := dk_8 (dk_at dksX7_init_4 7 rfl rfl)
theorem dX7_init_102 : decode cX7_init 102 = .ok (.newarray .int, 2) := dk_188_10 (dk_at dksX7_init_4 8 rfl rfl)
theorem dX7_init_104 : decode cX7_init 104 = .ok (.putfield 48, 3) := dk_181 0 48 (dk_at dksX7_init_4 10 rfl rfl)
theorem dX7_init_107 : decode cX7_init 107 = .ok (.aload_n 0, 1) := dk_42 (dk_at dksX7_init_4 13 rfl rfl)
theorem dX7_init_108 : decode cX7_init 108 = .ok (.iconst 4, 1) := dk_7 (dk_at dksX7_init_4 14 rfl rfl)
theorem dX7_init_109 : decode cX7_init 109 = .ok (.newarray .int, 2) := dk_188_10 (dk_at dksX7_init_4 15 rfl rfl)
theorem dX7_init_111 : decode cX7_init 111 = .ok (.putfield 51, 3) := dk_181 0 51 (dk_at dksX7_init_4 17 rfl rfl)
theorem dX7_init_114 : decode cX7_init 114 = .ok (.aload_n 0, 1) := dk_42 (dk_at dksX7_init_4 20 rfl rfl)
theorem dX7_init_115 : decode cX7_init 115 = .ok (.ldc 54, 2) := dk_18 54 (dk_at dksX7_init_4 21 rfl rfl)
theorem dX7_init_117 : decode cX7_init 117 = .ok (.newarray .long, 2) := dk_188_11 (dk_at dksX7_init_5 0 rfl rfl)
theorem dX7_init_119 : decode cX7_init 119 = .ok (.putfield 55, 3) := dk_181 0 55 (dk_at dksX7_init_5 2 rfl rfl)
theorem dX7_init_122 : decode cX7_init 122 = .ok (.aload_n 0, 1) := dk_42 (dk_at dksX7_init_5 5 rfl rfl)
theorem dX7_init_123 : decode cX7_init 123 = .ok (.ldc 54, 2) := dk_18 54 (dk_at dksX7_init_5 6 rfl rfl)
theorem dX7_init_125 : decode cX7_init 125 = .ok (.newarray .int, 2) := dk_188_10 (dk_at dksX7_init_5 8 rfl rfl)
theorem dX7_init_127 : decode cX7_init 127 = .ok (.putfield 59, 3) := dk_181 0 59 (dk_at dksX7_init_5 10 rfl rfl)
theorem dX7_init_130 : decode cX7_init 130 = .ok (.aload_n 0, 1) := dk_42 (dk_at dksX7_init_5 13 rfl rfl)
theorem dX7_init_131 : decode cX7_init 131 = .ok (.bipush 6, 2) := dk_16 6 (dk_at dksX7_init_5 14 rfl rfl)
theorem dX7_init_133 : decode cX7_init 133 = .ok (.newarray .int, 2) := dk_188_10 (dk_at dksX7_init_5 16 rfl rfl)
theorem dX7_init_135 : decode cX7_init 135 = .ok (.putfield 62, 3) := dk_181 0 62 (dk_at dksX7_init_5 18 rfl rfl)
theorem dX7_init_138 : decode cX7_init 138 = .ok (.aload_n 0, 1) := dk_42 (dk_at dksX7_init_5 21 rfl rfl)
theorem dX7_init_139 : decode cX7_init 139 = .ok (.sipush 600, 3) := dk_17 2 88 (dk_at dksX7_init_6 0 rfl rfl)
theorem dX7_init_142 : decode cX7_init 142 = .ok (.newarray .int, 2) := dk_188_10 (dk_at dksX7_init_6 3 rfl rfl)
theorem dX7_init_144 : decode cX7_init 144 = .ok (.putfield 65, 3) := dk_181 0 65 (dk_at dksX7_init_6 5 rfl rfl)
theorem dX7_init_147 : decode cX7_init 147 = .ok (.aload_n 0, 1) := dk_42 (dk_at dksX7_init_6 8 rfl rfl)
theorem dX7_init_148 : decode cX7_init 148 = .ok (.iconst 4, 1) := dk_7 (dk_at dksX7_init_6 9 rfl rfl)
theorem dX7_init_149 : decode cX7_init 149 = .ok (.newarray .int, 2) := dk_188_10 (dk_at dksX7_init_6 10 rfl rfl)
theorem dX7_init_151 : decode cX7_init 151 = .ok (.dup, 1) := dk_89 (dk_at dksX7_init_6 12 rfl rfl)
theorem dX7_init_152 : decode cX7_init 152 = .ok (.iconst 0, 1) := dk_3 (dk_at dksX7_init_6 13 rfl rfl)
theorem dX7_init_153 : decode cX7_init 153 = .ok (.iconst (-1), 1) := dk_2 (dk_at dksX7_init_6 14 rfl rfl)
theorem dX7_init_154 : decode cX7_init 154 = .ok (.iastore, 1) := dk_79 (dk_at dksX7_init_6 15 rfl rfl)
theorem dX7_init_155 : decode cX7_init 155 = .ok (.dup, 1) := dk_89 (dk_at dksX7_init_6 16 rfl rfl)
theorem dX7_init_156 : decode cX7_init 156 = .ok (.iconst 1, 1) := dk_4 (dk_at dksX7_init_6 17 rfl rfl)
theorem dX7_init_157 : decode cX7_init 157 = .ok (.iconst (-1), 1) := dk_2 (dk_at dksX7_init_6 18 rfl rfl)
theorem dX7_init_158 : decode cX7_init 158 = .ok (.iastore, 1) := dk_79 (dk_at dksX7_init_6 19 rfl rfl)
theorem dX7_init_159 : decode cX7_init 159 = .ok (.dup, 1) := dk_89 (dk_at dksX7_init_6 20 rfl rfl)
theorem dX7_init_160 : decode cX7_init 160 = .ok (.iconst 2, 1) := dk_5 (dk_at dksX7_init_6 21 rfl rfl)
theorem dX7_init_161 : decode cX7_init 161 = .ok (.iconst (-1), 1) := dk_2 (dk_at dksX7_init_6 22 rfl rfl)
theorem dX7_init_162 : decode cX7_init 162 = .ok (.iastore, 1) := dk_79 (dk_at dksX7_init_6 23 rfl rfl)
theorem dX7_init_163 : decode cX7_init 163 = .ok (.dup, 1) := dk_89 (dk_at dksX7_init_7 0 rfl rfl)
theorem dX7_init_164 : decode cX7_init 164 = .ok (.iconst 3, 1) := dk_6 (dk_at dksX7_init_7 1 rfl rfl)
theorem dX7_init_165 : decode cX7_init 165 = .ok (.iconst (-1), 1) := dk_2 (dk_at dksX7_init_7 2 rfl rfl)
theorem dX7_init_166 : decode cX7_init 166 = .ok (.iastore, 1) := dk_79 (dk_at dksX7_init_7 3 rfl rfl)
theorem dX7_init_167 : decode cX7_init 167 = .ok (.putfield 68, 3) := dk_181 0 68 (dk_at dksX7_init_7 4 rfl rfl)
theorem dX7_init_170 : decode cX7_init 170 = .ok (.aload_n 0, 1) := dk_42 (dk_at dksX7_init_7 7 rfl rfl)
theorem dX7_init_171 : decode cX7_init 171 = .ok (.iconst 4, 1) := dk_7 (dk_at dksX7_init_7 8 rfl rfl)
theorem dX7_init_172 : decode cX7_init 172 = .ok (.newarray .int, 2) := dk_188_10 (dk_at dksX7_init_7 9 rfl rfl)
theorem dX7_init_174 : decode cX7_init 174 = .ok (.putfield 71, 3) := dk_181 0 71 (dk_at dksX7_init_7 11 rfl rfl)
theorem dX7_init_177 : decode cX7_init 177 = .ok (.aload_n 0, 1) := dk_42 (dk_at dksX7_init_7 14 rfl rfl)
theorem dX7_init_178 : decode cX7_init 178 = .ok (.bipush 120, 2) := dk_16 120 (dk_at dksX7_init_7 15 rfl rfl)
theorem dX7_init_180 : decode cX7_init 180 = .ok (.newarray .long, 2) := dk_188_11 (dk_at dksX7_init_7 17 rfl rfl)
theorem dX7_init_182 : decode cX7_init 182 = .ok (.putfield 74, 3) := dk_181 0 74 (dk_at dksX7_init_7 19 rfl rfl)
theorem dX7_init_185 : decode cX7_init 185 = .ok (.return_, 1) := dk_177 (dk_at dksX7_init_7 22 rfl rfl)
abbrev cX7_thrown : ByteArray := prog_43_method_2_code
def yX7_thrown : MethodName := ⟨RX7, "thrown", "()I"⟩
theorem dX7_thrown_0 : decode cX7_thrown 0 = .ok (.aload_n 0, 1) := by decide +kernel
theorem dX7_thrown_1 : decode cX7_thrown 1 = .ok (.getfield 77, 3) := by decide +kernel
theorem dX7_thrown_4 : decode cX7_thrown 4 = .ok (.ireturn, 1) := by decide +kernel
abbrev cX7_feed : ByteArray := prog_43_method_7_code
def yX7_feed : MethodName := ⟨RX7, "feed", "(IIIII)I"⟩
def dkwX7_feed_5 : List UInt8 := [167, 255, 162, 42, 180, 0, 80, 172]
abbrev dktX7_feed_5 : List UInt8 := dkwX7_feed_5 ++ []
def dkwX7_feed_4 : List UInt8 := [126, 104, 100, 124, 17, 0, 255, 126, 79, 42, 89, 180, 0, 80, 4, 96, 181, 0, 80, 132, 6, 1]
abbrev dktX7_feed_4 : List UInt8 := dkwX7_feed_4 ++ dktX7_feed_5
def dkwX7_feed_3 : List UInt8 := [167, 0, 5, 21, 5, 54, 7, 42, 180, 0, 23, 42, 180, 0, 80, 21, 7, 16, 24, 16, 8, 21, 6, 6]
abbrev dktX7_feed_3 : List UInt8 := dkwX7_feed_3 ++ dktX7_feed_4
def dkwX7_feed_2 : List UInt8 := [28, 167, 0, 28, 21, 6, 16, 12, 162, 0, 7, 29, 167, 0, 17, 21, 6, 16, 16, 162, 0, 8, 21, 4]
abbrev dktX7_feed_2 : List UInt8 := dkwX7_feed_2 ++ dktX7_feed_3
def dkwX7_feed_1 : List UInt8 := [21, 6, 16, 20, 162, 0, 93, 21, 6, 7, 162, 0, 7, 27, 167, 0, 39, 21, 6, 16, 8, 162, 0, 7]
abbrev dktX7_feed_1 : List UInt8 := dkwX7_feed_1 ++ dktX7_feed_2
def dkwX7_feed_0 : List UInt8 := [42, 3, 181, 0, 77, 42, 180, 0, 80, 16, 20, 96, 17, 3, 132, 164, 0, 5, 2, 172, 3, 54, 6]
abbrev dktX7_feed_0 : List UInt8 := dkwX7_feed_0 ++ dktX7_feed_1
theorem dksX7_feed_0 : cX7_feed.data.toList.drop 0 = dktX7_feed_0 := by decide +kernel
theorem dksX7_feed_1 : cX7_feed.data.toList.drop 23 = dktX7_feed_1 := dk_seg dksX7_feed_0 23 rfl rfl
theorem dksX7_feed_2 : cX7_feed.data.toList.drop 47 = dktX7_feed_2 := dk_seg dksX7_feed_1 24 rfl rfl
theorem dksX7_feed_3 : cX7_feed.data.toList.drop 71 = dktX7_feed_3 := dk_seg dksX7_feed_2 24 rfl rfl
theorem dksX7_feed_4 : cX7_feed.data.toList.drop 95 = dktX7_feed_4 := dk_seg dksX7_feed_3 24 rfl rfl
theorem dksX7_feed_5 : cX7_feed.data.toList.drop 117 = dktX7_feed_5 := dk_seg dksX7_feed_4 22 rfl rfl
theorem dX7_feed_0 : decode cX7_feed 0 = .ok (.aload_n 0, 1) := dk_42 (dk_at dksX7_feed_0 0 rfl rfl)
theorem dX7_feed_1 : decode cX7_feed 1 = .ok (.iconst 0, 1) := dk_3 (dk_at dksX7_feed_0 1 rfl rfl)
theorem dX7_feed_2 : decode cX7_feed 2 = .ok (.putfield 77, 3) := dk_181 0 77 (dk_at dksX7_feed_0 2 rfl rfl)
theorem dX7_feed_5 : decode cX7_feed 5 = .ok (.aload_n 0, 1) := dk_42 (dk_at dksX7_feed_0 5 rfl rfl)
theorem dX7_feed_6 : decode cX7_feed 6 = .ok (.getfield 80, 3) := dk_180 0 80 (dk_at dksX7_feed_0 6 rfl rfl)
theorem dX7_feed_9 : decode cX7_feed 9 = .ok (.bipush 20, 2) := dk_16 20 (dk_at dksX7_feed_0 9 rfl rfl)
theorem dX7_feed_11 : decode cX7_feed 11 = .ok (.iadd, 1) := dk_96 (dk_at dksX7_feed_0 11 rfl rfl)
theorem dX7_feed_12 : decode cX7_feed 12 = .ok (.sipush 900, 3) := dk_17 3 132 (dk_at dksX7_feed_0 12 rfl rfl)
theorem dX7_feed_15 : decode cX7_feed 15 = .ok (.if_icmp .le 5, 3) := dk_164 0 5 (dk_at dksX7_feed_0 15 rfl rfl)
theorem dX7_feed_18 : decode cX7_feed 18 = .ok (.iconst (-1), 1) := dk_2 (dk_at dksX7_feed_0 18 rfl rfl)
theorem dX7_feed_19 : decode cX7_feed 19 = .ok (.ireturn, 1) := dk_172 (dk_at dksX7_feed_0 19 rfl rfl)
theorem dX7_feed_20 : decode cX7_feed 20 = .ok (.iconst 0, 1) := dk_3 (dk_at dksX7_feed_0 20 rfl rfl)
theorem dX7_feed_21 : decode cX7_feed 21 = .ok (.istore 6, 2) := dk_54 6 (dk_at dksX7_feed_0 21 rfl rfl)
theorem dX7_feed_23 : decode cX7_feed 23 = .ok (.iload 6, 2) := dk_21 6 (dk_at dksX7_feed_1 0 rfl rfl)
theorem dX7_feed_25 : decode cX7_feed 25 = .ok (.bipush 20, 2) := dk_16 20 (dk_at dksX7_feed_1 2 rfl rfl)
theorem dX7_feed_27 : decode cX7_feed 27 = .ok (.if_icmp .ge 93, 3) := dk_162 0 93 (dk_at dksX7_feed_1 4 rfl rfl)
theorem dX7_feed_30 : decode cX7_feed 30 = .ok (.iload 6, 2) := dk_21 6 (dk_at dksX7_feed_1 7 rfl rfl)
theorem dX7_feed_32 : decode cX7_feed 32 = .ok (.iconst 4, 1) := dk_7 (dk_at dksX7_feed_1 9 rfl rfl)
theorem dX7_feed_33 : decode cX7_feed 33 = .ok (.if_icmp .ge 7, 3) := dk_162 0 7 (dk_at dksX7_feed_1 10 rfl rfl)
theorem dX7_feed_36 : decode cX7_feed 36 = .ok (.iload_n 1, 1) := dk_27 (dk_at dksX7_feed_1 13 rfl rfl)
theorem dX7_feed_37 : decode cX7_feed 37 = .ok (.goto 39, 3) := dk_167 0 39 (dk_at dksX7_feed_1 14 rfl rfl)
theorem dX7_feed_40 : decode cX7_feed 40 = .ok (.iload 6, 2) := dk_21 6 (dk_at dksX7_feed_1 17 rfl rfl)
theorem dX7_feed_42 : decode cX7_feed 42 = .ok (.bipush 8, 2) := dk_16 8 (dk_at dksX7_feed_1 19 rfl rfl)
theorem dX7_feed_44 : decode cX7_feed 44 = .ok (.if_icmp .ge 7, 3) := dk_162 0 7 (dk_at dksX7_feed_1 21 rfl rfl)
theorem dX7_feed_47 : decode cX7_feed 47 = .ok (.iload_n 2, 1) := dk_28 (dk_at dksX7_feed_2 0 rfl rfl)
theorem dX7_feed_48 : decode cX7_feed 48 = .ok (.goto 28, 3) := dk_167 0 28 (dk_at dksX7_feed_2 1 rfl rfl)
theorem dX7_feed_51 : decode cX7_feed 51 = .ok (.iload 6, 2) := dk_21 6 (dk_at dksX7_feed_2 4 rfl rfl)
theorem dX7_feed_53 : decode cX7_feed 53 = .ok (.bipush 12, 2) := dk_16 12 (dk_at dksX7_feed_2 6 rfl rfl)
theorem dX7_feed_55 : decode cX7_feed 55 = .ok (.if_icmp .ge 7, 3) := dk_162 0 7 (dk_at dksX7_feed_2 8 rfl rfl)
theorem dX7_feed_58 : decode cX7_feed 58 = .ok (.iload_n 3, 1) := dk_29 (dk_at dksX7_feed_2 11 rfl rfl)
theorem dX7_feed_59 : decode cX7_feed 59 = .ok (.goto 17, 3) := dk_167 0 17 (dk_at dksX7_feed_2 12 rfl rfl)
theorem dX7_feed_62 : decode cX7_feed 62 = .ok (.iload 6, 2) := dk_21 6 (dk_at dksX7_feed_2 15 rfl rfl)
theorem dX7_feed_64 : decode cX7_feed 64 = .ok (.bipush 16, 2) := dk_16 16 (dk_at dksX7_feed_2 17 rfl rfl)
theorem dX7_feed_66 : decode cX7_feed 66 = .ok (.if_icmp .ge 8, 3) := dk_162 0 8 (dk_at dksX7_feed_2 19 rfl rfl)
theorem dX7_feed_69 : decode cX7_feed 69 = .ok (.iload 4, 2) := dk_21 4 (dk_at dksX7_feed_2 22 rfl rfl)
theorem dX7_feed_71 : decode cX7_feed 71 = .ok (.goto 5, 3) := dk_167 0 5 (dk_at dksX7_feed_3 0 rfl rfl)
theorem dX7_feed_74 : decode cX7_feed 74 = .ok (.iload 5, 2) := dk_21 5 (dk_at dksX7_feed_3 3 rfl rfl)
theorem dX7_feed_76 : decode cX7_feed 76 = .ok (.istore 7, 2) := dk_54 7 (dk_at dksX7_feed_3 5 rfl rfl)
theorem dX7_feed_78 : decode cX7_feed 78 = .ok (.aload_n 0, 1) := dk_42 (dk_at dksX7_feed_3 7 rfl rfl)
theorem dX7_feed_79 : decode cX7_feed 79 = .ok (.getfield 23, 3) := dk_180 0 23 (dk_at dksX7_feed_3 8 rfl rfl)
theorem dX7_feed_82 : decode cX7_feed 82 = .ok (.aload_n 0, 1) := dk_42 (dk_at dksX7_feed_3 11 rfl rfl)
theorem dX7_feed_83 : decode cX7_feed 83 = .ok (.getfield 80, 3) := dk_180 0 80 (dk_at dksX7_feed_3 12 rfl rfl)
theorem dX7_feed_86 : decode cX7_feed 86 = .ok (.iload 7, 2) := dk_21 7 (dk_at dksX7_feed_3 15 rfl rfl)
theorem dX7_feed_88 : decode cX7_feed 88 = .ok (.bipush 24, 2) := dk_16 24 (dk_at dksX7_feed_3 17 rfl rfl)
theorem dX7_feed_90 : decode cX7_feed 90 = .ok (.bipush 8, 2) := dk_16 8 (dk_at dksX7_feed_3 19 rfl rfl)
theorem dX7_feed_92 : decode cX7_feed 92 = .ok (.iload 6, 2) := dk_21 6 (dk_at dksX7_feed_3 21 rfl rfl)
theorem dX7_feed_94 : decode cX7_feed 94 = .ok (.iconst 3, 1) := dk_6 (dk_at dksX7_feed_3 23 rfl rfl)
theorem dX7_feed_95 : decode cX7_feed 95 = .ok (.iand, 1) := dk_126 (dk_at dksX7_feed_4 0 rfl rfl)
theorem dX7_feed_96 : decode cX7_feed 96 = .ok (.imul, 1) := dk_104 (dk_at dksX7_feed_4 1 rfl rfl)
theorem dX7_feed_97 : decode cX7_feed 97 = .ok (.isub, 1) := dk_100 (dk_at dksX7_feed_4 2 rfl rfl)
theorem dX7_feed_98 : decode cX7_feed 98 = .ok (.iushr, 1) := dk_124 (dk_at dksX7_feed_4 3 rfl rfl)
theorem dX7_feed_99 : decode cX7_feed 99 = .ok (.sipush 255, 3) := dk_17 0 255 (dk_at dksX7_feed_4 4 rfl rfl)
theorem dX7_feed_102 : decode cX7_feed 102 = .ok (.iand, 1) := dk_126 (dk_at dksX7_feed_4 7 rfl rfl)
theorem dX7_feed_103 : decode cX7_feed 103 = .ok (.iastore, 1) := dk_79 (dk_at dksX7_feed_4 8 rfl rfl)
theorem dX7_feed_104 : decode cX7_feed 104 = .ok (.aload_n 0, 1) := dk_42 (dk_at dksX7_feed_4 9 rfl rfl)
theorem dX7_feed_105 : decode cX7_feed 105 = .ok (.dup, 1) := dk_89 (dk_at dksX7_feed_4 10 rfl rfl)
theorem dX7_feed_106 : decode cX7_feed 106 = .ok (.getfield 80, 3) := dk_180 0 80 (dk_at dksX7_feed_4 11 rfl rfl)
theorem dX7_feed_109 : decode cX7_feed 109 = .ok (.iconst 1, 1) := dk_4 (dk_at dksX7_feed_4 14 rfl rfl)
theorem dX7_feed_110 : decode cX7_feed 110 = .ok (.iadd, 1) := dk_96 (dk_at dksX7_feed_4 15 rfl rfl)
theorem dX7_feed_111 : decode cX7_feed 111 = .ok (.putfield 80, 3) := dk_181 0 80 (dk_at dksX7_feed_4 16 rfl rfl)
theorem dX7_feed_114 : decode cX7_feed 114 = .ok (.iinc 6 1, 3) := dk_132 6 1 (dk_at dksX7_feed_4 19 rfl rfl)
theorem dX7_feed_117 : decode cX7_feed 117 = .ok (.goto (-94), 3) := dk_167 255 162 (dk_at dksX7_feed_5 0 rfl rfl)
theorem dX7_feed_120 : decode cX7_feed 120 = .ok (.aload_n 0, 1) := dk_42 (dk_at dksX7_feed_5 3 rfl rfl)
theorem dX7_feed_121 : decode cX7_feed 121 = .ok (.getfield 80, 3) := dk_180 0 80 (dk_at dksX7_feed_5 4 rfl rfl)
theorem dX7_feed_124 : decode cX7_feed 124 = .ok (.ireturn, 1) := dk_172 (dk_at dksX7_feed_5 7 rfl rfl)
abbrev cX7_napkin : ByteArray := prog_43_method_35_code
def yX7_napkin : MethodName := ⟨RX7, "napkin", "(I)I"⟩
def dkwX7_napkin_7 : List UInt8 := [132, 2, 1, 167, 255, 234, 42, 180, 0, 9, 3, 46, 172]
abbrev dktX7_napkin_7 : List UInt8 := dkwX7_napkin_7 ++ []
def dkwX7_napkin_6 : List UInt8 := [172, 3, 61, 28, 17, 11, 96, 162, 0, 21, 42, 180, 0, 9, 28, 42, 180, 0, 13, 28, 46, 79]
abbrev dktX7_napkin_6 : List UInt8 := dkwX7_napkin_6 ++ dktX7_napkin_7
def dkwX7_napkin_5 : List UInt8 := [167, 0, 7, 42, 180, 0, 115, 181, 0, 26, 42, 180, 0, 112, 153, 0, 11, 16, 246, 42, 180, 0, 112, 100]
abbrev dktX7_napkin_5 : List UInt8 := dkwX7_napkin_5 ++ dktX7_napkin_6
def dkwX7_napkin_4 : List UInt8 := [182, 0, 247, 167, 255, 238, 42, 42, 180, 0, 112, 181, 0, 250, 42, 42, 180, 0, 112, 154, 0, 7, 2]
abbrev dktX7_napkin_4 : List UInt8 := dkwX7_napkin_4 ++ dktX7_napkin_5
def dkwX7_napkin_3 : List UInt8 := [167, 255, 239, 42, 182, 0, 131, 42, 180, 0, 112, 154, 0, 17, 42, 180, 0, 92, 153, 0, 10, 42]
abbrev dktX7_napkin_3 : List UInt8 := dkwX7_napkin_3 ++ dktX7_napkin_4
def dkwX7_napkin_2 : List UInt8 := [181, 0, 154, 3, 61, 28, 17, 11, 96, 162, 0, 16, 42, 180, 0, 13, 28, 3, 79, 132, 2, 1]
abbrev dktX7_napkin_2 : List UInt8 := dkwX7_napkin_2 ++ dktX7_napkin_3
def dkwX7_napkin_1 : List UInt8 := [172, 42, 27, 181, 0, 83, 42, 3, 181, 0, 80, 42, 3, 181, 0, 86, 42, 3, 181, 0, 112, 42, 3]
abbrev dktX7_napkin_1 : List UInt8 := dkwX7_napkin_1 ++ dktX7_napkin_2
def dkwX7_napkin_0 : List UInt8 := [42, 3, 181, 0, 77, 27, 133, 9, 42, 180, 0, 80, 133, 184, 0, 138, 154, 0, 9, 42, 4, 182, 0, 244]
abbrev dktX7_napkin_0 : List UInt8 := dkwX7_napkin_0 ++ dktX7_napkin_1
theorem dksX7_napkin_0 : cX7_napkin.data.toList.drop 0 = dktX7_napkin_0 := by decide +kernel
theorem dksX7_napkin_1 : cX7_napkin.data.toList.drop 24 = dktX7_napkin_1 := dk_seg dksX7_napkin_0 24 rfl rfl
theorem dksX7_napkin_2 : cX7_napkin.data.toList.drop 47 = dktX7_napkin_2 := dk_seg dksX7_napkin_1 23 rfl rfl
theorem dksX7_napkin_3 : cX7_napkin.data.toList.drop 69 = dktX7_napkin_3 := dk_seg dksX7_napkin_2 22 rfl rfl
theorem dksX7_napkin_4 : cX7_napkin.data.toList.drop 91 = dktX7_napkin_4 := dk_seg dksX7_napkin_3 22 rfl rfl
theorem dksX7_napkin_5 : cX7_napkin.data.toList.drop 114 = dktX7_napkin_5 := dk_seg dksX7_napkin_4 23 rfl rfl
theorem dksX7_napkin_6 : cX7_napkin.data.toList.drop 138 = dktX7_napkin_6 := dk_seg dksX7_napkin_5 24 rfl rfl
theorem dksX7_napkin_7 : cX7_napkin.data.toList.drop 160 = dktX7_napkin_7 := dk_seg dksX7_napkin_6 22 rfl rfl
theorem dX7_napkin_0 : decode cX7_napkin 0 = .ok (.aload_n 0, 1) := dk_42 (dk_at dksX7_napkin_0 0 rfl rfl)
theorem dX7_napkin_1 : decode cX7_napkin 1 = .ok (.iconst 0, 1) := dk_3 (dk_at dksX7_napkin_0 1 rfl rfl)
theorem dX7_napkin_2 : decode cX7_napkin 2 = .ok (.putfield 77, 3) := dk_181 0 77 (dk_at dksX7_napkin_0 2 rfl rfl)
theorem dX7_napkin_5 : decode cX7_napkin 5 = .ok (.iload_n 1, 1) := dk_27 (dk_at dksX7_napkin_0 5 rfl rfl)
theorem dX7_napkin_6 : decode cX7_napkin 6 = .ok (.i2l, 1) := dk_133 (dk_at dksX7_napkin_0 6 rfl rfl)
theorem dX7_napkin_7 : decode cX7_napkin 7 = .ok (.lconst 0, 1) := dk_9 (dk_at dksX7_napkin_0 7 rfl rfl)
theorem dX7_napkin_8 : decode cX7_napkin 8 = .ok (.aload_n 0, 1) := dk_42 (dk_at dksX7_napkin_0 8 rfl rfl)
theorem dX7_napkin_9 : decode cX7_napkin 9 = .ok (.getfield 80, 3) := dk_180 0 80 (dk_at dksX7_napkin_0 9 rfl rfl)
theorem dX7_napkin_12 : decode cX7_napkin 12 = .ok (.i2l, 1) := dk_133 (dk_at dksX7_napkin_0 12 rfl rfl)
theorem dX7_napkin_13 : decode cX7_napkin 13 = .ok (.invokestatic 138, 3) := dk_184 0 138 (dk_at dksX7_napkin_0 13 rfl rfl)
theorem dX7_napkin_16 : decode cX7_napkin 16 = .ok (.ifCond .ne 9, 3) := dk_154 0 9 (dk_at dksX7_napkin_0 16 rfl rfl)
theorem dX7_napkin_19 : decode cX7_napkin 19 = .ok (.aload_n 0, 1) := dk_42 (dk_at dksX7_napkin_0 19 rfl rfl)
theorem dX7_napkin_20 : decode cX7_napkin 20 = .ok (.iconst 1, 1) := dk_4 (dk_at dksX7_napkin_0 20 rfl rfl)
theorem dX7_napkin_21 : decode cX7_napkin 21 = .ok (.invokevirtual 244, 3) := dk_182 0 244 (dk_at dksX7_napkin_0 21 rfl rfl)
theorem dX7_napkin_24 : decode cX7_napkin 24 = .ok (.ireturn, 1) := dk_172 (dk_at dksX7_napkin_1 0 rfl rfl)
theorem dX7_napkin_25 : decode cX7_napkin 25 = .ok (.aload_n 0, 1) := dk_42 (dk_at dksX7_napkin_1 1 rfl rfl)
theorem dX7_napkin_26 : decode cX7_napkin 26 = .ok (.iload_n 1, 1) := dk_27 (dk_at dksX7_napkin_1 2 rfl rfl)
theorem dX7_napkin_27 : decode cX7_napkin 27 = .ok (.putfield 83, 3) := dk_181 0 83 (dk_at dksX7_napkin_1 3 rfl rfl)
theorem dX7_napkin_30 : decode cX7_napkin 30 = .ok (.aload_n 0, 1) := dk_42 (dk_at dksX7_napkin_1 6 rfl rfl)
theorem dX7_napkin_31 : decode cX7_napkin 31 = .ok (.iconst 0, 1) := dk_3 (dk_at dksX7_napkin_1 7 rfl rfl)
theorem dX7_napkin_32 : decode cX7_napkin 32 = .ok (.putfield 80, 3) := dk_181 0 80 (dk_at dksX7_napkin_1 8 rfl rfl)
theorem dX7_napkin_35 : decode cX7_napkin 35 = .ok (.aload_n 0, 1) := dk_42 (dk_at dksX7_napkin_1 11 rfl rfl)
theorem dX7_napkin_36 : decode cX7_napkin 36 = .ok (.iconst 0, 1) := dk_3 (dk_at dksX7_napkin_1 12 rfl rfl)
theorem dX7_napkin_37 : decode cX7_napkin 37 = .ok (.putfield 86, 3) := dk_181 0 86 (dk_at dksX7_napkin_1 13 rfl rfl)
theorem dX7_napkin_40 : decode cX7_napkin 40 = .ok (.aload_n 0, 1) := dk_42 (dk_at dksX7_napkin_1 16 rfl rfl)
theorem dX7_napkin_41 : decode cX7_napkin 41 = .ok (.iconst 0, 1) := dk_3 (dk_at dksX7_napkin_1 17 rfl rfl)
theorem dX7_napkin_42 : decode cX7_napkin 42 = .ok (.putfield 112, 3) := dk_181 0 112 (dk_at dksX7_napkin_1 18 rfl rfl)
theorem dX7_napkin_45 : decode cX7_napkin 45 = .ok (.aload_n 0, 1) := dk_42 (dk_at dksX7_napkin_1 21 rfl rfl)
theorem dX7_napkin_46 : decode cX7_napkin 46 = .ok (.iconst 0, 1) := dk_3 (dk_at dksX7_napkin_1 22 rfl rfl)
theorem dX7_napkin_47 : decode cX7_napkin 47 = .ok (.putfield 154, 3) := dk_181 0 154 (dk_at dksX7_napkin_2 0 rfl rfl)
theorem dX7_napkin_50 : decode cX7_napkin 50 = .ok (.iconst 0, 1) := dk_3 (dk_at dksX7_napkin_2 3 rfl rfl)
theorem dX7_napkin_51 : decode cX7_napkin 51 = .ok (.istore_n 2, 1) := dk_61 (dk_at dksX7_napkin_2 4 rfl rfl)
theorem dX7_napkin_52 : decode cX7_napkin 52 = .ok (.iload_n 2, 1) := dk_28 (dk_at dksX7_napkin_2 5 rfl rfl)
theorem dX7_napkin_53 : decode cX7_napkin 53 = .ok (.sipush 2912, 3) := dk_17 11 96 (dk_at dksX7_napkin_2 6 rfl rfl)
theorem dX7_napkin_56 : decode cX7_napkin 56 = .ok (.if_icmp .ge 16, 3) := dk_162 0 16 (dk_at dksX7_napkin_2 9 rfl rfl)
theorem dX7_napkin_59 : decode cX7_napkin 59 = .ok (.aload_n 0, 1) := dk_42 (dk_at dksX7_napkin_2 12 rfl rfl)
theorem dX7_napkin_60 : decode cX7_napkin 60 = .ok (.getfield 13, 3) := dk_180 0 13 (dk_at dksX7_napkin_2 13 rfl rfl)
theorem dX7_napkin_63 : decode cX7_napkin 63 = .ok (.iload_n 2, 1) := dk_28 (dk_at dksX7_napkin_2 16 rfl rfl)
theorem dX7_napkin_64 : decode cX7_napkin 64 = .ok (.iconst 0, 1) := dk_3 (dk_at dksX7_napkin_2 17 rfl rfl)
theorem dX7_napkin_65 : decode cX7_napkin 65 = .ok (.iastore, 1) := dk_79 (dk_at dksX7_napkin_2 18 rfl rfl)
theorem dX7_napkin_66 : decode cX7_napkin 66 = .ok (.iinc 2 1, 3) := dk_132 2 1 (dk_at dksX7_napkin_2 19 rfl rfl)
theorem dX7_napkin_69 : decode cX7_napkin 69 = .ok (.goto (-17), 3) := dk_167 255 239 (dk_at dksX7_napkin_3 0 rfl rfl)
theorem dX7_napkin_72 : decode cX7_napkin 72 = .ok (.aload_n 0, 1) := dk_42 (dk_at dksX7_napkin_3 3 rfl rfl)
theorem dX7_napkin_73 : decode cX7_napkin 73 = .ok (.invokevirtual 131, 3) := dk_182 0 131 (dk_at dksX7_napkin_3 4 rfl rfl)
theorem dX7_napkin_76 : decode cX7_napkin 76 = .ok (.aload_n 0, 1) := dk_42 (dk_at dksX7_napkin_3 7 rfl rfl)
theorem dX7_napkin_77 : decode cX7_napkin 77 = .ok (.getfield 112, 3) := dk_180 0 112 (dk_at dksX7_napkin_3 8 rfl rfl)
theorem dX7_napkin_80 : decode cX7_napkin 80 = .ok (.ifCond .ne 17, 3) := dk_154 0 17 (dk_at dksX7_napkin_3 11 rfl rfl)
theorem dX7_napkin_83 : decode cX7_napkin 83 = .ok (.aload_n 0, 1) := dk_42 (dk_at dksX7_napkin_3 14 rfl rfl)
theorem dX7_napkin_84 : decode cX7_napkin 84 = .ok (.getfield 92, 3) := dk_180 0 92 (dk_at dksX7_napkin_3 15 rfl rfl)
theorem dX7_napkin_87 : decode cX7_napkin 87 = .ok (.ifCond .eq 10, 3) := dk_153 0 10 (dk_at dksX7_napkin_3 18 rfl rfl)
theorem dX7_napkin_90 : decode cX7_napkin 90 = .ok (.aload_n 0, 1) := dk_42 (dk_at dksX7_napkin_3 21 rfl rfl)
theorem dX7_napkin_91 : decode cX7_napkin 91 = .ok (.invokevirtual 247, 3) := dk_182 0 247 (dk_at dksX7_napkin_4 0 rfl rfl)
theorem dX7_napkin_94 : decode cX7_napkin 94 = .ok (.goto (-18), 3) := dk_167 255 238 (dk_at dksX7_napkin_4 3 rfl rfl)
theorem dX7_napkin_97 : decode cX7_napkin 97 = .ok (.aload_n 0, 1) := dk_42 (dk_at dksX7_napkin_4 6 rfl rfl)
theorem dX7_napkin_98 : decode cX7_napkin 98 = .ok (.aload_n 0, 1) := dk_42 (dk_at dksX7_napkin_4 7 rfl rfl)
theorem dX7_napkin_99 : decode cX7_napkin 99 = .ok (.getfield 112, 3) := dk_180 0 112 (dk_at dksX7_napkin_4 8 rfl rfl)
theorem dX7_napkin_102 : decode cX7_napkin 102 = .ok (.putfield 250, 3) := dk_181 0 250 (dk_at dksX7_napkin_4 11 rfl rfl)
theorem dX7_napkin_105 : decode cX7_napkin 105 = .ok (.aload_n 0, 1) := dk_42 (dk_at dksX7_napkin_4 14 rfl rfl)
theorem dX7_napkin_106 : decode cX7_napkin 106 = .ok (.aload_n 0, 1) := dk_42 (dk_at dksX7_napkin_4 15 rfl rfl)
theorem dX7_napkin_107 : decode cX7_napkin 107 = .ok (.getfield 112, 3) := dk_180 0 112 (dk_at dksX7_napkin_4 16 rfl rfl)
theorem dX7_napkin_110 : decode cX7_napkin 110 = .ok (.ifCond .ne 7, 3) := dk_154 0 7 (dk_at dksX7_napkin_4 19 rfl rfl)
theorem dX7_napkin_113 : decode cX7_napkin 113 = .ok (.iconst (-1), 1) := dk_2 (dk_at dksX7_napkin_4 22 rfl rfl)
theorem dX7_napkin_114 : decode cX7_napkin 114 = .ok (.goto 7, 3) := dk_167 0 7 (dk_at dksX7_napkin_5 0 rfl rfl)
theorem dX7_napkin_117 : decode cX7_napkin 117 = .ok (.aload_n 0, 1) := dk_42 (dk_at dksX7_napkin_5 3 rfl rfl)
theorem dX7_napkin_118 : decode cX7_napkin 118 = .ok (.getfield 115, 3) := dk_180 0 115 (dk_at dksX7_napkin_5 4 rfl rfl)
theorem dX7_napkin_121 : decode cX7_napkin 121 = .ok (.putfield 26, 3) := dk_181 0 26 (dk_at dksX7_napkin_5 7 rfl rfl)
theorem dX7_napkin_124 : decode cX7_napkin 124 = .ok (.aload_n 0, 1) := dk_42 (dk_at dksX7_napkin_5 10 rfl rfl)
theorem dX7_napkin_125 : decode cX7_napkin 125 = .ok (.getfield 112, 3) := dk_180 0 112 (dk_at dksX7_napkin_5 11 rfl rfl)
theorem dX7_napkin_128 : decode cX7_napkin 128 = .ok (.ifCond .eq 11, 3) := dk_153 0 11 (dk_at dksX7_napkin_5 14 rfl rfl)
theorem dX7_napkin_131 : decode cX7_napkin 131 = .ok (.bipush (-10), 2) := dk_16 246 (dk_at dksX7_napkin_5 17 rfl rfl)
theorem dX7_napkin_133 : decode cX7_napkin 133 = .ok (.aload_n 0, 1) := dk_42 (dk_at dksX7_napkin_5 19 rfl rfl)
theorem dX7_napkin_134 : decode cX7_napkin 134 = .ok (.getfield 112, 3) := dk_180 0 112 (dk_at dksX7_napkin_5 20 rfl rfl)
theorem dX7_napkin_137 : decode cX7_napkin 137 = .ok (.isub, 1) := dk_100 (dk_at dksX7_napkin_5 23 rfl rfl)
theorem dX7_napkin_138 : decode cX7_napkin 138 = .ok (.ireturn, 1) := dk_172 (dk_at dksX7_napkin_6 0 rfl rfl)
theorem dX7_napkin_139 : decode cX7_napkin 139 = .ok (.iconst 0, 1) := dk_3 (dk_at dksX7_napkin_6 1 rfl rfl)
theorem dX7_napkin_140 : decode cX7_napkin 140 = .ok (.istore_n 2, 1) := dk_61 (dk_at dksX7_napkin_6 2 rfl rfl)
theorem dX7_napkin_141 : decode cX7_napkin 141 = .ok (.iload_n 2, 1) := dk_28 (dk_at dksX7_napkin_6 3 rfl rfl)
theorem dX7_napkin_142 : decode cX7_napkin 142 = .ok (.sipush 2912, 3) := dk_17 11 96 (dk_at dksX7_napkin_6 4 rfl rfl)
theorem dX7_napkin_145 : decode cX7_napkin 145 = .ok (.if_icmp .ge 21, 3) := dk_162 0 21 (dk_at dksX7_napkin_6 7 rfl rfl)
theorem dX7_napkin_148 : decode cX7_napkin 148 = .ok (.aload_n 0, 1) := dk_42 (dk_at dksX7_napkin_6 10 rfl rfl)
theorem dX7_napkin_149 : decode cX7_napkin 149 = .ok (.getfield 9, 3) := dk_180 0 9 (dk_at dksX7_napkin_6 11 rfl rfl)
theorem dX7_napkin_152 : decode cX7_napkin 152 = .ok (.iload_n 2, 1) := dk_28 (dk_at dksX7_napkin_6 14 rfl rfl)
theorem dX7_napkin_153 : decode cX7_napkin 153 = .ok (.aload_n 0, 1) := dk_42 (dk_at dksX7_napkin_6 15 rfl rfl)
theorem dX7_napkin_154 : decode cX7_napkin 154 = .ok (.getfield 13, 3) := dk_180 0 13 (dk_at dksX7_napkin_6 16 rfl rfl)
theorem dX7_napkin_157 : decode cX7_napkin 157 = .ok (.iload_n 2, 1) := dk_28 (dk_at dksX7_napkin_6 19 rfl rfl)
theorem dX7_napkin_158 : decode cX7_napkin 158 = .ok (.iaload, 1) := dk_46 (dk_at dksX7_napkin_6 20 rfl rfl)
theorem dX7_napkin_159 : decode cX7_napkin 159 = .ok (.iastore, 1) := dk_79 (dk_at dksX7_napkin_6 21 rfl rfl)
theorem dX7_napkin_160 : decode cX7_napkin 160 = .ok (.iinc 2 1, 3) := dk_132 2 1 (dk_at dksX7_napkin_7 0 rfl rfl)
theorem dX7_napkin_163 : decode cX7_napkin 163 = .ok (.goto (-22), 3) := dk_167 255 234 (dk_at dksX7_napkin_7 3 rfl rfl)
theorem dX7_napkin_166 : decode cX7_napkin 166 = .ok (.aload_n 0, 1) := dk_42 (dk_at dksX7_napkin_7 6 rfl rfl)
theorem dX7_napkin_167 : decode cX7_napkin 167 = .ok (.getfield 9, 3) := dk_180 0 9 (dk_at dksX7_napkin_7 7 rfl rfl)
theorem dX7_napkin_170 : decode cX7_napkin 170 = .ok (.iconst 0, 1) := dk_3 (dk_at dksX7_napkin_7 10 rfl rfl)
theorem dX7_napkin_171 : decode cX7_napkin 171 = .ok (.iaload, 1) := dk_46 (dk_at dksX7_napkin_7 11 rfl rfl)
theorem dX7_napkin_172 : decode cX7_napkin 172 = .ok (.ireturn, 1) := dk_172 (dk_at dksX7_napkin_7 12 rfl rfl)
abbrev cX7_within : ByteArray := prog_43_method_4_code
def yX7_within : MethodName := ⟨RX7, "within", "(JJJ)Z"⟩
def dkwX7_within_0 : List UInt8 := [30, 32, 148, 155, 0, 14, 30, 22, 4, 148, 157, 0, 7, 4, 167, 0, 4, 3, 172]
abbrev dktX7_within_0 : List UInt8 := dkwX7_within_0 ++ []
theorem dksX7_within_0 : cX7_within.data.toList.drop 0 = dktX7_within_0 := by decide +kernel
theorem dX7_within_0 : decode cX7_within 0 = .ok (.lload_n 0, 1) := dk_30 (dk_at dksX7_within_0 0 rfl rfl)
theorem dX7_within_1 : decode cX7_within 1 = .ok (.lload_n 2, 1) := dk_32 (dk_at dksX7_within_0 1 rfl rfl)
theorem dX7_within_2 : decode cX7_within 2 = .ok (.lcmp, 1) := dk_148 (dk_at dksX7_within_0 2 rfl rfl)
theorem dX7_within_3 : decode cX7_within 3 = .ok (.ifCond .lt 14, 3) := dk_155 0 14 (dk_at dksX7_within_0 3 rfl rfl)
theorem dX7_within_6 : decode cX7_within 6 = .ok (.lload_n 0, 1) := dk_30 (dk_at dksX7_within_0 6 rfl rfl)
theorem dX7_within_7 : decode cX7_within 7 = .ok (.lload 4, 2) := dk_22 4 (dk_at dksX7_within_0 7 rfl rfl)
theorem dX7_within_9 : decode cX7_within 9 = .ok (.lcmp, 1) := dk_148 (dk_at dksX7_within_0 9 rfl rfl)
theorem dX7_within_10 : decode cX7_within 10 = .ok (.ifCond .gt 7, 3) := dk_157 0 7 (dk_at dksX7_within_0 10 rfl rfl)
theorem dX7_within_13 : decode cX7_within 13 = .ok (.iconst 1, 1) := dk_4 (dk_at dksX7_within_0 13 rfl rfl)
theorem dX7_within_14 : decode cX7_within 14 = .ok (.goto 4, 3) := dk_167 0 4 (dk_at dksX7_within_0 14 rfl rfl)
theorem dX7_within_17 : decode cX7_within 17 = .ok (.iconst 0, 1) := dk_3 (dk_at dksX7_within_0 17 rfl rfl)
theorem dX7_within_18 : decode cX7_within 18 = .ok (.ireturn, 1) := dk_172 (dk_at dksX7_within_0 18 rfl rfl)
abbrev cX7_fails : ByteArray := prog_43_method_3_code
def yX7_fails : MethodName := ⟨RX7, "fails", "(I)I"⟩
def dkwX7_fails_0 : List UInt8 := [42, 27, 181, 0, 77, 3, 172]
abbrev dktX7_fails_0 : List UInt8 := dkwX7_fails_0 ++ []
theorem dksX7_fails_0 : cX7_fails.data.toList.drop 0 = dktX7_fails_0 := by decide +kernel
theorem dX7_fails_0 : decode cX7_fails 0 = .ok (.aload_n 0, 1) := dk_42 (dk_at dksX7_fails_0 0 rfl rfl)
theorem dX7_fails_1 : decode cX7_fails 1 = .ok (.iload_n 1, 1) := dk_27 (dk_at dksX7_fails_0 1 rfl rfl)
theorem dX7_fails_2 : decode cX7_fails 2 = .ok (.putfield 77, 3) := dk_181 0 77 (dk_at dksX7_fails_0 2 rfl rfl)
theorem dX7_fails_5 : decode cX7_fails 5 = .ok (.iconst 0, 1) := dk_3 (dk_at dksX7_fails_0 5 rfl rfl)
theorem dX7_fails_6 : decode cX7_fails 6 = .ok (.ireturn, 1) := dk_172 (dk_at dksX7_fails_0 6 rfl rfl)
abbrev cX7_readsOn : ByteArray := prog_43_method_12_code
def yX7_readsOn : MethodName := ⟨RX7, "readsOn", "()V"⟩
def dkwX7_readsOn_11 : List UInt8 := [180, 0, 86, 4, 96, 181, 0, 86, 177]
abbrev dktX7_readsOn_11 : List UInt8 := dkwX7_readsOn_11 ++ []
def dkwX7_readsOn_10 : List UInt8 := [181, 0, 92, 167, 0, 29, 42, 27, 184, 0, 109, 153, 0, 7, 27, 167, 0, 4, 6, 181, 0, 92, 42, 89]
abbrev dktX7_readsOn_10 : List UInt8 := dkwX7_readsOn_10 ++ dktX7_readsOn_11
def dkwX7_readsOn_9 : List UInt8 := [167, 255, 188, 42, 42, 180, 0, 86, 42, 180, 0, 89, 100, 6, 164, 0, 7, 6, 167, 0, 4, 5]
abbrev dktX7_readsOn_9 : List UInt8 := dkwX7_readsOn_9 ++ dktX7_readsOn_10
def dkwX7_readsOn_8 : List UInt8 := [96, 16, 48, 100, 167, 0, 7, 42, 180, 0, 106, 181, 0, 106, 42, 89, 180, 0, 86, 4, 96, 181, 0, 86]
abbrev dktX7_readsOn_8 : List UInt8 := dkwX7_readsOn_8 ++ dktX7_readsOn_9
def dkwX7_readsOn_7 : List UInt8 := [180, 0, 89, 100, 6, 162, 0, 26, 16, 10, 42, 180, 0, 106, 104, 42, 180, 0, 23, 42, 180, 0, 86, 46]
abbrev dktX7_readsOn_7 : List UInt8 := dkwX7_readsOn_7 ++ dktX7_readsOn_8
def dkwX7_readsOn_6 : List UInt8 := [181, 0, 106, 42, 42, 180, 0, 86, 182, 0, 99, 184, 0, 103, 153, 0, 60, 42, 42, 180, 0, 86, 42]
abbrev dktX7_readsOn_6 : List UInt8 := dkwX7_readsOn_6 ++ dktX7_readsOn_7
def dkwX7_readsOn_5 : List UInt8 := [181, 0, 86, 167, 255, 232, 42, 4, 181, 0, 92, 167, 0, 137, 27, 184, 0, 103, 153, 0, 104, 42, 3]
abbrev dktX7_readsOn_5 : List UInt8 := dkwX7_readsOn_5 ++ dktX7_readsOn_6
def dkwX7_readsOn_4 : List UInt8 := [153, 0, 38, 42, 42, 180, 0, 86, 182, 0, 99, 184, 0, 95, 153, 0, 16, 42, 89, 180, 0, 86, 4, 96]
abbrev dktX7_readsOn_4 : List UInt8 := dkwX7_readsOn_4 ++ dktX7_readsOn_5
def dkwX7_readsOn_3 : List UInt8 := [161, 0, 9, 42, 3, 181, 0, 92, 177, 42, 180, 0, 23, 42, 180, 0, 86, 46, 60, 27, 184, 0, 95]
abbrev dktX7_readsOn_3 : List UInt8 := dkwX7_readsOn_3 ++ dktX7_readsOn_4
def dkwX7_readsOn_2 : List UInt8 := [181, 0, 86, 167, 255, 207, 42, 42, 180, 0, 86, 181, 0, 89, 42, 180, 0, 86, 42, 180, 0, 83]
abbrev dktX7_readsOn_2 : List UInt8 := dkwX7_readsOn_2 ++ dktX7_readsOn_3
def dkwX7_readsOn_1 : List UInt8 := [159, 0, 17, 42, 180, 0, 23, 42, 180, 0, 86, 46, 16, 10, 160, 0, 16, 42, 89, 180, 0, 86, 4, 96]
abbrev dktX7_readsOn_1 : List UInt8 := dkwX7_readsOn_1 ++ dktX7_readsOn_2
def dkwX7_readsOn_0 : List UInt8 := [42, 180, 0, 86, 42, 180, 0, 83, 162, 0, 44, 42, 180, 0, 23, 42, 180, 0, 86, 46, 16, 32]
abbrev dktX7_readsOn_0 : List UInt8 := dkwX7_readsOn_0 ++ dktX7_readsOn_1
theorem dksX7_readsOn_0 : cX7_readsOn.data.toList.drop 0 = dktX7_readsOn_0 := by decide +kernel
theorem dksX7_readsOn_1 : cX7_readsOn.data.toList.drop 22 = dktX7_readsOn_1 := dk_seg dksX7_readsOn_0 22 rfl rfl
theorem dksX7_readsOn_2 : cX7_readsOn.data.toList.drop 46 = dktX7_readsOn_2 := dk_seg dksX7_readsOn_1 24 rfl rfl
theorem dksX7_readsOn_3 : cX7_readsOn.data.toList.drop 68 = dktX7_readsOn_3 := dk_seg dksX7_readsOn_2 22 rfl rfl
theorem dksX7_readsOn_4 : cX7_readsOn.data.toList.drop 91 = dktX7_readsOn_4 := dk_seg dksX7_readsOn_3 23 rfl rfl
theorem dksX7_readsOn_5 : cX7_readsOn.data.toList.drop 115 = dktX7_readsOn_5 := dk_seg dksX7_readsOn_4 24 rfl rfl
theorem dksX7_readsOn_6 : cX7_readsOn.data.toList.drop 138 = dktX7_readsOn_6 := dk_seg dksX7_readsOn_5 23 rfl rfl
theorem dksX7_readsOn_7 : cX7_readsOn.data.toList.drop 161 = dktX7_readsOn_7 := dk_seg dksX7_readsOn_6 23 rfl rfl
theorem dksX7_readsOn_8 : cX7_readsOn.data.toList.drop 185 = dktX7_readsOn_8 := dk_seg dksX7_readsOn_7 24 rfl rfl
theorem dksX7_readsOn_9 : cX7_readsOn.data.toList.drop 209 = dktX7_readsOn_9 := dk_seg dksX7_readsOn_8 24 rfl rfl
theorem dksX7_readsOn_10 : cX7_readsOn.data.toList.drop 231 = dktX7_readsOn_10 := dk_seg dksX7_readsOn_9 22 rfl rfl
theorem dksX7_readsOn_11 : cX7_readsOn.data.toList.drop 255 = dktX7_readsOn_11 := dk_seg dksX7_readsOn_10 24 rfl rfl
theorem dX7_readsOn_0 : decode cX7_readsOn 0 = .ok (.aload_n 0, 1) := dk_42 (dk_at dksX7_readsOn_0 0 rfl rfl)
theorem dX7_readsOn_1 : decode cX7_readsOn 1 = .ok (.getfield 86, 3) := dk_180 0 86 (dk_at dksX7_readsOn_0 1 rfl rfl)
theorem dX7_readsOn_4 : decode cX7_readsOn 4 = .ok (.aload_n 0, 1) := dk_42 (dk_at dksX7_readsOn_0 4 rfl rfl)
theorem dX7_readsOn_5 : decode cX7_readsOn 5 = .ok (.getfield 83, 3) := dk_180 0 83 (dk_at dksX7_readsOn_0 5 rfl rfl)
theorem dX7_readsOn_8 : decode cX7_readsOn 8 = .ok (.if_icmp .ge 44, 3) := dk_162 0 44 (dk_at dksX7_readsOn_0 8 rfl rfl)
theorem dX7_readsOn_11 : decode cX7_readsOn 11 = .ok (.aload_n 0, 1) := dk_42 (dk_at dksX7_readsOn_0 11 rfl rfl)
theorem dX7_readsOn_12 : decode cX7_readsOn 12 = .ok (.getfield 23, 3) := dk_180 0 23 (dk_at dksX7_readsOn_0 12 rfl rfl)
theorem dX7_readsOn_15 : decode cX7_readsOn 15 = .ok (.aload_n 0, 1) := dk_42 (dk_at dksX7_readsOn_0 15 rfl rfl)
theorem dX7_readsOn_16 : decode cX7_readsOn 16 = .ok (.getfield 86, 3) := dk_180 0 86 (dk_at dksX7_readsOn_0 16 rfl rfl)
theorem dX7_readsOn_19 : decode cX7_readsOn 19 = .ok (.iaload, 1) := dk_46 (dk_at dksX7_readsOn_0 19 rfl rfl)
theorem dX7_readsOn_20 : decode cX7_readsOn 20 = .ok (.bipush 32, 2) := dk_16 32 (dk_at dksX7_readsOn_0 20 rfl rfl)
theorem dX7_readsOn_22 : decode cX7_readsOn 22 = .ok (.if_icmp .eq 17, 3) := dk_159 0 17 (dk_at dksX7_readsOn_1 0 rfl rfl)
theorem dX7_readsOn_25 : decode cX7_readsOn 25 = .ok (.aload_n 0, 1) := dk_42 (dk_at dksX7_readsOn_1 3 rfl rfl)
theorem dX7_readsOn_26 : decode cX7_readsOn 26 = .ok (.getfield 23, 3) := dk_180 0 23 (dk_at dksX7_readsOn_1 4 rfl rfl)
theorem dX7_readsOn_29 : decode cX7_readsOn 29 = .ok (.aload_n 0, 1) := dk_42 (dk_at dksX7_readsOn_1 7 rfl rfl)
theorem dX7_readsOn_30 : decode cX7_readsOn 30 = .ok (.getfield 86, 3) := dk_180 0 86 (dk_at dksX7_readsOn_1 8 rfl rfl)
theorem dX7_readsOn_33 : decode cX7_readsOn 33 = .ok (.iaload, 1) := dk_46 (dk_at dksX7_readsOn_1 11 rfl rfl)
theorem dX7_readsOn_34 : decode cX7_readsOn 34 = .ok (.bipush 10, 2) := dk_16 10 (dk_at dksX7_readsOn_1 12 rfl rfl)
theorem dX7_readsOn_36 : decode cX7_readsOn 36 = .ok (.if_icmp .ne 16, 3) := dk_160 0 16 (dk_at dksX7_readsOn_1 14 rfl rfl)
theorem dX7_readsOn_39 : decode cX7_readsOn 39 = .ok (.aload_n 0, 1) := dk_42 (dk_at dksX7_readsOn_1 17 rfl rfl)
theorem dX7_readsOn_40 : decode cX7_readsOn 40 = .ok (.dup, 1) := dk_89 (dk_at dksX7_readsOn_1 18 rfl rfl)
theorem dX7_readsOn_41 : decode cX7_readsOn 41 = .ok (.getfield 86, 3) := dk_180 0 86 (dk_at dksX7_readsOn_1 19 rfl rfl)
theorem dX7_readsOn_44 : decode cX7_readsOn 44 = .ok (.iconst 1, 1) := dk_4 (dk_at dksX7_readsOn_1 22 rfl rfl)
theorem dX7_readsOn_45 : decode cX7_readsOn 45 = .ok (.iadd, 1) := dk_96 (dk_at dksX7_readsOn_1 23 rfl rfl)
theorem dX7_readsOn_46 : decode cX7_readsOn 46 = .ok (.putfield 86, 3) := dk_181 0 86 (dk_at dksX7_readsOn_2 0 rfl rfl)
theorem dX7_readsOn_49 : decode cX7_readsOn 49 = .ok (.goto (-49), 3) := dk_167 255 207 (dk_at dksX7_readsOn_2 3 rfl rfl)
theorem dX7_readsOn_52 : decode cX7_readsOn 52 = .ok (.aload_n 0, 1) := dk_42 (dk_at dksX7_readsOn_2 6 rfl rfl)
theorem dX7_readsOn_53 : decode cX7_readsOn 53 = .ok (.aload_n 0, 1) := dk_42 (dk_at dksX7_readsOn_2 7 rfl rfl)
theorem dX7_readsOn_54 : decode cX7_readsOn 54 = .ok (.getfield 86, 3) := dk_180 0 86 (dk_at dksX7_readsOn_2 8 rfl rfl)
theorem dX7_readsOn_57 : decode cX7_readsOn 57 = .ok (.putfield 89, 3) := dk_181 0 89 (dk_at dksX7_readsOn_2 11 rfl rfl)
theorem dX7_readsOn_60 : decode cX7_readsOn 60 = .ok (.aload_n 0, 1) := dk_42 (dk_at dksX7_readsOn_2 14 rfl rfl)
theorem dX7_readsOn_61 : decode cX7_readsOn 61 = .ok (.getfield 86, 3) := dk_180 0 86 (dk_at dksX7_readsOn_2 15 rfl rfl)
theorem dX7_readsOn_64 : decode cX7_readsOn 64 = .ok (.aload_n 0, 1) := dk_42 (dk_at dksX7_readsOn_2 18 rfl rfl)
theorem dX7_readsOn_65 : decode cX7_readsOn 65 = .ok (.getfield 83, 3) := dk_180 0 83 (dk_at dksX7_readsOn_2 19 rfl rfl)
theorem dX7_readsOn_68 : decode cX7_readsOn 68 = .ok (.if_icmp .lt 9, 3) := dk_161 0 9 (dk_at dksX7_readsOn_3 0 rfl rfl)
theorem dX7_readsOn_71 : decode cX7_readsOn 71 = .ok (.aload_n 0, 1) := dk_42 (dk_at dksX7_readsOn_3 3 rfl rfl)
theorem dX7_readsOn_72 : decode cX7_readsOn 72 = .ok (.iconst 0, 1) := dk_3 (dk_at dksX7_readsOn_3 4 rfl rfl)
theorem dX7_readsOn_73 : decode cX7_readsOn 73 = .ok (.putfield 92, 3) := dk_181 0 92 (dk_at dksX7_readsOn_3 5 rfl rfl)
theorem dX7_readsOn_76 : decode cX7_readsOn 76 = .ok (.return_, 1) := dk_177 (dk_at dksX7_readsOn_3 8 rfl rfl)
theorem dX7_readsOn_77 : decode cX7_readsOn 77 = .ok (.aload_n 0, 1) := dk_42 (dk_at dksX7_readsOn_3 9 rfl rfl)
theorem dX7_readsOn_78 : decode cX7_readsOn 78 = .ok (.getfield 23, 3) := dk_180 0 23 (dk_at dksX7_readsOn_3 10 rfl rfl)
theorem dX7_readsOn_81 : decode cX7_readsOn 81 = .ok (.aload_n 0, 1) := dk_42 (dk_at dksX7_readsOn_3 13 rfl rfl)
theorem dX7_readsOn_82 : decode cX7_readsOn 82 = .ok (.getfield 86, 3) := dk_180 0 86 (dk_at dksX7_readsOn_3 14 rfl rfl)
theorem dX7_readsOn_85 : decode cX7_readsOn 85 = .ok (.iaload, 1) := dk_46 (dk_at dksX7_readsOn_3 17 rfl rfl)
theorem dX7_readsOn_86 : decode cX7_readsOn 86 = .ok (.istore_n 1, 1) := dk_60 (dk_at dksX7_readsOn_3 18 rfl rfl)
theorem dX7_readsOn_87 : decode cX7_readsOn 87 = .ok (.iload_n 1, 1) := dk_27 (dk_at dksX7_readsOn_3 19 rfl rfl)
theorem dX7_readsOn_88 : decode cX7_readsOn 88 = .ok (.invokestatic 95, 3) := dk_184 0 95 (dk_at dksX7_readsOn_3 20 rfl rfl)
theorem dX7_readsOn_91 : decode cX7_readsOn 91 = .ok (.ifCond .eq 38, 3) := dk_153 0 38 (dk_at dksX7_readsOn_4 0 rfl rfl)
theorem dX7_readsOn_94 : decode cX7_readsOn 94 = .ok (.aload_n 0, 1) := dk_42 (dk_at dksX7_readsOn_4 3 rfl rfl)
theorem dX7_readsOn_95 : decode cX7_readsOn 95 = .ok (.aload_n 0, 1) := dk_42 (dk_at dksX7_readsOn_4 4 rfl rfl)
theorem dX7_readsOn_96 : decode cX7_readsOn 96 = .ok (.getfield 86, 3) := dk_180 0 86 (dk_at dksX7_readsOn_4 5 rfl rfl)
theorem dX7_readsOn_99 : decode cX7_readsOn 99 = .ok (.invokevirtual 99, 3) := dk_182 0 99 (dk_at dksX7_readsOn_4 8 rfl rfl)
theorem dX7_readsOn_102 : decode cX7_readsOn 102 = .ok (.invokestatic 95, 3) := dk_184 0 95 (dk_at dksX7_readsOn_4 11 rfl rfl)
theorem dX7_readsOn_105 : decode cX7_readsOn 105 = .ok (.ifCond .eq 16, 3) := dk_153 0 16 (dk_at dksX7_readsOn_4 14 rfl rfl)
theorem dX7_readsOn_108 : decode cX7_readsOn 108 = .ok (.aload_n 0, 1) := dk_42 (dk_at dksX7_readsOn_4 17 rfl rfl)
theorem dX7_readsOn_109 : decode cX7_readsOn 109 = .ok (.dup, 1) := dk_89 (dk_at dksX7_readsOn_4 18 rfl rfl)
theorem dX7_readsOn_110 : decode cX7_readsOn 110 = .ok (.getfield 86, 3) := dk_180 0 86 (dk_at dksX7_readsOn_4 19 rfl rfl)
theorem dX7_readsOn_113 : decode cX7_readsOn 113 = .ok (.iconst 1, 1) := dk_4 (dk_at dksX7_readsOn_4 22 rfl rfl)
theorem dX7_readsOn_114 : decode cX7_readsOn 114 = .ok (.iadd, 1) := dk_96 (dk_at dksX7_readsOn_4 23 rfl rfl)
theorem dX7_readsOn_115 : decode cX7_readsOn 115 = .ok (.putfield 86, 3) := dk_181 0 86 (dk_at dksX7_readsOn_5 0 rfl rfl)
theorem dX7_readsOn_118 : decode cX7_readsOn 118 = .ok (.goto (-24), 3) := dk_167 255 232 (dk_at dksX7_readsOn_5 3 rfl rfl)
theorem dX7_readsOn_121 : decode cX7_readsOn 121 = .ok (.aload_n 0, 1) := dk_42 (dk_at dksX7_readsOn_5 6 rfl rfl)
theorem dX7_readsOn_122 : decode cX7_readsOn 122 = .ok (.iconst 1, 1) := dk_4 (dk_at dksX7_readsOn_5 7 rfl rfl)
theorem dX7_readsOn_123 : decode cX7_readsOn 123 = .ok (.putfield 92, 3) := dk_181 0 92 (dk_at dksX7_readsOn_5 8 rfl rfl)
theorem dX7_readsOn_126 : decode cX7_readsOn 126 = .ok (.goto 137, 3) := dk_167 0 137 (dk_at dksX7_readsOn_5 11 rfl rfl)
theorem dX7_readsOn_129 : decode cX7_readsOn 129 = .ok (.iload_n 1, 1) := dk_27 (dk_at dksX7_readsOn_5 14 rfl rfl)
theorem dX7_readsOn_130 : decode cX7_readsOn 130 = .ok (.invokestatic 103, 3) := dk_184 0 103 (dk_at dksX7_readsOn_5 15 rfl rfl)
theorem dX7_readsOn_133 : decode cX7_readsOn 133 = .ok (.ifCond .eq 104, 3) := dk_153 0 104 (dk_at dksX7_readsOn_5 18 rfl rfl)
theorem dX7_readsOn_136 : decode cX7_readsOn 136 = .ok (.aload_n 0, 1) := dk_42 (dk_at dksX7_readsOn_5 21 rfl rfl)
theorem dX7_readsOn_137 : decode cX7_readsOn 137 = .ok (.iconst 0, 1) := dk_3 (dk_at dksX7_readsOn_5 22 rfl rfl)
theorem dX7_readsOn_138 : decode cX7_readsOn 138 = .ok (.putfield 106, 3) := dk_181 0 106 (dk_at dksX7_readsOn_6 0 rfl rfl)
theorem dX7_readsOn_141 : decode cX7_readsOn 141 = .ok (.aload_n 0, 1) := dk_42 (dk_at dksX7_readsOn_6 3 rfl rfl)
theorem dX7_readsOn_142 : decode cX7_readsOn 142 = .ok (.aload_n 0, 1) := dk_42 (dk_at dksX7_readsOn_6 4 rfl rfl)
theorem dX7_readsOn_143 : decode cX7_readsOn 143 = .ok (.getfield 86, 3) := dk_180 0 86 (dk_at dksX7_readsOn_6 5 rfl rfl)
theorem dX7_readsOn_146 : decode cX7_readsOn 146 = .ok (.invokevirtual 99, 3) := dk_182 0 99 (dk_at dksX7_readsOn_6 8 rfl rfl)
theorem dX7_readsOn_149 : decode cX7_readsOn 149 = .ok (.invokestatic 103, 3) := dk_184 0 103 (dk_at dksX7_readsOn_6 11 rfl rfl)
theorem dX7_readsOn_152 : decode cX7_readsOn 152 = .ok (.ifCond .eq 60, 3) := dk_153 0 60 (dk_at dksX7_readsOn_6 14 rfl rfl)
theorem dX7_readsOn_155 : decode cX7_readsOn 155 = .ok (.aload_n 0, 1) := dk_42 (dk_at dksX7_readsOn_6 17 rfl rfl)
theorem dX7_readsOn_156 : decode cX7_readsOn 156 = .ok (.aload_n 0, 1) := dk_42 (dk_at dksX7_readsOn_6 18 rfl rfl)
theorem dX7_readsOn_157 : decode cX7_readsOn 157 = .ok (.getfield 86, 3) := dk_180 0 86 (dk_at dksX7_readsOn_6 19 rfl rfl)
theorem dX7_readsOn_160 : decode cX7_readsOn 160 = .ok (.aload_n 0, 1) := dk_42 (dk_at dksX7_readsOn_6 22 rfl rfl)
theorem dX7_readsOn_161 : decode cX7_readsOn 161 = .ok (.getfield 89, 3) := dk_180 0 89 (dk_at dksX7_readsOn_7 0 rfl rfl)
theorem dX7_readsOn_164 : decode cX7_readsOn 164 = .ok (.isub, 1) := dk_100 (dk_at dksX7_readsOn_7 3 rfl rfl)
theorem dX7_readsOn_165 : decode cX7_readsOn 165 = .ok (.iconst 3, 1) := dk_6 (dk_at dksX7_readsOn_7 4 rfl rfl)
theorem dX7_readsOn_166 : decode cX7_readsOn 166 = .ok (.if_icmp .ge 26, 3) := dk_162 0 26 (dk_at dksX7_readsOn_7 5 rfl rfl)
theorem dX7_readsOn_169 : decode cX7_readsOn 169 = .ok (.bipush 10, 2) := dk_16 10 (dk_at dksX7_readsOn_7 8 rfl rfl)
theorem dX7_readsOn_171 : decode cX7_readsOn 171 = .ok (.aload_n 0, 1) := dk_42 (dk_at dksX7_readsOn_7 10 rfl rfl)
theorem dX7_readsOn_172 : decode cX7_readsOn 172 = .ok (.getfield 106, 3) := dk_180 0 106 (dk_at dksX7_readsOn_7 11 rfl rfl)
theorem dX7_readsOn_175 : decode cX7_readsOn 175 = .ok (.imul, 1) := dk_104 (dk_at dksX7_readsOn_7 14 rfl rfl)
theorem dX7_readsOn_176 : decode cX7_readsOn 176 = .ok (.aload_n 0, 1) := dk_42 (dk_at dksX7_readsOn_7 15 rfl rfl)
theorem dX7_readsOn_177 : decode cX7_readsOn 177 = .ok (.getfield 23, 3) := dk_180 0 23 (dk_at dksX7_readsOn_7 16 rfl rfl)
theorem dX7_readsOn_180 : decode cX7_readsOn 180 = .ok (.aload_n 0, 1) := dk_42 (dk_at dksX7_readsOn_7 19 rfl rfl)
theorem dX7_readsOn_181 : decode cX7_readsOn 181 = .ok (.getfield 86, 3) := dk_180 0 86 (dk_at dksX7_readsOn_7 20 rfl rfl)
theorem dX7_readsOn_184 : decode cX7_readsOn 184 = .ok (.iaload, 1) := dk_46 (dk_at dksX7_readsOn_7 23 rfl rfl)
theorem dX7_readsOn_185 : decode cX7_readsOn 185 = .ok (.iadd, 1) := dk_96 (dk_at dksX7_readsOn_8 0 rfl rfl)
theorem dX7_readsOn_186 : decode cX7_readsOn 186 = .ok (.bipush 48, 2) := dk_16 48 (dk_at dksX7_readsOn_8 1 rfl rfl)
theorem dX7_readsOn_188 : decode cX7_readsOn 188 = .ok (.isub, 1) := dk_100 (dk_at dksX7_readsOn_8 3 rfl rfl)
theorem dX7_readsOn_189 : decode cX7_readsOn 189 = .ok (.goto 7, 3) := dk_167 0 7 (dk_at dksX7_readsOn_8 4 rfl rfl)
theorem dX7_readsOn_192 : decode cX7_readsOn 192 = .ok (.aload_n 0, 1) := dk_42 (dk_at dksX7_readsOn_8 7 rfl rfl)
theorem dX7_readsOn_193 : decode cX7_readsOn 193 = .ok (.getfield 106, 3) := dk_180 0 106 (dk_at dksX7_readsOn_8 8 rfl rfl)
theorem dX7_readsOn_196 : decode cX7_readsOn 196 = .ok (.putfield 106, 3) := dk_181 0 106 (dk_at dksX7_readsOn_8 11 rfl rfl)
theorem dX7_readsOn_199 : decode cX7_readsOn 199 = .ok (.aload_n 0, 1) := dk_42 (dk_at dksX7_readsOn_8 14 rfl rfl)
theorem dX7_readsOn_200 : decode cX7_readsOn 200 = .ok (.dup, 1) := dk_89 (dk_at dksX7_readsOn_8 15 rfl rfl)
theorem dX7_readsOn_201 : decode cX7_readsOn 201 = .ok (.getfield 86, 3) := dk_180 0 86 (dk_at dksX7_readsOn_8 16 rfl rfl)
theorem dX7_readsOn_204 : decode cX7_readsOn 204 = .ok (.iconst 1, 1) := dk_4 (dk_at dksX7_readsOn_8 19 rfl rfl)
theorem dX7_readsOn_205 : decode cX7_readsOn 205 = .ok (.iadd, 1) := dk_96 (dk_at dksX7_readsOn_8 20 rfl rfl)
theorem dX7_readsOn_206 : decode cX7_readsOn 206 = .ok (.putfield 86, 3) := dk_181 0 86 (dk_at dksX7_readsOn_8 21 rfl rfl)
theorem dX7_readsOn_209 : decode cX7_readsOn 209 = .ok (.goto (-68), 3) := dk_167 255 188 (dk_at dksX7_readsOn_9 0 rfl rfl)
theorem dX7_readsOn_212 : decode cX7_readsOn 212 = .ok (.aload_n 0, 1) := dk_42 (dk_at dksX7_readsOn_9 3 rfl rfl)
theorem dX7_readsOn_213 : decode cX7_readsOn 213 = .ok (.aload_n 0, 1) := dk_42 (dk_at dksX7_readsOn_9 4 rfl rfl)
theorem dX7_readsOn_214 : decode cX7_readsOn 214 = .ok (.getfield 86, 3) := dk_180 0 86 (dk_at dksX7_readsOn_9 5 rfl rfl)
theorem dX7_readsOn_217 : decode cX7_readsOn 217 = .ok (.aload_n 0, 1) := dk_42 (dk_at dksX7_readsOn_9 8 rfl rfl)
theorem dX7_readsOn_218 : decode cX7_readsOn 218 = .ok (.getfield 89, 3) := dk_180 0 89 (dk_at dksX7_readsOn_9 9 rfl rfl)
theorem dX7_readsOn_221 : decode cX7_readsOn 221 = .ok (.isub, 1) := dk_100 (dk_at dksX7_readsOn_9 12 rfl rfl)
theorem dX7_readsOn_222 : decode cX7_readsOn 222 = .ok (.iconst 3, 1) := dk_6 (dk_at dksX7_readsOn_9 13 rfl rfl)
theorem dX7_readsOn_223 : decode cX7_readsOn 223 = .ok (.if_icmp .le 7, 3) := dk_164 0 7 (dk_at dksX7_readsOn_9 14 rfl rfl)
theorem dX7_readsOn_226 : decode cX7_readsOn 226 = .ok (.iconst 3, 1) := dk_6 (dk_at dksX7_readsOn_9 17 rfl rfl)
theorem dX7_readsOn_227 : decode cX7_readsOn 227 = .ok (.goto 4, 3) := dk_167 0 4 (dk_at dksX7_readsOn_9 18 rfl rfl)
theorem dX7_readsOn_230 : decode cX7_readsOn 230 = .ok (.iconst 2, 1) := dk_5 (dk_at dksX7_readsOn_9 21 rfl rfl)
theorem dX7_readsOn_231 : decode cX7_readsOn 231 = .ok (.putfield 92, 3) := dk_181 0 92 (dk_at dksX7_readsOn_10 0 rfl rfl)
theorem dX7_readsOn_234 : decode cX7_readsOn 234 = .ok (.goto 29, 3) := dk_167 0 29 (dk_at dksX7_readsOn_10 3 rfl rfl)
theorem dX7_readsOn_237 : decode cX7_readsOn 237 = .ok (.aload_n 0, 1) := dk_42 (dk_at dksX7_readsOn_10 6 rfl rfl)
theorem dX7_readsOn_238 : decode cX7_readsOn 238 = .ok (.iload_n 1, 1) := dk_27 (dk_at dksX7_readsOn_10 7 rfl rfl)
theorem dX7_readsOn_239 : decode cX7_readsOn 239 = .ok (.invokestatic 109, 3) := dk_184 0 109 (dk_at dksX7_readsOn_10 8 rfl rfl)
theorem dX7_readsOn_242 : decode cX7_readsOn 242 = .ok (.ifCond .eq 7, 3) := dk_153 0 7 (dk_at dksX7_readsOn_10 11 rfl rfl)
theorem dX7_readsOn_245 : decode cX7_readsOn 245 = .ok (.iload_n 1, 1) := dk_27 (dk_at dksX7_readsOn_10 14 rfl rfl)
theorem dX7_readsOn_246 : decode cX7_readsOn 246 = .ok (.goto 4, 3) := dk_167 0 4 (dk_at dksX7_readsOn_10 15 rfl rfl)
theorem dX7_readsOn_249 : decode cX7_readsOn 249 = .ok (.iconst 3, 1) := dk_6 (dk_at dksX7_readsOn_10 18 rfl rfl)
theorem dX7_readsOn_250 : decode cX7_readsOn 250 = .ok (.putfield 92, 3) := dk_181 0 92 (dk_at dksX7_readsOn_10 19 rfl rfl)
theorem dX7_readsOn_253 : decode cX7_readsOn 253 = .ok (.aload_n 0, 1) := dk_42 (dk_at dksX7_readsOn_10 22 rfl rfl)
theorem dX7_readsOn_254 : decode cX7_readsOn 254 = .ok (.dup, 1) := dk_89 (dk_at dksX7_readsOn_10 23 rfl rfl)
theorem dX7_readsOn_255 : decode cX7_readsOn 255 = .ok (.getfield 86, 3) := dk_180 0 86 (dk_at dksX7_readsOn_11 0 rfl rfl)
theorem dX7_readsOn_258 : decode cX7_readsOn 258 = .ok (.iconst 1, 1) := dk_4 (dk_at dksX7_readsOn_11 3 rfl rfl)
theorem dX7_readsOn_259 : decode cX7_readsOn 259 = .ok (.iadd, 1) := dk_96 (dk_at dksX7_readsOn_11 4 rfl rfl)
theorem dX7_readsOn_260 : decode cX7_readsOn 260 = .ok (.putfield 86, 3) := dk_181 0 86 (dk_at dksX7_readsOn_11 5 rfl rfl)
theorem dX7_readsOn_263 : decode cX7_readsOn 263 = .ok (.return_, 1) := dk_177 (dk_at dksX7_readsOn_11 8 rfl rfl)
abbrev cX7_isLetter : ByteArray := prog_43_method_9_code
def yX7_isLetter : MethodName := ⟨RX7, "isLetter", "(I)Z"⟩
def dkwX7_isLetter_0 : List UInt8 := [26, 16, 97, 161, 0, 13, 26, 16, 122, 163, 0, 7, 4, 167, 0, 4, 3, 172]
abbrev dktX7_isLetter_0 : List UInt8 := dkwX7_isLetter_0 ++ []
theorem dksX7_isLetter_0 : cX7_isLetter.data.toList.drop 0 = dktX7_isLetter_0 := by decide +kernel
theorem dX7_isLetter_0 : decode cX7_isLetter 0 = .ok (.iload_n 0, 1) := dk_26 (dk_at dksX7_isLetter_0 0 rfl rfl)
theorem dX7_isLetter_1 : decode cX7_isLetter 1 = .ok (.bipush 97, 2) := dk_16 97 (dk_at dksX7_isLetter_0 1 rfl rfl)
theorem dX7_isLetter_3 : decode cX7_isLetter 3 = .ok (.if_icmp .lt 13, 3) := dk_161 0 13 (dk_at dksX7_isLetter_0 3 rfl rfl)
theorem dX7_isLetter_6 : decode cX7_isLetter 6 = .ok (.iload_n 0, 1) := dk_26 (dk_at dksX7_isLetter_0 6 rfl rfl)
theorem dX7_isLetter_7 : decode cX7_isLetter 7 = .ok (.bipush 122, 2) := dk_16 122 (dk_at dksX7_isLetter_0 7 rfl rfl)
theorem dX7_isLetter_9 : decode cX7_isLetter 9 = .ok (.if_icmp .gt 7, 3) := dk_163 0 7 (dk_at dksX7_isLetter_0 9 rfl rfl)
theorem dX7_isLetter_12 : decode cX7_isLetter 12 = .ok (.iconst 1, 1) := dk_4 (dk_at dksX7_isLetter_0 12 rfl rfl)
theorem dX7_isLetter_13 : decode cX7_isLetter 13 = .ok (.goto 4, 3) := dk_167 0 4 (dk_at dksX7_isLetter_0 13 rfl rfl)
theorem dX7_isLetter_16 : decode cX7_isLetter 16 = .ok (.iconst 0, 1) := dk_3 (dk_at dksX7_isLetter_0 16 rfl rfl)
theorem dX7_isLetter_17 : decode cX7_isLetter 17 = .ok (.ireturn, 1) := dk_172 (dk_at dksX7_isLetter_0 17 rfl rfl)
abbrev cX7_see : ByteArray := prog_43_method_8_code
def yX7_see : MethodName := ⟨RX7, "see", "(I)I"⟩
def dkwX7_see_0 : List UInt8 := [27, 42, 180, 0, 83, 162, 0, 12, 42, 180, 0, 23, 27, 46, 167, 0, 4, 3, 172]
abbrev dktX7_see_0 : List UInt8 := dkwX7_see_0 ++ []
theorem dksX7_see_0 : cX7_see.data.toList.drop 0 = dktX7_see_0 := by decide +kernel
theorem dX7_see_0 : decode cX7_see 0 = .ok (.iload_n 1, 1) := dk_27 (dk_at dksX7_see_0 0 rfl rfl)
theorem dX7_see_1 : decode cX7_see 1 = .ok (.aload_n 0, 1) := dk_42 (dk_at dksX7_see_0 1 rfl rfl)
theorem dX7_see_2 : decode cX7_see 2 = .ok (.getfield 83, 3) := dk_180 0 83 (dk_at dksX7_see_0 2 rfl rfl)
theorem dX7_see_5 : decode cX7_see 5 = .ok (.if_icmp .ge 12, 3) := dk_162 0 12 (dk_at dksX7_see_0 5 rfl rfl)
theorem dX7_see_8 : decode cX7_see 8 = .ok (.aload_n 0, 1) := dk_42 (dk_at dksX7_see_0 8 rfl rfl)
theorem dX7_see_9 : decode cX7_see 9 = .ok (.getfield 23, 3) := dk_180 0 23 (dk_at dksX7_see_0 9 rfl rfl)
theorem dX7_see_12 : decode cX7_see 12 = .ok (.iload_n 1, 1) := dk_27 (dk_at dksX7_see_0 12 rfl rfl)
theorem dX7_see_13 : decode cX7_see 13 = .ok (.iaload, 1) := dk_46 (dk_at dksX7_see_0 13 rfl rfl)
theorem dX7_see_14 : decode cX7_see 14 = .ok (.goto 4, 3) := dk_167 0 4 (dk_at dksX7_see_0 14 rfl rfl)
theorem dX7_see_17 : decode cX7_see 17 = .ok (.iconst 0, 1) := dk_3 (dk_at dksX7_see_0 17 rfl rfl)
theorem dX7_see_18 : decode cX7_see 18 = .ok (.ireturn, 1) := dk_172 (dk_at dksX7_see_0 18 rfl rfl)
abbrev cX7_isDigit : ByteArray := prog_43_method_10_code
def yX7_isDigit : MethodName := ⟨RX7, "isDigit", "(I)Z"⟩
def dkwX7_isDigit_0 : List UInt8 := [26, 16, 48, 161, 0, 13, 26, 16, 57, 163, 0, 7, 4, 167, 0, 4, 3, 172]
abbrev dktX7_isDigit_0 : List UInt8 := dkwX7_isDigit_0 ++ []
theorem dksX7_isDigit_0 : cX7_isDigit.data.toList.drop 0 = dktX7_isDigit_0 := by decide +kernel
theorem dX7_isDigit_0 : decode cX7_isDigit 0 = .ok (.iload_n 0, 1) := dk_26 (dk_at dksX7_isDigit_0 0 rfl rfl)
theorem dX7_isDigit_1 : decode cX7_isDigit 1 = .ok (.bipush 48, 2) := dk_16 48 (dk_at dksX7_isDigit_0 1 rfl rfl)
theorem dX7_isDigit_3 : decode cX7_isDigit 3 = .ok (.if_icmp .lt 13, 3) := dk_161 0 13 (dk_at dksX7_isDigit_0 3 rfl rfl)
theorem dX7_isDigit_6 : decode cX7_isDigit 6 = .ok (.iload_n 0, 1) := dk_26 (dk_at dksX7_isDigit_0 6 rfl rfl)
theorem dX7_isDigit_7 : decode cX7_isDigit 7 = .ok (.bipush 57, 2) := dk_16 57 (dk_at dksX7_isDigit_0 7 rfl rfl)
theorem dX7_isDigit_9 : decode cX7_isDigit 9 = .ok (.if_icmp .gt 7, 3) := dk_163 0 7 (dk_at dksX7_isDigit_0 9 rfl rfl)
theorem dX7_isDigit_12 : decode cX7_isDigit 12 = .ok (.iconst 1, 1) := dk_4 (dk_at dksX7_isDigit_0 12 rfl rfl)
theorem dX7_isDigit_13 : decode cX7_isDigit 13 = .ok (.goto 4, 3) := dk_167 0 4 (dk_at dksX7_isDigit_0 13 rfl rfl)
theorem dX7_isDigit_16 : decode cX7_isDigit 16 = .ok (.iconst 0, 1) := dk_3 (dk_at dksX7_isDigit_0 16 rfl rfl)
theorem dX7_isDigit_17 : decode cX7_isDigit 17 = .ok (.ireturn, 1) := dk_172 (dk_at dksX7_isDigit_0 17 rfl rfl)
abbrev cX7_isSignByte : ByteArray := prog_43_method_11_code
def yX7_isSignByte : MethodName := ⟨RX7, "isSignByte", "(I)Z"⟩
def dkwX7_isSignByte_3 : List UInt8 := [16, 40, 159, 0, 9, 26, 16, 41, 160, 0, 7, 4, 167, 0, 4, 3, 172]
abbrev dktX7_isSignByte_3 : List UInt8 := dkwX7_isSignByte_3 ++ []
def dkwX7_isSignByte_2 : List UInt8 := [16, 59, 159, 0, 33, 26, 16, 43, 159, 0, 27, 26, 16, 45, 159, 0, 21, 26, 16, 42, 159, 0, 15, 26]
abbrev dktX7_isSignByte_2 : List UInt8 := dkwX7_isSignByte_2 ++ dktX7_isSignByte_3
def dkwX7_isSignByte_1 : List UInt8 := [26, 16, 62, 159, 0, 9, 26, 16, 58, 160, 0, 7, 4, 167, 0, 4, 3, 60, 27, 154, 0, 39, 26]
abbrev dktX7_isSignByte_1 : List UInt8 := dkwX7_isSignByte_1 ++ dktX7_isSignByte_2
def dkwX7_isSignByte_0 : List UInt8 := [26, 16, 91, 159, 0, 33, 26, 16, 93, 159, 0, 27, 26, 16, 61, 159, 0, 21, 26, 16, 60, 159, 0, 15]
abbrev dktX7_isSignByte_0 : List UInt8 := dkwX7_isSignByte_0 ++ dktX7_isSignByte_1
theorem dksX7_isSignByte_0 : cX7_isSignByte.data.toList.drop 0 = dktX7_isSignByte_0 := by decide +kernel
theorem dksX7_isSignByte_1 : cX7_isSignByte.data.toList.drop 24 = dktX7_isSignByte_1 := dk_seg dksX7_isSignByte_0 24 rfl rfl
theorem dksX7_isSignByte_2 : cX7_isSignByte.data.toList.drop 47 = dktX7_isSignByte_2 := dk_seg dksX7_isSignByte_1 23 rfl rfl
theorem dksX7_isSignByte_3 : cX7_isSignByte.data.toList.drop 71 = dktX7_isSignByte_3 := dk_seg dksX7_isSignByte_2 24 rfl rfl
theorem dX7_isSignByte_0 : decode cX7_isSignByte 0 = .ok (.iload_n 0, 1) := dk_26 (dk_at dksX7_isSignByte_0 0 rfl rfl)
theorem dX7_isSignByte_1 : decode cX7_isSignByte 1 = .ok (.bipush 91, 2) := dk_16 91 (dk_at dksX7_isSignByte_0 1 rfl rfl)
theorem dX7_isSignByte_3 : decode cX7_isSignByte 3 = .ok (.if_icmp .eq 33, 3) := dk_159 0 33 (dk_at dksX7_isSignByte_0 3 rfl rfl)
theorem dX7_isSignByte_6 : decode cX7_isSignByte 6 = .ok (.iload_n 0, 1) := dk_26 (dk_at dksX7_isSignByte_0 6 rfl rfl)
theorem dX7_isSignByte_7 : decode cX7_isSignByte 7 = .ok (.bipush 93, 2) := dk_16 93 (dk_at dksX7_isSignByte_0 7 rfl rfl)
theorem dX7_isSignByte_9 : decode cX7_isSignByte 9 = .ok (.if_icmp .eq 27, 3) := dk_159 0 27 (dk_at dksX7_isSignByte_0 9 rfl rfl)
theorem dX7_isSignByte_12 : decode cX7_isSignByte 12 = .ok (.iload_n 0, 1) := dk_26 (dk_at dksX7_isSignByte_0 12 rfl rfl)
theorem dX7_isSignByte_13 : decode cX7_isSignByte 13 = .ok (.bipush 61, 2) := dk_16 61 (dk_at dksX7_isSignByte_0 13 rfl rfl)
theorem dX7_isSignByte_15 : decode cX7_isSignByte 15 = .ok (.if_icmp .eq 21, 3) := dk_159 0 21 (dk_at dksX7_isSignByte_0 15 rfl rfl)
theorem dX7_isSignByte_18 : decode cX7_isSignByte 18 = .ok (.iload_n 0, 1) := dk_26 (dk_at dksX7_isSignByte_0 18 rfl rfl)
theorem dX7_isSignByte_19 : decode cX7_isSignByte 19 = .ok (.bipush 60, 2) := dk_16 60 (dk_at dksX7_isSignByte_0 19 rfl rfl)
theorem dX7_isSignByte_21 : decode cX7_isSignByte 21 = .ok (.if_icmp .eq 15, 3) := dk_159 0 15 (dk_at dksX7_isSignByte_0 21 rfl rfl)
theorem dX7_isSignByte_24 : decode cX7_isSignByte 24 = .ok (.iload_n 0, 1) := dk_26 (dk_at dksX7_isSignByte_1 0 rfl rfl)
theorem dX7_isSignByte_25 : decode cX7_isSignByte 25 = .ok (.bipush 62, 2) := dk_16 62 (dk_at dksX7_isSignByte_1 1 rfl rfl)
theorem dX7_isSignByte_27 : decode cX7_isSignByte 27 = .ok (.if_icmp .eq 9, 3) := dk_159 0 9 (dk_at dksX7_isSignByte_1 3 rfl rfl)
theorem dX7_isSignByte_30 : decode cX7_isSignByte 30 = .ok (.iload_n 0, 1) := dk_26 (dk_at dksX7_isSignByte_1 6 rfl rfl)
theorem dX7_isSignByte_31 : decode cX7_isSignByte 31 = .ok (.bipush 58, 2) := dk_16 58 (dk_at dksX7_isSignByte_1 7 rfl rfl)
theorem dX7_isSignByte_33 : decode cX7_isSignByte 33 = .ok (.if_icmp .ne 7, 3) := dk_160 0 7 (dk_at dksX7_isSignByte_1 9 rfl rfl)
theorem dX7_isSignByte_36 : decode cX7_isSignByte 36 = .ok (.iconst 1, 1) := dk_4 (dk_at dksX7_isSignByte_1 12 rfl rfl)
theorem dX7_isSignByte_37 : decode cX7_isSignByte 37 = .ok (.goto 4, 3) := dk_167 0 4 (dk_at dksX7_isSignByte_1 13 rfl rfl)
theorem dX7_isSignByte_40 : decode cX7_isSignByte 40 = .ok (.iconst 0, 1) := dk_3 (dk_at dksX7_isSignByte_1 16 rfl rfl)
theorem dX7_isSignByte_41 : decode cX7_isSignByte 41 = .ok (.istore_n 1, 1) := dk_60 (dk_at dksX7_isSignByte_1 17 rfl rfl)
theorem dX7_isSignByte_42 : decode cX7_isSignByte 42 = .ok (.iload_n 1, 1) := dk_27 (dk_at dksX7_isSignByte_1 18 rfl rfl)
theorem dX7_isSignByte_43 : decode cX7_isSignByte 43 = .ok (.ifCond .ne 39, 3) := dk_154 0 39 (dk_at dksX7_isSignByte_1 19 rfl rfl)
theorem dX7_isSignByte_46 : decode cX7_isSignByte 46 = .ok (.iload_n 0, 1) := dk_26 (dk_at dksX7_isSignByte_1 22 rfl rfl)
theorem dX7_isSignByte_47 : decode cX7_isSignByte 47 = .ok (.bipush 59, 2) := dk_16 59 (dk_at dksX7_isSignByte_2 0 rfl rfl)
theorem dX7_isSignByte_49 : decode cX7_isSignByte 49 = .ok (.if_icmp .eq 33, 3) := dk_159 0 33 (dk_at dksX7_isSignByte_2 2 rfl rfl)
theorem dX7_isSignByte_52 : decode cX7_isSignByte 52 = .ok (.iload_n 0, 1) := dk_26 (dk_at dksX7_isSignByte_2 5 rfl rfl)
theorem dX7_isSignByte_53 : decode cX7_isSignByte 53 = .ok (.bipush 43, 2) := dk_16 43 (dk_at dksX7_isSignByte_2 6 rfl rfl)
theorem dX7_isSignByte_55 : decode cX7_isSignByte 55 = .ok (.if_icmp .eq 27, 3) := dk_159 0 27 (dk_at dksX7_isSignByte_2 8 rfl rfl)
theorem dX7_isSignByte_58 : decode cX7_isSignByte 58 = .ok (.iload_n 0, 1) := dk_26 (dk_at dksX7_isSignByte_2 11 rfl rfl)
theorem dX7_isSignByte_59 : decode cX7_isSignByte 59 = .ok (.bipush 45, 2) := dk_16 45 (dk_at dksX7_isSignByte_2 12 rfl rfl)
theorem dX7_isSignByte_61 : decode cX7_isSignByte 61 = .ok (.if_icmp .eq 21, 3) := dk_159 0 21 (dk_at dksX7_isSignByte_2 14 rfl rfl)
theorem dX7_isSignByte_64 : decode cX7_isSignByte 64 = .ok (.iload_n 0, 1) := dk_26 (dk_at dksX7_isSignByte_2 17 rfl rfl)
theorem dX7_isSignByte_65 : decode cX7_isSignByte 65 = .ok (.bipush 42, 2) := dk_16 42 (dk_at dksX7_isSignByte_2 18 rfl rfl)
theorem dX7_isSignByte_67 : decode cX7_isSignByte 67 = .ok (.if_icmp .eq 15, 3) := dk_159 0 15 (dk_at dksX7_isSignByte_2 20 rfl rfl)
theorem dX7_isSignByte_70 : decode cX7_isSignByte 70 = .ok (.iload_n 0, 1) := dk_26 (dk_at dksX7_isSignByte_2 23 rfl rfl)
theorem dX7_isSignByte_71 : decode cX7_isSignByte 71 = .ok (.bipush 40, 2) := dk_16 40 (dk_at dksX7_isSignByte_3 0 rfl rfl)
theorem dX7_isSignByte_73 : decode cX7_isSignByte 73 = .ok (.if_icmp .eq 9, 3) := dk_159 0 9 (dk_at dksX7_isSignByte_3 2 rfl rfl)
theorem dX7_isSignByte_76 : decode cX7_isSignByte 76 = .ok (.iload_n 0, 1) := dk_26 (dk_at dksX7_isSignByte_3 5 rfl rfl)
theorem dX7_isSignByte_77 : decode cX7_isSignByte 77 = .ok (.bipush 41, 2) := dk_16 41 (dk_at dksX7_isSignByte_3 6 rfl rfl)
theorem dX7_isSignByte_79 : decode cX7_isSignByte 79 = .ok (.if_icmp .ne 7, 3) := dk_160 0 7 (dk_at dksX7_isSignByte_3 8 rfl rfl)
theorem dX7_isSignByte_82 : decode cX7_isSignByte 82 = .ok (.iconst 1, 1) := dk_4 (dk_at dksX7_isSignByte_3 11 rfl rfl)
theorem dX7_isSignByte_83 : decode cX7_isSignByte 83 = .ok (.goto 4, 3) := dk_167 0 4 (dk_at dksX7_isSignByte_3 12 rfl rfl)
theorem dX7_isSignByte_86 : decode cX7_isSignByte 86 = .ok (.iconst 0, 1) := dk_3 (dk_at dksX7_isSignByte_3 15 rfl rfl)
theorem dX7_isSignByte_87 : decode cX7_isSignByte 87 = .ok (.ireturn, 1) := dk_172 (dk_at dksX7_isSignByte_3 16 rfl rfl)
abbrev cX7_readLine : ByteArray := prog_43_method_34_code
def yX7_readLine : MethodName := ⟨RX7, "readLine", "()V"⟩
def dkwX7_readLine_4 : List UInt8 := [182, 0, 233, 42, 182, 0, 181, 167, 0, 8, 42, 5, 182, 0, 134, 42, 182, 0, 241, 177]
abbrev dktX7_readLine_4 : List UInt8 := dkwX7_readLine_4 ++ []
def dkwX7_readLine_3 : List UInt8 := [182, 0, 233, 42, 182, 0, 178, 167, 0, 32, 42, 18, 239, 182, 0, 142, 153, 0, 18, 42, 8, 17, 7, 217]
abbrev dktX7_readLine_3 : List UInt8 := dkwX7_readLine_3 ++ dktX7_readLine_4
def dkwX7_readLine_2 : List UInt8 := [182, 0, 233, 42, 182, 0, 181, 167, 0, 56, 42, 18, 237, 182, 0, 142, 153, 0, 18, 42, 7, 17, 4, 85]
abbrev dktX7_readLine_2 : List UInt8 := dkwX7_readLine_2 ++ dktX7_readLine_3
def dkwX7_readLine_1 : List UInt8 := [153, 0, 10, 42, 182, 0, 228, 167, 0, 80, 42, 18, 231, 182, 0, 142, 153, 0, 18, 42, 6, 17, 0, 209]
abbrev dktX7_readLine_1 : List UInt8 := dkwX7_readLine_1 ++ dktX7_readLine_2
def dkwX7_readLine_0 : List UInt8 := [42, 18, 223, 182, 0, 127, 153, 0, 10, 42, 182, 0, 225, 167, 0, 96, 42, 18, 202, 182, 0, 127]
abbrev dktX7_readLine_0 : List UInt8 := dkwX7_readLine_0 ++ dktX7_readLine_1
theorem dksX7_readLine_0 : cX7_readLine.data.toList.drop 0 = dktX7_readLine_0 := by decide +kernel
theorem dksX7_readLine_1 : cX7_readLine.data.toList.drop 22 = dktX7_readLine_1 := dk_seg dksX7_readLine_0 22 rfl rfl
theorem dksX7_readLine_2 : cX7_readLine.data.toList.drop 46 = dktX7_readLine_2 := dk_seg dksX7_readLine_1 24 rfl rfl
theorem dksX7_readLine_3 : cX7_readLine.data.toList.drop 70 = dktX7_readLine_3 := dk_seg dksX7_readLine_2 24 rfl rfl
theorem dksX7_readLine_4 : cX7_readLine.data.toList.drop 94 = dktX7_readLine_4 := dk_seg dksX7_readLine_3 24 rfl rfl
theorem dX7_readLine_0 : decode cX7_readLine 0 = .ok (.aload_n 0, 1) := dk_42 (dk_at dksX7_readLine_0 0 rfl rfl)
theorem dX7_readLine_1 : decode cX7_readLine 1 = .ok (.ldc 223, 2) := dk_18 223 (dk_at dksX7_readLine_0 1 rfl rfl)
theorem dX7_readLine_3 : decode cX7_readLine 3 = .ok (.invokevirtual 127, 3) := dk_182 0 127 (dk_at dksX7_readLine_0 3 rfl rfl)
theorem dX7_readLine_6 : decode cX7_readLine 6 = .ok (.ifCond .eq 10, 3) := dk_153 0 10 (dk_at dksX7_readLine_0 6 rfl rfl)
theorem dX7_readLine_9 : decode cX7_readLine 9 = .ok (.aload_n 0, 1) := dk_42 (dk_at dksX7_readLine_0 9 rfl rfl)
theorem dX7_readLine_10 : decode cX7_readLine 10 = .ok (.invokevirtual 225, 3) := dk_182 0 225 (dk_at dksX7_readLine_0 10 rfl rfl)
theorem dX7_readLine_13 : decode cX7_readLine 13 = .ok (.goto 96, 3) := dk_167 0 96 (dk_at dksX7_readLine_0 13 rfl rfl)
theorem dX7_readLine_16 : decode cX7_readLine 16 = .ok (.aload_n 0, 1) := dk_42 (dk_at dksX7_readLine_0 16 rfl rfl)
theorem dX7_readLine_17 : decode cX7_readLine 17 = .ok (.ldc 202, 2) := dk_18 202 (dk_at dksX7_readLine_0 17 rfl rfl)
theorem dX7_readLine_19 : decode cX7_readLine 19 = .ok (.invokevirtual 127, 3) := dk_182 0 127 (dk_at dksX7_readLine_0 19 rfl rfl)
theorem dX7_readLine_22 : decode cX7_readLine 22 = .ok (.ifCond .eq 10, 3) := dk_153 0 10 (dk_at dksX7_readLine_1 0 rfl rfl)
theorem dX7_readLine_25 : decode cX7_readLine 25 = .ok (.aload_n 0, 1) := dk_42 (dk_at dksX7_readLine_1 3 rfl rfl)
theorem dX7_readLine_26 : decode cX7_readLine 26 = .ok (.invokevirtual 228, 3) := dk_182 0 228 (dk_at dksX7_readLine_1 4 rfl rfl)
theorem dX7_readLine_29 : decode cX7_readLine 29 = .ok (.goto 80, 3) := dk_167 0 80 (dk_at dksX7_readLine_1 7 rfl rfl)
theorem dX7_readLine_32 : decode cX7_readLine 32 = .ok (.aload_n 0, 1) := dk_42 (dk_at dksX7_readLine_1 10 rfl rfl)
theorem dX7_readLine_33 : decode cX7_readLine 33 = .ok (.ldc 231, 2) := dk_18 231 (dk_at dksX7_readLine_1 11 rfl rfl)
theorem dX7_readLine_35 : decode cX7_readLine 35 = .ok (.invokevirtual 142, 3) := dk_182 0 142 (dk_at dksX7_readLine_1 13 rfl rfl)
theorem dX7_readLine_38 : decode cX7_readLine 38 = .ok (.ifCond .eq 18, 3) := dk_153 0 18 (dk_at dksX7_readLine_1 16 rfl rfl)
theorem dX7_readLine_41 : decode cX7_readLine 41 = .ok (.aload_n 0, 1) := dk_42 (dk_at dksX7_readLine_1 19 rfl rfl)
theorem dX7_readLine_42 : decode cX7_readLine 42 = .ok (.iconst 3, 1) := dk_6 (dk_at dksX7_readLine_1 20 rfl rfl)
theorem dX7_readLine_43 : decode cX7_readLine 43 = .ok (.sipush 209, 3) := dk_17 0 209 (dk_at dksX7_readLine_1 21 rfl rfl)
theorem dX7_readLine_46 : decode cX7_readLine 46 = .ok (.invokevirtual 233, 3) := dk_182 0 233 (dk_at dksX7_readLine_2 0 rfl rfl)
theorem dX7_readLine_49 : decode cX7_readLine 49 = .ok (.aload_n 0, 1) := dk_42 (dk_at dksX7_readLine_2 3 rfl rfl)
theorem dX7_readLine_50 : decode cX7_readLine 50 = .ok (.invokevirtual 181, 3) := dk_182 0 181 (dk_at dksX7_readLine_2 4 rfl rfl)
theorem dX7_readLine_53 : decode cX7_readLine 53 = .ok (.goto 56, 3) := dk_167 0 56 (dk_at dksX7_readLine_2 7 rfl rfl)
theorem dX7_readLine_56 : decode cX7_readLine 56 = .ok (.aload_n 0, 1) := dk_42 (dk_at dksX7_readLine_2 10 rfl rfl)
theorem dX7_readLine_57 : decode cX7_readLine 57 = .ok (.ldc 237, 2) := dk_18 237 (dk_at dksX7_readLine_2 11 rfl rfl)
theorem dX7_readLine_59 : decode cX7_readLine 59 = .ok (.invokevirtual 142, 3) := dk_182 0 142 (dk_at dksX7_readLine_2 13 rfl rfl)
theorem dX7_readLine_62 : decode cX7_readLine 62 = .ok (.ifCond .eq 18, 3) := dk_153 0 18 (dk_at dksX7_readLine_2 16 rfl rfl)
theorem dX7_readLine_65 : decode cX7_readLine 65 = .ok (.aload_n 0, 1) := dk_42 (dk_at dksX7_readLine_2 19 rfl rfl)
theorem dX7_readLine_66 : decode cX7_readLine 66 = .ok (.iconst 4, 1) := dk_7 (dk_at dksX7_readLine_2 20 rfl rfl)
theorem dX7_readLine_67 : decode cX7_readLine 67 = .ok (.sipush 1109, 3) := dk_17 4 85 (dk_at dksX7_readLine_2 21 rfl rfl)
theorem dX7_readLine_70 : decode cX7_readLine 70 = .ok (.invokevirtual 233, 3) := dk_182 0 233 (dk_at dksX7_readLine_3 0 rfl rfl)
theorem dX7_readLine_73 : decode cX7_readLine 73 = .ok (.aload_n 0, 1) := dk_42 (dk_at dksX7_readLine_3 3 rfl rfl)
theorem dX7_readLine_74 : decode cX7_readLine 74 = .ok (.invokevirtual 178, 3) := dk_182 0 178 (dk_at dksX7_readLine_3 4 rfl rfl)
theorem dX7_readLine_77 : decode cX7_readLine 77 = .ok (.goto 32, 3) := dk_167 0 32 (dk_at dksX7_readLine_3 7 rfl rfl)
theorem dX7_readLine_80 : decode cX7_readLine 80 = .ok (.aload_n 0, 1) := dk_42 (dk_at dksX7_readLine_3 10 rfl rfl)
theorem dX7_readLine_81 : decode cX7_readLine 81 = .ok (.ldc 239, 2) := dk_18 239 (dk_at dksX7_readLine_3 11 rfl rfl)
theorem dX7_readLine_83 : decode cX7_readLine 83 = .ok (.invokevirtual 142, 3) := dk_182 0 142 (dk_at dksX7_readLine_3 13 rfl rfl)
theorem dX7_readLine_86 : decode cX7_readLine 86 = .ok (.ifCond .eq 18, 3) := dk_153 0 18 (dk_at dksX7_readLine_3 16 rfl rfl)
theorem dX7_readLine_89 : decode cX7_readLine 89 = .ok (.aload_n 0, 1) := dk_42 (dk_at dksX7_readLine_3 19 rfl rfl)
theorem dX7_readLine_90 : decode cX7_readLine 90 = .ok (.iconst 5, 1) := dk_8 (dk_at dksX7_readLine_3 20 rfl rfl)
theorem dX7_readLine_91 : decode cX7_readLine 91 = .ok (.sipush 2009, 3) := dk_17 7 217 (dk_at dksX7_readLine_3 21 rfl rfl)
theorem dX7_readLine_94 : decode cX7_readLine 94 = .ok (.invokevirtual 233, 3) := dk_182 0 233 (dk_at dksX7_readLine_4 0 rfl rfl)
theorem dX7_readLine_97 : decode cX7_readLine 97 = .ok (.aload_n 0, 1) := dk_42 (dk_at dksX7_readLine_4 3 rfl rfl)
theorem dX7_readLine_98 : decode cX7_readLine 98 = .ok (.invokevirtual 181, 3) := dk_182 0 181 (dk_at dksX7_readLine_4 4 rfl rfl)
theorem dX7_readLine_101 : decode cX7_readLine 101 = .ok (.goto 8, 3) := dk_167 0 8 (dk_at dksX7_readLine_4 7 rfl rfl)
theorem dX7_readLine_104 : decode cX7_readLine 104 = .ok (.aload_n 0, 1) := dk_42 (dk_at dksX7_readLine_4 10 rfl rfl)
theorem dX7_readLine_105 : decode cX7_readLine 105 = .ok (.iconst 2, 1) := dk_5 (dk_at dksX7_readLine_4 11 rfl rfl)
theorem dX7_readLine_106 : decode cX7_readLine 106 = .ok (.invokevirtual 134, 3) := dk_182 0 134 (dk_at dksX7_readLine_4 12 rfl rfl)
theorem dX7_readLine_109 : decode cX7_readLine 109 = .ok (.aload_n 0, 1) := dk_42 (dk_at dksX7_readLine_4 15 rfl rfl)
theorem dX7_readLine_110 : decode cX7_readLine 110 = .ok (.invokevirtual 241, 3) := dk_182 0 241 (dk_at dksX7_readLine_4 16 rfl rfl)
theorem dX7_readLine_113 : decode cX7_readLine 113 = .ok (.return_, 1) := dk_177 (dk_at dksX7_readLine_4 19 rfl rfl)
abbrev cX7_isWord : ByteArray := prog_43_method_14_code
def yX7_isWord : MethodName := ⟨RX7, "isWord", "(Ljava/lang/String;)Z"⟩
def dkwX7_isWord_3 : List UInt8 := [167, 0, 4, 3, 61, 132, 3, 1, 167, 255, 216, 28, 172]
abbrev dktX7_isWord_3 : List UInt8 := dkwX7_isWord_3 ++ []
def dkwX7_isWord_2 : List UInt8 := [162, 0, 34, 42, 180, 0, 23, 42, 180, 0, 89, 29, 96, 46, 43, 29, 182, 0, 123, 160, 0, 7, 4]
abbrev dktX7_isWord_2 : List UInt8 := dkwX7_isWord_2 ++ dktX7_isWord_3
def dkwX7_isWord_1 : List UInt8 := [43, 182, 0, 118, 160, 0, 7, 4, 167, 0, 4, 3, 61, 3, 62, 28, 153, 0, 42, 29, 43, 182, 0, 118]
abbrev dktX7_isWord_1 : List UInt8 := dkwX7_isWord_1 ++ dktX7_isWord_2
def dkwX7_isWord_0 : List UInt8 := [42, 180, 0, 112, 154, 0, 31, 42, 180, 0, 92, 4, 160, 0, 23, 42, 180, 0, 86, 42, 180, 0, 89, 100]
abbrev dktX7_isWord_0 : List UInt8 := dkwX7_isWord_0 ++ dktX7_isWord_1
theorem dksX7_isWord_0 : cX7_isWord.data.toList.drop 0 = dktX7_isWord_0 := by decide +kernel
theorem dksX7_isWord_1 : cX7_isWord.data.toList.drop 24 = dktX7_isWord_1 := dk_seg dksX7_isWord_0 24 rfl rfl
theorem dksX7_isWord_2 : cX7_isWord.data.toList.drop 48 = dktX7_isWord_2 := dk_seg dksX7_isWord_1 24 rfl rfl
theorem dksX7_isWord_3 : cX7_isWord.data.toList.drop 71 = dktX7_isWord_3 := dk_seg dksX7_isWord_2 23 rfl rfl
theorem dX7_isWord_0 : decode cX7_isWord 0 = .ok (.aload_n 0, 1) := dk_42 (dk_at dksX7_isWord_0 0 rfl rfl)
theorem dX7_isWord_1 : decode cX7_isWord 1 = .ok (.getfield 112, 3) := dk_180 0 112 (dk_at dksX7_isWord_0 1 rfl rfl)
theorem dX7_isWord_4 : decode cX7_isWord 4 = .ok (.ifCond .ne 31, 3) := dk_154 0 31 (dk_at dksX7_isWord_0 4 rfl rfl)
theorem dX7_isWord_7 : decode cX7_isWord 7 = .ok (.aload_n 0, 1) := dk_42 (dk_at dksX7_isWord_0 7 rfl rfl)
theorem dX7_isWord_8 : decode cX7_isWord 8 = .ok (.getfield 92, 3) := dk_180 0 92 (dk_at dksX7_isWord_0 8 rfl rfl)
theorem dX7_isWord_11 : decode cX7_isWord 11 = .ok (.iconst 1, 1) := dk_4 (dk_at dksX7_isWord_0 11 rfl rfl)
theorem dX7_isWord_12 : decode cX7_isWord 12 = .ok (.if_icmp .ne 23, 3) := dk_160 0 23 (dk_at dksX7_isWord_0 12 rfl rfl)
theorem dX7_isWord_15 : decode cX7_isWord 15 = .ok (.aload_n 0, 1) := dk_42 (dk_at dksX7_isWord_0 15 rfl rfl)
theorem dX7_isWord_16 : decode cX7_isWord 16 = .ok (.getfield 86, 3) := dk_180 0 86 (dk_at dksX7_isWord_0 16 rfl rfl)
theorem dX7_isWord_19 : decode cX7_isWord 19 = .ok (.aload_n 0, 1) := dk_42 (dk_at dksX7_isWord_0 19 rfl rfl)
theorem dX7_isWord_20 : decode cX7_isWord 20 = .ok (.getfield 89, 3) := dk_180 0 89 (dk_at dksX7_isWord_0 20 rfl rfl)
theorem dX7_isWord_23 : decode cX7_isWord 23 = .ok (.isub, 1) := dk_100 (dk_at dksX7_isWord_0 23 rfl rfl)
theorem dX7_isWord_24 : decode cX7_isWord 24 = .ok (.aload_n 1, 1) := dk_43 (dk_at dksX7_isWord_1 0 rfl rfl)
theorem dX7_isWord_25 : decode cX7_isWord 25 = .ok (.invokevirtual 118, 3) := dk_182 0 118 (dk_at dksX7_isWord_1 1 rfl rfl)
theorem dX7_isWord_28 : decode cX7_isWord 28 = .ok (.if_icmp .ne 7, 3) := dk_160 0 7 (dk_at dksX7_isWord_1 4 rfl rfl)
theorem dX7_isWord_31 : decode cX7_isWord 31 = .ok (.iconst 1, 1) := dk_4 (dk_at dksX7_isWord_1 7 rfl rfl)
theorem dX7_isWord_32 : decode cX7_isWord 32 = .ok (.goto 4, 3) := dk_167 0 4 (dk_at dksX7_isWord_1 8 rfl rfl)
theorem dX7_isWord_35 : decode cX7_isWord 35 = .ok (.iconst 0, 1) := dk_3 (dk_at dksX7_isWord_1 11 rfl rfl)
theorem dX7_isWord_36 : decode cX7_isWord 36 = .ok (.istore_n 2, 1) := dk_61 (dk_at dksX7_isWord_1 12 rfl rfl)
theorem dX7_isWord_37 : decode cX7_isWord 37 = .ok (.iconst 0, 1) := dk_3 (dk_at dksX7_isWord_1 13 rfl rfl)
theorem dX7_isWord_38 : decode cX7_isWord 38 = .ok (.istore_n 3, 1) := dk_62 (dk_at dksX7_isWord_1 14 rfl rfl)
theorem dX7_isWord_39 : decode cX7_isWord 39 = .ok (.iload_n 2, 1) := dk_28 (dk_at dksX7_isWord_1 15 rfl rfl)
theorem dX7_isWord_40 : decode cX7_isWord 40 = .ok (.ifCond .eq 42, 3) := dk_153 0 42 (dk_at dksX7_isWord_1 16 rfl rfl)
theorem dX7_isWord_43 : decode cX7_isWord 43 = .ok (.iload_n 3, 1) := dk_29 (dk_at dksX7_isWord_1 19 rfl rfl)
theorem dX7_isWord_44 : decode cX7_isWord 44 = .ok (.aload_n 1, 1) := dk_43 (dk_at dksX7_isWord_1 20 rfl rfl)
theorem dX7_isWord_45 : decode cX7_isWord 45 = .ok (.invokevirtual 118, 3) := dk_182 0 118 (dk_at dksX7_isWord_1 21 rfl rfl)
theorem dX7_isWord_48 : decode cX7_isWord 48 = .ok (.if_icmp .ge 34, 3) := dk_162 0 34 (dk_at dksX7_isWord_2 0 rfl rfl)
theorem dX7_isWord_51 : decode cX7_isWord 51 = .ok (.aload_n 0, 1) := dk_42 (dk_at dksX7_isWord_2 3 rfl rfl)
theorem dX7_isWord_52 : decode cX7_isWord 52 = .ok (.getfield 23, 3) := dk_180 0 23 (dk_at dksX7_isWord_2 4 rfl rfl)
theorem dX7_isWord_55 : decode cX7_isWord 55 = .ok (.aload_n 0, 1) := dk_42 (dk_at dksX7_isWord_2 7 rfl rfl)
theorem dX7_isWord_56 : decode cX7_isWord 56 = .ok (.getfield 89, 3) := dk_180 0 89 (dk_at dksX7_isWord_2 8 rfl rfl)
theorem dX7_isWord_59 : decode cX7_isWord 59 = .ok (.iload_n 3, 1) := dk_29 (dk_at dksX7_isWord_2 11 rfl rfl)
theorem dX7_isWord_60 : decode cX7_isWord 60 = .ok (.iadd, 1) := dk_96 (dk_at dksX7_isWord_2 12 rfl rfl)
theorem dX7_isWord_61 : decode cX7_isWord 61 = .ok (.iaload, 1) := dk_46 (dk_at dksX7_isWord_2 13 rfl rfl)
theorem dX7_isWord_62 : decode cX7_isWord 62 = .ok (.aload_n 1, 1) := dk_43 (dk_at dksX7_isWord_2 14 rfl rfl)
theorem dX7_isWord_63 : decode cX7_isWord 63 = .ok (.iload_n 3, 1) := dk_29 (dk_at dksX7_isWord_2 15 rfl rfl)
theorem dX7_isWord_64 : decode cX7_isWord 64 = .ok (.invokevirtual 123, 3) := dk_182 0 123 (dk_at dksX7_isWord_2 16 rfl rfl)
theorem dX7_isWord_67 : decode cX7_isWord 67 = .ok (.if_icmp .ne 7, 3) := dk_160 0 7 (dk_at dksX7_isWord_2 19 rfl rfl)
theorem dX7_isWord_70 : decode cX7_isWord 70 = .ok (.iconst 1, 1) := dk_4 (dk_at dksX7_isWord_2 22 rfl rfl)
theorem dX7_isWord_71 : decode cX7_isWord 71 = .ok (.goto 4, 3) := dk_167 0 4 (dk_at dksX7_isWord_3 0 rfl rfl)
theorem dX7_isWord_74 : decode cX7_isWord 74 = .ok (.iconst 0, 1) := dk_3 (dk_at dksX7_isWord_3 3 rfl rfl)
theorem dX7_isWord_75 : decode cX7_isWord 75 = .ok (.istore_n 2, 1) := dk_61 (dk_at dksX7_isWord_3 4 rfl rfl)
theorem dX7_isWord_76 : decode cX7_isWord 76 = .ok (.iinc 3 1, 3) := dk_132 3 1 (dk_at dksX7_isWord_3 5 rfl rfl)
theorem dX7_isWord_79 : decode cX7_isWord 79 = .ok (.goto (-40), 3) := dk_167 255 216 (dk_at dksX7_isWord_3 8 rfl rfl)
theorem dX7_isWord_82 : decode cX7_isWord 82 = .ok (.iload_n 2, 1) := dk_28 (dk_at dksX7_isWord_3 11 rfl rfl)
theorem dX7_isWord_83 : decode cX7_isWord 83 = .ok (.ireturn, 1) := dk_172 (dk_at dksX7_isWord_3 12 rfl rfl)
abbrev cX7_readCell : ByteArray := prog_43_method_31_code
def yX7_readCell : MethodName := ⟨RX7, "readCell", "()V"⟩
def dkwX7_readCell_3 : List UInt8 := [28, 79, 42, 180, 0, 13, 4, 92, 46, 4, 96, 79, 177]
abbrev dktX7_readCell_3 : List UInt8 := dkwX7_readCell_3 ++ []
def dkwX7_readCell_2 : List UInt8 := [16, 13, 42, 180, 0, 13, 4, 46, 96, 27, 79, 42, 180, 0, 13, 16, 19, 42, 180, 0, 13, 4, 46, 96]
abbrev dktX7_readCell_2 : List UInt8 := dkwX7_readCell_2 ++ dktX7_readCell_3
def dkwX7_readCell_1 : List UInt8 := [182, 0, 219, 42, 3, 16, 99, 182, 0, 209, 61, 42, 180, 0, 112, 153, 0, 4, 177, 42, 180, 0, 13]
abbrev dktX7_readCell_1 : List UInt8 := dkwX7_readCell_1 ++ dktX7_readCell_2
def dkwX7_readCell_0 : List UInt8 := [42, 4, 16, 6, 182, 0, 213, 154, 0, 4, 177, 42, 3, 16, 99, 182, 0, 209, 60, 42, 18, 217]
abbrev dktX7_readCell_0 : List UInt8 := dkwX7_readCell_0 ++ dktX7_readCell_1
theorem dksX7_readCell_0 : cX7_readCell.data.toList.drop 0 = dktX7_readCell_0 := by decide +kernel
theorem dksX7_readCell_1 : cX7_readCell.data.toList.drop 22 = dktX7_readCell_1 := dk_seg dksX7_readCell_0 22 rfl rfl
theorem dksX7_readCell_2 : cX7_readCell.data.toList.drop 45 = dktX7_readCell_2 := dk_seg dksX7_readCell_1 23 rfl rfl
theorem dksX7_readCell_3 : cX7_readCell.data.toList.drop 69 = dktX7_readCell_3 := dk_seg dksX7_readCell_2 24 rfl rfl
theorem dX7_readCell_0 : decode cX7_readCell 0 = .ok (.aload_n 0, 1) := dk_42 (dk_at dksX7_readCell_0 0 rfl rfl)
theorem dX7_readCell_1 : decode cX7_readCell 1 = .ok (.iconst 1, 1) := dk_4 (dk_at dksX7_readCell_0 1 rfl rfl)
theorem dX7_readCell_2 : decode cX7_readCell 2 = .ok (.bipush 6, 2) := dk_16 6 (dk_at dksX7_readCell_0 2 rfl rfl)
theorem dX7_readCell_4 : decode cX7_readCell 4 = .ok (.invokevirtual 213, 3) := dk_182 0 213 (dk_at dksX7_readCell_0 4 rfl rfl)
theorem dX7_readCell_7 : decode cX7_readCell 7 = .ok (.ifCond .ne 4, 3) := dk_154 0 4 (dk_at dksX7_readCell_0 7 rfl rfl)
theorem dX7_readCell_10 : decode cX7_readCell 10 = .ok (.return_, 1) := dk_177 (dk_at dksX7_readCell_0 10 rfl rfl)
theorem dX7_readCell_11 : decode cX7_readCell 11 = .ok (.aload_n 0, 1) := dk_42 (dk_at dksX7_readCell_0 11 rfl rfl)
theorem dX7_readCell_12 : decode cX7_readCell 12 = .ok (.iconst 0, 1) := dk_3 (dk_at dksX7_readCell_0 12 rfl rfl)
theorem dX7_readCell_13 : decode cX7_readCell 13 = .ok (.bipush 99, 2) := dk_16 99 (dk_at dksX7_readCell_0 13 rfl rfl)
theorem dX7_readCell_15 : decode cX7_readCell 15 = .ok (.invokevirtual 209, 3) := dk_182 0 209 (dk_at dksX7_readCell_0 15 rfl rfl)
theorem dX7_readCell_18 : decode cX7_readCell 18 = .ok (.istore_n 1, 1) := dk_60 (dk_at dksX7_readCell_0 18 rfl rfl)
theorem dX7_readCell_19 : decode cX7_readCell 19 = .ok (.aload_n 0, 1) := dk_42 (dk_at dksX7_readCell_0 19 rfl rfl)
theorem dX7_readCell_20 : decode cX7_readCell 20 = .ok (.ldc 217, 2) := dk_18 217 (dk_at dksX7_readCell_0 20 rfl rfl)
theorem dX7_readCell_22 : decode cX7_readCell 22 = .ok (.invokevirtual 219, 3) := dk_182 0 219 (dk_at dksX7_readCell_1 0 rfl rfl)
theorem dX7_readCell_25 : decode cX7_readCell 25 = .ok (.aload_n 0, 1) := dk_42 (dk_at dksX7_readCell_1 3 rfl rfl)
theorem dX7_readCell_26 : decode cX7_readCell 26 = .ok (.iconst 0, 1) := dk_3 (dk_at dksX7_readCell_1 4 rfl rfl)
theorem dX7_readCell_27 : decode cX7_readCell 27 = .ok (.bipush 99, 2) := dk_16 99 (dk_at dksX7_readCell_1 5 rfl rfl)
theorem dX7_readCell_29 : decode cX7_readCell 29 = .ok (.invokevirtual 209, 3) := dk_182 0 209 (dk_at dksX7_readCell_1 7 rfl rfl)
theorem dX7_readCell_32 : decode cX7_readCell 32 = .ok (.istore_n 2, 1) := dk_61 (dk_at dksX7_readCell_1 10 rfl rfl)
theorem dX7_readCell_33 : decode cX7_readCell 33 = .ok (.aload_n 0, 1) := dk_42 (dk_at dksX7_readCell_1 11 rfl rfl)
theorem dX7_readCell_34 : decode cX7_readCell 34 = .ok (.getfield 112, 3) := dk_180 0 112 (dk_at dksX7_readCell_1 12 rfl rfl)
theorem dX7_readCell_37 : decode cX7_readCell 37 = .ok (.ifCond .eq 4, 3) := dk_153 0 4 (dk_at dksX7_readCell_1 15 rfl rfl)
theorem dX7_readCell_40 : decode cX7_readCell 40 = .ok (.return_, 1) := dk_177 (dk_at dksX7_readCell_1 18 rfl rfl)
theorem dX7_readCell_41 : decode cX7_readCell 41 = .ok (.aload_n 0, 1) := dk_42 (dk_at dksX7_readCell_1 19 rfl rfl)
theorem dX7_readCell_42 : decode cX7_readCell 42 = .ok (.getfield 13, 3) := dk_180 0 13 (dk_at dksX7_readCell_1 20 rfl rfl)
theorem dX7_readCell_45 : decode cX7_readCell 45 = .ok (.bipush 13, 2) := dk_16 13 (dk_at dksX7_readCell_2 0 rfl rfl)
theorem dX7_readCell_47 : decode cX7_readCell 47 = .ok (.aload_n 0, 1) := dk_42 (dk_at dksX7_readCell_2 2 rfl rfl)
theorem dX7_readCell_48 : decode cX7_readCell 48 = .ok (.getfield 13, 3) := dk_180 0 13 (dk_at dksX7_readCell_2 3 rfl rfl)
theorem dX7_readCell_51 : decode cX7_readCell 51 = .ok (.iconst 1, 1) := dk_4 (dk_at dksX7_readCell_2 6 rfl rfl)
theorem dX7_readCell_52 : decode cX7_readCell 52 = .ok (.iaload, 1) := dk_46 (dk_at dksX7_readCell_2 7 rfl rfl)
theorem dX7_readCell_53 : decode cX7_readCell 53 = .ok (.iadd, 1) := dk_96 (dk_at dksX7_readCell_2 8 rfl rfl)
theorem dX7_readCell_54 : decode cX7_readCell 54 = .ok (.iload_n 1, 1) := dk_27 (dk_at dksX7_readCell_2 9 rfl rfl)
theorem dX7_readCell_55 : decode cX7_readCell 55 = .ok (.iastore, 1) := dk_79 (dk_at dksX7_readCell_2 10 rfl rfl)
theorem dX7_readCell_56 : decode cX7_readCell 56 = .ok (.aload_n 0, 1) := dk_42 (dk_at dksX7_readCell_2 11 rfl rfl)
theorem dX7_readCell_57 : decode cX7_readCell 57 = .ok (.getfield 13, 3) := dk_180 0 13 (dk_at dksX7_readCell_2 12 rfl rfl)
theorem dX7_readCell_60 : decode cX7_readCell 60 = .ok (.bipush 19, 2) := dk_16 19 (dk_at dksX7_readCell_2 15 rfl rfl)
theorem dX7_readCell_62 : decode cX7_readCell 62 = .ok (.aload_n 0, 1) := dk_42 (dk_at dksX7_readCell_2 17 rfl rfl)
theorem dX7_readCell_63 : decode cX7_readCell 63 = .ok (.getfield 13, 3) := dk_180 0 13 (dk_at dksX7_readCell_2 18 rfl rfl)
theorem dX7_readCell_66 : decode cX7_readCell 66 = .ok (.iconst 1, 1) := dk_4 (dk_at dksX7_readCell_2 21 rfl rfl)
theorem dX7_readCell_67 : decode cX7_readCell 67 = .ok (.iaload, 1) := dk_46 (dk_at dksX7_readCell_2 22 rfl rfl)
theorem dX7_readCell_68 : decode cX7_readCell 68 = .ok (.iadd, 1) := dk_96 (dk_at dksX7_readCell_2 23 rfl rfl)
theorem dX7_readCell_69 : decode cX7_readCell 69 = .ok (.iload_n 2, 1) := dk_28 (dk_at dksX7_readCell_3 0 rfl rfl)
theorem dX7_readCell_70 : decode cX7_readCell 70 = .ok (.iastore, 1) := dk_79 (dk_at dksX7_readCell_3 1 rfl rfl)
theorem dX7_readCell_71 : decode cX7_readCell 71 = .ok (.aload_n 0, 1) := dk_42 (dk_at dksX7_readCell_3 2 rfl rfl)
theorem dX7_readCell_72 : decode cX7_readCell 72 = .ok (.getfield 13, 3) := dk_180 0 13 (dk_at dksX7_readCell_3 3 rfl rfl)
theorem dX7_readCell_75 : decode cX7_readCell 75 = .ok (.iconst 1, 1) := dk_4 (dk_at dksX7_readCell_3 6 rfl rfl)
theorem dX7_readCell_76 : decode cX7_readCell 76 = .ok (.dup2, 1) := dk_92 (dk_at dksX7_readCell_3 7 rfl rfl)
theorem dX7_readCell_77 : decode cX7_readCell 77 = .ok (.iaload, 1) := dk_46 (dk_at dksX7_readCell_3 8 rfl rfl)
theorem dX7_readCell_78 : decode cX7_readCell 78 = .ok (.iconst 1, 1) := dk_4 (dk_at dksX7_readCell_3 9 rfl rfl)
theorem dX7_readCell_79 : decode cX7_readCell 79 = .ok (.iadd, 1) := dk_96 (dk_at dksX7_readCell_3 10 rfl rfl)
theorem dX7_readCell_80 : decode cX7_readCell 80 = .ok (.iastore, 1) := dk_79 (dk_at dksX7_readCell_3 11 rfl rfl)
theorem dX7_readCell_81 : decode cX7_readCell 81 = .ok (.return_, 1) := dk_177 (dk_at dksX7_readCell_3 12 rfl rfl)
abbrev cX7_begins : ByteArray := prog_43_method_30_code
def yX7_begins : MethodName := ⟨RX7, "begins", "(II)Z"⟩
def dkwX7_begins_1 : List UInt8 := [182, 0, 131, 42, 180, 0, 112, 154, 0, 7, 4, 167, 0, 4, 3, 172]
abbrev dktX7_begins_1 : List UInt8 := dkwX7_begins_1 ++ []
def dkwX7_begins_0 : List UInt8 := [42, 180, 0, 13, 27, 46, 28, 160, 0, 8, 42, 7, 182, 0, 134, 42, 180, 0, 112, 154, 0, 7, 42]
abbrev dktX7_begins_0 : List UInt8 := dkwX7_begins_0 ++ dktX7_begins_1
theorem dksX7_begins_0 : cX7_begins.data.toList.drop 0 = dktX7_begins_0 := by decide +kernel
theorem dksX7_begins_1 : cX7_begins.data.toList.drop 23 = dktX7_begins_1 := dk_seg dksX7_begins_0 23 rfl rfl
theorem dX7_begins_0 : decode cX7_begins 0 = .ok (.aload_n 0, 1) := dk_42 (dk_at dksX7_begins_0 0 rfl rfl)
theorem dX7_begins_1 : decode cX7_begins 1 = .ok (.getfield 13, 3) := dk_180 0 13 (dk_at dksX7_begins_0 1 rfl rfl)
theorem dX7_begins_4 : decode cX7_begins 4 = .ok (.iload_n 1, 1) := dk_27 (dk_at dksX7_begins_0 4 rfl rfl)
theorem dX7_begins_5 : decode cX7_begins 5 = .ok (.iaload, 1) := dk_46 (dk_at dksX7_begins_0 5 rfl rfl)
theorem dX7_begins_6 : decode cX7_begins 6 = .ok (.iload_n 2, 1) := dk_28 (dk_at dksX7_begins_0 6 rfl rfl)
theorem dX7_begins_7 : decode cX7_begins 7 = .ok (.if_icmp .ne 8, 3) := dk_160 0 8 (dk_at dksX7_begins_0 7 rfl rfl)
theorem dX7_begins_10 : decode cX7_begins 10 = .ok (.aload_n 0, 1) := dk_42 (dk_at dksX7_begins_0 10 rfl rfl)
theorem dX7_begins_11 : decode cX7_begins 11 = .ok (.iconst 4, 1) := dk_7 (dk_at dksX7_begins_0 11 rfl rfl)
theorem dX7_begins_12 : decode cX7_begins 12 = .ok (.invokevirtual 134, 3) := dk_182 0 134 (dk_at dksX7_begins_0 12 rfl rfl)
theorem dX7_begins_15 : decode cX7_begins 15 = .ok (.aload_n 0, 1) := dk_42 (dk_at dksX7_begins_0 15 rfl rfl)
theorem dX7_begins_16 : decode cX7_begins 16 = .ok (.getfield 112, 3) := dk_180 0 112 (dk_at dksX7_begins_0 16 rfl rfl)
theorem dX7_begins_19 : decode cX7_begins 19 = .ok (.ifCond .ne 7, 3) := dk_154 0 7 (dk_at dksX7_begins_0 19 rfl rfl)
theorem dX7_begins_22 : decode cX7_begins 22 = .ok (.aload_n 0, 1) := dk_42 (dk_at dksX7_begins_0 22 rfl rfl)
theorem dX7_begins_23 : decode cX7_begins 23 = .ok (.invokevirtual 131, 3) := dk_182 0 131 (dk_at dksX7_begins_1 0 rfl rfl)
theorem dX7_begins_26 : decode cX7_begins 26 = .ok (.aload_n 0, 1) := dk_42 (dk_at dksX7_begins_1 3 rfl rfl)
theorem dX7_begins_27 : decode cX7_begins 27 = .ok (.getfield 112, 3) := dk_180 0 112 (dk_at dksX7_begins_1 4 rfl rfl)
theorem dX7_begins_30 : decode cX7_begins 30 = .ok (.ifCond .ne 7, 3) := dk_154 0 7 (dk_at dksX7_begins_1 7 rfl rfl)
theorem dX7_begins_33 : decode cX7_begins 33 = .ok (.iconst 1, 1) := dk_4 (dk_at dksX7_begins_1 10 rfl rfl)
theorem dX7_begins_34 : decode cX7_begins 34 = .ok (.goto 4, 3) := dk_167 0 4 (dk_at dksX7_begins_1 11 rfl rfl)
theorem dX7_begins_37 : decode cX7_begins 37 = .ok (.iconst 0, 1) := dk_3 (dk_at dksX7_begins_1 14 rfl rfl)
theorem dX7_begins_38 : decode cX7_begins 38 = .ok (.ireturn, 1) := dk_172 (dk_at dksX7_begins_1 15 rfl rfl)
abbrev cX7_blames : ByteArray := prog_43_method_13_code
def yX7_blames : MethodName := ⟨RX7, "blames", "(I)V"⟩
def dkwX7_blames_1 : List UInt8 := [181, 0, 112, 42, 42, 180, 0, 89, 181, 0, 115, 177]
abbrev dktX7_blames_1 : List UInt8 := dkwX7_blames_1 ++ []
def dkwX7_blames_0 : List UInt8 := [42, 180, 0, 112, 153, 0, 4, 177, 42, 42, 180, 0, 92, 6, 160, 0, 7, 4, 167, 0, 4, 27]
abbrev dktX7_blames_0 : List UInt8 := dkwX7_blames_0 ++ dktX7_blames_1
theorem dksX7_blames_0 : cX7_blames.data.toList.drop 0 = dktX7_blames_0 := by decide +kernel
theorem dksX7_blames_1 : cX7_blames.data.toList.drop 22 = dktX7_blames_1 := dk_seg dksX7_blames_0 22 rfl rfl
theorem dX7_blames_0 : decode cX7_blames 0 = .ok (.aload_n 0, 1) := dk_42 (dk_at dksX7_blames_0 0 rfl rfl)
theorem dX7_blames_1 : decode cX7_blames 1 = .ok (.getfield 112, 3) := dk_180 0 112 (dk_at dksX7_blames_0 1 rfl rfl)
theorem dX7_blames_4 : decode cX7_blames 4 = .ok (.ifCond .eq 4, 3) := dk_153 0 4 (dk_at dksX7_blames_0 4 rfl rfl)
theorem dX7_blames_7 : decode cX7_blames 7 = .ok (.return_, 1) := dk_177 (dk_at dksX7_blames_0 7 rfl rfl)
theorem dX7_blames_8 : decode cX7_blames 8 = .ok (.aload_n 0, 1) := dk_42 (dk_at dksX7_blames_0 8 rfl rfl)
theorem dX7_blames_9 : decode cX7_blames 9 = .ok (.aload_n 0, 1) := dk_42 (dk_at dksX7_blames_0 9 rfl rfl)
theorem dX7_blames_10 : decode cX7_blames 10 = .ok (.getfield 92, 3) := dk_180 0 92 (dk_at dksX7_blames_0 10 rfl rfl)
theorem dX7_blames_13 : decode cX7_blames 13 = .ok (.iconst 3, 1) := dk_6 (dk_at dksX7_blames_0 13 rfl rfl)
theorem dX7_blames_14 : decode cX7_blames 14 = .ok (.if_icmp .ne 7, 3) := dk_160 0 7 (dk_at dksX7_blames_0 14 rfl rfl)
theorem dX7_blames_17 : decode cX7_blames 17 = .ok (.iconst 1, 1) := dk_4 (dk_at dksX7_blames_0 17 rfl rfl)
theorem dX7_blames_18 : decode cX7_blames 18 = .ok (.goto 4, 3) := dk_167 0 4 (dk_at dksX7_blames_0 18 rfl rfl)
theorem dX7_blames_21 : decode cX7_blames 21 = .ok (.iload_n 1, 1) := dk_27 (dk_at dksX7_blames_0 21 rfl rfl)
theorem dX7_blames_22 : decode cX7_blames 22 = .ok (.putfield 112, 3) := dk_181 0 112 (dk_at dksX7_blames_1 0 rfl rfl)
theorem dX7_blames_25 : decode cX7_blames 25 = .ok (.aload_n 0, 1) := dk_42 (dk_at dksX7_blames_1 3 rfl rfl)
theorem dX7_blames_26 : decode cX7_blames 26 = .ok (.aload_n 0, 1) := dk_42 (dk_at dksX7_blames_1 4 rfl rfl)
theorem dX7_blames_27 : decode cX7_blames 27 = .ok (.getfield 89, 3) := dk_180 0 89 (dk_at dksX7_blames_1 5 rfl rfl)
theorem dX7_blames_30 : decode cX7_blames 30 = .ok (.putfield 115, 3) := dk_181 0 115 (dk_at dksX7_blames_1 8 rfl rfl)
theorem dX7_blames_33 : decode cX7_blames 33 = .ok (.return_, 1) := dk_177 (dk_at dksX7_blames_1 11 rfl rfl)
abbrev cX7_number : ByteArray := prog_43_method_18_code
def yX7_number : MethodName := ⟨RX7, "number", "(II)I"⟩
def dkwX7_number_2 : List UInt8 := [42, 182, 0, 131, 42, 180, 0, 112, 154, 0, 7, 29, 167, 0, 4, 27, 172]
abbrev dktX7_number_2 : List UInt8 := dkwX7_number_2 ++ []
def dkwX7_number_1 : List UInt8 := [133, 184, 0, 138, 154, 0, 8, 42, 6, 182, 0, 134, 42, 180, 0, 106, 62, 42, 180, 0, 112, 154, 0, 7]
abbrev dktX7_number_1 : List UInt8 := dkwX7_number_1 ++ dktX7_number_2
def dkwX7_number_0 : List UInt8 := [42, 180, 0, 92, 5, 159, 0, 11, 42, 5, 182, 0, 134, 167, 0, 23, 42, 180, 0, 106, 133, 27, 133, 28]
abbrev dktX7_number_0 : List UInt8 := dkwX7_number_0 ++ dktX7_number_1
theorem dksX7_number_0 : cX7_number.data.toList.drop 0 = dktX7_number_0 := by decide +kernel
theorem dksX7_number_1 : cX7_number.data.toList.drop 24 = dktX7_number_1 := dk_seg dksX7_number_0 24 rfl rfl
theorem dksX7_number_2 : cX7_number.data.toList.drop 48 = dktX7_number_2 := dk_seg dksX7_number_1 24 rfl rfl
theorem dX7_number_0 : decode cX7_number 0 = .ok (.aload_n 0, 1) := dk_42 (dk_at dksX7_number_0 0 rfl rfl)
theorem dX7_number_1 : decode cX7_number 1 = .ok (.getfield 92, 3) := dk_180 0 92 (dk_at dksX7_number_0 1 rfl rfl)
theorem dX7_number_4 : decode cX7_number 4 = .ok (.iconst 2, 1) := dk_5 (dk_at dksX7_number_0 4 rfl rfl)
theorem dX7_number_5 : decode cX7_number 5 = .ok (.if_icmp .eq 11, 3) := dk_159 0 11 (dk_at dksX7_number_0 5 rfl rfl)
theorem dX7_number_8 : decode cX7_number 8 = .ok (.aload_n 0, 1) := dk_42 (dk_at dksX7_number_0 8 rfl rfl)
theorem dX7_number_9 : decode cX7_number 9 = .ok (.iconst 2, 1) := dk_5 (dk_at dksX7_number_0 9 rfl rfl)
theorem dX7_number_10 : decode cX7_number 10 = .ok (.invokevirtual 134, 3) := dk_182 0 134 (dk_at dksX7_number_0 10 rfl rfl)
theorem dX7_number_13 : decode cX7_number 13 = .ok (.goto 23, 3) := dk_167 0 23 (dk_at dksX7_number_0 13 rfl rfl)
theorem dX7_number_16 : decode cX7_number 16 = .ok (.aload_n 0, 1) := dk_42 (dk_at dksX7_number_0 16 rfl rfl)
theorem dX7_number_17 : decode cX7_number 17 = .ok (.getfield 106, 3) := dk_180 0 106 (dk_at dksX7_number_0 17 rfl rfl)
theorem dX7_number_20 : decode cX7_number 20 = .ok (.i2l, 1) := dk_133 (dk_at dksX7_number_0 20 rfl rfl)
theorem dX7_number_21 : decode cX7_number 21 = .ok (.iload_n 1, 1) := dk_27 (dk_at dksX7_number_0 21 rfl rfl)
theorem dX7_number_22 : decode cX7_number 22 = .ok (.i2l, 1) := dk_133 (dk_at dksX7_number_0 22 rfl rfl)
theorem dX7_number_23 : decode cX7_number 23 = .ok (.iload_n 2, 1) := dk_28 (dk_at dksX7_number_0 23 rfl rfl)
theorem dX7_number_24 : decode cX7_number 24 = .ok (.i2l, 1) := dk_133 (dk_at dksX7_number_1 0 rfl rfl)
theorem dX7_number_25 : decode cX7_number 25 = .ok (.invokestatic 138, 3) := dk_184 0 138 (dk_at dksX7_number_1 1 rfl rfl)
theorem dX7_number_28 : decode cX7_number 28 = .ok (.ifCond .ne 8, 3) := dk_154 0 8 (dk_at dksX7_number_1 4 rfl rfl)
theorem dX7_number_31 : decode cX7_number 31 = .ok (.aload_n 0, 1) := dk_42 (dk_at dksX7_number_1 7 rfl rfl)
theorem dX7_number_32 : decode cX7_number 32 = .ok (.iconst 3, 1) := dk_6 (dk_at dksX7_number_1 8 rfl rfl)
theorem dX7_number_33 : decode cX7_number 33 = .ok (.invokevirtual 134, 3) := dk_182 0 134 (dk_at dksX7_number_1 9 rfl rfl)
theorem dX7_number_36 : decode cX7_number 36 = .ok (.aload_n 0, 1) := dk_42 (dk_at dksX7_number_1 12 rfl rfl)
theorem dX7_number_37 : decode cX7_number 37 = .ok (.getfield 106, 3) := dk_180 0 106 (dk_at dksX7_number_1 13 rfl rfl)
theorem dX7_number_40 : decode cX7_number 40 = .ok (.istore_n 3, 1) := dk_62 (dk_at dksX7_number_1 16 rfl rfl)
theorem dX7_number_41 : decode cX7_number 41 = .ok (.aload_n 0, 1) := dk_42 (dk_at dksX7_number_1 17 rfl rfl)
theorem dX7_number_42 : decode cX7_number 42 = .ok (.getfield 112, 3) := dk_180 0 112 (dk_at dksX7_number_1 18 rfl rfl)
theorem dX7_number_45 : decode cX7_number 45 = .ok (.ifCond .ne 7, 3) := dk_154 0 7 (dk_at dksX7_number_1 21 rfl rfl)
theorem dX7_number_48 : decode cX7_number 48 = .ok (.aload_n 0, 1) := dk_42 (dk_at dksX7_number_2 0 rfl rfl)
theorem dX7_number_49 : decode cX7_number 49 = .ok (.invokevirtual 131, 3) := dk_182 0 131 (dk_at dksX7_number_2 1 rfl rfl)
theorem dX7_number_52 : decode cX7_number 52 = .ok (.aload_n 0, 1) := dk_42 (dk_at dksX7_number_2 4 rfl rfl)
theorem dX7_number_53 : decode cX7_number 53 = .ok (.getfield 112, 3) := dk_180 0 112 (dk_at dksX7_number_2 5 rfl rfl)
theorem dX7_number_56 : decode cX7_number 56 = .ok (.ifCond .ne 7, 3) := dk_154 0 7 (dk_at dksX7_number_2 8 rfl rfl)
theorem dX7_number_59 : decode cX7_number 59 = .ok (.iload_n 3, 1) := dk_29 (dk_at dksX7_number_2 11 rfl rfl)
theorem dX7_number_60 : decode cX7_number 60 = .ok (.goto 4, 3) := dk_167 0 4 (dk_at dksX7_number_2 12 rfl rfl)
theorem dX7_number_63 : decode cX7_number 63 = .ok (.iload_n 1, 1) := dk_27 (dk_at dksX7_number_2 15 rfl rfl)
theorem dX7_number_64 : decode cX7_number 64 = .ok (.ireturn, 1) := dk_172 (dk_at dksX7_number_2 16 rfl rfl)
abbrev cX7_mustWord : ByteArray := prog_43_method_19_code
def yX7_mustWord : MethodName := ⟨RX7, "mustWord", "(Ljava/lang/String;)V"⟩
def dkwX7_mustWord_0 : List UInt8 := [42, 43, 182, 0, 142, 154, 0, 8, 42, 5, 182, 0, 134, 177]
abbrev dktX7_mustWord_0 : List UInt8 := dkwX7_mustWord_0 ++ []
theorem dksX7_mustWord_0 : cX7_mustWord.data.toList.drop 0 = dktX7_mustWord_0 := by decide +kernel
theorem dX7_mustWord_0 : decode cX7_mustWord 0 = .ok (.aload_n 0, 1) := dk_42 (dk_at dksX7_mustWord_0 0 rfl rfl)
theorem dX7_mustWord_1 : decode cX7_mustWord 1 = .ok (.aload_n 1, 1) := dk_43 (dk_at dksX7_mustWord_0 1 rfl rfl)
theorem dX7_mustWord_2 : decode cX7_mustWord 2 = .ok (.invokevirtual 142, 3) := dk_182 0 142 (dk_at dksX7_mustWord_0 2 rfl rfl)
theorem dX7_mustWord_5 : decode cX7_mustWord 5 = .ok (.ifCond .ne 8, 3) := dk_154 0 8 (dk_at dksX7_mustWord_0 5 rfl rfl)
theorem dX7_mustWord_8 : decode cX7_mustWord 8 = .ok (.aload_n 0, 1) := dk_42 (dk_at dksX7_mustWord_0 8 rfl rfl)
theorem dX7_mustWord_9 : decode cX7_mustWord 9 = .ok (.iconst 2, 1) := dk_5 (dk_at dksX7_mustWord_0 9 rfl rfl)
theorem dX7_mustWord_10 : decode cX7_mustWord 10 = .ok (.invokevirtual 134, 3) := dk_182 0 134 (dk_at dksX7_mustWord_0 10 rfl rfl)
theorem dX7_mustWord_13 : decode cX7_mustWord 13 = .ok (.return_, 1) := dk_177 (dk_at dksX7_mustWord_0 13 rfl rfl)
abbrev cX7_took : ByteArray := prog_43_method_15_code
def yX7_took : MethodName := ⟨RX7, "took", "(Ljava/lang/String;)Z"⟩
def dkwX7_took_0 : List UInt8 := [42, 43, 182, 0, 127, 61, 28, 153, 0, 7, 42, 182, 0, 131, 28, 172]
abbrev dktX7_took_0 : List UInt8 := dkwX7_took_0 ++ []
theorem dksX7_took_0 : cX7_took.data.toList.drop 0 = dktX7_took_0 := by decide +kernel
theorem dX7_took_0 : decode cX7_took 0 = .ok (.aload_n 0, 1) := dk_42 (dk_at dksX7_took_0 0 rfl rfl)
theorem dX7_took_1 : decode cX7_took 1 = .ok (.aload_n 1, 1) := dk_43 (dk_at dksX7_took_0 1 rfl rfl)
theorem dX7_took_2 : decode cX7_took 2 = .ok (.invokevirtual 127, 3) := dk_182 0 127 (dk_at dksX7_took_0 2 rfl rfl)
theorem dX7_took_5 : decode cX7_took 5 = .ok (.istore_n 2, 1) := dk_61 (dk_at dksX7_took_0 5 rfl rfl)
theorem dX7_took_6 : decode cX7_took 6 = .ok (.iload_n 2, 1) := dk_28 (dk_at dksX7_took_0 6 rfl rfl)
theorem dX7_took_7 : decode cX7_took 7 = .ok (.ifCond .eq 7, 3) := dk_153 0 7 (dk_at dksX7_took_0 7 rfl rfl)
theorem dX7_took_10 : decode cX7_took 10 = .ok (.aload_n 0, 1) := dk_42 (dk_at dksX7_took_0 10 rfl rfl)
theorem dX7_took_11 : decode cX7_took 11 = .ok (.invokevirtual 131, 3) := dk_182 0 131 (dk_at dksX7_took_0 11 rfl rfl)
theorem dX7_took_14 : decode cX7_took 14 = .ok (.iload_n 2, 1) := dk_28 (dk_at dksX7_took_0 14 rfl rfl)
theorem dX7_took_15 : decode cX7_took 15 = .ok (.ireturn, 1) := dk_172 (dk_at dksX7_took_0 15 rfl rfl)
abbrev cX7_readGuest : ByteArray := prog_43_method_32_code
def yX7_readGuest : MethodName := ⟨RX7, "readGuest", "()V"⟩
def dkwX7_readGuest_2 : List UInt8 := [92, 46, 4, 96, 79, 177]
abbrev dktX7_readGuest_2 : List UInt8 := dkwX7_readGuest_2 ++ []
def dkwX7_readGuest_1 : List UInt8 := [153, 0, 4, 177, 42, 180, 0, 13, 16, 25, 42, 180, 0, 13, 5, 46, 96, 27, 79, 42, 180, 0, 13, 5]
abbrev dktX7_readGuest_1 : List UInt8 := dkwX7_readGuest_1 ++ dktX7_readGuest_2
def dkwX7_readGuest_0 : List UInt8 := [42, 5, 7, 182, 0, 213, 154, 0, 4, 177, 42, 3, 16, 99, 182, 0, 209, 60, 42, 180, 0, 112]
abbrev dktX7_readGuest_0 : List UInt8 := dkwX7_readGuest_0 ++ dktX7_readGuest_1
theorem dksX7_readGuest_0 : cX7_readGuest.data.toList.drop 0 = dktX7_readGuest_0 := by decide +kernel
theorem dksX7_readGuest_1 : cX7_readGuest.data.toList.drop 22 = dktX7_readGuest_1 := dk_seg dksX7_readGuest_0 22 rfl rfl
theorem dksX7_readGuest_2 : cX7_readGuest.data.toList.drop 46 = dktX7_readGuest_2 := dk_seg dksX7_readGuest_1 24 rfl rfl
theorem dX7_readGuest_0 : decode cX7_readGuest 0 = .ok (.aload_n 0, 1) := dk_42 (dk_at dksX7_readGuest_0 0 rfl rfl)
theorem dX7_readGuest_1 : decode cX7_readGuest 1 = .ok (.iconst 2, 1) := dk_5 (dk_at dksX7_readGuest_0 1 rfl rfl)
theorem dX7_readGuest_2 : decode cX7_readGuest 2 = .ok (.iconst 4, 1) := dk_7 (dk_at dksX7_readGuest_0 2 rfl rfl)
theorem dX7_readGuest_3 : decode cX7_readGuest 3 = .ok (.invokevirtual 213, 3) := dk_182 0 213 (dk_at dksX7_readGuest_0 3 rfl rfl)
theorem dX7_readGuest_6 : decode cX7_readGuest 6 = .ok (.ifCond .ne 4, 3) := dk_154 0 4 (dk_at dksX7_readGuest_0 6 rfl rfl)
theorem dX7_readGuest_9 : decode cX7_readGuest 9 = .ok (.return_, 1) := dk_177 (dk_at dksX7_readGuest_0 9 rfl rfl)
theorem dX7_readGuest_10 : decode cX7_readGuest 10 = .ok (.aload_n 0, 1) := dk_42 (dk_at dksX7_readGuest_0 10 rfl rfl)
theorem dX7_readGuest_11 : decode cX7_readGuest 11 = .ok (.iconst 0, 1) := dk_3 (dk_at dksX7_readGuest_0 11 rfl rfl)
theorem dX7_readGuest_12 : decode cX7_readGuest 12 = .ok (.bipush 99, 2) := dk_16 99 (dk_at dksX7_readGuest_0 12 rfl rfl)
theorem dX7_readGuest_14 : decode cX7_readGuest 14 = .ok (.invokevirtual 209, 3) := dk_182 0 209 (dk_at dksX7_readGuest_0 14 rfl rfl)
theorem dX7_readGuest_17 : decode cX7_readGuest 17 = .ok (.istore_n 1, 1) := dk_60 (dk_at dksX7_readGuest_0 17 rfl rfl)
theorem dX7_readGuest_18 : decode cX7_readGuest 18 = .ok (.aload_n 0, 1) := dk_42 (dk_at dksX7_readGuest_0 18 rfl rfl)
theorem dX7_readGuest_19 : decode cX7_readGuest 19 = .ok (.getfield 112, 3) := dk_180 0 112 (dk_at dksX7_readGuest_0 19 rfl rfl)
theorem dX7_readGuest_22 : decode cX7_readGuest 22 = .ok (.ifCond .eq 4, 3) := dk_153 0 4 (dk_at dksX7_readGuest_1 0 rfl rfl)
theorem dX7_readGuest_25 : decode cX7_readGuest 25 = .ok (.return_, 1) := dk_177 (dk_at dksX7_readGuest_1 3 rfl rfl)
theorem dX7_readGuest_26 : decode cX7_readGuest 26 = .ok (.aload_n 0, 1) := dk_42 (dk_at dksX7_readGuest_1 4 rfl rfl)
theorem dX7_readGuest_27 : decode cX7_readGuest 27 = .ok (.getfield 13, 3) := dk_180 0 13 (dk_at dksX7_readGuest_1 5 rfl rfl)
theorem dX7_readGuest_30 : decode cX7_readGuest 30 = .ok (.bipush 25, 2) := dk_16 25 (dk_at dksX7_readGuest_1 8 rfl rfl)
theorem dX7_readGuest_32 : decode cX7_readGuest 32 = .ok (.aload_n 0, 1) := dk_42 (dk_at dksX7_readGuest_1 10 rfl rfl)
theorem dX7_readGuest_33 : decode cX7_readGuest 33 = .ok (.getfield 13, 3) := dk_180 0 13 (dk_at dksX7_readGuest_1 11 rfl rfl)
theorem dX7_readGuest_36 : decode cX7_readGuest 36 = .ok (.iconst 2, 1) := dk_5 (dk_at dksX7_readGuest_1 14 rfl rfl)
theorem dX7_readGuest_37 : decode cX7_readGuest 37 = .ok (.iaload, 1) := dk_46 (dk_at dksX7_readGuest_1 15 rfl rfl)
theorem dX7_readGuest_38 : decode cX7_readGuest 38 = .ok (.iadd, 1) := dk_96 (dk_at dksX7_readGuest_1 16 rfl rfl)
theorem dX7_readGuest_39 : decode cX7_readGuest 39 = .ok (.iload_n 1, 1) := dk_27 (dk_at dksX7_readGuest_1 17 rfl rfl)
theorem dX7_readGuest_40 : decode cX7_readGuest 40 = .ok (.iastore, 1) := dk_79 (dk_at dksX7_readGuest_1 18 rfl rfl)
theorem dX7_readGuest_41 : decode cX7_readGuest 41 = .ok (.aload_n 0, 1) := dk_42 (dk_at dksX7_readGuest_1 19 rfl rfl)
theorem dX7_readGuest_42 : decode cX7_readGuest 42 = .ok (.getfield 13, 3) := dk_180 0 13 (dk_at dksX7_readGuest_1 20 rfl rfl)
theorem dX7_readGuest_45 : decode cX7_readGuest 45 = .ok (.iconst 2, 1) := dk_5 (dk_at dksX7_readGuest_1 23 rfl rfl)
theorem dX7_readGuest_46 : decode cX7_readGuest 46 = .ok (.dup2, 1) := dk_92 (dk_at dksX7_readGuest_2 0 rfl rfl)
theorem dX7_readGuest_47 : decode cX7_readGuest 47 = .ok (.iaload, 1) := dk_46 (dk_at dksX7_readGuest_2 1 rfl rfl)
theorem dX7_readGuest_48 : decode cX7_readGuest 48 = .ok (.iconst 1, 1) := dk_4 (dk_at dksX7_readGuest_2 2 rfl rfl)
theorem dX7_readGuest_49 : decode cX7_readGuest 49 = .ok (.iadd, 1) := dk_96 (dk_at dksX7_readGuest_2 3 rfl rfl)
theorem dX7_readGuest_50 : decode cX7_readGuest 50 = .ok (.iastore, 1) := dk_79 (dk_at dksX7_readGuest_2 4 rfl rfl)
theorem dX7_readGuest_51 : decode cX7_readGuest 51 = .ok (.return_, 1) := dk_177 (dk_at dksX7_readGuest_2 5 rfl rfl)
abbrev cX7_beginsLaw : ByteArray := prog_43_method_21_code
def yX7_beginsLaw : MethodName := ⟨RX7, "beginsLaw", "(II)V"⟩
def dkwX7_beginsLaw_0 : List UInt8 := [42, 27, 181, 0, 148, 42, 28, 181, 0, 145, 42, 180, 0, 13, 27, 3, 79, 42, 16, 58, 182, 0, 151, 177]
abbrev dktX7_beginsLaw_0 : List UInt8 := dkwX7_beginsLaw_0 ++ []
theorem dksX7_beginsLaw_0 : cX7_beginsLaw.data.toList.drop 0 = dktX7_beginsLaw_0 := by decide +kernel
theorem dX7_beginsLaw_0 : decode cX7_beginsLaw 0 = .ok (.aload_n 0, 1) := dk_42 (dk_at dksX7_beginsLaw_0 0 rfl rfl)
theorem dX7_beginsLaw_1 : decode cX7_beginsLaw 1 = .ok (.iload_n 1, 1) := dk_27 (dk_at dksX7_beginsLaw_0 1 rfl rfl)
theorem dX7_beginsLaw_2 : decode cX7_beginsLaw 2 = .ok (.putfield 148, 3) := dk_181 0 148 (dk_at dksX7_beginsLaw_0 2 rfl rfl)
theorem dX7_beginsLaw_5 : decode cX7_beginsLaw 5 = .ok (.aload_n 0, 1) := dk_42 (dk_at dksX7_beginsLaw_0 5 rfl rfl)
theorem dX7_beginsLaw_6 : decode cX7_beginsLaw 6 = .ok (.iload_n 2, 1) := dk_28 (dk_at dksX7_beginsLaw_0 6 rfl rfl)
theorem dX7_beginsLaw_7 : decode cX7_beginsLaw 7 = .ok (.putfield 145, 3) := dk_181 0 145 (dk_at dksX7_beginsLaw_0 7 rfl rfl)
theorem dX7_beginsLaw_10 : decode cX7_beginsLaw 10 = .ok (.aload_n 0, 1) := dk_42 (dk_at dksX7_beginsLaw_0 10 rfl rfl)
theorem dX7_beginsLaw_11 : decode cX7_beginsLaw 11 = .ok (.getfield 13, 3) := dk_180 0 13 (dk_at dksX7_beginsLaw_0 11 rfl rfl)
theorem dX7_beginsLaw_14 : decode cX7_beginsLaw 14 = .ok (.iload_n 1, 1) := dk_27 (dk_at dksX7_beginsLaw_0 14 rfl rfl)
theorem dX7_beginsLaw_15 : decode cX7_beginsLaw 15 = .ok (.iconst 0, 1) := dk_3 (dk_at dksX7_beginsLaw_0 15 rfl rfl)
theorem dX7_beginsLaw_16 : decode cX7_beginsLaw 16 = .ok (.iastore, 1) := dk_79 (dk_at dksX7_beginsLaw_0 16 rfl rfl)
theorem dX7_beginsLaw_17 : decode cX7_beginsLaw 17 = .ok (.aload_n 0, 1) := dk_42 (dk_at dksX7_beginsLaw_0 17 rfl rfl)
theorem dX7_beginsLaw_18 : decode cX7_beginsLaw 18 = .ok (.bipush 58, 2) := dk_16 58 (dk_at dksX7_beginsLaw_0 18 rfl rfl)
theorem dX7_beginsLaw_20 : decode cX7_beginsLaw 20 = .ok (.invokevirtual 151, 3) := dk_182 0 151 (dk_at dksX7_beginsLaw_0 20 rfl rfl)
theorem dX7_beginsLaw_23 : decode cX7_beginsLaw 23 = .ok (.return_, 1) := dk_177 (dk_at dksX7_beginsLaw_0 23 rfl rfl)
abbrev cX7_mustSign : ByteArray := prog_43_method_17_code
def yX7_mustSign : MethodName := ⟨RX7, "mustSign", "(I)V"⟩
def dkwX7_mustSign_1 : List UInt8 := [177]
abbrev dktX7_mustSign_1 : List UInt8 := dkwX7_mustSign_1 ++ []
def dkwX7_mustSign_0 : List UInt8 := [42, 180, 0, 92, 27, 159, 0, 8, 42, 5, 182, 0, 134, 42, 180, 0, 112, 154, 0, 7, 42, 182, 0, 131]
abbrev dktX7_mustSign_0 : List UInt8 := dkwX7_mustSign_0 ++ dktX7_mustSign_1
theorem dksX7_mustSign_0 : cX7_mustSign.data.toList.drop 0 = dktX7_mustSign_0 := by decide +kernel
theorem dksX7_mustSign_1 : cX7_mustSign.data.toList.drop 24 = dktX7_mustSign_1 := dk_seg dksX7_mustSign_0 24 rfl rfl
theorem dX7_mustSign_0 : decode cX7_mustSign 0 = .ok (.aload_n 0, 1) := dk_42 (dk_at dksX7_mustSign_0 0 rfl rfl)
theorem dX7_mustSign_1 : decode cX7_mustSign 1 = .ok (.getfield 92, 3) := dk_180 0 92 (dk_at dksX7_mustSign_0 1 rfl rfl)
theorem dX7_mustSign_4 : decode cX7_mustSign 4 = .ok (.iload_n 1, 1) := dk_27 (dk_at dksX7_mustSign_0 4 rfl rfl)
theorem dX7_mustSign_5 : decode cX7_mustSign 5 = .ok (.if_icmp .eq 8, 3) := dk_159 0 8 (dk_at dksX7_mustSign_0 5 rfl rfl)
theorem dX7_mustSign_8 : decode cX7_mustSign 8 = .ok (.aload_n 0, 1) := dk_42 (dk_at dksX7_mustSign_0 8 rfl rfl)
theorem dX7_mustSign_9 : decode cX7_mustSign 9 = .ok (.iconst 2, 1) := dk_5 (dk_at dksX7_mustSign_0 9 rfl rfl)
theorem dX7_mustSign_10 : decode cX7_mustSign 10 = .ok (.invokevirtual 134, 3) := dk_182 0 134 (dk_at dksX7_mustSign_0 10 rfl rfl)
theorem dX7_mustSign_13 : decode cX7_mustSign 13 = .ok (.aload_n 0, 1) := dk_42 (dk_at dksX7_mustSign_0 13 rfl rfl)
theorem dX7_mustSign_14 : decode cX7_mustSign 14 = .ok (.getfield 112, 3) := dk_180 0 112 (dk_at dksX7_mustSign_0 14 rfl rfl)
theorem dX7_mustSign_17 : decode cX7_mustSign 17 = .ok (.ifCond .ne 7, 3) := dk_154 0 7 (dk_at dksX7_mustSign_0 17 rfl rfl)
theorem dX7_mustSign_20 : decode cX7_mustSign 20 = .ok (.aload_n 0, 1) := dk_42 (dk_at dksX7_mustSign_0 20 rfl rfl)
theorem dX7_mustSign_21 : decode cX7_mustSign 21 = .ok (.invokevirtual 131, 3) := dk_182 0 131 (dk_at dksX7_mustSign_0 21 rfl rfl)
theorem dX7_mustSign_24 : decode cX7_mustSign 24 = .ok (.return_, 1) := dk_177 (dk_at dksX7_mustSign_1 0 rfl rfl)
abbrev cX7_readSum : ByteArray := prog_43_method_26_code
def yX7_readSum : MethodName := ⟨RX7, "readSum", "()V"⟩
def dkwX7_readSum_2 : List UInt8 := [16, 11, 182, 0, 162, 167, 255, 208, 177]
abbrev dktX7_readSum_2 : List UInt8 := dkwX7_readSum_2 ++ []
def dkwX7_readSum_1 : List UInt8 := [180, 0, 92, 60, 42, 182, 0, 131, 42, 182, 0, 184, 42, 27, 16, 43, 160, 0, 8, 16, 10, 167, 0, 5]
abbrev dktX7_readSum_1 : List UInt8 := dkwX7_readSum_1 ++ dktX7_readSum_2
def dkwX7_readSum_0 : List UInt8 := [42, 182, 0, 184, 42, 16, 43, 182, 0, 175, 154, 0, 12, 42, 16, 45, 182, 0, 175, 153, 0, 36, 42]
abbrev dktX7_readSum_0 : List UInt8 := dkwX7_readSum_0 ++ dktX7_readSum_1
theorem dksX7_readSum_0 : cX7_readSum.data.toList.drop 0 = dktX7_readSum_0 := by decide +kernel
theorem dksX7_readSum_1 : cX7_readSum.data.toList.drop 23 = dktX7_readSum_1 := dk_seg dksX7_readSum_0 23 rfl rfl
theorem dksX7_readSum_2 : cX7_readSum.data.toList.drop 47 = dktX7_readSum_2 := dk_seg dksX7_readSum_1 24 rfl rfl
theorem dX7_readSum_0 : decode cX7_readSum 0 = .ok (.aload_n 0, 1) := dk_42 (dk_at dksX7_readSum_0 0 rfl rfl)
theorem dX7_readSum_1 : decode cX7_readSum 1 = .ok (.invokevirtual 184, 3) := dk_182 0 184 (dk_at dksX7_readSum_0 1 rfl rfl)
theorem dX7_readSum_4 : decode cX7_readSum 4 = .ok (.aload_n 0, 1) := dk_42 (dk_at dksX7_readSum_0 4 rfl rfl)
theorem dX7_readSum_5 : decode cX7_readSum 5 = .ok (.bipush 43, 2) := dk_16 43 (dk_at dksX7_readSum_0 5 rfl rfl)
theorem dX7_readSum_7 : decode cX7_readSum 7 = .ok (.invokevirtual 175, 3) := dk_182 0 175 (dk_at dksX7_readSum_0 7 rfl rfl)
theorem dX7_readSum_10 : decode cX7_readSum 10 = .ok (.ifCond .ne 12, 3) := dk_154 0 12 (dk_at dksX7_readSum_0 10 rfl rfl)
theorem dX7_readSum_13 : decode cX7_readSum 13 = .ok (.aload_n 0, 1) := dk_42 (dk_at dksX7_readSum_0 13 rfl rfl)
theorem dX7_readSum_14 : decode cX7_readSum 14 = .ok (.bipush 45, 2) := dk_16 45 (dk_at dksX7_readSum_0 14 rfl rfl)
theorem dX7_readSum_16 : decode cX7_readSum 16 = .ok (.invokevirtual 175, 3) := dk_182 0 175 (dk_at dksX7_readSum_0 16 rfl rfl)
theorem dX7_readSum_19 : decode cX7_readSum 19 = .ok (.ifCond .eq 36, 3) := dk_153 0 36 (dk_at dksX7_readSum_0 19 rfl rfl)
theorem dX7_readSum_22 : decode cX7_readSum 22 = .ok (.aload_n 0, 1) := dk_42 (dk_at dksX7_readSum_0 22 rfl rfl)
theorem dX7_readSum_23 : decode cX7_readSum 23 = .ok (.getfield 92, 3) := dk_180 0 92 (dk_at dksX7_readSum_1 0 rfl rfl)
theorem dX7_readSum_26 : decode cX7_readSum 26 = .ok (.istore_n 1, 1) := dk_60 (dk_at dksX7_readSum_1 3 rfl rfl)
theorem dX7_readSum_27 : decode cX7_readSum 27 = .ok (.aload_n 0, 1) := dk_42 (dk_at dksX7_readSum_1 4 rfl rfl)
theorem dX7_readSum_28 : decode cX7_readSum 28 = .ok (.invokevirtual 131, 3) := dk_182 0 131 (dk_at dksX7_readSum_1 5 rfl rfl)
theorem dX7_readSum_31 : decode cX7_readSum 31 = .ok (.aload_n 0, 1) := dk_42 (dk_at dksX7_readSum_1 8 rfl rfl)
theorem dX7_readSum_32 : decode cX7_readSum 32 = .ok (.invokevirtual 184, 3) := dk_182 0 184 (dk_at dksX7_readSum_1 9 rfl rfl)
theorem dX7_readSum_35 : decode cX7_readSum 35 = .ok (.aload_n 0, 1) := dk_42 (dk_at dksX7_readSum_1 12 rfl rfl)
theorem dX7_readSum_36 : decode cX7_readSum 36 = .ok (.iload_n 1, 1) := dk_27 (dk_at dksX7_readSum_1 13 rfl rfl)
theorem dX7_readSum_37 : decode cX7_readSum 37 = .ok (.bipush 43, 2) := dk_16 43 (dk_at dksX7_readSum_1 14 rfl rfl)
theorem dX7_readSum_39 : decode cX7_readSum 39 = .ok (.if_icmp .ne 8, 3) := dk_160 0 8 (dk_at dksX7_readSum_1 16 rfl rfl)
theorem dX7_readSum_42 : decode cX7_readSum 42 = .ok (.bipush 10, 2) := dk_16 10 (dk_at dksX7_readSum_1 19 rfl rfl)
theorem dX7_readSum_44 : decode cX7_readSum 44 = .ok (.goto 5, 3) := dk_167 0 5 (dk_at dksX7_readSum_1 21 rfl rfl)
theorem dX7_readSum_47 : decode cX7_readSum 47 = .ok (.bipush 11, 2) := dk_16 11 (dk_at dksX7_readSum_2 0 rfl rfl)
theorem dX7_readSum_49 : decode cX7_readSum 49 = .ok (.invokevirtual 162, 3) := dk_182 0 162 (dk_at dksX7_readSum_2 2 rfl rfl)
theorem dX7_readSum_52 : decode cX7_readSum 52 = .ok (.goto (-48), 3) := dk_167 255 208 (dk_at dksX7_readSum_2 5 rfl rfl)
theorem dX7_readSum_55 : decode cX7_readSum 55 = .ok (.return_, 1) := dk_177 (dk_at dksX7_readSum_2 8 rfl rfl)
abbrev cX7_readTerm : ByteArray := prog_43_method_27_code
def yX7_readTerm : MethodName := ⟨RX7, "readTerm", "()V"⟩
def dkwX7_readTerm_1 : List UInt8 := [182, 0, 162, 167, 255, 233, 177]
abbrev dktX7_readTerm_1 : List UInt8 := dkwX7_readTerm_1 ++ []
def dkwX7_readTerm_0 : List UInt8 := [42, 182, 0, 187, 42, 16, 42, 182, 0, 175, 153, 0, 20, 42, 182, 0, 131, 42, 182, 0, 187, 42, 16, 12]
abbrev dktX7_readTerm_0 : List UInt8 := dkwX7_readTerm_0 ++ dktX7_readTerm_1
theorem dksX7_readTerm_0 : cX7_readTerm.data.toList.drop 0 = dktX7_readTerm_0 := by decide +kernel
theorem dksX7_readTerm_1 : cX7_readTerm.data.toList.drop 24 = dktX7_readTerm_1 := dk_seg dksX7_readTerm_0 24 rfl rfl
theorem dX7_readTerm_0 : decode cX7_readTerm 0 = .ok (.aload_n 0, 1) := dk_42 (dk_at dksX7_readTerm_0 0 rfl rfl)
theorem dX7_readTerm_1 : decode cX7_readTerm 1 = .ok (.invokevirtual 187, 3) := dk_182 0 187 (dk_at dksX7_readTerm_0 1 rfl rfl)
theorem dX7_readTerm_4 : decode cX7_readTerm 4 = .ok (.aload_n 0, 1) := dk_42 (dk_at dksX7_readTerm_0 4 rfl rfl)
theorem dX7_readTerm_5 : decode cX7_readTerm 5 = .ok (.bipush 42, 2) := dk_16 42 (dk_at dksX7_readTerm_0 5 rfl rfl)
theorem dX7_readTerm_7 : decode cX7_readTerm 7 = .ok (.invokevirtual 175, 3) := dk_182 0 175 (dk_at dksX7_readTerm_0 7 rfl rfl)
theorem dX7_readTerm_10 : decode cX7_readTerm 10 = .ok (.ifCond .eq 20, 3) := dk_153 0 20 (dk_at dksX7_readTerm_0 10 rfl rfl)
theorem dX7_readTerm_13 : decode cX7_readTerm 13 = .ok (.aload_n 0, 1) := dk_42 (dk_at dksX7_readTerm_0 13 rfl rfl)
theorem dX7_readTerm_14 : decode cX7_readTerm 14 = .ok (.invokevirtual 131, 3) := dk_182 0 131 (dk_at dksX7_readTerm_0 14 rfl rfl)
theorem dX7_readTerm_17 : decode cX7_readTerm 17 = .ok (.aload_n 0, 1) := dk_42 (dk_at dksX7_readTerm_0 17 rfl rfl)
theorem dX7_readTerm_18 : decode cX7_readTerm 18 = .ok (.invokevirtual 187, 3) := dk_182 0 187 (dk_at dksX7_readTerm_0 18 rfl rfl)
theorem dX7_readTerm_21 : decode cX7_readTerm 21 = .ok (.aload_n 0, 1) := dk_42 (dk_at dksX7_readTerm_0 21 rfl rfl)
theorem dX7_readTerm_22 : decode cX7_readTerm 22 = .ok (.bipush 12, 2) := dk_16 12 (dk_at dksX7_readTerm_0 22 rfl rfl)
theorem dX7_readTerm_24 : decode cX7_readTerm 24 = .ok (.invokevirtual 162, 3) := dk_182 0 162 (dk_at dksX7_readTerm_1 0 rfl rfl)
theorem dX7_readTerm_27 : decode cX7_readTerm 27 = .ok (.goto (-23), 3) := dk_167 255 233 (dk_at dksX7_readTerm_1 3 rfl rfl)
theorem dX7_readTerm_30 : decode cX7_readTerm 30 = .ok (.return_, 1) := dk_177 (dk_at dksX7_readTerm_1 6 rfl rfl)
abbrev cX7_readAtom : ByteArray := prog_43_method_29_code
def yX7_readAtom : MethodName := ⟨RX7, "readAtom", "()V"⟩
def dkwX7_readAtom_3 : List UInt8 := [182, 0, 209, 61, 42, 17, 3, 232, 28, 96, 182, 0, 162, 177]
abbrev dktX7_readAtom_3 : List UInt8 := dkwX7_readAtom_3 ++ []
def dkwX7_readAtom_2 : List UInt8 := [16, 41, 182, 0, 151, 42, 89, 180, 0, 154, 4, 100, 181, 0, 154, 167, 0, 21, 42, 3, 17, 3, 231]
abbrev dktX7_readAtom_2 : List UInt8 := dkwX7_readAtom_2 ++ dktX7_readAtom_3
def dkwX7_readAtom_1 : List UInt8 := [182, 0, 162, 167, 0, 57, 42, 16, 40, 182, 0, 175, 153, 0, 30, 42, 182, 0, 172, 42, 182, 0, 181, 42]
abbrev dktX7_readAtom_1 : List UInt8 := dkwX7_readAtom_1 ++ dktX7_readAtom_2
def dkwX7_readAtom_0 : List UInt8 := [42, 180, 0, 112, 153, 0, 4, 177, 42, 182, 0, 206, 60, 27, 2, 159, 0, 14, 42, 16, 100, 27, 96]
abbrev dktX7_readAtom_0 : List UInt8 := dkwX7_readAtom_0 ++ dktX7_readAtom_1
theorem dksX7_readAtom_0 : cX7_readAtom.data.toList.drop 0 = dktX7_readAtom_0 := by decide +kernel
theorem dksX7_readAtom_1 : cX7_readAtom.data.toList.drop 23 = dktX7_readAtom_1 := dk_seg dksX7_readAtom_0 23 rfl rfl
theorem dksX7_readAtom_2 : cX7_readAtom.data.toList.drop 47 = dktX7_readAtom_2 := dk_seg dksX7_readAtom_1 24 rfl rfl
theorem dksX7_readAtom_3 : cX7_readAtom.data.toList.drop 70 = dktX7_readAtom_3 := dk_seg dksX7_readAtom_2 23 rfl rfl
theorem dX7_readAtom_0 : decode cX7_readAtom 0 = .ok (.aload_n 0, 1) := dk_42 (dk_at dksX7_readAtom_0 0 rfl rfl)
theorem dX7_readAtom_1 : decode cX7_readAtom 1 = .ok (.getfield 112, 3) := dk_180 0 112 (dk_at dksX7_readAtom_0 1 rfl rfl)
theorem dX7_readAtom_4 : decode cX7_readAtom 4 = .ok (.ifCond .eq 4, 3) := dk_153 0 4 (dk_at dksX7_readAtom_0 4 rfl rfl)
theorem dX7_readAtom_7 : decode cX7_readAtom 7 = .ok (.return_, 1) := dk_177 (dk_at dksX7_readAtom_0 7 rfl rfl)
theorem dX7_readAtom_8 : decode cX7_readAtom 8 = .ok (.aload_n 0, 1) := dk_42 (dk_at dksX7_readAtom_0 8 rfl rfl)
theorem dX7_readAtom_9 : decode cX7_readAtom 9 = .ok (.invokevirtual 206, 3) := dk_182 0 206 (dk_at dksX7_readAtom_0 9 rfl rfl)
theorem dX7_readAtom_12 : decode cX7_readAtom 12 = .ok (.istore_n 1, 1) := dk_60 (dk_at dksX7_readAtom_0 12 rfl rfl)
theorem dX7_readAtom_13 : decode cX7_readAtom 13 = .ok (.iload_n 1, 1) := dk_27 (dk_at dksX7_readAtom_0 13 rfl rfl)
theorem dX7_readAtom_14 : decode cX7_readAtom 14 = .ok (.iconst (-1), 1) := dk_2 (dk_at dksX7_readAtom_0 14 rfl rfl)
theorem dX7_readAtom_15 : decode cX7_readAtom 15 = .ok (.if_icmp .eq 14, 3) := dk_159 0 14 (dk_at dksX7_readAtom_0 15 rfl rfl)
theorem dX7_readAtom_18 : decode cX7_readAtom 18 = .ok (.aload_n 0, 1) := dk_42 (dk_at dksX7_readAtom_0 18 rfl rfl)
theorem dX7_readAtom_19 : decode cX7_readAtom 19 = .ok (.bipush 100, 2) := dk_16 100 (dk_at dksX7_readAtom_0 19 rfl rfl)
theorem dX7_readAtom_21 : decode cX7_readAtom 21 = .ok (.iload_n 1, 1) := dk_27 (dk_at dksX7_readAtom_0 21 rfl rfl)
theorem dX7_readAtom_22 : decode cX7_readAtom 22 = .ok (.iadd, 1) := dk_96 (dk_at dksX7_readAtom_0 22 rfl rfl)
theorem dX7_readAtom_23 : decode cX7_readAtom 23 = .ok (.invokevirtual 162, 3) := dk_182 0 162 (dk_at dksX7_readAtom_1 0 rfl rfl)
theorem dX7_readAtom_26 : decode cX7_readAtom 26 = .ok (.goto 57, 3) := dk_167 0 57 (dk_at dksX7_readAtom_1 3 rfl rfl)
theorem dX7_readAtom_29 : decode cX7_readAtom 29 = .ok (.aload_n 0, 1) := dk_42 (dk_at dksX7_readAtom_1 6 rfl rfl)
theorem dX7_readAtom_30 : decode cX7_readAtom 30 = .ok (.bipush 40, 2) := dk_16 40 (dk_at dksX7_readAtom_1 7 rfl rfl)
theorem dX7_readAtom_32 : decode cX7_readAtom 32 = .ok (.invokevirtual 175, 3) := dk_182 0 175 (dk_at dksX7_readAtom_1 9 rfl rfl)
theorem dX7_readAtom_35 : decode cX7_readAtom 35 = .ok (.ifCond .eq 30, 3) := dk_153 0 30 (dk_at dksX7_readAtom_1 12 rfl rfl)
theorem dX7_readAtom_38 : decode cX7_readAtom 38 = .ok (.aload_n 0, 1) := dk_42 (dk_at dksX7_readAtom_1 15 rfl rfl)
theorem dX7_readAtom_39 : decode cX7_readAtom 39 = .ok (.invokevirtual 172, 3) := dk_182 0 172 (dk_at dksX7_readAtom_1 16 rfl rfl)
theorem dX7_readAtom_42 : decode cX7_readAtom 42 = .ok (.aload_n 0, 1) := dk_42 (dk_at dksX7_readAtom_1 19 rfl rfl)
theorem dX7_readAtom_43 : decode cX7_readAtom 43 = .ok (.invokevirtual 181, 3) := dk_182 0 181 (dk_at dksX7_readAtom_1 20 rfl rfl)
theorem dX7_readAtom_46 : decode cX7_readAtom 46 = .ok (.aload_n 0, 1) := dk_42 (dk_at dksX7_readAtom_1 23 rfl rfl)
theorem dX7_readAtom_47 : decode cX7_readAtom 47 = .ok (.bipush 41, 2) := dk_16 41 (dk_at dksX7_readAtom_2 0 rfl rfl)
theorem dX7_readAtom_49 : decode cX7_readAtom 49 = .ok (.invokevirtual 151, 3) := dk_182 0 151 (dk_at dksX7_readAtom_2 2 rfl rfl)
theorem dX7_readAtom_52 : decode cX7_readAtom 52 = .ok (.aload_n 0, 1) := dk_42 (dk_at dksX7_readAtom_2 5 rfl rfl)
theorem dX7_readAtom_53 : decode cX7_readAtom 53 = .ok (.dup, 1) := dk_89 (dk_at dksX7_readAtom_2 6 rfl rfl)
theorem dX7_readAtom_54 : decode cX7_readAtom 54 = .ok (.getfield 154, 3) := dk_180 0 154 (dk_at dksX7_readAtom_2 7 rfl rfl)
theorem dX7_readAtom_57 : decode cX7_readAtom 57 = .ok (.iconst 1, 1) := dk_4 (dk_at dksX7_readAtom_2 10 rfl rfl)
theorem dX7_readAtom_58 : decode cX7_readAtom 58 = .ok (.isub, 1) := dk_100 (dk_at dksX7_readAtom_2 11 rfl rfl)
theorem dX7_readAtom_59 : decode cX7_readAtom 59 = .ok (.putfield 154, 3) := dk_181 0 154 (dk_at dksX7_readAtom_2 12 rfl rfl)
theorem dX7_readAtom_62 : decode cX7_readAtom 62 = .ok (.goto 21, 3) := dk_167 0 21 (dk_at dksX7_readAtom_2 15 rfl rfl)
theorem dX7_readAtom_65 : decode cX7_readAtom 65 = .ok (.aload_n 0, 1) := dk_42 (dk_at dksX7_readAtom_2 18 rfl rfl)
theorem dX7_readAtom_66 : decode cX7_readAtom 66 = .ok (.iconst 0, 1) := dk_3 (dk_at dksX7_readAtom_2 19 rfl rfl)
theorem dX7_readAtom_67 : decode cX7_readAtom 67 = .ok (.sipush 999, 3) := dk_17 3 231 (dk_at dksX7_readAtom_2 20 rfl rfl)
theorem dX7_readAtom_70 : decode cX7_readAtom 70 = .ok (.invokevirtual 209, 3) := dk_182 0 209 (dk_at dksX7_readAtom_3 0 rfl rfl)
theorem dX7_readAtom_73 : decode cX7_readAtom 73 = .ok (.istore_n 2, 1) := dk_61 (dk_at dksX7_readAtom_3 3 rfl rfl)
theorem dX7_readAtom_74 : decode cX7_readAtom 74 = .ok (.aload_n 0, 1) := dk_42 (dk_at dksX7_readAtom_3 4 rfl rfl)
theorem dX7_readAtom_75 : decode cX7_readAtom 75 = .ok (.sipush 1000, 3) := dk_17 3 232 (dk_at dksX7_readAtom_3 5 rfl rfl)
theorem dX7_readAtom_78 : decode cX7_readAtom 78 = .ok (.iload_n 2, 1) := dk_28 (dk_at dksX7_readAtom_3 8 rfl rfl)
theorem dX7_readAtom_79 : decode cX7_readAtom 79 = .ok (.iadd, 1) := dk_96 (dk_at dksX7_readAtom_3 9 rfl rfl)
theorem dX7_readAtom_80 : decode cX7_readAtom 80 = .ok (.invokevirtual 162, 3) := dk_182 0 162 (dk_at dksX7_readAtom_3 10 rfl rfl)
theorem dX7_readAtom_83 : decode cX7_readAtom 83 = .ok (.return_, 1) := dk_177 (dk_at dksX7_readAtom_3 13 rfl rfl)
abbrev cX7_lawWord : ByteArray := prog_43_method_28_code
def yX7_lawWord : MethodName := ⟨RX7, "lawWord", "()I"⟩
def dkwX7_lawWord_4 : List UInt8 := [153, 0, 8, 16, 7, 167, 0, 4, 2, 172]
abbrev dktX7_lawWord_4 : List UInt8 := dkwX7_lawWord_4 ++ []
def dkwX7_lawWord_3 : List UInt8 := [159, 0, 5, 2, 172, 42, 18, 202, 182, 0, 142, 153, 0, 6, 16, 6, 172, 42, 18, 204, 182, 0, 142]
abbrev dktX7_lawWord_3 : List UInt8 := dkwX7_lawWord_3 ++ dktX7_lawWord_4
def dkwX7_lawWord_2 : List UInt8 := [182, 0, 142, 153, 0, 5, 7, 172, 42, 18, 200, 182, 0, 142, 153, 0, 5, 8, 172, 42, 180, 0, 148, 8]
abbrev dktX7_lawWord_2 : List UInt8 := dkwX7_lawWord_2 ++ dktX7_lawWord_3
def dkwX7_lawWord_1 : List UInt8 := [18, 194, 182, 0, 142, 153, 0, 5, 5, 172, 42, 18, 196, 182, 0, 142, 153, 0, 5, 6, 172, 42, 18, 198]
abbrev dktX7_lawWord_1 : List UInt8 := dkwX7_lawWord_1 ++ dktX7_lawWord_2
def dkwX7_lawWord_0 : List UInt8 := [42, 18, 190, 182, 0, 142, 153, 0, 5, 3, 172, 42, 18, 192, 182, 0, 142, 153, 0, 5, 4, 172, 42]
abbrev dktX7_lawWord_0 : List UInt8 := dkwX7_lawWord_0 ++ dktX7_lawWord_1
theorem dksX7_lawWord_0 : cX7_lawWord.data.toList.drop 0 = dktX7_lawWord_0 := by decide +kernel
theorem dksX7_lawWord_1 : cX7_lawWord.data.toList.drop 23 = dktX7_lawWord_1 := dk_seg dksX7_lawWord_0 23 rfl rfl
theorem dksX7_lawWord_2 : cX7_lawWord.data.toList.drop 47 = dktX7_lawWord_2 := dk_seg dksX7_lawWord_1 24 rfl rfl
theorem dksX7_lawWord_3 : cX7_lawWord.data.toList.drop 71 = dktX7_lawWord_3 := dk_seg dksX7_lawWord_2 24 rfl rfl
theorem dksX7_lawWord_4 : cX7_lawWord.data.toList.drop 94 = dktX7_lawWord_4 := dk_seg dksX7_lawWord_3 23 rfl rfl
theorem dX7_lawWord_0 : decode cX7_lawWord 0 = .ok (.aload_n 0, 1) := dk_42 (dk_at dksX7_lawWord_0 0 rfl rfl)
theorem dX7_lawWord_1 : decode cX7_lawWord 1 = .ok (.ldc 190, 2) := dk_18 190 (dk_at dksX7_lawWord_0 1 rfl rfl)
theorem dX7_lawWord_3 : decode cX7_lawWord 3 = .ok (.invokevirtual 142, 3) := dk_182 0 142 (dk_at dksX7_lawWord_0 3 rfl rfl)
theorem dX7_lawWord_6 : decode cX7_lawWord 6 = .ok (.ifCond .eq 5, 3) := dk_153 0 5 (dk_at dksX7_lawWord_0 6 rfl rfl)
theorem dX7_lawWord_9 : decode cX7_lawWord 9 = .ok (.iconst 0, 1) := dk_3 (dk_at dksX7_lawWord_0 9 rfl rfl)
theorem dX7_lawWord_10 : decode cX7_lawWord 10 = .ok (.ireturn, 1) := dk_172 (dk_at dksX7_lawWord_0 10 rfl rfl)
theorem dX7_lawWord_11 : decode cX7_lawWord 11 = .ok (.aload_n 0, 1) := dk_42 (dk_at dksX7_lawWord_0 11 rfl rfl)
theorem dX7_lawWord_12 : decode cX7_lawWord 12 = .ok (.ldc 192, 2) := dk_18 192 (dk_at dksX7_lawWord_0 12 rfl rfl)
theorem dX7_lawWord_14 : decode cX7_lawWord 14 = .ok (.invokevirtual 142, 3) := dk_182 0 142 (dk_at dksX7_lawWord_0 14 rfl rfl)
theorem dX7_lawWord_17 : decode cX7_lawWord 17 = .ok (.ifCond .eq 5, 3) := dk_153 0 5 (dk_at dksX7_lawWord_0 17 rfl rfl)
theorem dX7_lawWord_20 : decode cX7_lawWord 20 = .ok (.iconst 1, 1) := dk_4 (dk_at dksX7_lawWord_0 20 rfl rfl)
theorem dX7_lawWord_21 : decode cX7_lawWord 21 = .ok (.ireturn, 1) := dk_172 (dk_at dksX7_lawWord_0 21 rfl rfl)
theorem dX7_lawWord_22 : decode cX7_lawWord 22 = .ok (.aload_n 0, 1) := dk_42 (dk_at dksX7_lawWord_0 22 rfl rfl)
theorem dX7_lawWord_23 : decode cX7_lawWord 23 = .ok (.ldc 194, 2) := dk_18 194 (dk_at dksX7_lawWord_1 0 rfl rfl)
theorem dX7_lawWord_25 : decode cX7_lawWord 25 = .ok (.invokevirtual 142, 3) := dk_182 0 142 (dk_at dksX7_lawWord_1 2 rfl rfl)
theorem dX7_lawWord_28 : decode cX7_lawWord 28 = .ok (.ifCond .eq 5, 3) := dk_153 0 5 (dk_at dksX7_lawWord_1 5 rfl rfl)
theorem dX7_lawWord_31 : decode cX7_lawWord 31 = .ok (.iconst 2, 1) := dk_5 (dk_at dksX7_lawWord_1 8 rfl rfl)
theorem dX7_lawWord_32 : decode cX7_lawWord 32 = .ok (.ireturn, 1) := dk_172 (dk_at dksX7_lawWord_1 9 rfl rfl)
theorem dX7_lawWord_33 : decode cX7_lawWord 33 = .ok (.aload_n 0, 1) := dk_42 (dk_at dksX7_lawWord_1 10 rfl rfl)
theorem dX7_lawWord_34 : decode cX7_lawWord 34 = .ok (.ldc 196, 2) := dk_18 196 (dk_at dksX7_lawWord_1 11 rfl rfl)
theorem dX7_lawWord_36 : decode cX7_lawWord 36 = .ok (.invokevirtual 142, 3) := dk_182 0 142 (dk_at dksX7_lawWord_1 13 rfl rfl)
theorem dX7_lawWord_39 : decode cX7_lawWord 39 = .ok (.ifCond .eq 5, 3) := dk_153 0 5 (dk_at dksX7_lawWord_1 16 rfl rfl)
theorem dX7_lawWord_42 : decode cX7_lawWord 42 = .ok (.iconst 3, 1) := dk_6 (dk_at dksX7_lawWord_1 19 rfl rfl)
theorem dX7_lawWord_43 : decode cX7_lawWord 43 = .ok (.ireturn, 1) := dk_172 (dk_at dksX7_lawWord_1 20 rfl rfl)
theorem dX7_lawWord_44 : decode cX7_lawWord 44 = .ok (.aload_n 0, 1) := dk_42 (dk_at dksX7_lawWord_1 21 rfl rfl)
theorem dX7_lawWord_45 : decode cX7_lawWord 45 = .ok (.ldc 198, 2) := dk_18 198 (dk_at dksX7_lawWord_1 22 rfl rfl)
theorem dX7_lawWord_47 : decode cX7_lawWord 47 = .ok (.invokevirtual 142, 3) := dk_182 0 142 (dk_at dksX7_lawWord_2 0 rfl rfl)
theorem dX7_lawWord_50 : decode cX7_lawWord 50 = .ok (.ifCond .eq 5, 3) := dk_153 0 5 (dk_at dksX7_lawWord_2 3 rfl rfl)
theorem dX7_lawWord_53 : decode cX7_lawWord 53 = .ok (.iconst 4, 1) := dk_7 (dk_at dksX7_lawWord_2 6 rfl rfl)
theorem dX7_lawWord_54 : decode cX7_lawWord 54 = .ok (.ireturn, 1) := dk_172 (dk_at dksX7_lawWord_2 7 rfl rfl)
theorem dX7_lawWord_55 : decode cX7_lawWord 55 = .ok (.aload_n 0, 1) := dk_42 (dk_at dksX7_lawWord_2 8 rfl rfl)
theorem dX7_lawWord_56 : decode cX7_lawWord 56 = .ok (.ldc 200, 2) := dk_18 200 (dk_at dksX7_lawWord_2 9 rfl rfl)
theorem dX7_lawWord_58 : decode cX7_lawWord 58 = .ok (.invokevirtual 142, 3) := dk_182 0 142 (dk_at dksX7_lawWord_2 11 rfl rfl)
theorem dX7_lawWord_61 : decode cX7_lawWord 61 = .ok (.ifCond .eq 5, 3) := dk_153 0 5 (dk_at dksX7_lawWord_2 14 rfl rfl)
theorem dX7_lawWord_64 : decode cX7_lawWord 64 = .ok (.iconst 5, 1) := dk_8 (dk_at dksX7_lawWord_2 17 rfl rfl)
theorem dX7_lawWord_65 : decode cX7_lawWord 65 = .ok (.ireturn, 1) := dk_172 (dk_at dksX7_lawWord_2 18 rfl rfl)
theorem dX7_lawWord_66 : decode cX7_lawWord 66 = .ok (.aload_n 0, 1) := dk_42 (dk_at dksX7_lawWord_2 19 rfl rfl)
theorem dX7_lawWord_67 : decode cX7_lawWord 67 = .ok (.getfield 148, 3) := dk_180 0 148 (dk_at dksX7_lawWord_2 20 rfl rfl)
theorem dX7_lawWord_70 : decode cX7_lawWord 70 = .ok (.iconst 5, 1) := dk_8 (dk_at dksX7_lawWord_2 23 rfl rfl)
theorem dX7_lawWord_71 : decode cX7_lawWord 71 = .ok (.if_icmp .eq 5, 3) := dk_159 0 5 (dk_at dksX7_lawWord_3 0 rfl rfl)
theorem dX7_lawWord_74 : decode cX7_lawWord 74 = .ok (.iconst (-1), 1) := dk_2 (dk_at dksX7_lawWord_3 3 rfl rfl)
theorem dX7_lawWord_75 : decode cX7_lawWord 75 = .ok (.ireturn, 1) := dk_172 (dk_at dksX7_lawWord_3 4 rfl rfl)
theorem dX7_lawWord_76 : decode cX7_lawWord 76 = .ok (.aload_n 0, 1) := dk_42 (dk_at dksX7_lawWord_3 5 rfl rfl)
theorem dX7_lawWord_77 : decode cX7_lawWord 77 = .ok (.ldc 202, 2) := dk_18 202 (dk_at dksX7_lawWord_3 6 rfl rfl)
theorem dX7_lawWord_79 : decode cX7_lawWord 79 = .ok (.invokevirtual 142, 3) := dk_182 0 142 (dk_at dksX7_lawWord_3 8 rfl rfl)
theorem dX7_lawWord_82 : decode cX7_lawWord 82 = .ok (.ifCond .eq 6, 3) := dk_153 0 6 (dk_at dksX7_lawWord_3 11 rfl rfl)
theorem dX7_lawWord_85 : decode cX7_lawWord 85 = .ok (.bipush 6, 2) := dk_16 6 (dk_at dksX7_lawWord_3 14 rfl rfl)
theorem dX7_lawWord_87 : decode cX7_lawWord 87 = .ok (.ireturn, 1) := dk_172 (dk_at dksX7_lawWord_3 16 rfl rfl)
theorem dX7_lawWord_88 : decode cX7_lawWord 88 = .ok (.aload_n 0, 1) := dk_42 (dk_at dksX7_lawWord_3 17 rfl rfl)
theorem dX7_lawWord_89 : decode cX7_lawWord 89 = .ok (.ldc 204, 2) := dk_18 204 (dk_at dksX7_lawWord_3 18 rfl rfl)
theorem dX7_lawWord_91 : decode cX7_lawWord 91 = .ok (.invokevirtual 142, 3) := dk_182 0 142 (dk_at dksX7_lawWord_3 20 rfl rfl)
theorem dX7_lawWord_94 : decode cX7_lawWord 94 = .ok (.ifCond .eq 8, 3) := dk_153 0 8 (dk_at dksX7_lawWord_4 0 rfl rfl)
theorem dX7_lawWord_97 : decode cX7_lawWord 97 = .ok (.bipush 7, 2) := dk_16 7 (dk_at dksX7_lawWord_4 3 rfl rfl)
theorem dX7_lawWord_99 : decode cX7_lawWord 99 = .ok (.goto 4, 3) := dk_167 0 4 (dk_at dksX7_lawWord_4 5 rfl rfl)
theorem dX7_lawWord_102 : decode cX7_lawWord 102 = .ok (.iconst (-1), 1) := dk_2 (dk_at dksX7_lawWord_4 8 rfl rfl)
theorem dX7_lawWord_103 : decode cX7_lawWord 103 = .ok (.ireturn, 1) := dk_172 (dk_at dksX7_lawWord_4 9 rfl rfl)
abbrev cX7_laysStep : ByteArray := prog_43_method_20_code
def yX7_laysStep : MethodName := ⟨RX7, "laysStep", "(I)V"⟩
def dkwX7_laysStep_1 : List UInt8 := [46, 96, 27, 79, 42, 180, 0, 13, 42, 180, 0, 148, 92, 46, 4, 96, 79, 177]
abbrev dktX7_laysStep_1 : List UInt8 := dkwX7_laysStep_1 ++ []
def dkwX7_laysStep_0 : List UInt8 := [42, 180, 0, 112, 153, 0, 4, 177, 42, 180, 0, 13, 42, 180, 0, 145, 42, 180, 0, 13, 42, 180, 0, 148]
abbrev dktX7_laysStep_0 : List UInt8 := dkwX7_laysStep_0 ++ dktX7_laysStep_1
theorem dksX7_laysStep_0 : cX7_laysStep.data.toList.drop 0 = dktX7_laysStep_0 := by decide +kernel
theorem dksX7_laysStep_1 : cX7_laysStep.data.toList.drop 24 = dktX7_laysStep_1 := dk_seg dksX7_laysStep_0 24 rfl rfl
theorem dX7_laysStep_0 : decode cX7_laysStep 0 = .ok (.aload_n 0, 1) := dk_42 (dk_at dksX7_laysStep_0 0 rfl rfl)
theorem dX7_laysStep_1 : decode cX7_laysStep 1 = .ok (.getfield 112, 3) := dk_180 0 112 (dk_at dksX7_laysStep_0 1 rfl rfl)
theorem dX7_laysStep_4 : decode cX7_laysStep 4 = .ok (.ifCond .eq 4, 3) := dk_153 0 4 (dk_at dksX7_laysStep_0 4 rfl rfl)
theorem dX7_laysStep_7 : decode cX7_laysStep 7 = .ok (.return_, 1) := dk_177 (dk_at dksX7_laysStep_0 7 rfl rfl)
theorem dX7_laysStep_8 : decode cX7_laysStep 8 = .ok (.aload_n 0, 1) := dk_42 (dk_at dksX7_laysStep_0 8 rfl rfl)
theorem dX7_laysStep_9 : decode cX7_laysStep 9 = .ok (.getfield 13, 3) := dk_180 0 13 (dk_at dksX7_laysStep_0 9 rfl rfl)
theorem dX7_laysStep_12 : decode cX7_laysStep 12 = .ok (.aload_n 0, 1) := dk_42 (dk_at dksX7_laysStep_0 12 rfl rfl)
theorem dX7_laysStep_13 : decode cX7_laysStep 13 = .ok (.getfield 145, 3) := dk_180 0 145 (dk_at dksX7_laysStep_0 13 rfl rfl)
theorem dX7_laysStep_16 : decode cX7_laysStep 16 = .ok (.aload_n 0, 1) := dk_42 (dk_at dksX7_laysStep_0 16 rfl rfl)
theorem dX7_laysStep_17 : decode cX7_laysStep 17 = .ok (.getfield 13, 3) := dk_180 0 13 (dk_at dksX7_laysStep_0 17 rfl rfl)
theorem dX7_laysStep_20 : decode cX7_laysStep 20 = .ok (.aload_n 0, 1) := dk_42 (dk_at dksX7_laysStep_0 20 rfl rfl)
theorem dX7_laysStep_21 : decode cX7_laysStep 21 = .ok (.getfield 148, 3) := dk_180 0 148 (dk_at dksX7_laysStep_0 21 rfl rfl)
theorem dX7_laysStep_24 : decode cX7_laysStep 24 = .ok (.iaload, 1) := dk_46 (dk_at dksX7_laysStep_1 0 rfl rfl)
theorem dX7_laysStep_25 : decode cX7_laysStep 25 = .ok (.iadd, 1) := dk_96 (dk_at dksX7_laysStep_1 1 rfl rfl)
theorem dX7_laysStep_26 : decode cX7_laysStep 26 = .ok (.iload_n 1, 1) := dk_27 (dk_at dksX7_laysStep_1 2 rfl rfl)
theorem dX7_laysStep_27 : decode cX7_laysStep 27 = .ok (.iastore, 1) := dk_79 (dk_at dksX7_laysStep_1 3 rfl rfl)
theorem dX7_laysStep_28 : decode cX7_laysStep 28 = .ok (.aload_n 0, 1) := dk_42 (dk_at dksX7_laysStep_1 4 rfl rfl)
theorem dX7_laysStep_29 : decode cX7_laysStep 29 = .ok (.getfield 13, 3) := dk_180 0 13 (dk_at dksX7_laysStep_1 5 rfl rfl)
theorem dX7_laysStep_32 : decode cX7_laysStep 32 = .ok (.aload_n 0, 1) := dk_42 (dk_at dksX7_laysStep_1 8 rfl rfl)
theorem dX7_laysStep_33 : decode cX7_laysStep 33 = .ok (.getfield 148, 3) := dk_180 0 148 (dk_at dksX7_laysStep_1 9 rfl rfl)
theorem dX7_laysStep_36 : decode cX7_laysStep 36 = .ok (.dup2, 1) := dk_92 (dk_at dksX7_laysStep_1 12 rfl rfl)
theorem dX7_laysStep_37 : decode cX7_laysStep 37 = .ok (.iaload, 1) := dk_46 (dk_at dksX7_laysStep_1 13 rfl rfl)
theorem dX7_laysStep_38 : decode cX7_laysStep 38 = .ok (.iconst 1, 1) := dk_4 (dk_at dksX7_laysStep_1 14 rfl rfl)
theorem dX7_laysStep_39 : decode cX7_laysStep 39 = .ok (.iadd, 1) := dk_96 (dk_at dksX7_laysStep_1 15 rfl rfl)
theorem dX7_laysStep_40 : decode cX7_laysStep 40 = .ok (.iastore, 1) := dk_79 (dk_at dksX7_laysStep_1 16 rfl rfl)
theorem dX7_laysStep_41 : decode cX7_laysStep 41 = .ok (.return_, 1) := dk_177 (dk_at dksX7_laysStep_1 17 rfl rfl)
abbrev cX7_isSign : ByteArray := prog_43_method_16_code
def yX7_isSign : MethodName := ⟨RX7, "isSign", "(I)Z"⟩
def dkwX7_isSign_0 : List UInt8 := [42, 180, 0, 112, 154, 0, 15, 42, 180, 0, 92, 27, 160, 0, 7, 4, 167, 0, 4, 3, 172]
abbrev dktX7_isSign_0 : List UInt8 := dkwX7_isSign_0 ++ []
theorem dksX7_isSign_0 : cX7_isSign.data.toList.drop 0 = dktX7_isSign_0 := by decide +kernel
theorem dX7_isSign_0 : decode cX7_isSign 0 = .ok (.aload_n 0, 1) := dk_42 (dk_at dksX7_isSign_0 0 rfl rfl)
theorem dX7_isSign_1 : decode cX7_isSign 1 = .ok (.getfield 112, 3) := dk_180 0 112 (dk_at dksX7_isSign_0 1 rfl rfl)
theorem dX7_isSign_4 : decode cX7_isSign 4 = .ok (.ifCond .ne 15, 3) := dk_154 0 15 (dk_at dksX7_isSign_0 4 rfl rfl)
theorem dX7_isSign_7 : decode cX7_isSign 7 = .ok (.aload_n 0, 1) := dk_42 (dk_at dksX7_isSign_0 7 rfl rfl)
theorem dX7_isSign_8 : decode cX7_isSign 8 = .ok (.getfield 92, 3) := dk_180 0 92 (dk_at dksX7_isSign_0 8 rfl rfl)
theorem dX7_isSign_11 : decode cX7_isSign 11 = .ok (.iload_n 1, 1) := dk_27 (dk_at dksX7_isSign_0 11 rfl rfl)
theorem dX7_isSign_12 : decode cX7_isSign 12 = .ok (.if_icmp .ne 7, 3) := dk_160 0 7 (dk_at dksX7_isSign_0 12 rfl rfl)
theorem dX7_isSign_15 : decode cX7_isSign 15 = .ok (.iconst 1, 1) := dk_4 (dk_at dksX7_isSign_0 15 rfl rfl)
theorem dX7_isSign_16 : decode cX7_isSign 16 = .ok (.goto 4, 3) := dk_167 0 4 (dk_at dksX7_isSign_0 16 rfl rfl)
theorem dX7_isSign_19 : decode cX7_isSign 19 = .ok (.iconst 0, 1) := dk_3 (dk_at dksX7_isSign_0 19 rfl rfl)
theorem dX7_isSign_20 : decode cX7_isSign 20 = .ok (.ireturn, 1) := dk_172 (dk_at dksX7_isSign_0 20 rfl rfl)
abbrev cX7_goesIn : ByteArray := prog_43_method_22_code
def yX7_goesIn : MethodName := ⟨RX7, "goesIn", "()V"⟩
def dkwX7_goesIn_1 : List UInt8 := [42, 180, 0, 112, 154, 0, 7, 42, 182, 0, 131, 177]
abbrev dktX7_goesIn_1 : List UInt8 := dkwX7_goesIn_1 ++ []
def dkwX7_goesIn_0 : List UInt8 := [42, 180, 0, 154, 16, 6, 160, 0, 8, 42, 7, 182, 0, 134, 42, 89, 180, 0, 154, 4, 96, 181, 0, 154]
abbrev dktX7_goesIn_0 : List UInt8 := dkwX7_goesIn_0 ++ dktX7_goesIn_1
theorem dksX7_goesIn_0 : cX7_goesIn.data.toList.drop 0 = dktX7_goesIn_0 := by decide +kernel
theorem dksX7_goesIn_1 : cX7_goesIn.data.toList.drop 24 = dktX7_goesIn_1 := dk_seg dksX7_goesIn_0 24 rfl rfl
theorem dX7_goesIn_0 : decode cX7_goesIn 0 = .ok (.aload_n 0, 1) := dk_42 (dk_at dksX7_goesIn_0 0 rfl rfl)
theorem dX7_goesIn_1 : decode cX7_goesIn 1 = .ok (.getfield 154, 3) := dk_180 0 154 (dk_at dksX7_goesIn_0 1 rfl rfl)
theorem dX7_goesIn_4 : decode cX7_goesIn 4 = .ok (.bipush 6, 2) := dk_16 6 (dk_at dksX7_goesIn_0 4 rfl rfl)
theorem dX7_goesIn_6 : decode cX7_goesIn 6 = .ok (.if_icmp .ne 8, 3) := dk_160 0 8 (dk_at dksX7_goesIn_0 6 rfl rfl)
theorem dX7_goesIn_9 : decode cX7_goesIn 9 = .ok (.aload_n 0, 1) := dk_42 (dk_at dksX7_goesIn_0 9 rfl rfl)
theorem dX7_goesIn_10 : decode cX7_goesIn 10 = .ok (.iconst 4, 1) := dk_7 (dk_at dksX7_goesIn_0 10 rfl rfl)
theorem dX7_goesIn_11 : decode cX7_goesIn 11 = .ok (.invokevirtual 134, 3) := dk_182 0 134 (dk_at dksX7_goesIn_0 11 rfl rfl)
theorem dX7_goesIn_14 : decode cX7_goesIn 14 = .ok (.aload_n 0, 1) := dk_42 (dk_at dksX7_goesIn_0 14 rfl rfl)
theorem dX7_goesIn_15 : decode cX7_goesIn 15 = .ok (.dup, 1) := dk_89 (dk_at dksX7_goesIn_0 15 rfl rfl)
theorem dX7_goesIn_16 : decode cX7_goesIn 16 = .ok (.getfield 154, 3) := dk_180 0 154 (dk_at dksX7_goesIn_0 16 rfl rfl)
theorem dX7_goesIn_19 : decode cX7_goesIn 19 = .ok (.iconst 1, 1) := dk_4 (dk_at dksX7_goesIn_0 19 rfl rfl)
theorem dX7_goesIn_20 : decode cX7_goesIn 20 = .ok (.iadd, 1) := dk_96 (dk_at dksX7_goesIn_0 20 rfl rfl)
theorem dX7_goesIn_21 : decode cX7_goesIn 21 = .ok (.putfield 154, 3) := dk_181 0 154 (dk_at dksX7_goesIn_0 21 rfl rfl)
theorem dX7_goesIn_24 : decode cX7_goesIn 24 = .ok (.aload_n 0, 1) := dk_42 (dk_at dksX7_goesIn_1 0 rfl rfl)
theorem dX7_goesIn_25 : decode cX7_goesIn 25 = .ok (.getfield 112, 3) := dk_180 0 112 (dk_at dksX7_goesIn_1 1 rfl rfl)
theorem dX7_goesIn_28 : decode cX7_goesIn 28 = .ok (.ifCond .ne 7, 3) := dk_154 0 7 (dk_at dksX7_goesIn_1 4 rfl rfl)
theorem dX7_goesIn_31 : decode cX7_goesIn 31 = .ok (.aload_n 0, 1) := dk_42 (dk_at dksX7_goesIn_1 7 rfl rfl)
theorem dX7_goesIn_32 : decode cX7_goesIn 32 = .ok (.invokevirtual 131, 3) := dk_182 0 131 (dk_at dksX7_goesIn_1 8 rfl rfl)
theorem dX7_goesIn_35 : decode cX7_goesIn 35 = .ok (.return_, 1) := dk_177 (dk_at dksX7_goesIn_1 11 rfl rfl)
abbrev cX7_readTruth : ByteArray := prog_43_method_23_code
def yX7_readTruth : MethodName := ⟨RX7, "readTruth", "()V"⟩
def dkwX7_readTruth_1 : List UInt8 := [167, 255, 237, 177]
abbrev dktX7_readTruth_1 : List UInt8 := dkwX7_readTruth_1 ++ []
def dkwX7_readTruth_0 : List UInt8 := [42, 182, 0, 157, 42, 18, 160, 182, 0, 142, 153, 0, 16, 42, 182, 0, 157, 42, 16, 17, 182, 0, 162]
abbrev dktX7_readTruth_0 : List UInt8 := dkwX7_readTruth_0 ++ dktX7_readTruth_1
theorem dksX7_readTruth_0 : cX7_readTruth.data.toList.drop 0 = dktX7_readTruth_0 := by decide +kernel
theorem dksX7_readTruth_1 : cX7_readTruth.data.toList.drop 23 = dktX7_readTruth_1 := dk_seg dksX7_readTruth_0 23 rfl rfl
theorem dX7_readTruth_0 : decode cX7_readTruth 0 = .ok (.aload_n 0, 1) := dk_42 (dk_at dksX7_readTruth_0 0 rfl rfl)
theorem dX7_readTruth_1 : decode cX7_readTruth 1 = .ok (.invokevirtual 157, 3) := dk_182 0 157 (dk_at dksX7_readTruth_0 1 rfl rfl)
theorem dX7_readTruth_4 : decode cX7_readTruth 4 = .ok (.aload_n 0, 1) := dk_42 (dk_at dksX7_readTruth_0 4 rfl rfl)
theorem dX7_readTruth_5 : decode cX7_readTruth 5 = .ok (.ldc 160, 2) := dk_18 160 (dk_at dksX7_readTruth_0 5 rfl rfl)
theorem dX7_readTruth_7 : decode cX7_readTruth 7 = .ok (.invokevirtual 142, 3) := dk_182 0 142 (dk_at dksX7_readTruth_0 7 rfl rfl)
theorem dX7_readTruth_10 : decode cX7_readTruth 10 = .ok (.ifCond .eq 16, 3) := dk_153 0 16 (dk_at dksX7_readTruth_0 10 rfl rfl)
theorem dX7_readTruth_13 : decode cX7_readTruth 13 = .ok (.aload_n 0, 1) := dk_42 (dk_at dksX7_readTruth_0 13 rfl rfl)
theorem dX7_readTruth_14 : decode cX7_readTruth 14 = .ok (.invokevirtual 157, 3) := dk_182 0 157 (dk_at dksX7_readTruth_0 14 rfl rfl)
theorem dX7_readTruth_17 : decode cX7_readTruth 17 = .ok (.aload_n 0, 1) := dk_42 (dk_at dksX7_readTruth_0 17 rfl rfl)
theorem dX7_readTruth_18 : decode cX7_readTruth 18 = .ok (.bipush 17, 2) := dk_16 17 (dk_at dksX7_readTruth_0 18 rfl rfl)
theorem dX7_readTruth_20 : decode cX7_readTruth 20 = .ok (.invokevirtual 162, 3) := dk_182 0 162 (dk_at dksX7_readTruth_0 20 rfl rfl)
theorem dX7_readTruth_23 : decode cX7_readTruth 23 = .ok (.goto (-19), 3) := dk_167 255 237 (dk_at dksX7_readTruth_1 0 rfl rfl)
theorem dX7_readTruth_26 : decode cX7_readTruth 26 = .ok (.return_, 1) := dk_177 (dk_at dksX7_readTruth_1 3 rfl rfl)
abbrev cX7_readBoth : ByteArray := prog_43_method_24_code
def yX7_readBoth : MethodName := ⟨RX7, "readBoth", "()V"⟩
def dkwX7_readBoth_1 : List UInt8 := [167, 255, 237, 177]
abbrev dktX7_readBoth_1 : List UInt8 := dkwX7_readBoth_1 ++ []
def dkwX7_readBoth_0 : List UInt8 := [42, 182, 0, 165, 42, 18, 168, 182, 0, 142, 153, 0, 16, 42, 182, 0, 165, 42, 16, 16, 182, 0, 162]
abbrev dktX7_readBoth_0 : List UInt8 := dkwX7_readBoth_0 ++ dktX7_readBoth_1
theorem dksX7_readBoth_0 : cX7_readBoth.data.toList.drop 0 = dktX7_readBoth_0 := by decide +kernel
theorem dksX7_readBoth_1 : cX7_readBoth.data.toList.drop 23 = dktX7_readBoth_1 := dk_seg dksX7_readBoth_0 23 rfl rfl
theorem dX7_readBoth_0 : decode cX7_readBoth 0 = .ok (.aload_n 0, 1) := dk_42 (dk_at dksX7_readBoth_0 0 rfl rfl)
theorem dX7_readBoth_1 : decode cX7_readBoth 1 = .ok (.invokevirtual 165, 3) := dk_182 0 165 (dk_at dksX7_readBoth_0 1 rfl rfl)
theorem dX7_readBoth_4 : decode cX7_readBoth 4 = .ok (.aload_n 0, 1) := dk_42 (dk_at dksX7_readBoth_0 4 rfl rfl)
theorem dX7_readBoth_5 : decode cX7_readBoth 5 = .ok (.ldc 168, 2) := dk_18 168 (dk_at dksX7_readBoth_0 5 rfl rfl)
theorem dX7_readBoth_7 : decode cX7_readBoth 7 = .ok (.invokevirtual 142, 3) := dk_182 0 142 (dk_at dksX7_readBoth_0 7 rfl rfl)
theorem dX7_readBoth_10 : decode cX7_readBoth 10 = .ok (.ifCond .eq 16, 3) := dk_153 0 16 (dk_at dksX7_readBoth_0 10 rfl rfl)
theorem dX7_readBoth_13 : decode cX7_readBoth 13 = .ok (.aload_n 0, 1) := dk_42 (dk_at dksX7_readBoth_0 13 rfl rfl)
theorem dX7_readBoth_14 : decode cX7_readBoth 14 = .ok (.invokevirtual 165, 3) := dk_182 0 165 (dk_at dksX7_readBoth_0 14 rfl rfl)
theorem dX7_readBoth_17 : decode cX7_readBoth 17 = .ok (.aload_n 0, 1) := dk_42 (dk_at dksX7_readBoth_0 17 rfl rfl)
theorem dX7_readBoth_18 : decode cX7_readBoth 18 = .ok (.bipush 16, 2) := dk_16 16 (dk_at dksX7_readBoth_0 18 rfl rfl)
theorem dX7_readBoth_20 : decode cX7_readBoth 20 = .ok (.invokevirtual 162, 3) := dk_182 0 162 (dk_at dksX7_readBoth_0 20 rfl rfl)
theorem dX7_readBoth_23 : decode cX7_readBoth 23 = .ok (.goto (-19), 3) := dk_167 255 237 (dk_at dksX7_readBoth_1 0 rfl rfl)
theorem dX7_readBoth_26 : decode cX7_readBoth 26 = .ok (.return_, 1) := dk_177 (dk_at dksX7_readBoth_1 3 rfl rfl)
abbrev cX7_readUnit : ByteArray := prog_43_method_25_code
def yX7_readUnit : MethodName := ⟨RX7, "readUnit", "()V"⟩
def dkwX7_readUnit_6 : List UInt8 := [16, 60, 160, 0, 8, 16, 14, 167, 0, 5, 16, 15, 182, 0, 162, 177]
abbrev dktX7_readUnit_6 : List UInt8 := dkwX7_readUnit_6 ++ []
def dkwX7_readUnit_5 : List UInt8 := [154, 0, 7, 42, 182, 0, 131, 42, 182, 0, 181, 42, 27, 16, 61, 160, 0, 8, 16, 13, 167, 0, 16, 27]
abbrev dktX7_readUnit_5 : List UInt8 := dkwX7_readUnit_5 ++ dktX7_readUnit_6
def dkwX7_readUnit_4 : List UInt8 := [159, 0, 20, 27, 16, 60, 159, 0, 14, 27, 16, 62, 159, 0, 8, 42, 5, 182, 0, 134, 42, 180, 0, 112]
abbrev dktX7_readUnit_4 : List UInt8 := dkwX7_readUnit_4 ++ dktX7_readUnit_5
def dkwX7_readUnit_3 : List UInt8 := [180, 0, 154, 4, 100, 181, 0, 154, 167, 0, 78, 42, 182, 0, 181, 42, 180, 0, 92, 60, 27, 16, 61]
abbrev dktX7_readUnit_3 : List UInt8 := dkwX7_readUnit_3 ++ dktX7_readUnit_4
def dkwX7_readUnit_2 : List UInt8 := [16, 91, 182, 0, 175, 153, 0, 30, 42, 182, 0, 172, 42, 182, 0, 178, 42, 16, 93, 182, 0, 151, 42, 89]
abbrev dktX7_readUnit_2 : List UInt8 := dkwX7_readUnit_2 ++ dktX7_readUnit_3
def dkwX7_readUnit_1 : List UInt8 := [182, 0, 165, 42, 16, 18, 182, 0, 162, 42, 89, 180, 0, 154, 4, 100, 181, 0, 154, 167, 0, 114, 42]
abbrev dktX7_readUnit_1 : List UInt8 := dkwX7_readUnit_1 ++ dktX7_readUnit_2
def dkwX7_readUnit_0 : List UInt8 := [42, 180, 0, 112, 153, 0, 4, 177, 42, 18, 170, 182, 0, 127, 153, 0, 30, 42, 182, 0, 172, 42]
abbrev dktX7_readUnit_0 : List UInt8 := dkwX7_readUnit_0 ++ dktX7_readUnit_1
theorem dksX7_readUnit_0 : cX7_readUnit.data.toList.drop 0 = dktX7_readUnit_0 := by decide +kernel
theorem dksX7_readUnit_1 : cX7_readUnit.data.toList.drop 22 = dktX7_readUnit_1 := dk_seg dksX7_readUnit_0 22 rfl rfl
theorem dksX7_readUnit_2 : cX7_readUnit.data.toList.drop 45 = dktX7_readUnit_2 := dk_seg dksX7_readUnit_1 23 rfl rfl
theorem dksX7_readUnit_3 : cX7_readUnit.data.toList.drop 69 = dktX7_readUnit_3 := dk_seg dksX7_readUnit_2 24 rfl rfl
theorem dksX7_readUnit_4 : cX7_readUnit.data.toList.drop 92 = dktX7_readUnit_4 := dk_seg dksX7_readUnit_3 23 rfl rfl
theorem dksX7_readUnit_5 : cX7_readUnit.data.toList.drop 116 = dktX7_readUnit_5 := dk_seg dksX7_readUnit_4 24 rfl rfl
theorem dksX7_readUnit_6 : cX7_readUnit.data.toList.drop 140 = dktX7_readUnit_6 := dk_seg dksX7_readUnit_5 24 rfl rfl
theorem dX7_readUnit_0 : decode cX7_readUnit 0 = .ok (.aload_n 0, 1) := dk_42 (dk_at dksX7_readUnit_0 0 rfl rfl)
theorem dX7_readUnit_1 : decode cX7_readUnit 1 = .ok (.getfield 112, 3) := dk_180 0 112 (dk_at dksX7_readUnit_0 1 rfl rfl)
theorem dX7_readUnit_4 : decode cX7_readUnit 4 = .ok (.ifCond .eq 4, 3) := dk_153 0 4 (dk_at dksX7_readUnit_0 4 rfl rfl)
theorem dX7_readUnit_7 : decode cX7_readUnit 7 = .ok (.return_, 1) := dk_177 (dk_at dksX7_readUnit_0 7 rfl rfl)
theorem dX7_readUnit_8 : decode cX7_readUnit 8 = .ok (.aload_n 0, 1) := dk_42 (dk_at dksX7_readUnit_0 8 rfl rfl)
theorem dX7_readUnit_9 : decode cX7_readUnit 9 = .ok (.ldc 170, 2) := dk_18 170 (dk_at dksX7_readUnit_0 9 rfl rfl)
theorem dX7_readUnit_11 : decode cX7_readUnit 11 = .ok (.invokevirtual 127, 3) := dk_182 0 127 (dk_at dksX7_readUnit_0 11 rfl rfl)
theorem dX7_readUnit_14 : decode cX7_readUnit 14 = .ok (.ifCond .eq 30, 3) := dk_153 0 30 (dk_at dksX7_readUnit_0 14 rfl rfl)
theorem dX7_readUnit_17 : decode cX7_readUnit 17 = .ok (.aload_n 0, 1) := dk_42 (dk_at dksX7_readUnit_0 17 rfl rfl)
theorem dX7_readUnit_18 : decode cX7_readUnit 18 = .ok (.invokevirtual 172, 3) := dk_182 0 172 (dk_at dksX7_readUnit_0 18 rfl rfl)
theorem dX7_readUnit_21 : decode cX7_readUnit 21 = .ok (.aload_n 0, 1) := dk_42 (dk_at dksX7_readUnit_0 21 rfl rfl)
theorem dX7_readUnit_22 : decode cX7_readUnit 22 = .ok (.invokevirtual 165, 3) := dk_182 0 165 (dk_at dksX7_readUnit_1 0 rfl rfl)
theorem dX7_readUnit_25 : decode cX7_readUnit 25 = .ok (.aload_n 0, 1) := dk_42 (dk_at dksX7_readUnit_1 3 rfl rfl)
theorem dX7_readUnit_26 : decode cX7_readUnit 26 = .ok (.bipush 18, 2) := dk_16 18 (dk_at dksX7_readUnit_1 4 rfl rfl)
theorem dX7_readUnit_28 : decode cX7_readUnit 28 = .ok (.invokevirtual 162, 3) := dk_182 0 162 (dk_at dksX7_readUnit_1 6 rfl rfl)
theorem dX7_readUnit_31 : decode cX7_readUnit 31 = .ok (.aload_n 0, 1) := dk_42 (dk_at dksX7_readUnit_1 9 rfl rfl)
theorem dX7_readUnit_32 : decode cX7_readUnit 32 = .ok (.dup, 1) := dk_89 (dk_at dksX7_readUnit_1 10 rfl rfl)
theorem dX7_readUnit_33 : decode cX7_readUnit 33 = .ok (.getfield 154, 3) := dk_180 0 154 (dk_at dksX7_readUnit_1 11 rfl rfl)
theorem dX7_readUnit_36 : decode cX7_readUnit 36 = .ok (.iconst 1, 1) := dk_4 (dk_at dksX7_readUnit_1 14 rfl rfl)
theorem dX7_readUnit_37 : decode cX7_readUnit 37 = .ok (.isub, 1) := dk_100 (dk_at dksX7_readUnit_1 15 rfl rfl)
theorem dX7_readUnit_38 : decode cX7_readUnit 38 = .ok (.putfield 154, 3) := dk_181 0 154 (dk_at dksX7_readUnit_1 16 rfl rfl)
theorem dX7_readUnit_41 : decode cX7_readUnit 41 = .ok (.goto 114, 3) := dk_167 0 114 (dk_at dksX7_readUnit_1 19 rfl rfl)
theorem dX7_readUnit_44 : decode cX7_readUnit 44 = .ok (.aload_n 0, 1) := dk_42 (dk_at dksX7_readUnit_1 22 rfl rfl)
theorem dX7_readUnit_45 : decode cX7_readUnit 45 = .ok (.bipush 91, 2) := dk_16 91 (dk_at dksX7_readUnit_2 0 rfl rfl)
theorem dX7_readUnit_47 : decode cX7_readUnit 47 = .ok (.invokevirtual 175, 3) := dk_182 0 175 (dk_at dksX7_readUnit_2 2 rfl rfl)
theorem dX7_readUnit_50 : decode cX7_readUnit 50 = .ok (.ifCond .eq 30, 3) := dk_153 0 30 (dk_at dksX7_readUnit_2 5 rfl rfl)
theorem dX7_readUnit_53 : decode cX7_readUnit 53 = .ok (.aload_n 0, 1) := dk_42 (dk_at dksX7_readUnit_2 8 rfl rfl)
theorem dX7_readUnit_54 : decode cX7_readUnit 54 = .ok (.invokevirtual 172, 3) := dk_182 0 172 (dk_at dksX7_readUnit_2 9 rfl rfl)
theorem dX7_readUnit_57 : decode cX7_readUnit 57 = .ok (.aload_n 0, 1) := dk_42 (dk_at dksX7_readUnit_2 12 rfl rfl)
theorem dX7_readUnit_58 : decode cX7_readUnit 58 = .ok (.invokevirtual 178, 3) := dk_182 0 178 (dk_at dksX7_readUnit_2 13 rfl rfl)
theorem dX7_readUnit_61 : decode cX7_readUnit 61 = .ok (.aload_n 0, 1) := dk_42 (dk_at dksX7_readUnit_2 16 rfl rfl)
theorem dX7_readUnit_62 : decode cX7_readUnit 62 = .ok (.bipush 93, 2) := dk_16 93 (dk_at dksX7_readUnit_2 17 rfl rfl)
theorem dX7_readUnit_64 : decode cX7_readUnit 64 = .ok (.invokevirtual 151, 3) := dk_182 0 151 (dk_at dksX7_readUnit_2 19 rfl rfl)
theorem dX7_readUnit_67 : decode cX7_readUnit 67 = .ok (.aload_n 0, 1) := dk_42 (dk_at dksX7_readUnit_2 22 rfl rfl)
theorem dX7_readUnit_68 : decode cX7_readUnit 68 = .ok (.dup, 1) := dk_89 (dk_at dksX7_readUnit_2 23 rfl rfl)
theorem dX7_readUnit_69 : decode cX7_readUnit 69 = .ok (.getfield 154, 3) := dk_180 0 154 (dk_at dksX7_readUnit_3 0 rfl rfl)
theorem dX7_readUnit_72 : decode cX7_readUnit 72 = .ok (.iconst 1, 1) := dk_4 (dk_at dksX7_readUnit_3 3 rfl rfl)
theorem dX7_readUnit_73 : decode cX7_readUnit 73 = .ok (.isub, 1) := dk_100 (dk_at dksX7_readUnit_3 4 rfl rfl)
theorem dX7_readUnit_74 : decode cX7_readUnit 74 = .ok (.putfield 154, 3) := dk_181 0 154 (dk_at dksX7_readUnit_3 5 rfl rfl)
theorem dX7_readUnit_77 : decode cX7_readUnit 77 = .ok (.goto 78, 3) := dk_167 0 78 (dk_at dksX7_readUnit_3 8 rfl rfl)
theorem dX7_readUnit_80 : decode cX7_readUnit 80 = .ok (.aload_n 0, 1) := dk_42 (dk_at dksX7_readUnit_3 11 rfl rfl)
theorem dX7_readUnit_81 : decode cX7_readUnit 81 = .ok (.invokevirtual 181, 3) := dk_182 0 181 (dk_at dksX7_readUnit_3 12 rfl rfl)
theorem dX7_readUnit_84 : decode cX7_readUnit 84 = .ok (.aload_n 0, 1) := dk_42 (dk_at dksX7_readUnit_3 15 rfl rfl)
theorem dX7_readUnit_85 : decode cX7_readUnit 85 = .ok (.getfield 92, 3) := dk_180 0 92 (dk_at dksX7_readUnit_3 16 rfl rfl)
theorem dX7_readUnit_88 : decode cX7_readUnit 88 = .ok (.istore_n 1, 1) := dk_60 (dk_at dksX7_readUnit_3 19 rfl rfl)
theorem dX7_readUnit_89 : decode cX7_readUnit 89 = .ok (.iload_n 1, 1) := dk_27 (dk_at dksX7_readUnit_3 20 rfl rfl)
theorem dX7_readUnit_90 : decode cX7_readUnit 90 = .ok (.bipush 61, 2) := dk_16 61 (dk_at dksX7_readUnit_3 21 rfl rfl)
theorem dX7_readUnit_92 : decode cX7_readUnit 92 = .ok (.if_icmp .eq 20, 3) := dk_159 0 20 (dk_at dksX7_readUnit_4 0 rfl rfl)
theorem dX7_readUnit_95 : decode cX7_readUnit 95 = .ok (.iload_n 1, 1) := dk_27 (dk_at dksX7_readUnit_4 3 rfl rfl)
theorem dX7_readUnit_96 : decode cX7_readUnit 96 = .ok (.bipush 60, 2) := dk_16 60 (dk_at dksX7_readUnit_4 4 rfl rfl)
theorem dX7_readUnit_98 : decode cX7_readUnit 98 = .ok (.if_icmp .eq 14, 3) := dk_159 0 14 (dk_at dksX7_readUnit_4 6 rfl rfl)
theorem dX7_readUnit_101 : decode cX7_readUnit 101 = .ok (.iload_n 1, 1) := dk_27 (dk_at dksX7_readUnit_4 9 rfl rfl)
theorem dX7_readUnit_102 : decode cX7_readUnit 102 = .ok (.bipush 62, 2) := dk_16 62 (dk_at dksX7_readUnit_4 10 rfl rfl)
theorem dX7_readUnit_104 : decode cX7_readUnit 104 = .ok (.if_icmp .eq 8, 3) := dk_159 0 8 (dk_at dksX7_readUnit_4 12 rfl rfl)
theorem dX7_readUnit_107 : decode cX7_readUnit 107 = .ok (.aload_n 0, 1) := dk_42 (dk_at dksX7_readUnit_4 15 rfl rfl)
theorem dX7_readUnit_108 : decode cX7_readUnit 108 = .ok (.iconst 2, 1) := dk_5 (dk_at dksX7_readUnit_4 16 rfl rfl)
theorem dX7_readUnit_109 : decode cX7_readUnit 109 = .ok (.invokevirtual 134, 3) := dk_182 0 134 (dk_at dksX7_readUnit_4 17 rfl rfl)
theorem dX7_readUnit_112 : decode cX7_readUnit 112 = .ok (.aload_n 0, 1) := dk_42 (dk_at dksX7_readUnit_4 20 rfl rfl)
theorem dX7_readUnit_113 : decode cX7_readUnit 113 = .ok (.getfield 112, 3) := dk_180 0 112 (dk_at dksX7_readUnit_4 21 rfl rfl)
theorem dX7_readUnit_116 : decode cX7_readUnit 116 = .ok (.ifCond .ne 7, 3) := dk_154 0 7 (dk_at dksX7_readUnit_5 0 rfl rfl)
theorem dX7_readUnit_119 : decode cX7_readUnit 119 = .ok (.aload_n 0, 1) := dk_42 (dk_at dksX7_readUnit_5 3 rfl rfl)
theorem dX7_readUnit_120 : decode cX7_readUnit 120 = .ok (.invokevirtual 131, 3) := dk_182 0 131 (dk_at dksX7_readUnit_5 4 rfl rfl)
theorem dX7_readUnit_123 : decode cX7_readUnit 123 = .ok (.aload_n 0, 1) := dk_42 (dk_at dksX7_readUnit_5 7 rfl rfl)
theorem dX7_readUnit_124 : decode cX7_readUnit 124 = .ok (.invokevirtual 181, 3) := dk_182 0 181 (dk_at dksX7_readUnit_5 8 rfl rfl)
theorem dX7_readUnit_127 : decode cX7_readUnit 127 = .ok (.aload_n 0, 1) := dk_42 (dk_at dksX7_readUnit_5 11 rfl rfl)
theorem dX7_readUnit_128 : decode cX7_readUnit 128 = .ok (.iload_n 1, 1) := dk_27 (dk_at dksX7_readUnit_5 12 rfl rfl)
theorem dX7_readUnit_129 : decode cX7_readUnit 129 = .ok (.bipush 61, 2) := dk_16 61 (dk_at dksX7_readUnit_5 13 rfl rfl)
theorem dX7_readUnit_131 : decode cX7_readUnit 131 = .ok (.if_icmp .ne 8, 3) := dk_160 0 8 (dk_at dksX7_readUnit_5 15 rfl rfl)
theorem dX7_readUnit_134 : decode cX7_readUnit 134 = .ok (.bipush 13, 2) := dk_16 13 (dk_at dksX7_readUnit_5 18 rfl rfl)
theorem dX7_readUnit_136 : decode cX7_readUnit 136 = .ok (.goto 16, 3) := dk_167 0 16 (dk_at dksX7_readUnit_5 20 rfl rfl)
theorem dX7_readUnit_139 : decode cX7_readUnit 139 = .ok (.iload_n 1, 1) := dk_27 (dk_at dksX7_readUnit_5 23 rfl rfl)
theorem dX7_readUnit_140 : decode cX7_readUnit 140 = .ok (.bipush 60, 2) := dk_16 60 (dk_at dksX7_readUnit_6 0 rfl rfl)
theorem dX7_readUnit_142 : decode cX7_readUnit 142 = .ok (.if_icmp .ne 8, 3) := dk_160 0 8 (dk_at dksX7_readUnit_6 2 rfl rfl)
theorem dX7_readUnit_145 : decode cX7_readUnit 145 = .ok (.bipush 14, 2) := dk_16 14 (dk_at dksX7_readUnit_6 5 rfl rfl)
theorem dX7_readUnit_147 : decode cX7_readUnit 147 = .ok (.goto 5, 3) := dk_167 0 5 (dk_at dksX7_readUnit_6 7 rfl rfl)
theorem dX7_readUnit_150 : decode cX7_readUnit 150 = .ok (.bipush 15, 2) := dk_16 15 (dk_at dksX7_readUnit_6 10 rfl rfl)
theorem dX7_readUnit_152 : decode cX7_readUnit 152 = .ok (.invokevirtual 162, 3) := dk_182 0 162 (dk_at dksX7_readUnit_6 12 rfl rfl)
theorem dX7_readUnit_155 : decode cX7_readUnit 155 = .ok (.return_, 1) := dk_177 (dk_at dksX7_readUnit_6 15 rfl rfl)
abbrev cX7_readStop : ByteArray := prog_43_method_33_code
def yX7_readStop : MethodName := ⟨RX7, "readStop", "()V"⟩
def dkwX7_readStop_0 : List UInt8 := [42, 16, 59, 182, 0, 151, 42, 180, 0, 112, 154, 0, 13, 42, 180, 0, 13, 3, 92, 46, 4, 96, 79, 177]
abbrev dktX7_readStop_0 : List UInt8 := dkwX7_readStop_0 ++ []
theorem dksX7_readStop_0 : cX7_readStop.data.toList.drop 0 = dktX7_readStop_0 := by decide +kernel
theorem dX7_readStop_0 : decode cX7_readStop 0 = .ok (.aload_n 0, 1) := dk_42 (dk_at dksX7_readStop_0 0 rfl rfl)
theorem dX7_readStop_1 : decode cX7_readStop 1 = .ok (.bipush 59, 2) := dk_16 59 (dk_at dksX7_readStop_0 1 rfl rfl)
theorem dX7_readStop_3 : decode cX7_readStop 3 = .ok (.invokevirtual 151, 3) := dk_182 0 151 (dk_at dksX7_readStop_0 3 rfl rfl)
theorem dX7_readStop_6 : decode cX7_readStop 6 = .ok (.aload_n 0, 1) := dk_42 (dk_at dksX7_readStop_0 6 rfl rfl)
theorem dX7_readStop_7 : decode cX7_readStop 7 = .ok (.getfield 112, 3) := dk_180 0 112 (dk_at dksX7_readStop_0 7 rfl rfl)
theorem dX7_readStop_10 : decode cX7_readStop 10 = .ok (.ifCond .ne 13, 3) := dk_154 0 13 (dk_at dksX7_readStop_0 10 rfl rfl)
theorem dX7_readStop_13 : decode cX7_readStop 13 = .ok (.aload_n 0, 1) := dk_42 (dk_at dksX7_readStop_0 13 rfl rfl)
theorem dX7_readStop_14 : decode cX7_readStop 14 = .ok (.getfield 13, 3) := dk_180 0 13 (dk_at dksX7_readStop_0 14 rfl rfl)
theorem dX7_readStop_17 : decode cX7_readStop 17 = .ok (.iconst 0, 1) := dk_3 (dk_at dksX7_readStop_0 17 rfl rfl)
theorem dX7_readStop_18 : decode cX7_readStop 18 = .ok (.dup2, 1) := dk_92 (dk_at dksX7_readStop_0 18 rfl rfl)
theorem dX7_readStop_19 : decode cX7_readStop 19 = .ok (.iaload, 1) := dk_46 (dk_at dksX7_readStop_0 19 rfl rfl)
theorem dX7_readStop_20 : decode cX7_readStop 20 = .ok (.iconst 1, 1) := dk_4 (dk_at dksX7_readStop_0 20 rfl rfl)
theorem dX7_readStop_21 : decode cX7_readStop 21 = .ok (.iadd, 1) := dk_96 (dk_at dksX7_readStop_0 21 rfl rfl)
theorem dX7_readStop_22 : decode cX7_readStop 22 = .ok (.iastore, 1) := dk_79 (dk_at dksX7_readStop_0 22 rfl rfl)
theorem dX7_readStop_23 : decode cX7_readStop 23 = .ok (.return_, 1) := dk_177 (dk_at dksX7_readStop_0 23 rfl rfl)
abbrev cX7_fault : ByteArray := prog_43_method_36_code
def yX7_fault : MethodName := ⟨RX7, "fault", "(I)I"⟩
def dkwX7_fault_1 : List UInt8 := [180, 0, 26, 167, 0, 4, 2, 172]
abbrev dktX7_fault_1 : List UInt8 := dkwX7_fault_1 ++ []
def dkwX7_fault_0 : List UInt8 := [42, 3, 181, 0, 77, 27, 154, 0, 10, 42, 180, 0, 250, 167, 0, 16, 27, 4, 160, 0, 10, 42]
abbrev dktX7_fault_0 : List UInt8 := dkwX7_fault_0 ++ dktX7_fault_1
theorem dksX7_fault_0 : cX7_fault.data.toList.drop 0 = dktX7_fault_0 := by decide +kernel
theorem dksX7_fault_1 : cX7_fault.data.toList.drop 22 = dktX7_fault_1 := dk_seg dksX7_fault_0 22 rfl rfl
theorem dX7_fault_0 : decode cX7_fault 0 = .ok (.aload_n 0, 1) := dk_42 (dk_at dksX7_fault_0 0 rfl rfl)
theorem dX7_fault_1 : decode cX7_fault 1 = .ok (.iconst 0, 1) := dk_3 (dk_at dksX7_fault_0 1 rfl rfl)
theorem dX7_fault_2 : decode cX7_fault 2 = .ok (.putfield 77, 3) := dk_181 0 77 (dk_at dksX7_fault_0 2 rfl rfl)
theorem dX7_fault_5 : decode cX7_fault 5 = .ok (.iload_n 1, 1) := dk_27 (dk_at dksX7_fault_0 5 rfl rfl)
theorem dX7_fault_6 : decode cX7_fault 6 = .ok (.ifCond .ne 10, 3) := dk_154 0 10 (dk_at dksX7_fault_0 6 rfl rfl)
theorem dX7_fault_9 : decode cX7_fault 9 = .ok (.aload_n 0, 1) := dk_42 (dk_at dksX7_fault_0 9 rfl rfl)
theorem dX7_fault_10 : decode cX7_fault 10 = .ok (.getfield 250, 3) := dk_180 0 250 (dk_at dksX7_fault_0 10 rfl rfl)
theorem dX7_fault_13 : decode cX7_fault 13 = .ok (.goto 16, 3) := dk_167 0 16 (dk_at dksX7_fault_0 13 rfl rfl)
theorem dX7_fault_16 : decode cX7_fault 16 = .ok (.iload_n 1, 1) := dk_27 (dk_at dksX7_fault_0 16 rfl rfl)
theorem dX7_fault_17 : decode cX7_fault 17 = .ok (.iconst 1, 1) := dk_4 (dk_at dksX7_fault_0 17 rfl rfl)
theorem dX7_fault_18 : decode cX7_fault 18 = .ok (.if_icmp .ne 10, 3) := dk_160 0 10 (dk_at dksX7_fault_0 18 rfl rfl)
theorem dX7_fault_21 : decode cX7_fault 21 = .ok (.aload_n 0, 1) := dk_42 (dk_at dksX7_fault_0 21 rfl rfl)
theorem dX7_fault_22 : decode cX7_fault 22 = .ok (.getfield 26, 3) := dk_180 0 26 (dk_at dksX7_fault_1 0 rfl rfl)
theorem dX7_fault_25 : decode cX7_fault 25 = .ok (.goto 4, 3) := dk_167 0 4 (dk_at dksX7_fault_1 3 rfl rfl)
theorem dX7_fault_28 : decode cX7_fault 28 = .ok (.iconst (-1), 1) := dk_2 (dk_at dksX7_fault_1 6 rfl rfl)
theorem dX7_fault_29 : decode cX7_fault 29 = .ok (.ireturn, 1) := dk_172 (dk_at dksX7_fault_1 7 rfl rfl)
abbrev cX7_cell : ByteArray := prog_43_method_64_code
def yX7_cell : MethodName := ⟨RX7, "cell", "(II)I"⟩
def dkwX7_cell_5 : List UInt8 := [112, 172]
abbrev dktX7_cell_5 : List UInt8 := dkwX7_cell_5 ++ []
def dkwX7_cell_4 : List UInt8 := [160, 0, 17, 42, 180, 0, 33, 27, 46, 5, 108, 16, 8, 112, 167, 0, 11, 42, 180, 0, 33, 27, 46, 5]
abbrev dktX7_cell_4 : List UInt8 := dkwX7_cell_4 ++ dktX7_cell_5
def dkwX7_cell_3 : List UInt8 := [182, 1, 46, 28, 5, 160, 0, 15, 42, 180, 0, 33, 27, 46, 16, 16, 108, 167, 0, 30, 28, 6]
abbrev dktX7_cell_3 : List UInt8 := dkwX7_cell_3 ++ dktX7_cell_4
def dkwX7_cell_2 : List UInt8 := [162, 0, 18, 42, 180, 0, 9, 16, 13, 16, 6, 28, 104, 96, 27, 96, 46, 172, 42, 42, 182, 1, 87]
abbrev dktX7_cell_2 : List UInt8 := dkwX7_cell_2 ++ dktX7_cell_3
def dkwX7_cell_1 : List UInt8 := [153, 0, 7, 3, 167, 0, 4, 5, 181, 0, 77, 42, 180, 0, 77, 158, 0, 5, 3, 172, 28, 5]
abbrev dktX7_cell_1 : List UInt8 := dkwX7_cell_1 ++ dktX7_cell_2
def dkwX7_cell_0 : List UInt8 := [42, 42, 27, 133, 182, 1, 81, 154, 0, 7, 4, 167, 0, 20, 28, 133, 9, 20, 1, 85, 184, 0, 138]
abbrev dktX7_cell_0 : List UInt8 := dkwX7_cell_0 ++ dktX7_cell_1
theorem dksX7_cell_0 : cX7_cell.data.toList.drop 0 = dktX7_cell_0 := by decide +kernel
theorem dksX7_cell_1 : cX7_cell.data.toList.drop 23 = dktX7_cell_1 := dk_seg dksX7_cell_0 23 rfl rfl
theorem dksX7_cell_2 : cX7_cell.data.toList.drop 45 = dktX7_cell_2 := dk_seg dksX7_cell_1 22 rfl rfl
theorem dksX7_cell_3 : cX7_cell.data.toList.drop 68 = dktX7_cell_3 := dk_seg dksX7_cell_2 23 rfl rfl
theorem dksX7_cell_4 : cX7_cell.data.toList.drop 90 = dktX7_cell_4 := dk_seg dksX7_cell_3 22 rfl rfl
theorem dksX7_cell_5 : cX7_cell.data.toList.drop 114 = dktX7_cell_5 := dk_seg dksX7_cell_4 24 rfl rfl
theorem dX7_cell_0 : decode cX7_cell 0 = .ok (.aload_n 0, 1) := dk_42 (dk_at dksX7_cell_0 0 rfl rfl)
theorem dX7_cell_1 : decode cX7_cell 1 = .ok (.aload_n 0, 1) := dk_42 (dk_at dksX7_cell_0 1 rfl rfl)
theorem dX7_cell_2 : decode cX7_cell 2 = .ok (.iload_n 1, 1) := dk_27 (dk_at dksX7_cell_0 2 rfl rfl)
theorem dX7_cell_3 : decode cX7_cell 3 = .ok (.i2l, 1) := dk_133 (dk_at dksX7_cell_0 3 rfl rfl)
theorem dX7_cell_4 : decode cX7_cell 4 = .ok (.invokevirtual 337, 3) := dk_182 1 81 (dk_at dksX7_cell_0 4 rfl rfl)
theorem dX7_cell_7 : decode cX7_cell 7 = .ok (.ifCond .ne 7, 3) := dk_154 0 7 (dk_at dksX7_cell_0 7 rfl rfl)
theorem dX7_cell_10 : decode cX7_cell 10 = .ok (.iconst 1, 1) := dk_4 (dk_at dksX7_cell_0 10 rfl rfl)
theorem dX7_cell_11 : decode cX7_cell 11 = .ok (.goto 20, 3) := dk_167 0 20 (dk_at dksX7_cell_0 11 rfl rfl)
theorem dX7_cell_14 : decode cX7_cell 14 = .ok (.iload_n 2, 1) := dk_28 (dk_at dksX7_cell_0 14 rfl rfl)
theorem dX7_cell_15 : decode cX7_cell 15 = .ok (.i2l, 1) := dk_133 (dk_at dksX7_cell_0 15 rfl rfl)
theorem dX7_cell_16 : decode cX7_cell 16 = .ok (.lconst 0, 1) := dk_9 (dk_at dksX7_cell_0 16 rfl rfl)
theorem dX7_cell_17 : decode cX7_cell 17 = .ok (.ldc2_w 341, 3) := dk_20 1 85 (dk_at dksX7_cell_0 17 rfl rfl)
theorem dX7_cell_20 : decode cX7_cell 20 = .ok (.invokestatic 138, 3) := dk_184 0 138 (dk_at dksX7_cell_0 20 rfl rfl)
theorem dX7_cell_23 : decode cX7_cell 23 = .ok (.ifCond .eq 7, 3) := dk_153 0 7 (dk_at dksX7_cell_1 0 rfl rfl)
theorem dX7_cell_26 : decode cX7_cell 26 = .ok (.iconst 0, 1) := dk_3 (dk_at dksX7_cell_1 3 rfl rfl)
theorem dX7_cell_27 : decode cX7_cell 27 = .ok (.goto 4, 3) := dk_167 0 4 (dk_at dksX7_cell_1 4 rfl rfl)
theorem dX7_cell_30 : decode cX7_cell 30 = .ok (.iconst 2, 1) := dk_5 (dk_at dksX7_cell_1 7 rfl rfl)
theorem dX7_cell_31 : decode cX7_cell 31 = .ok (.putfield 77, 3) := dk_181 0 77 (dk_at dksX7_cell_1 8 rfl rfl)
theorem dX7_cell_34 : decode cX7_cell 34 = .ok (.aload_n 0, 1) := dk_42 (dk_at dksX7_cell_1 11 rfl rfl)
theorem dX7_cell_35 : decode cX7_cell 35 = .ok (.getfield 77, 3) := dk_180 0 77 (dk_at dksX7_cell_1 12 rfl rfl)
theorem dX7_cell_38 : decode cX7_cell 38 = .ok (.ifCond .le 5, 3) := dk_158 0 5 (dk_at dksX7_cell_1 15 rfl rfl)
theorem dX7_cell_41 : decode cX7_cell 41 = .ok (.iconst 0, 1) := dk_3 (dk_at dksX7_cell_1 18 rfl rfl)
theorem dX7_cell_42 : decode cX7_cell 42 = .ok (.ireturn, 1) := dk_172 (dk_at dksX7_cell_1 19 rfl rfl)
theorem dX7_cell_43 : decode cX7_cell 43 = .ok (.iload_n 2, 1) := dk_28 (dk_at dksX7_cell_1 20 rfl rfl)
theorem dX7_cell_44 : decode cX7_cell 44 = .ok (.iconst 2, 1) := dk_5 (dk_at dksX7_cell_1 21 rfl rfl)
theorem dX7_cell_45 : decode cX7_cell 45 = .ok (.if_icmp .ge 18, 3) := dk_162 0 18 (dk_at dksX7_cell_2 0 rfl rfl)
theorem dX7_cell_48 : decode cX7_cell 48 = .ok (.aload_n 0, 1) := dk_42 (dk_at dksX7_cell_2 3 rfl rfl)
theorem dX7_cell_49 : decode cX7_cell 49 = .ok (.getfield 9, 3) := dk_180 0 9 (dk_at dksX7_cell_2 4 rfl rfl)
theorem dX7_cell_52 : decode cX7_cell 52 = .ok (.bipush 13, 2) := dk_16 13 (dk_at dksX7_cell_2 7 rfl rfl)
theorem dX7_cell_54 : decode cX7_cell 54 = .ok (.bipush 6, 2) := dk_16 6 (dk_at dksX7_cell_2 9 rfl rfl)
theorem dX7_cell_56 : decode cX7_cell 56 = .ok (.iload_n 2, 1) := dk_28 (dk_at dksX7_cell_2 11 rfl rfl)
theorem dX7_cell_57 : decode cX7_cell 57 = .ok (.imul, 1) := dk_104 (dk_at dksX7_cell_2 12 rfl rfl)
theorem dX7_cell_58 : decode cX7_cell 58 = .ok (.iadd, 1) := dk_96 (dk_at dksX7_cell_2 13 rfl rfl)
theorem dX7_cell_59 : decode cX7_cell 59 = .ok (.iload_n 1, 1) := dk_27 (dk_at dksX7_cell_2 14 rfl rfl)
theorem dX7_cell_60 : decode cX7_cell 60 = .ok (.iadd, 1) := dk_96 (dk_at dksX7_cell_2 15 rfl rfl)
theorem dX7_cell_61 : decode cX7_cell 61 = .ok (.iaload, 1) := dk_46 (dk_at dksX7_cell_2 16 rfl rfl)
theorem dX7_cell_62 : decode cX7_cell 62 = .ok (.ireturn, 1) := dk_172 (dk_at dksX7_cell_2 17 rfl rfl)
theorem dX7_cell_63 : decode cX7_cell 63 = .ok (.aload_n 0, 1) := dk_42 (dk_at dksX7_cell_2 18 rfl rfl)
theorem dX7_cell_64 : decode cX7_cell 64 = .ok (.aload_n 0, 1) := dk_42 (dk_at dksX7_cell_2 19 rfl rfl)
theorem dX7_cell_65 : decode cX7_cell 65 = .ok (.invokevirtual 343, 3) := dk_182 1 87 (dk_at dksX7_cell_2 20 rfl rfl)
theorem dX7_cell_68 : decode cX7_cell 68 = .ok (.invokevirtual 302, 3) := dk_182 1 46 (dk_at dksX7_cell_3 0 rfl rfl)
theorem dX7_cell_71 : decode cX7_cell 71 = .ok (.iload_n 2, 1) := dk_28 (dk_at dksX7_cell_3 3 rfl rfl)
theorem dX7_cell_72 : decode cX7_cell 72 = .ok (.iconst 2, 1) := dk_5 (dk_at dksX7_cell_3 4 rfl rfl)
theorem dX7_cell_73 : decode cX7_cell 73 = .ok (.if_icmp .ne 15, 3) := dk_160 0 15 (dk_at dksX7_cell_3 5 rfl rfl)
theorem dX7_cell_76 : decode cX7_cell 76 = .ok (.aload_n 0, 1) := dk_42 (dk_at dksX7_cell_3 8 rfl rfl)
theorem dX7_cell_77 : decode cX7_cell 77 = .ok (.getfield 33, 3) := dk_180 0 33 (dk_at dksX7_cell_3 9 rfl rfl)
theorem dX7_cell_80 : decode cX7_cell 80 = .ok (.iload_n 1, 1) := dk_27 (dk_at dksX7_cell_3 12 rfl rfl)
theorem dX7_cell_81 : decode cX7_cell 81 = .ok (.iaload, 1) := dk_46 (dk_at dksX7_cell_3 13 rfl rfl)
theorem dX7_cell_82 : decode cX7_cell 82 = .ok (.bipush 16, 2) := dk_16 16 (dk_at dksX7_cell_3 14 rfl rfl)
theorem dX7_cell_84 : decode cX7_cell 84 = .ok (.idiv, 1) := dk_108 (dk_at dksX7_cell_3 16 rfl rfl)
theorem dX7_cell_85 : decode cX7_cell 85 = .ok (.goto 30, 3) := dk_167 0 30 (dk_at dksX7_cell_3 17 rfl rfl)
theorem dX7_cell_88 : decode cX7_cell 88 = .ok (.iload_n 2, 1) := dk_28 (dk_at dksX7_cell_3 20 rfl rfl)
theorem dX7_cell_89 : decode cX7_cell 89 = .ok (.iconst 3, 1) := dk_6 (dk_at dksX7_cell_3 21 rfl rfl)
theorem dX7_cell_90 : decode cX7_cell 90 = .ok (.if_icmp .ne 17, 3) := dk_160 0 17 (dk_at dksX7_cell_4 0 rfl rfl)
theorem dX7_cell_93 : decode cX7_cell 93 = .ok (.aload_n 0, 1) := dk_42 (dk_at dksX7_cell_4 3 rfl rfl)
theorem dX7_cell_94 : decode cX7_cell 94 = .ok (.getfield 33, 3) := dk_180 0 33 (dk_at dksX7_cell_4 4 rfl rfl)
theorem dX7_cell_97 : decode cX7_cell 97 = .ok (.iload_n 1, 1) := dk_27 (dk_at dksX7_cell_4 7 rfl rfl)
theorem dX7_cell_98 : decode cX7_cell 98 = .ok (.iaload, 1) := dk_46 (dk_at dksX7_cell_4 8 rfl rfl)
theorem dX7_cell_99 : decode cX7_cell 99 = .ok (.iconst 2, 1) := dk_5 (dk_at dksX7_cell_4 9 rfl rfl)
theorem dX7_cell_100 : decode cX7_cell 100 = .ok (.idiv, 1) := dk_108 (dk_at dksX7_cell_4 10 rfl rfl)
theorem dX7_cell_101 : decode cX7_cell 101 = .ok (.bipush 8, 2) := dk_16 8 (dk_at dksX7_cell_4 11 rfl rfl)
theorem dX7_cell_103 : decode cX7_cell 103 = .ok (.irem, 1) := dk_112 (dk_at dksX7_cell_4 13 rfl rfl)
theorem dX7_cell_104 : decode cX7_cell 104 = .ok (.goto 11, 3) := dk_167 0 11 (dk_at dksX7_cell_4 14 rfl rfl)
theorem dX7_cell_107 : decode cX7_cell 107 = .ok (.aload_n 0, 1) := dk_42 (dk_at dksX7_cell_4 17 rfl rfl)
theorem dX7_cell_108 : decode cX7_cell 108 = .ok (.getfield 33, 3) := dk_180 0 33 (dk_at dksX7_cell_4 18 rfl rfl)
theorem dX7_cell_111 : decode cX7_cell 111 = .ok (.iload_n 1, 1) := dk_27 (dk_at dksX7_cell_4 21 rfl rfl)
theorem dX7_cell_112 : decode cX7_cell 112 = .ok (.iaload, 1) := dk_46 (dk_at dksX7_cell_4 22 rfl rfl)
theorem dX7_cell_113 : decode cX7_cell 113 = .ok (.iconst 2, 1) := dk_5 (dk_at dksX7_cell_4 23 rfl rfl)
theorem dX7_cell_114 : decode cX7_cell 114 = .ok (.irem, 1) := dk_112 (dk_at dksX7_cell_5 0 rfl rfl)
theorem dX7_cell_115 : decode cX7_cell 115 = .ok (.ireturn, 1) := dk_172 (dk_at dksX7_cell_5 1 rfl rfl)
abbrev cX7_isCell : ByteArray := prog_43_method_38_code
def yX7_isCell : MethodName := ⟨RX7, "isCell", "(J)Z"⟩
def dkwX7_isCell_0 : List UInt8 := [31, 9, 42, 182, 0, 253, 4, 100, 133, 184, 0, 138, 172]
abbrev dktX7_isCell_0 : List UInt8 := dkwX7_isCell_0 ++ []
theorem dksX7_isCell_0 : cX7_isCell.data.toList.drop 0 = dktX7_isCell_0 := by decide +kernel
theorem dX7_isCell_0 : decode cX7_isCell 0 = .ok (.lload_n 1, 1) := dk_31 (dk_at dksX7_isCell_0 0 rfl rfl)
theorem dX7_isCell_1 : decode cX7_isCell 1 = .ok (.lconst 0, 1) := dk_9 (dk_at dksX7_isCell_0 1 rfl rfl)
theorem dX7_isCell_2 : decode cX7_isCell 2 = .ok (.aload_n 0, 1) := dk_42 (dk_at dksX7_isCell_0 2 rfl rfl)
theorem dX7_isCell_3 : decode cX7_isCell 3 = .ok (.invokevirtual 253, 3) := dk_182 0 253 (dk_at dksX7_isCell_0 3 rfl rfl)
theorem dX7_isCell_6 : decode cX7_isCell 6 = .ok (.iconst 1, 1) := dk_4 (dk_at dksX7_isCell_0 6 rfl rfl)
theorem dX7_isCell_7 : decode cX7_isCell 7 = .ok (.isub, 1) := dk_100 (dk_at dksX7_isCell_0 7 rfl rfl)
theorem dX7_isCell_8 : decode cX7_isCell 8 = .ok (.i2l, 1) := dk_133 (dk_at dksX7_isCell_0 8 rfl rfl)
theorem dX7_isCell_9 : decode cX7_isCell 9 = .ok (.invokestatic 138, 3) := dk_184 0 138 (dk_at dksX7_isCell_0 9 rfl rfl)
theorem dX7_isCell_12 : decode cX7_isCell 12 = .ok (.ireturn, 1) := dk_172 (dk_at dksX7_isCell_0 12 rfl rfl)
abbrev cX7_cells : ByteArray := prog_43_method_37_code
def yX7_cells : MethodName := ⟨RX7, "cells", "()I"⟩
def dkwX7_cells_0 : List UInt8 := [42, 180, 0, 9, 4, 46, 172]
abbrev dktX7_cells_0 : List UInt8 := dkwX7_cells_0 ++ []
theorem dksX7_cells_0 : cX7_cells.data.toList.drop 0 = dktX7_cells_0 := by decide +kernel
theorem dX7_cells_0 : decode cX7_cells 0 = .ok (.aload_n 0, 1) := dk_42 (dk_at dksX7_cells_0 0 rfl rfl)
theorem dX7_cells_1 : decode cX7_cells 1 = .ok (.getfield 9, 3) := dk_180 0 9 (dk_at dksX7_cells_0 1 rfl rfl)
theorem dX7_cells_4 : decode cX7_cells 4 = .ok (.iconst 1, 1) := dk_4 (dk_at dksX7_cells_0 4 rfl rfl)
theorem dX7_cells_5 : decode cX7_cells 5 = .ok (.iaload, 1) := dk_46 (dk_at dksX7_cells_0 5 rfl rfl)
theorem dX7_cells_6 : decode cX7_cells 6 = .ok (.ireturn, 1) := dk_172 (dk_at dksX7_cells_0 6 rfl rfl)
abbrev cX7_laysNow : ByteArray := prog_43_method_46_code
def yX7_laysNow : MethodName := ⟨RX7, "laysNow", "()I"⟩
def dkwX7_laysNow_2 : List UInt8 := [132, 1, 1, 167, 255, 213, 42, 180, 0, 9, 16, 7, 46, 172]
abbrev dktX7_laysNow_2 : List UInt8 := dkwX7_laysNow_2 ++ []
def dkwX7_laysNow_1 : List UInt8 := [16, 8, 27, 96, 46, 16, 10, 108, 42, 180, 0, 9, 16, 8, 27, 96, 46, 16, 10, 112, 182, 1, 24]
abbrev dktX7_laysNow_1 : List UInt8 := dkwX7_laysNow_1 ++ dktX7_laysNow_2
def dkwX7_laysNow_0 : List UInt8 := [42, 182, 1, 21, 3, 60, 27, 42, 180, 0, 9, 16, 7, 46, 162, 0, 38, 42, 27, 42, 180, 0, 9]
abbrev dktX7_laysNow_0 : List UInt8 := dkwX7_laysNow_0 ++ dktX7_laysNow_1
theorem dksX7_laysNow_0 : cX7_laysNow.data.toList.drop 0 = dktX7_laysNow_0 := by decide +kernel
theorem dksX7_laysNow_1 : cX7_laysNow.data.toList.drop 23 = dktX7_laysNow_1 := dk_seg dksX7_laysNow_0 23 rfl rfl
theorem dksX7_laysNow_2 : cX7_laysNow.data.toList.drop 46 = dktX7_laysNow_2 := dk_seg dksX7_laysNow_1 23 rfl rfl
theorem dX7_laysNow_0 : decode cX7_laysNow 0 = .ok (.aload_n 0, 1) := dk_42 (dk_at dksX7_laysNow_0 0 rfl rfl)
theorem dX7_laysNow_1 : decode cX7_laysNow 1 = .ok (.invokevirtual 277, 3) := dk_182 1 21 (dk_at dksX7_laysNow_0 1 rfl rfl)
theorem dX7_laysNow_4 : decode cX7_laysNow 4 = .ok (.iconst 0, 1) := dk_3 (dk_at dksX7_laysNow_0 4 rfl rfl)
theorem dX7_laysNow_5 : decode cX7_laysNow 5 = .ok (.istore_n 1, 1) := dk_60 (dk_at dksX7_laysNow_0 5 rfl rfl)
theorem dX7_laysNow_6 : decode cX7_laysNow 6 = .ok (.iload_n 1, 1) := dk_27 (dk_at dksX7_laysNow_0 6 rfl rfl)
theorem dX7_laysNow_7 : decode cX7_laysNow 7 = .ok (.aload_n 0, 1) := dk_42 (dk_at dksX7_laysNow_0 7 rfl rfl)
theorem dX7_laysNow_8 : decode cX7_laysNow 8 = .ok (.getfield 9, 3) := dk_180 0 9 (dk_at dksX7_laysNow_0 8 rfl rfl)
theorem dX7_laysNow_11 : decode cX7_laysNow 11 = .ok (.bipush 7, 2) := dk_16 7 (dk_at dksX7_laysNow_0 11 rfl rfl)
theorem dX7_laysNow_13 : decode cX7_laysNow 13 = .ok (.iaload, 1) := dk_46 (dk_at dksX7_laysNow_0 13 rfl rfl)
theorem dX7_laysNow_14 : decode cX7_laysNow 14 = .ok (.if_icmp .ge 38, 3) := dk_162 0 38 (dk_at dksX7_laysNow_0 14 rfl rfl)
theorem dX7_laysNow_17 : decode cX7_laysNow 17 = .ok (.aload_n 0, 1) := dk_42 (dk_at dksX7_laysNow_0 17 rfl rfl)
theorem dX7_laysNow_18 : decode cX7_laysNow 18 = .ok (.iload_n 1, 1) := dk_27 (dk_at dksX7_laysNow_0 18 rfl rfl)
theorem dX7_laysNow_19 : decode cX7_laysNow 19 = .ok (.aload_n 0, 1) := dk_42 (dk_at dksX7_laysNow_0 19 rfl rfl)
theorem dX7_laysNow_20 : decode cX7_laysNow 20 = .ok (.getfield 9, 3) := dk_180 0 9 (dk_at dksX7_laysNow_0 20 rfl rfl)
theorem dX7_laysNow_23 : decode cX7_laysNow 23 = .ok (.bipush 8, 2) := dk_16 8 (dk_at dksX7_laysNow_1 0 rfl rfl)
theorem dX7_laysNow_25 : decode cX7_laysNow 25 = .ok (.iload_n 1, 1) := dk_27 (dk_at dksX7_laysNow_1 2 rfl rfl)
theorem dX7_laysNow_26 : decode cX7_laysNow 26 = .ok (.iadd, 1) := dk_96 (dk_at dksX7_laysNow_1 3 rfl rfl)
theorem dX7_laysNow_27 : decode cX7_laysNow 27 = .ok (.iaload, 1) := dk_46 (dk_at dksX7_laysNow_1 4 rfl rfl)
theorem dX7_laysNow_28 : decode cX7_laysNow 28 = .ok (.bipush 10, 2) := dk_16 10 (dk_at dksX7_laysNow_1 5 rfl rfl)
theorem dX7_laysNow_30 : decode cX7_laysNow 30 = .ok (.idiv, 1) := dk_108 (dk_at dksX7_laysNow_1 7 rfl rfl)
theorem dX7_laysNow_31 : decode cX7_laysNow 31 = .ok (.aload_n 0, 1) := dk_42 (dk_at dksX7_laysNow_1 8 rfl rfl)
theorem dX7_laysNow_32 : decode cX7_laysNow 32 = .ok (.getfield 9, 3) := dk_180 0 9 (dk_at dksX7_laysNow_1 9 rfl rfl)
theorem dX7_laysNow_35 : decode cX7_laysNow 35 = .ok (.bipush 8, 2) := dk_16 8 (dk_at dksX7_laysNow_1 12 rfl rfl)
theorem dX7_laysNow_37 : decode cX7_laysNow 37 = .ok (.iload_n 1, 1) := dk_27 (dk_at dksX7_laysNow_1 14 rfl rfl)
theorem dX7_laysNow_38 : decode cX7_laysNow 38 = .ok (.iadd, 1) := dk_96 (dk_at dksX7_laysNow_1 15 rfl rfl)
theorem dX7_laysNow_39 : decode cX7_laysNow 39 = .ok (.iaload, 1) := dk_46 (dk_at dksX7_laysNow_1 16 rfl rfl)
theorem dX7_laysNow_40 : decode cX7_laysNow 40 = .ok (.bipush 10, 2) := dk_16 10 (dk_at dksX7_laysNow_1 17 rfl rfl)
theorem dX7_laysNow_42 : decode cX7_laysNow 42 = .ok (.irem, 1) := dk_112 (dk_at dksX7_laysNow_1 19 rfl rfl)
theorem dX7_laysNow_43 : decode cX7_laysNow 43 = .ok (.invokevirtual 280, 3) := dk_182 1 24 (dk_at dksX7_laysNow_1 20 rfl rfl)
theorem dX7_laysNow_46 : decode cX7_laysNow 46 = .ok (.iinc 1 1, 3) := dk_132 1 1 (dk_at dksX7_laysNow_2 0 rfl rfl)
theorem dX7_laysNow_49 : decode cX7_laysNow 49 = .ok (.goto (-43), 3) := dk_167 255 213 (dk_at dksX7_laysNow_2 3 rfl rfl)
theorem dX7_laysNow_52 : decode cX7_laysNow 52 = .ok (.aload_n 0, 1) := dk_42 (dk_at dksX7_laysNow_2 6 rfl rfl)
theorem dX7_laysNow_53 : decode cX7_laysNow 53 = .ok (.getfield 9, 3) := dk_180 0 9 (dk_at dksX7_laysNow_2 7 rfl rfl)
theorem dX7_laysNow_56 : decode cX7_laysNow 56 = .ok (.bipush 7, 2) := dk_16 7 (dk_at dksX7_laysNow_2 10 rfl rfl)
theorem dX7_laysNow_58 : decode cX7_laysNow 58 = .ok (.iaload, 1) := dk_46 (dk_at dksX7_laysNow_2 12 rfl rfl)
theorem dX7_laysNow_59 : decode cX7_laysNow 59 = .ok (.ireturn, 1) := dk_172 (dk_at dksX7_laysNow_2 13 rfl rfl)
abbrev cX7_laysFlat : ByteArray := prog_43_method_42_code
def yX7_laysFlat : MethodName := ⟨RX7, "laysFlat", "()V"⟩
def dkwX7_laysFlat_2 : List UInt8 := [132, 1, 1, 167, 255, 219, 177]
abbrev dktX7_laysFlat_2 : List UInt8 := dkwX7_laysFlat_2 ++ []
def dkwX7_laysFlat_1 : List UInt8 := [4, 27, 96, 4, 79, 42, 180, 0, 30, 16, 7, 16, 6, 27, 104, 96, 5, 27, 104, 4, 96, 79]
abbrev dktX7_laysFlat_1 : List UInt8 := dkwX7_laysFlat_1 ++ dktX7_laysFlat_2
def dkwX7_laysFlat_0 : List UInt8 := [42, 180, 0, 30, 3, 42, 182, 0, 253, 79, 3, 60, 27, 42, 182, 0, 253, 162, 0, 35, 42, 180, 0, 30]
abbrev dktX7_laysFlat_0 : List UInt8 := dkwX7_laysFlat_0 ++ dktX7_laysFlat_1
theorem dksX7_laysFlat_0 : cX7_laysFlat.data.toList.drop 0 = dktX7_laysFlat_0 := by decide +kernel
theorem dksX7_laysFlat_1 : cX7_laysFlat.data.toList.drop 24 = dktX7_laysFlat_1 := dk_seg dksX7_laysFlat_0 24 rfl rfl
theorem dksX7_laysFlat_2 : cX7_laysFlat.data.toList.drop 46 = dktX7_laysFlat_2 := dk_seg dksX7_laysFlat_1 22 rfl rfl
theorem dX7_laysFlat_0 : decode cX7_laysFlat 0 = .ok (.aload_n 0, 1) := dk_42 (dk_at dksX7_laysFlat_0 0 rfl rfl)
theorem dX7_laysFlat_1 : decode cX7_laysFlat 1 = .ok (.getfield 30, 3) := dk_180 0 30 (dk_at dksX7_laysFlat_0 1 rfl rfl)
theorem dX7_laysFlat_4 : decode cX7_laysFlat 4 = .ok (.iconst 0, 1) := dk_3 (dk_at dksX7_laysFlat_0 4 rfl rfl)
theorem dX7_laysFlat_5 : decode cX7_laysFlat 5 = .ok (.aload_n 0, 1) := dk_42 (dk_at dksX7_laysFlat_0 5 rfl rfl)
theorem dX7_laysFlat_6 : decode cX7_laysFlat 6 = .ok (.invokevirtual 253, 3) := dk_182 0 253 (dk_at dksX7_laysFlat_0 6 rfl rfl)
theorem dX7_laysFlat_9 : decode cX7_laysFlat 9 = .ok (.iastore, 1) := dk_79 (dk_at dksX7_laysFlat_0 9 rfl rfl)
theorem dX7_laysFlat_10 : decode cX7_laysFlat 10 = .ok (.iconst 0, 1) := dk_3 (dk_at dksX7_laysFlat_0 10 rfl rfl)
theorem dX7_laysFlat_11 : decode cX7_laysFlat 11 = .ok (.istore_n 1, 1) := dk_60 (dk_at dksX7_laysFlat_0 11 rfl rfl)
theorem dX7_laysFlat_12 : decode cX7_laysFlat 12 = .ok (.iload_n 1, 1) := dk_27 (dk_at dksX7_laysFlat_0 12 rfl rfl)
theorem dX7_laysFlat_13 : decode cX7_laysFlat 13 = .ok (.aload_n 0, 1) := dk_42 (dk_at dksX7_laysFlat_0 13 rfl rfl)
theorem dX7_laysFlat_14 : decode cX7_laysFlat 14 = .ok (.invokevirtual 253, 3) := dk_182 0 253 (dk_at dksX7_laysFlat_0 14 rfl rfl)
theorem dX7_laysFlat_17 : decode cX7_laysFlat 17 = .ok (.if_icmp .ge 35, 3) := dk_162 0 35 (dk_at dksX7_laysFlat_0 17 rfl rfl)
theorem dX7_laysFlat_20 : decode cX7_laysFlat 20 = .ok (.aload_n 0, 1) := dk_42 (dk_at dksX7_laysFlat_0 20 rfl rfl)
theorem dX7_laysFlat_21 : decode cX7_laysFlat 21 = .ok (.getfield 30, 3) := dk_180 0 30 (dk_at dksX7_laysFlat_0 21 rfl rfl)
theorem dX7_laysFlat_24 : decode cX7_laysFlat 24 = .ok (.iconst 1, 1) := dk_4 (dk_at dksX7_laysFlat_1 0 rfl rfl)
theorem dX7_laysFlat_25 : decode cX7_laysFlat 25 = .ok (.iload_n 1, 1) := dk_27 (dk_at dksX7_laysFlat_1 1 rfl rfl)
theorem dX7_laysFlat_26 : decode cX7_laysFlat 26 = .ok (.iadd, 1) := dk_96 (dk_at dksX7_laysFlat_1 2 rfl rfl)
theorem dX7_laysFlat_27 : decode cX7_laysFlat 27 = .ok (.iconst 1, 1) := dk_4 (dk_at dksX7_laysFlat_1 3 rfl rfl)
theorem dX7_laysFlat_28 : decode cX7_laysFlat 28 = .ok (.iastore, 1) := dk_79 (dk_at dksX7_laysFlat_1 4 rfl rfl)
theorem dX7_laysFlat_29 : decode cX7_laysFlat 29 = .ok (.aload_n 0, 1) := dk_42 (dk_at dksX7_laysFlat_1 5 rfl rfl)
theorem dX7_laysFlat_30 : decode cX7_laysFlat 30 = .ok (.getfield 30, 3) := dk_180 0 30 (dk_at dksX7_laysFlat_1 6 rfl rfl)
theorem dX7_laysFlat_33 : decode cX7_laysFlat 33 = .ok (.bipush 7, 2) := dk_16 7 (dk_at dksX7_laysFlat_1 9 rfl rfl)
theorem dX7_laysFlat_35 : decode cX7_laysFlat 35 = .ok (.bipush 6, 2) := dk_16 6 (dk_at dksX7_laysFlat_1 11 rfl rfl)
theorem dX7_laysFlat_37 : decode cX7_laysFlat 37 = .ok (.iload_n 1, 1) := dk_27 (dk_at dksX7_laysFlat_1 13 rfl rfl)
theorem dX7_laysFlat_38 : decode cX7_laysFlat 38 = .ok (.imul, 1) := dk_104 (dk_at dksX7_laysFlat_1 14 rfl rfl)
theorem dX7_laysFlat_39 : decode cX7_laysFlat 39 = .ok (.iadd, 1) := dk_96 (dk_at dksX7_laysFlat_1 15 rfl rfl)
theorem dX7_laysFlat_40 : decode cX7_laysFlat 40 = .ok (.iconst 2, 1) := dk_5 (dk_at dksX7_laysFlat_1 16 rfl rfl)
theorem dX7_laysFlat_41 : decode cX7_laysFlat 41 = .ok (.iload_n 1, 1) := dk_27 (dk_at dksX7_laysFlat_1 17 rfl rfl)
theorem dX7_laysFlat_42 : decode cX7_laysFlat 42 = .ok (.imul, 1) := dk_104 (dk_at dksX7_laysFlat_1 18 rfl rfl)
theorem dX7_laysFlat_43 : decode cX7_laysFlat 43 = .ok (.iconst 1, 1) := dk_4 (dk_at dksX7_laysFlat_1 19 rfl rfl)
theorem dX7_laysFlat_44 : decode cX7_laysFlat 44 = .ok (.iadd, 1) := dk_96 (dk_at dksX7_laysFlat_1 20 rfl rfl)
theorem dX7_laysFlat_45 : decode cX7_laysFlat 45 = .ok (.iastore, 1) := dk_79 (dk_at dksX7_laysFlat_1 21 rfl rfl)
theorem dX7_laysFlat_46 : decode cX7_laysFlat 46 = .ok (.iinc 1 1, 3) := dk_132 1 1 (dk_at dksX7_laysFlat_2 0 rfl rfl)
theorem dX7_laysFlat_49 : decode cX7_laysFlat 49 = .ok (.goto (-37), 3) := dk_167 255 219 (dk_at dksX7_laysFlat_2 3 rfl rfl)
theorem dX7_laysFlat_52 : decode cX7_laysFlat 52 = .ok (.return_, 1) := dk_177 (dk_at dksX7_laysFlat_2 6 rfl rfl)
abbrev cX7_folds : ByteArray := prog_43_method_45_code
def yX7_folds : MethodName := ⟨RX7, "folds", "(III)V"⟩
def dkwX7_folds_9 : List UInt8 := [184, 0, 138, 153, 0, 13, 42, 27, 21, 10, 4, 21, 8, 182, 1, 17, 132, 8, 1, 167, 255, 85, 177]
abbrev dktX7_folds_9 : List UInt8 := dkwX7_folds_9 ++ []
def dkwX7_folds_8 : List UInt8 := [27, 21, 11, 3, 21, 8, 182, 1, 17, 21, 7, 154, 0, 28, 21, 10, 133, 9, 21, 4, 4, 100, 133]
abbrev dktX7_folds_8 : List UInt8 := dkwX7_folds_8 ++ dktX7_folds_9
def dkwX7_folds_7 : List UInt8 := [21, 10, 4, 21, 8, 182, 1, 17, 21, 11, 133, 9, 21, 4, 4, 100, 133, 184, 0, 138, 153, 0, 13, 42]
abbrev dktX7_folds_7 : List UInt8 := dkwX7_folds_7 ++ dktX7_folds_8
def dkwX7_folds_6 : List UInt8 := [54, 11, 21, 7, 153, 0, 28, 21, 10, 133, 9, 21, 4, 4, 100, 133, 184, 0, 138, 153, 0, 13, 42, 27]
abbrev dktX7_folds_6 : List UInt8 := dkwX7_folds_6 ++ dktX7_folds_7
def dkwX7_folds_5 : List UInt8 := [21, 9, 96, 54, 10, 21, 6, 153, 0, 10, 28, 21, 9, 96, 167, 0, 9, 28, 4, 100, 21, 9, 100]
abbrev dktX7_folds_5 : List UInt8 := dkwX7_folds_5 ++ dktX7_folds_6
def dkwX7_folds_4 : List UInt8 := [21, 5, 4, 100, 21, 8, 100, 54, 9, 21, 6, 153, 0, 12, 28, 4, 100, 21, 9, 100, 167, 0, 7, 28]
abbrev dktX7_folds_4 : List UInt8 := dkwX7_folds_4 ++ dktX7_folds_5
def dkwX7_folds_3 : List UInt8 := [16, 43, 27, 4, 96, 104, 4, 96, 21, 8, 96, 3, 79, 21, 6, 153, 0, 8, 21, 8, 167, 0, 10]
abbrev dktX7_folds_3 : List UInt8 := dkwX7_folds_3 ++ dktX7_folds_4
def dkwX7_folds_2 : List UInt8 := [16, 43, 27, 4, 96, 104, 21, 5, 79, 3, 54, 8, 21, 8, 21, 5, 162, 0, 170, 42, 180, 0, 30]
abbrev dktX7_folds_2 : List UInt8 := dkwX7_folds_2 ++ dktX7_folds_3
def dkwX7_folds_1 : List UInt8 := [167, 0, 4, 3, 54, 6, 29, 5, 112, 4, 160, 0, 7, 4, 167, 0, 4, 3, 54, 7, 42, 180, 0, 30]
abbrev dktX7_folds_1 : List UInt8 := dkwX7_folds_1 ++ dktX7_folds_2
def dkwX7_folds_0 : List UInt8 := [42, 27, 182, 1, 0, 54, 4, 28, 21, 4, 28, 100, 184, 1, 12, 54, 5, 29, 5, 162, 0, 7, 4]
abbrev dktX7_folds_0 : List UInt8 := dkwX7_folds_0 ++ dktX7_folds_1
theorem dksX7_folds_0 : cX7_folds.data.toList.drop 0 = dktX7_folds_0 := by decide +kernel
theorem dksX7_folds_1 : cX7_folds.data.toList.drop 23 = dktX7_folds_1 := dk_seg dksX7_folds_0 23 rfl rfl
theorem dksX7_folds_2 : cX7_folds.data.toList.drop 47 = dktX7_folds_2 := dk_seg dksX7_folds_1 24 rfl rfl
theorem dksX7_folds_3 : cX7_folds.data.toList.drop 70 = dktX7_folds_3 := dk_seg dksX7_folds_2 23 rfl rfl
theorem dksX7_folds_4 : cX7_folds.data.toList.drop 93 = dktX7_folds_4 := dk_seg dksX7_folds_3 23 rfl rfl
theorem dksX7_folds_5 : cX7_folds.data.toList.drop 117 = dktX7_folds_5 := dk_seg dksX7_folds_4 24 rfl rfl
theorem dksX7_folds_6 : cX7_folds.data.toList.drop 140 = dktX7_folds_6 := dk_seg dksX7_folds_5 23 rfl rfl
theorem dksX7_folds_7 : cX7_folds.data.toList.drop 164 = dktX7_folds_7 := dk_seg dksX7_folds_6 24 rfl rfl
theorem dksX7_folds_8 : cX7_folds.data.toList.drop 188 = dktX7_folds_8 := dk_seg dksX7_folds_7 24 rfl rfl
theorem dksX7_folds_9 : cX7_folds.data.toList.drop 211 = dktX7_folds_9 := dk_seg dksX7_folds_8 23 rfl rfl
theorem dX7_folds_0 : decode cX7_folds 0 = .ok (.aload_n 0, 1) := dk_42 (dk_at dksX7_folds_0 0 rfl rfl)
theorem dX7_folds_1 : decode cX7_folds 1 = .ok (.iload_n 1, 1) := dk_27 (dk_at dksX7_folds_0 1 rfl rfl)
theorem dX7_folds_2 : decode cX7_folds 2 = .ok (.invokevirtual 256, 3) := dk_182 1 0 (dk_at dksX7_folds_0 2 rfl rfl)
theorem dX7_folds_5 : decode cX7_folds 5 = .ok (.istore 4, 2) := dk_54 4 (dk_at dksX7_folds_0 5 rfl rfl)
theorem dX7_folds_7 : decode cX7_folds 7 = .ok (.iload_n 2, 1) := dk_28 (dk_at dksX7_folds_0 7 rfl rfl)
theorem dX7_folds_8 : decode cX7_folds 8 = .ok (.iload 4, 2) := dk_21 4 (dk_at dksX7_folds_0 8 rfl rfl)
theorem dX7_folds_10 : decode cX7_folds 10 = .ok (.iload_n 2, 1) := dk_28 (dk_at dksX7_folds_0 10 rfl rfl)
theorem dX7_folds_11 : decode cX7_folds 11 = .ok (.isub, 1) := dk_100 (dk_at dksX7_folds_0 11 rfl rfl)
theorem dX7_folds_12 : decode cX7_folds 12 = .ok (.invokestatic 268, 3) := dk_184 1 12 (dk_at dksX7_folds_0 12 rfl rfl)
theorem dX7_folds_15 : decode cX7_folds 15 = .ok (.istore 5, 2) := dk_54 5 (dk_at dksX7_folds_0 15 rfl rfl)
theorem dX7_folds_17 : decode cX7_folds 17 = .ok (.iload_n 3, 1) := dk_29 (dk_at dksX7_folds_0 17 rfl rfl)
theorem dX7_folds_18 : decode cX7_folds 18 = .ok (.iconst 2, 1) := dk_5 (dk_at dksX7_folds_0 18 rfl rfl)
theorem dX7_folds_19 : decode cX7_folds 19 = .ok (.if_icmp .ge 7, 3) := dk_162 0 7 (dk_at dksX7_folds_0 19 rfl rfl)
theorem dX7_folds_22 : decode cX7_folds 22 = .ok (.iconst 1, 1) := dk_4 (dk_at dksX7_folds_0 22 rfl rfl)
theorem dX7_folds_23 : decode cX7_folds 23 = .ok (.goto 4, 3) := dk_167 0 4 (dk_at dksX7_folds_1 0 rfl rfl)
theorem dX7_folds_26 : decode cX7_folds 26 = .ok (.iconst 0, 1) := dk_3 (dk_at dksX7_folds_1 3 rfl rfl)
theorem dX7_folds_27 : decode cX7_folds 27 = .ok (.istore 6, 2) := dk_54 6 (dk_at dksX7_folds_1 4 rfl rfl)
theorem dX7_folds_29 : decode cX7_folds 29 = .ok (.iload_n 3, 1) := dk_29 (dk_at dksX7_folds_1 6 rfl rfl)
theorem dX7_folds_30 : decode cX7_folds 30 = .ok (.iconst 2, 1) := dk_5 (dk_at dksX7_folds_1 7 rfl rfl)
theorem dX7_folds_31 : decode cX7_folds 31 = .ok (.irem, 1) := dk_112 (dk_at dksX7_folds_1 8 rfl rfl)
theorem dX7_folds_32 : decode cX7_folds 32 = .ok (.iconst 1, 1) := dk_4 (dk_at dksX7_folds_1 9 rfl rfl)
theorem dX7_folds_33 : decode cX7_folds 33 = .ok (.if_icmp .ne 7, 3) := dk_160 0 7 (dk_at dksX7_folds_1 10 rfl rfl)
theorem dX7_folds_36 : decode cX7_folds 36 = .ok (.iconst 1, 1) := dk_4 (dk_at dksX7_folds_1 13 rfl rfl)
theorem dX7_folds_37 : decode cX7_folds 37 = .ok (.goto 4, 3) := dk_167 0 4 (dk_at dksX7_folds_1 14 rfl rfl)
theorem dX7_folds_40 : decode cX7_folds 40 = .ok (.iconst 0, 1) := dk_3 (dk_at dksX7_folds_1 17 rfl rfl)
theorem dX7_folds_41 : decode cX7_folds 41 = .ok (.istore 7, 2) := dk_54 7 (dk_at dksX7_folds_1 18 rfl rfl)
theorem dX7_folds_43 : decode cX7_folds 43 = .ok (.aload_n 0, 1) := dk_42 (dk_at dksX7_folds_1 20 rfl rfl)
theorem dX7_folds_44 : decode cX7_folds 44 = .ok (.getfield 30, 3) := dk_180 0 30 (dk_at dksX7_folds_1 21 rfl rfl)
theorem dX7_folds_47 : decode cX7_folds 47 = .ok (.bipush 43, 2) := dk_16 43 (dk_at dksX7_folds_2 0 rfl rfl)
theorem dX7_folds_49 : decode cX7_folds 49 = .ok (.iload_n 1, 1) := dk_27 (dk_at dksX7_folds_2 2 rfl rfl)
theorem dX7_folds_50 : decode cX7_folds 50 = .ok (.iconst 1, 1) := dk_4 (dk_at dksX7_folds_2 3 rfl rfl)
theorem dX7_folds_51 : decode cX7_folds 51 = .ok (.iadd, 1) := dk_96 (dk_at dksX7_folds_2 4 rfl rfl)
theorem dX7_folds_52 : decode cX7_folds 52 = .ok (.imul, 1) := dk_104 (dk_at dksX7_folds_2 5 rfl rfl)
theorem dX7_folds_53 : decode cX7_folds 53 = .ok (.iload 5, 2) := dk_21 5 (dk_at dksX7_folds_2 6 rfl rfl)
theorem dX7_folds_55 : decode cX7_folds 55 = .ok (.iastore, 1) := dk_79 (dk_at dksX7_folds_2 8 rfl rfl)
theorem dX7_folds_56 : decode cX7_folds 56 = .ok (.iconst 0, 1) := dk_3 (dk_at dksX7_folds_2 9 rfl rfl)
theorem dX7_folds_57 : decode cX7_folds 57 = .ok (.istore 8, 2) := dk_54 8 (dk_at dksX7_folds_2 10 rfl rfl)
theorem dX7_folds_59 : decode cX7_folds 59 = .ok (.iload 8, 2) := dk_21 8 (dk_at dksX7_folds_2 12 rfl rfl)
theorem dX7_folds_61 : decode cX7_folds 61 = .ok (.iload 5, 2) := dk_21 5 (dk_at dksX7_folds_2 14 rfl rfl)
theorem dX7_folds_63 : decode cX7_folds 63 = .ok (.if_icmp .ge 170, 3) := dk_162 0 170 (dk_at dksX7_folds_2 16 rfl rfl)
theorem dX7_folds_66 : decode cX7_folds 66 = .ok (.aload_n 0, 1) := dk_42 (dk_at dksX7_folds_2 19 rfl rfl)
theorem dX7_folds_67 : decode cX7_folds 67 = .ok (.getfield 30, 3) := dk_180 0 30 (dk_at dksX7_folds_2 20 rfl rfl)
theorem dX7_folds_70 : decode cX7_folds 70 = .ok (.bipush 43, 2) := dk_16 43 (dk_at dksX7_folds_3 0 rfl rfl)
theorem dX7_folds_72 : decode cX7_folds 72 = .ok (.iload_n 1, 1) := dk_27 (dk_at dksX7_folds_3 2 rfl rfl)
theorem dX7_folds_73 : decode cX7_folds 73 = .ok (.iconst 1, 1) := dk_4 (dk_at dksX7_folds_3 3 rfl rfl)
theorem dX7_folds_74 : decode cX7_folds 74 = .ok (.iadd, 1) := dk_96 (dk_at dksX7_folds_3 4 rfl rfl)
theorem dX7_folds_75 : decode cX7_folds 75 = .ok (.imul, 1) := dk_104 (dk_at dksX7_folds_3 5 rfl rfl)
theorem dX7_folds_76 : decode cX7_folds 76 = .ok (.iconst 1, 1) := dk_4 (dk_at dksX7_folds_3 6 rfl rfl)
theorem dX7_folds_77 : decode cX7_folds 77 = .ok (.iadd, 1) := dk_96 (dk_at dksX7_folds_3 7 rfl rfl)
theorem dX7_folds_78 : decode cX7_folds 78 = .ok (.iload 8, 2) := dk_21 8 (dk_at dksX7_folds_3 8 rfl rfl)
theorem dX7_folds_80 : decode cX7_folds 80 = .ok (.iadd, 1) := dk_96 (dk_at dksX7_folds_3 10 rfl rfl)
theorem dX7_folds_81 : decode cX7_folds 81 = .ok (.iconst 0, 1) := dk_3 (dk_at dksX7_folds_3 11 rfl rfl)
theorem dX7_folds_82 : decode cX7_folds 82 = .ok (.iastore, 1) := dk_79 (dk_at dksX7_folds_3 12 rfl rfl)
theorem dX7_folds_83 : decode cX7_folds 83 = .ok (.iload 6, 2) := dk_21 6 (dk_at dksX7_folds_3 13 rfl rfl)
theorem dX7_folds_85 : decode cX7_folds 85 = .ok (.ifCond .eq 8, 3) := dk_153 0 8 (dk_at dksX7_folds_3 15 rfl rfl)
theorem dX7_folds_88 : decode cX7_folds 88 = .ok (.iload 8, 2) := dk_21 8 (dk_at dksX7_folds_3 18 rfl rfl)
theorem dX7_folds_90 : decode cX7_folds 90 = .ok (.goto 10, 3) := dk_167 0 10 (dk_at dksX7_folds_3 20 rfl rfl)
theorem dX7_folds_93 : decode cX7_folds 93 = .ok (.iload 5, 2) := dk_21 5 (dk_at dksX7_folds_4 0 rfl rfl)
theorem dX7_folds_95 : decode cX7_folds 95 = .ok (.iconst 1, 1) := dk_4 (dk_at dksX7_folds_4 2 rfl rfl)
theorem dX7_folds_96 : decode cX7_folds 96 = .ok (.isub, 1) := dk_100 (dk_at dksX7_folds_4 3 rfl rfl)
theorem dX7_folds_97 : decode cX7_folds 97 = .ok (.iload 8, 2) := dk_21 8 (dk_at dksX7_folds_4 4 rfl rfl)
theorem dX7_folds_99 : decode cX7_folds 99 = .ok (.isub, 1) := dk_100 (dk_at dksX7_folds_4 6 rfl rfl)
theorem dX7_folds_100 : decode cX7_folds 100 = .ok (.istore 9, 2) := dk_54 9 (dk_at dksX7_folds_4 7 rfl rfl)
theorem dX7_folds_102 : decode cX7_folds 102 = .ok (.iload 6, 2) := dk_21 6 (dk_at dksX7_folds_4 9 rfl rfl)
theorem dX7_folds_104 : decode cX7_folds 104 = .ok (.ifCond .eq 12, 3) := dk_153 0 12 (dk_at dksX7_folds_4 11 rfl rfl)
theorem dX7_folds_107 : decode cX7_folds 107 = .ok (.iload_n 2, 1) := dk_28 (dk_at dksX7_folds_4 14 rfl rfl)
theorem dX7_folds_108 : decode cX7_folds 108 = .ok (.iconst 1, 1) := dk_4 (dk_at dksX7_folds_4 15 rfl rfl)
theorem dX7_folds_109 : decode cX7_folds 109 = .ok (.isub, 1) := dk_100 (dk_at dksX7_folds_4 16 rfl rfl)
theorem dX7_folds_110 : decode cX7_folds 110 = .ok (.iload 9, 2) := dk_21 9 (dk_at dksX7_folds_4 17 rfl rfl)
theorem dX7_folds_112 : decode cX7_folds 112 = .ok (.isub, 1) := dk_100 (dk_at dksX7_folds_4 19 rfl rfl)
theorem dX7_folds_113 : decode cX7_folds 113 = .ok (.goto 7, 3) := dk_167 0 7 (dk_at dksX7_folds_4 20 rfl rfl)
theorem dX7_folds_116 : decode cX7_folds 116 = .ok (.iload_n 2, 1) := dk_28 (dk_at dksX7_folds_4 23 rfl rfl)
theorem dX7_folds_117 : decode cX7_folds 117 = .ok (.iload 9, 2) := dk_21 9 (dk_at dksX7_folds_5 0 rfl rfl)
theorem dX7_folds_119 : decode cX7_folds 119 = .ok (.iadd, 1) := dk_96 (dk_at dksX7_folds_5 2 rfl rfl)
theorem dX7_folds_120 : decode cX7_folds 120 = .ok (.istore 10, 2) := dk_54 10 (dk_at dksX7_folds_5 3 rfl rfl)
theorem dX7_folds_122 : decode cX7_folds 122 = .ok (.iload 6, 2) := dk_21 6 (dk_at dksX7_folds_5 5 rfl rfl)
theorem dX7_folds_124 : decode cX7_folds 124 = .ok (.ifCond .eq 10, 3) := dk_153 0 10 (dk_at dksX7_folds_5 7 rfl rfl)
theorem dX7_folds_127 : decode cX7_folds 127 = .ok (.iload_n 2, 1) := dk_28 (dk_at dksX7_folds_5 10 rfl rfl)
theorem dX7_folds_128 : decode cX7_folds 128 = .ok (.iload 9, 2) := dk_21 9 (dk_at dksX7_folds_5 11 rfl rfl)
theorem dX7_folds_130 : decode cX7_folds 130 = .ok (.iadd, 1) := dk_96 (dk_at dksX7_folds_5 13 rfl rfl)
theorem dX7_folds_131 : decode cX7_folds 131 = .ok (.goto 9, 3) := dk_167 0 9 (dk_at dksX7_folds_5 14 rfl rfl)
theorem dX7_folds_134 : decode cX7_folds 134 = .ok (.iload_n 2, 1) := dk_28 (dk_at dksX7_folds_5 17 rfl rfl)
theorem dX7_folds_135 : decode cX7_folds 135 = .ok (.iconst 1, 1) := dk_4 (dk_at dksX7_folds_5 18 rfl rfl)
theorem dX7_folds_136 : decode cX7_folds 136 = .ok (.isub, 1) := dk_100 (dk_at dksX7_folds_5 19 rfl rfl)
theorem dX7_folds_137 : decode cX7_folds 137 = .ok (.iload 9, 2) := dk_21 9 (dk_at dksX7_folds_5 20 rfl rfl)
theorem dX7_folds_139 : decode cX7_folds 139 = .ok (.isub, 1) := dk_100 (dk_at dksX7_folds_5 22 rfl rfl)
theorem dX7_folds_140 : decode cX7_folds 140 = .ok (.istore 11, 2) := dk_54 11 (dk_at dksX7_folds_6 0 rfl rfl)
theorem dX7_folds_142 : decode cX7_folds 142 = .ok (.iload 7, 2) := dk_21 7 (dk_at dksX7_folds_6 2 rfl rfl)
theorem dX7_folds_144 : decode cX7_folds 144 = .ok (.ifCond .eq 28, 3) := dk_153 0 28 (dk_at dksX7_folds_6 4 rfl rfl)
theorem dX7_folds_147 : decode cX7_folds 147 = .ok (.iload 10, 2) := dk_21 10 (dk_at dksX7_folds_6 7 rfl rfl)
theorem dX7_folds_149 : decode cX7_folds 149 = .ok (.i2l, 1) := dk_133 (dk_at dksX7_folds_6 9 rfl rfl)
theorem dX7_folds_150 : decode cX7_folds 150 = .ok (.lconst 0, 1) := dk_9 (dk_at dksX7_folds_6 10 rfl rfl)
theorem dX7_folds_151 : decode cX7_folds 151 = .ok (.iload 4, 2) := dk_21 4 (dk_at dksX7_folds_6 11 rfl rfl)
theorem dX7_folds_153 : decode cX7_folds 153 = .ok (.iconst 1, 1) := dk_4 (dk_at dksX7_folds_6 13 rfl rfl)
theorem dX7_folds_154 : decode cX7_folds 154 = .ok (.isub, 1) := dk_100 (dk_at dksX7_folds_6 14 rfl rfl)
theorem dX7_folds_155 : decode cX7_folds 155 = .ok (.i2l, 1) := dk_133 (dk_at dksX7_folds_6 15 rfl rfl)
theorem dX7_folds_156 : decode cX7_folds 156 = .ok (.invokestatic 138, 3) := dk_184 0 138 (dk_at dksX7_folds_6 16 rfl rfl)
theorem dX7_folds_159 : decode cX7_folds 159 = .ok (.ifCond .eq 13, 3) := dk_153 0 13 (dk_at dksX7_folds_6 19 rfl rfl)
theorem dX7_folds_162 : decode cX7_folds 162 = .ok (.aload_n 0, 1) := dk_42 (dk_at dksX7_folds_6 22 rfl rfl)
theorem dX7_folds_163 : decode cX7_folds 163 = .ok (.iload_n 1, 1) := dk_27 (dk_at dksX7_folds_6 23 rfl rfl)
theorem dX7_folds_164 : decode cX7_folds 164 = .ok (.iload 10, 2) := dk_21 10 (dk_at dksX7_folds_7 0 rfl rfl)
theorem dX7_folds_166 : decode cX7_folds 166 = .ok (.iconst 1, 1) := dk_4 (dk_at dksX7_folds_7 2 rfl rfl)
theorem dX7_folds_167 : decode cX7_folds 167 = .ok (.iload 8, 2) := dk_21 8 (dk_at dksX7_folds_7 3 rfl rfl)
theorem dX7_folds_169 : decode cX7_folds 169 = .ok (.invokevirtual 273, 3) := dk_182 1 17 (dk_at dksX7_folds_7 5 rfl rfl)
theorem dX7_folds_172 : decode cX7_folds 172 = .ok (.iload 11, 2) := dk_21 11 (dk_at dksX7_folds_7 8 rfl rfl)
theorem dX7_folds_174 : decode cX7_folds 174 = .ok (.i2l, 1) := dk_133 (dk_at dksX7_folds_7 10 rfl rfl)
theorem dX7_folds_175 : decode cX7_folds 175 = .ok (.lconst 0, 1) := dk_9 (dk_at dksX7_folds_7 11 rfl rfl)
theorem dX7_folds_176 : decode cX7_folds 176 = .ok (.iload 4, 2) := dk_21 4 (dk_at dksX7_folds_7 12 rfl rfl)
theorem dX7_folds_178 : decode cX7_folds 178 = .ok (.iconst 1, 1) := dk_4 (dk_at dksX7_folds_7 14 rfl rfl)
theorem dX7_folds_179 : decode cX7_folds 179 = .ok (.isub, 1) := dk_100 (dk_at dksX7_folds_7 15 rfl rfl)
theorem dX7_folds_180 : decode cX7_folds 180 = .ok (.i2l, 1) := dk_133 (dk_at dksX7_folds_7 16 rfl rfl)
theorem dX7_folds_181 : decode cX7_folds 181 = .ok (.invokestatic 138, 3) := dk_184 0 138 (dk_at dksX7_folds_7 17 rfl rfl)
theorem dX7_folds_184 : decode cX7_folds 184 = .ok (.ifCond .eq 13, 3) := dk_153 0 13 (dk_at dksX7_folds_7 20 rfl rfl)
theorem dX7_folds_187 : decode cX7_folds 187 = .ok (.aload_n 0, 1) := dk_42 (dk_at dksX7_folds_7 23 rfl rfl)
theorem dX7_folds_188 : decode cX7_folds 188 = .ok (.iload_n 1, 1) := dk_27 (dk_at dksX7_folds_8 0 rfl rfl)
theorem dX7_folds_189 : decode cX7_folds 189 = .ok (.iload 11, 2) := dk_21 11 (dk_at dksX7_folds_8 1 rfl rfl)
theorem dX7_folds_191 : decode cX7_folds 191 = .ok (.iconst 0, 1) := dk_3 (dk_at dksX7_folds_8 3 rfl rfl)
theorem dX7_folds_192 : decode cX7_folds 192 = .ok (.iload 8, 2) := dk_21 8 (dk_at dksX7_folds_8 4 rfl rfl)
theorem dX7_folds_194 : decode cX7_folds 194 = .ok (.invokevirtual 273, 3) := dk_182 1 17 (dk_at dksX7_folds_8 6 rfl rfl)
theorem dX7_folds_197 : decode cX7_folds 197 = .ok (.iload 7, 2) := dk_21 7 (dk_at dksX7_folds_8 9 rfl rfl)
theorem dX7_folds_199 : decode cX7_folds 199 = .ok (.ifCond .ne 28, 3) := dk_154 0 28 (dk_at dksX7_folds_8 11 rfl rfl)
theorem dX7_folds_202 : decode cX7_folds 202 = .ok (.iload 10, 2) := dk_21 10 (dk_at dksX7_folds_8 14 rfl rfl)
theorem dX7_folds_204 : decode cX7_folds 204 = .ok (.i2l, 1) := dk_133 (dk_at dksX7_folds_8 16 rfl rfl)
theorem dX7_folds_205 : decode cX7_folds 205 = .ok (.lconst 0, 1) := dk_9 (dk_at dksX7_folds_8 17 rfl rfl)
theorem dX7_folds_206 : decode cX7_folds 206 = .ok (.iload 4, 2) := dk_21 4 (dk_at dksX7_folds_8 18 rfl rfl)
theorem dX7_folds_208 : decode cX7_folds 208 = .ok (.iconst 1, 1) := dk_4 (dk_at dksX7_folds_8 20 rfl rfl)
theorem dX7_folds_209 : decode cX7_folds 209 = .ok (.isub, 1) := dk_100 (dk_at dksX7_folds_8 21 rfl rfl)
theorem dX7_folds_210 : decode cX7_folds 210 = .ok (.i2l, 1) := dk_133 (dk_at dksX7_folds_8 22 rfl rfl)
theorem dX7_folds_211 : decode cX7_folds 211 = .ok (.invokestatic 138, 3) := dk_184 0 138 (dk_at dksX7_folds_9 0 rfl rfl)
theorem dX7_folds_214 : decode cX7_folds 214 = .ok (.ifCond .eq 13, 3) := dk_153 0 13 (dk_at dksX7_folds_9 3 rfl rfl)
theorem dX7_folds_217 : decode cX7_folds 217 = .ok (.aload_n 0, 1) := dk_42 (dk_at dksX7_folds_9 6 rfl rfl)
theorem dX7_folds_218 : decode cX7_folds 218 = .ok (.iload_n 1, 1) := dk_27 (dk_at dksX7_folds_9 7 rfl rfl)
theorem dX7_folds_219 : decode cX7_folds 219 = .ok (.iload 10, 2) := dk_21 10 (dk_at dksX7_folds_9 8 rfl rfl)
theorem dX7_folds_221 : decode cX7_folds 221 = .ok (.iconst 1, 1) := dk_4 (dk_at dksX7_folds_9 10 rfl rfl)
theorem dX7_folds_222 : decode cX7_folds 222 = .ok (.iload 8, 2) := dk_21 8 (dk_at dksX7_folds_9 11 rfl rfl)
theorem dX7_folds_224 : decode cX7_folds 224 = .ok (.invokevirtual 273, 3) := dk_182 1 17 (dk_at dksX7_folds_9 13 rfl rfl)
theorem dX7_folds_227 : decode cX7_folds 227 = .ok (.iinc 8 1, 3) := dk_132 8 1 (dk_at dksX7_folds_9 16 rfl rfl)
theorem dX7_folds_230 : decode cX7_folds 230 = .ok (.goto (-171), 3) := dk_167 255 85 (dk_at dksX7_folds_9 19 rfl rfl)
theorem dX7_folds_233 : decode cX7_folds 233 = .ok (.return_, 1) := dk_177 (dk_at dksX7_folds_9 22 rfl rfl)
abbrev cX7_columnsAt : ByteArray := prog_43_method_39_code
def yX7_columnsAt : MethodName := ⟨RX7, "columnsAt", "(I)I"⟩
def dkwX7_columnsAt_0 : List UInt8 := [42, 180, 0, 30, 16, 43, 27, 104, 46, 172]
abbrev dktX7_columnsAt_0 : List UInt8 := dkwX7_columnsAt_0 ++ []
theorem dksX7_columnsAt_0 : cX7_columnsAt.data.toList.drop 0 = dktX7_columnsAt_0 := by decide +kernel
theorem dX7_columnsAt_0 : decode cX7_columnsAt 0 = .ok (.aload_n 0, 1) := dk_42 (dk_at dksX7_columnsAt_0 0 rfl rfl)
theorem dX7_columnsAt_1 : decode cX7_columnsAt 1 = .ok (.getfield 30, 3) := dk_180 0 30 (dk_at dksX7_columnsAt_0 1 rfl rfl)
theorem dX7_columnsAt_4 : decode cX7_columnsAt 4 = .ok (.bipush 43, 2) := dk_16 43 (dk_at dksX7_columnsAt_0 4 rfl rfl)
theorem dX7_columnsAt_6 : decode cX7_columnsAt 6 = .ok (.iload_n 1, 1) := dk_27 (dk_at dksX7_columnsAt_0 6 rfl rfl)
theorem dX7_columnsAt_7 : decode cX7_columnsAt 7 = .ok (.imul, 1) := dk_104 (dk_at dksX7_columnsAt_0 7 rfl rfl)
theorem dX7_columnsAt_8 : decode cX7_columnsAt 8 = .ok (.iaload, 1) := dk_46 (dk_at dksX7_columnsAt_0 8 rfl rfl)
theorem dX7_columnsAt_9 : decode cX7_columnsAt 9 = .ok (.ireturn, 1) := dk_172 (dk_at dksX7_columnsAt_0 9 rfl rfl)
abbrev cX7_puts : ByteArray := prog_43_method_44_code
def yX7_puts : MethodName := ⟨RX7, "puts", "(IIZI)V"⟩
def dkwX7_puts_4 : List UInt8 := [21, 5, 4, 96, 21, 4, 96, 92, 46, 4, 96, 79, 132, 7, 1, 167, 255, 167, 177]
abbrev dktX7_puts_4 : List UInt8 := dkwX7_puts_4 ++ []
def dkwX7_puts_3 : List UInt8 := [21, 4, 104, 96, 42, 180, 0, 30, 21, 5, 4, 96, 21, 4, 96, 46, 96, 21, 8, 79, 42, 180, 0, 30]
abbrev dktX7_puts_3 : List UInt8 := dkwX7_puts_3 ++ dktX7_puts_4
def dkwX7_puts_2 : List UInt8 := [167, 0, 11, 42, 27, 28, 21, 7, 182, 1, 8, 54, 8, 42, 180, 0, 30, 21, 5, 16, 7, 96, 16, 6]
abbrev dktX7_puts_2 : List UInt8 := dkwX7_puts_2 ++ dktX7_puts_3
def dkwX7_puts_1 : List UInt8 := [162, 0, 88, 29, 153, 0, 21, 42, 27, 28, 21, 6, 4, 100, 21, 7, 100, 182, 1, 8, 4, 130]
abbrev dktX7_puts_1 : List UInt8 := dkwX7_puts_1 ++ dktX7_puts_2
def dkwX7_puts_0 : List UInt8 := [16, 43, 27, 4, 96, 104, 54, 5, 42, 27, 28, 182, 1, 5, 54, 6, 3, 54, 7, 21, 7, 21, 6]
abbrev dktX7_puts_0 : List UInt8 := dkwX7_puts_0 ++ dktX7_puts_1
theorem dksX7_puts_0 : cX7_puts.data.toList.drop 0 = dktX7_puts_0 := by decide +kernel
theorem dksX7_puts_1 : cX7_puts.data.toList.drop 23 = dktX7_puts_1 := dk_seg dksX7_puts_0 23 rfl rfl
theorem dksX7_puts_2 : cX7_puts.data.toList.drop 45 = dktX7_puts_2 := dk_seg dksX7_puts_1 22 rfl rfl
theorem dksX7_puts_3 : cX7_puts.data.toList.drop 69 = dktX7_puts_3 := dk_seg dksX7_puts_2 24 rfl rfl
theorem dksX7_puts_4 : cX7_puts.data.toList.drop 93 = dktX7_puts_4 := dk_seg dksX7_puts_3 24 rfl rfl
theorem dX7_puts_0 : decode cX7_puts 0 = .ok (.bipush 43, 2) := dk_16 43 (dk_at dksX7_puts_0 0 rfl rfl)
theorem dX7_puts_2 : decode cX7_puts 2 = .ok (.iload_n 1, 1) := dk_27 (dk_at dksX7_puts_0 2 rfl rfl)
theorem dX7_puts_3 : decode cX7_puts 3 = .ok (.iconst 1, 1) := dk_4 (dk_at dksX7_puts_0 3 rfl rfl)
theorem dX7_puts_4 : decode cX7_puts 4 = .ok (.iadd, 1) := dk_96 (dk_at dksX7_puts_0 4 rfl rfl)
theorem dX7_puts_5 : decode cX7_puts 5 = .ok (.imul, 1) := dk_104 (dk_at dksX7_puts_0 5 rfl rfl)
theorem dX7_puts_6 : decode cX7_puts 6 = .ok (.istore 5, 2) := dk_54 5 (dk_at dksX7_puts_0 6 rfl rfl)
theorem dX7_puts_8 : decode cX7_puts 8 = .ok (.aload_n 0, 1) := dk_42 (dk_at dksX7_puts_0 8 rfl rfl)
theorem dX7_puts_9 : decode cX7_puts 9 = .ok (.iload_n 1, 1) := dk_27 (dk_at dksX7_puts_0 9 rfl rfl)
theorem dX7_puts_10 : decode cX7_puts 10 = .ok (.iload_n 2, 1) := dk_28 (dk_at dksX7_puts_0 10 rfl rfl)
theorem dX7_puts_11 : decode cX7_puts 11 = .ok (.invokevirtual 261, 3) := dk_182 1 5 (dk_at dksX7_puts_0 11 rfl rfl)
theorem dX7_puts_14 : decode cX7_puts 14 = .ok (.istore 6, 2) := dk_54 6 (dk_at dksX7_puts_0 14 rfl rfl)
theorem dX7_puts_16 : decode cX7_puts 16 = .ok (.iconst 0, 1) := dk_3 (dk_at dksX7_puts_0 16 rfl rfl)
theorem dX7_puts_17 : decode cX7_puts 17 = .ok (.istore 7, 2) := dk_54 7 (dk_at dksX7_puts_0 17 rfl rfl)
theorem dX7_puts_19 : decode cX7_puts 19 = .ok (.iload 7, 2) := dk_21 7 (dk_at dksX7_puts_0 19 rfl rfl)
theorem dX7_puts_21 : decode cX7_puts 21 = .ok (.iload 6, 2) := dk_21 6 (dk_at dksX7_puts_0 21 rfl rfl)
theorem dX7_puts_23 : decode cX7_puts 23 = .ok (.if_icmp .ge 88, 3) := dk_162 0 88 (dk_at dksX7_puts_1 0 rfl rfl)
theorem dX7_puts_26 : decode cX7_puts 26 = .ok (.iload_n 3, 1) := dk_29 (dk_at dksX7_puts_1 3 rfl rfl)
theorem dX7_puts_27 : decode cX7_puts 27 = .ok (.ifCond .eq 21, 3) := dk_153 0 21 (dk_at dksX7_puts_1 4 rfl rfl)
theorem dX7_puts_30 : decode cX7_puts 30 = .ok (.aload_n 0, 1) := dk_42 (dk_at dksX7_puts_1 7 rfl rfl)
theorem dX7_puts_31 : decode cX7_puts 31 = .ok (.iload_n 1, 1) := dk_27 (dk_at dksX7_puts_1 8 rfl rfl)
theorem dX7_puts_32 : decode cX7_puts 32 = .ok (.iload_n 2, 1) := dk_28 (dk_at dksX7_puts_1 9 rfl rfl)
theorem dX7_puts_33 : decode cX7_puts 33 = .ok (.iload 6, 2) := dk_21 6 (dk_at dksX7_puts_1 10 rfl rfl)
theorem dX7_puts_35 : decode cX7_puts 35 = .ok (.iconst 1, 1) := dk_4 (dk_at dksX7_puts_1 12 rfl rfl)
theorem dX7_puts_36 : decode cX7_puts 36 = .ok (.isub, 1) := dk_100 (dk_at dksX7_puts_1 13 rfl rfl)
theorem dX7_puts_37 : decode cX7_puts 37 = .ok (.iload 7, 2) := dk_21 7 (dk_at dksX7_puts_1 14 rfl rfl)
theorem dX7_puts_39 : decode cX7_puts 39 = .ok (.isub, 1) := dk_100 (dk_at dksX7_puts_1 16 rfl rfl)
theorem dX7_puts_40 : decode cX7_puts 40 = .ok (.invokevirtual 264, 3) := dk_182 1 8 (dk_at dksX7_puts_1 17 rfl rfl)
theorem dX7_puts_43 : decode cX7_puts 43 = .ok (.iconst 1, 1) := dk_4 (dk_at dksX7_puts_1 20 rfl rfl)
theorem dX7_puts_44 : decode cX7_puts 44 = .ok (.ixor, 1) := dk_130 (dk_at dksX7_puts_1 21 rfl rfl)
theorem dX7_puts_45 : decode cX7_puts 45 = .ok (.goto 11, 3) := dk_167 0 11 (dk_at dksX7_puts_2 0 rfl rfl)
theorem dX7_puts_48 : decode cX7_puts 48 = .ok (.aload_n 0, 1) := dk_42 (dk_at dksX7_puts_2 3 rfl rfl)
theorem dX7_puts_49 : decode cX7_puts 49 = .ok (.iload_n 1, 1) := dk_27 (dk_at dksX7_puts_2 4 rfl rfl)
theorem dX7_puts_50 : decode cX7_puts 50 = .ok (.iload_n 2, 1) := dk_28 (dk_at dksX7_puts_2 5 rfl rfl)
theorem dX7_puts_51 : decode cX7_puts 51 = .ok (.iload 7, 2) := dk_21 7 (dk_at dksX7_puts_2 6 rfl rfl)
theorem dX7_puts_53 : decode cX7_puts 53 = .ok (.invokevirtual 264, 3) := dk_182 1 8 (dk_at dksX7_puts_2 8 rfl rfl)
theorem dX7_puts_56 : decode cX7_puts 56 = .ok (.istore 8, 2) := dk_54 8 (dk_at dksX7_puts_2 11 rfl rfl)
theorem dX7_puts_58 : decode cX7_puts 58 = .ok (.aload_n 0, 1) := dk_42 (dk_at dksX7_puts_2 13 rfl rfl)
theorem dX7_puts_59 : decode cX7_puts 59 = .ok (.getfield 30, 3) := dk_180 0 30 (dk_at dksX7_puts_2 14 rfl rfl)
theorem dX7_puts_62 : decode cX7_puts 62 = .ok (.iload 5, 2) := dk_21 5 (dk_at dksX7_puts_2 17 rfl rfl)
theorem dX7_puts_64 : decode cX7_puts 64 = .ok (.bipush 7, 2) := dk_16 7 (dk_at dksX7_puts_2 19 rfl rfl)
theorem dX7_puts_66 : decode cX7_puts 66 = .ok (.iadd, 1) := dk_96 (dk_at dksX7_puts_2 21 rfl rfl)
theorem dX7_puts_67 : decode cX7_puts 67 = .ok (.bipush 6, 2) := dk_16 6 (dk_at dksX7_puts_2 22 rfl rfl)
theorem dX7_puts_69 : decode cX7_puts 69 = .ok (.iload 4, 2) := dk_21 4 (dk_at dksX7_puts_3 0 rfl rfl)
theorem dX7_puts_71 : decode cX7_puts 71 = .ok (.imul, 1) := dk_104 (dk_at dksX7_puts_3 2 rfl rfl)
theorem dX7_puts_72 : decode cX7_puts 72 = .ok (.iadd, 1) := dk_96 (dk_at dksX7_puts_3 3 rfl rfl)
theorem dX7_puts_73 : decode cX7_puts 73 = .ok (.aload_n 0, 1) := dk_42 (dk_at dksX7_puts_3 4 rfl rfl)
theorem dX7_puts_74 : decode cX7_puts 74 = .ok (.getfield 30, 3) := dk_180 0 30 (dk_at dksX7_puts_3 5 rfl rfl)
theorem dX7_puts_77 : decode cX7_puts 77 = .ok (.iload 5, 2) := dk_21 5 (dk_at dksX7_puts_3 8 rfl rfl)
theorem dX7_puts_79 : decode cX7_puts 79 = .ok (.iconst 1, 1) := dk_4 (dk_at dksX7_puts_3 10 rfl rfl)
theorem dX7_puts_80 : decode cX7_puts 80 = .ok (.iadd, 1) := dk_96 (dk_at dksX7_puts_3 11 rfl rfl)
theorem dX7_puts_81 : decode cX7_puts 81 = .ok (.iload 4, 2) := dk_21 4 (dk_at dksX7_puts_3 12 rfl rfl)
theorem dX7_puts_83 : decode cX7_puts 83 = .ok (.iadd, 1) := dk_96 (dk_at dksX7_puts_3 14 rfl rfl)
theorem dX7_puts_84 : decode cX7_puts 84 = .ok (.iaload, 1) := dk_46 (dk_at dksX7_puts_3 15 rfl rfl)
theorem dX7_puts_85 : decode cX7_puts 85 = .ok (.iadd, 1) := dk_96 (dk_at dksX7_puts_3 16 rfl rfl)
theorem dX7_puts_86 : decode cX7_puts 86 = .ok (.iload 8, 2) := dk_21 8 (dk_at dksX7_puts_3 17 rfl rfl)
theorem dX7_puts_88 : decode cX7_puts 88 = .ok (.iastore, 1) := dk_79 (dk_at dksX7_puts_3 19 rfl rfl)
theorem dX7_puts_89 : decode cX7_puts 89 = .ok (.aload_n 0, 1) := dk_42 (dk_at dksX7_puts_3 20 rfl rfl)
theorem dX7_puts_90 : decode cX7_puts 90 = .ok (.getfield 30, 3) := dk_180 0 30 (dk_at dksX7_puts_3 21 rfl rfl)
theorem dX7_puts_93 : decode cX7_puts 93 = .ok (.iload 5, 2) := dk_21 5 (dk_at dksX7_puts_4 0 rfl rfl)
theorem dX7_puts_95 : decode cX7_puts 95 = .ok (.iconst 1, 1) := dk_4 (dk_at dksX7_puts_4 2 rfl rfl)
theorem dX7_puts_96 : decode cX7_puts 96 = .ok (.iadd, 1) := dk_96 (dk_at dksX7_puts_4 3 rfl rfl)
theorem dX7_puts_97 : decode cX7_puts 97 = .ok (.iload 4, 2) := dk_21 4 (dk_at dksX7_puts_4 4 rfl rfl)
theorem dX7_puts_99 : decode cX7_puts 99 = .ok (.iadd, 1) := dk_96 (dk_at dksX7_puts_4 6 rfl rfl)
theorem dX7_puts_100 : decode cX7_puts 100 = .ok (.dup2, 1) := dk_92 (dk_at dksX7_puts_4 7 rfl rfl)
theorem dX7_puts_101 : decode cX7_puts 101 = .ok (.iaload, 1) := dk_46 (dk_at dksX7_puts_4 8 rfl rfl)
theorem dX7_puts_102 : decode cX7_puts 102 = .ok (.iconst 1, 1) := dk_4 (dk_at dksX7_puts_4 9 rfl rfl)
theorem dX7_puts_103 : decode cX7_puts 103 = .ok (.iadd, 1) := dk_96 (dk_at dksX7_puts_4 10 rfl rfl)
theorem dX7_puts_104 : decode cX7_puts 104 = .ok (.iastore, 1) := dk_79 (dk_at dksX7_puts_4 11 rfl rfl)
theorem dX7_puts_105 : decode cX7_puts 105 = .ok (.iinc 7 1, 3) := dk_132 7 1 (dk_at dksX7_puts_4 12 rfl rfl)
theorem dX7_puts_108 : decode cX7_puts 108 = .ok (.goto (-89), 3) := dk_167 255 167 (dk_at dksX7_puts_4 15 rfl rfl)
theorem dX7_puts_111 : decode cX7_puts 111 = .ok (.return_, 1) := dk_177 (dk_at dksX7_puts_4 18 rfl rfl)
abbrev cX7_highAt : ByteArray := prog_43_method_40_code
def yX7_highAt : MethodName := ⟨RX7, "highAt", "(II)I"⟩
def dkwX7_highAt_0 : List UInt8 := [42, 180, 0, 30, 16, 43, 27, 104, 4, 96, 28, 96, 46, 172]
abbrev dktX7_highAt_0 : List UInt8 := dkwX7_highAt_0 ++ []
theorem dksX7_highAt_0 : cX7_highAt.data.toList.drop 0 = dktX7_highAt_0 := by decide +kernel
theorem dX7_highAt_0 : decode cX7_highAt 0 = .ok (.aload_n 0, 1) := dk_42 (dk_at dksX7_highAt_0 0 rfl rfl)
theorem dX7_highAt_1 : decode cX7_highAt 1 = .ok (.getfield 30, 3) := dk_180 0 30 (dk_at dksX7_highAt_0 1 rfl rfl)
theorem dX7_highAt_4 : decode cX7_highAt 4 = .ok (.bipush 43, 2) := dk_16 43 (dk_at dksX7_highAt_0 4 rfl rfl)
theorem dX7_highAt_6 : decode cX7_highAt 6 = .ok (.iload_n 1, 1) := dk_27 (dk_at dksX7_highAt_0 6 rfl rfl)
theorem dX7_highAt_7 : decode cX7_highAt 7 = .ok (.imul, 1) := dk_104 (dk_at dksX7_highAt_0 7 rfl rfl)
theorem dX7_highAt_8 : decode cX7_highAt 8 = .ok (.iconst 1, 1) := dk_4 (dk_at dksX7_highAt_0 8 rfl rfl)
theorem dX7_highAt_9 : decode cX7_highAt 9 = .ok (.iadd, 1) := dk_96 (dk_at dksX7_highAt_0 9 rfl rfl)
theorem dX7_highAt_10 : decode cX7_highAt 10 = .ok (.iload_n 2, 1) := dk_28 (dk_at dksX7_highAt_0 10 rfl rfl)
theorem dX7_highAt_11 : decode cX7_highAt 11 = .ok (.iadd, 1) := dk_96 (dk_at dksX7_highAt_0 11 rfl rfl)
theorem dX7_highAt_12 : decode cX7_highAt 12 = .ok (.iaload, 1) := dk_46 (dk_at dksX7_highAt_0 12 rfl rfl)
theorem dX7_highAt_13 : decode cX7_highAt 13 = .ok (.ireturn, 1) := dk_172 (dk_at dksX7_highAt_0 13 rfl rfl)
abbrev cX7_layerAt : ByteArray := prog_43_method_41_code
def yX7_layerAt : MethodName := ⟨RX7, "layerAt", "(III)I"⟩
def dkwX7_layerAt_0 : List UInt8 := [42, 180, 0, 30, 16, 43, 27, 104, 16, 7, 96, 16, 6, 28, 104, 96, 29, 96, 46, 172]
abbrev dktX7_layerAt_0 : List UInt8 := dkwX7_layerAt_0 ++ []
theorem dksX7_layerAt_0 : cX7_layerAt.data.toList.drop 0 = dktX7_layerAt_0 := by decide +kernel
theorem dX7_layerAt_0 : decode cX7_layerAt 0 = .ok (.aload_n 0, 1) := dk_42 (dk_at dksX7_layerAt_0 0 rfl rfl)
theorem dX7_layerAt_1 : decode cX7_layerAt 1 = .ok (.getfield 30, 3) := dk_180 0 30 (dk_at dksX7_layerAt_0 1 rfl rfl)
theorem dX7_layerAt_4 : decode cX7_layerAt 4 = .ok (.bipush 43, 2) := dk_16 43 (dk_at dksX7_layerAt_0 4 rfl rfl)
theorem dX7_layerAt_6 : decode cX7_layerAt 6 = .ok (.iload_n 1, 1) := dk_27 (dk_at dksX7_layerAt_0 6 rfl rfl)
theorem dX7_layerAt_7 : decode cX7_layerAt 7 = .ok (.imul, 1) := dk_104 (dk_at dksX7_layerAt_0 7 rfl rfl)
theorem dX7_layerAt_8 : decode cX7_layerAt 8 = .ok (.bipush 7, 2) := dk_16 7 (dk_at dksX7_layerAt_0 8 rfl rfl)
theorem dX7_layerAt_10 : decode cX7_layerAt 10 = .ok (.iadd, 1) := dk_96 (dk_at dksX7_layerAt_0 10 rfl rfl)
theorem dX7_layerAt_11 : decode cX7_layerAt 11 = .ok (.bipush 6, 2) := dk_16 6 (dk_at dksX7_layerAt_0 11 rfl rfl)
theorem dX7_layerAt_13 : decode cX7_layerAt 13 = .ok (.iload_n 2, 1) := dk_28 (dk_at dksX7_layerAt_0 13 rfl rfl)
theorem dX7_layerAt_14 : decode cX7_layerAt 14 = .ok (.imul, 1) := dk_104 (dk_at dksX7_layerAt_0 14 rfl rfl)
theorem dX7_layerAt_15 : decode cX7_layerAt 15 = .ok (.iadd, 1) := dk_96 (dk_at dksX7_layerAt_0 15 rfl rfl)
theorem dX7_layerAt_16 : decode cX7_layerAt 16 = .ok (.iload_n 3, 1) := dk_29 (dk_at dksX7_layerAt_0 16 rfl rfl)
theorem dX7_layerAt_17 : decode cX7_layerAt 17 = .ok (.iadd, 1) := dk_96 (dk_at dksX7_layerAt_0 17 rfl rfl)
theorem dX7_layerAt_18 : decode cX7_layerAt 18 = .ok (.iaload, 1) := dk_46 (dk_at dksX7_layerAt_0 18 rfl rfl)
theorem dX7_layerAt_19 : decode cX7_layerAt 19 = .ok (.ireturn, 1) := dk_172 (dk_at dksX7_layerAt_0 19 rfl rfl)
abbrev cX7_laysPlaces : ByteArray := prog_43_method_54_code
def yX7_laysPlaces : MethodName := ⟨RX7, "laysPlaces", "(I)V"⟩
def dkwX7_laysPlaces_2 : List UInt8 := [182, 1, 8, 5, 112, 96, 79, 132, 3, 1, 167, 255, 211, 132, 2, 1, 167, 255, 194, 177]
abbrev dktX7_laysPlaces_2 : List UInt8 := dkwX7_laysPlaces_2 ++ []
def dkwX7_laysPlaces_1 : List UInt8 := [180, 0, 33, 42, 27, 28, 29, 182, 1, 8, 5, 108, 16, 16, 28, 104, 5, 29, 104, 96, 42, 27, 28, 29]
abbrev dktX7_laysPlaces_1 : List UInt8 := dkwX7_laysPlaces_1 ++ dktX7_laysPlaces_2
def dkwX7_laysPlaces_0 : List UInt8 := [3, 61, 28, 42, 27, 182, 1, 0, 162, 0, 59, 3, 62, 29, 42, 27, 28, 182, 1, 5, 162, 0, 41, 42]
abbrev dktX7_laysPlaces_0 : List UInt8 := dkwX7_laysPlaces_0 ++ dktX7_laysPlaces_1
theorem dksX7_laysPlaces_0 : cX7_laysPlaces.data.toList.drop 0 = dktX7_laysPlaces_0 := by decide +kernel
theorem dksX7_laysPlaces_1 : cX7_laysPlaces.data.toList.drop 24 = dktX7_laysPlaces_1 := dk_seg dksX7_laysPlaces_0 24 rfl rfl
theorem dksX7_laysPlaces_2 : cX7_laysPlaces.data.toList.drop 48 = dktX7_laysPlaces_2 := dk_seg dksX7_laysPlaces_1 24 rfl rfl
theorem dX7_laysPlaces_0 : decode cX7_laysPlaces 0 = .ok (.iconst 0, 1) := dk_3 (dk_at dksX7_laysPlaces_0 0 rfl rfl)
theorem dX7_laysPlaces_1 : decode cX7_laysPlaces 1 = .ok (.istore_n 2, 1) := dk_61 (dk_at dksX7_laysPlaces_0 1 rfl rfl)
theorem dX7_laysPlaces_2 : decode cX7_laysPlaces 2 = .ok (.iload_n 2, 1) := dk_28 (dk_at dksX7_laysPlaces_0 2 rfl rfl)
theorem dX7_laysPlaces_3 : decode cX7_laysPlaces 3 = .ok (.aload_n 0, 1) := dk_42 (dk_at dksX7_laysPlaces_0 3 rfl rfl)
theorem dX7_laysPlaces_4 : decode cX7_laysPlaces 4 = .ok (.iload_n 1, 1) := dk_27 (dk_at dksX7_laysPlaces_0 4 rfl rfl)
theorem dX7_laysPlaces_5 : decode cX7_laysPlaces 5 = .ok (.invokevirtual 256, 3) := dk_182 1 0 (dk_at dksX7_laysPlaces_0 5 rfl rfl)
theorem dX7_laysPlaces_8 : decode cX7_laysPlaces 8 = .ok (.if_icmp .ge 59, 3) := dk_162 0 59 (dk_at dksX7_laysPlaces_0 8 rfl rfl)
theorem dX7_laysPlaces_11 : decode cX7_laysPlaces 11 = .ok (.iconst 0, 1) := dk_3 (dk_at dksX7_laysPlaces_0 11 rfl rfl)
theorem dX7_laysPlaces_12 : decode cX7_laysPlaces 12 = .ok (.istore_n 3, 1) := dk_62 (dk_at dksX7_laysPlaces_0 12 rfl rfl)
theorem dX7_laysPlaces_13 : decode cX7_laysPlaces 13 = .ok (.iload_n 3, 1) := dk_29 (dk_at dksX7_laysPlaces_0 13 rfl rfl)
theorem dX7_laysPlaces_14 : decode cX7_laysPlaces 14 = .ok (.aload_n 0, 1) := dk_42 (dk_at dksX7_laysPlaces_0 14 rfl rfl)
theorem dX7_laysPlaces_15 : decode cX7_laysPlaces 15 = .ok (.iload_n 1, 1) := dk_27 (dk_at dksX7_laysPlaces_0 15 rfl rfl)
theorem dX7_laysPlaces_16 : decode cX7_laysPlaces 16 = .ok (.iload_n 2, 1) := dk_28 (dk_at dksX7_laysPlaces_0 16 rfl rfl)
theorem dX7_laysPlaces_17 : decode cX7_laysPlaces 17 = .ok (.invokevirtual 261, 3) := dk_182 1 5 (dk_at dksX7_laysPlaces_0 17 rfl rfl)
theorem dX7_laysPlaces_20 : decode cX7_laysPlaces 20 = .ok (.if_icmp .ge 41, 3) := dk_162 0 41 (dk_at dksX7_laysPlaces_0 20 rfl rfl)
theorem dX7_laysPlaces_23 : decode cX7_laysPlaces 23 = .ok (.aload_n 0, 1) := dk_42 (dk_at dksX7_laysPlaces_0 23 rfl rfl)
theorem dX7_laysPlaces_24 : decode cX7_laysPlaces 24 = .ok (.getfield 33, 3) := dk_180 0 33 (dk_at dksX7_laysPlaces_1 0 rfl rfl)
theorem dX7_laysPlaces_27 : decode cX7_laysPlaces 27 = .ok (.aload_n 0, 1) := dk_42 (dk_at dksX7_laysPlaces_1 3 rfl rfl)
theorem dX7_laysPlaces_28 : decode cX7_laysPlaces 28 = .ok (.iload_n 1, 1) := dk_27 (dk_at dksX7_laysPlaces_1 4 rfl rfl)
theorem dX7_laysPlaces_29 : decode cX7_laysPlaces 29 = .ok (.iload_n 2, 1) := dk_28 (dk_at dksX7_laysPlaces_1 5 rfl rfl)
theorem dX7_laysPlaces_30 : decode cX7_laysPlaces 30 = .ok (.iload_n 3, 1) := dk_29 (dk_at dksX7_laysPlaces_1 6 rfl rfl)
theorem dX7_laysPlaces_31 : decode cX7_laysPlaces 31 = .ok (.invokevirtual 264, 3) := dk_182 1 8 (dk_at dksX7_laysPlaces_1 7 rfl rfl)
theorem dX7_laysPlaces_34 : decode cX7_laysPlaces 34 = .ok (.iconst 2, 1) := dk_5 (dk_at dksX7_laysPlaces_1 10 rfl rfl)
theorem dX7_laysPlaces_35 : decode cX7_laysPlaces 35 = .ok (.idiv, 1) := dk_108 (dk_at dksX7_laysPlaces_1 11 rfl rfl)
theorem dX7_laysPlaces_36 : decode cX7_laysPlaces 36 = .ok (.bipush 16, 2) := dk_16 16 (dk_at dksX7_laysPlaces_1 12 rfl rfl)
theorem dX7_laysPlaces_38 : decode cX7_laysPlaces 38 = .ok (.iload_n 2, 1) := dk_28 (dk_at dksX7_laysPlaces_1 14 rfl rfl)
theorem dX7_laysPlaces_39 : decode cX7_laysPlaces 39 = .ok (.imul, 1) := dk_104 (dk_at dksX7_laysPlaces_1 15 rfl rfl)
theorem dX7_laysPlaces_40 : decode cX7_laysPlaces 40 = .ok (.iconst 2, 1) := dk_5 (dk_at dksX7_laysPlaces_1 16 rfl rfl)
theorem dX7_laysPlaces_41 : decode cX7_laysPlaces 41 = .ok (.iload_n 3, 1) := dk_29 (dk_at dksX7_laysPlaces_1 17 rfl rfl)
theorem dX7_laysPlaces_42 : decode cX7_laysPlaces 42 = .ok (.imul, 1) := dk_104 (dk_at dksX7_laysPlaces_1 18 rfl rfl)
theorem dX7_laysPlaces_43 : decode cX7_laysPlaces 43 = .ok (.iadd, 1) := dk_96 (dk_at dksX7_laysPlaces_1 19 rfl rfl)
theorem dX7_laysPlaces_44 : decode cX7_laysPlaces 44 = .ok (.aload_n 0, 1) := dk_42 (dk_at dksX7_laysPlaces_1 20 rfl rfl)
theorem dX7_laysPlaces_45 : decode cX7_laysPlaces 45 = .ok (.iload_n 1, 1) := dk_27 (dk_at dksX7_laysPlaces_1 21 rfl rfl)
theorem dX7_laysPlaces_46 : decode cX7_laysPlaces 46 = .ok (.iload_n 2, 1) := dk_28 (dk_at dksX7_laysPlaces_1 22 rfl rfl)
theorem dX7_laysPlaces_47 : decode cX7_laysPlaces 47 = .ok (.iload_n 3, 1) := dk_29 (dk_at dksX7_laysPlaces_1 23 rfl rfl)
theorem dX7_laysPlaces_48 : decode cX7_laysPlaces 48 = .ok (.invokevirtual 264, 3) := dk_182 1 8 (dk_at dksX7_laysPlaces_2 0 rfl rfl)
theorem dX7_laysPlaces_51 : decode cX7_laysPlaces 51 = .ok (.iconst 2, 1) := dk_5 (dk_at dksX7_laysPlaces_2 3 rfl rfl)
theorem dX7_laysPlaces_52 : decode cX7_laysPlaces 52 = .ok (.irem, 1) := dk_112 (dk_at dksX7_laysPlaces_2 4 rfl rfl)
theorem dX7_laysPlaces_53 : decode cX7_laysPlaces 53 = .ok (.iadd, 1) := dk_96 (dk_at dksX7_laysPlaces_2 5 rfl rfl)
theorem dX7_laysPlaces_54 : decode cX7_laysPlaces 54 = .ok (.iastore, 1) := dk_79 (dk_at dksX7_laysPlaces_2 6 rfl rfl)
theorem dX7_laysPlaces_55 : decode cX7_laysPlaces 55 = .ok (.iinc 3 1, 3) := dk_132 3 1 (dk_at dksX7_laysPlaces_2 7 rfl rfl)
theorem dX7_laysPlaces_58 : decode cX7_laysPlaces 58 = .ok (.goto (-45), 3) := dk_167 255 211 (dk_at dksX7_laysPlaces_2 10 rfl rfl)
theorem dX7_laysPlaces_61 : decode cX7_laysPlaces 61 = .ok (.iinc 2 1, 3) := dk_132 2 1 (dk_at dksX7_laysPlaces_2 13 rfl rfl)
theorem dX7_laysPlaces_64 : decode cX7_laysPlaces 64 = .ok (.goto (-62), 3) := dk_167 255 194 (dk_at dksX7_laysPlaces_2 16 rfl rfl)
theorem dX7_laysPlaces_67 : decode cX7_laysPlaces 67 = .ok (.return_, 1) := dk_177 (dk_at dksX7_laysPlaces_2 19 rfl rfl)
abbrev cX7_high : ByteArray := prog_43_method_66_code
def yX7_high : MethodName := ⟨RX7, "high", "(I)I"⟩
def dkwX7_high_1 : List UInt8 := [182, 1, 5, 167, 0, 8, 42, 4, 182, 0, 244, 172]
abbrev dktX7_high_1 : List UInt8 := dkwX7_high_1 ++ []
def dkwX7_high_0 : List UInt8 := [42, 3, 181, 0, 77, 42, 27, 182, 1, 90, 153, 0, 18, 42, 42, 180, 0, 9, 16, 7, 46, 27]
abbrev dktX7_high_0 : List UInt8 := dkwX7_high_0 ++ dktX7_high_1
theorem dksX7_high_0 : cX7_high.data.toList.drop 0 = dktX7_high_0 := by decide +kernel
theorem dksX7_high_1 : cX7_high.data.toList.drop 22 = dktX7_high_1 := dk_seg dksX7_high_0 22 rfl rfl
theorem dX7_high_0 : decode cX7_high 0 = .ok (.aload_n 0, 1) := dk_42 (dk_at dksX7_high_0 0 rfl rfl)
theorem dX7_high_1 : decode cX7_high 1 = .ok (.iconst 0, 1) := dk_3 (dk_at dksX7_high_0 1 rfl rfl)
theorem dX7_high_2 : decode cX7_high 2 = .ok (.putfield 77, 3) := dk_181 0 77 (dk_at dksX7_high_0 2 rfl rfl)
theorem dX7_high_5 : decode cX7_high 5 = .ok (.aload_n 0, 1) := dk_42 (dk_at dksX7_high_0 5 rfl rfl)
theorem dX7_high_6 : decode cX7_high 6 = .ok (.iload_n 1, 1) := dk_27 (dk_at dksX7_high_0 6 rfl rfl)
theorem dX7_high_7 : decode cX7_high 7 = .ok (.invokevirtual 346, 3) := dk_182 1 90 (dk_at dksX7_high_0 7 rfl rfl)
theorem dX7_high_10 : decode cX7_high 10 = .ok (.ifCond .eq 18, 3) := dk_153 0 18 (dk_at dksX7_high_0 10 rfl rfl)
theorem dX7_high_13 : decode cX7_high 13 = .ok (.aload_n 0, 1) := dk_42 (dk_at dksX7_high_0 13 rfl rfl)
theorem dX7_high_14 : decode cX7_high 14 = .ok (.aload_n 0, 1) := dk_42 (dk_at dksX7_high_0 14 rfl rfl)
theorem dX7_high_15 : decode cX7_high 15 = .ok (.getfield 9, 3) := dk_180 0 9 (dk_at dksX7_high_0 15 rfl rfl)
theorem dX7_high_18 : decode cX7_high 18 = .ok (.bipush 7, 2) := dk_16 7 (dk_at dksX7_high_0 18 rfl rfl)
theorem dX7_high_20 : decode cX7_high 20 = .ok (.iaload, 1) := dk_46 (dk_at dksX7_high_0 20 rfl rfl)
theorem dX7_high_21 : decode cX7_high 21 = .ok (.iload_n 1, 1) := dk_27 (dk_at dksX7_high_0 21 rfl rfl)
theorem dX7_high_22 : decode cX7_high 22 = .ok (.invokevirtual 261, 3) := dk_182 1 5 (dk_at dksX7_high_1 0 rfl rfl)
theorem dX7_high_25 : decode cX7_high 25 = .ok (.goto 8, 3) := dk_167 0 8 (dk_at dksX7_high_1 3 rfl rfl)
theorem dX7_high_28 : decode cX7_high 28 = .ok (.aload_n 0, 1) := dk_42 (dk_at dksX7_high_1 6 rfl rfl)
theorem dX7_high_29 : decode cX7_high 29 = .ok (.iconst 1, 1) := dk_4 (dk_at dksX7_high_1 7 rfl rfl)
theorem dX7_high_30 : decode cX7_high 30 = .ok (.invokevirtual 244, 3) := dk_182 0 244 (dk_at dksX7_high_1 8 rfl rfl)
theorem dX7_high_33 : decode cX7_high 33 = .ok (.ireturn, 1) := dk_172 (dk_at dksX7_high_1 11 rfl rfl)
abbrev cX7_isColumn : ByteArray := prog_43_method_65_code
def yX7_isColumn : MethodName := ⟨RX7, "isColumn", "(I)Z"⟩
def dkwX7_isColumn_0 : List UInt8 := [27, 133, 9, 42, 42, 182, 1, 87, 182, 1, 0, 4, 100, 133, 184, 0, 138, 172]
abbrev dktX7_isColumn_0 : List UInt8 := dkwX7_isColumn_0 ++ []
theorem dksX7_isColumn_0 : cX7_isColumn.data.toList.drop 0 = dktX7_isColumn_0 := by decide +kernel
theorem dX7_isColumn_0 : decode cX7_isColumn 0 = .ok (.iload_n 1, 1) := dk_27 (dk_at dksX7_isColumn_0 0 rfl rfl)
theorem dX7_isColumn_1 : decode cX7_isColumn 1 = .ok (.i2l, 1) := dk_133 (dk_at dksX7_isColumn_0 1 rfl rfl)
theorem dX7_isColumn_2 : decode cX7_isColumn 2 = .ok (.lconst 0, 1) := dk_9 (dk_at dksX7_isColumn_0 2 rfl rfl)
theorem dX7_isColumn_3 : decode cX7_isColumn 3 = .ok (.aload_n 0, 1) := dk_42 (dk_at dksX7_isColumn_0 3 rfl rfl)
theorem dX7_isColumn_4 : decode cX7_isColumn 4 = .ok (.aload_n 0, 1) := dk_42 (dk_at dksX7_isColumn_0 4 rfl rfl)
theorem dX7_isColumn_5 : decode cX7_isColumn 5 = .ok (.invokevirtual 343, 3) := dk_182 1 87 (dk_at dksX7_isColumn_0 5 rfl rfl)
theorem dX7_isColumn_8 : decode cX7_isColumn 8 = .ok (.invokevirtual 256, 3) := dk_182 1 0 (dk_at dksX7_isColumn_0 8 rfl rfl)
theorem dX7_isColumn_11 : decode cX7_isColumn 11 = .ok (.iconst 1, 1) := dk_4 (dk_at dksX7_isColumn_0 11 rfl rfl)
theorem dX7_isColumn_12 : decode cX7_isColumn 12 = .ok (.isub, 1) := dk_100 (dk_at dksX7_isColumn_0 12 rfl rfl)
theorem dX7_isColumn_13 : decode cX7_isColumn 13 = .ok (.i2l, 1) := dk_133 (dk_at dksX7_isColumn_0 13 rfl rfl)
theorem dX7_isColumn_14 : decode cX7_isColumn 14 = .ok (.invokestatic 138, 3) := dk_184 0 138 (dk_at dksX7_isColumn_0 14 rfl rfl)
theorem dX7_isColumn_17 : decode cX7_isColumn 17 = .ok (.ireturn, 1) := dk_172 (dk_at dksX7_isColumn_0 17 rfl rfl)
abbrev cX7_layer : ByteArray := prog_43_method_67_code
def yX7_layer : MethodName := ⟨RX7, "layer", "(II)I"⟩
def dkwX7_layer_3 : List UInt8 := [2, 172]
abbrev dktX7_layer_3 : List UInt8 := dkwX7_layer_3 ++ []
def dkwX7_layer_2 : List UInt8 := [182, 1, 5, 162, 0, 21, 42, 42, 180, 0, 9, 16, 7, 46, 27, 28, 182, 1, 8, 5, 108, 167, 0, 4]
abbrev dktX7_layer_2 : List UInt8 := dkwX7_layer_2 ++ dktX7_layer_3
def dkwX7_layer_1 : List UInt8 := [181, 0, 77, 42, 180, 0, 77, 158, 0, 5, 3, 172, 28, 42, 42, 180, 0, 9, 16, 7, 46, 27]
abbrev dktX7_layer_1 : List UInt8 := dkwX7_layer_1 ++ dktX7_layer_2
def dkwX7_layer_0 : List UInt8 := [42, 42, 27, 182, 1, 90, 154, 0, 7, 4, 167, 0, 12, 28, 156, 0, 7, 5, 167, 0, 4, 3]
abbrev dktX7_layer_0 : List UInt8 := dkwX7_layer_0 ++ dktX7_layer_1
theorem dksX7_layer_0 : cX7_layer.data.toList.drop 0 = dktX7_layer_0 := by decide +kernel
theorem dksX7_layer_1 : cX7_layer.data.toList.drop 22 = dktX7_layer_1 := dk_seg dksX7_layer_0 22 rfl rfl
theorem dksX7_layer_2 : cX7_layer.data.toList.drop 44 = dktX7_layer_2 := dk_seg dksX7_layer_1 22 rfl rfl
theorem dksX7_layer_3 : cX7_layer.data.toList.drop 68 = dktX7_layer_3 := dk_seg dksX7_layer_2 24 rfl rfl
theorem dX7_layer_0 : decode cX7_layer 0 = .ok (.aload_n 0, 1) := dk_42 (dk_at dksX7_layer_0 0 rfl rfl)
theorem dX7_layer_1 : decode cX7_layer 1 = .ok (.aload_n 0, 1) := dk_42 (dk_at dksX7_layer_0 1 rfl rfl)
theorem dX7_layer_2 : decode cX7_layer 2 = .ok (.iload_n 1, 1) := dk_27 (dk_at dksX7_layer_0 2 rfl rfl)
theorem dX7_layer_3 : decode cX7_layer 3 = .ok (.invokevirtual 346, 3) := dk_182 1 90 (dk_at dksX7_layer_0 3 rfl rfl)
theorem dX7_layer_6 : decode cX7_layer 6 = .ok (.ifCond .ne 7, 3) := dk_154 0 7 (dk_at dksX7_layer_0 6 rfl rfl)
theorem dX7_layer_9 : decode cX7_layer 9 = .ok (.iconst 1, 1) := dk_4 (dk_at dksX7_layer_0 9 rfl rfl)
theorem dX7_layer_10 : decode cX7_layer 10 = .ok (.goto 12, 3) := dk_167 0 12 (dk_at dksX7_layer_0 10 rfl rfl)
theorem dX7_layer_13 : decode cX7_layer 13 = .ok (.iload_n 2, 1) := dk_28 (dk_at dksX7_layer_0 13 rfl rfl)
theorem dX7_layer_14 : decode cX7_layer 14 = .ok (.ifCond .ge 7, 3) := dk_156 0 7 (dk_at dksX7_layer_0 14 rfl rfl)
theorem dX7_layer_17 : decode cX7_layer 17 = .ok (.iconst 2, 1) := dk_5 (dk_at dksX7_layer_0 17 rfl rfl)
theorem dX7_layer_18 : decode cX7_layer 18 = .ok (.goto 4, 3) := dk_167 0 4 (dk_at dksX7_layer_0 18 rfl rfl)
theorem dX7_layer_21 : decode cX7_layer 21 = .ok (.iconst 0, 1) := dk_3 (dk_at dksX7_layer_0 21 rfl rfl)
theorem dX7_layer_22 : decode cX7_layer 22 = .ok (.putfield 77, 3) := dk_181 0 77 (dk_at dksX7_layer_1 0 rfl rfl)
theorem dX7_layer_25 : decode cX7_layer 25 = .ok (.aload_n 0, 1) := dk_42 (dk_at dksX7_layer_1 3 rfl rfl)
theorem dX7_layer_26 : decode cX7_layer 26 = .ok (.getfield 77, 3) := dk_180 0 77 (dk_at dksX7_layer_1 4 rfl rfl)
theorem dX7_layer_29 : decode cX7_layer 29 = .ok (.ifCond .le 5, 3) := dk_158 0 5 (dk_at dksX7_layer_1 7 rfl rfl)
theorem dX7_layer_32 : decode cX7_layer 32 = .ok (.iconst 0, 1) := dk_3 (dk_at dksX7_layer_1 10 rfl rfl)
theorem dX7_layer_33 : decode cX7_layer 33 = .ok (.ireturn, 1) := dk_172 (dk_at dksX7_layer_1 11 rfl rfl)
theorem dX7_layer_34 : decode cX7_layer 34 = .ok (.iload_n 2, 1) := dk_28 (dk_at dksX7_layer_1 12 rfl rfl)
theorem dX7_layer_35 : decode cX7_layer 35 = .ok (.aload_n 0, 1) := dk_42 (dk_at dksX7_layer_1 13 rfl rfl)
theorem dX7_layer_36 : decode cX7_layer 36 = .ok (.aload_n 0, 1) := dk_42 (dk_at dksX7_layer_1 14 rfl rfl)
theorem dX7_layer_37 : decode cX7_layer 37 = .ok (.getfield 9, 3) := dk_180 0 9 (dk_at dksX7_layer_1 15 rfl rfl)
theorem dX7_layer_40 : decode cX7_layer 40 = .ok (.bipush 7, 2) := dk_16 7 (dk_at dksX7_layer_1 18 rfl rfl)
theorem dX7_layer_42 : decode cX7_layer 42 = .ok (.iaload, 1) := dk_46 (dk_at dksX7_layer_1 20 rfl rfl)
theorem dX7_layer_43 : decode cX7_layer 43 = .ok (.iload_n 1, 1) := dk_27 (dk_at dksX7_layer_1 21 rfl rfl)
theorem dX7_layer_44 : decode cX7_layer 44 = .ok (.invokevirtual 261, 3) := dk_182 1 5 (dk_at dksX7_layer_2 0 rfl rfl)
theorem dX7_layer_47 : decode cX7_layer 47 = .ok (.if_icmp .ge 21, 3) := dk_162 0 21 (dk_at dksX7_layer_2 3 rfl rfl)
theorem dX7_layer_50 : decode cX7_layer 50 = .ok (.aload_n 0, 1) := dk_42 (dk_at dksX7_layer_2 6 rfl rfl)
theorem dX7_layer_51 : decode cX7_layer 51 = .ok (.aload_n 0, 1) := dk_42 (dk_at dksX7_layer_2 7 rfl rfl)
theorem dX7_layer_52 : decode cX7_layer 52 = .ok (.getfield 9, 3) := dk_180 0 9 (dk_at dksX7_layer_2 8 rfl rfl)
theorem dX7_layer_55 : decode cX7_layer 55 = .ok (.bipush 7, 2) := dk_16 7 (dk_at dksX7_layer_2 11 rfl rfl)
theorem dX7_layer_57 : decode cX7_layer 57 = .ok (.iaload, 1) := dk_46 (dk_at dksX7_layer_2 13 rfl rfl)
theorem dX7_layer_58 : decode cX7_layer 58 = .ok (.iload_n 1, 1) := dk_27 (dk_at dksX7_layer_2 14 rfl rfl)
theorem dX7_layer_59 : decode cX7_layer 59 = .ok (.iload_n 2, 1) := dk_28 (dk_at dksX7_layer_2 15 rfl rfl)
theorem dX7_layer_60 : decode cX7_layer 60 = .ok (.invokevirtual 264, 3) := dk_182 1 8 (dk_at dksX7_layer_2 16 rfl rfl)
theorem dX7_layer_63 : decode cX7_layer 63 = .ok (.iconst 2, 1) := dk_5 (dk_at dksX7_layer_2 19 rfl rfl)
theorem dX7_layer_64 : decode cX7_layer 64 = .ok (.idiv, 1) := dk_108 (dk_at dksX7_layer_2 20 rfl rfl)
theorem dX7_layer_65 : decode cX7_layer 65 = .ok (.goto 4, 3) := dk_167 0 4 (dk_at dksX7_layer_2 21 rfl rfl)
theorem dX7_layer_68 : decode cX7_layer 68 = .ok (.iconst (-1), 1) := dk_2 (dk_at dksX7_layer_3 0 rfl rfl)
theorem dX7_layer_69 : decode cX7_layer 69 = .ok (.ireturn, 1) := dk_172 (dk_at dksX7_layer_3 1 rfl rfl)
abbrev cX7_above : ByteArray := prog_43_method_68_code
def yX7_above : MethodName := ⟨RX7, "above", "(I)I"⟩
def dkwX7_above_1 : List UInt8 := [182, 1, 31, 167, 0, 8, 42, 4, 182, 0, 244, 172]
abbrev dktX7_above_1 : List UInt8 := dkwX7_above_1 ++ []
def dkwX7_above_0 : List UInt8 := [42, 3, 181, 0, 77, 42, 27, 182, 1, 90, 153, 0, 18, 42, 42, 180, 0, 9, 16, 7, 46, 27]
abbrev dktX7_above_0 : List UInt8 := dkwX7_above_0 ++ dktX7_above_1
theorem dksX7_above_0 : cX7_above.data.toList.drop 0 = dktX7_above_0 := by decide +kernel
theorem dksX7_above_1 : cX7_above.data.toList.drop 22 = dktX7_above_1 := dk_seg dksX7_above_0 22 rfl rfl
theorem dX7_above_0 : decode cX7_above 0 = .ok (.aload_n 0, 1) := dk_42 (dk_at dksX7_above_0 0 rfl rfl)
theorem dX7_above_1 : decode cX7_above 1 = .ok (.iconst 0, 1) := dk_3 (dk_at dksX7_above_0 1 rfl rfl)
theorem dX7_above_2 : decode cX7_above 2 = .ok (.putfield 77, 3) := dk_181 0 77 (dk_at dksX7_above_0 2 rfl rfl)
theorem dX7_above_5 : decode cX7_above 5 = .ok (.aload_n 0, 1) := dk_42 (dk_at dksX7_above_0 5 rfl rfl)
theorem dX7_above_6 : decode cX7_above 6 = .ok (.iload_n 1, 1) := dk_27 (dk_at dksX7_above_0 6 rfl rfl)
theorem dX7_above_7 : decode cX7_above 7 = .ok (.invokevirtual 346, 3) := dk_182 1 90 (dk_at dksX7_above_0 7 rfl rfl)
theorem dX7_above_10 : decode cX7_above 10 = .ok (.ifCond .eq 18, 3) := dk_153 0 18 (dk_at dksX7_above_0 10 rfl rfl)
theorem dX7_above_13 : decode cX7_above 13 = .ok (.aload_n 0, 1) := dk_42 (dk_at dksX7_above_0 13 rfl rfl)
theorem dX7_above_14 : decode cX7_above 14 = .ok (.aload_n 0, 1) := dk_42 (dk_at dksX7_above_0 14 rfl rfl)
theorem dX7_above_15 : decode cX7_above 15 = .ok (.getfield 9, 3) := dk_180 0 9 (dk_at dksX7_above_0 15 rfl rfl)
theorem dX7_above_18 : decode cX7_above 18 = .ok (.bipush 7, 2) := dk_16 7 (dk_at dksX7_above_0 18 rfl rfl)
theorem dX7_above_20 : decode cX7_above 20 = .ok (.iaload, 1) := dk_46 (dk_at dksX7_above_0 20 rfl rfl)
theorem dX7_above_21 : decode cX7_above 21 = .ok (.iload_n 1, 1) := dk_27 (dk_at dksX7_above_0 21 rfl rfl)
theorem dX7_above_22 : decode cX7_above 22 = .ok (.invokevirtual 287, 3) := dk_182 1 31 (dk_at dksX7_above_1 0 rfl rfl)
theorem dX7_above_25 : decode cX7_above 25 = .ok (.goto 8, 3) := dk_167 0 8 (dk_at dksX7_above_1 3 rfl rfl)
theorem dX7_above_28 : decode cX7_above 28 = .ok (.aload_n 0, 1) := dk_42 (dk_at dksX7_above_1 6 rfl rfl)
theorem dX7_above_29 : decode cX7_above 29 = .ok (.iconst 1, 1) := dk_4 (dk_at dksX7_above_1 7 rfl rfl)
theorem dX7_above_30 : decode cX7_above 30 = .ok (.invokevirtual 244, 3) := dk_182 0 244 (dk_at dksX7_above_1 8 rfl rfl)
theorem dX7_above_33 : decode cX7_above 33 = .ok (.ireturn, 1) := dk_172 (dk_at dksX7_above_1 11 rfl rfl)
abbrev cX7_aboveAt : ByteArray := prog_43_method_48_code
def yX7_aboveAt : MethodName := ⟨RX7, "aboveAt", "(II)I"⟩
def dkwX7_aboveAt_0 : List UInt8 := [42, 42, 27, 28, 42, 27, 28, 182, 1, 5, 4, 100, 182, 1, 8, 4, 182, 1, 27, 172]
abbrev dktX7_aboveAt_0 : List UInt8 := dkwX7_aboveAt_0 ++ []
theorem dksX7_aboveAt_0 : cX7_aboveAt.data.toList.drop 0 = dktX7_aboveAt_0 := by decide +kernel
theorem dX7_aboveAt_0 : decode cX7_aboveAt 0 = .ok (.aload_n 0, 1) := dk_42 (dk_at dksX7_aboveAt_0 0 rfl rfl)
theorem dX7_aboveAt_1 : decode cX7_aboveAt 1 = .ok (.aload_n 0, 1) := dk_42 (dk_at dksX7_aboveAt_0 1 rfl rfl)
theorem dX7_aboveAt_2 : decode cX7_aboveAt 2 = .ok (.iload_n 1, 1) := dk_27 (dk_at dksX7_aboveAt_0 2 rfl rfl)
theorem dX7_aboveAt_3 : decode cX7_aboveAt 3 = .ok (.iload_n 2, 1) := dk_28 (dk_at dksX7_aboveAt_0 3 rfl rfl)
theorem dX7_aboveAt_4 : decode cX7_aboveAt 4 = .ok (.aload_n 0, 1) := dk_42 (dk_at dksX7_aboveAt_0 4 rfl rfl)
theorem dX7_aboveAt_5 : decode cX7_aboveAt 5 = .ok (.iload_n 1, 1) := dk_27 (dk_at dksX7_aboveAt_0 5 rfl rfl)
theorem dX7_aboveAt_6 : decode cX7_aboveAt 6 = .ok (.iload_n 2, 1) := dk_28 (dk_at dksX7_aboveAt_0 6 rfl rfl)
theorem dX7_aboveAt_7 : decode cX7_aboveAt 7 = .ok (.invokevirtual 261, 3) := dk_182 1 5 (dk_at dksX7_aboveAt_0 7 rfl rfl)
theorem dX7_aboveAt_10 : decode cX7_aboveAt 10 = .ok (.iconst 1, 1) := dk_4 (dk_at dksX7_aboveAt_0 10 rfl rfl)
theorem dX7_aboveAt_11 : decode cX7_aboveAt 11 = .ok (.isub, 1) := dk_100 (dk_at dksX7_aboveAt_0 11 rfl rfl)
theorem dX7_aboveAt_12 : decode cX7_aboveAt 12 = .ok (.invokevirtual 264, 3) := dk_182 1 8 (dk_at dksX7_aboveAt_0 12 rfl rfl)
theorem dX7_aboveAt_15 : decode cX7_aboveAt 15 = .ok (.iconst 1, 1) := dk_4 (dk_at dksX7_aboveAt_0 15 rfl rfl)
theorem dX7_aboveAt_16 : decode cX7_aboveAt 16 = .ok (.invokevirtual 283, 3) := dk_182 1 27 (dk_at dksX7_aboveAt_0 16 rfl rfl)
theorem dX7_aboveAt_19 : decode cX7_aboveAt 19 = .ok (.ireturn, 1) := dk_172 (dk_at dksX7_aboveAt_0 19 rfl rfl)
abbrev cX7_markOf : ByteArray := prog_43_method_47_code
def yX7_markOf : MethodName := ⟨RX7, "markOf", "(IZ)I"⟩
def dkwX7_markOf_1 : List UInt8 := [167, 0, 5, 16, 6, 96, 27, 5, 108, 96, 46, 172]
abbrev dktX7_markOf_1 : List UInt8 := dkwX7_markOf_1 ++ []
def dkwX7_markOf_0 : List UInt8 := [42, 180, 0, 9, 16, 13, 27, 5, 112, 4, 160, 0, 7, 4, 167, 0, 4, 3, 28, 160, 0, 7, 3]
abbrev dktX7_markOf_0 : List UInt8 := dkwX7_markOf_0 ++ dktX7_markOf_1
theorem dksX7_markOf_0 : cX7_markOf.data.toList.drop 0 = dktX7_markOf_0 := by decide +kernel
theorem dksX7_markOf_1 : cX7_markOf.data.toList.drop 23 = dktX7_markOf_1 := dk_seg dksX7_markOf_0 23 rfl rfl
theorem dX7_markOf_0 : decode cX7_markOf 0 = .ok (.aload_n 0, 1) := dk_42 (dk_at dksX7_markOf_0 0 rfl rfl)
theorem dX7_markOf_1 : decode cX7_markOf 1 = .ok (.getfield 9, 3) := dk_180 0 9 (dk_at dksX7_markOf_0 1 rfl rfl)
theorem dX7_markOf_4 : decode cX7_markOf 4 = .ok (.bipush 13, 2) := dk_16 13 (dk_at dksX7_markOf_0 4 rfl rfl)
theorem dX7_markOf_6 : decode cX7_markOf 6 = .ok (.iload_n 1, 1) := dk_27 (dk_at dksX7_markOf_0 6 rfl rfl)
theorem dX7_markOf_7 : decode cX7_markOf 7 = .ok (.iconst 2, 1) := dk_5 (dk_at dksX7_markOf_0 7 rfl rfl)
theorem dX7_markOf_8 : decode cX7_markOf 8 = .ok (.irem, 1) := dk_112 (dk_at dksX7_markOf_0 8 rfl rfl)
theorem dX7_markOf_9 : decode cX7_markOf 9 = .ok (.iconst 1, 1) := dk_4 (dk_at dksX7_markOf_0 9 rfl rfl)
theorem dX7_markOf_10 : decode cX7_markOf 10 = .ok (.if_icmp .ne 7, 3) := dk_160 0 7 (dk_at dksX7_markOf_0 10 rfl rfl)
theorem dX7_markOf_13 : decode cX7_markOf 13 = .ok (.iconst 1, 1) := dk_4 (dk_at dksX7_markOf_0 13 rfl rfl)
theorem dX7_markOf_14 : decode cX7_markOf 14 = .ok (.goto 4, 3) := dk_167 0 4 (dk_at dksX7_markOf_0 14 rfl rfl)
theorem dX7_markOf_17 : decode cX7_markOf 17 = .ok (.iconst 0, 1) := dk_3 (dk_at dksX7_markOf_0 17 rfl rfl)
theorem dX7_markOf_18 : decode cX7_markOf 18 = .ok (.iload_n 2, 1) := dk_28 (dk_at dksX7_markOf_0 18 rfl rfl)
theorem dX7_markOf_19 : decode cX7_markOf 19 = .ok (.if_icmp .ne 7, 3) := dk_160 0 7 (dk_at dksX7_markOf_0 19 rfl rfl)
theorem dX7_markOf_22 : decode cX7_markOf 22 = .ok (.iconst 0, 1) := dk_3 (dk_at dksX7_markOf_0 22 rfl rfl)
theorem dX7_markOf_23 : decode cX7_markOf 23 = .ok (.goto 5, 3) := dk_167 0 5 (dk_at dksX7_markOf_1 0 rfl rfl)
theorem dX7_markOf_26 : decode cX7_markOf 26 = .ok (.bipush 6, 2) := dk_16 6 (dk_at dksX7_markOf_1 3 rfl rfl)
theorem dX7_markOf_28 : decode cX7_markOf 28 = .ok (.iadd, 1) := dk_96 (dk_at dksX7_markOf_1 5 rfl rfl)
theorem dX7_markOf_29 : decode cX7_markOf 29 = .ok (.iload_n 1, 1) := dk_27 (dk_at dksX7_markOf_1 6 rfl rfl)
theorem dX7_markOf_30 : decode cX7_markOf 30 = .ok (.iconst 2, 1) := dk_5 (dk_at dksX7_markOf_1 7 rfl rfl)
theorem dX7_markOf_31 : decode cX7_markOf 31 = .ok (.idiv, 1) := dk_108 (dk_at dksX7_markOf_1 8 rfl rfl)
theorem dX7_markOf_32 : decode cX7_markOf 32 = .ok (.iadd, 1) := dk_96 (dk_at dksX7_markOf_1 9 rfl rfl)
theorem dX7_markOf_33 : decode cX7_markOf 33 = .ok (.iaload, 1) := dk_46 (dk_at dksX7_markOf_1 10 rfl rfl)
theorem dX7_markOf_34 : decode cX7_markOf 34 = .ok (.ireturn, 1) := dk_172 (dk_at dksX7_markOf_1 11 rfl rfl)
abbrev cX7_beneath : ByteArray := prog_43_method_69_code
def yX7_beneath : MethodName := ⟨RX7, "beneath", "(I)I"⟩
def dkwX7_beneath_1 : List UInt8 := [182, 1, 34, 167, 0, 8, 42, 4, 182, 0, 244, 172]
abbrev dktX7_beneath_1 : List UInt8 := dkwX7_beneath_1 ++ []
def dkwX7_beneath_0 : List UInt8 := [42, 3, 181, 0, 77, 42, 27, 182, 1, 90, 153, 0, 18, 42, 42, 180, 0, 9, 16, 7, 46, 27]
abbrev dktX7_beneath_0 : List UInt8 := dkwX7_beneath_0 ++ dktX7_beneath_1
theorem dksX7_beneath_0 : cX7_beneath.data.toList.drop 0 = dktX7_beneath_0 := by decide +kernel
theorem dksX7_beneath_1 : cX7_beneath.data.toList.drop 22 = dktX7_beneath_1 := dk_seg dksX7_beneath_0 22 rfl rfl
theorem dX7_beneath_0 : decode cX7_beneath 0 = .ok (.aload_n 0, 1) := dk_42 (dk_at dksX7_beneath_0 0 rfl rfl)
theorem dX7_beneath_1 : decode cX7_beneath 1 = .ok (.iconst 0, 1) := dk_3 (dk_at dksX7_beneath_0 1 rfl rfl)
theorem dX7_beneath_2 : decode cX7_beneath 2 = .ok (.putfield 77, 3) := dk_181 0 77 (dk_at dksX7_beneath_0 2 rfl rfl)
theorem dX7_beneath_5 : decode cX7_beneath 5 = .ok (.aload_n 0, 1) := dk_42 (dk_at dksX7_beneath_0 5 rfl rfl)
theorem dX7_beneath_6 : decode cX7_beneath 6 = .ok (.iload_n 1, 1) := dk_27 (dk_at dksX7_beneath_0 6 rfl rfl)
theorem dX7_beneath_7 : decode cX7_beneath 7 = .ok (.invokevirtual 346, 3) := dk_182 1 90 (dk_at dksX7_beneath_0 7 rfl rfl)
theorem dX7_beneath_10 : decode cX7_beneath 10 = .ok (.ifCond .eq 18, 3) := dk_153 0 18 (dk_at dksX7_beneath_0 10 rfl rfl)
theorem dX7_beneath_13 : decode cX7_beneath 13 = .ok (.aload_n 0, 1) := dk_42 (dk_at dksX7_beneath_0 13 rfl rfl)
theorem dX7_beneath_14 : decode cX7_beneath 14 = .ok (.aload_n 0, 1) := dk_42 (dk_at dksX7_beneath_0 14 rfl rfl)
theorem dX7_beneath_15 : decode cX7_beneath 15 = .ok (.getfield 9, 3) := dk_180 0 9 (dk_at dksX7_beneath_0 15 rfl rfl)
theorem dX7_beneath_18 : decode cX7_beneath 18 = .ok (.bipush 7, 2) := dk_16 7 (dk_at dksX7_beneath_0 18 rfl rfl)
theorem dX7_beneath_20 : decode cX7_beneath 20 = .ok (.iaload, 1) := dk_46 (dk_at dksX7_beneath_0 20 rfl rfl)
theorem dX7_beneath_21 : decode cX7_beneath 21 = .ok (.iload_n 1, 1) := dk_27 (dk_at dksX7_beneath_0 21 rfl rfl)
theorem dX7_beneath_22 : decode cX7_beneath 22 = .ok (.invokevirtual 290, 3) := dk_182 1 34 (dk_at dksX7_beneath_1 0 rfl rfl)
theorem dX7_beneath_25 : decode cX7_beneath 25 = .ok (.goto 8, 3) := dk_167 0 8 (dk_at dksX7_beneath_1 3 rfl rfl)
theorem dX7_beneath_28 : decode cX7_beneath 28 = .ok (.aload_n 0, 1) := dk_42 (dk_at dksX7_beneath_1 6 rfl rfl)
theorem dX7_beneath_29 : decode cX7_beneath 29 = .ok (.iconst 1, 1) := dk_4 (dk_at dksX7_beneath_1 7 rfl rfl)
theorem dX7_beneath_30 : decode cX7_beneath 30 = .ok (.invokevirtual 244, 3) := dk_182 0 244 (dk_at dksX7_beneath_1 8 rfl rfl)
theorem dX7_beneath_33 : decode cX7_beneath 33 = .ok (.ireturn, 1) := dk_172 (dk_at dksX7_beneath_1 11 rfl rfl)
abbrev cX7_beneathAt : ByteArray := prog_43_method_49_code
def yX7_beneathAt : MethodName := ⟨RX7, "beneathAt", "(II)I"⟩
def dkwX7_beneathAt_0 : List UInt8 := [42, 42, 27, 28, 3, 182, 1, 8, 3, 182, 1, 27, 172]
abbrev dktX7_beneathAt_0 : List UInt8 := dkwX7_beneathAt_0 ++ []
theorem dksX7_beneathAt_0 : cX7_beneathAt.data.toList.drop 0 = dktX7_beneathAt_0 := by decide +kernel
theorem dX7_beneathAt_0 : decode cX7_beneathAt 0 = .ok (.aload_n 0, 1) := dk_42 (dk_at dksX7_beneathAt_0 0 rfl rfl)
theorem dX7_beneathAt_1 : decode cX7_beneathAt 1 = .ok (.aload_n 0, 1) := dk_42 (dk_at dksX7_beneathAt_0 1 rfl rfl)
theorem dX7_beneathAt_2 : decode cX7_beneathAt 2 = .ok (.iload_n 1, 1) := dk_27 (dk_at dksX7_beneathAt_0 2 rfl rfl)
theorem dX7_beneathAt_3 : decode cX7_beneathAt 3 = .ok (.iload_n 2, 1) := dk_28 (dk_at dksX7_beneathAt_0 3 rfl rfl)
theorem dX7_beneathAt_4 : decode cX7_beneathAt 4 = .ok (.iconst 0, 1) := dk_3 (dk_at dksX7_beneathAt_0 4 rfl rfl)
theorem dX7_beneathAt_5 : decode cX7_beneathAt 5 = .ok (.invokevirtual 264, 3) := dk_182 1 8 (dk_at dksX7_beneathAt_0 5 rfl rfl)
theorem dX7_beneathAt_8 : decode cX7_beneathAt 8 = .ok (.iconst 0, 1) := dk_3 (dk_at dksX7_beneathAt_0 8 rfl rfl)
theorem dX7_beneathAt_9 : decode cX7_beneathAt 9 = .ok (.invokevirtual 283, 3) := dk_182 1 27 (dk_at dksX7_beneathAt_0 9 rfl rfl)
theorem dX7_beneathAt_12 : decode cX7_beneathAt 12 = .ok (.ireturn, 1) := dk_172 (dk_at dksX7_beneathAt_0 12 rfl rfl)
abbrev cX7_crease : ByteArray := prog_43_method_70_code
def yX7_crease : MethodName := ⟨RX7, "crease", "(I)I"⟩
def dkwX7_crease_1 : List UInt8 := [182, 0, 244, 172, 42, 42, 182, 1, 87, 182, 1, 46, 42, 27, 182, 1, 49, 172]
abbrev dktX7_crease_1 : List UInt8 := dkwX7_crease_1 ++ []
def dkwX7_crease_0 : List UInt8 := [42, 3, 181, 0, 77, 27, 133, 9, 42, 182, 0, 253, 5, 100, 133, 184, 0, 138, 154, 0, 9, 42, 4]
abbrev dktX7_crease_0 : List UInt8 := dkwX7_crease_0 ++ dktX7_crease_1
theorem dksX7_crease_0 : cX7_crease.data.toList.drop 0 = dktX7_crease_0 := by decide +kernel
theorem dksX7_crease_1 : cX7_crease.data.toList.drop 23 = dktX7_crease_1 := dk_seg dksX7_crease_0 23 rfl rfl
theorem dX7_crease_0 : decode cX7_crease 0 = .ok (.aload_n 0, 1) := dk_42 (dk_at dksX7_crease_0 0 rfl rfl)
theorem dX7_crease_1 : decode cX7_crease 1 = .ok (.iconst 0, 1) := dk_3 (dk_at dksX7_crease_0 1 rfl rfl)
theorem dX7_crease_2 : decode cX7_crease 2 = .ok (.putfield 77, 3) := dk_181 0 77 (dk_at dksX7_crease_0 2 rfl rfl)
theorem dX7_crease_5 : decode cX7_crease 5 = .ok (.iload_n 1, 1) := dk_27 (dk_at dksX7_crease_0 5 rfl rfl)
theorem dX7_crease_6 : decode cX7_crease 6 = .ok (.i2l, 1) := dk_133 (dk_at dksX7_crease_0 6 rfl rfl)
theorem dX7_crease_7 : decode cX7_crease 7 = .ok (.lconst 0, 1) := dk_9 (dk_at dksX7_crease_0 7 rfl rfl)
theorem dX7_crease_8 : decode cX7_crease 8 = .ok (.aload_n 0, 1) := dk_42 (dk_at dksX7_crease_0 8 rfl rfl)
theorem dX7_crease_9 : decode cX7_crease 9 = .ok (.invokevirtual 253, 3) := dk_182 0 253 (dk_at dksX7_crease_0 9 rfl rfl)
theorem dX7_crease_12 : decode cX7_crease 12 = .ok (.iconst 2, 1) := dk_5 (dk_at dksX7_crease_0 12 rfl rfl)
theorem dX7_crease_13 : decode cX7_crease 13 = .ok (.isub, 1) := dk_100 (dk_at dksX7_crease_0 13 rfl rfl)
theorem dX7_crease_14 : decode cX7_crease 14 = .ok (.i2l, 1) := dk_133 (dk_at dksX7_crease_0 14 rfl rfl)
theorem dX7_crease_15 : decode cX7_crease 15 = .ok (.invokestatic 138, 3) := dk_184 0 138 (dk_at dksX7_crease_0 15 rfl rfl)
theorem dX7_crease_18 : decode cX7_crease 18 = .ok (.ifCond .ne 9, 3) := dk_154 0 9 (dk_at dksX7_crease_0 18 rfl rfl)
theorem dX7_crease_21 : decode cX7_crease 21 = .ok (.aload_n 0, 1) := dk_42 (dk_at dksX7_crease_0 21 rfl rfl)
theorem dX7_crease_22 : decode cX7_crease 22 = .ok (.iconst 1, 1) := dk_4 (dk_at dksX7_crease_0 22 rfl rfl)
theorem dX7_crease_23 : decode cX7_crease 23 = .ok (.invokevirtual 244, 3) := dk_182 0 244 (dk_at dksX7_crease_1 0 rfl rfl)
theorem dX7_crease_26 : decode cX7_crease 26 = .ok (.ireturn, 1) := dk_172 (dk_at dksX7_crease_1 3 rfl rfl)
theorem dX7_crease_27 : decode cX7_crease 27 = .ok (.aload_n 0, 1) := dk_42 (dk_at dksX7_crease_1 4 rfl rfl)
theorem dX7_crease_28 : decode cX7_crease 28 = .ok (.aload_n 0, 1) := dk_42 (dk_at dksX7_crease_1 5 rfl rfl)
theorem dX7_crease_29 : decode cX7_crease 29 = .ok (.invokevirtual 343, 3) := dk_182 1 87 (dk_at dksX7_crease_1 6 rfl rfl)
theorem dX7_crease_32 : decode cX7_crease 32 = .ok (.invokevirtual 302, 3) := dk_182 1 46 (dk_at dksX7_crease_1 9 rfl rfl)
theorem dX7_crease_35 : decode cX7_crease 35 = .ok (.aload_n 0, 1) := dk_42 (dk_at dksX7_crease_1 12 rfl rfl)
theorem dX7_crease_36 : decode cX7_crease 36 = .ok (.iload_n 1, 1) := dk_27 (dk_at dksX7_crease_1 13 rfl rfl)
theorem dX7_crease_37 : decode cX7_crease 37 = .ok (.invokevirtual 305, 3) := dk_182 1 49 (dk_at dksX7_crease_1 14 rfl rfl)
theorem dX7_crease_40 : decode cX7_crease 40 = .ok (.ireturn, 1) := dk_172 (dk_at dksX7_crease_1 17 rfl rfl)
abbrev cX7_creaseOf : ByteArray := prog_43_method_55_code
def yX7_creaseOf : MethodName := ⟨RX7, "creaseOf", "(I)I"⟩
def dkwX7_creaseOf_1 : List UInt8 := [159, 0, 5, 3, 172, 28, 29, 184, 1, 43, 5, 112, 4, 160, 0, 7, 5, 167, 0, 4, 4, 172]
abbrev dktX7_creaseOf_1 : List UInt8 := dkwX7_creaseOf_1 ++ []
def dkwX7_creaseOf_0 : List UInt8 := [42, 180, 0, 33, 27, 46, 61, 42, 180, 0, 33, 27, 4, 96, 46, 62, 28, 16, 16, 108, 29, 16, 16, 108]
abbrev dktX7_creaseOf_0 : List UInt8 := dkwX7_creaseOf_0 ++ dktX7_creaseOf_1
theorem dksX7_creaseOf_0 : cX7_creaseOf.data.toList.drop 0 = dktX7_creaseOf_0 := by decide +kernel
theorem dksX7_creaseOf_1 : cX7_creaseOf.data.toList.drop 24 = dktX7_creaseOf_1 := dk_seg dksX7_creaseOf_0 24 rfl rfl
theorem dX7_creaseOf_0 : decode cX7_creaseOf 0 = .ok (.aload_n 0, 1) := dk_42 (dk_at dksX7_creaseOf_0 0 rfl rfl)
theorem dX7_creaseOf_1 : decode cX7_creaseOf 1 = .ok (.getfield 33, 3) := dk_180 0 33 (dk_at dksX7_creaseOf_0 1 rfl rfl)
theorem dX7_creaseOf_4 : decode cX7_creaseOf 4 = .ok (.iload_n 1, 1) := dk_27 (dk_at dksX7_creaseOf_0 4 rfl rfl)
theorem dX7_creaseOf_5 : decode cX7_creaseOf 5 = .ok (.iaload, 1) := dk_46 (dk_at dksX7_creaseOf_0 5 rfl rfl)
theorem dX7_creaseOf_6 : decode cX7_creaseOf 6 = .ok (.istore_n 2, 1) := dk_61 (dk_at dksX7_creaseOf_0 6 rfl rfl)
theorem dX7_creaseOf_7 : decode cX7_creaseOf 7 = .ok (.aload_n 0, 1) := dk_42 (dk_at dksX7_creaseOf_0 7 rfl rfl)
theorem dX7_creaseOf_8 : decode cX7_creaseOf 8 = .ok (.getfield 33, 3) := dk_180 0 33 (dk_at dksX7_creaseOf_0 8 rfl rfl)
theorem dX7_creaseOf_11 : decode cX7_creaseOf 11 = .ok (.iload_n 1, 1) := dk_27 (dk_at dksX7_creaseOf_0 11 rfl rfl)
theorem dX7_creaseOf_12 : decode cX7_creaseOf 12 = .ok (.iconst 1, 1) := dk_4 (dk_at dksX7_creaseOf_0 12 rfl rfl)
theorem dX7_creaseOf_13 : decode cX7_creaseOf 13 = .ok (.iadd, 1) := dk_96 (dk_at dksX7_creaseOf_0 13 rfl rfl)
theorem dX7_creaseOf_14 : decode cX7_creaseOf 14 = .ok (.iaload, 1) := dk_46 (dk_at dksX7_creaseOf_0 14 rfl rfl)
theorem dX7_creaseOf_15 : decode cX7_creaseOf 15 = .ok (.istore_n 3, 1) := dk_62 (dk_at dksX7_creaseOf_0 15 rfl rfl)
theorem dX7_creaseOf_16 : decode cX7_creaseOf 16 = .ok (.iload_n 2, 1) := dk_28 (dk_at dksX7_creaseOf_0 16 rfl rfl)
theorem dX7_creaseOf_17 : decode cX7_creaseOf 17 = .ok (.bipush 16, 2) := dk_16 16 (dk_at dksX7_creaseOf_0 17 rfl rfl)
theorem dX7_creaseOf_19 : decode cX7_creaseOf 19 = .ok (.idiv, 1) := dk_108 (dk_at dksX7_creaseOf_0 19 rfl rfl)
theorem dX7_creaseOf_20 : decode cX7_creaseOf 20 = .ok (.iload_n 3, 1) := dk_29 (dk_at dksX7_creaseOf_0 20 rfl rfl)
theorem dX7_creaseOf_21 : decode cX7_creaseOf 21 = .ok (.bipush 16, 2) := dk_16 16 (dk_at dksX7_creaseOf_0 21 rfl rfl)
theorem dX7_creaseOf_23 : decode cX7_creaseOf 23 = .ok (.idiv, 1) := dk_108 (dk_at dksX7_creaseOf_0 23 rfl rfl)
theorem dX7_creaseOf_24 : decode cX7_creaseOf 24 = .ok (.if_icmp .eq 5, 3) := dk_159 0 5 (dk_at dksX7_creaseOf_1 0 rfl rfl)
theorem dX7_creaseOf_27 : decode cX7_creaseOf 27 = .ok (.iconst 0, 1) := dk_3 (dk_at dksX7_creaseOf_1 3 rfl rfl)
theorem dX7_creaseOf_28 : decode cX7_creaseOf 28 = .ok (.ireturn, 1) := dk_172 (dk_at dksX7_creaseOf_1 4 rfl rfl)
theorem dX7_creaseOf_29 : decode cX7_creaseOf 29 = .ok (.iload_n 2, 1) := dk_28 (dk_at dksX7_creaseOf_1 5 rfl rfl)
theorem dX7_creaseOf_30 : decode cX7_creaseOf 30 = .ok (.iload_n 3, 1) := dk_29 (dk_at dksX7_creaseOf_1 6 rfl rfl)
theorem dX7_creaseOf_31 : decode cX7_creaseOf 31 = .ok (.invokestatic 299, 3) := dk_184 1 43 (dk_at dksX7_creaseOf_1 7 rfl rfl)
theorem dX7_creaseOf_34 : decode cX7_creaseOf 34 = .ok (.iconst 2, 1) := dk_5 (dk_at dksX7_creaseOf_1 10 rfl rfl)
theorem dX7_creaseOf_35 : decode cX7_creaseOf 35 = .ok (.irem, 1) := dk_112 (dk_at dksX7_creaseOf_1 11 rfl rfl)
theorem dX7_creaseOf_36 : decode cX7_creaseOf 36 = .ok (.iconst 1, 1) := dk_4 (dk_at dksX7_creaseOf_1 12 rfl rfl)
theorem dX7_creaseOf_37 : decode cX7_creaseOf 37 = .ok (.if_icmp .ne 7, 3) := dk_160 0 7 (dk_at dksX7_creaseOf_1 13 rfl rfl)
theorem dX7_creaseOf_40 : decode cX7_creaseOf 40 = .ok (.iconst 2, 1) := dk_5 (dk_at dksX7_creaseOf_1 16 rfl rfl)
theorem dX7_creaseOf_41 : decode cX7_creaseOf 41 = .ok (.goto 4, 3) := dk_167 0 4 (dk_at dksX7_creaseOf_1 17 rfl rfl)
theorem dX7_creaseOf_44 : decode cX7_creaseOf 44 = .ok (.iconst 1, 1) := dk_4 (dk_at dksX7_creaseOf_1 20 rfl rfl)
theorem dX7_creaseOf_45 : decode cX7_creaseOf 45 = .ok (.ireturn, 1) := dk_172 (dk_at dksX7_creaseOf_1 21 rfl rfl)
abbrev cX7_folded : ByteArray := prog_43_method_71_code
def yX7_folded : MethodName := ⟨RX7, "folded", "(I)I"⟩
def dkwX7_folded_1 : List UInt8 := [162, 0, 15, 42, 180, 0, 9, 16, 8, 27, 96, 46, 167, 0, 4, 2, 172]
abbrev dktX7_folded_1 : List UInt8 := dkwX7_folded_1 ++ []
def dkwX7_folded_0 : List UInt8 := [42, 3, 181, 0, 77, 27, 156, 0, 9, 42, 4, 182, 0, 244, 172, 27, 42, 180, 0, 9, 16, 7, 46]
abbrev dktX7_folded_0 : List UInt8 := dkwX7_folded_0 ++ dktX7_folded_1
theorem dksX7_folded_0 : cX7_folded.data.toList.drop 0 = dktX7_folded_0 := by decide +kernel
theorem dksX7_folded_1 : cX7_folded.data.toList.drop 23 = dktX7_folded_1 := dk_seg dksX7_folded_0 23 rfl rfl
theorem dX7_folded_0 : decode cX7_folded 0 = .ok (.aload_n 0, 1) := dk_42 (dk_at dksX7_folded_0 0 rfl rfl)
theorem dX7_folded_1 : decode cX7_folded 1 = .ok (.iconst 0, 1) := dk_3 (dk_at dksX7_folded_0 1 rfl rfl)
theorem dX7_folded_2 : decode cX7_folded 2 = .ok (.putfield 77, 3) := dk_181 0 77 (dk_at dksX7_folded_0 2 rfl rfl)
theorem dX7_folded_5 : decode cX7_folded 5 = .ok (.iload_n 1, 1) := dk_27 (dk_at dksX7_folded_0 5 rfl rfl)
theorem dX7_folded_6 : decode cX7_folded 6 = .ok (.ifCond .ge 9, 3) := dk_156 0 9 (dk_at dksX7_folded_0 6 rfl rfl)
theorem dX7_folded_9 : decode cX7_folded 9 = .ok (.aload_n 0, 1) := dk_42 (dk_at dksX7_folded_0 9 rfl rfl)
theorem dX7_folded_10 : decode cX7_folded 10 = .ok (.iconst 1, 1) := dk_4 (dk_at dksX7_folded_0 10 rfl rfl)
theorem dX7_folded_11 : decode cX7_folded 11 = .ok (.invokevirtual 244, 3) := dk_182 0 244 (dk_at dksX7_folded_0 11 rfl rfl)
theorem dX7_folded_14 : decode cX7_folded 14 = .ok (.ireturn, 1) := dk_172 (dk_at dksX7_folded_0 14 rfl rfl)
theorem dX7_folded_15 : decode cX7_folded 15 = .ok (.iload_n 1, 1) := dk_27 (dk_at dksX7_folded_0 15 rfl rfl)
theorem dX7_folded_16 : decode cX7_folded 16 = .ok (.aload_n 0, 1) := dk_42 (dk_at dksX7_folded_0 16 rfl rfl)
theorem dX7_folded_17 : decode cX7_folded 17 = .ok (.getfield 9, 3) := dk_180 0 9 (dk_at dksX7_folded_0 17 rfl rfl)
theorem dX7_folded_20 : decode cX7_folded 20 = .ok (.bipush 7, 2) := dk_16 7 (dk_at dksX7_folded_0 20 rfl rfl)
theorem dX7_folded_22 : decode cX7_folded 22 = .ok (.iaload, 1) := dk_46 (dk_at dksX7_folded_0 22 rfl rfl)
theorem dX7_folded_23 : decode cX7_folded 23 = .ok (.if_icmp .ge 15, 3) := dk_162 0 15 (dk_at dksX7_folded_1 0 rfl rfl)
theorem dX7_folded_26 : decode cX7_folded 26 = .ok (.aload_n 0, 1) := dk_42 (dk_at dksX7_folded_1 3 rfl rfl)
theorem dX7_folded_27 : decode cX7_folded 27 = .ok (.getfield 9, 3) := dk_180 0 9 (dk_at dksX7_folded_1 4 rfl rfl)
theorem dX7_folded_30 : decode cX7_folded 30 = .ok (.bipush 8, 2) := dk_16 8 (dk_at dksX7_folded_1 7 rfl rfl)
theorem dX7_folded_32 : decode cX7_folded 32 = .ok (.iload_n 1, 1) := dk_27 (dk_at dksX7_folded_1 9 rfl rfl)
theorem dX7_folded_33 : decode cX7_folded 33 = .ok (.iadd, 1) := dk_96 (dk_at dksX7_folded_1 10 rfl rfl)
theorem dX7_folded_34 : decode cX7_folded 34 = .ok (.iaload, 1) := dk_46 (dk_at dksX7_folded_1 11 rfl rfl)
theorem dX7_folded_35 : decode cX7_folded 35 = .ok (.goto 4, 3) := dk_167 0 4 (dk_at dksX7_folded_1 12 rfl rfl)
theorem dX7_folded_38 : decode cX7_folded 38 = .ok (.iconst (-1), 1) := dk_2 (dk_at dksX7_folded_1 15 rfl rfl)
theorem dX7_folded_39 : decode cX7_folded 39 = .ok (.ireturn, 1) := dk_172 (dk_at dksX7_folded_1 16 rfl rfl)
abbrev cX7_worth : ByteArray := prog_43_method_72_code
def yX7_worth : MethodName := ⟨RX7, "worth", "()I"⟩
def dkwX7_worth_0 : List UInt8 := [42, 3, 181, 0, 77, 42, 42, 182, 1, 87, 182, 1, 93, 172]
abbrev dktX7_worth_0 : List UInt8 := dkwX7_worth_0 ++ []
theorem dksX7_worth_0 : cX7_worth.data.toList.drop 0 = dktX7_worth_0 := by decide +kernel
theorem dX7_worth_0 : decode cX7_worth 0 = .ok (.aload_n 0, 1) := dk_42 (dk_at dksX7_worth_0 0 rfl rfl)
theorem dX7_worth_1 : decode cX7_worth 1 = .ok (.iconst 0, 1) := dk_3 (dk_at dksX7_worth_0 1 rfl rfl)
theorem dX7_worth_2 : decode cX7_worth 2 = .ok (.putfield 77, 3) := dk_181 0 77 (dk_at dksX7_worth_0 2 rfl rfl)
theorem dX7_worth_5 : decode cX7_worth 5 = .ok (.aload_n 0, 1) := dk_42 (dk_at dksX7_worth_0 5 rfl rfl)
theorem dX7_worth_6 : decode cX7_worth 6 = .ok (.aload_n 0, 1) := dk_42 (dk_at dksX7_worth_0 6 rfl rfl)
theorem dX7_worth_7 : decode cX7_worth 7 = .ok (.invokevirtual 343, 3) := dk_182 1 87 (dk_at dksX7_worth_0 7 rfl rfl)
theorem dX7_worth_10 : decode cX7_worth 10 = .ok (.invokevirtual 349, 3) := dk_182 1 93 (dk_at dksX7_worth_0 10 rfl rfl)
theorem dX7_worth_13 : decode cX7_worth 13 = .ok (.ireturn, 1) := dk_172 (dk_at dksX7_worth_0 13 rfl rfl)
abbrev cX7_worthAt : ByteArray := prog_43_method_61_code
def yX7_worthAt : MethodName := ⟨RX7, "worthAt", "(I)I"⟩
def dkwX7_worthAt_1 : List UInt8 := [172]
abbrev dktX7_worthAt_1 : List UInt8 := dkwX7_worthAt_1 ++ []
def dkwX7_worthAt_0 : List UInt8 := [42, 180, 0, 9, 6, 46, 154, 0, 5, 3, 172, 42, 27, 182, 1, 75, 42, 6, 17, 0, 209, 182, 1, 78]
abbrev dktX7_worthAt_0 : List UInt8 := dkwX7_worthAt_0 ++ dktX7_worthAt_1
theorem dksX7_worthAt_0 : cX7_worthAt.data.toList.drop 0 = dktX7_worthAt_0 := by decide +kernel
theorem dksX7_worthAt_1 : cX7_worthAt.data.toList.drop 24 = dktX7_worthAt_1 := dk_seg dksX7_worthAt_0 24 rfl rfl
theorem dX7_worthAt_0 : decode cX7_worthAt 0 = .ok (.aload_n 0, 1) := dk_42 (dk_at dksX7_worthAt_0 0 rfl rfl)
theorem dX7_worthAt_1 : decode cX7_worthAt 1 = .ok (.getfield 9, 3) := dk_180 0 9 (dk_at dksX7_worthAt_0 1 rfl rfl)
theorem dX7_worthAt_4 : decode cX7_worthAt 4 = .ok (.iconst 3, 1) := dk_6 (dk_at dksX7_worthAt_0 4 rfl rfl)
theorem dX7_worthAt_5 : decode cX7_worthAt 5 = .ok (.iaload, 1) := dk_46 (dk_at dksX7_worthAt_0 5 rfl rfl)
theorem dX7_worthAt_6 : decode cX7_worthAt 6 = .ok (.ifCond .ne 5, 3) := dk_154 0 5 (dk_at dksX7_worthAt_0 6 rfl rfl)
theorem dX7_worthAt_9 : decode cX7_worthAt 9 = .ok (.iconst 0, 1) := dk_3 (dk_at dksX7_worthAt_0 9 rfl rfl)
theorem dX7_worthAt_10 : decode cX7_worthAt 10 = .ok (.ireturn, 1) := dk_172 (dk_at dksX7_worthAt_0 10 rfl rfl)
theorem dX7_worthAt_11 : decode cX7_worthAt 11 = .ok (.aload_n 0, 1) := dk_42 (dk_at dksX7_worthAt_0 11 rfl rfl)
theorem dX7_worthAt_12 : decode cX7_worthAt 12 = .ok (.iload_n 1, 1) := dk_27 (dk_at dksX7_worthAt_0 12 rfl rfl)
theorem dX7_worthAt_13 : decode cX7_worthAt 13 = .ok (.invokevirtual 331, 3) := dk_182 1 75 (dk_at dksX7_worthAt_0 13 rfl rfl)
theorem dX7_worthAt_16 : decode cX7_worthAt 16 = .ok (.aload_n 0, 1) := dk_42 (dk_at dksX7_worthAt_0 16 rfl rfl)
theorem dX7_worthAt_17 : decode cX7_worthAt 17 = .ok (.iconst 3, 1) := dk_6 (dk_at dksX7_worthAt_0 17 rfl rfl)
theorem dX7_worthAt_18 : decode cX7_worthAt 18 = .ok (.sipush 209, 3) := dk_17 0 209 (dk_at dksX7_worthAt_0 18 rfl rfl)
theorem dX7_worthAt_21 : decode cX7_worthAt 21 = .ok (.invokevirtual 334, 3) := dk_182 1 78 (dk_at dksX7_worthAt_0 21 rfl rfl)
theorem dX7_worthAt_24 : decode cX7_worthAt 24 = .ok (.ireturn, 1) := dk_172 (dk_at dksX7_worthAt_1 0 rfl rfl)
abbrev cX7_asks : ByteArray := prog_43_method_60_code
def yX7_asks : MethodName := ⟨RX7, "asks", "(I)V"⟩
def dkwX7_asks_2 : List UInt8 := [182, 1, 40, 79, 42, 180, 0, 39, 8, 42, 27, 182, 1, 72, 79, 177]
abbrev dktX7_asks_2 : List UInt8 := dkwX7_asks_2 ++ []
def dkwX7_asks_1 : List UInt8 := [180, 0, 39, 5, 27, 79, 42, 180, 0, 39, 6, 42, 27, 182, 1, 37, 79, 42, 180, 0, 39, 7, 42, 27]
abbrev dktX7_asks_1 : List UInt8 := dkwX7_asks_1 ++ dktX7_asks_2
def dkwX7_asks_0 : List UInt8 := [42, 180, 0, 39, 3, 42, 27, 182, 1, 0, 79, 42, 180, 0, 39, 4, 42, 27, 182, 1, 69, 79, 42]
abbrev dktX7_asks_0 : List UInt8 := dkwX7_asks_0 ++ dktX7_asks_1
theorem dksX7_asks_0 : cX7_asks.data.toList.drop 0 = dktX7_asks_0 := by decide +kernel
theorem dksX7_asks_1 : cX7_asks.data.toList.drop 23 = dktX7_asks_1 := dk_seg dksX7_asks_0 23 rfl rfl
theorem dksX7_asks_2 : cX7_asks.data.toList.drop 47 = dktX7_asks_2 := dk_seg dksX7_asks_1 24 rfl rfl
theorem dX7_asks_0 : decode cX7_asks 0 = .ok (.aload_n 0, 1) := dk_42 (dk_at dksX7_asks_0 0 rfl rfl)
theorem dX7_asks_1 : decode cX7_asks 1 = .ok (.getfield 39, 3) := dk_180 0 39 (dk_at dksX7_asks_0 1 rfl rfl)
theorem dX7_asks_4 : decode cX7_asks 4 = .ok (.iconst 0, 1) := dk_3 (dk_at dksX7_asks_0 4 rfl rfl)
theorem dX7_asks_5 : decode cX7_asks 5 = .ok (.aload_n 0, 1) := dk_42 (dk_at dksX7_asks_0 5 rfl rfl)
theorem dX7_asks_6 : decode cX7_asks 6 = .ok (.iload_n 1, 1) := dk_27 (dk_at dksX7_asks_0 6 rfl rfl)
theorem dX7_asks_7 : decode cX7_asks 7 = .ok (.invokevirtual 256, 3) := dk_182 1 0 (dk_at dksX7_asks_0 7 rfl rfl)
theorem dX7_asks_10 : decode cX7_asks 10 = .ok (.iastore, 1) := dk_79 (dk_at dksX7_asks_0 10 rfl rfl)
theorem dX7_asks_11 : decode cX7_asks 11 = .ok (.aload_n 0, 1) := dk_42 (dk_at dksX7_asks_0 11 rfl rfl)
theorem dX7_asks_12 : decode cX7_asks 12 = .ok (.getfield 39, 3) := dk_180 0 39 (dk_at dksX7_asks_0 12 rfl rfl)
theorem dX7_asks_15 : decode cX7_asks 15 = .ok (.iconst 1, 1) := dk_4 (dk_at dksX7_asks_0 15 rfl rfl)
theorem dX7_asks_16 : decode cX7_asks 16 = .ok (.aload_n 0, 1) := dk_42 (dk_at dksX7_asks_0 16 rfl rfl)
theorem dX7_asks_17 : decode cX7_asks 17 = .ok (.iload_n 1, 1) := dk_27 (dk_at dksX7_asks_0 17 rfl rfl)
theorem dX7_asks_18 : decode cX7_asks 18 = .ok (.invokevirtual 325, 3) := dk_182 1 69 (dk_at dksX7_asks_0 18 rfl rfl)
theorem dX7_asks_21 : decode cX7_asks 21 = .ok (.iastore, 1) := dk_79 (dk_at dksX7_asks_0 21 rfl rfl)
theorem dX7_asks_22 : decode cX7_asks 22 = .ok (.aload_n 0, 1) := dk_42 (dk_at dksX7_asks_0 22 rfl rfl)
theorem dX7_asks_23 : decode cX7_asks 23 = .ok (.getfield 39, 3) := dk_180 0 39 (dk_at dksX7_asks_1 0 rfl rfl)
theorem dX7_asks_26 : decode cX7_asks 26 = .ok (.iconst 2, 1) := dk_5 (dk_at dksX7_asks_1 3 rfl rfl)
theorem dX7_asks_27 : decode cX7_asks 27 = .ok (.iload_n 1, 1) := dk_27 (dk_at dksX7_asks_1 4 rfl rfl)
theorem dX7_asks_28 : decode cX7_asks 28 = .ok (.iastore, 1) := dk_79 (dk_at dksX7_asks_1 5 rfl rfl)
theorem dX7_asks_29 : decode cX7_asks 29 = .ok (.aload_n 0, 1) := dk_42 (dk_at dksX7_asks_1 6 rfl rfl)
theorem dX7_asks_30 : decode cX7_asks 30 = .ok (.getfield 39, 3) := dk_180 0 39 (dk_at dksX7_asks_1 7 rfl rfl)
theorem dX7_asks_33 : decode cX7_asks 33 = .ok (.iconst 3, 1) := dk_6 (dk_at dksX7_asks_1 10 rfl rfl)
theorem dX7_asks_34 : decode cX7_asks 34 = .ok (.aload_n 0, 1) := dk_42 (dk_at dksX7_asks_1 11 rfl rfl)
theorem dX7_asks_35 : decode cX7_asks 35 = .ok (.iload_n 1, 1) := dk_27 (dk_at dksX7_asks_1 12 rfl rfl)
theorem dX7_asks_36 : decode cX7_asks 36 = .ok (.invokevirtual 293, 3) := dk_182 1 37 (dk_at dksX7_asks_1 13 rfl rfl)
theorem dX7_asks_39 : decode cX7_asks 39 = .ok (.iastore, 1) := dk_79 (dk_at dksX7_asks_1 16 rfl rfl)
theorem dX7_asks_40 : decode cX7_asks 40 = .ok (.aload_n 0, 1) := dk_42 (dk_at dksX7_asks_1 17 rfl rfl)
theorem dX7_asks_41 : decode cX7_asks 41 = .ok (.getfield 39, 3) := dk_180 0 39 (dk_at dksX7_asks_1 18 rfl rfl)
theorem dX7_asks_44 : decode cX7_asks 44 = .ok (.iconst 4, 1) := dk_7 (dk_at dksX7_asks_1 21 rfl rfl)
theorem dX7_asks_45 : decode cX7_asks 45 = .ok (.aload_n 0, 1) := dk_42 (dk_at dksX7_asks_1 22 rfl rfl)
theorem dX7_asks_46 : decode cX7_asks 46 = .ok (.iload_n 1, 1) := dk_27 (dk_at dksX7_asks_1 23 rfl rfl)
theorem dX7_asks_47 : decode cX7_asks 47 = .ok (.invokevirtual 296, 3) := dk_182 1 40 (dk_at dksX7_asks_2 0 rfl rfl)
theorem dX7_asks_50 : decode cX7_asks 50 = .ok (.iastore, 1) := dk_79 (dk_at dksX7_asks_2 3 rfl rfl)
theorem dX7_asks_51 : decode cX7_asks 51 = .ok (.aload_n 0, 1) := dk_42 (dk_at dksX7_asks_2 4 rfl rfl)
theorem dX7_asks_52 : decode cX7_asks 52 = .ok (.getfield 39, 3) := dk_180 0 39 (dk_at dksX7_asks_2 5 rfl rfl)
theorem dX7_asks_55 : decode cX7_asks 55 = .ok (.iconst 5, 1) := dk_8 (dk_at dksX7_asks_2 8 rfl rfl)
theorem dX7_asks_56 : decode cX7_asks 56 = .ok (.aload_n 0, 1) := dk_42 (dk_at dksX7_asks_2 9 rfl rfl)
theorem dX7_asks_57 : decode cX7_asks 57 = .ok (.iload_n 1, 1) := dk_27 (dk_at dksX7_asks_2 10 rfl rfl)
theorem dX7_asks_58 : decode cX7_asks 58 = .ok (.invokevirtual 328, 3) := dk_182 1 72 (dk_at dksX7_asks_2 11 rfl rfl)
theorem dX7_asks_61 : decode cX7_asks 61 = .ok (.iastore, 1) := dk_79 (dk_at dksX7_asks_2 14 rfl rfl)
theorem dX7_asks_62 : decode cX7_asks 62 = .ok (.return_, 1) := dk_177 (dk_at dksX7_asks_2 15 rfl rfl)
abbrev cX7_highestAt : ByteArray := prog_43_method_50_code
def yX7_highestAt : MethodName := ⟨RX7, "highestAt", "(I)I"⟩
def dkwX7_highestAt_1 : List UInt8 := [132, 3, 1, 167, 255, 233, 28, 172]
abbrev dktX7_highestAt_1 : List UInt8 := dkwX7_highestAt_1 ++ []
def dkwX7_highestAt_0 : List UInt8 := [3, 61, 3, 62, 29, 42, 27, 182, 1, 0, 162, 0, 20, 28, 42, 27, 29, 182, 1, 5, 184, 1, 12, 61]
abbrev dktX7_highestAt_0 : List UInt8 := dkwX7_highestAt_0 ++ dktX7_highestAt_1
theorem dksX7_highestAt_0 : cX7_highestAt.data.toList.drop 0 = dktX7_highestAt_0 := by decide +kernel
theorem dksX7_highestAt_1 : cX7_highestAt.data.toList.drop 24 = dktX7_highestAt_1 := dk_seg dksX7_highestAt_0 24 rfl rfl
theorem dX7_highestAt_0 : decode cX7_highestAt 0 = .ok (.iconst 0, 1) := dk_3 (dk_at dksX7_highestAt_0 0 rfl rfl)
theorem dX7_highestAt_1 : decode cX7_highestAt 1 = .ok (.istore_n 2, 1) := dk_61 (dk_at dksX7_highestAt_0 1 rfl rfl)
theorem dX7_highestAt_2 : decode cX7_highestAt 2 = .ok (.iconst 0, 1) := dk_3 (dk_at dksX7_highestAt_0 2 rfl rfl)
theorem dX7_highestAt_3 : decode cX7_highestAt 3 = .ok (.istore_n 3, 1) := dk_62 (dk_at dksX7_highestAt_0 3 rfl rfl)
theorem dX7_highestAt_4 : decode cX7_highestAt 4 = .ok (.iload_n 3, 1) := dk_29 (dk_at dksX7_highestAt_0 4 rfl rfl)
theorem dX7_highestAt_5 : decode cX7_highestAt 5 = .ok (.aload_n 0, 1) := dk_42 (dk_at dksX7_highestAt_0 5 rfl rfl)
theorem dX7_highestAt_6 : decode cX7_highestAt 6 = .ok (.iload_n 1, 1) := dk_27 (dk_at dksX7_highestAt_0 6 rfl rfl)
theorem dX7_highestAt_7 : decode cX7_highestAt 7 = .ok (.invokevirtual 256, 3) := dk_182 1 0 (dk_at dksX7_highestAt_0 7 rfl rfl)
theorem dX7_highestAt_10 : decode cX7_highestAt 10 = .ok (.if_icmp .ge 20, 3) := dk_162 0 20 (dk_at dksX7_highestAt_0 10 rfl rfl)
theorem dX7_highestAt_13 : decode cX7_highestAt 13 = .ok (.iload_n 2, 1) := dk_28 (dk_at dksX7_highestAt_0 13 rfl rfl)
theorem dX7_highestAt_14 : decode cX7_highestAt 14 = .ok (.aload_n 0, 1) := dk_42 (dk_at dksX7_highestAt_0 14 rfl rfl)
theorem dX7_highestAt_15 : decode cX7_highestAt 15 = .ok (.iload_n 1, 1) := dk_27 (dk_at dksX7_highestAt_0 15 rfl rfl)
theorem dX7_highestAt_16 : decode cX7_highestAt 16 = .ok (.iload_n 3, 1) := dk_29 (dk_at dksX7_highestAt_0 16 rfl rfl)
theorem dX7_highestAt_17 : decode cX7_highestAt 17 = .ok (.invokevirtual 261, 3) := dk_182 1 5 (dk_at dksX7_highestAt_0 17 rfl rfl)
theorem dX7_highestAt_20 : decode cX7_highestAt 20 = .ok (.invokestatic 268, 3) := dk_184 1 12 (dk_at dksX7_highestAt_0 20 rfl rfl)
theorem dX7_highestAt_23 : decode cX7_highestAt 23 = .ok (.istore_n 2, 1) := dk_61 (dk_at dksX7_highestAt_0 23 rfl rfl)
theorem dX7_highestAt_24 : decode cX7_highestAt 24 = .ok (.iinc 3 1, 3) := dk_132 3 1 (dk_at dksX7_highestAt_1 0 rfl rfl)
theorem dX7_highestAt_27 : decode cX7_highestAt 27 = .ok (.goto (-23), 3) := dk_167 255 233 (dk_at dksX7_highestAt_1 3 rfl rfl)
theorem dX7_highestAt_30 : decode cX7_highestAt 30 = .ok (.iload_n 2, 1) := dk_28 (dk_at dksX7_highestAt_1 6 rfl rfl)
theorem dX7_highestAt_31 : decode cX7_highestAt 31 = .ok (.ireturn, 1) := dk_172 (dk_at dksX7_highestAt_1 7 rfl rfl)
abbrev cX7_topAt : ByteArray := prog_43_method_51_code
def yX7_topAt : MethodName := ⟨RX7, "topAt", "(I)I"⟩
def dkwX7_topAt_1 : List UInt8 := [132, 3, 1, 167, 255, 235, 28, 172]
abbrev dktX7_topAt_1 : List UInt8 := dkwX7_topAt_1 ++ []
def dkwX7_topAt_0 : List UInt8 := [3, 61, 3, 62, 29, 42, 27, 182, 1, 0, 162, 0, 18, 28, 42, 27, 29, 182, 1, 31, 96, 61]
abbrev dktX7_topAt_0 : List UInt8 := dkwX7_topAt_0 ++ dktX7_topAt_1
theorem dksX7_topAt_0 : cX7_topAt.data.toList.drop 0 = dktX7_topAt_0 := by decide +kernel
theorem dksX7_topAt_1 : cX7_topAt.data.toList.drop 22 = dktX7_topAt_1 := dk_seg dksX7_topAt_0 22 rfl rfl
theorem dX7_topAt_0 : decode cX7_topAt 0 = .ok (.iconst 0, 1) := dk_3 (dk_at dksX7_topAt_0 0 rfl rfl)
theorem dX7_topAt_1 : decode cX7_topAt 1 = .ok (.istore_n 2, 1) := dk_61 (dk_at dksX7_topAt_0 1 rfl rfl)
theorem dX7_topAt_2 : decode cX7_topAt 2 = .ok (.iconst 0, 1) := dk_3 (dk_at dksX7_topAt_0 2 rfl rfl)
theorem dX7_topAt_3 : decode cX7_topAt 3 = .ok (.istore_n 3, 1) := dk_62 (dk_at dksX7_topAt_0 3 rfl rfl)
theorem dX7_topAt_4 : decode cX7_topAt 4 = .ok (.iload_n 3, 1) := dk_29 (dk_at dksX7_topAt_0 4 rfl rfl)
theorem dX7_topAt_5 : decode cX7_topAt 5 = .ok (.aload_n 0, 1) := dk_42 (dk_at dksX7_topAt_0 5 rfl rfl)
theorem dX7_topAt_6 : decode cX7_topAt 6 = .ok (.iload_n 1, 1) := dk_27 (dk_at dksX7_topAt_0 6 rfl rfl)
theorem dX7_topAt_7 : decode cX7_topAt 7 = .ok (.invokevirtual 256, 3) := dk_182 1 0 (dk_at dksX7_topAt_0 7 rfl rfl)
theorem dX7_topAt_10 : decode cX7_topAt 10 = .ok (.if_icmp .ge 18, 3) := dk_162 0 18 (dk_at dksX7_topAt_0 10 rfl rfl)
theorem dX7_topAt_13 : decode cX7_topAt 13 = .ok (.iload_n 2, 1) := dk_28 (dk_at dksX7_topAt_0 13 rfl rfl)
theorem dX7_topAt_14 : decode cX7_topAt 14 = .ok (.aload_n 0, 1) := dk_42 (dk_at dksX7_topAt_0 14 rfl rfl)
theorem dX7_topAt_15 : decode cX7_topAt 15 = .ok (.iload_n 1, 1) := dk_27 (dk_at dksX7_topAt_0 15 rfl rfl)
theorem dX7_topAt_16 : decode cX7_topAt 16 = .ok (.iload_n 3, 1) := dk_29 (dk_at dksX7_topAt_0 16 rfl rfl)
theorem dX7_topAt_17 : decode cX7_topAt 17 = .ok (.invokevirtual 287, 3) := dk_182 1 31 (dk_at dksX7_topAt_0 17 rfl rfl)
theorem dX7_topAt_20 : decode cX7_topAt 20 = .ok (.iadd, 1) := dk_96 (dk_at dksX7_topAt_0 20 rfl rfl)
theorem dX7_topAt_21 : decode cX7_topAt 21 = .ok (.istore_n 2, 1) := dk_61 (dk_at dksX7_topAt_0 21 rfl rfl)
theorem dX7_topAt_22 : decode cX7_topAt 22 = .ok (.iinc 3 1, 3) := dk_132 3 1 (dk_at dksX7_topAt_1 0 rfl rfl)
theorem dX7_topAt_25 : decode cX7_topAt 25 = .ok (.goto (-21), 3) := dk_167 255 235 (dk_at dksX7_topAt_1 3 rfl rfl)
theorem dX7_topAt_28 : decode cX7_topAt 28 = .ok (.iload_n 2, 1) := dk_28 (dk_at dksX7_topAt_1 6 rfl rfl)
theorem dX7_topAt_29 : decode cX7_topAt 29 = .ok (.ireturn, 1) := dk_172 (dk_at dksX7_topAt_1 7 rfl rfl)
abbrev cX7_underAt : ByteArray := prog_43_method_52_code
def yX7_underAt : MethodName := ⟨RX7, "underAt", "(I)I"⟩
def dkwX7_underAt_1 : List UInt8 := [132, 3, 1, 167, 255, 235, 28, 172]
abbrev dktX7_underAt_1 : List UInt8 := dkwX7_underAt_1 ++ []
def dkwX7_underAt_0 : List UInt8 := [3, 61, 3, 62, 29, 42, 27, 182, 1, 0, 162, 0, 18, 28, 42, 27, 29, 182, 1, 34, 96, 61]
abbrev dktX7_underAt_0 : List UInt8 := dkwX7_underAt_0 ++ dktX7_underAt_1
theorem dksX7_underAt_0 : cX7_underAt.data.toList.drop 0 = dktX7_underAt_0 := by decide +kernel
theorem dksX7_underAt_1 : cX7_underAt.data.toList.drop 22 = dktX7_underAt_1 := dk_seg dksX7_underAt_0 22 rfl rfl
theorem dX7_underAt_0 : decode cX7_underAt 0 = .ok (.iconst 0, 1) := dk_3 (dk_at dksX7_underAt_0 0 rfl rfl)
theorem dX7_underAt_1 : decode cX7_underAt 1 = .ok (.istore_n 2, 1) := dk_61 (dk_at dksX7_underAt_0 1 rfl rfl)
theorem dX7_underAt_2 : decode cX7_underAt 2 = .ok (.iconst 0, 1) := dk_3 (dk_at dksX7_underAt_0 2 rfl rfl)
theorem dX7_underAt_3 : decode cX7_underAt 3 = .ok (.istore_n 3, 1) := dk_62 (dk_at dksX7_underAt_0 3 rfl rfl)
theorem dX7_underAt_4 : decode cX7_underAt 4 = .ok (.iload_n 3, 1) := dk_29 (dk_at dksX7_underAt_0 4 rfl rfl)
theorem dX7_underAt_5 : decode cX7_underAt 5 = .ok (.aload_n 0, 1) := dk_42 (dk_at dksX7_underAt_0 5 rfl rfl)
theorem dX7_underAt_6 : decode cX7_underAt 6 = .ok (.iload_n 1, 1) := dk_27 (dk_at dksX7_underAt_0 6 rfl rfl)
theorem dX7_underAt_7 : decode cX7_underAt 7 = .ok (.invokevirtual 256, 3) := dk_182 1 0 (dk_at dksX7_underAt_0 7 rfl rfl)
theorem dX7_underAt_10 : decode cX7_underAt 10 = .ok (.if_icmp .ge 18, 3) := dk_162 0 18 (dk_at dksX7_underAt_0 10 rfl rfl)
theorem dX7_underAt_13 : decode cX7_underAt 13 = .ok (.iload_n 2, 1) := dk_28 (dk_at dksX7_underAt_0 13 rfl rfl)
theorem dX7_underAt_14 : decode cX7_underAt 14 = .ok (.aload_n 0, 1) := dk_42 (dk_at dksX7_underAt_0 14 rfl rfl)
theorem dX7_underAt_15 : decode cX7_underAt 15 = .ok (.iload_n 1, 1) := dk_27 (dk_at dksX7_underAt_0 15 rfl rfl)
theorem dX7_underAt_16 : decode cX7_underAt 16 = .ok (.iload_n 3, 1) := dk_29 (dk_at dksX7_underAt_0 16 rfl rfl)
theorem dX7_underAt_17 : decode cX7_underAt 17 = .ok (.invokevirtual 290, 3) := dk_182 1 34 (dk_at dksX7_underAt_0 17 rfl rfl)
theorem dX7_underAt_20 : decode cX7_underAt 20 = .ok (.iadd, 1) := dk_96 (dk_at dksX7_underAt_0 20 rfl rfl)
theorem dX7_underAt_21 : decode cX7_underAt 21 = .ok (.istore_n 2, 1) := dk_61 (dk_at dksX7_underAt_0 21 rfl rfl)
theorem dX7_underAt_22 : decode cX7_underAt 22 = .ok (.iinc 3 1, 3) := dk_132 3 1 (dk_at dksX7_underAt_1 0 rfl rfl)
theorem dX7_underAt_25 : decode cX7_underAt 25 = .ok (.goto (-21), 3) := dk_167 255 235 (dk_at dksX7_underAt_1 3 rfl rfl)
theorem dX7_underAt_28 : decode cX7_underAt 28 = .ok (.iload_n 2, 1) := dk_28 (dk_at dksX7_underAt_1 6 rfl rfl)
theorem dX7_underAt_29 : decode cX7_underAt 29 = .ok (.ireturn, 1) := dk_172 (dk_at dksX7_underAt_1 7 rfl rfl)
abbrev cX7_hiddenAt : ByteArray := prog_43_method_53_code
def yX7_hiddenAt : MethodName := ⟨RX7, "hiddenAt", "(I)I"⟩
def dkwX7_hiddenAt_2 : List UInt8 := [167, 255, 223, 28, 172]
abbrev dktX7_hiddenAt_2 : List UInt8 := dkwX7_hiddenAt_2 ++ []
def dkwX7_hiddenAt_1 : List UInt8 := [42, 180, 0, 9, 16, 13, 29, 96, 46, 42, 180, 0, 9, 16, 19, 29, 96, 46, 96, 96, 61, 132, 3, 1]
abbrev dktX7_hiddenAt_1 : List UInt8 := dkwX7_hiddenAt_1 ++ dktX7_hiddenAt_2
def dkwX7_hiddenAt_0 : List UInt8 := [42, 27, 182, 1, 37, 116, 42, 27, 182, 1, 40, 100, 61, 3, 62, 29, 42, 182, 0, 253, 162, 0, 31, 28]
abbrev dktX7_hiddenAt_0 : List UInt8 := dkwX7_hiddenAt_0 ++ dktX7_hiddenAt_1
theorem dksX7_hiddenAt_0 : cX7_hiddenAt.data.toList.drop 0 = dktX7_hiddenAt_0 := by decide +kernel
theorem dksX7_hiddenAt_1 : cX7_hiddenAt.data.toList.drop 24 = dktX7_hiddenAt_1 := dk_seg dksX7_hiddenAt_0 24 rfl rfl
theorem dksX7_hiddenAt_2 : cX7_hiddenAt.data.toList.drop 48 = dktX7_hiddenAt_2 := dk_seg dksX7_hiddenAt_1 24 rfl rfl
theorem dX7_hiddenAt_0 : decode cX7_hiddenAt 0 = .ok (.aload_n 0, 1) := dk_42 (dk_at dksX7_hiddenAt_0 0 rfl rfl)
theorem dX7_hiddenAt_1 : decode cX7_hiddenAt 1 = .ok (.iload_n 1, 1) := dk_27 (dk_at dksX7_hiddenAt_0 1 rfl rfl)
theorem dX7_hiddenAt_2 : decode cX7_hiddenAt 2 = .ok (.invokevirtual 293, 3) := dk_182 1 37 (dk_at dksX7_hiddenAt_0 2 rfl rfl)
theorem dX7_hiddenAt_5 : decode cX7_hiddenAt 5 = .ok (.ineg, 1) := dk_116 (dk_at dksX7_hiddenAt_0 5 rfl rfl)
theorem dX7_hiddenAt_6 : decode cX7_hiddenAt 6 = .ok (.aload_n 0, 1) := dk_42 (dk_at dksX7_hiddenAt_0 6 rfl rfl)
theorem dX7_hiddenAt_7 : decode cX7_hiddenAt 7 = .ok (.iload_n 1, 1) := dk_27 (dk_at dksX7_hiddenAt_0 7 rfl rfl)
theorem dX7_hiddenAt_8 : decode cX7_hiddenAt 8 = .ok (.invokevirtual 296, 3) := dk_182 1 40 (dk_at dksX7_hiddenAt_0 8 rfl rfl)
theorem dX7_hiddenAt_11 : decode cX7_hiddenAt 11 = .ok (.isub, 1) := dk_100 (dk_at dksX7_hiddenAt_0 11 rfl rfl)
theorem dX7_hiddenAt_12 : decode cX7_hiddenAt 12 = .ok (.istore_n 2, 1) := dk_61 (dk_at dksX7_hiddenAt_0 12 rfl rfl)
theorem dX7_hiddenAt_13 : decode cX7_hiddenAt 13 = .ok (.iconst 0, 1) := dk_3 (dk_at dksX7_hiddenAt_0 13 rfl rfl)
theorem dX7_hiddenAt_14 : decode cX7_hiddenAt 14 = .ok (.istore_n 3, 1) := dk_62 (dk_at dksX7_hiddenAt_0 14 rfl rfl)
theorem dX7_hiddenAt_15 : decode cX7_hiddenAt 15 = .ok (.iload_n 3, 1) := dk_29 (dk_at dksX7_hiddenAt_0 15 rfl rfl)
theorem dX7_hiddenAt_16 : decode cX7_hiddenAt 16 = .ok (.aload_n 0, 1) := dk_42 (dk_at dksX7_hiddenAt_0 16 rfl rfl)
theorem dX7_hiddenAt_17 : decode cX7_hiddenAt 17 = .ok (.invokevirtual 253, 3) := dk_182 0 253 (dk_at dksX7_hiddenAt_0 17 rfl rfl)
theorem dX7_hiddenAt_20 : decode cX7_hiddenAt 20 = .ok (.if_icmp .ge 31, 3) := dk_162 0 31 (dk_at dksX7_hiddenAt_0 20 rfl rfl)
theorem dX7_hiddenAt_23 : decode cX7_hiddenAt 23 = .ok (.iload_n 2, 1) := dk_28 (dk_at dksX7_hiddenAt_0 23 rfl rfl)
theorem dX7_hiddenAt_24 : decode cX7_hiddenAt 24 = .ok (.aload_n 0, 1) := dk_42 (dk_at dksX7_hiddenAt_1 0 rfl rfl)
theorem dX7_hiddenAt_25 : decode cX7_hiddenAt 25 = .ok (.getfield 9, 3) := dk_180 0 9 (dk_at dksX7_hiddenAt_1 1 rfl rfl)
theorem dX7_hiddenAt_28 : decode cX7_hiddenAt 28 = .ok (.bipush 13, 2) := dk_16 13 (dk_at dksX7_hiddenAt_1 4 rfl rfl)
theorem dX7_hiddenAt_30 : decode cX7_hiddenAt 30 = .ok (.iload_n 3, 1) := dk_29 (dk_at dksX7_hiddenAt_1 6 rfl rfl)
theorem dX7_hiddenAt_31 : decode cX7_hiddenAt 31 = .ok (.iadd, 1) := dk_96 (dk_at dksX7_hiddenAt_1 7 rfl rfl)
theorem dX7_hiddenAt_32 : decode cX7_hiddenAt 32 = .ok (.iaload, 1) := dk_46 (dk_at dksX7_hiddenAt_1 8 rfl rfl)
theorem dX7_hiddenAt_33 : decode cX7_hiddenAt 33 = .ok (.aload_n 0, 1) := dk_42 (dk_at dksX7_hiddenAt_1 9 rfl rfl)
theorem dX7_hiddenAt_34 : decode cX7_hiddenAt 34 = .ok (.getfield 9, 3) := dk_180 0 9 (dk_at dksX7_hiddenAt_1 10 rfl rfl)
theorem dX7_hiddenAt_37 : decode cX7_hiddenAt 37 = .ok (.bipush 19, 2) := dk_16 19 (dk_at dksX7_hiddenAt_1 13 rfl rfl)
theorem dX7_hiddenAt_39 : decode cX7_hiddenAt 39 = .ok (.iload_n 3, 1) := dk_29 (dk_at dksX7_hiddenAt_1 15 rfl rfl)
theorem dX7_hiddenAt_40 : decode cX7_hiddenAt 40 = .ok (.iadd, 1) := dk_96 (dk_at dksX7_hiddenAt_1 16 rfl rfl)
theorem dX7_hiddenAt_41 : decode cX7_hiddenAt 41 = .ok (.iaload, 1) := dk_46 (dk_at dksX7_hiddenAt_1 17 rfl rfl)
theorem dX7_hiddenAt_42 : decode cX7_hiddenAt 42 = .ok (.iadd, 1) := dk_96 (dk_at dksX7_hiddenAt_1 18 rfl rfl)
theorem dX7_hiddenAt_43 : decode cX7_hiddenAt 43 = .ok (.iadd, 1) := dk_96 (dk_at dksX7_hiddenAt_1 19 rfl rfl)
theorem dX7_hiddenAt_44 : decode cX7_hiddenAt 44 = .ok (.istore_n 2, 1) := dk_61 (dk_at dksX7_hiddenAt_1 20 rfl rfl)
theorem dX7_hiddenAt_45 : decode cX7_hiddenAt 45 = .ok (.iinc 3 1, 3) := dk_132 3 1 (dk_at dksX7_hiddenAt_1 21 rfl rfl)
theorem dX7_hiddenAt_48 : decode cX7_hiddenAt 48 = .ok (.goto (-33), 3) := dk_167 255 223 (dk_at dksX7_hiddenAt_2 0 rfl rfl)
theorem dX7_hiddenAt_51 : decode cX7_hiddenAt 51 = .ok (.iload_n 2, 1) := dk_28 (dk_at dksX7_hiddenAt_2 3 rfl rfl)
theorem dX7_hiddenAt_52 : decode cX7_hiddenAt 52 = .ok (.ireturn, 1) := dk_172 (dk_at dksX7_hiddenAt_2 4 rfl rfl)
abbrev cX7_lawOf : ByteArray := prog_43_method_59_code
def yX7_lawOf : MethodName := ⟨RX7, "lawOf", "(II)I"⟩
def dkwX7_lawOf_6 : List UInt8 := [180, 0, 36, 3, 46, 172]
abbrev dktX7_lawOf_6 : List UInt8 := dkwX7_lawOf_6 ++ []
def dkwX7_lawOf_5 : List UInt8 := [4, 100, 46, 133, 42, 180, 0, 36, 29, 46, 133, 184, 1, 65, 79, 132, 4, 1, 167, 255, 125, 42]
abbrev dktX7_lawOf_5 : List UInt8 := dkwX7_lawOf_5 ++ dktX7_lawOf_6
def dkwX7_lawOf_4 : List UInt8 := [100, 46, 100, 79, 167, 0, 35, 132, 3, 255, 42, 180, 0, 36, 29, 4, 100, 21, 5, 42, 180, 0, 36, 29]
abbrev dktX7_lawOf_4 : List UInt8 := dkwX7_lawOf_4 ++ dktX7_lawOf_5
def dkwX7_lawOf_3 : List UInt8 := [167, 0, 63, 21, 5, 16, 18, 160, 0, 24, 42, 180, 0, 36, 29, 4, 100, 4, 42, 180, 0, 36, 29, 4]
abbrev dktX7_lawOf_3 : List UInt8 := dkwX7_lawOf_3 ++ dktX7_lawOf_4
def dkwX7_lawOf_2 : List UInt8 := [21, 5, 17, 3, 232, 100, 167, 0, 13, 42, 180, 0, 39, 21, 5, 16, 100, 100, 46, 79, 132, 3, 1]
abbrev dktX7_lawOf_2 : List UInt8 := dkwX7_lawOf_2 ++ dktX7_lawOf_3
def dkwX7_lawOf_1 : List UInt8 := [46, 54, 5, 21, 5, 16, 100, 161, 0, 42, 42, 180, 0, 36, 29, 21, 5, 17, 3, 232, 161, 0, 12]
abbrev dktX7_lawOf_1 : List UInt8 := dkwX7_lawOf_1 ++ dktX7_lawOf_2
def dkwX7_lawOf_0 : List UInt8 := [3, 62, 3, 54, 4, 21, 4, 42, 180, 0, 9, 27, 46, 162, 0, 126, 42, 180, 0, 9, 28, 21, 4, 96]
abbrev dktX7_lawOf_0 : List UInt8 := dkwX7_lawOf_0 ++ dktX7_lawOf_1
theorem dksX7_lawOf_0 : cX7_lawOf.data.toList.drop 0 = dktX7_lawOf_0 := by decide +kernel
theorem dksX7_lawOf_1 : cX7_lawOf.data.toList.drop 24 = dktX7_lawOf_1 := dk_seg dksX7_lawOf_0 24 rfl rfl
theorem dksX7_lawOf_2 : cX7_lawOf.data.toList.drop 47 = dktX7_lawOf_2 := dk_seg dksX7_lawOf_1 23 rfl rfl
theorem dksX7_lawOf_3 : cX7_lawOf.data.toList.drop 70 = dktX7_lawOf_3 := dk_seg dksX7_lawOf_2 23 rfl rfl
theorem dksX7_lawOf_4 : cX7_lawOf.data.toList.drop 94 = dktX7_lawOf_4 := dk_seg dksX7_lawOf_3 24 rfl rfl
theorem dksX7_lawOf_5 : cX7_lawOf.data.toList.drop 118 = dktX7_lawOf_5 := dk_seg dksX7_lawOf_4 24 rfl rfl
theorem dksX7_lawOf_6 : cX7_lawOf.data.toList.drop 140 = dktX7_lawOf_6 := dk_seg dksX7_lawOf_5 22 rfl rfl
theorem dX7_lawOf_0 : decode cX7_lawOf 0 = .ok (.iconst 0, 1) := dk_3 (dk_at dksX7_lawOf_0 0 rfl rfl)
theorem dX7_lawOf_1 : decode cX7_lawOf 1 = .ok (.istore_n 3, 1) := dk_62 (dk_at dksX7_lawOf_0 1 rfl rfl)
theorem dX7_lawOf_2 : decode cX7_lawOf 2 = .ok (.iconst 0, 1) := dk_3 (dk_at dksX7_lawOf_0 2 rfl rfl)
theorem dX7_lawOf_3 : decode cX7_lawOf 3 = .ok (.istore 4, 2) := dk_54 4 (dk_at dksX7_lawOf_0 3 rfl rfl)
theorem dX7_lawOf_5 : decode cX7_lawOf 5 = .ok (.iload 4, 2) := dk_21 4 (dk_at dksX7_lawOf_0 5 rfl rfl)
theorem dX7_lawOf_7 : decode cX7_lawOf 7 = .ok (.aload_n 0, 1) := dk_42 (dk_at dksX7_lawOf_0 7 rfl rfl)
theorem dX7_lawOf_8 : decode cX7_lawOf 8 = .ok (.getfield 9, 3) := dk_180 0 9 (dk_at dksX7_lawOf_0 8 rfl rfl)
theorem dX7_lawOf_11 : decode cX7_lawOf 11 = .ok (.iload_n 1, 1) := dk_27 (dk_at dksX7_lawOf_0 11 rfl rfl)
theorem dX7_lawOf_12 : decode cX7_lawOf 12 = .ok (.iaload, 1) := dk_46 (dk_at dksX7_lawOf_0 12 rfl rfl)
theorem dX7_lawOf_13 : decode cX7_lawOf 13 = .ok (.if_icmp .ge 126, 3) := dk_162 0 126 (dk_at dksX7_lawOf_0 13 rfl rfl)
theorem dX7_lawOf_16 : decode cX7_lawOf 16 = .ok (.aload_n 0, 1) := dk_42 (dk_at dksX7_lawOf_0 16 rfl rfl)
theorem dX7_lawOf_17 : decode cX7_lawOf 17 = .ok (.getfield 9, 3) := dk_180 0 9 (dk_at dksX7_lawOf_0 17 rfl rfl)
theorem dX7_lawOf_20 : decode cX7_lawOf 20 = .ok (.iload_n 2, 1) := dk_28 (dk_at dksX7_lawOf_0 20 rfl rfl)
theorem dX7_lawOf_21 : decode cX7_lawOf 21 = .ok (.iload 4, 2) := dk_21 4 (dk_at dksX7_lawOf_0 21 rfl rfl)
theorem dX7_lawOf_23 : decode cX7_lawOf 23 = .ok (.iadd, 1) := dk_96 (dk_at dksX7_lawOf_0 23 rfl rfl)
theorem dX7_lawOf_24 : decode cX7_lawOf 24 = .ok (.iaload, 1) := dk_46 (dk_at dksX7_lawOf_1 0 rfl rfl)
theorem dX7_lawOf_25 : decode cX7_lawOf 25 = .ok (.istore 5, 2) := dk_54 5 (dk_at dksX7_lawOf_1 1 rfl rfl)
theorem dX7_lawOf_27 : decode cX7_lawOf 27 = .ok (.iload 5, 2) := dk_21 5 (dk_at dksX7_lawOf_1 3 rfl rfl)
theorem dX7_lawOf_29 : decode cX7_lawOf 29 = .ok (.bipush 100, 2) := dk_16 100 (dk_at dksX7_lawOf_1 5 rfl rfl)
theorem dX7_lawOf_31 : decode cX7_lawOf 31 = .ok (.if_icmp .lt 42, 3) := dk_161 0 42 (dk_at dksX7_lawOf_1 7 rfl rfl)
theorem dX7_lawOf_34 : decode cX7_lawOf 34 = .ok (.aload_n 0, 1) := dk_42 (dk_at dksX7_lawOf_1 10 rfl rfl)
theorem dX7_lawOf_35 : decode cX7_lawOf 35 = .ok (.getfield 36, 3) := dk_180 0 36 (dk_at dksX7_lawOf_1 11 rfl rfl)
theorem dX7_lawOf_38 : decode cX7_lawOf 38 = .ok (.iload_n 3, 1) := dk_29 (dk_at dksX7_lawOf_1 14 rfl rfl)
theorem dX7_lawOf_39 : decode cX7_lawOf 39 = .ok (.iload 5, 2) := dk_21 5 (dk_at dksX7_lawOf_1 15 rfl rfl)
theorem dX7_lawOf_41 : decode cX7_lawOf 41 = .ok (.sipush 1000, 3) := dk_17 3 232 (dk_at dksX7_lawOf_1 17 rfl rfl)
theorem dX7_lawOf_44 : decode cX7_lawOf 44 = .ok (.if_icmp .lt 12, 3) := dk_161 0 12 (dk_at dksX7_lawOf_1 20 rfl rfl)
theorem dX7_lawOf_47 : decode cX7_lawOf 47 = .ok (.iload 5, 2) := dk_21 5 (dk_at dksX7_lawOf_2 0 rfl rfl)
theorem dX7_lawOf_49 : decode cX7_lawOf 49 = .ok (.sipush 1000, 3) := dk_17 3 232 (dk_at dksX7_lawOf_2 2 rfl rfl)
theorem dX7_lawOf_52 : decode cX7_lawOf 52 = .ok (.isub, 1) := dk_100 (dk_at dksX7_lawOf_2 5 rfl rfl)
theorem dX7_lawOf_53 : decode cX7_lawOf 53 = .ok (.goto 13, 3) := dk_167 0 13 (dk_at dksX7_lawOf_2 6 rfl rfl)
theorem dX7_lawOf_56 : decode cX7_lawOf 56 = .ok (.aload_n 0, 1) := dk_42 (dk_at dksX7_lawOf_2 9 rfl rfl)
theorem dX7_lawOf_57 : decode cX7_lawOf 57 = .ok (.getfield 39, 3) := dk_180 0 39 (dk_at dksX7_lawOf_2 10 rfl rfl)
theorem dX7_lawOf_60 : decode cX7_lawOf 60 = .ok (.iload 5, 2) := dk_21 5 (dk_at dksX7_lawOf_2 13 rfl rfl)
theorem dX7_lawOf_62 : decode cX7_lawOf 62 = .ok (.bipush 100, 2) := dk_16 100 (dk_at dksX7_lawOf_2 15 rfl rfl)
theorem dX7_lawOf_64 : decode cX7_lawOf 64 = .ok (.isub, 1) := dk_100 (dk_at dksX7_lawOf_2 17 rfl rfl)
theorem dX7_lawOf_65 : decode cX7_lawOf 65 = .ok (.iaload, 1) := dk_46 (dk_at dksX7_lawOf_2 18 rfl rfl)
theorem dX7_lawOf_66 : decode cX7_lawOf 66 = .ok (.iastore, 1) := dk_79 (dk_at dksX7_lawOf_2 19 rfl rfl)
theorem dX7_lawOf_67 : decode cX7_lawOf 67 = .ok (.iinc 3 1, 3) := dk_132 3 1 (dk_at dksX7_lawOf_2 20 rfl rfl)
theorem dX7_lawOf_70 : decode cX7_lawOf 70 = .ok (.goto 63, 3) := dk_167 0 63 (dk_at dksX7_lawOf_3 0 rfl rfl)
theorem dX7_lawOf_73 : decode cX7_lawOf 73 = .ok (.iload 5, 2) := dk_21 5 (dk_at dksX7_lawOf_3 3 rfl rfl)
theorem dX7_lawOf_75 : decode cX7_lawOf 75 = .ok (.bipush 18, 2) := dk_16 18 (dk_at dksX7_lawOf_3 5 rfl rfl)
theorem dX7_lawOf_77 : decode cX7_lawOf 77 = .ok (.if_icmp .ne 24, 3) := dk_160 0 24 (dk_at dksX7_lawOf_3 7 rfl rfl)
theorem dX7_lawOf_80 : decode cX7_lawOf 80 = .ok (.aload_n 0, 1) := dk_42 (dk_at dksX7_lawOf_3 10 rfl rfl)
theorem dX7_lawOf_81 : decode cX7_lawOf 81 = .ok (.getfield 36, 3) := dk_180 0 36 (dk_at dksX7_lawOf_3 11 rfl rfl)
theorem dX7_lawOf_84 : decode cX7_lawOf 84 = .ok (.iload_n 3, 1) := dk_29 (dk_at dksX7_lawOf_3 14 rfl rfl)
theorem dX7_lawOf_85 : decode cX7_lawOf 85 = .ok (.iconst 1, 1) := dk_4 (dk_at dksX7_lawOf_3 15 rfl rfl)
theorem dX7_lawOf_86 : decode cX7_lawOf 86 = .ok (.isub, 1) := dk_100 (dk_at dksX7_lawOf_3 16 rfl rfl)
theorem dX7_lawOf_87 : decode cX7_lawOf 87 = .ok (.iconst 1, 1) := dk_4 (dk_at dksX7_lawOf_3 17 rfl rfl)
theorem dX7_lawOf_88 : decode cX7_lawOf 88 = .ok (.aload_n 0, 1) := dk_42 (dk_at dksX7_lawOf_3 18 rfl rfl)
theorem dX7_lawOf_89 : decode cX7_lawOf 89 = .ok (.getfield 36, 3) := dk_180 0 36 (dk_at dksX7_lawOf_3 19 rfl rfl)
theorem dX7_lawOf_92 : decode cX7_lawOf 92 = .ok (.iload_n 3, 1) := dk_29 (dk_at dksX7_lawOf_3 22 rfl rfl)
theorem dX7_lawOf_93 : decode cX7_lawOf 93 = .ok (.iconst 1, 1) := dk_4 (dk_at dksX7_lawOf_3 23 rfl rfl)
theorem dX7_lawOf_94 : decode cX7_lawOf 94 = .ok (.isub, 1) := dk_100 (dk_at dksX7_lawOf_4 0 rfl rfl)
theorem dX7_lawOf_95 : decode cX7_lawOf 95 = .ok (.iaload, 1) := dk_46 (dk_at dksX7_lawOf_4 1 rfl rfl)
theorem dX7_lawOf_96 : decode cX7_lawOf 96 = .ok (.isub, 1) := dk_100 (dk_at dksX7_lawOf_4 2 rfl rfl)
theorem dX7_lawOf_97 : decode cX7_lawOf 97 = .ok (.iastore, 1) := dk_79 (dk_at dksX7_lawOf_4 3 rfl rfl)
theorem dX7_lawOf_98 : decode cX7_lawOf 98 = .ok (.goto 35, 3) := dk_167 0 35 (dk_at dksX7_lawOf_4 4 rfl rfl)
theorem dX7_lawOf_101 : decode cX7_lawOf 101 = .ok (.iinc 3 (-1), 3) := dk_132 3 255 (dk_at dksX7_lawOf_4 7 rfl rfl)
theorem dX7_lawOf_104 : decode cX7_lawOf 104 = .ok (.aload_n 0, 1) := dk_42 (dk_at dksX7_lawOf_4 10 rfl rfl)
theorem dX7_lawOf_105 : decode cX7_lawOf 105 = .ok (.getfield 36, 3) := dk_180 0 36 (dk_at dksX7_lawOf_4 11 rfl rfl)
theorem dX7_lawOf_108 : decode cX7_lawOf 108 = .ok (.iload_n 3, 1) := dk_29 (dk_at dksX7_lawOf_4 14 rfl rfl)
theorem dX7_lawOf_109 : decode cX7_lawOf 109 = .ok (.iconst 1, 1) := dk_4 (dk_at dksX7_lawOf_4 15 rfl rfl)
theorem dX7_lawOf_110 : decode cX7_lawOf 110 = .ok (.isub, 1) := dk_100 (dk_at dksX7_lawOf_4 16 rfl rfl)
theorem dX7_lawOf_111 : decode cX7_lawOf 111 = .ok (.iload 5, 2) := dk_21 5 (dk_at dksX7_lawOf_4 17 rfl rfl)
theorem dX7_lawOf_113 : decode cX7_lawOf 113 = .ok (.aload_n 0, 1) := dk_42 (dk_at dksX7_lawOf_4 19 rfl rfl)
theorem dX7_lawOf_114 : decode cX7_lawOf 114 = .ok (.getfield 36, 3) := dk_180 0 36 (dk_at dksX7_lawOf_4 20 rfl rfl)
theorem dX7_lawOf_117 : decode cX7_lawOf 117 = .ok (.iload_n 3, 1) := dk_29 (dk_at dksX7_lawOf_4 23 rfl rfl)
theorem dX7_lawOf_118 : decode cX7_lawOf 118 = .ok (.iconst 1, 1) := dk_4 (dk_at dksX7_lawOf_5 0 rfl rfl)
theorem dX7_lawOf_119 : decode cX7_lawOf 119 = .ok (.isub, 1) := dk_100 (dk_at dksX7_lawOf_5 1 rfl rfl)
theorem dX7_lawOf_120 : decode cX7_lawOf 120 = .ok (.iaload, 1) := dk_46 (dk_at dksX7_lawOf_5 2 rfl rfl)
theorem dX7_lawOf_121 : decode cX7_lawOf 121 = .ok (.i2l, 1) := dk_133 (dk_at dksX7_lawOf_5 3 rfl rfl)
theorem dX7_lawOf_122 : decode cX7_lawOf 122 = .ok (.aload_n 0, 1) := dk_42 (dk_at dksX7_lawOf_5 4 rfl rfl)
theorem dX7_lawOf_123 : decode cX7_lawOf 123 = .ok (.getfield 36, 3) := dk_180 0 36 (dk_at dksX7_lawOf_5 5 rfl rfl)
theorem dX7_lawOf_126 : decode cX7_lawOf 126 = .ok (.iload_n 3, 1) := dk_29 (dk_at dksX7_lawOf_5 8 rfl rfl)
theorem dX7_lawOf_127 : decode cX7_lawOf 127 = .ok (.iaload, 1) := dk_46 (dk_at dksX7_lawOf_5 9 rfl rfl)
theorem dX7_lawOf_128 : decode cX7_lawOf 128 = .ok (.i2l, 1) := dk_133 (dk_at dksX7_lawOf_5 10 rfl rfl)
theorem dX7_lawOf_129 : decode cX7_lawOf 129 = .ok (.invokestatic 321, 3) := dk_184 1 65 (dk_at dksX7_lawOf_5 11 rfl rfl)
theorem dX7_lawOf_132 : decode cX7_lawOf 132 = .ok (.iastore, 1) := dk_79 (dk_at dksX7_lawOf_5 14 rfl rfl)
theorem dX7_lawOf_133 : decode cX7_lawOf 133 = .ok (.iinc 4 1, 3) := dk_132 4 1 (dk_at dksX7_lawOf_5 15 rfl rfl)
theorem dX7_lawOf_136 : decode cX7_lawOf 136 = .ok (.goto (-131), 3) := dk_167 255 125 (dk_at dksX7_lawOf_5 18 rfl rfl)
theorem dX7_lawOf_139 : decode cX7_lawOf 139 = .ok (.aload_n 0, 1) := dk_42 (dk_at dksX7_lawOf_5 21 rfl rfl)
theorem dX7_lawOf_140 : decode cX7_lawOf 140 = .ok (.getfield 36, 3) := dk_180 0 36 (dk_at dksX7_lawOf_6 0 rfl rfl)
theorem dX7_lawOf_143 : decode cX7_lawOf 143 = .ok (.iconst 0, 1) := dk_3 (dk_at dksX7_lawOf_6 3 rfl rfl)
theorem dX7_lawOf_144 : decode cX7_lawOf 144 = .ok (.iaload, 1) := dk_46 (dk_at dksX7_lawOf_6 4 rfl rfl)
theorem dX7_lawOf_145 : decode cX7_lawOf 145 = .ok (.ireturn, 1) := dk_172 (dk_at dksX7_lawOf_6 5 rfl rfl)
abbrev cX7_done : ByteArray := prog_43_method_58_code
def yX7_done : MethodName := ⟨RX7, "done", "(IJJ)I"⟩
def dkwX7_done_5 : List UInt8 := [33, 97, 9, 148, 158, 0, 7, 4, 167, 0, 4, 3, 172]
abbrev dktX7_done_5 : List UInt8 := dkwX7_done_5 ++ []
def dkwX7_done_4 : List UInt8 := [158, 0, 7, 4, 167, 0, 4, 3, 172, 31, 33, 97, 10, 148, 158, 0, 7, 4, 167, 0, 4, 3, 172, 31]
abbrev dktX7_done_4 : List UInt8 := dkwX7_done_4 ++ dktX7_done_5
def dkwX7_done_3 : List UInt8 := [154, 0, 7, 4, 167, 0, 4, 3, 172, 31, 33, 148, 156, 0, 7, 4, 167, 0, 4, 3, 172, 31, 33, 148]
abbrev dktX7_done_3 : List UInt8 := dkwX7_done_3 ++ dktX7_done_4
def dkwX7_done_2 : List UInt8 := [31, 33, 97, 184, 1, 61, 172, 31, 33, 101, 184, 1, 61, 172, 31, 33, 105, 184, 1, 61, 172, 31, 33, 148]
abbrev dktX7_done_2 : List UInt8 := dkwX7_done_2 ++ dktX7_done_3
def dkwX7_done_1 : List UInt8 := [170, 0, 0, 0, 0, 0, 114, 0, 0, 0, 10, 0, 0, 0, 16, 0, 0, 0, 43, 0, 0, 0, 50, 0, 0, 0, 57, 0, 0, 0, 64, 0, 0, 0, 76, 0, 0, 0, 88, 0, 0, 0, 100]
abbrev dktX7_done_1 : List UInt8 := dkwX7_done_1 ++ dktX7_done_2
def dkwX7_done_0 : List UInt8 := [26]
abbrev dktX7_done_0 : List UInt8 := dkwX7_done_0 ++ dktX7_done_1
theorem dksX7_done_0 : cX7_done.data.toList.drop 0 = dktX7_done_0 := by decide +kernel
theorem dksX7_done_1 : cX7_done.data.toList.drop 1 = dktX7_done_1 := dk_seg dksX7_done_0 1 rfl rfl
theorem dksX7_done_2 : cX7_done.data.toList.drop 44 = dktX7_done_2 := dk_seg dksX7_done_1 43 rfl rfl
theorem dksX7_done_3 : cX7_done.data.toList.drop 68 = dktX7_done_3 := dk_seg dksX7_done_2 24 rfl rfl
theorem dksX7_done_4 : cX7_done.data.toList.drop 92 = dktX7_done_4 := dk_seg dksX7_done_3 24 rfl rfl
theorem dksX7_done_5 : cX7_done.data.toList.drop 116 = dktX7_done_5 := dk_seg dksX7_done_4 24 rfl rfl
theorem dX7_done_0 : decode cX7_done 0 = .ok (.iload_n 0, 1) := dk_26 (dk_at dksX7_done_0 0 rfl rfl)
theorem dX7_done_1 : decode cX7_done 1 = .ok (.tableswitch 114 10 16 #[43, 50, 57, 64, 76, 88, 100], 43) := by decide +kernel
theorem dX7_done_44 : decode cX7_done 44 = .ok (.lload_n 1, 1) := dk_31 (dk_at dksX7_done_2 0 rfl rfl)
theorem dX7_done_45 : decode cX7_done 45 = .ok (.lload_n 3, 1) := dk_33 (dk_at dksX7_done_2 1 rfl rfl)
theorem dX7_done_46 : decode cX7_done 46 = .ok (.ladd, 1) := dk_97 (dk_at dksX7_done_2 2 rfl rfl)
theorem dX7_done_47 : decode cX7_done 47 = .ok (.invokestatic 317, 3) := dk_184 1 61 (dk_at dksX7_done_2 3 rfl rfl)
theorem dX7_done_50 : decode cX7_done 50 = .ok (.ireturn, 1) := dk_172 (dk_at dksX7_done_2 6 rfl rfl)
theorem dX7_done_51 : decode cX7_done 51 = .ok (.lload_n 1, 1) := dk_31 (dk_at dksX7_done_2 7 rfl rfl)
theorem dX7_done_52 : decode cX7_done 52 = .ok (.lload_n 3, 1) := dk_33 (dk_at dksX7_done_2 8 rfl rfl)
theorem dX7_done_53 : decode cX7_done 53 = .ok (.lsub, 1) := dk_101 (dk_at dksX7_done_2 9 rfl rfl)
theorem dX7_done_54 : decode cX7_done 54 = .ok (.invokestatic 317, 3) := dk_184 1 61 (dk_at dksX7_done_2 10 rfl rfl)
theorem dX7_done_57 : decode cX7_done 57 = .ok (.ireturn, 1) := dk_172 (dk_at dksX7_done_2 13 rfl rfl)
theorem dX7_done_58 : decode cX7_done 58 = .ok (.lload_n 1, 1) := dk_31 (dk_at dksX7_done_2 14 rfl rfl)
theorem dX7_done_59 : decode cX7_done 59 = .ok (.lload_n 3, 1) := dk_33 (dk_at dksX7_done_2 15 rfl rfl)
theorem dX7_done_60 : decode cX7_done 60 = .ok (.lmul, 1) := dk_105 (dk_at dksX7_done_2 16 rfl rfl)
theorem dX7_done_61 : decode cX7_done 61 = .ok (.invokestatic 317, 3) := dk_184 1 61 (dk_at dksX7_done_2 17 rfl rfl)
theorem dX7_done_64 : decode cX7_done 64 = .ok (.ireturn, 1) := dk_172 (dk_at dksX7_done_2 20 rfl rfl)
theorem dX7_done_65 : decode cX7_done 65 = .ok (.lload_n 1, 1) := dk_31 (dk_at dksX7_done_2 21 rfl rfl)
theorem dX7_done_66 : decode cX7_done 66 = .ok (.lload_n 3, 1) := dk_33 (dk_at dksX7_done_2 22 rfl rfl)
theorem dX7_done_67 : decode cX7_done 67 = .ok (.lcmp, 1) := dk_148 (dk_at dksX7_done_2 23 rfl rfl)
theorem dX7_done_68 : decode cX7_done 68 = .ok (.ifCond .ne 7, 3) := dk_154 0 7 (dk_at dksX7_done_3 0 rfl rfl)
theorem dX7_done_71 : decode cX7_done 71 = .ok (.iconst 1, 1) := dk_4 (dk_at dksX7_done_3 3 rfl rfl)
theorem dX7_done_72 : decode cX7_done 72 = .ok (.goto 4, 3) := dk_167 0 4 (dk_at dksX7_done_3 4 rfl rfl)
theorem dX7_done_75 : decode cX7_done 75 = .ok (.iconst 0, 1) := dk_3 (dk_at dksX7_done_3 7 rfl rfl)
theorem dX7_done_76 : decode cX7_done 76 = .ok (.ireturn, 1) := dk_172 (dk_at dksX7_done_3 8 rfl rfl)
theorem dX7_done_77 : decode cX7_done 77 = .ok (.lload_n 1, 1) := dk_31 (dk_at dksX7_done_3 9 rfl rfl)
theorem dX7_done_78 : decode cX7_done 78 = .ok (.lload_n 3, 1) := dk_33 (dk_at dksX7_done_3 10 rfl rfl)
theorem dX7_done_79 : decode cX7_done 79 = .ok (.lcmp, 1) := dk_148 (dk_at dksX7_done_3 11 rfl rfl)
theorem dX7_done_80 : decode cX7_done 80 = .ok (.ifCond .ge 7, 3) := dk_156 0 7 (dk_at dksX7_done_3 12 rfl rfl)
theorem dX7_done_83 : decode cX7_done 83 = .ok (.iconst 1, 1) := dk_4 (dk_at dksX7_done_3 15 rfl rfl)
theorem dX7_done_84 : decode cX7_done 84 = .ok (.goto 4, 3) := dk_167 0 4 (dk_at dksX7_done_3 16 rfl rfl)
theorem dX7_done_87 : decode cX7_done 87 = .ok (.iconst 0, 1) := dk_3 (dk_at dksX7_done_3 19 rfl rfl)
theorem dX7_done_88 : decode cX7_done 88 = .ok (.ireturn, 1) := dk_172 (dk_at dksX7_done_3 20 rfl rfl)
theorem dX7_done_89 : decode cX7_done 89 = .ok (.lload_n 1, 1) := dk_31 (dk_at dksX7_done_3 21 rfl rfl)
theorem dX7_done_90 : decode cX7_done 90 = .ok (.lload_n 3, 1) := dk_33 (dk_at dksX7_done_3 22 rfl rfl)
theorem dX7_done_91 : decode cX7_done 91 = .ok (.lcmp, 1) := dk_148 (dk_at dksX7_done_3 23 rfl rfl)
theorem dX7_done_92 : decode cX7_done 92 = .ok (.ifCond .le 7, 3) := dk_158 0 7 (dk_at dksX7_done_4 0 rfl rfl)
theorem dX7_done_95 : decode cX7_done 95 = .ok (.iconst 1, 1) := dk_4 (dk_at dksX7_done_4 3 rfl rfl)
theorem dX7_done_96 : decode cX7_done 96 = .ok (.goto 4, 3) := dk_167 0 4 (dk_at dksX7_done_4 4 rfl rfl)
theorem dX7_done_99 : decode cX7_done 99 = .ok (.iconst 0, 1) := dk_3 (dk_at dksX7_done_4 7 rfl rfl)
theorem dX7_done_100 : decode cX7_done 100 = .ok (.ireturn, 1) := dk_172 (dk_at dksX7_done_4 8 rfl rfl)
theorem dX7_done_101 : decode cX7_done 101 = .ok (.lload_n 1, 1) := dk_31 (dk_at dksX7_done_4 9 rfl rfl)
theorem dX7_done_102 : decode cX7_done 102 = .ok (.lload_n 3, 1) := dk_33 (dk_at dksX7_done_4 10 rfl rfl)
theorem dX7_done_103 : decode cX7_done 103 = .ok (.ladd, 1) := dk_97 (dk_at dksX7_done_4 11 rfl rfl)
theorem dX7_done_104 : decode cX7_done 104 = .ok (.lconst 1, 1) := dk_10 (dk_at dksX7_done_4 12 rfl rfl)
theorem dX7_done_105 : decode cX7_done 105 = .ok (.lcmp, 1) := dk_148 (dk_at dksX7_done_4 13 rfl rfl)
theorem dX7_done_106 : decode cX7_done 106 = .ok (.ifCond .le 7, 3) := dk_158 0 7 (dk_at dksX7_done_4 14 rfl rfl)
theorem dX7_done_109 : decode cX7_done 109 = .ok (.iconst 1, 1) := dk_4 (dk_at dksX7_done_4 17 rfl rfl)
theorem dX7_done_110 : decode cX7_done 110 = .ok (.goto 4, 3) := dk_167 0 4 (dk_at dksX7_done_4 18 rfl rfl)
theorem dX7_done_113 : decode cX7_done 113 = .ok (.iconst 0, 1) := dk_3 (dk_at dksX7_done_4 21 rfl rfl)
theorem dX7_done_114 : decode cX7_done 114 = .ok (.ireturn, 1) := dk_172 (dk_at dksX7_done_4 22 rfl rfl)
theorem dX7_done_115 : decode cX7_done 115 = .ok (.lload_n 1, 1) := dk_31 (dk_at dksX7_done_4 23 rfl rfl)
theorem dX7_done_116 : decode cX7_done 116 = .ok (.lload_n 3, 1) := dk_33 (dk_at dksX7_done_5 0 rfl rfl)
theorem dX7_done_117 : decode cX7_done 117 = .ok (.ladd, 1) := dk_97 (dk_at dksX7_done_5 1 rfl rfl)
theorem dX7_done_118 : decode cX7_done 118 = .ok (.lconst 0, 1) := dk_9 (dk_at dksX7_done_5 2 rfl rfl)
theorem dX7_done_119 : decode cX7_done 119 = .ok (.lcmp, 1) := dk_148 (dk_at dksX7_done_5 3 rfl rfl)
theorem dX7_done_120 : decode cX7_done 120 = .ok (.ifCond .le 7, 3) := dk_158 0 7 (dk_at dksX7_done_5 4 rfl rfl)
theorem dX7_done_123 : decode cX7_done 123 = .ok (.iconst 1, 1) := dk_4 (dk_at dksX7_done_5 7 rfl rfl)
theorem dX7_done_124 : decode cX7_done 124 = .ok (.goto 4, 3) := dk_167 0 4 (dk_at dksX7_done_5 8 rfl rfl)
theorem dX7_done_127 : decode cX7_done 127 = .ok (.iconst 0, 1) := dk_3 (dk_at dksX7_done_5 11 rfl rfl)
theorem dX7_done_128 : decode cX7_done 128 = .ok (.ireturn, 1) := dk_172 (dk_at dksX7_done_5 12 rfl rfl)
abbrev cX7_bound : ByteArray := prog_43_method_57_code
def yX7_bound : MethodName := ⟨RX7, "bound", "(J)I"⟩
def dkwX7_bound_0 : List UInt8 := [20, 1, 52, 20, 1, 54, 30, 184, 1, 56, 184, 1, 59, 136, 172]
abbrev dktX7_bound_0 : List UInt8 := dkwX7_bound_0 ++ []
theorem dksX7_bound_0 : cX7_bound.data.toList.drop 0 = dktX7_bound_0 := by decide +kernel
theorem dX7_bound_0 : decode cX7_bound 0 = .ok (.ldc2_w 308, 3) := dk_20 1 52 (dk_at dksX7_bound_0 0 rfl rfl)
theorem dX7_bound_3 : decode cX7_bound 3 = .ok (.ldc2_w 310, 3) := dk_20 1 54 (dk_at dksX7_bound_0 3 rfl rfl)
theorem dX7_bound_6 : decode cX7_bound 6 = .ok (.lload_n 0, 1) := dk_30 (dk_at dksX7_bound_0 6 rfl rfl)
theorem dX7_bound_7 : decode cX7_bound 7 = .ok (.invokestatic 312, 3) := dk_184 1 56 (dk_at dksX7_bound_0 7 rfl rfl)
theorem dX7_bound_10 : decode cX7_bound 10 = .ok (.invokestatic 315, 3) := dk_184 1 59 (dk_at dksX7_bound_0 10 rfl rfl)
theorem dX7_bound_13 : decode cX7_bound 13 = .ok (.l2i, 1) := dk_136 (dk_at dksX7_bound_0 13 rfl rfl)
theorem dX7_bound_14 : decode cX7_bound 14 = .ok (.ireturn, 1) := dk_172 (dk_at dksX7_bound_0 14 rfl rfl)
abbrev cX7_holds : ByteArray := prog_43_method_73_code
def yX7_holds : MethodName := ⟨RX7, "holds", "()Z"⟩
def dkwX7_holds_0 : List UInt8 := [42, 3, 181, 0, 77, 42, 42, 182, 1, 87, 182, 1, 96, 172]
abbrev dktX7_holds_0 : List UInt8 := dkwX7_holds_0 ++ []
theorem dksX7_holds_0 : cX7_holds.data.toList.drop 0 = dktX7_holds_0 := by decide +kernel
theorem dX7_holds_0 : decode cX7_holds 0 = .ok (.aload_n 0, 1) := dk_42 (dk_at dksX7_holds_0 0 rfl rfl)
theorem dX7_holds_1 : decode cX7_holds 1 = .ok (.iconst 0, 1) := dk_3 (dk_at dksX7_holds_0 1 rfl rfl)
theorem dX7_holds_2 : decode cX7_holds 2 = .ok (.putfield 77, 3) := dk_181 0 77 (dk_at dksX7_holds_0 2 rfl rfl)
theorem dX7_holds_5 : decode cX7_holds 5 = .ok (.aload_n 0, 1) := dk_42 (dk_at dksX7_holds_0 5 rfl rfl)
theorem dX7_holds_6 : decode cX7_holds 6 = .ok (.aload_n 0, 1) := dk_42 (dk_at dksX7_holds_0 6 rfl rfl)
theorem dX7_holds_7 : decode cX7_holds 7 = .ok (.invokevirtual 343, 3) := dk_182 1 87 (dk_at dksX7_holds_0 7 rfl rfl)
theorem dX7_holds_10 : decode cX7_holds 10 = .ok (.invokevirtual 352, 3) := dk_182 1 96 (dk_at dksX7_holds_0 10 rfl rfl)
theorem dX7_holds_13 : decode cX7_holds 13 = .ok (.ireturn, 1) := dk_172 (dk_at dksX7_holds_0 13 rfl rfl)
abbrev cX7_holdsAt : ByteArray := prog_43_method_62_code
def yX7_holdsAt : MethodName := ⟨RX7, "holdsAt", "(I)Z"⟩
def dkwX7_holdsAt_1 : List UInt8 := [4, 160, 0, 7, 4, 167, 0, 4, 3, 172]
abbrev dktX7_holdsAt_1 : List UInt8 := dkwX7_holdsAt_1 ++ []
def dkwX7_holdsAt_0 : List UInt8 := [42, 180, 0, 9, 7, 46, 154, 0, 5, 3, 172, 42, 27, 182, 1, 75, 42, 7, 17, 4, 85, 182, 1, 78]
abbrev dktX7_holdsAt_0 : List UInt8 := dkwX7_holdsAt_0 ++ dktX7_holdsAt_1
theorem dksX7_holdsAt_0 : cX7_holdsAt.data.toList.drop 0 = dktX7_holdsAt_0 := by decide +kernel
theorem dksX7_holdsAt_1 : cX7_holdsAt.data.toList.drop 24 = dktX7_holdsAt_1 := dk_seg dksX7_holdsAt_0 24 rfl rfl
theorem dX7_holdsAt_0 : decode cX7_holdsAt 0 = .ok (.aload_n 0, 1) := dk_42 (dk_at dksX7_holdsAt_0 0 rfl rfl)
theorem dX7_holdsAt_1 : decode cX7_holdsAt 1 = .ok (.getfield 9, 3) := dk_180 0 9 (dk_at dksX7_holdsAt_0 1 rfl rfl)
theorem dX7_holdsAt_4 : decode cX7_holdsAt 4 = .ok (.iconst 4, 1) := dk_7 (dk_at dksX7_holdsAt_0 4 rfl rfl)
theorem dX7_holdsAt_5 : decode cX7_holdsAt 5 = .ok (.iaload, 1) := dk_46 (dk_at dksX7_holdsAt_0 5 rfl rfl)
theorem dX7_holdsAt_6 : decode cX7_holdsAt 6 = .ok (.ifCond .ne 5, 3) := dk_154 0 5 (dk_at dksX7_holdsAt_0 6 rfl rfl)
theorem dX7_holdsAt_9 : decode cX7_holdsAt 9 = .ok (.iconst 0, 1) := dk_3 (dk_at dksX7_holdsAt_0 9 rfl rfl)
theorem dX7_holdsAt_10 : decode cX7_holdsAt 10 = .ok (.ireturn, 1) := dk_172 (dk_at dksX7_holdsAt_0 10 rfl rfl)
theorem dX7_holdsAt_11 : decode cX7_holdsAt 11 = .ok (.aload_n 0, 1) := dk_42 (dk_at dksX7_holdsAt_0 11 rfl rfl)
theorem dX7_holdsAt_12 : decode cX7_holdsAt 12 = .ok (.iload_n 1, 1) := dk_27 (dk_at dksX7_holdsAt_0 12 rfl rfl)
theorem dX7_holdsAt_13 : decode cX7_holdsAt 13 = .ok (.invokevirtual 331, 3) := dk_182 1 75 (dk_at dksX7_holdsAt_0 13 rfl rfl)
theorem dX7_holdsAt_16 : decode cX7_holdsAt 16 = .ok (.aload_n 0, 1) := dk_42 (dk_at dksX7_holdsAt_0 16 rfl rfl)
theorem dX7_holdsAt_17 : decode cX7_holdsAt 17 = .ok (.iconst 4, 1) := dk_7 (dk_at dksX7_holdsAt_0 17 rfl rfl)
theorem dX7_holdsAt_18 : decode cX7_holdsAt 18 = .ok (.sipush 1109, 3) := dk_17 4 85 (dk_at dksX7_holdsAt_0 18 rfl rfl)
theorem dX7_holdsAt_21 : decode cX7_holdsAt 21 = .ok (.invokevirtual 334, 3) := dk_182 1 78 (dk_at dksX7_holdsAt_0 21 rfl rfl)
theorem dX7_holdsAt_24 : decode cX7_holdsAt 24 = .ok (.iconst 1, 1) := dk_4 (dk_at dksX7_holdsAt_1 0 rfl rfl)
theorem dX7_holdsAt_25 : decode cX7_holdsAt 25 = .ok (.if_icmp .ne 7, 3) := dk_160 0 7 (dk_at dksX7_holdsAt_1 1 rfl rfl)
theorem dX7_holdsAt_28 : decode cX7_holdsAt 28 = .ok (.iconst 1, 1) := dk_4 (dk_at dksX7_holdsAt_1 4 rfl rfl)
theorem dX7_holdsAt_29 : decode cX7_holdsAt 29 = .ok (.goto 4, 3) := dk_167 0 4 (dk_at dksX7_holdsAt_1 5 rfl rfl)
theorem dX7_holdsAt_32 : decode cX7_holdsAt 32 = .ok (.iconst 0, 1) := dk_3 (dk_at dksX7_holdsAt_1 8 rfl rfl)
theorem dX7_holdsAt_33 : decode cX7_holdsAt 33 = .ok (.ireturn, 1) := dk_172 (dk_at dksX7_holdsAt_1 9 rfl rfl)
abbrev cX7_likes : ByteArray := prog_43_method_74_code
def yX7_likes : MethodName := ⟨RX7, "likes", "(I)I"⟩
def dkwX7_likes_1 : List UInt8 := [42, 182, 1, 87, 27, 182, 1, 99, 167, 0, 8, 42, 4, 182, 0, 244, 172]
abbrev dktX7_likes_1 : List UInt8 := dkwX7_likes_1 ++ []
def dkwX7_likes_0 : List UInt8 := [42, 3, 181, 0, 77, 27, 133, 9, 42, 180, 0, 9, 5, 46, 4, 100, 133, 184, 0, 138, 153, 0, 15, 42]
abbrev dktX7_likes_0 : List UInt8 := dkwX7_likes_0 ++ dktX7_likes_1
theorem dksX7_likes_0 : cX7_likes.data.toList.drop 0 = dktX7_likes_0 := by decide +kernel
theorem dksX7_likes_1 : cX7_likes.data.toList.drop 24 = dktX7_likes_1 := dk_seg dksX7_likes_0 24 rfl rfl
theorem dX7_likes_0 : decode cX7_likes 0 = .ok (.aload_n 0, 1) := dk_42 (dk_at dksX7_likes_0 0 rfl rfl)
theorem dX7_likes_1 : decode cX7_likes 1 = .ok (.iconst 0, 1) := dk_3 (dk_at dksX7_likes_0 1 rfl rfl)
theorem dX7_likes_2 : decode cX7_likes 2 = .ok (.putfield 77, 3) := dk_181 0 77 (dk_at dksX7_likes_0 2 rfl rfl)
theorem dX7_likes_5 : decode cX7_likes 5 = .ok (.iload_n 1, 1) := dk_27 (dk_at dksX7_likes_0 5 rfl rfl)
theorem dX7_likes_6 : decode cX7_likes 6 = .ok (.i2l, 1) := dk_133 (dk_at dksX7_likes_0 6 rfl rfl)
theorem dX7_likes_7 : decode cX7_likes 7 = .ok (.lconst 0, 1) := dk_9 (dk_at dksX7_likes_0 7 rfl rfl)
theorem dX7_likes_8 : decode cX7_likes 8 = .ok (.aload_n 0, 1) := dk_42 (dk_at dksX7_likes_0 8 rfl rfl)
theorem dX7_likes_9 : decode cX7_likes 9 = .ok (.getfield 9, 3) := dk_180 0 9 (dk_at dksX7_likes_0 9 rfl rfl)
theorem dX7_likes_12 : decode cX7_likes 12 = .ok (.iconst 2, 1) := dk_5 (dk_at dksX7_likes_0 12 rfl rfl)
theorem dX7_likes_13 : decode cX7_likes 13 = .ok (.iaload, 1) := dk_46 (dk_at dksX7_likes_0 13 rfl rfl)
theorem dX7_likes_14 : decode cX7_likes 14 = .ok (.iconst 1, 1) := dk_4 (dk_at dksX7_likes_0 14 rfl rfl)
theorem dX7_likes_15 : decode cX7_likes 15 = .ok (.isub, 1) := dk_100 (dk_at dksX7_likes_0 15 rfl rfl)
theorem dX7_likes_16 : decode cX7_likes 16 = .ok (.i2l, 1) := dk_133 (dk_at dksX7_likes_0 16 rfl rfl)
theorem dX7_likes_17 : decode cX7_likes 17 = .ok (.invokestatic 138, 3) := dk_184 0 138 (dk_at dksX7_likes_0 17 rfl rfl)
theorem dX7_likes_20 : decode cX7_likes 20 = .ok (.ifCond .eq 15, 3) := dk_153 0 15 (dk_at dksX7_likes_0 20 rfl rfl)
theorem dX7_likes_23 : decode cX7_likes 23 = .ok (.aload_n 0, 1) := dk_42 (dk_at dksX7_likes_0 23 rfl rfl)
theorem dX7_likes_24 : decode cX7_likes 24 = .ok (.aload_n 0, 1) := dk_42 (dk_at dksX7_likes_1 0 rfl rfl)
theorem dX7_likes_25 : decode cX7_likes 25 = .ok (.invokevirtual 343, 3) := dk_182 1 87 (dk_at dksX7_likes_1 1 rfl rfl)
theorem dX7_likes_28 : decode cX7_likes 28 = .ok (.iload_n 1, 1) := dk_27 (dk_at dksX7_likes_1 4 rfl rfl)
theorem dX7_likes_29 : decode cX7_likes 29 = .ok (.invokevirtual 355, 3) := dk_182 1 99 (dk_at dksX7_likes_1 5 rfl rfl)
theorem dX7_likes_32 : decode cX7_likes 32 = .ok (.goto 8, 3) := dk_167 0 8 (dk_at dksX7_likes_1 8 rfl rfl)
theorem dX7_likes_35 : decode cX7_likes 35 = .ok (.aload_n 0, 1) := dk_42 (dk_at dksX7_likes_1 11 rfl rfl)
theorem dX7_likes_36 : decode cX7_likes 36 = .ok (.iconst 1, 1) := dk_4 (dk_at dksX7_likes_1 12 rfl rfl)
theorem dX7_likes_37 : decode cX7_likes 37 = .ok (.invokevirtual 244, 3) := dk_182 0 244 (dk_at dksX7_likes_1 13 rfl rfl)
theorem dX7_likes_40 : decode cX7_likes 40 = .ok (.ireturn, 1) := dk_172 (dk_at dksX7_likes_1 16 rfl rfl)
abbrev cX7_likesAt : ByteArray := prog_43_method_63_code
def yX7_likesAt : MethodName := ⟨RX7, "likesAt", "(II)I"⟩
def dkwX7_likesAt_2 : List UInt8 := [172]
abbrev dktX7_likesAt_2 : List UInt8 := dkwX7_likesAt_2 ++ []
def dkwX7_likesAt_1 : List UInt8 := [42, 180, 0, 39, 16, 7, 42, 180, 0, 9, 16, 25, 28, 96, 46, 79, 42, 8, 17, 7, 217, 182, 1, 78]
abbrev dktX7_likesAt_1 : List UInt8 := dkwX7_likesAt_1 ++ dktX7_likesAt_2
def dkwX7_likesAt_0 : List UInt8 := [42, 180, 0, 9, 8, 46, 154, 0, 5, 3, 172, 42, 27, 182, 1, 75, 42, 180, 0, 39, 16, 6, 28, 79]
abbrev dktX7_likesAt_0 : List UInt8 := dkwX7_likesAt_0 ++ dktX7_likesAt_1
theorem dksX7_likesAt_0 : cX7_likesAt.data.toList.drop 0 = dktX7_likesAt_0 := by decide +kernel
theorem dksX7_likesAt_1 : cX7_likesAt.data.toList.drop 24 = dktX7_likesAt_1 := dk_seg dksX7_likesAt_0 24 rfl rfl
theorem dksX7_likesAt_2 : cX7_likesAt.data.toList.drop 48 = dktX7_likesAt_2 := dk_seg dksX7_likesAt_1 24 rfl rfl
theorem dX7_likesAt_0 : decode cX7_likesAt 0 = .ok (.aload_n 0, 1) := dk_42 (dk_at dksX7_likesAt_0 0 rfl rfl)
theorem dX7_likesAt_1 : decode cX7_likesAt 1 = .ok (.getfield 9, 3) := dk_180 0 9 (dk_at dksX7_likesAt_0 1 rfl rfl)
theorem dX7_likesAt_4 : decode cX7_likesAt 4 = .ok (.iconst 5, 1) := dk_8 (dk_at dksX7_likesAt_0 4 rfl rfl)
theorem dX7_likesAt_5 : decode cX7_likesAt 5 = .ok (.iaload, 1) := dk_46 (dk_at dksX7_likesAt_0 5 rfl rfl)
theorem dX7_likesAt_6 : decode cX7_likesAt 6 = .ok (.ifCond .ne 5, 3) := dk_154 0 5 (dk_at dksX7_likesAt_0 6 rfl rfl)
theorem dX7_likesAt_9 : decode cX7_likesAt 9 = .ok (.iconst 0, 1) := dk_3 (dk_at dksX7_likesAt_0 9 rfl rfl)
theorem dX7_likesAt_10 : decode cX7_likesAt 10 = .ok (.ireturn, 1) := dk_172 (dk_at dksX7_likesAt_0 10 rfl rfl)
theorem dX7_likesAt_11 : decode cX7_likesAt 11 = .ok (.aload_n 0, 1) := dk_42 (dk_at dksX7_likesAt_0 11 rfl rfl)
theorem dX7_likesAt_12 : decode cX7_likesAt 12 = .ok (.iload_n 1, 1) := dk_27 (dk_at dksX7_likesAt_0 12 rfl rfl)
theorem dX7_likesAt_13 : decode cX7_likesAt 13 = .ok (.invokevirtual 331, 3) := dk_182 1 75 (dk_at dksX7_likesAt_0 13 rfl rfl)
theorem dX7_likesAt_16 : decode cX7_likesAt 16 = .ok (.aload_n 0, 1) := dk_42 (dk_at dksX7_likesAt_0 16 rfl rfl)
theorem dX7_likesAt_17 : decode cX7_likesAt 17 = .ok (.getfield 39, 3) := dk_180 0 39 (dk_at dksX7_likesAt_0 17 rfl rfl)
theorem dX7_likesAt_20 : decode cX7_likesAt 20 = .ok (.bipush 6, 2) := dk_16 6 (dk_at dksX7_likesAt_0 20 rfl rfl)
theorem dX7_likesAt_22 : decode cX7_likesAt 22 = .ok (.iload_n 2, 1) := dk_28 (dk_at dksX7_likesAt_0 22 rfl rfl)
theorem dX7_likesAt_23 : decode cX7_likesAt 23 = .ok (.iastore, 1) := dk_79 (dk_at dksX7_likesAt_0 23 rfl rfl)
theorem dX7_likesAt_24 : decode cX7_likesAt 24 = .ok (.aload_n 0, 1) := dk_42 (dk_at dksX7_likesAt_1 0 rfl rfl)
theorem dX7_likesAt_25 : decode cX7_likesAt 25 = .ok (.getfield 39, 3) := dk_180 0 39 (dk_at dksX7_likesAt_1 1 rfl rfl)
theorem dX7_likesAt_28 : decode cX7_likesAt 28 = .ok (.bipush 7, 2) := dk_16 7 (dk_at dksX7_likesAt_1 4 rfl rfl)
theorem dX7_likesAt_30 : decode cX7_likesAt 30 = .ok (.aload_n 0, 1) := dk_42 (dk_at dksX7_likesAt_1 6 rfl rfl)
theorem dX7_likesAt_31 : decode cX7_likesAt 31 = .ok (.getfield 9, 3) := dk_180 0 9 (dk_at dksX7_likesAt_1 7 rfl rfl)
theorem dX7_likesAt_34 : decode cX7_likesAt 34 = .ok (.bipush 25, 2) := dk_16 25 (dk_at dksX7_likesAt_1 10 rfl rfl)
theorem dX7_likesAt_36 : decode cX7_likesAt 36 = .ok (.iload_n 2, 1) := dk_28 (dk_at dksX7_likesAt_1 12 rfl rfl)
theorem dX7_likesAt_37 : decode cX7_likesAt 37 = .ok (.iadd, 1) := dk_96 (dk_at dksX7_likesAt_1 13 rfl rfl)
theorem dX7_likesAt_38 : decode cX7_likesAt 38 = .ok (.iaload, 1) := dk_46 (dk_at dksX7_likesAt_1 14 rfl rfl)
theorem dX7_likesAt_39 : decode cX7_likesAt 39 = .ok (.iastore, 1) := dk_79 (dk_at dksX7_likesAt_1 15 rfl rfl)
theorem dX7_likesAt_40 : decode cX7_likesAt 40 = .ok (.aload_n 0, 1) := dk_42 (dk_at dksX7_likesAt_1 16 rfl rfl)
theorem dX7_likesAt_41 : decode cX7_likesAt 41 = .ok (.iconst 5, 1) := dk_8 (dk_at dksX7_likesAt_1 17 rfl rfl)
theorem dX7_likesAt_42 : decode cX7_likesAt 42 = .ok (.sipush 2009, 3) := dk_17 7 217 (dk_at dksX7_likesAt_1 18 rfl rfl)
theorem dX7_likesAt_45 : decode cX7_likesAt 45 = .ok (.invokevirtual 334, 3) := dk_182 1 78 (dk_at dksX7_likesAt_1 21 rfl rfl)
theorem dX7_likesAt_48 : decode cX7_likesAt 48 = .ok (.ireturn, 1) := dk_172 (dk_at dksX7_likesAt_2 0 rfl rfl)
abbrev cX7_fold : ByteArray := prog_43_method_79_code
def yX7_fold : MethodName := ⟨RX7, "fold", "(II)I"⟩
def dkwX7_fold_1 : List UInt8 := [182, 1, 106, 42, 16, 10, 27, 104, 28, 96, 182, 1, 109, 42, 42, 182, 1, 87, 182, 1, 0, 172]
abbrev dktX7_fold_1 : List UInt8 := dkwX7_fold_1 ++ []
def dkwX7_fold_0 : List UInt8 := [42, 3, 181, 0, 77, 42, 42, 182, 1, 87, 27, 133, 28, 133, 182, 1, 102, 154, 0, 5, 2, 172, 42]
abbrev dktX7_fold_0 : List UInt8 := dkwX7_fold_0 ++ dktX7_fold_1
theorem dksX7_fold_0 : cX7_fold.data.toList.drop 0 = dktX7_fold_0 := by decide +kernel
theorem dksX7_fold_1 : cX7_fold.data.toList.drop 23 = dktX7_fold_1 := dk_seg dksX7_fold_0 23 rfl rfl
theorem dX7_fold_0 : decode cX7_fold 0 = .ok (.aload_n 0, 1) := dk_42 (dk_at dksX7_fold_0 0 rfl rfl)
theorem dX7_fold_1 : decode cX7_fold 1 = .ok (.iconst 0, 1) := dk_3 (dk_at dksX7_fold_0 1 rfl rfl)
theorem dX7_fold_2 : decode cX7_fold 2 = .ok (.putfield 77, 3) := dk_181 0 77 (dk_at dksX7_fold_0 2 rfl rfl)
theorem dX7_fold_5 : decode cX7_fold 5 = .ok (.aload_n 0, 1) := dk_42 (dk_at dksX7_fold_0 5 rfl rfl)
theorem dX7_fold_6 : decode cX7_fold 6 = .ok (.aload_n 0, 1) := dk_42 (dk_at dksX7_fold_0 6 rfl rfl)
theorem dX7_fold_7 : decode cX7_fold 7 = .ok (.invokevirtual 343, 3) := dk_182 1 87 (dk_at dksX7_fold_0 7 rfl rfl)
theorem dX7_fold_10 : decode cX7_fold 10 = .ok (.iload_n 1, 1) := dk_27 (dk_at dksX7_fold_0 10 rfl rfl)
theorem dX7_fold_11 : decode cX7_fold 11 = .ok (.i2l, 1) := dk_133 (dk_at dksX7_fold_0 11 rfl rfl)
theorem dX7_fold_12 : decode cX7_fold 12 = .ok (.iload_n 2, 1) := dk_28 (dk_at dksX7_fold_0 12 rfl rfl)
theorem dX7_fold_13 : decode cX7_fold 13 = .ok (.i2l, 1) := dk_133 (dk_at dksX7_fold_0 13 rfl rfl)
theorem dX7_fold_14 : decode cX7_fold 14 = .ok (.invokevirtual 358, 3) := dk_182 1 102 (dk_at dksX7_fold_0 14 rfl rfl)
theorem dX7_fold_17 : decode cX7_fold 17 = .ok (.ifCond .ne 5, 3) := dk_154 0 5 (dk_at dksX7_fold_0 17 rfl rfl)
theorem dX7_fold_20 : decode cX7_fold 20 = .ok (.iconst (-1), 1) := dk_2 (dk_at dksX7_fold_0 20 rfl rfl)
theorem dX7_fold_21 : decode cX7_fold 21 = .ok (.ireturn, 1) := dk_172 (dk_at dksX7_fold_0 21 rfl rfl)
theorem dX7_fold_22 : decode cX7_fold 22 = .ok (.aload_n 0, 1) := dk_42 (dk_at dksX7_fold_0 22 rfl rfl)
theorem dX7_fold_23 : decode cX7_fold 23 = .ok (.invokevirtual 362, 3) := dk_182 1 106 (dk_at dksX7_fold_1 0 rfl rfl)
theorem dX7_fold_26 : decode cX7_fold 26 = .ok (.aload_n 0, 1) := dk_42 (dk_at dksX7_fold_1 3 rfl rfl)
theorem dX7_fold_27 : decode cX7_fold 27 = .ok (.bipush 10, 2) := dk_16 10 (dk_at dksX7_fold_1 4 rfl rfl)
theorem dX7_fold_29 : decode cX7_fold 29 = .ok (.iload_n 1, 1) := dk_27 (dk_at dksX7_fold_1 6 rfl rfl)
theorem dX7_fold_30 : decode cX7_fold 30 = .ok (.imul, 1) := dk_104 (dk_at dksX7_fold_1 7 rfl rfl)
theorem dX7_fold_31 : decode cX7_fold 31 = .ok (.iload_n 2, 1) := dk_28 (dk_at dksX7_fold_1 8 rfl rfl)
theorem dX7_fold_32 : decode cX7_fold 32 = .ok (.iadd, 1) := dk_96 (dk_at dksX7_fold_1 9 rfl rfl)
theorem dX7_fold_33 : decode cX7_fold 33 = .ok (.invokevirtual 365, 3) := dk_182 1 109 (dk_at dksX7_fold_1 10 rfl rfl)
theorem dX7_fold_36 : decode cX7_fold 36 = .ok (.aload_n 0, 1) := dk_42 (dk_at dksX7_fold_1 13 rfl rfl)
theorem dX7_fold_37 : decode cX7_fold 37 = .ok (.aload_n 0, 1) := dk_42 (dk_at dksX7_fold_1 14 rfl rfl)
theorem dX7_fold_38 : decode cX7_fold 38 = .ok (.invokevirtual 343, 3) := dk_182 1 87 (dk_at dksX7_fold_1 15 rfl rfl)
theorem dX7_fold_41 : decode cX7_fold 41 = .ok (.invokevirtual 256, 3) := dk_182 1 0 (dk_at dksX7_fold_1 18 rfl rfl)
theorem dX7_fold_44 : decode cX7_fold 44 = .ok (.ireturn, 1) := dk_172 (dk_at dksX7_fold_1 21 rfl rfl)
abbrev cX7_isFold : ByteArray := prog_43_method_43_code
def yX7_isFold : MethodName := ⟨RX7, "isFold", "(IJJ)Z"⟩
def dkwX7_isFold_1 : List UInt8 := [184, 0, 138, 153, 0, 7, 4, 167, 0, 4, 3, 172]
abbrev dktX7_isFold_1 : List UInt8 := dkwX7_isFold_1 ++ []
def dkwX7_isFold_0 : List UInt8 := [32, 10, 42, 27, 182, 1, 0, 4, 100, 133, 184, 0, 138, 153, 0, 19, 22, 4, 9, 20, 1, 3]
abbrev dktX7_isFold_0 : List UInt8 := dkwX7_isFold_0 ++ dktX7_isFold_1
theorem dksX7_isFold_0 : cX7_isFold.data.toList.drop 0 = dktX7_isFold_0 := by decide +kernel
theorem dksX7_isFold_1 : cX7_isFold.data.toList.drop 22 = dktX7_isFold_1 := dk_seg dksX7_isFold_0 22 rfl rfl
theorem dX7_isFold_0 : decode cX7_isFold 0 = .ok (.lload_n 2, 1) := dk_32 (dk_at dksX7_isFold_0 0 rfl rfl)
theorem dX7_isFold_1 : decode cX7_isFold 1 = .ok (.lconst 1, 1) := dk_10 (dk_at dksX7_isFold_0 1 rfl rfl)
theorem dX7_isFold_2 : decode cX7_isFold 2 = .ok (.aload_n 0, 1) := dk_42 (dk_at dksX7_isFold_0 2 rfl rfl)
theorem dX7_isFold_3 : decode cX7_isFold 3 = .ok (.iload_n 1, 1) := dk_27 (dk_at dksX7_isFold_0 3 rfl rfl)
theorem dX7_isFold_4 : decode cX7_isFold 4 = .ok (.invokevirtual 256, 3) := dk_182 1 0 (dk_at dksX7_isFold_0 4 rfl rfl)
theorem dX7_isFold_7 : decode cX7_isFold 7 = .ok (.iconst 1, 1) := dk_4 (dk_at dksX7_isFold_0 7 rfl rfl)
theorem dX7_isFold_8 : decode cX7_isFold 8 = .ok (.isub, 1) := dk_100 (dk_at dksX7_isFold_0 8 rfl rfl)
theorem dX7_isFold_9 : decode cX7_isFold 9 = .ok (.i2l, 1) := dk_133 (dk_at dksX7_isFold_0 9 rfl rfl)
theorem dX7_isFold_10 : decode cX7_isFold 10 = .ok (.invokestatic 138, 3) := dk_184 0 138 (dk_at dksX7_isFold_0 10 rfl rfl)
theorem dX7_isFold_13 : decode cX7_isFold 13 = .ok (.ifCond .eq 19, 3) := dk_153 0 19 (dk_at dksX7_isFold_0 13 rfl rfl)
theorem dX7_isFold_16 : decode cX7_isFold 16 = .ok (.lload 4, 2) := dk_22 4 (dk_at dksX7_isFold_0 16 rfl rfl)
theorem dX7_isFold_18 : decode cX7_isFold 18 = .ok (.lconst 0, 1) := dk_9 (dk_at dksX7_isFold_0 18 rfl rfl)
theorem dX7_isFold_19 : decode cX7_isFold 19 = .ok (.ldc2_w 259, 3) := dk_20 1 3 (dk_at dksX7_isFold_0 19 rfl rfl)
theorem dX7_isFold_22 : decode cX7_isFold 22 = .ok (.invokestatic 138, 3) := dk_184 0 138 (dk_at dksX7_isFold_1 0 rfl rfl)
theorem dX7_isFold_25 : decode cX7_isFold 25 = .ok (.ifCond .eq 7, 3) := dk_153 0 7 (dk_at dksX7_isFold_1 3 rfl rfl)
theorem dX7_isFold_28 : decode cX7_isFold 28 = .ok (.iconst 1, 1) := dk_4 (dk_at dksX7_isFold_1 6 rfl rfl)
theorem dX7_isFold_29 : decode cX7_isFold 29 = .ok (.goto 4, 3) := dk_167 0 4 (dk_at dksX7_isFold_1 7 rfl rfl)
theorem dX7_isFold_32 : decode cX7_isFold 32 = .ok (.iconst 0, 1) := dk_3 (dk_at dksX7_isFold_1 10 rfl rfl)
theorem dX7_isFold_33 : decode cX7_isFold 33 = .ok (.ireturn, 1) := dk_172 (dk_at dksX7_isFold_1 11 rfl rfl)
abbrev cX7_keeps : ByteArray := prog_43_method_75_code
def yX7_keeps : MethodName := ⟨RX7, "keeps", "()V"⟩
def dkwX7_keeps_4 : List UInt8 := [167, 255, 218, 42, 180, 0, 9, 16, 6, 92, 46, 4, 96, 79, 177]
abbrev dktX7_keeps_4 : List UInt8 := dkwX7_keeps_4 ++ []
def dkwX7_keeps_3 : List UInt8 := [180, 0, 9, 16, 6, 46, 104, 96, 27, 96, 42, 180, 0, 9, 16, 7, 27, 96, 46, 79, 132, 1, 1]
abbrev dktX7_keeps_3 : List UInt8 := dkwX7_keeps_3 ++ dktX7_keeps_4
def dkwX7_keeps_2 : List UInt8 := [16, 6, 92, 46, 4, 100, 79, 3, 60, 27, 16, 18, 162, 0, 38, 42, 180, 0, 9, 16, 29, 16, 18, 42]
abbrev dktX7_keeps_2 : List UInt8 := dkwX7_keeps_2 ++ dktX7_keeps_3
def dkwX7_keeps_1 : List UInt8 := [180, 0, 9, 27, 42, 180, 0, 9, 27, 16, 18, 96, 46, 79, 132, 1, 1, 167, 255, 231, 42, 180, 0, 9]
abbrev dktX7_keeps_1 : List UInt8 := dkwX7_keeps_1 ++ dktX7_keeps_2
def dkwX7_keeps_0 : List UInt8 := [42, 180, 0, 9, 16, 6, 46, 16, 10, 160, 0, 45, 16, 29, 60, 27, 17, 0, 191, 162, 0, 24, 42]
abbrev dktX7_keeps_0 : List UInt8 := dkwX7_keeps_0 ++ dktX7_keeps_1
theorem dksX7_keeps_0 : cX7_keeps.data.toList.drop 0 = dktX7_keeps_0 := by decide +kernel
theorem dksX7_keeps_1 : cX7_keeps.data.toList.drop 23 = dktX7_keeps_1 := dk_seg dksX7_keeps_0 23 rfl rfl
theorem dksX7_keeps_2 : cX7_keeps.data.toList.drop 47 = dktX7_keeps_2 := dk_seg dksX7_keeps_1 24 rfl rfl
theorem dksX7_keeps_3 : cX7_keeps.data.toList.drop 71 = dktX7_keeps_3 := dk_seg dksX7_keeps_2 24 rfl rfl
theorem dksX7_keeps_4 : cX7_keeps.data.toList.drop 94 = dktX7_keeps_4 := dk_seg dksX7_keeps_3 23 rfl rfl
theorem dX7_keeps_0 : decode cX7_keeps 0 = .ok (.aload_n 0, 1) := dk_42 (dk_at dksX7_keeps_0 0 rfl rfl)
theorem dX7_keeps_1 : decode cX7_keeps 1 = .ok (.getfield 9, 3) := dk_180 0 9 (dk_at dksX7_keeps_0 1 rfl rfl)
theorem dX7_keeps_4 : decode cX7_keeps 4 = .ok (.bipush 6, 2) := dk_16 6 (dk_at dksX7_keeps_0 4 rfl rfl)
theorem dX7_keeps_6 : decode cX7_keeps 6 = .ok (.iaload, 1) := dk_46 (dk_at dksX7_keeps_0 6 rfl rfl)
theorem dX7_keeps_7 : decode cX7_keeps 7 = .ok (.bipush 10, 2) := dk_16 10 (dk_at dksX7_keeps_0 7 rfl rfl)
theorem dX7_keeps_9 : decode cX7_keeps 9 = .ok (.if_icmp .ne 45, 3) := dk_160 0 45 (dk_at dksX7_keeps_0 9 rfl rfl)
theorem dX7_keeps_12 : decode cX7_keeps 12 = .ok (.bipush 29, 2) := dk_16 29 (dk_at dksX7_keeps_0 12 rfl rfl)
theorem dX7_keeps_14 : decode cX7_keeps 14 = .ok (.istore_n 1, 1) := dk_60 (dk_at dksX7_keeps_0 14 rfl rfl)
theorem dX7_keeps_15 : decode cX7_keeps 15 = .ok (.iload_n 1, 1) := dk_27 (dk_at dksX7_keeps_0 15 rfl rfl)
theorem dX7_keeps_16 : decode cX7_keeps 16 = .ok (.sipush 191, 3) := dk_17 0 191 (dk_at dksX7_keeps_0 16 rfl rfl)
theorem dX7_keeps_19 : decode cX7_keeps 19 = .ok (.if_icmp .ge 24, 3) := dk_162 0 24 (dk_at dksX7_keeps_0 19 rfl rfl)
theorem dX7_keeps_22 : decode cX7_keeps 22 = .ok (.aload_n 0, 1) := dk_42 (dk_at dksX7_keeps_0 22 rfl rfl)
theorem dX7_keeps_23 : decode cX7_keeps 23 = .ok (.getfield 9, 3) := dk_180 0 9 (dk_at dksX7_keeps_1 0 rfl rfl)
theorem dX7_keeps_26 : decode cX7_keeps 26 = .ok (.iload_n 1, 1) := dk_27 (dk_at dksX7_keeps_1 3 rfl rfl)
theorem dX7_keeps_27 : decode cX7_keeps 27 = .ok (.aload_n 0, 1) := dk_42 (dk_at dksX7_keeps_1 4 rfl rfl)
theorem dX7_keeps_28 : decode cX7_keeps 28 = .ok (.getfield 9, 3) := dk_180 0 9 (dk_at dksX7_keeps_1 5 rfl rfl)
theorem dX7_keeps_31 : decode cX7_keeps 31 = .ok (.iload_n 1, 1) := dk_27 (dk_at dksX7_keeps_1 8 rfl rfl)
theorem dX7_keeps_32 : decode cX7_keeps 32 = .ok (.bipush 18, 2) := dk_16 18 (dk_at dksX7_keeps_1 9 rfl rfl)
theorem dX7_keeps_34 : decode cX7_keeps 34 = .ok (.iadd, 1) := dk_96 (dk_at dksX7_keeps_1 11 rfl rfl)
theorem dX7_keeps_35 : decode cX7_keeps 35 = .ok (.iaload, 1) := dk_46 (dk_at dksX7_keeps_1 12 rfl rfl)
theorem dX7_keeps_36 : decode cX7_keeps 36 = .ok (.iastore, 1) := dk_79 (dk_at dksX7_keeps_1 13 rfl rfl)
theorem dX7_keeps_37 : decode cX7_keeps 37 = .ok (.iinc 1 1, 3) := dk_132 1 1 (dk_at dksX7_keeps_1 14 rfl rfl)
theorem dX7_keeps_40 : decode cX7_keeps 40 = .ok (.goto (-25), 3) := dk_167 255 231 (dk_at dksX7_keeps_1 17 rfl rfl)
theorem dX7_keeps_43 : decode cX7_keeps 43 = .ok (.aload_n 0, 1) := dk_42 (dk_at dksX7_keeps_1 20 rfl rfl)
theorem dX7_keeps_44 : decode cX7_keeps 44 = .ok (.getfield 9, 3) := dk_180 0 9 (dk_at dksX7_keeps_1 21 rfl rfl)
theorem dX7_keeps_47 : decode cX7_keeps 47 = .ok (.bipush 6, 2) := dk_16 6 (dk_at dksX7_keeps_2 0 rfl rfl)
theorem dX7_keeps_49 : decode cX7_keeps 49 = .ok (.dup2, 1) := dk_92 (dk_at dksX7_keeps_2 2 rfl rfl)
theorem dX7_keeps_50 : decode cX7_keeps 50 = .ok (.iaload, 1) := dk_46 (dk_at dksX7_keeps_2 3 rfl rfl)
theorem dX7_keeps_51 : decode cX7_keeps 51 = .ok (.iconst 1, 1) := dk_4 (dk_at dksX7_keeps_2 4 rfl rfl)
theorem dX7_keeps_52 : decode cX7_keeps 52 = .ok (.isub, 1) := dk_100 (dk_at dksX7_keeps_2 5 rfl rfl)
theorem dX7_keeps_53 : decode cX7_keeps 53 = .ok (.iastore, 1) := dk_79 (dk_at dksX7_keeps_2 6 rfl rfl)
theorem dX7_keeps_54 : decode cX7_keeps 54 = .ok (.iconst 0, 1) := dk_3 (dk_at dksX7_keeps_2 7 rfl rfl)
theorem dX7_keeps_55 : decode cX7_keeps 55 = .ok (.istore_n 1, 1) := dk_60 (dk_at dksX7_keeps_2 8 rfl rfl)
theorem dX7_keeps_56 : decode cX7_keeps 56 = .ok (.iload_n 1, 1) := dk_27 (dk_at dksX7_keeps_2 9 rfl rfl)
theorem dX7_keeps_57 : decode cX7_keeps 57 = .ok (.bipush 18, 2) := dk_16 18 (dk_at dksX7_keeps_2 10 rfl rfl)
theorem dX7_keeps_59 : decode cX7_keeps 59 = .ok (.if_icmp .ge 38, 3) := dk_162 0 38 (dk_at dksX7_keeps_2 12 rfl rfl)
theorem dX7_keeps_62 : decode cX7_keeps 62 = .ok (.aload_n 0, 1) := dk_42 (dk_at dksX7_keeps_2 15 rfl rfl)
theorem dX7_keeps_63 : decode cX7_keeps 63 = .ok (.getfield 9, 3) := dk_180 0 9 (dk_at dksX7_keeps_2 16 rfl rfl)
theorem dX7_keeps_66 : decode cX7_keeps 66 = .ok (.bipush 29, 2) := dk_16 29 (dk_at dksX7_keeps_2 19 rfl rfl)
theorem dX7_keeps_68 : decode cX7_keeps 68 = .ok (.bipush 18, 2) := dk_16 18 (dk_at dksX7_keeps_2 21 rfl rfl)
theorem dX7_keeps_70 : decode cX7_keeps 70 = .ok (.aload_n 0, 1) := dk_42 (dk_at dksX7_keeps_2 23 rfl rfl)
theorem dX7_keeps_71 : decode cX7_keeps 71 = .ok (.getfield 9, 3) := dk_180 0 9 (dk_at dksX7_keeps_3 0 rfl rfl)
theorem dX7_keeps_74 : decode cX7_keeps 74 = .ok (.bipush 6, 2) := dk_16 6 (dk_at dksX7_keeps_3 3 rfl rfl)
theorem dX7_keeps_76 : decode cX7_keeps 76 = .ok (.iaload, 1) := dk_46 (dk_at dksX7_keeps_3 5 rfl rfl)
theorem dX7_keeps_77 : decode cX7_keeps 77 = .ok (.imul, 1) := dk_104 (dk_at dksX7_keeps_3 6 rfl rfl)
theorem dX7_keeps_78 : decode cX7_keeps 78 = .ok (.iadd, 1) := dk_96 (dk_at dksX7_keeps_3 7 rfl rfl)
theorem dX7_keeps_79 : decode cX7_keeps 79 = .ok (.iload_n 1, 1) := dk_27 (dk_at dksX7_keeps_3 8 rfl rfl)
theorem dX7_keeps_80 : decode cX7_keeps 80 = .ok (.iadd, 1) := dk_96 (dk_at dksX7_keeps_3 9 rfl rfl)
theorem dX7_keeps_81 : decode cX7_keeps 81 = .ok (.aload_n 0, 1) := dk_42 (dk_at dksX7_keeps_3 10 rfl rfl)
theorem dX7_keeps_82 : decode cX7_keeps 82 = .ok (.getfield 9, 3) := dk_180 0 9 (dk_at dksX7_keeps_3 11 rfl rfl)
theorem dX7_keeps_85 : decode cX7_keeps 85 = .ok (.bipush 7, 2) := dk_16 7 (dk_at dksX7_keeps_3 14 rfl rfl)
theorem dX7_keeps_87 : decode cX7_keeps 87 = .ok (.iload_n 1, 1) := dk_27 (dk_at dksX7_keeps_3 16 rfl rfl)
theorem dX7_keeps_88 : decode cX7_keeps 88 = .ok (.iadd, 1) := dk_96 (dk_at dksX7_keeps_3 17 rfl rfl)
theorem dX7_keeps_89 : decode cX7_keeps 89 = .ok (.iaload, 1) := dk_46 (dk_at dksX7_keeps_3 18 rfl rfl)
theorem dX7_keeps_90 : decode cX7_keeps 90 = .ok (.iastore, 1) := dk_79 (dk_at dksX7_keeps_3 19 rfl rfl)
theorem dX7_keeps_91 : decode cX7_keeps 91 = .ok (.iinc 1 1, 3) := dk_132 1 1 (dk_at dksX7_keeps_3 20 rfl rfl)
theorem dX7_keeps_94 : decode cX7_keeps 94 = .ok (.goto (-38), 3) := dk_167 255 218 (dk_at dksX7_keeps_4 0 rfl rfl)
theorem dX7_keeps_97 : decode cX7_keeps 97 = .ok (.aload_n 0, 1) := dk_42 (dk_at dksX7_keeps_4 3 rfl rfl)
theorem dX7_keeps_98 : decode cX7_keeps 98 = .ok (.getfield 9, 3) := dk_180 0 9 (dk_at dksX7_keeps_4 4 rfl rfl)
theorem dX7_keeps_101 : decode cX7_keeps 101 = .ok (.bipush 6, 2) := dk_16 6 (dk_at dksX7_keeps_4 7 rfl rfl)
theorem dX7_keeps_103 : decode cX7_keeps 103 = .ok (.dup2, 1) := dk_92 (dk_at dksX7_keeps_4 9 rfl rfl)
theorem dX7_keeps_104 : decode cX7_keeps 104 = .ok (.iaload, 1) := dk_46 (dk_at dksX7_keeps_4 10 rfl rfl)
theorem dX7_keeps_105 : decode cX7_keeps 105 = .ok (.iconst 1, 1) := dk_4 (dk_at dksX7_keeps_4 11 rfl rfl)
theorem dX7_keeps_106 : decode cX7_keeps 106 = .ok (.iadd, 1) := dk_96 (dk_at dksX7_keeps_4 12 rfl rfl)
theorem dX7_keeps_107 : decode cX7_keeps 107 = .ok (.iastore, 1) := dk_79 (dk_at dksX7_keeps_4 13 rfl rfl)
theorem dX7_keeps_108 : decode cX7_keeps 108 = .ok (.return_, 1) := dk_177 (dk_at dksX7_keeps_4 14 rfl rfl)
abbrev cX7_addsFold : ByteArray := prog_43_method_78_code
def yX7_addsFold : MethodName := ⟨RX7, "addsFold", "(I)V"⟩
def dkwX7_addsFold_1 : List UInt8 := [4, 96, 79, 177]
abbrev dktX7_addsFold_1 : List UInt8 := dkwX7_addsFold_1 ++ []
def dkwX7_addsFold_0 : List UInt8 := [42, 180, 0, 9, 16, 8, 42, 180, 0, 9, 16, 7, 46, 96, 27, 79, 42, 180, 0, 9, 16, 7, 92, 46]
abbrev dktX7_addsFold_0 : List UInt8 := dkwX7_addsFold_0 ++ dktX7_addsFold_1
theorem dksX7_addsFold_0 : cX7_addsFold.data.toList.drop 0 = dktX7_addsFold_0 := by decide +kernel
theorem dksX7_addsFold_1 : cX7_addsFold.data.toList.drop 24 = dktX7_addsFold_1 := dk_seg dksX7_addsFold_0 24 rfl rfl
theorem dX7_addsFold_0 : decode cX7_addsFold 0 = .ok (.aload_n 0, 1) := dk_42 (dk_at dksX7_addsFold_0 0 rfl rfl)
theorem dX7_addsFold_1 : decode cX7_addsFold 1 = .ok (.getfield 9, 3) := dk_180 0 9 (dk_at dksX7_addsFold_0 1 rfl rfl)
theorem dX7_addsFold_4 : decode cX7_addsFold 4 = .ok (.bipush 8, 2) := dk_16 8 (dk_at dksX7_addsFold_0 4 rfl rfl)
theorem dX7_addsFold_6 : decode cX7_addsFold 6 = .ok (.aload_n 0, 1) := dk_42 (dk_at dksX7_addsFold_0 6 rfl rfl)
theorem dX7_addsFold_7 : decode cX7_addsFold 7 = .ok (.getfield 9, 3) := dk_180 0 9 (dk_at dksX7_addsFold_0 7 rfl rfl)
theorem dX7_addsFold_10 : decode cX7_addsFold 10 = .ok (.bipush 7, 2) := dk_16 7 (dk_at dksX7_addsFold_0 10 rfl rfl)
theorem dX7_addsFold_12 : decode cX7_addsFold 12 = .ok (.iaload, 1) := dk_46 (dk_at dksX7_addsFold_0 12 rfl rfl)
theorem dX7_addsFold_13 : decode cX7_addsFold 13 = .ok (.iadd, 1) := dk_96 (dk_at dksX7_addsFold_0 13 rfl rfl)
theorem dX7_addsFold_14 : decode cX7_addsFold 14 = .ok (.iload_n 1, 1) := dk_27 (dk_at dksX7_addsFold_0 14 rfl rfl)
theorem dX7_addsFold_15 : decode cX7_addsFold 15 = .ok (.iastore, 1) := dk_79 (dk_at dksX7_addsFold_0 15 rfl rfl)
theorem dX7_addsFold_16 : decode cX7_addsFold 16 = .ok (.aload_n 0, 1) := dk_42 (dk_at dksX7_addsFold_0 16 rfl rfl)
theorem dX7_addsFold_17 : decode cX7_addsFold 17 = .ok (.getfield 9, 3) := dk_180 0 9 (dk_at dksX7_addsFold_0 17 rfl rfl)
theorem dX7_addsFold_20 : decode cX7_addsFold 20 = .ok (.bipush 7, 2) := dk_16 7 (dk_at dksX7_addsFold_0 20 rfl rfl)
theorem dX7_addsFold_22 : decode cX7_addsFold 22 = .ok (.dup2, 1) := dk_92 (dk_at dksX7_addsFold_0 22 rfl rfl)
theorem dX7_addsFold_23 : decode cX7_addsFold 23 = .ok (.iaload, 1) := dk_46 (dk_at dksX7_addsFold_0 23 rfl rfl)
theorem dX7_addsFold_24 : decode cX7_addsFold 24 = .ok (.iconst 1, 1) := dk_4 (dk_at dksX7_addsFold_1 0 rfl rfl)
theorem dX7_addsFold_25 : decode cX7_addsFold 25 = .ok (.iadd, 1) := dk_96 (dk_at dksX7_addsFold_1 1 rfl rfl)
theorem dX7_addsFold_26 : decode cX7_addsFold 26 = .ok (.iastore, 1) := dk_79 (dk_at dksX7_addsFold_1 2 rfl rfl)
theorem dX7_addsFold_27 : decode cX7_addsFold 27 = .ok (.return_, 1) := dk_177 (dk_at dksX7_addsFold_1 3 rfl rfl)
abbrev cX7_unfold : ByteArray := prog_43_method_80_code
def yX7_unfold : MethodName := ⟨RX7, "unfold", "()I"⟩
def dkwX7_unfold_2 : List UInt8 := [182, 1, 87, 182, 1, 0, 172]
abbrev dktX7_unfold_2 : List UInt8 := dkwX7_unfold_2 ++ []
def dkwX7_unfold_1 : List UInt8 := [158, 0, 5, 3, 172, 42, 182, 1, 106, 42, 180, 0, 9, 16, 7, 92, 46, 4, 100, 79, 42, 42]
abbrev dktX7_unfold_1 : List UInt8 := dkwX7_unfold_1 ++ dktX7_unfold_2
def dkwX7_unfold_0 : List UInt8 := [42, 42, 180, 0, 9, 16, 7, 46, 154, 0, 7, 4, 167, 0, 4, 3, 181, 0, 77, 42, 180, 0, 77]
abbrev dktX7_unfold_0 : List UInt8 := dkwX7_unfold_0 ++ dktX7_unfold_1
theorem dksX7_unfold_0 : cX7_unfold.data.toList.drop 0 = dktX7_unfold_0 := by decide +kernel
theorem dksX7_unfold_1 : cX7_unfold.data.toList.drop 23 = dktX7_unfold_1 := dk_seg dksX7_unfold_0 23 rfl rfl
theorem dksX7_unfold_2 : cX7_unfold.data.toList.drop 45 = dktX7_unfold_2 := dk_seg dksX7_unfold_1 22 rfl rfl
theorem dX7_unfold_0 : decode cX7_unfold 0 = .ok (.aload_n 0, 1) := dk_42 (dk_at dksX7_unfold_0 0 rfl rfl)
theorem dX7_unfold_1 : decode cX7_unfold 1 = .ok (.aload_n 0, 1) := dk_42 (dk_at dksX7_unfold_0 1 rfl rfl)
theorem dX7_unfold_2 : decode cX7_unfold 2 = .ok (.getfield 9, 3) := dk_180 0 9 (dk_at dksX7_unfold_0 2 rfl rfl)
theorem dX7_unfold_5 : decode cX7_unfold 5 = .ok (.bipush 7, 2) := dk_16 7 (dk_at dksX7_unfold_0 5 rfl rfl)
theorem dX7_unfold_7 : decode cX7_unfold 7 = .ok (.iaload, 1) := dk_46 (dk_at dksX7_unfold_0 7 rfl rfl)
theorem dX7_unfold_8 : decode cX7_unfold 8 = .ok (.ifCond .ne 7, 3) := dk_154 0 7 (dk_at dksX7_unfold_0 8 rfl rfl)
theorem dX7_unfold_11 : decode cX7_unfold 11 = .ok (.iconst 1, 1) := dk_4 (dk_at dksX7_unfold_0 11 rfl rfl)
theorem dX7_unfold_12 : decode cX7_unfold 12 = .ok (.goto 4, 3) := dk_167 0 4 (dk_at dksX7_unfold_0 12 rfl rfl)
theorem dX7_unfold_15 : decode cX7_unfold 15 = .ok (.iconst 0, 1) := dk_3 (dk_at dksX7_unfold_0 15 rfl rfl)
theorem dX7_unfold_16 : decode cX7_unfold 16 = .ok (.putfield 77, 3) := dk_181 0 77 (dk_at dksX7_unfold_0 16 rfl rfl)
theorem dX7_unfold_19 : decode cX7_unfold 19 = .ok (.aload_n 0, 1) := dk_42 (dk_at dksX7_unfold_0 19 rfl rfl)
theorem dX7_unfold_20 : decode cX7_unfold 20 = .ok (.getfield 77, 3) := dk_180 0 77 (dk_at dksX7_unfold_0 20 rfl rfl)
theorem dX7_unfold_23 : decode cX7_unfold 23 = .ok (.ifCond .le 5, 3) := dk_158 0 5 (dk_at dksX7_unfold_1 0 rfl rfl)
theorem dX7_unfold_26 : decode cX7_unfold 26 = .ok (.iconst 0, 1) := dk_3 (dk_at dksX7_unfold_1 3 rfl rfl)
theorem dX7_unfold_27 : decode cX7_unfold 27 = .ok (.ireturn, 1) := dk_172 (dk_at dksX7_unfold_1 4 rfl rfl)
theorem dX7_unfold_28 : decode cX7_unfold 28 = .ok (.aload_n 0, 1) := dk_42 (dk_at dksX7_unfold_1 5 rfl rfl)
theorem dX7_unfold_29 : decode cX7_unfold 29 = .ok (.invokevirtual 362, 3) := dk_182 1 106 (dk_at dksX7_unfold_1 6 rfl rfl)
theorem dX7_unfold_32 : decode cX7_unfold 32 = .ok (.aload_n 0, 1) := dk_42 (dk_at dksX7_unfold_1 9 rfl rfl)
theorem dX7_unfold_33 : decode cX7_unfold 33 = .ok (.getfield 9, 3) := dk_180 0 9 (dk_at dksX7_unfold_1 10 rfl rfl)
theorem dX7_unfold_36 : decode cX7_unfold 36 = .ok (.bipush 7, 2) := dk_16 7 (dk_at dksX7_unfold_1 13 rfl rfl)
theorem dX7_unfold_38 : decode cX7_unfold 38 = .ok (.dup2, 1) := dk_92 (dk_at dksX7_unfold_1 15 rfl rfl)
theorem dX7_unfold_39 : decode cX7_unfold 39 = .ok (.iaload, 1) := dk_46 (dk_at dksX7_unfold_1 16 rfl rfl)
theorem dX7_unfold_40 : decode cX7_unfold 40 = .ok (.iconst 1, 1) := dk_4 (dk_at dksX7_unfold_1 17 rfl rfl)
theorem dX7_unfold_41 : decode cX7_unfold 41 = .ok (.isub, 1) := dk_100 (dk_at dksX7_unfold_1 18 rfl rfl)
theorem dX7_unfold_42 : decode cX7_unfold 42 = .ok (.iastore, 1) := dk_79 (dk_at dksX7_unfold_1 19 rfl rfl)
theorem dX7_unfold_43 : decode cX7_unfold 43 = .ok (.aload_n 0, 1) := dk_42 (dk_at dksX7_unfold_1 20 rfl rfl)
theorem dX7_unfold_44 : decode cX7_unfold 44 = .ok (.aload_n 0, 1) := dk_42 (dk_at dksX7_unfold_1 21 rfl rfl)
theorem dX7_unfold_45 : decode cX7_unfold 45 = .ok (.invokevirtual 343, 3) := dk_182 1 87 (dk_at dksX7_unfold_2 0 rfl rfl)
theorem dX7_unfold_48 : decode cX7_unfold 48 = .ok (.invokevirtual 256, 3) := dk_182 1 0 (dk_at dksX7_unfold_2 3 rfl rfl)
theorem dX7_unfold_51 : decode cX7_unfold 51 = .ok (.ireturn, 1) := dk_172 (dk_at dksX7_unfold_2 6 rfl rfl)
abbrev cX7_shake : ByteArray := prog_43_method_81_code
def yX7_shake : MethodName := ⟨RX7, "shake", "()I"⟩
def dkwX7_shake_2 : List UInt8 := [79, 27, 172]
abbrev dktX7_shake_2 : List UInt8 := dkwX7_shake_2 ++ []
def dkwX7_shake_1 : List UInt8 := [158, 0, 5, 3, 172, 42, 182, 1, 106, 42, 180, 0, 9, 16, 7, 46, 60, 42, 180, 0, 9, 16, 7, 3]
abbrev dktX7_shake_1 : List UInt8 := dkwX7_shake_1 ++ dktX7_shake_2
def dkwX7_shake_0 : List UInt8 := [42, 42, 180, 0, 9, 16, 7, 46, 154, 0, 7, 4, 167, 0, 4, 3, 181, 0, 77, 42, 180, 0, 77]
abbrev dktX7_shake_0 : List UInt8 := dkwX7_shake_0 ++ dktX7_shake_1
theorem dksX7_shake_0 : cX7_shake.data.toList.drop 0 = dktX7_shake_0 := by decide +kernel
theorem dksX7_shake_1 : cX7_shake.data.toList.drop 23 = dktX7_shake_1 := dk_seg dksX7_shake_0 23 rfl rfl
theorem dksX7_shake_2 : cX7_shake.data.toList.drop 47 = dktX7_shake_2 := dk_seg dksX7_shake_1 24 rfl rfl
theorem dX7_shake_0 : decode cX7_shake 0 = .ok (.aload_n 0, 1) := dk_42 (dk_at dksX7_shake_0 0 rfl rfl)
theorem dX7_shake_1 : decode cX7_shake 1 = .ok (.aload_n 0, 1) := dk_42 (dk_at dksX7_shake_0 1 rfl rfl)
theorem dX7_shake_2 : decode cX7_shake 2 = .ok (.getfield 9, 3) := dk_180 0 9 (dk_at dksX7_shake_0 2 rfl rfl)
theorem dX7_shake_5 : decode cX7_shake 5 = .ok (.bipush 7, 2) := dk_16 7 (dk_at dksX7_shake_0 5 rfl rfl)
theorem dX7_shake_7 : decode cX7_shake 7 = .ok (.iaload, 1) := dk_46 (dk_at dksX7_shake_0 7 rfl rfl)
theorem dX7_shake_8 : decode cX7_shake 8 = .ok (.ifCond .ne 7, 3) := dk_154 0 7 (dk_at dksX7_shake_0 8 rfl rfl)
theorem dX7_shake_11 : decode cX7_shake 11 = .ok (.iconst 1, 1) := dk_4 (dk_at dksX7_shake_0 11 rfl rfl)
theorem dX7_shake_12 : decode cX7_shake 12 = .ok (.goto 4, 3) := dk_167 0 4 (dk_at dksX7_shake_0 12 rfl rfl)
theorem dX7_shake_15 : decode cX7_shake 15 = .ok (.iconst 0, 1) := dk_3 (dk_at dksX7_shake_0 15 rfl rfl)
theorem dX7_shake_16 : decode cX7_shake 16 = .ok (.putfield 77, 3) := dk_181 0 77 (dk_at dksX7_shake_0 16 rfl rfl)
theorem dX7_shake_19 : decode cX7_shake 19 = .ok (.aload_n 0, 1) := dk_42 (dk_at dksX7_shake_0 19 rfl rfl)
theorem dX7_shake_20 : decode cX7_shake 20 = .ok (.getfield 77, 3) := dk_180 0 77 (dk_at dksX7_shake_0 20 rfl rfl)
theorem dX7_shake_23 : decode cX7_shake 23 = .ok (.ifCond .le 5, 3) := dk_158 0 5 (dk_at dksX7_shake_1 0 rfl rfl)
theorem dX7_shake_26 : decode cX7_shake 26 = .ok (.iconst 0, 1) := dk_3 (dk_at dksX7_shake_1 3 rfl rfl)
theorem dX7_shake_27 : decode cX7_shake 27 = .ok (.ireturn, 1) := dk_172 (dk_at dksX7_shake_1 4 rfl rfl)
theorem dX7_shake_28 : decode cX7_shake 28 = .ok (.aload_n 0, 1) := dk_42 (dk_at dksX7_shake_1 5 rfl rfl)
theorem dX7_shake_29 : decode cX7_shake 29 = .ok (.invokevirtual 362, 3) := dk_182 1 106 (dk_at dksX7_shake_1 6 rfl rfl)
theorem dX7_shake_32 : decode cX7_shake 32 = .ok (.aload_n 0, 1) := dk_42 (dk_at dksX7_shake_1 9 rfl rfl)
theorem dX7_shake_33 : decode cX7_shake 33 = .ok (.getfield 9, 3) := dk_180 0 9 (dk_at dksX7_shake_1 10 rfl rfl)
theorem dX7_shake_36 : decode cX7_shake 36 = .ok (.bipush 7, 2) := dk_16 7 (dk_at dksX7_shake_1 13 rfl rfl)
theorem dX7_shake_38 : decode cX7_shake 38 = .ok (.iaload, 1) := dk_46 (dk_at dksX7_shake_1 15 rfl rfl)
theorem dX7_shake_39 : decode cX7_shake 39 = .ok (.istore_n 1, 1) := dk_60 (dk_at dksX7_shake_1 16 rfl rfl)
theorem dX7_shake_40 : decode cX7_shake 40 = .ok (.aload_n 0, 1) := dk_42 (dk_at dksX7_shake_1 17 rfl rfl)
theorem dX7_shake_41 : decode cX7_shake 41 = .ok (.getfield 9, 3) := dk_180 0 9 (dk_at dksX7_shake_1 18 rfl rfl)
theorem dX7_shake_44 : decode cX7_shake 44 = .ok (.bipush 7, 2) := dk_16 7 (dk_at dksX7_shake_1 21 rfl rfl)
theorem dX7_shake_46 : decode cX7_shake 46 = .ok (.iconst 0, 1) := dk_3 (dk_at dksX7_shake_1 23 rfl rfl)
theorem dX7_shake_47 : decode cX7_shake 47 = .ok (.iastore, 1) := dk_79 (dk_at dksX7_shake_2 0 rfl rfl)
theorem dX7_shake_48 : decode cX7_shake 48 = .ok (.iload_n 1, 1) := dk_27 (dk_at dksX7_shake_2 1 rfl rfl)
theorem dX7_shake_49 : decode cX7_shake 49 = .ok (.ireturn, 1) := dk_172 (dk_at dksX7_shake_2 2 rfl rfl)
abbrev cX7_amend : ByteArray := prog_43_method_82_code
def yX7_amend : MethodName := ⟨RX7, "amend", "(III)I"⟩
def dkwX7_amend_3 : List UInt8 := [54, 4, 42, 180, 0, 9, 16, 13, 16, 6, 28, 104, 96, 27, 96, 29, 79, 21, 4, 172]
abbrev dktX7_amend_3 : List UInt8 := dkwX7_amend_3 ++ []
def dkwX7_amend_2 : List UInt8 := [158, 0, 5, 3, 172, 42, 182, 1, 106, 42, 180, 0, 9, 16, 13, 16, 6, 28, 104, 96, 27, 96, 46]
abbrev dktX7_amend_2 : List UInt8 := dkwX7_amend_2 ++ dktX7_amend_3
def dkwX7_amend_1 : List UInt8 := [29, 133, 9, 20, 1, 112, 184, 0, 138, 153, 0, 7, 3, 167, 0, 4, 5, 181, 0, 77, 42, 180, 0, 77]
abbrev dktX7_amend_1 : List UInt8 := dkwX7_amend_1 ++ dktX7_amend_2
def dkwX7_amend_0 : List UInt8 := [42, 42, 27, 133, 182, 1, 81, 154, 0, 7, 4, 167, 0, 30, 28, 133, 9, 10, 184, 0, 138, 153, 0, 19]
abbrev dktX7_amend_0 : List UInt8 := dkwX7_amend_0 ++ dktX7_amend_1
theorem dksX7_amend_0 : cX7_amend.data.toList.drop 0 = dktX7_amend_0 := by decide +kernel
theorem dksX7_amend_1 : cX7_amend.data.toList.drop 24 = dktX7_amend_1 := dk_seg dksX7_amend_0 24 rfl rfl
theorem dksX7_amend_2 : cX7_amend.data.toList.drop 48 = dktX7_amend_2 := dk_seg dksX7_amend_1 24 rfl rfl
theorem dksX7_amend_3 : cX7_amend.data.toList.drop 71 = dktX7_amend_3 := dk_seg dksX7_amend_2 23 rfl rfl
theorem dX7_amend_0 : decode cX7_amend 0 = .ok (.aload_n 0, 1) := dk_42 (dk_at dksX7_amend_0 0 rfl rfl)
theorem dX7_amend_1 : decode cX7_amend 1 = .ok (.aload_n 0, 1) := dk_42 (dk_at dksX7_amend_0 1 rfl rfl)
theorem dX7_amend_2 : decode cX7_amend 2 = .ok (.iload_n 1, 1) := dk_27 (dk_at dksX7_amend_0 2 rfl rfl)
theorem dX7_amend_3 : decode cX7_amend 3 = .ok (.i2l, 1) := dk_133 (dk_at dksX7_amend_0 3 rfl rfl)
theorem dX7_amend_4 : decode cX7_amend 4 = .ok (.invokevirtual 337, 3) := dk_182 1 81 (dk_at dksX7_amend_0 4 rfl rfl)
theorem dX7_amend_7 : decode cX7_amend 7 = .ok (.ifCond .ne 7, 3) := dk_154 0 7 (dk_at dksX7_amend_0 7 rfl rfl)
theorem dX7_amend_10 : decode cX7_amend 10 = .ok (.iconst 1, 1) := dk_4 (dk_at dksX7_amend_0 10 rfl rfl)
theorem dX7_amend_11 : decode cX7_amend 11 = .ok (.goto 30, 3) := dk_167 0 30 (dk_at dksX7_amend_0 11 rfl rfl)
theorem dX7_amend_14 : decode cX7_amend 14 = .ok (.iload_n 2, 1) := dk_28 (dk_at dksX7_amend_0 14 rfl rfl)
theorem dX7_amend_15 : decode cX7_amend 15 = .ok (.i2l, 1) := dk_133 (dk_at dksX7_amend_0 15 rfl rfl)
theorem dX7_amend_16 : decode cX7_amend 16 = .ok (.lconst 0, 1) := dk_9 (dk_at dksX7_amend_0 16 rfl rfl)
theorem dX7_amend_17 : decode cX7_amend 17 = .ok (.lconst 1, 1) := dk_10 (dk_at dksX7_amend_0 17 rfl rfl)
theorem dX7_amend_18 : decode cX7_amend 18 = .ok (.invokestatic 138, 3) := dk_184 0 138 (dk_at dksX7_amend_0 18 rfl rfl)
theorem dX7_amend_21 : decode cX7_amend 21 = .ok (.ifCond .eq 19, 3) := dk_153 0 19 (dk_at dksX7_amend_0 21 rfl rfl)
theorem dX7_amend_24 : decode cX7_amend 24 = .ok (.iload_n 3, 1) := dk_29 (dk_at dksX7_amend_1 0 rfl rfl)
theorem dX7_amend_25 : decode cX7_amend 25 = .ok (.i2l, 1) := dk_133 (dk_at dksX7_amend_1 1 rfl rfl)
theorem dX7_amend_26 : decode cX7_amend 26 = .ok (.lconst 0, 1) := dk_9 (dk_at dksX7_amend_1 2 rfl rfl)
theorem dX7_amend_27 : decode cX7_amend 27 = .ok (.ldc2_w 368, 3) := dk_20 1 112 (dk_at dksX7_amend_1 3 rfl rfl)
theorem dX7_amend_30 : decode cX7_amend 30 = .ok (.invokestatic 138, 3) := dk_184 0 138 (dk_at dksX7_amend_1 6 rfl rfl)
theorem dX7_amend_33 : decode cX7_amend 33 = .ok (.ifCond .eq 7, 3) := dk_153 0 7 (dk_at dksX7_amend_1 9 rfl rfl)
theorem dX7_amend_36 : decode cX7_amend 36 = .ok (.iconst 0, 1) := dk_3 (dk_at dksX7_amend_1 12 rfl rfl)
theorem dX7_amend_37 : decode cX7_amend 37 = .ok (.goto 4, 3) := dk_167 0 4 (dk_at dksX7_amend_1 13 rfl rfl)
theorem dX7_amend_40 : decode cX7_amend 40 = .ok (.iconst 2, 1) := dk_5 (dk_at dksX7_amend_1 16 rfl rfl)
theorem dX7_amend_41 : decode cX7_amend 41 = .ok (.putfield 77, 3) := dk_181 0 77 (dk_at dksX7_amend_1 17 rfl rfl)
theorem dX7_amend_44 : decode cX7_amend 44 = .ok (.aload_n 0, 1) := dk_42 (dk_at dksX7_amend_1 20 rfl rfl)
theorem dX7_amend_45 : decode cX7_amend 45 = .ok (.getfield 77, 3) := dk_180 0 77 (dk_at dksX7_amend_1 21 rfl rfl)
theorem dX7_amend_48 : decode cX7_amend 48 = .ok (.ifCond .le 5, 3) := dk_158 0 5 (dk_at dksX7_amend_2 0 rfl rfl)
theorem dX7_amend_51 : decode cX7_amend 51 = .ok (.iconst 0, 1) := dk_3 (dk_at dksX7_amend_2 3 rfl rfl)
theorem dX7_amend_52 : decode cX7_amend 52 = .ok (.ireturn, 1) := dk_172 (dk_at dksX7_amend_2 4 rfl rfl)
theorem dX7_amend_53 : decode cX7_amend 53 = .ok (.aload_n 0, 1) := dk_42 (dk_at dksX7_amend_2 5 rfl rfl)
theorem dX7_amend_54 : decode cX7_amend 54 = .ok (.invokevirtual 362, 3) := dk_182 1 106 (dk_at dksX7_amend_2 6 rfl rfl)
theorem dX7_amend_57 : decode cX7_amend 57 = .ok (.aload_n 0, 1) := dk_42 (dk_at dksX7_amend_2 9 rfl rfl)
theorem dX7_amend_58 : decode cX7_amend 58 = .ok (.getfield 9, 3) := dk_180 0 9 (dk_at dksX7_amend_2 10 rfl rfl)
theorem dX7_amend_61 : decode cX7_amend 61 = .ok (.bipush 13, 2) := dk_16 13 (dk_at dksX7_amend_2 13 rfl rfl)
theorem dX7_amend_63 : decode cX7_amend 63 = .ok (.bipush 6, 2) := dk_16 6 (dk_at dksX7_amend_2 15 rfl rfl)
theorem dX7_amend_65 : decode cX7_amend 65 = .ok (.iload_n 2, 1) := dk_28 (dk_at dksX7_amend_2 17 rfl rfl)
theorem dX7_amend_66 : decode cX7_amend 66 = .ok (.imul, 1) := dk_104 (dk_at dksX7_amend_2 18 rfl rfl)
theorem dX7_amend_67 : decode cX7_amend 67 = .ok (.iadd, 1) := dk_96 (dk_at dksX7_amend_2 19 rfl rfl)
theorem dX7_amend_68 : decode cX7_amend 68 = .ok (.iload_n 1, 1) := dk_27 (dk_at dksX7_amend_2 20 rfl rfl)
theorem dX7_amend_69 : decode cX7_amend 69 = .ok (.iadd, 1) := dk_96 (dk_at dksX7_amend_2 21 rfl rfl)
theorem dX7_amend_70 : decode cX7_amend 70 = .ok (.iaload, 1) := dk_46 (dk_at dksX7_amend_2 22 rfl rfl)
theorem dX7_amend_71 : decode cX7_amend 71 = .ok (.istore 4, 2) := dk_54 4 (dk_at dksX7_amend_3 0 rfl rfl)
theorem dX7_amend_73 : decode cX7_amend 73 = .ok (.aload_n 0, 1) := dk_42 (dk_at dksX7_amend_3 2 rfl rfl)
theorem dX7_amend_74 : decode cX7_amend 74 = .ok (.getfield 9, 3) := dk_180 0 9 (dk_at dksX7_amend_3 3 rfl rfl)
theorem dX7_amend_77 : decode cX7_amend 77 = .ok (.bipush 13, 2) := dk_16 13 (dk_at dksX7_amend_3 6 rfl rfl)
theorem dX7_amend_79 : decode cX7_amend 79 = .ok (.bipush 6, 2) := dk_16 6 (dk_at dksX7_amend_3 8 rfl rfl)
theorem dX7_amend_81 : decode cX7_amend 81 = .ok (.iload_n 2, 1) := dk_28 (dk_at dksX7_amend_3 10 rfl rfl)
theorem dX7_amend_82 : decode cX7_amend 82 = .ok (.imul, 1) := dk_104 (dk_at dksX7_amend_3 11 rfl rfl)
theorem dX7_amend_83 : decode cX7_amend 83 = .ok (.iadd, 1) := dk_96 (dk_at dksX7_amend_3 12 rfl rfl)
theorem dX7_amend_84 : decode cX7_amend 84 = .ok (.iload_n 1, 1) := dk_27 (dk_at dksX7_amend_3 13 rfl rfl)
theorem dX7_amend_85 : decode cX7_amend 85 = .ok (.iadd, 1) := dk_96 (dk_at dksX7_amend_3 14 rfl rfl)
theorem dX7_amend_86 : decode cX7_amend 86 = .ok (.iload_n 3, 1) := dk_29 (dk_at dksX7_amend_3 15 rfl rfl)
theorem dX7_amend_87 : decode cX7_amend 87 = .ok (.iastore, 1) := dk_79 (dk_at dksX7_amend_3 16 rfl rfl)
theorem dX7_amend_88 : decode cX7_amend 88 = .ok (.iload 4, 2) := dk_21 4 (dk_at dksX7_amend_3 17 rfl rfl)
theorem dX7_amend_90 : decode cX7_amend 90 = .ok (.ireturn, 1) := dk_172 (dk_at dksX7_amend_3 19 rfl rfl)
abbrev cX7_undo : ByteArray := prog_43_method_83_code
def yX7_undo : MethodName := ⟨RX7, "undo", "(I)I"⟩
def dkwX7_undo_4 : List UInt8 := [46, 172]
abbrev dktX7_undo_4 : List UInt8 := dkwX7_undo_4 ++ []
def dkwX7_undo_3 : List UInt8 := [180, 0, 9, 16, 6, 46, 104, 96, 28, 96, 46, 79, 132, 2, 1, 167, 255, 218, 42, 180, 0, 9, 16, 6]
abbrev dktX7_undo_3 : List UInt8 := dkwX7_undo_3 ++ dktX7_undo_4
def dkwX7_undo_2 : List UInt8 := [16, 18, 162, 0, 38, 42, 180, 0, 9, 16, 7, 28, 96, 42, 180, 0, 9, 16, 29, 16, 18, 42]
abbrev dktX7_undo_2 : List UInt8 := dkwX7_undo_2 ++ dktX7_undo_3
def dkwX7_undo_1 : List UInt8 := [46, 164, 0, 9, 42, 4, 182, 0, 244, 172, 42, 180, 0, 9, 16, 6, 92, 46, 27, 100, 79, 3, 61, 28]
abbrev dktX7_undo_1 : List UInt8 := dkwX7_undo_1 ++ dktX7_undo_2
def dkwX7_undo_0 : List UInt8 := [42, 3, 181, 0, 77, 27, 133, 10, 20, 1, 114, 184, 0, 138, 153, 0, 14, 27, 42, 180, 0, 9, 16, 6]
abbrev dktX7_undo_0 : List UInt8 := dkwX7_undo_0 ++ dktX7_undo_1
theorem dksX7_undo_0 : cX7_undo.data.toList.drop 0 = dktX7_undo_0 := by decide +kernel
theorem dksX7_undo_1 : cX7_undo.data.toList.drop 24 = dktX7_undo_1 := dk_seg dksX7_undo_0 24 rfl rfl
theorem dksX7_undo_2 : cX7_undo.data.toList.drop 48 = dktX7_undo_2 := dk_seg dksX7_undo_1 24 rfl rfl
theorem dksX7_undo_3 : cX7_undo.data.toList.drop 70 = dktX7_undo_3 := dk_seg dksX7_undo_2 22 rfl rfl
theorem dksX7_undo_4 : cX7_undo.data.toList.drop 94 = dktX7_undo_4 := dk_seg dksX7_undo_3 24 rfl rfl
theorem dX7_undo_0 : decode cX7_undo 0 = .ok (.aload_n 0, 1) := dk_42 (dk_at dksX7_undo_0 0 rfl rfl)
theorem dX7_undo_1 : decode cX7_undo 1 = .ok (.iconst 0, 1) := dk_3 (dk_at dksX7_undo_0 1 rfl rfl)
theorem dX7_undo_2 : decode cX7_undo 2 = .ok (.putfield 77, 3) := dk_181 0 77 (dk_at dksX7_undo_0 2 rfl rfl)
theorem dX7_undo_5 : decode cX7_undo 5 = .ok (.iload_n 1, 1) := dk_27 (dk_at dksX7_undo_0 5 rfl rfl)
theorem dX7_undo_6 : decode cX7_undo 6 = .ok (.i2l, 1) := dk_133 (dk_at dksX7_undo_0 6 rfl rfl)
theorem dX7_undo_7 : decode cX7_undo 7 = .ok (.lconst 1, 1) := dk_10 (dk_at dksX7_undo_0 7 rfl rfl)
theorem dX7_undo_8 : decode cX7_undo 8 = .ok (.ldc2_w 370, 3) := dk_20 1 114 (dk_at dksX7_undo_0 8 rfl rfl)
theorem dX7_undo_11 : decode cX7_undo 11 = .ok (.invokestatic 138, 3) := dk_184 0 138 (dk_at dksX7_undo_0 11 rfl rfl)
theorem dX7_undo_14 : decode cX7_undo 14 = .ok (.ifCond .eq 14, 3) := dk_153 0 14 (dk_at dksX7_undo_0 14 rfl rfl)
theorem dX7_undo_17 : decode cX7_undo 17 = .ok (.iload_n 1, 1) := dk_27 (dk_at dksX7_undo_0 17 rfl rfl)
theorem dX7_undo_18 : decode cX7_undo 18 = .ok (.aload_n 0, 1) := dk_42 (dk_at dksX7_undo_0 18 rfl rfl)
theorem dX7_undo_19 : decode cX7_undo 19 = .ok (.getfield 9, 3) := dk_180 0 9 (dk_at dksX7_undo_0 19 rfl rfl)
theorem dX7_undo_22 : decode cX7_undo 22 = .ok (.bipush 6, 2) := dk_16 6 (dk_at dksX7_undo_0 22 rfl rfl)
theorem dX7_undo_24 : decode cX7_undo 24 = .ok (.iaload, 1) := dk_46 (dk_at dksX7_undo_1 0 rfl rfl)
theorem dX7_undo_25 : decode cX7_undo 25 = .ok (.if_icmp .le 9, 3) := dk_164 0 9 (dk_at dksX7_undo_1 1 rfl rfl)
theorem dX7_undo_28 : decode cX7_undo 28 = .ok (.aload_n 0, 1) := dk_42 (dk_at dksX7_undo_1 4 rfl rfl)
theorem dX7_undo_29 : decode cX7_undo 29 = .ok (.iconst 1, 1) := dk_4 (dk_at dksX7_undo_1 5 rfl rfl)
theorem dX7_undo_30 : decode cX7_undo 30 = .ok (.invokevirtual 244, 3) := dk_182 0 244 (dk_at dksX7_undo_1 6 rfl rfl)
theorem dX7_undo_33 : decode cX7_undo 33 = .ok (.ireturn, 1) := dk_172 (dk_at dksX7_undo_1 9 rfl rfl)
theorem dX7_undo_34 : decode cX7_undo 34 = .ok (.aload_n 0, 1) := dk_42 (dk_at dksX7_undo_1 10 rfl rfl)
theorem dX7_undo_35 : decode cX7_undo 35 = .ok (.getfield 9, 3) := dk_180 0 9 (dk_at dksX7_undo_1 11 rfl rfl)
theorem dX7_undo_38 : decode cX7_undo 38 = .ok (.bipush 6, 2) := dk_16 6 (dk_at dksX7_undo_1 14 rfl rfl)
theorem dX7_undo_40 : decode cX7_undo 40 = .ok (.dup2, 1) := dk_92 (dk_at dksX7_undo_1 16 rfl rfl)
theorem dX7_undo_41 : decode cX7_undo 41 = .ok (.iaload, 1) := dk_46 (dk_at dksX7_undo_1 17 rfl rfl)
theorem dX7_undo_42 : decode cX7_undo 42 = .ok (.iload_n 1, 1) := dk_27 (dk_at dksX7_undo_1 18 rfl rfl)
theorem dX7_undo_43 : decode cX7_undo 43 = .ok (.isub, 1) := dk_100 (dk_at dksX7_undo_1 19 rfl rfl)
theorem dX7_undo_44 : decode cX7_undo 44 = .ok (.iastore, 1) := dk_79 (dk_at dksX7_undo_1 20 rfl rfl)
theorem dX7_undo_45 : decode cX7_undo 45 = .ok (.iconst 0, 1) := dk_3 (dk_at dksX7_undo_1 21 rfl rfl)
theorem dX7_undo_46 : decode cX7_undo 46 = .ok (.istore_n 2, 1) := dk_61 (dk_at dksX7_undo_1 22 rfl rfl)
theorem dX7_undo_47 : decode cX7_undo 47 = .ok (.iload_n 2, 1) := dk_28 (dk_at dksX7_undo_1 23 rfl rfl)
theorem dX7_undo_48 : decode cX7_undo 48 = .ok (.bipush 18, 2) := dk_16 18 (dk_at dksX7_undo_2 0 rfl rfl)
theorem dX7_undo_50 : decode cX7_undo 50 = .ok (.if_icmp .ge 38, 3) := dk_162 0 38 (dk_at dksX7_undo_2 2 rfl rfl)
theorem dX7_undo_53 : decode cX7_undo 53 = .ok (.aload_n 0, 1) := dk_42 (dk_at dksX7_undo_2 5 rfl rfl)
theorem dX7_undo_54 : decode cX7_undo 54 = .ok (.getfield 9, 3) := dk_180 0 9 (dk_at dksX7_undo_2 6 rfl rfl)
theorem dX7_undo_57 : decode cX7_undo 57 = .ok (.bipush 7, 2) := dk_16 7 (dk_at dksX7_undo_2 9 rfl rfl)
theorem dX7_undo_59 : decode cX7_undo 59 = .ok (.iload_n 2, 1) := dk_28 (dk_at dksX7_undo_2 11 rfl rfl)
theorem dX7_undo_60 : decode cX7_undo 60 = .ok (.iadd, 1) := dk_96 (dk_at dksX7_undo_2 12 rfl rfl)
theorem dX7_undo_61 : decode cX7_undo 61 = .ok (.aload_n 0, 1) := dk_42 (dk_at dksX7_undo_2 13 rfl rfl)
theorem dX7_undo_62 : decode cX7_undo 62 = .ok (.getfield 9, 3) := dk_180 0 9 (dk_at dksX7_undo_2 14 rfl rfl)
theorem dX7_undo_65 : decode cX7_undo 65 = .ok (.bipush 29, 2) := dk_16 29 (dk_at dksX7_undo_2 17 rfl rfl)
theorem dX7_undo_67 : decode cX7_undo 67 = .ok (.bipush 18, 2) := dk_16 18 (dk_at dksX7_undo_2 19 rfl rfl)
theorem dX7_undo_69 : decode cX7_undo 69 = .ok (.aload_n 0, 1) := dk_42 (dk_at dksX7_undo_2 21 rfl rfl)
theorem dX7_undo_70 : decode cX7_undo 70 = .ok (.getfield 9, 3) := dk_180 0 9 (dk_at dksX7_undo_3 0 rfl rfl)
theorem dX7_undo_73 : decode cX7_undo 73 = .ok (.bipush 6, 2) := dk_16 6 (dk_at dksX7_undo_3 3 rfl rfl)
theorem dX7_undo_75 : decode cX7_undo 75 = .ok (.iaload, 1) := dk_46 (dk_at dksX7_undo_3 5 rfl rfl)
theorem dX7_undo_76 : decode cX7_undo 76 = .ok (.imul, 1) := dk_104 (dk_at dksX7_undo_3 6 rfl rfl)
theorem dX7_undo_77 : decode cX7_undo 77 = .ok (.iadd, 1) := dk_96 (dk_at dksX7_undo_3 7 rfl rfl)
theorem dX7_undo_78 : decode cX7_undo 78 = .ok (.iload_n 2, 1) := dk_28 (dk_at dksX7_undo_3 8 rfl rfl)
theorem dX7_undo_79 : decode cX7_undo 79 = .ok (.iadd, 1) := dk_96 (dk_at dksX7_undo_3 9 rfl rfl)
theorem dX7_undo_80 : decode cX7_undo 80 = .ok (.iaload, 1) := dk_46 (dk_at dksX7_undo_3 10 rfl rfl)
theorem dX7_undo_81 : decode cX7_undo 81 = .ok (.iastore, 1) := dk_79 (dk_at dksX7_undo_3 11 rfl rfl)
theorem dX7_undo_82 : decode cX7_undo 82 = .ok (.iinc 2 1, 3) := dk_132 2 1 (dk_at dksX7_undo_3 12 rfl rfl)
theorem dX7_undo_85 : decode cX7_undo 85 = .ok (.goto (-38), 3) := dk_167 255 218 (dk_at dksX7_undo_3 15 rfl rfl)
theorem dX7_undo_88 : decode cX7_undo 88 = .ok (.aload_n 0, 1) := dk_42 (dk_at dksX7_undo_3 18 rfl rfl)
theorem dX7_undo_89 : decode cX7_undo 89 = .ok (.getfield 9, 3) := dk_180 0 9 (dk_at dksX7_undo_3 19 rfl rfl)
theorem dX7_undo_92 : decode cX7_undo 92 = .ok (.bipush 6, 2) := dk_16 6 (dk_at dksX7_undo_3 22 rfl rfl)
theorem dX7_undo_94 : decode cX7_undo 94 = .ok (.iaload, 1) := dk_46 (dk_at dksX7_undo_4 0 rfl rfl)
theorem dX7_undo_95 : decode cX7_undo 95 = .ok (.ireturn, 1) := dk_172 (dk_at dksX7_undo_4 1 rfl rfl)
abbrev cX7_judge : ByteArray := prog_43_method_87_code
def yX7_judge : MethodName := ⟨RX7, "judge", "(II)I"⟩
def dkwX7_judge_7 : List UInt8 := [28, 5, 160, 0, 8, 21, 5, 167, 0, 5, 21, 6, 172]
abbrev dktX7_judge_7 : List UInt8 := dkwX7_judge_7 ++ []
def dkwX7_judge_6 : List UInt8 := [54, 6, 42, 182, 1, 145, 28, 154, 0, 7, 29, 167, 0, 25, 28, 4, 160, 0, 8, 21, 4, 167, 0, 15]
abbrev dktX7_judge_6 : List UInt8 := dkwX7_judge_6 ++ dktX7_judge_7
def dkwX7_judge_5 : List UInt8 := [132, 5, 1, 167, 255, 191, 42, 42, 182, 1, 87, 182, 1, 0, 54, 5, 42, 180, 0, 9, 16, 7, 46]
abbrev dktX7_judge_5 : List UInt8 := dkwX7_judge_5 ++ dktX7_judge_6
def dkwX7_judge_4 : List UInt8 := [42, 180, 0, 74, 16, 30, 27, 104, 21, 5, 96, 47, 136, 182, 1, 142, 167, 0, 6, 21, 5, 62]
abbrev dktX7_judge_4 : List UInt8 := dkwX7_judge_4 ++ dktX7_judge_5
def dkwX7_judge_3 : List UInt8 := [42, 42, 180, 0, 74, 16, 30, 27, 104, 21, 5, 96, 47, 182, 1, 139, 54, 4, 21, 4, 154, 0, 23, 42]
abbrev dktX7_judge_3 : List UInt8 := dkwX7_judge_3 ++ dktX7_judge_4
def dkwX7_judge_2 : List UInt8 := [2, 62, 3, 54, 4, 3, 54, 5, 21, 5, 42, 180, 0, 71, 27, 46, 162, 0, 60, 29, 2, 160, 0, 55]
abbrev dktX7_judge_2 : List UInt8 := dkwX7_judge_2 ++ dktX7_judge_3
def dkwX7_judge_1 : List UInt8 := [184, 0, 138, 154, 0, 8, 42, 6, 181, 0, 77, 42, 180, 0, 77, 158, 0, 5, 3, 172, 42, 182, 1, 136]
abbrev dktX7_judge_1 : List UInt8 := dkwX7_judge_1 ++ dktX7_judge_2
def dkwX7_judge_0 : List UInt8 := [42, 42, 27, 182, 1, 133, 181, 0, 77, 42, 180, 0, 77, 154, 0, 20, 28, 133, 9, 20, 1, 3]
abbrev dktX7_judge_0 : List UInt8 := dkwX7_judge_0 ++ dktX7_judge_1
theorem dksX7_judge_0 : cX7_judge.data.toList.drop 0 = dktX7_judge_0 := by decide +kernel
theorem dksX7_judge_1 : cX7_judge.data.toList.drop 22 = dktX7_judge_1 := dk_seg dksX7_judge_0 22 rfl rfl
theorem dksX7_judge_2 : cX7_judge.data.toList.drop 46 = dktX7_judge_2 := dk_seg dksX7_judge_1 24 rfl rfl
theorem dksX7_judge_3 : cX7_judge.data.toList.drop 70 = dktX7_judge_3 := dk_seg dksX7_judge_2 24 rfl rfl
theorem dksX7_judge_4 : cX7_judge.data.toList.drop 94 = dktX7_judge_4 := dk_seg dksX7_judge_3 24 rfl rfl
theorem dksX7_judge_5 : cX7_judge.data.toList.drop 116 = dktX7_judge_5 := dk_seg dksX7_judge_4 22 rfl rfl
theorem dksX7_judge_6 : cX7_judge.data.toList.drop 139 = dktX7_judge_6 := dk_seg dksX7_judge_5 23 rfl rfl
theorem dksX7_judge_7 : cX7_judge.data.toList.drop 163 = dktX7_judge_7 := dk_seg dksX7_judge_6 24 rfl rfl
theorem dX7_judge_0 : decode cX7_judge 0 = .ok (.aload_n 0, 1) := dk_42 (dk_at dksX7_judge_0 0 rfl rfl)
theorem dX7_judge_1 : decode cX7_judge 1 = .ok (.aload_n 0, 1) := dk_42 (dk_at dksX7_judge_0 1 rfl rfl)
theorem dX7_judge_2 : decode cX7_judge 2 = .ok (.iload_n 1, 1) := dk_27 (dk_at dksX7_judge_0 2 rfl rfl)
theorem dX7_judge_3 : decode cX7_judge 3 = .ok (.invokevirtual 389, 3) := dk_182 1 133 (dk_at dksX7_judge_0 3 rfl rfl)
theorem dX7_judge_6 : decode cX7_judge 6 = .ok (.putfield 77, 3) := dk_181 0 77 (dk_at dksX7_judge_0 6 rfl rfl)
theorem dX7_judge_9 : decode cX7_judge 9 = .ok (.aload_n 0, 1) := dk_42 (dk_at dksX7_judge_0 9 rfl rfl)
theorem dX7_judge_10 : decode cX7_judge 10 = .ok (.getfield 77, 3) := dk_180 0 77 (dk_at dksX7_judge_0 10 rfl rfl)
theorem dX7_judge_13 : decode cX7_judge 13 = .ok (.ifCond .ne 20, 3) := dk_154 0 20 (dk_at dksX7_judge_0 13 rfl rfl)
theorem dX7_judge_16 : decode cX7_judge 16 = .ok (.iload_n 2, 1) := dk_28 (dk_at dksX7_judge_0 16 rfl rfl)
theorem dX7_judge_17 : decode cX7_judge 17 = .ok (.i2l, 1) := dk_133 (dk_at dksX7_judge_0 17 rfl rfl)
theorem dX7_judge_18 : decode cX7_judge 18 = .ok (.lconst 0, 1) := dk_9 (dk_at dksX7_judge_0 18 rfl rfl)
theorem dX7_judge_19 : decode cX7_judge 19 = .ok (.ldc2_w 259, 3) := dk_20 1 3 (dk_at dksX7_judge_0 19 rfl rfl)
theorem dX7_judge_22 : decode cX7_judge 22 = .ok (.invokestatic 138, 3) := dk_184 0 138 (dk_at dksX7_judge_1 0 rfl rfl)
theorem dX7_judge_25 : decode cX7_judge 25 = .ok (.ifCond .ne 8, 3) := dk_154 0 8 (dk_at dksX7_judge_1 3 rfl rfl)
theorem dX7_judge_28 : decode cX7_judge 28 = .ok (.aload_n 0, 1) := dk_42 (dk_at dksX7_judge_1 6 rfl rfl)
theorem dX7_judge_29 : decode cX7_judge 29 = .ok (.iconst 3, 1) := dk_6 (dk_at dksX7_judge_1 7 rfl rfl)
theorem dX7_judge_30 : decode cX7_judge 30 = .ok (.putfield 77, 3) := dk_181 0 77 (dk_at dksX7_judge_1 8 rfl rfl)
theorem dX7_judge_33 : decode cX7_judge 33 = .ok (.aload_n 0, 1) := dk_42 (dk_at dksX7_judge_1 11 rfl rfl)
theorem dX7_judge_34 : decode cX7_judge 34 = .ok (.getfield 77, 3) := dk_180 0 77 (dk_at dksX7_judge_1 12 rfl rfl)
theorem dX7_judge_37 : decode cX7_judge 37 = .ok (.ifCond .le 5, 3) := dk_158 0 5 (dk_at dksX7_judge_1 15 rfl rfl)
theorem dX7_judge_40 : decode cX7_judge 40 = .ok (.iconst 0, 1) := dk_3 (dk_at dksX7_judge_1 18 rfl rfl)
theorem dX7_judge_41 : decode cX7_judge 41 = .ok (.ireturn, 1) := dk_172 (dk_at dksX7_judge_1 19 rfl rfl)
theorem dX7_judge_42 : decode cX7_judge 42 = .ok (.aload_n 0, 1) := dk_42 (dk_at dksX7_judge_1 20 rfl rfl)
theorem dX7_judge_43 : decode cX7_judge 43 = .ok (.invokevirtual 392, 3) := dk_182 1 136 (dk_at dksX7_judge_1 21 rfl rfl)
theorem dX7_judge_46 : decode cX7_judge 46 = .ok (.iconst (-1), 1) := dk_2 (dk_at dksX7_judge_2 0 rfl rfl)
theorem dX7_judge_47 : decode cX7_judge 47 = .ok (.istore_n 3, 1) := dk_62 (dk_at dksX7_judge_2 1 rfl rfl)
theorem dX7_judge_48 : decode cX7_judge 48 = .ok (.iconst 0, 1) := dk_3 (dk_at dksX7_judge_2 2 rfl rfl)
theorem dX7_judge_49 : decode cX7_judge 49 = .ok (.istore 4, 2) := dk_54 4 (dk_at dksX7_judge_2 3 rfl rfl)
theorem dX7_judge_51 : decode cX7_judge 51 = .ok (.iconst 0, 1) := dk_3 (dk_at dksX7_judge_2 5 rfl rfl)
theorem dX7_judge_52 : decode cX7_judge 52 = .ok (.istore 5, 2) := dk_54 5 (dk_at dksX7_judge_2 6 rfl rfl)
theorem dX7_judge_54 : decode cX7_judge 54 = .ok (.iload 5, 2) := dk_21 5 (dk_at dksX7_judge_2 8 rfl rfl)
theorem dX7_judge_56 : decode cX7_judge 56 = .ok (.aload_n 0, 1) := dk_42 (dk_at dksX7_judge_2 10 rfl rfl)
theorem dX7_judge_57 : decode cX7_judge 57 = .ok (.getfield 71, 3) := dk_180 0 71 (dk_at dksX7_judge_2 11 rfl rfl)
theorem dX7_judge_60 : decode cX7_judge 60 = .ok (.iload_n 1, 1) := dk_27 (dk_at dksX7_judge_2 14 rfl rfl)
theorem dX7_judge_61 : decode cX7_judge 61 = .ok (.iaload, 1) := dk_46 (dk_at dksX7_judge_2 15 rfl rfl)
theorem dX7_judge_62 : decode cX7_judge 62 = .ok (.if_icmp .ge 60, 3) := dk_162 0 60 (dk_at dksX7_judge_2 16 rfl rfl)
theorem dX7_judge_65 : decode cX7_judge 65 = .ok (.iload_n 3, 1) := dk_29 (dk_at dksX7_judge_2 19 rfl rfl)
theorem dX7_judge_66 : decode cX7_judge 66 = .ok (.iconst (-1), 1) := dk_2 (dk_at dksX7_judge_2 20 rfl rfl)
theorem dX7_judge_67 : decode cX7_judge 67 = .ok (.if_icmp .ne 55, 3) := dk_160 0 55 (dk_at dksX7_judge_2 21 rfl rfl)
theorem dX7_judge_70 : decode cX7_judge 70 = .ok (.aload_n 0, 1) := dk_42 (dk_at dksX7_judge_3 0 rfl rfl)
theorem dX7_judge_71 : decode cX7_judge 71 = .ok (.aload_n 0, 1) := dk_42 (dk_at dksX7_judge_3 1 rfl rfl)
theorem dX7_judge_72 : decode cX7_judge 72 = .ok (.getfield 74, 3) := dk_180 0 74 (dk_at dksX7_judge_3 2 rfl rfl)
theorem dX7_judge_75 : decode cX7_judge 75 = .ok (.bipush 30, 2) := dk_16 30 (dk_at dksX7_judge_3 5 rfl rfl)
theorem dX7_judge_77 : decode cX7_judge 77 = .ok (.iload_n 1, 1) := dk_27 (dk_at dksX7_judge_3 7 rfl rfl)
theorem dX7_judge_78 : decode cX7_judge 78 = .ok (.imul, 1) := dk_104 (dk_at dksX7_judge_3 8 rfl rfl)
theorem dX7_judge_79 : decode cX7_judge 79 = .ok (.iload 5, 2) := dk_21 5 (dk_at dksX7_judge_3 9 rfl rfl)
theorem dX7_judge_81 : decode cX7_judge 81 = .ok (.iadd, 1) := dk_96 (dk_at dksX7_judge_3 11 rfl rfl)
theorem dX7_judge_82 : decode cX7_judge 82 = .ok (.laload, 1) := dk_47 (dk_at dksX7_judge_3 12 rfl rfl)
theorem dX7_judge_83 : decode cX7_judge 83 = .ok (.invokevirtual 395, 3) := dk_182 1 139 (dk_at dksX7_judge_3 13 rfl rfl)
theorem dX7_judge_86 : decode cX7_judge 86 = .ok (.istore 4, 2) := dk_54 4 (dk_at dksX7_judge_3 16 rfl rfl)
theorem dX7_judge_88 : decode cX7_judge 88 = .ok (.iload 4, 2) := dk_21 4 (dk_at dksX7_judge_3 18 rfl rfl)
theorem dX7_judge_90 : decode cX7_judge 90 = .ok (.ifCond .ne 23, 3) := dk_154 0 23 (dk_at dksX7_judge_3 20 rfl rfl)
theorem dX7_judge_93 : decode cX7_judge 93 = .ok (.aload_n 0, 1) := dk_42 (dk_at dksX7_judge_3 23 rfl rfl)
theorem dX7_judge_94 : decode cX7_judge 94 = .ok (.aload_n 0, 1) := dk_42 (dk_at dksX7_judge_4 0 rfl rfl)
theorem dX7_judge_95 : decode cX7_judge 95 = .ok (.getfield 74, 3) := dk_180 0 74 (dk_at dksX7_judge_4 1 rfl rfl)
theorem dX7_judge_98 : decode cX7_judge 98 = .ok (.bipush 30, 2) := dk_16 30 (dk_at dksX7_judge_4 4 rfl rfl)
theorem dX7_judge_100 : decode cX7_judge 100 = .ok (.iload_n 1, 1) := dk_27 (dk_at dksX7_judge_4 6 rfl rfl)
theorem dX7_judge_101 : decode cX7_judge 101 = .ok (.imul, 1) := dk_104 (dk_at dksX7_judge_4 7 rfl rfl)
theorem dX7_judge_102 : decode cX7_judge 102 = .ok (.iload 5, 2) := dk_21 5 (dk_at dksX7_judge_4 8 rfl rfl)
theorem dX7_judge_104 : decode cX7_judge 104 = .ok (.iadd, 1) := dk_96 (dk_at dksX7_judge_4 10 rfl rfl)
theorem dX7_judge_105 : decode cX7_judge 105 = .ok (.laload, 1) := dk_47 (dk_at dksX7_judge_4 11 rfl rfl)
theorem dX7_judge_106 : decode cX7_judge 106 = .ok (.l2i, 1) := dk_136 (dk_at dksX7_judge_4 12 rfl rfl)
theorem dX7_judge_107 : decode cX7_judge 107 = .ok (.invokevirtual 398, 3) := dk_182 1 142 (dk_at dksX7_judge_4 13 rfl rfl)
theorem dX7_judge_110 : decode cX7_judge 110 = .ok (.goto 6, 3) := dk_167 0 6 (dk_at dksX7_judge_4 16 rfl rfl)
theorem dX7_judge_113 : decode cX7_judge 113 = .ok (.iload 5, 2) := dk_21 5 (dk_at dksX7_judge_4 19 rfl rfl)
theorem dX7_judge_115 : decode cX7_judge 115 = .ok (.istore_n 3, 1) := dk_62 (dk_at dksX7_judge_4 21 rfl rfl)
theorem dX7_judge_116 : decode cX7_judge 116 = .ok (.iinc 5 1, 3) := dk_132 5 1 (dk_at dksX7_judge_5 0 rfl rfl)
theorem dX7_judge_119 : decode cX7_judge 119 = .ok (.goto (-65), 3) := dk_167 255 191 (dk_at dksX7_judge_5 3 rfl rfl)
theorem dX7_judge_122 : decode cX7_judge 122 = .ok (.aload_n 0, 1) := dk_42 (dk_at dksX7_judge_5 6 rfl rfl)
theorem dX7_judge_123 : decode cX7_judge 123 = .ok (.aload_n 0, 1) := dk_42 (dk_at dksX7_judge_5 7 rfl rfl)
theorem dX7_judge_124 : decode cX7_judge 124 = .ok (.invokevirtual 343, 3) := dk_182 1 87 (dk_at dksX7_judge_5 8 rfl rfl)
theorem dX7_judge_127 : decode cX7_judge 127 = .ok (.invokevirtual 256, 3) := dk_182 1 0 (dk_at dksX7_judge_5 11 rfl rfl)
theorem dX7_judge_130 : decode cX7_judge 130 = .ok (.istore 5, 2) := dk_54 5 (dk_at dksX7_judge_5 14 rfl rfl)
theorem dX7_judge_132 : decode cX7_judge 132 = .ok (.aload_n 0, 1) := dk_42 (dk_at dksX7_judge_5 16 rfl rfl)
theorem dX7_judge_133 : decode cX7_judge 133 = .ok (.getfield 9, 3) := dk_180 0 9 (dk_at dksX7_judge_5 17 rfl rfl)
theorem dX7_judge_136 : decode cX7_judge 136 = .ok (.bipush 7, 2) := dk_16 7 (dk_at dksX7_judge_5 20 rfl rfl)
theorem dX7_judge_138 : decode cX7_judge 138 = .ok (.iaload, 1) := dk_46 (dk_at dksX7_judge_5 22 rfl rfl)
theorem dX7_judge_139 : decode cX7_judge 139 = .ok (.istore 6, 2) := dk_54 6 (dk_at dksX7_judge_6 0 rfl rfl)
theorem dX7_judge_141 : decode cX7_judge 141 = .ok (.aload_n 0, 1) := dk_42 (dk_at dksX7_judge_6 2 rfl rfl)
theorem dX7_judge_142 : decode cX7_judge 142 = .ok (.invokevirtual 401, 3) := dk_182 1 145 (dk_at dksX7_judge_6 3 rfl rfl)
theorem dX7_judge_145 : decode cX7_judge 145 = .ok (.iload_n 2, 1) := dk_28 (dk_at dksX7_judge_6 6 rfl rfl)
theorem dX7_judge_146 : decode cX7_judge 146 = .ok (.ifCond .ne 7, 3) := dk_154 0 7 (dk_at dksX7_judge_6 7 rfl rfl)
theorem dX7_judge_149 : decode cX7_judge 149 = .ok (.iload_n 3, 1) := dk_29 (dk_at dksX7_judge_6 10 rfl rfl)
theorem dX7_judge_150 : decode cX7_judge 150 = .ok (.goto 25, 3) := dk_167 0 25 (dk_at dksX7_judge_6 11 rfl rfl)
theorem dX7_judge_153 : decode cX7_judge 153 = .ok (.iload_n 2, 1) := dk_28 (dk_at dksX7_judge_6 14 rfl rfl)
theorem dX7_judge_154 : decode cX7_judge 154 = .ok (.iconst 1, 1) := dk_4 (dk_at dksX7_judge_6 15 rfl rfl)
theorem dX7_judge_155 : decode cX7_judge 155 = .ok (.if_icmp .ne 8, 3) := dk_160 0 8 (dk_at dksX7_judge_6 16 rfl rfl)
theorem dX7_judge_158 : decode cX7_judge 158 = .ok (.iload 4, 2) := dk_21 4 (dk_at dksX7_judge_6 19 rfl rfl)
theorem dX7_judge_160 : decode cX7_judge 160 = .ok (.goto 15, 3) := dk_167 0 15 (dk_at dksX7_judge_6 21 rfl rfl)
theorem dX7_judge_163 : decode cX7_judge 163 = .ok (.iload_n 2, 1) := dk_28 (dk_at dksX7_judge_7 0 rfl rfl)
theorem dX7_judge_164 : decode cX7_judge 164 = .ok (.iconst 2, 1) := dk_5 (dk_at dksX7_judge_7 1 rfl rfl)
theorem dX7_judge_165 : decode cX7_judge 165 = .ok (.if_icmp .ne 8, 3) := dk_160 0 8 (dk_at dksX7_judge_7 2 rfl rfl)
theorem dX7_judge_168 : decode cX7_judge 168 = .ok (.iload 5, 2) := dk_21 5 (dk_at dksX7_judge_7 5 rfl rfl)
theorem dX7_judge_170 : decode cX7_judge 170 = .ok (.goto 5, 3) := dk_167 0 5 (dk_at dksX7_judge_7 7 rfl rfl)
theorem dX7_judge_173 : decode cX7_judge 173 = .ok (.iload 6, 2) := dk_21 6 (dk_at dksX7_judge_7 10 rfl rfl)
theorem dX7_judge_175 : decode cX7_judge 175 = .ok (.ireturn, 1) := dk_172 (dk_at dksX7_judge_7 12 rfl rfl)
abbrev cX7_trayFault : ByteArray := prog_43_method_84_code
def yX7_trayFault : MethodName := ⟨RX7, "trayFault", "(I)I"⟩
def dkwX7_trayFault_1 : List UInt8 := [167, 0, 4, 3, 172]
abbrev dktX7_trayFault_1 : List UInt8 := dkwX7_trayFault_1 ++ []
def dkwX7_trayFault_0 : List UInt8 := [27, 184, 1, 116, 154, 0, 7, 4, 167, 0, 18, 42, 180, 0, 68, 27, 46, 2, 160, 0, 7, 5]
abbrev dktX7_trayFault_0 : List UInt8 := dkwX7_trayFault_0 ++ dktX7_trayFault_1
theorem dksX7_trayFault_0 : cX7_trayFault.data.toList.drop 0 = dktX7_trayFault_0 := by decide +kernel
theorem dksX7_trayFault_1 : cX7_trayFault.data.toList.drop 22 = dktX7_trayFault_1 := dk_seg dksX7_trayFault_0 22 rfl rfl
theorem dX7_trayFault_0 : decode cX7_trayFault 0 = .ok (.iload_n 1, 1) := dk_27 (dk_at dksX7_trayFault_0 0 rfl rfl)
theorem dX7_trayFault_1 : decode cX7_trayFault 1 = .ok (.invokestatic 372, 3) := dk_184 1 116 (dk_at dksX7_trayFault_0 1 rfl rfl)
theorem dX7_trayFault_4 : decode cX7_trayFault 4 = .ok (.ifCond .ne 7, 3) := dk_154 0 7 (dk_at dksX7_trayFault_0 4 rfl rfl)
theorem dX7_trayFault_7 : decode cX7_trayFault 7 = .ok (.iconst 1, 1) := dk_4 (dk_at dksX7_trayFault_0 7 rfl rfl)
theorem dX7_trayFault_8 : decode cX7_trayFault 8 = .ok (.goto 18, 3) := dk_167 0 18 (dk_at dksX7_trayFault_0 8 rfl rfl)
theorem dX7_trayFault_11 : decode cX7_trayFault 11 = .ok (.aload_n 0, 1) := dk_42 (dk_at dksX7_trayFault_0 11 rfl rfl)
theorem dX7_trayFault_12 : decode cX7_trayFault 12 = .ok (.getfield 68, 3) := dk_180 0 68 (dk_at dksX7_trayFault_0 12 rfl rfl)
theorem dX7_trayFault_15 : decode cX7_trayFault 15 = .ok (.iload_n 1, 1) := dk_27 (dk_at dksX7_trayFault_0 15 rfl rfl)
theorem dX7_trayFault_16 : decode cX7_trayFault 16 = .ok (.iaload, 1) := dk_46 (dk_at dksX7_trayFault_0 16 rfl rfl)
theorem dX7_trayFault_17 : decode cX7_trayFault 17 = .ok (.iconst (-1), 1) := dk_2 (dk_at dksX7_trayFault_0 17 rfl rfl)
theorem dX7_trayFault_18 : decode cX7_trayFault 18 = .ok (.if_icmp .ne 7, 3) := dk_160 0 7 (dk_at dksX7_trayFault_0 18 rfl rfl)
theorem dX7_trayFault_21 : decode cX7_trayFault 21 = .ok (.iconst 2, 1) := dk_5 (dk_at dksX7_trayFault_0 21 rfl rfl)
theorem dX7_trayFault_22 : decode cX7_trayFault 22 = .ok (.goto 4, 3) := dk_167 0 4 (dk_at dksX7_trayFault_1 0 rfl rfl)
theorem dX7_trayFault_25 : decode cX7_trayFault 25 = .ok (.iconst 0, 1) := dk_3 (dk_at dksX7_trayFault_1 3 rfl rfl)
theorem dX7_trayFault_26 : decode cX7_trayFault 26 = .ok (.ireturn, 1) := dk_172 (dk_at dksX7_trayFault_1 4 rfl rfl)
abbrev cX7_isTray : ByteArray := prog_43_method_145_code
def yX7_isTray : MethodName := ⟨RX7, "isTray", "(I)Z"⟩
def dkwX7_isTray_0 : List UInt8 := [26, 133, 9, 20, 1, 3, 184, 0, 138, 172]
abbrev dktX7_isTray_0 : List UInt8 := dkwX7_isTray_0 ++ []
theorem dksX7_isTray_0 : cX7_isTray.data.toList.drop 0 = dktX7_isTray_0 := by decide +kernel
theorem dX7_isTray_0 : decode cX7_isTray 0 = .ok (.iload_n 0, 1) := dk_26 (dk_at dksX7_isTray_0 0 rfl rfl)
theorem dX7_isTray_1 : decode cX7_isTray 1 = .ok (.i2l, 1) := dk_133 (dk_at dksX7_isTray_0 1 rfl rfl)
theorem dX7_isTray_2 : decode cX7_isTray 2 = .ok (.lconst 0, 1) := dk_9 (dk_at dksX7_isTray_0 2 rfl rfl)
theorem dX7_isTray_3 : decode cX7_isTray 3 = .ok (.ldc2_w 259, 3) := dk_20 1 3 (dk_at dksX7_isTray_0 3 rfl rfl)
theorem dX7_isTray_6 : decode cX7_isTray 6 = .ok (.invokestatic 138, 3) := dk_184 0 138 (dk_at dksX7_isTray_0 6 rfl rfl)
theorem dX7_isTray_9 : decode cX7_isTray 9 = .ok (.ireturn, 1) := dk_172 (dk_at dksX7_isTray_0 9 rfl rfl)
abbrev cX7_putsAside : ByteArray := prog_43_method_76_code
def yX7_putsAside : MethodName := ⟨RX7, "putsAside", "()V"⟩
def dkwX7_putsAside_1 : List UInt8 := [132, 1, 1, 167, 255, 232, 177]
abbrev dktX7_putsAside_1 : List UInt8 := dkwX7_putsAside_1 ++ []
def dkwX7_putsAside_0 : List UInt8 := [3, 60, 27, 16, 18, 162, 0, 24, 42, 180, 0, 42, 27, 42, 180, 0, 9, 16, 7, 27, 96, 46, 79]
abbrev dktX7_putsAside_0 : List UInt8 := dkwX7_putsAside_0 ++ dktX7_putsAside_1
theorem dksX7_putsAside_0 : cX7_putsAside.data.toList.drop 0 = dktX7_putsAside_0 := by decide +kernel
theorem dksX7_putsAside_1 : cX7_putsAside.data.toList.drop 23 = dktX7_putsAside_1 := dk_seg dksX7_putsAside_0 23 rfl rfl
theorem dX7_putsAside_0 : decode cX7_putsAside 0 = .ok (.iconst 0, 1) := dk_3 (dk_at dksX7_putsAside_0 0 rfl rfl)
theorem dX7_putsAside_1 : decode cX7_putsAside 1 = .ok (.istore_n 1, 1) := dk_60 (dk_at dksX7_putsAside_0 1 rfl rfl)
theorem dX7_putsAside_2 : decode cX7_putsAside 2 = .ok (.iload_n 1, 1) := dk_27 (dk_at dksX7_putsAside_0 2 rfl rfl)
theorem dX7_putsAside_3 : decode cX7_putsAside 3 = .ok (.bipush 18, 2) := dk_16 18 (dk_at dksX7_putsAside_0 3 rfl rfl)
theorem dX7_putsAside_5 : decode cX7_putsAside 5 = .ok (.if_icmp .ge 24, 3) := dk_162 0 24 (dk_at dksX7_putsAside_0 5 rfl rfl)
theorem dX7_putsAside_8 : decode cX7_putsAside 8 = .ok (.aload_n 0, 1) := dk_42 (dk_at dksX7_putsAside_0 8 rfl rfl)
theorem dX7_putsAside_9 : decode cX7_putsAside 9 = .ok (.getfield 42, 3) := dk_180 0 42 (dk_at dksX7_putsAside_0 9 rfl rfl)
theorem dX7_putsAside_12 : decode cX7_putsAside 12 = .ok (.iload_n 1, 1) := dk_27 (dk_at dksX7_putsAside_0 12 rfl rfl)
theorem dX7_putsAside_13 : decode cX7_putsAside 13 = .ok (.aload_n 0, 1) := dk_42 (dk_at dksX7_putsAside_0 13 rfl rfl)
theorem dX7_putsAside_14 : decode cX7_putsAside 14 = .ok (.getfield 9, 3) := dk_180 0 9 (dk_at dksX7_putsAside_0 14 rfl rfl)
theorem dX7_putsAside_17 : decode cX7_putsAside 17 = .ok (.bipush 7, 2) := dk_16 7 (dk_at dksX7_putsAside_0 17 rfl rfl)
theorem dX7_putsAside_19 : decode cX7_putsAside 19 = .ok (.iload_n 1, 1) := dk_27 (dk_at dksX7_putsAside_0 19 rfl rfl)
theorem dX7_putsAside_20 : decode cX7_putsAside 20 = .ok (.iadd, 1) := dk_96 (dk_at dksX7_putsAside_0 20 rfl rfl)
theorem dX7_putsAside_21 : decode cX7_putsAside 21 = .ok (.iaload, 1) := dk_46 (dk_at dksX7_putsAside_0 21 rfl rfl)
theorem dX7_putsAside_22 : decode cX7_putsAside 22 = .ok (.iastore, 1) := dk_79 (dk_at dksX7_putsAside_0 22 rfl rfl)
theorem dX7_putsAside_23 : decode cX7_putsAside 23 = .ok (.iinc 1 1, 3) := dk_132 1 1 (dk_at dksX7_putsAside_1 0 rfl rfl)
theorem dX7_putsAside_26 : decode cX7_putsAside 26 = .ok (.goto (-24), 3) := dk_167 255 232 (dk_at dksX7_putsAside_1 3 rfl rfl)
theorem dX7_putsAside_29 : decode cX7_putsAside 29 = .ok (.return_, 1) := dk_177 (dk_at dksX7_putsAside_1 6 rfl rfl)
abbrev cX7_whyTold : ByteArray := prog_43_method_85_code
def yX7_whyTold : MethodName := ⟨RX7, "whyTold", "(J)I"⟩
def dkwX7_whyTold_5 : List UInt8 := [182, 1, 81, 153, 0, 7, 3, 167, 0, 8, 4, 167, 0, 4, 4, 172]
abbrev dktX7_whyTold_5 : List UInt8 := dkwX7_whyTold_5 ++ []
def dkwX7_whyTold_4 : List UInt8 := [20, 1, 129, 20, 1, 131, 184, 0, 138, 153, 0, 27, 42, 31, 20, 1, 125, 113, 20, 1, 121, 109]
abbrev dktX7_whyTold_4 : List UInt8 := dkwX7_whyTold_4 ++ dktX7_whyTold_5
def dkwX7_whyTold_3 : List UInt8 := [154, 0, 7, 5, 167, 0, 4, 3, 172, 31, 20, 1, 125, 20, 1, 127, 184, 0, 138, 154, 0, 16, 31]
abbrev dktX7_whyTold_3 : List UInt8 := dkwX7_whyTold_3 ++ dktX7_whyTold_4
def dkwX7_whyTold_2 : List UInt8 := [172, 31, 20, 1, 121, 148, 153, 0, 11, 31, 20, 1, 123, 148, 154, 0, 19, 42, 180, 0, 9, 16, 7, 46]
abbrev dktX7_whyTold_2 : List UInt8 := dkwX7_whyTold_2 ++ dktX7_whyTold_3
def dkwX7_whyTold_1 : List UInt8 := [182, 1, 87, 31, 20, 1, 114, 109, 31, 20, 1, 114, 113, 182, 1, 102, 153, 0, 7, 3, 167, 0, 4, 4]
abbrev dktX7_whyTold_1 : List UInt8 := dkwX7_whyTold_1 ++ dktX7_whyTold_2
def dkwX7_whyTold_0 : List UInt8 := [31, 20, 1, 119, 148, 154, 0, 5, 3, 172, 31, 9, 20, 1, 112, 184, 0, 138, 153, 0, 30, 42, 42]
abbrev dktX7_whyTold_0 : List UInt8 := dkwX7_whyTold_0 ++ dktX7_whyTold_1
theorem dksX7_whyTold_0 : cX7_whyTold.data.toList.drop 0 = dktX7_whyTold_0 := by decide +kernel
theorem dksX7_whyTold_1 : cX7_whyTold.data.toList.drop 23 = dktX7_whyTold_1 := dk_seg dksX7_whyTold_0 23 rfl rfl
theorem dksX7_whyTold_2 : cX7_whyTold.data.toList.drop 47 = dktX7_whyTold_2 := dk_seg dksX7_whyTold_1 24 rfl rfl
theorem dksX7_whyTold_3 : cX7_whyTold.data.toList.drop 71 = dktX7_whyTold_3 := dk_seg dksX7_whyTold_2 24 rfl rfl
theorem dksX7_whyTold_4 : cX7_whyTold.data.toList.drop 94 = dktX7_whyTold_4 := dk_seg dksX7_whyTold_3 23 rfl rfl
theorem dksX7_whyTold_5 : cX7_whyTold.data.toList.drop 116 = dktX7_whyTold_5 := dk_seg dksX7_whyTold_4 22 rfl rfl
theorem dX7_whyTold_0 : decode cX7_whyTold 0 = .ok (.lload_n 1, 1) := dk_31 (dk_at dksX7_whyTold_0 0 rfl rfl)
theorem dX7_whyTold_1 : decode cX7_whyTold 1 = .ok (.ldc2_w 375, 3) := dk_20 1 119 (dk_at dksX7_whyTold_0 1 rfl rfl)
theorem dX7_whyTold_4 : decode cX7_whyTold 4 = .ok (.lcmp, 1) := dk_148 (dk_at dksX7_whyTold_0 4 rfl rfl)
theorem dX7_whyTold_5 : decode cX7_whyTold 5 = .ok (.ifCond .ne 5, 3) := dk_154 0 5 (dk_at dksX7_whyTold_0 5 rfl rfl)
theorem dX7_whyTold_8 : decode cX7_whyTold 8 = .ok (.iconst 0, 1) := dk_3 (dk_at dksX7_whyTold_0 8 rfl rfl)
theorem dX7_whyTold_9 : decode cX7_whyTold 9 = .ok (.ireturn, 1) := dk_172 (dk_at dksX7_whyTold_0 9 rfl rfl)
theorem dX7_whyTold_10 : decode cX7_whyTold 10 = .ok (.lload_n 1, 1) := dk_31 (dk_at dksX7_whyTold_0 10 rfl rfl)
theorem dX7_whyTold_11 : decode cX7_whyTold 11 = .ok (.lconst 0, 1) := dk_9 (dk_at dksX7_whyTold_0 11 rfl rfl)
theorem dX7_whyTold_12 : decode cX7_whyTold 12 = .ok (.ldc2_w 368, 3) := dk_20 1 112 (dk_at dksX7_whyTold_0 12 rfl rfl)
theorem dX7_whyTold_15 : decode cX7_whyTold 15 = .ok (.invokestatic 138, 3) := dk_184 0 138 (dk_at dksX7_whyTold_0 15 rfl rfl)
theorem dX7_whyTold_18 : decode cX7_whyTold 18 = .ok (.ifCond .eq 30, 3) := dk_153 0 30 (dk_at dksX7_whyTold_0 18 rfl rfl)
theorem dX7_whyTold_21 : decode cX7_whyTold 21 = .ok (.aload_n 0, 1) := dk_42 (dk_at dksX7_whyTold_0 21 rfl rfl)
theorem dX7_whyTold_22 : decode cX7_whyTold 22 = .ok (.aload_n 0, 1) := dk_42 (dk_at dksX7_whyTold_0 22 rfl rfl)
theorem dX7_whyTold_23 : decode cX7_whyTold 23 = .ok (.invokevirtual 343, 3) := dk_182 1 87 (dk_at dksX7_whyTold_1 0 rfl rfl)
theorem dX7_whyTold_26 : decode cX7_whyTold 26 = .ok (.lload_n 1, 1) := dk_31 (dk_at dksX7_whyTold_1 3 rfl rfl)
theorem dX7_whyTold_27 : decode cX7_whyTold 27 = .ok (.ldc2_w 370, 3) := dk_20 1 114 (dk_at dksX7_whyTold_1 4 rfl rfl)
theorem dX7_whyTold_30 : decode cX7_whyTold 30 = .ok (.ldiv, 1) := dk_109 (dk_at dksX7_whyTold_1 7 rfl rfl)
theorem dX7_whyTold_31 : decode cX7_whyTold 31 = .ok (.lload_n 1, 1) := dk_31 (dk_at dksX7_whyTold_1 8 rfl rfl)
theorem dX7_whyTold_32 : decode cX7_whyTold 32 = .ok (.ldc2_w 370, 3) := dk_20 1 114 (dk_at dksX7_whyTold_1 9 rfl rfl)
theorem dX7_whyTold_35 : decode cX7_whyTold 35 = .ok (.lrem, 1) := dk_113 (dk_at dksX7_whyTold_1 12 rfl rfl)
theorem dX7_whyTold_36 : decode cX7_whyTold 36 = .ok (.invokevirtual 358, 3) := dk_182 1 102 (dk_at dksX7_whyTold_1 13 rfl rfl)
theorem dX7_whyTold_39 : decode cX7_whyTold 39 = .ok (.ifCond .eq 7, 3) := dk_153 0 7 (dk_at dksX7_whyTold_1 16 rfl rfl)
theorem dX7_whyTold_42 : decode cX7_whyTold 42 = .ok (.iconst 0, 1) := dk_3 (dk_at dksX7_whyTold_1 19 rfl rfl)
theorem dX7_whyTold_43 : decode cX7_whyTold 43 = .ok (.goto 4, 3) := dk_167 0 4 (dk_at dksX7_whyTold_1 20 rfl rfl)
theorem dX7_whyTold_46 : decode cX7_whyTold 46 = .ok (.iconst 1, 1) := dk_4 (dk_at dksX7_whyTold_1 23 rfl rfl)
theorem dX7_whyTold_47 : decode cX7_whyTold 47 = .ok (.ireturn, 1) := dk_172 (dk_at dksX7_whyTold_2 0 rfl rfl)
theorem dX7_whyTold_48 : decode cX7_whyTold 48 = .ok (.lload_n 1, 1) := dk_31 (dk_at dksX7_whyTold_2 1 rfl rfl)
theorem dX7_whyTold_49 : decode cX7_whyTold 49 = .ok (.ldc2_w 377, 3) := dk_20 1 121 (dk_at dksX7_whyTold_2 2 rfl rfl)
theorem dX7_whyTold_52 : decode cX7_whyTold 52 = .ok (.lcmp, 1) := dk_148 (dk_at dksX7_whyTold_2 5 rfl rfl)
theorem dX7_whyTold_53 : decode cX7_whyTold 53 = .ok (.ifCond .eq 11, 3) := dk_153 0 11 (dk_at dksX7_whyTold_2 6 rfl rfl)
theorem dX7_whyTold_56 : decode cX7_whyTold 56 = .ok (.lload_n 1, 1) := dk_31 (dk_at dksX7_whyTold_2 9 rfl rfl)
theorem dX7_whyTold_57 : decode cX7_whyTold 57 = .ok (.ldc2_w 379, 3) := dk_20 1 123 (dk_at dksX7_whyTold_2 10 rfl rfl)
theorem dX7_whyTold_60 : decode cX7_whyTold 60 = .ok (.lcmp, 1) := dk_148 (dk_at dksX7_whyTold_2 13 rfl rfl)
theorem dX7_whyTold_61 : decode cX7_whyTold 61 = .ok (.ifCond .ne 19, 3) := dk_154 0 19 (dk_at dksX7_whyTold_2 14 rfl rfl)
theorem dX7_whyTold_64 : decode cX7_whyTold 64 = .ok (.aload_n 0, 1) := dk_42 (dk_at dksX7_whyTold_2 17 rfl rfl)
theorem dX7_whyTold_65 : decode cX7_whyTold 65 = .ok (.getfield 9, 3) := dk_180 0 9 (dk_at dksX7_whyTold_2 18 rfl rfl)
theorem dX7_whyTold_68 : decode cX7_whyTold 68 = .ok (.bipush 7, 2) := dk_16 7 (dk_at dksX7_whyTold_2 21 rfl rfl)
theorem dX7_whyTold_70 : decode cX7_whyTold 70 = .ok (.iaload, 1) := dk_46 (dk_at dksX7_whyTold_2 23 rfl rfl)
theorem dX7_whyTold_71 : decode cX7_whyTold 71 = .ok (.ifCond .ne 7, 3) := dk_154 0 7 (dk_at dksX7_whyTold_3 0 rfl rfl)
theorem dX7_whyTold_74 : decode cX7_whyTold 74 = .ok (.iconst 2, 1) := dk_5 (dk_at dksX7_whyTold_3 3 rfl rfl)
theorem dX7_whyTold_75 : decode cX7_whyTold 75 = .ok (.goto 4, 3) := dk_167 0 4 (dk_at dksX7_whyTold_3 4 rfl rfl)
theorem dX7_whyTold_78 : decode cX7_whyTold 78 = .ok (.iconst 0, 1) := dk_3 (dk_at dksX7_whyTold_3 7 rfl rfl)
theorem dX7_whyTold_79 : decode cX7_whyTold 79 = .ok (.ireturn, 1) := dk_172 (dk_at dksX7_whyTold_3 8 rfl rfl)
theorem dX7_whyTold_80 : decode cX7_whyTold 80 = .ok (.lload_n 1, 1) := dk_31 (dk_at dksX7_whyTold_3 9 rfl rfl)
theorem dX7_whyTold_81 : decode cX7_whyTold 81 = .ok (.ldc2_w 381, 3) := dk_20 1 125 (dk_at dksX7_whyTold_3 10 rfl rfl)
theorem dX7_whyTold_84 : decode cX7_whyTold 84 = .ok (.ldc2_w 383, 3) := dk_20 1 127 (dk_at dksX7_whyTold_3 13 rfl rfl)
theorem dX7_whyTold_87 : decode cX7_whyTold 87 = .ok (.invokestatic 138, 3) := dk_184 0 138 (dk_at dksX7_whyTold_3 16 rfl rfl)
theorem dX7_whyTold_90 : decode cX7_whyTold 90 = .ok (.ifCond .ne 16, 3) := dk_154 0 16 (dk_at dksX7_whyTold_3 19 rfl rfl)
theorem dX7_whyTold_93 : decode cX7_whyTold 93 = .ok (.lload_n 1, 1) := dk_31 (dk_at dksX7_whyTold_3 22 rfl rfl)
theorem dX7_whyTold_94 : decode cX7_whyTold 94 = .ok (.ldc2_w 385, 3) := dk_20 1 129 (dk_at dksX7_whyTold_4 0 rfl rfl)
theorem dX7_whyTold_97 : decode cX7_whyTold 97 = .ok (.ldc2_w 387, 3) := dk_20 1 131 (dk_at dksX7_whyTold_4 3 rfl rfl)
theorem dX7_whyTold_100 : decode cX7_whyTold 100 = .ok (.invokestatic 138, 3) := dk_184 0 138 (dk_at dksX7_whyTold_4 6 rfl rfl)
theorem dX7_whyTold_103 : decode cX7_whyTold 103 = .ok (.ifCond .eq 27, 3) := dk_153 0 27 (dk_at dksX7_whyTold_4 9 rfl rfl)
theorem dX7_whyTold_106 : decode cX7_whyTold 106 = .ok (.aload_n 0, 1) := dk_42 (dk_at dksX7_whyTold_4 12 rfl rfl)
theorem dX7_whyTold_107 : decode cX7_whyTold 107 = .ok (.lload_n 1, 1) := dk_31 (dk_at dksX7_whyTold_4 13 rfl rfl)
theorem dX7_whyTold_108 : decode cX7_whyTold 108 = .ok (.ldc2_w 381, 3) := dk_20 1 125 (dk_at dksX7_whyTold_4 14 rfl rfl)
theorem dX7_whyTold_111 : decode cX7_whyTold 111 = .ok (.lrem, 1) := dk_113 (dk_at dksX7_whyTold_4 17 rfl rfl)
theorem dX7_whyTold_112 : decode cX7_whyTold 112 = .ok (.ldc2_w 377, 3) := dk_20 1 121 (dk_at dksX7_whyTold_4 18 rfl rfl)
theorem dX7_whyTold_115 : decode cX7_whyTold 115 = .ok (.ldiv, 1) := dk_109 (dk_at dksX7_whyTold_4 21 rfl rfl)
theorem dX7_whyTold_116 : decode cX7_whyTold 116 = .ok (.invokevirtual 337, 3) := dk_182 1 81 (dk_at dksX7_whyTold_5 0 rfl rfl)
theorem dX7_whyTold_119 : decode cX7_whyTold 119 = .ok (.ifCond .eq 7, 3) := dk_153 0 7 (dk_at dksX7_whyTold_5 3 rfl rfl)
theorem dX7_whyTold_122 : decode cX7_whyTold 122 = .ok (.iconst 0, 1) := dk_3 (dk_at dksX7_whyTold_5 6 rfl rfl)
theorem dX7_whyTold_123 : decode cX7_whyTold 123 = .ok (.goto 8, 3) := dk_167 0 8 (dk_at dksX7_whyTold_5 7 rfl rfl)
theorem dX7_whyTold_126 : decode cX7_whyTold 126 = .ok (.iconst 1, 1) := dk_4 (dk_at dksX7_whyTold_5 10 rfl rfl)
theorem dX7_whyTold_127 : decode cX7_whyTold 127 = .ok (.goto 4, 3) := dk_167 0 4 (dk_at dksX7_whyTold_5 11 rfl rfl)
theorem dX7_whyTold_130 : decode cX7_whyTold 130 = .ok (.iconst 1, 1) := dk_4 (dk_at dksX7_whyTold_5 14 rfl rfl)
theorem dX7_whyTold_131 : decode cX7_whyTold 131 = .ok (.ireturn, 1) := dk_172 (dk_at dksX7_whyTold_5 15 rfl rfl)
abbrev cX7_does : ByteArray := prog_43_method_86_code
def yX7_does : MethodName := ⟨RX7, "does", "(I)V"⟩
def dkwX7_does_3 : List UInt8 := [4, 100, 104, 96, 27, 17, 3, 232, 112, 16, 100, 108, 96, 27, 16, 100, 112, 79, 177]
abbrev dktX7_does_3 : List UInt8 := dkwX7_does_3 ++ []
def dkwX7_does_2 : List UInt8 := [42, 180, 0, 9, 16, 7, 3, 79, 167, 0, 34, 42, 180, 0, 9, 16, 13, 16, 6, 27, 17, 3, 232, 108]
abbrev dktX7_does_2 : List UInt8 := dkwX7_does_2 ++ dktX7_does_3
def dkwX7_does_1 : List UInt8 := [160, 0, 17, 42, 180, 0, 9, 16, 7, 92, 46, 4, 100, 79, 167, 0, 52, 27, 17, 0, 200, 160, 0, 14]
abbrev dktX7_does_1 : List UInt8 := dkwX7_does_1 ++ dktX7_does_2
def dkwX7_does_0 : List UInt8 := [27, 2, 160, 0, 4, 177, 27, 16, 100, 162, 0, 11, 42, 27, 182, 1, 109, 167, 0, 72, 27, 16, 100]
abbrev dktX7_does_0 : List UInt8 := dkwX7_does_0 ++ dktX7_does_1
theorem dksX7_does_0 : cX7_does.data.toList.drop 0 = dktX7_does_0 := by decide +kernel
theorem dksX7_does_1 : cX7_does.data.toList.drop 23 = dktX7_does_1 := dk_seg dksX7_does_0 23 rfl rfl
theorem dksX7_does_2 : cX7_does.data.toList.drop 47 = dktX7_does_2 := dk_seg dksX7_does_1 24 rfl rfl
theorem dksX7_does_3 : cX7_does.data.toList.drop 71 = dktX7_does_3 := dk_seg dksX7_does_2 24 rfl rfl
theorem dX7_does_0 : decode cX7_does 0 = .ok (.iload_n 1, 1) := dk_27 (dk_at dksX7_does_0 0 rfl rfl)
theorem dX7_does_1 : decode cX7_does 1 = .ok (.iconst (-1), 1) := dk_2 (dk_at dksX7_does_0 1 rfl rfl)
theorem dX7_does_2 : decode cX7_does 2 = .ok (.if_icmp .ne 4, 3) := dk_160 0 4 (dk_at dksX7_does_0 2 rfl rfl)
theorem dX7_does_5 : decode cX7_does 5 = .ok (.return_, 1) := dk_177 (dk_at dksX7_does_0 5 rfl rfl)
theorem dX7_does_6 : decode cX7_does 6 = .ok (.iload_n 1, 1) := dk_27 (dk_at dksX7_does_0 6 rfl rfl)
theorem dX7_does_7 : decode cX7_does 7 = .ok (.bipush 100, 2) := dk_16 100 (dk_at dksX7_does_0 7 rfl rfl)
theorem dX7_does_9 : decode cX7_does 9 = .ok (.if_icmp .ge 11, 3) := dk_162 0 11 (dk_at dksX7_does_0 9 rfl rfl)
theorem dX7_does_12 : decode cX7_does 12 = .ok (.aload_n 0, 1) := dk_42 (dk_at dksX7_does_0 12 rfl rfl)
theorem dX7_does_13 : decode cX7_does 13 = .ok (.iload_n 1, 1) := dk_27 (dk_at dksX7_does_0 13 rfl rfl)
theorem dX7_does_14 : decode cX7_does 14 = .ok (.invokevirtual 365, 3) := dk_182 1 109 (dk_at dksX7_does_0 14 rfl rfl)
theorem dX7_does_17 : decode cX7_does 17 = .ok (.goto 72, 3) := dk_167 0 72 (dk_at dksX7_does_0 17 rfl rfl)
theorem dX7_does_20 : decode cX7_does 20 = .ok (.iload_n 1, 1) := dk_27 (dk_at dksX7_does_0 20 rfl rfl)
theorem dX7_does_21 : decode cX7_does 21 = .ok (.bipush 100, 2) := dk_16 100 (dk_at dksX7_does_0 21 rfl rfl)
theorem dX7_does_23 : decode cX7_does 23 = .ok (.if_icmp .ne 17, 3) := dk_160 0 17 (dk_at dksX7_does_1 0 rfl rfl)
theorem dX7_does_26 : decode cX7_does 26 = .ok (.aload_n 0, 1) := dk_42 (dk_at dksX7_does_1 3 rfl rfl)
theorem dX7_does_27 : decode cX7_does 27 = .ok (.getfield 9, 3) := dk_180 0 9 (dk_at dksX7_does_1 4 rfl rfl)
theorem dX7_does_30 : decode cX7_does 30 = .ok (.bipush 7, 2) := dk_16 7 (dk_at dksX7_does_1 7 rfl rfl)
theorem dX7_does_32 : decode cX7_does 32 = .ok (.dup2, 1) := dk_92 (dk_at dksX7_does_1 9 rfl rfl)
theorem dX7_does_33 : decode cX7_does 33 = .ok (.iaload, 1) := dk_46 (dk_at dksX7_does_1 10 rfl rfl)
theorem dX7_does_34 : decode cX7_does 34 = .ok (.iconst 1, 1) := dk_4 (dk_at dksX7_does_1 11 rfl rfl)
theorem dX7_does_35 : decode cX7_does 35 = .ok (.isub, 1) := dk_100 (dk_at dksX7_does_1 12 rfl rfl)
theorem dX7_does_36 : decode cX7_does 36 = .ok (.iastore, 1) := dk_79 (dk_at dksX7_does_1 13 rfl rfl)
theorem dX7_does_37 : decode cX7_does 37 = .ok (.goto 52, 3) := dk_167 0 52 (dk_at dksX7_does_1 14 rfl rfl)
theorem dX7_does_40 : decode cX7_does 40 = .ok (.iload_n 1, 1) := dk_27 (dk_at dksX7_does_1 17 rfl rfl)
theorem dX7_does_41 : decode cX7_does 41 = .ok (.sipush 200, 3) := dk_17 0 200 (dk_at dksX7_does_1 18 rfl rfl)
theorem dX7_does_44 : decode cX7_does 44 = .ok (.if_icmp .ne 14, 3) := dk_160 0 14 (dk_at dksX7_does_1 21 rfl rfl)
theorem dX7_does_47 : decode cX7_does 47 = .ok (.aload_n 0, 1) := dk_42 (dk_at dksX7_does_2 0 rfl rfl)
theorem dX7_does_48 : decode cX7_does 48 = .ok (.getfield 9, 3) := dk_180 0 9 (dk_at dksX7_does_2 1 rfl rfl)
theorem dX7_does_51 : decode cX7_does 51 = .ok (.bipush 7, 2) := dk_16 7 (dk_at dksX7_does_2 4 rfl rfl)
theorem dX7_does_53 : decode cX7_does 53 = .ok (.iconst 0, 1) := dk_3 (dk_at dksX7_does_2 6 rfl rfl)
theorem dX7_does_54 : decode cX7_does 54 = .ok (.iastore, 1) := dk_79 (dk_at dksX7_does_2 7 rfl rfl)
theorem dX7_does_55 : decode cX7_does 55 = .ok (.goto 34, 3) := dk_167 0 34 (dk_at dksX7_does_2 8 rfl rfl)
theorem dX7_does_58 : decode cX7_does 58 = .ok (.aload_n 0, 1) := dk_42 (dk_at dksX7_does_2 11 rfl rfl)
theorem dX7_does_59 : decode cX7_does 59 = .ok (.getfield 9, 3) := dk_180 0 9 (dk_at dksX7_does_2 12 rfl rfl)
theorem dX7_does_62 : decode cX7_does 62 = .ok (.bipush 13, 2) := dk_16 13 (dk_at dksX7_does_2 15 rfl rfl)
theorem dX7_does_64 : decode cX7_does 64 = .ok (.bipush 6, 2) := dk_16 6 (dk_at dksX7_does_2 17 rfl rfl)
theorem dX7_does_66 : decode cX7_does 66 = .ok (.iload_n 1, 1) := dk_27 (dk_at dksX7_does_2 19 rfl rfl)
theorem dX7_does_67 : decode cX7_does 67 = .ok (.sipush 1000, 3) := dk_17 3 232 (dk_at dksX7_does_2 20 rfl rfl)
theorem dX7_does_70 : decode cX7_does 70 = .ok (.idiv, 1) := dk_108 (dk_at dksX7_does_2 23 rfl rfl)
theorem dX7_does_71 : decode cX7_does 71 = .ok (.iconst 1, 1) := dk_4 (dk_at dksX7_does_3 0 rfl rfl)
theorem dX7_does_72 : decode cX7_does 72 = .ok (.isub, 1) := dk_100 (dk_at dksX7_does_3 1 rfl rfl)
theorem dX7_does_73 : decode cX7_does 73 = .ok (.imul, 1) := dk_104 (dk_at dksX7_does_3 2 rfl rfl)
theorem dX7_does_74 : decode cX7_does 74 = .ok (.iadd, 1) := dk_96 (dk_at dksX7_does_3 3 rfl rfl)
theorem dX7_does_75 : decode cX7_does 75 = .ok (.iload_n 1, 1) := dk_27 (dk_at dksX7_does_3 4 rfl rfl)
theorem dX7_does_76 : decode cX7_does 76 = .ok (.sipush 1000, 3) := dk_17 3 232 (dk_at dksX7_does_3 5 rfl rfl)
theorem dX7_does_79 : decode cX7_does 79 = .ok (.irem, 1) := dk_112 (dk_at dksX7_does_3 8 rfl rfl)
theorem dX7_does_80 : decode cX7_does 80 = .ok (.bipush 100, 2) := dk_16 100 (dk_at dksX7_does_3 9 rfl rfl)
theorem dX7_does_82 : decode cX7_does 82 = .ok (.idiv, 1) := dk_108 (dk_at dksX7_does_3 11 rfl rfl)
theorem dX7_does_83 : decode cX7_does 83 = .ok (.iadd, 1) := dk_96 (dk_at dksX7_does_3 12 rfl rfl)
theorem dX7_does_84 : decode cX7_does 84 = .ok (.iload_n 1, 1) := dk_27 (dk_at dksX7_does_3 13 rfl rfl)
theorem dX7_does_85 : decode cX7_does 85 = .ok (.bipush 100, 2) := dk_16 100 (dk_at dksX7_does_3 14 rfl rfl)
theorem dX7_does_87 : decode cX7_does 87 = .ok (.irem, 1) := dk_112 (dk_at dksX7_does_3 16 rfl rfl)
theorem dX7_does_88 : decode cX7_does 88 = .ok (.iastore, 1) := dk_79 (dk_at dksX7_does_3 17 rfl rfl)
theorem dX7_does_89 : decode cX7_does 89 = .ok (.return_, 1) := dk_177 (dk_at dksX7_does_3 18 rfl rfl)
abbrev cX7_putsBack : ByteArray := prog_43_method_77_code
def yX7_putsBack : MethodName := ⟨RX7, "putsBack", "()V"⟩
def dkwX7_putsBack_1 : List UInt8 := [132, 1, 1, 167, 255, 232, 177]
abbrev dktX7_putsBack_1 : List UInt8 := dkwX7_putsBack_1 ++ []
def dkwX7_putsBack_0 : List UInt8 := [3, 60, 27, 16, 18, 162, 0, 24, 42, 180, 0, 9, 16, 7, 27, 96, 42, 180, 0, 42, 27, 46, 79]
abbrev dktX7_putsBack_0 : List UInt8 := dkwX7_putsBack_0 ++ dktX7_putsBack_1
theorem dksX7_putsBack_0 : cX7_putsBack.data.toList.drop 0 = dktX7_putsBack_0 := by decide +kernel
theorem dksX7_putsBack_1 : cX7_putsBack.data.toList.drop 23 = dktX7_putsBack_1 := dk_seg dksX7_putsBack_0 23 rfl rfl
theorem dX7_putsBack_0 : decode cX7_putsBack 0 = .ok (.iconst 0, 1) := dk_3 (dk_at dksX7_putsBack_0 0 rfl rfl)
theorem dX7_putsBack_1 : decode cX7_putsBack 1 = .ok (.istore_n 1, 1) := dk_60 (dk_at dksX7_putsBack_0 1 rfl rfl)
theorem dX7_putsBack_2 : decode cX7_putsBack 2 = .ok (.iload_n 1, 1) := dk_27 (dk_at dksX7_putsBack_0 2 rfl rfl)
theorem dX7_putsBack_3 : decode cX7_putsBack 3 = .ok (.bipush 18, 2) := dk_16 18 (dk_at dksX7_putsBack_0 3 rfl rfl)
theorem dX7_putsBack_5 : decode cX7_putsBack 5 = .ok (.if_icmp .ge 24, 3) := dk_162 0 24 (dk_at dksX7_putsBack_0 5 rfl rfl)
theorem dX7_putsBack_8 : decode cX7_putsBack 8 = .ok (.aload_n 0, 1) := dk_42 (dk_at dksX7_putsBack_0 8 rfl rfl)
theorem dX7_putsBack_9 : decode cX7_putsBack 9 = .ok (.getfield 9, 3) := dk_180 0 9 (dk_at dksX7_putsBack_0 9 rfl rfl)
theorem dX7_putsBack_12 : decode cX7_putsBack 12 = .ok (.bipush 7, 2) := dk_16 7 (dk_at dksX7_putsBack_0 12 rfl rfl)
theorem dX7_putsBack_14 : decode cX7_putsBack 14 = .ok (.iload_n 1, 1) := dk_27 (dk_at dksX7_putsBack_0 14 rfl rfl)
theorem dX7_putsBack_15 : decode cX7_putsBack 15 = .ok (.iadd, 1) := dk_96 (dk_at dksX7_putsBack_0 15 rfl rfl)
theorem dX7_putsBack_16 : decode cX7_putsBack 16 = .ok (.aload_n 0, 1) := dk_42 (dk_at dksX7_putsBack_0 16 rfl rfl)
theorem dX7_putsBack_17 : decode cX7_putsBack 17 = .ok (.getfield 42, 3) := dk_180 0 42 (dk_at dksX7_putsBack_0 17 rfl rfl)
theorem dX7_putsBack_20 : decode cX7_putsBack 20 = .ok (.iload_n 1, 1) := dk_27 (dk_at dksX7_putsBack_0 20 rfl rfl)
theorem dX7_putsBack_21 : decode cX7_putsBack 21 = .ok (.iaload, 1) := dk_46 (dk_at dksX7_putsBack_0 21 rfl rfl)
theorem dX7_putsBack_22 : decode cX7_putsBack 22 = .ok (.iastore, 1) := dk_79 (dk_at dksX7_putsBack_0 22 rfl rfl)
theorem dX7_putsBack_23 : decode cX7_putsBack 23 = .ok (.iinc 1 1, 3) := dk_132 1 1 (dk_at dksX7_putsBack_1 0 rfl rfl)
theorem dX7_putsBack_26 : decode cX7_putsBack 26 = .ok (.goto (-24), 3) := dk_167 255 232 (dk_at dksX7_putsBack_1 3 rfl rfl)
theorem dX7_putsBack_29 : decode cX7_putsBack 29 = .ok (.return_, 1) := dk_177 (dk_at dksX7_putsBack_1 6 rfl rfl)
abbrev cX7_perform : ByteArray := prog_43_method_88_code
def yX7_perform : MethodName := ⟨RX7, "perform", "(I)I"⟩
def dkwX7_perform_4 : List UInt8 := [167, 255, 187, 28, 172]
abbrev dktX7_perform_4 : List UInt8 := dkwX7_perform_4 ++ []
def dkwX7_perform_3 : List UInt8 := [182, 1, 106, 42, 42, 180, 0, 74, 16, 30, 27, 104, 28, 96, 47, 136, 182, 1, 142, 132, 2, 1]
abbrev dktX7_perform_3 : List UInt8 := dkwX7_perform_3 ++ dktX7_perform_4
def dkwX7_perform_2 : List UInt8 := [154, 0, 47, 42, 180, 0, 74, 16, 30, 27, 104, 28, 96, 47, 20, 1, 119, 148, 153, 0, 7, 42]
abbrev dktX7_perform_2 : List UInt8 := dkwX7_perform_2 ++ dktX7_perform_3
def dkwX7_perform_1 : List UInt8 := [180, 0, 71, 27, 46, 162, 0, 65, 42, 42, 180, 0, 74, 16, 30, 27, 104, 28, 96, 47, 182, 1, 139]
abbrev dktX7_perform_1 : List UInt8 := dkwX7_perform_1 ++ dktX7_perform_2
def dkwX7_perform_0 : List UInt8 := [42, 42, 27, 182, 1, 133, 181, 0, 77, 42, 180, 0, 77, 158, 0, 5, 3, 172, 3, 61, 28, 42]
abbrev dktX7_perform_0 : List UInt8 := dkwX7_perform_0 ++ dktX7_perform_1
theorem dksX7_perform_0 : cX7_perform.data.toList.drop 0 = dktX7_perform_0 := by decide +kernel
theorem dksX7_perform_1 : cX7_perform.data.toList.drop 22 = dktX7_perform_1 := dk_seg dksX7_perform_0 22 rfl rfl
theorem dksX7_perform_2 : cX7_perform.data.toList.drop 45 = dktX7_perform_2 := dk_seg dksX7_perform_1 23 rfl rfl
theorem dksX7_perform_3 : cX7_perform.data.toList.drop 67 = dktX7_perform_3 := dk_seg dksX7_perform_2 22 rfl rfl
theorem dksX7_perform_4 : cX7_perform.data.toList.drop 89 = dktX7_perform_4 := dk_seg dksX7_perform_3 22 rfl rfl
theorem dX7_perform_0 : decode cX7_perform 0 = .ok (.aload_n 0, 1) := dk_42 (dk_at dksX7_perform_0 0 rfl rfl)
theorem dX7_perform_1 : decode cX7_perform 1 = .ok (.aload_n 0, 1) := dk_42 (dk_at dksX7_perform_0 1 rfl rfl)
theorem dX7_perform_2 : decode cX7_perform 2 = .ok (.iload_n 1, 1) := dk_27 (dk_at dksX7_perform_0 2 rfl rfl)
theorem dX7_perform_3 : decode cX7_perform 3 = .ok (.invokevirtual 389, 3) := dk_182 1 133 (dk_at dksX7_perform_0 3 rfl rfl)
theorem dX7_perform_6 : decode cX7_perform 6 = .ok (.putfield 77, 3) := dk_181 0 77 (dk_at dksX7_perform_0 6 rfl rfl)
theorem dX7_perform_9 : decode cX7_perform 9 = .ok (.aload_n 0, 1) := dk_42 (dk_at dksX7_perform_0 9 rfl rfl)
theorem dX7_perform_10 : decode cX7_perform 10 = .ok (.getfield 77, 3) := dk_180 0 77 (dk_at dksX7_perform_0 10 rfl rfl)
theorem dX7_perform_13 : decode cX7_perform 13 = .ok (.ifCond .le 5, 3) := dk_158 0 5 (dk_at dksX7_perform_0 13 rfl rfl)
theorem dX7_perform_16 : decode cX7_perform 16 = .ok (.iconst 0, 1) := dk_3 (dk_at dksX7_perform_0 16 rfl rfl)
theorem dX7_perform_17 : decode cX7_perform 17 = .ok (.ireturn, 1) := dk_172 (dk_at dksX7_perform_0 17 rfl rfl)
theorem dX7_perform_18 : decode cX7_perform 18 = .ok (.iconst 0, 1) := dk_3 (dk_at dksX7_perform_0 18 rfl rfl)
theorem dX7_perform_19 : decode cX7_perform 19 = .ok (.istore_n 2, 1) := dk_61 (dk_at dksX7_perform_0 19 rfl rfl)
theorem dX7_perform_20 : decode cX7_perform 20 = .ok (.iload_n 2, 1) := dk_28 (dk_at dksX7_perform_0 20 rfl rfl)
theorem dX7_perform_21 : decode cX7_perform 21 = .ok (.aload_n 0, 1) := dk_42 (dk_at dksX7_perform_0 21 rfl rfl)
theorem dX7_perform_22 : decode cX7_perform 22 = .ok (.getfield 71, 3) := dk_180 0 71 (dk_at dksX7_perform_1 0 rfl rfl)
theorem dX7_perform_25 : decode cX7_perform 25 = .ok (.iload_n 1, 1) := dk_27 (dk_at dksX7_perform_1 3 rfl rfl)
theorem dX7_perform_26 : decode cX7_perform 26 = .ok (.iaload, 1) := dk_46 (dk_at dksX7_perform_1 4 rfl rfl)
theorem dX7_perform_27 : decode cX7_perform 27 = .ok (.if_icmp .ge 65, 3) := dk_162 0 65 (dk_at dksX7_perform_1 5 rfl rfl)
theorem dX7_perform_30 : decode cX7_perform 30 = .ok (.aload_n 0, 1) := dk_42 (dk_at dksX7_perform_1 8 rfl rfl)
theorem dX7_perform_31 : decode cX7_perform 31 = .ok (.aload_n 0, 1) := dk_42 (dk_at dksX7_perform_1 9 rfl rfl)
theorem dX7_perform_32 : decode cX7_perform 32 = .ok (.getfield 74, 3) := dk_180 0 74 (dk_at dksX7_perform_1 10 rfl rfl)
theorem dX7_perform_35 : decode cX7_perform 35 = .ok (.bipush 30, 2) := dk_16 30 (dk_at dksX7_perform_1 13 rfl rfl)
theorem dX7_perform_37 : decode cX7_perform 37 = .ok (.iload_n 1, 1) := dk_27 (dk_at dksX7_perform_1 15 rfl rfl)
theorem dX7_perform_38 : decode cX7_perform 38 = .ok (.imul, 1) := dk_104 (dk_at dksX7_perform_1 16 rfl rfl)
theorem dX7_perform_39 : decode cX7_perform 39 = .ok (.iload_n 2, 1) := dk_28 (dk_at dksX7_perform_1 17 rfl rfl)
theorem dX7_perform_40 : decode cX7_perform 40 = .ok (.iadd, 1) := dk_96 (dk_at dksX7_perform_1 18 rfl rfl)
theorem dX7_perform_41 : decode cX7_perform 41 = .ok (.laload, 1) := dk_47 (dk_at dksX7_perform_1 19 rfl rfl)
theorem dX7_perform_42 : decode cX7_perform 42 = .ok (.invokevirtual 395, 3) := dk_182 1 139 (dk_at dksX7_perform_1 20 rfl rfl)
theorem dX7_perform_45 : decode cX7_perform 45 = .ok (.ifCond .ne 47, 3) := dk_154 0 47 (dk_at dksX7_perform_2 0 rfl rfl)
theorem dX7_perform_48 : decode cX7_perform 48 = .ok (.aload_n 0, 1) := dk_42 (dk_at dksX7_perform_2 3 rfl rfl)
theorem dX7_perform_49 : decode cX7_perform 49 = .ok (.getfield 74, 3) := dk_180 0 74 (dk_at dksX7_perform_2 4 rfl rfl)
theorem dX7_perform_52 : decode cX7_perform 52 = .ok (.bipush 30, 2) := dk_16 30 (dk_at dksX7_perform_2 7 rfl rfl)
theorem dX7_perform_54 : decode cX7_perform 54 = .ok (.iload_n 1, 1) := dk_27 (dk_at dksX7_perform_2 9 rfl rfl)
theorem dX7_perform_55 : decode cX7_perform 55 = .ok (.imul, 1) := dk_104 (dk_at dksX7_perform_2 10 rfl rfl)
theorem dX7_perform_56 : decode cX7_perform 56 = .ok (.iload_n 2, 1) := dk_28 (dk_at dksX7_perform_2 11 rfl rfl)
theorem dX7_perform_57 : decode cX7_perform 57 = .ok (.iadd, 1) := dk_96 (dk_at dksX7_perform_2 12 rfl rfl)
theorem dX7_perform_58 : decode cX7_perform 58 = .ok (.laload, 1) := dk_47 (dk_at dksX7_perform_2 13 rfl rfl)
theorem dX7_perform_59 : decode cX7_perform 59 = .ok (.ldc2_w 375, 3) := dk_20 1 119 (dk_at dksX7_perform_2 14 rfl rfl)
theorem dX7_perform_62 : decode cX7_perform 62 = .ok (.lcmp, 1) := dk_148 (dk_at dksX7_perform_2 17 rfl rfl)
theorem dX7_perform_63 : decode cX7_perform 63 = .ok (.ifCond .eq 7, 3) := dk_153 0 7 (dk_at dksX7_perform_2 18 rfl rfl)
theorem dX7_perform_66 : decode cX7_perform 66 = .ok (.aload_n 0, 1) := dk_42 (dk_at dksX7_perform_2 21 rfl rfl)
theorem dX7_perform_67 : decode cX7_perform 67 = .ok (.invokevirtual 362, 3) := dk_182 1 106 (dk_at dksX7_perform_3 0 rfl rfl)
theorem dX7_perform_70 : decode cX7_perform 70 = .ok (.aload_n 0, 1) := dk_42 (dk_at dksX7_perform_3 3 rfl rfl)
theorem dX7_perform_71 : decode cX7_perform 71 = .ok (.aload_n 0, 1) := dk_42 (dk_at dksX7_perform_3 4 rfl rfl)
theorem dX7_perform_72 : decode cX7_perform 72 = .ok (.getfield 74, 3) := dk_180 0 74 (dk_at dksX7_perform_3 5 rfl rfl)
theorem dX7_perform_75 : decode cX7_perform 75 = .ok (.bipush 30, 2) := dk_16 30 (dk_at dksX7_perform_3 8 rfl rfl)
theorem dX7_perform_77 : decode cX7_perform 77 = .ok (.iload_n 1, 1) := dk_27 (dk_at dksX7_perform_3 10 rfl rfl)
theorem dX7_perform_78 : decode cX7_perform 78 = .ok (.imul, 1) := dk_104 (dk_at dksX7_perform_3 11 rfl rfl)
theorem dX7_perform_79 : decode cX7_perform 79 = .ok (.iload_n 2, 1) := dk_28 (dk_at dksX7_perform_3 12 rfl rfl)
theorem dX7_perform_80 : decode cX7_perform 80 = .ok (.iadd, 1) := dk_96 (dk_at dksX7_perform_3 13 rfl rfl)
theorem dX7_perform_81 : decode cX7_perform 81 = .ok (.laload, 1) := dk_47 (dk_at dksX7_perform_3 14 rfl rfl)
theorem dX7_perform_82 : decode cX7_perform 82 = .ok (.l2i, 1) := dk_136 (dk_at dksX7_perform_3 15 rfl rfl)
theorem dX7_perform_83 : decode cX7_perform 83 = .ok (.invokevirtual 398, 3) := dk_182 1 142 (dk_at dksX7_perform_3 16 rfl rfl)
theorem dX7_perform_86 : decode cX7_perform 86 = .ok (.iinc 2 1, 3) := dk_132 2 1 (dk_at dksX7_perform_3 19 rfl rfl)
theorem dX7_perform_89 : decode cX7_perform 89 = .ok (.goto (-69), 3) := dk_167 255 187 (dk_at dksX7_perform_4 0 rfl rfl)
theorem dX7_perform_92 : decode cX7_perform 92 = .ok (.iload_n 2, 1) := dk_28 (dk_at dksX7_perform_4 3 rfl rfl)
theorem dX7_perform_93 : decode cX7_perform 93 = .ok (.ireturn, 1) := dk_172 (dk_at dksX7_perform_4 4 rfl rfl)
abbrev cX7_evening : ByteArray := prog_43_method_90_code
def yX7_evening : MethodName := ⟨RX7, "evening", "(II)I"⟩
def dkwX7_evening_3 : List UInt8 := [182, 1, 142, 132, 3, 1, 132, 4, 1, 167, 255, 210, 29, 172]
abbrev dktX7_evening_3 : List UInt8 := dkwX7_evening_3 ++ []
def dkwX7_evening_2 : List UInt8 := [54, 5, 42, 21, 5, 133, 182, 1, 139, 153, 0, 6, 167, 0, 16, 42, 182, 1, 106, 42, 21, 5]
abbrev dktX7_evening_2 : List UInt8 := dkwX7_evening_2 ++ dktX7_evening_3
def dkwX7_evening_1 : List UInt8 := [27, 181, 1, 149, 3, 62, 3, 54, 4, 21, 4, 28, 162, 0, 46, 42, 42, 7, 182, 1, 154, 182, 1, 157]
abbrev dktX7_evening_1 : List UInt8 := dkwX7_evening_1 ++ dktX7_evening_2
def dkwX7_evening_0 : List UInt8 := [42, 3, 181, 0, 77, 28, 133, 10, 20, 1, 152, 184, 0, 138, 154, 0, 9, 42, 4, 182, 0, 244, 172, 42]
abbrev dktX7_evening_0 : List UInt8 := dkwX7_evening_0 ++ dktX7_evening_1
theorem dksX7_evening_0 : cX7_evening.data.toList.drop 0 = dktX7_evening_0 := by decide +kernel
theorem dksX7_evening_1 : cX7_evening.data.toList.drop 24 = dktX7_evening_1 := dk_seg dksX7_evening_0 24 rfl rfl
theorem dksX7_evening_2 : cX7_evening.data.toList.drop 48 = dktX7_evening_2 := dk_seg dksX7_evening_1 24 rfl rfl
theorem dksX7_evening_3 : cX7_evening.data.toList.drop 70 = dktX7_evening_3 := dk_seg dksX7_evening_2 22 rfl rfl
theorem dX7_evening_0 : decode cX7_evening 0 = .ok (.aload_n 0, 1) := dk_42 (dk_at dksX7_evening_0 0 rfl rfl)
theorem dX7_evening_1 : decode cX7_evening 1 = .ok (.iconst 0, 1) := dk_3 (dk_at dksX7_evening_0 1 rfl rfl)
theorem dX7_evening_2 : decode cX7_evening 2 = .ok (.putfield 77, 3) := dk_181 0 77 (dk_at dksX7_evening_0 2 rfl rfl)
theorem dX7_evening_5 : decode cX7_evening 5 = .ok (.iload_n 2, 1) := dk_28 (dk_at dksX7_evening_0 5 rfl rfl)
theorem dX7_evening_6 : decode cX7_evening 6 = .ok (.i2l, 1) := dk_133 (dk_at dksX7_evening_0 6 rfl rfl)
theorem dX7_evening_7 : decode cX7_evening 7 = .ok (.lconst 1, 1) := dk_10 (dk_at dksX7_evening_0 7 rfl rfl)
theorem dX7_evening_8 : decode cX7_evening 8 = .ok (.ldc2_w 408, 3) := dk_20 1 152 (dk_at dksX7_evening_0 8 rfl rfl)
theorem dX7_evening_11 : decode cX7_evening 11 = .ok (.invokestatic 138, 3) := dk_184 0 138 (dk_at dksX7_evening_0 11 rfl rfl)
theorem dX7_evening_14 : decode cX7_evening 14 = .ok (.ifCond .ne 9, 3) := dk_154 0 9 (dk_at dksX7_evening_0 14 rfl rfl)
theorem dX7_evening_17 : decode cX7_evening 17 = .ok (.aload_n 0, 1) := dk_42 (dk_at dksX7_evening_0 17 rfl rfl)
theorem dX7_evening_18 : decode cX7_evening 18 = .ok (.iconst 1, 1) := dk_4 (dk_at dksX7_evening_0 18 rfl rfl)
theorem dX7_evening_19 : decode cX7_evening 19 = .ok (.invokevirtual 244, 3) := dk_182 0 244 (dk_at dksX7_evening_0 19 rfl rfl)
theorem dX7_evening_22 : decode cX7_evening 22 = .ok (.ireturn, 1) := dk_172 (dk_at dksX7_evening_0 22 rfl rfl)
theorem dX7_evening_23 : decode cX7_evening 23 = .ok (.aload_n 0, 1) := dk_42 (dk_at dksX7_evening_0 23 rfl rfl)
theorem dX7_evening_24 : decode cX7_evening 24 = .ok (.iload_n 1, 1) := dk_27 (dk_at dksX7_evening_1 0 rfl rfl)
theorem dX7_evening_25 : decode cX7_evening 25 = .ok (.putfield 405, 3) := dk_181 1 149 (dk_at dksX7_evening_1 1 rfl rfl)
theorem dX7_evening_28 : decode cX7_evening 28 = .ok (.iconst 0, 1) := dk_3 (dk_at dksX7_evening_1 4 rfl rfl)
theorem dX7_evening_29 : decode cX7_evening 29 = .ok (.istore_n 3, 1) := dk_62 (dk_at dksX7_evening_1 5 rfl rfl)
theorem dX7_evening_30 : decode cX7_evening 30 = .ok (.iconst 0, 1) := dk_3 (dk_at dksX7_evening_1 6 rfl rfl)
theorem dX7_evening_31 : decode cX7_evening 31 = .ok (.istore 4, 2) := dk_54 4 (dk_at dksX7_evening_1 7 rfl rfl)
theorem dX7_evening_33 : decode cX7_evening 33 = .ok (.iload 4, 2) := dk_21 4 (dk_at dksX7_evening_1 9 rfl rfl)
theorem dX7_evening_35 : decode cX7_evening 35 = .ok (.iload_n 2, 1) := dk_28 (dk_at dksX7_evening_1 11 rfl rfl)
theorem dX7_evening_36 : decode cX7_evening 36 = .ok (.if_icmp .ge 46, 3) := dk_162 0 46 (dk_at dksX7_evening_1 12 rfl rfl)
theorem dX7_evening_39 : decode cX7_evening 39 = .ok (.aload_n 0, 1) := dk_42 (dk_at dksX7_evening_1 15 rfl rfl)
theorem dX7_evening_40 : decode cX7_evening 40 = .ok (.aload_n 0, 1) := dk_42 (dk_at dksX7_evening_1 16 rfl rfl)
theorem dX7_evening_41 : decode cX7_evening 41 = .ok (.iconst 4, 1) := dk_7 (dk_at dksX7_evening_1 17 rfl rfl)
theorem dX7_evening_42 : decode cX7_evening 42 = .ok (.invokevirtual 410, 3) := dk_182 1 154 (dk_at dksX7_evening_1 18 rfl rfl)
theorem dX7_evening_45 : decode cX7_evening 45 = .ok (.invokevirtual 413, 3) := dk_182 1 157 (dk_at dksX7_evening_1 21 rfl rfl)
theorem dX7_evening_48 : decode cX7_evening 48 = .ok (.istore 5, 2) := dk_54 5 (dk_at dksX7_evening_2 0 rfl rfl)
theorem dX7_evening_50 : decode cX7_evening 50 = .ok (.aload_n 0, 1) := dk_42 (dk_at dksX7_evening_2 2 rfl rfl)
theorem dX7_evening_51 : decode cX7_evening 51 = .ok (.iload 5, 2) := dk_21 5 (dk_at dksX7_evening_2 3 rfl rfl)
theorem dX7_evening_53 : decode cX7_evening 53 = .ok (.i2l, 1) := dk_133 (dk_at dksX7_evening_2 5 rfl rfl)
theorem dX7_evening_54 : decode cX7_evening 54 = .ok (.invokevirtual 395, 3) := dk_182 1 139 (dk_at dksX7_evening_2 6 rfl rfl)
theorem dX7_evening_57 : decode cX7_evening 57 = .ok (.ifCond .eq 6, 3) := dk_153 0 6 (dk_at dksX7_evening_2 9 rfl rfl)
theorem dX7_evening_60 : decode cX7_evening 60 = .ok (.goto 16, 3) := dk_167 0 16 (dk_at dksX7_evening_2 12 rfl rfl)
theorem dX7_evening_63 : decode cX7_evening 63 = .ok (.aload_n 0, 1) := dk_42 (dk_at dksX7_evening_2 15 rfl rfl)
theorem dX7_evening_64 : decode cX7_evening 64 = .ok (.invokevirtual 362, 3) := dk_182 1 106 (dk_at dksX7_evening_2 16 rfl rfl)
theorem dX7_evening_67 : decode cX7_evening 67 = .ok (.aload_n 0, 1) := dk_42 (dk_at dksX7_evening_2 19 rfl rfl)
theorem dX7_evening_68 : decode cX7_evening 68 = .ok (.iload 5, 2) := dk_21 5 (dk_at dksX7_evening_2 20 rfl rfl)
theorem dX7_evening_70 : decode cX7_evening 70 = .ok (.invokevirtual 398, 3) := dk_182 1 142 (dk_at dksX7_evening_3 0 rfl rfl)
theorem dX7_evening_73 : decode cX7_evening 73 = .ok (.iinc 3 1, 3) := dk_132 3 1 (dk_at dksX7_evening_3 3 rfl rfl)
theorem dX7_evening_76 : decode cX7_evening 76 = .ok (.iinc 4 1, 3) := dk_132 4 1 (dk_at dksX7_evening_3 6 rfl rfl)
theorem dX7_evening_79 : decode cX7_evening 79 = .ok (.goto (-46), 3) := dk_167 255 210 (dk_at dksX7_evening_3 9 rfl rfl)
theorem dX7_evening_82 : decode cX7_evening 82 = .ok (.iload_n 3, 1) := dk_29 (dk_at dksX7_evening_3 12 rfl rfl)
theorem dX7_evening_83 : decode cX7_evening 83 = .ok (.ireturn, 1) := dk_172 (dk_at dksX7_evening_3 13 rfl rfl)
abbrev cX7_draw : ByteArray := prog_43_method_89_code
def yX7_draw : MethodName := ⟨RX7, "draw", "(I)I"⟩
def dkwX7_draw_1 : List UInt8 := [112, 172]
abbrev dktX7_draw_1 : List UInt8 := dkwX7_draw_1 ++ []
def dkwX7_draw_0 : List UInt8 := [42, 19, 1, 148, 42, 180, 1, 149, 104, 17, 48, 57, 96, 181, 1, 149, 42, 180, 1, 149, 16, 16, 124, 27]
abbrev dktX7_draw_0 : List UInt8 := dkwX7_draw_0 ++ dktX7_draw_1
theorem dksX7_draw_0 : cX7_draw.data.toList.drop 0 = dktX7_draw_0 := by decide +kernel
theorem dksX7_draw_1 : cX7_draw.data.toList.drop 24 = dktX7_draw_1 := dk_seg dksX7_draw_0 24 rfl rfl
theorem dX7_draw_0 : decode cX7_draw 0 = .ok (.aload_n 0, 1) := dk_42 (dk_at dksX7_draw_0 0 rfl rfl)
theorem dX7_draw_1 : decode cX7_draw 1 = .ok (.ldc_w 404, 3) := dk_19 1 148 (dk_at dksX7_draw_0 1 rfl rfl)
theorem dX7_draw_4 : decode cX7_draw 4 = .ok (.aload_n 0, 1) := dk_42 (dk_at dksX7_draw_0 4 rfl rfl)
theorem dX7_draw_5 : decode cX7_draw 5 = .ok (.getfield 405, 3) := dk_180 1 149 (dk_at dksX7_draw_0 5 rfl rfl)
theorem dX7_draw_8 : decode cX7_draw 8 = .ok (.imul, 1) := dk_104 (dk_at dksX7_draw_0 8 rfl rfl)
theorem dX7_draw_9 : decode cX7_draw 9 = .ok (.sipush 12345, 3) := dk_17 48 57 (dk_at dksX7_draw_0 9 rfl rfl)
theorem dX7_draw_12 : decode cX7_draw 12 = .ok (.iadd, 1) := dk_96 (dk_at dksX7_draw_0 12 rfl rfl)
theorem dX7_draw_13 : decode cX7_draw 13 = .ok (.putfield 405, 3) := dk_181 1 149 (dk_at dksX7_draw_0 13 rfl rfl)
theorem dX7_draw_16 : decode cX7_draw 16 = .ok (.aload_n 0, 1) := dk_42 (dk_at dksX7_draw_0 16 rfl rfl)
theorem dX7_draw_17 : decode cX7_draw 17 = .ok (.getfield 405, 3) := dk_180 1 149 (dk_at dksX7_draw_0 17 rfl rfl)
theorem dX7_draw_20 : decode cX7_draw 20 = .ok (.bipush 16, 2) := dk_16 16 (dk_at dksX7_draw_0 20 rfl rfl)
theorem dX7_draw_22 : decode cX7_draw 22 = .ok (.iushr, 1) := dk_124 (dk_at dksX7_draw_0 22 rfl rfl)
theorem dX7_draw_23 : decode cX7_draw 23 = .ok (.iload_n 1, 1) := dk_27 (dk_at dksX7_draw_0 23 rfl rfl)
theorem dX7_draw_24 : decode cX7_draw 24 = .ok (.irem, 1) := dk_112 (dk_at dksX7_draw_1 0 rfl rfl)
theorem dX7_draw_25 : decode cX7_draw 25 = .ok (.ireturn, 1) := dk_172 (dk_at dksX7_draw_1 1 rfl rfl)
abbrev cX7_drawn : ByteArray := prog_43_method_91_code
def yX7_drawn : MethodName := ⟨RX7, "drawn", "(I)I"⟩
def dkwX7_drawn_2 : List UInt8 := [16, 10, 4, 28, 96, 104, 42, 7, 182, 1, 154, 96, 172]
abbrev dktX7_drawn_2 : List UInt8 := dkwX7_drawn_2 ++ []
def dkwX7_drawn_1 : List UInt8 := [27, 6, 160, 0, 21, 17, 3, 232, 16, 100, 28, 104, 96, 42, 16, 100, 182, 1, 154, 96, 167, 0, 15]
abbrev dktX7_drawn_1 : List UInt8 := dkwX7_drawn_1 ++ dktX7_drawn_2
def dkwX7_drawn_0 : List UInt8 := [27, 5, 160, 0, 6, 16, 100, 172, 42, 27, 6, 160, 0, 8, 16, 6, 167, 0, 4, 8, 182, 1, 154, 61]
abbrev dktX7_drawn_0 : List UInt8 := dkwX7_drawn_0 ++ dktX7_drawn_1
theorem dksX7_drawn_0 : cX7_drawn.data.toList.drop 0 = dktX7_drawn_0 := by decide +kernel
theorem dksX7_drawn_1 : cX7_drawn.data.toList.drop 24 = dktX7_drawn_1 := dk_seg dksX7_drawn_0 24 rfl rfl
theorem dksX7_drawn_2 : cX7_drawn.data.toList.drop 47 = dktX7_drawn_2 := dk_seg dksX7_drawn_1 23 rfl rfl
theorem dX7_drawn_0 : decode cX7_drawn 0 = .ok (.iload_n 1, 1) := dk_27 (dk_at dksX7_drawn_0 0 rfl rfl)
theorem dX7_drawn_1 : decode cX7_drawn 1 = .ok (.iconst 2, 1) := dk_5 (dk_at dksX7_drawn_0 1 rfl rfl)
theorem dX7_drawn_2 : decode cX7_drawn 2 = .ok (.if_icmp .ne 6, 3) := dk_160 0 6 (dk_at dksX7_drawn_0 2 rfl rfl)
theorem dX7_drawn_5 : decode cX7_drawn 5 = .ok (.bipush 100, 2) := dk_16 100 (dk_at dksX7_drawn_0 5 rfl rfl)
theorem dX7_drawn_7 : decode cX7_drawn 7 = .ok (.ireturn, 1) := dk_172 (dk_at dksX7_drawn_0 7 rfl rfl)
theorem dX7_drawn_8 : decode cX7_drawn 8 = .ok (.aload_n 0, 1) := dk_42 (dk_at dksX7_drawn_0 8 rfl rfl)
theorem dX7_drawn_9 : decode cX7_drawn 9 = .ok (.iload_n 1, 1) := dk_27 (dk_at dksX7_drawn_0 9 rfl rfl)
theorem dX7_drawn_10 : decode cX7_drawn 10 = .ok (.iconst 3, 1) := dk_6 (dk_at dksX7_drawn_0 10 rfl rfl)
theorem dX7_drawn_11 : decode cX7_drawn 11 = .ok (.if_icmp .ne 8, 3) := dk_160 0 8 (dk_at dksX7_drawn_0 11 rfl rfl)
theorem dX7_drawn_14 : decode cX7_drawn 14 = .ok (.bipush 6, 2) := dk_16 6 (dk_at dksX7_drawn_0 14 rfl rfl)
theorem dX7_drawn_16 : decode cX7_drawn 16 = .ok (.goto 4, 3) := dk_167 0 4 (dk_at dksX7_drawn_0 16 rfl rfl)
theorem dX7_drawn_19 : decode cX7_drawn 19 = .ok (.iconst 5, 1) := dk_8 (dk_at dksX7_drawn_0 19 rfl rfl)
theorem dX7_drawn_20 : decode cX7_drawn 20 = .ok (.invokevirtual 410, 3) := dk_182 1 154 (dk_at dksX7_drawn_0 20 rfl rfl)
theorem dX7_drawn_23 : decode cX7_drawn 23 = .ok (.istore_n 2, 1) := dk_61 (dk_at dksX7_drawn_0 23 rfl rfl)
theorem dX7_drawn_24 : decode cX7_drawn 24 = .ok (.iload_n 1, 1) := dk_27 (dk_at dksX7_drawn_1 0 rfl rfl)
theorem dX7_drawn_25 : decode cX7_drawn 25 = .ok (.iconst 3, 1) := dk_6 (dk_at dksX7_drawn_1 1 rfl rfl)
theorem dX7_drawn_26 : decode cX7_drawn 26 = .ok (.if_icmp .ne 21, 3) := dk_160 0 21 (dk_at dksX7_drawn_1 2 rfl rfl)
theorem dX7_drawn_29 : decode cX7_drawn 29 = .ok (.sipush 1000, 3) := dk_17 3 232 (dk_at dksX7_drawn_1 5 rfl rfl)
theorem dX7_drawn_32 : decode cX7_drawn 32 = .ok (.bipush 100, 2) := dk_16 100 (dk_at dksX7_drawn_1 8 rfl rfl)
theorem dX7_drawn_34 : decode cX7_drawn 34 = .ok (.iload_n 2, 1) := dk_28 (dk_at dksX7_drawn_1 10 rfl rfl)
theorem dX7_drawn_35 : decode cX7_drawn 35 = .ok (.imul, 1) := dk_104 (dk_at dksX7_drawn_1 11 rfl rfl)
theorem dX7_drawn_36 : decode cX7_drawn 36 = .ok (.iadd, 1) := dk_96 (dk_at dksX7_drawn_1 12 rfl rfl)
theorem dX7_drawn_37 : decode cX7_drawn 37 = .ok (.aload_n 0, 1) := dk_42 (dk_at dksX7_drawn_1 13 rfl rfl)
theorem dX7_drawn_38 : decode cX7_drawn 38 = .ok (.bipush 100, 2) := dk_16 100 (dk_at dksX7_drawn_1 14 rfl rfl)
theorem dX7_drawn_40 : decode cX7_drawn 40 = .ok (.invokevirtual 410, 3) := dk_182 1 154 (dk_at dksX7_drawn_1 16 rfl rfl)
theorem dX7_drawn_43 : decode cX7_drawn 43 = .ok (.iadd, 1) := dk_96 (dk_at dksX7_drawn_1 19 rfl rfl)
theorem dX7_drawn_44 : decode cX7_drawn 44 = .ok (.goto 15, 3) := dk_167 0 15 (dk_at dksX7_drawn_1 20 rfl rfl)
theorem dX7_drawn_47 : decode cX7_drawn 47 = .ok (.bipush 10, 2) := dk_16 10 (dk_at dksX7_drawn_2 0 rfl rfl)
theorem dX7_drawn_49 : decode cX7_drawn 49 = .ok (.iconst 1, 1) := dk_4 (dk_at dksX7_drawn_2 2 rfl rfl)
theorem dX7_drawn_50 : decode cX7_drawn 50 = .ok (.iload_n 2, 1) := dk_28 (dk_at dksX7_drawn_2 3 rfl rfl)
theorem dX7_drawn_51 : decode cX7_drawn 51 = .ok (.iadd, 1) := dk_96 (dk_at dksX7_drawn_2 4 rfl rfl)
theorem dX7_drawn_52 : decode cX7_drawn 52 = .ok (.imul, 1) := dk_104 (dk_at dksX7_drawn_2 5 rfl rfl)
theorem dX7_drawn_53 : decode cX7_drawn 53 = .ok (.aload_n 0, 1) := dk_42 (dk_at dksX7_drawn_2 6 rfl rfl)
theorem dX7_drawn_54 : decode cX7_drawn 54 = .ok (.iconst 4, 1) := dk_7 (dk_at dksX7_drawn_2 7 rfl rfl)
theorem dX7_drawn_55 : decode cX7_drawn 55 = .ok (.invokevirtual 410, 3) := dk_182 1 154 (dk_at dksX7_drawn_2 8 rfl rfl)
theorem dX7_drawn_58 : decode cX7_drawn 58 = .ok (.iadd, 1) := dk_96 (dk_at dksX7_drawn_2 11 rfl rfl)
theorem dX7_drawn_59 : decode cX7_drawn 59 = .ok (.ireturn, 1) := dk_172 (dk_at dksX7_drawn_2 12 rfl rfl)
abbrev cX7_rows : ByteArray := prog_43_method_108_code
def yX7_rows : MethodName := ⟨RX7, "rows", "(I)I"⟩
def dkwX7_rows_2 : List UInt8 := [180, 1, 196, 172]
abbrev dktX7_rows_2 : List UInt8 := dkwX7_rows_2 ++ []
def dkwX7_rows_1 : List UInt8 := [3, 181, 1, 196, 42, 42, 182, 1, 87, 181, 1, 163, 42, 42, 180, 1, 163, 27, 182, 1, 166, 87, 42]
abbrev dktX7_rows_1 : List UInt8 := dkwX7_rows_1 ++ dktX7_rows_2
def dkwX7_rows_0 : List UInt8 := [42, 3, 181, 0, 77, 27, 184, 1, 243, 154, 0, 9, 42, 4, 182, 0, 244, 172, 42, 3, 181, 1, 187, 42]
abbrev dktX7_rows_0 : List UInt8 := dkwX7_rows_0 ++ dktX7_rows_1
theorem dksX7_rows_0 : cX7_rows.data.toList.drop 0 = dktX7_rows_0 := by decide +kernel
theorem dksX7_rows_1 : cX7_rows.data.toList.drop 24 = dktX7_rows_1 := dk_seg dksX7_rows_0 24 rfl rfl
theorem dksX7_rows_2 : cX7_rows.data.toList.drop 47 = dktX7_rows_2 := dk_seg dksX7_rows_1 23 rfl rfl
theorem dX7_rows_0 : decode cX7_rows 0 = .ok (.aload_n 0, 1) := dk_42 (dk_at dksX7_rows_0 0 rfl rfl)
theorem dX7_rows_1 : decode cX7_rows 1 = .ok (.iconst 0, 1) := dk_3 (dk_at dksX7_rows_0 1 rfl rfl)
theorem dX7_rows_2 : decode cX7_rows 2 = .ok (.putfield 77, 3) := dk_181 0 77 (dk_at dksX7_rows_0 2 rfl rfl)
theorem dX7_rows_5 : decode cX7_rows 5 = .ok (.iload_n 1, 1) := dk_27 (dk_at dksX7_rows_0 5 rfl rfl)
theorem dX7_rows_6 : decode cX7_rows 6 = .ok (.invokestatic 499, 3) := dk_184 1 243 (dk_at dksX7_rows_0 6 rfl rfl)
theorem dX7_rows_9 : decode cX7_rows 9 = .ok (.ifCond .ne 9, 3) := dk_154 0 9 (dk_at dksX7_rows_0 9 rfl rfl)
theorem dX7_rows_12 : decode cX7_rows 12 = .ok (.aload_n 0, 1) := dk_42 (dk_at dksX7_rows_0 12 rfl rfl)
theorem dX7_rows_13 : decode cX7_rows 13 = .ok (.iconst 1, 1) := dk_4 (dk_at dksX7_rows_0 13 rfl rfl)
theorem dX7_rows_14 : decode cX7_rows 14 = .ok (.invokevirtual 244, 3) := dk_182 0 244 (dk_at dksX7_rows_0 14 rfl rfl)
theorem dX7_rows_17 : decode cX7_rows 17 = .ok (.ireturn, 1) := dk_172 (dk_at dksX7_rows_0 17 rfl rfl)
theorem dX7_rows_18 : decode cX7_rows 18 = .ok (.aload_n 0, 1) := dk_42 (dk_at dksX7_rows_0 18 rfl rfl)
theorem dX7_rows_19 : decode cX7_rows 19 = .ok (.iconst 0, 1) := dk_3 (dk_at dksX7_rows_0 19 rfl rfl)
theorem dX7_rows_20 : decode cX7_rows 20 = .ok (.putfield 443, 3) := dk_181 1 187 (dk_at dksX7_rows_0 20 rfl rfl)
theorem dX7_rows_23 : decode cX7_rows 23 = .ok (.aload_n 0, 1) := dk_42 (dk_at dksX7_rows_0 23 rfl rfl)
theorem dX7_rows_24 : decode cX7_rows 24 = .ok (.iconst 0, 1) := dk_3 (dk_at dksX7_rows_1 0 rfl rfl)
theorem dX7_rows_25 : decode cX7_rows 25 = .ok (.putfield 452, 3) := dk_181 1 196 (dk_at dksX7_rows_1 1 rfl rfl)
theorem dX7_rows_28 : decode cX7_rows 28 = .ok (.aload_n 0, 1) := dk_42 (dk_at dksX7_rows_1 4 rfl rfl)
theorem dX7_rows_29 : decode cX7_rows 29 = .ok (.aload_n 0, 1) := dk_42 (dk_at dksX7_rows_1 5 rfl rfl)
theorem dX7_rows_30 : decode cX7_rows 30 = .ok (.invokevirtual 343, 3) := dk_182 1 87 (dk_at dksX7_rows_1 6 rfl rfl)
theorem dX7_rows_33 : decode cX7_rows 33 = .ok (.putfield 419, 3) := dk_181 1 163 (dk_at dksX7_rows_1 9 rfl rfl)
theorem dX7_rows_36 : decode cX7_rows 36 = .ok (.aload_n 0, 1) := dk_42 (dk_at dksX7_rows_1 12 rfl rfl)
theorem dX7_rows_37 : decode cX7_rows 37 = .ok (.aload_n 0, 1) := dk_42 (dk_at dksX7_rows_1 13 rfl rfl)
theorem dX7_rows_38 : decode cX7_rows 38 = .ok (.getfield 419, 3) := dk_180 1 163 (dk_at dksX7_rows_1 14 rfl rfl)
theorem dX7_rows_41 : decode cX7_rows 41 = .ok (.iload_n 1, 1) := dk_27 (dk_at dksX7_rows_1 17 rfl rfl)
theorem dX7_rows_42 : decode cX7_rows 42 = .ok (.invokevirtual 422, 3) := dk_182 1 166 (dk_at dksX7_rows_1 18 rfl rfl)
theorem dX7_rows_45 : decode cX7_rows 45 = .ok (.pop, 1) := dk_87 (dk_at dksX7_rows_1 21 rfl rfl)
theorem dX7_rows_46 : decode cX7_rows 46 = .ok (.aload_n 0, 1) := dk_42 (dk_at dksX7_rows_1 22 rfl rfl)
theorem dX7_rows_47 : decode cX7_rows 47 = .ok (.getfield 452, 3) := dk_180 1 196 (dk_at dksX7_rows_2 0 rfl rfl)
theorem dX7_rows_50 : decode cX7_rows 50 = .ok (.ireturn, 1) := dk_172 (dk_at dksX7_rows_2 3 rfl rfl)
abbrev cX7_isMore : ByteArray := prog_43_method_107_code
def yX7_isMore : MethodName := ⟨RX7, "isMore", "(I)Z"⟩
def dkwX7_isMore_0 : List UInt8 := [26, 133, 9, 20, 1, 241, 184, 0, 138, 172]
abbrev dktX7_isMore_0 : List UInt8 := dkwX7_isMore_0 ++ []
theorem dksX7_isMore_0 : cX7_isMore.data.toList.drop 0 = dktX7_isMore_0 := by decide +kernel
theorem dX7_isMore_0 : decode cX7_isMore 0 = .ok (.iload_n 0, 1) := dk_26 (dk_at dksX7_isMore_0 0 rfl rfl)
theorem dX7_isMore_1 : decode cX7_isMore 1 = .ok (.i2l, 1) := dk_133 (dk_at dksX7_isMore_0 1 rfl rfl)
theorem dX7_isMore_2 : decode cX7_isMore 2 = .ok (.lconst 0, 1) := dk_9 (dk_at dksX7_isMore_0 2 rfl rfl)
theorem dX7_isMore_3 : decode cX7_isMore 3 = .ok (.ldc2_w 497, 3) := dk_20 1 241 (dk_at dksX7_isMore_0 3 rfl rfl)
theorem dX7_isMore_6 : decode cX7_isMore 6 = .ok (.invokestatic 138, 3) := dk_184 0 138 (dk_at dksX7_isMore_0 6 rfl rfl)
theorem dX7_isMore_9 : decode cX7_isMore 9 = .ok (.ireturn, 1) := dk_172 (dk_at dksX7_isMore_0 9 rfl rfl)
abbrev cX7_goes : ByteArray := prog_43_method_92_code
def yX7_goes : MethodName := ⟨RX7, "goes", "(II)Z"⟩
def dkwX7_goes_3 : List UInt8 := [132, 4, 1, 167, 255, 206, 132, 3, 1, 167, 255, 188, 3, 172]
abbrev dktX7_goes_3 : List UInt8 := dkwX7_goes_3 ++ []
def dkwX7_goes_2 : List UInt8 := [42, 27, 29, 21, 4, 182, 1, 24, 42, 27, 4, 96, 28, 4, 100, 182, 1, 166, 153, 0, 5, 4, 172]
abbrev dktX7_goes_2 : List UInt8 := dkwX7_goes_2 ++ dktX7_goes_3
def dkwX7_goes_1 : List UInt8 := [21, 4, 7, 162, 0, 50, 42, 180, 0, 45, 27, 42, 180, 1, 163, 100, 16, 10, 29, 104, 21, 4, 96, 79]
abbrev dktX7_goes_1 : List UInt8 := dkwX7_goes_1 ++ dktX7_goes_2
def dkwX7_goes_0 : List UInt8 := [28, 154, 0, 9, 42, 27, 182, 1, 160, 172, 4, 62, 29, 42, 27, 182, 1, 0, 162, 0, 65, 3, 54, 4]
abbrev dktX7_goes_0 : List UInt8 := dkwX7_goes_0 ++ dktX7_goes_1
theorem dksX7_goes_0 : cX7_goes.data.toList.drop 0 = dktX7_goes_0 := by decide +kernel
theorem dksX7_goes_1 : cX7_goes.data.toList.drop 24 = dktX7_goes_1 := dk_seg dksX7_goes_0 24 rfl rfl
theorem dksX7_goes_2 : cX7_goes.data.toList.drop 48 = dktX7_goes_2 := dk_seg dksX7_goes_1 24 rfl rfl
theorem dksX7_goes_3 : cX7_goes.data.toList.drop 71 = dktX7_goes_3 := dk_seg dksX7_goes_2 23 rfl rfl
theorem dX7_goes_0 : decode cX7_goes 0 = .ok (.iload_n 2, 1) := dk_28 (dk_at dksX7_goes_0 0 rfl rfl)
theorem dX7_goes_1 : decode cX7_goes 1 = .ok (.ifCond .ne 9, 3) := dk_154 0 9 (dk_at dksX7_goes_0 1 rfl rfl)
theorem dX7_goes_4 : decode cX7_goes 4 = .ok (.aload_n 0, 1) := dk_42 (dk_at dksX7_goes_0 4 rfl rfl)
theorem dX7_goes_5 : decode cX7_goes 5 = .ok (.iload_n 1, 1) := dk_27 (dk_at dksX7_goes_0 5 rfl rfl)
theorem dX7_goes_6 : decode cX7_goes 6 = .ok (.invokevirtual 416, 3) := dk_182 1 160 (dk_at dksX7_goes_0 6 rfl rfl)
theorem dX7_goes_9 : decode cX7_goes 9 = .ok (.ireturn, 1) := dk_172 (dk_at dksX7_goes_0 9 rfl rfl)
theorem dX7_goes_10 : decode cX7_goes 10 = .ok (.iconst 1, 1) := dk_4 (dk_at dksX7_goes_0 10 rfl rfl)
theorem dX7_goes_11 : decode cX7_goes 11 = .ok (.istore_n 3, 1) := dk_62 (dk_at dksX7_goes_0 11 rfl rfl)
theorem dX7_goes_12 : decode cX7_goes 12 = .ok (.iload_n 3, 1) := dk_29 (dk_at dksX7_goes_0 12 rfl rfl)
theorem dX7_goes_13 : decode cX7_goes 13 = .ok (.aload_n 0, 1) := dk_42 (dk_at dksX7_goes_0 13 rfl rfl)
theorem dX7_goes_14 : decode cX7_goes 14 = .ok (.iload_n 1, 1) := dk_27 (dk_at dksX7_goes_0 14 rfl rfl)
theorem dX7_goes_15 : decode cX7_goes 15 = .ok (.invokevirtual 256, 3) := dk_182 1 0 (dk_at dksX7_goes_0 15 rfl rfl)
theorem dX7_goes_18 : decode cX7_goes 18 = .ok (.if_icmp .ge 65, 3) := dk_162 0 65 (dk_at dksX7_goes_0 18 rfl rfl)
theorem dX7_goes_21 : decode cX7_goes 21 = .ok (.iconst 0, 1) := dk_3 (dk_at dksX7_goes_0 21 rfl rfl)
theorem dX7_goes_22 : decode cX7_goes 22 = .ok (.istore 4, 2) := dk_54 4 (dk_at dksX7_goes_0 22 rfl rfl)
theorem dX7_goes_24 : decode cX7_goes 24 = .ok (.iload 4, 2) := dk_21 4 (dk_at dksX7_goes_1 0 rfl rfl)
theorem dX7_goes_26 : decode cX7_goes 26 = .ok (.iconst 4, 1) := dk_7 (dk_at dksX7_goes_1 2 rfl rfl)
theorem dX7_goes_27 : decode cX7_goes 27 = .ok (.if_icmp .ge 50, 3) := dk_162 0 50 (dk_at dksX7_goes_1 3 rfl rfl)
theorem dX7_goes_30 : decode cX7_goes 30 = .ok (.aload_n 0, 1) := dk_42 (dk_at dksX7_goes_1 6 rfl rfl)
theorem dX7_goes_31 : decode cX7_goes 31 = .ok (.getfield 45, 3) := dk_180 0 45 (dk_at dksX7_goes_1 7 rfl rfl)
theorem dX7_goes_34 : decode cX7_goes 34 = .ok (.iload_n 1, 1) := dk_27 (dk_at dksX7_goes_1 10 rfl rfl)
theorem dX7_goes_35 : decode cX7_goes 35 = .ok (.aload_n 0, 1) := dk_42 (dk_at dksX7_goes_1 11 rfl rfl)
theorem dX7_goes_36 : decode cX7_goes 36 = .ok (.getfield 419, 3) := dk_180 1 163 (dk_at dksX7_goes_1 12 rfl rfl)
theorem dX7_goes_39 : decode cX7_goes 39 = .ok (.isub, 1) := dk_100 (dk_at dksX7_goes_1 15 rfl rfl)
theorem dX7_goes_40 : decode cX7_goes 40 = .ok (.bipush 10, 2) := dk_16 10 (dk_at dksX7_goes_1 16 rfl rfl)
theorem dX7_goes_42 : decode cX7_goes 42 = .ok (.iload_n 3, 1) := dk_29 (dk_at dksX7_goes_1 18 rfl rfl)
theorem dX7_goes_43 : decode cX7_goes 43 = .ok (.imul, 1) := dk_104 (dk_at dksX7_goes_1 19 rfl rfl)
theorem dX7_goes_44 : decode cX7_goes 44 = .ok (.iload 4, 2) := dk_21 4 (dk_at dksX7_goes_1 20 rfl rfl)
theorem dX7_goes_46 : decode cX7_goes 46 = .ok (.iadd, 1) := dk_96 (dk_at dksX7_goes_1 22 rfl rfl)
theorem dX7_goes_47 : decode cX7_goes 47 = .ok (.iastore, 1) := dk_79 (dk_at dksX7_goes_1 23 rfl rfl)
theorem dX7_goes_48 : decode cX7_goes 48 = .ok (.aload_n 0, 1) := dk_42 (dk_at dksX7_goes_2 0 rfl rfl)
theorem dX7_goes_49 : decode cX7_goes 49 = .ok (.iload_n 1, 1) := dk_27 (dk_at dksX7_goes_2 1 rfl rfl)
theorem dX7_goes_50 : decode cX7_goes 50 = .ok (.iload_n 3, 1) := dk_29 (dk_at dksX7_goes_2 2 rfl rfl)
theorem dX7_goes_51 : decode cX7_goes 51 = .ok (.iload 4, 2) := dk_21 4 (dk_at dksX7_goes_2 3 rfl rfl)
theorem dX7_goes_53 : decode cX7_goes 53 = .ok (.invokevirtual 280, 3) := dk_182 1 24 (dk_at dksX7_goes_2 5 rfl rfl)
theorem dX7_goes_56 : decode cX7_goes 56 = .ok (.aload_n 0, 1) := dk_42 (dk_at dksX7_goes_2 8 rfl rfl)
theorem dX7_goes_57 : decode cX7_goes 57 = .ok (.iload_n 1, 1) := dk_27 (dk_at dksX7_goes_2 9 rfl rfl)
theorem dX7_goes_58 : decode cX7_goes 58 = .ok (.iconst 1, 1) := dk_4 (dk_at dksX7_goes_2 10 rfl rfl)
theorem dX7_goes_59 : decode cX7_goes 59 = .ok (.iadd, 1) := dk_96 (dk_at dksX7_goes_2 11 rfl rfl)
theorem dX7_goes_60 : decode cX7_goes 60 = .ok (.iload_n 2, 1) := dk_28 (dk_at dksX7_goes_2 12 rfl rfl)
theorem dX7_goes_61 : decode cX7_goes 61 = .ok (.iconst 1, 1) := dk_4 (dk_at dksX7_goes_2 13 rfl rfl)
theorem dX7_goes_62 : decode cX7_goes 62 = .ok (.isub, 1) := dk_100 (dk_at dksX7_goes_2 14 rfl rfl)
theorem dX7_goes_63 : decode cX7_goes 63 = .ok (.invokevirtual 422, 3) := dk_182 1 166 (dk_at dksX7_goes_2 15 rfl rfl)
theorem dX7_goes_66 : decode cX7_goes 66 = .ok (.ifCond .eq 5, 3) := dk_153 0 5 (dk_at dksX7_goes_2 18 rfl rfl)
theorem dX7_goes_69 : decode cX7_goes 69 = .ok (.iconst 1, 1) := dk_4 (dk_at dksX7_goes_2 21 rfl rfl)
theorem dX7_goes_70 : decode cX7_goes 70 = .ok (.ireturn, 1) := dk_172 (dk_at dksX7_goes_2 22 rfl rfl)
theorem dX7_goes_71 : decode cX7_goes 71 = .ok (.iinc 4 1, 3) := dk_132 4 1 (dk_at dksX7_goes_3 0 rfl rfl)
theorem dX7_goes_74 : decode cX7_goes 74 = .ok (.goto (-50), 3) := dk_167 255 206 (dk_at dksX7_goes_3 3 rfl rfl)
theorem dX7_goes_77 : decode cX7_goes 77 = .ok (.iinc 3 1, 3) := dk_132 3 1 (dk_at dksX7_goes_3 6 rfl rfl)
theorem dX7_goes_80 : decode cX7_goes 80 = .ok (.goto (-68), 3) := dk_167 255 188 (dk_at dksX7_goes_3 9 rfl rfl)
theorem dX7_goes_83 : decode cX7_goes 83 = .ok (.iconst 0, 1) := dk_3 (dk_at dksX7_goes_3 12 rfl rfl)
theorem dX7_goes_84 : decode cX7_goes 84 = .ok (.ireturn, 1) := dk_172 (dk_at dksX7_goes_3 13 rfl rfl)
abbrev cX7_sees : ByteArray := prog_43_method_103_code
def yX7_sees : MethodName := ⟨RX7, "sees", "(I)Z"⟩
def dkwX7_sees_13 : List UInt8 := [182, 1, 234, 3, 172]
abbrev dktX7_sees_13 : List UInt8 := dkwX7_sees_13 ++ []
def dkwX7_sees_12 : List UInt8 := [182, 1, 228, 182, 1, 224, 172, 42, 27, 182, 1, 231, 61, 28, 42, 180, 1, 169, 164, 0, 9, 42, 27, 28]
abbrev dktX7_sees_12 : List UInt8 := dkwX7_sees_12 ++ dktX7_sees_13
def dkwX7_sees_11 : List UInt8 := [182, 1, 224, 172, 42, 27, 42, 27, 182, 1, 96, 182, 1, 224, 172, 42, 27, 42, 27, 42, 180, 1, 193]
abbrev dktX7_sees_11 : List UInt8 := dkwX7_sees_11 ++ dktX7_sees_12
def dkwX7_sees_10 : List UInt8 := [27, 182, 1, 218, 3, 172, 42, 27, 182, 1, 221, 172, 42, 27, 42, 27, 42, 180, 1, 193, 182, 1, 215]
abbrev dktX7_sees_10 : List UInt8 := dkwX7_sees_10 ++ dktX7_sees_11
def dkwX7_sees_9 : List UInt8 := [4, 167, 0, 4, 3, 96, 181, 1, 196, 3, 172, 42, 27, 42, 180, 1, 193, 182, 1, 215, 153, 0, 8, 42]
abbrev dktX7_sees_9 : List UInt8 := dkwX7_sees_9 ++ dktX7_sees_10
def dkwX7_sees_8 : List UInt8 := [96, 181, 1, 196, 3, 172, 42, 89, 180, 1, 196, 42, 42, 27, 182, 1, 212, 133, 182, 1, 203, 153, 0, 7]
abbrev dktX7_sees_8 : List UInt8 := dkwX7_sees_8 ++ dktX7_sees_9
def dkwX7_sees_7 : List UInt8 := [182, 1, 0, 5, 162, 0, 19, 42, 42, 27, 182, 1, 209, 182, 1, 203, 153, 0, 7, 4, 167, 0, 4, 3]
abbrev dktX7_sees_7 : List UInt8 := dkwX7_sees_7 ++ dktX7_sees_8
def dkwX7_sees_6 : List UInt8 := [182, 1, 203, 153, 0, 7, 4, 167, 0, 4, 3, 96, 181, 1, 196, 3, 172, 42, 89, 180, 1, 196, 42, 27]
abbrev dktX7_sees_6 : List UInt8 := dkwX7_sees_6 ++ dktX7_sees_7
def dkwX7_sees_5 : List UInt8 := [181, 1, 196, 3, 172, 42, 89, 180, 1, 196, 42, 27, 182, 1, 206, 153, 0, 19, 42, 42, 27, 182, 1, 199]
abbrev dktX7_sees_5 : List UInt8 := dkwX7_sees_5 ++ dktX7_sees_6
def dkwX7_sees_4 : List UInt8 := [182, 1, 96, 153, 0, 19, 42, 42, 27, 182, 1, 199, 182, 1, 203, 153, 0, 7, 4, 167, 0, 4, 3, 96]
abbrev dktX7_sees_4 : List UInt8 := dkwX7_sees_4 ++ dktX7_sees_5
def dkwX7_sees_3 : List UInt8 := [182, 1, 203, 153, 0, 7, 4, 167, 0, 4, 3, 96, 181, 1, 196, 3, 172, 42, 89, 180, 1, 196, 42, 27]
abbrev dktX7_sees_3 : List UInt8 := dkwX7_sees_3 ++ dktX7_sees_4
def dkwX7_sees_2 : List UInt8 := [42, 89, 180, 1, 196, 4, 96, 181, 1, 196, 3, 172, 42, 89, 180, 1, 196, 42, 42, 27, 182, 1, 199]
abbrev dktX7_sees_2 : List UInt8 := dkwX7_sees_2 ++ dktX7_sees_3
def dkwX7_sees_1 : List UInt8 := [170, 0, 0, 0, 0, 0, 1, 60, 0, 0, 0, 0, 0, 0, 0, 13, 0, 0, 0, 72, 0, 0, 0, 84, 0, 0, 0, 112, 0, 0, 1, 60, 0, 0, 1, 19, 0, 0, 1, 34, 0, 0, 1, 60, 0, 0, 0, 148, 0, 0, 1, 60, 0, 0, 1, 45, 0, 0, 0, 184, 0, 0, 1, 13, 0, 0, 0, 221, 0, 0, 0, 250]
abbrev dktX7_sees_1 : List UInt8 := dkwX7_sees_1 ++ dktX7_sees_2
def dkwX7_sees_0 : List UInt8 := [42, 180, 1, 187]
abbrev dktX7_sees_0 : List UInt8 := dkwX7_sees_0 ++ dktX7_sees_1
theorem dksX7_sees_0 : cX7_sees.data.toList.drop 0 = dktX7_sees_0 := by decide +kernel
theorem dksX7_sees_1 : cX7_sees.data.toList.drop 4 = dktX7_sees_1 := dk_seg dksX7_sees_0 4 rfl rfl
theorem dksX7_sees_2 : cX7_sees.data.toList.drop 76 = dktX7_sees_2 := dk_seg dksX7_sees_1 72 rfl rfl
theorem dksX7_sees_3 : cX7_sees.data.toList.drop 99 = dktX7_sees_3 := dk_seg dksX7_sees_2 23 rfl rfl
theorem dksX7_sees_4 : cX7_sees.data.toList.drop 123 = dktX7_sees_4 := dk_seg dksX7_sees_3 24 rfl rfl
theorem dksX7_sees_5 : cX7_sees.data.toList.drop 147 = dktX7_sees_5 := dk_seg dksX7_sees_4 24 rfl rfl
theorem dksX7_sees_6 : cX7_sees.data.toList.drop 171 = dktX7_sees_6 := dk_seg dksX7_sees_5 24 rfl rfl
theorem dksX7_sees_7 : cX7_sees.data.toList.drop 195 = dktX7_sees_7 := dk_seg dksX7_sees_6 24 rfl rfl
theorem dksX7_sees_8 : cX7_sees.data.toList.drop 219 = dktX7_sees_8 := dk_seg dksX7_sees_7 24 rfl rfl
theorem dksX7_sees_9 : cX7_sees.data.toList.drop 243 = dktX7_sees_9 := dk_seg dksX7_sees_8 24 rfl rfl
theorem dksX7_sees_10 : cX7_sees.data.toList.drop 267 = dktX7_sees_10 := dk_seg dksX7_sees_9 24 rfl rfl
theorem dksX7_sees_11 : cX7_sees.data.toList.drop 290 = dktX7_sees_11 := dk_seg dksX7_sees_10 23 rfl rfl
theorem dksX7_sees_12 : cX7_sees.data.toList.drop 313 = dktX7_sees_12 := dk_seg dksX7_sees_11 23 rfl rfl
theorem dksX7_sees_13 : cX7_sees.data.toList.drop 337 = dktX7_sees_13 := dk_seg dksX7_sees_12 24 rfl rfl
theorem dX7_sees_0 : decode cX7_sees 0 = .ok (.aload_n 0, 1) := dk_42 (dk_at dksX7_sees_0 0 rfl rfl)
theorem dX7_sees_1 : decode cX7_sees 1 = .ok (.getfield 443, 3) := dk_180 1 187 (dk_at dksX7_sees_0 1 rfl rfl)
theorem dX7_sees_4 : decode cX7_sees 4 = .ok (.tableswitch 316 0 13 #[72, 84, 112, 316, 275, 290, 316, 148, 316, 301, 184, 269, 221, 250], 72) := by decide +kernel
theorem dX7_sees_76 : decode cX7_sees 76 = .ok (.aload_n 0, 1) := dk_42 (dk_at dksX7_sees_2 0 rfl rfl)
theorem dX7_sees_77 : decode cX7_sees 77 = .ok (.dup, 1) := dk_89 (dk_at dksX7_sees_2 1 rfl rfl)
theorem dX7_sees_78 : decode cX7_sees 78 = .ok (.getfield 452, 3) := dk_180 1 196 (dk_at dksX7_sees_2 2 rfl rfl)
theorem dX7_sees_81 : decode cX7_sees 81 = .ok (.iconst 1, 1) := dk_4 (dk_at dksX7_sees_2 5 rfl rfl)
theorem dX7_sees_82 : decode cX7_sees 82 = .ok (.iadd, 1) := dk_96 (dk_at dksX7_sees_2 6 rfl rfl)
theorem dX7_sees_83 : decode cX7_sees 83 = .ok (.putfield 452, 3) := dk_181 1 196 (dk_at dksX7_sees_2 7 rfl rfl)
theorem dX7_sees_86 : decode cX7_sees 86 = .ok (.iconst 0, 1) := dk_3 (dk_at dksX7_sees_2 10 rfl rfl)
theorem dX7_sees_87 : decode cX7_sees 87 = .ok (.ireturn, 1) := dk_172 (dk_at dksX7_sees_2 11 rfl rfl)
theorem dX7_sees_88 : decode cX7_sees 88 = .ok (.aload_n 0, 1) := dk_42 (dk_at dksX7_sees_2 12 rfl rfl)
theorem dX7_sees_89 : decode cX7_sees 89 = .ok (.dup, 1) := dk_89 (dk_at dksX7_sees_2 13 rfl rfl)
theorem dX7_sees_90 : decode cX7_sees 90 = .ok (.getfield 452, 3) := dk_180 1 196 (dk_at dksX7_sees_2 14 rfl rfl)
theorem dX7_sees_93 : decode cX7_sees 93 = .ok (.aload_n 0, 1) := dk_42 (dk_at dksX7_sees_2 17 rfl rfl)
theorem dX7_sees_94 : decode cX7_sees 94 = .ok (.aload_n 0, 1) := dk_42 (dk_at dksX7_sees_2 18 rfl rfl)
theorem dX7_sees_95 : decode cX7_sees 95 = .ok (.iload_n 1, 1) := dk_27 (dk_at dksX7_sees_2 19 rfl rfl)
theorem dX7_sees_96 : decode cX7_sees 96 = .ok (.invokevirtual 455, 3) := dk_182 1 199 (dk_at dksX7_sees_2 20 rfl rfl)
theorem dX7_sees_99 : decode cX7_sees 99 = .ok (.invokevirtual 459, 3) := dk_182 1 203 (dk_at dksX7_sees_3 0 rfl rfl)
theorem dX7_sees_102 : decode cX7_sees 102 = .ok (.ifCond .eq 7, 3) := dk_153 0 7 (dk_at dksX7_sees_3 3 rfl rfl)
theorem dX7_sees_105 : decode cX7_sees 105 = .ok (.iconst 1, 1) := dk_4 (dk_at dksX7_sees_3 6 rfl rfl)
theorem dX7_sees_106 : decode cX7_sees 106 = .ok (.goto 4, 3) := dk_167 0 4 (dk_at dksX7_sees_3 7 rfl rfl)
theorem dX7_sees_109 : decode cX7_sees 109 = .ok (.iconst 0, 1) := dk_3 (dk_at dksX7_sees_3 10 rfl rfl)
theorem dX7_sees_110 : decode cX7_sees 110 = .ok (.iadd, 1) := dk_96 (dk_at dksX7_sees_3 11 rfl rfl)
theorem dX7_sees_111 : decode cX7_sees 111 = .ok (.putfield 452, 3) := dk_181 1 196 (dk_at dksX7_sees_3 12 rfl rfl)
theorem dX7_sees_114 : decode cX7_sees 114 = .ok (.iconst 0, 1) := dk_3 (dk_at dksX7_sees_3 15 rfl rfl)
theorem dX7_sees_115 : decode cX7_sees 115 = .ok (.ireturn, 1) := dk_172 (dk_at dksX7_sees_3 16 rfl rfl)
theorem dX7_sees_116 : decode cX7_sees 116 = .ok (.aload_n 0, 1) := dk_42 (dk_at dksX7_sees_3 17 rfl rfl)
theorem dX7_sees_117 : decode cX7_sees 117 = .ok (.dup, 1) := dk_89 (dk_at dksX7_sees_3 18 rfl rfl)
theorem dX7_sees_118 : decode cX7_sees 118 = .ok (.getfield 452, 3) := dk_180 1 196 (dk_at dksX7_sees_3 19 rfl rfl)
theorem dX7_sees_121 : decode cX7_sees 121 = .ok (.aload_n 0, 1) := dk_42 (dk_at dksX7_sees_3 22 rfl rfl)
theorem dX7_sees_122 : decode cX7_sees 122 = .ok (.iload_n 1, 1) := dk_27 (dk_at dksX7_sees_3 23 rfl rfl)
theorem dX7_sees_123 : decode cX7_sees 123 = .ok (.invokevirtual 352, 3) := dk_182 1 96 (dk_at dksX7_sees_4 0 rfl rfl)
theorem dX7_sees_126 : decode cX7_sees 126 = .ok (.ifCond .eq 19, 3) := dk_153 0 19 (dk_at dksX7_sees_4 3 rfl rfl)
theorem dX7_sees_129 : decode cX7_sees 129 = .ok (.aload_n 0, 1) := dk_42 (dk_at dksX7_sees_4 6 rfl rfl)
theorem dX7_sees_130 : decode cX7_sees 130 = .ok (.aload_n 0, 1) := dk_42 (dk_at dksX7_sees_4 7 rfl rfl)
theorem dX7_sees_131 : decode cX7_sees 131 = .ok (.iload_n 1, 1) := dk_27 (dk_at dksX7_sees_4 8 rfl rfl)
theorem dX7_sees_132 : decode cX7_sees 132 = .ok (.invokevirtual 455, 3) := dk_182 1 199 (dk_at dksX7_sees_4 9 rfl rfl)
theorem dX7_sees_135 : decode cX7_sees 135 = .ok (.invokevirtual 459, 3) := dk_182 1 203 (dk_at dksX7_sees_4 12 rfl rfl)
theorem dX7_sees_138 : decode cX7_sees 138 = .ok (.ifCond .eq 7, 3) := dk_153 0 7 (dk_at dksX7_sees_4 15 rfl rfl)
theorem dX7_sees_141 : decode cX7_sees 141 = .ok (.iconst 1, 1) := dk_4 (dk_at dksX7_sees_4 18 rfl rfl)
theorem dX7_sees_142 : decode cX7_sees 142 = .ok (.goto 4, 3) := dk_167 0 4 (dk_at dksX7_sees_4 19 rfl rfl)
theorem dX7_sees_145 : decode cX7_sees 145 = .ok (.iconst 0, 1) := dk_3 (dk_at dksX7_sees_4 22 rfl rfl)
theorem dX7_sees_146 : decode cX7_sees 146 = .ok (.iadd, 1) := dk_96 (dk_at dksX7_sees_4 23 rfl rfl)
theorem dX7_sees_147 : decode cX7_sees 147 = .ok (.putfield 452, 3) := dk_181 1 196 (dk_at dksX7_sees_5 0 rfl rfl)
theorem dX7_sees_150 : decode cX7_sees 150 = .ok (.iconst 0, 1) := dk_3 (dk_at dksX7_sees_5 3 rfl rfl)
theorem dX7_sees_151 : decode cX7_sees 151 = .ok (.ireturn, 1) := dk_172 (dk_at dksX7_sees_5 4 rfl rfl)
theorem dX7_sees_152 : decode cX7_sees 152 = .ok (.aload_n 0, 1) := dk_42 (dk_at dksX7_sees_5 5 rfl rfl)
theorem dX7_sees_153 : decode cX7_sees 153 = .ok (.dup, 1) := dk_89 (dk_at dksX7_sees_5 6 rfl rfl)
theorem dX7_sees_154 : decode cX7_sees 154 = .ok (.getfield 452, 3) := dk_180 1 196 (dk_at dksX7_sees_5 7 rfl rfl)
theorem dX7_sees_157 : decode cX7_sees 157 = .ok (.aload_n 0, 1) := dk_42 (dk_at dksX7_sees_5 10 rfl rfl)
theorem dX7_sees_158 : decode cX7_sees 158 = .ok (.iload_n 1, 1) := dk_27 (dk_at dksX7_sees_5 11 rfl rfl)
theorem dX7_sees_159 : decode cX7_sees 159 = .ok (.invokevirtual 462, 3) := dk_182 1 206 (dk_at dksX7_sees_5 12 rfl rfl)
theorem dX7_sees_162 : decode cX7_sees 162 = .ok (.ifCond .eq 19, 3) := dk_153 0 19 (dk_at dksX7_sees_5 15 rfl rfl)
theorem dX7_sees_165 : decode cX7_sees 165 = .ok (.aload_n 0, 1) := dk_42 (dk_at dksX7_sees_5 18 rfl rfl)
theorem dX7_sees_166 : decode cX7_sees 166 = .ok (.aload_n 0, 1) := dk_42 (dk_at dksX7_sees_5 19 rfl rfl)
theorem dX7_sees_167 : decode cX7_sees 167 = .ok (.iload_n 1, 1) := dk_27 (dk_at dksX7_sees_5 20 rfl rfl)
theorem dX7_sees_168 : decode cX7_sees 168 = .ok (.invokevirtual 455, 3) := dk_182 1 199 (dk_at dksX7_sees_5 21 rfl rfl)
theorem dX7_sees_171 : decode cX7_sees 171 = .ok (.invokevirtual 459, 3) := dk_182 1 203 (dk_at dksX7_sees_6 0 rfl rfl)
theorem dX7_sees_174 : decode cX7_sees 174 = .ok (.ifCond .eq 7, 3) := dk_153 0 7 (dk_at dksX7_sees_6 3 rfl rfl)
theorem dX7_sees_177 : decode cX7_sees 177 = .ok (.iconst 1, 1) := dk_4 (dk_at dksX7_sees_6 6 rfl rfl)
theorem dX7_sees_178 : decode cX7_sees 178 = .ok (.goto 4, 3) := dk_167 0 4 (dk_at dksX7_sees_6 7 rfl rfl)
theorem dX7_sees_181 : decode cX7_sees 181 = .ok (.iconst 0, 1) := dk_3 (dk_at dksX7_sees_6 10 rfl rfl)
theorem dX7_sees_182 : decode cX7_sees 182 = .ok (.iadd, 1) := dk_96 (dk_at dksX7_sees_6 11 rfl rfl)
theorem dX7_sees_183 : decode cX7_sees 183 = .ok (.putfield 452, 3) := dk_181 1 196 (dk_at dksX7_sees_6 12 rfl rfl)
theorem dX7_sees_186 : decode cX7_sees 186 = .ok (.iconst 0, 1) := dk_3 (dk_at dksX7_sees_6 15 rfl rfl)
theorem dX7_sees_187 : decode cX7_sees 187 = .ok (.ireturn, 1) := dk_172 (dk_at dksX7_sees_6 16 rfl rfl)
theorem dX7_sees_188 : decode cX7_sees 188 = .ok (.aload_n 0, 1) := dk_42 (dk_at dksX7_sees_6 17 rfl rfl)
theorem dX7_sees_189 : decode cX7_sees 189 = .ok (.dup, 1) := dk_89 (dk_at dksX7_sees_6 18 rfl rfl)
theorem dX7_sees_190 : decode cX7_sees 190 = .ok (.getfield 452, 3) := dk_180 1 196 (dk_at dksX7_sees_6 19 rfl rfl)
theorem dX7_sees_193 : decode cX7_sees 193 = .ok (.aload_n 0, 1) := dk_42 (dk_at dksX7_sees_6 22 rfl rfl)
theorem dX7_sees_194 : decode cX7_sees 194 = .ok (.iload_n 1, 1) := dk_27 (dk_at dksX7_sees_6 23 rfl rfl)
theorem dX7_sees_195 : decode cX7_sees 195 = .ok (.invokevirtual 256, 3) := dk_182 1 0 (dk_at dksX7_sees_7 0 rfl rfl)
theorem dX7_sees_198 : decode cX7_sees 198 = .ok (.iconst 2, 1) := dk_5 (dk_at dksX7_sees_7 3 rfl rfl)
theorem dX7_sees_199 : decode cX7_sees 199 = .ok (.if_icmp .ge 19, 3) := dk_162 0 19 (dk_at dksX7_sees_7 4 rfl rfl)
theorem dX7_sees_202 : decode cX7_sees 202 = .ok (.aload_n 0, 1) := dk_42 (dk_at dksX7_sees_7 7 rfl rfl)
theorem dX7_sees_203 : decode cX7_sees 203 = .ok (.aload_n 0, 1) := dk_42 (dk_at dksX7_sees_7 8 rfl rfl)
theorem dX7_sees_204 : decode cX7_sees 204 = .ok (.iload_n 1, 1) := dk_27 (dk_at dksX7_sees_7 9 rfl rfl)
theorem dX7_sees_205 : decode cX7_sees 205 = .ok (.invokevirtual 465, 3) := dk_182 1 209 (dk_at dksX7_sees_7 10 rfl rfl)
theorem dX7_sees_208 : decode cX7_sees 208 = .ok (.invokevirtual 459, 3) := dk_182 1 203 (dk_at dksX7_sees_7 13 rfl rfl)
theorem dX7_sees_211 : decode cX7_sees 211 = .ok (.ifCond .eq 7, 3) := dk_153 0 7 (dk_at dksX7_sees_7 16 rfl rfl)
theorem dX7_sees_214 : decode cX7_sees 214 = .ok (.iconst 1, 1) := dk_4 (dk_at dksX7_sees_7 19 rfl rfl)
theorem dX7_sees_215 : decode cX7_sees 215 = .ok (.goto 4, 3) := dk_167 0 4 (dk_at dksX7_sees_7 20 rfl rfl)
theorem dX7_sees_218 : decode cX7_sees 218 = .ok (.iconst 0, 1) := dk_3 (dk_at dksX7_sees_7 23 rfl rfl)
theorem dX7_sees_219 : decode cX7_sees 219 = .ok (.iadd, 1) := dk_96 (dk_at dksX7_sees_8 0 rfl rfl)
theorem dX7_sees_220 : decode cX7_sees 220 = .ok (.putfield 452, 3) := dk_181 1 196 (dk_at dksX7_sees_8 1 rfl rfl)
theorem dX7_sees_223 : decode cX7_sees 223 = .ok (.iconst 0, 1) := dk_3 (dk_at dksX7_sees_8 4 rfl rfl)
theorem dX7_sees_224 : decode cX7_sees 224 = .ok (.ireturn, 1) := dk_172 (dk_at dksX7_sees_8 5 rfl rfl)
theorem dX7_sees_225 : decode cX7_sees 225 = .ok (.aload_n 0, 1) := dk_42 (dk_at dksX7_sees_8 6 rfl rfl)
theorem dX7_sees_226 : decode cX7_sees 226 = .ok (.dup, 1) := dk_89 (dk_at dksX7_sees_8 7 rfl rfl)
theorem dX7_sees_227 : decode cX7_sees 227 = .ok (.getfield 452, 3) := dk_180 1 196 (dk_at dksX7_sees_8 8 rfl rfl)
theorem dX7_sees_230 : decode cX7_sees 230 = .ok (.aload_n 0, 1) := dk_42 (dk_at dksX7_sees_8 11 rfl rfl)
theorem dX7_sees_231 : decode cX7_sees 231 = .ok (.aload_n 0, 1) := dk_42 (dk_at dksX7_sees_8 12 rfl rfl)
theorem dX7_sees_232 : decode cX7_sees 232 = .ok (.iload_n 1, 1) := dk_27 (dk_at dksX7_sees_8 13 rfl rfl)
theorem dX7_sees_233 : decode cX7_sees 233 = .ok (.invokevirtual 468, 3) := dk_182 1 212 (dk_at dksX7_sees_8 14 rfl rfl)
theorem dX7_sees_236 : decode cX7_sees 236 = .ok (.i2l, 1) := dk_133 (dk_at dksX7_sees_8 17 rfl rfl)
theorem dX7_sees_237 : decode cX7_sees 237 = .ok (.invokevirtual 459, 3) := dk_182 1 203 (dk_at dksX7_sees_8 18 rfl rfl)
theorem dX7_sees_240 : decode cX7_sees 240 = .ok (.ifCond .eq 7, 3) := dk_153 0 7 (dk_at dksX7_sees_8 21 rfl rfl)
theorem dX7_sees_243 : decode cX7_sees 243 = .ok (.iconst 1, 1) := dk_4 (dk_at dksX7_sees_9 0 rfl rfl)
theorem dX7_sees_244 : decode cX7_sees 244 = .ok (.goto 4, 3) := dk_167 0 4 (dk_at dksX7_sees_9 1 rfl rfl)
theorem dX7_sees_247 : decode cX7_sees 247 = .ok (.iconst 0, 1) := dk_3 (dk_at dksX7_sees_9 4 rfl rfl)
theorem dX7_sees_248 : decode cX7_sees 248 = .ok (.iadd, 1) := dk_96 (dk_at dksX7_sees_9 5 rfl rfl)
theorem dX7_sees_249 : decode cX7_sees 249 = .ok (.putfield 452, 3) := dk_181 1 196 (dk_at dksX7_sees_9 6 rfl rfl)
theorem dX7_sees_252 : decode cX7_sees 252 = .ok (.iconst 0, 1) := dk_3 (dk_at dksX7_sees_9 9 rfl rfl)
theorem dX7_sees_253 : decode cX7_sees 253 = .ok (.ireturn, 1) := dk_172 (dk_at dksX7_sees_9 10 rfl rfl)
theorem dX7_sees_254 : decode cX7_sees 254 = .ok (.aload_n 0, 1) := dk_42 (dk_at dksX7_sees_9 11 rfl rfl)
theorem dX7_sees_255 : decode cX7_sees 255 = .ok (.iload_n 1, 1) := dk_27 (dk_at dksX7_sees_9 12 rfl rfl)
theorem dX7_sees_256 : decode cX7_sees 256 = .ok (.aload_n 0, 1) := dk_42 (dk_at dksX7_sees_9 13 rfl rfl)
theorem dX7_sees_257 : decode cX7_sees 257 = .ok (.getfield 449, 3) := dk_180 1 193 (dk_at dksX7_sees_9 14 rfl rfl)
theorem dX7_sees_260 : decode cX7_sees 260 = .ok (.invokevirtual 471, 3) := dk_182 1 215 (dk_at dksX7_sees_9 17 rfl rfl)
theorem dX7_sees_263 : decode cX7_sees 263 = .ok (.ifCond .eq 8, 3) := dk_153 0 8 (dk_at dksX7_sees_9 20 rfl rfl)
theorem dX7_sees_266 : decode cX7_sees 266 = .ok (.aload_n 0, 1) := dk_42 (dk_at dksX7_sees_9 23 rfl rfl)
theorem dX7_sees_267 : decode cX7_sees 267 = .ok (.iload_n 1, 1) := dk_27 (dk_at dksX7_sees_10 0 rfl rfl)
theorem dX7_sees_268 : decode cX7_sees 268 = .ok (.invokevirtual 474, 3) := dk_182 1 218 (dk_at dksX7_sees_10 1 rfl rfl)
theorem dX7_sees_271 : decode cX7_sees 271 = .ok (.iconst 0, 1) := dk_3 (dk_at dksX7_sees_10 4 rfl rfl)
theorem dX7_sees_272 : decode cX7_sees 272 = .ok (.ireturn, 1) := dk_172 (dk_at dksX7_sees_10 5 rfl rfl)
theorem dX7_sees_273 : decode cX7_sees 273 = .ok (.aload_n 0, 1) := dk_42 (dk_at dksX7_sees_10 6 rfl rfl)
theorem dX7_sees_274 : decode cX7_sees 274 = .ok (.iload_n 1, 1) := dk_27 (dk_at dksX7_sees_10 7 rfl rfl)
theorem dX7_sees_275 : decode cX7_sees 275 = .ok (.invokevirtual 477, 3) := dk_182 1 221 (dk_at dksX7_sees_10 8 rfl rfl)
theorem dX7_sees_278 : decode cX7_sees 278 = .ok (.ireturn, 1) := dk_172 (dk_at dksX7_sees_10 11 rfl rfl)
theorem dX7_sees_279 : decode cX7_sees 279 = .ok (.aload_n 0, 1) := dk_42 (dk_at dksX7_sees_10 12 rfl rfl)
theorem dX7_sees_280 : decode cX7_sees 280 = .ok (.iload_n 1, 1) := dk_27 (dk_at dksX7_sees_10 13 rfl rfl)
theorem dX7_sees_281 : decode cX7_sees 281 = .ok (.aload_n 0, 1) := dk_42 (dk_at dksX7_sees_10 14 rfl rfl)
theorem dX7_sees_282 : decode cX7_sees 282 = .ok (.iload_n 1, 1) := dk_27 (dk_at dksX7_sees_10 15 rfl rfl)
theorem dX7_sees_283 : decode cX7_sees 283 = .ok (.aload_n 0, 1) := dk_42 (dk_at dksX7_sees_10 16 rfl rfl)
theorem dX7_sees_284 : decode cX7_sees 284 = .ok (.getfield 449, 3) := dk_180 1 193 (dk_at dksX7_sees_10 17 rfl rfl)
theorem dX7_sees_287 : decode cX7_sees 287 = .ok (.invokevirtual 471, 3) := dk_182 1 215 (dk_at dksX7_sees_10 20 rfl rfl)
theorem dX7_sees_290 : decode cX7_sees 290 = .ok (.invokevirtual 480, 3) := dk_182 1 224 (dk_at dksX7_sees_11 0 rfl rfl)
theorem dX7_sees_293 : decode cX7_sees 293 = .ok (.ireturn, 1) := dk_172 (dk_at dksX7_sees_11 3 rfl rfl)
theorem dX7_sees_294 : decode cX7_sees 294 = .ok (.aload_n 0, 1) := dk_42 (dk_at dksX7_sees_11 4 rfl rfl)
theorem dX7_sees_295 : decode cX7_sees 295 = .ok (.iload_n 1, 1) := dk_27 (dk_at dksX7_sees_11 5 rfl rfl)
theorem dX7_sees_296 : decode cX7_sees 296 = .ok (.aload_n 0, 1) := dk_42 (dk_at dksX7_sees_11 6 rfl rfl)
theorem dX7_sees_297 : decode cX7_sees 297 = .ok (.iload_n 1, 1) := dk_27 (dk_at dksX7_sees_11 7 rfl rfl)
theorem dX7_sees_298 : decode cX7_sees 298 = .ok (.invokevirtual 352, 3) := dk_182 1 96 (dk_at dksX7_sees_11 8 rfl rfl)
theorem dX7_sees_301 : decode cX7_sees 301 = .ok (.invokevirtual 480, 3) := dk_182 1 224 (dk_at dksX7_sees_11 11 rfl rfl)
theorem dX7_sees_304 : decode cX7_sees 304 = .ok (.ireturn, 1) := dk_172 (dk_at dksX7_sees_11 14 rfl rfl)
theorem dX7_sees_305 : decode cX7_sees 305 = .ok (.aload_n 0, 1) := dk_42 (dk_at dksX7_sees_11 15 rfl rfl)
theorem dX7_sees_306 : decode cX7_sees 306 = .ok (.iload_n 1, 1) := dk_27 (dk_at dksX7_sees_11 16 rfl rfl)
theorem dX7_sees_307 : decode cX7_sees 307 = .ok (.aload_n 0, 1) := dk_42 (dk_at dksX7_sees_11 17 rfl rfl)
theorem dX7_sees_308 : decode cX7_sees 308 = .ok (.iload_n 1, 1) := dk_27 (dk_at dksX7_sees_11 18 rfl rfl)
theorem dX7_sees_309 : decode cX7_sees 309 = .ok (.aload_n 0, 1) := dk_42 (dk_at dksX7_sees_11 19 rfl rfl)
theorem dX7_sees_310 : decode cX7_sees 310 = .ok (.getfield 449, 3) := dk_180 1 193 (dk_at dksX7_sees_11 20 rfl rfl)
theorem dX7_sees_313 : decode cX7_sees 313 = .ok (.invokevirtual 484, 3) := dk_182 1 228 (dk_at dksX7_sees_12 0 rfl rfl)
theorem dX7_sees_316 : decode cX7_sees 316 = .ok (.invokevirtual 480, 3) := dk_182 1 224 (dk_at dksX7_sees_12 3 rfl rfl)
theorem dX7_sees_319 : decode cX7_sees 319 = .ok (.ireturn, 1) := dk_172 (dk_at dksX7_sees_12 6 rfl rfl)
theorem dX7_sees_320 : decode cX7_sees 320 = .ok (.aload_n 0, 1) := dk_42 (dk_at dksX7_sees_12 7 rfl rfl)
theorem dX7_sees_321 : decode cX7_sees 321 = .ok (.iload_n 1, 1) := dk_27 (dk_at dksX7_sees_12 8 rfl rfl)
theorem dX7_sees_322 : decode cX7_sees 322 = .ok (.invokevirtual 487, 3) := dk_182 1 231 (dk_at dksX7_sees_12 9 rfl rfl)
theorem dX7_sees_325 : decode cX7_sees 325 = .ok (.istore_n 2, 1) := dk_61 (dk_at dksX7_sees_12 12 rfl rfl)
theorem dX7_sees_326 : decode cX7_sees 326 = .ok (.iload_n 2, 1) := dk_28 (dk_at dksX7_sees_12 13 rfl rfl)
theorem dX7_sees_327 : decode cX7_sees 327 = .ok (.aload_n 0, 1) := dk_42 (dk_at dksX7_sees_12 14 rfl rfl)
theorem dX7_sees_328 : decode cX7_sees 328 = .ok (.getfield 425, 3) := dk_180 1 169 (dk_at dksX7_sees_12 15 rfl rfl)
theorem dX7_sees_331 : decode cX7_sees 331 = .ok (.if_icmp .le 9, 3) := dk_164 0 9 (dk_at dksX7_sees_12 18 rfl rfl)
theorem dX7_sees_334 : decode cX7_sees 334 = .ok (.aload_n 0, 1) := dk_42 (dk_at dksX7_sees_12 21 rfl rfl)
theorem dX7_sees_335 : decode cX7_sees 335 = .ok (.iload_n 1, 1) := dk_27 (dk_at dksX7_sees_12 22 rfl rfl)
theorem dX7_sees_336 : decode cX7_sees 336 = .ok (.iload_n 2, 1) := dk_28 (dk_at dksX7_sees_12 23 rfl rfl)
theorem dX7_sees_337 : decode cX7_sees 337 = .ok (.invokevirtual 490, 3) := dk_182 1 234 (dk_at dksX7_sees_13 0 rfl rfl)
theorem dX7_sees_340 : decode cX7_sees 340 = .ok (.iconst 0, 1) := dk_3 (dk_at dksX7_sees_13 3 rfl rfl)
theorem dX7_sees_341 : decode cX7_sees 341 = .ok (.ireturn, 1) := dk_172 (dk_at dksX7_sees_13 4 rfl rfl)
abbrev cX7_lookAt : ByteArray := prog_43_method_100_code
def yX7_lookAt : MethodName := ⟨RX7, "lookAt", "(I)J"⟩
def dkwX7_lookAt_1 : List UInt8 := [42, 180, 0, 33, 21, 4, 46, 133, 97, 65, 132, 4, 1, 167, 255, 229, 32, 173]
abbrev dktX7_lookAt_1 : List UInt8 := dkwX7_lookAt_1 ++ []
def dkwX7_lookAt_0 : List UInt8 := [42, 27, 182, 1, 46, 9, 65, 3, 54, 4, 21, 4, 42, 182, 0, 253, 162, 0, 24, 20, 1, 183, 32, 105]
abbrev dktX7_lookAt_0 : List UInt8 := dkwX7_lookAt_0 ++ dktX7_lookAt_1
theorem dksX7_lookAt_0 : cX7_lookAt.data.toList.drop 0 = dktX7_lookAt_0 := by decide +kernel
theorem dksX7_lookAt_1 : cX7_lookAt.data.toList.drop 24 = dktX7_lookAt_1 := dk_seg dksX7_lookAt_0 24 rfl rfl
theorem dX7_lookAt_0 : decode cX7_lookAt 0 = .ok (.aload_n 0, 1) := dk_42 (dk_at dksX7_lookAt_0 0 rfl rfl)
theorem dX7_lookAt_1 : decode cX7_lookAt 1 = .ok (.iload_n 1, 1) := dk_27 (dk_at dksX7_lookAt_0 1 rfl rfl)
theorem dX7_lookAt_2 : decode cX7_lookAt 2 = .ok (.invokevirtual 302, 3) := dk_182 1 46 (dk_at dksX7_lookAt_0 2 rfl rfl)
theorem dX7_lookAt_5 : decode cX7_lookAt 5 = .ok (.lconst 0, 1) := dk_9 (dk_at dksX7_lookAt_0 5 rfl rfl)
theorem dX7_lookAt_6 : decode cX7_lookAt 6 = .ok (.lstore_n 2, 1) := dk_65 (dk_at dksX7_lookAt_0 6 rfl rfl)
theorem dX7_lookAt_7 : decode cX7_lookAt 7 = .ok (.iconst 0, 1) := dk_3 (dk_at dksX7_lookAt_0 7 rfl rfl)
theorem dX7_lookAt_8 : decode cX7_lookAt 8 = .ok (.istore 4, 2) := dk_54 4 (dk_at dksX7_lookAt_0 8 rfl rfl)
theorem dX7_lookAt_10 : decode cX7_lookAt 10 = .ok (.iload 4, 2) := dk_21 4 (dk_at dksX7_lookAt_0 10 rfl rfl)
theorem dX7_lookAt_12 : decode cX7_lookAt 12 = .ok (.aload_n 0, 1) := dk_42 (dk_at dksX7_lookAt_0 12 rfl rfl)
theorem dX7_lookAt_13 : decode cX7_lookAt 13 = .ok (.invokevirtual 253, 3) := dk_182 0 253 (dk_at dksX7_lookAt_0 13 rfl rfl)
theorem dX7_lookAt_16 : decode cX7_lookAt 16 = .ok (.if_icmp .ge 24, 3) := dk_162 0 24 (dk_at dksX7_lookAt_0 16 rfl rfl)
theorem dX7_lookAt_19 : decode cX7_lookAt 19 = .ok (.ldc2_w 439, 3) := dk_20 1 183 (dk_at dksX7_lookAt_0 19 rfl rfl)
theorem dX7_lookAt_22 : decode cX7_lookAt 22 = .ok (.lload_n 2, 1) := dk_32 (dk_at dksX7_lookAt_0 22 rfl rfl)
theorem dX7_lookAt_23 : decode cX7_lookAt 23 = .ok (.lmul, 1) := dk_105 (dk_at dksX7_lookAt_0 23 rfl rfl)
theorem dX7_lookAt_24 : decode cX7_lookAt 24 = .ok (.aload_n 0, 1) := dk_42 (dk_at dksX7_lookAt_1 0 rfl rfl)
theorem dX7_lookAt_25 : decode cX7_lookAt 25 = .ok (.getfield 33, 3) := dk_180 0 33 (dk_at dksX7_lookAt_1 1 rfl rfl)
theorem dX7_lookAt_28 : decode cX7_lookAt 28 = .ok (.iload 4, 2) := dk_21 4 (dk_at dksX7_lookAt_1 4 rfl rfl)
theorem dX7_lookAt_30 : decode cX7_lookAt 30 = .ok (.iaload, 1) := dk_46 (dk_at dksX7_lookAt_1 6 rfl rfl)
theorem dX7_lookAt_31 : decode cX7_lookAt 31 = .ok (.i2l, 1) := dk_133 (dk_at dksX7_lookAt_1 7 rfl rfl)
theorem dX7_lookAt_32 : decode cX7_lookAt 32 = .ok (.ladd, 1) := dk_97 (dk_at dksX7_lookAt_1 8 rfl rfl)
theorem dX7_lookAt_33 : decode cX7_lookAt 33 = .ok (.lstore_n 2, 1) := dk_65 (dk_at dksX7_lookAt_1 9 rfl rfl)
theorem dX7_lookAt_34 : decode cX7_lookAt 34 = .ok (.iinc 4 1, 3) := dk_132 4 1 (dk_at dksX7_lookAt_1 10 rfl rfl)
theorem dX7_lookAt_37 : decode cX7_lookAt 37 = .ok (.goto (-27), 3) := dk_167 255 229 (dk_at dksX7_lookAt_1 13 rfl rfl)
theorem dX7_lookAt_40 : decode cX7_lookAt 40 = .ok (.lload_n 2, 1) := dk_32 (dk_at dksX7_lookAt_1 16 rfl rfl)
theorem dX7_lookAt_41 : decode cX7_lookAt 41 = .ok (.lreturn, 1) := dk_173 (dk_at dksX7_lookAt_1 17 rfl rfl)
abbrev cX7_isNew : ByteArray := prog_43_method_99_code
def yX7_isNew : MethodName := ⟨RX7, "isNew", "(J)Z"⟩
def dkwX7_isNew_3 : List UInt8 := [79, 42, 180, 0, 55, 29, 31, 80, 4, 172]
abbrev dktX7_isNew_3 : List UInt8 := dkwX7_isNew_3 ++ []
def dkwX7_isNew_2 : List UInt8 := [42, 180, 0, 59, 29, 46, 42, 180, 1, 180, 160, 0, 5, 3, 172, 42, 180, 0, 59, 29, 42, 180, 1, 180]
abbrev dktX7_isNew_2 : List UInt8 := dkwX7_isNew_2 ++ dktX7_isNew_3
def dkwX7_isNew_1 : List UInt8 := [160, 0, 24, 42, 180, 0, 55, 29, 47, 31, 148, 153, 0, 13, 29, 4, 96, 18, 54, 112, 62, 167, 255, 225]
abbrev dktX7_isNew_1 : List UInt8 := dkwX7_isNew_1 ++ dktX7_isNew_2
def dkwX7_isNew_0 : List UInt8 := [31, 20, 1, 176, 105, 16, 16, 125, 20, 1, 178, 113, 136, 62, 42, 180, 0, 59, 29, 46, 42, 180, 1, 180]
abbrev dktX7_isNew_0 : List UInt8 := dkwX7_isNew_0 ++ dktX7_isNew_1
theorem dksX7_isNew_0 : cX7_isNew.data.toList.drop 0 = dktX7_isNew_0 := by decide +kernel
theorem dksX7_isNew_1 : cX7_isNew.data.toList.drop 24 = dktX7_isNew_1 := dk_seg dksX7_isNew_0 24 rfl rfl
theorem dksX7_isNew_2 : cX7_isNew.data.toList.drop 48 = dktX7_isNew_2 := dk_seg dksX7_isNew_1 24 rfl rfl
theorem dksX7_isNew_3 : cX7_isNew.data.toList.drop 72 = dktX7_isNew_3 := dk_seg dksX7_isNew_2 24 rfl rfl
theorem dX7_isNew_0 : decode cX7_isNew 0 = .ok (.lload_n 1, 1) := dk_31 (dk_at dksX7_isNew_0 0 rfl rfl)
theorem dX7_isNew_1 : decode cX7_isNew 1 = .ok (.ldc2_w 432, 3) := dk_20 1 176 (dk_at dksX7_isNew_0 1 rfl rfl)
theorem dX7_isNew_4 : decode cX7_isNew 4 = .ok (.lmul, 1) := dk_105 (dk_at dksX7_isNew_0 4 rfl rfl)
theorem dX7_isNew_5 : decode cX7_isNew 5 = .ok (.bipush 16, 2) := dk_16 16 (dk_at dksX7_isNew_0 5 rfl rfl)
theorem dX7_isNew_7 : decode cX7_isNew 7 = .ok (.lushr, 1) := dk_125 (dk_at dksX7_isNew_0 7 rfl rfl)
theorem dX7_isNew_8 : decode cX7_isNew 8 = .ok (.ldc2_w 434, 3) := dk_20 1 178 (dk_at dksX7_isNew_0 8 rfl rfl)
theorem dX7_isNew_11 : decode cX7_isNew 11 = .ok (.lrem, 1) := dk_113 (dk_at dksX7_isNew_0 11 rfl rfl)
theorem dX7_isNew_12 : decode cX7_isNew 12 = .ok (.l2i, 1) := dk_136 (dk_at dksX7_isNew_0 12 rfl rfl)
theorem dX7_isNew_13 : decode cX7_isNew 13 = .ok (.istore_n 3, 1) := dk_62 (dk_at dksX7_isNew_0 13 rfl rfl)
theorem dX7_isNew_14 : decode cX7_isNew 14 = .ok (.aload_n 0, 1) := dk_42 (dk_at dksX7_isNew_0 14 rfl rfl)
theorem dX7_isNew_15 : decode cX7_isNew 15 = .ok (.getfield 59, 3) := dk_180 0 59 (dk_at dksX7_isNew_0 15 rfl rfl)
theorem dX7_isNew_18 : decode cX7_isNew 18 = .ok (.iload_n 3, 1) := dk_29 (dk_at dksX7_isNew_0 18 rfl rfl)
theorem dX7_isNew_19 : decode cX7_isNew 19 = .ok (.iaload, 1) := dk_46 (dk_at dksX7_isNew_0 19 rfl rfl)
theorem dX7_isNew_20 : decode cX7_isNew 20 = .ok (.aload_n 0, 1) := dk_42 (dk_at dksX7_isNew_0 20 rfl rfl)
theorem dX7_isNew_21 : decode cX7_isNew 21 = .ok (.getfield 436, 3) := dk_180 1 180 (dk_at dksX7_isNew_0 21 rfl rfl)
theorem dX7_isNew_24 : decode cX7_isNew 24 = .ok (.if_icmp .ne 24, 3) := dk_160 0 24 (dk_at dksX7_isNew_1 0 rfl rfl)
theorem dX7_isNew_27 : decode cX7_isNew 27 = .ok (.aload_n 0, 1) := dk_42 (dk_at dksX7_isNew_1 3 rfl rfl)
theorem dX7_isNew_28 : decode cX7_isNew 28 = .ok (.getfield 55, 3) := dk_180 0 55 (dk_at dksX7_isNew_1 4 rfl rfl)
theorem dX7_isNew_31 : decode cX7_isNew 31 = .ok (.iload_n 3, 1) := dk_29 (dk_at dksX7_isNew_1 7 rfl rfl)
theorem dX7_isNew_32 : decode cX7_isNew 32 = .ok (.laload, 1) := dk_47 (dk_at dksX7_isNew_1 8 rfl rfl)
theorem dX7_isNew_33 : decode cX7_isNew 33 = .ok (.lload_n 1, 1) := dk_31 (dk_at dksX7_isNew_1 9 rfl rfl)
theorem dX7_isNew_34 : decode cX7_isNew 34 = .ok (.lcmp, 1) := dk_148 (dk_at dksX7_isNew_1 10 rfl rfl)
theorem dX7_isNew_35 : decode cX7_isNew 35 = .ok (.ifCond .eq 13, 3) := dk_153 0 13 (dk_at dksX7_isNew_1 11 rfl rfl)
theorem dX7_isNew_38 : decode cX7_isNew 38 = .ok (.iload_n 3, 1) := dk_29 (dk_at dksX7_isNew_1 14 rfl rfl)
theorem dX7_isNew_39 : decode cX7_isNew 39 = .ok (.iconst 1, 1) := dk_4 (dk_at dksX7_isNew_1 15 rfl rfl)
theorem dX7_isNew_40 : decode cX7_isNew 40 = .ok (.iadd, 1) := dk_96 (dk_at dksX7_isNew_1 16 rfl rfl)
theorem dX7_isNew_41 : decode cX7_isNew 41 = .ok (.ldc 54, 2) := dk_18 54 (dk_at dksX7_isNew_1 17 rfl rfl)
theorem dX7_isNew_43 : decode cX7_isNew 43 = .ok (.irem, 1) := dk_112 (dk_at dksX7_isNew_1 19 rfl rfl)
theorem dX7_isNew_44 : decode cX7_isNew 44 = .ok (.istore_n 3, 1) := dk_62 (dk_at dksX7_isNew_1 20 rfl rfl)
theorem dX7_isNew_45 : decode cX7_isNew 45 = .ok (.goto (-31), 3) := dk_167 255 225 (dk_at dksX7_isNew_1 21 rfl rfl)
theorem dX7_isNew_48 : decode cX7_isNew 48 = .ok (.aload_n 0, 1) := dk_42 (dk_at dksX7_isNew_2 0 rfl rfl)
theorem dX7_isNew_49 : decode cX7_isNew 49 = .ok (.getfield 59, 3) := dk_180 0 59 (dk_at dksX7_isNew_2 1 rfl rfl)
theorem dX7_isNew_52 : decode cX7_isNew 52 = .ok (.iload_n 3, 1) := dk_29 (dk_at dksX7_isNew_2 4 rfl rfl)
theorem dX7_isNew_53 : decode cX7_isNew 53 = .ok (.iaload, 1) := dk_46 (dk_at dksX7_isNew_2 5 rfl rfl)
theorem dX7_isNew_54 : decode cX7_isNew 54 = .ok (.aload_n 0, 1) := dk_42 (dk_at dksX7_isNew_2 6 rfl rfl)
theorem dX7_isNew_55 : decode cX7_isNew 55 = .ok (.getfield 436, 3) := dk_180 1 180 (dk_at dksX7_isNew_2 7 rfl rfl)
theorem dX7_isNew_58 : decode cX7_isNew 58 = .ok (.if_icmp .ne 5, 3) := dk_160 0 5 (dk_at dksX7_isNew_2 10 rfl rfl)
theorem dX7_isNew_61 : decode cX7_isNew 61 = .ok (.iconst 0, 1) := dk_3 (dk_at dksX7_isNew_2 13 rfl rfl)
theorem dX7_isNew_62 : decode cX7_isNew 62 = .ok (.ireturn, 1) := dk_172 (dk_at dksX7_isNew_2 14 rfl rfl)
theorem dX7_isNew_63 : decode cX7_isNew 63 = .ok (.aload_n 0, 1) := dk_42 (dk_at dksX7_isNew_2 15 rfl rfl)
theorem dX7_isNew_64 : decode cX7_isNew 64 = .ok (.getfield 59, 3) := dk_180 0 59 (dk_at dksX7_isNew_2 16 rfl rfl)
theorem dX7_isNew_67 : decode cX7_isNew 67 = .ok (.iload_n 3, 1) := dk_29 (dk_at dksX7_isNew_2 19 rfl rfl)
theorem dX7_isNew_68 : decode cX7_isNew 68 = .ok (.aload_n 0, 1) := dk_42 (dk_at dksX7_isNew_2 20 rfl rfl)
theorem dX7_isNew_69 : decode cX7_isNew 69 = .ok (.getfield 436, 3) := dk_180 1 180 (dk_at dksX7_isNew_2 21 rfl rfl)
theorem dX7_isNew_72 : decode cX7_isNew 72 = .ok (.iastore, 1) := dk_79 (dk_at dksX7_isNew_3 0 rfl rfl)
theorem dX7_isNew_73 : decode cX7_isNew 73 = .ok (.aload_n 0, 1) := dk_42 (dk_at dksX7_isNew_3 1 rfl rfl)
theorem dX7_isNew_74 : decode cX7_isNew 74 = .ok (.getfield 55, 3) := dk_180 0 55 (dk_at dksX7_isNew_3 2 rfl rfl)
theorem dX7_isNew_77 : decode cX7_isNew 77 = .ok (.iload_n 3, 1) := dk_29 (dk_at dksX7_isNew_3 5 rfl rfl)
theorem dX7_isNew_78 : decode cX7_isNew 78 = .ok (.lload_n 1, 1) := dk_31 (dk_at dksX7_isNew_3 6 rfl rfl)
theorem dX7_isNew_79 : decode cX7_isNew 79 = .ok (.lastore, 1) := dk_80 (dk_at dksX7_isNew_3 7 rfl rfl)
theorem dX7_isNew_80 : decode cX7_isNew 80 = .ok (.iconst 1, 1) := dk_4 (dk_at dksX7_isNew_3 8 rfl rfl)
theorem dX7_isNew_81 : decode cX7_isNew 81 = .ok (.ireturn, 1) := dk_172 (dk_at dksX7_isNew_3 9 rfl rfl)
abbrev cX7_isBetter : ByteArray := prog_43_method_95_code
def yX7_isBetter : MethodName := ⟨RX7, "isBetter", "(I)Z"⟩
def dkwX7_isBetter_2 : List UInt8 := [164, 0, 7, 4, 167, 0, 4, 3, 61, 132, 3, 1, 167, 255, 201, 28, 172]
abbrev dktX7_isBetter_2 : List UInt8 := dkwX7_isBetter_2 ++ []
def dkwX7_isBetter_1 : List UInt8 := [42, 180, 0, 51, 29, 46, 162, 0, 5, 3, 172, 28, 154, 0, 14, 21, 4, 42, 180, 0, 51, 29, 46]
abbrev dktX7_isBetter_1 : List UInt8 := dkwX7_isBetter_1 ++ dktX7_isBetter_2
def dkwX7_isBetter_0 : List UInt8 := [3, 61, 3, 62, 29, 42, 180, 0, 9, 5, 46, 162, 0, 51, 42, 27, 29, 182, 1, 99, 54, 4, 21, 4]
abbrev dktX7_isBetter_0 : List UInt8 := dkwX7_isBetter_0 ++ dktX7_isBetter_1
theorem dksX7_isBetter_0 : cX7_isBetter.data.toList.drop 0 = dktX7_isBetter_0 := by decide +kernel
theorem dksX7_isBetter_1 : cX7_isBetter.data.toList.drop 24 = dktX7_isBetter_1 := dk_seg dksX7_isBetter_0 24 rfl rfl
theorem dksX7_isBetter_2 : cX7_isBetter.data.toList.drop 47 = dktX7_isBetter_2 := dk_seg dksX7_isBetter_1 23 rfl rfl
theorem dX7_isBetter_0 : decode cX7_isBetter 0 = .ok (.iconst 0, 1) := dk_3 (dk_at dksX7_isBetter_0 0 rfl rfl)
theorem dX7_isBetter_1 : decode cX7_isBetter 1 = .ok (.istore_n 2, 1) := dk_61 (dk_at dksX7_isBetter_0 1 rfl rfl)
theorem dX7_isBetter_2 : decode cX7_isBetter 2 = .ok (.iconst 0, 1) := dk_3 (dk_at dksX7_isBetter_0 2 rfl rfl)
theorem dX7_isBetter_3 : decode cX7_isBetter 3 = .ok (.istore_n 3, 1) := dk_62 (dk_at dksX7_isBetter_0 3 rfl rfl)
theorem dX7_isBetter_4 : decode cX7_isBetter 4 = .ok (.iload_n 3, 1) := dk_29 (dk_at dksX7_isBetter_0 4 rfl rfl)
theorem dX7_isBetter_5 : decode cX7_isBetter 5 = .ok (.aload_n 0, 1) := dk_42 (dk_at dksX7_isBetter_0 5 rfl rfl)
theorem dX7_isBetter_6 : decode cX7_isBetter 6 = .ok (.getfield 9, 3) := dk_180 0 9 (dk_at dksX7_isBetter_0 6 rfl rfl)
theorem dX7_isBetter_9 : decode cX7_isBetter 9 = .ok (.iconst 2, 1) := dk_5 (dk_at dksX7_isBetter_0 9 rfl rfl)
theorem dX7_isBetter_10 : decode cX7_isBetter 10 = .ok (.iaload, 1) := dk_46 (dk_at dksX7_isBetter_0 10 rfl rfl)
theorem dX7_isBetter_11 : decode cX7_isBetter 11 = .ok (.if_icmp .ge 51, 3) := dk_162 0 51 (dk_at dksX7_isBetter_0 11 rfl rfl)
theorem dX7_isBetter_14 : decode cX7_isBetter 14 = .ok (.aload_n 0, 1) := dk_42 (dk_at dksX7_isBetter_0 14 rfl rfl)
theorem dX7_isBetter_15 : decode cX7_isBetter 15 = .ok (.iload_n 1, 1) := dk_27 (dk_at dksX7_isBetter_0 15 rfl rfl)
theorem dX7_isBetter_16 : decode cX7_isBetter 16 = .ok (.iload_n 3, 1) := dk_29 (dk_at dksX7_isBetter_0 16 rfl rfl)
theorem dX7_isBetter_17 : decode cX7_isBetter 17 = .ok (.invokevirtual 355, 3) := dk_182 1 99 (dk_at dksX7_isBetter_0 17 rfl rfl)
theorem dX7_isBetter_20 : decode cX7_isBetter 20 = .ok (.istore 4, 2) := dk_54 4 (dk_at dksX7_isBetter_0 20 rfl rfl)
theorem dX7_isBetter_22 : decode cX7_isBetter 22 = .ok (.iload 4, 2) := dk_21 4 (dk_at dksX7_isBetter_0 22 rfl rfl)
theorem dX7_isBetter_24 : decode cX7_isBetter 24 = .ok (.aload_n 0, 1) := dk_42 (dk_at dksX7_isBetter_1 0 rfl rfl)
theorem dX7_isBetter_25 : decode cX7_isBetter 25 = .ok (.getfield 51, 3) := dk_180 0 51 (dk_at dksX7_isBetter_1 1 rfl rfl)
theorem dX7_isBetter_28 : decode cX7_isBetter 28 = .ok (.iload_n 3, 1) := dk_29 (dk_at dksX7_isBetter_1 4 rfl rfl)
theorem dX7_isBetter_29 : decode cX7_isBetter 29 = .ok (.iaload, 1) := dk_46 (dk_at dksX7_isBetter_1 5 rfl rfl)
theorem dX7_isBetter_30 : decode cX7_isBetter 30 = .ok (.if_icmp .ge 5, 3) := dk_162 0 5 (dk_at dksX7_isBetter_1 6 rfl rfl)
theorem dX7_isBetter_33 : decode cX7_isBetter 33 = .ok (.iconst 0, 1) := dk_3 (dk_at dksX7_isBetter_1 9 rfl rfl)
theorem dX7_isBetter_34 : decode cX7_isBetter 34 = .ok (.ireturn, 1) := dk_172 (dk_at dksX7_isBetter_1 10 rfl rfl)
theorem dX7_isBetter_35 : decode cX7_isBetter 35 = .ok (.iload_n 2, 1) := dk_28 (dk_at dksX7_isBetter_1 11 rfl rfl)
theorem dX7_isBetter_36 : decode cX7_isBetter 36 = .ok (.ifCond .ne 14, 3) := dk_154 0 14 (dk_at dksX7_isBetter_1 12 rfl rfl)
theorem dX7_isBetter_39 : decode cX7_isBetter 39 = .ok (.iload 4, 2) := dk_21 4 (dk_at dksX7_isBetter_1 15 rfl rfl)
theorem dX7_isBetter_41 : decode cX7_isBetter 41 = .ok (.aload_n 0, 1) := dk_42 (dk_at dksX7_isBetter_1 17 rfl rfl)
theorem dX7_isBetter_42 : decode cX7_isBetter 42 = .ok (.getfield 51, 3) := dk_180 0 51 (dk_at dksX7_isBetter_1 18 rfl rfl)
theorem dX7_isBetter_45 : decode cX7_isBetter 45 = .ok (.iload_n 3, 1) := dk_29 (dk_at dksX7_isBetter_1 21 rfl rfl)
theorem dX7_isBetter_46 : decode cX7_isBetter 46 = .ok (.iaload, 1) := dk_46 (dk_at dksX7_isBetter_1 22 rfl rfl)
theorem dX7_isBetter_47 : decode cX7_isBetter 47 = .ok (.if_icmp .le 7, 3) := dk_164 0 7 (dk_at dksX7_isBetter_2 0 rfl rfl)
theorem dX7_isBetter_50 : decode cX7_isBetter 50 = .ok (.iconst 1, 1) := dk_4 (dk_at dksX7_isBetter_2 3 rfl rfl)
theorem dX7_isBetter_51 : decode cX7_isBetter 51 = .ok (.goto 4, 3) := dk_167 0 4 (dk_at dksX7_isBetter_2 4 rfl rfl)
theorem dX7_isBetter_54 : decode cX7_isBetter 54 = .ok (.iconst 0, 1) := dk_3 (dk_at dksX7_isBetter_2 7 rfl rfl)
theorem dX7_isBetter_55 : decode cX7_isBetter 55 = .ok (.istore_n 2, 1) := dk_61 (dk_at dksX7_isBetter_2 8 rfl rfl)
theorem dX7_isBetter_56 : decode cX7_isBetter 56 = .ok (.iinc 3 1, 3) := dk_132 3 1 (dk_at dksX7_isBetter_2 9 rfl rfl)
theorem dX7_isBetter_59 : decode cX7_isBetter 59 = .ok (.goto (-55), 3) := dk_167 255 201 (dk_at dksX7_isBetter_2 12 rfl rfl)
theorem dX7_isBetter_62 : decode cX7_isBetter 62 = .ok (.iload_n 2, 1) := dk_28 (dk_at dksX7_isBetter_2 15 rfl rfl)
theorem dX7_isBetter_63 : decode cX7_isBetter 63 = .ok (.ireturn, 1) := dk_172 (dk_at dksX7_isBetter_2 16 rfl rfl)
abbrev cX7_orderAt : ByteArray := prog_43_method_101_code
def yX7_orderAt : MethodName := ⟨RX7, "orderAt", "(I)J"⟩
def dkwX7_orderAt_1 : List UInt8 := [182, 1, 8, 5, 108, 133, 97, 65, 132, 4, 1, 167, 255, 226, 32, 173]
abbrev dktX7_orderAt_1 : List UInt8 := dkwX7_orderAt_1 ++ []
def dkwX7_orderAt_0 : List UInt8 := [9, 65, 3, 54, 4, 21, 4, 42, 182, 0, 253, 162, 0, 27, 20, 1, 185, 32, 105, 42, 27, 3, 21, 4]
abbrev dktX7_orderAt_0 : List UInt8 := dkwX7_orderAt_0 ++ dktX7_orderAt_1
theorem dksX7_orderAt_0 : cX7_orderAt.data.toList.drop 0 = dktX7_orderAt_0 := by decide +kernel
theorem dksX7_orderAt_1 : cX7_orderAt.data.toList.drop 24 = dktX7_orderAt_1 := dk_seg dksX7_orderAt_0 24 rfl rfl
theorem dX7_orderAt_0 : decode cX7_orderAt 0 = .ok (.lconst 0, 1) := dk_9 (dk_at dksX7_orderAt_0 0 rfl rfl)
theorem dX7_orderAt_1 : decode cX7_orderAt 1 = .ok (.lstore_n 2, 1) := dk_65 (dk_at dksX7_orderAt_0 1 rfl rfl)
theorem dX7_orderAt_2 : decode cX7_orderAt 2 = .ok (.iconst 0, 1) := dk_3 (dk_at dksX7_orderAt_0 2 rfl rfl)
theorem dX7_orderAt_3 : decode cX7_orderAt 3 = .ok (.istore 4, 2) := dk_54 4 (dk_at dksX7_orderAt_0 3 rfl rfl)
theorem dX7_orderAt_5 : decode cX7_orderAt 5 = .ok (.iload 4, 2) := dk_21 4 (dk_at dksX7_orderAt_0 5 rfl rfl)
theorem dX7_orderAt_7 : decode cX7_orderAt 7 = .ok (.aload_n 0, 1) := dk_42 (dk_at dksX7_orderAt_0 7 rfl rfl)
theorem dX7_orderAt_8 : decode cX7_orderAt 8 = .ok (.invokevirtual 253, 3) := dk_182 0 253 (dk_at dksX7_orderAt_0 8 rfl rfl)
theorem dX7_orderAt_11 : decode cX7_orderAt 11 = .ok (.if_icmp .ge 27, 3) := dk_162 0 27 (dk_at dksX7_orderAt_0 11 rfl rfl)
theorem dX7_orderAt_14 : decode cX7_orderAt 14 = .ok (.ldc2_w 441, 3) := dk_20 1 185 (dk_at dksX7_orderAt_0 14 rfl rfl)
theorem dX7_orderAt_17 : decode cX7_orderAt 17 = .ok (.lload_n 2, 1) := dk_32 (dk_at dksX7_orderAt_0 17 rfl rfl)
theorem dX7_orderAt_18 : decode cX7_orderAt 18 = .ok (.lmul, 1) := dk_105 (dk_at dksX7_orderAt_0 18 rfl rfl)
theorem dX7_orderAt_19 : decode cX7_orderAt 19 = .ok (.aload_n 0, 1) := dk_42 (dk_at dksX7_orderAt_0 19 rfl rfl)
theorem dX7_orderAt_20 : decode cX7_orderAt 20 = .ok (.iload_n 1, 1) := dk_27 (dk_at dksX7_orderAt_0 20 rfl rfl)
theorem dX7_orderAt_21 : decode cX7_orderAt 21 = .ok (.iconst 0, 1) := dk_3 (dk_at dksX7_orderAt_0 21 rfl rfl)
theorem dX7_orderAt_22 : decode cX7_orderAt 22 = .ok (.iload 4, 2) := dk_21 4 (dk_at dksX7_orderAt_0 22 rfl rfl)
theorem dX7_orderAt_24 : decode cX7_orderAt 24 = .ok (.invokevirtual 264, 3) := dk_182 1 8 (dk_at dksX7_orderAt_1 0 rfl rfl)
theorem dX7_orderAt_27 : decode cX7_orderAt 27 = .ok (.iconst 2, 1) := dk_5 (dk_at dksX7_orderAt_1 3 rfl rfl)
theorem dX7_orderAt_28 : decode cX7_orderAt 28 = .ok (.idiv, 1) := dk_108 (dk_at dksX7_orderAt_1 4 rfl rfl)
theorem dX7_orderAt_29 : decode cX7_orderAt 29 = .ok (.i2l, 1) := dk_133 (dk_at dksX7_orderAt_1 5 rfl rfl)
theorem dX7_orderAt_30 : decode cX7_orderAt 30 = .ok (.ladd, 1) := dk_97 (dk_at dksX7_orderAt_1 6 rfl rfl)
theorem dX7_orderAt_31 : decode cX7_orderAt 31 = .ok (.lstore_n 2, 1) := dk_65 (dk_at dksX7_orderAt_1 7 rfl rfl)
theorem dX7_orderAt_32 : decode cX7_orderAt 32 = .ok (.iinc 4 1, 3) := dk_132 4 1 (dk_at dksX7_orderAt_1 8 rfl rfl)
theorem dX7_orderAt_35 : decode cX7_orderAt 35 = .ok (.goto (-30), 3) := dk_167 255 226 (dk_at dksX7_orderAt_1 11 rfl rfl)
theorem dX7_orderAt_38 : decode cX7_orderAt 38 = .ok (.lload_n 2, 1) := dk_32 (dk_at dksX7_orderAt_1 14 rfl rfl)
theorem dX7_orderAt_39 : decode cX7_orderAt 39 = .ok (.lreturn, 1) := dk_173 (dk_at dksX7_orderAt_1 15 rfl rfl)
abbrev cX7_creasesAt : ByteArray := prog_43_method_56_code
def yX7_creasesAt : MethodName := ⟨RX7, "creasesAt", "(I)I"⟩
def dkwX7_creasesAt_1 : List UInt8 := [182, 1, 49, 96, 61, 132, 3, 1, 167, 255, 233, 28, 172]
abbrev dktX7_creasesAt_1 : List UInt8 := dkwX7_creasesAt_1 ++ []
def dkwX7_creasesAt_0 : List UInt8 := [42, 27, 182, 1, 46, 3, 61, 3, 62, 29, 4, 96, 42, 182, 0, 253, 162, 0, 19, 6, 28, 104, 42, 29]
abbrev dktX7_creasesAt_0 : List UInt8 := dkwX7_creasesAt_0 ++ dktX7_creasesAt_1
theorem dksX7_creasesAt_0 : cX7_creasesAt.data.toList.drop 0 = dktX7_creasesAt_0 := by decide +kernel
theorem dksX7_creasesAt_1 : cX7_creasesAt.data.toList.drop 24 = dktX7_creasesAt_1 := dk_seg dksX7_creasesAt_0 24 rfl rfl
theorem dX7_creasesAt_0 : decode cX7_creasesAt 0 = .ok (.aload_n 0, 1) := dk_42 (dk_at dksX7_creasesAt_0 0 rfl rfl)
theorem dX7_creasesAt_1 : decode cX7_creasesAt 1 = .ok (.iload_n 1, 1) := dk_27 (dk_at dksX7_creasesAt_0 1 rfl rfl)
theorem dX7_creasesAt_2 : decode cX7_creasesAt 2 = .ok (.invokevirtual 302, 3) := dk_182 1 46 (dk_at dksX7_creasesAt_0 2 rfl rfl)
theorem dX7_creasesAt_5 : decode cX7_creasesAt 5 = .ok (.iconst 0, 1) := dk_3 (dk_at dksX7_creasesAt_0 5 rfl rfl)
theorem dX7_creasesAt_6 : decode cX7_creasesAt 6 = .ok (.istore_n 2, 1) := dk_61 (dk_at dksX7_creasesAt_0 6 rfl rfl)
theorem dX7_creasesAt_7 : decode cX7_creasesAt 7 = .ok (.iconst 0, 1) := dk_3 (dk_at dksX7_creasesAt_0 7 rfl rfl)
theorem dX7_creasesAt_8 : decode cX7_creasesAt 8 = .ok (.istore_n 3, 1) := dk_62 (dk_at dksX7_creasesAt_0 8 rfl rfl)
theorem dX7_creasesAt_9 : decode cX7_creasesAt 9 = .ok (.iload_n 3, 1) := dk_29 (dk_at dksX7_creasesAt_0 9 rfl rfl)
theorem dX7_creasesAt_10 : decode cX7_creasesAt 10 = .ok (.iconst 1, 1) := dk_4 (dk_at dksX7_creasesAt_0 10 rfl rfl)
theorem dX7_creasesAt_11 : decode cX7_creasesAt 11 = .ok (.iadd, 1) := dk_96 (dk_at dksX7_creasesAt_0 11 rfl rfl)
theorem dX7_creasesAt_12 : decode cX7_creasesAt 12 = .ok (.aload_n 0, 1) := dk_42 (dk_at dksX7_creasesAt_0 12 rfl rfl)
theorem dX7_creasesAt_13 : decode cX7_creasesAt 13 = .ok (.invokevirtual 253, 3) := dk_182 0 253 (dk_at dksX7_creasesAt_0 13 rfl rfl)
theorem dX7_creasesAt_16 : decode cX7_creasesAt 16 = .ok (.if_icmp .ge 19, 3) := dk_162 0 19 (dk_at dksX7_creasesAt_0 16 rfl rfl)
theorem dX7_creasesAt_19 : decode cX7_creasesAt 19 = .ok (.iconst 3, 1) := dk_6 (dk_at dksX7_creasesAt_0 19 rfl rfl)
theorem dX7_creasesAt_20 : decode cX7_creasesAt 20 = .ok (.iload_n 2, 1) := dk_28 (dk_at dksX7_creasesAt_0 20 rfl rfl)
theorem dX7_creasesAt_21 : decode cX7_creasesAt 21 = .ok (.imul, 1) := dk_104 (dk_at dksX7_creasesAt_0 21 rfl rfl)
theorem dX7_creasesAt_22 : decode cX7_creasesAt 22 = .ok (.aload_n 0, 1) := dk_42 (dk_at dksX7_creasesAt_0 22 rfl rfl)
theorem dX7_creasesAt_23 : decode cX7_creasesAt 23 = .ok (.iload_n 3, 1) := dk_29 (dk_at dksX7_creasesAt_0 23 rfl rfl)
theorem dX7_creasesAt_24 : decode cX7_creasesAt 24 = .ok (.invokevirtual 305, 3) := dk_182 1 49 (dk_at dksX7_creasesAt_1 0 rfl rfl)
theorem dX7_creasesAt_27 : decode cX7_creasesAt 27 = .ok (.iadd, 1) := dk_96 (dk_at dksX7_creasesAt_1 3 rfl rfl)
theorem dX7_creasesAt_28 : decode cX7_creasesAt 28 = .ok (.istore_n 2, 1) := dk_61 (dk_at dksX7_creasesAt_1 4 rfl rfl)
theorem dX7_creasesAt_29 : decode cX7_creasesAt 29 = .ok (.iinc 3 1, 3) := dk_132 3 1 (dk_at dksX7_creasesAt_1 5 rfl rfl)
theorem dX7_creasesAt_32 : decode cX7_creasesAt 32 = .ok (.goto (-23), 3) := dk_167 255 233 (dk_at dksX7_creasesAt_1 8 rfl rfl)
theorem dX7_creasesAt_35 : decode cX7_creasesAt 35 = .ok (.iload_n 2, 1) := dk_28 (dk_at dksX7_creasesAt_1 11 rfl rfl)
theorem dX7_creasesAt_36 : decode cX7_creasesAt 36 = .ok (.ireturn, 1) := dk_172 (dk_at dksX7_creasesAt_1 12 rfl rfl)
abbrev cX7_looksSo : ByteArray := prog_43_method_96_code
def yX7_looksSo : MethodName := ⟨RX7, "looksSo", "(II)Z"⟩
def dkwX7_looksSo_3 : List UInt8 := [132, 3, 1, 167, 255, 201, 4, 172]
abbrev dktX7_looksSo_3 : List UInt8 := dkwX7_looksSo_3 ++ []
def dkwX7_looksSo_2 : List UInt8 := [180, 0, 74, 16, 30, 28, 104, 29, 96, 47, 42, 27, 29, 182, 1, 31, 133, 148, 153, 0, 5, 3, 172]
abbrev dktX7_looksSo_2 : List UInt8 := dkwX7_looksSo_2 ++ dktX7_looksSo_3
def dkwX7_looksSo_1 : List UInt8 := [46, 162, 0, 51, 42, 180, 0, 74, 16, 30, 28, 104, 29, 96, 47, 20, 1, 119, 148, 153, 0, 27, 42]
abbrev dktX7_looksSo_1 : List UInt8 := dkwX7_looksSo_1 ++ dktX7_looksSo_2
def dkwX7_looksSo_0 : List UInt8 := [42, 27, 182, 1, 0, 42, 180, 0, 71, 28, 46, 159, 0, 5, 3, 172, 3, 62, 29, 42, 180, 0, 71, 28]
abbrev dktX7_looksSo_0 : List UInt8 := dkwX7_looksSo_0 ++ dktX7_looksSo_1
theorem dksX7_looksSo_0 : cX7_looksSo.data.toList.drop 0 = dktX7_looksSo_0 := by decide +kernel
theorem dksX7_looksSo_1 : cX7_looksSo.data.toList.drop 24 = dktX7_looksSo_1 := dk_seg dksX7_looksSo_0 24 rfl rfl
theorem dksX7_looksSo_2 : cX7_looksSo.data.toList.drop 47 = dktX7_looksSo_2 := dk_seg dksX7_looksSo_1 23 rfl rfl
theorem dksX7_looksSo_3 : cX7_looksSo.data.toList.drop 70 = dktX7_looksSo_3 := dk_seg dksX7_looksSo_2 23 rfl rfl
theorem dX7_looksSo_0 : decode cX7_looksSo 0 = .ok (.aload_n 0, 1) := dk_42 (dk_at dksX7_looksSo_0 0 rfl rfl)
theorem dX7_looksSo_1 : decode cX7_looksSo 1 = .ok (.iload_n 1, 1) := dk_27 (dk_at dksX7_looksSo_0 1 rfl rfl)
theorem dX7_looksSo_2 : decode cX7_looksSo 2 = .ok (.invokevirtual 256, 3) := dk_182 1 0 (dk_at dksX7_looksSo_0 2 rfl rfl)
theorem dX7_looksSo_5 : decode cX7_looksSo 5 = .ok (.aload_n 0, 1) := dk_42 (dk_at dksX7_looksSo_0 5 rfl rfl)
theorem dX7_looksSo_6 : decode cX7_looksSo 6 = .ok (.getfield 71, 3) := dk_180 0 71 (dk_at dksX7_looksSo_0 6 rfl rfl)
theorem dX7_looksSo_9 : decode cX7_looksSo 9 = .ok (.iload_n 2, 1) := dk_28 (dk_at dksX7_looksSo_0 9 rfl rfl)
theorem dX7_looksSo_10 : decode cX7_looksSo 10 = .ok (.iaload, 1) := dk_46 (dk_at dksX7_looksSo_0 10 rfl rfl)
theorem dX7_looksSo_11 : decode cX7_looksSo 11 = .ok (.if_icmp .eq 5, 3) := dk_159 0 5 (dk_at dksX7_looksSo_0 11 rfl rfl)
theorem dX7_looksSo_14 : decode cX7_looksSo 14 = .ok (.iconst 0, 1) := dk_3 (dk_at dksX7_looksSo_0 14 rfl rfl)
theorem dX7_looksSo_15 : decode cX7_looksSo 15 = .ok (.ireturn, 1) := dk_172 (dk_at dksX7_looksSo_0 15 rfl rfl)
theorem dX7_looksSo_16 : decode cX7_looksSo 16 = .ok (.iconst 0, 1) := dk_3 (dk_at dksX7_looksSo_0 16 rfl rfl)
theorem dX7_looksSo_17 : decode cX7_looksSo 17 = .ok (.istore_n 3, 1) := dk_62 (dk_at dksX7_looksSo_0 17 rfl rfl)
theorem dX7_looksSo_18 : decode cX7_looksSo 18 = .ok (.iload_n 3, 1) := dk_29 (dk_at dksX7_looksSo_0 18 rfl rfl)
theorem dX7_looksSo_19 : decode cX7_looksSo 19 = .ok (.aload_n 0, 1) := dk_42 (dk_at dksX7_looksSo_0 19 rfl rfl)
theorem dX7_looksSo_20 : decode cX7_looksSo 20 = .ok (.getfield 71, 3) := dk_180 0 71 (dk_at dksX7_looksSo_0 20 rfl rfl)
theorem dX7_looksSo_23 : decode cX7_looksSo 23 = .ok (.iload_n 2, 1) := dk_28 (dk_at dksX7_looksSo_0 23 rfl rfl)
theorem dX7_looksSo_24 : decode cX7_looksSo 24 = .ok (.iaload, 1) := dk_46 (dk_at dksX7_looksSo_1 0 rfl rfl)
theorem dX7_looksSo_25 : decode cX7_looksSo 25 = .ok (.if_icmp .ge 51, 3) := dk_162 0 51 (dk_at dksX7_looksSo_1 1 rfl rfl)
theorem dX7_looksSo_28 : decode cX7_looksSo 28 = .ok (.aload_n 0, 1) := dk_42 (dk_at dksX7_looksSo_1 4 rfl rfl)
theorem dX7_looksSo_29 : decode cX7_looksSo 29 = .ok (.getfield 74, 3) := dk_180 0 74 (dk_at dksX7_looksSo_1 5 rfl rfl)
theorem dX7_looksSo_32 : decode cX7_looksSo 32 = .ok (.bipush 30, 2) := dk_16 30 (dk_at dksX7_looksSo_1 8 rfl rfl)
theorem dX7_looksSo_34 : decode cX7_looksSo 34 = .ok (.iload_n 2, 1) := dk_28 (dk_at dksX7_looksSo_1 10 rfl rfl)
theorem dX7_looksSo_35 : decode cX7_looksSo 35 = .ok (.imul, 1) := dk_104 (dk_at dksX7_looksSo_1 11 rfl rfl)
theorem dX7_looksSo_36 : decode cX7_looksSo 36 = .ok (.iload_n 3, 1) := dk_29 (dk_at dksX7_looksSo_1 12 rfl rfl)
theorem dX7_looksSo_37 : decode cX7_looksSo 37 = .ok (.iadd, 1) := dk_96 (dk_at dksX7_looksSo_1 13 rfl rfl)
theorem dX7_looksSo_38 : decode cX7_looksSo 38 = .ok (.laload, 1) := dk_47 (dk_at dksX7_looksSo_1 14 rfl rfl)
theorem dX7_looksSo_39 : decode cX7_looksSo 39 = .ok (.ldc2_w 375, 3) := dk_20 1 119 (dk_at dksX7_looksSo_1 15 rfl rfl)
theorem dX7_looksSo_42 : decode cX7_looksSo 42 = .ok (.lcmp, 1) := dk_148 (dk_at dksX7_looksSo_1 18 rfl rfl)
theorem dX7_looksSo_43 : decode cX7_looksSo 43 = .ok (.ifCond .eq 27, 3) := dk_153 0 27 (dk_at dksX7_looksSo_1 19 rfl rfl)
theorem dX7_looksSo_46 : decode cX7_looksSo 46 = .ok (.aload_n 0, 1) := dk_42 (dk_at dksX7_looksSo_1 22 rfl rfl)
theorem dX7_looksSo_47 : decode cX7_looksSo 47 = .ok (.getfield 74, 3) := dk_180 0 74 (dk_at dksX7_looksSo_2 0 rfl rfl)
theorem dX7_looksSo_50 : decode cX7_looksSo 50 = .ok (.bipush 30, 2) := dk_16 30 (dk_at dksX7_looksSo_2 3 rfl rfl)
theorem dX7_looksSo_52 : decode cX7_looksSo 52 = .ok (.iload_n 2, 1) := dk_28 (dk_at dksX7_looksSo_2 5 rfl rfl)
theorem dX7_looksSo_53 : decode cX7_looksSo 53 = .ok (.imul, 1) := dk_104 (dk_at dksX7_looksSo_2 6 rfl rfl)
theorem dX7_looksSo_54 : decode cX7_looksSo 54 = .ok (.iload_n 3, 1) := dk_29 (dk_at dksX7_looksSo_2 7 rfl rfl)
theorem dX7_looksSo_55 : decode cX7_looksSo 55 = .ok (.iadd, 1) := dk_96 (dk_at dksX7_looksSo_2 8 rfl rfl)
theorem dX7_looksSo_56 : decode cX7_looksSo 56 = .ok (.laload, 1) := dk_47 (dk_at dksX7_looksSo_2 9 rfl rfl)
theorem dX7_looksSo_57 : decode cX7_looksSo 57 = .ok (.aload_n 0, 1) := dk_42 (dk_at dksX7_looksSo_2 10 rfl rfl)
theorem dX7_looksSo_58 : decode cX7_looksSo 58 = .ok (.iload_n 1, 1) := dk_27 (dk_at dksX7_looksSo_2 11 rfl rfl)
theorem dX7_looksSo_59 : decode cX7_looksSo 59 = .ok (.iload_n 3, 1) := dk_29 (dk_at dksX7_looksSo_2 12 rfl rfl)
theorem dX7_looksSo_60 : decode cX7_looksSo 60 = .ok (.invokevirtual 287, 3) := dk_182 1 31 (dk_at dksX7_looksSo_2 13 rfl rfl)
theorem dX7_looksSo_63 : decode cX7_looksSo 63 = .ok (.i2l, 1) := dk_133 (dk_at dksX7_looksSo_2 16 rfl rfl)
theorem dX7_looksSo_64 : decode cX7_looksSo 64 = .ok (.lcmp, 1) := dk_148 (dk_at dksX7_looksSo_2 17 rfl rfl)
theorem dX7_looksSo_65 : decode cX7_looksSo 65 = .ok (.ifCond .eq 5, 3) := dk_153 0 5 (dk_at dksX7_looksSo_2 18 rfl rfl)
theorem dX7_looksSo_68 : decode cX7_looksSo 68 = .ok (.iconst 0, 1) := dk_3 (dk_at dksX7_looksSo_2 21 rfl rfl)
theorem dX7_looksSo_69 : decode cX7_looksSo 69 = .ok (.ireturn, 1) := dk_172 (dk_at dksX7_looksSo_2 22 rfl rfl)
theorem dX7_looksSo_70 : decode cX7_looksSo 70 = .ok (.iinc 3 1, 3) := dk_132 3 1 (dk_at dksX7_looksSo_3 0 rfl rfl)
theorem dX7_looksSo_73 : decode cX7_looksSo 73 = .ok (.goto (-55), 3) := dk_167 255 201 (dk_at dksX7_looksSo_3 3 rfl rfl)
theorem dX7_looksSo_76 : decode cX7_looksSo 76 = .ok (.iconst 1, 1) := dk_4 (dk_at dksX7_looksSo_3 6 rfl rfl)
theorem dX7_looksSo_77 : decode cX7_looksSo 77 = .ok (.ireturn, 1) := dk_172 (dk_at dksX7_looksSo_3 7 rfl rfl)
abbrev cX7_seesOne : ByteArray := prog_43_method_139_code
def yX7_seesOne : MethodName := ⟨RX7, "seesOne", "(I)V"⟩
def dkwX7_seesOne_3 : List UInt8 := [16, 100, 28, 104, 42, 27, 28, 182, 1, 34, 96, 92, 46, 4, 96, 79, 132, 2, 1, 167, 255, 224, 177]
abbrev dktX7_seesOne_3 : List UInt8 := dkwX7_seesOne_3 ++ []
def dkwX7_seesOne_2 : List UInt8 := [181, 2, 43, 132, 2, 1, 167, 255, 221, 3, 61, 28, 42, 27, 182, 1, 0, 162, 0, 29, 42, 180, 0, 65]
abbrev dktX7_seesOne_2 : List UInt8 := dkwX7_seesOne_2 ++ dktX7_seesOne_3
def dkwX7_seesOne_1 : List UInt8 := [162, 0, 31, 42, 28, 182, 1, 49, 154, 0, 17, 42, 89, 180, 2, 43, 4, 28, 120, 2, 130, 126]
abbrev dktX7_seesOne_1 : List UInt8 := dkwX7_seesOne_1 ++ dktX7_seesOne_2
def dkwX7_seesOne_0 : List UInt8 := [42, 89, 180, 1, 196, 4, 96, 181, 1, 196, 42, 27, 182, 1, 46, 3, 61, 28, 4, 96, 42, 182, 0, 253]
abbrev dktX7_seesOne_0 : List UInt8 := dkwX7_seesOne_0 ++ dktX7_seesOne_1
theorem dksX7_seesOne_0 : cX7_seesOne.data.toList.drop 0 = dktX7_seesOne_0 := by decide +kernel
theorem dksX7_seesOne_1 : cX7_seesOne.data.toList.drop 24 = dktX7_seesOne_1 := dk_seg dksX7_seesOne_0 24 rfl rfl
theorem dksX7_seesOne_2 : cX7_seesOne.data.toList.drop 46 = dktX7_seesOne_2 := dk_seg dksX7_seesOne_1 22 rfl rfl
theorem dksX7_seesOne_3 : cX7_seesOne.data.toList.drop 70 = dktX7_seesOne_3 := dk_seg dksX7_seesOne_2 24 rfl rfl
theorem dX7_seesOne_0 : decode cX7_seesOne 0 = .ok (.aload_n 0, 1) := dk_42 (dk_at dksX7_seesOne_0 0 rfl rfl)
theorem dX7_seesOne_1 : decode cX7_seesOne 1 = .ok (.dup, 1) := dk_89 (dk_at dksX7_seesOne_0 1 rfl rfl)
theorem dX7_seesOne_2 : decode cX7_seesOne 2 = .ok (.getfield 452, 3) := dk_180 1 196 (dk_at dksX7_seesOne_0 2 rfl rfl)
theorem dX7_seesOne_5 : decode cX7_seesOne 5 = .ok (.iconst 1, 1) := dk_4 (dk_at dksX7_seesOne_0 5 rfl rfl)
theorem dX7_seesOne_6 : decode cX7_seesOne 6 = .ok (.iadd, 1) := dk_96 (dk_at dksX7_seesOne_0 6 rfl rfl)
theorem dX7_seesOne_7 : decode cX7_seesOne 7 = .ok (.putfield 452, 3) := dk_181 1 196 (dk_at dksX7_seesOne_0 7 rfl rfl)
theorem dX7_seesOne_10 : decode cX7_seesOne 10 = .ok (.aload_n 0, 1) := dk_42 (dk_at dksX7_seesOne_0 10 rfl rfl)
theorem dX7_seesOne_11 : decode cX7_seesOne 11 = .ok (.iload_n 1, 1) := dk_27 (dk_at dksX7_seesOne_0 11 rfl rfl)
theorem dX7_seesOne_12 : decode cX7_seesOne 12 = .ok (.invokevirtual 302, 3) := dk_182 1 46 (dk_at dksX7_seesOne_0 12 rfl rfl)
theorem dX7_seesOne_15 : decode cX7_seesOne 15 = .ok (.iconst 0, 1) := dk_3 (dk_at dksX7_seesOne_0 15 rfl rfl)
theorem dX7_seesOne_16 : decode cX7_seesOne 16 = .ok (.istore_n 2, 1) := dk_61 (dk_at dksX7_seesOne_0 16 rfl rfl)
theorem dX7_seesOne_17 : decode cX7_seesOne 17 = .ok (.iload_n 2, 1) := dk_28 (dk_at dksX7_seesOne_0 17 rfl rfl)
theorem dX7_seesOne_18 : decode cX7_seesOne 18 = .ok (.iconst 1, 1) := dk_4 (dk_at dksX7_seesOne_0 18 rfl rfl)
theorem dX7_seesOne_19 : decode cX7_seesOne 19 = .ok (.iadd, 1) := dk_96 (dk_at dksX7_seesOne_0 19 rfl rfl)
theorem dX7_seesOne_20 : decode cX7_seesOne 20 = .ok (.aload_n 0, 1) := dk_42 (dk_at dksX7_seesOne_0 20 rfl rfl)
theorem dX7_seesOne_21 : decode cX7_seesOne 21 = .ok (.invokevirtual 253, 3) := dk_182 0 253 (dk_at dksX7_seesOne_0 21 rfl rfl)
theorem dX7_seesOne_24 : decode cX7_seesOne 24 = .ok (.if_icmp .ge 31, 3) := dk_162 0 31 (dk_at dksX7_seesOne_1 0 rfl rfl)
theorem dX7_seesOne_27 : decode cX7_seesOne 27 = .ok (.aload_n 0, 1) := dk_42 (dk_at dksX7_seesOne_1 3 rfl rfl)
theorem dX7_seesOne_28 : decode cX7_seesOne 28 = .ok (.iload_n 2, 1) := dk_28 (dk_at dksX7_seesOne_1 4 rfl rfl)
theorem dX7_seesOne_29 : decode cX7_seesOne 29 = .ok (.invokevirtual 305, 3) := dk_182 1 49 (dk_at dksX7_seesOne_1 5 rfl rfl)
theorem dX7_seesOne_32 : decode cX7_seesOne 32 = .ok (.ifCond .ne 17, 3) := dk_154 0 17 (dk_at dksX7_seesOne_1 8 rfl rfl)
theorem dX7_seesOne_35 : decode cX7_seesOne 35 = .ok (.aload_n 0, 1) := dk_42 (dk_at dksX7_seesOne_1 11 rfl rfl)
theorem dX7_seesOne_36 : decode cX7_seesOne 36 = .ok (.dup, 1) := dk_89 (dk_at dksX7_seesOne_1 12 rfl rfl)
theorem dX7_seesOne_37 : decode cX7_seesOne 37 = .ok (.getfield 555, 3) := dk_180 2 43 (dk_at dksX7_seesOne_1 13 rfl rfl)
theorem dX7_seesOne_40 : decode cX7_seesOne 40 = .ok (.iconst 1, 1) := dk_4 (dk_at dksX7_seesOne_1 16 rfl rfl)
theorem dX7_seesOne_41 : decode cX7_seesOne 41 = .ok (.iload_n 2, 1) := dk_28 (dk_at dksX7_seesOne_1 17 rfl rfl)
theorem dX7_seesOne_42 : decode cX7_seesOne 42 = .ok (.ishl, 1) := dk_120 (dk_at dksX7_seesOne_1 18 rfl rfl)
theorem dX7_seesOne_43 : decode cX7_seesOne 43 = .ok (.iconst (-1), 1) := dk_2 (dk_at dksX7_seesOne_1 19 rfl rfl)
theorem dX7_seesOne_44 : decode cX7_seesOne 44 = .ok (.ixor, 1) := dk_130 (dk_at dksX7_seesOne_1 20 rfl rfl)
theorem dX7_seesOne_45 : decode cX7_seesOne 45 = .ok (.iand, 1) := dk_126 (dk_at dksX7_seesOne_1 21 rfl rfl)
theorem dX7_seesOne_46 : decode cX7_seesOne 46 = .ok (.putfield 555, 3) := dk_181 2 43 (dk_at dksX7_seesOne_2 0 rfl rfl)
theorem dX7_seesOne_49 : decode cX7_seesOne 49 = .ok (.iinc 2 1, 3) := dk_132 2 1 (dk_at dksX7_seesOne_2 3 rfl rfl)
theorem dX7_seesOne_52 : decode cX7_seesOne 52 = .ok (.goto (-35), 3) := dk_167 255 221 (dk_at dksX7_seesOne_2 6 rfl rfl)
theorem dX7_seesOne_55 : decode cX7_seesOne 55 = .ok (.iconst 0, 1) := dk_3 (dk_at dksX7_seesOne_2 9 rfl rfl)
theorem dX7_seesOne_56 : decode cX7_seesOne 56 = .ok (.istore_n 2, 1) := dk_61 (dk_at dksX7_seesOne_2 10 rfl rfl)
theorem dX7_seesOne_57 : decode cX7_seesOne 57 = .ok (.iload_n 2, 1) := dk_28 (dk_at dksX7_seesOne_2 11 rfl rfl)
theorem dX7_seesOne_58 : decode cX7_seesOne 58 = .ok (.aload_n 0, 1) := dk_42 (dk_at dksX7_seesOne_2 12 rfl rfl)
theorem dX7_seesOne_59 : decode cX7_seesOne 59 = .ok (.iload_n 1, 1) := dk_27 (dk_at dksX7_seesOne_2 13 rfl rfl)
theorem dX7_seesOne_60 : decode cX7_seesOne 60 = .ok (.invokevirtual 256, 3) := dk_182 1 0 (dk_at dksX7_seesOne_2 14 rfl rfl)
theorem dX7_seesOne_63 : decode cX7_seesOne 63 = .ok (.if_icmp .ge 29, 3) := dk_162 0 29 (dk_at dksX7_seesOne_2 17 rfl rfl)
theorem dX7_seesOne_66 : decode cX7_seesOne 66 = .ok (.aload_n 0, 1) := dk_42 (dk_at dksX7_seesOne_2 20 rfl rfl)
theorem dX7_seesOne_67 : decode cX7_seesOne 67 = .ok (.getfield 65, 3) := dk_180 0 65 (dk_at dksX7_seesOne_2 21 rfl rfl)
theorem dX7_seesOne_70 : decode cX7_seesOne 70 = .ok (.bipush 100, 2) := dk_16 100 (dk_at dksX7_seesOne_3 0 rfl rfl)
theorem dX7_seesOne_72 : decode cX7_seesOne 72 = .ok (.iload_n 2, 1) := dk_28 (dk_at dksX7_seesOne_3 2 rfl rfl)
theorem dX7_seesOne_73 : decode cX7_seesOne 73 = .ok (.imul, 1) := dk_104 (dk_at dksX7_seesOne_3 3 rfl rfl)
theorem dX7_seesOne_74 : decode cX7_seesOne 74 = .ok (.aload_n 0, 1) := dk_42 (dk_at dksX7_seesOne_3 4 rfl rfl)
theorem dX7_seesOne_75 : decode cX7_seesOne 75 = .ok (.iload_n 1, 1) := dk_27 (dk_at dksX7_seesOne_3 5 rfl rfl)
theorem dX7_seesOne_76 : decode cX7_seesOne 76 = .ok (.iload_n 2, 1) := dk_28 (dk_at dksX7_seesOne_3 6 rfl rfl)
theorem dX7_seesOne_77 : decode cX7_seesOne 77 = .ok (.invokevirtual 290, 3) := dk_182 1 34 (dk_at dksX7_seesOne_3 7 rfl rfl)
theorem dX7_seesOne_80 : decode cX7_seesOne 80 = .ok (.iadd, 1) := dk_96 (dk_at dksX7_seesOne_3 10 rfl rfl)
theorem dX7_seesOne_81 : decode cX7_seesOne 81 = .ok (.dup2, 1) := dk_92 (dk_at dksX7_seesOne_3 11 rfl rfl)
theorem dX7_seesOne_82 : decode cX7_seesOne 82 = .ok (.iaload, 1) := dk_46 (dk_at dksX7_seesOne_3 12 rfl rfl)
theorem dX7_seesOne_83 : decode cX7_seesOne 83 = .ok (.iconst 1, 1) := dk_4 (dk_at dksX7_seesOne_3 13 rfl rfl)
theorem dX7_seesOne_84 : decode cX7_seesOne 84 = .ok (.iadd, 1) := dk_96 (dk_at dksX7_seesOne_3 14 rfl rfl)
theorem dX7_seesOne_85 : decode cX7_seesOne 85 = .ok (.iastore, 1) := dk_79 (dk_at dksX7_seesOne_3 15 rfl rfl)
theorem dX7_seesOne_86 : decode cX7_seesOne 86 = .ok (.iinc 2 1, 3) := dk_132 2 1 (dk_at dksX7_seesOne_3 16 rfl rfl)
theorem dX7_seesOne_89 : decode cX7_seesOne 89 = .ok (.goto (-32), 3) := dk_167 255 224 (dk_at dksX7_seesOne_3 19 rfl rfl)
theorem dX7_seesOne_92 : decode cX7_seesOne 92 = .ok (.return_, 1) := dk_177 (dk_at dksX7_seesOne_3 22 rfl rfl)
abbrev cX7_seesMade : ByteArray := prog_43_method_105_code
def yX7_seesMade : MethodName := ⟨RX7, "seesMade", "(I)Z"⟩
def dkwX7_seesMade_1 : List UInt8 := [42, 180, 1, 163, 100, 182, 1, 234, 42, 89, 180, 1, 196, 4, 96, 181, 1, 196, 3, 172]
abbrev dktX7_seesMade_1 : List UInt8 := dkwX7_seesMade_1 ++ []
def dkwX7_seesMade_0 : List UInt8 := [42, 27, 42, 180, 1, 193, 182, 1, 237, 154, 0, 5, 3, 172, 42, 180, 1, 196, 154, 0, 14, 42, 27, 27]
abbrev dktX7_seesMade_0 : List UInt8 := dkwX7_seesMade_0 ++ dktX7_seesMade_1
theorem dksX7_seesMade_0 : cX7_seesMade.data.toList.drop 0 = dktX7_seesMade_0 := by decide +kernel
theorem dksX7_seesMade_1 : cX7_seesMade.data.toList.drop 24 = dktX7_seesMade_1 := dk_seg dksX7_seesMade_0 24 rfl rfl
theorem dX7_seesMade_0 : decode cX7_seesMade 0 = .ok (.aload_n 0, 1) := dk_42 (dk_at dksX7_seesMade_0 0 rfl rfl)
theorem dX7_seesMade_1 : decode cX7_seesMade 1 = .ok (.iload_n 1, 1) := dk_27 (dk_at dksX7_seesMade_0 1 rfl rfl)
theorem dX7_seesMade_2 : decode cX7_seesMade 2 = .ok (.aload_n 0, 1) := dk_42 (dk_at dksX7_seesMade_0 2 rfl rfl)
theorem dX7_seesMade_3 : decode cX7_seesMade 3 = .ok (.getfield 449, 3) := dk_180 1 193 (dk_at dksX7_seesMade_0 3 rfl rfl)
theorem dX7_seesMade_6 : decode cX7_seesMade 6 = .ok (.invokevirtual 493, 3) := dk_182 1 237 (dk_at dksX7_seesMade_0 6 rfl rfl)
theorem dX7_seesMade_9 : decode cX7_seesMade 9 = .ok (.ifCond .ne 5, 3) := dk_154 0 5 (dk_at dksX7_seesMade_0 9 rfl rfl)
theorem dX7_seesMade_12 : decode cX7_seesMade 12 = .ok (.iconst 0, 1) := dk_3 (dk_at dksX7_seesMade_0 12 rfl rfl)
theorem dX7_seesMade_13 : decode cX7_seesMade 13 = .ok (.ireturn, 1) := dk_172 (dk_at dksX7_seesMade_0 13 rfl rfl)
theorem dX7_seesMade_14 : decode cX7_seesMade 14 = .ok (.aload_n 0, 1) := dk_42 (dk_at dksX7_seesMade_0 14 rfl rfl)
theorem dX7_seesMade_15 : decode cX7_seesMade 15 = .ok (.getfield 452, 3) := dk_180 1 196 (dk_at dksX7_seesMade_0 15 rfl rfl)
theorem dX7_seesMade_18 : decode cX7_seesMade 18 = .ok (.ifCond .ne 14, 3) := dk_154 0 14 (dk_at dksX7_seesMade_0 18 rfl rfl)
theorem dX7_seesMade_21 : decode cX7_seesMade 21 = .ok (.aload_n 0, 1) := dk_42 (dk_at dksX7_seesMade_0 21 rfl rfl)
theorem dX7_seesMade_22 : decode cX7_seesMade 22 = .ok (.iload_n 1, 1) := dk_27 (dk_at dksX7_seesMade_0 22 rfl rfl)
theorem dX7_seesMade_23 : decode cX7_seesMade 23 = .ok (.iload_n 1, 1) := dk_27 (dk_at dksX7_seesMade_0 23 rfl rfl)
theorem dX7_seesMade_24 : decode cX7_seesMade 24 = .ok (.aload_n 0, 1) := dk_42 (dk_at dksX7_seesMade_1 0 rfl rfl)
theorem dX7_seesMade_25 : decode cX7_seesMade 25 = .ok (.getfield 419, 3) := dk_180 1 163 (dk_at dksX7_seesMade_1 1 rfl rfl)
theorem dX7_seesMade_28 : decode cX7_seesMade 28 = .ok (.isub, 1) := dk_100 (dk_at dksX7_seesMade_1 4 rfl rfl)
theorem dX7_seesMade_29 : decode cX7_seesMade 29 = .ok (.invokevirtual 490, 3) := dk_182 1 234 (dk_at dksX7_seesMade_1 5 rfl rfl)
theorem dX7_seesMade_32 : decode cX7_seesMade 32 = .ok (.aload_n 0, 1) := dk_42 (dk_at dksX7_seesMade_1 8 rfl rfl)
theorem dX7_seesMade_33 : decode cX7_seesMade 33 = .ok (.dup, 1) := dk_89 (dk_at dksX7_seesMade_1 9 rfl rfl)
theorem dX7_seesMade_34 : decode cX7_seesMade 34 = .ok (.getfield 452, 3) := dk_180 1 196 (dk_at dksX7_seesMade_1 10 rfl rfl)
theorem dX7_seesMade_37 : decode cX7_seesMade 37 = .ok (.iconst 1, 1) := dk_4 (dk_at dksX7_seesMade_1 13 rfl rfl)
theorem dX7_seesMade_38 : decode cX7_seesMade 38 = .ok (.iadd, 1) := dk_96 (dk_at dksX7_seesMade_1 14 rfl rfl)
theorem dX7_seesMade_39 : decode cX7_seesMade 39 = .ok (.putfield 452, 3) := dk_181 1 196 (dk_at dksX7_seesMade_1 15 rfl rfl)
theorem dX7_seesMade_42 : decode cX7_seesMade 42 = .ok (.iconst 0, 1) := dk_3 (dk_at dksX7_seesMade_1 18 rfl rfl)
theorem dX7_seesMade_43 : decode cX7_seesMade 43 = .ok (.ireturn, 1) := dk_172 (dk_at dksX7_seesMade_1 19 rfl rfl)
abbrev cX7_hasCreases : ByteArray := prog_43_method_98_code
def yX7_hasCreases : MethodName := ⟨RX7, "hasCreases", "(II)Z"⟩
def dkwX7_hasCreases_1 : List UInt8 := [104, 29, 96, 47, 42, 29, 182, 1, 49, 133, 148, 153, 0, 5, 3, 172, 132, 3, 1, 167, 255, 220, 4, 172]
abbrev dktX7_hasCreases_1 : List UInt8 := dkwX7_hasCreases_1 ++ []
def dkwX7_hasCreases_0 : List UInt8 := [42, 27, 182, 1, 46, 3, 62, 29, 42, 180, 0, 71, 28, 46, 162, 0, 32, 42, 180, 0, 74, 16, 30, 28]
abbrev dktX7_hasCreases_0 : List UInt8 := dkwX7_hasCreases_0 ++ dktX7_hasCreases_1
theorem dksX7_hasCreases_0 : cX7_hasCreases.data.toList.drop 0 = dktX7_hasCreases_0 := by decide +kernel
theorem dksX7_hasCreases_1 : cX7_hasCreases.data.toList.drop 24 = dktX7_hasCreases_1 := dk_seg dksX7_hasCreases_0 24 rfl rfl
theorem dX7_hasCreases_0 : decode cX7_hasCreases 0 = .ok (.aload_n 0, 1) := dk_42 (dk_at dksX7_hasCreases_0 0 rfl rfl)
theorem dX7_hasCreases_1 : decode cX7_hasCreases 1 = .ok (.iload_n 1, 1) := dk_27 (dk_at dksX7_hasCreases_0 1 rfl rfl)
theorem dX7_hasCreases_2 : decode cX7_hasCreases 2 = .ok (.invokevirtual 302, 3) := dk_182 1 46 (dk_at dksX7_hasCreases_0 2 rfl rfl)
theorem dX7_hasCreases_5 : decode cX7_hasCreases 5 = .ok (.iconst 0, 1) := dk_3 (dk_at dksX7_hasCreases_0 5 rfl rfl)
theorem dX7_hasCreases_6 : decode cX7_hasCreases 6 = .ok (.istore_n 3, 1) := dk_62 (dk_at dksX7_hasCreases_0 6 rfl rfl)
theorem dX7_hasCreases_7 : decode cX7_hasCreases 7 = .ok (.iload_n 3, 1) := dk_29 (dk_at dksX7_hasCreases_0 7 rfl rfl)
theorem dX7_hasCreases_8 : decode cX7_hasCreases 8 = .ok (.aload_n 0, 1) := dk_42 (dk_at dksX7_hasCreases_0 8 rfl rfl)
theorem dX7_hasCreases_9 : decode cX7_hasCreases 9 = .ok (.getfield 71, 3) := dk_180 0 71 (dk_at dksX7_hasCreases_0 9 rfl rfl)
theorem dX7_hasCreases_12 : decode cX7_hasCreases 12 = .ok (.iload_n 2, 1) := dk_28 (dk_at dksX7_hasCreases_0 12 rfl rfl)
theorem dX7_hasCreases_13 : decode cX7_hasCreases 13 = .ok (.iaload, 1) := dk_46 (dk_at dksX7_hasCreases_0 13 rfl rfl)
theorem dX7_hasCreases_14 : decode cX7_hasCreases 14 = .ok (.if_icmp .ge 32, 3) := dk_162 0 32 (dk_at dksX7_hasCreases_0 14 rfl rfl)
theorem dX7_hasCreases_17 : decode cX7_hasCreases 17 = .ok (.aload_n 0, 1) := dk_42 (dk_at dksX7_hasCreases_0 17 rfl rfl)
theorem dX7_hasCreases_18 : decode cX7_hasCreases 18 = .ok (.getfield 74, 3) := dk_180 0 74 (dk_at dksX7_hasCreases_0 18 rfl rfl)
theorem dX7_hasCreases_21 : decode cX7_hasCreases 21 = .ok (.bipush 30, 2) := dk_16 30 (dk_at dksX7_hasCreases_0 21 rfl rfl)
theorem dX7_hasCreases_23 : decode cX7_hasCreases 23 = .ok (.iload_n 2, 1) := dk_28 (dk_at dksX7_hasCreases_0 23 rfl rfl)
theorem dX7_hasCreases_24 : decode cX7_hasCreases 24 = .ok (.imul, 1) := dk_104 (dk_at dksX7_hasCreases_1 0 rfl rfl)
theorem dX7_hasCreases_25 : decode cX7_hasCreases 25 = .ok (.iload_n 3, 1) := dk_29 (dk_at dksX7_hasCreases_1 1 rfl rfl)
theorem dX7_hasCreases_26 : decode cX7_hasCreases 26 = .ok (.iadd, 1) := dk_96 (dk_at dksX7_hasCreases_1 2 rfl rfl)
theorem dX7_hasCreases_27 : decode cX7_hasCreases 27 = .ok (.laload, 1) := dk_47 (dk_at dksX7_hasCreases_1 3 rfl rfl)
theorem dX7_hasCreases_28 : decode cX7_hasCreases 28 = .ok (.aload_n 0, 1) := dk_42 (dk_at dksX7_hasCreases_1 4 rfl rfl)
theorem dX7_hasCreases_29 : decode cX7_hasCreases 29 = .ok (.iload_n 3, 1) := dk_29 (dk_at dksX7_hasCreases_1 5 rfl rfl)
theorem dX7_hasCreases_30 : decode cX7_hasCreases 30 = .ok (.invokevirtual 305, 3) := dk_182 1 49 (dk_at dksX7_hasCreases_1 6 rfl rfl)
theorem dX7_hasCreases_33 : decode cX7_hasCreases 33 = .ok (.i2l, 1) := dk_133 (dk_at dksX7_hasCreases_1 9 rfl rfl)
theorem dX7_hasCreases_34 : decode cX7_hasCreases 34 = .ok (.lcmp, 1) := dk_148 (dk_at dksX7_hasCreases_1 10 rfl rfl)
theorem dX7_hasCreases_35 : decode cX7_hasCreases 35 = .ok (.ifCond .eq 5, 3) := dk_153 0 5 (dk_at dksX7_hasCreases_1 11 rfl rfl)
theorem dX7_hasCreases_38 : decode cX7_hasCreases 38 = .ok (.iconst 0, 1) := dk_3 (dk_at dksX7_hasCreases_1 14 rfl rfl)
theorem dX7_hasCreases_39 : decode cX7_hasCreases 39 = .ok (.ireturn, 1) := dk_172 (dk_at dksX7_hasCreases_1 15 rfl rfl)
theorem dX7_hasCreases_40 : decode cX7_hasCreases 40 = .ok (.iinc 3 1, 3) := dk_132 3 1 (dk_at dksX7_hasCreases_1 16 rfl rfl)
theorem dX7_hasCreases_43 : decode cX7_hasCreases 43 = .ok (.goto (-36), 3) := dk_167 255 220 (dk_at dksX7_hasCreases_1 19 rfl rfl)
theorem dX7_hasCreases_46 : decode cX7_hasCreases 46 = .ok (.iconst 1, 1) := dk_4 (dk_at dksX7_hasCreases_1 22 rfl rfl)
theorem dX7_hasCreases_47 : decode cX7_hasCreases 47 = .ok (.ireturn, 1) := dk_172 (dk_at dksX7_hasCreases_1 23 rfl rfl)
abbrev cX7_keepsRow : ByteArray := prog_43_method_93_code
def yX7_keepsRow : MethodName := ⟨RX7, "keepsRow", "(II)V"⟩
def dkwX7_keepsRow_1 : List UInt8 := [162, 0, 21, 42, 180, 0, 48, 29, 42, 180, 0, 45, 29, 46, 79, 132, 3, 1, 167, 255, 233, 177]
abbrev dktX7_keepsRow_1 : List UInt8 := dkwX7_keepsRow_1 ++ []
def dkwX7_keepsRow_0 : List UInt8 := [42, 28, 181, 1, 169, 42, 27, 42, 180, 1, 163, 100, 181, 1, 172, 3, 62, 29, 42, 180, 1, 172]
abbrev dktX7_keepsRow_0 : List UInt8 := dkwX7_keepsRow_0 ++ dktX7_keepsRow_1
theorem dksX7_keepsRow_0 : cX7_keepsRow.data.toList.drop 0 = dktX7_keepsRow_0 := by decide +kernel
theorem dksX7_keepsRow_1 : cX7_keepsRow.data.toList.drop 22 = dktX7_keepsRow_1 := dk_seg dksX7_keepsRow_0 22 rfl rfl
theorem dX7_keepsRow_0 : decode cX7_keepsRow 0 = .ok (.aload_n 0, 1) := dk_42 (dk_at dksX7_keepsRow_0 0 rfl rfl)
theorem dX7_keepsRow_1 : decode cX7_keepsRow 1 = .ok (.iload_n 2, 1) := dk_28 (dk_at dksX7_keepsRow_0 1 rfl rfl)
theorem dX7_keepsRow_2 : decode cX7_keepsRow 2 = .ok (.putfield 425, 3) := dk_181 1 169 (dk_at dksX7_keepsRow_0 2 rfl rfl)
theorem dX7_keepsRow_5 : decode cX7_keepsRow 5 = .ok (.aload_n 0, 1) := dk_42 (dk_at dksX7_keepsRow_0 5 rfl rfl)
theorem dX7_keepsRow_6 : decode cX7_keepsRow 6 = .ok (.iload_n 1, 1) := dk_27 (dk_at dksX7_keepsRow_0 6 rfl rfl)
theorem dX7_keepsRow_7 : decode cX7_keepsRow 7 = .ok (.aload_n 0, 1) := dk_42 (dk_at dksX7_keepsRow_0 7 rfl rfl)
theorem dX7_keepsRow_8 : decode cX7_keepsRow 8 = .ok (.getfield 419, 3) := dk_180 1 163 (dk_at dksX7_keepsRow_0 8 rfl rfl)
theorem dX7_keepsRow_11 : decode cX7_keepsRow 11 = .ok (.isub, 1) := dk_100 (dk_at dksX7_keepsRow_0 11 rfl rfl)
theorem dX7_keepsRow_12 : decode cX7_keepsRow 12 = .ok (.putfield 428, 3) := dk_181 1 172 (dk_at dksX7_keepsRow_0 12 rfl rfl)
theorem dX7_keepsRow_15 : decode cX7_keepsRow 15 = .ok (.iconst 0, 1) := dk_3 (dk_at dksX7_keepsRow_0 15 rfl rfl)
theorem dX7_keepsRow_16 : decode cX7_keepsRow 16 = .ok (.istore_n 3, 1) := dk_62 (dk_at dksX7_keepsRow_0 16 rfl rfl)
theorem dX7_keepsRow_17 : decode cX7_keepsRow 17 = .ok (.iload_n 3, 1) := dk_29 (dk_at dksX7_keepsRow_0 17 rfl rfl)
theorem dX7_keepsRow_18 : decode cX7_keepsRow 18 = .ok (.aload_n 0, 1) := dk_42 (dk_at dksX7_keepsRow_0 18 rfl rfl)
theorem dX7_keepsRow_19 : decode cX7_keepsRow 19 = .ok (.getfield 428, 3) := dk_180 1 172 (dk_at dksX7_keepsRow_0 19 rfl rfl)
theorem dX7_keepsRow_22 : decode cX7_keepsRow 22 = .ok (.if_icmp .ge 21, 3) := dk_162 0 21 (dk_at dksX7_keepsRow_1 0 rfl rfl)
theorem dX7_keepsRow_25 : decode cX7_keepsRow 25 = .ok (.aload_n 0, 1) := dk_42 (dk_at dksX7_keepsRow_1 3 rfl rfl)
theorem dX7_keepsRow_26 : decode cX7_keepsRow 26 = .ok (.getfield 48, 3) := dk_180 0 48 (dk_at dksX7_keepsRow_1 4 rfl rfl)
theorem dX7_keepsRow_29 : decode cX7_keepsRow 29 = .ok (.iload_n 3, 1) := dk_29 (dk_at dksX7_keepsRow_1 7 rfl rfl)
theorem dX7_keepsRow_30 : decode cX7_keepsRow 30 = .ok (.aload_n 0, 1) := dk_42 (dk_at dksX7_keepsRow_1 8 rfl rfl)
theorem dX7_keepsRow_31 : decode cX7_keepsRow 31 = .ok (.getfield 45, 3) := dk_180 0 45 (dk_at dksX7_keepsRow_1 9 rfl rfl)
theorem dX7_keepsRow_34 : decode cX7_keepsRow 34 = .ok (.iload_n 3, 1) := dk_29 (dk_at dksX7_keepsRow_1 12 rfl rfl)
theorem dX7_keepsRow_35 : decode cX7_keepsRow 35 = .ok (.iaload, 1) := dk_46 (dk_at dksX7_keepsRow_1 13 rfl rfl)
theorem dX7_keepsRow_36 : decode cX7_keepsRow 36 = .ok (.iastore, 1) := dk_79 (dk_at dksX7_keepsRow_1 14 rfl rfl)
theorem dX7_keepsRow_37 : decode cX7_keepsRow 37 = .ok (.iinc 3 1, 3) := dk_132 3 1 (dk_at dksX7_keepsRow_1 15 rfl rfl)
theorem dX7_keepsRow_40 : decode cX7_keepsRow 40 = .ok (.goto (-23), 3) := dk_167 255 233 (dk_at dksX7_keepsRow_1 18 rfl rfl)
theorem dX7_keepsRow_43 : decode cX7_keepsRow 43 = .ok (.return_, 1) := dk_177 (dk_at dksX7_keepsRow_1 21 rfl rfl)
abbrev cX7_found : ByteArray := prog_43_method_104_code
def yX7_found : MethodName := ⟨RX7, "found", "(IZ)Z"⟩
def dkwX7_found_0 : List UInt8 := [28, 153, 0, 14, 42, 27, 27, 42, 180, 1, 163, 100, 182, 1, 234, 28, 172]
abbrev dktX7_found_0 : List UInt8 := dkwX7_found_0 ++ []
theorem dksX7_found_0 : cX7_found.data.toList.drop 0 = dktX7_found_0 := by decide +kernel
theorem dX7_found_0 : decode cX7_found 0 = .ok (.iload_n 2, 1) := dk_28 (dk_at dksX7_found_0 0 rfl rfl)
theorem dX7_found_1 : decode cX7_found 1 = .ok (.ifCond .eq 14, 3) := dk_153 0 14 (dk_at dksX7_found_0 1 rfl rfl)
theorem dX7_found_4 : decode cX7_found 4 = .ok (.aload_n 0, 1) := dk_42 (dk_at dksX7_found_0 4 rfl rfl)
theorem dX7_found_5 : decode cX7_found 5 = .ok (.iload_n 1, 1) := dk_27 (dk_at dksX7_found_0 5 rfl rfl)
theorem dX7_found_6 : decode cX7_found 6 = .ok (.iload_n 1, 1) := dk_27 (dk_at dksX7_found_0 6 rfl rfl)
theorem dX7_found_7 : decode cX7_found 7 = .ok (.aload_n 0, 1) := dk_42 (dk_at dksX7_found_0 7 rfl rfl)
theorem dX7_found_8 : decode cX7_found 8 = .ok (.getfield 419, 3) := dk_180 1 163 (dk_at dksX7_found_0 8 rfl rfl)
theorem dX7_found_11 : decode cX7_found 11 = .ok (.isub, 1) := dk_100 (dk_at dksX7_found_0 11 rfl rfl)
theorem dX7_found_12 : decode cX7_found 12 = .ok (.invokevirtual 490, 3) := dk_182 1 234 (dk_at dksX7_found_0 12 rfl rfl)
theorem dX7_found_15 : decode cX7_found 15 = .ok (.iload_n 2, 1) := dk_28 (dk_at dksX7_found_0 15 rfl rfl)
theorem dX7_found_16 : decode cX7_found 16 = .ok (.ireturn, 1) := dk_172 (dk_at dksX7_found_0 16 rfl rfl)
abbrev cX7_isStack : ByteArray := prog_43_method_97_code
def yX7_isStack : MethodName := ⟨RX7, "isStack", "(II)Z"⟩
def dkwX7_isStack_2 : List UInt8 := [132, 3, 1, 167, 255, 218, 4, 172]
abbrev dktX7_isStack_2 : List UInt8 := dkwX7_isStack_2 ++ []
def dkwX7_isStack_1 : List UInt8 := [29, 182, 1, 8, 5, 108, 133, 42, 180, 0, 74, 16, 30, 28, 104, 29, 96, 47, 148, 153, 0, 5, 3, 172]
abbrev dktX7_isStack_1 : List UInt8 := dkwX7_isStack_1 ++ dktX7_isStack_2
def dkwX7_isStack_0 : List UInt8 := [42, 27, 182, 1, 0, 4, 164, 0, 5, 3, 172, 3, 62, 29, 42, 182, 0, 253, 162, 0, 36, 42, 27, 3]
abbrev dktX7_isStack_0 : List UInt8 := dkwX7_isStack_0 ++ dktX7_isStack_1
theorem dksX7_isStack_0 : cX7_isStack.data.toList.drop 0 = dktX7_isStack_0 := by decide +kernel
theorem dksX7_isStack_1 : cX7_isStack.data.toList.drop 24 = dktX7_isStack_1 := dk_seg dksX7_isStack_0 24 rfl rfl
theorem dksX7_isStack_2 : cX7_isStack.data.toList.drop 48 = dktX7_isStack_2 := dk_seg dksX7_isStack_1 24 rfl rfl
theorem dX7_isStack_0 : decode cX7_isStack 0 = .ok (.aload_n 0, 1) := dk_42 (dk_at dksX7_isStack_0 0 rfl rfl)
theorem dX7_isStack_1 : decode cX7_isStack 1 = .ok (.iload_n 1, 1) := dk_27 (dk_at dksX7_isStack_0 1 rfl rfl)
theorem dX7_isStack_2 : decode cX7_isStack 2 = .ok (.invokevirtual 256, 3) := dk_182 1 0 (dk_at dksX7_isStack_0 2 rfl rfl)
theorem dX7_isStack_5 : decode cX7_isStack 5 = .ok (.iconst 1, 1) := dk_4 (dk_at dksX7_isStack_0 5 rfl rfl)
theorem dX7_isStack_6 : decode cX7_isStack 6 = .ok (.if_icmp .le 5, 3) := dk_164 0 5 (dk_at dksX7_isStack_0 6 rfl rfl)
theorem dX7_isStack_9 : decode cX7_isStack 9 = .ok (.iconst 0, 1) := dk_3 (dk_at dksX7_isStack_0 9 rfl rfl)
theorem dX7_isStack_10 : decode cX7_isStack 10 = .ok (.ireturn, 1) := dk_172 (dk_at dksX7_isStack_0 10 rfl rfl)
theorem dX7_isStack_11 : decode cX7_isStack 11 = .ok (.iconst 0, 1) := dk_3 (dk_at dksX7_isStack_0 11 rfl rfl)
theorem dX7_isStack_12 : decode cX7_isStack 12 = .ok (.istore_n 3, 1) := dk_62 (dk_at dksX7_isStack_0 12 rfl rfl)
theorem dX7_isStack_13 : decode cX7_isStack 13 = .ok (.iload_n 3, 1) := dk_29 (dk_at dksX7_isStack_0 13 rfl rfl)
theorem dX7_isStack_14 : decode cX7_isStack 14 = .ok (.aload_n 0, 1) := dk_42 (dk_at dksX7_isStack_0 14 rfl rfl)
theorem dX7_isStack_15 : decode cX7_isStack 15 = .ok (.invokevirtual 253, 3) := dk_182 0 253 (dk_at dksX7_isStack_0 15 rfl rfl)
theorem dX7_isStack_18 : decode cX7_isStack 18 = .ok (.if_icmp .ge 36, 3) := dk_162 0 36 (dk_at dksX7_isStack_0 18 rfl rfl)
theorem dX7_isStack_21 : decode cX7_isStack 21 = .ok (.aload_n 0, 1) := dk_42 (dk_at dksX7_isStack_0 21 rfl rfl)
theorem dX7_isStack_22 : decode cX7_isStack 22 = .ok (.iload_n 1, 1) := dk_27 (dk_at dksX7_isStack_0 22 rfl rfl)
theorem dX7_isStack_23 : decode cX7_isStack 23 = .ok (.iconst 0, 1) := dk_3 (dk_at dksX7_isStack_0 23 rfl rfl)
theorem dX7_isStack_24 : decode cX7_isStack 24 = .ok (.iload_n 3, 1) := dk_29 (dk_at dksX7_isStack_1 0 rfl rfl)
theorem dX7_isStack_25 : decode cX7_isStack 25 = .ok (.invokevirtual 264, 3) := dk_182 1 8 (dk_at dksX7_isStack_1 1 rfl rfl)
theorem dX7_isStack_28 : decode cX7_isStack 28 = .ok (.iconst 2, 1) := dk_5 (dk_at dksX7_isStack_1 4 rfl rfl)
theorem dX7_isStack_29 : decode cX7_isStack 29 = .ok (.idiv, 1) := dk_108 (dk_at dksX7_isStack_1 5 rfl rfl)
theorem dX7_isStack_30 : decode cX7_isStack 30 = .ok (.i2l, 1) := dk_133 (dk_at dksX7_isStack_1 6 rfl rfl)
theorem dX7_isStack_31 : decode cX7_isStack 31 = .ok (.aload_n 0, 1) := dk_42 (dk_at dksX7_isStack_1 7 rfl rfl)
theorem dX7_isStack_32 : decode cX7_isStack 32 = .ok (.getfield 74, 3) := dk_180 0 74 (dk_at dksX7_isStack_1 8 rfl rfl)
theorem dX7_isStack_35 : decode cX7_isStack 35 = .ok (.bipush 30, 2) := dk_16 30 (dk_at dksX7_isStack_1 11 rfl rfl)
theorem dX7_isStack_37 : decode cX7_isStack 37 = .ok (.iload_n 2, 1) := dk_28 (dk_at dksX7_isStack_1 13 rfl rfl)
theorem dX7_isStack_38 : decode cX7_isStack 38 = .ok (.imul, 1) := dk_104 (dk_at dksX7_isStack_1 14 rfl rfl)
theorem dX7_isStack_39 : decode cX7_isStack 39 = .ok (.iload_n 3, 1) := dk_29 (dk_at dksX7_isStack_1 15 rfl rfl)
theorem dX7_isStack_40 : decode cX7_isStack 40 = .ok (.iadd, 1) := dk_96 (dk_at dksX7_isStack_1 16 rfl rfl)
theorem dX7_isStack_41 : decode cX7_isStack 41 = .ok (.laload, 1) := dk_47 (dk_at dksX7_isStack_1 17 rfl rfl)
theorem dX7_isStack_42 : decode cX7_isStack 42 = .ok (.lcmp, 1) := dk_148 (dk_at dksX7_isStack_1 18 rfl rfl)
theorem dX7_isStack_43 : decode cX7_isStack 43 = .ok (.ifCond .eq 5, 3) := dk_153 0 5 (dk_at dksX7_isStack_1 19 rfl rfl)
theorem dX7_isStack_46 : decode cX7_isStack 46 = .ok (.iconst 0, 1) := dk_3 (dk_at dksX7_isStack_1 22 rfl rfl)
theorem dX7_isStack_47 : decode cX7_isStack 47 = .ok (.ireturn, 1) := dk_172 (dk_at dksX7_isStack_1 23 rfl rfl)
theorem dX7_isStack_48 : decode cX7_isStack 48 = .ok (.iinc 3 1, 3) := dk_132 3 1 (dk_at dksX7_isStack_2 0 rfl rfl)
theorem dX7_isStack_51 : decode cX7_isStack 51 = .ok (.goto (-38), 3) := dk_167 255 218 (dk_at dksX7_isStack_2 3 rfl rfl)
theorem dX7_isStack_54 : decode cX7_isStack 54 = .ok (.iconst 1, 1) := dk_4 (dk_at dksX7_isStack_2 6 rfl rfl)
theorem dX7_isStack_55 : decode cX7_isStack 55 = .ok (.ireturn, 1) := dk_172 (dk_at dksX7_isStack_2 7 rfl rfl)
abbrev cX7_worthAsked : ByteArray := prog_43_method_102_code
def yX7_worthAsked : MethodName := ⟨RX7, "worthAsked", "(I)I"⟩
def dkwX7_worthAsked_1 : List UInt8 := [160, 0, 11, 42, 27, 182, 1, 190, 167, 0, 12, 42, 27, 42, 180, 1, 193, 182, 1, 99, 172]
abbrev dktX7_worthAsked_1 : List UInt8 := dkwX7_worthAsked_1 ++ []
def dkwX7_worthAsked_0 : List UInt8 := [42, 180, 1, 187, 6, 160, 0, 11, 42, 27, 182, 1, 93, 167, 0, 29, 42, 180, 1, 187, 16, 6]
abbrev dktX7_worthAsked_0 : List UInt8 := dkwX7_worthAsked_0 ++ dktX7_worthAsked_1
theorem dksX7_worthAsked_0 : cX7_worthAsked.data.toList.drop 0 = dktX7_worthAsked_0 := by decide +kernel
theorem dksX7_worthAsked_1 : cX7_worthAsked.data.toList.drop 22 = dktX7_worthAsked_1 := dk_seg dksX7_worthAsked_0 22 rfl rfl
theorem dX7_worthAsked_0 : decode cX7_worthAsked 0 = .ok (.aload_n 0, 1) := dk_42 (dk_at dksX7_worthAsked_0 0 rfl rfl)
theorem dX7_worthAsked_1 : decode cX7_worthAsked 1 = .ok (.getfield 443, 3) := dk_180 1 187 (dk_at dksX7_worthAsked_0 1 rfl rfl)
theorem dX7_worthAsked_4 : decode cX7_worthAsked 4 = .ok (.iconst 3, 1) := dk_6 (dk_at dksX7_worthAsked_0 4 rfl rfl)
theorem dX7_worthAsked_5 : decode cX7_worthAsked 5 = .ok (.if_icmp .ne 11, 3) := dk_160 0 11 (dk_at dksX7_worthAsked_0 5 rfl rfl)
theorem dX7_worthAsked_8 : decode cX7_worthAsked 8 = .ok (.aload_n 0, 1) := dk_42 (dk_at dksX7_worthAsked_0 8 rfl rfl)
theorem dX7_worthAsked_9 : decode cX7_worthAsked 9 = .ok (.iload_n 1, 1) := dk_27 (dk_at dksX7_worthAsked_0 9 rfl rfl)
theorem dX7_worthAsked_10 : decode cX7_worthAsked 10 = .ok (.invokevirtual 349, 3) := dk_182 1 93 (dk_at dksX7_worthAsked_0 10 rfl rfl)
theorem dX7_worthAsked_13 : decode cX7_worthAsked 13 = .ok (.goto 29, 3) := dk_167 0 29 (dk_at dksX7_worthAsked_0 13 rfl rfl)
theorem dX7_worthAsked_16 : decode cX7_worthAsked 16 = .ok (.aload_n 0, 1) := dk_42 (dk_at dksX7_worthAsked_0 16 rfl rfl)
theorem dX7_worthAsked_17 : decode cX7_worthAsked 17 = .ok (.getfield 443, 3) := dk_180 1 187 (dk_at dksX7_worthAsked_0 17 rfl rfl)
theorem dX7_worthAsked_20 : decode cX7_worthAsked 20 = .ok (.bipush 6, 2) := dk_16 6 (dk_at dksX7_worthAsked_0 20 rfl rfl)
theorem dX7_worthAsked_22 : decode cX7_worthAsked 22 = .ok (.if_icmp .ne 11, 3) := dk_160 0 11 (dk_at dksX7_worthAsked_1 0 rfl rfl)
theorem dX7_worthAsked_25 : decode cX7_worthAsked 25 = .ok (.aload_n 0, 1) := dk_42 (dk_at dksX7_worthAsked_1 3 rfl rfl)
theorem dX7_worthAsked_26 : decode cX7_worthAsked 26 = .ok (.iload_n 1, 1) := dk_27 (dk_at dksX7_worthAsked_1 4 rfl rfl)
theorem dX7_worthAsked_27 : decode cX7_worthAsked 27 = .ok (.invokevirtual 446, 3) := dk_182 1 190 (dk_at dksX7_worthAsked_1 5 rfl rfl)
theorem dX7_worthAsked_30 : decode cX7_worthAsked 30 = .ok (.goto 12, 3) := dk_167 0 12 (dk_at dksX7_worthAsked_1 8 rfl rfl)
theorem dX7_worthAsked_33 : decode cX7_worthAsked 33 = .ok (.aload_n 0, 1) := dk_42 (dk_at dksX7_worthAsked_1 11 rfl rfl)
theorem dX7_worthAsked_34 : decode cX7_worthAsked 34 = .ok (.iload_n 1, 1) := dk_27 (dk_at dksX7_worthAsked_1 12 rfl rfl)
theorem dX7_worthAsked_35 : decode cX7_worthAsked 35 = .ok (.aload_n 0, 1) := dk_42 (dk_at dksX7_worthAsked_1 13 rfl rfl)
theorem dX7_worthAsked_36 : decode cX7_worthAsked 36 = .ok (.getfield 449, 3) := dk_180 1 193 (dk_at dksX7_worthAsked_1 14 rfl rfl)
theorem dX7_worthAsked_39 : decode cX7_worthAsked 39 = .ok (.invokevirtual 355, 3) := dk_182 1 99 (dk_at dksX7_worthAsked_1 17 rfl rfl)
theorem dX7_worthAsked_42 : decode cX7_worthAsked 42 = .ok (.ireturn, 1) := dk_172 (dk_at dksX7_worthAsked_1 20 rfl rfl)
abbrev cX7_leastLiked : ByteArray := prog_43_method_94_code
def yX7_leastLiked : MethodName := ⟨RX7, "leastLiked", "(I)I"⟩
def dkwX7_leastLiked_1 : List UInt8 := [5, 46, 162, 0, 20, 28, 42, 27, 29, 182, 1, 99, 184, 1, 43, 61, 132, 3, 1, 167, 255, 232, 28, 172]
abbrev dktX7_leastLiked_1 : List UInt8 := dkwX7_leastLiked_1 ++ []
def dkwX7_leastLiked_0 : List UInt8 := [42, 180, 0, 9, 5, 46, 154, 0, 7, 3, 167, 0, 6, 19, 1, 175, 61, 3, 62, 29, 42, 180, 0, 9]
abbrev dktX7_leastLiked_0 : List UInt8 := dkwX7_leastLiked_0 ++ dktX7_leastLiked_1
theorem dksX7_leastLiked_0 : cX7_leastLiked.data.toList.drop 0 = dktX7_leastLiked_0 := by decide +kernel
theorem dksX7_leastLiked_1 : cX7_leastLiked.data.toList.drop 24 = dktX7_leastLiked_1 := dk_seg dksX7_leastLiked_0 24 rfl rfl
theorem dX7_leastLiked_0 : decode cX7_leastLiked 0 = .ok (.aload_n 0, 1) := dk_42 (dk_at dksX7_leastLiked_0 0 rfl rfl)
theorem dX7_leastLiked_1 : decode cX7_leastLiked 1 = .ok (.getfield 9, 3) := dk_180 0 9 (dk_at dksX7_leastLiked_0 1 rfl rfl)
theorem dX7_leastLiked_4 : decode cX7_leastLiked 4 = .ok (.iconst 2, 1) := dk_5 (dk_at dksX7_leastLiked_0 4 rfl rfl)
theorem dX7_leastLiked_5 : decode cX7_leastLiked 5 = .ok (.iaload, 1) := dk_46 (dk_at dksX7_leastLiked_0 5 rfl rfl)
theorem dX7_leastLiked_6 : decode cX7_leastLiked 6 = .ok (.ifCond .ne 7, 3) := dk_154 0 7 (dk_at dksX7_leastLiked_0 6 rfl rfl)
theorem dX7_leastLiked_9 : decode cX7_leastLiked 9 = .ok (.iconst 0, 1) := dk_3 (dk_at dksX7_leastLiked_0 9 rfl rfl)
theorem dX7_leastLiked_10 : decode cX7_leastLiked 10 = .ok (.goto 6, 3) := dk_167 0 6 (dk_at dksX7_leastLiked_0 10 rfl rfl)
theorem dX7_leastLiked_13 : decode cX7_leastLiked 13 = .ok (.ldc_w 431, 3) := dk_19 1 175 (dk_at dksX7_leastLiked_0 13 rfl rfl)
theorem dX7_leastLiked_16 : decode cX7_leastLiked 16 = .ok (.istore_n 2, 1) := dk_61 (dk_at dksX7_leastLiked_0 16 rfl rfl)
theorem dX7_leastLiked_17 : decode cX7_leastLiked 17 = .ok (.iconst 0, 1) := dk_3 (dk_at dksX7_leastLiked_0 17 rfl rfl)
theorem dX7_leastLiked_18 : decode cX7_leastLiked 18 = .ok (.istore_n 3, 1) := dk_62 (dk_at dksX7_leastLiked_0 18 rfl rfl)
theorem dX7_leastLiked_19 : decode cX7_leastLiked 19 = .ok (.iload_n 3, 1) := dk_29 (dk_at dksX7_leastLiked_0 19 rfl rfl)
theorem dX7_leastLiked_20 : decode cX7_leastLiked 20 = .ok (.aload_n 0, 1) := dk_42 (dk_at dksX7_leastLiked_0 20 rfl rfl)
theorem dX7_leastLiked_21 : decode cX7_leastLiked 21 = .ok (.getfield 9, 3) := dk_180 0 9 (dk_at dksX7_leastLiked_0 21 rfl rfl)
theorem dX7_leastLiked_24 : decode cX7_leastLiked 24 = .ok (.iconst 2, 1) := dk_5 (dk_at dksX7_leastLiked_1 0 rfl rfl)
theorem dX7_leastLiked_25 : decode cX7_leastLiked 25 = .ok (.iaload, 1) := dk_46 (dk_at dksX7_leastLiked_1 1 rfl rfl)
theorem dX7_leastLiked_26 : decode cX7_leastLiked 26 = .ok (.if_icmp .ge 20, 3) := dk_162 0 20 (dk_at dksX7_leastLiked_1 2 rfl rfl)
theorem dX7_leastLiked_29 : decode cX7_leastLiked 29 = .ok (.iload_n 2, 1) := dk_28 (dk_at dksX7_leastLiked_1 5 rfl rfl)
theorem dX7_leastLiked_30 : decode cX7_leastLiked 30 = .ok (.aload_n 0, 1) := dk_42 (dk_at dksX7_leastLiked_1 6 rfl rfl)
theorem dX7_leastLiked_31 : decode cX7_leastLiked 31 = .ok (.iload_n 1, 1) := dk_27 (dk_at dksX7_leastLiked_1 7 rfl rfl)
theorem dX7_leastLiked_32 : decode cX7_leastLiked 32 = .ok (.iload_n 3, 1) := dk_29 (dk_at dksX7_leastLiked_1 8 rfl rfl)
theorem dX7_leastLiked_33 : decode cX7_leastLiked 33 = .ok (.invokevirtual 355, 3) := dk_182 1 99 (dk_at dksX7_leastLiked_1 9 rfl rfl)
theorem dX7_leastLiked_36 : decode cX7_leastLiked 36 = .ok (.invokestatic 299, 3) := dk_184 1 43 (dk_at dksX7_leastLiked_1 12 rfl rfl)
theorem dX7_leastLiked_39 : decode cX7_leastLiked 39 = .ok (.istore_n 2, 1) := dk_61 (dk_at dksX7_leastLiked_1 15 rfl rfl)
theorem dX7_leastLiked_40 : decode cX7_leastLiked 40 = .ok (.iinc 3 1, 3) := dk_132 3 1 (dk_at dksX7_leastLiked_1 16 rfl rfl)
theorem dX7_leastLiked_43 : decode cX7_leastLiked 43 = .ok (.goto (-24), 3) := dk_167 255 232 (dk_at dksX7_leastLiked_1 19 rfl rfl)
theorem dX7_leastLiked_46 : decode cX7_leastLiked 46 = .ok (.iload_n 2, 1) := dk_28 (dk_at dksX7_leastLiked_1 22 rfl rfl)
theorem dX7_leastLiked_47 : decode cX7_leastLiked 47 = .ok (.ireturn, 1) := dk_172 (dk_at dksX7_leastLiked_1 23 rfl rfl)
abbrev cX7_looks : ByteArray := prog_43_method_110_code
def yX7_looks : MethodName := ⟨RX7, "looks", "(I)I"⟩
def dkwX7_looks_0 : List UInt8 := [42, 4, 27, 182, 1, 249, 172]
abbrev dktX7_looks_0 : List UInt8 := dkwX7_looks_0 ++ []
theorem dksX7_looks_0 : cX7_looks.data.toList.drop 0 = dktX7_looks_0 := by decide +kernel
theorem dX7_looks_0 : decode cX7_looks 0 = .ok (.aload_n 0, 1) := dk_42 (dk_at dksX7_looks_0 0 rfl rfl)
theorem dX7_looks_1 : decode cX7_looks 1 = .ok (.iconst 1, 1) := dk_4 (dk_at dksX7_looks_0 1 rfl rfl)
theorem dX7_looks_2 : decode cX7_looks 2 = .ok (.iload_n 1, 1) := dk_27 (dk_at dksX7_looks_0 2 rfl rfl)
theorem dX7_looks_3 : decode cX7_looks 3 = .ok (.invokevirtual 505, 3) := dk_182 1 249 (dk_at dksX7_looks_0 3 rfl rfl)
theorem dX7_looks_6 : decode cX7_looks 6 = .ok (.ireturn, 1) := dk_172 (dk_at dksX7_looks_0 6 rfl rfl)
abbrev cX7_manyBy : ByteArray := prog_43_method_109_code
def yX7_manyBy : MethodName := ⟨RX7, "manyBy", "(II)I"⟩
def dkwX7_manyBy_1 : List UInt8 := [28, 182, 1, 246, 42, 180, 1, 196, 172]
abbrev dktX7_manyBy_1 : List UInt8 := dkwX7_manyBy_1 ++ []
def dkwX7_manyBy_0 : List UInt8 := [42, 3, 181, 0, 77, 28, 184, 1, 243, 154, 0, 9, 42, 4, 182, 0, 244, 172, 42, 27, 42, 182, 1, 87]
abbrev dktX7_manyBy_0 : List UInt8 := dkwX7_manyBy_0 ++ dktX7_manyBy_1
theorem dksX7_manyBy_0 : cX7_manyBy.data.toList.drop 0 = dktX7_manyBy_0 := by decide +kernel
theorem dksX7_manyBy_1 : cX7_manyBy.data.toList.drop 24 = dktX7_manyBy_1 := dk_seg dksX7_manyBy_0 24 rfl rfl
theorem dX7_manyBy_0 : decode cX7_manyBy 0 = .ok (.aload_n 0, 1) := dk_42 (dk_at dksX7_manyBy_0 0 rfl rfl)
theorem dX7_manyBy_1 : decode cX7_manyBy 1 = .ok (.iconst 0, 1) := dk_3 (dk_at dksX7_manyBy_0 1 rfl rfl)
theorem dX7_manyBy_2 : decode cX7_manyBy 2 = .ok (.putfield 77, 3) := dk_181 0 77 (dk_at dksX7_manyBy_0 2 rfl rfl)
theorem dX7_manyBy_5 : decode cX7_manyBy 5 = .ok (.iload_n 2, 1) := dk_28 (dk_at dksX7_manyBy_0 5 rfl rfl)
theorem dX7_manyBy_6 : decode cX7_manyBy 6 = .ok (.invokestatic 499, 3) := dk_184 1 243 (dk_at dksX7_manyBy_0 6 rfl rfl)
theorem dX7_manyBy_9 : decode cX7_manyBy 9 = .ok (.ifCond .ne 9, 3) := dk_154 0 9 (dk_at dksX7_manyBy_0 9 rfl rfl)
theorem dX7_manyBy_12 : decode cX7_manyBy 12 = .ok (.aload_n 0, 1) := dk_42 (dk_at dksX7_manyBy_0 12 rfl rfl)
theorem dX7_manyBy_13 : decode cX7_manyBy 13 = .ok (.iconst 1, 1) := dk_4 (dk_at dksX7_manyBy_0 13 rfl rfl)
theorem dX7_manyBy_14 : decode cX7_manyBy 14 = .ok (.invokevirtual 244, 3) := dk_182 0 244 (dk_at dksX7_manyBy_0 14 rfl rfl)
theorem dX7_manyBy_17 : decode cX7_manyBy 17 = .ok (.ireturn, 1) := dk_172 (dk_at dksX7_manyBy_0 17 rfl rfl)
theorem dX7_manyBy_18 : decode cX7_manyBy 18 = .ok (.aload_n 0, 1) := dk_42 (dk_at dksX7_manyBy_0 18 rfl rfl)
theorem dX7_manyBy_19 : decode cX7_manyBy 19 = .ok (.iload_n 1, 1) := dk_27 (dk_at dksX7_manyBy_0 19 rfl rfl)
theorem dX7_manyBy_20 : decode cX7_manyBy 20 = .ok (.aload_n 0, 1) := dk_42 (dk_at dksX7_manyBy_0 20 rfl rfl)
theorem dX7_manyBy_21 : decode cX7_manyBy 21 = .ok (.invokevirtual 343, 3) := dk_182 1 87 (dk_at dksX7_manyBy_0 21 rfl rfl)
theorem dX7_manyBy_24 : decode cX7_manyBy 24 = .ok (.iload_n 2, 1) := dk_28 (dk_at dksX7_manyBy_1 0 rfl rfl)
theorem dX7_manyBy_25 : decode cX7_manyBy 25 = .ok (.invokevirtual 502, 3) := dk_182 1 246 (dk_at dksX7_manyBy_1 1 rfl rfl)
theorem dX7_manyBy_28 : decode cX7_manyBy 28 = .ok (.aload_n 0, 1) := dk_42 (dk_at dksX7_manyBy_1 4 rfl rfl)
theorem dX7_manyBy_29 : decode cX7_manyBy 29 = .ok (.getfield 452, 3) := dk_180 1 196 (dk_at dksX7_manyBy_1 5 rfl rfl)
theorem dX7_manyBy_32 : decode cX7_manyBy 32 = .ok (.ireturn, 1) := dk_172 (dk_at dksX7_manyBy_1 8 rfl rfl)
abbrev cX7_asksAll : ByteArray := prog_43_method_106_code
def yX7_asksAll : MethodName := ⟨RX7, "asksAll", "(III)V"⟩
def dkwX7_asksAll_3 : List UInt8 := [182, 1, 166, 153, 0, 4, 177, 132, 4, 1, 167, 255, 236, 177]
abbrev dktX7_asksAll_3 : List UInt8 := dkwX7_asksAll_3 ++ []
def dkwX7_asksAll_2 : List UInt8 := [42, 89, 180, 1, 180, 4, 96, 181, 1, 180, 3, 54, 4, 21, 4, 29, 163, 0, 20, 42, 28, 21, 4]
abbrev dktX7_asksAll_2 : List UInt8 := dkwX7_asksAll_2 ++ dktX7_asksAll_3
def dkwX7_asksAll_1 : List UInt8 := [159, 0, 9, 27, 16, 8, 160, 0, 9, 19, 1, 240, 167, 0, 4, 2, 181, 1, 169, 42, 3, 181, 1, 172]
abbrev dktX7_asksAll_1 : List UInt8 := dkwX7_asksAll_1 ++ dktX7_asksAll_2
def dkwX7_asksAll_0 : List UInt8 := [42, 27, 181, 1, 187, 42, 28, 181, 1, 163, 42, 3, 181, 1, 196, 42, 27, 6, 159, 0, 15, 27, 16, 6]
abbrev dktX7_asksAll_0 : List UInt8 := dkwX7_asksAll_0 ++ dktX7_asksAll_1
theorem dksX7_asksAll_0 : cX7_asksAll.data.toList.drop 0 = dktX7_asksAll_0 := by decide +kernel
theorem dksX7_asksAll_1 : cX7_asksAll.data.toList.drop 24 = dktX7_asksAll_1 := dk_seg dksX7_asksAll_0 24 rfl rfl
theorem dksX7_asksAll_2 : cX7_asksAll.data.toList.drop 48 = dktX7_asksAll_2 := dk_seg dksX7_asksAll_1 24 rfl rfl
theorem dksX7_asksAll_3 : cX7_asksAll.data.toList.drop 71 = dktX7_asksAll_3 := dk_seg dksX7_asksAll_2 23 rfl rfl
theorem dX7_asksAll_0 : decode cX7_asksAll 0 = .ok (.aload_n 0, 1) := dk_42 (dk_at dksX7_asksAll_0 0 rfl rfl)
theorem dX7_asksAll_1 : decode cX7_asksAll 1 = .ok (.iload_n 1, 1) := dk_27 (dk_at dksX7_asksAll_0 1 rfl rfl)
theorem dX7_asksAll_2 : decode cX7_asksAll 2 = .ok (.putfield 443, 3) := dk_181 1 187 (dk_at dksX7_asksAll_0 2 rfl rfl)
theorem dX7_asksAll_5 : decode cX7_asksAll 5 = .ok (.aload_n 0, 1) := dk_42 (dk_at dksX7_asksAll_0 5 rfl rfl)
theorem dX7_asksAll_6 : decode cX7_asksAll 6 = .ok (.iload_n 2, 1) := dk_28 (dk_at dksX7_asksAll_0 6 rfl rfl)
theorem dX7_asksAll_7 : decode cX7_asksAll 7 = .ok (.putfield 419, 3) := dk_181 1 163 (dk_at dksX7_asksAll_0 7 rfl rfl)
theorem dX7_asksAll_10 : decode cX7_asksAll 10 = .ok (.aload_n 0, 1) := dk_42 (dk_at dksX7_asksAll_0 10 rfl rfl)
theorem dX7_asksAll_11 : decode cX7_asksAll 11 = .ok (.iconst 0, 1) := dk_3 (dk_at dksX7_asksAll_0 11 rfl rfl)
theorem dX7_asksAll_12 : decode cX7_asksAll 12 = .ok (.putfield 452, 3) := dk_181 1 196 (dk_at dksX7_asksAll_0 12 rfl rfl)
theorem dX7_asksAll_15 : decode cX7_asksAll 15 = .ok (.aload_n 0, 1) := dk_42 (dk_at dksX7_asksAll_0 15 rfl rfl)
theorem dX7_asksAll_16 : decode cX7_asksAll 16 = .ok (.iload_n 1, 1) := dk_27 (dk_at dksX7_asksAll_0 16 rfl rfl)
theorem dX7_asksAll_17 : decode cX7_asksAll 17 = .ok (.iconst 3, 1) := dk_6 (dk_at dksX7_asksAll_0 17 rfl rfl)
theorem dX7_asksAll_18 : decode cX7_asksAll 18 = .ok (.if_icmp .eq 15, 3) := dk_159 0 15 (dk_at dksX7_asksAll_0 18 rfl rfl)
theorem dX7_asksAll_21 : decode cX7_asksAll 21 = .ok (.iload_n 1, 1) := dk_27 (dk_at dksX7_asksAll_0 21 rfl rfl)
theorem dX7_asksAll_22 : decode cX7_asksAll 22 = .ok (.bipush 6, 2) := dk_16 6 (dk_at dksX7_asksAll_0 22 rfl rfl)
theorem dX7_asksAll_24 : decode cX7_asksAll 24 = .ok (.if_icmp .eq 9, 3) := dk_159 0 9 (dk_at dksX7_asksAll_1 0 rfl rfl)
theorem dX7_asksAll_27 : decode cX7_asksAll 27 = .ok (.iload_n 1, 1) := dk_27 (dk_at dksX7_asksAll_1 3 rfl rfl)
theorem dX7_asksAll_28 : decode cX7_asksAll 28 = .ok (.bipush 8, 2) := dk_16 8 (dk_at dksX7_asksAll_1 4 rfl rfl)
theorem dX7_asksAll_30 : decode cX7_asksAll 30 = .ok (.if_icmp .ne 9, 3) := dk_160 0 9 (dk_at dksX7_asksAll_1 6 rfl rfl)
theorem dX7_asksAll_33 : decode cX7_asksAll 33 = .ok (.ldc_w 496, 3) := dk_19 1 240 (dk_at dksX7_asksAll_1 9 rfl rfl)
theorem dX7_asksAll_36 : decode cX7_asksAll 36 = .ok (.goto 4, 3) := dk_167 0 4 (dk_at dksX7_asksAll_1 12 rfl rfl)
theorem dX7_asksAll_39 : decode cX7_asksAll 39 = .ok (.iconst (-1), 1) := dk_2 (dk_at dksX7_asksAll_1 15 rfl rfl)
theorem dX7_asksAll_40 : decode cX7_asksAll 40 = .ok (.putfield 425, 3) := dk_181 1 169 (dk_at dksX7_asksAll_1 16 rfl rfl)
theorem dX7_asksAll_43 : decode cX7_asksAll 43 = .ok (.aload_n 0, 1) := dk_42 (dk_at dksX7_asksAll_1 19 rfl rfl)
theorem dX7_asksAll_44 : decode cX7_asksAll 44 = .ok (.iconst 0, 1) := dk_3 (dk_at dksX7_asksAll_1 20 rfl rfl)
theorem dX7_asksAll_45 : decode cX7_asksAll 45 = .ok (.putfield 428, 3) := dk_181 1 172 (dk_at dksX7_asksAll_1 21 rfl rfl)
theorem dX7_asksAll_48 : decode cX7_asksAll 48 = .ok (.aload_n 0, 1) := dk_42 (dk_at dksX7_asksAll_2 0 rfl rfl)
theorem dX7_asksAll_49 : decode cX7_asksAll 49 = .ok (.dup, 1) := dk_89 (dk_at dksX7_asksAll_2 1 rfl rfl)
theorem dX7_asksAll_50 : decode cX7_asksAll 50 = .ok (.getfield 436, 3) := dk_180 1 180 (dk_at dksX7_asksAll_2 2 rfl rfl)
theorem dX7_asksAll_53 : decode cX7_asksAll 53 = .ok (.iconst 1, 1) := dk_4 (dk_at dksX7_asksAll_2 5 rfl rfl)
theorem dX7_asksAll_54 : decode cX7_asksAll 54 = .ok (.iadd, 1) := dk_96 (dk_at dksX7_asksAll_2 6 rfl rfl)
theorem dX7_asksAll_55 : decode cX7_asksAll 55 = .ok (.putfield 436, 3) := dk_181 1 180 (dk_at dksX7_asksAll_2 7 rfl rfl)
theorem dX7_asksAll_58 : decode cX7_asksAll 58 = .ok (.iconst 0, 1) := dk_3 (dk_at dksX7_asksAll_2 10 rfl rfl)
theorem dX7_asksAll_59 : decode cX7_asksAll 59 = .ok (.istore 4, 2) := dk_54 4 (dk_at dksX7_asksAll_2 11 rfl rfl)
theorem dX7_asksAll_61 : decode cX7_asksAll 61 = .ok (.iload 4, 2) := dk_21 4 (dk_at dksX7_asksAll_2 13 rfl rfl)
theorem dX7_asksAll_63 : decode cX7_asksAll 63 = .ok (.iload_n 3, 1) := dk_29 (dk_at dksX7_asksAll_2 15 rfl rfl)
theorem dX7_asksAll_64 : decode cX7_asksAll 64 = .ok (.if_icmp .gt 20, 3) := dk_163 0 20 (dk_at dksX7_asksAll_2 16 rfl rfl)
theorem dX7_asksAll_67 : decode cX7_asksAll 67 = .ok (.aload_n 0, 1) := dk_42 (dk_at dksX7_asksAll_2 19 rfl rfl)
theorem dX7_asksAll_68 : decode cX7_asksAll 68 = .ok (.iload_n 2, 1) := dk_28 (dk_at dksX7_asksAll_2 20 rfl rfl)
theorem dX7_asksAll_69 : decode cX7_asksAll 69 = .ok (.iload 4, 2) := dk_21 4 (dk_at dksX7_asksAll_2 21 rfl rfl)
theorem dX7_asksAll_71 : decode cX7_asksAll 71 = .ok (.invokevirtual 422, 3) := dk_182 1 166 (dk_at dksX7_asksAll_3 0 rfl rfl)
theorem dX7_asksAll_74 : decode cX7_asksAll 74 = .ok (.ifCond .eq 4, 3) := dk_153 0 4 (dk_at dksX7_asksAll_3 3 rfl rfl)
theorem dX7_asksAll_77 : decode cX7_asksAll 77 = .ok (.return_, 1) := dk_177 (dk_at dksX7_asksAll_3 6 rfl rfl)
theorem dX7_asksAll_78 : decode cX7_asksAll 78 = .ok (.iinc 4 1, 3) := dk_132 4 1 (dk_at dksX7_asksAll_3 7 rfl rfl)
theorem dX7_asksAll_81 : decode cX7_asksAll 81 = .ok (.goto (-20), 3) := dk_167 255 236 (dk_at dksX7_asksAll_3 10 rfl rfl)
theorem dX7_asksAll_84 : decode cX7_asksAll 84 = .ok (.return_, 1) := dk_177 (dk_at dksX7_asksAll_3 13 rfl rfl)
abbrev cX7_soonest : ByteArray := prog_43_method_113_code
def yX7_soonest : MethodName := ⟨RX7, "soonest", "(I)I"⟩
def dkwX7_soonest_1 : List UInt8 := [8, 182, 1, 246, 42, 27, 182, 2, 1, 172]
abbrev dktX7_soonest_1 : List UInt8 := dkwX7_soonest_1 ++ []
def dkwX7_soonest_0 : List UInt8 := [42, 3, 181, 0, 77, 27, 184, 1, 254, 154, 0, 9, 42, 4, 182, 0, 244, 172, 42, 8, 42, 182, 1, 87]
abbrev dktX7_soonest_0 : List UInt8 := dkwX7_soonest_0 ++ dktX7_soonest_1
theorem dksX7_soonest_0 : cX7_soonest.data.toList.drop 0 = dktX7_soonest_0 := by decide +kernel
theorem dksX7_soonest_1 : cX7_soonest.data.toList.drop 24 = dktX7_soonest_1 := dk_seg dksX7_soonest_0 24 rfl rfl
theorem dX7_soonest_0 : decode cX7_soonest 0 = .ok (.aload_n 0, 1) := dk_42 (dk_at dksX7_soonest_0 0 rfl rfl)
theorem dX7_soonest_1 : decode cX7_soonest 1 = .ok (.iconst 0, 1) := dk_3 (dk_at dksX7_soonest_0 1 rfl rfl)
theorem dX7_soonest_2 : decode cX7_soonest 2 = .ok (.putfield 77, 3) := dk_181 0 77 (dk_at dksX7_soonest_0 2 rfl rfl)
theorem dX7_soonest_5 : decode cX7_soonest 5 = .ok (.iload_n 1, 1) := dk_27 (dk_at dksX7_soonest_0 5 rfl rfl)
theorem dX7_soonest_6 : decode cX7_soonest 6 = .ok (.invokestatic 510, 3) := dk_184 1 254 (dk_at dksX7_soonest_0 6 rfl rfl)
theorem dX7_soonest_9 : decode cX7_soonest 9 = .ok (.ifCond .ne 9, 3) := dk_154 0 9 (dk_at dksX7_soonest_0 9 rfl rfl)
theorem dX7_soonest_12 : decode cX7_soonest 12 = .ok (.aload_n 0, 1) := dk_42 (dk_at dksX7_soonest_0 12 rfl rfl)
theorem dX7_soonest_13 : decode cX7_soonest 13 = .ok (.iconst 1, 1) := dk_4 (dk_at dksX7_soonest_0 13 rfl rfl)
theorem dX7_soonest_14 : decode cX7_soonest 14 = .ok (.invokevirtual 244, 3) := dk_182 0 244 (dk_at dksX7_soonest_0 14 rfl rfl)
theorem dX7_soonest_17 : decode cX7_soonest 17 = .ok (.ireturn, 1) := dk_172 (dk_at dksX7_soonest_0 17 rfl rfl)
theorem dX7_soonest_18 : decode cX7_soonest 18 = .ok (.aload_n 0, 1) := dk_42 (dk_at dksX7_soonest_0 18 rfl rfl)
theorem dX7_soonest_19 : decode cX7_soonest 19 = .ok (.iconst 5, 1) := dk_8 (dk_at dksX7_soonest_0 19 rfl rfl)
theorem dX7_soonest_20 : decode cX7_soonest 20 = .ok (.aload_n 0, 1) := dk_42 (dk_at dksX7_soonest_0 20 rfl rfl)
theorem dX7_soonest_21 : decode cX7_soonest 21 = .ok (.invokevirtual 343, 3) := dk_182 1 87 (dk_at dksX7_soonest_0 21 rfl rfl)
theorem dX7_soonest_24 : decode cX7_soonest 24 = .ok (.iconst 5, 1) := dk_8 (dk_at dksX7_soonest_1 0 rfl rfl)
theorem dX7_soonest_25 : decode cX7_soonest 25 = .ok (.invokevirtual 502, 3) := dk_182 1 246 (dk_at dksX7_soonest_1 1 rfl rfl)
theorem dX7_soonest_28 : decode cX7_soonest 28 = .ok (.aload_n 0, 1) := dk_42 (dk_at dksX7_soonest_1 4 rfl rfl)
theorem dX7_soonest_29 : decode cX7_soonest 29 = .ok (.iload_n 1, 1) := dk_27 (dk_at dksX7_soonest_1 5 rfl rfl)
theorem dX7_soonest_30 : decode cX7_soonest 30 = .ok (.invokevirtual 513, 3) := dk_182 2 1 (dk_at dksX7_soonest_1 6 rfl rfl)
theorem dX7_soonest_33 : decode cX7_soonest 33 = .ok (.ireturn, 1) := dk_172 (dk_at dksX7_soonest_1 9 rfl rfl)
abbrev cX7_isWhat : ByteArray := prog_43_method_111_code
def yX7_isWhat : MethodName := ⟨RX7, "isWhat", "(I)Z"⟩
def dkwX7_isWhat_0 : List UInt8 := [26, 153, 0, 17, 26, 133, 20, 1, 114, 20, 1, 252, 184, 0, 138, 153, 0, 7, 4, 167, 0, 4, 3, 172]
abbrev dktX7_isWhat_0 : List UInt8 := dkwX7_isWhat_0 ++ []
theorem dksX7_isWhat_0 : cX7_isWhat.data.toList.drop 0 = dktX7_isWhat_0 := by decide +kernel
theorem dX7_isWhat_0 : decode cX7_isWhat 0 = .ok (.iload_n 0, 1) := dk_26 (dk_at dksX7_isWhat_0 0 rfl rfl)
theorem dX7_isWhat_1 : decode cX7_isWhat 1 = .ok (.ifCond .eq 17, 3) := dk_153 0 17 (dk_at dksX7_isWhat_0 1 rfl rfl)
theorem dX7_isWhat_4 : decode cX7_isWhat 4 = .ok (.iload_n 0, 1) := dk_26 (dk_at dksX7_isWhat_0 4 rfl rfl)
theorem dX7_isWhat_5 : decode cX7_isWhat 5 = .ok (.i2l, 1) := dk_133 (dk_at dksX7_isWhat_0 5 rfl rfl)
theorem dX7_isWhat_6 : decode cX7_isWhat 6 = .ok (.ldc2_w 370, 3) := dk_20 1 114 (dk_at dksX7_isWhat_0 6 rfl rfl)
theorem dX7_isWhat_9 : decode cX7_isWhat 9 = .ok (.ldc2_w 508, 3) := dk_20 1 252 (dk_at dksX7_isWhat_0 9 rfl rfl)
theorem dX7_isWhat_12 : decode cX7_isWhat 12 = .ok (.invokestatic 138, 3) := dk_184 0 138 (dk_at dksX7_isWhat_0 12 rfl rfl)
theorem dX7_isWhat_15 : decode cX7_isWhat 15 = .ok (.ifCond .eq 7, 3) := dk_153 0 7 (dk_at dksX7_isWhat_0 15 rfl rfl)
theorem dX7_isWhat_18 : decode cX7_isWhat 18 = .ok (.iconst 1, 1) := dk_4 (dk_at dksX7_isWhat_0 18 rfl rfl)
theorem dX7_isWhat_19 : decode cX7_isWhat 19 = .ok (.goto 4, 3) := dk_167 0 4 (dk_at dksX7_isWhat_0 19 rfl rfl)
theorem dX7_isWhat_22 : decode cX7_isWhat 22 = .ok (.iconst 0, 1) := dk_3 (dk_at dksX7_isWhat_0 22 rfl rfl)
theorem dX7_isWhat_23 : decode cX7_isWhat 23 = .ok (.ireturn, 1) := dk_172 (dk_at dksX7_isWhat_0 23 rfl rfl)
abbrev cX7_toldRow : ByteArray := prog_43_method_112_code
def yX7_toldRow : MethodName := ⟨RX7, "toldRow", "(I)I"⟩
def dkwX7_toldRow_1 : List UInt8 := [180, 1, 172, 162, 0, 15, 42, 180, 0, 48, 27, 16, 10, 100, 46, 167, 0, 4, 2, 172]
abbrev dktX7_toldRow_1 : List UInt8 := dkwX7_toldRow_1 ++ []
def dkwX7_toldRow_0 : List UInt8 := [27, 154, 0, 10, 42, 180, 1, 169, 167, 0, 35, 42, 180, 1, 169, 2, 159, 0, 26, 27, 16, 10, 100, 42]
abbrev dktX7_toldRow_0 : List UInt8 := dkwX7_toldRow_0 ++ dktX7_toldRow_1
theorem dksX7_toldRow_0 : cX7_toldRow.data.toList.drop 0 = dktX7_toldRow_0 := by decide +kernel
theorem dksX7_toldRow_1 : cX7_toldRow.data.toList.drop 24 = dktX7_toldRow_1 := dk_seg dksX7_toldRow_0 24 rfl rfl
theorem dX7_toldRow_0 : decode cX7_toldRow 0 = .ok (.iload_n 1, 1) := dk_27 (dk_at dksX7_toldRow_0 0 rfl rfl)
theorem dX7_toldRow_1 : decode cX7_toldRow 1 = .ok (.ifCond .ne 10, 3) := dk_154 0 10 (dk_at dksX7_toldRow_0 1 rfl rfl)
theorem dX7_toldRow_4 : decode cX7_toldRow 4 = .ok (.aload_n 0, 1) := dk_42 (dk_at dksX7_toldRow_0 4 rfl rfl)
theorem dX7_toldRow_5 : decode cX7_toldRow 5 = .ok (.getfield 425, 3) := dk_180 1 169 (dk_at dksX7_toldRow_0 5 rfl rfl)
theorem dX7_toldRow_8 : decode cX7_toldRow 8 = .ok (.goto 35, 3) := dk_167 0 35 (dk_at dksX7_toldRow_0 8 rfl rfl)
theorem dX7_toldRow_11 : decode cX7_toldRow 11 = .ok (.aload_n 0, 1) := dk_42 (dk_at dksX7_toldRow_0 11 rfl rfl)
theorem dX7_toldRow_12 : decode cX7_toldRow 12 = .ok (.getfield 425, 3) := dk_180 1 169 (dk_at dksX7_toldRow_0 12 rfl rfl)
theorem dX7_toldRow_15 : decode cX7_toldRow 15 = .ok (.iconst (-1), 1) := dk_2 (dk_at dksX7_toldRow_0 15 rfl rfl)
theorem dX7_toldRow_16 : decode cX7_toldRow 16 = .ok (.if_icmp .eq 26, 3) := dk_159 0 26 (dk_at dksX7_toldRow_0 16 rfl rfl)
theorem dX7_toldRow_19 : decode cX7_toldRow 19 = .ok (.iload_n 1, 1) := dk_27 (dk_at dksX7_toldRow_0 19 rfl rfl)
theorem dX7_toldRow_20 : decode cX7_toldRow 20 = .ok (.bipush 10, 2) := dk_16 10 (dk_at dksX7_toldRow_0 20 rfl rfl)
theorem dX7_toldRow_22 : decode cX7_toldRow 22 = .ok (.isub, 1) := dk_100 (dk_at dksX7_toldRow_0 22 rfl rfl)
theorem dX7_toldRow_23 : decode cX7_toldRow 23 = .ok (.aload_n 0, 1) := dk_42 (dk_at dksX7_toldRow_0 23 rfl rfl)
theorem dX7_toldRow_24 : decode cX7_toldRow 24 = .ok (.getfield 428, 3) := dk_180 1 172 (dk_at dksX7_toldRow_1 0 rfl rfl)
theorem dX7_toldRow_27 : decode cX7_toldRow 27 = .ok (.if_icmp .ge 15, 3) := dk_162 0 15 (dk_at dksX7_toldRow_1 3 rfl rfl)
theorem dX7_toldRow_30 : decode cX7_toldRow 30 = .ok (.aload_n 0, 1) := dk_42 (dk_at dksX7_toldRow_1 6 rfl rfl)
theorem dX7_toldRow_31 : decode cX7_toldRow 31 = .ok (.getfield 48, 3) := dk_180 0 48 (dk_at dksX7_toldRow_1 7 rfl rfl)
theorem dX7_toldRow_34 : decode cX7_toldRow 34 = .ok (.iload_n 1, 1) := dk_27 (dk_at dksX7_toldRow_1 10 rfl rfl)
theorem dX7_toldRow_35 : decode cX7_toldRow 35 = .ok (.bipush 10, 2) := dk_16 10 (dk_at dksX7_toldRow_1 11 rfl rfl)
theorem dX7_toldRow_37 : decode cX7_toldRow 37 = .ok (.isub, 1) := dk_100 (dk_at dksX7_toldRow_1 13 rfl rfl)
theorem dX7_toldRow_38 : decode cX7_toldRow 38 = .ok (.iaload, 1) := dk_46 (dk_at dksX7_toldRow_1 14 rfl rfl)
theorem dX7_toldRow_39 : decode cX7_toldRow 39 = .ok (.goto 4, 3) := dk_167 0 4 (dk_at dksX7_toldRow_1 15 rfl rfl)
theorem dX7_toldRow_42 : decode cX7_toldRow 42 = .ok (.iconst (-1), 1) := dk_2 (dk_at dksX7_toldRow_1 18 rfl rfl)
theorem dX7_toldRow_43 : decode cX7_toldRow 43 = .ok (.ireturn, 1) := dk_172 (dk_at dksX7_toldRow_1 19 rfl rfl)
abbrev cX7_holding : ByteArray := prog_43_method_114_code
def yX7_holding : MethodName := ⟨RX7, "holding", "(I)I"⟩
def dkwX7_holding_0 : List UInt8 := [42, 5, 27, 182, 1, 249, 172]
abbrev dktX7_holding_0 : List UInt8 := dkwX7_holding_0 ++ []
theorem dksX7_holding_0 : cX7_holding.data.toList.drop 0 = dktX7_holding_0 := by decide +kernel
theorem dX7_holding_0 : decode cX7_holding 0 = .ok (.aload_n 0, 1) := dk_42 (dk_at dksX7_holding_0 0 rfl rfl)
theorem dX7_holding_1 : decode cX7_holding 1 = .ok (.iconst 2, 1) := dk_5 (dk_at dksX7_holding_0 1 rfl rfl)
theorem dX7_holding_2 : decode cX7_holding 2 = .ok (.iload_n 1, 1) := dk_27 (dk_at dksX7_holding_0 2 rfl rfl)
theorem dX7_holding_3 : decode cX7_holding 3 = .ok (.invokevirtual 505, 3) := dk_182 1 249 (dk_at dksX7_holding_0 3 rfl rfl)
theorem dX7_holding_6 : decode cX7_holding 6 = .ok (.ireturn, 1) := dk_172 (dk_at dksX7_holding_0 6 rfl rfl)
abbrev cX7_best : ByteArray := prog_43_method_117_code
def yX7_best : MethodName := ⟨RX7, "best", "(II)I"⟩
def dkwX7_best_0 : List UInt8 := [42, 6, 27, 28, 182, 2, 7, 172]
abbrev dktX7_best_0 : List UInt8 := dkwX7_best_0 ++ []
theorem dksX7_best_0 : cX7_best.data.toList.drop 0 = dktX7_best_0 := by decide +kernel
theorem dX7_best_0 : decode cX7_best 0 = .ok (.aload_n 0, 1) := dk_42 (dk_at dksX7_best_0 0 rfl rfl)
theorem dX7_best_1 : decode cX7_best 1 = .ok (.iconst 3, 1) := dk_6 (dk_at dksX7_best_0 1 rfl rfl)
theorem dX7_best_2 : decode cX7_best 2 = .ok (.iload_n 1, 1) := dk_27 (dk_at dksX7_best_0 2 rfl rfl)
theorem dX7_best_3 : decode cX7_best 3 = .ok (.iload_n 2, 1) := dk_28 (dk_at dksX7_best_0 3 rfl rfl)
theorem dX7_best_4 : decode cX7_best 4 = .ok (.invokevirtual 519, 3) := dk_182 2 7 (dk_at dksX7_best_0 4 rfl rfl)
theorem dX7_best_7 : decode cX7_best 7 = .ok (.ireturn, 1) := dk_172 (dk_at dksX7_best_0 7 rfl rfl)
abbrev cX7_bestBy : ByteArray := prog_43_method_116_code
def yX7_bestBy : MethodName := ⟨RX7, "bestBy", "(III)I"⟩
def dkwX7_bestBy_1 : List UInt8 := [42, 4, 182, 0, 244, 172, 42, 27, 42, 182, 1, 87, 28, 182, 1, 246, 42, 29, 182, 2, 4, 172]
abbrev dktX7_bestBy_1 : List UInt8 := dkwX7_bestBy_1 ++ []
def dkwX7_bestBy_0 : List UInt8 := [42, 3, 181, 0, 77, 28, 184, 1, 243, 153, 0, 15, 29, 4, 159, 0, 16, 29, 184, 1, 254, 154, 0, 9]
abbrev dktX7_bestBy_0 : List UInt8 := dkwX7_bestBy_0 ++ dktX7_bestBy_1
theorem dksX7_bestBy_0 : cX7_bestBy.data.toList.drop 0 = dktX7_bestBy_0 := by decide +kernel
theorem dksX7_bestBy_1 : cX7_bestBy.data.toList.drop 24 = dktX7_bestBy_1 := dk_seg dksX7_bestBy_0 24 rfl rfl
theorem dX7_bestBy_0 : decode cX7_bestBy 0 = .ok (.aload_n 0, 1) := dk_42 (dk_at dksX7_bestBy_0 0 rfl rfl)
theorem dX7_bestBy_1 : decode cX7_bestBy 1 = .ok (.iconst 0, 1) := dk_3 (dk_at dksX7_bestBy_0 1 rfl rfl)
theorem dX7_bestBy_2 : decode cX7_bestBy 2 = .ok (.putfield 77, 3) := dk_181 0 77 (dk_at dksX7_bestBy_0 2 rfl rfl)
theorem dX7_bestBy_5 : decode cX7_bestBy 5 = .ok (.iload_n 2, 1) := dk_28 (dk_at dksX7_bestBy_0 5 rfl rfl)
theorem dX7_bestBy_6 : decode cX7_bestBy 6 = .ok (.invokestatic 499, 3) := dk_184 1 243 (dk_at dksX7_bestBy_0 6 rfl rfl)
theorem dX7_bestBy_9 : decode cX7_bestBy 9 = .ok (.ifCond .eq 15, 3) := dk_153 0 15 (dk_at dksX7_bestBy_0 9 rfl rfl)
theorem dX7_bestBy_12 : decode cX7_bestBy 12 = .ok (.iload_n 3, 1) := dk_29 (dk_at dksX7_bestBy_0 12 rfl rfl)
theorem dX7_bestBy_13 : decode cX7_bestBy 13 = .ok (.iconst 1, 1) := dk_4 (dk_at dksX7_bestBy_0 13 rfl rfl)
theorem dX7_bestBy_14 : decode cX7_bestBy 14 = .ok (.if_icmp .eq 16, 3) := dk_159 0 16 (dk_at dksX7_bestBy_0 14 rfl rfl)
theorem dX7_bestBy_17 : decode cX7_bestBy 17 = .ok (.iload_n 3, 1) := dk_29 (dk_at dksX7_bestBy_0 17 rfl rfl)
theorem dX7_bestBy_18 : decode cX7_bestBy 18 = .ok (.invokestatic 510, 3) := dk_184 1 254 (dk_at dksX7_bestBy_0 18 rfl rfl)
theorem dX7_bestBy_21 : decode cX7_bestBy 21 = .ok (.ifCond .ne 9, 3) := dk_154 0 9 (dk_at dksX7_bestBy_0 21 rfl rfl)
theorem dX7_bestBy_24 : decode cX7_bestBy 24 = .ok (.aload_n 0, 1) := dk_42 (dk_at dksX7_bestBy_1 0 rfl rfl)
theorem dX7_bestBy_25 : decode cX7_bestBy 25 = .ok (.iconst 1, 1) := dk_4 (dk_at dksX7_bestBy_1 1 rfl rfl)
theorem dX7_bestBy_26 : decode cX7_bestBy 26 = .ok (.invokevirtual 244, 3) := dk_182 0 244 (dk_at dksX7_bestBy_1 2 rfl rfl)
theorem dX7_bestBy_29 : decode cX7_bestBy 29 = .ok (.ireturn, 1) := dk_172 (dk_at dksX7_bestBy_1 5 rfl rfl)
theorem dX7_bestBy_30 : decode cX7_bestBy 30 = .ok (.aload_n 0, 1) := dk_42 (dk_at dksX7_bestBy_1 6 rfl rfl)
theorem dX7_bestBy_31 : decode cX7_bestBy 31 = .ok (.iload_n 1, 1) := dk_27 (dk_at dksX7_bestBy_1 7 rfl rfl)
theorem dX7_bestBy_32 : decode cX7_bestBy 32 = .ok (.aload_n 0, 1) := dk_42 (dk_at dksX7_bestBy_1 8 rfl rfl)
theorem dX7_bestBy_33 : decode cX7_bestBy 33 = .ok (.invokevirtual 343, 3) := dk_182 1 87 (dk_at dksX7_bestBy_1 9 rfl rfl)
theorem dX7_bestBy_36 : decode cX7_bestBy 36 = .ok (.iload_n 2, 1) := dk_28 (dk_at dksX7_bestBy_1 12 rfl rfl)
theorem dX7_bestBy_37 : decode cX7_bestBy 37 = .ok (.invokevirtual 502, 3) := dk_182 1 246 (dk_at dksX7_bestBy_1 13 rfl rfl)
theorem dX7_bestBy_40 : decode cX7_bestBy 40 = .ok (.aload_n 0, 1) := dk_42 (dk_at dksX7_bestBy_1 16 rfl rfl)
theorem dX7_bestBy_41 : decode cX7_bestBy 41 = .ok (.iload_n 3, 1) := dk_29 (dk_at dksX7_bestBy_1 17 rfl rfl)
theorem dX7_bestBy_42 : decode cX7_bestBy 42 = .ok (.invokevirtual 516, 3) := dk_182 2 4 (dk_at dksX7_bestBy_1 18 rfl rfl)
theorem dX7_bestBy_45 : decode cX7_bestBy 45 = .ok (.ireturn, 1) := dk_172 (dk_at dksX7_bestBy_1 21 rfl rfl)
abbrev cX7_toldBest : ByteArray := prog_43_method_115_code
def yX7_toldBest : MethodName := ⟨RX7, "toldBest", "(I)I"⟩
def dkwX7_toldBest_1 : List UInt8 := [16, 10, 100, 42, 180, 1, 172, 162, 0, 15, 42, 180, 0, 48, 27, 16, 10, 100, 46, 167, 0, 4, 2, 172]
abbrev dktX7_toldBest_1 : List UInt8 := dkwX7_toldBest_1 ++ []
def dkwX7_toldBest_0 : List UInt8 := [27, 154, 0, 10, 42, 180, 1, 169, 167, 0, 39, 27, 4, 160, 0, 10, 42, 180, 1, 172, 167, 0, 27, 27]
abbrev dktX7_toldBest_0 : List UInt8 := dkwX7_toldBest_0 ++ dktX7_toldBest_1
theorem dksX7_toldBest_0 : cX7_toldBest.data.toList.drop 0 = dktX7_toldBest_0 := by decide +kernel
theorem dksX7_toldBest_1 : cX7_toldBest.data.toList.drop 24 = dktX7_toldBest_1 := dk_seg dksX7_toldBest_0 24 rfl rfl
theorem dX7_toldBest_0 : decode cX7_toldBest 0 = .ok (.iload_n 1, 1) := dk_27 (dk_at dksX7_toldBest_0 0 rfl rfl)
theorem dX7_toldBest_1 : decode cX7_toldBest 1 = .ok (.ifCond .ne 10, 3) := dk_154 0 10 (dk_at dksX7_toldBest_0 1 rfl rfl)
theorem dX7_toldBest_4 : decode cX7_toldBest 4 = .ok (.aload_n 0, 1) := dk_42 (dk_at dksX7_toldBest_0 4 rfl rfl)
theorem dX7_toldBest_5 : decode cX7_toldBest 5 = .ok (.getfield 425, 3) := dk_180 1 169 (dk_at dksX7_toldBest_0 5 rfl rfl)
theorem dX7_toldBest_8 : decode cX7_toldBest 8 = .ok (.goto 39, 3) := dk_167 0 39 (dk_at dksX7_toldBest_0 8 rfl rfl)
theorem dX7_toldBest_11 : decode cX7_toldBest 11 = .ok (.iload_n 1, 1) := dk_27 (dk_at dksX7_toldBest_0 11 rfl rfl)
theorem dX7_toldBest_12 : decode cX7_toldBest 12 = .ok (.iconst 1, 1) := dk_4 (dk_at dksX7_toldBest_0 12 rfl rfl)
theorem dX7_toldBest_13 : decode cX7_toldBest 13 = .ok (.if_icmp .ne 10, 3) := dk_160 0 10 (dk_at dksX7_toldBest_0 13 rfl rfl)
theorem dX7_toldBest_16 : decode cX7_toldBest 16 = .ok (.aload_n 0, 1) := dk_42 (dk_at dksX7_toldBest_0 16 rfl rfl)
theorem dX7_toldBest_17 : decode cX7_toldBest 17 = .ok (.getfield 428, 3) := dk_180 1 172 (dk_at dksX7_toldBest_0 17 rfl rfl)
theorem dX7_toldBest_20 : decode cX7_toldBest 20 = .ok (.goto 27, 3) := dk_167 0 27 (dk_at dksX7_toldBest_0 20 rfl rfl)
theorem dX7_toldBest_23 : decode cX7_toldBest 23 = .ok (.iload_n 1, 1) := dk_27 (dk_at dksX7_toldBest_0 23 rfl rfl)
theorem dX7_toldBest_24 : decode cX7_toldBest 24 = .ok (.bipush 10, 2) := dk_16 10 (dk_at dksX7_toldBest_1 0 rfl rfl)
theorem dX7_toldBest_26 : decode cX7_toldBest 26 = .ok (.isub, 1) := dk_100 (dk_at dksX7_toldBest_1 2 rfl rfl)
theorem dX7_toldBest_27 : decode cX7_toldBest 27 = .ok (.aload_n 0, 1) := dk_42 (dk_at dksX7_toldBest_1 3 rfl rfl)
theorem dX7_toldBest_28 : decode cX7_toldBest 28 = .ok (.getfield 428, 3) := dk_180 1 172 (dk_at dksX7_toldBest_1 4 rfl rfl)
theorem dX7_toldBest_31 : decode cX7_toldBest 31 = .ok (.if_icmp .ge 15, 3) := dk_162 0 15 (dk_at dksX7_toldBest_1 7 rfl rfl)
theorem dX7_toldBest_34 : decode cX7_toldBest 34 = .ok (.aload_n 0, 1) := dk_42 (dk_at dksX7_toldBest_1 10 rfl rfl)
theorem dX7_toldBest_35 : decode cX7_toldBest 35 = .ok (.getfield 48, 3) := dk_180 0 48 (dk_at dksX7_toldBest_1 11 rfl rfl)
theorem dX7_toldBest_38 : decode cX7_toldBest 38 = .ok (.iload_n 1, 1) := dk_27 (dk_at dksX7_toldBest_1 14 rfl rfl)
theorem dX7_toldBest_39 : decode cX7_toldBest 39 = .ok (.bipush 10, 2) := dk_16 10 (dk_at dksX7_toldBest_1 15 rfl rfl)
theorem dX7_toldBest_41 : decode cX7_toldBest 41 = .ok (.isub, 1) := dk_100 (dk_at dksX7_toldBest_1 17 rfl rfl)
theorem dX7_toldBest_42 : decode cX7_toldBest 42 = .ok (.iaload, 1) := dk_46 (dk_at dksX7_toldBest_1 18 rfl rfl)
theorem dX7_toldBest_43 : decode cX7_toldBest 43 = .ok (.goto 4, 3) := dk_167 0 4 (dk_at dksX7_toldBest_1 19 rfl rfl)
theorem dX7_toldBest_46 : decode cX7_toldBest 46 = .ok (.iconst (-1), 1) := dk_2 (dk_at dksX7_toldBest_1 22 rfl rfl)
theorem dX7_toldBest_47 : decode cX7_toldBest 47 = .ok (.ireturn, 1) := dk_172 (dk_at dksX7_toldBest_1 23 rfl rfl)
abbrev cX7_reads : ByteArray := prog_43_method_119_code
def yX7_reads : MethodName := ⟨RX7, "reads", "(II)I"⟩
def dkwX7_reads_2 : List UInt8 := [8, 182, 1, 246, 42, 28, 182, 2, 1, 172]
abbrev dktX7_reads_2 : List UInt8 := dkwX7_reads_2 ++ []
def dkwX7_reads_1 : List UInt8 := [6, 181, 0, 77, 42, 180, 0, 77, 158, 0, 5, 3, 172, 42, 27, 181, 1, 193, 42, 7, 42, 182, 1, 87]
abbrev dktX7_reads_1 : List UInt8 := dkwX7_reads_1 ++ dktX7_reads_2
def dkwX7_reads_0 : List UInt8 := [42, 42, 27, 182, 2, 12, 181, 0, 77, 42, 180, 0, 77, 154, 0, 15, 28, 184, 1, 254, 154, 0, 8, 42]
abbrev dktX7_reads_0 : List UInt8 := dkwX7_reads_0 ++ dktX7_reads_1
theorem dksX7_reads_0 : cX7_reads.data.toList.drop 0 = dktX7_reads_0 := by decide +kernel
theorem dksX7_reads_1 : cX7_reads.data.toList.drop 24 = dktX7_reads_1 := dk_seg dksX7_reads_0 24 rfl rfl
theorem dksX7_reads_2 : cX7_reads.data.toList.drop 48 = dktX7_reads_2 := dk_seg dksX7_reads_1 24 rfl rfl
theorem dX7_reads_0 : decode cX7_reads 0 = .ok (.aload_n 0, 1) := dk_42 (dk_at dksX7_reads_0 0 rfl rfl)
theorem dX7_reads_1 : decode cX7_reads 1 = .ok (.aload_n 0, 1) := dk_42 (dk_at dksX7_reads_0 1 rfl rfl)
theorem dX7_reads_2 : decode cX7_reads 2 = .ok (.iload_n 1, 1) := dk_27 (dk_at dksX7_reads_0 2 rfl rfl)
theorem dX7_reads_3 : decode cX7_reads 3 = .ok (.invokevirtual 524, 3) := dk_182 2 12 (dk_at dksX7_reads_0 3 rfl rfl)
theorem dX7_reads_6 : decode cX7_reads 6 = .ok (.putfield 77, 3) := dk_181 0 77 (dk_at dksX7_reads_0 6 rfl rfl)
theorem dX7_reads_9 : decode cX7_reads 9 = .ok (.aload_n 0, 1) := dk_42 (dk_at dksX7_reads_0 9 rfl rfl)
theorem dX7_reads_10 : decode cX7_reads 10 = .ok (.getfield 77, 3) := dk_180 0 77 (dk_at dksX7_reads_0 10 rfl rfl)
theorem dX7_reads_13 : decode cX7_reads 13 = .ok (.ifCond .ne 15, 3) := dk_154 0 15 (dk_at dksX7_reads_0 13 rfl rfl)
theorem dX7_reads_16 : decode cX7_reads 16 = .ok (.iload_n 2, 1) := dk_28 (dk_at dksX7_reads_0 16 rfl rfl)
theorem dX7_reads_17 : decode cX7_reads 17 = .ok (.invokestatic 510, 3) := dk_184 1 254 (dk_at dksX7_reads_0 17 rfl rfl)
theorem dX7_reads_20 : decode cX7_reads 20 = .ok (.ifCond .ne 8, 3) := dk_154 0 8 (dk_at dksX7_reads_0 20 rfl rfl)
theorem dX7_reads_23 : decode cX7_reads 23 = .ok (.aload_n 0, 1) := dk_42 (dk_at dksX7_reads_0 23 rfl rfl)
theorem dX7_reads_24 : decode cX7_reads 24 = .ok (.iconst 3, 1) := dk_6 (dk_at dksX7_reads_1 0 rfl rfl)
theorem dX7_reads_25 : decode cX7_reads 25 = .ok (.putfield 77, 3) := dk_181 0 77 (dk_at dksX7_reads_1 1 rfl rfl)
theorem dX7_reads_28 : decode cX7_reads 28 = .ok (.aload_n 0, 1) := dk_42 (dk_at dksX7_reads_1 4 rfl rfl)
theorem dX7_reads_29 : decode cX7_reads 29 = .ok (.getfield 77, 3) := dk_180 0 77 (dk_at dksX7_reads_1 5 rfl rfl)
theorem dX7_reads_32 : decode cX7_reads 32 = .ok (.ifCond .le 5, 3) := dk_158 0 5 (dk_at dksX7_reads_1 8 rfl rfl)
theorem dX7_reads_35 : decode cX7_reads 35 = .ok (.iconst 0, 1) := dk_3 (dk_at dksX7_reads_1 11 rfl rfl)
theorem dX7_reads_36 : decode cX7_reads 36 = .ok (.ireturn, 1) := dk_172 (dk_at dksX7_reads_1 12 rfl rfl)
theorem dX7_reads_37 : decode cX7_reads 37 = .ok (.aload_n 0, 1) := dk_42 (dk_at dksX7_reads_1 13 rfl rfl)
theorem dX7_reads_38 : decode cX7_reads 38 = .ok (.iload_n 1, 1) := dk_27 (dk_at dksX7_reads_1 14 rfl rfl)
theorem dX7_reads_39 : decode cX7_reads 39 = .ok (.putfield 449, 3) := dk_181 1 193 (dk_at dksX7_reads_1 15 rfl rfl)
theorem dX7_reads_42 : decode cX7_reads 42 = .ok (.aload_n 0, 1) := dk_42 (dk_at dksX7_reads_1 18 rfl rfl)
theorem dX7_reads_43 : decode cX7_reads 43 = .ok (.iconst 4, 1) := dk_7 (dk_at dksX7_reads_1 19 rfl rfl)
theorem dX7_reads_44 : decode cX7_reads 44 = .ok (.aload_n 0, 1) := dk_42 (dk_at dksX7_reads_1 20 rfl rfl)
theorem dX7_reads_45 : decode cX7_reads 45 = .ok (.invokevirtual 343, 3) := dk_182 1 87 (dk_at dksX7_reads_1 21 rfl rfl)
theorem dX7_reads_48 : decode cX7_reads 48 = .ok (.iconst 5, 1) := dk_8 (dk_at dksX7_reads_2 0 rfl rfl)
theorem dX7_reads_49 : decode cX7_reads 49 = .ok (.invokevirtual 502, 3) := dk_182 1 246 (dk_at dksX7_reads_2 1 rfl rfl)
theorem dX7_reads_52 : decode cX7_reads 52 = .ok (.aload_n 0, 1) := dk_42 (dk_at dksX7_reads_2 4 rfl rfl)
theorem dX7_reads_53 : decode cX7_reads 53 = .ok (.iload_n 2, 1) := dk_28 (dk_at dksX7_reads_2 5 rfl rfl)
theorem dX7_reads_54 : decode cX7_reads 54 = .ok (.invokevirtual 513, 3) := dk_182 2 1 (dk_at dksX7_reads_2 6 rfl rfl)
theorem dX7_reads_57 : decode cX7_reads 57 = .ok (.ireturn, 1) := dk_172 (dk_at dksX7_reads_2 9 rfl rfl)
abbrev cX7_marksFault : ByteArray := prog_43_method_118_code
def yX7_marksFault : MethodName := ⟨RX7, "marksFault", "(I)I"⟩
def dkwX7_marksFault_3 : List UInt8 := [132, 4, 1, 167, 255, 213, 29, 153, 0, 7, 3, 167, 0, 4, 6, 172]
abbrev dktX7_marksFault_3 : List UInt8 := dkwX7_marksFault_3 ++ []
def dkwX7_marksFault_2 : List UInt8 := [180, 0, 74, 16, 30, 27, 104, 21, 4, 96, 47, 20, 1, 119, 148, 155, 0, 7, 4, 167, 0, 4, 3, 62]
abbrev dktX7_marksFault_2 : List UInt8 := dkwX7_marksFault_2 ++ dktX7_marksFault_3
def dkwX7_marksFault_1 : List UInt8 := [184, 0, 138, 62, 3, 54, 4, 21, 4, 42, 180, 0, 71, 27, 46, 162, 0, 38, 29, 153, 0, 34, 42]
abbrev dktX7_marksFault_1 : List UInt8 := dkwX7_marksFault_1 ++ dktX7_marksFault_2
def dkwX7_marksFault_0 : List UInt8 := [42, 27, 182, 1, 133, 61, 28, 153, 0, 5, 28, 172, 42, 180, 0, 71, 27, 46, 133, 10, 20, 2, 10]
abbrev dktX7_marksFault_0 : List UInt8 := dkwX7_marksFault_0 ++ dktX7_marksFault_1
theorem dksX7_marksFault_0 : cX7_marksFault.data.toList.drop 0 = dktX7_marksFault_0 := by decide +kernel
theorem dksX7_marksFault_1 : cX7_marksFault.data.toList.drop 23 = dktX7_marksFault_1 := dk_seg dksX7_marksFault_0 23 rfl rfl
theorem dksX7_marksFault_2 : cX7_marksFault.data.toList.drop 46 = dktX7_marksFault_2 := dk_seg dksX7_marksFault_1 23 rfl rfl
theorem dksX7_marksFault_3 : cX7_marksFault.data.toList.drop 70 = dktX7_marksFault_3 := dk_seg dksX7_marksFault_2 24 rfl rfl
theorem dX7_marksFault_0 : decode cX7_marksFault 0 = .ok (.aload_n 0, 1) := dk_42 (dk_at dksX7_marksFault_0 0 rfl rfl)
theorem dX7_marksFault_1 : decode cX7_marksFault 1 = .ok (.iload_n 1, 1) := dk_27 (dk_at dksX7_marksFault_0 1 rfl rfl)
theorem dX7_marksFault_2 : decode cX7_marksFault 2 = .ok (.invokevirtual 389, 3) := dk_182 1 133 (dk_at dksX7_marksFault_0 2 rfl rfl)
theorem dX7_marksFault_5 : decode cX7_marksFault 5 = .ok (.istore_n 2, 1) := dk_61 (dk_at dksX7_marksFault_0 5 rfl rfl)
theorem dX7_marksFault_6 : decode cX7_marksFault 6 = .ok (.iload_n 2, 1) := dk_28 (dk_at dksX7_marksFault_0 6 rfl rfl)
theorem dX7_marksFault_7 : decode cX7_marksFault 7 = .ok (.ifCond .eq 5, 3) := dk_153 0 5 (dk_at dksX7_marksFault_0 7 rfl rfl)
theorem dX7_marksFault_10 : decode cX7_marksFault 10 = .ok (.iload_n 2, 1) := dk_28 (dk_at dksX7_marksFault_0 10 rfl rfl)
theorem dX7_marksFault_11 : decode cX7_marksFault 11 = .ok (.ireturn, 1) := dk_172 (dk_at dksX7_marksFault_0 11 rfl rfl)
theorem dX7_marksFault_12 : decode cX7_marksFault 12 = .ok (.aload_n 0, 1) := dk_42 (dk_at dksX7_marksFault_0 12 rfl rfl)
theorem dX7_marksFault_13 : decode cX7_marksFault 13 = .ok (.getfield 71, 3) := dk_180 0 71 (dk_at dksX7_marksFault_0 13 rfl rfl)
theorem dX7_marksFault_16 : decode cX7_marksFault 16 = .ok (.iload_n 1, 1) := dk_27 (dk_at dksX7_marksFault_0 16 rfl rfl)
theorem dX7_marksFault_17 : decode cX7_marksFault 17 = .ok (.iaload, 1) := dk_46 (dk_at dksX7_marksFault_0 17 rfl rfl)
theorem dX7_marksFault_18 : decode cX7_marksFault 18 = .ok (.i2l, 1) := dk_133 (dk_at dksX7_marksFault_0 18 rfl rfl)
theorem dX7_marksFault_19 : decode cX7_marksFault 19 = .ok (.lconst 1, 1) := dk_10 (dk_at dksX7_marksFault_0 19 rfl rfl)
theorem dX7_marksFault_20 : decode cX7_marksFault 20 = .ok (.ldc2_w 522, 3) := dk_20 2 10 (dk_at dksX7_marksFault_0 20 rfl rfl)
theorem dX7_marksFault_23 : decode cX7_marksFault 23 = .ok (.invokestatic 138, 3) := dk_184 0 138 (dk_at dksX7_marksFault_1 0 rfl rfl)
theorem dX7_marksFault_26 : decode cX7_marksFault 26 = .ok (.istore_n 3, 1) := dk_62 (dk_at dksX7_marksFault_1 3 rfl rfl)
theorem dX7_marksFault_27 : decode cX7_marksFault 27 = .ok (.iconst 0, 1) := dk_3 (dk_at dksX7_marksFault_1 4 rfl rfl)
theorem dX7_marksFault_28 : decode cX7_marksFault 28 = .ok (.istore 4, 2) := dk_54 4 (dk_at dksX7_marksFault_1 5 rfl rfl)
theorem dX7_marksFault_30 : decode cX7_marksFault 30 = .ok (.iload 4, 2) := dk_21 4 (dk_at dksX7_marksFault_1 7 rfl rfl)
theorem dX7_marksFault_32 : decode cX7_marksFault 32 = .ok (.aload_n 0, 1) := dk_42 (dk_at dksX7_marksFault_1 9 rfl rfl)
theorem dX7_marksFault_33 : decode cX7_marksFault 33 = .ok (.getfield 71, 3) := dk_180 0 71 (dk_at dksX7_marksFault_1 10 rfl rfl)
theorem dX7_marksFault_36 : decode cX7_marksFault 36 = .ok (.iload_n 1, 1) := dk_27 (dk_at dksX7_marksFault_1 13 rfl rfl)
theorem dX7_marksFault_37 : decode cX7_marksFault 37 = .ok (.iaload, 1) := dk_46 (dk_at dksX7_marksFault_1 14 rfl rfl)
theorem dX7_marksFault_38 : decode cX7_marksFault 38 = .ok (.if_icmp .ge 38, 3) := dk_162 0 38 (dk_at dksX7_marksFault_1 15 rfl rfl)
theorem dX7_marksFault_41 : decode cX7_marksFault 41 = .ok (.iload_n 3, 1) := dk_29 (dk_at dksX7_marksFault_1 18 rfl rfl)
theorem dX7_marksFault_42 : decode cX7_marksFault 42 = .ok (.ifCond .eq 34, 3) := dk_153 0 34 (dk_at dksX7_marksFault_1 19 rfl rfl)
theorem dX7_marksFault_45 : decode cX7_marksFault 45 = .ok (.aload_n 0, 1) := dk_42 (dk_at dksX7_marksFault_1 22 rfl rfl)
theorem dX7_marksFault_46 : decode cX7_marksFault 46 = .ok (.getfield 74, 3) := dk_180 0 74 (dk_at dksX7_marksFault_2 0 rfl rfl)
theorem dX7_marksFault_49 : decode cX7_marksFault 49 = .ok (.bipush 30, 2) := dk_16 30 (dk_at dksX7_marksFault_2 3 rfl rfl)
theorem dX7_marksFault_51 : decode cX7_marksFault 51 = .ok (.iload_n 1, 1) := dk_27 (dk_at dksX7_marksFault_2 5 rfl rfl)
theorem dX7_marksFault_52 : decode cX7_marksFault 52 = .ok (.imul, 1) := dk_104 (dk_at dksX7_marksFault_2 6 rfl rfl)
theorem dX7_marksFault_53 : decode cX7_marksFault 53 = .ok (.iload 4, 2) := dk_21 4 (dk_at dksX7_marksFault_2 7 rfl rfl)
theorem dX7_marksFault_55 : decode cX7_marksFault 55 = .ok (.iadd, 1) := dk_96 (dk_at dksX7_marksFault_2 9 rfl rfl)
theorem dX7_marksFault_56 : decode cX7_marksFault 56 = .ok (.laload, 1) := dk_47 (dk_at dksX7_marksFault_2 10 rfl rfl)
theorem dX7_marksFault_57 : decode cX7_marksFault 57 = .ok (.ldc2_w 375, 3) := dk_20 1 119 (dk_at dksX7_marksFault_2 11 rfl rfl)
theorem dX7_marksFault_60 : decode cX7_marksFault 60 = .ok (.lcmp, 1) := dk_148 (dk_at dksX7_marksFault_2 14 rfl rfl)
theorem dX7_marksFault_61 : decode cX7_marksFault 61 = .ok (.ifCond .lt 7, 3) := dk_155 0 7 (dk_at dksX7_marksFault_2 15 rfl rfl)
theorem dX7_marksFault_64 : decode cX7_marksFault 64 = .ok (.iconst 1, 1) := dk_4 (dk_at dksX7_marksFault_2 18 rfl rfl)
theorem dX7_marksFault_65 : decode cX7_marksFault 65 = .ok (.goto 4, 3) := dk_167 0 4 (dk_at dksX7_marksFault_2 19 rfl rfl)
theorem dX7_marksFault_68 : decode cX7_marksFault 68 = .ok (.iconst 0, 1) := dk_3 (dk_at dksX7_marksFault_2 22 rfl rfl)
theorem dX7_marksFault_69 : decode cX7_marksFault 69 = .ok (.istore_n 3, 1) := dk_62 (dk_at dksX7_marksFault_2 23 rfl rfl)
theorem dX7_marksFault_70 : decode cX7_marksFault 70 = .ok (.iinc 4 1, 3) := dk_132 4 1 (dk_at dksX7_marksFault_3 0 rfl rfl)
theorem dX7_marksFault_73 : decode cX7_marksFault 73 = .ok (.goto (-43), 3) := dk_167 255 213 (dk_at dksX7_marksFault_3 3 rfl rfl)
theorem dX7_marksFault_76 : decode cX7_marksFault 76 = .ok (.iload_n 3, 1) := dk_29 (dk_at dksX7_marksFault_3 6 rfl rfl)
theorem dX7_marksFault_77 : decode cX7_marksFault 77 = .ok (.ifCond .eq 7, 3) := dk_153 0 7 (dk_at dksX7_marksFault_3 7 rfl rfl)
theorem dX7_marksFault_80 : decode cX7_marksFault 80 = .ok (.iconst 0, 1) := dk_3 (dk_at dksX7_marksFault_3 10 rfl rfl)
theorem dX7_marksFault_81 : decode cX7_marksFault 81 = .ok (.goto 4, 3) := dk_167 0 4 (dk_at dksX7_marksFault_3 11 rfl rfl)
theorem dX7_marksFault_84 : decode cX7_marksFault 84 = .ok (.iconst 3, 1) := dk_6 (dk_at dksX7_marksFault_3 14 rfl rfl)
theorem dX7_marksFault_85 : decode cX7_marksFault 85 = .ok (.ireturn, 1) := dk_172 (dk_at dksX7_marksFault_3 15 rfl rfl)
abbrev cX7_step : ByteArray := prog_43_method_120_code
def yX7_step : MethodName := ⟨RX7, "step", "()I"⟩
def dkwX7_step_1 : List UInt8 := [167, 0, 9, 42, 180, 0, 48, 3, 46, 172]
abbrev dktX7_step_1 : List UInt8 := dkwX7_step_1 ++ []
def dkwX7_step_0 : List UInt8 := [42, 3, 181, 0, 77, 42, 6, 42, 182, 1, 87, 4, 182, 1, 246, 42, 180, 1, 172, 154, 0, 7, 2]
abbrev dktX7_step_0 : List UInt8 := dkwX7_step_0 ++ dktX7_step_1
theorem dksX7_step_0 : cX7_step.data.toList.drop 0 = dktX7_step_0 := by decide +kernel
theorem dksX7_step_1 : cX7_step.data.toList.drop 23 = dktX7_step_1 := dk_seg dksX7_step_0 23 rfl rfl
theorem dX7_step_0 : decode cX7_step 0 = .ok (.aload_n 0, 1) := dk_42 (dk_at dksX7_step_0 0 rfl rfl)
theorem dX7_step_1 : decode cX7_step 1 = .ok (.iconst 0, 1) := dk_3 (dk_at dksX7_step_0 1 rfl rfl)
theorem dX7_step_2 : decode cX7_step 2 = .ok (.putfield 77, 3) := dk_181 0 77 (dk_at dksX7_step_0 2 rfl rfl)
theorem dX7_step_5 : decode cX7_step 5 = .ok (.aload_n 0, 1) := dk_42 (dk_at dksX7_step_0 5 rfl rfl)
theorem dX7_step_6 : decode cX7_step 6 = .ok (.iconst 3, 1) := dk_6 (dk_at dksX7_step_0 6 rfl rfl)
theorem dX7_step_7 : decode cX7_step 7 = .ok (.aload_n 0, 1) := dk_42 (dk_at dksX7_step_0 7 rfl rfl)
theorem dX7_step_8 : decode cX7_step 8 = .ok (.invokevirtual 343, 3) := dk_182 1 87 (dk_at dksX7_step_0 8 rfl rfl)
theorem dX7_step_11 : decode cX7_step 11 = .ok (.iconst 1, 1) := dk_4 (dk_at dksX7_step_0 11 rfl rfl)
theorem dX7_step_12 : decode cX7_step 12 = .ok (.invokevirtual 502, 3) := dk_182 1 246 (dk_at dksX7_step_0 12 rfl rfl)
theorem dX7_step_15 : decode cX7_step 15 = .ok (.aload_n 0, 1) := dk_42 (dk_at dksX7_step_0 15 rfl rfl)
theorem dX7_step_16 : decode cX7_step 16 = .ok (.getfield 428, 3) := dk_180 1 172 (dk_at dksX7_step_0 16 rfl rfl)
theorem dX7_step_19 : decode cX7_step 19 = .ok (.ifCond .ne 7, 3) := dk_154 0 7 (dk_at dksX7_step_0 19 rfl rfl)
theorem dX7_step_22 : decode cX7_step 22 = .ok (.iconst (-1), 1) := dk_2 (dk_at dksX7_step_0 22 rfl rfl)
theorem dX7_step_23 : decode cX7_step 23 = .ok (.goto 9, 3) := dk_167 0 9 (dk_at dksX7_step_1 0 rfl rfl)
theorem dX7_step_26 : decode cX7_step 26 = .ok (.aload_n 0, 1) := dk_42 (dk_at dksX7_step_1 3 rfl rfl)
theorem dX7_step_27 : decode cX7_step 27 = .ok (.getfield 48, 3) := dk_180 0 48 (dk_at dksX7_step_1 4 rfl rfl)
theorem dX7_step_30 : decode cX7_step 30 = .ok (.iconst 0, 1) := dk_3 (dk_at dksX7_step_1 7 rfl rfl)
theorem dX7_step_31 : decode cX7_step 31 = .ok (.iaload, 1) := dk_46 (dk_at dksX7_step_1 8 rfl rfl)
theorem dX7_step_32 : decode cX7_step 32 = .ok (.ireturn, 1) := dk_172 (dk_at dksX7_step_1 9 rfl rfl)
abbrev cX7_stands : ByteArray := prog_43_method_124_code
def yX7_stands : MethodName := ⟨RX7, "stands", "(I)Z"⟩
def dkwX7_stands_2 : List UInt8 := [132, 2, 1, 167, 255, 227, 42, 182, 2, 22, 172]
abbrev dktX7_stands_2 : List UInt8 := dkwX7_stands_2 ++ []
def dkwX7_stands_1 : List UInt8 := [182, 0, 253, 162, 0, 27, 42, 180, 0, 62, 42, 180, 0, 74, 16, 30, 27, 104, 28, 96, 47, 136, 28, 79]
abbrev dktX7_stands_1 : List UInt8 := dkwX7_stands_1 ++ dktX7_stands_2
def dkwX7_stands_0 : List UInt8 := [42, 42, 27, 182, 2, 19, 181, 0, 77, 42, 180, 0, 77, 158, 0, 5, 3, 172, 3, 61, 28, 42]
abbrev dktX7_stands_0 : List UInt8 := dkwX7_stands_0 ++ dktX7_stands_1
theorem dksX7_stands_0 : cX7_stands.data.toList.drop 0 = dktX7_stands_0 := by decide +kernel
theorem dksX7_stands_1 : cX7_stands.data.toList.drop 22 = dktX7_stands_1 := dk_seg dksX7_stands_0 22 rfl rfl
theorem dksX7_stands_2 : cX7_stands.data.toList.drop 46 = dktX7_stands_2 := dk_seg dksX7_stands_1 24 rfl rfl
theorem dX7_stands_0 : decode cX7_stands 0 = .ok (.aload_n 0, 1) := dk_42 (dk_at dksX7_stands_0 0 rfl rfl)
theorem dX7_stands_1 : decode cX7_stands 1 = .ok (.aload_n 0, 1) := dk_42 (dk_at dksX7_stands_0 1 rfl rfl)
theorem dX7_stands_2 : decode cX7_stands 2 = .ok (.iload_n 1, 1) := dk_27 (dk_at dksX7_stands_0 2 rfl rfl)
theorem dX7_stands_3 : decode cX7_stands 3 = .ok (.invokevirtual 531, 3) := dk_182 2 19 (dk_at dksX7_stands_0 3 rfl rfl)
theorem dX7_stands_6 : decode cX7_stands 6 = .ok (.putfield 77, 3) := dk_181 0 77 (dk_at dksX7_stands_0 6 rfl rfl)
theorem dX7_stands_9 : decode cX7_stands 9 = .ok (.aload_n 0, 1) := dk_42 (dk_at dksX7_stands_0 9 rfl rfl)
theorem dX7_stands_10 : decode cX7_stands 10 = .ok (.getfield 77, 3) := dk_180 0 77 (dk_at dksX7_stands_0 10 rfl rfl)
theorem dX7_stands_13 : decode cX7_stands 13 = .ok (.ifCond .le 5, 3) := dk_158 0 5 (dk_at dksX7_stands_0 13 rfl rfl)
theorem dX7_stands_16 : decode cX7_stands 16 = .ok (.iconst 0, 1) := dk_3 (dk_at dksX7_stands_0 16 rfl rfl)
theorem dX7_stands_17 : decode cX7_stands 17 = .ok (.ireturn, 1) := dk_172 (dk_at dksX7_stands_0 17 rfl rfl)
theorem dX7_stands_18 : decode cX7_stands 18 = .ok (.iconst 0, 1) := dk_3 (dk_at dksX7_stands_0 18 rfl rfl)
theorem dX7_stands_19 : decode cX7_stands 19 = .ok (.istore_n 2, 1) := dk_61 (dk_at dksX7_stands_0 19 rfl rfl)
theorem dX7_stands_20 : decode cX7_stands 20 = .ok (.iload_n 2, 1) := dk_28 (dk_at dksX7_stands_0 20 rfl rfl)
theorem dX7_stands_21 : decode cX7_stands 21 = .ok (.aload_n 0, 1) := dk_42 (dk_at dksX7_stands_0 21 rfl rfl)
theorem dX7_stands_22 : decode cX7_stands 22 = .ok (.invokevirtual 253, 3) := dk_182 0 253 (dk_at dksX7_stands_1 0 rfl rfl)
theorem dX7_stands_25 : decode cX7_stands 25 = .ok (.if_icmp .ge 27, 3) := dk_162 0 27 (dk_at dksX7_stands_1 3 rfl rfl)
theorem dX7_stands_28 : decode cX7_stands 28 = .ok (.aload_n 0, 1) := dk_42 (dk_at dksX7_stands_1 6 rfl rfl)
theorem dX7_stands_29 : decode cX7_stands 29 = .ok (.getfield 62, 3) := dk_180 0 62 (dk_at dksX7_stands_1 7 rfl rfl)
theorem dX7_stands_32 : decode cX7_stands 32 = .ok (.aload_n 0, 1) := dk_42 (dk_at dksX7_stands_1 10 rfl rfl)
theorem dX7_stands_33 : decode cX7_stands 33 = .ok (.getfield 74, 3) := dk_180 0 74 (dk_at dksX7_stands_1 11 rfl rfl)
theorem dX7_stands_36 : decode cX7_stands 36 = .ok (.bipush 30, 2) := dk_16 30 (dk_at dksX7_stands_1 14 rfl rfl)
theorem dX7_stands_38 : decode cX7_stands 38 = .ok (.iload_n 1, 1) := dk_27 (dk_at dksX7_stands_1 16 rfl rfl)
theorem dX7_stands_39 : decode cX7_stands 39 = .ok (.imul, 1) := dk_104 (dk_at dksX7_stands_1 17 rfl rfl)
theorem dX7_stands_40 : decode cX7_stands 40 = .ok (.iload_n 2, 1) := dk_28 (dk_at dksX7_stands_1 18 rfl rfl)
theorem dX7_stands_41 : decode cX7_stands 41 = .ok (.iadd, 1) := dk_96 (dk_at dksX7_stands_1 19 rfl rfl)
theorem dX7_stands_42 : decode cX7_stands 42 = .ok (.laload, 1) := dk_47 (dk_at dksX7_stands_1 20 rfl rfl)
theorem dX7_stands_43 : decode cX7_stands 43 = .ok (.l2i, 1) := dk_136 (dk_at dksX7_stands_1 21 rfl rfl)
theorem dX7_stands_44 : decode cX7_stands 44 = .ok (.iload_n 2, 1) := dk_28 (dk_at dksX7_stands_1 22 rfl rfl)
theorem dX7_stands_45 : decode cX7_stands 45 = .ok (.iastore, 1) := dk_79 (dk_at dksX7_stands_1 23 rfl rfl)
theorem dX7_stands_46 : decode cX7_stands 46 = .ok (.iinc 2 1, 3) := dk_132 2 1 (dk_at dksX7_stands_2 0 rfl rfl)
theorem dX7_stands_49 : decode cX7_stands 49 = .ok (.goto (-29), 3) := dk_167 255 227 (dk_at dksX7_stands_2 3 rfl rfl)
theorem dX7_stands_52 : decode cX7_stands 52 = .ok (.aload_n 0, 1) := dk_42 (dk_at dksX7_stands_2 6 rfl rfl)
theorem dX7_stands_53 : decode cX7_stands 53 = .ok (.invokevirtual 534, 3) := dk_182 2 22 (dk_at dksX7_stands_2 7 rfl rfl)
theorem dX7_stands_56 : decode cX7_stands 56 = .ok (.ireturn, 1) := dk_172 (dk_at dksX7_stands_2 10 rfl rfl)
abbrev cX7_stackFault : ByteArray := prog_43_method_121_code
def yX7_stackFault : MethodName := ⟨RX7, "stackFault", "(I)I"⟩
def dkwX7_stackFault_4 : List UInt8 := [100, 160, 0, 7, 3, 167, 0, 4, 6, 172]
abbrev dktX7_stackFault_4 : List UInt8 := dkwX7_stackFault_4 ++ []
def dkwX7_stackFault_3 : List UInt8 := [167, 255, 201, 42, 180, 0, 71, 27, 46, 42, 182, 0, 253, 160, 0, 19, 29, 4, 42, 182, 0, 253, 120, 4]
abbrev dktX7_stackFault_3 : List UInt8 := dkwX7_stackFault_3 ++ dktX7_stackFault_4
def dkwX7_stackFault_2 : List UInt8 := [4, 42, 180, 0, 74, 16, 30, 27, 104, 21, 4, 96, 47, 136, 120, 167, 0, 4, 3, 128, 62, 132, 4, 1]
abbrev dktX7_stackFault_2 : List UInt8 := dkwX7_stackFault_2 ++ dktX7_stackFault_3
def dkwX7_stackFault_1 : List UInt8 := [46, 162, 0, 50, 29, 42, 42, 180, 0, 74, 16, 30, 27, 104, 21, 4, 96, 47, 182, 1, 81, 153, 0, 21]
abbrev dktX7_stackFault_1 : List UInt8 := dkwX7_stackFault_1 ++ dktX7_stackFault_2
def dkwX7_stackFault_0 : List UInt8 := [42, 27, 182, 1, 133, 61, 28, 153, 0, 5, 28, 172, 3, 62, 3, 54, 4, 21, 4, 42, 180, 0, 71, 27]
abbrev dktX7_stackFault_0 : List UInt8 := dkwX7_stackFault_0 ++ dktX7_stackFault_1
theorem dksX7_stackFault_0 : cX7_stackFault.data.toList.drop 0 = dktX7_stackFault_0 := by decide +kernel
theorem dksX7_stackFault_1 : cX7_stackFault.data.toList.drop 24 = dktX7_stackFault_1 := dk_seg dksX7_stackFault_0 24 rfl rfl
theorem dksX7_stackFault_2 : cX7_stackFault.data.toList.drop 48 = dktX7_stackFault_2 := dk_seg dksX7_stackFault_1 24 rfl rfl
theorem dksX7_stackFault_3 : cX7_stackFault.data.toList.drop 72 = dktX7_stackFault_3 := dk_seg dksX7_stackFault_2 24 rfl rfl
theorem dksX7_stackFault_4 : cX7_stackFault.data.toList.drop 96 = dktX7_stackFault_4 := dk_seg dksX7_stackFault_3 24 rfl rfl
theorem dX7_stackFault_0 : decode cX7_stackFault 0 = .ok (.aload_n 0, 1) := dk_42 (dk_at dksX7_stackFault_0 0 rfl rfl)
theorem dX7_stackFault_1 : decode cX7_stackFault 1 = .ok (.iload_n 1, 1) := dk_27 (dk_at dksX7_stackFault_0 1 rfl rfl)
theorem dX7_stackFault_2 : decode cX7_stackFault 2 = .ok (.invokevirtual 389, 3) := dk_182 1 133 (dk_at dksX7_stackFault_0 2 rfl rfl)
theorem dX7_stackFault_5 : decode cX7_stackFault 5 = .ok (.istore_n 2, 1) := dk_61 (dk_at dksX7_stackFault_0 5 rfl rfl)
theorem dX7_stackFault_6 : decode cX7_stackFault 6 = .ok (.iload_n 2, 1) := dk_28 (dk_at dksX7_stackFault_0 6 rfl rfl)
theorem dX7_stackFault_7 : decode cX7_stackFault 7 = .ok (.ifCond .eq 5, 3) := dk_153 0 5 (dk_at dksX7_stackFault_0 7 rfl rfl)
theorem dX7_stackFault_10 : decode cX7_stackFault 10 = .ok (.iload_n 2, 1) := dk_28 (dk_at dksX7_stackFault_0 10 rfl rfl)
theorem dX7_stackFault_11 : decode cX7_stackFault 11 = .ok (.ireturn, 1) := dk_172 (dk_at dksX7_stackFault_0 11 rfl rfl)
theorem dX7_stackFault_12 : decode cX7_stackFault 12 = .ok (.iconst 0, 1) := dk_3 (dk_at dksX7_stackFault_0 12 rfl rfl)
theorem dX7_stackFault_13 : decode cX7_stackFault 13 = .ok (.istore_n 3, 1) := dk_62 (dk_at dksX7_stackFault_0 13 rfl rfl)
theorem dX7_stackFault_14 : decode cX7_stackFault 14 = .ok (.iconst 0, 1) := dk_3 (dk_at dksX7_stackFault_0 14 rfl rfl)
theorem dX7_stackFault_15 : decode cX7_stackFault 15 = .ok (.istore 4, 2) := dk_54 4 (dk_at dksX7_stackFault_0 15 rfl rfl)
theorem dX7_stackFault_17 : decode cX7_stackFault 17 = .ok (.iload 4, 2) := dk_21 4 (dk_at dksX7_stackFault_0 17 rfl rfl)
theorem dX7_stackFault_19 : decode cX7_stackFault 19 = .ok (.aload_n 0, 1) := dk_42 (dk_at dksX7_stackFault_0 19 rfl rfl)
theorem dX7_stackFault_20 : decode cX7_stackFault 20 = .ok (.getfield 71, 3) := dk_180 0 71 (dk_at dksX7_stackFault_0 20 rfl rfl)
theorem dX7_stackFault_23 : decode cX7_stackFault 23 = .ok (.iload_n 1, 1) := dk_27 (dk_at dksX7_stackFault_0 23 rfl rfl)
theorem dX7_stackFault_24 : decode cX7_stackFault 24 = .ok (.iaload, 1) := dk_46 (dk_at dksX7_stackFault_1 0 rfl rfl)
theorem dX7_stackFault_25 : decode cX7_stackFault 25 = .ok (.if_icmp .ge 50, 3) := dk_162 0 50 (dk_at dksX7_stackFault_1 1 rfl rfl)
theorem dX7_stackFault_28 : decode cX7_stackFault 28 = .ok (.iload_n 3, 1) := dk_29 (dk_at dksX7_stackFault_1 4 rfl rfl)
theorem dX7_stackFault_29 : decode cX7_stackFault 29 = .ok (.aload_n 0, 1) := dk_42 (dk_at dksX7_stackFault_1 5 rfl rfl)
theorem dX7_stackFault_30 : decode cX7_stackFault 30 = .ok (.aload_n 0, 1) := dk_42 (dk_at dksX7_stackFault_1 6 rfl rfl)
theorem dX7_stackFault_31 : decode cX7_stackFault 31 = .ok (.getfield 74, 3) := dk_180 0 74 (dk_at dksX7_stackFault_1 7 rfl rfl)
theorem dX7_stackFault_34 : decode cX7_stackFault 34 = .ok (.bipush 30, 2) := dk_16 30 (dk_at dksX7_stackFault_1 10 rfl rfl)
theorem dX7_stackFault_36 : decode cX7_stackFault 36 = .ok (.iload_n 1, 1) := dk_27 (dk_at dksX7_stackFault_1 12 rfl rfl)
theorem dX7_stackFault_37 : decode cX7_stackFault 37 = .ok (.imul, 1) := dk_104 (dk_at dksX7_stackFault_1 13 rfl rfl)
theorem dX7_stackFault_38 : decode cX7_stackFault 38 = .ok (.iload 4, 2) := dk_21 4 (dk_at dksX7_stackFault_1 14 rfl rfl)
theorem dX7_stackFault_40 : decode cX7_stackFault 40 = .ok (.iadd, 1) := dk_96 (dk_at dksX7_stackFault_1 16 rfl rfl)
theorem dX7_stackFault_41 : decode cX7_stackFault 41 = .ok (.laload, 1) := dk_47 (dk_at dksX7_stackFault_1 17 rfl rfl)
theorem dX7_stackFault_42 : decode cX7_stackFault 42 = .ok (.invokevirtual 337, 3) := dk_182 1 81 (dk_at dksX7_stackFault_1 18 rfl rfl)
theorem dX7_stackFault_45 : decode cX7_stackFault 45 = .ok (.ifCond .eq 21, 3) := dk_153 0 21 (dk_at dksX7_stackFault_1 21 rfl rfl)
theorem dX7_stackFault_48 : decode cX7_stackFault 48 = .ok (.iconst 1, 1) := dk_4 (dk_at dksX7_stackFault_2 0 rfl rfl)
theorem dX7_stackFault_49 : decode cX7_stackFault 49 = .ok (.aload_n 0, 1) := dk_42 (dk_at dksX7_stackFault_2 1 rfl rfl)
theorem dX7_stackFault_50 : decode cX7_stackFault 50 = .ok (.getfield 74, 3) := dk_180 0 74 (dk_at dksX7_stackFault_2 2 rfl rfl)
theorem dX7_stackFault_53 : decode cX7_stackFault 53 = .ok (.bipush 30, 2) := dk_16 30 (dk_at dksX7_stackFault_2 5 rfl rfl)
theorem dX7_stackFault_55 : decode cX7_stackFault 55 = .ok (.iload_n 1, 1) := dk_27 (dk_at dksX7_stackFault_2 7 rfl rfl)
theorem dX7_stackFault_56 : decode cX7_stackFault 56 = .ok (.imul, 1) := dk_104 (dk_at dksX7_stackFault_2 8 rfl rfl)
theorem dX7_stackFault_57 : decode cX7_stackFault 57 = .ok (.iload 4, 2) := dk_21 4 (dk_at dksX7_stackFault_2 9 rfl rfl)
theorem dX7_stackFault_59 : decode cX7_stackFault 59 = .ok (.iadd, 1) := dk_96 (dk_at dksX7_stackFault_2 11 rfl rfl)
theorem dX7_stackFault_60 : decode cX7_stackFault 60 = .ok (.laload, 1) := dk_47 (dk_at dksX7_stackFault_2 12 rfl rfl)
theorem dX7_stackFault_61 : decode cX7_stackFault 61 = .ok (.l2i, 1) := dk_136 (dk_at dksX7_stackFault_2 13 rfl rfl)
theorem dX7_stackFault_62 : decode cX7_stackFault 62 = .ok (.ishl, 1) := dk_120 (dk_at dksX7_stackFault_2 14 rfl rfl)
theorem dX7_stackFault_63 : decode cX7_stackFault 63 = .ok (.goto 4, 3) := dk_167 0 4 (dk_at dksX7_stackFault_2 15 rfl rfl)
theorem dX7_stackFault_66 : decode cX7_stackFault 66 = .ok (.iconst 0, 1) := dk_3 (dk_at dksX7_stackFault_2 18 rfl rfl)
theorem dX7_stackFault_67 : decode cX7_stackFault 67 = .ok (.ior, 1) := dk_128 (dk_at dksX7_stackFault_2 19 rfl rfl)
theorem dX7_stackFault_68 : decode cX7_stackFault 68 = .ok (.istore_n 3, 1) := dk_62 (dk_at dksX7_stackFault_2 20 rfl rfl)
theorem dX7_stackFault_69 : decode cX7_stackFault 69 = .ok (.iinc 4 1, 3) := dk_132 4 1 (dk_at dksX7_stackFault_2 21 rfl rfl)
theorem dX7_stackFault_72 : decode cX7_stackFault 72 = .ok (.goto (-55), 3) := dk_167 255 201 (dk_at dksX7_stackFault_3 0 rfl rfl)
theorem dX7_stackFault_75 : decode cX7_stackFault 75 = .ok (.aload_n 0, 1) := dk_42 (dk_at dksX7_stackFault_3 3 rfl rfl)
theorem dX7_stackFault_76 : decode cX7_stackFault 76 = .ok (.getfield 71, 3) := dk_180 0 71 (dk_at dksX7_stackFault_3 4 rfl rfl)
theorem dX7_stackFault_79 : decode cX7_stackFault 79 = .ok (.iload_n 1, 1) := dk_27 (dk_at dksX7_stackFault_3 7 rfl rfl)
theorem dX7_stackFault_80 : decode cX7_stackFault 80 = .ok (.iaload, 1) := dk_46 (dk_at dksX7_stackFault_3 8 rfl rfl)
theorem dX7_stackFault_81 : decode cX7_stackFault 81 = .ok (.aload_n 0, 1) := dk_42 (dk_at dksX7_stackFault_3 9 rfl rfl)
theorem dX7_stackFault_82 : decode cX7_stackFault 82 = .ok (.invokevirtual 253, 3) := dk_182 0 253 (dk_at dksX7_stackFault_3 10 rfl rfl)
theorem dX7_stackFault_85 : decode cX7_stackFault 85 = .ok (.if_icmp .ne 19, 3) := dk_160 0 19 (dk_at dksX7_stackFault_3 13 rfl rfl)
theorem dX7_stackFault_88 : decode cX7_stackFault 88 = .ok (.iload_n 3, 1) := dk_29 (dk_at dksX7_stackFault_3 16 rfl rfl)
theorem dX7_stackFault_89 : decode cX7_stackFault 89 = .ok (.iconst 1, 1) := dk_4 (dk_at dksX7_stackFault_3 17 rfl rfl)
theorem dX7_stackFault_90 : decode cX7_stackFault 90 = .ok (.aload_n 0, 1) := dk_42 (dk_at dksX7_stackFault_3 18 rfl rfl)
theorem dX7_stackFault_91 : decode cX7_stackFault 91 = .ok (.invokevirtual 253, 3) := dk_182 0 253 (dk_at dksX7_stackFault_3 19 rfl rfl)
theorem dX7_stackFault_94 : decode cX7_stackFault 94 = .ok (.ishl, 1) := dk_120 (dk_at dksX7_stackFault_3 22 rfl rfl)
theorem dX7_stackFault_95 : decode cX7_stackFault 95 = .ok (.iconst 1, 1) := dk_4 (dk_at dksX7_stackFault_3 23 rfl rfl)
theorem dX7_stackFault_96 : decode cX7_stackFault 96 = .ok (.isub, 1) := dk_100 (dk_at dksX7_stackFault_4 0 rfl rfl)
theorem dX7_stackFault_97 : decode cX7_stackFault 97 = .ok (.if_icmp .ne 7, 3) := dk_160 0 7 (dk_at dksX7_stackFault_4 1 rfl rfl)
theorem dX7_stackFault_100 : decode cX7_stackFault 100 = .ok (.iconst 0, 1) := dk_3 (dk_at dksX7_stackFault_4 4 rfl rfl)
theorem dX7_stackFault_101 : decode cX7_stackFault 101 = .ok (.goto 4, 3) := dk_167 0 4 (dk_at dksX7_stackFault_4 5 rfl rfl)
theorem dX7_stackFault_104 : decode cX7_stackFault 104 = .ok (.iconst 3, 1) := dk_6 (dk_at dksX7_stackFault_4 8 rfl rfl)
theorem dX7_stackFault_105 : decode cX7_stackFault 105 = .ok (.ireturn, 1) := dk_172 (dk_at dksX7_stackFault_4 9 rfl rfl)
abbrev cX7_canStand : ByteArray := prog_43_method_123_code
def yX7_canStand : MethodName := ⟨RX7, "canStand", "()Z"⟩
def dkwX7_canStand_3 : List UInt8 := [46, 184, 2, 15, 159, 0, 5, 3, 172, 132, 2, 2, 167, 255, 190, 132, 1, 1, 167, 255, 170, 4, 172]
abbrev dktX7_canStand_3 : List UInt8 := dkwX7_canStand_3 ++ []
def dkwX7_canStand_2 : List UInt8 := [184, 2, 15, 42, 180, 0, 62, 28, 4, 96, 46, 42, 180, 0, 62, 27, 46, 42, 180, 0, 62, 27, 4, 96]
abbrev dktX7_canStand_2 : List UInt8 := dkwX7_canStand_2 ++ dktX7_canStand_3
def dkwX7_canStand_1 : List UInt8 := [162, 0, 62, 42, 180, 0, 62, 28, 46, 42, 180, 0, 62, 27, 46, 42, 180, 0, 62, 27, 4, 96, 46]
abbrev dktX7_canStand_1 : List UInt8 := dkwX7_canStand_1 ++ dktX7_canStand_2
def dkwX7_canStand_0 : List UInt8 := [3, 60, 27, 4, 96, 42, 182, 0, 253, 162, 0, 82, 27, 5, 96, 61, 28, 4, 96, 42, 182, 0, 253]
abbrev dktX7_canStand_0 : List UInt8 := dkwX7_canStand_0 ++ dktX7_canStand_1
theorem dksX7_canStand_0 : cX7_canStand.data.toList.drop 0 = dktX7_canStand_0 := by decide +kernel
theorem dksX7_canStand_1 : cX7_canStand.data.toList.drop 23 = dktX7_canStand_1 := dk_seg dksX7_canStand_0 23 rfl rfl
theorem dksX7_canStand_2 : cX7_canStand.data.toList.drop 46 = dktX7_canStand_2 := dk_seg dksX7_canStand_1 23 rfl rfl
theorem dksX7_canStand_3 : cX7_canStand.data.toList.drop 70 = dktX7_canStand_3 := dk_seg dksX7_canStand_2 24 rfl rfl
theorem dX7_canStand_0 : decode cX7_canStand 0 = .ok (.iconst 0, 1) := dk_3 (dk_at dksX7_canStand_0 0 rfl rfl)
theorem dX7_canStand_1 : decode cX7_canStand 1 = .ok (.istore_n 1, 1) := dk_60 (dk_at dksX7_canStand_0 1 rfl rfl)
theorem dX7_canStand_2 : decode cX7_canStand 2 = .ok (.iload_n 1, 1) := dk_27 (dk_at dksX7_canStand_0 2 rfl rfl)
theorem dX7_canStand_3 : decode cX7_canStand 3 = .ok (.iconst 1, 1) := dk_4 (dk_at dksX7_canStand_0 3 rfl rfl)
theorem dX7_canStand_4 : decode cX7_canStand 4 = .ok (.iadd, 1) := dk_96 (dk_at dksX7_canStand_0 4 rfl rfl)
theorem dX7_canStand_5 : decode cX7_canStand 5 = .ok (.aload_n 0, 1) := dk_42 (dk_at dksX7_canStand_0 5 rfl rfl)
theorem dX7_canStand_6 : decode cX7_canStand 6 = .ok (.invokevirtual 253, 3) := dk_182 0 253 (dk_at dksX7_canStand_0 6 rfl rfl)
theorem dX7_canStand_9 : decode cX7_canStand 9 = .ok (.if_icmp .ge 82, 3) := dk_162 0 82 (dk_at dksX7_canStand_0 9 rfl rfl)
theorem dX7_canStand_12 : decode cX7_canStand 12 = .ok (.iload_n 1, 1) := dk_27 (dk_at dksX7_canStand_0 12 rfl rfl)
theorem dX7_canStand_13 : decode cX7_canStand 13 = .ok (.iconst 2, 1) := dk_5 (dk_at dksX7_canStand_0 13 rfl rfl)
theorem dX7_canStand_14 : decode cX7_canStand 14 = .ok (.iadd, 1) := dk_96 (dk_at dksX7_canStand_0 14 rfl rfl)
theorem dX7_canStand_15 : decode cX7_canStand 15 = .ok (.istore_n 2, 1) := dk_61 (dk_at dksX7_canStand_0 15 rfl rfl)
theorem dX7_canStand_16 : decode cX7_canStand 16 = .ok (.iload_n 2, 1) := dk_28 (dk_at dksX7_canStand_0 16 rfl rfl)
theorem dX7_canStand_17 : decode cX7_canStand 17 = .ok (.iconst 1, 1) := dk_4 (dk_at dksX7_canStand_0 17 rfl rfl)
theorem dX7_canStand_18 : decode cX7_canStand 18 = .ok (.iadd, 1) := dk_96 (dk_at dksX7_canStand_0 18 rfl rfl)
theorem dX7_canStand_19 : decode cX7_canStand 19 = .ok (.aload_n 0, 1) := dk_42 (dk_at dksX7_canStand_0 19 rfl rfl)
theorem dX7_canStand_20 : decode cX7_canStand 20 = .ok (.invokevirtual 253, 3) := dk_182 0 253 (dk_at dksX7_canStand_0 20 rfl rfl)
theorem dX7_canStand_23 : decode cX7_canStand 23 = .ok (.if_icmp .ge 62, 3) := dk_162 0 62 (dk_at dksX7_canStand_1 0 rfl rfl)
theorem dX7_canStand_26 : decode cX7_canStand 26 = .ok (.aload_n 0, 1) := dk_42 (dk_at dksX7_canStand_1 3 rfl rfl)
theorem dX7_canStand_27 : decode cX7_canStand 27 = .ok (.getfield 62, 3) := dk_180 0 62 (dk_at dksX7_canStand_1 4 rfl rfl)
theorem dX7_canStand_30 : decode cX7_canStand 30 = .ok (.iload_n 2, 1) := dk_28 (dk_at dksX7_canStand_1 7 rfl rfl)
theorem dX7_canStand_31 : decode cX7_canStand 31 = .ok (.iaload, 1) := dk_46 (dk_at dksX7_canStand_1 8 rfl rfl)
theorem dX7_canStand_32 : decode cX7_canStand 32 = .ok (.aload_n 0, 1) := dk_42 (dk_at dksX7_canStand_1 9 rfl rfl)
theorem dX7_canStand_33 : decode cX7_canStand 33 = .ok (.getfield 62, 3) := dk_180 0 62 (dk_at dksX7_canStand_1 10 rfl rfl)
theorem dX7_canStand_36 : decode cX7_canStand 36 = .ok (.iload_n 1, 1) := dk_27 (dk_at dksX7_canStand_1 13 rfl rfl)
theorem dX7_canStand_37 : decode cX7_canStand 37 = .ok (.iaload, 1) := dk_46 (dk_at dksX7_canStand_1 14 rfl rfl)
theorem dX7_canStand_38 : decode cX7_canStand 38 = .ok (.aload_n 0, 1) := dk_42 (dk_at dksX7_canStand_1 15 rfl rfl)
theorem dX7_canStand_39 : decode cX7_canStand 39 = .ok (.getfield 62, 3) := dk_180 0 62 (dk_at dksX7_canStand_1 16 rfl rfl)
theorem dX7_canStand_42 : decode cX7_canStand 42 = .ok (.iload_n 1, 1) := dk_27 (dk_at dksX7_canStand_1 19 rfl rfl)
theorem dX7_canStand_43 : decode cX7_canStand 43 = .ok (.iconst 1, 1) := dk_4 (dk_at dksX7_canStand_1 20 rfl rfl)
theorem dX7_canStand_44 : decode cX7_canStand 44 = .ok (.iadd, 1) := dk_96 (dk_at dksX7_canStand_1 21 rfl rfl)
theorem dX7_canStand_45 : decode cX7_canStand 45 = .ok (.iaload, 1) := dk_46 (dk_at dksX7_canStand_1 22 rfl rfl)
theorem dX7_canStand_46 : decode cX7_canStand 46 = .ok (.invokestatic 527, 3) := dk_184 2 15 (dk_at dksX7_canStand_2 0 rfl rfl)
theorem dX7_canStand_49 : decode cX7_canStand 49 = .ok (.aload_n 0, 1) := dk_42 (dk_at dksX7_canStand_2 3 rfl rfl)
theorem dX7_canStand_50 : decode cX7_canStand 50 = .ok (.getfield 62, 3) := dk_180 0 62 (dk_at dksX7_canStand_2 4 rfl rfl)
theorem dX7_canStand_53 : decode cX7_canStand 53 = .ok (.iload_n 2, 1) := dk_28 (dk_at dksX7_canStand_2 7 rfl rfl)
theorem dX7_canStand_54 : decode cX7_canStand 54 = .ok (.iconst 1, 1) := dk_4 (dk_at dksX7_canStand_2 8 rfl rfl)
theorem dX7_canStand_55 : decode cX7_canStand 55 = .ok (.iadd, 1) := dk_96 (dk_at dksX7_canStand_2 9 rfl rfl)
theorem dX7_canStand_56 : decode cX7_canStand 56 = .ok (.iaload, 1) := dk_46 (dk_at dksX7_canStand_2 10 rfl rfl)
theorem dX7_canStand_57 : decode cX7_canStand 57 = .ok (.aload_n 0, 1) := dk_42 (dk_at dksX7_canStand_2 11 rfl rfl)
theorem dX7_canStand_58 : decode cX7_canStand 58 = .ok (.getfield 62, 3) := dk_180 0 62 (dk_at dksX7_canStand_2 12 rfl rfl)
theorem dX7_canStand_61 : decode cX7_canStand 61 = .ok (.iload_n 1, 1) := dk_27 (dk_at dksX7_canStand_2 15 rfl rfl)
theorem dX7_canStand_62 : decode cX7_canStand 62 = .ok (.iaload, 1) := dk_46 (dk_at dksX7_canStand_2 16 rfl rfl)
theorem dX7_canStand_63 : decode cX7_canStand 63 = .ok (.aload_n 0, 1) := dk_42 (dk_at dksX7_canStand_2 17 rfl rfl)
theorem dX7_canStand_64 : decode cX7_canStand 64 = .ok (.getfield 62, 3) := dk_180 0 62 (dk_at dksX7_canStand_2 18 rfl rfl)
theorem dX7_canStand_67 : decode cX7_canStand 67 = .ok (.iload_n 1, 1) := dk_27 (dk_at dksX7_canStand_2 21 rfl rfl)
theorem dX7_canStand_68 : decode cX7_canStand 68 = .ok (.iconst 1, 1) := dk_4 (dk_at dksX7_canStand_2 22 rfl rfl)
theorem dX7_canStand_69 : decode cX7_canStand 69 = .ok (.iadd, 1) := dk_96 (dk_at dksX7_canStand_2 23 rfl rfl)
theorem dX7_canStand_70 : decode cX7_canStand 70 = .ok (.iaload, 1) := dk_46 (dk_at dksX7_canStand_3 0 rfl rfl)
theorem dX7_canStand_71 : decode cX7_canStand 71 = .ok (.invokestatic 527, 3) := dk_184 2 15 (dk_at dksX7_canStand_3 1 rfl rfl)
theorem dX7_canStand_74 : decode cX7_canStand 74 = .ok (.if_icmp .eq 5, 3) := dk_159 0 5 (dk_at dksX7_canStand_3 4 rfl rfl)
theorem dX7_canStand_77 : decode cX7_canStand 77 = .ok (.iconst 0, 1) := dk_3 (dk_at dksX7_canStand_3 7 rfl rfl)
theorem dX7_canStand_78 : decode cX7_canStand 78 = .ok (.ireturn, 1) := dk_172 (dk_at dksX7_canStand_3 8 rfl rfl)
theorem dX7_canStand_79 : decode cX7_canStand 79 = .ok (.iinc 2 2, 3) := dk_132 2 2 (dk_at dksX7_canStand_3 9 rfl rfl)
theorem dX7_canStand_82 : decode cX7_canStand 82 = .ok (.goto (-66), 3) := dk_167 255 190 (dk_at dksX7_canStand_3 12 rfl rfl)
theorem dX7_canStand_85 : decode cX7_canStand 85 = .ok (.iinc 1 1, 3) := dk_132 1 1 (dk_at dksX7_canStand_3 15 rfl rfl)
theorem dX7_canStand_88 : decode cX7_canStand 88 = .ok (.goto (-86), 3) := dk_167 255 170 (dk_at dksX7_canStand_3 18 rfl rfl)
theorem dX7_canStand_91 : decode cX7_canStand 91 = .ok (.iconst 1, 1) := dk_4 (dk_at dksX7_canStand_3 21 rfl rfl)
theorem dX7_canStand_92 : decode cX7_canStand 92 = .ok (.ireturn, 1) := dk_172 (dk_at dksX7_canStand_3 22 rfl rfl)
abbrev cX7_isBetween : ByteArray := prog_43_method_122_code
def yX7_isBetween : MethodName := ⟨RX7, "isBetween", "(III)Z"⟩
def dkwX7_isBetween_0 : List UInt8 := [26, 27, 28, 184, 1, 43, 164, 0, 16, 26, 27, 28, 184, 1, 12, 162, 0, 7, 4, 167, 0, 4, 3, 172]
abbrev dktX7_isBetween_0 : List UInt8 := dkwX7_isBetween_0 ++ []
theorem dksX7_isBetween_0 : cX7_isBetween.data.toList.drop 0 = dktX7_isBetween_0 := by decide +kernel
theorem dX7_isBetween_0 : decode cX7_isBetween 0 = .ok (.iload_n 0, 1) := dk_26 (dk_at dksX7_isBetween_0 0 rfl rfl)
theorem dX7_isBetween_1 : decode cX7_isBetween 1 = .ok (.iload_n 1, 1) := dk_27 (dk_at dksX7_isBetween_0 1 rfl rfl)
theorem dX7_isBetween_2 : decode cX7_isBetween 2 = .ok (.iload_n 2, 1) := dk_28 (dk_at dksX7_isBetween_0 2 rfl rfl)
theorem dX7_isBetween_3 : decode cX7_isBetween 3 = .ok (.invokestatic 299, 3) := dk_184 1 43 (dk_at dksX7_isBetween_0 3 rfl rfl)
theorem dX7_isBetween_6 : decode cX7_isBetween 6 = .ok (.if_icmp .le 16, 3) := dk_164 0 16 (dk_at dksX7_isBetween_0 6 rfl rfl)
theorem dX7_isBetween_9 : decode cX7_isBetween 9 = .ok (.iload_n 0, 1) := dk_26 (dk_at dksX7_isBetween_0 9 rfl rfl)
theorem dX7_isBetween_10 : decode cX7_isBetween 10 = .ok (.iload_n 1, 1) := dk_27 (dk_at dksX7_isBetween_0 10 rfl rfl)
theorem dX7_isBetween_11 : decode cX7_isBetween 11 = .ok (.iload_n 2, 1) := dk_28 (dk_at dksX7_isBetween_0 11 rfl rfl)
theorem dX7_isBetween_12 : decode cX7_isBetween 12 = .ok (.invokestatic 268, 3) := dk_184 1 12 (dk_at dksX7_isBetween_0 12 rfl rfl)
theorem dX7_isBetween_15 : decode cX7_isBetween 15 = .ok (.if_icmp .ge 7, 3) := dk_162 0 7 (dk_at dksX7_isBetween_0 15 rfl rfl)
theorem dX7_isBetween_18 : decode cX7_isBetween 18 = .ok (.iconst 1, 1) := dk_4 (dk_at dksX7_isBetween_0 18 rfl rfl)
theorem dX7_isBetween_19 : decode cX7_isBetween 19 = .ok (.goto 4, 3) := dk_167 0 4 (dk_at dksX7_isBetween_0 19 rfl rfl)
theorem dX7_isBetween_22 : decode cX7_isBetween 22 = .ok (.iconst 0, 1) := dk_3 (dk_at dksX7_isBetween_0 22 rfl rfl)
theorem dX7_isBetween_23 : decode cX7_isBetween 23 = .ok (.ireturn, 1) := dk_172 (dk_at dksX7_isBetween_0 23 rfl rfl)
abbrev cX7_stacks : ByteArray := prog_43_method_126_code
def yX7_stacks : MethodName := ⟨RX7, "stacks", "()I"⟩
def dkwX7_stacks_0 : List UInt8 := [42, 3, 181, 0, 77, 42, 3, 3, 182, 2, 29, 172]
abbrev dktX7_stacks_0 : List UInt8 := dkwX7_stacks_0 ++ []
theorem dksX7_stacks_0 : cX7_stacks.data.toList.drop 0 = dktX7_stacks_0 := by decide +kernel
theorem dX7_stacks_0 : decode cX7_stacks 0 = .ok (.aload_n 0, 1) := dk_42 (dk_at dksX7_stacks_0 0 rfl rfl)
theorem dX7_stacks_1 : decode cX7_stacks 1 = .ok (.iconst 0, 1) := dk_3 (dk_at dksX7_stacks_0 1 rfl rfl)
theorem dX7_stacks_2 : decode cX7_stacks 2 = .ok (.putfield 77, 3) := dk_181 0 77 (dk_at dksX7_stacks_0 2 rfl rfl)
theorem dX7_stacks_5 : decode cX7_stacks 5 = .ok (.aload_n 0, 1) := dk_42 (dk_at dksX7_stacks_0 5 rfl rfl)
theorem dX7_stacks_6 : decode cX7_stacks 6 = .ok (.iconst 0, 1) := dk_3 (dk_at dksX7_stacks_0 6 rfl rfl)
theorem dX7_stacks_7 : decode cX7_stacks 7 = .ok (.iconst 0, 1) := dk_3 (dk_at dksX7_stacks_0 7 rfl rfl)
theorem dX7_stacks_8 : decode cX7_stacks 8 = .ok (.invokevirtual 541, 3) := dk_182 2 29 (dk_at dksX7_stacks_0 8 rfl rfl)
theorem dX7_stacks_11 : decode cX7_stacks 11 = .ok (.ireturn, 1) := dk_172 (dk_at dksX7_stacks_0 11 rfl rfl)
abbrev cX7_standing : ByteArray := prog_43_method_125_code
def yX7_standing : MethodName := ⟨RX7, "standing", "(II)I"⟩
def dkwX7_standing_3 : List UInt8 := [132, 4, 1, 167, 255, 208, 29, 172]
abbrev dktX7_standing_3 : List UInt8 := dkwX7_standing_3 ++ []
def dkwX7_standing_2 : List UInt8 := [180, 0, 62, 27, 21, 4, 79, 29, 42, 27, 4, 96, 28, 4, 21, 4, 120, 128, 182, 2, 29, 96, 62]
abbrev dktX7_standing_2 : List UInt8 := dkwX7_standing_2 ++ dktX7_standing_3
def dkwX7_standing_1 : List UInt8 := [54, 4, 21, 4, 42, 182, 0, 253, 162, 0, 45, 28, 21, 4, 184, 2, 26, 153, 0, 6, 167, 0, 27, 42]
abbrev dktX7_standing_1 : List UInt8 := dkwX7_standing_1 ++ dktX7_standing_2
def dkwX7_standing_0 : List UInt8 := [27, 42, 182, 0, 253, 160, 0, 16, 42, 182, 2, 22, 153, 0, 7, 4, 167, 0, 4, 3, 172, 3, 62, 3]
abbrev dktX7_standing_0 : List UInt8 := dkwX7_standing_0 ++ dktX7_standing_1
theorem dksX7_standing_0 : cX7_standing.data.toList.drop 0 = dktX7_standing_0 := by decide +kernel
theorem dksX7_standing_1 : cX7_standing.data.toList.drop 24 = dktX7_standing_1 := dk_seg dksX7_standing_0 24 rfl rfl
theorem dksX7_standing_2 : cX7_standing.data.toList.drop 48 = dktX7_standing_2 := dk_seg dksX7_standing_1 24 rfl rfl
theorem dksX7_standing_3 : cX7_standing.data.toList.drop 71 = dktX7_standing_3 := dk_seg dksX7_standing_2 23 rfl rfl
theorem dX7_standing_0 : decode cX7_standing 0 = .ok (.iload_n 1, 1) := dk_27 (dk_at dksX7_standing_0 0 rfl rfl)
theorem dX7_standing_1 : decode cX7_standing 1 = .ok (.aload_n 0, 1) := dk_42 (dk_at dksX7_standing_0 1 rfl rfl)
theorem dX7_standing_2 : decode cX7_standing 2 = .ok (.invokevirtual 253, 3) := dk_182 0 253 (dk_at dksX7_standing_0 2 rfl rfl)
theorem dX7_standing_5 : decode cX7_standing 5 = .ok (.if_icmp .ne 16, 3) := dk_160 0 16 (dk_at dksX7_standing_0 5 rfl rfl)
theorem dX7_standing_8 : decode cX7_standing 8 = .ok (.aload_n 0, 1) := dk_42 (dk_at dksX7_standing_0 8 rfl rfl)
theorem dX7_standing_9 : decode cX7_standing 9 = .ok (.invokevirtual 534, 3) := dk_182 2 22 (dk_at dksX7_standing_0 9 rfl rfl)
theorem dX7_standing_12 : decode cX7_standing 12 = .ok (.ifCond .eq 7, 3) := dk_153 0 7 (dk_at dksX7_standing_0 12 rfl rfl)
theorem dX7_standing_15 : decode cX7_standing 15 = .ok (.iconst 1, 1) := dk_4 (dk_at dksX7_standing_0 15 rfl rfl)
theorem dX7_standing_16 : decode cX7_standing 16 = .ok (.goto 4, 3) := dk_167 0 4 (dk_at dksX7_standing_0 16 rfl rfl)
theorem dX7_standing_19 : decode cX7_standing 19 = .ok (.iconst 0, 1) := dk_3 (dk_at dksX7_standing_0 19 rfl rfl)
theorem dX7_standing_20 : decode cX7_standing 20 = .ok (.ireturn, 1) := dk_172 (dk_at dksX7_standing_0 20 rfl rfl)
theorem dX7_standing_21 : decode cX7_standing 21 = .ok (.iconst 0, 1) := dk_3 (dk_at dksX7_standing_0 21 rfl rfl)
theorem dX7_standing_22 : decode cX7_standing 22 = .ok (.istore_n 3, 1) := dk_62 (dk_at dksX7_standing_0 22 rfl rfl)
theorem dX7_standing_23 : decode cX7_standing 23 = .ok (.iconst 0, 1) := dk_3 (dk_at dksX7_standing_0 23 rfl rfl)
theorem dX7_standing_24 : decode cX7_standing 24 = .ok (.istore 4, 2) := dk_54 4 (dk_at dksX7_standing_1 0 rfl rfl)
theorem dX7_standing_26 : decode cX7_standing 26 = .ok (.iload 4, 2) := dk_21 4 (dk_at dksX7_standing_1 2 rfl rfl)
theorem dX7_standing_28 : decode cX7_standing 28 = .ok (.aload_n 0, 1) := dk_42 (dk_at dksX7_standing_1 4 rfl rfl)
theorem dX7_standing_29 : decode cX7_standing 29 = .ok (.invokevirtual 253, 3) := dk_182 0 253 (dk_at dksX7_standing_1 5 rfl rfl)
theorem dX7_standing_32 : decode cX7_standing 32 = .ok (.if_icmp .ge 45, 3) := dk_162 0 45 (dk_at dksX7_standing_1 8 rfl rfl)
theorem dX7_standing_35 : decode cX7_standing 35 = .ok (.iload_n 2, 1) := dk_28 (dk_at dksX7_standing_1 11 rfl rfl)
theorem dX7_standing_36 : decode cX7_standing 36 = .ok (.iload 4, 2) := dk_21 4 (dk_at dksX7_standing_1 12 rfl rfl)
theorem dX7_standing_38 : decode cX7_standing 38 = .ok (.invokestatic 538, 3) := dk_184 2 26 (dk_at dksX7_standing_1 14 rfl rfl)
theorem dX7_standing_41 : decode cX7_standing 41 = .ok (.ifCond .eq 6, 3) := dk_153 0 6 (dk_at dksX7_standing_1 17 rfl rfl)
theorem dX7_standing_44 : decode cX7_standing 44 = .ok (.goto 27, 3) := dk_167 0 27 (dk_at dksX7_standing_1 20 rfl rfl)
theorem dX7_standing_47 : decode cX7_standing 47 = .ok (.aload_n 0, 1) := dk_42 (dk_at dksX7_standing_1 23 rfl rfl)
theorem dX7_standing_48 : decode cX7_standing 48 = .ok (.getfield 62, 3) := dk_180 0 62 (dk_at dksX7_standing_2 0 rfl rfl)
theorem dX7_standing_51 : decode cX7_standing 51 = .ok (.iload_n 1, 1) := dk_27 (dk_at dksX7_standing_2 3 rfl rfl)
theorem dX7_standing_52 : decode cX7_standing 52 = .ok (.iload 4, 2) := dk_21 4 (dk_at dksX7_standing_2 4 rfl rfl)
theorem dX7_standing_54 : decode cX7_standing 54 = .ok (.iastore, 1) := dk_79 (dk_at dksX7_standing_2 6 rfl rfl)
theorem dX7_standing_55 : decode cX7_standing 55 = .ok (.iload_n 3, 1) := dk_29 (dk_at dksX7_standing_2 7 rfl rfl)
theorem dX7_standing_56 : decode cX7_standing 56 = .ok (.aload_n 0, 1) := dk_42 (dk_at dksX7_standing_2 8 rfl rfl)
theorem dX7_standing_57 : decode cX7_standing 57 = .ok (.iload_n 1, 1) := dk_27 (dk_at dksX7_standing_2 9 rfl rfl)
theorem dX7_standing_58 : decode cX7_standing 58 = .ok (.iconst 1, 1) := dk_4 (dk_at dksX7_standing_2 10 rfl rfl)
theorem dX7_standing_59 : decode cX7_standing 59 = .ok (.iadd, 1) := dk_96 (dk_at dksX7_standing_2 11 rfl rfl)
theorem dX7_standing_60 : decode cX7_standing 60 = .ok (.iload_n 2, 1) := dk_28 (dk_at dksX7_standing_2 12 rfl rfl)
theorem dX7_standing_61 : decode cX7_standing 61 = .ok (.iconst 1, 1) := dk_4 (dk_at dksX7_standing_2 13 rfl rfl)
theorem dX7_standing_62 : decode cX7_standing 62 = .ok (.iload 4, 2) := dk_21 4 (dk_at dksX7_standing_2 14 rfl rfl)
theorem dX7_standing_64 : decode cX7_standing 64 = .ok (.ishl, 1) := dk_120 (dk_at dksX7_standing_2 16 rfl rfl)
theorem dX7_standing_65 : decode cX7_standing 65 = .ok (.ior, 1) := dk_128 (dk_at dksX7_standing_2 17 rfl rfl)
theorem dX7_standing_66 : decode cX7_standing 66 = .ok (.invokevirtual 541, 3) := dk_182 2 29 (dk_at dksX7_standing_2 18 rfl rfl)
theorem dX7_standing_69 : decode cX7_standing 69 = .ok (.iadd, 1) := dk_96 (dk_at dksX7_standing_2 21 rfl rfl)
theorem dX7_standing_70 : decode cX7_standing 70 = .ok (.istore_n 3, 1) := dk_62 (dk_at dksX7_standing_2 22 rfl rfl)
theorem dX7_standing_71 : decode cX7_standing 71 = .ok (.iinc 4 1, 3) := dk_132 4 1 (dk_at dksX7_standing_3 0 rfl rfl)
theorem dX7_standing_74 : decode cX7_standing 74 = .ok (.goto (-48), 3) := dk_167 255 208 (dk_at dksX7_standing_3 3 rfl rfl)
theorem dX7_standing_77 : decode cX7_standing 77 = .ok (.iload_n 3, 1) := dk_29 (dk_at dksX7_standing_3 6 rfl rfl)
theorem dX7_standing_78 : decode cX7_standing 78 = .ok (.ireturn, 1) := dk_172 (dk_at dksX7_standing_3 7 rfl rfl)
abbrev cX7_has : ByteArray := prog_43_method_5_code
def yX7_has : MethodName := ⟨RX7, "has", "(II)Z"⟩
def dkwX7_has_0 : List UInt8 := [26, 27, 122, 4, 126, 4, 160, 0, 7, 4, 167, 0, 4, 3, 172]
abbrev dktX7_has_0 : List UInt8 := dkwX7_has_0 ++ []
theorem dksX7_has_0 : cX7_has.data.toList.drop 0 = dktX7_has_0 := by decide +kernel
theorem dX7_has_0 : decode cX7_has 0 = .ok (.iload_n 0, 1) := dk_26 (dk_at dksX7_has_0 0 rfl rfl)
theorem dX7_has_1 : decode cX7_has 1 = .ok (.iload_n 1, 1) := dk_27 (dk_at dksX7_has_0 1 rfl rfl)
theorem dX7_has_2 : decode cX7_has 2 = .ok (.ishr, 1) := dk_122 (dk_at dksX7_has_0 2 rfl rfl)
theorem dX7_has_3 : decode cX7_has 3 = .ok (.iconst 1, 1) := dk_4 (dk_at dksX7_has_0 3 rfl rfl)
theorem dX7_has_4 : decode cX7_has 4 = .ok (.iand, 1) := dk_126 (dk_at dksX7_has_0 4 rfl rfl)
theorem dX7_has_5 : decode cX7_has 5 = .ok (.iconst 1, 1) := dk_4 (dk_at dksX7_has_0 5 rfl rfl)
theorem dX7_has_6 : decode cX7_has 6 = .ok (.if_icmp .ne 7, 3) := dk_160 0 7 (dk_at dksX7_has_0 6 rfl rfl)
theorem dX7_has_9 : decode cX7_has 9 = .ok (.iconst 1, 1) := dk_4 (dk_at dksX7_has_0 9 rfl rfl)
theorem dX7_has_10 : decode cX7_has 10 = .ok (.goto 4, 3) := dk_167 0 4 (dk_at dksX7_has_0 10 rfl rfl)
theorem dX7_has_13 : decode cX7_has 13 = .ok (.iconst 0, 1) := dk_3 (dk_at dksX7_has_0 13 rfl rfl)
theorem dX7_has_14 : decode cX7_has 14 = .ok (.ireturn, 1) := dk_172 (dk_at dksX7_has_0 14 rfl rfl)
abbrev cX7_stack : ByteArray := prog_43_method_127_code
def yX7_stack : MethodName := ⟨RX7, "stack", "(I)I"⟩
def dkwX7_stack_1 : List UInt8 := [182, 1, 21, 42, 16, 9, 3, 8, 182, 1, 246, 42, 180, 1, 169, 172]
abbrev dktX7_stack_1 : List UInt8 := dkwX7_stack_1 ++ []
def dkwX7_stack_0 : List UInt8 := [42, 42, 27, 182, 2, 19, 181, 0, 77, 42, 180, 0, 77, 158, 0, 5, 3, 172, 42, 27, 181, 1, 193, 42]
abbrev dktX7_stack_0 : List UInt8 := dkwX7_stack_0 ++ dktX7_stack_1
theorem dksX7_stack_0 : cX7_stack.data.toList.drop 0 = dktX7_stack_0 := by decide +kernel
theorem dksX7_stack_1 : cX7_stack.data.toList.drop 24 = dktX7_stack_1 := dk_seg dksX7_stack_0 24 rfl rfl
theorem dX7_stack_0 : decode cX7_stack 0 = .ok (.aload_n 0, 1) := dk_42 (dk_at dksX7_stack_0 0 rfl rfl)
theorem dX7_stack_1 : decode cX7_stack 1 = .ok (.aload_n 0, 1) := dk_42 (dk_at dksX7_stack_0 1 rfl rfl)
theorem dX7_stack_2 : decode cX7_stack 2 = .ok (.iload_n 1, 1) := dk_27 (dk_at dksX7_stack_0 2 rfl rfl)
theorem dX7_stack_3 : decode cX7_stack 3 = .ok (.invokevirtual 531, 3) := dk_182 2 19 (dk_at dksX7_stack_0 3 rfl rfl)
theorem dX7_stack_6 : decode cX7_stack 6 = .ok (.putfield 77, 3) := dk_181 0 77 (dk_at dksX7_stack_0 6 rfl rfl)
theorem dX7_stack_9 : decode cX7_stack 9 = .ok (.aload_n 0, 1) := dk_42 (dk_at dksX7_stack_0 9 rfl rfl)
theorem dX7_stack_10 : decode cX7_stack 10 = .ok (.getfield 77, 3) := dk_180 0 77 (dk_at dksX7_stack_0 10 rfl rfl)
theorem dX7_stack_13 : decode cX7_stack 13 = .ok (.ifCond .le 5, 3) := dk_158 0 5 (dk_at dksX7_stack_0 13 rfl rfl)
theorem dX7_stack_16 : decode cX7_stack 16 = .ok (.iconst 0, 1) := dk_3 (dk_at dksX7_stack_0 16 rfl rfl)
theorem dX7_stack_17 : decode cX7_stack 17 = .ok (.ireturn, 1) := dk_172 (dk_at dksX7_stack_0 17 rfl rfl)
theorem dX7_stack_18 : decode cX7_stack 18 = .ok (.aload_n 0, 1) := dk_42 (dk_at dksX7_stack_0 18 rfl rfl)
theorem dX7_stack_19 : decode cX7_stack 19 = .ok (.iload_n 1, 1) := dk_27 (dk_at dksX7_stack_0 19 rfl rfl)
theorem dX7_stack_20 : decode cX7_stack 20 = .ok (.putfield 449, 3) := dk_181 1 193 (dk_at dksX7_stack_0 20 rfl rfl)
theorem dX7_stack_23 : decode cX7_stack 23 = .ok (.aload_n 0, 1) := dk_42 (dk_at dksX7_stack_0 23 rfl rfl)
theorem dX7_stack_24 : decode cX7_stack 24 = .ok (.invokevirtual 277, 3) := dk_182 1 21 (dk_at dksX7_stack_1 0 rfl rfl)
theorem dX7_stack_27 : decode cX7_stack 27 = .ok (.aload_n 0, 1) := dk_42 (dk_at dksX7_stack_1 3 rfl rfl)
theorem dX7_stack_28 : decode cX7_stack 28 = .ok (.bipush 9, 2) := dk_16 9 (dk_at dksX7_stack_1 4 rfl rfl)
theorem dX7_stack_30 : decode cX7_stack 30 = .ok (.iconst 0, 1) := dk_3 (dk_at dksX7_stack_1 6 rfl rfl)
theorem dX7_stack_31 : decode cX7_stack 31 = .ok (.iconst 5, 1) := dk_8 (dk_at dksX7_stack_1 7 rfl rfl)
theorem dX7_stack_32 : decode cX7_stack 32 = .ok (.invokevirtual 502, 3) := dk_182 1 246 (dk_at dksX7_stack_1 8 rfl rfl)
theorem dX7_stack_35 : decode cX7_stack 35 = .ok (.aload_n 0, 1) := dk_42 (dk_at dksX7_stack_1 11 rfl rfl)
theorem dX7_stack_36 : decode cX7_stack 36 = .ok (.getfield 425, 3) := dk_180 1 169 (dk_at dksX7_stack_1 12 rfl rfl)
theorem dX7_stack_39 : decode cX7_stack 39 = .ok (.ireturn, 1) := dk_172 (dk_at dksX7_stack_1 15 rfl rfl)
abbrev cX7_simple : ByteArray := prog_43_method_129_code
def yX7_simple : MethodName := ⟨RX7, "simple", "()I"⟩
def dkwX7_simple_0 : List UInt8 := [42, 16, 10, 182, 2, 32, 172]
abbrev dktX7_simple_0 : List UInt8 := dkwX7_simple_0 ++ []
theorem dksX7_simple_0 : cX7_simple.data.toList.drop 0 = dktX7_simple_0 := by decide +kernel
theorem dX7_simple_0 : decode cX7_simple 0 = .ok (.aload_n 0, 1) := dk_42 (dk_at dksX7_simple_0 0 rfl rfl)
theorem dX7_simple_1 : decode cX7_simple 1 = .ok (.bipush 10, 2) := dk_16 10 (dk_at dksX7_simple_0 1 rfl rfl)
theorem dX7_simple_3 : decode cX7_simple 3 = .ok (.invokevirtual 544, 3) := dk_182 2 32 (dk_at dksX7_simple_0 3 rfl rfl)
theorem dX7_simple_6 : decode cX7_simple 6 = .ok (.ireturn, 1) := dk_172 (dk_at dksX7_simple_0 6 rfl rfl)
abbrev cX7_manyFromFlat : ByteArray := prog_43_method_128_code
def yX7_manyFromFlat : MethodName := ⟨RX7, "manyFromFlat", "(I)I"⟩
def dkwX7_manyFromFlat_0 : List UInt8 := [42, 3, 181, 0, 77, 42, 182, 1, 21, 42, 27, 3, 8, 182, 1, 246, 42, 180, 1, 196, 172]
abbrev dktX7_manyFromFlat_0 : List UInt8 := dkwX7_manyFromFlat_0 ++ []
theorem dksX7_manyFromFlat_0 : cX7_manyFromFlat.data.toList.drop 0 = dktX7_manyFromFlat_0 := by decide +kernel
theorem dX7_manyFromFlat_0 : decode cX7_manyFromFlat 0 = .ok (.aload_n 0, 1) := dk_42 (dk_at dksX7_manyFromFlat_0 0 rfl rfl)
theorem dX7_manyFromFlat_1 : decode cX7_manyFromFlat 1 = .ok (.iconst 0, 1) := dk_3 (dk_at dksX7_manyFromFlat_0 1 rfl rfl)
theorem dX7_manyFromFlat_2 : decode cX7_manyFromFlat 2 = .ok (.putfield 77, 3) := dk_181 0 77 (dk_at dksX7_manyFromFlat_0 2 rfl rfl)
theorem dX7_manyFromFlat_5 : decode cX7_manyFromFlat 5 = .ok (.aload_n 0, 1) := dk_42 (dk_at dksX7_manyFromFlat_0 5 rfl rfl)
theorem dX7_manyFromFlat_6 : decode cX7_manyFromFlat 6 = .ok (.invokevirtual 277, 3) := dk_182 1 21 (dk_at dksX7_manyFromFlat_0 6 rfl rfl)
theorem dX7_manyFromFlat_9 : decode cX7_manyFromFlat 9 = .ok (.aload_n 0, 1) := dk_42 (dk_at dksX7_manyFromFlat_0 9 rfl rfl)
theorem dX7_manyFromFlat_10 : decode cX7_manyFromFlat 10 = .ok (.iload_n 1, 1) := dk_27 (dk_at dksX7_manyFromFlat_0 10 rfl rfl)
theorem dX7_manyFromFlat_11 : decode cX7_manyFromFlat 11 = .ok (.iconst 0, 1) := dk_3 (dk_at dksX7_manyFromFlat_0 11 rfl rfl)
theorem dX7_manyFromFlat_12 : decode cX7_manyFromFlat 12 = .ok (.iconst 5, 1) := dk_8 (dk_at dksX7_manyFromFlat_0 12 rfl rfl)
theorem dX7_manyFromFlat_13 : decode cX7_manyFromFlat 13 = .ok (.invokevirtual 502, 3) := dk_182 1 246 (dk_at dksX7_manyFromFlat_0 13 rfl rfl)
theorem dX7_manyFromFlat_16 : decode cX7_manyFromFlat 16 = .ok (.aload_n 0, 1) := dk_42 (dk_at dksX7_manyFromFlat_0 16 rfl rfl)
theorem dX7_manyFromFlat_17 : decode cX7_manyFromFlat 17 = .ok (.getfield 452, 3) := dk_180 1 196 (dk_at dksX7_manyFromFlat_0 17 rfl rfl)
theorem dX7_manyFromFlat_20 : decode cX7_manyFromFlat 20 = .ok (.ireturn, 1) := dk_172 (dk_at dksX7_manyFromFlat_0 20 rfl rfl)
abbrev cX7_made : ByteArray := prog_43_method_131_code
def yX7_made : MethodName := ⟨RX7, "made", "(I)I"⟩
def dkwX7_made_1 : List UInt8 := [182, 1, 21, 42, 16, 11, 3, 8, 182, 1, 246, 42, 180, 1, 196, 172]
abbrev dktX7_made_1 : List UInt8 := dkwX7_made_1 ++ []
def dkwX7_made_0 : List UInt8 := [42, 42, 27, 182, 2, 37, 181, 0, 77, 42, 180, 0, 77, 158, 0, 5, 3, 172, 42, 27, 181, 1, 193, 42]
abbrev dktX7_made_0 : List UInt8 := dkwX7_made_0 ++ dktX7_made_1
theorem dksX7_made_0 : cX7_made.data.toList.drop 0 = dktX7_made_0 := by decide +kernel
theorem dksX7_made_1 : cX7_made.data.toList.drop 24 = dktX7_made_1 := dk_seg dksX7_made_0 24 rfl rfl
theorem dX7_made_0 : decode cX7_made 0 = .ok (.aload_n 0, 1) := dk_42 (dk_at dksX7_made_0 0 rfl rfl)
theorem dX7_made_1 : decode cX7_made 1 = .ok (.aload_n 0, 1) := dk_42 (dk_at dksX7_made_0 1 rfl rfl)
theorem dX7_made_2 : decode cX7_made 2 = .ok (.iload_n 1, 1) := dk_27 (dk_at dksX7_made_0 2 rfl rfl)
theorem dX7_made_3 : decode cX7_made 3 = .ok (.invokevirtual 549, 3) := dk_182 2 37 (dk_at dksX7_made_0 3 rfl rfl)
theorem dX7_made_6 : decode cX7_made 6 = .ok (.putfield 77, 3) := dk_181 0 77 (dk_at dksX7_made_0 6 rfl rfl)
theorem dX7_made_9 : decode cX7_made 9 = .ok (.aload_n 0, 1) := dk_42 (dk_at dksX7_made_0 9 rfl rfl)
theorem dX7_made_10 : decode cX7_made 10 = .ok (.getfield 77, 3) := dk_180 0 77 (dk_at dksX7_made_0 10 rfl rfl)
theorem dX7_made_13 : decode cX7_made 13 = .ok (.ifCond .le 5, 3) := dk_158 0 5 (dk_at dksX7_made_0 13 rfl rfl)
theorem dX7_made_16 : decode cX7_made 16 = .ok (.iconst 0, 1) := dk_3 (dk_at dksX7_made_0 16 rfl rfl)
theorem dX7_made_17 : decode cX7_made 17 = .ok (.ireturn, 1) := dk_172 (dk_at dksX7_made_0 17 rfl rfl)
theorem dX7_made_18 : decode cX7_made 18 = .ok (.aload_n 0, 1) := dk_42 (dk_at dksX7_made_0 18 rfl rfl)
theorem dX7_made_19 : decode cX7_made 19 = .ok (.iload_n 1, 1) := dk_27 (dk_at dksX7_made_0 19 rfl rfl)
theorem dX7_made_20 : decode cX7_made 20 = .ok (.putfield 449, 3) := dk_181 1 193 (dk_at dksX7_made_0 20 rfl rfl)
theorem dX7_made_23 : decode cX7_made 23 = .ok (.aload_n 0, 1) := dk_42 (dk_at dksX7_made_0 23 rfl rfl)
theorem dX7_made_24 : decode cX7_made 24 = .ok (.invokevirtual 277, 3) := dk_182 1 21 (dk_at dksX7_made_1 0 rfl rfl)
theorem dX7_made_27 : decode cX7_made 27 = .ok (.aload_n 0, 1) := dk_42 (dk_at dksX7_made_1 3 rfl rfl)
theorem dX7_made_28 : decode cX7_made 28 = .ok (.bipush 11, 2) := dk_16 11 (dk_at dksX7_made_1 4 rfl rfl)
theorem dX7_made_30 : decode cX7_made 30 = .ok (.iconst 0, 1) := dk_3 (dk_at dksX7_made_1 6 rfl rfl)
theorem dX7_made_31 : decode cX7_made 31 = .ok (.iconst 5, 1) := dk_8 (dk_at dksX7_made_1 7 rfl rfl)
theorem dX7_made_32 : decode cX7_made 32 = .ok (.invokevirtual 502, 3) := dk_182 1 246 (dk_at dksX7_made_1 8 rfl rfl)
theorem dX7_made_35 : decode cX7_made 35 = .ok (.aload_n 0, 1) := dk_42 (dk_at dksX7_made_1 11 rfl rfl)
theorem dX7_made_36 : decode cX7_made 36 = .ok (.getfield 452, 3) := dk_180 1 196 (dk_at dksX7_made_1 12 rfl rfl)
theorem dX7_made_39 : decode cX7_made 39 = .ok (.ireturn, 1) := dk_172 (dk_at dksX7_made_1 15 rfl rfl)
abbrev cX7_creasesFault : ByteArray := prog_43_method_130_code
def yX7_creasesFault : MethodName := ⟨RX7, "creasesFault", "(I)I"⟩
def dkwX7_creasesFault_3 : List UInt8 := [184, 0, 138, 62, 132, 4, 1, 167, 255, 218, 29, 153, 0, 7, 3, 167, 0, 4, 6, 172]
abbrev dktX7_creasesFault_3 : List UInt8 := dkwX7_creasesFault_3 ++ []
def dkwX7_creasesFault_2 : List UInt8 := [162, 0, 33, 29, 153, 0, 29, 42, 180, 0, 74, 16, 30, 27, 104, 21, 4, 96, 47, 9, 20, 2, 35]
abbrev dktX7_creasesFault_2 : List UInt8 := dkwX7_creasesFault_2 ++ dktX7_creasesFault_3
def dkwX7_creasesFault_1 : List UInt8 := [100, 184, 1, 12, 160, 0, 7, 4, 167, 0, 4, 3, 62, 3, 54, 4, 21, 4, 42, 180, 0, 71, 27, 46]
abbrev dktX7_creasesFault_1 : List UInt8 := dkwX7_creasesFault_1 ++ dktX7_creasesFault_2
def dkwX7_creasesFault_0 : List UInt8 := [42, 27, 182, 1, 133, 61, 28, 153, 0, 5, 28, 172, 42, 180, 0, 71, 27, 46, 3, 42, 182, 0, 253, 4]
abbrev dktX7_creasesFault_0 : List UInt8 := dkwX7_creasesFault_0 ++ dktX7_creasesFault_1
theorem dksX7_creasesFault_0 : cX7_creasesFault.data.toList.drop 0 = dktX7_creasesFault_0 := by decide +kernel
theorem dksX7_creasesFault_1 : cX7_creasesFault.data.toList.drop 24 = dktX7_creasesFault_1 := dk_seg dksX7_creasesFault_0 24 rfl rfl
theorem dksX7_creasesFault_2 : cX7_creasesFault.data.toList.drop 48 = dktX7_creasesFault_2 := dk_seg dksX7_creasesFault_1 24 rfl rfl
theorem dksX7_creasesFault_3 : cX7_creasesFault.data.toList.drop 71 = dktX7_creasesFault_3 := dk_seg dksX7_creasesFault_2 23 rfl rfl
theorem dX7_creasesFault_0 : decode cX7_creasesFault 0 = .ok (.aload_n 0, 1) := dk_42 (dk_at dksX7_creasesFault_0 0 rfl rfl)
theorem dX7_creasesFault_1 : decode cX7_creasesFault 1 = .ok (.iload_n 1, 1) := dk_27 (dk_at dksX7_creasesFault_0 1 rfl rfl)
theorem dX7_creasesFault_2 : decode cX7_creasesFault 2 = .ok (.invokevirtual 389, 3) := dk_182 1 133 (dk_at dksX7_creasesFault_0 2 rfl rfl)
theorem dX7_creasesFault_5 : decode cX7_creasesFault 5 = .ok (.istore_n 2, 1) := dk_61 (dk_at dksX7_creasesFault_0 5 rfl rfl)
theorem dX7_creasesFault_6 : decode cX7_creasesFault 6 = .ok (.iload_n 2, 1) := dk_28 (dk_at dksX7_creasesFault_0 6 rfl rfl)
theorem dX7_creasesFault_7 : decode cX7_creasesFault 7 = .ok (.ifCond .eq 5, 3) := dk_153 0 5 (dk_at dksX7_creasesFault_0 7 rfl rfl)
theorem dX7_creasesFault_10 : decode cX7_creasesFault 10 = .ok (.iload_n 2, 1) := dk_28 (dk_at dksX7_creasesFault_0 10 rfl rfl)
theorem dX7_creasesFault_11 : decode cX7_creasesFault 11 = .ok (.ireturn, 1) := dk_172 (dk_at dksX7_creasesFault_0 11 rfl rfl)
theorem dX7_creasesFault_12 : decode cX7_creasesFault 12 = .ok (.aload_n 0, 1) := dk_42 (dk_at dksX7_creasesFault_0 12 rfl rfl)
theorem dX7_creasesFault_13 : decode cX7_creasesFault 13 = .ok (.getfield 71, 3) := dk_180 0 71 (dk_at dksX7_creasesFault_0 13 rfl rfl)
theorem dX7_creasesFault_16 : decode cX7_creasesFault 16 = .ok (.iload_n 1, 1) := dk_27 (dk_at dksX7_creasesFault_0 16 rfl rfl)
theorem dX7_creasesFault_17 : decode cX7_creasesFault 17 = .ok (.iaload, 1) := dk_46 (dk_at dksX7_creasesFault_0 17 rfl rfl)
theorem dX7_creasesFault_18 : decode cX7_creasesFault 18 = .ok (.iconst 0, 1) := dk_3 (dk_at dksX7_creasesFault_0 18 rfl rfl)
theorem dX7_creasesFault_19 : decode cX7_creasesFault 19 = .ok (.aload_n 0, 1) := dk_42 (dk_at dksX7_creasesFault_0 19 rfl rfl)
theorem dX7_creasesFault_20 : decode cX7_creasesFault 20 = .ok (.invokevirtual 253, 3) := dk_182 0 253 (dk_at dksX7_creasesFault_0 20 rfl rfl)
theorem dX7_creasesFault_23 : decode cX7_creasesFault 23 = .ok (.iconst 1, 1) := dk_4 (dk_at dksX7_creasesFault_0 23 rfl rfl)
theorem dX7_creasesFault_24 : decode cX7_creasesFault 24 = .ok (.isub, 1) := dk_100 (dk_at dksX7_creasesFault_1 0 rfl rfl)
theorem dX7_creasesFault_25 : decode cX7_creasesFault 25 = .ok (.invokestatic 268, 3) := dk_184 1 12 (dk_at dksX7_creasesFault_1 1 rfl rfl)
theorem dX7_creasesFault_28 : decode cX7_creasesFault 28 = .ok (.if_icmp .ne 7, 3) := dk_160 0 7 (dk_at dksX7_creasesFault_1 4 rfl rfl)
theorem dX7_creasesFault_31 : decode cX7_creasesFault 31 = .ok (.iconst 1, 1) := dk_4 (dk_at dksX7_creasesFault_1 7 rfl rfl)
theorem dX7_creasesFault_32 : decode cX7_creasesFault 32 = .ok (.goto 4, 3) := dk_167 0 4 (dk_at dksX7_creasesFault_1 8 rfl rfl)
theorem dX7_creasesFault_35 : decode cX7_creasesFault 35 = .ok (.iconst 0, 1) := dk_3 (dk_at dksX7_creasesFault_1 11 rfl rfl)
theorem dX7_creasesFault_36 : decode cX7_creasesFault 36 = .ok (.istore_n 3, 1) := dk_62 (dk_at dksX7_creasesFault_1 12 rfl rfl)
theorem dX7_creasesFault_37 : decode cX7_creasesFault 37 = .ok (.iconst 0, 1) := dk_3 (dk_at dksX7_creasesFault_1 13 rfl rfl)
theorem dX7_creasesFault_38 : decode cX7_creasesFault 38 = .ok (.istore 4, 2) := dk_54 4 (dk_at dksX7_creasesFault_1 14 rfl rfl)
theorem dX7_creasesFault_40 : decode cX7_creasesFault 40 = .ok (.iload 4, 2) := dk_21 4 (dk_at dksX7_creasesFault_1 16 rfl rfl)
theorem dX7_creasesFault_42 : decode cX7_creasesFault 42 = .ok (.aload_n 0, 1) := dk_42 (dk_at dksX7_creasesFault_1 18 rfl rfl)
theorem dX7_creasesFault_43 : decode cX7_creasesFault 43 = .ok (.getfield 71, 3) := dk_180 0 71 (dk_at dksX7_creasesFault_1 19 rfl rfl)
theorem dX7_creasesFault_46 : decode cX7_creasesFault 46 = .ok (.iload_n 1, 1) := dk_27 (dk_at dksX7_creasesFault_1 22 rfl rfl)
theorem dX7_creasesFault_47 : decode cX7_creasesFault 47 = .ok (.iaload, 1) := dk_46 (dk_at dksX7_creasesFault_1 23 rfl rfl)
theorem dX7_creasesFault_48 : decode cX7_creasesFault 48 = .ok (.if_icmp .ge 33, 3) := dk_162 0 33 (dk_at dksX7_creasesFault_2 0 rfl rfl)
theorem dX7_creasesFault_51 : decode cX7_creasesFault 51 = .ok (.iload_n 3, 1) := dk_29 (dk_at dksX7_creasesFault_2 3 rfl rfl)
theorem dX7_creasesFault_52 : decode cX7_creasesFault 52 = .ok (.ifCond .eq 29, 3) := dk_153 0 29 (dk_at dksX7_creasesFault_2 4 rfl rfl)
theorem dX7_creasesFault_55 : decode cX7_creasesFault 55 = .ok (.aload_n 0, 1) := dk_42 (dk_at dksX7_creasesFault_2 7 rfl rfl)
theorem dX7_creasesFault_56 : decode cX7_creasesFault 56 = .ok (.getfield 74, 3) := dk_180 0 74 (dk_at dksX7_creasesFault_2 8 rfl rfl)
theorem dX7_creasesFault_59 : decode cX7_creasesFault 59 = .ok (.bipush 30, 2) := dk_16 30 (dk_at dksX7_creasesFault_2 11 rfl rfl)
theorem dX7_creasesFault_61 : decode cX7_creasesFault 61 = .ok (.iload_n 1, 1) := dk_27 (dk_at dksX7_creasesFault_2 13 rfl rfl)
theorem dX7_creasesFault_62 : decode cX7_creasesFault 62 = .ok (.imul, 1) := dk_104 (dk_at dksX7_creasesFault_2 14 rfl rfl)
theorem dX7_creasesFault_63 : decode cX7_creasesFault 63 = .ok (.iload 4, 2) := dk_21 4 (dk_at dksX7_creasesFault_2 15 rfl rfl)
theorem dX7_creasesFault_65 : decode cX7_creasesFault 65 = .ok (.iadd, 1) := dk_96 (dk_at dksX7_creasesFault_2 17 rfl rfl)
theorem dX7_creasesFault_66 : decode cX7_creasesFault 66 = .ok (.laload, 1) := dk_47 (dk_at dksX7_creasesFault_2 18 rfl rfl)
theorem dX7_creasesFault_67 : decode cX7_creasesFault 67 = .ok (.lconst 0, 1) := dk_9 (dk_at dksX7_creasesFault_2 19 rfl rfl)
theorem dX7_creasesFault_68 : decode cX7_creasesFault 68 = .ok (.ldc2_w 547, 3) := dk_20 2 35 (dk_at dksX7_creasesFault_2 20 rfl rfl)
theorem dX7_creasesFault_71 : decode cX7_creasesFault 71 = .ok (.invokestatic 138, 3) := dk_184 0 138 (dk_at dksX7_creasesFault_3 0 rfl rfl)
theorem dX7_creasesFault_74 : decode cX7_creasesFault 74 = .ok (.istore_n 3, 1) := dk_62 (dk_at dksX7_creasesFault_3 3 rfl rfl)
theorem dX7_creasesFault_75 : decode cX7_creasesFault 75 = .ok (.iinc 4 1, 3) := dk_132 4 1 (dk_at dksX7_creasesFault_3 4 rfl rfl)
theorem dX7_creasesFault_78 : decode cX7_creasesFault 78 = .ok (.goto (-38), 3) := dk_167 255 218 (dk_at dksX7_creasesFault_3 7 rfl rfl)
theorem dX7_creasesFault_81 : decode cX7_creasesFault 81 = .ok (.iload_n 3, 1) := dk_29 (dk_at dksX7_creasesFault_3 10 rfl rfl)
theorem dX7_creasesFault_82 : decode cX7_creasesFault 82 = .ok (.ifCond .eq 7, 3) := dk_153 0 7 (dk_at dksX7_creasesFault_3 11 rfl rfl)
theorem dX7_creasesFault_85 : decode cX7_creasesFault 85 = .ok (.iconst 0, 1) := dk_3 (dk_at dksX7_creasesFault_3 14 rfl rfl)
theorem dX7_creasesFault_86 : decode cX7_creasesFault 86 = .ok (.goto 4, 3) := dk_167 0 4 (dk_at dksX7_creasesFault_3 15 rfl rfl)
theorem dX7_creasesFault_89 : decode cX7_creasesFault 89 = .ok (.iconst 3, 1) := dk_6 (dk_at dksX7_creasesFault_3 18 rfl rfl)
theorem dX7_creasesFault_90 : decode cX7_creasesFault 90 = .ok (.ireturn, 1) := dk_172 (dk_at dksX7_creasesFault_3 19 rfl rfl)
abbrev cX7_madeBy : ByteArray := prog_43_method_132_code
def yX7_madeBy : MethodName := ⟨RX7, "madeBy", "(II)I"⟩
def dkwX7_madeBy_2 : List UInt8 := [3, 8, 182, 1, 246, 28, 42, 180, 1, 172, 162, 0, 12, 42, 180, 0, 48, 28, 46, 167, 0, 4, 2, 172]
abbrev dktX7_madeBy_2 : List UInt8 := dkwX7_madeBy_2 ++ []
def dkwX7_madeBy_1 : List UInt8 := [181, 0, 77, 42, 180, 0, 77, 158, 0, 5, 3, 172, 42, 27, 181, 1, 193, 42, 182, 1, 21, 42, 16, 11]
abbrev dktX7_madeBy_1 : List UInt8 := dkwX7_madeBy_1 ++ dktX7_madeBy_2
def dkwX7_madeBy_0 : List UInt8 := [42, 42, 27, 182, 2, 37, 181, 0, 77, 42, 180, 0, 77, 154, 0, 12, 28, 156, 0, 8, 42, 6]
abbrev dktX7_madeBy_0 : List UInt8 := dkwX7_madeBy_0 ++ dktX7_madeBy_1
theorem dksX7_madeBy_0 : cX7_madeBy.data.toList.drop 0 = dktX7_madeBy_0 := by decide +kernel
theorem dksX7_madeBy_1 : cX7_madeBy.data.toList.drop 22 = dktX7_madeBy_1 := dk_seg dksX7_madeBy_0 22 rfl rfl
theorem dksX7_madeBy_2 : cX7_madeBy.data.toList.drop 46 = dktX7_madeBy_2 := dk_seg dksX7_madeBy_1 24 rfl rfl
theorem dX7_madeBy_0 : decode cX7_madeBy 0 = .ok (.aload_n 0, 1) := dk_42 (dk_at dksX7_madeBy_0 0 rfl rfl)
theorem dX7_madeBy_1 : decode cX7_madeBy 1 = .ok (.aload_n 0, 1) := dk_42 (dk_at dksX7_madeBy_0 1 rfl rfl)
theorem dX7_madeBy_2 : decode cX7_madeBy 2 = .ok (.iload_n 1, 1) := dk_27 (dk_at dksX7_madeBy_0 2 rfl rfl)
theorem dX7_madeBy_3 : decode cX7_madeBy 3 = .ok (.invokevirtual 549, 3) := dk_182 2 37 (dk_at dksX7_madeBy_0 3 rfl rfl)
theorem dX7_madeBy_6 : decode cX7_madeBy 6 = .ok (.putfield 77, 3) := dk_181 0 77 (dk_at dksX7_madeBy_0 6 rfl rfl)
theorem dX7_madeBy_9 : decode cX7_madeBy 9 = .ok (.aload_n 0, 1) := dk_42 (dk_at dksX7_madeBy_0 9 rfl rfl)
theorem dX7_madeBy_10 : decode cX7_madeBy 10 = .ok (.getfield 77, 3) := dk_180 0 77 (dk_at dksX7_madeBy_0 10 rfl rfl)
theorem dX7_madeBy_13 : decode cX7_madeBy 13 = .ok (.ifCond .ne 12, 3) := dk_154 0 12 (dk_at dksX7_madeBy_0 13 rfl rfl)
theorem dX7_madeBy_16 : decode cX7_madeBy 16 = .ok (.iload_n 2, 1) := dk_28 (dk_at dksX7_madeBy_0 16 rfl rfl)
theorem dX7_madeBy_17 : decode cX7_madeBy 17 = .ok (.ifCond .ge 8, 3) := dk_156 0 8 (dk_at dksX7_madeBy_0 17 rfl rfl)
theorem dX7_madeBy_20 : decode cX7_madeBy 20 = .ok (.aload_n 0, 1) := dk_42 (dk_at dksX7_madeBy_0 20 rfl rfl)
theorem dX7_madeBy_21 : decode cX7_madeBy 21 = .ok (.iconst 3, 1) := dk_6 (dk_at dksX7_madeBy_0 21 rfl rfl)
theorem dX7_madeBy_22 : decode cX7_madeBy 22 = .ok (.putfield 77, 3) := dk_181 0 77 (dk_at dksX7_madeBy_1 0 rfl rfl)
theorem dX7_madeBy_25 : decode cX7_madeBy 25 = .ok (.aload_n 0, 1) := dk_42 (dk_at dksX7_madeBy_1 3 rfl rfl)
theorem dX7_madeBy_26 : decode cX7_madeBy 26 = .ok (.getfield 77, 3) := dk_180 0 77 (dk_at dksX7_madeBy_1 4 rfl rfl)
theorem dX7_madeBy_29 : decode cX7_madeBy 29 = .ok (.ifCond .le 5, 3) := dk_158 0 5 (dk_at dksX7_madeBy_1 7 rfl rfl)
theorem dX7_madeBy_32 : decode cX7_madeBy 32 = .ok (.iconst 0, 1) := dk_3 (dk_at dksX7_madeBy_1 10 rfl rfl)
theorem dX7_madeBy_33 : decode cX7_madeBy 33 = .ok (.ireturn, 1) := dk_172 (dk_at dksX7_madeBy_1 11 rfl rfl)
theorem dX7_madeBy_34 : decode cX7_madeBy 34 = .ok (.aload_n 0, 1) := dk_42 (dk_at dksX7_madeBy_1 12 rfl rfl)
theorem dX7_madeBy_35 : decode cX7_madeBy 35 = .ok (.iload_n 1, 1) := dk_27 (dk_at dksX7_madeBy_1 13 rfl rfl)
theorem dX7_madeBy_36 : decode cX7_madeBy 36 = .ok (.putfield 449, 3) := dk_181 1 193 (dk_at dksX7_madeBy_1 14 rfl rfl)
theorem dX7_madeBy_39 : decode cX7_madeBy 39 = .ok (.aload_n 0, 1) := dk_42 (dk_at dksX7_madeBy_1 17 rfl rfl)
theorem dX7_madeBy_40 : decode cX7_madeBy 40 = .ok (.invokevirtual 277, 3) := dk_182 1 21 (dk_at dksX7_madeBy_1 18 rfl rfl)
theorem dX7_madeBy_43 : decode cX7_madeBy 43 = .ok (.aload_n 0, 1) := dk_42 (dk_at dksX7_madeBy_1 21 rfl rfl)
theorem dX7_madeBy_44 : decode cX7_madeBy 44 = .ok (.bipush 11, 2) := dk_16 11 (dk_at dksX7_madeBy_1 22 rfl rfl)
theorem dX7_madeBy_46 : decode cX7_madeBy 46 = .ok (.iconst 0, 1) := dk_3 (dk_at dksX7_madeBy_2 0 rfl rfl)
theorem dX7_madeBy_47 : decode cX7_madeBy 47 = .ok (.iconst 5, 1) := dk_8 (dk_at dksX7_madeBy_2 1 rfl rfl)
theorem dX7_madeBy_48 : decode cX7_madeBy 48 = .ok (.invokevirtual 502, 3) := dk_182 1 246 (dk_at dksX7_madeBy_2 2 rfl rfl)
theorem dX7_madeBy_51 : decode cX7_madeBy 51 = .ok (.iload_n 2, 1) := dk_28 (dk_at dksX7_madeBy_2 5 rfl rfl)
theorem dX7_madeBy_52 : decode cX7_madeBy 52 = .ok (.aload_n 0, 1) := dk_42 (dk_at dksX7_madeBy_2 6 rfl rfl)
theorem dX7_madeBy_53 : decode cX7_madeBy 53 = .ok (.getfield 428, 3) := dk_180 1 172 (dk_at dksX7_madeBy_2 7 rfl rfl)
theorem dX7_madeBy_56 : decode cX7_madeBy 56 = .ok (.if_icmp .ge 12, 3) := dk_162 0 12 (dk_at dksX7_madeBy_2 10 rfl rfl)
theorem dX7_madeBy_59 : decode cX7_madeBy 59 = .ok (.aload_n 0, 1) := dk_42 (dk_at dksX7_madeBy_2 13 rfl rfl)
theorem dX7_madeBy_60 : decode cX7_madeBy 60 = .ok (.getfield 48, 3) := dk_180 0 48 (dk_at dksX7_madeBy_2 14 rfl rfl)
theorem dX7_madeBy_63 : decode cX7_madeBy 63 = .ok (.iload_n 2, 1) := dk_28 (dk_at dksX7_madeBy_2 17 rfl rfl)
theorem dX7_madeBy_64 : decode cX7_madeBy 64 = .ok (.iaload, 1) := dk_46 (dk_at dksX7_madeBy_2 18 rfl rfl)
theorem dX7_madeBy_65 : decode cX7_madeBy 65 = .ok (.goto 4, 3) := dk_167 0 4 (dk_at dksX7_madeBy_2 19 rfl rfl)
theorem dX7_madeBy_68 : decode cX7_madeBy 68 = .ok (.iconst (-1), 1) := dk_2 (dk_at dksX7_madeBy_2 22 rfl rfl)
theorem dX7_madeBy_69 : decode cX7_madeBy 69 = .ok (.ireturn, 1) := dk_172 (dk_at dksX7_madeBy_2 23 rfl rfl)
abbrev cX7_patterns : ByteArray := prog_43_method_133_code
def yX7_patterns : MethodName := ⟨RX7, "patterns", "()I"⟩
def dkwX7_patterns_0 : List UInt8 := [42, 16, 12, 182, 2, 32, 172]
abbrev dktX7_patterns_0 : List UInt8 := dkwX7_patterns_0 ++ []
theorem dksX7_patterns_0 : cX7_patterns.data.toList.drop 0 = dktX7_patterns_0 := by decide +kernel
theorem dX7_patterns_0 : decode cX7_patterns 0 = .ok (.aload_n 0, 1) := dk_42 (dk_at dksX7_patterns_0 0 rfl rfl)
theorem dX7_patterns_1 : decode cX7_patterns 1 = .ok (.bipush 12, 2) := dk_16 12 (dk_at dksX7_patterns_0 1 rfl rfl)
theorem dX7_patterns_3 : decode cX7_patterns 3 = .ok (.invokevirtual 544, 3) := dk_182 2 32 (dk_at dksX7_patterns_0 3 rfl rfl)
theorem dX7_patterns_6 : decode cX7_patterns 6 = .ok (.ireturn, 1) := dk_172 (dk_at dksX7_patterns_0 6 rfl rfl)
abbrev cX7_refuse : ByteArray := prog_43_method_135_code
def yX7_refuse : MethodName := ⟨RX7, "refuse", "()I"⟩
def dkwX7_refuse_2 : List UInt8 := [167, 0, 4, 3, 128, 60, 132, 2, 1, 167, 255, 218, 27, 172]
abbrev dktX7_refuse_2 : List UInt8 := dkwX7_refuse_2 ++ []
def dkwX7_refuse_1 : List UInt8 := [162, 0, 34, 27, 42, 180, 0, 51, 28, 46, 42, 3, 28, 182, 1, 99, 162, 0, 9, 4, 28, 120]
abbrev dktX7_refuse_1 : List UInt8 := dkwX7_refuse_1 ++ dktX7_refuse_2
def dkwX7_refuse_0 : List UInt8 := [42, 3, 181, 0, 77, 42, 182, 2, 40, 42, 182, 1, 21, 3, 60, 3, 61, 28, 42, 180, 0, 9, 5, 46]
abbrev dktX7_refuse_0 : List UInt8 := dkwX7_refuse_0 ++ dktX7_refuse_1
theorem dksX7_refuse_0 : cX7_refuse.data.toList.drop 0 = dktX7_refuse_0 := by decide +kernel
theorem dksX7_refuse_1 : cX7_refuse.data.toList.drop 24 = dktX7_refuse_1 := dk_seg dksX7_refuse_0 24 rfl rfl
theorem dksX7_refuse_2 : cX7_refuse.data.toList.drop 46 = dktX7_refuse_2 := dk_seg dksX7_refuse_1 22 rfl rfl
theorem dX7_refuse_0 : decode cX7_refuse 0 = .ok (.aload_n 0, 1) := dk_42 (dk_at dksX7_refuse_0 0 rfl rfl)
theorem dX7_refuse_1 : decode cX7_refuse 1 = .ok (.iconst 0, 1) := dk_3 (dk_at dksX7_refuse_0 1 rfl rfl)
theorem dX7_refuse_2 : decode cX7_refuse 2 = .ok (.putfield 77, 3) := dk_181 0 77 (dk_at dksX7_refuse_0 2 rfl rfl)
theorem dX7_refuse_5 : decode cX7_refuse 5 = .ok (.aload_n 0, 1) := dk_42 (dk_at dksX7_refuse_0 5 rfl rfl)
theorem dX7_refuse_6 : decode cX7_refuse 6 = .ok (.invokevirtual 552, 3) := dk_182 2 40 (dk_at dksX7_refuse_0 6 rfl rfl)
theorem dX7_refuse_9 : decode cX7_refuse 9 = .ok (.aload_n 0, 1) := dk_42 (dk_at dksX7_refuse_0 9 rfl rfl)
theorem dX7_refuse_10 : decode cX7_refuse 10 = .ok (.invokevirtual 277, 3) := dk_182 1 21 (dk_at dksX7_refuse_0 10 rfl rfl)
theorem dX7_refuse_13 : decode cX7_refuse 13 = .ok (.iconst 0, 1) := dk_3 (dk_at dksX7_refuse_0 13 rfl rfl)
theorem dX7_refuse_14 : decode cX7_refuse 14 = .ok (.istore_n 1, 1) := dk_60 (dk_at dksX7_refuse_0 14 rfl rfl)
theorem dX7_refuse_15 : decode cX7_refuse 15 = .ok (.iconst 0, 1) := dk_3 (dk_at dksX7_refuse_0 15 rfl rfl)
theorem dX7_refuse_16 : decode cX7_refuse 16 = .ok (.istore_n 2, 1) := dk_61 (dk_at dksX7_refuse_0 16 rfl rfl)
theorem dX7_refuse_17 : decode cX7_refuse 17 = .ok (.iload_n 2, 1) := dk_28 (dk_at dksX7_refuse_0 17 rfl rfl)
theorem dX7_refuse_18 : decode cX7_refuse 18 = .ok (.aload_n 0, 1) := dk_42 (dk_at dksX7_refuse_0 18 rfl rfl)
theorem dX7_refuse_19 : decode cX7_refuse 19 = .ok (.getfield 9, 3) := dk_180 0 9 (dk_at dksX7_refuse_0 19 rfl rfl)
theorem dX7_refuse_22 : decode cX7_refuse 22 = .ok (.iconst 2, 1) := dk_5 (dk_at dksX7_refuse_0 22 rfl rfl)
theorem dX7_refuse_23 : decode cX7_refuse 23 = .ok (.iaload, 1) := dk_46 (dk_at dksX7_refuse_0 23 rfl rfl)
theorem dX7_refuse_24 : decode cX7_refuse 24 = .ok (.if_icmp .ge 34, 3) := dk_162 0 34 (dk_at dksX7_refuse_1 0 rfl rfl)
theorem dX7_refuse_27 : decode cX7_refuse 27 = .ok (.iload_n 1, 1) := dk_27 (dk_at dksX7_refuse_1 3 rfl rfl)
theorem dX7_refuse_28 : decode cX7_refuse 28 = .ok (.aload_n 0, 1) := dk_42 (dk_at dksX7_refuse_1 4 rfl rfl)
theorem dX7_refuse_29 : decode cX7_refuse 29 = .ok (.getfield 51, 3) := dk_180 0 51 (dk_at dksX7_refuse_1 5 rfl rfl)
theorem dX7_refuse_32 : decode cX7_refuse 32 = .ok (.iload_n 2, 1) := dk_28 (dk_at dksX7_refuse_1 8 rfl rfl)
theorem dX7_refuse_33 : decode cX7_refuse 33 = .ok (.iaload, 1) := dk_46 (dk_at dksX7_refuse_1 9 rfl rfl)
theorem dX7_refuse_34 : decode cX7_refuse 34 = .ok (.aload_n 0, 1) := dk_42 (dk_at dksX7_refuse_1 10 rfl rfl)
theorem dX7_refuse_35 : decode cX7_refuse 35 = .ok (.iconst 0, 1) := dk_3 (dk_at dksX7_refuse_1 11 rfl rfl)
theorem dX7_refuse_36 : decode cX7_refuse 36 = .ok (.iload_n 2, 1) := dk_28 (dk_at dksX7_refuse_1 12 rfl rfl)
theorem dX7_refuse_37 : decode cX7_refuse 37 = .ok (.invokevirtual 355, 3) := dk_182 1 99 (dk_at dksX7_refuse_1 13 rfl rfl)
theorem dX7_refuse_40 : decode cX7_refuse 40 = .ok (.if_icmp .ge 9, 3) := dk_162 0 9 (dk_at dksX7_refuse_1 16 rfl rfl)
theorem dX7_refuse_43 : decode cX7_refuse 43 = .ok (.iconst 1, 1) := dk_4 (dk_at dksX7_refuse_1 19 rfl rfl)
theorem dX7_refuse_44 : decode cX7_refuse 44 = .ok (.iload_n 2, 1) := dk_28 (dk_at dksX7_refuse_1 20 rfl rfl)
theorem dX7_refuse_45 : decode cX7_refuse 45 = .ok (.ishl, 1) := dk_120 (dk_at dksX7_refuse_1 21 rfl rfl)
theorem dX7_refuse_46 : decode cX7_refuse 46 = .ok (.goto 4, 3) := dk_167 0 4 (dk_at dksX7_refuse_2 0 rfl rfl)
theorem dX7_refuse_49 : decode cX7_refuse 49 = .ok (.iconst 0, 1) := dk_3 (dk_at dksX7_refuse_2 3 rfl rfl)
theorem dX7_refuse_50 : decode cX7_refuse 50 = .ok (.ior, 1) := dk_128 (dk_at dksX7_refuse_2 4 rfl rfl)
theorem dX7_refuse_51 : decode cX7_refuse 51 = .ok (.istore_n 1, 1) := dk_60 (dk_at dksX7_refuse_2 5 rfl rfl)
theorem dX7_refuse_52 : decode cX7_refuse 52 = .ok (.iinc 2 1, 3) := dk_132 2 1 (dk_at dksX7_refuse_2 6 rfl rfl)
theorem dX7_refuse_55 : decode cX7_refuse 55 = .ok (.goto (-38), 3) := dk_167 255 218 (dk_at dksX7_refuse_2 9 rfl rfl)
theorem dX7_refuse_58 : decode cX7_refuse 58 = .ok (.iload_n 1, 1) := dk_27 (dk_at dksX7_refuse_2 12 rfl rfl)
theorem dX7_refuse_59 : decode cX7_refuse 59 = .ok (.ireturn, 1) := dk_172 (dk_at dksX7_refuse_2 13 rfl rfl)
abbrev cX7_laysLiked : ByteArray := prog_43_method_134_code
def yX7_laysLiked : MethodName := ⟨RX7, "laysLiked", "()V"⟩
def dkwX7_laysLiked_1 : List UInt8 := [28, 182, 1, 99, 79, 132, 2, 1, 167, 255, 231, 177]
abbrev dktX7_laysLiked_1 : List UInt8 := dkwX7_laysLiked_1 ++ []
def dkwX7_laysLiked_0 : List UInt8 := [42, 182, 1, 87, 60, 3, 61, 28, 42, 180, 0, 9, 5, 46, 162, 0, 21, 42, 180, 0, 51, 28, 42, 27]
abbrev dktX7_laysLiked_0 : List UInt8 := dkwX7_laysLiked_0 ++ dktX7_laysLiked_1
theorem dksX7_laysLiked_0 : cX7_laysLiked.data.toList.drop 0 = dktX7_laysLiked_0 := by decide +kernel
theorem dksX7_laysLiked_1 : cX7_laysLiked.data.toList.drop 24 = dktX7_laysLiked_1 := dk_seg dksX7_laysLiked_0 24 rfl rfl
theorem dX7_laysLiked_0 : decode cX7_laysLiked 0 = .ok (.aload_n 0, 1) := dk_42 (dk_at dksX7_laysLiked_0 0 rfl rfl)
theorem dX7_laysLiked_1 : decode cX7_laysLiked 1 = .ok (.invokevirtual 343, 3) := dk_182 1 87 (dk_at dksX7_laysLiked_0 1 rfl rfl)
theorem dX7_laysLiked_4 : decode cX7_laysLiked 4 = .ok (.istore_n 1, 1) := dk_60 (dk_at dksX7_laysLiked_0 4 rfl rfl)
theorem dX7_laysLiked_5 : decode cX7_laysLiked 5 = .ok (.iconst 0, 1) := dk_3 (dk_at dksX7_laysLiked_0 5 rfl rfl)
theorem dX7_laysLiked_6 : decode cX7_laysLiked 6 = .ok (.istore_n 2, 1) := dk_61 (dk_at dksX7_laysLiked_0 6 rfl rfl)
theorem dX7_laysLiked_7 : decode cX7_laysLiked 7 = .ok (.iload_n 2, 1) := dk_28 (dk_at dksX7_laysLiked_0 7 rfl rfl)
theorem dX7_laysLiked_8 : decode cX7_laysLiked 8 = .ok (.aload_n 0, 1) := dk_42 (dk_at dksX7_laysLiked_0 8 rfl rfl)
theorem dX7_laysLiked_9 : decode cX7_laysLiked 9 = .ok (.getfield 9, 3) := dk_180 0 9 (dk_at dksX7_laysLiked_0 9 rfl rfl)
theorem dX7_laysLiked_12 : decode cX7_laysLiked 12 = .ok (.iconst 2, 1) := dk_5 (dk_at dksX7_laysLiked_0 12 rfl rfl)
theorem dX7_laysLiked_13 : decode cX7_laysLiked 13 = .ok (.iaload, 1) := dk_46 (dk_at dksX7_laysLiked_0 13 rfl rfl)
theorem dX7_laysLiked_14 : decode cX7_laysLiked 14 = .ok (.if_icmp .ge 21, 3) := dk_162 0 21 (dk_at dksX7_laysLiked_0 14 rfl rfl)
theorem dX7_laysLiked_17 : decode cX7_laysLiked 17 = .ok (.aload_n 0, 1) := dk_42 (dk_at dksX7_laysLiked_0 17 rfl rfl)
theorem dX7_laysLiked_18 : decode cX7_laysLiked 18 = .ok (.getfield 51, 3) := dk_180 0 51 (dk_at dksX7_laysLiked_0 18 rfl rfl)
theorem dX7_laysLiked_21 : decode cX7_laysLiked 21 = .ok (.iload_n 2, 1) := dk_28 (dk_at dksX7_laysLiked_0 21 rfl rfl)
theorem dX7_laysLiked_22 : decode cX7_laysLiked 22 = .ok (.aload_n 0, 1) := dk_42 (dk_at dksX7_laysLiked_0 22 rfl rfl)
theorem dX7_laysLiked_23 : decode cX7_laysLiked 23 = .ok (.iload_n 1, 1) := dk_27 (dk_at dksX7_laysLiked_0 23 rfl rfl)
theorem dX7_laysLiked_24 : decode cX7_laysLiked 24 = .ok (.iload_n 2, 1) := dk_28 (dk_at dksX7_laysLiked_1 0 rfl rfl)
theorem dX7_laysLiked_25 : decode cX7_laysLiked 25 = .ok (.invokevirtual 355, 3) := dk_182 1 99 (dk_at dksX7_laysLiked_1 1 rfl rfl)
theorem dX7_laysLiked_28 : decode cX7_laysLiked 28 = .ok (.iastore, 1) := dk_79 (dk_at dksX7_laysLiked_1 4 rfl rfl)
theorem dX7_laysLiked_29 : decode cX7_laysLiked 29 = .ok (.iinc 2 1, 3) := dk_132 2 1 (dk_at dksX7_laysLiked_1 5 rfl rfl)
theorem dX7_laysLiked_32 : decode cX7_laysLiked 32 = .ok (.goto (-25), 3) := dk_167 255 231 (dk_at dksX7_laysLiked_1 8 rfl rfl)
theorem dX7_laysLiked_35 : decode cX7_laysLiked 35 = .ok (.return_, 1) := dk_177 (dk_at dksX7_laysLiked_1 11 rfl rfl)
abbrev cX7_fairest : ByteArray := prog_43_method_136_code
def yX7_fairest : MethodName := ⟨RX7, "fairest", "(II)I"⟩
def dkwX7_fairest_0 : List UInt8 := [42, 16, 6, 27, 28, 182, 2, 7, 172]
abbrev dktX7_fairest_0 : List UInt8 := dkwX7_fairest_0 ++ []
theorem dksX7_fairest_0 : cX7_fairest.data.toList.drop 0 = dktX7_fairest_0 := by decide +kernel
theorem dX7_fairest_0 : decode cX7_fairest 0 = .ok (.aload_n 0, 1) := dk_42 (dk_at dksX7_fairest_0 0 rfl rfl)
theorem dX7_fairest_1 : decode cX7_fairest 1 = .ok (.bipush 6, 2) := dk_16 6 (dk_at dksX7_fairest_0 1 rfl rfl)
theorem dX7_fairest_3 : decode cX7_fairest 3 = .ok (.iload_n 1, 1) := dk_27 (dk_at dksX7_fairest_0 3 rfl rfl)
theorem dX7_fairest_4 : decode cX7_fairest 4 = .ok (.iload_n 2, 1) := dk_28 (dk_at dksX7_fairest_0 4 rfl rfl)
theorem dX7_fairest_5 : decode cX7_fairest 5 = .ok (.invokevirtual 519, 3) := dk_182 2 7 (dk_at dksX7_fairest_0 5 rfl rfl)
theorem dX7_fairest_8 : decode cX7_fairest 8 = .ok (.ireturn, 1) := dk_172 (dk_at dksX7_fairest_0 8 rfl rfl)
abbrev cX7_better : ByteArray := prog_43_method_137_code
def yX7_better : MethodName := ⟨RX7, "better", "(I)I"⟩
def dkwX7_better_0 : List UInt8 := [42, 182, 2, 40, 42, 16, 7, 27, 182, 1, 249, 172]
abbrev dktX7_better_0 : List UInt8 := dkwX7_better_0 ++ []
theorem dksX7_better_0 : cX7_better.data.toList.drop 0 = dktX7_better_0 := by decide +kernel
theorem dX7_better_0 : decode cX7_better 0 = .ok (.aload_n 0, 1) := dk_42 (dk_at dksX7_better_0 0 rfl rfl)
theorem dX7_better_1 : decode cX7_better 1 = .ok (.invokevirtual 552, 3) := dk_182 2 40 (dk_at dksX7_better_0 1 rfl rfl)
theorem dX7_better_4 : decode cX7_better 4 = .ok (.aload_n 0, 1) := dk_42 (dk_at dksX7_better_0 4 rfl rfl)
theorem dX7_better_5 : decode cX7_better 5 = .ok (.bipush 7, 2) := dk_16 7 (dk_at dksX7_better_0 5 rfl rfl)
theorem dX7_better_7 : decode cX7_better 7 = .ok (.iload_n 1, 1) := dk_27 (dk_at dksX7_better_0 7 rfl rfl)
theorem dX7_better_8 : decode cX7_better 8 = .ok (.invokevirtual 505, 3) := dk_182 1 249 (dk_at dksX7_better_0 8 rfl rfl)
theorem dX7_better_11 : decode cX7_better 11 = .ok (.ireturn, 1) := dk_172 (dk_at dksX7_better_0 11 rfl rfl)
abbrev cX7_keenest : ByteArray := prog_43_method_138_code
def yX7_keenest : MethodName := ⟨RX7, "keenest", "(I)I"⟩
def dkwX7_keenest_4 : List UInt8 := [132, 4, 1, 167, 255, 190, 28, 172]
abbrev dktX7_keenest_4 : List UInt8 := dkwX7_keenest_4 ++ []
def dkwX7_keenest_3 : List UInt8 := [163, 0, 6, 167, 0, 19, 21, 4, 61, 42, 180, 1, 169, 42, 180, 0, 51, 21, 4, 46, 100, 62]
abbrev dktX7_keenest_3 : List UInt8 := dkwX7_keenest_3 ++ dktX7_keenest_4
def dkwX7_keenest_2 : List UInt8 := [16, 8, 42, 182, 1, 87, 27, 182, 1, 246, 42, 180, 1, 169, 42, 180, 0, 51, 21, 4, 46, 100, 29]
abbrev dktX7_keenest_2 : List UInt8 := dkwX7_keenest_2 ++ dktX7_keenest_3
def dkwX7_keenest_1 : List UInt8 := [2, 62, 3, 54, 4, 21, 4, 42, 180, 0, 9, 5, 46, 162, 0, 61, 42, 21, 4, 181, 1, 193, 42]
abbrev dktX7_keenest_1 : List UInt8 := dkwX7_keenest_1 ++ dktX7_keenest_2
def dkwX7_keenest_0 : List UInt8 := [42, 3, 181, 0, 77, 27, 184, 1, 243, 154, 0, 9, 42, 4, 182, 0, 244, 172, 42, 182, 2, 40, 2, 61]
abbrev dktX7_keenest_0 : List UInt8 := dkwX7_keenest_0 ++ dktX7_keenest_1
theorem dksX7_keenest_0 : cX7_keenest.data.toList.drop 0 = dktX7_keenest_0 := by decide +kernel
theorem dksX7_keenest_1 : cX7_keenest.data.toList.drop 24 = dktX7_keenest_1 := dk_seg dksX7_keenest_0 24 rfl rfl
theorem dksX7_keenest_2 : cX7_keenest.data.toList.drop 47 = dktX7_keenest_2 := dk_seg dksX7_keenest_1 23 rfl rfl
theorem dksX7_keenest_3 : cX7_keenest.data.toList.drop 70 = dktX7_keenest_3 := dk_seg dksX7_keenest_2 23 rfl rfl
theorem dksX7_keenest_4 : cX7_keenest.data.toList.drop 92 = dktX7_keenest_4 := dk_seg dksX7_keenest_3 22 rfl rfl
theorem dX7_keenest_0 : decode cX7_keenest 0 = .ok (.aload_n 0, 1) := dk_42 (dk_at dksX7_keenest_0 0 rfl rfl)
theorem dX7_keenest_1 : decode cX7_keenest 1 = .ok (.iconst 0, 1) := dk_3 (dk_at dksX7_keenest_0 1 rfl rfl)
theorem dX7_keenest_2 : decode cX7_keenest 2 = .ok (.putfield 77, 3) := dk_181 0 77 (dk_at dksX7_keenest_0 2 rfl rfl)
theorem dX7_keenest_5 : decode cX7_keenest 5 = .ok (.iload_n 1, 1) := dk_27 (dk_at dksX7_keenest_0 5 rfl rfl)
theorem dX7_keenest_6 : decode cX7_keenest 6 = .ok (.invokestatic 499, 3) := dk_184 1 243 (dk_at dksX7_keenest_0 6 rfl rfl)
theorem dX7_keenest_9 : decode cX7_keenest 9 = .ok (.ifCond .ne 9, 3) := dk_154 0 9 (dk_at dksX7_keenest_0 9 rfl rfl)
theorem dX7_keenest_12 : decode cX7_keenest 12 = .ok (.aload_n 0, 1) := dk_42 (dk_at dksX7_keenest_0 12 rfl rfl)
theorem dX7_keenest_13 : decode cX7_keenest 13 = .ok (.iconst 1, 1) := dk_4 (dk_at dksX7_keenest_0 13 rfl rfl)
theorem dX7_keenest_14 : decode cX7_keenest 14 = .ok (.invokevirtual 244, 3) := dk_182 0 244 (dk_at dksX7_keenest_0 14 rfl rfl)
theorem dX7_keenest_17 : decode cX7_keenest 17 = .ok (.ireturn, 1) := dk_172 (dk_at dksX7_keenest_0 17 rfl rfl)
theorem dX7_keenest_18 : decode cX7_keenest 18 = .ok (.aload_n 0, 1) := dk_42 (dk_at dksX7_keenest_0 18 rfl rfl)
theorem dX7_keenest_19 : decode cX7_keenest 19 = .ok (.invokevirtual 552, 3) := dk_182 2 40 (dk_at dksX7_keenest_0 19 rfl rfl)
theorem dX7_keenest_22 : decode cX7_keenest 22 = .ok (.iconst (-1), 1) := dk_2 (dk_at dksX7_keenest_0 22 rfl rfl)
theorem dX7_keenest_23 : decode cX7_keenest 23 = .ok (.istore_n 2, 1) := dk_61 (dk_at dksX7_keenest_0 23 rfl rfl)
theorem dX7_keenest_24 : decode cX7_keenest 24 = .ok (.iconst (-1), 1) := dk_2 (dk_at dksX7_keenest_1 0 rfl rfl)
theorem dX7_keenest_25 : decode cX7_keenest 25 = .ok (.istore_n 3, 1) := dk_62 (dk_at dksX7_keenest_1 1 rfl rfl)
theorem dX7_keenest_26 : decode cX7_keenest 26 = .ok (.iconst 0, 1) := dk_3 (dk_at dksX7_keenest_1 2 rfl rfl)
theorem dX7_keenest_27 : decode cX7_keenest 27 = .ok (.istore 4, 2) := dk_54 4 (dk_at dksX7_keenest_1 3 rfl rfl)
theorem dX7_keenest_29 : decode cX7_keenest 29 = .ok (.iload 4, 2) := dk_21 4 (dk_at dksX7_keenest_1 5 rfl rfl)
theorem dX7_keenest_31 : decode cX7_keenest 31 = .ok (.aload_n 0, 1) := dk_42 (dk_at dksX7_keenest_1 7 rfl rfl)
theorem dX7_keenest_32 : decode cX7_keenest 32 = .ok (.getfield 9, 3) := dk_180 0 9 (dk_at dksX7_keenest_1 8 rfl rfl)
theorem dX7_keenest_35 : decode cX7_keenest 35 = .ok (.iconst 2, 1) := dk_5 (dk_at dksX7_keenest_1 11 rfl rfl)
theorem dX7_keenest_36 : decode cX7_keenest 36 = .ok (.iaload, 1) := dk_46 (dk_at dksX7_keenest_1 12 rfl rfl)
theorem dX7_keenest_37 : decode cX7_keenest 37 = .ok (.if_icmp .ge 61, 3) := dk_162 0 61 (dk_at dksX7_keenest_1 13 rfl rfl)
theorem dX7_keenest_40 : decode cX7_keenest 40 = .ok (.aload_n 0, 1) := dk_42 (dk_at dksX7_keenest_1 16 rfl rfl)
theorem dX7_keenest_41 : decode cX7_keenest 41 = .ok (.iload 4, 2) := dk_21 4 (dk_at dksX7_keenest_1 17 rfl rfl)
theorem dX7_keenest_43 : decode cX7_keenest 43 = .ok (.putfield 449, 3) := dk_181 1 193 (dk_at dksX7_keenest_1 19 rfl rfl)
theorem dX7_keenest_46 : decode cX7_keenest 46 = .ok (.aload_n 0, 1) := dk_42 (dk_at dksX7_keenest_1 22 rfl rfl)
theorem dX7_keenest_47 : decode cX7_keenest 47 = .ok (.bipush 8, 2) := dk_16 8 (dk_at dksX7_keenest_2 0 rfl rfl)
theorem dX7_keenest_49 : decode cX7_keenest 49 = .ok (.aload_n 0, 1) := dk_42 (dk_at dksX7_keenest_2 2 rfl rfl)
theorem dX7_keenest_50 : decode cX7_keenest 50 = .ok (.invokevirtual 343, 3) := dk_182 1 87 (dk_at dksX7_keenest_2 3 rfl rfl)
theorem dX7_keenest_53 : decode cX7_keenest 53 = .ok (.iload_n 1, 1) := dk_27 (dk_at dksX7_keenest_2 6 rfl rfl)
theorem dX7_keenest_54 : decode cX7_keenest 54 = .ok (.invokevirtual 502, 3) := dk_182 1 246 (dk_at dksX7_keenest_2 7 rfl rfl)
theorem dX7_keenest_57 : decode cX7_keenest 57 = .ok (.aload_n 0, 1) := dk_42 (dk_at dksX7_keenest_2 10 rfl rfl)
theorem dX7_keenest_58 : decode cX7_keenest 58 = .ok (.getfield 425, 3) := dk_180 1 169 (dk_at dksX7_keenest_2 11 rfl rfl)
theorem dX7_keenest_61 : decode cX7_keenest 61 = .ok (.aload_n 0, 1) := dk_42 (dk_at dksX7_keenest_2 14 rfl rfl)
theorem dX7_keenest_62 : decode cX7_keenest 62 = .ok (.getfield 51, 3) := dk_180 0 51 (dk_at dksX7_keenest_2 15 rfl rfl)
theorem dX7_keenest_65 : decode cX7_keenest 65 = .ok (.iload 4, 2) := dk_21 4 (dk_at dksX7_keenest_2 18 rfl rfl)
theorem dX7_keenest_67 : decode cX7_keenest 67 = .ok (.iaload, 1) := dk_46 (dk_at dksX7_keenest_2 20 rfl rfl)
theorem dX7_keenest_68 : decode cX7_keenest 68 = .ok (.isub, 1) := dk_100 (dk_at dksX7_keenest_2 21 rfl rfl)
theorem dX7_keenest_69 : decode cX7_keenest 69 = .ok (.iload_n 3, 1) := dk_29 (dk_at dksX7_keenest_2 22 rfl rfl)
theorem dX7_keenest_70 : decode cX7_keenest 70 = .ok (.if_icmp .gt 6, 3) := dk_163 0 6 (dk_at dksX7_keenest_3 0 rfl rfl)
theorem dX7_keenest_73 : decode cX7_keenest 73 = .ok (.goto 19, 3) := dk_167 0 19 (dk_at dksX7_keenest_3 3 rfl rfl)
theorem dX7_keenest_76 : decode cX7_keenest 76 = .ok (.iload 4, 2) := dk_21 4 (dk_at dksX7_keenest_3 6 rfl rfl)
theorem dX7_keenest_78 : decode cX7_keenest 78 = .ok (.istore_n 2, 1) := dk_61 (dk_at dksX7_keenest_3 8 rfl rfl)
theorem dX7_keenest_79 : decode cX7_keenest 79 = .ok (.aload_n 0, 1) := dk_42 (dk_at dksX7_keenest_3 9 rfl rfl)
theorem dX7_keenest_80 : decode cX7_keenest 80 = .ok (.getfield 425, 3) := dk_180 1 169 (dk_at dksX7_keenest_3 10 rfl rfl)
theorem dX7_keenest_83 : decode cX7_keenest 83 = .ok (.aload_n 0, 1) := dk_42 (dk_at dksX7_keenest_3 13 rfl rfl)
theorem dX7_keenest_84 : decode cX7_keenest 84 = .ok (.getfield 51, 3) := dk_180 0 51 (dk_at dksX7_keenest_3 14 rfl rfl)
theorem dX7_keenest_87 : decode cX7_keenest 87 = .ok (.iload 4, 2) := dk_21 4 (dk_at dksX7_keenest_3 17 rfl rfl)
theorem dX7_keenest_89 : decode cX7_keenest 89 = .ok (.iaload, 1) := dk_46 (dk_at dksX7_keenest_3 19 rfl rfl)
theorem dX7_keenest_90 : decode cX7_keenest 90 = .ok (.isub, 1) := dk_100 (dk_at dksX7_keenest_3 20 rfl rfl)
theorem dX7_keenest_91 : decode cX7_keenest 91 = .ok (.istore_n 3, 1) := dk_62 (dk_at dksX7_keenest_3 21 rfl rfl)
theorem dX7_keenest_92 : decode cX7_keenest 92 = .ok (.iinc 4 1, 3) := dk_132 4 1 (dk_at dksX7_keenest_4 0 rfl rfl)
theorem dX7_keenest_95 : decode cX7_keenest 95 = .ok (.goto (-66), 3) := dk_167 255 190 (dk_at dksX7_keenest_4 3 rfl rfl)
theorem dX7_keenest_98 : decode cX7_keenest 98 = .ok (.iload_n 2, 1) := dk_28 (dk_at dksX7_keenest_4 6 rfl rfl)
theorem dX7_keenest_99 : decode cX7_keenest 99 = .ok (.ireturn, 1) := dk_172 (dk_at dksX7_keenest_4 7 rfl rfl)
abbrev cX7_seen : ByteArray := prog_43_method_142_code
def yX7_seen : MethodName := ⟨RX7, "seen", "(II)I"⟩
def dkwX7_seen_1 : List UInt8 := [182, 2, 49, 42, 180, 1, 196, 172]
abbrev dktX7_seen_1 : List UInt8 := dkwX7_seen_1 ++ []
def dkwX7_seen_0 : List UInt8 := [42, 42, 27, 28, 182, 2, 46, 181, 0, 77, 42, 180, 0, 77, 158, 0, 5, 3, 172, 42, 27, 28]
abbrev dktX7_seen_0 : List UInt8 := dkwX7_seen_0 ++ dktX7_seen_1
theorem dksX7_seen_0 : cX7_seen.data.toList.drop 0 = dktX7_seen_0 := by decide +kernel
theorem dksX7_seen_1 : cX7_seen.data.toList.drop 22 = dktX7_seen_1 := dk_seg dksX7_seen_0 22 rfl rfl
theorem dX7_seen_0 : decode cX7_seen 0 = .ok (.aload_n 0, 1) := dk_42 (dk_at dksX7_seen_0 0 rfl rfl)
theorem dX7_seen_1 : decode cX7_seen 1 = .ok (.aload_n 0, 1) := dk_42 (dk_at dksX7_seen_0 1 rfl rfl)
theorem dX7_seen_2 : decode cX7_seen 2 = .ok (.iload_n 1, 1) := dk_27 (dk_at dksX7_seen_0 2 rfl rfl)
theorem dX7_seen_3 : decode cX7_seen 3 = .ok (.iload_n 2, 1) := dk_28 (dk_at dksX7_seen_0 3 rfl rfl)
theorem dX7_seen_4 : decode cX7_seen 4 = .ok (.invokevirtual 558, 3) := dk_182 2 46 (dk_at dksX7_seen_0 4 rfl rfl)
theorem dX7_seen_7 : decode cX7_seen 7 = .ok (.putfield 77, 3) := dk_181 0 77 (dk_at dksX7_seen_0 7 rfl rfl)
theorem dX7_seen_10 : decode cX7_seen 10 = .ok (.aload_n 0, 1) := dk_42 (dk_at dksX7_seen_0 10 rfl rfl)
theorem dX7_seen_11 : decode cX7_seen 11 = .ok (.getfield 77, 3) := dk_180 0 77 (dk_at dksX7_seen_0 11 rfl rfl)
theorem dX7_seen_14 : decode cX7_seen 14 = .ok (.ifCond .le 5, 3) := dk_158 0 5 (dk_at dksX7_seen_0 14 rfl rfl)
theorem dX7_seen_17 : decode cX7_seen 17 = .ok (.iconst 0, 1) := dk_3 (dk_at dksX7_seen_0 17 rfl rfl)
theorem dX7_seen_18 : decode cX7_seen 18 = .ok (.ireturn, 1) := dk_172 (dk_at dksX7_seen_0 18 rfl rfl)
theorem dX7_seen_19 : decode cX7_seen 19 = .ok (.aload_n 0, 1) := dk_42 (dk_at dksX7_seen_0 19 rfl rfl)
theorem dX7_seen_20 : decode cX7_seen 20 = .ok (.iload_n 1, 1) := dk_27 (dk_at dksX7_seen_0 20 rfl rfl)
theorem dX7_seen_21 : decode cX7_seen 21 = .ok (.iload_n 2, 1) := dk_28 (dk_at dksX7_seen_0 21 rfl rfl)
theorem dX7_seen_22 : decode cX7_seen 22 = .ok (.invokevirtual 561, 3) := dk_182 2 49 (dk_at dksX7_seen_1 0 rfl rfl)
theorem dX7_seen_25 : decode cX7_seen 25 = .ok (.aload_n 0, 1) := dk_42 (dk_at dksX7_seen_1 3 rfl rfl)
theorem dX7_seen_26 : decode cX7_seen 26 = .ok (.getfield 452, 3) := dk_180 1 196 (dk_at dksX7_seen_1 4 rfl rfl)
theorem dX7_seen_29 : decode cX7_seen 29 = .ok (.ireturn, 1) := dk_172 (dk_at dksX7_seen_1 7 rfl rfl)
abbrev cX7_seenFault : ByteArray := prog_43_method_140_code
def yX7_seenFault : MethodName := ⟨RX7, "seenFault", "(II)I"⟩
def dkwX7_seenFault_1 : List UInt8 := [167, 0, 4, 29, 172]
abbrev dktX7_seenFault_1 : List UInt8 := dkwX7_seenFault_1 ++ []
def dkwX7_seenFault_0 : List UInt8 := [42, 27, 182, 2, 12, 62, 29, 154, 0, 19, 28, 133, 9, 20, 1, 85, 184, 0, 138, 154, 0, 7, 6]
abbrev dktX7_seenFault_0 : List UInt8 := dkwX7_seenFault_0 ++ dktX7_seenFault_1
theorem dksX7_seenFault_0 : cX7_seenFault.data.toList.drop 0 = dktX7_seenFault_0 := by decide +kernel
theorem dksX7_seenFault_1 : cX7_seenFault.data.toList.drop 23 = dktX7_seenFault_1 := dk_seg dksX7_seenFault_0 23 rfl rfl
theorem dX7_seenFault_0 : decode cX7_seenFault 0 = .ok (.aload_n 0, 1) := dk_42 (dk_at dksX7_seenFault_0 0 rfl rfl)
theorem dX7_seenFault_1 : decode cX7_seenFault 1 = .ok (.iload_n 1, 1) := dk_27 (dk_at dksX7_seenFault_0 1 rfl rfl)
theorem dX7_seenFault_2 : decode cX7_seenFault 2 = .ok (.invokevirtual 524, 3) := dk_182 2 12 (dk_at dksX7_seenFault_0 2 rfl rfl)
theorem dX7_seenFault_5 : decode cX7_seenFault 5 = .ok (.istore_n 3, 1) := dk_62 (dk_at dksX7_seenFault_0 5 rfl rfl)
theorem dX7_seenFault_6 : decode cX7_seenFault 6 = .ok (.iload_n 3, 1) := dk_29 (dk_at dksX7_seenFault_0 6 rfl rfl)
theorem dX7_seenFault_7 : decode cX7_seenFault 7 = .ok (.ifCond .ne 19, 3) := dk_154 0 19 (dk_at dksX7_seenFault_0 7 rfl rfl)
theorem dX7_seenFault_10 : decode cX7_seenFault 10 = .ok (.iload_n 2, 1) := dk_28 (dk_at dksX7_seenFault_0 10 rfl rfl)
theorem dX7_seenFault_11 : decode cX7_seenFault 11 = .ok (.i2l, 1) := dk_133 (dk_at dksX7_seenFault_0 11 rfl rfl)
theorem dX7_seenFault_12 : decode cX7_seenFault 12 = .ok (.lconst 0, 1) := dk_9 (dk_at dksX7_seenFault_0 12 rfl rfl)
theorem dX7_seenFault_13 : decode cX7_seenFault 13 = .ok (.ldc2_w 341, 3) := dk_20 1 85 (dk_at dksX7_seenFault_0 13 rfl rfl)
theorem dX7_seenFault_16 : decode cX7_seenFault 16 = .ok (.invokestatic 138, 3) := dk_184 0 138 (dk_at dksX7_seenFault_0 16 rfl rfl)
theorem dX7_seenFault_19 : decode cX7_seenFault 19 = .ok (.ifCond .ne 7, 3) := dk_154 0 7 (dk_at dksX7_seenFault_0 19 rfl rfl)
theorem dX7_seenFault_22 : decode cX7_seenFault 22 = .ok (.iconst 3, 1) := dk_6 (dk_at dksX7_seenFault_0 22 rfl rfl)
theorem dX7_seenFault_23 : decode cX7_seenFault 23 = .ok (.goto 4, 3) := dk_167 0 4 (dk_at dksX7_seenFault_1 0 rfl rfl)
theorem dX7_seenFault_26 : decode cX7_seenFault 26 = .ok (.iload_n 3, 1) := dk_29 (dk_at dksX7_seenFault_1 3 rfl rfl)
theorem dX7_seenFault_27 : decode cX7_seenFault 27 = .ok (.ireturn, 1) := dk_172 (dk_at dksX7_seenFault_1 4 rfl rfl)
abbrev cX7_laysSeen : ByteArray := prog_43_method_141_code
def yX7_laysSeen : MethodName := ⟨RX7, "laysSeen", "(II)V"⟩
def dkwX7_laysSeen_2 : List UInt8 := [132, 3, 1, 167, 255, 239, 42, 182, 1, 21, 42, 16, 13, 3, 28, 182, 1, 246, 177]
abbrev dktX7_laysSeen_2 : List UInt8 := dkwX7_laysSeen_2 ++ []
def dkwX7_laysSeen_1 : List UInt8 := [120, 4, 100, 181, 2, 43, 3, 62, 29, 17, 2, 88, 162, 0, 16, 42, 180, 0, 65, 29, 3, 79]
abbrev dktX7_laysSeen_1 : List UInt8 := dkwX7_laysSeen_1 ++ dktX7_laysSeen_2
def dkwX7_laysSeen_0 : List UInt8 := [42, 27, 181, 1, 193, 42, 42, 182, 0, 253, 154, 0, 7, 3, 167, 0, 13, 4, 42, 182, 0, 253, 4, 100]
abbrev dktX7_laysSeen_0 : List UInt8 := dkwX7_laysSeen_0 ++ dktX7_laysSeen_1
theorem dksX7_laysSeen_0 : cX7_laysSeen.data.toList.drop 0 = dktX7_laysSeen_0 := by decide +kernel
theorem dksX7_laysSeen_1 : cX7_laysSeen.data.toList.drop 24 = dktX7_laysSeen_1 := dk_seg dksX7_laysSeen_0 24 rfl rfl
theorem dksX7_laysSeen_2 : cX7_laysSeen.data.toList.drop 46 = dktX7_laysSeen_2 := dk_seg dksX7_laysSeen_1 22 rfl rfl
theorem dX7_laysSeen_0 : decode cX7_laysSeen 0 = .ok (.aload_n 0, 1) := dk_42 (dk_at dksX7_laysSeen_0 0 rfl rfl)
theorem dX7_laysSeen_1 : decode cX7_laysSeen 1 = .ok (.iload_n 1, 1) := dk_27 (dk_at dksX7_laysSeen_0 1 rfl rfl)
theorem dX7_laysSeen_2 : decode cX7_laysSeen 2 = .ok (.putfield 449, 3) := dk_181 1 193 (dk_at dksX7_laysSeen_0 2 rfl rfl)
theorem dX7_laysSeen_5 : decode cX7_laysSeen 5 = .ok (.aload_n 0, 1) := dk_42 (dk_at dksX7_laysSeen_0 5 rfl rfl)
theorem dX7_laysSeen_6 : decode cX7_laysSeen 6 = .ok (.aload_n 0, 1) := dk_42 (dk_at dksX7_laysSeen_0 6 rfl rfl)
theorem dX7_laysSeen_7 : decode cX7_laysSeen 7 = .ok (.invokevirtual 253, 3) := dk_182 0 253 (dk_at dksX7_laysSeen_0 7 rfl rfl)
theorem dX7_laysSeen_10 : decode cX7_laysSeen 10 = .ok (.ifCond .ne 7, 3) := dk_154 0 7 (dk_at dksX7_laysSeen_0 10 rfl rfl)
theorem dX7_laysSeen_13 : decode cX7_laysSeen 13 = .ok (.iconst 0, 1) := dk_3 (dk_at dksX7_laysSeen_0 13 rfl rfl)
theorem dX7_laysSeen_14 : decode cX7_laysSeen 14 = .ok (.goto 13, 3) := dk_167 0 13 (dk_at dksX7_laysSeen_0 14 rfl rfl)
theorem dX7_laysSeen_17 : decode cX7_laysSeen 17 = .ok (.iconst 1, 1) := dk_4 (dk_at dksX7_laysSeen_0 17 rfl rfl)
theorem dX7_laysSeen_18 : decode cX7_laysSeen 18 = .ok (.aload_n 0, 1) := dk_42 (dk_at dksX7_laysSeen_0 18 rfl rfl)
theorem dX7_laysSeen_19 : decode cX7_laysSeen 19 = .ok (.invokevirtual 253, 3) := dk_182 0 253 (dk_at dksX7_laysSeen_0 19 rfl rfl)
theorem dX7_laysSeen_22 : decode cX7_laysSeen 22 = .ok (.iconst 1, 1) := dk_4 (dk_at dksX7_laysSeen_0 22 rfl rfl)
theorem dX7_laysSeen_23 : decode cX7_laysSeen 23 = .ok (.isub, 1) := dk_100 (dk_at dksX7_laysSeen_0 23 rfl rfl)
theorem dX7_laysSeen_24 : decode cX7_laysSeen 24 = .ok (.ishl, 1) := dk_120 (dk_at dksX7_laysSeen_1 0 rfl rfl)
theorem dX7_laysSeen_25 : decode cX7_laysSeen 25 = .ok (.iconst 1, 1) := dk_4 (dk_at dksX7_laysSeen_1 1 rfl rfl)
theorem dX7_laysSeen_26 : decode cX7_laysSeen 26 = .ok (.isub, 1) := dk_100 (dk_at dksX7_laysSeen_1 2 rfl rfl)
theorem dX7_laysSeen_27 : decode cX7_laysSeen 27 = .ok (.putfield 555, 3) := dk_181 2 43 (dk_at dksX7_laysSeen_1 3 rfl rfl)
theorem dX7_laysSeen_30 : decode cX7_laysSeen 30 = .ok (.iconst 0, 1) := dk_3 (dk_at dksX7_laysSeen_1 6 rfl rfl)
theorem dX7_laysSeen_31 : decode cX7_laysSeen 31 = .ok (.istore_n 3, 1) := dk_62 (dk_at dksX7_laysSeen_1 7 rfl rfl)
theorem dX7_laysSeen_32 : decode cX7_laysSeen 32 = .ok (.iload_n 3, 1) := dk_29 (dk_at dksX7_laysSeen_1 8 rfl rfl)
theorem dX7_laysSeen_33 : decode cX7_laysSeen 33 = .ok (.sipush 600, 3) := dk_17 2 88 (dk_at dksX7_laysSeen_1 9 rfl rfl)
theorem dX7_laysSeen_36 : decode cX7_laysSeen 36 = .ok (.if_icmp .ge 16, 3) := dk_162 0 16 (dk_at dksX7_laysSeen_1 12 rfl rfl)
theorem dX7_laysSeen_39 : decode cX7_laysSeen 39 = .ok (.aload_n 0, 1) := dk_42 (dk_at dksX7_laysSeen_1 15 rfl rfl)
theorem dX7_laysSeen_40 : decode cX7_laysSeen 40 = .ok (.getfield 65, 3) := dk_180 0 65 (dk_at dksX7_laysSeen_1 16 rfl rfl)
theorem dX7_laysSeen_43 : decode cX7_laysSeen 43 = .ok (.iload_n 3, 1) := dk_29 (dk_at dksX7_laysSeen_1 19 rfl rfl)
theorem dX7_laysSeen_44 : decode cX7_laysSeen 44 = .ok (.iconst 0, 1) := dk_3 (dk_at dksX7_laysSeen_1 20 rfl rfl)
theorem dX7_laysSeen_45 : decode cX7_laysSeen 45 = .ok (.iastore, 1) := dk_79 (dk_at dksX7_laysSeen_1 21 rfl rfl)
theorem dX7_laysSeen_46 : decode cX7_laysSeen 46 = .ok (.iinc 3 1, 3) := dk_132 3 1 (dk_at dksX7_laysSeen_2 0 rfl rfl)
theorem dX7_laysSeen_49 : decode cX7_laysSeen 49 = .ok (.goto (-17), 3) := dk_167 255 239 (dk_at dksX7_laysSeen_2 3 rfl rfl)
theorem dX7_laysSeen_52 : decode cX7_laysSeen 52 = .ok (.aload_n 0, 1) := dk_42 (dk_at dksX7_laysSeen_2 6 rfl rfl)
theorem dX7_laysSeen_53 : decode cX7_laysSeen 53 = .ok (.invokevirtual 277, 3) := dk_182 1 21 (dk_at dksX7_laysSeen_2 7 rfl rfl)
theorem dX7_laysSeen_56 : decode cX7_laysSeen 56 = .ok (.aload_n 0, 1) := dk_42 (dk_at dksX7_laysSeen_2 10 rfl rfl)
theorem dX7_laysSeen_57 : decode cX7_laysSeen 57 = .ok (.bipush 13, 2) := dk_16 13 (dk_at dksX7_laysSeen_2 11 rfl rfl)
theorem dX7_laysSeen_59 : decode cX7_laysSeen 59 = .ok (.iconst 0, 1) := dk_3 (dk_at dksX7_laysSeen_2 13 rfl rfl)
theorem dX7_laysSeen_60 : decode cX7_laysSeen 60 = .ok (.iload_n 2, 1) := dk_28 (dk_at dksX7_laysSeen_2 14 rfl rfl)
theorem dX7_laysSeen_61 : decode cX7_laysSeen 61 = .ok (.invokevirtual 502, 3) := dk_182 1 246 (dk_at dksX7_laysSeen_2 15 rfl rfl)
theorem dX7_laysSeen_64 : decode cX7_laysSeen 64 = .ok (.return_, 1) := dk_177 (dk_at dksX7_laysSeen_2 18 rfl rfl)
abbrev cX7_sure : ByteArray := prog_43_method_143_code
def yX7_sure : MethodName := ⟨RX7, "sure", "(II)I"⟩
def dkwX7_sure_1 : List UInt8 := [182, 2, 49, 42, 180, 1, 196, 154, 0, 7, 3, 167, 0, 7, 42, 180, 2, 43, 172]
abbrev dktX7_sure_1 : List UInt8 := dkwX7_sure_1 ++ []
def dkwX7_sure_0 : List UInt8 := [42, 42, 27, 28, 182, 2, 46, 181, 0, 77, 42, 180, 0, 77, 158, 0, 5, 3, 172, 42, 27, 28]
abbrev dktX7_sure_0 : List UInt8 := dkwX7_sure_0 ++ dktX7_sure_1
theorem dksX7_sure_0 : cX7_sure.data.toList.drop 0 = dktX7_sure_0 := by decide +kernel
theorem dksX7_sure_1 : cX7_sure.data.toList.drop 22 = dktX7_sure_1 := dk_seg dksX7_sure_0 22 rfl rfl
theorem dX7_sure_0 : decode cX7_sure 0 = .ok (.aload_n 0, 1) := dk_42 (dk_at dksX7_sure_0 0 rfl rfl)
theorem dX7_sure_1 : decode cX7_sure 1 = .ok (.aload_n 0, 1) := dk_42 (dk_at dksX7_sure_0 1 rfl rfl)
theorem dX7_sure_2 : decode cX7_sure 2 = .ok (.iload_n 1, 1) := dk_27 (dk_at dksX7_sure_0 2 rfl rfl)
theorem dX7_sure_3 : decode cX7_sure 3 = .ok (.iload_n 2, 1) := dk_28 (dk_at dksX7_sure_0 3 rfl rfl)
theorem dX7_sure_4 : decode cX7_sure 4 = .ok (.invokevirtual 558, 3) := dk_182 2 46 (dk_at dksX7_sure_0 4 rfl rfl)
theorem dX7_sure_7 : decode cX7_sure 7 = .ok (.putfield 77, 3) := dk_181 0 77 (dk_at dksX7_sure_0 7 rfl rfl)
theorem dX7_sure_10 : decode cX7_sure 10 = .ok (.aload_n 0, 1) := dk_42 (dk_at dksX7_sure_0 10 rfl rfl)
theorem dX7_sure_11 : decode cX7_sure 11 = .ok (.getfield 77, 3) := dk_180 0 77 (dk_at dksX7_sure_0 11 rfl rfl)
theorem dX7_sure_14 : decode cX7_sure 14 = .ok (.ifCond .le 5, 3) := dk_158 0 5 (dk_at dksX7_sure_0 14 rfl rfl)
theorem dX7_sure_17 : decode cX7_sure 17 = .ok (.iconst 0, 1) := dk_3 (dk_at dksX7_sure_0 17 rfl rfl)
theorem dX7_sure_18 : decode cX7_sure 18 = .ok (.ireturn, 1) := dk_172 (dk_at dksX7_sure_0 18 rfl rfl)
theorem dX7_sure_19 : decode cX7_sure 19 = .ok (.aload_n 0, 1) := dk_42 (dk_at dksX7_sure_0 19 rfl rfl)
theorem dX7_sure_20 : decode cX7_sure 20 = .ok (.iload_n 1, 1) := dk_27 (dk_at dksX7_sure_0 20 rfl rfl)
theorem dX7_sure_21 : decode cX7_sure 21 = .ok (.iload_n 2, 1) := dk_28 (dk_at dksX7_sure_0 21 rfl rfl)
theorem dX7_sure_22 : decode cX7_sure 22 = .ok (.invokevirtual 561, 3) := dk_182 2 49 (dk_at dksX7_sure_1 0 rfl rfl)
theorem dX7_sure_25 : decode cX7_sure 25 = .ok (.aload_n 0, 1) := dk_42 (dk_at dksX7_sure_1 3 rfl rfl)
theorem dX7_sure_26 : decode cX7_sure 26 = .ok (.getfield 452, 3) := dk_180 1 196 (dk_at dksX7_sure_1 4 rfl rfl)
theorem dX7_sure_29 : decode cX7_sure 29 = .ok (.ifCond .ne 7, 3) := dk_154 0 7 (dk_at dksX7_sure_1 7 rfl rfl)
theorem dX7_sure_32 : decode cX7_sure 32 = .ok (.iconst 0, 1) := dk_3 (dk_at dksX7_sure_1 10 rfl rfl)
theorem dX7_sure_33 : decode cX7_sure 33 = .ok (.goto 7, 3) := dk_167 0 7 (dk_at dksX7_sure_1 11 rfl rfl)
theorem dX7_sure_36 : decode cX7_sure 36 = .ok (.aload_n 0, 1) := dk_42 (dk_at dksX7_sure_1 14 rfl rfl)
theorem dX7_sure_37 : decode cX7_sure 37 = .ok (.getfield 555, 3) := dk_180 2 43 (dk_at dksX7_sure_1 15 rfl rfl)
theorem dX7_sure_40 : decode cX7_sure 40 = .ok (.ireturn, 1) := dk_172 (dk_at dksX7_sure_1 18 rfl rfl)
abbrev cX7_look : ByteArray := prog_43_method_144_code
def yX7_look : MethodName := ⟨RX7, "look", "(II)I"⟩
def dkwX7_look_5 : List UInt8 := [172]
abbrev dktX7_look_5 : List UInt8 := dkwX7_look_5 ++ []
def dkwX7_look_4 : List UInt8 := [21, 6, 21, 4, 161, 0, 6, 167, 0, 10, 21, 5, 62, 21, 6, 54, 4, 132, 5, 1, 167, 255, 179, 29]
abbrev dktX7_look_4 : List UInt8 := dkwX7_look_4 ++ dktX7_look_5
def dkwX7_look_3 : List UInt8 := [180, 0, 65, 16, 100, 21, 5, 104, 21, 7, 96, 46, 184, 1, 12, 54, 6, 132, 7, 1, 167, 255, 226]
abbrev dktX7_look_3 : List UInt8 := dkwX7_look_3 ++ dktX7_look_4
def dkwX7_look_2 : List UInt8 := [42, 180, 1, 196, 158, 0, 65, 3, 54, 6, 3, 54, 7, 21, 7, 16, 100, 162, 0, 29, 21, 6, 42]
abbrev dktX7_look_2 : List UInt8 := dkwX7_look_2 ++ dktX7_look_3
def dkwX7_look_1 : List UInt8 := [182, 2, 49, 2, 62, 19, 1, 175, 54, 4, 3, 54, 5, 21, 5, 42, 180, 0, 71, 27, 46, 162, 0, 72]
abbrev dktX7_look_1 : List UInt8 := dkwX7_look_1 ++ dktX7_look_2
def dkwX7_look_0 : List UInt8 := [42, 42, 27, 28, 182, 2, 46, 181, 0, 77, 42, 180, 0, 77, 158, 0, 5, 3, 172, 42, 27, 28]
abbrev dktX7_look_0 : List UInt8 := dkwX7_look_0 ++ dktX7_look_1
theorem dksX7_look_0 : cX7_look.data.toList.drop 0 = dktX7_look_0 := by decide +kernel
theorem dksX7_look_1 : cX7_look.data.toList.drop 22 = dktX7_look_1 := dk_seg dksX7_look_0 22 rfl rfl
theorem dksX7_look_2 : cX7_look.data.toList.drop 46 = dktX7_look_2 := dk_seg dksX7_look_1 24 rfl rfl
theorem dksX7_look_3 : cX7_look.data.toList.drop 69 = dktX7_look_3 := dk_seg dksX7_look_2 23 rfl rfl
theorem dksX7_look_4 : cX7_look.data.toList.drop 92 = dktX7_look_4 := dk_seg dksX7_look_3 23 rfl rfl
theorem dksX7_look_5 : cX7_look.data.toList.drop 116 = dktX7_look_5 := dk_seg dksX7_look_4 24 rfl rfl
theorem dX7_look_0 : decode cX7_look 0 = .ok (.aload_n 0, 1) := dk_42 (dk_at dksX7_look_0 0 rfl rfl)
theorem dX7_look_1 : decode cX7_look 1 = .ok (.aload_n 0, 1) := dk_42 (dk_at dksX7_look_0 1 rfl rfl)
theorem dX7_look_2 : decode cX7_look 2 = .ok (.iload_n 1, 1) := dk_27 (dk_at dksX7_look_0 2 rfl rfl)
theorem dX7_look_3 : decode cX7_look 3 = .ok (.iload_n 2, 1) := dk_28 (dk_at dksX7_look_0 3 rfl rfl)
theorem dX7_look_4 : decode cX7_look 4 = .ok (.invokevirtual 558, 3) := dk_182 2 46 (dk_at dksX7_look_0 4 rfl rfl)
theorem dX7_look_7 : decode cX7_look 7 = .ok (.putfield 77, 3) := dk_181 0 77 (dk_at dksX7_look_0 7 rfl rfl)
theorem dX7_look_10 : decode cX7_look 10 = .ok (.aload_n 0, 1) := dk_42 (dk_at dksX7_look_0 10 rfl rfl)
theorem dX7_look_11 : decode cX7_look 11 = .ok (.getfield 77, 3) := dk_180 0 77 (dk_at dksX7_look_0 11 rfl rfl)
theorem dX7_look_14 : decode cX7_look 14 = .ok (.ifCond .le 5, 3) := dk_158 0 5 (dk_at dksX7_look_0 14 rfl rfl)
theorem dX7_look_17 : decode cX7_look 17 = .ok (.iconst 0, 1) := dk_3 (dk_at dksX7_look_0 17 rfl rfl)
theorem dX7_look_18 : decode cX7_look 18 = .ok (.ireturn, 1) := dk_172 (dk_at dksX7_look_0 18 rfl rfl)
theorem dX7_look_19 : decode cX7_look 19 = .ok (.aload_n 0, 1) := dk_42 (dk_at dksX7_look_0 19 rfl rfl)
theorem dX7_look_20 : decode cX7_look 20 = .ok (.iload_n 1, 1) := dk_27 (dk_at dksX7_look_0 20 rfl rfl)
theorem dX7_look_21 : decode cX7_look 21 = .ok (.iload_n 2, 1) := dk_28 (dk_at dksX7_look_0 21 rfl rfl)
theorem dX7_look_22 : decode cX7_look 22 = .ok (.invokevirtual 561, 3) := dk_182 2 49 (dk_at dksX7_look_1 0 rfl rfl)
theorem dX7_look_25 : decode cX7_look 25 = .ok (.iconst (-1), 1) := dk_2 (dk_at dksX7_look_1 3 rfl rfl)
theorem dX7_look_26 : decode cX7_look 26 = .ok (.istore_n 3, 1) := dk_62 (dk_at dksX7_look_1 4 rfl rfl)
theorem dX7_look_27 : decode cX7_look 27 = .ok (.ldc_w 431, 3) := dk_19 1 175 (dk_at dksX7_look_1 5 rfl rfl)
theorem dX7_look_30 : decode cX7_look 30 = .ok (.istore 4, 2) := dk_54 4 (dk_at dksX7_look_1 8 rfl rfl)
theorem dX7_look_32 : decode cX7_look 32 = .ok (.iconst 0, 1) := dk_3 (dk_at dksX7_look_1 10 rfl rfl)
theorem dX7_look_33 : decode cX7_look 33 = .ok (.istore 5, 2) := dk_54 5 (dk_at dksX7_look_1 11 rfl rfl)
theorem dX7_look_35 : decode cX7_look 35 = .ok (.iload 5, 2) := dk_21 5 (dk_at dksX7_look_1 13 rfl rfl)
theorem dX7_look_37 : decode cX7_look 37 = .ok (.aload_n 0, 1) := dk_42 (dk_at dksX7_look_1 15 rfl rfl)
theorem dX7_look_38 : decode cX7_look 38 = .ok (.getfield 71, 3) := dk_180 0 71 (dk_at dksX7_look_1 16 rfl rfl)
theorem dX7_look_41 : decode cX7_look 41 = .ok (.iload_n 1, 1) := dk_27 (dk_at dksX7_look_1 19 rfl rfl)
theorem dX7_look_42 : decode cX7_look 42 = .ok (.iaload, 1) := dk_46 (dk_at dksX7_look_1 20 rfl rfl)
theorem dX7_look_43 : decode cX7_look 43 = .ok (.if_icmp .ge 72, 3) := dk_162 0 72 (dk_at dksX7_look_1 21 rfl rfl)
theorem dX7_look_46 : decode cX7_look 46 = .ok (.aload_n 0, 1) := dk_42 (dk_at dksX7_look_2 0 rfl rfl)
theorem dX7_look_47 : decode cX7_look 47 = .ok (.getfield 452, 3) := dk_180 1 196 (dk_at dksX7_look_2 1 rfl rfl)
theorem dX7_look_50 : decode cX7_look 50 = .ok (.ifCond .le 65, 3) := dk_158 0 65 (dk_at dksX7_look_2 4 rfl rfl)
theorem dX7_look_53 : decode cX7_look 53 = .ok (.iconst 0, 1) := dk_3 (dk_at dksX7_look_2 7 rfl rfl)
theorem dX7_look_54 : decode cX7_look 54 = .ok (.istore 6, 2) := dk_54 6 (dk_at dksX7_look_2 8 rfl rfl)
theorem dX7_look_56 : decode cX7_look 56 = .ok (.iconst 0, 1) := dk_3 (dk_at dksX7_look_2 10 rfl rfl)
theorem dX7_look_57 : decode cX7_look 57 = .ok (.istore 7, 2) := dk_54 7 (dk_at dksX7_look_2 11 rfl rfl)
theorem dX7_look_59 : decode cX7_look 59 = .ok (.iload 7, 2) := dk_21 7 (dk_at dksX7_look_2 13 rfl rfl)
theorem dX7_look_61 : decode cX7_look 61 = .ok (.bipush 100, 2) := dk_16 100 (dk_at dksX7_look_2 15 rfl rfl)
theorem dX7_look_63 : decode cX7_look 63 = .ok (.if_icmp .ge 29, 3) := dk_162 0 29 (dk_at dksX7_look_2 17 rfl rfl)
theorem dX7_look_66 : decode cX7_look 66 = .ok (.iload 6, 2) := dk_21 6 (dk_at dksX7_look_2 20 rfl rfl)
theorem dX7_look_68 : decode cX7_look 68 = .ok (.aload_n 0, 1) := dk_42 (dk_at dksX7_look_2 22 rfl rfl)
theorem dX7_look_69 : decode cX7_look 69 = .ok (.getfield 65, 3) := dk_180 0 65 (dk_at dksX7_look_3 0 rfl rfl)
theorem dX7_look_72 : decode cX7_look 72 = .ok (.bipush 100, 2) := dk_16 100 (dk_at dksX7_look_3 3 rfl rfl)
theorem dX7_look_74 : decode cX7_look 74 = .ok (.iload 5, 2) := dk_21 5 (dk_at dksX7_look_3 5 rfl rfl)
theorem dX7_look_76 : decode cX7_look 76 = .ok (.imul, 1) := dk_104 (dk_at dksX7_look_3 7 rfl rfl)
theorem dX7_look_77 : decode cX7_look 77 = .ok (.iload 7, 2) := dk_21 7 (dk_at dksX7_look_3 8 rfl rfl)
theorem dX7_look_79 : decode cX7_look 79 = .ok (.iadd, 1) := dk_96 (dk_at dksX7_look_3 10 rfl rfl)
theorem dX7_look_80 : decode cX7_look 80 = .ok (.iaload, 1) := dk_46 (dk_at dksX7_look_3 11 rfl rfl)
theorem dX7_look_81 : decode cX7_look 81 = .ok (.invokestatic 268, 3) := dk_184 1 12 (dk_at dksX7_look_3 12 rfl rfl)
theorem dX7_look_84 : decode cX7_look 84 = .ok (.istore 6, 2) := dk_54 6 (dk_at dksX7_look_3 15 rfl rfl)
theorem dX7_look_86 : decode cX7_look 86 = .ok (.iinc 7 1, 3) := dk_132 7 1 (dk_at dksX7_look_3 17 rfl rfl)
theorem dX7_look_89 : decode cX7_look 89 = .ok (.goto (-30), 3) := dk_167 255 226 (dk_at dksX7_look_3 20 rfl rfl)
theorem dX7_look_92 : decode cX7_look 92 = .ok (.iload 6, 2) := dk_21 6 (dk_at dksX7_look_4 0 rfl rfl)
theorem dX7_look_94 : decode cX7_look 94 = .ok (.iload 4, 2) := dk_21 4 (dk_at dksX7_look_4 2 rfl rfl)
theorem dX7_look_96 : decode cX7_look 96 = .ok (.if_icmp .lt 6, 3) := dk_161 0 6 (dk_at dksX7_look_4 4 rfl rfl)
theorem dX7_look_99 : decode cX7_look 99 = .ok (.goto 10, 3) := dk_167 0 10 (dk_at dksX7_look_4 7 rfl rfl)
theorem dX7_look_102 : decode cX7_look 102 = .ok (.iload 5, 2) := dk_21 5 (dk_at dksX7_look_4 10 rfl rfl)
theorem dX7_look_104 : decode cX7_look 104 = .ok (.istore_n 3, 1) := dk_62 (dk_at dksX7_look_4 12 rfl rfl)
theorem dX7_look_105 : decode cX7_look 105 = .ok (.iload 6, 2) := dk_21 6 (dk_at dksX7_look_4 13 rfl rfl)
theorem dX7_look_107 : decode cX7_look 107 = .ok (.istore 4, 2) := dk_54 4 (dk_at dksX7_look_4 15 rfl rfl)
theorem dX7_look_109 : decode cX7_look 109 = .ok (.iinc 5 1, 3) := dk_132 5 1 (dk_at dksX7_look_4 17 rfl rfl)
theorem dX7_look_112 : decode cX7_look 112 = .ok (.goto (-77), 3) := dk_167 255 179 (dk_at dksX7_look_4 20 rfl rfl)
theorem dX7_look_115 : decode cX7_look 115 = .ok (.iload_n 3, 1) := dk_29 (dk_at dksX7_look_4 23 rfl rfl)
theorem dX7_look_116 : decode cX7_look 116 = .ok (.ireturn, 1) := dk_172 (dk_at dksX7_look_5 0 rfl rfl)
abbrev cX7_tray : ByteArray := prog_43_method_146_code
def yX7_tray : MethodName := ⟨RX7, "tray", "(III)V"⟩
def dkwX7_tray_4 : List UInt8 := [177]
abbrev dktX7_tray_4 : List UInt8 := dkwX7_tray_4 ++ []
def dkwX7_tray_3 : List UInt8 := [16, 30, 162, 0, 22, 42, 180, 0, 74, 16, 30, 27, 104, 21, 4, 96, 9, 80, 132, 4, 1, 167, 255, 233]
abbrev dktX7_tray_3 : List UInt8 := dkwX7_tray_3 ++ dktX7_tray_4
def dkwX7_tray_2 : List UInt8 := [158, 0, 4, 177, 42, 180, 0, 68, 27, 28, 79, 42, 180, 0, 71, 27, 29, 79, 3, 54, 4, 21, 4]
abbrev dktX7_tray_2 : List UInt8 := dkwX7_tray_2 ++ dktX7_tray_3
def dkwX7_tray_1 : List UInt8 := [29, 133, 9, 20, 1, 152, 184, 0, 138, 154, 0, 7, 5, 167, 0, 4, 3, 181, 0, 77, 42, 180, 0, 77]
abbrev dktX7_tray_1 : List UInt8 := dkwX7_tray_1 ++ dktX7_tray_2
def dkwX7_tray_0 : List UInt8 := [42, 27, 184, 1, 116, 154, 0, 7, 4, 167, 0, 32, 28, 133, 9, 20, 1, 3, 184, 0, 138, 153, 0, 15]
abbrev dktX7_tray_0 : List UInt8 := dkwX7_tray_0 ++ dktX7_tray_1
theorem dksX7_tray_0 : cX7_tray.data.toList.drop 0 = dktX7_tray_0 := by decide +kernel
theorem dksX7_tray_1 : cX7_tray.data.toList.drop 24 = dktX7_tray_1 := dk_seg dksX7_tray_0 24 rfl rfl
theorem dksX7_tray_2 : cX7_tray.data.toList.drop 48 = dktX7_tray_2 := dk_seg dksX7_tray_1 24 rfl rfl
theorem dksX7_tray_3 : cX7_tray.data.toList.drop 71 = dktX7_tray_3 := dk_seg dksX7_tray_2 23 rfl rfl
theorem dksX7_tray_4 : cX7_tray.data.toList.drop 95 = dktX7_tray_4 := dk_seg dksX7_tray_3 24 rfl rfl
theorem dX7_tray_0 : decode cX7_tray 0 = .ok (.aload_n 0, 1) := dk_42 (dk_at dksX7_tray_0 0 rfl rfl)
theorem dX7_tray_1 : decode cX7_tray 1 = .ok (.iload_n 1, 1) := dk_27 (dk_at dksX7_tray_0 1 rfl rfl)
theorem dX7_tray_2 : decode cX7_tray 2 = .ok (.invokestatic 372, 3) := dk_184 1 116 (dk_at dksX7_tray_0 2 rfl rfl)
theorem dX7_tray_5 : decode cX7_tray 5 = .ok (.ifCond .ne 7, 3) := dk_154 0 7 (dk_at dksX7_tray_0 5 rfl rfl)
theorem dX7_tray_8 : decode cX7_tray 8 = .ok (.iconst 1, 1) := dk_4 (dk_at dksX7_tray_0 8 rfl rfl)
theorem dX7_tray_9 : decode cX7_tray 9 = .ok (.goto 32, 3) := dk_167 0 32 (dk_at dksX7_tray_0 9 rfl rfl)
theorem dX7_tray_12 : decode cX7_tray 12 = .ok (.iload_n 2, 1) := dk_28 (dk_at dksX7_tray_0 12 rfl rfl)
theorem dX7_tray_13 : decode cX7_tray 13 = .ok (.i2l, 1) := dk_133 (dk_at dksX7_tray_0 13 rfl rfl)
theorem dX7_tray_14 : decode cX7_tray 14 = .ok (.lconst 0, 1) := dk_9 (dk_at dksX7_tray_0 14 rfl rfl)
theorem dX7_tray_15 : decode cX7_tray 15 = .ok (.ldc2_w 259, 3) := dk_20 1 3 (dk_at dksX7_tray_0 15 rfl rfl)
theorem dX7_tray_18 : decode cX7_tray 18 = .ok (.invokestatic 138, 3) := dk_184 0 138 (dk_at dksX7_tray_0 18 rfl rfl)
theorem dX7_tray_21 : decode cX7_tray 21 = .ok (.ifCond .eq 15, 3) := dk_153 0 15 (dk_at dksX7_tray_0 21 rfl rfl)
theorem dX7_tray_24 : decode cX7_tray 24 = .ok (.iload_n 3, 1) := dk_29 (dk_at dksX7_tray_1 0 rfl rfl)
theorem dX7_tray_25 : decode cX7_tray 25 = .ok (.i2l, 1) := dk_133 (dk_at dksX7_tray_1 1 rfl rfl)
theorem dX7_tray_26 : decode cX7_tray 26 = .ok (.lconst 0, 1) := dk_9 (dk_at dksX7_tray_1 2 rfl rfl)
theorem dX7_tray_27 : decode cX7_tray 27 = .ok (.ldc2_w 408, 3) := dk_20 1 152 (dk_at dksX7_tray_1 3 rfl rfl)
theorem dX7_tray_30 : decode cX7_tray 30 = .ok (.invokestatic 138, 3) := dk_184 0 138 (dk_at dksX7_tray_1 6 rfl rfl)
theorem dX7_tray_33 : decode cX7_tray 33 = .ok (.ifCond .ne 7, 3) := dk_154 0 7 (dk_at dksX7_tray_1 9 rfl rfl)
theorem dX7_tray_36 : decode cX7_tray 36 = .ok (.iconst 2, 1) := dk_5 (dk_at dksX7_tray_1 12 rfl rfl)
theorem dX7_tray_37 : decode cX7_tray 37 = .ok (.goto 4, 3) := dk_167 0 4 (dk_at dksX7_tray_1 13 rfl rfl)
theorem dX7_tray_40 : decode cX7_tray 40 = .ok (.iconst 0, 1) := dk_3 (dk_at dksX7_tray_1 16 rfl rfl)
theorem dX7_tray_41 : decode cX7_tray 41 = .ok (.putfield 77, 3) := dk_181 0 77 (dk_at dksX7_tray_1 17 rfl rfl)
theorem dX7_tray_44 : decode cX7_tray 44 = .ok (.aload_n 0, 1) := dk_42 (dk_at dksX7_tray_1 20 rfl rfl)
theorem dX7_tray_45 : decode cX7_tray 45 = .ok (.getfield 77, 3) := dk_180 0 77 (dk_at dksX7_tray_1 21 rfl rfl)
theorem dX7_tray_48 : decode cX7_tray 48 = .ok (.ifCond .le 4, 3) := dk_158 0 4 (dk_at dksX7_tray_2 0 rfl rfl)
theorem dX7_tray_51 : decode cX7_tray 51 = .ok (.return_, 1) := dk_177 (dk_at dksX7_tray_2 3 rfl rfl)
theorem dX7_tray_52 : decode cX7_tray 52 = .ok (.aload_n 0, 1) := dk_42 (dk_at dksX7_tray_2 4 rfl rfl)
theorem dX7_tray_53 : decode cX7_tray 53 = .ok (.getfield 68, 3) := dk_180 0 68 (dk_at dksX7_tray_2 5 rfl rfl)
theorem dX7_tray_56 : decode cX7_tray 56 = .ok (.iload_n 1, 1) := dk_27 (dk_at dksX7_tray_2 8 rfl rfl)
theorem dX7_tray_57 : decode cX7_tray 57 = .ok (.iload_n 2, 1) := dk_28 (dk_at dksX7_tray_2 9 rfl rfl)
theorem dX7_tray_58 : decode cX7_tray 58 = .ok (.iastore, 1) := dk_79 (dk_at dksX7_tray_2 10 rfl rfl)
theorem dX7_tray_59 : decode cX7_tray 59 = .ok (.aload_n 0, 1) := dk_42 (dk_at dksX7_tray_2 11 rfl rfl)
theorem dX7_tray_60 : decode cX7_tray 60 = .ok (.getfield 71, 3) := dk_180 0 71 (dk_at dksX7_tray_2 12 rfl rfl)
theorem dX7_tray_63 : decode cX7_tray 63 = .ok (.iload_n 1, 1) := dk_27 (dk_at dksX7_tray_2 15 rfl rfl)
theorem dX7_tray_64 : decode cX7_tray 64 = .ok (.iload_n 3, 1) := dk_29 (dk_at dksX7_tray_2 16 rfl rfl)
theorem dX7_tray_65 : decode cX7_tray 65 = .ok (.iastore, 1) := dk_79 (dk_at dksX7_tray_2 17 rfl rfl)
theorem dX7_tray_66 : decode cX7_tray 66 = .ok (.iconst 0, 1) := dk_3 (dk_at dksX7_tray_2 18 rfl rfl)
theorem dX7_tray_67 : decode cX7_tray 67 = .ok (.istore 4, 2) := dk_54 4 (dk_at dksX7_tray_2 19 rfl rfl)
theorem dX7_tray_69 : decode cX7_tray 69 = .ok (.iload 4, 2) := dk_21 4 (dk_at dksX7_tray_2 21 rfl rfl)
theorem dX7_tray_71 : decode cX7_tray 71 = .ok (.bipush 30, 2) := dk_16 30 (dk_at dksX7_tray_3 0 rfl rfl)
theorem dX7_tray_73 : decode cX7_tray 73 = .ok (.if_icmp .ge 22, 3) := dk_162 0 22 (dk_at dksX7_tray_3 2 rfl rfl)
theorem dX7_tray_76 : decode cX7_tray 76 = .ok (.aload_n 0, 1) := dk_42 (dk_at dksX7_tray_3 5 rfl rfl)
theorem dX7_tray_77 : decode cX7_tray 77 = .ok (.getfield 74, 3) := dk_180 0 74 (dk_at dksX7_tray_3 6 rfl rfl)
theorem dX7_tray_80 : decode cX7_tray 80 = .ok (.bipush 30, 2) := dk_16 30 (dk_at dksX7_tray_3 9 rfl rfl)
theorem dX7_tray_82 : decode cX7_tray 82 = .ok (.iload_n 1, 1) := dk_27 (dk_at dksX7_tray_3 11 rfl rfl)
theorem dX7_tray_83 : decode cX7_tray 83 = .ok (.imul, 1) := dk_104 (dk_at dksX7_tray_3 12 rfl rfl)
theorem dX7_tray_84 : decode cX7_tray 84 = .ok (.iload 4, 2) := dk_21 4 (dk_at dksX7_tray_3 13 rfl rfl)
theorem dX7_tray_86 : decode cX7_tray 86 = .ok (.iadd, 1) := dk_96 (dk_at dksX7_tray_3 15 rfl rfl)
theorem dX7_tray_87 : decode cX7_tray 87 = .ok (.lconst 0, 1) := dk_9 (dk_at dksX7_tray_3 16 rfl rfl)
theorem dX7_tray_88 : decode cX7_tray 88 = .ok (.lastore, 1) := dk_80 (dk_at dksX7_tray_3 17 rfl rfl)
theorem dX7_tray_89 : decode cX7_tray 89 = .ok (.iinc 4 1, 3) := dk_132 4 1 (dk_at dksX7_tray_3 18 rfl rfl)
theorem dX7_tray_92 : decode cX7_tray 92 = .ok (.goto (-23), 3) := dk_167 255 233 (dk_at dksX7_tray_3 21 rfl rfl)
theorem dX7_tray_95 : decode cX7_tray 95 = .ok (.return_, 1) := dk_177 (dk_at dksX7_tray_4 0 rfl rfl)
abbrev cX7_write : ByteArray := prog_43_method_148_code
def yX7_write : MethodName := ⟨RX7, "write", "(IIJ)J"⟩
def dkwX7_write_2 : List UInt8 := [42, 6, 182, 0, 244, 133, 173]
abbrev dktX7_write_2 : List UInt8 := dkwX7_write_2 ++ []
def dkwX7_write_1 : List UInt8 := [180, 0, 71, 27, 46, 4, 100, 133, 184, 0, 138, 153, 0, 13, 42, 27, 28, 33, 182, 2, 52, 167, 0, 9]
abbrev dktX7_write_1 : List UInt8 := dkwX7_write_1 ++ dktX7_write_2
def dkwX7_write_0 : List UInt8 := [42, 42, 27, 182, 1, 133, 181, 0, 77, 42, 180, 0, 77, 158, 0, 5, 9, 173, 28, 133, 9, 42]
abbrev dktX7_write_0 : List UInt8 := dkwX7_write_0 ++ dktX7_write_1
theorem dksX7_write_0 : cX7_write.data.toList.drop 0 = dktX7_write_0 := by decide +kernel
theorem dksX7_write_1 : cX7_write.data.toList.drop 22 = dktX7_write_1 := dk_seg dksX7_write_0 22 rfl rfl
theorem dksX7_write_2 : cX7_write.data.toList.drop 46 = dktX7_write_2 := dk_seg dksX7_write_1 24 rfl rfl
theorem dX7_write_0 : decode cX7_write 0 = .ok (.aload_n 0, 1) := dk_42 (dk_at dksX7_write_0 0 rfl rfl)
theorem dX7_write_1 : decode cX7_write 1 = .ok (.aload_n 0, 1) := dk_42 (dk_at dksX7_write_0 1 rfl rfl)
theorem dX7_write_2 : decode cX7_write 2 = .ok (.iload_n 1, 1) := dk_27 (dk_at dksX7_write_0 2 rfl rfl)
theorem dX7_write_3 : decode cX7_write 3 = .ok (.invokevirtual 389, 3) := dk_182 1 133 (dk_at dksX7_write_0 3 rfl rfl)
theorem dX7_write_6 : decode cX7_write 6 = .ok (.putfield 77, 3) := dk_181 0 77 (dk_at dksX7_write_0 6 rfl rfl)
theorem dX7_write_9 : decode cX7_write 9 = .ok (.aload_n 0, 1) := dk_42 (dk_at dksX7_write_0 9 rfl rfl)
theorem dX7_write_10 : decode cX7_write 10 = .ok (.getfield 77, 3) := dk_180 0 77 (dk_at dksX7_write_0 10 rfl rfl)
theorem dX7_write_13 : decode cX7_write 13 = .ok (.ifCond .le 5, 3) := dk_158 0 5 (dk_at dksX7_write_0 13 rfl rfl)
theorem dX7_write_16 : decode cX7_write 16 = .ok (.lconst 0, 1) := dk_9 (dk_at dksX7_write_0 16 rfl rfl)
theorem dX7_write_17 : decode cX7_write 17 = .ok (.lreturn, 1) := dk_173 (dk_at dksX7_write_0 17 rfl rfl)
theorem dX7_write_18 : decode cX7_write 18 = .ok (.iload_n 2, 1) := dk_28 (dk_at dksX7_write_0 18 rfl rfl)
theorem dX7_write_19 : decode cX7_write 19 = .ok (.i2l, 1) := dk_133 (dk_at dksX7_write_0 19 rfl rfl)
theorem dX7_write_20 : decode cX7_write 20 = .ok (.lconst 0, 1) := dk_9 (dk_at dksX7_write_0 20 rfl rfl)
theorem dX7_write_21 : decode cX7_write 21 = .ok (.aload_n 0, 1) := dk_42 (dk_at dksX7_write_0 21 rfl rfl)
theorem dX7_write_22 : decode cX7_write 22 = .ok (.getfield 71, 3) := dk_180 0 71 (dk_at dksX7_write_1 0 rfl rfl)
theorem dX7_write_25 : decode cX7_write 25 = .ok (.iload_n 1, 1) := dk_27 (dk_at dksX7_write_1 3 rfl rfl)
theorem dX7_write_26 : decode cX7_write 26 = .ok (.iaload, 1) := dk_46 (dk_at dksX7_write_1 4 rfl rfl)
theorem dX7_write_27 : decode cX7_write 27 = .ok (.iconst 1, 1) := dk_4 (dk_at dksX7_write_1 5 rfl rfl)
theorem dX7_write_28 : decode cX7_write 28 = .ok (.isub, 1) := dk_100 (dk_at dksX7_write_1 6 rfl rfl)
theorem dX7_write_29 : decode cX7_write 29 = .ok (.i2l, 1) := dk_133 (dk_at dksX7_write_1 7 rfl rfl)
theorem dX7_write_30 : decode cX7_write 30 = .ok (.invokestatic 138, 3) := dk_184 0 138 (dk_at dksX7_write_1 8 rfl rfl)
theorem dX7_write_33 : decode cX7_write 33 = .ok (.ifCond .eq 13, 3) := dk_153 0 13 (dk_at dksX7_write_1 11 rfl rfl)
theorem dX7_write_36 : decode cX7_write 36 = .ok (.aload_n 0, 1) := dk_42 (dk_at dksX7_write_1 14 rfl rfl)
theorem dX7_write_37 : decode cX7_write 37 = .ok (.iload_n 1, 1) := dk_27 (dk_at dksX7_write_1 15 rfl rfl)
theorem dX7_write_38 : decode cX7_write 38 = .ok (.iload_n 2, 1) := dk_28 (dk_at dksX7_write_1 16 rfl rfl)
theorem dX7_write_39 : decode cX7_write 39 = .ok (.lload_n 3, 1) := dk_33 (dk_at dksX7_write_1 17 rfl rfl)
theorem dX7_write_40 : decode cX7_write 40 = .ok (.invokevirtual 564, 3) := dk_182 2 52 (dk_at dksX7_write_1 18 rfl rfl)
theorem dX7_write_43 : decode cX7_write 43 = .ok (.goto 9, 3) := dk_167 0 9 (dk_at dksX7_write_1 21 rfl rfl)
theorem dX7_write_46 : decode cX7_write 46 = .ok (.aload_n 0, 1) := dk_42 (dk_at dksX7_write_2 0 rfl rfl)
theorem dX7_write_47 : decode cX7_write 47 = .ok (.iconst 3, 1) := dk_6 (dk_at dksX7_write_2 1 rfl rfl)
theorem dX7_write_48 : decode cX7_write 48 = .ok (.invokevirtual 244, 3) := dk_182 0 244 (dk_at dksX7_write_2 2 rfl rfl)
theorem dX7_write_51 : decode cX7_write 51 = .ok (.i2l, 1) := dk_133 (dk_at dksX7_write_2 5 rfl rfl)
theorem dX7_write_52 : decode cX7_write 52 = .ok (.lreturn, 1) := dk_173 (dk_at dksX7_write_2 6 rfl rfl)
abbrev cX7_cut : ByteArray := prog_43_method_147_code
def yX7_cut : MethodName := ⟨RX7, "cut", "(IIJ)J"⟩
def dkwX7_cut_1 : List UInt8 := [33, 21, 5, 121, 21, 5, 123, 80, 42, 180, 0, 74, 16, 30, 27, 104, 28, 96, 47, 173]
abbrev dktX7_cut_1 : List UInt8 := dkwX7_cut_1 ++ []
def dkwX7_cut_0 : List UInt8 := [16, 64, 16, 8, 42, 180, 0, 68, 27, 46, 120, 100, 54, 5, 42, 180, 0, 74, 16, 30, 27, 104, 28, 96]
abbrev dktX7_cut_0 : List UInt8 := dkwX7_cut_0 ++ dktX7_cut_1
theorem dksX7_cut_0 : cX7_cut.data.toList.drop 0 = dktX7_cut_0 := by decide +kernel
theorem dksX7_cut_1 : cX7_cut.data.toList.drop 24 = dktX7_cut_1 := dk_seg dksX7_cut_0 24 rfl rfl
theorem dX7_cut_0 : decode cX7_cut 0 = .ok (.bipush 64, 2) := dk_16 64 (dk_at dksX7_cut_0 0 rfl rfl)
theorem dX7_cut_2 : decode cX7_cut 2 = .ok (.bipush 8, 2) := dk_16 8 (dk_at dksX7_cut_0 2 rfl rfl)
theorem dX7_cut_4 : decode cX7_cut 4 = .ok (.aload_n 0, 1) := dk_42 (dk_at dksX7_cut_0 4 rfl rfl)
theorem dX7_cut_5 : decode cX7_cut 5 = .ok (.getfield 68, 3) := dk_180 0 68 (dk_at dksX7_cut_0 5 rfl rfl)
theorem dX7_cut_8 : decode cX7_cut 8 = .ok (.iload_n 1, 1) := dk_27 (dk_at dksX7_cut_0 8 rfl rfl)
theorem dX7_cut_9 : decode cX7_cut 9 = .ok (.iaload, 1) := dk_46 (dk_at dksX7_cut_0 9 rfl rfl)
theorem dX7_cut_10 : decode cX7_cut 10 = .ok (.ishl, 1) := dk_120 (dk_at dksX7_cut_0 10 rfl rfl)
theorem dX7_cut_11 : decode cX7_cut 11 = .ok (.isub, 1) := dk_100 (dk_at dksX7_cut_0 11 rfl rfl)
theorem dX7_cut_12 : decode cX7_cut 12 = .ok (.istore 5, 2) := dk_54 5 (dk_at dksX7_cut_0 12 rfl rfl)
theorem dX7_cut_14 : decode cX7_cut 14 = .ok (.aload_n 0, 1) := dk_42 (dk_at dksX7_cut_0 14 rfl rfl)
theorem dX7_cut_15 : decode cX7_cut 15 = .ok (.getfield 74, 3) := dk_180 0 74 (dk_at dksX7_cut_0 15 rfl rfl)
theorem dX7_cut_18 : decode cX7_cut 18 = .ok (.bipush 30, 2) := dk_16 30 (dk_at dksX7_cut_0 18 rfl rfl)
theorem dX7_cut_20 : decode cX7_cut 20 = .ok (.iload_n 1, 1) := dk_27 (dk_at dksX7_cut_0 20 rfl rfl)
theorem dX7_cut_21 : decode cX7_cut 21 = .ok (.imul, 1) := dk_104 (dk_at dksX7_cut_0 21 rfl rfl)
theorem dX7_cut_22 : decode cX7_cut 22 = .ok (.iload_n 2, 1) := dk_28 (dk_at dksX7_cut_0 22 rfl rfl)
theorem dX7_cut_23 : decode cX7_cut 23 = .ok (.iadd, 1) := dk_96 (dk_at dksX7_cut_0 23 rfl rfl)
theorem dX7_cut_24 : decode cX7_cut 24 = .ok (.lload_n 3, 1) := dk_33 (dk_at dksX7_cut_1 0 rfl rfl)
theorem dX7_cut_25 : decode cX7_cut 25 = .ok (.iload 5, 2) := dk_21 5 (dk_at dksX7_cut_1 1 rfl rfl)
theorem dX7_cut_27 : decode cX7_cut 27 = .ok (.lshl, 1) := dk_121 (dk_at dksX7_cut_1 3 rfl rfl)
theorem dX7_cut_28 : decode cX7_cut 28 = .ok (.iload 5, 2) := dk_21 5 (dk_at dksX7_cut_1 4 rfl rfl)
theorem dX7_cut_30 : decode cX7_cut 30 = .ok (.lshr, 1) := dk_123 (dk_at dksX7_cut_1 6 rfl rfl)
theorem dX7_cut_31 : decode cX7_cut 31 = .ok (.lastore, 1) := dk_80 (dk_at dksX7_cut_1 7 rfl rfl)
theorem dX7_cut_32 : decode cX7_cut 32 = .ok (.aload_n 0, 1) := dk_42 (dk_at dksX7_cut_1 8 rfl rfl)
theorem dX7_cut_33 : decode cX7_cut 33 = .ok (.getfield 74, 3) := dk_180 0 74 (dk_at dksX7_cut_1 9 rfl rfl)
theorem dX7_cut_36 : decode cX7_cut 36 = .ok (.bipush 30, 2) := dk_16 30 (dk_at dksX7_cut_1 12 rfl rfl)
theorem dX7_cut_38 : decode cX7_cut 38 = .ok (.iload_n 1, 1) := dk_27 (dk_at dksX7_cut_1 14 rfl rfl)
theorem dX7_cut_39 : decode cX7_cut 39 = .ok (.imul, 1) := dk_104 (dk_at dksX7_cut_1 15 rfl rfl)
theorem dX7_cut_40 : decode cX7_cut 40 = .ok (.iload_n 2, 1) := dk_28 (dk_at dksX7_cut_1 16 rfl rfl)
theorem dX7_cut_41 : decode cX7_cut 41 = .ok (.iadd, 1) := dk_96 (dk_at dksX7_cut_1 17 rfl rfl)
theorem dX7_cut_42 : decode cX7_cut 42 = .ok (.laload, 1) := dk_47 (dk_at dksX7_cut_1 18 rfl rfl)
theorem dX7_cut_43 : decode cX7_cut 43 = .ok (.lreturn, 1) := dk_173 (dk_at dksX7_cut_1 19 rfl rfl)
abbrev cX7_copy : ByteArray := prog_43_method_149_code
def yX7_copy : MethodName := ⟨RX7, "copy", "(I)I"⟩
def dkwX7_copy_2 : List UInt8 := [27, 21, 4, 42, 28, 21, 4, 182, 1, 31, 133, 182, 2, 52, 88, 132, 4, 1, 167, 255, 231, 29, 172]
abbrev dktX7_copy_2 : List UInt8 := dkwX7_copy_2 ++ []
def dkwX7_copy_1 : List UInt8 := [180, 0, 71, 27, 46, 42, 28, 182, 1, 0, 184, 1, 43, 62, 3, 54, 4, 21, 4, 29, 162, 0, 25, 42]
abbrev dktX7_copy_1 : List UInt8 := dkwX7_copy_1 ++ dktX7_copy_2
def dkwX7_copy_0 : List UInt8 := [42, 42, 27, 182, 1, 133, 181, 0, 77, 42, 180, 0, 77, 158, 0, 5, 3, 172, 42, 182, 1, 87, 61, 42]
abbrev dktX7_copy_0 : List UInt8 := dkwX7_copy_0 ++ dktX7_copy_1
theorem dksX7_copy_0 : cX7_copy.data.toList.drop 0 = dktX7_copy_0 := by decide +kernel
theorem dksX7_copy_1 : cX7_copy.data.toList.drop 24 = dktX7_copy_1 := dk_seg dksX7_copy_0 24 rfl rfl
theorem dksX7_copy_2 : cX7_copy.data.toList.drop 48 = dktX7_copy_2 := dk_seg dksX7_copy_1 24 rfl rfl
theorem dX7_copy_0 : decode cX7_copy 0 = .ok (.aload_n 0, 1) := dk_42 (dk_at dksX7_copy_0 0 rfl rfl)
theorem dX7_copy_1 : decode cX7_copy 1 = .ok (.aload_n 0, 1) := dk_42 (dk_at dksX7_copy_0 1 rfl rfl)
theorem dX7_copy_2 : decode cX7_copy 2 = .ok (.iload_n 1, 1) := dk_27 (dk_at dksX7_copy_0 2 rfl rfl)
theorem dX7_copy_3 : decode cX7_copy 3 = .ok (.invokevirtual 389, 3) := dk_182 1 133 (dk_at dksX7_copy_0 3 rfl rfl)
theorem dX7_copy_6 : decode cX7_copy 6 = .ok (.putfield 77, 3) := dk_181 0 77 (dk_at dksX7_copy_0 6 rfl rfl)
theorem dX7_copy_9 : decode cX7_copy 9 = .ok (.aload_n 0, 1) := dk_42 (dk_at dksX7_copy_0 9 rfl rfl)
theorem dX7_copy_10 : decode cX7_copy 10 = .ok (.getfield 77, 3) := dk_180 0 77 (dk_at dksX7_copy_0 10 rfl rfl)
theorem dX7_copy_13 : decode cX7_copy 13 = .ok (.ifCond .le 5, 3) := dk_158 0 5 (dk_at dksX7_copy_0 13 rfl rfl)
theorem dX7_copy_16 : decode cX7_copy 16 = .ok (.iconst 0, 1) := dk_3 (dk_at dksX7_copy_0 16 rfl rfl)
theorem dX7_copy_17 : decode cX7_copy 17 = .ok (.ireturn, 1) := dk_172 (dk_at dksX7_copy_0 17 rfl rfl)
theorem dX7_copy_18 : decode cX7_copy 18 = .ok (.aload_n 0, 1) := dk_42 (dk_at dksX7_copy_0 18 rfl rfl)
theorem dX7_copy_19 : decode cX7_copy 19 = .ok (.invokevirtual 343, 3) := dk_182 1 87 (dk_at dksX7_copy_0 19 rfl rfl)
theorem dX7_copy_22 : decode cX7_copy 22 = .ok (.istore_n 2, 1) := dk_61 (dk_at dksX7_copy_0 22 rfl rfl)
theorem dX7_copy_23 : decode cX7_copy 23 = .ok (.aload_n 0, 1) := dk_42 (dk_at dksX7_copy_0 23 rfl rfl)
theorem dX7_copy_24 : decode cX7_copy 24 = .ok (.getfield 71, 3) := dk_180 0 71 (dk_at dksX7_copy_1 0 rfl rfl)
theorem dX7_copy_27 : decode cX7_copy 27 = .ok (.iload_n 1, 1) := dk_27 (dk_at dksX7_copy_1 3 rfl rfl)
theorem dX7_copy_28 : decode cX7_copy 28 = .ok (.iaload, 1) := dk_46 (dk_at dksX7_copy_1 4 rfl rfl)
theorem dX7_copy_29 : decode cX7_copy 29 = .ok (.aload_n 0, 1) := dk_42 (dk_at dksX7_copy_1 5 rfl rfl)
theorem dX7_copy_30 : decode cX7_copy 30 = .ok (.iload_n 2, 1) := dk_28 (dk_at dksX7_copy_1 6 rfl rfl)
theorem dX7_copy_31 : decode cX7_copy 31 = .ok (.invokevirtual 256, 3) := dk_182 1 0 (dk_at dksX7_copy_1 7 rfl rfl)
theorem dX7_copy_34 : decode cX7_copy 34 = .ok (.invokestatic 299, 3) := dk_184 1 43 (dk_at dksX7_copy_1 10 rfl rfl)
theorem dX7_copy_37 : decode cX7_copy 37 = .ok (.istore_n 3, 1) := dk_62 (dk_at dksX7_copy_1 13 rfl rfl)
theorem dX7_copy_38 : decode cX7_copy 38 = .ok (.iconst 0, 1) := dk_3 (dk_at dksX7_copy_1 14 rfl rfl)
theorem dX7_copy_39 : decode cX7_copy 39 = .ok (.istore 4, 2) := dk_54 4 (dk_at dksX7_copy_1 15 rfl rfl)
theorem dX7_copy_41 : decode cX7_copy 41 = .ok (.iload 4, 2) := dk_21 4 (dk_at dksX7_copy_1 17 rfl rfl)
theorem dX7_copy_43 : decode cX7_copy 43 = .ok (.iload_n 3, 1) := dk_29 (dk_at dksX7_copy_1 19 rfl rfl)
theorem dX7_copy_44 : decode cX7_copy 44 = .ok (.if_icmp .ge 25, 3) := dk_162 0 25 (dk_at dksX7_copy_1 20 rfl rfl)
theorem dX7_copy_47 : decode cX7_copy 47 = .ok (.aload_n 0, 1) := dk_42 (dk_at dksX7_copy_1 23 rfl rfl)
theorem dX7_copy_48 : decode cX7_copy 48 = .ok (.iload_n 1, 1) := dk_27 (dk_at dksX7_copy_2 0 rfl rfl)
theorem dX7_copy_49 : decode cX7_copy 49 = .ok (.iload 4, 2) := dk_21 4 (dk_at dksX7_copy_2 1 rfl rfl)
theorem dX7_copy_51 : decode cX7_copy 51 = .ok (.aload_n 0, 1) := dk_42 (dk_at dksX7_copy_2 3 rfl rfl)
theorem dX7_copy_52 : decode cX7_copy 52 = .ok (.iload_n 2, 1) := dk_28 (dk_at dksX7_copy_2 4 rfl rfl)
theorem dX7_copy_53 : decode cX7_copy 53 = .ok (.iload 4, 2) := dk_21 4 (dk_at dksX7_copy_2 5 rfl rfl)
theorem dX7_copy_55 : decode cX7_copy 55 = .ok (.invokevirtual 287, 3) := dk_182 1 31 (dk_at dksX7_copy_2 7 rfl rfl)
theorem dX7_copy_58 : decode cX7_copy 58 = .ok (.i2l, 1) := dk_133 (dk_at dksX7_copy_2 10 rfl rfl)
theorem dX7_copy_59 : decode cX7_copy 59 = .ok (.invokevirtual 564, 3) := dk_182 2 52 (dk_at dksX7_copy_2 11 rfl rfl)
theorem dX7_copy_62 : decode cX7_copy 62 = .ok (.pop2, 1) := dk_88 (dk_at dksX7_copy_2 14 rfl rfl)
theorem dX7_copy_63 : decode cX7_copy 63 = .ok (.iinc 4 1, 3) := dk_132 4 1 (dk_at dksX7_copy_2 15 rfl rfl)
theorem dX7_copy_66 : decode cX7_copy 66 = .ok (.goto (-25), 3) := dk_167 255 231 (dk_at dksX7_copy_2 18 rfl rfl)
theorem dX7_copy_69 : decode cX7_copy 69 = .ok (.iload_n 3, 1) := dk_29 (dk_at dksX7_copy_2 21 rfl rfl)
theorem dX7_copy_70 : decode cX7_copy 70 = .ok (.ireturn, 1) := dk_172 (dk_at dksX7_copy_2 22 rfl rfl)
abbrev cX7_image : ByteArray := prog_43_method_150_code
def yX7_image : MethodName := ⟨RX7, "image", "(I)V"⟩
def dkwX7_image_2 : List UInt8 := [180, 0, 16, 17, 11, 96, 27, 104, 28, 96, 42, 180, 0, 9, 28, 46, 79, 132, 2, 1, 167, 255, 228, 177]
abbrev dktX7_image_2 : List UInt8 := dkwX7_image_2 ++ []
def dkwX7_image_1 : List UInt8 := [180, 0, 77, 158, 0, 4, 177, 42, 180, 0, 19, 27, 4, 84, 3, 61, 28, 17, 11, 96, 162, 0, 27, 42]
abbrev dktX7_image_1 : List UInt8 := dkwX7_image_1 ++ dktX7_image_2
def dkwX7_image_0 : List UInt8 := [42, 27, 133, 9, 20, 2, 35, 184, 0, 138, 153, 0, 7, 3, 167, 0, 4, 4, 181, 0, 77, 42]
abbrev dktX7_image_0 : List UInt8 := dkwX7_image_0 ++ dktX7_image_1
theorem dksX7_image_0 : cX7_image.data.toList.drop 0 = dktX7_image_0 := by decide +kernel
theorem dksX7_image_1 : cX7_image.data.toList.drop 22 = dktX7_image_1 := dk_seg dksX7_image_0 22 rfl rfl
theorem dksX7_image_2 : cX7_image.data.toList.drop 46 = dktX7_image_2 := dk_seg dksX7_image_1 24 rfl rfl
theorem dX7_image_0 : decode cX7_image 0 = .ok (.aload_n 0, 1) := dk_42 (dk_at dksX7_image_0 0 rfl rfl)
theorem dX7_image_1 : decode cX7_image 1 = .ok (.iload_n 1, 1) := dk_27 (dk_at dksX7_image_0 1 rfl rfl)
theorem dX7_image_2 : decode cX7_image 2 = .ok (.i2l, 1) := dk_133 (dk_at dksX7_image_0 2 rfl rfl)
theorem dX7_image_3 : decode cX7_image 3 = .ok (.lconst 0, 1) := dk_9 (dk_at dksX7_image_0 3 rfl rfl)
theorem dX7_image_4 : decode cX7_image 4 = .ok (.ldc2_w 547, 3) := dk_20 2 35 (dk_at dksX7_image_0 4 rfl rfl)
theorem dX7_image_7 : decode cX7_image 7 = .ok (.invokestatic 138, 3) := dk_184 0 138 (dk_at dksX7_image_0 7 rfl rfl)
theorem dX7_image_10 : decode cX7_image 10 = .ok (.ifCond .eq 7, 3) := dk_153 0 7 (dk_at dksX7_image_0 10 rfl rfl)
theorem dX7_image_13 : decode cX7_image 13 = .ok (.iconst 0, 1) := dk_3 (dk_at dksX7_image_0 13 rfl rfl)
theorem dX7_image_14 : decode cX7_image 14 = .ok (.goto 4, 3) := dk_167 0 4 (dk_at dksX7_image_0 14 rfl rfl)
theorem dX7_image_17 : decode cX7_image 17 = .ok (.iconst 1, 1) := dk_4 (dk_at dksX7_image_0 17 rfl rfl)
theorem dX7_image_18 : decode cX7_image 18 = .ok (.putfield 77, 3) := dk_181 0 77 (dk_at dksX7_image_0 18 rfl rfl)
theorem dX7_image_21 : decode cX7_image 21 = .ok (.aload_n 0, 1) := dk_42 (dk_at dksX7_image_0 21 rfl rfl)
theorem dX7_image_22 : decode cX7_image 22 = .ok (.getfield 77, 3) := dk_180 0 77 (dk_at dksX7_image_1 0 rfl rfl)
theorem dX7_image_25 : decode cX7_image 25 = .ok (.ifCond .le 4, 3) := dk_158 0 4 (dk_at dksX7_image_1 3 rfl rfl)
theorem dX7_image_28 : decode cX7_image 28 = .ok (.return_, 1) := dk_177 (dk_at dksX7_image_1 6 rfl rfl)
theorem dX7_image_29 : decode cX7_image 29 = .ok (.aload_n 0, 1) := dk_42 (dk_at dksX7_image_1 7 rfl rfl)
theorem dX7_image_30 : decode cX7_image 30 = .ok (.getfield 19, 3) := dk_180 0 19 (dk_at dksX7_image_1 8 rfl rfl)
theorem dX7_image_33 : decode cX7_image 33 = .ok (.iload_n 1, 1) := dk_27 (dk_at dksX7_image_1 11 rfl rfl)
theorem dX7_image_34 : decode cX7_image 34 = .ok (.iconst 1, 1) := dk_4 (dk_at dksX7_image_1 12 rfl rfl)
theorem dX7_image_35 : decode cX7_image 35 = .ok (.bastore, 1) := dk_84 (dk_at dksX7_image_1 13 rfl rfl)
theorem dX7_image_36 : decode cX7_image 36 = .ok (.iconst 0, 1) := dk_3 (dk_at dksX7_image_1 14 rfl rfl)
theorem dX7_image_37 : decode cX7_image 37 = .ok (.istore_n 2, 1) := dk_61 (dk_at dksX7_image_1 15 rfl rfl)
theorem dX7_image_38 : decode cX7_image 38 = .ok (.iload_n 2, 1) := dk_28 (dk_at dksX7_image_1 16 rfl rfl)
theorem dX7_image_39 : decode cX7_image 39 = .ok (.sipush 2912, 3) := dk_17 11 96 (dk_at dksX7_image_1 17 rfl rfl)
theorem dX7_image_42 : decode cX7_image 42 = .ok (.if_icmp .ge 27, 3) := dk_162 0 27 (dk_at dksX7_image_1 20 rfl rfl)
theorem dX7_image_45 : decode cX7_image 45 = .ok (.aload_n 0, 1) := dk_42 (dk_at dksX7_image_1 23 rfl rfl)
theorem dX7_image_46 : decode cX7_image 46 = .ok (.getfield 16, 3) := dk_180 0 16 (dk_at dksX7_image_2 0 rfl rfl)
theorem dX7_image_49 : decode cX7_image 49 = .ok (.sipush 2912, 3) := dk_17 11 96 (dk_at dksX7_image_2 3 rfl rfl)
theorem dX7_image_52 : decode cX7_image 52 = .ok (.iload_n 1, 1) := dk_27 (dk_at dksX7_image_2 6 rfl rfl)
theorem dX7_image_53 : decode cX7_image 53 = .ok (.imul, 1) := dk_104 (dk_at dksX7_image_2 7 rfl rfl)
theorem dX7_image_54 : decode cX7_image 54 = .ok (.iload_n 2, 1) := dk_28 (dk_at dksX7_image_2 8 rfl rfl)
theorem dX7_image_55 : decode cX7_image 55 = .ok (.iadd, 1) := dk_96 (dk_at dksX7_image_2 9 rfl rfl)
theorem dX7_image_56 : decode cX7_image 56 = .ok (.aload_n 0, 1) := dk_42 (dk_at dksX7_image_2 10 rfl rfl)
theorem dX7_image_57 : decode cX7_image 57 = .ok (.getfield 9, 3) := dk_180 0 9 (dk_at dksX7_image_2 11 rfl rfl)
theorem dX7_image_60 : decode cX7_image 60 = .ok (.iload_n 2, 1) := dk_28 (dk_at dksX7_image_2 14 rfl rfl)
theorem dX7_image_61 : decode cX7_image 61 = .ok (.iaload, 1) := dk_46 (dk_at dksX7_image_2 15 rfl rfl)
theorem dX7_image_62 : decode cX7_image 62 = .ok (.iastore, 1) := dk_79 (dk_at dksX7_image_2 16 rfl rfl)
theorem dX7_image_63 : decode cX7_image 63 = .ok (.iinc 2 1, 3) := dk_132 2 1 (dk_at dksX7_image_2 17 rfl rfl)
theorem dX7_image_66 : decode cX7_image 66 = .ok (.goto (-28), 3) := dk_167 255 228 (dk_at dksX7_image_2 20 rfl rfl)
theorem dX7_image_69 : decode cX7_image 69 = .ok (.return_, 1) := dk_177 (dk_at dksX7_image_2 23 rfl rfl)
abbrev cX7_restore : ByteArray := prog_43_method_151_code
def yX7_restore : MethodName := ⟨RX7, "restore", "(I)V"⟩
def dkwX7_restore_3 : List UInt8 := [132, 2, 1, 167, 255, 228, 177]
abbrev dktX7_restore_3 : List UInt8 := dkwX7_restore_3 ++ []
def dkwX7_restore_2 : List UInt8 := [17, 11, 96, 162, 0, 27, 42, 180, 0, 9, 28, 42, 180, 0, 16, 17, 11, 96, 27, 104, 28, 96, 46, 79]
abbrev dktX7_restore_2 : List UInt8 := dkwX7_restore_2 ++ dktX7_restore_3
def dkwX7_restore_1 : List UInt8 := [154, 0, 7, 5, 167, 0, 4, 3, 181, 0, 77, 42, 180, 0, 77, 158, 0, 4, 177, 3, 61, 28]
abbrev dktX7_restore_1 : List UInt8 := dkwX7_restore_1 ++ dktX7_restore_2
def dkwX7_restore_0 : List UInt8 := [42, 27, 133, 9, 20, 2, 35, 184, 0, 138, 154, 0, 7, 4, 167, 0, 17, 42, 180, 0, 19, 27, 51]
abbrev dktX7_restore_0 : List UInt8 := dkwX7_restore_0 ++ dktX7_restore_1
theorem dksX7_restore_0 : cX7_restore.data.toList.drop 0 = dktX7_restore_0 := by decide +kernel
theorem dksX7_restore_1 : cX7_restore.data.toList.drop 23 = dktX7_restore_1 := dk_seg dksX7_restore_0 23 rfl rfl
theorem dksX7_restore_2 : cX7_restore.data.toList.drop 45 = dktX7_restore_2 := dk_seg dksX7_restore_1 22 rfl rfl
theorem dksX7_restore_3 : cX7_restore.data.toList.drop 69 = dktX7_restore_3 := dk_seg dksX7_restore_2 24 rfl rfl
theorem dX7_restore_0 : decode cX7_restore 0 = .ok (.aload_n 0, 1) := dk_42 (dk_at dksX7_restore_0 0 rfl rfl)
theorem dX7_restore_1 : decode cX7_restore 1 = .ok (.iload_n 1, 1) := dk_27 (dk_at dksX7_restore_0 1 rfl rfl)
theorem dX7_restore_2 : decode cX7_restore 2 = .ok (.i2l, 1) := dk_133 (dk_at dksX7_restore_0 2 rfl rfl)
theorem dX7_restore_3 : decode cX7_restore 3 = .ok (.lconst 0, 1) := dk_9 (dk_at dksX7_restore_0 3 rfl rfl)
theorem dX7_restore_4 : decode cX7_restore 4 = .ok (.ldc2_w 547, 3) := dk_20 2 35 (dk_at dksX7_restore_0 4 rfl rfl)
theorem dX7_restore_7 : decode cX7_restore 7 = .ok (.invokestatic 138, 3) := dk_184 0 138 (dk_at dksX7_restore_0 7 rfl rfl)
theorem dX7_restore_10 : decode cX7_restore 10 = .ok (.ifCond .ne 7, 3) := dk_154 0 7 (dk_at dksX7_restore_0 10 rfl rfl)
theorem dX7_restore_13 : decode cX7_restore 13 = .ok (.iconst 1, 1) := dk_4 (dk_at dksX7_restore_0 13 rfl rfl)
theorem dX7_restore_14 : decode cX7_restore 14 = .ok (.goto 17, 3) := dk_167 0 17 (dk_at dksX7_restore_0 14 rfl rfl)
theorem dX7_restore_17 : decode cX7_restore 17 = .ok (.aload_n 0, 1) := dk_42 (dk_at dksX7_restore_0 17 rfl rfl)
theorem dX7_restore_18 : decode cX7_restore 18 = .ok (.getfield 19, 3) := dk_180 0 19 (dk_at dksX7_restore_0 18 rfl rfl)
theorem dX7_restore_21 : decode cX7_restore 21 = .ok (.iload_n 1, 1) := dk_27 (dk_at dksX7_restore_0 21 rfl rfl)
theorem dX7_restore_22 : decode cX7_restore 22 = .ok (.baload, 1) := dk_51 (dk_at dksX7_restore_0 22 rfl rfl)
theorem dX7_restore_23 : decode cX7_restore 23 = .ok (.ifCond .ne 7, 3) := dk_154 0 7 (dk_at dksX7_restore_1 0 rfl rfl)
theorem dX7_restore_26 : decode cX7_restore 26 = .ok (.iconst 2, 1) := dk_5 (dk_at dksX7_restore_1 3 rfl rfl)
theorem dX7_restore_27 : decode cX7_restore 27 = .ok (.goto 4, 3) := dk_167 0 4 (dk_at dksX7_restore_1 4 rfl rfl)
theorem dX7_restore_30 : decode cX7_restore 30 = .ok (.iconst 0, 1) := dk_3 (dk_at dksX7_restore_1 7 rfl rfl)
theorem dX7_restore_31 : decode cX7_restore 31 = .ok (.putfield 77, 3) := dk_181 0 77 (dk_at dksX7_restore_1 8 rfl rfl)
theorem dX7_restore_34 : decode cX7_restore 34 = .ok (.aload_n 0, 1) := dk_42 (dk_at dksX7_restore_1 11 rfl rfl)
theorem dX7_restore_35 : decode cX7_restore 35 = .ok (.getfield 77, 3) := dk_180 0 77 (dk_at dksX7_restore_1 12 rfl rfl)
theorem dX7_restore_38 : decode cX7_restore 38 = .ok (.ifCond .le 4, 3) := dk_158 0 4 (dk_at dksX7_restore_1 15 rfl rfl)
theorem dX7_restore_41 : decode cX7_restore 41 = .ok (.return_, 1) := dk_177 (dk_at dksX7_restore_1 18 rfl rfl)
theorem dX7_restore_42 : decode cX7_restore 42 = .ok (.iconst 0, 1) := dk_3 (dk_at dksX7_restore_1 19 rfl rfl)
theorem dX7_restore_43 : decode cX7_restore 43 = .ok (.istore_n 2, 1) := dk_61 (dk_at dksX7_restore_1 20 rfl rfl)
theorem dX7_restore_44 : decode cX7_restore 44 = .ok (.iload_n 2, 1) := dk_28 (dk_at dksX7_restore_1 21 rfl rfl)
theorem dX7_restore_45 : decode cX7_restore 45 = .ok (.sipush 2912, 3) := dk_17 11 96 (dk_at dksX7_restore_2 0 rfl rfl)
theorem dX7_restore_48 : decode cX7_restore 48 = .ok (.if_icmp .ge 27, 3) := dk_162 0 27 (dk_at dksX7_restore_2 3 rfl rfl)
theorem dX7_restore_51 : decode cX7_restore 51 = .ok (.aload_n 0, 1) := dk_42 (dk_at dksX7_restore_2 6 rfl rfl)
theorem dX7_restore_52 : decode cX7_restore 52 = .ok (.getfield 9, 3) := dk_180 0 9 (dk_at dksX7_restore_2 7 rfl rfl)
theorem dX7_restore_55 : decode cX7_restore 55 = .ok (.iload_n 2, 1) := dk_28 (dk_at dksX7_restore_2 10 rfl rfl)
theorem dX7_restore_56 : decode cX7_restore 56 = .ok (.aload_n 0, 1) := dk_42 (dk_at dksX7_restore_2 11 rfl rfl)
theorem dX7_restore_57 : decode cX7_restore 57 = .ok (.getfield 16, 3) := dk_180 0 16 (dk_at dksX7_restore_2 12 rfl rfl)
theorem dX7_restore_60 : decode cX7_restore 60 = .ok (.sipush 2912, 3) := dk_17 11 96 (dk_at dksX7_restore_2 15 rfl rfl)
theorem dX7_restore_63 : decode cX7_restore 63 = .ok (.iload_n 1, 1) := dk_27 (dk_at dksX7_restore_2 18 rfl rfl)
theorem dX7_restore_64 : decode cX7_restore 64 = .ok (.imul, 1) := dk_104 (dk_at dksX7_restore_2 19 rfl rfl)
theorem dX7_restore_65 : decode cX7_restore 65 = .ok (.iload_n 2, 1) := dk_28 (dk_at dksX7_restore_2 20 rfl rfl)
theorem dX7_restore_66 : decode cX7_restore 66 = .ok (.iadd, 1) := dk_96 (dk_at dksX7_restore_2 21 rfl rfl)
theorem dX7_restore_67 : decode cX7_restore 67 = .ok (.iaload, 1) := dk_46 (dk_at dksX7_restore_2 22 rfl rfl)
theorem dX7_restore_68 : decode cX7_restore 68 = .ok (.iastore, 1) := dk_79 (dk_at dksX7_restore_2 23 rfl rfl)
theorem dX7_restore_69 : decode cX7_restore 69 = .ok (.iinc 2 1, 3) := dk_132 2 1 (dk_at dksX7_restore_3 0 rfl rfl)
theorem dX7_restore_72 : decode cX7_restore 72 = .ok (.goto (-28), 3) := dk_167 255 228 (dk_at dksX7_restore_3 3 rfl rfl)
theorem dX7_restore_75 : decode cX7_restore 75 = .ok (.return_, 1) := dk_177 (dk_at dksX7_restore_3 6 rfl rfl)
abbrev cX7_count : ByteArray := prog_43_method_152_code
def yX7_count : MethodName := ⟨RX7, "count", "(I)I"⟩
def dkwX7_count_5 : List UInt8 := [172]
abbrev dktX7_count_5 : List UInt8 := dkwX7_count_5 ++ []
def dkwX7_count_4 : List UInt8 := [182, 1, 40, 172, 42, 28, 182, 1, 72, 172, 42, 180, 0, 9, 16, 6, 46, 172, 42, 180, 0, 80, 172, 2]
abbrev dktX7_count_4 : List UInt8 := dkwX7_count_4 ++ dktX7_count_5
def dkwX7_count_3 : List UInt8 := [172, 42, 28, 182, 1, 69, 172, 42, 180, 0, 9, 16, 7, 46, 172, 42, 28, 182, 1, 37, 172, 42, 28]
abbrev dktX7_count_3 : List UInt8 := dkwX7_count_3 ++ dktX7_count_4
def dkwX7_count_2 : List UInt8 := [42, 180, 0, 9, 3, 46, 172, 42, 182, 0, 253, 172, 42, 180, 0, 9, 5, 46, 172, 42, 28, 182, 1, 0]
abbrev dktX7_count_2 : List UInt8 := dkwX7_count_2 ++ dktX7_count_3
def dkwX7_count_1 : List UInt8 := [170, 0, 0, 0, 127, 0, 0, 0, 0, 0, 0, 0, 10, 0, 0, 0, 57, 0, 0, 0, 64, 0, 0, 0, 69, 0, 0, 0, 76, 0, 0, 0, 82, 0, 0, 0, 88, 0, 0, 0, 96, 0, 0, 0, 102, 0, 0, 0, 108, 0, 0, 0, 114, 0, 0, 0, 122]
abbrev dktX7_count_1 : List UInt8 := dkwX7_count_1 ++ dktX7_count_2
def dkwX7_count_0 : List UInt8 := [42, 3, 181, 0, 77, 42, 182, 1, 87, 61, 27]
abbrev dktX7_count_0 : List UInt8 := dkwX7_count_0 ++ dktX7_count_1
theorem dksX7_count_0 : cX7_count.data.toList.drop 0 = dktX7_count_0 := by decide +kernel
theorem dksX7_count_1 : cX7_count.data.toList.drop 11 = dktX7_count_1 := dk_seg dksX7_count_0 11 rfl rfl
theorem dksX7_count_2 : cX7_count.data.toList.drop 68 = dktX7_count_2 := dk_seg dksX7_count_1 57 rfl rfl
theorem dksX7_count_3 : cX7_count.data.toList.drop 92 = dktX7_count_3 := dk_seg dksX7_count_2 24 rfl rfl
theorem dksX7_count_4 : cX7_count.data.toList.drop 115 = dktX7_count_4 := dk_seg dksX7_count_3 23 rfl rfl
theorem dksX7_count_5 : cX7_count.data.toList.drop 139 = dktX7_count_5 := dk_seg dksX7_count_4 24 rfl rfl
theorem dX7_count_0 : decode cX7_count 0 = .ok (.aload_n 0, 1) := dk_42 (dk_at dksX7_count_0 0 rfl rfl)
theorem dX7_count_1 : decode cX7_count 1 = .ok (.iconst 0, 1) := dk_3 (dk_at dksX7_count_0 1 rfl rfl)
theorem dX7_count_2 : decode cX7_count 2 = .ok (.putfield 77, 3) := dk_181 0 77 (dk_at dksX7_count_0 2 rfl rfl)
theorem dX7_count_5 : decode cX7_count 5 = .ok (.aload_n 0, 1) := dk_42 (dk_at dksX7_count_0 5 rfl rfl)
theorem dX7_count_6 : decode cX7_count 6 = .ok (.invokevirtual 343, 3) := dk_182 1 87 (dk_at dksX7_count_0 6 rfl rfl)
theorem dX7_count_9 : decode cX7_count 9 = .ok (.istore_n 2, 1) := dk_61 (dk_at dksX7_count_0 9 rfl rfl)
theorem dX7_count_10 : decode cX7_count 10 = .ok (.iload_n 1, 1) := dk_27 (dk_at dksX7_count_0 10 rfl rfl)
theorem dX7_count_11 : decode cX7_count 11 = .ok (.tableswitch 127 0 10 #[57, 64, 69, 76, 82, 88, 96, 102, 108, 114, 122], 57) := by decide +kernel
theorem dX7_count_68 : decode cX7_count 68 = .ok (.aload_n 0, 1) := dk_42 (dk_at dksX7_count_2 0 rfl rfl)
theorem dX7_count_69 : decode cX7_count 69 = .ok (.getfield 9, 3) := dk_180 0 9 (dk_at dksX7_count_2 1 rfl rfl)
theorem dX7_count_72 : decode cX7_count 72 = .ok (.iconst 0, 1) := dk_3 (dk_at dksX7_count_2 4 rfl rfl)
theorem dX7_count_73 : decode cX7_count 73 = .ok (.iaload, 1) := dk_46 (dk_at dksX7_count_2 5 rfl rfl)
theorem dX7_count_74 : decode cX7_count 74 = .ok (.ireturn, 1) := dk_172 (dk_at dksX7_count_2 6 rfl rfl)
theorem dX7_count_75 : decode cX7_count 75 = .ok (.aload_n 0, 1) := dk_42 (dk_at dksX7_count_2 7 rfl rfl)
theorem dX7_count_76 : decode cX7_count 76 = .ok (.invokevirtual 253, 3) := dk_182 0 253 (dk_at dksX7_count_2 8 rfl rfl)
theorem dX7_count_79 : decode cX7_count 79 = .ok (.ireturn, 1) := dk_172 (dk_at dksX7_count_2 11 rfl rfl)
theorem dX7_count_80 : decode cX7_count 80 = .ok (.aload_n 0, 1) := dk_42 (dk_at dksX7_count_2 12 rfl rfl)
theorem dX7_count_81 : decode cX7_count 81 = .ok (.getfield 9, 3) := dk_180 0 9 (dk_at dksX7_count_2 13 rfl rfl)
theorem dX7_count_84 : decode cX7_count 84 = .ok (.iconst 2, 1) := dk_5 (dk_at dksX7_count_2 16 rfl rfl)
theorem dX7_count_85 : decode cX7_count 85 = .ok (.iaload, 1) := dk_46 (dk_at dksX7_count_2 17 rfl rfl)
theorem dX7_count_86 : decode cX7_count 86 = .ok (.ireturn, 1) := dk_172 (dk_at dksX7_count_2 18 rfl rfl)
theorem dX7_count_87 : decode cX7_count 87 = .ok (.aload_n 0, 1) := dk_42 (dk_at dksX7_count_2 19 rfl rfl)
theorem dX7_count_88 : decode cX7_count 88 = .ok (.iload_n 2, 1) := dk_28 (dk_at dksX7_count_2 20 rfl rfl)
theorem dX7_count_89 : decode cX7_count 89 = .ok (.invokevirtual 256, 3) := dk_182 1 0 (dk_at dksX7_count_2 21 rfl rfl)
theorem dX7_count_92 : decode cX7_count 92 = .ok (.ireturn, 1) := dk_172 (dk_at dksX7_count_3 0 rfl rfl)
theorem dX7_count_93 : decode cX7_count 93 = .ok (.aload_n 0, 1) := dk_42 (dk_at dksX7_count_3 1 rfl rfl)
theorem dX7_count_94 : decode cX7_count 94 = .ok (.iload_n 2, 1) := dk_28 (dk_at dksX7_count_3 2 rfl rfl)
theorem dX7_count_95 : decode cX7_count 95 = .ok (.invokevirtual 325, 3) := dk_182 1 69 (dk_at dksX7_count_3 3 rfl rfl)
theorem dX7_count_98 : decode cX7_count 98 = .ok (.ireturn, 1) := dk_172 (dk_at dksX7_count_3 6 rfl rfl)
theorem dX7_count_99 : decode cX7_count 99 = .ok (.aload_n 0, 1) := dk_42 (dk_at dksX7_count_3 7 rfl rfl)
theorem dX7_count_100 : decode cX7_count 100 = .ok (.getfield 9, 3) := dk_180 0 9 (dk_at dksX7_count_3 8 rfl rfl)
theorem dX7_count_103 : decode cX7_count 103 = .ok (.bipush 7, 2) := dk_16 7 (dk_at dksX7_count_3 11 rfl rfl)
theorem dX7_count_105 : decode cX7_count 105 = .ok (.iaload, 1) := dk_46 (dk_at dksX7_count_3 13 rfl rfl)
theorem dX7_count_106 : decode cX7_count 106 = .ok (.ireturn, 1) := dk_172 (dk_at dksX7_count_3 14 rfl rfl)
theorem dX7_count_107 : decode cX7_count 107 = .ok (.aload_n 0, 1) := dk_42 (dk_at dksX7_count_3 15 rfl rfl)
theorem dX7_count_108 : decode cX7_count 108 = .ok (.iload_n 2, 1) := dk_28 (dk_at dksX7_count_3 16 rfl rfl)
theorem dX7_count_109 : decode cX7_count 109 = .ok (.invokevirtual 293, 3) := dk_182 1 37 (dk_at dksX7_count_3 17 rfl rfl)
theorem dX7_count_112 : decode cX7_count 112 = .ok (.ireturn, 1) := dk_172 (dk_at dksX7_count_3 20 rfl rfl)
theorem dX7_count_113 : decode cX7_count 113 = .ok (.aload_n 0, 1) := dk_42 (dk_at dksX7_count_3 21 rfl rfl)
theorem dX7_count_114 : decode cX7_count 114 = .ok (.iload_n 2, 1) := dk_28 (dk_at dksX7_count_3 22 rfl rfl)
theorem dX7_count_115 : decode cX7_count 115 = .ok (.invokevirtual 296, 3) := dk_182 1 40 (dk_at dksX7_count_4 0 rfl rfl)
theorem dX7_count_118 : decode cX7_count 118 = .ok (.ireturn, 1) := dk_172 (dk_at dksX7_count_4 3 rfl rfl)
theorem dX7_count_119 : decode cX7_count 119 = .ok (.aload_n 0, 1) := dk_42 (dk_at dksX7_count_4 4 rfl rfl)
theorem dX7_count_120 : decode cX7_count 120 = .ok (.iload_n 2, 1) := dk_28 (dk_at dksX7_count_4 5 rfl rfl)
theorem dX7_count_121 : decode cX7_count 121 = .ok (.invokevirtual 328, 3) := dk_182 1 72 (dk_at dksX7_count_4 6 rfl rfl)
theorem dX7_count_124 : decode cX7_count 124 = .ok (.ireturn, 1) := dk_172 (dk_at dksX7_count_4 9 rfl rfl)
theorem dX7_count_125 : decode cX7_count 125 = .ok (.aload_n 0, 1) := dk_42 (dk_at dksX7_count_4 10 rfl rfl)
theorem dX7_count_126 : decode cX7_count 126 = .ok (.getfield 9, 3) := dk_180 0 9 (dk_at dksX7_count_4 11 rfl rfl)
theorem dX7_count_129 : decode cX7_count 129 = .ok (.bipush 6, 2) := dk_16 6 (dk_at dksX7_count_4 14 rfl rfl)
theorem dX7_count_131 : decode cX7_count 131 = .ok (.iaload, 1) := dk_46 (dk_at dksX7_count_4 16 rfl rfl)
theorem dX7_count_132 : decode cX7_count 132 = .ok (.ireturn, 1) := dk_172 (dk_at dksX7_count_4 17 rfl rfl)
theorem dX7_count_133 : decode cX7_count 133 = .ok (.aload_n 0, 1) := dk_42 (dk_at dksX7_count_4 18 rfl rfl)
theorem dX7_count_134 : decode cX7_count 134 = .ok (.getfield 80, 3) := dk_180 0 80 (dk_at dksX7_count_4 19 rfl rfl)
theorem dX7_count_137 : decode cX7_count 137 = .ok (.ireturn, 1) := dk_172 (dk_at dksX7_count_4 22 rfl rfl)
theorem dX7_count_138 : decode cX7_count 138 = .ok (.iconst (-1), 1) := dk_2 (dk_at dksX7_count_4 23 rfl rfl)
theorem dX7_count_139 : decode cX7_count 139 = .ok (.ireturn, 1) := dk_172 (dk_at dksX7_count_5 0 rfl rfl)
theorem q158 : (Jvm.Cond.initialized "NapkinDeedsModel") ∈ lw_all := lw_g (lw_at lw_m1 10 rfl) rfl
theorem q724 : (Jvm.Cond.selects "NapkinDeedsModel" ({ cls := "java/lang/Object", name := "getClass", desc := "()Ljava/lang/Class;" } : Jvm.MethodName) ({ cls := "java/lang/Object", name := "getClass", desc := "()Ljava/lang/Class;" } : Jvm.MethodName)) ∈ lw_all := lw_g (lw_at lw_m3 96 rfl) rfl
theorem q2710 : (Jvm.Cond.instantiable "NapkinDeedsModel" (43 : Nat)) ∈ lw_all := lw_g (lw_at lw_m11 162 rfl) rfl
theorem q2712 : (Jvm.Cond.instanceMethod ({ cls := "NapkinDeedsModel", name := "<init>", desc := "()V" } : Jvm.MethodName)) ∈ lw_all := lw_g (lw_at lw_m11 164 rfl) rfl
theorem q2713 : (Jvm.Cond.code ({ cls := "NapkinDeedsModel", name := "<init>", desc := "()V" } : Jvm.MethodName) prog_43_method_1_code (1 : Nat) (Option.none : Option Jvm.ClassFile.FieldType)) ∈ lw_all := lw_g (lw_at lw_m11 165 rfl) rfl
theorem q2714 : (Jvm.Cond.methodLink "NapkinDeedsModel" (1 : Nat) ({ cls := "java/lang/Object", name := "<init>", desc := "()V" } : Jvm.MethodName)) ∈ lw_all := lw_g (lw_at lw_m11 166 rfl) rfl
theorem q2715 : (Jvm.Cond.constant "NapkinDeedsModel" (54 : Nat) (65536 : Int32)) ∈ lw_all := lw_g (lw_at lw_m11 167 rfl) rfl
theorem q2716 : (Jvm.Cond.fieldLink "NapkinDeedsModel" (9 : Nat) "NapkinDeedsModel" "known" "[I") ∈ lw_all := lw_g (lw_at lw_m11 168 rfl) rfl
theorem q2717 : (Jvm.Cond.fieldLink "NapkinDeedsModel" (13 : Nat) "NapkinDeedsModel" "telling" "[I") ∈ lw_all := lw_g (lw_at lw_m11 169 rfl) rfl
theorem q2718 : (Jvm.Cond.fieldLink "NapkinDeedsModel" (16 : Nat) "NapkinDeedsModel" "images" "[I") ∈ lw_all := lw_g (lw_at lw_m11 170 rfl) rfl
theorem q2719 : (Jvm.Cond.fieldLink "NapkinDeedsModel" (19 : Nat) "NapkinDeedsModel" "isImage" "[Z") ∈ lw_all := lw_g (lw_at lw_m11 171 rfl) rfl
theorem q2720 : (Jvm.Cond.fieldLink "NapkinDeedsModel" (77 : Nat) "NapkinDeedsModel" "thrown" "I") ∈ lw_all := lw_g (lw_at lw_m11 172 rfl) rfl
theorem q2721 : (Jvm.Cond.fieldLink "NapkinDeedsModel" (23 : Nat) "NapkinDeedsModel" "tape" "[I") ∈ lw_all := lw_g (lw_at lw_m11 173 rfl) rfl
theorem q2722 : (Jvm.Cond.fieldLink "NapkinDeedsModel" (80 : Nat) "NapkinDeedsModel" "taped" "I") ∈ lw_all := lw_g (lw_at lw_m11 174 rfl) rfl
theorem q2723 : (Jvm.Cond.fieldLink "NapkinDeedsModel" (83 : Nat) "NapkinDeedsModel" "length" "I") ∈ lw_all := lw_g (lw_at lw_m11 175 rfl) rfl
theorem q2724 : (Jvm.Cond.fieldLink "NapkinDeedsModel" (86 : Nat) "NapkinDeedsModel" "head" "I") ∈ lw_all := lw_g (lw_at lw_m11 176 rfl) rfl
theorem q2725 : (Jvm.Cond.fieldLink "NapkinDeedsModel" (89 : Nat) "NapkinDeedsModel" "begin" "I") ∈ lw_all := lw_g (lw_at lw_m11 177 rfl) rfl
theorem q2726 : (Jvm.Cond.fieldLink "NapkinDeedsModel" (92 : Nat) "NapkinDeedsModel" "token" "I") ∈ lw_all := lw_g (lw_at lw_m11 178 rfl) rfl
theorem q2727 : (Jvm.Cond.fieldLink "NapkinDeedsModel" (106 : Nat) "NapkinDeedsModel" "value" "I") ∈ lw_all := lw_g (lw_at lw_m11 179 rfl) rfl
theorem q2728 : (Jvm.Cond.fieldLink "NapkinDeedsModel" (112 : Nat) "NapkinDeedsModel" "bad" "I") ∈ lw_all := lw_g (lw_at lw_m11 180 rfl) rfl
theorem q2729 : (Jvm.Cond.fieldLink "NapkinDeedsModel" (115 : Nat) "NapkinDeedsModel" "badPlace" "I") ∈ lw_all := lw_g (lw_at lw_m11 181 rfl) rfl
theorem q2730 : (Jvm.Cond.fieldLink "NapkinDeedsModel" (250 : Nat) "NapkinDeedsModel" "faultKind" "I") ∈ lw_all := lw_g (lw_at lw_m11 182 rfl) rfl
theorem q2731 : (Jvm.Cond.fieldLink "NapkinDeedsModel" (26 : Nat) "NapkinDeedsModel" "faultPlace" "I") ∈ lw_all := lw_g (lw_at lw_m11 183 rfl) rfl
theorem q2732 : (Jvm.Cond.fieldLink "NapkinDeedsModel" (154 : Nat) "NapkinDeedsModel" "deep" "I") ∈ lw_all := lw_g (lw_at lw_m11 184 rfl) rfl
theorem q2733 : (Jvm.Cond.fieldLink "NapkinDeedsModel" (148 : Nat) "NapkinDeedsModel" "lawMany" "I") ∈ lw_all := lw_g (lw_at lw_m11 185 rfl) rfl
theorem q2734 : (Jvm.Cond.fieldLink "NapkinDeedsModel" (145 : Nat) "NapkinDeedsModel" "lawAt" "I") ∈ lw_all := lw_g (lw_at lw_m11 186 rfl) rfl
theorem q2735 : (Jvm.Cond.fieldLink "NapkinDeedsModel" (30 : Nat) "NapkinDeedsModel" "lies" "[I") ∈ lw_all := lw_g (lw_at lw_m11 187 rfl) rfl
theorem q2736 : (Jvm.Cond.fieldLink "NapkinDeedsModel" (33 : Nat) "NapkinDeedsModel" "places" "[I") ∈ lw_all := lw_g (lw_at lw_m11 188 rfl) rfl
theorem q2737 : (Jvm.Cond.fieldLink "NapkinDeedsModel" (36 : Nat) "NapkinDeedsModel" "lawStack" "[I") ∈ lw_all := lw_g (lw_at lw_m11 189 rfl) rfl
theorem q2738 : (Jvm.Cond.fieldLink "NapkinDeedsModel" (39 : Nat) "NapkinDeedsModel" "asked" "[I") ∈ lw_all := lw_g (lw_at lw_m11 190 rfl) rfl
theorem q2739 : (Jvm.Cond.fieldLink "NapkinDeedsModel" (42 : Nat) "NapkinDeedsModel" "aside" "[I") ∈ lw_all := lw_g (lw_at lw_m11 191 rfl) rfl
theorem q2740 : (Jvm.Cond.fieldLink "NapkinDeedsModel" (405 : Nat) "NapkinDeedsModel" "state" "I") ∈ lw_all := lw_g (lw_at lw_m11 192 rfl) rfl
theorem q2741 : (Jvm.Cond.fieldLink "NapkinDeedsModel" (45 : Nat) "NapkinDeedsModel" "row" "[I") ∈ lw_all := lw_g (lw_at lw_m11 193 rfl) rfl
theorem q2742 : (Jvm.Cond.fieldLink "NapkinDeedsModel" (48 : Nat) "NapkinDeedsModel" "bestRow" "[I") ∈ lw_all := lw_g (lw_at lw_m11 194 rfl) rfl
theorem q2743 : (Jvm.Cond.fieldLink "NapkinDeedsModel" (51 : Nat) "NapkinDeedsModel" "likedNow" "[I") ∈ lw_all := lw_g (lw_at lw_m11 195 rfl) rfl
theorem q2744 : (Jvm.Cond.fieldLink "NapkinDeedsModel" (443 : Nat) "NapkinDeedsModel" "askedWhat" "I") ∈ lw_all := lw_g (lw_at lw_m11 196 rfl) rfl
theorem q2745 : (Jvm.Cond.fieldLink "NapkinDeedsModel" (419 : Nat) "NapkinDeedsModel" "from" "I") ∈ lw_all := lw_g (lw_at lw_m11 197 rfl) rfl
theorem q2746 : (Jvm.Cond.fieldLink "NapkinDeedsModel" (452 : Nat) "NapkinDeedsModel" "rowMany" "I") ∈ lw_all := lw_g (lw_at lw_m11 198 rfl) rfl
theorem q2747 : (Jvm.Cond.fieldLink "NapkinDeedsModel" (425 : Nat) "NapkinDeedsModel" "rowBest" "I") ∈ lw_all := lw_g (lw_at lw_m11 199 rfl) rfl
theorem q2748 : (Jvm.Cond.fieldLink "NapkinDeedsModel" (428 : Nat) "NapkinDeedsModel" "bestMany" "I") ∈ lw_all := lw_g (lw_at lw_m11 200 rfl) rfl
theorem q2749 : (Jvm.Cond.fieldLink "NapkinDeedsModel" (449 : Nat) "NapkinDeedsModel" "askedTray" "I") ∈ lw_all := lw_g (lw_at lw_m11 201 rfl) rfl
theorem q2750 : (Jvm.Cond.fieldLink "NapkinDeedsModel" (555 : Nat) "NapkinDeedsModel" "sureSet" "I") ∈ lw_all := lw_g (lw_at lw_m11 202 rfl) rfl
theorem q2751 : (Jvm.Cond.fieldLink "NapkinDeedsModel" (55 : Nat) "NapkinDeedsModel" "met" "[J") ∈ lw_all := lw_g (lw_at lw_m11 203 rfl) rfl
theorem q2752 : (Jvm.Cond.fieldLink "NapkinDeedsModel" (59 : Nat) "NapkinDeedsModel" "metBy" "[I") ∈ lw_all := lw_g (lw_at lw_m11 204 rfl) rfl
theorem q2753 : (Jvm.Cond.fieldLink "NapkinDeedsModel" (436 : Nat) "NapkinDeedsModel" "turn" "I") ∈ lw_all := lw_g (lw_at lw_m11 205 rfl) rfl
theorem q2754 : (Jvm.Cond.fieldLink "NapkinDeedsModel" (62 : Nat) "NapkinDeedsModel" "layers" "[I") ∈ lw_all := lw_g (lw_at lw_m11 206 rfl) rfl
theorem q2755 : (Jvm.Cond.fieldLink "NapkinDeedsModel" (65 : Nat) "NapkinDeedsModel" "beneathHow" "[I") ∈ lw_all := lw_g (lw_at lw_m11 207 rfl) rfl
theorem q2756 : (Jvm.Cond.fieldLink "NapkinDeedsModel" (68 : Nat) "NapkinDeedsModel" "tSort" "[I") ∈ lw_all := lw_g (lw_at lw_m11 208 rfl) rfl
theorem q2757 : (Jvm.Cond.fieldLink "NapkinDeedsModel" (71 : Nat) "NapkinDeedsModel" "tMany" "[I") ∈ lw_all := lw_g (lw_at lw_m11 209 rfl) rfl
theorem q2758 : (Jvm.Cond.fieldLink "NapkinDeedsModel" (74 : Nat) "NapkinDeedsModel" "numbers" "[J") ∈ lw_all := lw_g (lw_at lw_m11 210 rfl) rfl
theorem q2759 : (Jvm.Cond.laysFinal "NapkinDeedsModel" "NapkinDeedsModel" "known" "[I") ∈ lw_all := lw_g (lw_at lw_m11 211 rfl) rfl
theorem q2760 : (Jvm.Cond.soleField "NapkinDeedsModel" "known") ∈ lw_all := lw_g (lw_at lw_m11 212 rfl) rfl
theorem q2761 : (Jvm.Cond.laysFinal "NapkinDeedsModel" "NapkinDeedsModel" "telling" "[I") ∈ lw_all := lw_g (lw_at lw_m11 213 rfl) rfl
theorem q2762 : (Jvm.Cond.soleField "NapkinDeedsModel" "telling") ∈ lw_all := lw_g (lw_at lw_m11 214 rfl) rfl
theorem q2763 : (Jvm.Cond.laysFinal "NapkinDeedsModel" "NapkinDeedsModel" "images" "[I") ∈ lw_all := lw_g (lw_at lw_m11 215 rfl) rfl
theorem q2764 : (Jvm.Cond.soleField "NapkinDeedsModel" "images") ∈ lw_all := lw_g (lw_at lw_m11 216 rfl) rfl
theorem q2765 : (Jvm.Cond.laysFinal "NapkinDeedsModel" "NapkinDeedsModel" "isImage" "[Z") ∈ lw_all := lw_g (lw_at lw_m11 217 rfl) rfl
theorem q2766 : (Jvm.Cond.soleField "NapkinDeedsModel" "isImage") ∈ lw_all := lw_g (lw_at lw_m11 218 rfl) rfl
theorem q2767 : (Jvm.Cond.lays "NapkinDeedsModel" "NapkinDeedsModel" "thrown" "I") ∈ lw_all := lw_g (lw_at lw_m11 219 rfl) rfl
theorem q2768 : (Jvm.Cond.soleField "NapkinDeedsModel" "thrown") ∈ lw_all := lw_g (lw_at lw_m11 220 rfl) rfl
theorem q2769 : (Jvm.Cond.laysFinal "NapkinDeedsModel" "NapkinDeedsModel" "tape" "[I") ∈ lw_all := lw_g (lw_at lw_m11 221 rfl) rfl
theorem q2770 : (Jvm.Cond.soleField "NapkinDeedsModel" "tape") ∈ lw_all := lw_g (lw_at lw_m11 222 rfl) rfl
theorem q2771 : (Jvm.Cond.lays "NapkinDeedsModel" "NapkinDeedsModel" "taped" "I") ∈ lw_all := lw_g (lw_at lw_m11 223 rfl) rfl
theorem q2772 : (Jvm.Cond.soleField "NapkinDeedsModel" "taped") ∈ lw_all := lw_g (lw_at lw_m11 224 rfl) rfl
theorem q2773 : (Jvm.Cond.lays "NapkinDeedsModel" "NapkinDeedsModel" "length" "I") ∈ lw_all := lw_g (lw_at lw_m11 225 rfl) rfl
theorem q2774 : (Jvm.Cond.soleField "NapkinDeedsModel" "length") ∈ lw_all := lw_g (lw_at lw_m11 226 rfl) rfl
theorem q2775 : (Jvm.Cond.lays "NapkinDeedsModel" "NapkinDeedsModel" "head" "I") ∈ lw_all := lw_g (lw_at lw_m11 227 rfl) rfl
theorem q2776 : (Jvm.Cond.soleField "NapkinDeedsModel" "head") ∈ lw_all := lw_g (lw_at lw_m11 228 rfl) rfl
theorem q2777 : (Jvm.Cond.lays "NapkinDeedsModel" "NapkinDeedsModel" "begin" "I") ∈ lw_all := lw_g (lw_at lw_m11 229 rfl) rfl
theorem q2778 : (Jvm.Cond.soleField "NapkinDeedsModel" "begin") ∈ lw_all := lw_g (lw_at lw_m11 230 rfl) rfl
theorem q2779 : (Jvm.Cond.lays "NapkinDeedsModel" "NapkinDeedsModel" "token" "I") ∈ lw_all := lw_g (lw_at lw_m11 231 rfl) rfl
theorem q2780 : (Jvm.Cond.soleField "NapkinDeedsModel" "token") ∈ lw_all := lw_g (lw_at lw_m11 232 rfl) rfl
theorem q2781 : (Jvm.Cond.lays "NapkinDeedsModel" "NapkinDeedsModel" "value" "I") ∈ lw_all := lw_g (lw_at lw_m11 233 rfl) rfl
theorem q2782 : (Jvm.Cond.soleField "NapkinDeedsModel" "value") ∈ lw_all := lw_g (lw_at lw_m11 234 rfl) rfl
theorem q2783 : (Jvm.Cond.lays "NapkinDeedsModel" "NapkinDeedsModel" "bad" "I") ∈ lw_all := lw_g (lw_at lw_m11 235 rfl) rfl
theorem q2784 : (Jvm.Cond.soleField "NapkinDeedsModel" "bad") ∈ lw_all := lw_g (lw_at lw_m11 236 rfl) rfl
theorem q2785 : (Jvm.Cond.lays "NapkinDeedsModel" "NapkinDeedsModel" "badPlace" "I") ∈ lw_all := lw_g (lw_at lw_m11 237 rfl) rfl
theorem q2786 : (Jvm.Cond.soleField "NapkinDeedsModel" "badPlace") ∈ lw_all := lw_g (lw_at lw_m11 238 rfl) rfl
theorem q2787 : (Jvm.Cond.lays "NapkinDeedsModel" "NapkinDeedsModel" "faultKind" "I") ∈ lw_all := lw_g (lw_at lw_m11 239 rfl) rfl
theorem q2788 : (Jvm.Cond.soleField "NapkinDeedsModel" "faultKind") ∈ lw_all := lw_g (lw_at lw_m12 0 rfl) rfl
theorem q2789 : (Jvm.Cond.lays "NapkinDeedsModel" "NapkinDeedsModel" "faultPlace" "I") ∈ lw_all := lw_g (lw_at lw_m12 1 rfl) rfl
theorem q2790 : (Jvm.Cond.soleField "NapkinDeedsModel" "faultPlace") ∈ lw_all := lw_g (lw_at lw_m12 2 rfl) rfl
theorem q2791 : (Jvm.Cond.lays "NapkinDeedsModel" "NapkinDeedsModel" "deep" "I") ∈ lw_all := lw_g (lw_at lw_m12 3 rfl) rfl
theorem q2792 : (Jvm.Cond.soleField "NapkinDeedsModel" "deep") ∈ lw_all := lw_g (lw_at lw_m12 4 rfl) rfl
theorem q2793 : (Jvm.Cond.lays "NapkinDeedsModel" "NapkinDeedsModel" "lawMany" "I") ∈ lw_all := lw_g (lw_at lw_m12 5 rfl) rfl
theorem q2794 : (Jvm.Cond.soleField "NapkinDeedsModel" "lawMany") ∈ lw_all := lw_g (lw_at lw_m12 6 rfl) rfl
theorem q2795 : (Jvm.Cond.lays "NapkinDeedsModel" "NapkinDeedsModel" "lawAt" "I") ∈ lw_all := lw_g (lw_at lw_m12 7 rfl) rfl
theorem q2796 : (Jvm.Cond.soleField "NapkinDeedsModel" "lawAt") ∈ lw_all := lw_g (lw_at lw_m12 8 rfl) rfl
theorem q2797 : (Jvm.Cond.laysFinal "NapkinDeedsModel" "NapkinDeedsModel" "lies" "[I") ∈ lw_all := lw_g (lw_at lw_m12 9 rfl) rfl
theorem q2798 : (Jvm.Cond.soleField "NapkinDeedsModel" "lies") ∈ lw_all := lw_g (lw_at lw_m12 10 rfl) rfl
theorem q2799 : (Jvm.Cond.laysFinal "NapkinDeedsModel" "NapkinDeedsModel" "places" "[I") ∈ lw_all := lw_g (lw_at lw_m12 11 rfl) rfl
theorem q2800 : (Jvm.Cond.soleField "NapkinDeedsModel" "places") ∈ lw_all := lw_g (lw_at lw_m12 12 rfl) rfl
theorem q2801 : (Jvm.Cond.laysFinal "NapkinDeedsModel" "NapkinDeedsModel" "lawStack" "[I") ∈ lw_all := lw_g (lw_at lw_m12 13 rfl) rfl
theorem q2802 : (Jvm.Cond.soleField "NapkinDeedsModel" "lawStack") ∈ lw_all := lw_g (lw_at lw_m12 14 rfl) rfl
theorem q2803 : (Jvm.Cond.laysFinal "NapkinDeedsModel" "NapkinDeedsModel" "asked" "[I") ∈ lw_all := lw_g (lw_at lw_m12 15 rfl) rfl
theorem q2804 : (Jvm.Cond.soleField "NapkinDeedsModel" "asked") ∈ lw_all := lw_g (lw_at lw_m12 16 rfl) rfl
theorem q2805 : (Jvm.Cond.laysFinal "NapkinDeedsModel" "NapkinDeedsModel" "aside" "[I") ∈ lw_all := lw_g (lw_at lw_m12 17 rfl) rfl
theorem q2806 : (Jvm.Cond.soleField "NapkinDeedsModel" "aside") ∈ lw_all := lw_g (lw_at lw_m12 18 rfl) rfl
theorem q2807 : (Jvm.Cond.lays "NapkinDeedsModel" "NapkinDeedsModel" "state" "I") ∈ lw_all := lw_g (lw_at lw_m12 19 rfl) rfl
theorem q2808 : (Jvm.Cond.soleField "NapkinDeedsModel" "state") ∈ lw_all := lw_g (lw_at lw_m12 20 rfl) rfl
theorem q2809 : (Jvm.Cond.laysFinal "NapkinDeedsModel" "NapkinDeedsModel" "row" "[I") ∈ lw_all := lw_g (lw_at lw_m12 21 rfl) rfl
theorem q2810 : (Jvm.Cond.soleField "NapkinDeedsModel" "row") ∈ lw_all := lw_g (lw_at lw_m12 22 rfl) rfl
theorem q2811 : (Jvm.Cond.laysFinal "NapkinDeedsModel" "NapkinDeedsModel" "bestRow" "[I") ∈ lw_all := lw_g (lw_at lw_m12 23 rfl) rfl
theorem q2812 : (Jvm.Cond.soleField "NapkinDeedsModel" "bestRow") ∈ lw_all := lw_g (lw_at lw_m12 24 rfl) rfl
theorem q2813 : (Jvm.Cond.laysFinal "NapkinDeedsModel" "NapkinDeedsModel" "likedNow" "[I") ∈ lw_all := lw_g (lw_at lw_m12 25 rfl) rfl
theorem q2814 : (Jvm.Cond.soleField "NapkinDeedsModel" "likedNow") ∈ lw_all := lw_g (lw_at lw_m12 26 rfl) rfl
theorem q2815 : (Jvm.Cond.lays "NapkinDeedsModel" "NapkinDeedsModel" "askedWhat" "I") ∈ lw_all := lw_g (lw_at lw_m12 27 rfl) rfl
theorem q2816 : (Jvm.Cond.soleField "NapkinDeedsModel" "askedWhat") ∈ lw_all := lw_g (lw_at lw_m12 28 rfl) rfl
theorem q2817 : (Jvm.Cond.lays "NapkinDeedsModel" "NapkinDeedsModel" "from" "I") ∈ lw_all := lw_g (lw_at lw_m12 29 rfl) rfl
theorem q2818 : (Jvm.Cond.soleField "NapkinDeedsModel" "from") ∈ lw_all := lw_g (lw_at lw_m12 30 rfl) rfl
theorem q2819 : (Jvm.Cond.lays "NapkinDeedsModel" "NapkinDeedsModel" "rowMany" "I") ∈ lw_all := lw_g (lw_at lw_m12 31 rfl) rfl
theorem q2820 : (Jvm.Cond.soleField "NapkinDeedsModel" "rowMany") ∈ lw_all := lw_g (lw_at lw_m12 32 rfl) rfl
theorem q2821 : (Jvm.Cond.lays "NapkinDeedsModel" "NapkinDeedsModel" "rowBest" "I") ∈ lw_all := lw_g (lw_at lw_m12 33 rfl) rfl
theorem q2822 : (Jvm.Cond.soleField "NapkinDeedsModel" "rowBest") ∈ lw_all := lw_g (lw_at lw_m12 34 rfl) rfl
theorem q2823 : (Jvm.Cond.lays "NapkinDeedsModel" "NapkinDeedsModel" "bestMany" "I") ∈ lw_all := lw_g (lw_at lw_m12 35 rfl) rfl
theorem q2824 : (Jvm.Cond.soleField "NapkinDeedsModel" "bestMany") ∈ lw_all := lw_g (lw_at lw_m12 36 rfl) rfl
theorem q2825 : (Jvm.Cond.lays "NapkinDeedsModel" "NapkinDeedsModel" "askedTray" "I") ∈ lw_all := lw_g (lw_at lw_m12 37 rfl) rfl
theorem q2826 : (Jvm.Cond.soleField "NapkinDeedsModel" "askedTray") ∈ lw_all := lw_g (lw_at lw_m12 38 rfl) rfl
theorem q2827 : (Jvm.Cond.lays "NapkinDeedsModel" "NapkinDeedsModel" "sureSet" "I") ∈ lw_all := lw_g (lw_at lw_m12 39 rfl) rfl
theorem q2828 : (Jvm.Cond.soleField "NapkinDeedsModel" "sureSet") ∈ lw_all := lw_g (lw_at lw_m12 40 rfl) rfl
theorem q2829 : (Jvm.Cond.laysFinal "NapkinDeedsModel" "NapkinDeedsModel" "met" "[J") ∈ lw_all := lw_g (lw_at lw_m12 41 rfl) rfl
theorem q2830 : (Jvm.Cond.soleField "NapkinDeedsModel" "met") ∈ lw_all := lw_g (lw_at lw_m12 42 rfl) rfl
theorem q2831 : (Jvm.Cond.laysFinal "NapkinDeedsModel" "NapkinDeedsModel" "metBy" "[I") ∈ lw_all := lw_g (lw_at lw_m12 43 rfl) rfl
theorem q2832 : (Jvm.Cond.soleField "NapkinDeedsModel" "metBy") ∈ lw_all := lw_g (lw_at lw_m12 44 rfl) rfl
theorem q2833 : (Jvm.Cond.lays "NapkinDeedsModel" "NapkinDeedsModel" "turn" "I") ∈ lw_all := lw_g (lw_at lw_m12 45 rfl) rfl
theorem q2834 : (Jvm.Cond.soleField "NapkinDeedsModel" "turn") ∈ lw_all := lw_g (lw_at lw_m12 46 rfl) rfl
theorem q2835 : (Jvm.Cond.laysFinal "NapkinDeedsModel" "NapkinDeedsModel" "layers" "[I") ∈ lw_all := lw_g (lw_at lw_m12 47 rfl) rfl
theorem q2836 : (Jvm.Cond.soleField "NapkinDeedsModel" "layers") ∈ lw_all := lw_g (lw_at lw_m12 48 rfl) rfl
theorem q2837 : (Jvm.Cond.laysFinal "NapkinDeedsModel" "NapkinDeedsModel" "beneathHow" "[I") ∈ lw_all := lw_g (lw_at lw_m12 49 rfl) rfl
theorem q2838 : (Jvm.Cond.soleField "NapkinDeedsModel" "beneathHow") ∈ lw_all := lw_g (lw_at lw_m12 50 rfl) rfl
theorem q2839 : (Jvm.Cond.laysFinal "NapkinDeedsModel" "NapkinDeedsModel" "tSort" "[I") ∈ lw_all := lw_g (lw_at lw_m12 51 rfl) rfl
theorem q2840 : (Jvm.Cond.soleField "NapkinDeedsModel" "tSort") ∈ lw_all := lw_g (lw_at lw_m12 52 rfl) rfl
theorem q2841 : (Jvm.Cond.laysFinal "NapkinDeedsModel" "NapkinDeedsModel" "tMany" "[I") ∈ lw_all := lw_g (lw_at lw_m12 53 rfl) rfl
theorem q2842 : (Jvm.Cond.soleField "NapkinDeedsModel" "tMany") ∈ lw_all := lw_g (lw_at lw_m12 54 rfl) rfl
theorem q2843 : (Jvm.Cond.laysFinal "NapkinDeedsModel" "NapkinDeedsModel" "numbers" "[J") ∈ lw_all := lw_g (lw_at lw_m12 55 rfl) rfl
theorem q2844 : (Jvm.Cond.soleField "NapkinDeedsModel" "numbers") ∈ lw_all := lw_g (lw_at lw_m12 56 rfl) rfl
theorem q2845 : (Jvm.Cond.superclass "NapkinDeedsModel" "java/lang/Object") ∈ lw_all := lw_g (lw_at lw_m12 57 rfl) rfl
theorem q2848 : (Jvm.Cond.instanceMethod ({ cls := "NapkinDeedsModel", name := "thrown", desc := "()I" } : Jvm.MethodName)) ∈ lw_all := lw_g (lw_at lw_m12 60 rfl) rfl
theorem q2849 : (Jvm.Cond.selects "NapkinDeedsModel" ({ cls := "NapkinDeedsModel", name := "thrown", desc := "()I" } : Jvm.MethodName) ({ cls := "NapkinDeedsModel", name := "thrown", desc := "()I" } : Jvm.MethodName)) ∈ lw_all := lw_g (lw_at lw_m12 61 rfl) rfl
theorem q2850 : (Jvm.Cond.code ({ cls := "NapkinDeedsModel", name := "thrown", desc := "()I" } : Jvm.MethodName) prog_43_method_2_code (1 : Nat) (Option.some Jvm.ClassFile.FieldType.int)) ∈ lw_all := lw_g (lw_at lw_m12 62 rfl) rfl
theorem q2852 : (Jvm.Cond.instanceMethod ({ cls := "NapkinDeedsModel", name := "feed", desc := "(IIIII)I" } : Jvm.MethodName)) ∈ lw_all := lw_g (lw_at lw_m12 64 rfl) rfl
theorem q2853 : (Jvm.Cond.selects "NapkinDeedsModel" ({ cls := "NapkinDeedsModel", name := "feed", desc := "(IIIII)I" } : Jvm.MethodName) ({ cls := "NapkinDeedsModel", name := "feed", desc := "(IIIII)I" } : Jvm.MethodName)) ∈ lw_all := lw_g (lw_at lw_m12 65 rfl) rfl
theorem q2854 : (Jvm.Cond.code ({ cls := "NapkinDeedsModel", name := "feed", desc := "(IIIII)I" } : Jvm.MethodName) prog_43_method_7_code (8 : Nat) (Option.some Jvm.ClassFile.FieldType.int)) ∈ lw_all := lw_g (lw_at lw_m12 66 rfl) rfl
theorem q2856 : (Jvm.Cond.instanceMethod ({ cls := "NapkinDeedsModel", name := "napkin", desc := "(I)I" } : Jvm.MethodName)) ∈ lw_all := lw_g (lw_at lw_m12 68 rfl) rfl
theorem q2857 : (Jvm.Cond.selects "NapkinDeedsModel" ({ cls := "NapkinDeedsModel", name := "napkin", desc := "(I)I" } : Jvm.MethodName) ({ cls := "NapkinDeedsModel", name := "napkin", desc := "(I)I" } : Jvm.MethodName)) ∈ lw_all := lw_g (lw_at lw_m12 69 rfl) rfl
theorem q2858 : (Jvm.Cond.code ({ cls := "NapkinDeedsModel", name := "napkin", desc := "(I)I" } : Jvm.MethodName) prog_43_method_35_code (3 : Nat) (Option.some Jvm.ClassFile.FieldType.int)) ∈ lw_all := lw_g (lw_at lw_m12 70 rfl) rfl
theorem q2859 : (Jvm.Cond.methodLink "NapkinDeedsModel" (138 : Nat) ({ cls := "NapkinDeedsModel", name := "within", desc := "(JJJ)Z" } : Jvm.MethodName)) ∈ lw_all := lw_g (lw_at lw_m12 71 rfl) rfl
theorem q2860 : (Jvm.Cond.static ({ cls := "NapkinDeedsModel", name := "within", desc := "(JJJ)Z" } : Jvm.MethodName)) ∈ lw_all := lw_g (lw_at lw_m12 72 rfl) rfl
theorem q2861 : (Jvm.Cond.code ({ cls := "NapkinDeedsModel", name := "within", desc := "(JJJ)Z" } : Jvm.MethodName) prog_43_method_4_code (6 : Nat) (Option.some Jvm.ClassFile.FieldType.boolean)) ∈ lw_all := lw_g (lw_at lw_m12 73 rfl) rfl
theorem q2862 : (Jvm.Cond.methodLink "NapkinDeedsModel" (244 : Nat) ({ cls := "NapkinDeedsModel", name := "fails", desc := "(I)I" } : Jvm.MethodName)) ∈ lw_all := lw_g (lw_at lw_m12 74 rfl) rfl
theorem q2863 : (Jvm.Cond.privateMethod ({ cls := "NapkinDeedsModel", name := "fails", desc := "(I)I" } : Jvm.MethodName)) ∈ lw_tbl := lw_at lw_m12 75 rfl
theorem q2864 : (Jvm.Cond.instanceMethod ({ cls := "NapkinDeedsModel", name := "fails", desc := "(I)I" } : Jvm.MethodName)) ∈ lw_all := lw_g (lw_at lw_m12 76 rfl) rfl
theorem q2865 : (Jvm.Cond.code ({ cls := "NapkinDeedsModel", name := "fails", desc := "(I)I" } : Jvm.MethodName) prog_43_method_3_code (2 : Nat) (Option.some Jvm.ClassFile.FieldType.int)) ∈ lw_all := lw_g (lw_at lw_m12 77 rfl) rfl
theorem q2866 : (Jvm.Cond.methodLink "NapkinDeedsModel" (131 : Nat) ({ cls := "NapkinDeedsModel", name := "readsOn", desc := "()V" } : Jvm.MethodName)) ∈ lw_all := lw_g (lw_at lw_m12 78 rfl) rfl
theorem q2867 : (Jvm.Cond.privateMethod ({ cls := "NapkinDeedsModel", name := "readsOn", desc := "()V" } : Jvm.MethodName)) ∈ lw_tbl := lw_at lw_m12 79 rfl
theorem q2868 : (Jvm.Cond.instanceMethod ({ cls := "NapkinDeedsModel", name := "readsOn", desc := "()V" } : Jvm.MethodName)) ∈ lw_all := lw_g (lw_at lw_m12 80 rfl) rfl
theorem q2869 : (Jvm.Cond.code ({ cls := "NapkinDeedsModel", name := "readsOn", desc := "()V" } : Jvm.MethodName) prog_43_method_12_code (2 : Nat) (Option.none : Option Jvm.ClassFile.FieldType)) ∈ lw_all := lw_g (lw_at lw_m12 81 rfl) rfl
theorem q2870 : (Jvm.Cond.methodLink "NapkinDeedsModel" (95 : Nat) ({ cls := "NapkinDeedsModel", name := "isLetter", desc := "(I)Z" } : Jvm.MethodName)) ∈ lw_all := lw_g (lw_at lw_m12 82 rfl) rfl
theorem q2871 : (Jvm.Cond.static ({ cls := "NapkinDeedsModel", name := "isLetter", desc := "(I)Z" } : Jvm.MethodName)) ∈ lw_all := lw_g (lw_at lw_m12 83 rfl) rfl
theorem q2872 : (Jvm.Cond.code ({ cls := "NapkinDeedsModel", name := "isLetter", desc := "(I)Z" } : Jvm.MethodName) prog_43_method_9_code (1 : Nat) (Option.some Jvm.ClassFile.FieldType.boolean)) ∈ lw_all := lw_g (lw_at lw_m12 84 rfl) rfl
theorem q2873 : (Jvm.Cond.methodLink "NapkinDeedsModel" (99 : Nat) ({ cls := "NapkinDeedsModel", name := "see", desc := "(I)I" } : Jvm.MethodName)) ∈ lw_all := lw_g (lw_at lw_m12 85 rfl) rfl
theorem q2874 : (Jvm.Cond.privateMethod ({ cls := "NapkinDeedsModel", name := "see", desc := "(I)I" } : Jvm.MethodName)) ∈ lw_tbl := lw_at lw_m12 86 rfl
theorem q2875 : (Jvm.Cond.instanceMethod ({ cls := "NapkinDeedsModel", name := "see", desc := "(I)I" } : Jvm.MethodName)) ∈ lw_all := lw_g (lw_at lw_m12 87 rfl) rfl
theorem q2876 : (Jvm.Cond.code ({ cls := "NapkinDeedsModel", name := "see", desc := "(I)I" } : Jvm.MethodName) prog_43_method_8_code (2 : Nat) (Option.some Jvm.ClassFile.FieldType.int)) ∈ lw_all := lw_g (lw_at lw_m12 88 rfl) rfl
theorem q2877 : (Jvm.Cond.methodLink "NapkinDeedsModel" (103 : Nat) ({ cls := "NapkinDeedsModel", name := "isDigit", desc := "(I)Z" } : Jvm.MethodName)) ∈ lw_all := lw_g (lw_at lw_m12 89 rfl) rfl
theorem q2878 : (Jvm.Cond.static ({ cls := "NapkinDeedsModel", name := "isDigit", desc := "(I)Z" } : Jvm.MethodName)) ∈ lw_all := lw_g (lw_at lw_m12 90 rfl) rfl
theorem q2879 : (Jvm.Cond.code ({ cls := "NapkinDeedsModel", name := "isDigit", desc := "(I)Z" } : Jvm.MethodName) prog_43_method_10_code (1 : Nat) (Option.some Jvm.ClassFile.FieldType.boolean)) ∈ lw_all := lw_g (lw_at lw_m12 91 rfl) rfl
theorem q2880 : (Jvm.Cond.methodLink "NapkinDeedsModel" (109 : Nat) ({ cls := "NapkinDeedsModel", name := "isSignByte", desc := "(I)Z" } : Jvm.MethodName)) ∈ lw_all := lw_g (lw_at lw_m12 92 rfl) rfl
theorem q2881 : (Jvm.Cond.static ({ cls := "NapkinDeedsModel", name := "isSignByte", desc := "(I)Z" } : Jvm.MethodName)) ∈ lw_all := lw_g (lw_at lw_m12 93 rfl) rfl
theorem q2882 : (Jvm.Cond.code ({ cls := "NapkinDeedsModel", name := "isSignByte", desc := "(I)Z" } : Jvm.MethodName) prog_43_method_11_code (2 : Nat) (Option.some Jvm.ClassFile.FieldType.boolean)) ∈ lw_all := lw_g (lw_at lw_m12 94 rfl) rfl
theorem q2883 : (Jvm.Cond.methodLink "NapkinDeedsModel" (247 : Nat) ({ cls := "NapkinDeedsModel", name := "readLine", desc := "()V" } : Jvm.MethodName)) ∈ lw_all := lw_g (lw_at lw_m12 95 rfl) rfl
theorem q2884 : (Jvm.Cond.privateMethod ({ cls := "NapkinDeedsModel", name := "readLine", desc := "()V" } : Jvm.MethodName)) ∈ lw_tbl := lw_at lw_m12 96 rfl
theorem q2885 : (Jvm.Cond.instanceMethod ({ cls := "NapkinDeedsModel", name := "readLine", desc := "()V" } : Jvm.MethodName)) ∈ lw_all := lw_g (lw_at lw_m12 97 rfl) rfl
theorem q2886 : (Jvm.Cond.code ({ cls := "NapkinDeedsModel", name := "readLine", desc := "()V" } : Jvm.MethodName) prog_43_method_34_code (1 : Nat) (Option.none : Option Jvm.ClassFile.FieldType)) ∈ lw_all := lw_g (lw_at lw_m12 98 rfl) rfl
theorem q2887 : (Jvm.Cond.stringRef "NapkinDeedsModel" (223 : Nat) "cell") ∈ lw_tbl := lw_at lw_m12 99 rfl
theorem q2888 : (Jvm.Cond.methodLink "NapkinDeedsModel" (127 : Nat) ({ cls := "NapkinDeedsModel", name := "isWord", desc := "(Ljava/lang/String;)Z" } : Jvm.MethodName)) ∈ lw_all := lw_g (lw_at lw_m12 100 rfl) rfl
theorem q2889 : (Jvm.Cond.privateMethod ({ cls := "NapkinDeedsModel", name := "isWord", desc := "(Ljava/lang/String;)Z" } : Jvm.MethodName)) ∈ lw_tbl := lw_at lw_m12 101 rfl
theorem q2890 : (Jvm.Cond.instanceMethod ({ cls := "NapkinDeedsModel", name := "isWord", desc := "(Ljava/lang/String;)Z" } : Jvm.MethodName)) ∈ lw_all := lw_g (lw_at lw_m12 102 rfl) rfl
theorem q2891 : (Jvm.Cond.code ({ cls := "NapkinDeedsModel", name := "isWord", desc := "(Ljava/lang/String;)Z" } : Jvm.MethodName) prog_43_method_14_code (4 : Nat) (Option.some Jvm.ClassFile.FieldType.boolean)) ∈ lw_all := lw_g (lw_at lw_m12 103 rfl) rfl
theorem q2892 : (Jvm.Cond.methodLink "NapkinDeedsModel" (118 : Nat) ({ cls := "java/lang/String", name := "length", desc := "()I" } : Jvm.MethodName)) ∈ lw_all := lw_g (lw_at lw_m12 104 rfl) rfl
theorem q2893 : (Jvm.Cond.methodLink "NapkinDeedsModel" (123 : Nat) ({ cls := "java/lang/String", name := "charAt", desc := "(I)C" } : Jvm.MethodName)) ∈ lw_all := lw_g (lw_at lw_m12 105 rfl) rfl
theorem q2894 : (Jvm.Cond.methodLink "NapkinDeedsModel" (225 : Nat) ({ cls := "NapkinDeedsModel", name := "readCell", desc := "()V" } : Jvm.MethodName)) ∈ lw_all := lw_g (lw_at lw_m12 106 rfl) rfl
theorem q2895 : (Jvm.Cond.privateMethod ({ cls := "NapkinDeedsModel", name := "readCell", desc := "()V" } : Jvm.MethodName)) ∈ lw_tbl := lw_at lw_m12 107 rfl
theorem q2896 : (Jvm.Cond.instanceMethod ({ cls := "NapkinDeedsModel", name := "readCell", desc := "()V" } : Jvm.MethodName)) ∈ lw_all := lw_g (lw_at lw_m12 108 rfl) rfl
theorem q2897 : (Jvm.Cond.code ({ cls := "NapkinDeedsModel", name := "readCell", desc := "()V" } : Jvm.MethodName) prog_43_method_31_code (3 : Nat) (Option.none : Option Jvm.ClassFile.FieldType)) ∈ lw_all := lw_g (lw_at lw_m12 109 rfl) rfl
theorem q2898 : (Jvm.Cond.methodLink "NapkinDeedsModel" (213 : Nat) ({ cls := "NapkinDeedsModel", name := "begins", desc := "(II)Z" } : Jvm.MethodName)) ∈ lw_all := lw_g (lw_at lw_m12 110 rfl) rfl
theorem q2899 : (Jvm.Cond.privateMethod ({ cls := "NapkinDeedsModel", name := "begins", desc := "(II)Z" } : Jvm.MethodName)) ∈ lw_tbl := lw_at lw_m12 111 rfl
theorem q2900 : (Jvm.Cond.instanceMethod ({ cls := "NapkinDeedsModel", name := "begins", desc := "(II)Z" } : Jvm.MethodName)) ∈ lw_all := lw_g (lw_at lw_m12 112 rfl) rfl
theorem q2901 : (Jvm.Cond.code ({ cls := "NapkinDeedsModel", name := "begins", desc := "(II)Z" } : Jvm.MethodName) prog_43_method_30_code (3 : Nat) (Option.some Jvm.ClassFile.FieldType.boolean)) ∈ lw_all := lw_g (lw_at lw_m12 113 rfl) rfl
theorem q2902 : (Jvm.Cond.methodLink "NapkinDeedsModel" (134 : Nat) ({ cls := "NapkinDeedsModel", name := "blames", desc := "(I)V" } : Jvm.MethodName)) ∈ lw_all := lw_g (lw_at lw_m12 114 rfl) rfl
theorem q2903 : (Jvm.Cond.privateMethod ({ cls := "NapkinDeedsModel", name := "blames", desc := "(I)V" } : Jvm.MethodName)) ∈ lw_tbl := lw_at lw_m12 115 rfl
theorem q2904 : (Jvm.Cond.instanceMethod ({ cls := "NapkinDeedsModel", name := "blames", desc := "(I)V" } : Jvm.MethodName)) ∈ lw_all := lw_g (lw_at lw_m12 116 rfl) rfl
theorem q2905 : (Jvm.Cond.code ({ cls := "NapkinDeedsModel", name := "blames", desc := "(I)V" } : Jvm.MethodName) prog_43_method_13_code (2 : Nat) (Option.none : Option Jvm.ClassFile.FieldType)) ∈ lw_all := lw_g (lw_at lw_m12 117 rfl) rfl
theorem q2906 : (Jvm.Cond.methodLink "NapkinDeedsModel" (209 : Nat) ({ cls := "NapkinDeedsModel", name := "number", desc := "(II)I" } : Jvm.MethodName)) ∈ lw_all := lw_g (lw_at lw_m12 118 rfl) rfl
theorem q2907 : (Jvm.Cond.privateMethod ({ cls := "NapkinDeedsModel", name := "number", desc := "(II)I" } : Jvm.MethodName)) ∈ lw_tbl := lw_at lw_m12 119 rfl
theorem q2908 : (Jvm.Cond.instanceMethod ({ cls := "NapkinDeedsModel", name := "number", desc := "(II)I" } : Jvm.MethodName)) ∈ lw_all := lw_g (lw_at lw_m12 120 rfl) rfl
theorem q2909 : (Jvm.Cond.code ({ cls := "NapkinDeedsModel", name := "number", desc := "(II)I" } : Jvm.MethodName) prog_43_method_18_code (4 : Nat) (Option.some Jvm.ClassFile.FieldType.int)) ∈ lw_all := lw_g (lw_at lw_m12 121 rfl) rfl
theorem q2910 : (Jvm.Cond.stringRef "NapkinDeedsModel" (217 : Nat) "back") ∈ lw_tbl := lw_at lw_m12 122 rfl
theorem q2911 : (Jvm.Cond.methodLink "NapkinDeedsModel" (219 : Nat) ({ cls := "NapkinDeedsModel", name := "mustWord", desc := "(Ljava/lang/String;)V" } : Jvm.MethodName)) ∈ lw_all := lw_g (lw_at lw_m12 123 rfl) rfl
theorem q2912 : (Jvm.Cond.privateMethod ({ cls := "NapkinDeedsModel", name := "mustWord", desc := "(Ljava/lang/String;)V" } : Jvm.MethodName)) ∈ lw_tbl := lw_at lw_m12 124 rfl
theorem q2913 : (Jvm.Cond.instanceMethod ({ cls := "NapkinDeedsModel", name := "mustWord", desc := "(Ljava/lang/String;)V" } : Jvm.MethodName)) ∈ lw_all := lw_g (lw_at lw_m12 125 rfl) rfl
theorem q2914 : (Jvm.Cond.code ({ cls := "NapkinDeedsModel", name := "mustWord", desc := "(Ljava/lang/String;)V" } : Jvm.MethodName) prog_43_method_19_code (2 : Nat) (Option.none : Option Jvm.ClassFile.FieldType)) ∈ lw_all := lw_g (lw_at lw_m12 126 rfl) rfl
theorem q2915 : (Jvm.Cond.methodLink "NapkinDeedsModel" (142 : Nat) ({ cls := "NapkinDeedsModel", name := "took", desc := "(Ljava/lang/String;)Z" } : Jvm.MethodName)) ∈ lw_all := lw_g (lw_at lw_m12 127 rfl) rfl
theorem q2916 : (Jvm.Cond.privateMethod ({ cls := "NapkinDeedsModel", name := "took", desc := "(Ljava/lang/String;)Z" } : Jvm.MethodName)) ∈ lw_tbl := lw_at lw_m12 128 rfl
theorem q2917 : (Jvm.Cond.instanceMethod ({ cls := "NapkinDeedsModel", name := "took", desc := "(Ljava/lang/String;)Z" } : Jvm.MethodName)) ∈ lw_all := lw_g (lw_at lw_m12 129 rfl) rfl
theorem q2918 : (Jvm.Cond.code ({ cls := "NapkinDeedsModel", name := "took", desc := "(Ljava/lang/String;)Z" } : Jvm.MethodName) prog_43_method_15_code (3 : Nat) (Option.some Jvm.ClassFile.FieldType.boolean)) ∈ lw_all := lw_g (lw_at lw_m12 130 rfl) rfl
theorem q2919 : (Jvm.Cond.stringRef "NapkinDeedsModel" (202 : Nat) "guest") ∈ lw_tbl := lw_at lw_m12 131 rfl
theorem q2920 : (Jvm.Cond.methodLink "NapkinDeedsModel" (228 : Nat) ({ cls := "NapkinDeedsModel", name := "readGuest", desc := "()V" } : Jvm.MethodName)) ∈ lw_all := lw_g (lw_at lw_m12 132 rfl) rfl
theorem q2921 : (Jvm.Cond.privateMethod ({ cls := "NapkinDeedsModel", name := "readGuest", desc := "()V" } : Jvm.MethodName)) ∈ lw_tbl := lw_at lw_m12 133 rfl
theorem q2922 : (Jvm.Cond.instanceMethod ({ cls := "NapkinDeedsModel", name := "readGuest", desc := "()V" } : Jvm.MethodName)) ∈ lw_all := lw_g (lw_at lw_m12 134 rfl) rfl
theorem q2923 : (Jvm.Cond.code ({ cls := "NapkinDeedsModel", name := "readGuest", desc := "()V" } : Jvm.MethodName) prog_43_method_32_code (2 : Nat) (Option.none : Option Jvm.ClassFile.FieldType)) ∈ lw_all := lw_g (lw_at lw_m12 135 rfl) rfl
theorem q2924 : (Jvm.Cond.stringRef "NapkinDeedsModel" (231 : Nat) "worth") ∈ lw_tbl := lw_at lw_m12 136 rfl
theorem q2925 : (Jvm.Cond.methodLink "NapkinDeedsModel" (233 : Nat) ({ cls := "NapkinDeedsModel", name := "beginsLaw", desc := "(II)V" } : Jvm.MethodName)) ∈ lw_all := lw_g (lw_at lw_m12 137 rfl) rfl
theorem q2926 : (Jvm.Cond.privateMethod ({ cls := "NapkinDeedsModel", name := "beginsLaw", desc := "(II)V" } : Jvm.MethodName)) ∈ lw_tbl := lw_at lw_m12 138 rfl
theorem q2927 : (Jvm.Cond.instanceMethod ({ cls := "NapkinDeedsModel", name := "beginsLaw", desc := "(II)V" } : Jvm.MethodName)) ∈ lw_all := lw_g (lw_at lw_m12 139 rfl) rfl
theorem q2928 : (Jvm.Cond.code ({ cls := "NapkinDeedsModel", name := "beginsLaw", desc := "(II)V" } : Jvm.MethodName) prog_43_method_21_code (3 : Nat) (Option.none : Option Jvm.ClassFile.FieldType)) ∈ lw_all := lw_g (lw_at lw_m12 140 rfl) rfl
theorem q2929 : (Jvm.Cond.methodLink "NapkinDeedsModel" (151 : Nat) ({ cls := "NapkinDeedsModel", name := "mustSign", desc := "(I)V" } : Jvm.MethodName)) ∈ lw_all := lw_g (lw_at lw_m12 141 rfl) rfl
theorem q2930 : (Jvm.Cond.privateMethod ({ cls := "NapkinDeedsModel", name := "mustSign", desc := "(I)V" } : Jvm.MethodName)) ∈ lw_tbl := lw_at lw_m12 142 rfl
theorem q2931 : (Jvm.Cond.instanceMethod ({ cls := "NapkinDeedsModel", name := "mustSign", desc := "(I)V" } : Jvm.MethodName)) ∈ lw_all := lw_g (lw_at lw_m12 143 rfl) rfl
theorem q2932 : (Jvm.Cond.code ({ cls := "NapkinDeedsModel", name := "mustSign", desc := "(I)V" } : Jvm.MethodName) prog_43_method_17_code (2 : Nat) (Option.none : Option Jvm.ClassFile.FieldType)) ∈ lw_all := lw_g (lw_at lw_m12 144 rfl) rfl
theorem q2933 : (Jvm.Cond.methodLink "NapkinDeedsModel" (181 : Nat) ({ cls := "NapkinDeedsModel", name := "readSum", desc := "()V" } : Jvm.MethodName)) ∈ lw_all := lw_g (lw_at lw_m12 145 rfl) rfl
theorem q2934 : (Jvm.Cond.privateMethod ({ cls := "NapkinDeedsModel", name := "readSum", desc := "()V" } : Jvm.MethodName)) ∈ lw_tbl := lw_at lw_m12 146 rfl
theorem q2935 : (Jvm.Cond.instanceMethod ({ cls := "NapkinDeedsModel", name := "readSum", desc := "()V" } : Jvm.MethodName)) ∈ lw_all := lw_g (lw_at lw_m12 147 rfl) rfl
theorem q2936 : (Jvm.Cond.code ({ cls := "NapkinDeedsModel", name := "readSum", desc := "()V" } : Jvm.MethodName) prog_43_method_26_code (2 : Nat) (Option.none : Option Jvm.ClassFile.FieldType)) ∈ lw_all := lw_g (lw_at lw_m12 148 rfl) rfl
theorem q2937 : (Jvm.Cond.methodLink "NapkinDeedsModel" (184 : Nat) ({ cls := "NapkinDeedsModel", name := "readTerm", desc := "()V" } : Jvm.MethodName)) ∈ lw_all := lw_g (lw_at lw_m12 149 rfl) rfl
theorem q2938 : (Jvm.Cond.privateMethod ({ cls := "NapkinDeedsModel", name := "readTerm", desc := "()V" } : Jvm.MethodName)) ∈ lw_tbl := lw_at lw_m12 150 rfl
theorem q2939 : (Jvm.Cond.instanceMethod ({ cls := "NapkinDeedsModel", name := "readTerm", desc := "()V" } : Jvm.MethodName)) ∈ lw_all := lw_g (lw_at lw_m12 151 rfl) rfl
theorem q2940 : (Jvm.Cond.code ({ cls := "NapkinDeedsModel", name := "readTerm", desc := "()V" } : Jvm.MethodName) prog_43_method_27_code (1 : Nat) (Option.none : Option Jvm.ClassFile.FieldType)) ∈ lw_all := lw_g (lw_at lw_m12 152 rfl) rfl
theorem q2941 : (Jvm.Cond.methodLink "NapkinDeedsModel" (187 : Nat) ({ cls := "NapkinDeedsModel", name := "readAtom", desc := "()V" } : Jvm.MethodName)) ∈ lw_all := lw_g (lw_at lw_m12 153 rfl) rfl
theorem q2942 : (Jvm.Cond.privateMethod ({ cls := "NapkinDeedsModel", name := "readAtom", desc := "()V" } : Jvm.MethodName)) ∈ lw_tbl := lw_at lw_m12 154 rfl
theorem q2943 : (Jvm.Cond.instanceMethod ({ cls := "NapkinDeedsModel", name := "readAtom", desc := "()V" } : Jvm.MethodName)) ∈ lw_all := lw_g (lw_at lw_m12 155 rfl) rfl
theorem q2944 : (Jvm.Cond.code ({ cls := "NapkinDeedsModel", name := "readAtom", desc := "()V" } : Jvm.MethodName) prog_43_method_29_code (3 : Nat) (Option.none : Option Jvm.ClassFile.FieldType)) ∈ lw_all := lw_g (lw_at lw_m12 156 rfl) rfl
theorem q2945 : (Jvm.Cond.methodLink "NapkinDeedsModel" (206 : Nat) ({ cls := "NapkinDeedsModel", name := "lawWord", desc := "()I" } : Jvm.MethodName)) ∈ lw_all := lw_g (lw_at lw_m12 157 rfl) rfl
theorem q2946 : (Jvm.Cond.privateMethod ({ cls := "NapkinDeedsModel", name := "lawWord", desc := "()I" } : Jvm.MethodName)) ∈ lw_tbl := lw_at lw_m12 158 rfl
theorem q2947 : (Jvm.Cond.instanceMethod ({ cls := "NapkinDeedsModel", name := "lawWord", desc := "()I" } : Jvm.MethodName)) ∈ lw_all := lw_g (lw_at lw_m12 159 rfl) rfl
theorem q2948 : (Jvm.Cond.code ({ cls := "NapkinDeedsModel", name := "lawWord", desc := "()I" } : Jvm.MethodName) prog_43_method_28_code (1 : Nat) (Option.some Jvm.ClassFile.FieldType.int)) ∈ lw_all := lw_g (lw_at lw_m12 160 rfl) rfl
theorem q2949 : (Jvm.Cond.stringRef "NapkinDeedsModel" (190 : Nat) "wide") ∈ lw_tbl := lw_at lw_m12 161 rfl
theorem q2950 : (Jvm.Cond.stringRef "NapkinDeedsModel" (192 : Nat) "high") ∈ lw_tbl := lw_at lw_m12 162 rfl
theorem q2951 : (Jvm.Cond.stringRef "NapkinDeedsModel" (194 : Nat) "folds") ∈ lw_tbl := lw_at lw_m12 163 rfl
theorem q2952 : (Jvm.Cond.stringRef "NapkinDeedsModel" (196 : Nat) "top") ∈ lw_tbl := lw_at lw_m12 164 rfl
theorem q2953 : (Jvm.Cond.stringRef "NapkinDeedsModel" (198 : Nat) "under") ∈ lw_tbl := lw_at lw_m12 165 rfl
theorem q2954 : (Jvm.Cond.stringRef "NapkinDeedsModel" (200 : Nat) "hidden") ∈ lw_tbl := lw_at lw_m12 166 rfl
theorem q2955 : (Jvm.Cond.stringRef "NapkinDeedsModel" (204 : Nat) "want") ∈ lw_tbl := lw_at lw_m12 167 rfl
theorem q2956 : (Jvm.Cond.methodLink "NapkinDeedsModel" (162 : Nat) ({ cls := "NapkinDeedsModel", name := "laysStep", desc := "(I)V" } : Jvm.MethodName)) ∈ lw_all := lw_g (lw_at lw_m12 168 rfl) rfl
theorem q2957 : (Jvm.Cond.privateMethod ({ cls := "NapkinDeedsModel", name := "laysStep", desc := "(I)V" } : Jvm.MethodName)) ∈ lw_tbl := lw_at lw_m12 169 rfl
theorem q2958 : (Jvm.Cond.instanceMethod ({ cls := "NapkinDeedsModel", name := "laysStep", desc := "(I)V" } : Jvm.MethodName)) ∈ lw_all := lw_g (lw_at lw_m12 170 rfl) rfl
theorem q2959 : (Jvm.Cond.code ({ cls := "NapkinDeedsModel", name := "laysStep", desc := "(I)V" } : Jvm.MethodName) prog_43_method_20_code (2 : Nat) (Option.none : Option Jvm.ClassFile.FieldType)) ∈ lw_all := lw_g (lw_at lw_m12 171 rfl) rfl
theorem q2960 : (Jvm.Cond.methodLink "NapkinDeedsModel" (175 : Nat) ({ cls := "NapkinDeedsModel", name := "isSign", desc := "(I)Z" } : Jvm.MethodName)) ∈ lw_all := lw_g (lw_at lw_m12 172 rfl) rfl
theorem q2961 : (Jvm.Cond.privateMethod ({ cls := "NapkinDeedsModel", name := "isSign", desc := "(I)Z" } : Jvm.MethodName)) ∈ lw_tbl := lw_at lw_m12 173 rfl
theorem q2962 : (Jvm.Cond.instanceMethod ({ cls := "NapkinDeedsModel", name := "isSign", desc := "(I)Z" } : Jvm.MethodName)) ∈ lw_all := lw_g (lw_at lw_m12 174 rfl) rfl
theorem q2963 : (Jvm.Cond.code ({ cls := "NapkinDeedsModel", name := "isSign", desc := "(I)Z" } : Jvm.MethodName) prog_43_method_16_code (2 : Nat) (Option.some Jvm.ClassFile.FieldType.boolean)) ∈ lw_all := lw_g (lw_at lw_m12 175 rfl) rfl
theorem q2964 : (Jvm.Cond.methodLink "NapkinDeedsModel" (172 : Nat) ({ cls := "NapkinDeedsModel", name := "goesIn", desc := "()V" } : Jvm.MethodName)) ∈ lw_all := lw_g (lw_at lw_m12 176 rfl) rfl
theorem q2965 : (Jvm.Cond.privateMethod ({ cls := "NapkinDeedsModel", name := "goesIn", desc := "()V" } : Jvm.MethodName)) ∈ lw_tbl := lw_at lw_m12 177 rfl
theorem q2966 : (Jvm.Cond.instanceMethod ({ cls := "NapkinDeedsModel", name := "goesIn", desc := "()V" } : Jvm.MethodName)) ∈ lw_all := lw_g (lw_at lw_m12 178 rfl) rfl
theorem q2967 : (Jvm.Cond.code ({ cls := "NapkinDeedsModel", name := "goesIn", desc := "()V" } : Jvm.MethodName) prog_43_method_22_code (1 : Nat) (Option.none : Option Jvm.ClassFile.FieldType)) ∈ lw_all := lw_g (lw_at lw_m12 179 rfl) rfl
theorem q2968 : (Jvm.Cond.stringRef "NapkinDeedsModel" (237 : Nat) "holds") ∈ lw_tbl := lw_at lw_m12 180 rfl
theorem q2969 : (Jvm.Cond.methodLink "NapkinDeedsModel" (178 : Nat) ({ cls := "NapkinDeedsModel", name := "readTruth", desc := "()V" } : Jvm.MethodName)) ∈ lw_all := lw_g (lw_at lw_m12 181 rfl) rfl
theorem q2970 : (Jvm.Cond.privateMethod ({ cls := "NapkinDeedsModel", name := "readTruth", desc := "()V" } : Jvm.MethodName)) ∈ lw_tbl := lw_at lw_m12 182 rfl
theorem q2971 : (Jvm.Cond.instanceMethod ({ cls := "NapkinDeedsModel", name := "readTruth", desc := "()V" } : Jvm.MethodName)) ∈ lw_all := lw_g (lw_at lw_m12 183 rfl) rfl
theorem q2972 : (Jvm.Cond.code ({ cls := "NapkinDeedsModel", name := "readTruth", desc := "()V" } : Jvm.MethodName) prog_43_method_23_code (1 : Nat) (Option.none : Option Jvm.ClassFile.FieldType)) ∈ lw_all := lw_g (lw_at lw_m12 184 rfl) rfl
theorem q2973 : (Jvm.Cond.methodLink "NapkinDeedsModel" (157 : Nat) ({ cls := "NapkinDeedsModel", name := "readBoth", desc := "()V" } : Jvm.MethodName)) ∈ lw_all := lw_g (lw_at lw_m12 185 rfl) rfl
theorem q2974 : (Jvm.Cond.privateMethod ({ cls := "NapkinDeedsModel", name := "readBoth", desc := "()V" } : Jvm.MethodName)) ∈ lw_tbl := lw_at lw_m12 186 rfl
theorem q2975 : (Jvm.Cond.instanceMethod ({ cls := "NapkinDeedsModel", name := "readBoth", desc := "()V" } : Jvm.MethodName)) ∈ lw_all := lw_g (lw_at lw_m12 187 rfl) rfl
theorem q2976 : (Jvm.Cond.code ({ cls := "NapkinDeedsModel", name := "readBoth", desc := "()V" } : Jvm.MethodName) prog_43_method_24_code (1 : Nat) (Option.none : Option Jvm.ClassFile.FieldType)) ∈ lw_all := lw_g (lw_at lw_m12 188 rfl) rfl
theorem q2977 : (Jvm.Cond.methodLink "NapkinDeedsModel" (165 : Nat) ({ cls := "NapkinDeedsModel", name := "readUnit", desc := "()V" } : Jvm.MethodName)) ∈ lw_all := lw_g (lw_at lw_m12 189 rfl) rfl
theorem q2978 : (Jvm.Cond.privateMethod ({ cls := "NapkinDeedsModel", name := "readUnit", desc := "()V" } : Jvm.MethodName)) ∈ lw_tbl := lw_at lw_m12 190 rfl
theorem q2979 : (Jvm.Cond.instanceMethod ({ cls := "NapkinDeedsModel", name := "readUnit", desc := "()V" } : Jvm.MethodName)) ∈ lw_all := lw_g (lw_at lw_m12 191 rfl) rfl
theorem q2980 : (Jvm.Cond.code ({ cls := "NapkinDeedsModel", name := "readUnit", desc := "()V" } : Jvm.MethodName) prog_43_method_25_code (2 : Nat) (Option.none : Option Jvm.ClassFile.FieldType)) ∈ lw_all := lw_g (lw_at lw_m12 192 rfl) rfl
theorem q2981 : (Jvm.Cond.stringRef "NapkinDeedsModel" (170 : Nat) "not") ∈ lw_tbl := lw_at lw_m12 193 rfl
theorem q2982 : (Jvm.Cond.stringRef "NapkinDeedsModel" (168 : Nat) "and") ∈ lw_tbl := lw_at lw_m12 194 rfl
theorem q2983 : (Jvm.Cond.stringRef "NapkinDeedsModel" (160 : Nat) "or") ∈ lw_tbl := lw_at lw_m12 195 rfl
theorem q2984 : (Jvm.Cond.stringRef "NapkinDeedsModel" (239 : Nat) "likes") ∈ lw_tbl := lw_at lw_m12 196 rfl
theorem q2985 : (Jvm.Cond.methodLink "NapkinDeedsModel" (241 : Nat) ({ cls := "NapkinDeedsModel", name := "readStop", desc := "()V" } : Jvm.MethodName)) ∈ lw_all := lw_g (lw_at lw_m12 197 rfl) rfl
theorem q2986 : (Jvm.Cond.privateMethod ({ cls := "NapkinDeedsModel", name := "readStop", desc := "()V" } : Jvm.MethodName)) ∈ lw_tbl := lw_at lw_m12 198 rfl
theorem q2987 : (Jvm.Cond.instanceMethod ({ cls := "NapkinDeedsModel", name := "readStop", desc := "()V" } : Jvm.MethodName)) ∈ lw_all := lw_g (lw_at lw_m12 199 rfl) rfl
theorem q2988 : (Jvm.Cond.code ({ cls := "NapkinDeedsModel", name := "readStop", desc := "()V" } : Jvm.MethodName) prog_43_method_33_code (1 : Nat) (Option.none : Option Jvm.ClassFile.FieldType)) ∈ lw_all := lw_g (lw_at lw_m12 200 rfl) rfl
theorem q2990 : (Jvm.Cond.instanceMethod ({ cls := "NapkinDeedsModel", name := "fault", desc := "(I)I" } : Jvm.MethodName)) ∈ lw_all := lw_g (lw_at lw_m12 202 rfl) rfl
theorem q2991 : (Jvm.Cond.selects "NapkinDeedsModel" ({ cls := "NapkinDeedsModel", name := "fault", desc := "(I)I" } : Jvm.MethodName) ({ cls := "NapkinDeedsModel", name := "fault", desc := "(I)I" } : Jvm.MethodName)) ∈ lw_all := lw_g (lw_at lw_m12 203 rfl) rfl
theorem q2992 : (Jvm.Cond.code ({ cls := "NapkinDeedsModel", name := "fault", desc := "(I)I" } : Jvm.MethodName) prog_43_method_36_code (2 : Nat) (Option.some Jvm.ClassFile.FieldType.int)) ∈ lw_all := lw_g (lw_at lw_m12 204 rfl) rfl
theorem q2994 : (Jvm.Cond.instanceMethod ({ cls := "NapkinDeedsModel", name := "cell", desc := "(II)I" } : Jvm.MethodName)) ∈ lw_all := lw_g (lw_at lw_m12 206 rfl) rfl
theorem q2995 : (Jvm.Cond.selects "NapkinDeedsModel" ({ cls := "NapkinDeedsModel", name := "cell", desc := "(II)I" } : Jvm.MethodName) ({ cls := "NapkinDeedsModel", name := "cell", desc := "(II)I" } : Jvm.MethodName)) ∈ lw_all := lw_g (lw_at lw_m12 207 rfl) rfl
theorem q2996 : (Jvm.Cond.code ({ cls := "NapkinDeedsModel", name := "cell", desc := "(II)I" } : Jvm.MethodName) prog_43_method_64_code (3 : Nat) (Option.some Jvm.ClassFile.FieldType.int)) ∈ lw_all := lw_g (lw_at lw_m12 208 rfl) rfl
theorem q2997 : (Jvm.Cond.methodLink "NapkinDeedsModel" (337 : Nat) ({ cls := "NapkinDeedsModel", name := "isCell", desc := "(J)Z" } : Jvm.MethodName)) ∈ lw_all := lw_g (lw_at lw_m12 209 rfl) rfl
theorem q2998 : (Jvm.Cond.privateMethod ({ cls := "NapkinDeedsModel", name := "isCell", desc := "(J)Z" } : Jvm.MethodName)) ∈ lw_tbl := lw_at lw_m12 210 rfl
theorem q2999 : (Jvm.Cond.instanceMethod ({ cls := "NapkinDeedsModel", name := "isCell", desc := "(J)Z" } : Jvm.MethodName)) ∈ lw_all := lw_g (lw_at lw_m12 211 rfl) rfl
theorem q3000 : (Jvm.Cond.code ({ cls := "NapkinDeedsModel", name := "isCell", desc := "(J)Z" } : Jvm.MethodName) prog_43_method_38_code (3 : Nat) (Option.some Jvm.ClassFile.FieldType.boolean)) ∈ lw_all := lw_g (lw_at lw_m12 212 rfl) rfl
theorem q3001 : (Jvm.Cond.methodLink "NapkinDeedsModel" (253 : Nat) ({ cls := "NapkinDeedsModel", name := "cells", desc := "()I" } : Jvm.MethodName)) ∈ lw_all := lw_g (lw_at lw_m12 213 rfl) rfl
theorem q3002 : (Jvm.Cond.privateMethod ({ cls := "NapkinDeedsModel", name := "cells", desc := "()I" } : Jvm.MethodName)) ∈ lw_tbl := lw_at lw_m12 214 rfl
theorem q3003 : (Jvm.Cond.instanceMethod ({ cls := "NapkinDeedsModel", name := "cells", desc := "()I" } : Jvm.MethodName)) ∈ lw_all := lw_g (lw_at lw_m12 215 rfl) rfl
theorem q3004 : (Jvm.Cond.code ({ cls := "NapkinDeedsModel", name := "cells", desc := "()I" } : Jvm.MethodName) prog_43_method_37_code (1 : Nat) (Option.some Jvm.ClassFile.FieldType.int)) ∈ lw_all := lw_g (lw_at lw_m12 216 rfl) rfl
theorem q3005 : (Jvm.Cond.constantLong "NapkinDeedsModel" (341 : Nat) (4 : Int64)) ∈ lw_all := lw_g (lw_at lw_m12 217 rfl) rfl
theorem q3006 : (Jvm.Cond.methodLink "NapkinDeedsModel" (343 : Nat) ({ cls := "NapkinDeedsModel", name := "laysNow", desc := "()I" } : Jvm.MethodName)) ∈ lw_all := lw_g (lw_at lw_m12 218 rfl) rfl
theorem q3007 : (Jvm.Cond.privateMethod ({ cls := "NapkinDeedsModel", name := "laysNow", desc := "()I" } : Jvm.MethodName)) ∈ lw_tbl := lw_at lw_m12 219 rfl
theorem q3008 : (Jvm.Cond.instanceMethod ({ cls := "NapkinDeedsModel", name := "laysNow", desc := "()I" } : Jvm.MethodName)) ∈ lw_all := lw_g (lw_at lw_m12 220 rfl) rfl
theorem q3009 : (Jvm.Cond.code ({ cls := "NapkinDeedsModel", name := "laysNow", desc := "()I" } : Jvm.MethodName) prog_43_method_46_code (2 : Nat) (Option.some Jvm.ClassFile.FieldType.int)) ∈ lw_all := lw_g (lw_at lw_m12 221 rfl) rfl
theorem q3010 : (Jvm.Cond.methodLink "NapkinDeedsModel" (277 : Nat) ({ cls := "NapkinDeedsModel", name := "laysFlat", desc := "()V" } : Jvm.MethodName)) ∈ lw_all := lw_g (lw_at lw_m12 222 rfl) rfl
theorem q3011 : (Jvm.Cond.privateMethod ({ cls := "NapkinDeedsModel", name := "laysFlat", desc := "()V" } : Jvm.MethodName)) ∈ lw_tbl := lw_at lw_m12 223 rfl
theorem q3012 : (Jvm.Cond.instanceMethod ({ cls := "NapkinDeedsModel", name := "laysFlat", desc := "()V" } : Jvm.MethodName)) ∈ lw_all := lw_g (lw_at lw_m12 224 rfl) rfl
theorem q3013 : (Jvm.Cond.code ({ cls := "NapkinDeedsModel", name := "laysFlat", desc := "()V" } : Jvm.MethodName) prog_43_method_42_code (2 : Nat) (Option.none : Option Jvm.ClassFile.FieldType)) ∈ lw_all := lw_g (lw_at lw_m12 225 rfl) rfl
theorem q3014 : (Jvm.Cond.methodLink "NapkinDeedsModel" (280 : Nat) ({ cls := "NapkinDeedsModel", name := "folds", desc := "(III)V" } : Jvm.MethodName)) ∈ lw_all := lw_g (lw_at lw_m12 226 rfl) rfl
theorem q3015 : (Jvm.Cond.privateMethod ({ cls := "NapkinDeedsModel", name := "folds", desc := "(III)V" } : Jvm.MethodName)) ∈ lw_tbl := lw_at lw_m12 227 rfl
theorem q3016 : (Jvm.Cond.instanceMethod ({ cls := "NapkinDeedsModel", name := "folds", desc := "(III)V" } : Jvm.MethodName)) ∈ lw_all := lw_g (lw_at lw_m12 228 rfl) rfl
theorem q3017 : (Jvm.Cond.code ({ cls := "NapkinDeedsModel", name := "folds", desc := "(III)V" } : Jvm.MethodName) prog_43_method_45_code (12 : Nat) (Option.none : Option Jvm.ClassFile.FieldType)) ∈ lw_all := lw_g (lw_at lw_m12 229 rfl) rfl
theorem q3018 : (Jvm.Cond.methodLink "NapkinDeedsModel" (256 : Nat) ({ cls := "NapkinDeedsModel", name := "columnsAt", desc := "(I)I" } : Jvm.MethodName)) ∈ lw_all := lw_g (lw_at lw_m12 230 rfl) rfl
theorem q3019 : (Jvm.Cond.privateMethod ({ cls := "NapkinDeedsModel", name := "columnsAt", desc := "(I)I" } : Jvm.MethodName)) ∈ lw_tbl := lw_at lw_m12 231 rfl
theorem q3020 : (Jvm.Cond.instanceMethod ({ cls := "NapkinDeedsModel", name := "columnsAt", desc := "(I)I" } : Jvm.MethodName)) ∈ lw_all := lw_g (lw_at lw_m12 232 rfl) rfl
theorem q3021 : (Jvm.Cond.code ({ cls := "NapkinDeedsModel", name := "columnsAt", desc := "(I)I" } : Jvm.MethodName) prog_43_method_39_code (2 : Nat) (Option.some Jvm.ClassFile.FieldType.int)) ∈ lw_all := lw_g (lw_at lw_m12 233 rfl) rfl
theorem q3022 : (Jvm.Cond.methodLink "NapkinDeedsModel" (268 : Nat) ({ cls := "java/lang/Math", name := "max", desc := "(II)I" } : Jvm.MethodName)) ∈ lw_all := lw_g (lw_at lw_m12 234 rfl) rfl
theorem q3023 : (Jvm.Cond.methodLink "NapkinDeedsModel" (273 : Nat) ({ cls := "NapkinDeedsModel", name := "puts", desc := "(IIZI)V" } : Jvm.MethodName)) ∈ lw_all := lw_g (lw_at lw_m12 235 rfl) rfl
theorem q3024 : (Jvm.Cond.privateMethod ({ cls := "NapkinDeedsModel", name := "puts", desc := "(IIZI)V" } : Jvm.MethodName)) ∈ lw_tbl := lw_at lw_m12 236 rfl
theorem q3025 : (Jvm.Cond.instanceMethod ({ cls := "NapkinDeedsModel", name := "puts", desc := "(IIZI)V" } : Jvm.MethodName)) ∈ lw_all := lw_g (lw_at lw_m12 237 rfl) rfl
theorem q3026 : (Jvm.Cond.code ({ cls := "NapkinDeedsModel", name := "puts", desc := "(IIZI)V" } : Jvm.MethodName) prog_43_method_44_code (9 : Nat) (Option.none : Option Jvm.ClassFile.FieldType)) ∈ lw_all := lw_g (lw_at lw_m12 238 rfl) rfl
theorem q3027 : (Jvm.Cond.methodLink "NapkinDeedsModel" (261 : Nat) ({ cls := "NapkinDeedsModel", name := "highAt", desc := "(II)I" } : Jvm.MethodName)) ∈ lw_all := lw_g (lw_at lw_m12 239 rfl) rfl
theorem q3028 : (Jvm.Cond.privateMethod ({ cls := "NapkinDeedsModel", name := "highAt", desc := "(II)I" } : Jvm.MethodName)) ∈ lw_tbl := lw_at lw_m13 0 rfl
theorem q3029 : (Jvm.Cond.instanceMethod ({ cls := "NapkinDeedsModel", name := "highAt", desc := "(II)I" } : Jvm.MethodName)) ∈ lw_all := lw_g (lw_at lw_m13 1 rfl) rfl
theorem q3030 : (Jvm.Cond.code ({ cls := "NapkinDeedsModel", name := "highAt", desc := "(II)I" } : Jvm.MethodName) prog_43_method_40_code (3 : Nat) (Option.some Jvm.ClassFile.FieldType.int)) ∈ lw_all := lw_g (lw_at lw_m13 2 rfl) rfl
theorem q3031 : (Jvm.Cond.methodLink "NapkinDeedsModel" (264 : Nat) ({ cls := "NapkinDeedsModel", name := "layerAt", desc := "(III)I" } : Jvm.MethodName)) ∈ lw_all := lw_g (lw_at lw_m13 3 rfl) rfl
theorem q3032 : (Jvm.Cond.privateMethod ({ cls := "NapkinDeedsModel", name := "layerAt", desc := "(III)I" } : Jvm.MethodName)) ∈ lw_tbl := lw_at lw_m13 4 rfl
theorem q3033 : (Jvm.Cond.instanceMethod ({ cls := "NapkinDeedsModel", name := "layerAt", desc := "(III)I" } : Jvm.MethodName)) ∈ lw_all := lw_g (lw_at lw_m13 5 rfl) rfl
theorem q3034 : (Jvm.Cond.code ({ cls := "NapkinDeedsModel", name := "layerAt", desc := "(III)I" } : Jvm.MethodName) prog_43_method_41_code (4 : Nat) (Option.some Jvm.ClassFile.FieldType.int)) ∈ lw_all := lw_g (lw_at lw_m13 6 rfl) rfl
theorem q3035 : (Jvm.Cond.methodLink "NapkinDeedsModel" (302 : Nat) ({ cls := "NapkinDeedsModel", name := "laysPlaces", desc := "(I)V" } : Jvm.MethodName)) ∈ lw_all := lw_g (lw_at lw_m13 7 rfl) rfl
theorem q3036 : (Jvm.Cond.privateMethod ({ cls := "NapkinDeedsModel", name := "laysPlaces", desc := "(I)V" } : Jvm.MethodName)) ∈ lw_tbl := lw_at lw_m13 8 rfl
theorem q3037 : (Jvm.Cond.instanceMethod ({ cls := "NapkinDeedsModel", name := "laysPlaces", desc := "(I)V" } : Jvm.MethodName)) ∈ lw_all := lw_g (lw_at lw_m13 9 rfl) rfl
theorem q3038 : (Jvm.Cond.code ({ cls := "NapkinDeedsModel", name := "laysPlaces", desc := "(I)V" } : Jvm.MethodName) prog_43_method_54_code (4 : Nat) (Option.none : Option Jvm.ClassFile.FieldType)) ∈ lw_all := lw_g (lw_at lw_m13 10 rfl) rfl
theorem q3040 : (Jvm.Cond.instanceMethod ({ cls := "NapkinDeedsModel", name := "high", desc := "(I)I" } : Jvm.MethodName)) ∈ lw_all := lw_g (lw_at lw_m13 12 rfl) rfl
theorem q3041 : (Jvm.Cond.selects "NapkinDeedsModel" ({ cls := "NapkinDeedsModel", name := "high", desc := "(I)I" } : Jvm.MethodName) ({ cls := "NapkinDeedsModel", name := "high", desc := "(I)I" } : Jvm.MethodName)) ∈ lw_all := lw_g (lw_at lw_m13 13 rfl) rfl
theorem q3042 : (Jvm.Cond.code ({ cls := "NapkinDeedsModel", name := "high", desc := "(I)I" } : Jvm.MethodName) prog_43_method_66_code (2 : Nat) (Option.some Jvm.ClassFile.FieldType.int)) ∈ lw_all := lw_g (lw_at lw_m13 14 rfl) rfl
theorem q3043 : (Jvm.Cond.methodLink "NapkinDeedsModel" (346 : Nat) ({ cls := "NapkinDeedsModel", name := "isColumn", desc := "(I)Z" } : Jvm.MethodName)) ∈ lw_all := lw_g (lw_at lw_m13 15 rfl) rfl
theorem q3044 : (Jvm.Cond.privateMethod ({ cls := "NapkinDeedsModel", name := "isColumn", desc := "(I)Z" } : Jvm.MethodName)) ∈ lw_tbl := lw_at lw_m13 16 rfl
theorem q3045 : (Jvm.Cond.instanceMethod ({ cls := "NapkinDeedsModel", name := "isColumn", desc := "(I)Z" } : Jvm.MethodName)) ∈ lw_all := lw_g (lw_at lw_m13 17 rfl) rfl
theorem q3046 : (Jvm.Cond.code ({ cls := "NapkinDeedsModel", name := "isColumn", desc := "(I)Z" } : Jvm.MethodName) prog_43_method_65_code (2 : Nat) (Option.some Jvm.ClassFile.FieldType.boolean)) ∈ lw_all := lw_g (lw_at lw_m13 18 rfl) rfl
theorem q3048 : (Jvm.Cond.instanceMethod ({ cls := "NapkinDeedsModel", name := "layer", desc := "(II)I" } : Jvm.MethodName)) ∈ lw_all := lw_g (lw_at lw_m13 20 rfl) rfl
theorem q3049 : (Jvm.Cond.selects "NapkinDeedsModel" ({ cls := "NapkinDeedsModel", name := "layer", desc := "(II)I" } : Jvm.MethodName) ({ cls := "NapkinDeedsModel", name := "layer", desc := "(II)I" } : Jvm.MethodName)) ∈ lw_all := lw_g (lw_at lw_m13 21 rfl) rfl
theorem q3050 : (Jvm.Cond.code ({ cls := "NapkinDeedsModel", name := "layer", desc := "(II)I" } : Jvm.MethodName) prog_43_method_67_code (3 : Nat) (Option.some Jvm.ClassFile.FieldType.int)) ∈ lw_all := lw_g (lw_at lw_m13 22 rfl) rfl
theorem q3052 : (Jvm.Cond.instanceMethod ({ cls := "NapkinDeedsModel", name := "above", desc := "(I)I" } : Jvm.MethodName)) ∈ lw_all := lw_g (lw_at lw_m13 24 rfl) rfl
theorem q3053 : (Jvm.Cond.selects "NapkinDeedsModel" ({ cls := "NapkinDeedsModel", name := "above", desc := "(I)I" } : Jvm.MethodName) ({ cls := "NapkinDeedsModel", name := "above", desc := "(I)I" } : Jvm.MethodName)) ∈ lw_all := lw_g (lw_at lw_m13 25 rfl) rfl
theorem q3054 : (Jvm.Cond.code ({ cls := "NapkinDeedsModel", name := "above", desc := "(I)I" } : Jvm.MethodName) prog_43_method_68_code (2 : Nat) (Option.some Jvm.ClassFile.FieldType.int)) ∈ lw_all := lw_g (lw_at lw_m13 26 rfl) rfl
theorem q3055 : (Jvm.Cond.methodLink "NapkinDeedsModel" (287 : Nat) ({ cls := "NapkinDeedsModel", name := "aboveAt", desc := "(II)I" } : Jvm.MethodName)) ∈ lw_all := lw_g (lw_at lw_m13 27 rfl) rfl
theorem q3056 : (Jvm.Cond.privateMethod ({ cls := "NapkinDeedsModel", name := "aboveAt", desc := "(II)I" } : Jvm.MethodName)) ∈ lw_tbl := lw_at lw_m13 28 rfl
theorem q3057 : (Jvm.Cond.instanceMethod ({ cls := "NapkinDeedsModel", name := "aboveAt", desc := "(II)I" } : Jvm.MethodName)) ∈ lw_all := lw_g (lw_at lw_m13 29 rfl) rfl
theorem q3058 : (Jvm.Cond.code ({ cls := "NapkinDeedsModel", name := "aboveAt", desc := "(II)I" } : Jvm.MethodName) prog_43_method_48_code (3 : Nat) (Option.some Jvm.ClassFile.FieldType.int)) ∈ lw_all := lw_g (lw_at lw_m13 30 rfl) rfl
theorem q3059 : (Jvm.Cond.methodLink "NapkinDeedsModel" (283 : Nat) ({ cls := "NapkinDeedsModel", name := "markOf", desc := "(IZ)I" } : Jvm.MethodName)) ∈ lw_all := lw_g (lw_at lw_m13 31 rfl) rfl
theorem q3060 : (Jvm.Cond.privateMethod ({ cls := "NapkinDeedsModel", name := "markOf", desc := "(IZ)I" } : Jvm.MethodName)) ∈ lw_tbl := lw_at lw_m13 32 rfl
theorem q3061 : (Jvm.Cond.instanceMethod ({ cls := "NapkinDeedsModel", name := "markOf", desc := "(IZ)I" } : Jvm.MethodName)) ∈ lw_all := lw_g (lw_at lw_m13 33 rfl) rfl
theorem q3062 : (Jvm.Cond.code ({ cls := "NapkinDeedsModel", name := "markOf", desc := "(IZ)I" } : Jvm.MethodName) prog_43_method_47_code (3 : Nat) (Option.some Jvm.ClassFile.FieldType.int)) ∈ lw_all := lw_g (lw_at lw_m13 34 rfl) rfl
theorem q3064 : (Jvm.Cond.instanceMethod ({ cls := "NapkinDeedsModel", name := "beneath", desc := "(I)I" } : Jvm.MethodName)) ∈ lw_all := lw_g (lw_at lw_m13 36 rfl) rfl
theorem q3065 : (Jvm.Cond.selects "NapkinDeedsModel" ({ cls := "NapkinDeedsModel", name := "beneath", desc := "(I)I" } : Jvm.MethodName) ({ cls := "NapkinDeedsModel", name := "beneath", desc := "(I)I" } : Jvm.MethodName)) ∈ lw_all := lw_g (lw_at lw_m13 37 rfl) rfl
theorem q3066 : (Jvm.Cond.code ({ cls := "NapkinDeedsModel", name := "beneath", desc := "(I)I" } : Jvm.MethodName) prog_43_method_69_code (2 : Nat) (Option.some Jvm.ClassFile.FieldType.int)) ∈ lw_all := lw_g (lw_at lw_m13 38 rfl) rfl
theorem q3067 : (Jvm.Cond.methodLink "NapkinDeedsModel" (290 : Nat) ({ cls := "NapkinDeedsModel", name := "beneathAt", desc := "(II)I" } : Jvm.MethodName)) ∈ lw_all := lw_g (lw_at lw_m13 39 rfl) rfl
theorem q3068 : (Jvm.Cond.privateMethod ({ cls := "NapkinDeedsModel", name := "beneathAt", desc := "(II)I" } : Jvm.MethodName)) ∈ lw_tbl := lw_at lw_m13 40 rfl
theorem q3069 : (Jvm.Cond.instanceMethod ({ cls := "NapkinDeedsModel", name := "beneathAt", desc := "(II)I" } : Jvm.MethodName)) ∈ lw_all := lw_g (lw_at lw_m13 41 rfl) rfl
theorem q3070 : (Jvm.Cond.code ({ cls := "NapkinDeedsModel", name := "beneathAt", desc := "(II)I" } : Jvm.MethodName) prog_43_method_49_code (3 : Nat) (Option.some Jvm.ClassFile.FieldType.int)) ∈ lw_all := lw_g (lw_at lw_m13 42 rfl) rfl
theorem q3072 : (Jvm.Cond.instanceMethod ({ cls := "NapkinDeedsModel", name := "crease", desc := "(I)I" } : Jvm.MethodName)) ∈ lw_all := lw_g (lw_at lw_m13 44 rfl) rfl
theorem q3073 : (Jvm.Cond.selects "NapkinDeedsModel" ({ cls := "NapkinDeedsModel", name := "crease", desc := "(I)I" } : Jvm.MethodName) ({ cls := "NapkinDeedsModel", name := "crease", desc := "(I)I" } : Jvm.MethodName)) ∈ lw_all := lw_g (lw_at lw_m13 45 rfl) rfl
theorem q3074 : (Jvm.Cond.code ({ cls := "NapkinDeedsModel", name := "crease", desc := "(I)I" } : Jvm.MethodName) prog_43_method_70_code (2 : Nat) (Option.some Jvm.ClassFile.FieldType.int)) ∈ lw_all := lw_g (lw_at lw_m13 46 rfl) rfl
theorem q3075 : (Jvm.Cond.methodLink "NapkinDeedsModel" (305 : Nat) ({ cls := "NapkinDeedsModel", name := "creaseOf", desc := "(I)I" } : Jvm.MethodName)) ∈ lw_all := lw_g (lw_at lw_m13 47 rfl) rfl
theorem q3076 : (Jvm.Cond.privateMethod ({ cls := "NapkinDeedsModel", name := "creaseOf", desc := "(I)I" } : Jvm.MethodName)) ∈ lw_tbl := lw_at lw_m13 48 rfl
theorem q3077 : (Jvm.Cond.instanceMethod ({ cls := "NapkinDeedsModel", name := "creaseOf", desc := "(I)I" } : Jvm.MethodName)) ∈ lw_all := lw_g (lw_at lw_m13 49 rfl) rfl
theorem q3078 : (Jvm.Cond.code ({ cls := "NapkinDeedsModel", name := "creaseOf", desc := "(I)I" } : Jvm.MethodName) prog_43_method_55_code (4 : Nat) (Option.some Jvm.ClassFile.FieldType.int)) ∈ lw_all := lw_g (lw_at lw_m13 50 rfl) rfl
theorem q3079 : (Jvm.Cond.methodLink "NapkinDeedsModel" (299 : Nat) ({ cls := "java/lang/Math", name := "min", desc := "(II)I" } : Jvm.MethodName)) ∈ lw_all := lw_g (lw_at lw_m13 51 rfl) rfl
theorem q3081 : (Jvm.Cond.instanceMethod ({ cls := "NapkinDeedsModel", name := "folded", desc := "(I)I" } : Jvm.MethodName)) ∈ lw_all := lw_g (lw_at lw_m13 53 rfl) rfl
theorem q3082 : (Jvm.Cond.selects "NapkinDeedsModel" ({ cls := "NapkinDeedsModel", name := "folded", desc := "(I)I" } : Jvm.MethodName) ({ cls := "NapkinDeedsModel", name := "folded", desc := "(I)I" } : Jvm.MethodName)) ∈ lw_all := lw_g (lw_at lw_m13 54 rfl) rfl
theorem q3083 : (Jvm.Cond.code ({ cls := "NapkinDeedsModel", name := "folded", desc := "(I)I" } : Jvm.MethodName) prog_43_method_71_code (2 : Nat) (Option.some Jvm.ClassFile.FieldType.int)) ∈ lw_all := lw_g (lw_at lw_m13 55 rfl) rfl
theorem q3085 : (Jvm.Cond.instanceMethod ({ cls := "NapkinDeedsModel", name := "worth", desc := "()I" } : Jvm.MethodName)) ∈ lw_all := lw_g (lw_at lw_m13 57 rfl) rfl
theorem q3086 : (Jvm.Cond.selects "NapkinDeedsModel" ({ cls := "NapkinDeedsModel", name := "worth", desc := "()I" } : Jvm.MethodName) ({ cls := "NapkinDeedsModel", name := "worth", desc := "()I" } : Jvm.MethodName)) ∈ lw_all := lw_g (lw_at lw_m13 58 rfl) rfl
theorem q3087 : (Jvm.Cond.code ({ cls := "NapkinDeedsModel", name := "worth", desc := "()I" } : Jvm.MethodName) prog_43_method_72_code (1 : Nat) (Option.some Jvm.ClassFile.FieldType.int)) ∈ lw_all := lw_g (lw_at lw_m13 59 rfl) rfl
theorem q3088 : (Jvm.Cond.methodLink "NapkinDeedsModel" (349 : Nat) ({ cls := "NapkinDeedsModel", name := "worthAt", desc := "(I)I" } : Jvm.MethodName)) ∈ lw_all := lw_g (lw_at lw_m13 60 rfl) rfl
theorem q3089 : (Jvm.Cond.privateMethod ({ cls := "NapkinDeedsModel", name := "worthAt", desc := "(I)I" } : Jvm.MethodName)) ∈ lw_tbl := lw_at lw_m13 61 rfl
theorem q3090 : (Jvm.Cond.instanceMethod ({ cls := "NapkinDeedsModel", name := "worthAt", desc := "(I)I" } : Jvm.MethodName)) ∈ lw_all := lw_g (lw_at lw_m13 62 rfl) rfl
theorem q3091 : (Jvm.Cond.code ({ cls := "NapkinDeedsModel", name := "worthAt", desc := "(I)I" } : Jvm.MethodName) prog_43_method_61_code (2 : Nat) (Option.some Jvm.ClassFile.FieldType.int)) ∈ lw_all := lw_g (lw_at lw_m13 63 rfl) rfl
theorem q3092 : (Jvm.Cond.methodLink "NapkinDeedsModel" (331 : Nat) ({ cls := "NapkinDeedsModel", name := "asks", desc := "(I)V" } : Jvm.MethodName)) ∈ lw_all := lw_g (lw_at lw_m13 64 rfl) rfl
theorem q3093 : (Jvm.Cond.privateMethod ({ cls := "NapkinDeedsModel", name := "asks", desc := "(I)V" } : Jvm.MethodName)) ∈ lw_tbl := lw_at lw_m13 65 rfl
theorem q3094 : (Jvm.Cond.instanceMethod ({ cls := "NapkinDeedsModel", name := "asks", desc := "(I)V" } : Jvm.MethodName)) ∈ lw_all := lw_g (lw_at lw_m13 66 rfl) rfl
theorem q3095 : (Jvm.Cond.code ({ cls := "NapkinDeedsModel", name := "asks", desc := "(I)V" } : Jvm.MethodName) prog_43_method_60_code (2 : Nat) (Option.none : Option Jvm.ClassFile.FieldType)) ∈ lw_all := lw_g (lw_at lw_m13 67 rfl) rfl
theorem q3096 : (Jvm.Cond.methodLink "NapkinDeedsModel" (325 : Nat) ({ cls := "NapkinDeedsModel", name := "highestAt", desc := "(I)I" } : Jvm.MethodName)) ∈ lw_all := lw_g (lw_at lw_m13 68 rfl) rfl
theorem q3097 : (Jvm.Cond.privateMethod ({ cls := "NapkinDeedsModel", name := "highestAt", desc := "(I)I" } : Jvm.MethodName)) ∈ lw_tbl := lw_at lw_m13 69 rfl
theorem q3098 : (Jvm.Cond.instanceMethod ({ cls := "NapkinDeedsModel", name := "highestAt", desc := "(I)I" } : Jvm.MethodName)) ∈ lw_all := lw_g (lw_at lw_m13 70 rfl) rfl
theorem q3099 : (Jvm.Cond.code ({ cls := "NapkinDeedsModel", name := "highestAt", desc := "(I)I" } : Jvm.MethodName) prog_43_method_50_code (4 : Nat) (Option.some Jvm.ClassFile.FieldType.int)) ∈ lw_all := lw_g (lw_at lw_m13 71 rfl) rfl
theorem q3100 : (Jvm.Cond.methodLink "NapkinDeedsModel" (293 : Nat) ({ cls := "NapkinDeedsModel", name := "topAt", desc := "(I)I" } : Jvm.MethodName)) ∈ lw_all := lw_g (lw_at lw_m13 72 rfl) rfl
theorem q3101 : (Jvm.Cond.privateMethod ({ cls := "NapkinDeedsModel", name := "topAt", desc := "(I)I" } : Jvm.MethodName)) ∈ lw_tbl := lw_at lw_m13 73 rfl
theorem q3102 : (Jvm.Cond.instanceMethod ({ cls := "NapkinDeedsModel", name := "topAt", desc := "(I)I" } : Jvm.MethodName)) ∈ lw_all := lw_g (lw_at lw_m13 74 rfl) rfl
theorem q3103 : (Jvm.Cond.code ({ cls := "NapkinDeedsModel", name := "topAt", desc := "(I)I" } : Jvm.MethodName) prog_43_method_51_code (4 : Nat) (Option.some Jvm.ClassFile.FieldType.int)) ∈ lw_all := lw_g (lw_at lw_m13 75 rfl) rfl
theorem q3104 : (Jvm.Cond.methodLink "NapkinDeedsModel" (296 : Nat) ({ cls := "NapkinDeedsModel", name := "underAt", desc := "(I)I" } : Jvm.MethodName)) ∈ lw_all := lw_g (lw_at lw_m13 76 rfl) rfl
theorem q3105 : (Jvm.Cond.privateMethod ({ cls := "NapkinDeedsModel", name := "underAt", desc := "(I)I" } : Jvm.MethodName)) ∈ lw_tbl := lw_at lw_m13 77 rfl
theorem q3106 : (Jvm.Cond.instanceMethod ({ cls := "NapkinDeedsModel", name := "underAt", desc := "(I)I" } : Jvm.MethodName)) ∈ lw_all := lw_g (lw_at lw_m13 78 rfl) rfl
theorem q3107 : (Jvm.Cond.code ({ cls := "NapkinDeedsModel", name := "underAt", desc := "(I)I" } : Jvm.MethodName) prog_43_method_52_code (4 : Nat) (Option.some Jvm.ClassFile.FieldType.int)) ∈ lw_all := lw_g (lw_at lw_m13 79 rfl) rfl
theorem q3108 : (Jvm.Cond.methodLink "NapkinDeedsModel" (328 : Nat) ({ cls := "NapkinDeedsModel", name := "hiddenAt", desc := "(I)I" } : Jvm.MethodName)) ∈ lw_all := lw_g (lw_at lw_m13 80 rfl) rfl
theorem q3109 : (Jvm.Cond.privateMethod ({ cls := "NapkinDeedsModel", name := "hiddenAt", desc := "(I)I" } : Jvm.MethodName)) ∈ lw_tbl := lw_at lw_m13 81 rfl
theorem q3110 : (Jvm.Cond.instanceMethod ({ cls := "NapkinDeedsModel", name := "hiddenAt", desc := "(I)I" } : Jvm.MethodName)) ∈ lw_all := lw_g (lw_at lw_m13 82 rfl) rfl
theorem q3111 : (Jvm.Cond.code ({ cls := "NapkinDeedsModel", name := "hiddenAt", desc := "(I)I" } : Jvm.MethodName) prog_43_method_53_code (4 : Nat) (Option.some Jvm.ClassFile.FieldType.int)) ∈ lw_all := lw_g (lw_at lw_m13 83 rfl) rfl
theorem q3112 : (Jvm.Cond.methodLink "NapkinDeedsModel" (334 : Nat) ({ cls := "NapkinDeedsModel", name := "lawOf", desc := "(II)I" } : Jvm.MethodName)) ∈ lw_all := lw_g (lw_at lw_m13 84 rfl) rfl
theorem q3113 : (Jvm.Cond.privateMethod ({ cls := "NapkinDeedsModel", name := "lawOf", desc := "(II)I" } : Jvm.MethodName)) ∈ lw_tbl := lw_at lw_m13 85 rfl
theorem q3114 : (Jvm.Cond.instanceMethod ({ cls := "NapkinDeedsModel", name := "lawOf", desc := "(II)I" } : Jvm.MethodName)) ∈ lw_all := lw_g (lw_at lw_m13 86 rfl) rfl
theorem q3115 : (Jvm.Cond.code ({ cls := "NapkinDeedsModel", name := "lawOf", desc := "(II)I" } : Jvm.MethodName) prog_43_method_59_code (6 : Nat) (Option.some Jvm.ClassFile.FieldType.int)) ∈ lw_all := lw_g (lw_at lw_m13 87 rfl) rfl
theorem q3116 : (Jvm.Cond.methodLink "NapkinDeedsModel" (321 : Nat) ({ cls := "NapkinDeedsModel", name := "done", desc := "(IJJ)I" } : Jvm.MethodName)) ∈ lw_all := lw_g (lw_at lw_m13 88 rfl) rfl
theorem q3117 : (Jvm.Cond.static ({ cls := "NapkinDeedsModel", name := "done", desc := "(IJJ)I" } : Jvm.MethodName)) ∈ lw_all := lw_g (lw_at lw_m13 89 rfl) rfl
theorem q3118 : (Jvm.Cond.code ({ cls := "NapkinDeedsModel", name := "done", desc := "(IJJ)I" } : Jvm.MethodName) prog_43_method_58_code (5 : Nat) (Option.some Jvm.ClassFile.FieldType.int)) ∈ lw_all := lw_g (lw_at lw_m13 90 rfl) rfl
theorem q3119 : (Jvm.Cond.methodLink "NapkinDeedsModel" (317 : Nat) ({ cls := "NapkinDeedsModel", name := "bound", desc := "(J)I" } : Jvm.MethodName)) ∈ lw_all := lw_g (lw_at lw_m13 91 rfl) rfl
theorem q3120 : (Jvm.Cond.static ({ cls := "NapkinDeedsModel", name := "bound", desc := "(J)I" } : Jvm.MethodName)) ∈ lw_all := lw_g (lw_at lw_m13 92 rfl) rfl
theorem q3121 : (Jvm.Cond.code ({ cls := "NapkinDeedsModel", name := "bound", desc := "(J)I" } : Jvm.MethodName) prog_43_method_57_code (2 : Nat) (Option.some Jvm.ClassFile.FieldType.int)) ∈ lw_all := lw_g (lw_at lw_m13 93 rfl) rfl
theorem q3122 : (Jvm.Cond.constantLong "NapkinDeedsModel" (308 : Nat) (-1000000 : Int64)) ∈ lw_all := lw_g (lw_at lw_m13 94 rfl) rfl
theorem q3123 : (Jvm.Cond.constantLong "NapkinDeedsModel" (310 : Nat) (1000000 : Int64)) ∈ lw_all := lw_g (lw_at lw_m13 95 rfl) rfl
theorem q3124 : (Jvm.Cond.methodLink "NapkinDeedsModel" (312 : Nat) ({ cls := "java/lang/Math", name := "min", desc := "(JJ)J" } : Jvm.MethodName)) ∈ lw_all := lw_g (lw_at lw_m13 96 rfl) rfl
theorem q3125 : (Jvm.Cond.methodLink "NapkinDeedsModel" (315 : Nat) ({ cls := "java/lang/Math", name := "max", desc := "(JJ)J" } : Jvm.MethodName)) ∈ lw_all := lw_g (lw_at lw_m13 97 rfl) rfl
theorem q3127 : (Jvm.Cond.instanceMethod ({ cls := "NapkinDeedsModel", name := "holds", desc := "()Z" } : Jvm.MethodName)) ∈ lw_all := lw_g (lw_at lw_m13 99 rfl) rfl
theorem q3128 : (Jvm.Cond.selects "NapkinDeedsModel" ({ cls := "NapkinDeedsModel", name := "holds", desc := "()Z" } : Jvm.MethodName) ({ cls := "NapkinDeedsModel", name := "holds", desc := "()Z" } : Jvm.MethodName)) ∈ lw_all := lw_g (lw_at lw_m13 100 rfl) rfl
theorem q3129 : (Jvm.Cond.code ({ cls := "NapkinDeedsModel", name := "holds", desc := "()Z" } : Jvm.MethodName) prog_43_method_73_code (1 : Nat) (Option.some Jvm.ClassFile.FieldType.boolean)) ∈ lw_all := lw_g (lw_at lw_m13 101 rfl) rfl
theorem q3130 : (Jvm.Cond.methodLink "NapkinDeedsModel" (352 : Nat) ({ cls := "NapkinDeedsModel", name := "holdsAt", desc := "(I)Z" } : Jvm.MethodName)) ∈ lw_all := lw_g (lw_at lw_m13 102 rfl) rfl
theorem q3131 : (Jvm.Cond.privateMethod ({ cls := "NapkinDeedsModel", name := "holdsAt", desc := "(I)Z" } : Jvm.MethodName)) ∈ lw_tbl := lw_at lw_m13 103 rfl
theorem q3132 : (Jvm.Cond.instanceMethod ({ cls := "NapkinDeedsModel", name := "holdsAt", desc := "(I)Z" } : Jvm.MethodName)) ∈ lw_all := lw_g (lw_at lw_m13 104 rfl) rfl
theorem q3133 : (Jvm.Cond.code ({ cls := "NapkinDeedsModel", name := "holdsAt", desc := "(I)Z" } : Jvm.MethodName) prog_43_method_62_code (2 : Nat) (Option.some Jvm.ClassFile.FieldType.boolean)) ∈ lw_all := lw_g (lw_at lw_m13 105 rfl) rfl
theorem q3135 : (Jvm.Cond.instanceMethod ({ cls := "NapkinDeedsModel", name := "likes", desc := "(I)I" } : Jvm.MethodName)) ∈ lw_all := lw_g (lw_at lw_m13 107 rfl) rfl
theorem q3136 : (Jvm.Cond.selects "NapkinDeedsModel" ({ cls := "NapkinDeedsModel", name := "likes", desc := "(I)I" } : Jvm.MethodName) ({ cls := "NapkinDeedsModel", name := "likes", desc := "(I)I" } : Jvm.MethodName)) ∈ lw_all := lw_g (lw_at lw_m13 108 rfl) rfl
theorem q3137 : (Jvm.Cond.code ({ cls := "NapkinDeedsModel", name := "likes", desc := "(I)I" } : Jvm.MethodName) prog_43_method_74_code (2 : Nat) (Option.some Jvm.ClassFile.FieldType.int)) ∈ lw_all := lw_g (lw_at lw_m13 109 rfl) rfl
theorem q3138 : (Jvm.Cond.methodLink "NapkinDeedsModel" (355 : Nat) ({ cls := "NapkinDeedsModel", name := "likesAt", desc := "(II)I" } : Jvm.MethodName)) ∈ lw_all := lw_g (lw_at lw_m13 110 rfl) rfl
theorem q3139 : (Jvm.Cond.privateMethod ({ cls := "NapkinDeedsModel", name := "likesAt", desc := "(II)I" } : Jvm.MethodName)) ∈ lw_tbl := lw_at lw_m13 111 rfl
theorem q3140 : (Jvm.Cond.instanceMethod ({ cls := "NapkinDeedsModel", name := "likesAt", desc := "(II)I" } : Jvm.MethodName)) ∈ lw_all := lw_g (lw_at lw_m13 112 rfl) rfl
theorem q3141 : (Jvm.Cond.code ({ cls := "NapkinDeedsModel", name := "likesAt", desc := "(II)I" } : Jvm.MethodName) prog_43_method_63_code (3 : Nat) (Option.some Jvm.ClassFile.FieldType.int)) ∈ lw_all := lw_g (lw_at lw_m13 113 rfl) rfl
theorem q3143 : (Jvm.Cond.instanceMethod ({ cls := "NapkinDeedsModel", name := "fold", desc := "(II)I" } : Jvm.MethodName)) ∈ lw_all := lw_g (lw_at lw_m13 115 rfl) rfl
theorem q3144 : (Jvm.Cond.selects "NapkinDeedsModel" ({ cls := "NapkinDeedsModel", name := "fold", desc := "(II)I" } : Jvm.MethodName) ({ cls := "NapkinDeedsModel", name := "fold", desc := "(II)I" } : Jvm.MethodName)) ∈ lw_all := lw_g (lw_at lw_m13 116 rfl) rfl
theorem q3145 : (Jvm.Cond.code ({ cls := "NapkinDeedsModel", name := "fold", desc := "(II)I" } : Jvm.MethodName) prog_43_method_79_code (3 : Nat) (Option.some Jvm.ClassFile.FieldType.int)) ∈ lw_all := lw_g (lw_at lw_m13 117 rfl) rfl
theorem q3146 : (Jvm.Cond.methodLink "NapkinDeedsModel" (358 : Nat) ({ cls := "NapkinDeedsModel", name := "isFold", desc := "(IJJ)Z" } : Jvm.MethodName)) ∈ lw_all := lw_g (lw_at lw_m13 118 rfl) rfl
theorem q3147 : (Jvm.Cond.privateMethod ({ cls := "NapkinDeedsModel", name := "isFold", desc := "(IJJ)Z" } : Jvm.MethodName)) ∈ lw_tbl := lw_at lw_m13 119 rfl
theorem q3148 : (Jvm.Cond.instanceMethod ({ cls := "NapkinDeedsModel", name := "isFold", desc := "(IJJ)Z" } : Jvm.MethodName)) ∈ lw_all := lw_g (lw_at lw_m13 120 rfl) rfl
theorem q3149 : (Jvm.Cond.code ({ cls := "NapkinDeedsModel", name := "isFold", desc := "(IJJ)Z" } : Jvm.MethodName) prog_43_method_43_code (6 : Nat) (Option.some Jvm.ClassFile.FieldType.boolean)) ∈ lw_all := lw_g (lw_at lw_m13 121 rfl) rfl
theorem q3150 : (Jvm.Cond.constantLong "NapkinDeedsModel" (259 : Nat) (3 : Int64)) ∈ lw_all := lw_g (lw_at lw_m13 122 rfl) rfl
theorem q3151 : (Jvm.Cond.methodLink "NapkinDeedsModel" (362 : Nat) ({ cls := "NapkinDeedsModel", name := "keeps", desc := "()V" } : Jvm.MethodName)) ∈ lw_all := lw_g (lw_at lw_m13 123 rfl) rfl
theorem q3152 : (Jvm.Cond.privateMethod ({ cls := "NapkinDeedsModel", name := "keeps", desc := "()V" } : Jvm.MethodName)) ∈ lw_tbl := lw_at lw_m13 124 rfl
theorem q3153 : (Jvm.Cond.instanceMethod ({ cls := "NapkinDeedsModel", name := "keeps", desc := "()V" } : Jvm.MethodName)) ∈ lw_all := lw_g (lw_at lw_m13 125 rfl) rfl
theorem q3154 : (Jvm.Cond.code ({ cls := "NapkinDeedsModel", name := "keeps", desc := "()V" } : Jvm.MethodName) prog_43_method_75_code (2 : Nat) (Option.none : Option Jvm.ClassFile.FieldType)) ∈ lw_all := lw_g (lw_at lw_m13 126 rfl) rfl
theorem q3155 : (Jvm.Cond.methodLink "NapkinDeedsModel" (365 : Nat) ({ cls := "NapkinDeedsModel", name := "addsFold", desc := "(I)V" } : Jvm.MethodName)) ∈ lw_all := lw_g (lw_at lw_m13 127 rfl) rfl
theorem q3156 : (Jvm.Cond.privateMethod ({ cls := "NapkinDeedsModel", name := "addsFold", desc := "(I)V" } : Jvm.MethodName)) ∈ lw_tbl := lw_at lw_m13 128 rfl
theorem q3157 : (Jvm.Cond.instanceMethod ({ cls := "NapkinDeedsModel", name := "addsFold", desc := "(I)V" } : Jvm.MethodName)) ∈ lw_all := lw_g (lw_at lw_m13 129 rfl) rfl
theorem q3158 : (Jvm.Cond.code ({ cls := "NapkinDeedsModel", name := "addsFold", desc := "(I)V" } : Jvm.MethodName) prog_43_method_78_code (2 : Nat) (Option.none : Option Jvm.ClassFile.FieldType)) ∈ lw_all := lw_g (lw_at lw_m13 130 rfl) rfl
theorem q3160 : (Jvm.Cond.instanceMethod ({ cls := "NapkinDeedsModel", name := "unfold", desc := "()I" } : Jvm.MethodName)) ∈ lw_all := lw_g (lw_at lw_m13 132 rfl) rfl
theorem q3161 : (Jvm.Cond.selects "NapkinDeedsModel" ({ cls := "NapkinDeedsModel", name := "unfold", desc := "()I" } : Jvm.MethodName) ({ cls := "NapkinDeedsModel", name := "unfold", desc := "()I" } : Jvm.MethodName)) ∈ lw_all := lw_g (lw_at lw_m13 133 rfl) rfl
theorem q3162 : (Jvm.Cond.code ({ cls := "NapkinDeedsModel", name := "unfold", desc := "()I" } : Jvm.MethodName) prog_43_method_80_code (1 : Nat) (Option.some Jvm.ClassFile.FieldType.int)) ∈ lw_all := lw_g (lw_at lw_m13 134 rfl) rfl
theorem q3164 : (Jvm.Cond.instanceMethod ({ cls := "NapkinDeedsModel", name := "shake", desc := "()I" } : Jvm.MethodName)) ∈ lw_all := lw_g (lw_at lw_m13 136 rfl) rfl
theorem q3165 : (Jvm.Cond.selects "NapkinDeedsModel" ({ cls := "NapkinDeedsModel", name := "shake", desc := "()I" } : Jvm.MethodName) ({ cls := "NapkinDeedsModel", name := "shake", desc := "()I" } : Jvm.MethodName)) ∈ lw_all := lw_g (lw_at lw_m13 137 rfl) rfl
theorem q3166 : (Jvm.Cond.code ({ cls := "NapkinDeedsModel", name := "shake", desc := "()I" } : Jvm.MethodName) prog_43_method_81_code (2 : Nat) (Option.some Jvm.ClassFile.FieldType.int)) ∈ lw_all := lw_g (lw_at lw_m13 138 rfl) rfl
theorem q3168 : (Jvm.Cond.instanceMethod ({ cls := "NapkinDeedsModel", name := "amend", desc := "(III)I" } : Jvm.MethodName)) ∈ lw_all := lw_g (lw_at lw_m13 140 rfl) rfl
theorem q3169 : (Jvm.Cond.selects "NapkinDeedsModel" ({ cls := "NapkinDeedsModel", name := "amend", desc := "(III)I" } : Jvm.MethodName) ({ cls := "NapkinDeedsModel", name := "amend", desc := "(III)I" } : Jvm.MethodName)) ∈ lw_all := lw_g (lw_at lw_m13 141 rfl) rfl
theorem q3170 : (Jvm.Cond.code ({ cls := "NapkinDeedsModel", name := "amend", desc := "(III)I" } : Jvm.MethodName) prog_43_method_82_code (5 : Nat) (Option.some Jvm.ClassFile.FieldType.int)) ∈ lw_all := lw_g (lw_at lw_m13 142 rfl) rfl
theorem q3171 : (Jvm.Cond.constantLong "NapkinDeedsModel" (368 : Nat) (99 : Int64)) ∈ lw_all := lw_g (lw_at lw_m13 143 rfl) rfl
theorem q3173 : (Jvm.Cond.instanceMethod ({ cls := "NapkinDeedsModel", name := "undo", desc := "(I)I" } : Jvm.MethodName)) ∈ lw_all := lw_g (lw_at lw_m13 145 rfl) rfl
theorem q3174 : (Jvm.Cond.selects "NapkinDeedsModel" ({ cls := "NapkinDeedsModel", name := "undo", desc := "(I)I" } : Jvm.MethodName) ({ cls := "NapkinDeedsModel", name := "undo", desc := "(I)I" } : Jvm.MethodName)) ∈ lw_all := lw_g (lw_at lw_m13 146 rfl) rfl
theorem q3175 : (Jvm.Cond.code ({ cls := "NapkinDeedsModel", name := "undo", desc := "(I)I" } : Jvm.MethodName) prog_43_method_83_code (3 : Nat) (Option.some Jvm.ClassFile.FieldType.int)) ∈ lw_all := lw_g (lw_at lw_m13 147 rfl) rfl
theorem q3176 : (Jvm.Cond.constantLong "NapkinDeedsModel" (370 : Nat) (10 : Int64)) ∈ lw_all := lw_g (lw_at lw_m13 148 rfl) rfl
theorem q3178 : (Jvm.Cond.instanceMethod ({ cls := "NapkinDeedsModel", name := "judge", desc := "(II)I" } : Jvm.MethodName)) ∈ lw_all := lw_g (lw_at lw_m13 150 rfl) rfl
theorem q3179 : (Jvm.Cond.selects "NapkinDeedsModel" ({ cls := "NapkinDeedsModel", name := "judge", desc := "(II)I" } : Jvm.MethodName) ({ cls := "NapkinDeedsModel", name := "judge", desc := "(II)I" } : Jvm.MethodName)) ∈ lw_all := lw_g (lw_at lw_m13 151 rfl) rfl
theorem q3180 : (Jvm.Cond.code ({ cls := "NapkinDeedsModel", name := "judge", desc := "(II)I" } : Jvm.MethodName) prog_43_method_87_code (7 : Nat) (Option.some Jvm.ClassFile.FieldType.int)) ∈ lw_all := lw_g (lw_at lw_m13 152 rfl) rfl
theorem q3181 : (Jvm.Cond.methodLink "NapkinDeedsModel" (389 : Nat) ({ cls := "NapkinDeedsModel", name := "trayFault", desc := "(I)I" } : Jvm.MethodName)) ∈ lw_all := lw_g (lw_at lw_m13 153 rfl) rfl
theorem q3182 : (Jvm.Cond.privateMethod ({ cls := "NapkinDeedsModel", name := "trayFault", desc := "(I)I" } : Jvm.MethodName)) ∈ lw_tbl := lw_at lw_m13 154 rfl
theorem q3183 : (Jvm.Cond.instanceMethod ({ cls := "NapkinDeedsModel", name := "trayFault", desc := "(I)I" } : Jvm.MethodName)) ∈ lw_all := lw_g (lw_at lw_m13 155 rfl) rfl
theorem q3184 : (Jvm.Cond.code ({ cls := "NapkinDeedsModel", name := "trayFault", desc := "(I)I" } : Jvm.MethodName) prog_43_method_84_code (2 : Nat) (Option.some Jvm.ClassFile.FieldType.int)) ∈ lw_all := lw_g (lw_at lw_m13 156 rfl) rfl
theorem q3185 : (Jvm.Cond.methodLink "NapkinDeedsModel" (372 : Nat) ({ cls := "NapkinDeedsModel", name := "isTray", desc := "(I)Z" } : Jvm.MethodName)) ∈ lw_all := lw_g (lw_at lw_m13 157 rfl) rfl
theorem q3186 : (Jvm.Cond.static ({ cls := "NapkinDeedsModel", name := "isTray", desc := "(I)Z" } : Jvm.MethodName)) ∈ lw_all := lw_g (lw_at lw_m13 158 rfl) rfl
theorem q3187 : (Jvm.Cond.code ({ cls := "NapkinDeedsModel", name := "isTray", desc := "(I)Z" } : Jvm.MethodName) prog_43_method_145_code (1 : Nat) (Option.some Jvm.ClassFile.FieldType.boolean)) ∈ lw_all := lw_g (lw_at lw_m13 159 rfl) rfl
theorem q3188 : (Jvm.Cond.methodLink "NapkinDeedsModel" (392 : Nat) ({ cls := "NapkinDeedsModel", name := "putsAside", desc := "()V" } : Jvm.MethodName)) ∈ lw_all := lw_g (lw_at lw_m13 160 rfl) rfl
theorem q3189 : (Jvm.Cond.privateMethod ({ cls := "NapkinDeedsModel", name := "putsAside", desc := "()V" } : Jvm.MethodName)) ∈ lw_tbl := lw_at lw_m13 161 rfl
theorem q3190 : (Jvm.Cond.instanceMethod ({ cls := "NapkinDeedsModel", name := "putsAside", desc := "()V" } : Jvm.MethodName)) ∈ lw_all := lw_g (lw_at lw_m13 162 rfl) rfl
theorem q3191 : (Jvm.Cond.code ({ cls := "NapkinDeedsModel", name := "putsAside", desc := "()V" } : Jvm.MethodName) prog_43_method_76_code (2 : Nat) (Option.none : Option Jvm.ClassFile.FieldType)) ∈ lw_all := lw_g (lw_at lw_m13 163 rfl) rfl
theorem q3192 : (Jvm.Cond.methodLink "NapkinDeedsModel" (395 : Nat) ({ cls := "NapkinDeedsModel", name := "whyTold", desc := "(J)I" } : Jvm.MethodName)) ∈ lw_all := lw_g (lw_at lw_m13 164 rfl) rfl
theorem q3193 : (Jvm.Cond.privateMethod ({ cls := "NapkinDeedsModel", name := "whyTold", desc := "(J)I" } : Jvm.MethodName)) ∈ lw_tbl := lw_at lw_m13 165 rfl
theorem q3194 : (Jvm.Cond.instanceMethod ({ cls := "NapkinDeedsModel", name := "whyTold", desc := "(J)I" } : Jvm.MethodName)) ∈ lw_all := lw_g (lw_at lw_m13 166 rfl) rfl
theorem q3195 : (Jvm.Cond.code ({ cls := "NapkinDeedsModel", name := "whyTold", desc := "(J)I" } : Jvm.MethodName) prog_43_method_85_code (3 : Nat) (Option.some Jvm.ClassFile.FieldType.int)) ∈ lw_all := lw_g (lw_at lw_m13 167 rfl) rfl
theorem q3196 : (Jvm.Cond.constantLong "NapkinDeedsModel" (375 : Nat) (-1 : Int64)) ∈ lw_all := lw_g (lw_at lw_m13 168 rfl) rfl
theorem q3197 : (Jvm.Cond.constantLong "NapkinDeedsModel" (377 : Nat) (100 : Int64)) ∈ lw_all := lw_g (lw_at lw_m13 169 rfl) rfl
theorem q3198 : (Jvm.Cond.constantLong "NapkinDeedsModel" (379 : Nat) (200 : Int64)) ∈ lw_all := lw_g (lw_at lw_m13 170 rfl) rfl
theorem q3199 : (Jvm.Cond.constantLong "NapkinDeedsModel" (381 : Nat) (1000 : Int64)) ∈ lw_all := lw_g (lw_at lw_m13 171 rfl) rfl
theorem q3200 : (Jvm.Cond.constantLong "NapkinDeedsModel" (383 : Nat) (1599 : Int64)) ∈ lw_all := lw_g (lw_at lw_m13 172 rfl) rfl
theorem q3201 : (Jvm.Cond.constantLong "NapkinDeedsModel" (385 : Nat) (2000 : Int64)) ∈ lw_all := lw_g (lw_at lw_m13 173 rfl) rfl
theorem q3202 : (Jvm.Cond.constantLong "NapkinDeedsModel" (387 : Nat) (2599 : Int64)) ∈ lw_all := lw_g (lw_at lw_m13 174 rfl) rfl
theorem q3203 : (Jvm.Cond.methodLink "NapkinDeedsModel" (398 : Nat) ({ cls := "NapkinDeedsModel", name := "does", desc := "(I)V" } : Jvm.MethodName)) ∈ lw_all := lw_g (lw_at lw_m13 175 rfl) rfl
theorem q3204 : (Jvm.Cond.privateMethod ({ cls := "NapkinDeedsModel", name := "does", desc := "(I)V" } : Jvm.MethodName)) ∈ lw_tbl := lw_at lw_m13 176 rfl
theorem q3205 : (Jvm.Cond.instanceMethod ({ cls := "NapkinDeedsModel", name := "does", desc := "(I)V" } : Jvm.MethodName)) ∈ lw_all := lw_g (lw_at lw_m13 177 rfl) rfl
theorem q3206 : (Jvm.Cond.code ({ cls := "NapkinDeedsModel", name := "does", desc := "(I)V" } : Jvm.MethodName) prog_43_method_86_code (2 : Nat) (Option.none : Option Jvm.ClassFile.FieldType)) ∈ lw_all := lw_g (lw_at lw_m13 178 rfl) rfl
theorem q3207 : (Jvm.Cond.methodLink "NapkinDeedsModel" (401 : Nat) ({ cls := "NapkinDeedsModel", name := "putsBack", desc := "()V" } : Jvm.MethodName)) ∈ lw_all := lw_g (lw_at lw_m13 179 rfl) rfl
theorem q3208 : (Jvm.Cond.privateMethod ({ cls := "NapkinDeedsModel", name := "putsBack", desc := "()V" } : Jvm.MethodName)) ∈ lw_tbl := lw_at lw_m13 180 rfl
theorem q3209 : (Jvm.Cond.instanceMethod ({ cls := "NapkinDeedsModel", name := "putsBack", desc := "()V" } : Jvm.MethodName)) ∈ lw_all := lw_g (lw_at lw_m13 181 rfl) rfl
theorem q3210 : (Jvm.Cond.code ({ cls := "NapkinDeedsModel", name := "putsBack", desc := "()V" } : Jvm.MethodName) prog_43_method_77_code (2 : Nat) (Option.none : Option Jvm.ClassFile.FieldType)) ∈ lw_all := lw_g (lw_at lw_m13 182 rfl) rfl
theorem q3212 : (Jvm.Cond.instanceMethod ({ cls := "NapkinDeedsModel", name := "perform", desc := "(I)I" } : Jvm.MethodName)) ∈ lw_all := lw_g (lw_at lw_m13 184 rfl) rfl
theorem q3213 : (Jvm.Cond.selects "NapkinDeedsModel" ({ cls := "NapkinDeedsModel", name := "perform", desc := "(I)I" } : Jvm.MethodName) ({ cls := "NapkinDeedsModel", name := "perform", desc := "(I)I" } : Jvm.MethodName)) ∈ lw_all := lw_g (lw_at lw_m13 185 rfl) rfl
theorem q3214 : (Jvm.Cond.code ({ cls := "NapkinDeedsModel", name := "perform", desc := "(I)I" } : Jvm.MethodName) prog_43_method_88_code (3 : Nat) (Option.some Jvm.ClassFile.FieldType.int)) ∈ lw_all := lw_g (lw_at lw_m13 186 rfl) rfl
theorem q3216 : (Jvm.Cond.instanceMethod ({ cls := "NapkinDeedsModel", name := "evening", desc := "(II)I" } : Jvm.MethodName)) ∈ lw_all := lw_g (lw_at lw_m13 188 rfl) rfl
theorem q3217 : (Jvm.Cond.selects "NapkinDeedsModel" ({ cls := "NapkinDeedsModel", name := "evening", desc := "(II)I" } : Jvm.MethodName) ({ cls := "NapkinDeedsModel", name := "evening", desc := "(II)I" } : Jvm.MethodName)) ∈ lw_all := lw_g (lw_at lw_m13 189 rfl) rfl
theorem q3218 : (Jvm.Cond.code ({ cls := "NapkinDeedsModel", name := "evening", desc := "(II)I" } : Jvm.MethodName) prog_43_method_90_code (6 : Nat) (Option.some Jvm.ClassFile.FieldType.int)) ∈ lw_all := lw_g (lw_at lw_m13 190 rfl) rfl
theorem q3219 : (Jvm.Cond.constantLong "NapkinDeedsModel" (408 : Nat) (30 : Int64)) ∈ lw_all := lw_g (lw_at lw_m13 191 rfl) rfl
theorem q3220 : (Jvm.Cond.methodLink "NapkinDeedsModel" (410 : Nat) ({ cls := "NapkinDeedsModel", name := "draw", desc := "(I)I" } : Jvm.MethodName)) ∈ lw_all := lw_g (lw_at lw_m13 192 rfl) rfl
theorem q3221 : (Jvm.Cond.privateMethod ({ cls := "NapkinDeedsModel", name := "draw", desc := "(I)I" } : Jvm.MethodName)) ∈ lw_tbl := lw_at lw_m13 193 rfl
theorem q3222 : (Jvm.Cond.instanceMethod ({ cls := "NapkinDeedsModel", name := "draw", desc := "(I)I" } : Jvm.MethodName)) ∈ lw_all := lw_g (lw_at lw_m13 194 rfl) rfl
theorem q3223 : (Jvm.Cond.code ({ cls := "NapkinDeedsModel", name := "draw", desc := "(I)I" } : Jvm.MethodName) prog_43_method_89_code (2 : Nat) (Option.some Jvm.ClassFile.FieldType.int)) ∈ lw_all := lw_g (lw_at lw_m13 195 rfl) rfl
theorem q3224 : (Jvm.Cond.constant "NapkinDeedsModel" (404 : Nat) (1103515245 : Int32)) ∈ lw_all := lw_g (lw_at lw_m13 196 rfl) rfl
theorem q3225 : (Jvm.Cond.methodLink "NapkinDeedsModel" (413 : Nat) ({ cls := "NapkinDeedsModel", name := "drawn", desc := "(I)I" } : Jvm.MethodName)) ∈ lw_all := lw_g (lw_at lw_m13 197 rfl) rfl
theorem q3226 : (Jvm.Cond.privateMethod ({ cls := "NapkinDeedsModel", name := "drawn", desc := "(I)I" } : Jvm.MethodName)) ∈ lw_tbl := lw_at lw_m13 198 rfl
theorem q3227 : (Jvm.Cond.instanceMethod ({ cls := "NapkinDeedsModel", name := "drawn", desc := "(I)I" } : Jvm.MethodName)) ∈ lw_all := lw_g (lw_at lw_m13 199 rfl) rfl
theorem q3228 : (Jvm.Cond.code ({ cls := "NapkinDeedsModel", name := "drawn", desc := "(I)I" } : Jvm.MethodName) prog_43_method_91_code (3 : Nat) (Option.some Jvm.ClassFile.FieldType.int)) ∈ lw_all := lw_g (lw_at lw_m13 200 rfl) rfl
theorem q3230 : (Jvm.Cond.instanceMethod ({ cls := "NapkinDeedsModel", name := "rows", desc := "(I)I" } : Jvm.MethodName)) ∈ lw_all := lw_g (lw_at lw_m13 202 rfl) rfl
theorem q3231 : (Jvm.Cond.selects "NapkinDeedsModel" ({ cls := "NapkinDeedsModel", name := "rows", desc := "(I)I" } : Jvm.MethodName) ({ cls := "NapkinDeedsModel", name := "rows", desc := "(I)I" } : Jvm.MethodName)) ∈ lw_all := lw_g (lw_at lw_m13 203 rfl) rfl
theorem q3232 : (Jvm.Cond.code ({ cls := "NapkinDeedsModel", name := "rows", desc := "(I)I" } : Jvm.MethodName) prog_43_method_108_code (2 : Nat) (Option.some Jvm.ClassFile.FieldType.int)) ∈ lw_all := lw_g (lw_at lw_m13 204 rfl) rfl
theorem q3233 : (Jvm.Cond.methodLink "NapkinDeedsModel" (499 : Nat) ({ cls := "NapkinDeedsModel", name := "isMore", desc := "(I)Z" } : Jvm.MethodName)) ∈ lw_all := lw_g (lw_at lw_m13 205 rfl) rfl
theorem q3234 : (Jvm.Cond.static ({ cls := "NapkinDeedsModel", name := "isMore", desc := "(I)Z" } : Jvm.MethodName)) ∈ lw_all := lw_g (lw_at lw_m13 206 rfl) rfl
theorem q3235 : (Jvm.Cond.code ({ cls := "NapkinDeedsModel", name := "isMore", desc := "(I)Z" } : Jvm.MethodName) prog_43_method_107_code (1 : Nat) (Option.some Jvm.ClassFile.FieldType.boolean)) ∈ lw_all := lw_g (lw_at lw_m13 207 rfl) rfl
theorem q3236 : (Jvm.Cond.constantLong "NapkinDeedsModel" (497 : Nat) (5 : Int64)) ∈ lw_all := lw_g (lw_at lw_m13 208 rfl) rfl
theorem q3237 : (Jvm.Cond.methodLink "NapkinDeedsModel" (422 : Nat) ({ cls := "NapkinDeedsModel", name := "goes", desc := "(II)Z" } : Jvm.MethodName)) ∈ lw_all := lw_g (lw_at lw_m13 209 rfl) rfl
theorem q3238 : (Jvm.Cond.privateMethod ({ cls := "NapkinDeedsModel", name := "goes", desc := "(II)Z" } : Jvm.MethodName)) ∈ lw_tbl := lw_at lw_m13 210 rfl
theorem q3239 : (Jvm.Cond.instanceMethod ({ cls := "NapkinDeedsModel", name := "goes", desc := "(II)Z" } : Jvm.MethodName)) ∈ lw_all := lw_g (lw_at lw_m13 211 rfl) rfl
theorem q3240 : (Jvm.Cond.code ({ cls := "NapkinDeedsModel", name := "goes", desc := "(II)Z" } : Jvm.MethodName) prog_43_method_92_code (5 : Nat) (Option.some Jvm.ClassFile.FieldType.boolean)) ∈ lw_all := lw_g (lw_at lw_m13 212 rfl) rfl
theorem q3241 : (Jvm.Cond.methodLink "NapkinDeedsModel" (416 : Nat) ({ cls := "NapkinDeedsModel", name := "sees", desc := "(I)Z" } : Jvm.MethodName)) ∈ lw_all := lw_g (lw_at lw_m13 213 rfl) rfl
theorem q3242 : (Jvm.Cond.privateMethod ({ cls := "NapkinDeedsModel", name := "sees", desc := "(I)Z" } : Jvm.MethodName)) ∈ lw_tbl := lw_at lw_m13 214 rfl
theorem q3243 : (Jvm.Cond.instanceMethod ({ cls := "NapkinDeedsModel", name := "sees", desc := "(I)Z" } : Jvm.MethodName)) ∈ lw_all := lw_g (lw_at lw_m13 215 rfl) rfl
theorem q3244 : (Jvm.Cond.code ({ cls := "NapkinDeedsModel", name := "sees", desc := "(I)Z" } : Jvm.MethodName) prog_43_method_103_code (3 : Nat) (Option.some Jvm.ClassFile.FieldType.boolean)) ∈ lw_all := lw_g (lw_at lw_m13 216 rfl) rfl
theorem q3245 : (Jvm.Cond.methodLink "NapkinDeedsModel" (455 : Nat) ({ cls := "NapkinDeedsModel", name := "lookAt", desc := "(I)J" } : Jvm.MethodName)) ∈ lw_all := lw_g (lw_at lw_m13 217 rfl) rfl
theorem q3246 : (Jvm.Cond.privateMethod ({ cls := "NapkinDeedsModel", name := "lookAt", desc := "(I)J" } : Jvm.MethodName)) ∈ lw_tbl := lw_at lw_m13 218 rfl
theorem q3247 : (Jvm.Cond.instanceMethod ({ cls := "NapkinDeedsModel", name := "lookAt", desc := "(I)J" } : Jvm.MethodName)) ∈ lw_all := lw_g (lw_at lw_m13 219 rfl) rfl
theorem q3248 : (Jvm.Cond.code ({ cls := "NapkinDeedsModel", name := "lookAt", desc := "(I)J" } : Jvm.MethodName) prog_43_method_100_code (5 : Nat) (Option.some Jvm.ClassFile.FieldType.long)) ∈ lw_all := lw_g (lw_at lw_m13 220 rfl) rfl
theorem q3249 : (Jvm.Cond.constantLong "NapkinDeedsModel" (439 : Nat) (128 : Int64)) ∈ lw_all := lw_g (lw_at lw_m13 221 rfl) rfl
theorem q3250 : (Jvm.Cond.methodLink "NapkinDeedsModel" (459 : Nat) ({ cls := "NapkinDeedsModel", name := "isNew", desc := "(J)Z" } : Jvm.MethodName)) ∈ lw_all := lw_g (lw_at lw_m13 222 rfl) rfl
theorem q3251 : (Jvm.Cond.privateMethod ({ cls := "NapkinDeedsModel", name := "isNew", desc := "(J)Z" } : Jvm.MethodName)) ∈ lw_tbl := lw_at lw_m13 223 rfl
theorem q3252 : (Jvm.Cond.instanceMethod ({ cls := "NapkinDeedsModel", name := "isNew", desc := "(J)Z" } : Jvm.MethodName)) ∈ lw_all := lw_g (lw_at lw_m13 224 rfl) rfl
theorem q3253 : (Jvm.Cond.code ({ cls := "NapkinDeedsModel", name := "isNew", desc := "(J)Z" } : Jvm.MethodName) prog_43_method_99_code (4 : Nat) (Option.some Jvm.ClassFile.FieldType.boolean)) ∈ lw_all := lw_g (lw_at lw_m13 225 rfl) rfl
theorem q3254 : (Jvm.Cond.constantLong "NapkinDeedsModel" (432 : Nat) (2654435761 : Int64)) ∈ lw_all := lw_g (lw_at lw_m13 226 rfl) rfl
theorem q3255 : (Jvm.Cond.constantLong "NapkinDeedsModel" (434 : Nat) (65536 : Int64)) ∈ lw_all := lw_g (lw_at lw_m13 227 rfl) rfl
theorem q3256 : (Jvm.Cond.methodLink "NapkinDeedsModel" (462 : Nat) ({ cls := "NapkinDeedsModel", name := "isBetter", desc := "(I)Z" } : Jvm.MethodName)) ∈ lw_all := lw_g (lw_at lw_m13 228 rfl) rfl
theorem q3257 : (Jvm.Cond.privateMethod ({ cls := "NapkinDeedsModel", name := "isBetter", desc := "(I)Z" } : Jvm.MethodName)) ∈ lw_tbl := lw_at lw_m13 229 rfl
theorem q3258 : (Jvm.Cond.instanceMethod ({ cls := "NapkinDeedsModel", name := "isBetter", desc := "(I)Z" } : Jvm.MethodName)) ∈ lw_all := lw_g (lw_at lw_m13 230 rfl) rfl
theorem q3259 : (Jvm.Cond.code ({ cls := "NapkinDeedsModel", name := "isBetter", desc := "(I)Z" } : Jvm.MethodName) prog_43_method_95_code (5 : Nat) (Option.some Jvm.ClassFile.FieldType.boolean)) ∈ lw_all := lw_g (lw_at lw_m13 231 rfl) rfl
theorem q3260 : (Jvm.Cond.methodLink "NapkinDeedsModel" (465 : Nat) ({ cls := "NapkinDeedsModel", name := "orderAt", desc := "(I)J" } : Jvm.MethodName)) ∈ lw_all := lw_g (lw_at lw_m13 232 rfl) rfl
theorem q3261 : (Jvm.Cond.privateMethod ({ cls := "NapkinDeedsModel", name := "orderAt", desc := "(I)J" } : Jvm.MethodName)) ∈ lw_tbl := lw_at lw_m13 233 rfl
theorem q3262 : (Jvm.Cond.instanceMethod ({ cls := "NapkinDeedsModel", name := "orderAt", desc := "(I)J" } : Jvm.MethodName)) ∈ lw_all := lw_g (lw_at lw_m13 234 rfl) rfl
theorem q3263 : (Jvm.Cond.code ({ cls := "NapkinDeedsModel", name := "orderAt", desc := "(I)J" } : Jvm.MethodName) prog_43_method_101_code (5 : Nat) (Option.some Jvm.ClassFile.FieldType.long)) ∈ lw_all := lw_g (lw_at lw_m13 235 rfl) rfl
theorem q3264 : (Jvm.Cond.constantLong "NapkinDeedsModel" (441 : Nat) (8 : Int64)) ∈ lw_all := lw_g (lw_at lw_m13 236 rfl) rfl
theorem q3265 : (Jvm.Cond.methodLink "NapkinDeedsModel" (468 : Nat) ({ cls := "NapkinDeedsModel", name := "creasesAt", desc := "(I)I" } : Jvm.MethodName)) ∈ lw_all := lw_g (lw_at lw_m13 237 rfl) rfl
theorem q3266 : (Jvm.Cond.privateMethod ({ cls := "NapkinDeedsModel", name := "creasesAt", desc := "(I)I" } : Jvm.MethodName)) ∈ lw_tbl := lw_at lw_m13 238 rfl
theorem q3267 : (Jvm.Cond.instanceMethod ({ cls := "NapkinDeedsModel", name := "creasesAt", desc := "(I)I" } : Jvm.MethodName)) ∈ lw_all := lw_g (lw_at lw_m13 239 rfl) rfl
theorem q3268 : (Jvm.Cond.code ({ cls := "NapkinDeedsModel", name := "creasesAt", desc := "(I)I" } : Jvm.MethodName) prog_43_method_56_code (4 : Nat) (Option.some Jvm.ClassFile.FieldType.int)) ∈ lw_all := lw_g (lw_at lw_m14 0 rfl) rfl
theorem q3269 : (Jvm.Cond.methodLink "NapkinDeedsModel" (471 : Nat) ({ cls := "NapkinDeedsModel", name := "looksSo", desc := "(II)Z" } : Jvm.MethodName)) ∈ lw_all := lw_g (lw_at lw_m14 1 rfl) rfl
theorem q3270 : (Jvm.Cond.privateMethod ({ cls := "NapkinDeedsModel", name := "looksSo", desc := "(II)Z" } : Jvm.MethodName)) ∈ lw_tbl := lw_at lw_m14 2 rfl
theorem q3271 : (Jvm.Cond.instanceMethod ({ cls := "NapkinDeedsModel", name := "looksSo", desc := "(II)Z" } : Jvm.MethodName)) ∈ lw_all := lw_g (lw_at lw_m14 3 rfl) rfl
theorem q3272 : (Jvm.Cond.code ({ cls := "NapkinDeedsModel", name := "looksSo", desc := "(II)Z" } : Jvm.MethodName) prog_43_method_96_code (4 : Nat) (Option.some Jvm.ClassFile.FieldType.boolean)) ∈ lw_all := lw_g (lw_at lw_m14 4 rfl) rfl
theorem q3273 : (Jvm.Cond.methodLink "NapkinDeedsModel" (474 : Nat) ({ cls := "NapkinDeedsModel", name := "seesOne", desc := "(I)V" } : Jvm.MethodName)) ∈ lw_all := lw_g (lw_at lw_m14 5 rfl) rfl
theorem q3274 : (Jvm.Cond.privateMethod ({ cls := "NapkinDeedsModel", name := "seesOne", desc := "(I)V" } : Jvm.MethodName)) ∈ lw_tbl := lw_at lw_m14 6 rfl
theorem q3275 : (Jvm.Cond.instanceMethod ({ cls := "NapkinDeedsModel", name := "seesOne", desc := "(I)V" } : Jvm.MethodName)) ∈ lw_all := lw_g (lw_at lw_m14 7 rfl) rfl
theorem q3276 : (Jvm.Cond.code ({ cls := "NapkinDeedsModel", name := "seesOne", desc := "(I)V" } : Jvm.MethodName) prog_43_method_139_code (3 : Nat) (Option.none : Option Jvm.ClassFile.FieldType)) ∈ lw_all := lw_g (lw_at lw_m14 8 rfl) rfl
theorem q3277 : (Jvm.Cond.methodLink "NapkinDeedsModel" (477 : Nat) ({ cls := "NapkinDeedsModel", name := "seesMade", desc := "(I)Z" } : Jvm.MethodName)) ∈ lw_all := lw_g (lw_at lw_m14 9 rfl) rfl
theorem q3278 : (Jvm.Cond.privateMethod ({ cls := "NapkinDeedsModel", name := "seesMade", desc := "(I)Z" } : Jvm.MethodName)) ∈ lw_tbl := lw_at lw_m14 10 rfl
theorem q3279 : (Jvm.Cond.instanceMethod ({ cls := "NapkinDeedsModel", name := "seesMade", desc := "(I)Z" } : Jvm.MethodName)) ∈ lw_all := lw_g (lw_at lw_m14 11 rfl) rfl
theorem q3280 : (Jvm.Cond.code ({ cls := "NapkinDeedsModel", name := "seesMade", desc := "(I)Z" } : Jvm.MethodName) prog_43_method_105_code (2 : Nat) (Option.some Jvm.ClassFile.FieldType.boolean)) ∈ lw_all := lw_g (lw_at lw_m14 12 rfl) rfl
theorem q3281 : (Jvm.Cond.methodLink "NapkinDeedsModel" (493 : Nat) ({ cls := "NapkinDeedsModel", name := "hasCreases", desc := "(II)Z" } : Jvm.MethodName)) ∈ lw_all := lw_g (lw_at lw_m14 13 rfl) rfl
theorem q3282 : (Jvm.Cond.privateMethod ({ cls := "NapkinDeedsModel", name := "hasCreases", desc := "(II)Z" } : Jvm.MethodName)) ∈ lw_tbl := lw_at lw_m14 14 rfl
theorem q3283 : (Jvm.Cond.instanceMethod ({ cls := "NapkinDeedsModel", name := "hasCreases", desc := "(II)Z" } : Jvm.MethodName)) ∈ lw_all := lw_g (lw_at lw_m14 15 rfl) rfl
theorem q3284 : (Jvm.Cond.code ({ cls := "NapkinDeedsModel", name := "hasCreases", desc := "(II)Z" } : Jvm.MethodName) prog_43_method_98_code (4 : Nat) (Option.some Jvm.ClassFile.FieldType.boolean)) ∈ lw_all := lw_g (lw_at lw_m14 16 rfl) rfl
theorem q3285 : (Jvm.Cond.methodLink "NapkinDeedsModel" (490 : Nat) ({ cls := "NapkinDeedsModel", name := "keepsRow", desc := "(II)V" } : Jvm.MethodName)) ∈ lw_all := lw_g (lw_at lw_m14 17 rfl) rfl
theorem q3286 : (Jvm.Cond.privateMethod ({ cls := "NapkinDeedsModel", name := "keepsRow", desc := "(II)V" } : Jvm.MethodName)) ∈ lw_tbl := lw_at lw_m14 18 rfl
theorem q3287 : (Jvm.Cond.instanceMethod ({ cls := "NapkinDeedsModel", name := "keepsRow", desc := "(II)V" } : Jvm.MethodName)) ∈ lw_all := lw_g (lw_at lw_m14 19 rfl) rfl
theorem q3288 : (Jvm.Cond.code ({ cls := "NapkinDeedsModel", name := "keepsRow", desc := "(II)V" } : Jvm.MethodName) prog_43_method_93_code (4 : Nat) (Option.none : Option Jvm.ClassFile.FieldType)) ∈ lw_all := lw_g (lw_at lw_m14 20 rfl) rfl
theorem q3289 : (Jvm.Cond.methodLink "NapkinDeedsModel" (480 : Nat) ({ cls := "NapkinDeedsModel", name := "found", desc := "(IZ)Z" } : Jvm.MethodName)) ∈ lw_all := lw_g (lw_at lw_m14 21 rfl) rfl
theorem q3290 : (Jvm.Cond.privateMethod ({ cls := "NapkinDeedsModel", name := "found", desc := "(IZ)Z" } : Jvm.MethodName)) ∈ lw_tbl := lw_at lw_m14 22 rfl
theorem q3291 : (Jvm.Cond.instanceMethod ({ cls := "NapkinDeedsModel", name := "found", desc := "(IZ)Z" } : Jvm.MethodName)) ∈ lw_all := lw_g (lw_at lw_m14 23 rfl) rfl
theorem q3292 : (Jvm.Cond.code ({ cls := "NapkinDeedsModel", name := "found", desc := "(IZ)Z" } : Jvm.MethodName) prog_43_method_104_code (3 : Nat) (Option.some Jvm.ClassFile.FieldType.boolean)) ∈ lw_all := lw_g (lw_at lw_m14 24 rfl) rfl
theorem q3293 : (Jvm.Cond.methodLink "NapkinDeedsModel" (484 : Nat) ({ cls := "NapkinDeedsModel", name := "isStack", desc := "(II)Z" } : Jvm.MethodName)) ∈ lw_all := lw_g (lw_at lw_m14 25 rfl) rfl
theorem q3294 : (Jvm.Cond.privateMethod ({ cls := "NapkinDeedsModel", name := "isStack", desc := "(II)Z" } : Jvm.MethodName)) ∈ lw_tbl := lw_at lw_m14 26 rfl
theorem q3295 : (Jvm.Cond.instanceMethod ({ cls := "NapkinDeedsModel", name := "isStack", desc := "(II)Z" } : Jvm.MethodName)) ∈ lw_all := lw_g (lw_at lw_m14 27 rfl) rfl
theorem q3296 : (Jvm.Cond.code ({ cls := "NapkinDeedsModel", name := "isStack", desc := "(II)Z" } : Jvm.MethodName) prog_43_method_97_code (4 : Nat) (Option.some Jvm.ClassFile.FieldType.boolean)) ∈ lw_all := lw_g (lw_at lw_m14 28 rfl) rfl
theorem q3297 : (Jvm.Cond.methodLink "NapkinDeedsModel" (487 : Nat) ({ cls := "NapkinDeedsModel", name := "worthAsked", desc := "(I)I" } : Jvm.MethodName)) ∈ lw_all := lw_g (lw_at lw_m14 29 rfl) rfl
theorem q3298 : (Jvm.Cond.privateMethod ({ cls := "NapkinDeedsModel", name := "worthAsked", desc := "(I)I" } : Jvm.MethodName)) ∈ lw_tbl := lw_at lw_m14 30 rfl
theorem q3299 : (Jvm.Cond.instanceMethod ({ cls := "NapkinDeedsModel", name := "worthAsked", desc := "(I)I" } : Jvm.MethodName)) ∈ lw_all := lw_g (lw_at lw_m14 31 rfl) rfl
theorem q3300 : (Jvm.Cond.code ({ cls := "NapkinDeedsModel", name := "worthAsked", desc := "(I)I" } : Jvm.MethodName) prog_43_method_102_code (2 : Nat) (Option.some Jvm.ClassFile.FieldType.int)) ∈ lw_all := lw_g (lw_at lw_m14 32 rfl) rfl
theorem q3301 : (Jvm.Cond.methodLink "NapkinDeedsModel" (446 : Nat) ({ cls := "NapkinDeedsModel", name := "leastLiked", desc := "(I)I" } : Jvm.MethodName)) ∈ lw_all := lw_g (lw_at lw_m14 33 rfl) rfl
theorem q3302 : (Jvm.Cond.privateMethod ({ cls := "NapkinDeedsModel", name := "leastLiked", desc := "(I)I" } : Jvm.MethodName)) ∈ lw_tbl := lw_at lw_m14 34 rfl
theorem q3303 : (Jvm.Cond.instanceMethod ({ cls := "NapkinDeedsModel", name := "leastLiked", desc := "(I)I" } : Jvm.MethodName)) ∈ lw_all := lw_g (lw_at lw_m14 35 rfl) rfl
theorem q3304 : (Jvm.Cond.code ({ cls := "NapkinDeedsModel", name := "leastLiked", desc := "(I)I" } : Jvm.MethodName) prog_43_method_94_code (4 : Nat) (Option.some Jvm.ClassFile.FieldType.int)) ∈ lw_all := lw_g (lw_at lw_m14 36 rfl) rfl
theorem q3305 : (Jvm.Cond.constant "NapkinDeedsModel" (431 : Nat) (536870912 : Int32)) ∈ lw_all := lw_g (lw_at lw_m14 37 rfl) rfl
theorem q3307 : (Jvm.Cond.instanceMethod ({ cls := "NapkinDeedsModel", name := "looks", desc := "(I)I" } : Jvm.MethodName)) ∈ lw_all := lw_g (lw_at lw_m14 39 rfl) rfl
theorem q3308 : (Jvm.Cond.selects "NapkinDeedsModel" ({ cls := "NapkinDeedsModel", name := "looks", desc := "(I)I" } : Jvm.MethodName) ({ cls := "NapkinDeedsModel", name := "looks", desc := "(I)I" } : Jvm.MethodName)) ∈ lw_all := lw_g (lw_at lw_m14 40 rfl) rfl
theorem q3309 : (Jvm.Cond.code ({ cls := "NapkinDeedsModel", name := "looks", desc := "(I)I" } : Jvm.MethodName) prog_43_method_110_code (2 : Nat) (Option.some Jvm.ClassFile.FieldType.int)) ∈ lw_all := lw_g (lw_at lw_m14 41 rfl) rfl
theorem q3310 : (Jvm.Cond.methodLink "NapkinDeedsModel" (505 : Nat) ({ cls := "NapkinDeedsModel", name := "manyBy", desc := "(II)I" } : Jvm.MethodName)) ∈ lw_all := lw_g (lw_at lw_m14 42 rfl) rfl
theorem q3311 : (Jvm.Cond.privateMethod ({ cls := "NapkinDeedsModel", name := "manyBy", desc := "(II)I" } : Jvm.MethodName)) ∈ lw_tbl := lw_at lw_m14 43 rfl
theorem q3312 : (Jvm.Cond.instanceMethod ({ cls := "NapkinDeedsModel", name := "manyBy", desc := "(II)I" } : Jvm.MethodName)) ∈ lw_all := lw_g (lw_at lw_m14 44 rfl) rfl
theorem q3313 : (Jvm.Cond.code ({ cls := "NapkinDeedsModel", name := "manyBy", desc := "(II)I" } : Jvm.MethodName) prog_43_method_109_code (3 : Nat) (Option.some Jvm.ClassFile.FieldType.int)) ∈ lw_all := lw_g (lw_at lw_m14 45 rfl) rfl
theorem q3314 : (Jvm.Cond.methodLink "NapkinDeedsModel" (502 : Nat) ({ cls := "NapkinDeedsModel", name := "asksAll", desc := "(III)V" } : Jvm.MethodName)) ∈ lw_all := lw_g (lw_at lw_m14 46 rfl) rfl
theorem q3315 : (Jvm.Cond.privateMethod ({ cls := "NapkinDeedsModel", name := "asksAll", desc := "(III)V" } : Jvm.MethodName)) ∈ lw_tbl := lw_at lw_m14 47 rfl
theorem q3316 : (Jvm.Cond.instanceMethod ({ cls := "NapkinDeedsModel", name := "asksAll", desc := "(III)V" } : Jvm.MethodName)) ∈ lw_all := lw_g (lw_at lw_m14 48 rfl) rfl
theorem q3317 : (Jvm.Cond.code ({ cls := "NapkinDeedsModel", name := "asksAll", desc := "(III)V" } : Jvm.MethodName) prog_43_method_106_code (5 : Nat) (Option.none : Option Jvm.ClassFile.FieldType)) ∈ lw_all := lw_g (lw_at lw_m14 49 rfl) rfl
theorem q3318 : (Jvm.Cond.constant "NapkinDeedsModel" (496 : Nat) (-536870912 : Int32)) ∈ lw_all := lw_g (lw_at lw_m14 50 rfl) rfl
theorem q3320 : (Jvm.Cond.instanceMethod ({ cls := "NapkinDeedsModel", name := "soonest", desc := "(I)I" } : Jvm.MethodName)) ∈ lw_all := lw_g (lw_at lw_m14 52 rfl) rfl
theorem q3321 : (Jvm.Cond.selects "NapkinDeedsModel" ({ cls := "NapkinDeedsModel", name := "soonest", desc := "(I)I" } : Jvm.MethodName) ({ cls := "NapkinDeedsModel", name := "soonest", desc := "(I)I" } : Jvm.MethodName)) ∈ lw_all := lw_g (lw_at lw_m14 53 rfl) rfl
theorem q3322 : (Jvm.Cond.code ({ cls := "NapkinDeedsModel", name := "soonest", desc := "(I)I" } : Jvm.MethodName) prog_43_method_113_code (2 : Nat) (Option.some Jvm.ClassFile.FieldType.int)) ∈ lw_all := lw_g (lw_at lw_m14 54 rfl) rfl
theorem q3323 : (Jvm.Cond.methodLink "NapkinDeedsModel" (510 : Nat) ({ cls := "NapkinDeedsModel", name := "isWhat", desc := "(I)Z" } : Jvm.MethodName)) ∈ lw_all := lw_g (lw_at lw_m14 55 rfl) rfl
theorem q3324 : (Jvm.Cond.static ({ cls := "NapkinDeedsModel", name := "isWhat", desc := "(I)Z" } : Jvm.MethodName)) ∈ lw_all := lw_g (lw_at lw_m14 56 rfl) rfl
theorem q3325 : (Jvm.Cond.code ({ cls := "NapkinDeedsModel", name := "isWhat", desc := "(I)Z" } : Jvm.MethodName) prog_43_method_111_code (1 : Nat) (Option.some Jvm.ClassFile.FieldType.boolean)) ∈ lw_all := lw_g (lw_at lw_m14 57 rfl) rfl
theorem q3326 : (Jvm.Cond.constantLong "NapkinDeedsModel" (508 : Nat) (14 : Int64)) ∈ lw_all := lw_g (lw_at lw_m14 58 rfl) rfl
theorem q3327 : (Jvm.Cond.methodLink "NapkinDeedsModel" (513 : Nat) ({ cls := "NapkinDeedsModel", name := "toldRow", desc := "(I)I" } : Jvm.MethodName)) ∈ lw_all := lw_g (lw_at lw_m14 59 rfl) rfl
theorem q3328 : (Jvm.Cond.privateMethod ({ cls := "NapkinDeedsModel", name := "toldRow", desc := "(I)I" } : Jvm.MethodName)) ∈ lw_tbl := lw_at lw_m14 60 rfl
theorem q3329 : (Jvm.Cond.instanceMethod ({ cls := "NapkinDeedsModel", name := "toldRow", desc := "(I)I" } : Jvm.MethodName)) ∈ lw_all := lw_g (lw_at lw_m14 61 rfl) rfl
theorem q3330 : (Jvm.Cond.code ({ cls := "NapkinDeedsModel", name := "toldRow", desc := "(I)I" } : Jvm.MethodName) prog_43_method_112_code (2 : Nat) (Option.some Jvm.ClassFile.FieldType.int)) ∈ lw_all := lw_g (lw_at lw_m14 62 rfl) rfl
theorem q3332 : (Jvm.Cond.instanceMethod ({ cls := "NapkinDeedsModel", name := "holding", desc := "(I)I" } : Jvm.MethodName)) ∈ lw_all := lw_g (lw_at lw_m14 64 rfl) rfl
theorem q3333 : (Jvm.Cond.selects "NapkinDeedsModel" ({ cls := "NapkinDeedsModel", name := "holding", desc := "(I)I" } : Jvm.MethodName) ({ cls := "NapkinDeedsModel", name := "holding", desc := "(I)I" } : Jvm.MethodName)) ∈ lw_all := lw_g (lw_at lw_m14 65 rfl) rfl
theorem q3334 : (Jvm.Cond.code ({ cls := "NapkinDeedsModel", name := "holding", desc := "(I)I" } : Jvm.MethodName) prog_43_method_114_code (2 : Nat) (Option.some Jvm.ClassFile.FieldType.int)) ∈ lw_all := lw_g (lw_at lw_m14 66 rfl) rfl
theorem q3336 : (Jvm.Cond.instanceMethod ({ cls := "NapkinDeedsModel", name := "best", desc := "(II)I" } : Jvm.MethodName)) ∈ lw_all := lw_g (lw_at lw_m14 68 rfl) rfl
theorem q3337 : (Jvm.Cond.selects "NapkinDeedsModel" ({ cls := "NapkinDeedsModel", name := "best", desc := "(II)I" } : Jvm.MethodName) ({ cls := "NapkinDeedsModel", name := "best", desc := "(II)I" } : Jvm.MethodName)) ∈ lw_all := lw_g (lw_at lw_m14 69 rfl) rfl
theorem q3338 : (Jvm.Cond.code ({ cls := "NapkinDeedsModel", name := "best", desc := "(II)I" } : Jvm.MethodName) prog_43_method_117_code (3 : Nat) (Option.some Jvm.ClassFile.FieldType.int)) ∈ lw_all := lw_g (lw_at lw_m14 70 rfl) rfl
theorem q3339 : (Jvm.Cond.methodLink "NapkinDeedsModel" (519 : Nat) ({ cls := "NapkinDeedsModel", name := "bestBy", desc := "(III)I" } : Jvm.MethodName)) ∈ lw_all := lw_g (lw_at lw_m14 71 rfl) rfl
theorem q3340 : (Jvm.Cond.privateMethod ({ cls := "NapkinDeedsModel", name := "bestBy", desc := "(III)I" } : Jvm.MethodName)) ∈ lw_tbl := lw_at lw_m14 72 rfl
theorem q3341 : (Jvm.Cond.instanceMethod ({ cls := "NapkinDeedsModel", name := "bestBy", desc := "(III)I" } : Jvm.MethodName)) ∈ lw_all := lw_g (lw_at lw_m14 73 rfl) rfl
theorem q3342 : (Jvm.Cond.code ({ cls := "NapkinDeedsModel", name := "bestBy", desc := "(III)I" } : Jvm.MethodName) prog_43_method_116_code (4 : Nat) (Option.some Jvm.ClassFile.FieldType.int)) ∈ lw_all := lw_g (lw_at lw_m14 74 rfl) rfl
theorem q3343 : (Jvm.Cond.methodLink "NapkinDeedsModel" (516 : Nat) ({ cls := "NapkinDeedsModel", name := "toldBest", desc := "(I)I" } : Jvm.MethodName)) ∈ lw_all := lw_g (lw_at lw_m14 75 rfl) rfl
theorem q3344 : (Jvm.Cond.privateMethod ({ cls := "NapkinDeedsModel", name := "toldBest", desc := "(I)I" } : Jvm.MethodName)) ∈ lw_tbl := lw_at lw_m14 76 rfl
theorem q3345 : (Jvm.Cond.instanceMethod ({ cls := "NapkinDeedsModel", name := "toldBest", desc := "(I)I" } : Jvm.MethodName)) ∈ lw_all := lw_g (lw_at lw_m14 77 rfl) rfl
theorem q3346 : (Jvm.Cond.code ({ cls := "NapkinDeedsModel", name := "toldBest", desc := "(I)I" } : Jvm.MethodName) prog_43_method_115_code (2 : Nat) (Option.some Jvm.ClassFile.FieldType.int)) ∈ lw_all := lw_g (lw_at lw_m14 78 rfl) rfl
theorem q3348 : (Jvm.Cond.instanceMethod ({ cls := "NapkinDeedsModel", name := "reads", desc := "(II)I" } : Jvm.MethodName)) ∈ lw_all := lw_g (lw_at lw_m14 80 rfl) rfl
theorem q3349 : (Jvm.Cond.selects "NapkinDeedsModel" ({ cls := "NapkinDeedsModel", name := "reads", desc := "(II)I" } : Jvm.MethodName) ({ cls := "NapkinDeedsModel", name := "reads", desc := "(II)I" } : Jvm.MethodName)) ∈ lw_all := lw_g (lw_at lw_m14 81 rfl) rfl
theorem q3350 : (Jvm.Cond.code ({ cls := "NapkinDeedsModel", name := "reads", desc := "(II)I" } : Jvm.MethodName) prog_43_method_119_code (3 : Nat) (Option.some Jvm.ClassFile.FieldType.int)) ∈ lw_all := lw_g (lw_at lw_m14 82 rfl) rfl
theorem q3351 : (Jvm.Cond.methodLink "NapkinDeedsModel" (524 : Nat) ({ cls := "NapkinDeedsModel", name := "marksFault", desc := "(I)I" } : Jvm.MethodName)) ∈ lw_all := lw_g (lw_at lw_m14 83 rfl) rfl
theorem q3352 : (Jvm.Cond.privateMethod ({ cls := "NapkinDeedsModel", name := "marksFault", desc := "(I)I" } : Jvm.MethodName)) ∈ lw_tbl := lw_at lw_m14 84 rfl
theorem q3353 : (Jvm.Cond.instanceMethod ({ cls := "NapkinDeedsModel", name := "marksFault", desc := "(I)I" } : Jvm.MethodName)) ∈ lw_all := lw_g (lw_at lw_m14 85 rfl) rfl
theorem q3354 : (Jvm.Cond.code ({ cls := "NapkinDeedsModel", name := "marksFault", desc := "(I)I" } : Jvm.MethodName) prog_43_method_118_code (5 : Nat) (Option.some Jvm.ClassFile.FieldType.int)) ∈ lw_all := lw_g (lw_at lw_m14 86 rfl) rfl
theorem q3355 : (Jvm.Cond.constantLong "NapkinDeedsModel" (522 : Nat) (6 : Int64)) ∈ lw_all := lw_g (lw_at lw_m14 87 rfl) rfl
theorem q3357 : (Jvm.Cond.instanceMethod ({ cls := "NapkinDeedsModel", name := "step", desc := "()I" } : Jvm.MethodName)) ∈ lw_all := lw_g (lw_at lw_m14 89 rfl) rfl
theorem q3358 : (Jvm.Cond.selects "NapkinDeedsModel" ({ cls := "NapkinDeedsModel", name := "step", desc := "()I" } : Jvm.MethodName) ({ cls := "NapkinDeedsModel", name := "step", desc := "()I" } : Jvm.MethodName)) ∈ lw_all := lw_g (lw_at lw_m14 90 rfl) rfl
theorem q3359 : (Jvm.Cond.code ({ cls := "NapkinDeedsModel", name := "step", desc := "()I" } : Jvm.MethodName) prog_43_method_120_code (1 : Nat) (Option.some Jvm.ClassFile.FieldType.int)) ∈ lw_all := lw_g (lw_at lw_m14 91 rfl) rfl
theorem q3361 : (Jvm.Cond.instanceMethod ({ cls := "NapkinDeedsModel", name := "stands", desc := "(I)Z" } : Jvm.MethodName)) ∈ lw_all := lw_g (lw_at lw_m14 93 rfl) rfl
theorem q3362 : (Jvm.Cond.selects "NapkinDeedsModel" ({ cls := "NapkinDeedsModel", name := "stands", desc := "(I)Z" } : Jvm.MethodName) ({ cls := "NapkinDeedsModel", name := "stands", desc := "(I)Z" } : Jvm.MethodName)) ∈ lw_all := lw_g (lw_at lw_m14 94 rfl) rfl
theorem q3363 : (Jvm.Cond.code ({ cls := "NapkinDeedsModel", name := "stands", desc := "(I)Z" } : Jvm.MethodName) prog_43_method_124_code (3 : Nat) (Option.some Jvm.ClassFile.FieldType.boolean)) ∈ lw_all := lw_g (lw_at lw_m14 95 rfl) rfl
theorem q3364 : (Jvm.Cond.methodLink "NapkinDeedsModel" (531 : Nat) ({ cls := "NapkinDeedsModel", name := "stackFault", desc := "(I)I" } : Jvm.MethodName)) ∈ lw_all := lw_g (lw_at lw_m14 96 rfl) rfl
theorem q3365 : (Jvm.Cond.privateMethod ({ cls := "NapkinDeedsModel", name := "stackFault", desc := "(I)I" } : Jvm.MethodName)) ∈ lw_tbl := lw_at lw_m14 97 rfl
theorem q3366 : (Jvm.Cond.instanceMethod ({ cls := "NapkinDeedsModel", name := "stackFault", desc := "(I)I" } : Jvm.MethodName)) ∈ lw_all := lw_g (lw_at lw_m14 98 rfl) rfl
theorem q3367 : (Jvm.Cond.code ({ cls := "NapkinDeedsModel", name := "stackFault", desc := "(I)I" } : Jvm.MethodName) prog_43_method_121_code (5 : Nat) (Option.some Jvm.ClassFile.FieldType.int)) ∈ lw_all := lw_g (lw_at lw_m14 99 rfl) rfl
theorem q3368 : (Jvm.Cond.methodLink "NapkinDeedsModel" (534 : Nat) ({ cls := "NapkinDeedsModel", name := "canStand", desc := "()Z" } : Jvm.MethodName)) ∈ lw_all := lw_g (lw_at lw_m14 100 rfl) rfl
theorem q3369 : (Jvm.Cond.privateMethod ({ cls := "NapkinDeedsModel", name := "canStand", desc := "()Z" } : Jvm.MethodName)) ∈ lw_tbl := lw_at lw_m14 101 rfl
theorem q3370 : (Jvm.Cond.instanceMethod ({ cls := "NapkinDeedsModel", name := "canStand", desc := "()Z" } : Jvm.MethodName)) ∈ lw_all := lw_g (lw_at lw_m14 102 rfl) rfl
theorem q3371 : (Jvm.Cond.code ({ cls := "NapkinDeedsModel", name := "canStand", desc := "()Z" } : Jvm.MethodName) prog_43_method_123_code (3 : Nat) (Option.some Jvm.ClassFile.FieldType.boolean)) ∈ lw_all := lw_g (lw_at lw_m14 103 rfl) rfl
theorem q3372 : (Jvm.Cond.methodLink "NapkinDeedsModel" (527 : Nat) ({ cls := "NapkinDeedsModel", name := "isBetween", desc := "(III)Z" } : Jvm.MethodName)) ∈ lw_all := lw_g (lw_at lw_m14 104 rfl) rfl
theorem q3373 : (Jvm.Cond.static ({ cls := "NapkinDeedsModel", name := "isBetween", desc := "(III)Z" } : Jvm.MethodName)) ∈ lw_all := lw_g (lw_at lw_m14 105 rfl) rfl
theorem q3374 : (Jvm.Cond.code ({ cls := "NapkinDeedsModel", name := "isBetween", desc := "(III)Z" } : Jvm.MethodName) prog_43_method_122_code (3 : Nat) (Option.some Jvm.ClassFile.FieldType.boolean)) ∈ lw_all := lw_g (lw_at lw_m14 106 rfl) rfl
theorem q3376 : (Jvm.Cond.instanceMethod ({ cls := "NapkinDeedsModel", name := "stacks", desc := "()I" } : Jvm.MethodName)) ∈ lw_all := lw_g (lw_at lw_m14 108 rfl) rfl
theorem q3377 : (Jvm.Cond.selects "NapkinDeedsModel" ({ cls := "NapkinDeedsModel", name := "stacks", desc := "()I" } : Jvm.MethodName) ({ cls := "NapkinDeedsModel", name := "stacks", desc := "()I" } : Jvm.MethodName)) ∈ lw_all := lw_g (lw_at lw_m14 109 rfl) rfl
theorem q3378 : (Jvm.Cond.code ({ cls := "NapkinDeedsModel", name := "stacks", desc := "()I" } : Jvm.MethodName) prog_43_method_126_code (1 : Nat) (Option.some Jvm.ClassFile.FieldType.int)) ∈ lw_all := lw_g (lw_at lw_m14 110 rfl) rfl
theorem q3379 : (Jvm.Cond.methodLink "NapkinDeedsModel" (541 : Nat) ({ cls := "NapkinDeedsModel", name := "standing", desc := "(II)I" } : Jvm.MethodName)) ∈ lw_all := lw_g (lw_at lw_m14 111 rfl) rfl
theorem q3380 : (Jvm.Cond.privateMethod ({ cls := "NapkinDeedsModel", name := "standing", desc := "(II)I" } : Jvm.MethodName)) ∈ lw_tbl := lw_at lw_m14 112 rfl
theorem q3381 : (Jvm.Cond.instanceMethod ({ cls := "NapkinDeedsModel", name := "standing", desc := "(II)I" } : Jvm.MethodName)) ∈ lw_all := lw_g (lw_at lw_m14 113 rfl) rfl
theorem q3382 : (Jvm.Cond.code ({ cls := "NapkinDeedsModel", name := "standing", desc := "(II)I" } : Jvm.MethodName) prog_43_method_125_code (5 : Nat) (Option.some Jvm.ClassFile.FieldType.int)) ∈ lw_all := lw_g (lw_at lw_m14 114 rfl) rfl
theorem q3383 : (Jvm.Cond.methodLink "NapkinDeedsModel" (538 : Nat) ({ cls := "NapkinDeedsModel", name := "has", desc := "(II)Z" } : Jvm.MethodName)) ∈ lw_all := lw_g (lw_at lw_m14 115 rfl) rfl
theorem q3384 : (Jvm.Cond.static ({ cls := "NapkinDeedsModel", name := "has", desc := "(II)Z" } : Jvm.MethodName)) ∈ lw_all := lw_g (lw_at lw_m14 116 rfl) rfl
theorem q3385 : (Jvm.Cond.code ({ cls := "NapkinDeedsModel", name := "has", desc := "(II)Z" } : Jvm.MethodName) prog_43_method_5_code (2 : Nat) (Option.some Jvm.ClassFile.FieldType.boolean)) ∈ lw_all := lw_g (lw_at lw_m14 117 rfl) rfl
theorem q3387 : (Jvm.Cond.instanceMethod ({ cls := "NapkinDeedsModel", name := "stack", desc := "(I)I" } : Jvm.MethodName)) ∈ lw_all := lw_g (lw_at lw_m14 119 rfl) rfl
theorem q3388 : (Jvm.Cond.selects "NapkinDeedsModel" ({ cls := "NapkinDeedsModel", name := "stack", desc := "(I)I" } : Jvm.MethodName) ({ cls := "NapkinDeedsModel", name := "stack", desc := "(I)I" } : Jvm.MethodName)) ∈ lw_all := lw_g (lw_at lw_m14 120 rfl) rfl
theorem q3389 : (Jvm.Cond.code ({ cls := "NapkinDeedsModel", name := "stack", desc := "(I)I" } : Jvm.MethodName) prog_43_method_127_code (2 : Nat) (Option.some Jvm.ClassFile.FieldType.int)) ∈ lw_all := lw_g (lw_at lw_m14 121 rfl) rfl
theorem q3391 : (Jvm.Cond.instanceMethod ({ cls := "NapkinDeedsModel", name := "simple", desc := "()I" } : Jvm.MethodName)) ∈ lw_all := lw_g (lw_at lw_m14 123 rfl) rfl
theorem q3392 : (Jvm.Cond.selects "NapkinDeedsModel" ({ cls := "NapkinDeedsModel", name := "simple", desc := "()I" } : Jvm.MethodName) ({ cls := "NapkinDeedsModel", name := "simple", desc := "()I" } : Jvm.MethodName)) ∈ lw_all := lw_g (lw_at lw_m14 124 rfl) rfl
theorem q3393 : (Jvm.Cond.code ({ cls := "NapkinDeedsModel", name := "simple", desc := "()I" } : Jvm.MethodName) prog_43_method_129_code (1 : Nat) (Option.some Jvm.ClassFile.FieldType.int)) ∈ lw_all := lw_g (lw_at lw_m14 125 rfl) rfl
theorem q3394 : (Jvm.Cond.methodLink "NapkinDeedsModel" (544 : Nat) ({ cls := "NapkinDeedsModel", name := "manyFromFlat", desc := "(I)I" } : Jvm.MethodName)) ∈ lw_all := lw_g (lw_at lw_m14 126 rfl) rfl
theorem q3395 : (Jvm.Cond.privateMethod ({ cls := "NapkinDeedsModel", name := "manyFromFlat", desc := "(I)I" } : Jvm.MethodName)) ∈ lw_tbl := lw_at lw_m14 127 rfl
theorem q3396 : (Jvm.Cond.instanceMethod ({ cls := "NapkinDeedsModel", name := "manyFromFlat", desc := "(I)I" } : Jvm.MethodName)) ∈ lw_all := lw_g (lw_at lw_m14 128 rfl) rfl
theorem q3397 : (Jvm.Cond.code ({ cls := "NapkinDeedsModel", name := "manyFromFlat", desc := "(I)I" } : Jvm.MethodName) prog_43_method_128_code (2 : Nat) (Option.some Jvm.ClassFile.FieldType.int)) ∈ lw_all := lw_g (lw_at lw_m14 129 rfl) rfl
theorem q3399 : (Jvm.Cond.instanceMethod ({ cls := "NapkinDeedsModel", name := "made", desc := "(I)I" } : Jvm.MethodName)) ∈ lw_all := lw_g (lw_at lw_m14 131 rfl) rfl
theorem q3400 : (Jvm.Cond.selects "NapkinDeedsModel" ({ cls := "NapkinDeedsModel", name := "made", desc := "(I)I" } : Jvm.MethodName) ({ cls := "NapkinDeedsModel", name := "made", desc := "(I)I" } : Jvm.MethodName)) ∈ lw_all := lw_g (lw_at lw_m14 132 rfl) rfl
theorem q3401 : (Jvm.Cond.code ({ cls := "NapkinDeedsModel", name := "made", desc := "(I)I" } : Jvm.MethodName) prog_43_method_131_code (2 : Nat) (Option.some Jvm.ClassFile.FieldType.int)) ∈ lw_all := lw_g (lw_at lw_m14 133 rfl) rfl
theorem q3402 : (Jvm.Cond.methodLink "NapkinDeedsModel" (549 : Nat) ({ cls := "NapkinDeedsModel", name := "creasesFault", desc := "(I)I" } : Jvm.MethodName)) ∈ lw_all := lw_g (lw_at lw_m14 134 rfl) rfl
theorem q3403 : (Jvm.Cond.privateMethod ({ cls := "NapkinDeedsModel", name := "creasesFault", desc := "(I)I" } : Jvm.MethodName)) ∈ lw_tbl := lw_at lw_m14 135 rfl
theorem q3404 : (Jvm.Cond.instanceMethod ({ cls := "NapkinDeedsModel", name := "creasesFault", desc := "(I)I" } : Jvm.MethodName)) ∈ lw_all := lw_g (lw_at lw_m14 136 rfl) rfl
theorem q3405 : (Jvm.Cond.code ({ cls := "NapkinDeedsModel", name := "creasesFault", desc := "(I)I" } : Jvm.MethodName) prog_43_method_130_code (5 : Nat) (Option.some Jvm.ClassFile.FieldType.int)) ∈ lw_all := lw_g (lw_at lw_m14 137 rfl) rfl
theorem q3406 : (Jvm.Cond.constantLong "NapkinDeedsModel" (547 : Nat) (2 : Int64)) ∈ lw_all := lw_g (lw_at lw_m14 138 rfl) rfl
theorem q3408 : (Jvm.Cond.instanceMethod ({ cls := "NapkinDeedsModel", name := "madeBy", desc := "(II)I" } : Jvm.MethodName)) ∈ lw_all := lw_g (lw_at lw_m14 140 rfl) rfl
theorem q3409 : (Jvm.Cond.selects "NapkinDeedsModel" ({ cls := "NapkinDeedsModel", name := "madeBy", desc := "(II)I" } : Jvm.MethodName) ({ cls := "NapkinDeedsModel", name := "madeBy", desc := "(II)I" } : Jvm.MethodName)) ∈ lw_all := lw_g (lw_at lw_m14 141 rfl) rfl
theorem q3410 : (Jvm.Cond.code ({ cls := "NapkinDeedsModel", name := "madeBy", desc := "(II)I" } : Jvm.MethodName) prog_43_method_132_code (3 : Nat) (Option.some Jvm.ClassFile.FieldType.int)) ∈ lw_all := lw_g (lw_at lw_m14 142 rfl) rfl
theorem q3412 : (Jvm.Cond.instanceMethod ({ cls := "NapkinDeedsModel", name := "patterns", desc := "()I" } : Jvm.MethodName)) ∈ lw_all := lw_g (lw_at lw_m14 144 rfl) rfl
theorem q3413 : (Jvm.Cond.selects "NapkinDeedsModel" ({ cls := "NapkinDeedsModel", name := "patterns", desc := "()I" } : Jvm.MethodName) ({ cls := "NapkinDeedsModel", name := "patterns", desc := "()I" } : Jvm.MethodName)) ∈ lw_all := lw_g (lw_at lw_m14 145 rfl) rfl
theorem q3414 : (Jvm.Cond.code ({ cls := "NapkinDeedsModel", name := "patterns", desc := "()I" } : Jvm.MethodName) prog_43_method_133_code (1 : Nat) (Option.some Jvm.ClassFile.FieldType.int)) ∈ lw_all := lw_g (lw_at lw_m14 146 rfl) rfl
theorem q3416 : (Jvm.Cond.instanceMethod ({ cls := "NapkinDeedsModel", name := "refuse", desc := "()I" } : Jvm.MethodName)) ∈ lw_all := lw_g (lw_at lw_m14 148 rfl) rfl
theorem q3417 : (Jvm.Cond.selects "NapkinDeedsModel" ({ cls := "NapkinDeedsModel", name := "refuse", desc := "()I" } : Jvm.MethodName) ({ cls := "NapkinDeedsModel", name := "refuse", desc := "()I" } : Jvm.MethodName)) ∈ lw_all := lw_g (lw_at lw_m14 149 rfl) rfl
theorem q3418 : (Jvm.Cond.code ({ cls := "NapkinDeedsModel", name := "refuse", desc := "()I" } : Jvm.MethodName) prog_43_method_135_code (3 : Nat) (Option.some Jvm.ClassFile.FieldType.int)) ∈ lw_all := lw_g (lw_at lw_m14 150 rfl) rfl
theorem q3419 : (Jvm.Cond.methodLink "NapkinDeedsModel" (552 : Nat) ({ cls := "NapkinDeedsModel", name := "laysLiked", desc := "()V" } : Jvm.MethodName)) ∈ lw_all := lw_g (lw_at lw_m14 151 rfl) rfl
theorem q3420 : (Jvm.Cond.privateMethod ({ cls := "NapkinDeedsModel", name := "laysLiked", desc := "()V" } : Jvm.MethodName)) ∈ lw_tbl := lw_at lw_m14 152 rfl
theorem q3421 : (Jvm.Cond.instanceMethod ({ cls := "NapkinDeedsModel", name := "laysLiked", desc := "()V" } : Jvm.MethodName)) ∈ lw_all := lw_g (lw_at lw_m14 153 rfl) rfl
theorem q3422 : (Jvm.Cond.code ({ cls := "NapkinDeedsModel", name := "laysLiked", desc := "()V" } : Jvm.MethodName) prog_43_method_134_code (3 : Nat) (Option.none : Option Jvm.ClassFile.FieldType)) ∈ lw_all := lw_g (lw_at lw_m14 154 rfl) rfl
theorem q3424 : (Jvm.Cond.instanceMethod ({ cls := "NapkinDeedsModel", name := "fairest", desc := "(II)I" } : Jvm.MethodName)) ∈ lw_all := lw_g (lw_at lw_m14 156 rfl) rfl
theorem q3425 : (Jvm.Cond.selects "NapkinDeedsModel" ({ cls := "NapkinDeedsModel", name := "fairest", desc := "(II)I" } : Jvm.MethodName) ({ cls := "NapkinDeedsModel", name := "fairest", desc := "(II)I" } : Jvm.MethodName)) ∈ lw_all := lw_g (lw_at lw_m14 157 rfl) rfl
theorem q3426 : (Jvm.Cond.code ({ cls := "NapkinDeedsModel", name := "fairest", desc := "(II)I" } : Jvm.MethodName) prog_43_method_136_code (3 : Nat) (Option.some Jvm.ClassFile.FieldType.int)) ∈ lw_all := lw_g (lw_at lw_m14 158 rfl) rfl
theorem q3428 : (Jvm.Cond.instanceMethod ({ cls := "NapkinDeedsModel", name := "better", desc := "(I)I" } : Jvm.MethodName)) ∈ lw_all := lw_g (lw_at lw_m14 160 rfl) rfl
theorem q3429 : (Jvm.Cond.selects "NapkinDeedsModel" ({ cls := "NapkinDeedsModel", name := "better", desc := "(I)I" } : Jvm.MethodName) ({ cls := "NapkinDeedsModel", name := "better", desc := "(I)I" } : Jvm.MethodName)) ∈ lw_all := lw_g (lw_at lw_m14 161 rfl) rfl
theorem q3430 : (Jvm.Cond.code ({ cls := "NapkinDeedsModel", name := "better", desc := "(I)I" } : Jvm.MethodName) prog_43_method_137_code (2 : Nat) (Option.some Jvm.ClassFile.FieldType.int)) ∈ lw_all := lw_g (lw_at lw_m14 162 rfl) rfl
theorem q3432 : (Jvm.Cond.instanceMethod ({ cls := "NapkinDeedsModel", name := "keenest", desc := "(I)I" } : Jvm.MethodName)) ∈ lw_all := lw_g (lw_at lw_m14 164 rfl) rfl
theorem q3433 : (Jvm.Cond.selects "NapkinDeedsModel" ({ cls := "NapkinDeedsModel", name := "keenest", desc := "(I)I" } : Jvm.MethodName) ({ cls := "NapkinDeedsModel", name := "keenest", desc := "(I)I" } : Jvm.MethodName)) ∈ lw_all := lw_g (lw_at lw_m14 165 rfl) rfl
theorem q3434 : (Jvm.Cond.code ({ cls := "NapkinDeedsModel", name := "keenest", desc := "(I)I" } : Jvm.MethodName) prog_43_method_138_code (5 : Nat) (Option.some Jvm.ClassFile.FieldType.int)) ∈ lw_all := lw_g (lw_at lw_m14 166 rfl) rfl
theorem q3436 : (Jvm.Cond.instanceMethod ({ cls := "NapkinDeedsModel", name := "seen", desc := "(II)I" } : Jvm.MethodName)) ∈ lw_all := lw_g (lw_at lw_m14 168 rfl) rfl
theorem q3437 : (Jvm.Cond.selects "NapkinDeedsModel" ({ cls := "NapkinDeedsModel", name := "seen", desc := "(II)I" } : Jvm.MethodName) ({ cls := "NapkinDeedsModel", name := "seen", desc := "(II)I" } : Jvm.MethodName)) ∈ lw_all := lw_g (lw_at lw_m14 169 rfl) rfl
theorem q3438 : (Jvm.Cond.code ({ cls := "NapkinDeedsModel", name := "seen", desc := "(II)I" } : Jvm.MethodName) prog_43_method_142_code (3 : Nat) (Option.some Jvm.ClassFile.FieldType.int)) ∈ lw_all := lw_g (lw_at lw_m14 170 rfl) rfl
theorem q3439 : (Jvm.Cond.methodLink "NapkinDeedsModel" (558 : Nat) ({ cls := "NapkinDeedsModel", name := "seenFault", desc := "(II)I" } : Jvm.MethodName)) ∈ lw_all := lw_g (lw_at lw_m14 171 rfl) rfl
theorem q3440 : (Jvm.Cond.privateMethod ({ cls := "NapkinDeedsModel", name := "seenFault", desc := "(II)I" } : Jvm.MethodName)) ∈ lw_tbl := lw_at lw_m14 172 rfl
theorem q3441 : (Jvm.Cond.instanceMethod ({ cls := "NapkinDeedsModel", name := "seenFault", desc := "(II)I" } : Jvm.MethodName)) ∈ lw_all := lw_g (lw_at lw_m14 173 rfl) rfl
theorem q3442 : (Jvm.Cond.code ({ cls := "NapkinDeedsModel", name := "seenFault", desc := "(II)I" } : Jvm.MethodName) prog_43_method_140_code (4 : Nat) (Option.some Jvm.ClassFile.FieldType.int)) ∈ lw_all := lw_g (lw_at lw_m14 174 rfl) rfl
theorem q3443 : (Jvm.Cond.methodLink "NapkinDeedsModel" (561 : Nat) ({ cls := "NapkinDeedsModel", name := "laysSeen", desc := "(II)V" } : Jvm.MethodName)) ∈ lw_all := lw_g (lw_at lw_m14 175 rfl) rfl
theorem q3444 : (Jvm.Cond.privateMethod ({ cls := "NapkinDeedsModel", name := "laysSeen", desc := "(II)V" } : Jvm.MethodName)) ∈ lw_tbl := lw_at lw_m14 176 rfl
theorem q3445 : (Jvm.Cond.instanceMethod ({ cls := "NapkinDeedsModel", name := "laysSeen", desc := "(II)V" } : Jvm.MethodName)) ∈ lw_all := lw_g (lw_at lw_m14 177 rfl) rfl
theorem q3446 : (Jvm.Cond.code ({ cls := "NapkinDeedsModel", name := "laysSeen", desc := "(II)V" } : Jvm.MethodName) prog_43_method_141_code (4 : Nat) (Option.none : Option Jvm.ClassFile.FieldType)) ∈ lw_all := lw_g (lw_at lw_m14 178 rfl) rfl
theorem q3448 : (Jvm.Cond.instanceMethod ({ cls := "NapkinDeedsModel", name := "sure", desc := "(II)I" } : Jvm.MethodName)) ∈ lw_all := lw_g (lw_at lw_m14 180 rfl) rfl
theorem q3449 : (Jvm.Cond.selects "NapkinDeedsModel" ({ cls := "NapkinDeedsModel", name := "sure", desc := "(II)I" } : Jvm.MethodName) ({ cls := "NapkinDeedsModel", name := "sure", desc := "(II)I" } : Jvm.MethodName)) ∈ lw_all := lw_g (lw_at lw_m14 181 rfl) rfl
theorem q3450 : (Jvm.Cond.code ({ cls := "NapkinDeedsModel", name := "sure", desc := "(II)I" } : Jvm.MethodName) prog_43_method_143_code (3 : Nat) (Option.some Jvm.ClassFile.FieldType.int)) ∈ lw_all := lw_g (lw_at lw_m14 182 rfl) rfl
theorem q3452 : (Jvm.Cond.instanceMethod ({ cls := "NapkinDeedsModel", name := "look", desc := "(II)I" } : Jvm.MethodName)) ∈ lw_all := lw_g (lw_at lw_m14 184 rfl) rfl
theorem q3453 : (Jvm.Cond.selects "NapkinDeedsModel" ({ cls := "NapkinDeedsModel", name := "look", desc := "(II)I" } : Jvm.MethodName) ({ cls := "NapkinDeedsModel", name := "look", desc := "(II)I" } : Jvm.MethodName)) ∈ lw_all := lw_g (lw_at lw_m14 185 rfl) rfl
theorem q3454 : (Jvm.Cond.code ({ cls := "NapkinDeedsModel", name := "look", desc := "(II)I" } : Jvm.MethodName) prog_43_method_144_code (8 : Nat) (Option.some Jvm.ClassFile.FieldType.int)) ∈ lw_all := lw_g (lw_at lw_m14 186 rfl) rfl
theorem q3456 : (Jvm.Cond.instanceMethod ({ cls := "NapkinDeedsModel", name := "tray", desc := "(III)V" } : Jvm.MethodName)) ∈ lw_all := lw_g (lw_at lw_m14 188 rfl) rfl
theorem q3457 : (Jvm.Cond.selects "NapkinDeedsModel" ({ cls := "NapkinDeedsModel", name := "tray", desc := "(III)V" } : Jvm.MethodName) ({ cls := "NapkinDeedsModel", name := "tray", desc := "(III)V" } : Jvm.MethodName)) ∈ lw_all := lw_g (lw_at lw_m14 189 rfl) rfl
theorem q3458 : (Jvm.Cond.code ({ cls := "NapkinDeedsModel", name := "tray", desc := "(III)V" } : Jvm.MethodName) prog_43_method_146_code (5 : Nat) (Option.none : Option Jvm.ClassFile.FieldType)) ∈ lw_all := lw_g (lw_at lw_m14 190 rfl) rfl
theorem q3460 : (Jvm.Cond.instanceMethod ({ cls := "NapkinDeedsModel", name := "write", desc := "(IIJ)J" } : Jvm.MethodName)) ∈ lw_all := lw_g (lw_at lw_m14 192 rfl) rfl
theorem q3461 : (Jvm.Cond.selects "NapkinDeedsModel" ({ cls := "NapkinDeedsModel", name := "write", desc := "(IIJ)J" } : Jvm.MethodName) ({ cls := "NapkinDeedsModel", name := "write", desc := "(IIJ)J" } : Jvm.MethodName)) ∈ lw_all := lw_g (lw_at lw_m14 193 rfl) rfl
theorem q3462 : (Jvm.Cond.code ({ cls := "NapkinDeedsModel", name := "write", desc := "(IIJ)J" } : Jvm.MethodName) prog_43_method_148_code (5 : Nat) (Option.some Jvm.ClassFile.FieldType.long)) ∈ lw_all := lw_g (lw_at lw_m14 194 rfl) rfl
theorem q3463 : (Jvm.Cond.methodLink "NapkinDeedsModel" (564 : Nat) ({ cls := "NapkinDeedsModel", name := "cut", desc := "(IIJ)J" } : Jvm.MethodName)) ∈ lw_all := lw_g (lw_at lw_m14 195 rfl) rfl
theorem q3464 : (Jvm.Cond.privateMethod ({ cls := "NapkinDeedsModel", name := "cut", desc := "(IIJ)J" } : Jvm.MethodName)) ∈ lw_tbl := lw_at lw_m14 196 rfl
theorem q3465 : (Jvm.Cond.instanceMethod ({ cls := "NapkinDeedsModel", name := "cut", desc := "(IIJ)J" } : Jvm.MethodName)) ∈ lw_all := lw_g (lw_at lw_m14 197 rfl) rfl
theorem q3466 : (Jvm.Cond.code ({ cls := "NapkinDeedsModel", name := "cut", desc := "(IIJ)J" } : Jvm.MethodName) prog_43_method_147_code (6 : Nat) (Option.some Jvm.ClassFile.FieldType.long)) ∈ lw_all := lw_g (lw_at lw_m14 198 rfl) rfl
theorem q3468 : (Jvm.Cond.instanceMethod ({ cls := "NapkinDeedsModel", name := "copy", desc := "(I)I" } : Jvm.MethodName)) ∈ lw_all := lw_g (lw_at lw_m14 200 rfl) rfl
theorem q3469 : (Jvm.Cond.selects "NapkinDeedsModel" ({ cls := "NapkinDeedsModel", name := "copy", desc := "(I)I" } : Jvm.MethodName) ({ cls := "NapkinDeedsModel", name := "copy", desc := "(I)I" } : Jvm.MethodName)) ∈ lw_all := lw_g (lw_at lw_m14 201 rfl) rfl
theorem q3470 : (Jvm.Cond.code ({ cls := "NapkinDeedsModel", name := "copy", desc := "(I)I" } : Jvm.MethodName) prog_43_method_149_code (5 : Nat) (Option.some Jvm.ClassFile.FieldType.int)) ∈ lw_all := lw_g (lw_at lw_m14 202 rfl) rfl
theorem q3472 : (Jvm.Cond.instanceMethod ({ cls := "NapkinDeedsModel", name := "image", desc := "(I)V" } : Jvm.MethodName)) ∈ lw_all := lw_g (lw_at lw_m14 204 rfl) rfl
theorem q3473 : (Jvm.Cond.selects "NapkinDeedsModel" ({ cls := "NapkinDeedsModel", name := "image", desc := "(I)V" } : Jvm.MethodName) ({ cls := "NapkinDeedsModel", name := "image", desc := "(I)V" } : Jvm.MethodName)) ∈ lw_all := lw_g (lw_at lw_m14 205 rfl) rfl
theorem q3474 : (Jvm.Cond.code ({ cls := "NapkinDeedsModel", name := "image", desc := "(I)V" } : Jvm.MethodName) prog_43_method_150_code (3 : Nat) (Option.none : Option Jvm.ClassFile.FieldType)) ∈ lw_all := lw_g (lw_at lw_m14 206 rfl) rfl
theorem q3476 : (Jvm.Cond.instanceMethod ({ cls := "NapkinDeedsModel", name := "restore", desc := "(I)V" } : Jvm.MethodName)) ∈ lw_all := lw_g (lw_at lw_m14 208 rfl) rfl
theorem q3477 : (Jvm.Cond.selects "NapkinDeedsModel" ({ cls := "NapkinDeedsModel", name := "restore", desc := "(I)V" } : Jvm.MethodName) ({ cls := "NapkinDeedsModel", name := "restore", desc := "(I)V" } : Jvm.MethodName)) ∈ lw_all := lw_g (lw_at lw_m14 209 rfl) rfl
theorem q3478 : (Jvm.Cond.code ({ cls := "NapkinDeedsModel", name := "restore", desc := "(I)V" } : Jvm.MethodName) prog_43_method_151_code (3 : Nat) (Option.none : Option Jvm.ClassFile.FieldType)) ∈ lw_all := lw_g (lw_at lw_m14 210 rfl) rfl
theorem q3480 : (Jvm.Cond.instanceMethod ({ cls := "NapkinDeedsModel", name := "count", desc := "(I)I" } : Jvm.MethodName)) ∈ lw_all := lw_g (lw_at lw_m14 212 rfl) rfl
theorem q3481 : (Jvm.Cond.selects "NapkinDeedsModel" ({ cls := "NapkinDeedsModel", name := "count", desc := "(I)I" } : Jvm.MethodName) ({ cls := "NapkinDeedsModel", name := "count", desc := "(I)I" } : Jvm.MethodName)) ∈ lw_all := lw_g (lw_at lw_m14 213 rfl) rfl
theorem q3482 : (Jvm.Cond.code ({ cls := "NapkinDeedsModel", name := "count", desc := "(I)I" } : Jvm.MethodName) prog_43_method_152_code (3 : Nat) (Option.some Jvm.ClassFile.FieldType.int)) ∈ lw_all := lw_g (lw_at lw_m14 214 rfl) rfl
theorem q3508 : (Jvm.Cond.castable "NapkinDeedsModel" "java/lang/Object") ∈ lw_tbl := lw_at lw_m15 0 rfl
theorem in_X7 : ∀ w ∈ wsX70, w ∈ lw_all := lw_in wsX70 [2759, 2761, 2763, 2765, 2767, 2769, 2771, 2773, 2775, 2777, 2779, 2781, 2783, 2785, 2787, 2789, 2791, 2793, 2795, 2797, 2799, 2801, 2803, 2805, 2807, 2809, 2811, 2813, 2815, 2817, 2819, 2821, 2823, 2825, 2827, 2829, 2831, 2833, 2835, 2837, 2839, 2841, 2843] (by decide +kernel) (by decide +kernel)
