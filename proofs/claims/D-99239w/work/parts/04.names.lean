/-! NapkinDeeds -/
set_option maxRecDepth 100000
def RX1 : String := "NapkinDeeds"
def TX1 : u_T := fun k => match k with
  | 0 => ("NapkinDeeds", "state", "LNapkinDeeds$State;", true)
  | 1 => ("NapkinDeeds", "tried", "LNapkinDeeds$State;", true)
  | 2 => ("NapkinDeeds", "looks", "[LNapkinDeeds$Look;", true)
  | 3 => ("NapkinDeeds", "deeds", "Ljava/util/ArrayList;", true)
  | 4 => ("NapkinDeeds", "images", "[LNapkinDeeds$Image;", true)
  | 5 => ("NapkinDeeds", "tape", "[B", true)
  | 6 => ("NapkinDeeds", "taped", "I", false)
  | 7 => ("NapkinDeeds", "faultKind", "I", false)
  | 8 => ("NapkinDeeds", "faultAt", "I", false)
  | 9 => ("NapkinDeeds", "asked", "LNapkinDeeds$Case;", true)
  | 10 => ("NapkinDeeds", "trays", "[LNapkinDeeds$Tray;", true)
  | 11 => ("NapkinDeeds", "x", "I", false)
  | _ => ("NapkinDeeds", "codes", "[J", true)
def tyX1 : Nat → FieldType := fun k => match k with
  | 0 => .object "NapkinDeeds$State"
  | 1 => .object "NapkinDeeds$State"
  | 2 => .array (.object "NapkinDeeds$Look")
  | 3 => .object "java/util/ArrayList"
  | 4 => .array (.object "NapkinDeeds$Image")
  | 5 => .array .byte
  | 6 => .int
  | 7 => .int
  | 8 => .int
  | 9 => .object "NapkinDeeds$Case"
  | 10 => .array (.object "NapkinDeeds$Tray")
  | 11 => .int
  | _ => .array .long
abbrev wsX10 : List Cond := u_ws RX1 TX1 13
set_option maxRecDepth 100000 in
theorem nmX1 : ∀ a, a < 13 → ∀ b, b < 13 → a ≠ b → (TX1 a).2.1 ≠ (TX1 b).2.1 := by decide +kernel
set_option maxRecDepth 100000 in
theorem tyX1_ok : ∀ k, k < 13 → parseFieldDescriptor (TX1 k).2.2.1 = some (tyX1 k) := by decide +kernel
abbrev cX1_init : ByteArray := prog_1_method_5_code
def yX1_init : MethodName := ⟨RX1, "<init>", "()V"⟩
def dkwX1_init_9 : List UInt8 := [17, 109, 96, 188, 11, 181, 0, 70, 177]
abbrev dktX1_init_9 : List UInt8 := dkwX1_init_9 ++ []
def dkwX1_init_8 : List UInt8 := [187, 0, 63, 89, 183, 0, 65, 83, 89, 6, 187, 0, 63, 89, 183, 0, 65, 83, 181, 0, 66, 42]
abbrev dktX1_init_8 : List UInt8 := dkwX1_init_8 ++ dktX1_init_9
def dkwX1_init_7 : List UInt8 := [89, 3, 187, 0, 63, 89, 183, 0, 65, 83, 89, 4, 187, 0, 63, 89, 183, 0, 65, 83, 89, 5]
abbrev dktX1_init_7 : List UInt8 := dkwX1_init_7 ++ dktX1_init_8
def dkwX1_init_6 : List UInt8 := [181, 0, 48, 42, 2, 181, 0, 52, 42, 187, 0, 56, 89, 183, 0, 58, 181, 0, 59, 42, 7, 189, 0, 63]
abbrev dktX1_init_6 : List UInt8 := dkwX1_init_6 ++ dktX1_init_7
def dkwX1_init_5 : List UInt8 := [187, 0, 35, 89, 183, 0, 37, 181, 0, 38, 42, 6, 189, 0, 42, 181, 0, 44, 42, 17, 3, 132, 188, 8]
abbrev dktX1_init_5 : List UInt8 := dkwX1_init_5 ++ dktX1_init_6
def dkwX1_init_4 : List UInt8 := [187, 0, 28, 89, 183, 0, 30, 83, 89, 16, 7, 187, 0, 28, 89, 183, 0, 30, 83, 181, 0, 31, 42]
abbrev dktX1_init_4 : List UInt8 := dkwX1_init_4 ++ dktX1_init_5
def dkwX1_init_3 : List UInt8 := [83, 89, 7, 187, 0, 28, 89, 183, 0, 30, 83, 89, 8, 187, 0, 28, 89, 183, 0, 30, 83, 89, 16, 6]
abbrev dktX1_init_3 : List UInt8 := dkwX1_init_3 ++ dktX1_init_4
def dkwX1_init_2 : List UInt8 := [89, 183, 0, 30, 83, 89, 5, 187, 0, 28, 89, 183, 0, 30, 83, 89, 6, 187, 0, 28, 89, 183, 0, 30]
abbrev dktX1_init_2 : List UInt8 := dkwX1_init_2 ++ dktX1_init_3
def dkwX1_init_1 : List UInt8 := [181, 0, 25, 42, 16, 8, 189, 0, 28, 89, 3, 187, 0, 28, 89, 183, 0, 30, 83, 89, 4, 187, 0, 28]
abbrev dktX1_init_1 : List UInt8 := dkwX1_init_1 ++ dktX1_init_2
def dkwX1_init_0 : List UInt8 := [42, 183, 0, 13, 42, 187, 0, 16, 89, 183, 0, 18, 181, 0, 19, 42, 187, 0, 16, 89, 183, 0, 18]
abbrev dktX1_init_0 : List UInt8 := dkwX1_init_0 ++ dktX1_init_1
theorem dksX1_init_0 : cX1_init.data.toList.drop 0 = dktX1_init_0 := by decide +kernel
theorem dksX1_init_1 : cX1_init.data.toList.drop 23 = dktX1_init_1 := dk_seg dksX1_init_0 23 rfl rfl
theorem dksX1_init_2 : cX1_init.data.toList.drop 47 = dktX1_init_2 := dk_seg dksX1_init_1 24 rfl rfl
theorem dksX1_init_3 : cX1_init.data.toList.drop 71 = dktX1_init_3 := dk_seg dksX1_init_2 24 rfl rfl
theorem dksX1_init_4 : cX1_init.data.toList.drop 95 = dktX1_init_4 := dk_seg dksX1_init_3 24 rfl rfl
theorem dksX1_init_5 : cX1_init.data.toList.drop 118 = dktX1_init_5 := dk_seg dksX1_init_4 23 rfl rfl
theorem dksX1_init_6 : cX1_init.data.toList.drop 142 = dktX1_init_6 := dk_seg dksX1_init_5 24 rfl rfl
theorem dksX1_init_7 : cX1_init.data.toList.drop 166 = dktX1_init_7 := dk_seg dksX1_init_6 24 rfl rfl
theorem dksX1_init_8 : cX1_init.data.toList.drop 188 = dktX1_init_8 := dk_seg dksX1_init_7 22 rfl rfl
theorem dksX1_init_9 : cX1_init.data.toList.drop 210 = dktX1_init_9 := dk_seg dksX1_init_8 22 rfl rfl
theorem dX1_init_0 : decode cX1_init 0 = .ok (.aload_n 0, 1) := dk_42 (dk_at dksX1_init_0 0 rfl rfl)
theorem dX1_init_1 : decode cX1_init 1 = .ok (.invokespecial 13, 3) := dk_183 0 13 (dk_at dksX1_init_0 1 rfl rfl)
theorem dX1_init_4 : decode cX1_init 4 = .ok (.aload_n 0, 1) := dk_42 (dk_at dksX1_init_0 4 rfl rfl)
theorem dX1_init_5 : decode cX1_init 5 = .ok (.new 16, 3) := dk_187 0 16 (dk_at dksX1_init_0 5 rfl rfl)
theorem dX1_init_8 : decode cX1_init 8 = .ok (.dup, 1) := dk_89 (dk_at dksX1_init_0 8 rfl rfl)
theorem dX1_init_9 : decode cX1_init 9 = .ok (.invokespecial 18, 3) := dk_183 0 18 (dk_at dksX1_init_0 9 rfl rfl)
theorem dX1_init_12 : decode cX1_init 12 = .ok (.putfield 19, 3) := dk_181 0 19 (dk_at dksX1_init_0 12 rfl rfl)
theorem dX1_init_15 : decode cX1_init 15 = .ok (.aload_n 0, 1) := dk_42 (dk_at dksX1_init_0 15 rfl rfl)
theorem dX1_init_16 : decode cX1_init 16 = .ok (.new 16, 3) := dk_187 0 16 (dk_at dksX1_init_0 16 rfl rfl)
theorem dX1_init_19 : decode cX1_init 19 = .ok (.dup, 1) := dk_89 (dk_at dksX1_init_0 19 rfl rfl)
theorem dX1_init_20 : decode cX1_init 20 = .ok (.invokespecial 18, 3) := dk_183 0 18 (dk_at dksX1_init_0 20 rfl rfl)
theorem dX1_init_23 : decode cX1_init 23 = .ok (.putfield 25, 3) := dk_181 0 25 (dk_at dksX1_init_1 0 rfl rfl)
theorem dX1_init_26 : decode cX1_init 26 = .ok (.aload_n 0, 1) := dk_42 (dk_at dksX1_init_1 3 rfl rfl)
theorem dX1_init_27 : decode cX1_init 27 = .ok (.bipush 8, 2) := dk_16 8 (dk_at dksX1_init_1 4 rfl rfl)
theorem dX1_init_29 : decode cX1_init 29 = .ok (.anewarray 28, 3) := dk_189 0 28 (dk_at dksX1_init_1 6 rfl rfl)
theorem dX1_init_32 : decode cX1_init 32 = .ok (.dup, 1) := dk_89 (dk_at dksX1_init_1 9 rfl rfl)
theorem dX1_init_33 : decode cX1_init 33 = .ok (.iconst 0, 1) := dk_3 (dk_at dksX1_init_1 10 rfl rfl)
theorem dX1_init_34 : decode cX1_init 34 = .ok (.new 28, 3) := dk_187 0 28 (dk_at dksX1_init_1 11 rfl rfl)
theorem dX1_init_37 : decode cX1_init 37 = .ok (.dup, 1) := dk_89 (dk_at dksX1_init_1 14 rfl rfl)
theorem dX1_init_38 : decode cX1_init 38 = .ok (.invokespecial 30, 3) := dk_183 0 30 (dk_at dksX1_init_1 15 rfl rfl)
theorem dX1_init_41 : decode cX1_init 41 = .ok (.aastore, 1) := dk_83 (dk_at dksX1_init_1 18 rfl rfl)
theorem dX1_init_42 : decode cX1_init 42 = .ok (.dup, 1) := dk_89 (dk_at dksX1_init_1 19 rfl rfl)
theorem dX1_init_43 : decode cX1_init 43 = .ok (.iconst 1, 1) := dk_4 (dk_at dksX1_init_1 20 rfl rfl)
theorem dX1_init_44 : decode cX1_init 44 = .ok (.new 28, 3) := dk_187 0 28 (dk_at dksX1_init_1 21 rfl rfl)
theorem dX1_init_47 : decode cX1_init 47 = .ok (.dup, 1) := dk_89 (dk_at dksX1_init_2 0 rfl rfl)
theorem dX1_init_48 : decode cX1_init 48 = .ok (.invokespecial 30, 3) := dk_183 0 30 (dk_at dksX1_init_2 1 rfl rfl)
theorem dX1_init_51 : decode cX1_init 51 = .ok (.aastore, 1) := dk_83 (dk_at dksX1_init_2 4 rfl rfl)
theorem dX1_init_52 : decode cX1_init 52 = .ok (.dup, 1) := dk_89 (dk_at dksX1_init_2 5 rfl rfl)
theorem dX1_init_53 : decode cX1_init 53 = .ok (.iconst 2, 1) := dk_5 (dk_at dksX1_init_2 6 rfl rfl)
theorem dX1_init_54 : decode cX1_init 54 = .ok (.new 28, 3) := dk_187 0 28 (dk_at dksX1_init_2 7 rfl rfl)
theorem dX1_init_57 : decode cX1_init 57 = .ok (.dup, 1) := dk_89 (dk_at dksX1_init_2 10 rfl rfl)
theorem dX1_init_58 : decode cX1_init 58 = .ok (.invokespecial 30, 3) := dk_183 0 30 (dk_at dksX1_init_2 11 rfl rfl)
theorem dX1_init_61 : decode cX1_init 61 = .ok (.aastore, 1) := dk_83 (dk_at dksX1_init_2 14 rfl rfl)
theorem dX1_init_62 : decode cX1_init 62 = .ok (.dup, 1) := dk_89 (dk_at dksX1_init_2 15 rfl rfl)
theorem dX1_init_63 : decode cX1_init 63 = .ok (.iconst 3, 1) := dk_6 (dk_at dksX1_init_2 16 rfl rfl)
theorem dX1_init_64 : decode cX1_init 64 = .ok (.new 28, 3) := dk_187 0 28 (dk_at dksX1_init_2 17 rfl rfl)
theorem dX1_init_67 : decode cX1_init 67 = .ok (.dup, 1) := dk_89 (dk_at dksX1_init_2 20 rfl rfl)
theorem dX1_init_68 : decode cX1_init 68 = .ok (.invokespecial 30, 3) := dk_183 0 30 (dk_at dksX1_init_2 21 rfl rfl)
theorem dX1_init_71 : decode cX1_init 71 = .ok (.aastore, 1) := dk_83 (dk_at dksX1_init_3 0 rfl rfl)
theorem dX1_init_72 : decode cX1_init 72 = .ok (.dup, 1) := dk_89 (dk_at dksX1_init_3 1 rfl rfl)
theorem dX1_init_73 : decode cX1_init 73 = .ok (.iconst 4, 1) := dk_7 (dk_at dksX1_init_3 2 rfl rfl)
theorem dX1_init_74 : decode cX1_init 74 = .ok (.new 28, 3) := dk_187 0 28 (dk_at dksX1_init_3 3 rfl rfl)
theorem dX1_init_77 : decode cX1_init 77 = .ok (.dup, 1) := dk_89 (dk_at dksX1_init_3 6 rfl rfl)
theorem dX1_init_78 : decode cX1_init 78 = .ok (.invokespecial 30, 3) := dk_183 0 30 (dk_at dksX1_init_3 7 rfl rfl)
theorem dX1_init_81 : decode cX1_init 81 = .ok (.aastore, 1) := dk_83 (dk_at dksX1_init_3 10 rfl rfl)
theorem dX1_init_82 : decode cX1_init 82 = .ok (.dup, 1) := dk_89 (dk_at dksX1_init_3 11 rfl rfl)
theorem dX1_init_83 : decode cX1_init 83 = .ok (.iconst 5, 1) := dk_8 (dk_at dksX1_init_3 12 rfl rfl)
theorem dX1_init_84 : decode cX1_init 84 = .ok (.new 28, 3) := dk_187 0 28 (dk_at dksX1_init_3 13 rfl rfl)
theorem dX1_init_87 : decode cX1_init 87 = .ok (.dup, 1) := dk_89 (dk_at dksX1_init_3 16 rfl rfl)
theorem dX1_init_88 : decode cX1_init 88 = .ok (.invokespecial 30, 3) := dk_183 0 30 (dk_at dksX1_init_3 17 rfl rfl)
theorem dX1_init_91 : decode cX1_init 91 = .ok (.aastore, 1) := dk_83 (dk_at dksX1_init_3 20 rfl rfl)
theorem dX1_init_92 : decode cX1_init 92 = .ok (.dup, 1) := dk_89 (dk_at dksX1_init_3 21 rfl rfl)
theorem dX1_init_93 : decode cX1_init 93 = .ok (.bipush 6, 2) := dk_16 6 (dk_at dksX1_init_3 22 rfl rfl)
theorem dX1_init_95 : decode cX1_init 95 = .ok (.new 28, 3) := dk_187 0 28 (dk_at dksX1_init_4 0 rfl rfl)
theorem dX1_init_98 : decode cX1_init 98 = .ok (.dup, 1) := dk_89 (dk_at dksX1_init_4 3 rfl rfl)
theorem dX1_init_99 : decode cX1_init 99 = .ok (.invokespecial 30, 3) := dk_183 0 30 (dk_at dksX1_init_4 4 rfl rfl)
theorem dX1_init_102 : decode cX1_init 102 = .ok (.aastore, 1) := dk_83 (dk_at dksX1_init_4 7 rfl rfl)
theorem dX1_init_103 : decode cX1_init 103 = .ok (.dup, 1) := dk_89 (dk_at dksX1_init_4 8 rfl rfl)
theorem dX1_init_104 : decode cX1_init 104 = .ok (.bipush 7, 2) := dk_16 7 (dk_at dksX1_init_4 9 rfl rfl)
theorem dX1_init_106 : decode cX1_init 106 = .ok (.new 28, 3) := dk_187 0 28 (dk_at dksX1_init_4 11 rfl rfl)
theorem dX1_init_109 : decode cX1_init 109 = .ok (.dup, 1) := dk_89 (dk_at dksX1_init_4 14 rfl rfl)
theorem dX1_init_110 : decode cX1_init 110 = .ok (.invokespecial 30, 3) := dk_183 0 30 (dk_at dksX1_init_4 15 rfl rfl)
theorem dX1_init_113 : decode cX1_init 113 = .ok (.aastore, 1) := dk_83 (dk_at dksX1_init_4 18 rfl rfl)
theorem dX1_init_114 : decode cX1_init 114 = .ok (.putfield 31, 3) := dk_181 0 31 (dk_at dksX1_init_4 19 rfl rfl)
theorem dX1_init_117 : decode cX1_init 117 = .ok (.aload_n 0, 1) := dk_42 (dk_at dksX1_init_4 22 rfl rfl)
theorem dX1_init_118 : decode cX1_init 118 = .ok (.new 35, 3) := dk_187 0 35 (dk_at dksX1_init_5 0 rfl rfl)
theorem dX1_init_121 : decode cX1_init 121 = .ok (.dup, 1) := dk_89 (dk_at dksX1_init_5 3 rfl rfl)
theorem dX1_init_122 : decode cX1_init 122 = .ok (.invokespecial 37, 3) := dk_183 0 37 (dk_at dksX1_init_5 4 rfl rfl)
theorem dX1_init_125 : decode cX1_init 125 = .ok (.putfield 38, 3) := dk_181 0 38 (dk_at dksX1_init_5 7 rfl rfl)
theorem dX1_init_128 : decode cX1_init 128 = .ok (.aload_n 0, 1) := dk_42 (dk_at dksX1_init_5 10 rfl rfl)
theorem dX1_init_129 : decode cX1_init 129 = .ok (.iconst 3, 1) := dk_6 (dk_at dksX1_init_5 11 rfl rfl)
theorem dX1_init_130 : decode cX1_init 130 = .ok (.anewarray 42, 3) := dk_189 0 42 (dk_at dksX1_init_5 12 rfl rfl)
theorem dX1_init_133 : decode cX1_init 133 = .ok (.putfield 44, 3) := dk_181 0 44 (dk_at dksX1_init_5 15 rfl rfl)
theorem dX1_init_136 : decode cX1_init 136 = .ok (.aload_n 0, 1) := dk_42 (dk_at dksX1_init_5 18 rfl rfl)
theorem dX1_init_137 : decode cX1_init 137 = .ok (.sipush 900, 3) := dk_17 3 132 (dk_at dksX1_init_5 19 rfl rfl)
theorem dX1_init_140 : decode cX1_init 140 = .ok (.newarray .byte, 2) := dk_188_8 (dk_at dksX1_init_5 22 rfl rfl)
theorem dX1_init_142 : decode cX1_init 142 = .ok (.putfield 48, 3) := dk_181 0 48 (dk_at dksX1_init_6 0 rfl rfl)
theorem dX1_init_145 : decode cX1_init 145 = .ok (.aload_n 0, 1) := dk_42 (dk_at dksX1_init_6 3 rfl rfl)
theorem dX1_init_146 : decode cX1_init 146 = .ok (.iconst (-1), 1) := dk_2 (dk_at dksX1_init_6 4 rfl rfl)
theorem dX1_init_147 : decode cX1_init 147 = .ok (.putfield 52, 3) := dk_181 0 52 (dk_at dksX1_init_6 5 rfl rfl)
theorem dX1_init_150 : decode cX1_init 150 = .ok (.aload_n 0, 1) := dk_42 (dk_at dksX1_init_6 8 rfl rfl)
theorem dX1_init_151 : decode cX1_init 151 = .ok (.new 56, 3) := dk_187 0 56 (dk_at dksX1_init_6 9 rfl rfl)
theorem dX1_init_154 : decode cX1_init 154 = .ok (.dup, 1) := dk_89 (dk_at dksX1_init_6 12 rfl rfl)
theorem dX1_init_155 : decode cX1_init 155 = .ok (.invokespecial 58, 3) := dk_183 0 58 (dk_at dksX1_init_6 13 rfl rfl)
theorem dX1_init_158 : decode cX1_init 158 = .ok (.putfield 59, 3) := dk_181 0 59 (dk_at dksX1_init_6 16 rfl rfl)
theorem dX1_init_161 : decode cX1_init 161 = .ok (.aload_n 0, 1) := dk_42 (dk_at dksX1_init_6 19 rfl rfl)
theorem dX1_init_162 : decode cX1_init 162 = .ok (.iconst 4, 1) := dk_7 (dk_at dksX1_init_6 20 rfl rfl)
theorem dX1_init_163 : decode cX1_init 163 = .ok (.anewarray 63, 3) := dk_189 0 63 (dk_at dksX1_init_6 21 rfl rfl)
theorem dX1_init_166 : decode cX1_init 166 = .ok (.dup, 1) := dk_89 (dk_at dksX1_init_7 0 rfl rfl)
theorem dX1_init_167 : decode cX1_init 167 = .ok (.iconst 0, 1) := dk_3 (dk_at dksX1_init_7 1 rfl rfl)
theorem dX1_init_168 : decode cX1_init 168 = .ok (.new 63, 3) := dk_187 0 63 (dk_at dksX1_init_7 2 rfl rfl)
theorem dX1_init_171 : decode cX1_init 171 = .ok (.dup, 1) := dk_89 (dk_at dksX1_init_7 5 rfl rfl)
theorem dX1_init_172 : decode cX1_init 172 = .ok (.invokespecial 65, 3) := dk_183 0 65 (dk_at dksX1_init_7 6 rfl rfl)
theorem dX1_init_175 : decode cX1_init 175 = .ok (.aastore, 1) := dk_83 (dk_at dksX1_init_7 9 rfl rfl)
theorem dX1_init_176 : decode cX1_init 176 = .ok (.dup, 1) := dk_89 (dk_at dksX1_init_7 10 rfl rfl)
theorem dX1_init_177 : decode cX1_init 177 = .ok (.iconst 1, 1) := dk_4 (dk_at dksX1_init_7 11 rfl rfl)
theorem dX1_init_178 : decode cX1_init 178 = .ok (.new 63, 3) := dk_187 0 63 (dk_at dksX1_init_7 12 rfl rfl)
theorem dX1_init_181 : decode cX1_init 181 = .ok (.dup, 1) := dk_89 (dk_at dksX1_init_7 15 rfl rfl)
theorem dX1_init_182 : decode cX1_init 182 = .ok (.invokespecial 65, 3) := dk_183 0 65 (dk_at dksX1_init_7 16 rfl rfl)
theorem dX1_init_185 : decode cX1_init 185 = .ok (.aastore, 1) := dk_83 (dk_at dksX1_init_7 19 rfl rfl)
theorem dX1_init_186 : decode cX1_init 186 = .ok (.dup, 1) := dk_89 (dk_at dksX1_init_7 20 rfl rfl)
theorem dX1_init_187 : decode cX1_init 187 = .ok (.iconst 2, 1) := dk_5 (dk_at dksX1_init_7 21 rfl rfl)
theorem dX1_init_188 : decode cX1_init 188 = .ok (.new 63, 3) := dk_187 0 63 (dk_at dksX1_init_8 0 rfl rfl)
theorem dX1_init_191 : decode cX1_init 191 = .ok (.dup, 1) := dk_89 (dk_at dksX1_init_8 3 rfl rfl)
theorem dX1_init_192 : decode cX1_init 192 = .ok (.invokespecial 65, 3) := dk_183 0 65 (dk_at dksX1_init_8 4 rfl rfl)
theorem dX1_init_195 : decode cX1_init 195 = .ok (.aastore, 1) := dk_83 (dk_at dksX1_init_8 7 rfl rfl)
theorem dX1_init_196 : decode cX1_init 196 = .ok (.dup, 1) := dk_89 (dk_at dksX1_init_8 8 rfl rfl)
theorem dX1_init_197 : decode cX1_init 197 = .ok (.iconst 3, 1) := dk_6 (dk_at dksX1_init_8 9 rfl rfl)
theorem dX1_init_198 : decode cX1_init 198 = .ok (.new 63, 3) := dk_187 0 63 (dk_at dksX1_init_8 10 rfl rfl)
theorem dX1_init_201 : decode cX1_init 201 = .ok (.dup, 1) := dk_89 (dk_at dksX1_init_8 13 rfl rfl)
theorem dX1_init_202 : decode cX1_init 202 = .ok (.invokespecial 65, 3) := dk_183 0 65 (dk_at dksX1_init_8 14 rfl rfl)
theorem dX1_init_205 : decode cX1_init 205 = .ok (.aastore, 1) := dk_83 (dk_at dksX1_init_8 17 rfl rfl)
theorem dX1_init_206 : decode cX1_init 206 = .ok (.putfield 66, 3) := dk_181 0 66 (dk_at dksX1_init_8 18 rfl rfl)
theorem dX1_init_209 : decode cX1_init 209 = .ok (.aload_n 0, 1) := dk_42 (dk_at dksX1_init_8 21 rfl rfl)
theorem dX1_init_210 : decode cX1_init 210 = .ok (.sipush 28000, 3) := dk_17 109 96 (dk_at dksX1_init_9 0 rfl rfl)
theorem dX1_init_213 : decode cX1_init 213 = .ok (.newarray .long, 2) := dk_188_11 (dk_at dksX1_init_9 3 rfl rfl)
theorem dX1_init_215 : decode cX1_init 215 = .ok (.putfield 70, 3) := dk_181 0 70 (dk_at dksX1_init_9 5 rfl rfl)
theorem dX1_init_218 : decode cX1_init 218 = .ok (.return_, 1) := dk_177 (dk_at dksX1_init_9 8 rfl rfl)
abbrev cX1_feed : ByteArray := prog_1_method_8_code
def yX1_feed : MethodName := ⟨RX1, "feed", "(IIIII)I"⟩
def dkwX1_feed_2 : List UInt8 := [172]
abbrev dktX1_feed_2 : List UInt8 := dkwX1_feed_2 ++ []
def dkwX1_feed_1 : List UInt8 := [182, 0, 102, 42, 29, 182, 0, 102, 42, 21, 4, 182, 0, 102, 42, 21, 5, 182, 0, 102, 42, 180, 0, 99]
abbrev dktX1_feed_1 : List UInt8 := dkwX1_feed_1 ++ dktX1_feed_2
def dkwX1_feed_0 : List UInt8 := [42, 180, 0, 99, 16, 20, 96, 17, 3, 132, 164, 0, 5, 2, 172, 42, 27, 182, 0, 102, 42, 28]
abbrev dktX1_feed_0 : List UInt8 := dkwX1_feed_0 ++ dktX1_feed_1
theorem dksX1_feed_0 : cX1_feed.data.toList.drop 0 = dktX1_feed_0 := by decide +kernel
theorem dksX1_feed_1 : cX1_feed.data.toList.drop 22 = dktX1_feed_1 := dk_seg dksX1_feed_0 22 rfl rfl
theorem dksX1_feed_2 : cX1_feed.data.toList.drop 46 = dktX1_feed_2 := dk_seg dksX1_feed_1 24 rfl rfl
theorem dX1_feed_0 : decode cX1_feed 0 = .ok (.aload_n 0, 1) := dk_42 (dk_at dksX1_feed_0 0 rfl rfl)
theorem dX1_feed_1 : decode cX1_feed 1 = .ok (.getfield 99, 3) := dk_180 0 99 (dk_at dksX1_feed_0 1 rfl rfl)
theorem dX1_feed_4 : decode cX1_feed 4 = .ok (.bipush 20, 2) := dk_16 20 (dk_at dksX1_feed_0 4 rfl rfl)
theorem dX1_feed_6 : decode cX1_feed 6 = .ok (.iadd, 1) := dk_96 (dk_at dksX1_feed_0 6 rfl rfl)
theorem dX1_feed_7 : decode cX1_feed 7 = .ok (.sipush 900, 3) := dk_17 3 132 (dk_at dksX1_feed_0 7 rfl rfl)
theorem dX1_feed_10 : decode cX1_feed 10 = .ok (.if_icmp .le 5, 3) := dk_164 0 5 (dk_at dksX1_feed_0 10 rfl rfl)
theorem dX1_feed_13 : decode cX1_feed 13 = .ok (.iconst (-1), 1) := dk_2 (dk_at dksX1_feed_0 13 rfl rfl)
theorem dX1_feed_14 : decode cX1_feed 14 = .ok (.ireturn, 1) := dk_172 (dk_at dksX1_feed_0 14 rfl rfl)
theorem dX1_feed_15 : decode cX1_feed 15 = .ok (.aload_n 0, 1) := dk_42 (dk_at dksX1_feed_0 15 rfl rfl)
theorem dX1_feed_16 : decode cX1_feed 16 = .ok (.iload_n 1, 1) := dk_27 (dk_at dksX1_feed_0 16 rfl rfl)
theorem dX1_feed_17 : decode cX1_feed 17 = .ok (.invokevirtual 102, 3) := dk_182 0 102 (dk_at dksX1_feed_0 17 rfl rfl)
theorem dX1_feed_20 : decode cX1_feed 20 = .ok (.aload_n 0, 1) := dk_42 (dk_at dksX1_feed_0 20 rfl rfl)
theorem dX1_feed_21 : decode cX1_feed 21 = .ok (.iload_n 2, 1) := dk_28 (dk_at dksX1_feed_0 21 rfl rfl)
theorem dX1_feed_22 : decode cX1_feed 22 = .ok (.invokevirtual 102, 3) := dk_182 0 102 (dk_at dksX1_feed_1 0 rfl rfl)
theorem dX1_feed_25 : decode cX1_feed 25 = .ok (.aload_n 0, 1) := dk_42 (dk_at dksX1_feed_1 3 rfl rfl)
theorem dX1_feed_26 : decode cX1_feed 26 = .ok (.iload_n 3, 1) := dk_29 (dk_at dksX1_feed_1 4 rfl rfl)
theorem dX1_feed_27 : decode cX1_feed 27 = .ok (.invokevirtual 102, 3) := dk_182 0 102 (dk_at dksX1_feed_1 5 rfl rfl)
theorem dX1_feed_30 : decode cX1_feed 30 = .ok (.aload_n 0, 1) := dk_42 (dk_at dksX1_feed_1 8 rfl rfl)
theorem dX1_feed_31 : decode cX1_feed 31 = .ok (.iload 4, 2) := dk_21 4 (dk_at dksX1_feed_1 9 rfl rfl)
theorem dX1_feed_33 : decode cX1_feed 33 = .ok (.invokevirtual 102, 3) := dk_182 0 102 (dk_at dksX1_feed_1 11 rfl rfl)
theorem dX1_feed_36 : decode cX1_feed 36 = .ok (.aload_n 0, 1) := dk_42 (dk_at dksX1_feed_1 14 rfl rfl)
theorem dX1_feed_37 : decode cX1_feed 37 = .ok (.iload 5, 2) := dk_21 5 (dk_at dksX1_feed_1 15 rfl rfl)
theorem dX1_feed_39 : decode cX1_feed 39 = .ok (.invokevirtual 102, 3) := dk_182 0 102 (dk_at dksX1_feed_1 17 rfl rfl)
theorem dX1_feed_42 : decode cX1_feed 42 = .ok (.aload_n 0, 1) := dk_42 (dk_at dksX1_feed_1 20 rfl rfl)
theorem dX1_feed_43 : decode cX1_feed 43 = .ok (.getfield 99, 3) := dk_180 0 99 (dk_at dksX1_feed_1 21 rfl rfl)
theorem dX1_feed_46 : decode cX1_feed 46 = .ok (.ireturn, 1) := dk_172 (dk_at dksX1_feed_2 0 rfl rfl)
abbrev cX1_four : ByteArray := prog_1_method_9_code
def yX1_four : MethodName := ⟨RX1, "four", "(I)V"⟩
def dkwX1_four_1 : List UInt8 := [180, 0, 99, 4, 96, 181, 0, 99, 132, 2, 248, 167, 255, 226, 177]
abbrev dktX1_four_1 : List UInt8 := dkwX1_four_1 ++ []
def dkwX1_four_0 : List UInt8 := [16, 24, 61, 28, 155, 0, 32, 42, 180, 0, 48, 42, 180, 0, 99, 27, 28, 122, 145, 84, 42, 89]
abbrev dktX1_four_0 : List UInt8 := dkwX1_four_0 ++ dktX1_four_1
theorem dksX1_four_0 : cX1_four.data.toList.drop 0 = dktX1_four_0 := by decide +kernel
theorem dksX1_four_1 : cX1_four.data.toList.drop 22 = dktX1_four_1 := dk_seg dksX1_four_0 22 rfl rfl
theorem dX1_four_0 : decode cX1_four 0 = .ok (.bipush 24, 2) := dk_16 24 (dk_at dksX1_four_0 0 rfl rfl)
theorem dX1_four_2 : decode cX1_four 2 = .ok (.istore_n 2, 1) := dk_61 (dk_at dksX1_four_0 2 rfl rfl)
theorem dX1_four_3 : decode cX1_four 3 = .ok (.iload_n 2, 1) := dk_28 (dk_at dksX1_four_0 3 rfl rfl)
theorem dX1_four_4 : decode cX1_four 4 = .ok (.ifCond .lt 32, 3) := dk_155 0 32 (dk_at dksX1_four_0 4 rfl rfl)
theorem dX1_four_7 : decode cX1_four 7 = .ok (.aload_n 0, 1) := dk_42 (dk_at dksX1_four_0 7 rfl rfl)
theorem dX1_four_8 : decode cX1_four 8 = .ok (.getfield 48, 3) := dk_180 0 48 (dk_at dksX1_four_0 8 rfl rfl)
theorem dX1_four_11 : decode cX1_four 11 = .ok (.aload_n 0, 1) := dk_42 (dk_at dksX1_four_0 11 rfl rfl)
theorem dX1_four_12 : decode cX1_four 12 = .ok (.getfield 99, 3) := dk_180 0 99 (dk_at dksX1_four_0 12 rfl rfl)
theorem dX1_four_15 : decode cX1_four 15 = .ok (.iload_n 1, 1) := dk_27 (dk_at dksX1_four_0 15 rfl rfl)
theorem dX1_four_16 : decode cX1_four 16 = .ok (.iload_n 2, 1) := dk_28 (dk_at dksX1_four_0 16 rfl rfl)
theorem dX1_four_17 : decode cX1_four 17 = .ok (.ishr, 1) := dk_122 (dk_at dksX1_four_0 17 rfl rfl)
theorem dX1_four_18 : decode cX1_four 18 = .ok (.i2b, 1) := dk_145 (dk_at dksX1_four_0 18 rfl rfl)
theorem dX1_four_19 : decode cX1_four 19 = .ok (.bastore, 1) := dk_84 (dk_at dksX1_four_0 19 rfl rfl)
theorem dX1_four_20 : decode cX1_four 20 = .ok (.aload_n 0, 1) := dk_42 (dk_at dksX1_four_0 20 rfl rfl)
theorem dX1_four_21 : decode cX1_four 21 = .ok (.dup, 1) := dk_89 (dk_at dksX1_four_0 21 rfl rfl)
theorem dX1_four_22 : decode cX1_four 22 = .ok (.getfield 99, 3) := dk_180 0 99 (dk_at dksX1_four_1 0 rfl rfl)
theorem dX1_four_25 : decode cX1_four 25 = .ok (.iconst 1, 1) := dk_4 (dk_at dksX1_four_1 3 rfl rfl)
theorem dX1_four_26 : decode cX1_four 26 = .ok (.iadd, 1) := dk_96 (dk_at dksX1_four_1 4 rfl rfl)
theorem dX1_four_27 : decode cX1_four 27 = .ok (.putfield 99, 3) := dk_181 0 99 (dk_at dksX1_four_1 5 rfl rfl)
theorem dX1_four_30 : decode cX1_four 30 = .ok (.iinc 2 (-8), 3) := dk_132 2 248 (dk_at dksX1_four_1 8 rfl rfl)
theorem dX1_four_33 : decode cX1_four 33 = .ok (.goto (-30), 3) := dk_167 255 226 (dk_at dksX1_four_1 11 rfl rfl)
theorem dX1_four_36 : decode cX1_four 36 = .ok (.return_, 1) := dk_177 (dk_at dksX1_four_1 14 rfl rfl)
abbrev cX1_fault : ByteArray := prog_1_method_11_code
def yX1_fault : MethodName := ⟨RX1, "fault", "(I)I"⟩
def dkwX1_fault_1 : List UInt8 := [172]
abbrev dktX1_fault_1 : List UInt8 := dkwX1_fault_1 ++ []
def dkwX1_fault_0 : List UInt8 := [27, 154, 0, 10, 42, 180, 0, 114, 167, 0, 16, 27, 4, 160, 0, 10, 42, 180, 0, 52, 167, 0, 4, 2]
abbrev dktX1_fault_0 : List UInt8 := dkwX1_fault_0 ++ dktX1_fault_1
theorem dksX1_fault_0 : cX1_fault.data.toList.drop 0 = dktX1_fault_0 := by decide +kernel
theorem dksX1_fault_1 : cX1_fault.data.toList.drop 24 = dktX1_fault_1 := dk_seg dksX1_fault_0 24 rfl rfl
theorem dX1_fault_0 : decode cX1_fault 0 = .ok (.iload_n 1, 1) := dk_27 (dk_at dksX1_fault_0 0 rfl rfl)
theorem dX1_fault_1 : decode cX1_fault 1 = .ok (.ifCond .ne 10, 3) := dk_154 0 10 (dk_at dksX1_fault_0 1 rfl rfl)
theorem dX1_fault_4 : decode cX1_fault 4 = .ok (.aload_n 0, 1) := dk_42 (dk_at dksX1_fault_0 4 rfl rfl)
theorem dX1_fault_5 : decode cX1_fault 5 = .ok (.getfield 114, 3) := dk_180 0 114 (dk_at dksX1_fault_0 5 rfl rfl)
theorem dX1_fault_8 : decode cX1_fault 8 = .ok (.goto 16, 3) := dk_167 0 16 (dk_at dksX1_fault_0 8 rfl rfl)
theorem dX1_fault_11 : decode cX1_fault 11 = .ok (.iload_n 1, 1) := dk_27 (dk_at dksX1_fault_0 11 rfl rfl)
theorem dX1_fault_12 : decode cX1_fault 12 = .ok (.iconst 1, 1) := dk_4 (dk_at dksX1_fault_0 12 rfl rfl)
theorem dX1_fault_13 : decode cX1_fault 13 = .ok (.if_icmp .ne 10, 3) := dk_160 0 10 (dk_at dksX1_fault_0 13 rfl rfl)
theorem dX1_fault_16 : decode cX1_fault 16 = .ok (.aload_n 0, 1) := dk_42 (dk_at dksX1_fault_0 16 rfl rfl)
theorem dX1_fault_17 : decode cX1_fault 17 = .ok (.getfield 52, 3) := dk_180 0 52 (dk_at dksX1_fault_0 17 rfl rfl)
theorem dX1_fault_20 : decode cX1_fault 20 = .ok (.goto 4, 3) := dk_167 0 4 (dk_at dksX1_fault_0 20 rfl rfl)
theorem dX1_fault_23 : decode cX1_fault 23 = .ok (.iconst (-1), 1) := dk_2 (dk_at dksX1_fault_0 23 rfl rfl)
theorem dX1_fault_24 : decode cX1_fault 24 = .ok (.ireturn, 1) := dk_172 (dk_at dksX1_fault_1 0 rfl rfl)
abbrev cX1_worth : ByteArray := prog_1_method_29_code
def yX1_worth : MethodName := ⟨RX1, "worth", "()I"⟩
def dkwX1_worth_0 : List UInt8 := [42, 42, 182, 0, 161, 42, 180, 0, 19, 180, 0, 218, 182, 1, 18, 172]
abbrev dktX1_worth_0 : List UInt8 := dkwX1_worth_0 ++ []
theorem dksX1_worth_0 : cX1_worth.data.toList.drop 0 = dktX1_worth_0 := by decide +kernel
theorem dX1_worth_0 : decode cX1_worth 0 = .ok (.aload_n 0, 1) := dk_42 (dk_at dksX1_worth_0 0 rfl rfl)
theorem dX1_worth_1 : decode cX1_worth 1 = .ok (.aload_n 0, 1) := dk_42 (dk_at dksX1_worth_0 1 rfl rfl)
theorem dX1_worth_2 : decode cX1_worth 2 = .ok (.invokevirtual 161, 3) := dk_182 0 161 (dk_at dksX1_worth_0 2 rfl rfl)
theorem dX1_worth_5 : decode cX1_worth 5 = .ok (.aload_n 0, 1) := dk_42 (dk_at dksX1_worth_0 5 rfl rfl)
theorem dX1_worth_6 : decode cX1_worth 6 = .ok (.getfield 19, 3) := dk_180 0 19 (dk_at dksX1_worth_0 6 rfl rfl)
theorem dX1_worth_9 : decode cX1_worth 9 = .ok (.getfield 218, 3) := dk_180 0 218 (dk_at dksX1_worth_0 9 rfl rfl)
theorem dX1_worth_12 : decode cX1_worth 12 = .ok (.invokevirtual 274, 3) := dk_182 1 18 (dk_at dksX1_worth_0 12 rfl rfl)
theorem dX1_worth_15 : decode cX1_worth 15 = .ok (.ireturn, 1) := dk_172 (dk_at dksX1_worth_0 15 rfl rfl)
abbrev cX1_now : ByteArray := prog_1_method_14_code
def yX1_now : MethodName := ⟨RX1, "now", "()LNapkinDeeds$Look;"⟩
def dkwX1_now_0 : List UInt8 := [42, 180, 0, 19, 42, 180, 0, 31, 16, 6, 50, 42, 180, 0, 31, 16, 7, 50, 182, 0, 157, 176]
abbrev dktX1_now_0 : List UInt8 := dkwX1_now_0 ++ []
theorem dksX1_now_0 : cX1_now.data.toList.drop 0 = dktX1_now_0 := by decide +kernel
theorem dX1_now_0 : decode cX1_now 0 = .ok (.aload_n 0, 1) := dk_42 (dk_at dksX1_now_0 0 rfl rfl)
theorem dX1_now_1 : decode cX1_now 1 = .ok (.getfield 19, 3) := dk_180 0 19 (dk_at dksX1_now_0 1 rfl rfl)
theorem dX1_now_4 : decode cX1_now 4 = .ok (.aload_n 0, 1) := dk_42 (dk_at dksX1_now_0 4 rfl rfl)
theorem dX1_now_5 : decode cX1_now 5 = .ok (.getfield 31, 3) := dk_180 0 31 (dk_at dksX1_now_0 5 rfl rfl)
theorem dX1_now_8 : decode cX1_now 8 = .ok (.bipush 6, 2) := dk_16 6 (dk_at dksX1_now_0 8 rfl rfl)
theorem dX1_now_10 : decode cX1_now 10 = .ok (.aaload, 1) := dk_50 (dk_at dksX1_now_0 10 rfl rfl)
theorem dX1_now_11 : decode cX1_now 11 = .ok (.aload_n 0, 1) := dk_42 (dk_at dksX1_now_0 11 rfl rfl)
theorem dX1_now_12 : decode cX1_now 12 = .ok (.getfield 31, 3) := dk_180 0 31 (dk_at dksX1_now_0 12 rfl rfl)
theorem dX1_now_15 : decode cX1_now 15 = .ok (.bipush 7, 2) := dk_16 7 (dk_at dksX1_now_0 15 rfl rfl)
theorem dX1_now_17 : decode cX1_now 17 = .ok (.aaload, 1) := dk_50 (dk_at dksX1_now_0 17 rfl rfl)
theorem dX1_now_18 : decode cX1_now 18 = .ok (.invokevirtual 157, 3) := dk_182 0 157 (dk_at dksX1_now_0 18 rfl rfl)
theorem dX1_now_21 : decode cX1_now 21 = .ok (.areturn, 1) := dk_176 (dk_at dksX1_now_0 21 rfl rfl)
abbrev cX1_worth_2 : ByteArray := prog_1_method_26_code
def yX1_worth_2 : MethodName := ⟨RX1, "worth", "(LNapkinDeeds$Look;I)I"⟩
def dkwX1_worth_2_1 : List UInt8 := [180, 0, 239, 42, 43, 28, 182, 0, 243, 185, 0, 247, 2, 0, 172]
abbrev dktX1_worth_2_1 : List UInt8 := dkwX1_worth_2_1 ++ []
def dkwX1_worth_2_0 : List UInt8 := [42, 180, 0, 19, 180, 0, 130, 180, 0, 239, 199, 0, 7, 3, 167, 0, 24, 42, 180, 0, 19, 180, 0, 130]
abbrev dktX1_worth_2_0 : List UInt8 := dkwX1_worth_2_0 ++ dktX1_worth_2_1
theorem dksX1_worth_2_0 : cX1_worth_2.data.toList.drop 0 = dktX1_worth_2_0 := by decide +kernel
theorem dksX1_worth_2_1 : cX1_worth_2.data.toList.drop 24 = dktX1_worth_2_1 := dk_seg dksX1_worth_2_0 24 rfl rfl
theorem dX1_worth_2_0 : decode cX1_worth_2 0 = .ok (.aload_n 0, 1) := dk_42 (dk_at dksX1_worth_2_0 0 rfl rfl)
theorem dX1_worth_2_1 : decode cX1_worth_2 1 = .ok (.getfield 19, 3) := dk_180 0 19 (dk_at dksX1_worth_2_0 1 rfl rfl)
theorem dX1_worth_2_4 : decode cX1_worth_2 4 = .ok (.getfield 130, 3) := dk_180 0 130 (dk_at dksX1_worth_2_0 4 rfl rfl)
theorem dX1_worth_2_7 : decode cX1_worth_2 7 = .ok (.getfield 239, 3) := dk_180 0 239 (dk_at dksX1_worth_2_0 7 rfl rfl)
theorem dX1_worth_2_10 : decode cX1_worth_2 10 = .ok (.ifnonnull 7, 3) := dk_199 0 7 (dk_at dksX1_worth_2_0 10 rfl rfl)
theorem dX1_worth_2_13 : decode cX1_worth_2 13 = .ok (.iconst 0, 1) := dk_3 (dk_at dksX1_worth_2_0 13 rfl rfl)
theorem dX1_worth_2_14 : decode cX1_worth_2 14 = .ok (.goto 24, 3) := dk_167 0 24 (dk_at dksX1_worth_2_0 14 rfl rfl)
theorem dX1_worth_2_17 : decode cX1_worth_2 17 = .ok (.aload_n 0, 1) := dk_42 (dk_at dksX1_worth_2_0 17 rfl rfl)
theorem dX1_worth_2_18 : decode cX1_worth_2 18 = .ok (.getfield 19, 3) := dk_180 0 19 (dk_at dksX1_worth_2_0 18 rfl rfl)
theorem dX1_worth_2_21 : decode cX1_worth_2 21 = .ok (.getfield 130, 3) := dk_180 0 130 (dk_at dksX1_worth_2_0 21 rfl rfl)
theorem dX1_worth_2_24 : decode cX1_worth_2 24 = .ok (.getfield 239, 3) := dk_180 0 239 (dk_at dksX1_worth_2_1 0 rfl rfl)
theorem dX1_worth_2_27 : decode cX1_worth_2 27 = .ok (.aload_n 0, 1) := dk_42 (dk_at dksX1_worth_2_1 3 rfl rfl)
theorem dX1_worth_2_28 : decode cX1_worth_2 28 = .ok (.aload_n 1, 1) := dk_43 (dk_at dksX1_worth_2_1 4 rfl rfl)
theorem dX1_worth_2_29 : decode cX1_worth_2 29 = .ok (.iload_n 2, 1) := dk_28 (dk_at dksX1_worth_2_1 5 rfl rfl)
theorem dX1_worth_2_30 : decode cX1_worth_2 30 = .ok (.invokevirtual 243, 3) := dk_182 0 243 (dk_at dksX1_worth_2_1 6 rfl rfl)
theorem dX1_worth_2_33 : decode cX1_worth_2 33 = .ok (.invokeinterface 247 2, 5) := by decide +kernel
theorem dX1_worth_2_38 : decode cX1_worth_2 38 = .ok (.ireturn, 1) := dk_172 (dk_at dksX1_worth_2_1 14 rfl rfl)
abbrev cX1_asks : ByteArray := prog_1_method_25_code
def yX1_asks : MethodName := ⟨RX1, "asks", "(LNapkinDeeds$Look;I)LNapkinDeeds$Case;"⟩
def dkwX1_asks_2 : List UInt8 := [182, 0, 237, 45, 6, 46, 100, 45, 7, 46, 100, 79, 42, 180, 0, 59, 176]
abbrev dktX1_asks_2 : List UInt8 := dkwX1_asks_2 ++ []
def dkwX1_asks_1 : List UInt8 := [28, 79, 45, 6, 42, 43, 182, 0, 230, 79, 45, 7, 42, 43, 182, 0, 234, 79, 45, 8, 42, 180, 0, 19]
abbrev dktX1_asks_1 : List UInt8 := dkwX1_asks_1 ++ dktX1_asks_2
def dkwX1_asks_0 : List UInt8 := [42, 180, 0, 59, 180, 0, 224, 78, 45, 3, 43, 180, 0, 165, 79, 45, 4, 43, 182, 0, 227, 79, 45, 5]
abbrev dktX1_asks_0 : List UInt8 := dkwX1_asks_0 ++ dktX1_asks_1
theorem dksX1_asks_0 : cX1_asks.data.toList.drop 0 = dktX1_asks_0 := by decide +kernel
theorem dksX1_asks_1 : cX1_asks.data.toList.drop 24 = dktX1_asks_1 := dk_seg dksX1_asks_0 24 rfl rfl
theorem dksX1_asks_2 : cX1_asks.data.toList.drop 48 = dktX1_asks_2 := dk_seg dksX1_asks_1 24 rfl rfl
theorem dX1_asks_0 : decode cX1_asks 0 = .ok (.aload_n 0, 1) := dk_42 (dk_at dksX1_asks_0 0 rfl rfl)
theorem dX1_asks_1 : decode cX1_asks 1 = .ok (.getfield 59, 3) := dk_180 0 59 (dk_at dksX1_asks_0 1 rfl rfl)
theorem dX1_asks_4 : decode cX1_asks 4 = .ok (.getfield 224, 3) := dk_180 0 224 (dk_at dksX1_asks_0 4 rfl rfl)
theorem dX1_asks_7 : decode cX1_asks 7 = .ok (.astore_n 3, 1) := dk_78 (dk_at dksX1_asks_0 7 rfl rfl)
theorem dX1_asks_8 : decode cX1_asks 8 = .ok (.aload_n 3, 1) := dk_45 (dk_at dksX1_asks_0 8 rfl rfl)
theorem dX1_asks_9 : decode cX1_asks 9 = .ok (.iconst 0, 1) := dk_3 (dk_at dksX1_asks_0 9 rfl rfl)
theorem dX1_asks_10 : decode cX1_asks 10 = .ok (.aload_n 1, 1) := dk_43 (dk_at dksX1_asks_0 10 rfl rfl)
theorem dX1_asks_11 : decode cX1_asks 11 = .ok (.getfield 165, 3) := dk_180 0 165 (dk_at dksX1_asks_0 11 rfl rfl)
theorem dX1_asks_14 : decode cX1_asks 14 = .ok (.iastore, 1) := dk_79 (dk_at dksX1_asks_0 14 rfl rfl)
theorem dX1_asks_15 : decode cX1_asks 15 = .ok (.aload_n 3, 1) := dk_45 (dk_at dksX1_asks_0 15 rfl rfl)
theorem dX1_asks_16 : decode cX1_asks 16 = .ok (.iconst 1, 1) := dk_4 (dk_at dksX1_asks_0 16 rfl rfl)
theorem dX1_asks_17 : decode cX1_asks 17 = .ok (.aload_n 1, 1) := dk_43 (dk_at dksX1_asks_0 17 rfl rfl)
theorem dX1_asks_18 : decode cX1_asks 18 = .ok (.invokevirtual 227, 3) := dk_182 0 227 (dk_at dksX1_asks_0 18 rfl rfl)
theorem dX1_asks_21 : decode cX1_asks 21 = .ok (.iastore, 1) := dk_79 (dk_at dksX1_asks_0 21 rfl rfl)
theorem dX1_asks_22 : decode cX1_asks 22 = .ok (.aload_n 3, 1) := dk_45 (dk_at dksX1_asks_0 22 rfl rfl)
theorem dX1_asks_23 : decode cX1_asks 23 = .ok (.iconst 2, 1) := dk_5 (dk_at dksX1_asks_0 23 rfl rfl)
theorem dX1_asks_24 : decode cX1_asks 24 = .ok (.iload_n 2, 1) := dk_28 (dk_at dksX1_asks_1 0 rfl rfl)
theorem dX1_asks_25 : decode cX1_asks 25 = .ok (.iastore, 1) := dk_79 (dk_at dksX1_asks_1 1 rfl rfl)
theorem dX1_asks_26 : decode cX1_asks 26 = .ok (.aload_n 3, 1) := dk_45 (dk_at dksX1_asks_1 2 rfl rfl)
theorem dX1_asks_27 : decode cX1_asks 27 = .ok (.iconst 3, 1) := dk_6 (dk_at dksX1_asks_1 3 rfl rfl)
theorem dX1_asks_28 : decode cX1_asks 28 = .ok (.aload_n 0, 1) := dk_42 (dk_at dksX1_asks_1 4 rfl rfl)
theorem dX1_asks_29 : decode cX1_asks 29 = .ok (.aload_n 1, 1) := dk_43 (dk_at dksX1_asks_1 5 rfl rfl)
theorem dX1_asks_30 : decode cX1_asks 30 = .ok (.invokevirtual 230, 3) := dk_182 0 230 (dk_at dksX1_asks_1 6 rfl rfl)
theorem dX1_asks_33 : decode cX1_asks 33 = .ok (.iastore, 1) := dk_79 (dk_at dksX1_asks_1 9 rfl rfl)
theorem dX1_asks_34 : decode cX1_asks 34 = .ok (.aload_n 3, 1) := dk_45 (dk_at dksX1_asks_1 10 rfl rfl)
theorem dX1_asks_35 : decode cX1_asks 35 = .ok (.iconst 4, 1) := dk_7 (dk_at dksX1_asks_1 11 rfl rfl)
theorem dX1_asks_36 : decode cX1_asks 36 = .ok (.aload_n 0, 1) := dk_42 (dk_at dksX1_asks_1 12 rfl rfl)
theorem dX1_asks_37 : decode cX1_asks 37 = .ok (.aload_n 1, 1) := dk_43 (dk_at dksX1_asks_1 13 rfl rfl)
theorem dX1_asks_38 : decode cX1_asks 38 = .ok (.invokevirtual 234, 3) := dk_182 0 234 (dk_at dksX1_asks_1 14 rfl rfl)
theorem dX1_asks_41 : decode cX1_asks 41 = .ok (.iastore, 1) := dk_79 (dk_at dksX1_asks_1 17 rfl rfl)
theorem dX1_asks_42 : decode cX1_asks 42 = .ok (.aload_n 3, 1) := dk_45 (dk_at dksX1_asks_1 18 rfl rfl)
theorem dX1_asks_43 : decode cX1_asks 43 = .ok (.iconst 5, 1) := dk_8 (dk_at dksX1_asks_1 19 rfl rfl)
theorem dX1_asks_44 : decode cX1_asks 44 = .ok (.aload_n 0, 1) := dk_42 (dk_at dksX1_asks_1 20 rfl rfl)
theorem dX1_asks_45 : decode cX1_asks 45 = .ok (.getfield 19, 3) := dk_180 0 19 (dk_at dksX1_asks_1 21 rfl rfl)
theorem dX1_asks_48 : decode cX1_asks 48 = .ok (.invokevirtual 237, 3) := dk_182 0 237 (dk_at dksX1_asks_2 0 rfl rfl)
theorem dX1_asks_51 : decode cX1_asks 51 = .ok (.aload_n 3, 1) := dk_45 (dk_at dksX1_asks_2 3 rfl rfl)
theorem dX1_asks_52 : decode cX1_asks 52 = .ok (.iconst 3, 1) := dk_6 (dk_at dksX1_asks_2 4 rfl rfl)
theorem dX1_asks_53 : decode cX1_asks 53 = .ok (.iaload, 1) := dk_46 (dk_at dksX1_asks_2 5 rfl rfl)
theorem dX1_asks_54 : decode cX1_asks 54 = .ok (.isub, 1) := dk_100 (dk_at dksX1_asks_2 6 rfl rfl)
theorem dX1_asks_55 : decode cX1_asks 55 = .ok (.aload_n 3, 1) := dk_45 (dk_at dksX1_asks_2 7 rfl rfl)
theorem dX1_asks_56 : decode cX1_asks 56 = .ok (.iconst 4, 1) := dk_7 (dk_at dksX1_asks_2 8 rfl rfl)
theorem dX1_asks_57 : decode cX1_asks 57 = .ok (.iaload, 1) := dk_46 (dk_at dksX1_asks_2 9 rfl rfl)
theorem dX1_asks_58 : decode cX1_asks 58 = .ok (.isub, 1) := dk_100 (dk_at dksX1_asks_2 10 rfl rfl)
theorem dX1_asks_59 : decode cX1_asks 59 = .ok (.iastore, 1) := dk_79 (dk_at dksX1_asks_2 11 rfl rfl)
theorem dX1_asks_60 : decode cX1_asks 60 = .ok (.aload_n 0, 1) := dk_42 (dk_at dksX1_asks_2 12 rfl rfl)
theorem dX1_asks_61 : decode cX1_asks 61 = .ok (.getfield 59, 3) := dk_180 0 59 (dk_at dksX1_asks_2 13 rfl rfl)
theorem dX1_asks_64 : decode cX1_asks 64 = .ok (.areturn, 1) := dk_176 (dk_at dksX1_asks_2 16 rfl rfl)
abbrev cX1_top : ByteArray := prog_1_method_23_code
def yX1_top : MethodName := ⟨RX1, "top", "(LNapkinDeeds$Look;)I"⟩
def dkwX1_top_1 : List UInt8 := [182, 0, 208, 96, 61, 132, 3, 1, 167, 255, 230, 28, 172]
abbrev dktX1_top_1 : List UInt8 := dkwX1_top_1 ++ []
def dkwX1_top_0 : List UInt8 := [3, 61, 3, 62, 29, 43, 180, 0, 165, 162, 0, 24, 28, 42, 180, 0, 19, 43, 29, 182, 0, 205]
abbrev dktX1_top_0 : List UInt8 := dkwX1_top_0 ++ dktX1_top_1
theorem dksX1_top_0 : cX1_top.data.toList.drop 0 = dktX1_top_0 := by decide +kernel
theorem dksX1_top_1 : cX1_top.data.toList.drop 22 = dktX1_top_1 := dk_seg dksX1_top_0 22 rfl rfl
theorem dX1_top_0 : decode cX1_top 0 = .ok (.iconst 0, 1) := dk_3 (dk_at dksX1_top_0 0 rfl rfl)
theorem dX1_top_1 : decode cX1_top 1 = .ok (.istore_n 2, 1) := dk_61 (dk_at dksX1_top_0 1 rfl rfl)
theorem dX1_top_2 : decode cX1_top 2 = .ok (.iconst 0, 1) := dk_3 (dk_at dksX1_top_0 2 rfl rfl)
theorem dX1_top_3 : decode cX1_top 3 = .ok (.istore_n 3, 1) := dk_62 (dk_at dksX1_top_0 3 rfl rfl)
theorem dX1_top_4 : decode cX1_top 4 = .ok (.iload_n 3, 1) := dk_29 (dk_at dksX1_top_0 4 rfl rfl)
theorem dX1_top_5 : decode cX1_top 5 = .ok (.aload_n 1, 1) := dk_43 (dk_at dksX1_top_0 5 rfl rfl)
theorem dX1_top_6 : decode cX1_top 6 = .ok (.getfield 165, 3) := dk_180 0 165 (dk_at dksX1_top_0 6 rfl rfl)
theorem dX1_top_9 : decode cX1_top 9 = .ok (.if_icmp .ge 24, 3) := dk_162 0 24 (dk_at dksX1_top_0 9 rfl rfl)
theorem dX1_top_12 : decode cX1_top 12 = .ok (.iload_n 2, 1) := dk_28 (dk_at dksX1_top_0 12 rfl rfl)
theorem dX1_top_13 : decode cX1_top 13 = .ok (.aload_n 0, 1) := dk_42 (dk_at dksX1_top_0 13 rfl rfl)
theorem dX1_top_14 : decode cX1_top 14 = .ok (.getfield 19, 3) := dk_180 0 19 (dk_at dksX1_top_0 14 rfl rfl)
theorem dX1_top_17 : decode cX1_top 17 = .ok (.aload_n 1, 1) := dk_43 (dk_at dksX1_top_0 17 rfl rfl)
theorem dX1_top_18 : decode cX1_top 18 = .ok (.iload_n 3, 1) := dk_29 (dk_at dksX1_top_0 18 rfl rfl)
theorem dX1_top_19 : decode cX1_top 19 = .ok (.invokevirtual 205, 3) := dk_182 0 205 (dk_at dksX1_top_0 19 rfl rfl)
theorem dX1_top_22 : decode cX1_top 22 = .ok (.invokevirtual 208, 3) := dk_182 0 208 (dk_at dksX1_top_1 0 rfl rfl)
theorem dX1_top_25 : decode cX1_top 25 = .ok (.iadd, 1) := dk_96 (dk_at dksX1_top_1 3 rfl rfl)
theorem dX1_top_26 : decode cX1_top 26 = .ok (.istore_n 2, 1) := dk_61 (dk_at dksX1_top_1 4 rfl rfl)
theorem dX1_top_27 : decode cX1_top 27 = .ok (.iinc 3 1, 3) := dk_132 3 1 (dk_at dksX1_top_1 5 rfl rfl)
theorem dX1_top_30 : decode cX1_top 30 = .ok (.goto (-26), 3) := dk_167 255 230 (dk_at dksX1_top_1 8 rfl rfl)
theorem dX1_top_33 : decode cX1_top 33 = .ok (.iload_n 2, 1) := dk_28 (dk_at dksX1_top_1 11 rfl rfl)
theorem dX1_top_34 : decode cX1_top 34 = .ok (.ireturn, 1) := dk_172 (dk_at dksX1_top_1 12 rfl rfl)
abbrev cX1_under : ByteArray := prog_1_method_24_code
def yX1_under : MethodName := ⟨RX1, "under", "(LNapkinDeeds$Look;)I"⟩
def dkwX1_under_1 : List UInt8 := [182, 0, 208, 96, 61, 132, 3, 1, 167, 255, 230, 28, 172]
abbrev dktX1_under_1 : List UInt8 := dkwX1_under_1 ++ []
def dkwX1_under_0 : List UInt8 := [3, 61, 3, 62, 29, 43, 180, 0, 165, 162, 0, 24, 28, 42, 180, 0, 19, 43, 29, 182, 0, 211]
abbrev dktX1_under_0 : List UInt8 := dkwX1_under_0 ++ dktX1_under_1
theorem dksX1_under_0 : cX1_under.data.toList.drop 0 = dktX1_under_0 := by decide +kernel
theorem dksX1_under_1 : cX1_under.data.toList.drop 22 = dktX1_under_1 := dk_seg dksX1_under_0 22 rfl rfl
theorem dX1_under_0 : decode cX1_under 0 = .ok (.iconst 0, 1) := dk_3 (dk_at dksX1_under_0 0 rfl rfl)
theorem dX1_under_1 : decode cX1_under 1 = .ok (.istore_n 2, 1) := dk_61 (dk_at dksX1_under_0 1 rfl rfl)
theorem dX1_under_2 : decode cX1_under 2 = .ok (.iconst 0, 1) := dk_3 (dk_at dksX1_under_0 2 rfl rfl)
theorem dX1_under_3 : decode cX1_under 3 = .ok (.istore_n 3, 1) := dk_62 (dk_at dksX1_under_0 3 rfl rfl)
theorem dX1_under_4 : decode cX1_under 4 = .ok (.iload_n 3, 1) := dk_29 (dk_at dksX1_under_0 4 rfl rfl)
theorem dX1_under_5 : decode cX1_under 5 = .ok (.aload_n 1, 1) := dk_43 (dk_at dksX1_under_0 5 rfl rfl)
theorem dX1_under_6 : decode cX1_under 6 = .ok (.getfield 165, 3) := dk_180 0 165 (dk_at dksX1_under_0 6 rfl rfl)
theorem dX1_under_9 : decode cX1_under 9 = .ok (.if_icmp .ge 24, 3) := dk_162 0 24 (dk_at dksX1_under_0 9 rfl rfl)
theorem dX1_under_12 : decode cX1_under 12 = .ok (.iload_n 2, 1) := dk_28 (dk_at dksX1_under_0 12 rfl rfl)
theorem dX1_under_13 : decode cX1_under 13 = .ok (.aload_n 0, 1) := dk_42 (dk_at dksX1_under_0 13 rfl rfl)
theorem dX1_under_14 : decode cX1_under 14 = .ok (.getfield 19, 3) := dk_180 0 19 (dk_at dksX1_under_0 14 rfl rfl)
theorem dX1_under_17 : decode cX1_under 17 = .ok (.aload_n 1, 1) := dk_43 (dk_at dksX1_under_0 17 rfl rfl)
theorem dX1_under_18 : decode cX1_under 18 = .ok (.iload_n 3, 1) := dk_29 (dk_at dksX1_under_0 18 rfl rfl)
theorem dX1_under_19 : decode cX1_under 19 = .ok (.invokevirtual 211, 3) := dk_182 0 211 (dk_at dksX1_under_0 19 rfl rfl)
theorem dX1_under_22 : decode cX1_under 22 = .ok (.invokevirtual 208, 3) := dk_182 0 208 (dk_at dksX1_under_1 0 rfl rfl)
theorem dX1_under_25 : decode cX1_under 25 = .ok (.iadd, 1) := dk_96 (dk_at dksX1_under_1 3 rfl rfl)
theorem dX1_under_26 : decode cX1_under 26 = .ok (.istore_n 2, 1) := dk_61 (dk_at dksX1_under_1 4 rfl rfl)
theorem dX1_under_27 : decode cX1_under 27 = .ok (.iinc 3 1, 3) := dk_132 3 1 (dk_at dksX1_under_1 5 rfl rfl)
theorem dX1_under_30 : decode cX1_under 30 = .ok (.goto (-26), 3) := dk_167 255 230 (dk_at dksX1_under_1 8 rfl rfl)
theorem dX1_under_33 : decode cX1_under 33 = .ok (.iload_n 2, 1) := dk_28 (dk_at dksX1_under_1 11 rfl rfl)
theorem dX1_under_34 : decode cX1_under 34 = .ok (.ireturn, 1) := dk_172 (dk_at dksX1_under_1 12 rfl rfl)
abbrev cX1_holds : ByteArray := prog_1_method_30_code
def yX1_holds : MethodName := ⟨RX1, "holds", "()Z"⟩
def dkwX1_holds_0 : List UInt8 := [42, 42, 182, 0, 161, 42, 180, 0, 19, 180, 0, 218, 182, 1, 21, 172]
abbrev dktX1_holds_0 : List UInt8 := dkwX1_holds_0 ++ []
theorem dksX1_holds_0 : cX1_holds.data.toList.drop 0 = dktX1_holds_0 := by decide +kernel
theorem dX1_holds_0 : decode cX1_holds 0 = .ok (.aload_n 0, 1) := dk_42 (dk_at dksX1_holds_0 0 rfl rfl)
theorem dX1_holds_1 : decode cX1_holds 1 = .ok (.aload_n 0, 1) := dk_42 (dk_at dksX1_holds_0 1 rfl rfl)
theorem dX1_holds_2 : decode cX1_holds 2 = .ok (.invokevirtual 161, 3) := dk_182 0 161 (dk_at dksX1_holds_0 2 rfl rfl)
theorem dX1_holds_5 : decode cX1_holds 5 = .ok (.aload_n 0, 1) := dk_42 (dk_at dksX1_holds_0 5 rfl rfl)
theorem dX1_holds_6 : decode cX1_holds 6 = .ok (.getfield 19, 3) := dk_180 0 19 (dk_at dksX1_holds_0 6 rfl rfl)
theorem dX1_holds_9 : decode cX1_holds 9 = .ok (.getfield 218, 3) := dk_180 0 218 (dk_at dksX1_holds_0 9 rfl rfl)
theorem dX1_holds_12 : decode cX1_holds 12 = .ok (.invokevirtual 277, 3) := dk_182 1 21 (dk_at dksX1_holds_0 12 rfl rfl)
theorem dX1_holds_15 : decode cX1_holds 15 = .ok (.ireturn, 1) := dk_172 (dk_at dksX1_holds_0 15 rfl rfl)
abbrev cX1_holds_2 : ByteArray := prog_1_method_27_code
def yX1_holds_2 : MethodName := ⟨RX1, "holds", "(LNapkinDeeds$Look;I)Z"⟩
def dkwX1_holds_2_1 : List UInt8 := [43, 28, 182, 0, 243, 185, 1, 1, 2, 0, 153, 0, 7, 4, 167, 0, 4, 3, 172]
abbrev dktX1_holds_2_1 : List UInt8 := dkwX1_holds_2_1 ++ []
def dkwX1_holds_2_0 : List UInt8 := [42, 180, 0, 19, 180, 0, 130, 180, 0, 253, 198, 0, 31, 42, 180, 0, 19, 180, 0, 130, 180, 0, 253, 42]
abbrev dktX1_holds_2_0 : List UInt8 := dkwX1_holds_2_0 ++ dktX1_holds_2_1
theorem dksX1_holds_2_0 : cX1_holds_2.data.toList.drop 0 = dktX1_holds_2_0 := by decide +kernel
theorem dksX1_holds_2_1 : cX1_holds_2.data.toList.drop 24 = dktX1_holds_2_1 := dk_seg dksX1_holds_2_0 24 rfl rfl
theorem dX1_holds_2_0 : decode cX1_holds_2 0 = .ok (.aload_n 0, 1) := dk_42 (dk_at dksX1_holds_2_0 0 rfl rfl)
theorem dX1_holds_2_1 : decode cX1_holds_2 1 = .ok (.getfield 19, 3) := dk_180 0 19 (dk_at dksX1_holds_2_0 1 rfl rfl)
theorem dX1_holds_2_4 : decode cX1_holds_2 4 = .ok (.getfield 130, 3) := dk_180 0 130 (dk_at dksX1_holds_2_0 4 rfl rfl)
theorem dX1_holds_2_7 : decode cX1_holds_2 7 = .ok (.getfield 253, 3) := dk_180 0 253 (dk_at dksX1_holds_2_0 7 rfl rfl)
theorem dX1_holds_2_10 : decode cX1_holds_2 10 = .ok (.ifnull 31, 3) := dk_198 0 31 (dk_at dksX1_holds_2_0 10 rfl rfl)
theorem dX1_holds_2_13 : decode cX1_holds_2 13 = .ok (.aload_n 0, 1) := dk_42 (dk_at dksX1_holds_2_0 13 rfl rfl)
theorem dX1_holds_2_14 : decode cX1_holds_2 14 = .ok (.getfield 19, 3) := dk_180 0 19 (dk_at dksX1_holds_2_0 14 rfl rfl)
theorem dX1_holds_2_17 : decode cX1_holds_2 17 = .ok (.getfield 130, 3) := dk_180 0 130 (dk_at dksX1_holds_2_0 17 rfl rfl)
theorem dX1_holds_2_20 : decode cX1_holds_2 20 = .ok (.getfield 253, 3) := dk_180 0 253 (dk_at dksX1_holds_2_0 20 rfl rfl)
theorem dX1_holds_2_23 : decode cX1_holds_2 23 = .ok (.aload_n 0, 1) := dk_42 (dk_at dksX1_holds_2_0 23 rfl rfl)
theorem dX1_holds_2_24 : decode cX1_holds_2 24 = .ok (.aload_n 1, 1) := dk_43 (dk_at dksX1_holds_2_1 0 rfl rfl)
theorem dX1_holds_2_25 : decode cX1_holds_2 25 = .ok (.iload_n 2, 1) := dk_28 (dk_at dksX1_holds_2_1 1 rfl rfl)
theorem dX1_holds_2_26 : decode cX1_holds_2 26 = .ok (.invokevirtual 243, 3) := dk_182 0 243 (dk_at dksX1_holds_2_1 2 rfl rfl)
theorem dX1_holds_2_29 : decode cX1_holds_2 29 = .ok (.invokeinterface 257 2, 5) := by decide +kernel
theorem dX1_holds_2_34 : decode cX1_holds_2 34 = .ok (.ifCond .eq 7, 3) := dk_153 0 7 (dk_at dksX1_holds_2_1 10 rfl rfl)
theorem dX1_holds_2_37 : decode cX1_holds_2 37 = .ok (.iconst 1, 1) := dk_4 (dk_at dksX1_holds_2_1 13 rfl rfl)
theorem dX1_holds_2_38 : decode cX1_holds_2 38 = .ok (.goto 4, 3) := dk_167 0 4 (dk_at dksX1_holds_2_1 14 rfl rfl)
theorem dX1_holds_2_41 : decode cX1_holds_2 41 = .ok (.iconst 0, 1) := dk_3 (dk_at dksX1_holds_2_1 17 rfl rfl)
theorem dX1_holds_2_42 : decode cX1_holds_2 42 = .ok (.ireturn, 1) := dk_172 (dk_at dksX1_holds_2_1 18 rfl rfl)
abbrev cX1_fold : ByteArray := prog_1_method_34_code
def yX1_fold : MethodName := ⟨RX1, "fold", "(II)I"⟩
def dkwX1_fold_1 : List UInt8 := [42, 180, 0, 19, 27, 28, 182, 1, 44, 42, 182, 0, 161, 180, 0, 165, 172]
abbrev dktX1_fold_1 : List UInt8 := dkwX1_fold_1 ++ []
def dkwX1_fold_0 : List UInt8 := [42, 42, 180, 0, 19, 27, 133, 28, 133, 182, 1, 37, 62, 29, 153, 0, 6, 29, 116, 172, 42, 182, 1, 41]
abbrev dktX1_fold_0 : List UInt8 := dkwX1_fold_0 ++ dktX1_fold_1
theorem dksX1_fold_0 : cX1_fold.data.toList.drop 0 = dktX1_fold_0 := by decide +kernel
theorem dksX1_fold_1 : cX1_fold.data.toList.drop 24 = dktX1_fold_1 := dk_seg dksX1_fold_0 24 rfl rfl
theorem dX1_fold_0 : decode cX1_fold 0 = .ok (.aload_n 0, 1) := dk_42 (dk_at dksX1_fold_0 0 rfl rfl)
theorem dX1_fold_1 : decode cX1_fold 1 = .ok (.aload_n 0, 1) := dk_42 (dk_at dksX1_fold_0 1 rfl rfl)
theorem dX1_fold_2 : decode cX1_fold 2 = .ok (.getfield 19, 3) := dk_180 0 19 (dk_at dksX1_fold_0 2 rfl rfl)
theorem dX1_fold_5 : decode cX1_fold 5 = .ok (.iload_n 1, 1) := dk_27 (dk_at dksX1_fold_0 5 rfl rfl)
theorem dX1_fold_6 : decode cX1_fold 6 = .ok (.i2l, 1) := dk_133 (dk_at dksX1_fold_0 6 rfl rfl)
theorem dX1_fold_7 : decode cX1_fold 7 = .ok (.iload_n 2, 1) := dk_28 (dk_at dksX1_fold_0 7 rfl rfl)
theorem dX1_fold_8 : decode cX1_fold 8 = .ok (.i2l, 1) := dk_133 (dk_at dksX1_fold_0 8 rfl rfl)
theorem dX1_fold_9 : decode cX1_fold 9 = .ok (.invokevirtual 293, 3) := dk_182 1 37 (dk_at dksX1_fold_0 9 rfl rfl)
theorem dX1_fold_12 : decode cX1_fold 12 = .ok (.istore_n 3, 1) := dk_62 (dk_at dksX1_fold_0 12 rfl rfl)
theorem dX1_fold_13 : decode cX1_fold 13 = .ok (.iload_n 3, 1) := dk_29 (dk_at dksX1_fold_0 13 rfl rfl)
theorem dX1_fold_14 : decode cX1_fold 14 = .ok (.ifCond .eq 6, 3) := dk_153 0 6 (dk_at dksX1_fold_0 14 rfl rfl)
theorem dX1_fold_17 : decode cX1_fold 17 = .ok (.iload_n 3, 1) := dk_29 (dk_at dksX1_fold_0 17 rfl rfl)
theorem dX1_fold_18 : decode cX1_fold 18 = .ok (.ineg, 1) := dk_116 (dk_at dksX1_fold_0 18 rfl rfl)
theorem dX1_fold_19 : decode cX1_fold 19 = .ok (.ireturn, 1) := dk_172 (dk_at dksX1_fold_0 19 rfl rfl)
theorem dX1_fold_20 : decode cX1_fold 20 = .ok (.aload_n 0, 1) := dk_42 (dk_at dksX1_fold_0 20 rfl rfl)
theorem dX1_fold_21 : decode cX1_fold 21 = .ok (.invokevirtual 297, 3) := dk_182 1 41 (dk_at dksX1_fold_0 21 rfl rfl)
theorem dX1_fold_24 : decode cX1_fold 24 = .ok (.aload_n 0, 1) := dk_42 (dk_at dksX1_fold_1 0 rfl rfl)
theorem dX1_fold_25 : decode cX1_fold 25 = .ok (.getfield 19, 3) := dk_180 0 19 (dk_at dksX1_fold_1 1 rfl rfl)
theorem dX1_fold_28 : decode cX1_fold 28 = .ok (.iload_n 1, 1) := dk_27 (dk_at dksX1_fold_1 4 rfl rfl)
theorem dX1_fold_29 : decode cX1_fold 29 = .ok (.iload_n 2, 1) := dk_28 (dk_at dksX1_fold_1 5 rfl rfl)
theorem dX1_fold_30 : decode cX1_fold 30 = .ok (.invokevirtual 300, 3) := dk_182 1 44 (dk_at dksX1_fold_1 6 rfl rfl)
theorem dX1_fold_33 : decode cX1_fold 33 = .ok (.aload_n 0, 1) := dk_42 (dk_at dksX1_fold_1 9 rfl rfl)
theorem dX1_fold_34 : decode cX1_fold 34 = .ok (.invokevirtual 161, 3) := dk_182 0 161 (dk_at dksX1_fold_1 10 rfl rfl)
theorem dX1_fold_37 : decode cX1_fold 37 = .ok (.getfield 165, 3) := dk_180 0 165 (dk_at dksX1_fold_1 13 rfl rfl)
theorem dX1_fold_40 : decode cX1_fold 40 = .ok (.ireturn, 1) := dk_172 (dk_at dksX1_fold_1 16 rfl rfl)
abbrev cX1_whyFold : ByteArray := prog_1_method_33_code
def yX1_whyFold : MethodName := ⟨RX1, "whyFold", "(LNapkinDeeds$State;JJ)I"⟩
def dkwX1_whyFold_1 : List UInt8 := [153, 0, 19, 22, 4, 9, 20, 1, 35, 184, 0, 106, 153, 0, 7, 3, 167, 0, 4, 4, 172]
abbrev dktX1_whyFold_1 : List UInt8 := dkwX1_whyFold_1 ++ []
def dkwX1_whyFold_0 : List UInt8 := [43, 42, 180, 0, 31, 16, 6, 50, 42, 180, 0, 31, 16, 7, 50, 182, 0, 157, 32, 182, 1, 32]
abbrev dktX1_whyFold_0 : List UInt8 := dkwX1_whyFold_0 ++ dktX1_whyFold_1
theorem dksX1_whyFold_0 : cX1_whyFold.data.toList.drop 0 = dktX1_whyFold_0 := by decide +kernel
theorem dksX1_whyFold_1 : cX1_whyFold.data.toList.drop 22 = dktX1_whyFold_1 := dk_seg dksX1_whyFold_0 22 rfl rfl
theorem dX1_whyFold_0 : decode cX1_whyFold 0 = .ok (.aload_n 1, 1) := dk_43 (dk_at dksX1_whyFold_0 0 rfl rfl)
theorem dX1_whyFold_1 : decode cX1_whyFold 1 = .ok (.aload_n 0, 1) := dk_42 (dk_at dksX1_whyFold_0 1 rfl rfl)
theorem dX1_whyFold_2 : decode cX1_whyFold 2 = .ok (.getfield 31, 3) := dk_180 0 31 (dk_at dksX1_whyFold_0 2 rfl rfl)
theorem dX1_whyFold_5 : decode cX1_whyFold 5 = .ok (.bipush 6, 2) := dk_16 6 (dk_at dksX1_whyFold_0 5 rfl rfl)
theorem dX1_whyFold_7 : decode cX1_whyFold 7 = .ok (.aaload, 1) := dk_50 (dk_at dksX1_whyFold_0 7 rfl rfl)
theorem dX1_whyFold_8 : decode cX1_whyFold 8 = .ok (.aload_n 0, 1) := dk_42 (dk_at dksX1_whyFold_0 8 rfl rfl)
theorem dX1_whyFold_9 : decode cX1_whyFold 9 = .ok (.getfield 31, 3) := dk_180 0 31 (dk_at dksX1_whyFold_0 9 rfl rfl)
theorem dX1_whyFold_12 : decode cX1_whyFold 12 = .ok (.bipush 7, 2) := dk_16 7 (dk_at dksX1_whyFold_0 12 rfl rfl)
theorem dX1_whyFold_14 : decode cX1_whyFold 14 = .ok (.aaload, 1) := dk_50 (dk_at dksX1_whyFold_0 14 rfl rfl)
theorem dX1_whyFold_15 : decode cX1_whyFold 15 = .ok (.invokevirtual 157, 3) := dk_182 0 157 (dk_at dksX1_whyFold_0 15 rfl rfl)
theorem dX1_whyFold_18 : decode cX1_whyFold 18 = .ok (.lload_n 2, 1) := dk_32 (dk_at dksX1_whyFold_0 18 rfl rfl)
theorem dX1_whyFold_19 : decode cX1_whyFold 19 = .ok (.invokevirtual 288, 3) := dk_182 1 32 (dk_at dksX1_whyFold_0 19 rfl rfl)
theorem dX1_whyFold_22 : decode cX1_whyFold 22 = .ok (.ifCond .eq 19, 3) := dk_153 0 19 (dk_at dksX1_whyFold_1 0 rfl rfl)
theorem dX1_whyFold_25 : decode cX1_whyFold 25 = .ok (.lload 4, 2) := dk_22 4 (dk_at dksX1_whyFold_1 3 rfl rfl)
theorem dX1_whyFold_27 : decode cX1_whyFold 27 = .ok (.lconst 0, 1) := dk_9 (dk_at dksX1_whyFold_1 5 rfl rfl)
theorem dX1_whyFold_28 : decode cX1_whyFold 28 = .ok (.ldc2_w 291, 3) := dk_20 1 35 (dk_at dksX1_whyFold_1 6 rfl rfl)
theorem dX1_whyFold_31 : decode cX1_whyFold 31 = .ok (.invokestatic 106, 3) := dk_184 0 106 (dk_at dksX1_whyFold_1 9 rfl rfl)
theorem dX1_whyFold_34 : decode cX1_whyFold 34 = .ok (.ifCond .eq 7, 3) := dk_153 0 7 (dk_at dksX1_whyFold_1 12 rfl rfl)
theorem dX1_whyFold_37 : decode cX1_whyFold 37 = .ok (.iconst 0, 1) := dk_3 (dk_at dksX1_whyFold_1 15 rfl rfl)
theorem dX1_whyFold_38 : decode cX1_whyFold 38 = .ok (.goto 4, 3) := dk_167 0 4 (dk_at dksX1_whyFold_1 16 rfl rfl)
theorem dX1_whyFold_41 : decode cX1_whyFold 41 = .ok (.iconst 1, 1) := dk_4 (dk_at dksX1_whyFold_1 19 rfl rfl)
theorem dX1_whyFold_42 : decode cX1_whyFold 42 = .ok (.ireturn, 1) := dk_172 (dk_at dksX1_whyFold_1 20 rfl rfl)
abbrev cX1_isIn : ByteArray := prog_1_method_1_code
def yX1_isIn : MethodName := ⟨RX1, "isIn", "(JJJ)Z"⟩
def dkwX1_isIn_0 : List UInt8 := [30, 32, 148, 155, 0, 14, 30, 22, 4, 148, 157, 0, 7, 4, 167, 0, 4, 3, 172]
abbrev dktX1_isIn_0 : List UInt8 := dkwX1_isIn_0 ++ []
theorem dksX1_isIn_0 : cX1_isIn.data.toList.drop 0 = dktX1_isIn_0 := by decide +kernel
theorem dX1_isIn_0 : decode cX1_isIn 0 = .ok (.lload_n 0, 1) := dk_30 (dk_at dksX1_isIn_0 0 rfl rfl)
theorem dX1_isIn_1 : decode cX1_isIn 1 = .ok (.lload_n 2, 1) := dk_32 (dk_at dksX1_isIn_0 1 rfl rfl)
theorem dX1_isIn_2 : decode cX1_isIn 2 = .ok (.lcmp, 1) := dk_148 (dk_at dksX1_isIn_0 2 rfl rfl)
theorem dX1_isIn_3 : decode cX1_isIn 3 = .ok (.ifCond .lt 14, 3) := dk_155 0 14 (dk_at dksX1_isIn_0 3 rfl rfl)
theorem dX1_isIn_6 : decode cX1_isIn 6 = .ok (.lload_n 0, 1) := dk_30 (dk_at dksX1_isIn_0 6 rfl rfl)
theorem dX1_isIn_7 : decode cX1_isIn 7 = .ok (.lload 4, 2) := dk_22 4 (dk_at dksX1_isIn_0 7 rfl rfl)
theorem dX1_isIn_9 : decode cX1_isIn 9 = .ok (.lcmp, 1) := dk_148 (dk_at dksX1_isIn_0 9 rfl rfl)
theorem dX1_isIn_10 : decode cX1_isIn 10 = .ok (.ifCond .gt 7, 3) := dk_157 0 7 (dk_at dksX1_isIn_0 10 rfl rfl)
theorem dX1_isIn_13 : decode cX1_isIn 13 = .ok (.iconst 1, 1) := dk_4 (dk_at dksX1_isIn_0 13 rfl rfl)
theorem dX1_isIn_14 : decode cX1_isIn 14 = .ok (.goto 4, 3) := dk_167 0 4 (dk_at dksX1_isIn_0 14 rfl rfl)
theorem dX1_isIn_17 : decode cX1_isIn 17 = .ok (.iconst 0, 1) := dk_3 (dk_at dksX1_isIn_0 17 rfl rfl)
theorem dX1_isIn_18 : decode cX1_isIn 18 = .ok (.ireturn, 1) := dk_172 (dk_at dksX1_isIn_0 18 rfl rfl)
abbrev cX1_notes : ByteArray := prog_1_method_32_code
def yX1_notes : MethodName := ⟨RX1, "notes", "()V"⟩
def dkwX1_notes_2 : List UInt8 := [182, 0, 95, 87, 177]
abbrev dktX1_notes_2 : List UInt8 := dkwX1_notes_2 ++ []
def dkwX1_notes_1 : List UInt8 := [167, 0, 10, 187, 0, 16, 89, 183, 0, 18, 76, 43, 42, 180, 0, 19, 182, 0, 91, 42, 180, 0, 38, 43]
abbrev dktX1_notes_1 : List UInt8 := dkwX1_notes_1 ++ dktX1_notes_2
def dkwX1_notes_0 : List UInt8 := [42, 180, 0, 38, 182, 0, 154, 16, 10, 160, 0, 17, 42, 180, 0, 38, 3, 182, 1, 29, 192, 0, 16]
abbrev dktX1_notes_0 : List UInt8 := dkwX1_notes_0 ++ dktX1_notes_1
theorem dksX1_notes_0 : cX1_notes.data.toList.drop 0 = dktX1_notes_0 := by decide +kernel
theorem dksX1_notes_1 : cX1_notes.data.toList.drop 23 = dktX1_notes_1 := dk_seg dksX1_notes_0 23 rfl rfl
theorem dksX1_notes_2 : cX1_notes.data.toList.drop 47 = dktX1_notes_2 := dk_seg dksX1_notes_1 24 rfl rfl
theorem dX1_notes_0 : decode cX1_notes 0 = .ok (.aload_n 0, 1) := dk_42 (dk_at dksX1_notes_0 0 rfl rfl)
theorem dX1_notes_1 : decode cX1_notes 1 = .ok (.getfield 38, 3) := dk_180 0 38 (dk_at dksX1_notes_0 1 rfl rfl)
theorem dX1_notes_4 : decode cX1_notes 4 = .ok (.invokevirtual 154, 3) := dk_182 0 154 (dk_at dksX1_notes_0 4 rfl rfl)
theorem dX1_notes_7 : decode cX1_notes 7 = .ok (.bipush 10, 2) := dk_16 10 (dk_at dksX1_notes_0 7 rfl rfl)
theorem dX1_notes_9 : decode cX1_notes 9 = .ok (.if_icmp .ne 17, 3) := dk_160 0 17 (dk_at dksX1_notes_0 9 rfl rfl)
theorem dX1_notes_12 : decode cX1_notes 12 = .ok (.aload_n 0, 1) := dk_42 (dk_at dksX1_notes_0 12 rfl rfl)
theorem dX1_notes_13 : decode cX1_notes 13 = .ok (.getfield 38, 3) := dk_180 0 38 (dk_at dksX1_notes_0 13 rfl rfl)
theorem dX1_notes_16 : decode cX1_notes 16 = .ok (.iconst 0, 1) := dk_3 (dk_at dksX1_notes_0 16 rfl rfl)
theorem dX1_notes_17 : decode cX1_notes 17 = .ok (.invokevirtual 285, 3) := dk_182 1 29 (dk_at dksX1_notes_0 17 rfl rfl)
theorem dX1_notes_20 : decode cX1_notes 20 = .ok (.checkcast 16, 3) := dk_192 0 16 (dk_at dksX1_notes_0 20 rfl rfl)
theorem dX1_notes_23 : decode cX1_notes 23 = .ok (.goto 10, 3) := dk_167 0 10 (dk_at dksX1_notes_1 0 rfl rfl)
theorem dX1_notes_26 : decode cX1_notes 26 = .ok (.new 16, 3) := dk_187 0 16 (dk_at dksX1_notes_1 3 rfl rfl)
theorem dX1_notes_29 : decode cX1_notes 29 = .ok (.dup, 1) := dk_89 (dk_at dksX1_notes_1 6 rfl rfl)
theorem dX1_notes_30 : decode cX1_notes 30 = .ok (.invokespecial 18, 3) := dk_183 0 18 (dk_at dksX1_notes_1 7 rfl rfl)
theorem dX1_notes_33 : decode cX1_notes 33 = .ok (.astore_n 1, 1) := dk_76 (dk_at dksX1_notes_1 10 rfl rfl)
theorem dX1_notes_34 : decode cX1_notes 34 = .ok (.aload_n 1, 1) := dk_43 (dk_at dksX1_notes_1 11 rfl rfl)
theorem dX1_notes_35 : decode cX1_notes 35 = .ok (.aload_n 0, 1) := dk_42 (dk_at dksX1_notes_1 12 rfl rfl)
theorem dX1_notes_36 : decode cX1_notes 36 = .ok (.getfield 19, 3) := dk_180 0 19 (dk_at dksX1_notes_1 13 rfl rfl)
theorem dX1_notes_39 : decode cX1_notes 39 = .ok (.invokevirtual 91, 3) := dk_182 0 91 (dk_at dksX1_notes_1 16 rfl rfl)
theorem dX1_notes_42 : decode cX1_notes 42 = .ok (.aload_n 0, 1) := dk_42 (dk_at dksX1_notes_1 19 rfl rfl)
theorem dX1_notes_43 : decode cX1_notes 43 = .ok (.getfield 38, 3) := dk_180 0 38 (dk_at dksX1_notes_1 20 rfl rfl)
theorem dX1_notes_46 : decode cX1_notes 46 = .ok (.aload_n 1, 1) := dk_43 (dk_at dksX1_notes_1 23 rfl rfl)
theorem dX1_notes_47 : decode cX1_notes 47 = .ok (.invokevirtual 95, 3) := dk_182 0 95 (dk_at dksX1_notes_2 0 rfl rfl)
theorem dX1_notes_50 : decode cX1_notes 50 = .ok (.pop, 1) := dk_87 (dk_at dksX1_notes_2 3 rfl rfl)
theorem dX1_notes_51 : decode cX1_notes 51 = .ok (.return_, 1) := dk_177 (dk_at dksX1_notes_2 4 rfl rfl)
abbrev cX1_step : ByteArray := prog_1_method_60_code
def yX1_step : MethodName := ⟨RX1, "step", "()I"⟩
def dkwX1_step_0 : List UInt8 := [42, 4, 182, 1, 158, 3, 182, 1, 169, 172]
abbrev dktX1_step_0 : List UInt8 := dkwX1_step_0 ++ []
theorem dksX1_step_0 : cX1_step.data.toList.drop 0 = dktX1_step_0 := by decide +kernel
theorem dX1_step_0 : decode cX1_step 0 = .ok (.aload_n 0, 1) := dk_42 (dk_at dksX1_step_0 0 rfl rfl)
theorem dX1_step_1 : decode cX1_step 1 = .ok (.iconst 1, 1) := dk_4 (dk_at dksX1_step_0 1 rfl rfl)
theorem dX1_step_2 : decode cX1_step 2 = .ok (.invokevirtual 414, 3) := dk_182 1 158 (dk_at dksX1_step_0 2 rfl rfl)
theorem dX1_step_5 : decode cX1_step 5 = .ok (.iconst 0, 1) := dk_3 (dk_at dksX1_step_0 5 rfl rfl)
theorem dX1_step_6 : decode cX1_step 6 = .ok (.invokevirtual 425, 3) := dk_182 1 169 (dk_at dksX1_step_0 6 rfl rfl)
theorem dX1_step_9 : decode cX1_step 9 = .ok (.ireturn, 1) := dk_172 (dk_at dksX1_step_0 9 rfl rfl)
abbrev cX1_bestOf : ByteArray := prog_1_method_55_code
def yX1_bestOf : MethodName := ⟨RX1, "bestOf", "(I)LNapkinDeeds$Best;"⟩
def dkwX1_bestOf_0 : List UInt8 := [187, 1, 152, 89, 42, 183, 1, 154, 77, 44, 3, 27, 182, 1, 155, 87, 44, 176]
abbrev dktX1_bestOf_0 : List UInt8 := dkwX1_bestOf_0 ++ []
theorem dksX1_bestOf_0 : cX1_bestOf.data.toList.drop 0 = dktX1_bestOf_0 := by decide +kernel
theorem dX1_bestOf_0 : decode cX1_bestOf 0 = .ok (.new 408, 3) := dk_187 1 152 (dk_at dksX1_bestOf_0 0 rfl rfl)
theorem dX1_bestOf_3 : decode cX1_bestOf 3 = .ok (.dup, 1) := dk_89 (dk_at dksX1_bestOf_0 3 rfl rfl)
theorem dX1_bestOf_4 : decode cX1_bestOf 4 = .ok (.aload_n 0, 1) := dk_42 (dk_at dksX1_bestOf_0 4 rfl rfl)
theorem dX1_bestOf_5 : decode cX1_bestOf 5 = .ok (.invokespecial 410, 3) := dk_183 1 154 (dk_at dksX1_bestOf_0 5 rfl rfl)
theorem dX1_bestOf_8 : decode cX1_bestOf 8 = .ok (.astore_n 2, 1) := dk_77 (dk_at dksX1_bestOf_0 8 rfl rfl)
theorem dX1_bestOf_9 : decode cX1_bestOf 9 = .ok (.aload_n 2, 1) := dk_44 (dk_at dksX1_bestOf_0 9 rfl rfl)
theorem dX1_bestOf_10 : decode cX1_bestOf 10 = .ok (.iconst 0, 1) := dk_3 (dk_at dksX1_bestOf_0 10 rfl rfl)
theorem dX1_bestOf_11 : decode cX1_bestOf 11 = .ok (.iload_n 1, 1) := dk_27 (dk_at dksX1_bestOf_0 11 rfl rfl)
theorem dX1_bestOf_12 : decode cX1_bestOf 12 = .ok (.invokevirtual 411, 3) := dk_182 1 155 (dk_at dksX1_bestOf_0 12 rfl rfl)
theorem dX1_bestOf_15 : decode cX1_bestOf 15 = .ok (.pop, 1) := dk_87 (dk_at dksX1_bestOf_0 15 rfl rfl)
theorem dX1_bestOf_16 : decode cX1_bestOf 16 = .ok (.aload_n 2, 1) := dk_44 (dk_at dksX1_bestOf_0 16 rfl rfl)
theorem dX1_bestOf_17 : decode cX1_bestOf 17 = .ok (.areturn, 1) := dk_176 (dk_at dksX1_bestOf_0 17 rfl rfl)
abbrev cX1_cells : ByteArray := prog_1_method_12_code
def yX1_cells : MethodName := ⟨RX1, "cells", "()I"⟩
def dkwX1_cells_0 : List UInt8 := [42, 180, 0, 19, 180, 0, 130, 182, 0, 147, 172]
abbrev dktX1_cells_0 : List UInt8 := dkwX1_cells_0 ++ []
theorem dksX1_cells_0 : cX1_cells.data.toList.drop 0 = dktX1_cells_0 := by decide +kernel
theorem dX1_cells_0 : decode cX1_cells 0 = .ok (.aload_n 0, 1) := dk_42 (dk_at dksX1_cells_0 0 rfl rfl)
theorem dX1_cells_1 : decode cX1_cells 1 = .ok (.getfield 19, 3) := dk_180 0 19 (dk_at dksX1_cells_0 1 rfl rfl)
theorem dX1_cells_4 : decode cX1_cells 4 = .ok (.getfield 130, 3) := dk_180 0 130 (dk_at dksX1_cells_0 4 rfl rfl)
theorem dX1_cells_7 : decode cX1_cells 7 = .ok (.invokevirtual 147, 3) := dk_182 0 147 (dk_at dksX1_cells_0 7 rfl rfl)
theorem dX1_cells_10 : decode cX1_cells 10 = .ok (.ireturn, 1) := dk_172 (dk_at dksX1_cells_0 10 rfl rfl)
abbrev cX1_reads : ByteArray := prog_1_method_58_code
def yX1_reads : MethodName := ⟨RX1, "reads", "(LNapkinDeeds$Look;LNapkinDeeds$Tray;)Z"⟩
def dkwX1_reads_2 : List UInt8 := [182, 0, 205, 182, 0, 208, 133, 148, 153, 0, 5, 3, 172, 132, 3, 1, 167, 255, 209, 4, 172]
abbrev dktX1_reads_2 : List UInt8 := dkwX1_reads_2 ++ []
def dkwX1_reads_1 : List UInt8 := [29, 182, 1, 85, 20, 1, 62, 148, 153, 0, 27, 44, 29, 182, 1, 85, 42, 180, 0, 19, 43, 29]
abbrev dktX1_reads_1 : List UInt8 := dkwX1_reads_1 ++ dktX1_reads_2
def dkwX1_reads_0 : List UInt8 := [43, 180, 0, 165, 44, 182, 1, 84, 159, 0, 5, 3, 172, 3, 62, 29, 43, 180, 0, 165, 162, 0, 45, 44]
abbrev dktX1_reads_0 : List UInt8 := dkwX1_reads_0 ++ dktX1_reads_1
theorem dksX1_reads_0 : cX1_reads.data.toList.drop 0 = dktX1_reads_0 := by decide +kernel
theorem dksX1_reads_1 : cX1_reads.data.toList.drop 24 = dktX1_reads_1 := dk_seg dksX1_reads_0 24 rfl rfl
theorem dksX1_reads_2 : cX1_reads.data.toList.drop 46 = dktX1_reads_2 := dk_seg dksX1_reads_1 22 rfl rfl
theorem dX1_reads_0 : decode cX1_reads 0 = .ok (.aload_n 1, 1) := dk_43 (dk_at dksX1_reads_0 0 rfl rfl)
theorem dX1_reads_1 : decode cX1_reads 1 = .ok (.getfield 165, 3) := dk_180 0 165 (dk_at dksX1_reads_0 1 rfl rfl)
theorem dX1_reads_4 : decode cX1_reads 4 = .ok (.aload_n 2, 1) := dk_44 (dk_at dksX1_reads_0 4 rfl rfl)
theorem dX1_reads_5 : decode cX1_reads 5 = .ok (.invokevirtual 340, 3) := dk_182 1 84 (dk_at dksX1_reads_0 5 rfl rfl)
theorem dX1_reads_8 : decode cX1_reads 8 = .ok (.if_icmp .eq 5, 3) := dk_159 0 5 (dk_at dksX1_reads_0 8 rfl rfl)
theorem dX1_reads_11 : decode cX1_reads 11 = .ok (.iconst 0, 1) := dk_3 (dk_at dksX1_reads_0 11 rfl rfl)
theorem dX1_reads_12 : decode cX1_reads 12 = .ok (.ireturn, 1) := dk_172 (dk_at dksX1_reads_0 12 rfl rfl)
theorem dX1_reads_13 : decode cX1_reads 13 = .ok (.iconst 0, 1) := dk_3 (dk_at dksX1_reads_0 13 rfl rfl)
theorem dX1_reads_14 : decode cX1_reads 14 = .ok (.istore_n 3, 1) := dk_62 (dk_at dksX1_reads_0 14 rfl rfl)
theorem dX1_reads_15 : decode cX1_reads 15 = .ok (.iload_n 3, 1) := dk_29 (dk_at dksX1_reads_0 15 rfl rfl)
theorem dX1_reads_16 : decode cX1_reads 16 = .ok (.aload_n 1, 1) := dk_43 (dk_at dksX1_reads_0 16 rfl rfl)
theorem dX1_reads_17 : decode cX1_reads 17 = .ok (.getfield 165, 3) := dk_180 0 165 (dk_at dksX1_reads_0 17 rfl rfl)
theorem dX1_reads_20 : decode cX1_reads 20 = .ok (.if_icmp .ge 45, 3) := dk_162 0 45 (dk_at dksX1_reads_0 20 rfl rfl)
theorem dX1_reads_23 : decode cX1_reads 23 = .ok (.aload_n 2, 1) := dk_44 (dk_at dksX1_reads_0 23 rfl rfl)
theorem dX1_reads_24 : decode cX1_reads 24 = .ok (.iload_n 3, 1) := dk_29 (dk_at dksX1_reads_1 0 rfl rfl)
theorem dX1_reads_25 : decode cX1_reads 25 = .ok (.invokevirtual 341, 3) := dk_182 1 85 (dk_at dksX1_reads_1 1 rfl rfl)
theorem dX1_reads_28 : decode cX1_reads 28 = .ok (.ldc2_w 318, 3) := dk_20 1 62 (dk_at dksX1_reads_1 4 rfl rfl)
theorem dX1_reads_31 : decode cX1_reads 31 = .ok (.lcmp, 1) := dk_148 (dk_at dksX1_reads_1 7 rfl rfl)
theorem dX1_reads_32 : decode cX1_reads 32 = .ok (.ifCond .eq 27, 3) := dk_153 0 27 (dk_at dksX1_reads_1 8 rfl rfl)
theorem dX1_reads_35 : decode cX1_reads 35 = .ok (.aload_n 2, 1) := dk_44 (dk_at dksX1_reads_1 11 rfl rfl)
theorem dX1_reads_36 : decode cX1_reads 36 = .ok (.iload_n 3, 1) := dk_29 (dk_at dksX1_reads_1 12 rfl rfl)
theorem dX1_reads_37 : decode cX1_reads 37 = .ok (.invokevirtual 341, 3) := dk_182 1 85 (dk_at dksX1_reads_1 13 rfl rfl)
theorem dX1_reads_40 : decode cX1_reads 40 = .ok (.aload_n 0, 1) := dk_42 (dk_at dksX1_reads_1 16 rfl rfl)
theorem dX1_reads_41 : decode cX1_reads 41 = .ok (.getfield 19, 3) := dk_180 0 19 (dk_at dksX1_reads_1 17 rfl rfl)
theorem dX1_reads_44 : decode cX1_reads 44 = .ok (.aload_n 1, 1) := dk_43 (dk_at dksX1_reads_1 20 rfl rfl)
theorem dX1_reads_45 : decode cX1_reads 45 = .ok (.iload_n 3, 1) := dk_29 (dk_at dksX1_reads_1 21 rfl rfl)
theorem dX1_reads_46 : decode cX1_reads 46 = .ok (.invokevirtual 205, 3) := dk_182 0 205 (dk_at dksX1_reads_2 0 rfl rfl)
theorem dX1_reads_49 : decode cX1_reads 49 = .ok (.invokevirtual 208, 3) := dk_182 0 208 (dk_at dksX1_reads_2 3 rfl rfl)
theorem dX1_reads_52 : decode cX1_reads 52 = .ok (.i2l, 1) := dk_133 (dk_at dksX1_reads_2 6 rfl rfl)
theorem dX1_reads_53 : decode cX1_reads 53 = .ok (.lcmp, 1) := dk_148 (dk_at dksX1_reads_2 7 rfl rfl)
theorem dX1_reads_54 : decode cX1_reads 54 = .ok (.ifCond .eq 5, 3) := dk_153 0 5 (dk_at dksX1_reads_2 8 rfl rfl)
theorem dX1_reads_57 : decode cX1_reads 57 = .ok (.iconst 0, 1) := dk_3 (dk_at dksX1_reads_2 11 rfl rfl)
theorem dX1_reads_58 : decode cX1_reads 58 = .ok (.ireturn, 1) := dk_172 (dk_at dksX1_reads_2 12 rfl rfl)
theorem dX1_reads_59 : decode cX1_reads 59 = .ok (.iinc 3 1, 3) := dk_132 3 1 (dk_at dksX1_reads_2 13 rfl rfl)
theorem dX1_reads_62 : decode cX1_reads 62 = .ok (.goto (-47), 3) := dk_167 255 209 (dk_at dksX1_reads_2 16 rfl rfl)
theorem dX1_reads_65 : decode cX1_reads 65 = .ok (.iconst 1, 1) := dk_4 (dk_at dksX1_reads_2 19 rfl rfl)
theorem dX1_reads_66 : decode cX1_reads 66 = .ok (.ireturn, 1) := dk_172 (dk_at dksX1_reads_2 20 rfl rfl)
abbrev cX1_leastLikes : ByteArray := prog_1_method_73_code
def yX1_leastLikes : MethodName := ⟨RX1, "leastLikes", "(LNapkinDeeds$Look;I)I"⟩
def dkwX1_leastLikes_1 : List UInt8 := [162, 0, 22, 29, 42, 21, 4, 43, 28, 182, 1, 26, 184, 1, 186, 62, 132, 4, 1, 167, 255, 231, 29, 172]
abbrev dktX1_leastLikes_1 : List UInt8 := dkwX1_leastLikes_1 ++ []
def dkwX1_leastLikes_0 : List UInt8 := [42, 182, 1, 24, 154, 0, 7, 3, 167, 0, 6, 19, 1, 232, 62, 3, 54, 4, 21, 4, 42, 182, 1, 24]
abbrev dktX1_leastLikes_0 : List UInt8 := dkwX1_leastLikes_0 ++ dktX1_leastLikes_1
theorem dksX1_leastLikes_0 : cX1_leastLikes.data.toList.drop 0 = dktX1_leastLikes_0 := by decide +kernel
theorem dksX1_leastLikes_1 : cX1_leastLikes.data.toList.drop 24 = dktX1_leastLikes_1 := dk_seg dksX1_leastLikes_0 24 rfl rfl
theorem dX1_leastLikes_0 : decode cX1_leastLikes 0 = .ok (.aload_n 0, 1) := dk_42 (dk_at dksX1_leastLikes_0 0 rfl rfl)
theorem dX1_leastLikes_1 : decode cX1_leastLikes 1 = .ok (.invokevirtual 280, 3) := dk_182 1 24 (dk_at dksX1_leastLikes_0 1 rfl rfl)
theorem dX1_leastLikes_4 : decode cX1_leastLikes 4 = .ok (.ifCond .ne 7, 3) := dk_154 0 7 (dk_at dksX1_leastLikes_0 4 rfl rfl)
theorem dX1_leastLikes_7 : decode cX1_leastLikes 7 = .ok (.iconst 0, 1) := dk_3 (dk_at dksX1_leastLikes_0 7 rfl rfl)
theorem dX1_leastLikes_8 : decode cX1_leastLikes 8 = .ok (.goto 6, 3) := dk_167 0 6 (dk_at dksX1_leastLikes_0 8 rfl rfl)
theorem dX1_leastLikes_11 : decode cX1_leastLikes 11 = .ok (.ldc_w 488, 3) := dk_19 1 232 (dk_at dksX1_leastLikes_0 11 rfl rfl)
theorem dX1_leastLikes_14 : decode cX1_leastLikes 14 = .ok (.istore_n 3, 1) := dk_62 (dk_at dksX1_leastLikes_0 14 rfl rfl)
theorem dX1_leastLikes_15 : decode cX1_leastLikes 15 = .ok (.iconst 0, 1) := dk_3 (dk_at dksX1_leastLikes_0 15 rfl rfl)
theorem dX1_leastLikes_16 : decode cX1_leastLikes 16 = .ok (.istore 4, 2) := dk_54 4 (dk_at dksX1_leastLikes_0 16 rfl rfl)
theorem dX1_leastLikes_18 : decode cX1_leastLikes 18 = .ok (.iload 4, 2) := dk_21 4 (dk_at dksX1_leastLikes_0 18 rfl rfl)
theorem dX1_leastLikes_20 : decode cX1_leastLikes 20 = .ok (.aload_n 0, 1) := dk_42 (dk_at dksX1_leastLikes_0 20 rfl rfl)
theorem dX1_leastLikes_21 : decode cX1_leastLikes 21 = .ok (.invokevirtual 280, 3) := dk_182 1 24 (dk_at dksX1_leastLikes_0 21 rfl rfl)
theorem dX1_leastLikes_24 : decode cX1_leastLikes 24 = .ok (.if_icmp .ge 22, 3) := dk_162 0 22 (dk_at dksX1_leastLikes_1 0 rfl rfl)
theorem dX1_leastLikes_27 : decode cX1_leastLikes 27 = .ok (.iload_n 3, 1) := dk_29 (dk_at dksX1_leastLikes_1 3 rfl rfl)
theorem dX1_leastLikes_28 : decode cX1_leastLikes 28 = .ok (.aload_n 0, 1) := dk_42 (dk_at dksX1_leastLikes_1 4 rfl rfl)
theorem dX1_leastLikes_29 : decode cX1_leastLikes 29 = .ok (.iload 4, 2) := dk_21 4 (dk_at dksX1_leastLikes_1 5 rfl rfl)
theorem dX1_leastLikes_31 : decode cX1_leastLikes 31 = .ok (.aload_n 1, 1) := dk_43 (dk_at dksX1_leastLikes_1 7 rfl rfl)
theorem dX1_leastLikes_32 : decode cX1_leastLikes 32 = .ok (.iload_n 2, 1) := dk_28 (dk_at dksX1_leastLikes_1 8 rfl rfl)
theorem dX1_leastLikes_33 : decode cX1_leastLikes 33 = .ok (.invokevirtual 282, 3) := dk_182 1 26 (dk_at dksX1_leastLikes_1 9 rfl rfl)
theorem dX1_leastLikes_36 : decode cX1_leastLikes 36 = .ok (.invokestatic 442, 3) := dk_184 1 186 (dk_at dksX1_leastLikes_1 12 rfl rfl)
theorem dX1_leastLikes_39 : decode cX1_leastLikes 39 = .ok (.istore_n 3, 1) := dk_62 (dk_at dksX1_leastLikes_1 15 rfl rfl)
theorem dX1_leastLikes_40 : decode cX1_leastLikes 40 = .ok (.iinc 4 1, 3) := dk_132 4 1 (dk_at dksX1_leastLikes_1 16 rfl rfl)
theorem dX1_leastLikes_43 : decode cX1_leastLikes 43 = .ok (.goto (-25), 3) := dk_167 255 231 (dk_at dksX1_leastLikes_1 19 rfl rfl)
theorem dX1_leastLikes_46 : decode cX1_leastLikes 46 = .ok (.iload_n 3, 1) := dk_29 (dk_at dksX1_leastLikes_1 22 rfl rfl)
theorem dX1_leastLikes_47 : decode cX1_leastLikes 47 = .ok (.ireturn, 1) := dk_172 (dk_at dksX1_leastLikes_1 23 rfl rfl)
abbrev cX1_guests : ByteArray := prog_1_method_13_code
def yX1_guests : MethodName := ⟨RX1, "guests", "()I"⟩
def dkwX1_guests_0 : List UInt8 := [42, 180, 0, 19, 180, 0, 130, 180, 0, 151, 182, 0, 154, 172]
abbrev dktX1_guests_0 : List UInt8 := dkwX1_guests_0 ++ []
theorem dksX1_guests_0 : cX1_guests.data.toList.drop 0 = dktX1_guests_0 := by decide +kernel
theorem dX1_guests_0 : decode cX1_guests 0 = .ok (.aload_n 0, 1) := dk_42 (dk_at dksX1_guests_0 0 rfl rfl)
theorem dX1_guests_1 : decode cX1_guests 1 = .ok (.getfield 19, 3) := dk_180 0 19 (dk_at dksX1_guests_0 1 rfl rfl)
theorem dX1_guests_4 : decode cX1_guests 4 = .ok (.getfield 130, 3) := dk_180 0 130 (dk_at dksX1_guests_0 4 rfl rfl)
theorem dX1_guests_7 : decode cX1_guests 7 = .ok (.getfield 151, 3) := dk_180 0 151 (dk_at dksX1_guests_0 7 rfl rfl)
theorem dX1_guests_10 : decode cX1_guests 10 = .ok (.invokevirtual 154, 3) := dk_182 0 154 (dk_at dksX1_guests_0 10 rfl rfl)
theorem dX1_guests_13 : decode cX1_guests 13 = .ok (.ireturn, 1) := dk_172 (dk_at dksX1_guests_0 13 rfl rfl)
abbrev cX1_likes : ByteArray := prog_1_method_28_code
def yX1_likes : MethodName := ⟨RX1, "likes", "(ILNapkinDeeds$Look;I)I"⟩
def dkwX1_likes_3 : List UInt8 := [180, 1, 6, 42, 180, 0, 59, 185, 0, 247, 2, 0, 172]
abbrev dktX1_likes_3 : List UInt8 := dkwX1_likes_3 ++ []
def dkwX1_likes_2 : List UInt8 := [180, 0, 130, 180, 0, 151, 27, 182, 1, 9, 192, 1, 13, 182, 1, 15, 79, 42, 180, 0, 19, 180, 0, 130]
abbrev dktX1_likes_2 : List UInt8 := dkwX1_likes_2 ++ dktX1_likes_3
def dkwX1_likes_1 : List UInt8 := [180, 0, 59, 180, 0, 224, 16, 6, 27, 79, 42, 180, 0, 59, 180, 0, 224, 16, 7, 42, 180, 0, 19]
abbrev dktX1_likes_1 : List UInt8 := dkwX1_likes_1 ++ dktX1_likes_2
def dkwX1_likes_0 : List UInt8 := [42, 180, 0, 19, 180, 0, 130, 180, 1, 6, 199, 0, 5, 3, 172, 42, 44, 29, 182, 0, 243, 87, 42]
abbrev dktX1_likes_0 : List UInt8 := dkwX1_likes_0 ++ dktX1_likes_1
theorem dksX1_likes_0 : cX1_likes.data.toList.drop 0 = dktX1_likes_0 := by decide +kernel
theorem dksX1_likes_1 : cX1_likes.data.toList.drop 23 = dktX1_likes_1 := dk_seg dksX1_likes_0 23 rfl rfl
theorem dksX1_likes_2 : cX1_likes.data.toList.drop 46 = dktX1_likes_2 := dk_seg dksX1_likes_1 23 rfl rfl
theorem dksX1_likes_3 : cX1_likes.data.toList.drop 70 = dktX1_likes_3 := dk_seg dksX1_likes_2 24 rfl rfl
theorem dX1_likes_0 : decode cX1_likes 0 = .ok (.aload_n 0, 1) := dk_42 (dk_at dksX1_likes_0 0 rfl rfl)
theorem dX1_likes_1 : decode cX1_likes 1 = .ok (.getfield 19, 3) := dk_180 0 19 (dk_at dksX1_likes_0 1 rfl rfl)
theorem dX1_likes_4 : decode cX1_likes 4 = .ok (.getfield 130, 3) := dk_180 0 130 (dk_at dksX1_likes_0 4 rfl rfl)
theorem dX1_likes_7 : decode cX1_likes 7 = .ok (.getfield 262, 3) := dk_180 1 6 (dk_at dksX1_likes_0 7 rfl rfl)
theorem dX1_likes_10 : decode cX1_likes 10 = .ok (.ifnonnull 5, 3) := dk_199 0 5 (dk_at dksX1_likes_0 10 rfl rfl)
theorem dX1_likes_13 : decode cX1_likes 13 = .ok (.iconst 0, 1) := dk_3 (dk_at dksX1_likes_0 13 rfl rfl)
theorem dX1_likes_14 : decode cX1_likes 14 = .ok (.ireturn, 1) := dk_172 (dk_at dksX1_likes_0 14 rfl rfl)
theorem dX1_likes_15 : decode cX1_likes 15 = .ok (.aload_n 0, 1) := dk_42 (dk_at dksX1_likes_0 15 rfl rfl)
theorem dX1_likes_16 : decode cX1_likes 16 = .ok (.aload_n 2, 1) := dk_44 (dk_at dksX1_likes_0 16 rfl rfl)
theorem dX1_likes_17 : decode cX1_likes 17 = .ok (.iload_n 3, 1) := dk_29 (dk_at dksX1_likes_0 17 rfl rfl)
theorem dX1_likes_18 : decode cX1_likes 18 = .ok (.invokevirtual 243, 3) := dk_182 0 243 (dk_at dksX1_likes_0 18 rfl rfl)
theorem dX1_likes_21 : decode cX1_likes 21 = .ok (.pop, 1) := dk_87 (dk_at dksX1_likes_0 21 rfl rfl)
theorem dX1_likes_22 : decode cX1_likes 22 = .ok (.aload_n 0, 1) := dk_42 (dk_at dksX1_likes_0 22 rfl rfl)
theorem dX1_likes_23 : decode cX1_likes 23 = .ok (.getfield 59, 3) := dk_180 0 59 (dk_at dksX1_likes_1 0 rfl rfl)
theorem dX1_likes_26 : decode cX1_likes 26 = .ok (.getfield 224, 3) := dk_180 0 224 (dk_at dksX1_likes_1 3 rfl rfl)
theorem dX1_likes_29 : decode cX1_likes 29 = .ok (.bipush 6, 2) := dk_16 6 (dk_at dksX1_likes_1 6 rfl rfl)
theorem dX1_likes_31 : decode cX1_likes 31 = .ok (.iload_n 1, 1) := dk_27 (dk_at dksX1_likes_1 8 rfl rfl)
theorem dX1_likes_32 : decode cX1_likes 32 = .ok (.iastore, 1) := dk_79 (dk_at dksX1_likes_1 9 rfl rfl)
theorem dX1_likes_33 : decode cX1_likes 33 = .ok (.aload_n 0, 1) := dk_42 (dk_at dksX1_likes_1 10 rfl rfl)
theorem dX1_likes_34 : decode cX1_likes 34 = .ok (.getfield 59, 3) := dk_180 0 59 (dk_at dksX1_likes_1 11 rfl rfl)
theorem dX1_likes_37 : decode cX1_likes 37 = .ok (.getfield 224, 3) := dk_180 0 224 (dk_at dksX1_likes_1 14 rfl rfl)
theorem dX1_likes_40 : decode cX1_likes 40 = .ok (.bipush 7, 2) := dk_16 7 (dk_at dksX1_likes_1 17 rfl rfl)
theorem dX1_likes_42 : decode cX1_likes 42 = .ok (.aload_n 0, 1) := dk_42 (dk_at dksX1_likes_1 19 rfl rfl)
theorem dX1_likes_43 : decode cX1_likes 43 = .ok (.getfield 19, 3) := dk_180 0 19 (dk_at dksX1_likes_1 20 rfl rfl)
theorem dX1_likes_46 : decode cX1_likes 46 = .ok (.getfield 130, 3) := dk_180 0 130 (dk_at dksX1_likes_2 0 rfl rfl)
theorem dX1_likes_49 : decode cX1_likes 49 = .ok (.getfield 151, 3) := dk_180 0 151 (dk_at dksX1_likes_2 3 rfl rfl)
theorem dX1_likes_52 : decode cX1_likes 52 = .ok (.iload_n 1, 1) := dk_27 (dk_at dksX1_likes_2 6 rfl rfl)
theorem dX1_likes_53 : decode cX1_likes 53 = .ok (.invokevirtual 265, 3) := dk_182 1 9 (dk_at dksX1_likes_2 7 rfl rfl)
theorem dX1_likes_56 : decode cX1_likes 56 = .ok (.checkcast 269, 3) := dk_192 1 13 (dk_at dksX1_likes_2 10 rfl rfl)
theorem dX1_likes_59 : decode cX1_likes 59 = .ok (.invokevirtual 271, 3) := dk_182 1 15 (dk_at dksX1_likes_2 13 rfl rfl)
theorem dX1_likes_62 : decode cX1_likes 62 = .ok (.iastore, 1) := dk_79 (dk_at dksX1_likes_2 16 rfl rfl)
theorem dX1_likes_63 : decode cX1_likes 63 = .ok (.aload_n 0, 1) := dk_42 (dk_at dksX1_likes_2 17 rfl rfl)
theorem dX1_likes_64 : decode cX1_likes 64 = .ok (.getfield 19, 3) := dk_180 0 19 (dk_at dksX1_likes_2 18 rfl rfl)
theorem dX1_likes_67 : decode cX1_likes 67 = .ok (.getfield 130, 3) := dk_180 0 130 (dk_at dksX1_likes_2 21 rfl rfl)
theorem dX1_likes_70 : decode cX1_likes 70 = .ok (.getfield 262, 3) := dk_180 1 6 (dk_at dksX1_likes_3 0 rfl rfl)
theorem dX1_likes_73 : decode cX1_likes 73 = .ok (.aload_n 0, 1) := dk_42 (dk_at dksX1_likes_3 3 rfl rfl)
theorem dX1_likes_74 : decode cX1_likes 74 = .ok (.getfield 59, 3) := dk_180 0 59 (dk_at dksX1_likes_3 4 rfl rfl)
theorem dX1_likes_77 : decode cX1_likes 77 = .ok (.invokeinterface 247 2, 5) := by decide +kernel
theorem dX1_likes_82 : decode cX1_likes 82 = .ok (.ireturn, 1) := dk_172 (dk_at dksX1_likes_3 12 rfl rfl)
abbrev cX1_stacks : ByteArray := prog_1_method_65_code
def yX1_stacks : MethodName := ⟨RX1, "stacks", "()I"⟩
def dkwX1_stacks_0 : List UInt8 := [42, 42, 182, 0, 214, 188, 10, 3, 3, 182, 1, 202, 172]
abbrev dktX1_stacks_0 : List UInt8 := dkwX1_stacks_0 ++ []
theorem dksX1_stacks_0 : cX1_stacks.data.toList.drop 0 = dktX1_stacks_0 := by decide +kernel
theorem dX1_stacks_0 : decode cX1_stacks 0 = .ok (.aload_n 0, 1) := dk_42 (dk_at dksX1_stacks_0 0 rfl rfl)
theorem dX1_stacks_1 : decode cX1_stacks 1 = .ok (.aload_n 0, 1) := dk_42 (dk_at dksX1_stacks_0 1 rfl rfl)
theorem dX1_stacks_2 : decode cX1_stacks 2 = .ok (.invokevirtual 214, 3) := dk_182 0 214 (dk_at dksX1_stacks_0 2 rfl rfl)
theorem dX1_stacks_5 : decode cX1_stacks 5 = .ok (.newarray .int, 2) := dk_188_10 (dk_at dksX1_stacks_0 5 rfl rfl)
theorem dX1_stacks_7 : decode cX1_stacks 7 = .ok (.iconst 0, 1) := dk_3 (dk_at dksX1_stacks_0 7 rfl rfl)
theorem dX1_stacks_8 : decode cX1_stacks 8 = .ok (.iconst 0, 1) := dk_3 (dk_at dksX1_stacks_0 8 rfl rfl)
theorem dX1_stacks_9 : decode cX1_stacks 9 = .ok (.invokevirtual 458, 3) := dk_182 1 202 (dk_at dksX1_stacks_0 9 rfl rfl)
theorem dX1_stacks_12 : decode cX1_stacks 12 = .ok (.ireturn, 1) := dk_172 (dk_at dksX1_stacks_0 12 rfl rfl)
abbrev cX1_stacksFrom : ByteArray := prog_1_method_64_code
def yX1_stacksFrom : MethodName := ⟨RX1, "stacksFrom", "([III)I"⟩
def dkwX1_stacksFrom_3 : List UInt8 := [132, 5, 1, 167, 255, 210, 21, 4, 172]
abbrev dktX1_stacksFrom_3 : List UInt8 := dkwX1_stacksFrom_3 ++ []
def dkwX1_stacksFrom_2 : List UInt8 := [21, 5, 79, 21, 4, 42, 43, 28, 4, 96, 29, 4, 21, 5, 120, 128, 182, 1, 202, 96, 54, 4]
abbrev dktX1_stacksFrom_2 : List UInt8 := dkwX1_stacksFrom_2 ++ dktX1_stacksFrom_3
def dkwX1_stacksFrom_1 : List UInt8 := [54, 5, 21, 5, 43, 190, 162, 0, 45, 29, 21, 5, 184, 1, 182, 153, 0, 6, 167, 0, 27, 43, 28]
abbrev dktX1_stacksFrom_1 : List UInt8 := dkwX1_stacksFrom_1 ++ dktX1_stacksFrom_2
def dkwX1_stacksFrom_0 : List UInt8 := [28, 43, 190, 160, 0, 16, 43, 184, 1, 198, 153, 0, 7, 4, 167, 0, 4, 3, 172, 3, 54, 4, 3]
abbrev dktX1_stacksFrom_0 : List UInt8 := dkwX1_stacksFrom_0 ++ dktX1_stacksFrom_1
theorem dksX1_stacksFrom_0 : cX1_stacksFrom.data.toList.drop 0 = dktX1_stacksFrom_0 := by decide +kernel
theorem dksX1_stacksFrom_1 : cX1_stacksFrom.data.toList.drop 23 = dktX1_stacksFrom_1 := dk_seg dksX1_stacksFrom_0 23 rfl rfl
theorem dksX1_stacksFrom_2 : cX1_stacksFrom.data.toList.drop 46 = dktX1_stacksFrom_2 := dk_seg dksX1_stacksFrom_1 23 rfl rfl
theorem dksX1_stacksFrom_3 : cX1_stacksFrom.data.toList.drop 68 = dktX1_stacksFrom_3 := dk_seg dksX1_stacksFrom_2 22 rfl rfl
theorem dX1_stacksFrom_0 : decode cX1_stacksFrom 0 = .ok (.iload_n 2, 1) := dk_28 (dk_at dksX1_stacksFrom_0 0 rfl rfl)
theorem dX1_stacksFrom_1 : decode cX1_stacksFrom 1 = .ok (.aload_n 1, 1) := dk_43 (dk_at dksX1_stacksFrom_0 1 rfl rfl)
theorem dX1_stacksFrom_2 : decode cX1_stacksFrom 2 = .ok (.arraylength, 1) := dk_190 (dk_at dksX1_stacksFrom_0 2 rfl rfl)
theorem dX1_stacksFrom_3 : decode cX1_stacksFrom 3 = .ok (.if_icmp .ne 16, 3) := dk_160 0 16 (dk_at dksX1_stacksFrom_0 3 rfl rfl)
theorem dX1_stacksFrom_6 : decode cX1_stacksFrom 6 = .ok (.aload_n 1, 1) := dk_43 (dk_at dksX1_stacksFrom_0 6 rfl rfl)
theorem dX1_stacksFrom_7 : decode cX1_stacksFrom 7 = .ok (.invokestatic 454, 3) := dk_184 1 198 (dk_at dksX1_stacksFrom_0 7 rfl rfl)
theorem dX1_stacksFrom_10 : decode cX1_stacksFrom 10 = .ok (.ifCond .eq 7, 3) := dk_153 0 7 (dk_at dksX1_stacksFrom_0 10 rfl rfl)
theorem dX1_stacksFrom_13 : decode cX1_stacksFrom 13 = .ok (.iconst 1, 1) := dk_4 (dk_at dksX1_stacksFrom_0 13 rfl rfl)
theorem dX1_stacksFrom_14 : decode cX1_stacksFrom 14 = .ok (.goto 4, 3) := dk_167 0 4 (dk_at dksX1_stacksFrom_0 14 rfl rfl)
theorem dX1_stacksFrom_17 : decode cX1_stacksFrom 17 = .ok (.iconst 0, 1) := dk_3 (dk_at dksX1_stacksFrom_0 17 rfl rfl)
theorem dX1_stacksFrom_18 : decode cX1_stacksFrom 18 = .ok (.ireturn, 1) := dk_172 (dk_at dksX1_stacksFrom_0 18 rfl rfl)
theorem dX1_stacksFrom_19 : decode cX1_stacksFrom 19 = .ok (.iconst 0, 1) := dk_3 (dk_at dksX1_stacksFrom_0 19 rfl rfl)
theorem dX1_stacksFrom_20 : decode cX1_stacksFrom 20 = .ok (.istore 4, 2) := dk_54 4 (dk_at dksX1_stacksFrom_0 20 rfl rfl)
theorem dX1_stacksFrom_22 : decode cX1_stacksFrom 22 = .ok (.iconst 0, 1) := dk_3 (dk_at dksX1_stacksFrom_0 22 rfl rfl)
theorem dX1_stacksFrom_23 : decode cX1_stacksFrom 23 = .ok (.istore 5, 2) := dk_54 5 (dk_at dksX1_stacksFrom_1 0 rfl rfl)
theorem dX1_stacksFrom_25 : decode cX1_stacksFrom 25 = .ok (.iload 5, 2) := dk_21 5 (dk_at dksX1_stacksFrom_1 2 rfl rfl)
theorem dX1_stacksFrom_27 : decode cX1_stacksFrom 27 = .ok (.aload_n 1, 1) := dk_43 (dk_at dksX1_stacksFrom_1 4 rfl rfl)
theorem dX1_stacksFrom_28 : decode cX1_stacksFrom 28 = .ok (.arraylength, 1) := dk_190 (dk_at dksX1_stacksFrom_1 5 rfl rfl)
theorem dX1_stacksFrom_29 : decode cX1_stacksFrom 29 = .ok (.if_icmp .ge 45, 3) := dk_162 0 45 (dk_at dksX1_stacksFrom_1 6 rfl rfl)
theorem dX1_stacksFrom_32 : decode cX1_stacksFrom 32 = .ok (.iload_n 3, 1) := dk_29 (dk_at dksX1_stacksFrom_1 9 rfl rfl)
theorem dX1_stacksFrom_33 : decode cX1_stacksFrom 33 = .ok (.iload 5, 2) := dk_21 5 (dk_at dksX1_stacksFrom_1 10 rfl rfl)
theorem dX1_stacksFrom_35 : decode cX1_stacksFrom 35 = .ok (.invokestatic 438, 3) := dk_184 1 182 (dk_at dksX1_stacksFrom_1 12 rfl rfl)
theorem dX1_stacksFrom_38 : decode cX1_stacksFrom 38 = .ok (.ifCond .eq 6, 3) := dk_153 0 6 (dk_at dksX1_stacksFrom_1 15 rfl rfl)
theorem dX1_stacksFrom_41 : decode cX1_stacksFrom 41 = .ok (.goto 27, 3) := dk_167 0 27 (dk_at dksX1_stacksFrom_1 18 rfl rfl)
theorem dX1_stacksFrom_44 : decode cX1_stacksFrom 44 = .ok (.aload_n 1, 1) := dk_43 (dk_at dksX1_stacksFrom_1 21 rfl rfl)
theorem dX1_stacksFrom_45 : decode cX1_stacksFrom 45 = .ok (.iload_n 2, 1) := dk_28 (dk_at dksX1_stacksFrom_1 22 rfl rfl)
theorem dX1_stacksFrom_46 : decode cX1_stacksFrom 46 = .ok (.iload 5, 2) := dk_21 5 (dk_at dksX1_stacksFrom_2 0 rfl rfl)
theorem dX1_stacksFrom_48 : decode cX1_stacksFrom 48 = .ok (.iastore, 1) := dk_79 (dk_at dksX1_stacksFrom_2 2 rfl rfl)
theorem dX1_stacksFrom_49 : decode cX1_stacksFrom 49 = .ok (.iload 4, 2) := dk_21 4 (dk_at dksX1_stacksFrom_2 3 rfl rfl)
theorem dX1_stacksFrom_51 : decode cX1_stacksFrom 51 = .ok (.aload_n 0, 1) := dk_42 (dk_at dksX1_stacksFrom_2 5 rfl rfl)
theorem dX1_stacksFrom_52 : decode cX1_stacksFrom 52 = .ok (.aload_n 1, 1) := dk_43 (dk_at dksX1_stacksFrom_2 6 rfl rfl)
theorem dX1_stacksFrom_53 : decode cX1_stacksFrom 53 = .ok (.iload_n 2, 1) := dk_28 (dk_at dksX1_stacksFrom_2 7 rfl rfl)
theorem dX1_stacksFrom_54 : decode cX1_stacksFrom 54 = .ok (.iconst 1, 1) := dk_4 (dk_at dksX1_stacksFrom_2 8 rfl rfl)
theorem dX1_stacksFrom_55 : decode cX1_stacksFrom 55 = .ok (.iadd, 1) := dk_96 (dk_at dksX1_stacksFrom_2 9 rfl rfl)
theorem dX1_stacksFrom_56 : decode cX1_stacksFrom 56 = .ok (.iload_n 3, 1) := dk_29 (dk_at dksX1_stacksFrom_2 10 rfl rfl)
theorem dX1_stacksFrom_57 : decode cX1_stacksFrom 57 = .ok (.iconst 1, 1) := dk_4 (dk_at dksX1_stacksFrom_2 11 rfl rfl)
theorem dX1_stacksFrom_58 : decode cX1_stacksFrom 58 = .ok (.iload 5, 2) := dk_21 5 (dk_at dksX1_stacksFrom_2 12 rfl rfl)
theorem dX1_stacksFrom_60 : decode cX1_stacksFrom 60 = .ok (.ishl, 1) := dk_120 (dk_at dksX1_stacksFrom_2 14 rfl rfl)
theorem dX1_stacksFrom_61 : decode cX1_stacksFrom 61 = .ok (.ior, 1) := dk_128 (dk_at dksX1_stacksFrom_2 15 rfl rfl)
theorem dX1_stacksFrom_62 : decode cX1_stacksFrom 62 = .ok (.invokevirtual 458, 3) := dk_182 1 202 (dk_at dksX1_stacksFrom_2 16 rfl rfl)
theorem dX1_stacksFrom_65 : decode cX1_stacksFrom 65 = .ok (.iadd, 1) := dk_96 (dk_at dksX1_stacksFrom_2 19 rfl rfl)
theorem dX1_stacksFrom_66 : decode cX1_stacksFrom 66 = .ok (.istore 4, 2) := dk_54 4 (dk_at dksX1_stacksFrom_2 20 rfl rfl)
theorem dX1_stacksFrom_68 : decode cX1_stacksFrom 68 = .ok (.iinc 5 1, 3) := dk_132 5 1 (dk_at dksX1_stacksFrom_3 0 rfl rfl)
theorem dX1_stacksFrom_71 : decode cX1_stacksFrom 71 = .ok (.goto (-46), 3) := dk_167 255 210 (dk_at dksX1_stacksFrom_3 3 rfl rfl)
theorem dX1_stacksFrom_74 : decode cX1_stacksFrom 74 = .ok (.iload 4, 2) := dk_21 4 (dk_at dksX1_stacksFrom_3 6 rfl rfl)
theorem dX1_stacksFrom_76 : decode cX1_stacksFrom 76 = .ok (.ireturn, 1) := dk_172 (dk_at dksX1_stacksFrom_3 8 rfl rfl)
abbrev cX1_stands : ByteArray := prog_1_method_62_code
def yX1_stands : MethodName := ⟨RX1, "stands", "([I)Z"⟩
def dkwX1_stands_5 : List UInt8 := [167, 255, 167, 4, 172]
abbrev dktX1_stands_5 : List UInt8 := dkwX1_stands_5 ++ []
def dkwX1_stands_4 : List UInt8 := [29, 133, 21, 4, 133, 184, 0, 106, 159, 0, 5, 3, 172, 132, 5, 2, 167, 255, 211, 132, 2, 1]
abbrev dktX1_stands_4 : List UInt8 := dkwX1_stands_4 ++ dktX1_stands_5
def dkwX1_stands_3 : List UInt8 := [190, 162, 0, 42, 43, 21, 5, 46, 133, 29, 133, 21, 4, 133, 184, 0, 106, 43, 21, 5, 4, 96, 46, 133]
abbrev dktX1_stands_3 : List UInt8 := dkwX1_stands_3 ++ dktX1_stands_4
def dkwX1_stands_2 : List UInt8 := [62, 43, 28, 46, 43, 28, 4, 96, 46, 184, 1, 191, 54, 4, 28, 5, 96, 54, 5, 21, 5, 4, 96, 42]
abbrev dktX1_stands_2 : List UInt8 := dkwX1_stands_2 ++ dktX1_stands_3
def dkwX1_stands_1 : List UInt8 := [167, 255, 241, 3, 61, 28, 4, 96, 42, 190, 162, 0, 87, 43, 28, 46, 43, 28, 4, 96, 46, 184, 1, 186]
abbrev dktX1_stands_1 : List UInt8 := dkwX1_stands_1 ++ dktX1_stands_2
def dkwX1_stands_0 : List UInt8 := [42, 190, 188, 10, 76, 3, 61, 28, 42, 190, 162, 0, 15, 43, 42, 28, 46, 28, 79, 132, 2, 1]
abbrev dktX1_stands_0 : List UInt8 := dkwX1_stands_0 ++ dktX1_stands_1
theorem dksX1_stands_0 : cX1_stands.data.toList.drop 0 = dktX1_stands_0 := by decide +kernel
theorem dksX1_stands_1 : cX1_stands.data.toList.drop 22 = dktX1_stands_1 := dk_seg dksX1_stands_0 22 rfl rfl
theorem dksX1_stands_2 : cX1_stands.data.toList.drop 46 = dktX1_stands_2 := dk_seg dksX1_stands_1 24 rfl rfl
theorem dksX1_stands_3 : cX1_stands.data.toList.drop 70 = dktX1_stands_3 := dk_seg dksX1_stands_2 24 rfl rfl
theorem dksX1_stands_4 : cX1_stands.data.toList.drop 94 = dktX1_stands_4 := dk_seg dksX1_stands_3 24 rfl rfl
theorem dksX1_stands_5 : cX1_stands.data.toList.drop 116 = dktX1_stands_5 := dk_seg dksX1_stands_4 22 rfl rfl
theorem dX1_stands_0 : decode cX1_stands 0 = .ok (.aload_n 0, 1) := dk_42 (dk_at dksX1_stands_0 0 rfl rfl)
theorem dX1_stands_1 : decode cX1_stands 1 = .ok (.arraylength, 1) := dk_190 (dk_at dksX1_stands_0 1 rfl rfl)
theorem dX1_stands_2 : decode cX1_stands 2 = .ok (.newarray .int, 2) := dk_188_10 (dk_at dksX1_stands_0 2 rfl rfl)
theorem dX1_stands_4 : decode cX1_stands 4 = .ok (.astore_n 1, 1) := dk_76 (dk_at dksX1_stands_0 4 rfl rfl)
theorem dX1_stands_5 : decode cX1_stands 5 = .ok (.iconst 0, 1) := dk_3 (dk_at dksX1_stands_0 5 rfl rfl)
theorem dX1_stands_6 : decode cX1_stands 6 = .ok (.istore_n 2, 1) := dk_61 (dk_at dksX1_stands_0 6 rfl rfl)
theorem dX1_stands_7 : decode cX1_stands 7 = .ok (.iload_n 2, 1) := dk_28 (dk_at dksX1_stands_0 7 rfl rfl)
theorem dX1_stands_8 : decode cX1_stands 8 = .ok (.aload_n 0, 1) := dk_42 (dk_at dksX1_stands_0 8 rfl rfl)
theorem dX1_stands_9 : decode cX1_stands 9 = .ok (.arraylength, 1) := dk_190 (dk_at dksX1_stands_0 9 rfl rfl)
theorem dX1_stands_10 : decode cX1_stands 10 = .ok (.if_icmp .ge 15, 3) := dk_162 0 15 (dk_at dksX1_stands_0 10 rfl rfl)
theorem dX1_stands_13 : decode cX1_stands 13 = .ok (.aload_n 1, 1) := dk_43 (dk_at dksX1_stands_0 13 rfl rfl)
theorem dX1_stands_14 : decode cX1_stands 14 = .ok (.aload_n 0, 1) := dk_42 (dk_at dksX1_stands_0 14 rfl rfl)
theorem dX1_stands_15 : decode cX1_stands 15 = .ok (.iload_n 2, 1) := dk_28 (dk_at dksX1_stands_0 15 rfl rfl)
theorem dX1_stands_16 : decode cX1_stands 16 = .ok (.iaload, 1) := dk_46 (dk_at dksX1_stands_0 16 rfl rfl)
theorem dX1_stands_17 : decode cX1_stands 17 = .ok (.iload_n 2, 1) := dk_28 (dk_at dksX1_stands_0 17 rfl rfl)
theorem dX1_stands_18 : decode cX1_stands 18 = .ok (.iastore, 1) := dk_79 (dk_at dksX1_stands_0 18 rfl rfl)
theorem dX1_stands_19 : decode cX1_stands 19 = .ok (.iinc 2 1, 3) := dk_132 2 1 (dk_at dksX1_stands_0 19 rfl rfl)
theorem dX1_stands_22 : decode cX1_stands 22 = .ok (.goto (-15), 3) := dk_167 255 241 (dk_at dksX1_stands_1 0 rfl rfl)
theorem dX1_stands_25 : decode cX1_stands 25 = .ok (.iconst 0, 1) := dk_3 (dk_at dksX1_stands_1 3 rfl rfl)
theorem dX1_stands_26 : decode cX1_stands 26 = .ok (.istore_n 2, 1) := dk_61 (dk_at dksX1_stands_1 4 rfl rfl)
theorem dX1_stands_27 : decode cX1_stands 27 = .ok (.iload_n 2, 1) := dk_28 (dk_at dksX1_stands_1 5 rfl rfl)
theorem dX1_stands_28 : decode cX1_stands 28 = .ok (.iconst 1, 1) := dk_4 (dk_at dksX1_stands_1 6 rfl rfl)
theorem dX1_stands_29 : decode cX1_stands 29 = .ok (.iadd, 1) := dk_96 (dk_at dksX1_stands_1 7 rfl rfl)
theorem dX1_stands_30 : decode cX1_stands 30 = .ok (.aload_n 0, 1) := dk_42 (dk_at dksX1_stands_1 8 rfl rfl)
theorem dX1_stands_31 : decode cX1_stands 31 = .ok (.arraylength, 1) := dk_190 (dk_at dksX1_stands_1 9 rfl rfl)
theorem dX1_stands_32 : decode cX1_stands 32 = .ok (.if_icmp .ge 87, 3) := dk_162 0 87 (dk_at dksX1_stands_1 10 rfl rfl)
theorem dX1_stands_35 : decode cX1_stands 35 = .ok (.aload_n 1, 1) := dk_43 (dk_at dksX1_stands_1 13 rfl rfl)
theorem dX1_stands_36 : decode cX1_stands 36 = .ok (.iload_n 2, 1) := dk_28 (dk_at dksX1_stands_1 14 rfl rfl)
theorem dX1_stands_37 : decode cX1_stands 37 = .ok (.iaload, 1) := dk_46 (dk_at dksX1_stands_1 15 rfl rfl)
theorem dX1_stands_38 : decode cX1_stands 38 = .ok (.aload_n 1, 1) := dk_43 (dk_at dksX1_stands_1 16 rfl rfl)
theorem dX1_stands_39 : decode cX1_stands 39 = .ok (.iload_n 2, 1) := dk_28 (dk_at dksX1_stands_1 17 rfl rfl)
theorem dX1_stands_40 : decode cX1_stands 40 = .ok (.iconst 1, 1) := dk_4 (dk_at dksX1_stands_1 18 rfl rfl)
theorem dX1_stands_41 : decode cX1_stands 41 = .ok (.iadd, 1) := dk_96 (dk_at dksX1_stands_1 19 rfl rfl)
theorem dX1_stands_42 : decode cX1_stands 42 = .ok (.iaload, 1) := dk_46 (dk_at dksX1_stands_1 20 rfl rfl)
theorem dX1_stands_43 : decode cX1_stands 43 = .ok (.invokestatic 442, 3) := dk_184 1 186 (dk_at dksX1_stands_1 21 rfl rfl)
theorem dX1_stands_46 : decode cX1_stands 46 = .ok (.istore_n 3, 1) := dk_62 (dk_at dksX1_stands_2 0 rfl rfl)
theorem dX1_stands_47 : decode cX1_stands 47 = .ok (.aload_n 1, 1) := dk_43 (dk_at dksX1_stands_2 1 rfl rfl)
theorem dX1_stands_48 : decode cX1_stands 48 = .ok (.iload_n 2, 1) := dk_28 (dk_at dksX1_stands_2 2 rfl rfl)
theorem dX1_stands_49 : decode cX1_stands 49 = .ok (.iaload, 1) := dk_46 (dk_at dksX1_stands_2 3 rfl rfl)
theorem dX1_stands_50 : decode cX1_stands 50 = .ok (.aload_n 1, 1) := dk_43 (dk_at dksX1_stands_2 4 rfl rfl)
theorem dX1_stands_51 : decode cX1_stands 51 = .ok (.iload_n 2, 1) := dk_28 (dk_at dksX1_stands_2 5 rfl rfl)
theorem dX1_stands_52 : decode cX1_stands 52 = .ok (.iconst 1, 1) := dk_4 (dk_at dksX1_stands_2 6 rfl rfl)
theorem dX1_stands_53 : decode cX1_stands 53 = .ok (.iadd, 1) := dk_96 (dk_at dksX1_stands_2 7 rfl rfl)
theorem dX1_stands_54 : decode cX1_stands 54 = .ok (.iaload, 1) := dk_46 (dk_at dksX1_stands_2 8 rfl rfl)
theorem dX1_stands_55 : decode cX1_stands 55 = .ok (.invokestatic 447, 3) := dk_184 1 191 (dk_at dksX1_stands_2 9 rfl rfl)
theorem dX1_stands_58 : decode cX1_stands 58 = .ok (.istore 4, 2) := dk_54 4 (dk_at dksX1_stands_2 12 rfl rfl)
theorem dX1_stands_60 : decode cX1_stands 60 = .ok (.iload_n 2, 1) := dk_28 (dk_at dksX1_stands_2 14 rfl rfl)
theorem dX1_stands_61 : decode cX1_stands 61 = .ok (.iconst 2, 1) := dk_5 (dk_at dksX1_stands_2 15 rfl rfl)
theorem dX1_stands_62 : decode cX1_stands 62 = .ok (.iadd, 1) := dk_96 (dk_at dksX1_stands_2 16 rfl rfl)
theorem dX1_stands_63 : decode cX1_stands 63 = .ok (.istore 5, 2) := dk_54 5 (dk_at dksX1_stands_2 17 rfl rfl)
theorem dX1_stands_65 : decode cX1_stands 65 = .ok (.iload 5, 2) := dk_21 5 (dk_at dksX1_stands_2 19 rfl rfl)
theorem dX1_stands_67 : decode cX1_stands 67 = .ok (.iconst 1, 1) := dk_4 (dk_at dksX1_stands_2 21 rfl rfl)
theorem dX1_stands_68 : decode cX1_stands 68 = .ok (.iadd, 1) := dk_96 (dk_at dksX1_stands_2 22 rfl rfl)
theorem dX1_stands_69 : decode cX1_stands 69 = .ok (.aload_n 0, 1) := dk_42 (dk_at dksX1_stands_2 23 rfl rfl)
theorem dX1_stands_70 : decode cX1_stands 70 = .ok (.arraylength, 1) := dk_190 (dk_at dksX1_stands_3 0 rfl rfl)
theorem dX1_stands_71 : decode cX1_stands 71 = .ok (.if_icmp .ge 42, 3) := dk_162 0 42 (dk_at dksX1_stands_3 1 rfl rfl)
theorem dX1_stands_74 : decode cX1_stands 74 = .ok (.aload_n 1, 1) := dk_43 (dk_at dksX1_stands_3 4 rfl rfl)
theorem dX1_stands_75 : decode cX1_stands 75 = .ok (.iload 5, 2) := dk_21 5 (dk_at dksX1_stands_3 5 rfl rfl)
theorem dX1_stands_77 : decode cX1_stands 77 = .ok (.iaload, 1) := dk_46 (dk_at dksX1_stands_3 7 rfl rfl)
theorem dX1_stands_78 : decode cX1_stands 78 = .ok (.i2l, 1) := dk_133 (dk_at dksX1_stands_3 8 rfl rfl)
theorem dX1_stands_79 : decode cX1_stands 79 = .ok (.iload_n 3, 1) := dk_29 (dk_at dksX1_stands_3 9 rfl rfl)
theorem dX1_stands_80 : decode cX1_stands 80 = .ok (.i2l, 1) := dk_133 (dk_at dksX1_stands_3 10 rfl rfl)
theorem dX1_stands_81 : decode cX1_stands 81 = .ok (.iload 4, 2) := dk_21 4 (dk_at dksX1_stands_3 11 rfl rfl)
theorem dX1_stands_83 : decode cX1_stands 83 = .ok (.i2l, 1) := dk_133 (dk_at dksX1_stands_3 13 rfl rfl)
theorem dX1_stands_84 : decode cX1_stands 84 = .ok (.invokestatic 106, 3) := dk_184 0 106 (dk_at dksX1_stands_3 14 rfl rfl)
theorem dX1_stands_87 : decode cX1_stands 87 = .ok (.aload_n 1, 1) := dk_43 (dk_at dksX1_stands_3 17 rfl rfl)
theorem dX1_stands_88 : decode cX1_stands 88 = .ok (.iload 5, 2) := dk_21 5 (dk_at dksX1_stands_3 18 rfl rfl)
theorem dX1_stands_90 : decode cX1_stands 90 = .ok (.iconst 1, 1) := dk_4 (dk_at dksX1_stands_3 20 rfl rfl)
theorem dX1_stands_91 : decode cX1_stands 91 = .ok (.iadd, 1) := dk_96 (dk_at dksX1_stands_3 21 rfl rfl)
theorem dX1_stands_92 : decode cX1_stands 92 = .ok (.iaload, 1) := dk_46 (dk_at dksX1_stands_3 22 rfl rfl)
theorem dX1_stands_93 : decode cX1_stands 93 = .ok (.i2l, 1) := dk_133 (dk_at dksX1_stands_3 23 rfl rfl)
theorem dX1_stands_94 : decode cX1_stands 94 = .ok (.iload_n 3, 1) := dk_29 (dk_at dksX1_stands_4 0 rfl rfl)
theorem dX1_stands_95 : decode cX1_stands 95 = .ok (.i2l, 1) := dk_133 (dk_at dksX1_stands_4 1 rfl rfl)
theorem dX1_stands_96 : decode cX1_stands 96 = .ok (.iload 4, 2) := dk_21 4 (dk_at dksX1_stands_4 2 rfl rfl)
theorem dX1_stands_98 : decode cX1_stands 98 = .ok (.i2l, 1) := dk_133 (dk_at dksX1_stands_4 4 rfl rfl)
theorem dX1_stands_99 : decode cX1_stands 99 = .ok (.invokestatic 106, 3) := dk_184 0 106 (dk_at dksX1_stands_4 5 rfl rfl)
theorem dX1_stands_102 : decode cX1_stands 102 = .ok (.if_icmp .eq 5, 3) := dk_159 0 5 (dk_at dksX1_stands_4 8 rfl rfl)
theorem dX1_stands_105 : decode cX1_stands 105 = .ok (.iconst 0, 1) := dk_3 (dk_at dksX1_stands_4 11 rfl rfl)
theorem dX1_stands_106 : decode cX1_stands 106 = .ok (.ireturn, 1) := dk_172 (dk_at dksX1_stands_4 12 rfl rfl)
theorem dX1_stands_107 : decode cX1_stands 107 = .ok (.iinc 5 2, 3) := dk_132 5 2 (dk_at dksX1_stands_4 13 rfl rfl)
theorem dX1_stands_110 : decode cX1_stands 110 = .ok (.goto (-45), 3) := dk_167 255 211 (dk_at dksX1_stands_4 16 rfl rfl)
theorem dX1_stands_113 : decode cX1_stands 113 = .ok (.iinc 2 1, 3) := dk_132 2 1 (dk_at dksX1_stands_4 19 rfl rfl)
theorem dX1_stands_116 : decode cX1_stands 116 = .ok (.goto (-89), 3) := dk_167 255 167 (dk_at dksX1_stands_5 0 rfl rfl)
theorem dX1_stands_119 : decode cX1_stands 119 = .ok (.iconst 1, 1) := dk_4 (dk_at dksX1_stands_5 3 rfl rfl)
theorem dX1_stands_120 : decode cX1_stands 120 = .ok (.ireturn, 1) := dk_172 (dk_at dksX1_stands_5 4 rfl rfl)
abbrev cX1_has : ByteArray := prog_1_method_6_code
def yX1_has : MethodName := ⟨RX1, "has", "(II)Z"⟩
def dkwX1_has_0 : List UInt8 := [26, 27, 122, 4, 126, 4, 160, 0, 7, 4, 167, 0, 4, 3, 172]
abbrev dktX1_has_0 : List UInt8 := dkwX1_has_0 ++ []
theorem dksX1_has_0 : cX1_has.data.toList.drop 0 = dktX1_has_0 := by decide +kernel
theorem dX1_has_0 : decode cX1_has 0 = .ok (.iload_n 0, 1) := dk_26 (dk_at dksX1_has_0 0 rfl rfl)
theorem dX1_has_1 : decode cX1_has 1 = .ok (.iload_n 1, 1) := dk_27 (dk_at dksX1_has_0 1 rfl rfl)
theorem dX1_has_2 : decode cX1_has 2 = .ok (.ishr, 1) := dk_122 (dk_at dksX1_has_0 2 rfl rfl)
theorem dX1_has_3 : decode cX1_has 3 = .ok (.iconst 1, 1) := dk_4 (dk_at dksX1_has_0 3 rfl rfl)
theorem dX1_has_4 : decode cX1_has 4 = .ok (.iand, 1) := dk_126 (dk_at dksX1_has_0 4 rfl rfl)
theorem dX1_has_5 : decode cX1_has 5 = .ok (.iconst 1, 1) := dk_4 (dk_at dksX1_has_0 5 rfl rfl)
theorem dX1_has_6 : decode cX1_has 6 = .ok (.if_icmp .ne 7, 3) := dk_160 0 7 (dk_at dksX1_has_0 6 rfl rfl)
theorem dX1_has_9 : decode cX1_has 9 = .ok (.iconst 1, 1) := dk_4 (dk_at dksX1_has_0 9 rfl rfl)
theorem dX1_has_10 : decode cX1_has 10 = .ok (.goto 4, 3) := dk_167 0 4 (dk_at dksX1_has_0 10 rfl rfl)
theorem dX1_has_13 : decode cX1_has 13 = .ok (.iconst 0, 1) := dk_3 (dk_at dksX1_has_0 13 rfl rfl)
theorem dX1_has_14 : decode cX1_has 14 = .ok (.ireturn, 1) := dk_172 (dk_at dksX1_has_0 14 rfl rfl)
abbrev cX1_simple : ByteArray := prog_1_method_67_code
def yX1_simple : MethodName := ⟨RX1, "simple", "()I"⟩
def dkwX1_simple_0 : List UInt8 := [187, 1, 211, 89, 42, 183, 1, 213, 76, 43, 4, 8, 182, 1, 132, 87, 43, 182, 1, 135, 172]
abbrev dktX1_simple_0 : List UInt8 := dkwX1_simple_0 ++ []
theorem dksX1_simple_0 : cX1_simple.data.toList.drop 0 = dktX1_simple_0 := by decide +kernel
theorem dX1_simple_0 : decode cX1_simple 0 = .ok (.new 467, 3) := dk_187 1 211 (dk_at dksX1_simple_0 0 rfl rfl)
theorem dX1_simple_3 : decode cX1_simple 3 = .ok (.dup, 1) := dk_89 (dk_at dksX1_simple_0 3 rfl rfl)
theorem dX1_simple_4 : decode cX1_simple 4 = .ok (.aload_n 0, 1) := dk_42 (dk_at dksX1_simple_0 4 rfl rfl)
theorem dX1_simple_5 : decode cX1_simple 5 = .ok (.invokespecial 469, 3) := dk_183 1 213 (dk_at dksX1_simple_0 5 rfl rfl)
theorem dX1_simple_8 : decode cX1_simple 8 = .ok (.astore_n 1, 1) := dk_76 (dk_at dksX1_simple_0 8 rfl rfl)
theorem dX1_simple_9 : decode cX1_simple 9 = .ok (.aload_n 1, 1) := dk_43 (dk_at dksX1_simple_0 9 rfl rfl)
theorem dX1_simple_10 : decode cX1_simple 10 = .ok (.iconst 1, 1) := dk_4 (dk_at dksX1_simple_0 10 rfl rfl)
theorem dX1_simple_11 : decode cX1_simple 11 = .ok (.iconst 5, 1) := dk_8 (dk_at dksX1_simple_0 11 rfl rfl)
theorem dX1_simple_12 : decode cX1_simple 12 = .ok (.invokevirtual 388, 3) := dk_182 1 132 (dk_at dksX1_simple_0 12 rfl rfl)
theorem dX1_simple_15 : decode cX1_simple 15 = .ok (.pop, 1) := dk_87 (dk_at dksX1_simple_0 15 rfl rfl)
theorem dX1_simple_16 : decode cX1_simple 16 = .ok (.aload_n 1, 1) := dk_43 (dk_at dksX1_simple_0 16 rfl rfl)
theorem dX1_simple_17 : decode cX1_simple 17 = .ok (.invokevirtual 391, 3) := dk_182 1 135 (dk_at dksX1_simple_0 17 rfl rfl)
theorem dX1_simple_20 : decode cX1_simple 20 = .ok (.ireturn, 1) := dk_172 (dk_at dksX1_simple_0 20 rfl rfl)
abbrev cX1_patterns : ByteArray := prog_1_method_71_code
def yX1_patterns : MethodName := ⟨RX1, "patterns", "()I"⟩
def dkwX1_patterns_0 : List UInt8 := [187, 1, 226, 89, 42, 183, 1, 228, 76, 43, 4, 8, 182, 1, 132, 87, 43, 182, 1, 135, 172]
abbrev dktX1_patterns_0 : List UInt8 := dkwX1_patterns_0 ++ []
theorem dksX1_patterns_0 : cX1_patterns.data.toList.drop 0 = dktX1_patterns_0 := by decide +kernel
theorem dX1_patterns_0 : decode cX1_patterns 0 = .ok (.new 482, 3) := dk_187 1 226 (dk_at dksX1_patterns_0 0 rfl rfl)
theorem dX1_patterns_3 : decode cX1_patterns 3 = .ok (.dup, 1) := dk_89 (dk_at dksX1_patterns_0 3 rfl rfl)
theorem dX1_patterns_4 : decode cX1_patterns 4 = .ok (.aload_n 0, 1) := dk_42 (dk_at dksX1_patterns_0 4 rfl rfl)
theorem dX1_patterns_5 : decode cX1_patterns 5 = .ok (.invokespecial 484, 3) := dk_183 1 228 (dk_at dksX1_patterns_0 5 rfl rfl)
theorem dX1_patterns_8 : decode cX1_patterns 8 = .ok (.astore_n 1, 1) := dk_76 (dk_at dksX1_patterns_0 8 rfl rfl)
theorem dX1_patterns_9 : decode cX1_patterns 9 = .ok (.aload_n 1, 1) := dk_43 (dk_at dksX1_patterns_0 9 rfl rfl)
theorem dX1_patterns_10 : decode cX1_patterns 10 = .ok (.iconst 1, 1) := dk_4 (dk_at dksX1_patterns_0 10 rfl rfl)
theorem dX1_patterns_11 : decode cX1_patterns 11 = .ok (.iconst 5, 1) := dk_8 (dk_at dksX1_patterns_0 11 rfl rfl)
theorem dX1_patterns_12 : decode cX1_patterns 12 = .ok (.invokevirtual 388, 3) := dk_182 1 132 (dk_at dksX1_patterns_0 12 rfl rfl)
theorem dX1_patterns_15 : decode cX1_patterns 15 = .ok (.pop, 1) := dk_87 (dk_at dksX1_patterns_0 15 rfl rfl)
theorem dX1_patterns_16 : decode cX1_patterns 16 = .ok (.aload_n 1, 1) := dk_43 (dk_at dksX1_patterns_0 16 rfl rfl)
theorem dX1_patterns_17 : decode cX1_patterns 17 = .ok (.invokevirtual 391, 3) := dk_182 1 135 (dk_at dksX1_patterns_0 17 rfl rfl)
theorem dX1_patterns_20 : decode cX1_patterns 20 = .ok (.ireturn, 1) := dk_172 (dk_at dksX1_patterns_0 20 rfl rfl)
abbrev cX1_refuse : ByteArray := prog_1_method_72_code
def yX1_refuse : MethodName := ⟨RX1, "refuse", "()I"⟩
def dkwX1_refuse_2 : List UInt8 := [182, 1, 26, 162, 0, 9, 4, 29, 120, 167, 0, 4, 3, 128, 60, 132, 3, 1, 167, 255, 209, 27, 172]
abbrev dktX1_refuse_2 : List UInt8 := dkwX1_refuse_2 ++ []
def dkwX1_refuse_1 : List UInt8 := [162, 0, 45, 27, 42, 29, 42, 182, 0, 161, 42, 180, 0, 19, 180, 0, 218, 182, 1, 26, 42, 29, 44, 3]
abbrev dktX1_refuse_1 : List UInt8 := dkwX1_refuse_1 ++ dktX1_refuse_2
def dkwX1_refuse_0 : List UInt8 := [3, 60, 42, 180, 0, 31, 3, 50, 42, 182, 0, 214, 182, 1, 229, 77, 3, 62, 29, 42, 182, 1, 24]
abbrev dktX1_refuse_0 : List UInt8 := dkwX1_refuse_0 ++ dktX1_refuse_1
theorem dksX1_refuse_0 : cX1_refuse.data.toList.drop 0 = dktX1_refuse_0 := by decide +kernel
theorem dksX1_refuse_1 : cX1_refuse.data.toList.drop 23 = dktX1_refuse_1 := dk_seg dksX1_refuse_0 23 rfl rfl
theorem dksX1_refuse_2 : cX1_refuse.data.toList.drop 47 = dktX1_refuse_2 := dk_seg dksX1_refuse_1 24 rfl rfl
theorem dX1_refuse_0 : decode cX1_refuse 0 = .ok (.iconst 0, 1) := dk_3 (dk_at dksX1_refuse_0 0 rfl rfl)
theorem dX1_refuse_1 : decode cX1_refuse 1 = .ok (.istore_n 1, 1) := dk_60 (dk_at dksX1_refuse_0 1 rfl rfl)
theorem dX1_refuse_2 : decode cX1_refuse 2 = .ok (.aload_n 0, 1) := dk_42 (dk_at dksX1_refuse_0 2 rfl rfl)
theorem dX1_refuse_3 : decode cX1_refuse 3 = .ok (.getfield 31, 3) := dk_180 0 31 (dk_at dksX1_refuse_0 3 rfl rfl)
theorem dX1_refuse_6 : decode cX1_refuse 6 = .ok (.iconst 0, 1) := dk_3 (dk_at dksX1_refuse_0 6 rfl rfl)
theorem dX1_refuse_7 : decode cX1_refuse 7 = .ok (.aaload, 1) := dk_50 (dk_at dksX1_refuse_0 7 rfl rfl)
theorem dX1_refuse_8 : decode cX1_refuse 8 = .ok (.aload_n 0, 1) := dk_42 (dk_at dksX1_refuse_0 8 rfl rfl)
theorem dX1_refuse_9 : decode cX1_refuse 9 = .ok (.invokevirtual 214, 3) := dk_182 0 214 (dk_at dksX1_refuse_0 9 rfl rfl)
theorem dX1_refuse_12 : decode cX1_refuse 12 = .ok (.invokevirtual 485, 3) := dk_182 1 229 (dk_at dksX1_refuse_0 12 rfl rfl)
theorem dX1_refuse_15 : decode cX1_refuse 15 = .ok (.astore_n 2, 1) := dk_77 (dk_at dksX1_refuse_0 15 rfl rfl)
theorem dX1_refuse_16 : decode cX1_refuse 16 = .ok (.iconst 0, 1) := dk_3 (dk_at dksX1_refuse_0 16 rfl rfl)
theorem dX1_refuse_17 : decode cX1_refuse 17 = .ok (.istore_n 3, 1) := dk_62 (dk_at dksX1_refuse_0 17 rfl rfl)
theorem dX1_refuse_18 : decode cX1_refuse 18 = .ok (.iload_n 3, 1) := dk_29 (dk_at dksX1_refuse_0 18 rfl rfl)
theorem dX1_refuse_19 : decode cX1_refuse 19 = .ok (.aload_n 0, 1) := dk_42 (dk_at dksX1_refuse_0 19 rfl rfl)
theorem dX1_refuse_20 : decode cX1_refuse 20 = .ok (.invokevirtual 280, 3) := dk_182 1 24 (dk_at dksX1_refuse_0 20 rfl rfl)
theorem dX1_refuse_23 : decode cX1_refuse 23 = .ok (.if_icmp .ge 45, 3) := dk_162 0 45 (dk_at dksX1_refuse_1 0 rfl rfl)
theorem dX1_refuse_26 : decode cX1_refuse 26 = .ok (.iload_n 1, 1) := dk_27 (dk_at dksX1_refuse_1 3 rfl rfl)
theorem dX1_refuse_27 : decode cX1_refuse 27 = .ok (.aload_n 0, 1) := dk_42 (dk_at dksX1_refuse_1 4 rfl rfl)
theorem dX1_refuse_28 : decode cX1_refuse 28 = .ok (.iload_n 3, 1) := dk_29 (dk_at dksX1_refuse_1 5 rfl rfl)
theorem dX1_refuse_29 : decode cX1_refuse 29 = .ok (.aload_n 0, 1) := dk_42 (dk_at dksX1_refuse_1 6 rfl rfl)
theorem dX1_refuse_30 : decode cX1_refuse 30 = .ok (.invokevirtual 161, 3) := dk_182 0 161 (dk_at dksX1_refuse_1 7 rfl rfl)
theorem dX1_refuse_33 : decode cX1_refuse 33 = .ok (.aload_n 0, 1) := dk_42 (dk_at dksX1_refuse_1 10 rfl rfl)
theorem dX1_refuse_34 : decode cX1_refuse 34 = .ok (.getfield 19, 3) := dk_180 0 19 (dk_at dksX1_refuse_1 11 rfl rfl)
theorem dX1_refuse_37 : decode cX1_refuse 37 = .ok (.getfield 218, 3) := dk_180 0 218 (dk_at dksX1_refuse_1 14 rfl rfl)
theorem dX1_refuse_40 : decode cX1_refuse 40 = .ok (.invokevirtual 282, 3) := dk_182 1 26 (dk_at dksX1_refuse_1 17 rfl rfl)
theorem dX1_refuse_43 : decode cX1_refuse 43 = .ok (.aload_n 0, 1) := dk_42 (dk_at dksX1_refuse_1 20 rfl rfl)
theorem dX1_refuse_44 : decode cX1_refuse 44 = .ok (.iload_n 3, 1) := dk_29 (dk_at dksX1_refuse_1 21 rfl rfl)
theorem dX1_refuse_45 : decode cX1_refuse 45 = .ok (.aload_n 2, 1) := dk_44 (dk_at dksX1_refuse_1 22 rfl rfl)
theorem dX1_refuse_46 : decode cX1_refuse 46 = .ok (.iconst 0, 1) := dk_3 (dk_at dksX1_refuse_1 23 rfl rfl)
theorem dX1_refuse_47 : decode cX1_refuse 47 = .ok (.invokevirtual 282, 3) := dk_182 1 26 (dk_at dksX1_refuse_2 0 rfl rfl)
theorem dX1_refuse_50 : decode cX1_refuse 50 = .ok (.if_icmp .ge 9, 3) := dk_162 0 9 (dk_at dksX1_refuse_2 3 rfl rfl)
theorem dX1_refuse_53 : decode cX1_refuse 53 = .ok (.iconst 1, 1) := dk_4 (dk_at dksX1_refuse_2 6 rfl rfl)
theorem dX1_refuse_54 : decode cX1_refuse 54 = .ok (.iload_n 3, 1) := dk_29 (dk_at dksX1_refuse_2 7 rfl rfl)
theorem dX1_refuse_55 : decode cX1_refuse 55 = .ok (.ishl, 1) := dk_120 (dk_at dksX1_refuse_2 8 rfl rfl)
theorem dX1_refuse_56 : decode cX1_refuse 56 = .ok (.goto 4, 3) := dk_167 0 4 (dk_at dksX1_refuse_2 9 rfl rfl)
theorem dX1_refuse_59 : decode cX1_refuse 59 = .ok (.iconst 0, 1) := dk_3 (dk_at dksX1_refuse_2 12 rfl rfl)
theorem dX1_refuse_60 : decode cX1_refuse 60 = .ok (.ior, 1) := dk_128 (dk_at dksX1_refuse_2 13 rfl rfl)
theorem dX1_refuse_61 : decode cX1_refuse 61 = .ok (.istore_n 1, 1) := dk_60 (dk_at dksX1_refuse_2 14 rfl rfl)
theorem dX1_refuse_62 : decode cX1_refuse 62 = .ok (.iinc 3 1, 3) := dk_132 3 1 (dk_at dksX1_refuse_2 15 rfl rfl)
theorem dX1_refuse_65 : decode cX1_refuse 65 = .ok (.goto (-47), 3) := dk_167 255 209 (dk_at dksX1_refuse_2 18 rfl rfl)
theorem dX1_refuse_68 : decode cX1_refuse 68 = .ok (.iload_n 1, 1) := dk_27 (dk_at dksX1_refuse_2 21 rfl rfl)
theorem dX1_refuse_69 : decode cX1_refuse 69 = .ok (.ireturn, 1) := dk_172 (dk_at dksX1_refuse_2 22 rfl rfl)
abbrev cX1_count : ByteArray := prog_1_method_88_code
def yX1_count : MethodName := ⟨RX1, "count", "(I)I"⟩
def dkwX1_count_6 : List UInt8 := [182, 0, 154, 172, 42, 180, 0, 99, 172, 2, 172]
abbrev dktX1_count_6 : List UInt8 := dkwX1_count_6 ++ []
def dkwX1_count_5 : List UInt8 := [42, 42, 182, 0, 161, 182, 0, 230, 100, 42, 42, 182, 0, 161, 182, 0, 234, 100, 172, 42, 180, 0, 38]
abbrev dktX1_count_5 : List UInt8 := dkwX1_count_5 ++ dktX1_count_6
def dkwX1_count_4 : List UInt8 := [42, 182, 0, 161, 182, 0, 230, 172, 42, 42, 182, 0, 161, 182, 0, 234, 172, 42, 180, 0, 19, 182, 0, 237]
abbrev dktX1_count_4 : List UInt8 := dkwX1_count_4 ++ dktX1_count_5
def dkwX1_count_3 : List UInt8 := [182, 0, 161, 180, 0, 165, 172, 42, 182, 0, 161, 182, 0, 227, 172, 42, 180, 0, 19, 180, 0, 218, 172, 42]
abbrev dktX1_count_3 : List UInt8 := dkwX1_count_3 ++ dktX1_count_4
def dkwX1_count_2 : List UInt8 := [42, 180, 0, 19, 180, 0, 130, 180, 0, 134, 172, 42, 182, 0, 214, 172, 42, 182, 1, 24, 172, 42]
abbrev dktX1_count_2 : List UInt8 := dkwX1_count_2 ++ dktX1_count_3
def dkwX1_count_1 : List UInt8 := [170, 0, 0, 0, 0, 0, 161, 0, 0, 0, 0, 0, 0, 0, 10, 0, 0, 0, 59, 0, 0, 0, 70, 0, 0, 0, 75, 0, 0, 0, 80, 0, 0, 0, 88, 0, 0, 0, 96, 0, 0, 0, 104, 0, 0, 0, 113, 0, 0, 0, 122, 0, 0, 0, 148, 0, 0, 0, 156]
abbrev dktX1_count_1 : List UInt8 := dkwX1_count_1 ++ dktX1_count_2
def dkwX1_count_0 : List UInt8 := [27]
abbrev dktX1_count_0 : List UInt8 := dkwX1_count_0 ++ dktX1_count_1
theorem dksX1_count_0 : cX1_count.data.toList.drop 0 = dktX1_count_0 := by decide +kernel
theorem dksX1_count_1 : cX1_count.data.toList.drop 1 = dktX1_count_1 := dk_seg dksX1_count_0 1 rfl rfl
theorem dksX1_count_2 : cX1_count.data.toList.drop 60 = dktX1_count_2 := dk_seg dksX1_count_1 59 rfl rfl
theorem dksX1_count_3 : cX1_count.data.toList.drop 82 = dktX1_count_3 := dk_seg dksX1_count_2 22 rfl rfl
theorem dksX1_count_4 : cX1_count.data.toList.drop 106 = dktX1_count_4 := dk_seg dksX1_count_3 24 rfl rfl
theorem dksX1_count_5 : cX1_count.data.toList.drop 130 = dktX1_count_5 := dk_seg dksX1_count_4 24 rfl rfl
theorem dksX1_count_6 : cX1_count.data.toList.drop 153 = dktX1_count_6 := dk_seg dksX1_count_5 23 rfl rfl
theorem dX1_count_0 : decode cX1_count 0 = .ok (.iload_n 1, 1) := dk_27 (dk_at dksX1_count_0 0 rfl rfl)
theorem dX1_count_1 : decode cX1_count 1 = .ok (.tableswitch 161 0 10 #[59, 70, 75, 80, 88, 96, 104, 113, 122, 148, 156], 59) := by decide +kernel
theorem dX1_count_60 : decode cX1_count 60 = .ok (.aload_n 0, 1) := dk_42 (dk_at dksX1_count_2 0 rfl rfl)
theorem dX1_count_61 : decode cX1_count 61 = .ok (.getfield 19, 3) := dk_180 0 19 (dk_at dksX1_count_2 1 rfl rfl)
theorem dX1_count_64 : decode cX1_count 64 = .ok (.getfield 130, 3) := dk_180 0 130 (dk_at dksX1_count_2 4 rfl rfl)
theorem dX1_count_67 : decode cX1_count 67 = .ok (.getfield 134, 3) := dk_180 0 134 (dk_at dksX1_count_2 7 rfl rfl)
theorem dX1_count_70 : decode cX1_count 70 = .ok (.ireturn, 1) := dk_172 (dk_at dksX1_count_2 10 rfl rfl)
theorem dX1_count_71 : decode cX1_count 71 = .ok (.aload_n 0, 1) := dk_42 (dk_at dksX1_count_2 11 rfl rfl)
theorem dX1_count_72 : decode cX1_count 72 = .ok (.invokevirtual 214, 3) := dk_182 0 214 (dk_at dksX1_count_2 12 rfl rfl)
theorem dX1_count_75 : decode cX1_count 75 = .ok (.ireturn, 1) := dk_172 (dk_at dksX1_count_2 15 rfl rfl)
theorem dX1_count_76 : decode cX1_count 76 = .ok (.aload_n 0, 1) := dk_42 (dk_at dksX1_count_2 16 rfl rfl)
theorem dX1_count_77 : decode cX1_count 77 = .ok (.invokevirtual 280, 3) := dk_182 1 24 (dk_at dksX1_count_2 17 rfl rfl)
theorem dX1_count_80 : decode cX1_count 80 = .ok (.ireturn, 1) := dk_172 (dk_at dksX1_count_2 20 rfl rfl)
theorem dX1_count_81 : decode cX1_count 81 = .ok (.aload_n 0, 1) := dk_42 (dk_at dksX1_count_2 21 rfl rfl)
theorem dX1_count_82 : decode cX1_count 82 = .ok (.invokevirtual 161, 3) := dk_182 0 161 (dk_at dksX1_count_3 0 rfl rfl)
theorem dX1_count_85 : decode cX1_count 85 = .ok (.getfield 165, 3) := dk_180 0 165 (dk_at dksX1_count_3 3 rfl rfl)
theorem dX1_count_88 : decode cX1_count 88 = .ok (.ireturn, 1) := dk_172 (dk_at dksX1_count_3 6 rfl rfl)
theorem dX1_count_89 : decode cX1_count 89 = .ok (.aload_n 0, 1) := dk_42 (dk_at dksX1_count_3 7 rfl rfl)
theorem dX1_count_90 : decode cX1_count 90 = .ok (.invokevirtual 161, 3) := dk_182 0 161 (dk_at dksX1_count_3 8 rfl rfl)
theorem dX1_count_93 : decode cX1_count 93 = .ok (.invokevirtual 227, 3) := dk_182 0 227 (dk_at dksX1_count_3 11 rfl rfl)
theorem dX1_count_96 : decode cX1_count 96 = .ok (.ireturn, 1) := dk_172 (dk_at dksX1_count_3 14 rfl rfl)
theorem dX1_count_97 : decode cX1_count 97 = .ok (.aload_n 0, 1) := dk_42 (dk_at dksX1_count_3 15 rfl rfl)
theorem dX1_count_98 : decode cX1_count 98 = .ok (.getfield 19, 3) := dk_180 0 19 (dk_at dksX1_count_3 16 rfl rfl)
theorem dX1_count_101 : decode cX1_count 101 = .ok (.getfield 218, 3) := dk_180 0 218 (dk_at dksX1_count_3 19 rfl rfl)
theorem dX1_count_104 : decode cX1_count 104 = .ok (.ireturn, 1) := dk_172 (dk_at dksX1_count_3 22 rfl rfl)
theorem dX1_count_105 : decode cX1_count 105 = .ok (.aload_n 0, 1) := dk_42 (dk_at dksX1_count_3 23 rfl rfl)
theorem dX1_count_106 : decode cX1_count 106 = .ok (.aload_n 0, 1) := dk_42 (dk_at dksX1_count_4 0 rfl rfl)
theorem dX1_count_107 : decode cX1_count 107 = .ok (.invokevirtual 161, 3) := dk_182 0 161 (dk_at dksX1_count_4 1 rfl rfl)
theorem dX1_count_110 : decode cX1_count 110 = .ok (.invokevirtual 230, 3) := dk_182 0 230 (dk_at dksX1_count_4 4 rfl rfl)
theorem dX1_count_113 : decode cX1_count 113 = .ok (.ireturn, 1) := dk_172 (dk_at dksX1_count_4 7 rfl rfl)
theorem dX1_count_114 : decode cX1_count 114 = .ok (.aload_n 0, 1) := dk_42 (dk_at dksX1_count_4 8 rfl rfl)
theorem dX1_count_115 : decode cX1_count 115 = .ok (.aload_n 0, 1) := dk_42 (dk_at dksX1_count_4 9 rfl rfl)
theorem dX1_count_116 : decode cX1_count 116 = .ok (.invokevirtual 161, 3) := dk_182 0 161 (dk_at dksX1_count_4 10 rfl rfl)
theorem dX1_count_119 : decode cX1_count 119 = .ok (.invokevirtual 234, 3) := dk_182 0 234 (dk_at dksX1_count_4 13 rfl rfl)
theorem dX1_count_122 : decode cX1_count 122 = .ok (.ireturn, 1) := dk_172 (dk_at dksX1_count_4 16 rfl rfl)
theorem dX1_count_123 : decode cX1_count 123 = .ok (.aload_n 0, 1) := dk_42 (dk_at dksX1_count_4 17 rfl rfl)
theorem dX1_count_124 : decode cX1_count 124 = .ok (.getfield 19, 3) := dk_180 0 19 (dk_at dksX1_count_4 18 rfl rfl)
theorem dX1_count_127 : decode cX1_count 127 = .ok (.invokevirtual 237, 3) := dk_182 0 237 (dk_at dksX1_count_4 21 rfl rfl)
theorem dX1_count_130 : decode cX1_count 130 = .ok (.aload_n 0, 1) := dk_42 (dk_at dksX1_count_5 0 rfl rfl)
theorem dX1_count_131 : decode cX1_count 131 = .ok (.aload_n 0, 1) := dk_42 (dk_at dksX1_count_5 1 rfl rfl)
theorem dX1_count_132 : decode cX1_count 132 = .ok (.invokevirtual 161, 3) := dk_182 0 161 (dk_at dksX1_count_5 2 rfl rfl)
theorem dX1_count_135 : decode cX1_count 135 = .ok (.invokevirtual 230, 3) := dk_182 0 230 (dk_at dksX1_count_5 5 rfl rfl)
theorem dX1_count_138 : decode cX1_count 138 = .ok (.isub, 1) := dk_100 (dk_at dksX1_count_5 8 rfl rfl)
theorem dX1_count_139 : decode cX1_count 139 = .ok (.aload_n 0, 1) := dk_42 (dk_at dksX1_count_5 9 rfl rfl)
theorem dX1_count_140 : decode cX1_count 140 = .ok (.aload_n 0, 1) := dk_42 (dk_at dksX1_count_5 10 rfl rfl)
theorem dX1_count_141 : decode cX1_count 141 = .ok (.invokevirtual 161, 3) := dk_182 0 161 (dk_at dksX1_count_5 11 rfl rfl)
theorem dX1_count_144 : decode cX1_count 144 = .ok (.invokevirtual 234, 3) := dk_182 0 234 (dk_at dksX1_count_5 14 rfl rfl)
theorem dX1_count_147 : decode cX1_count 147 = .ok (.isub, 1) := dk_100 (dk_at dksX1_count_5 17 rfl rfl)
theorem dX1_count_148 : decode cX1_count 148 = .ok (.ireturn, 1) := dk_172 (dk_at dksX1_count_5 18 rfl rfl)
theorem dX1_count_149 : decode cX1_count 149 = .ok (.aload_n 0, 1) := dk_42 (dk_at dksX1_count_5 19 rfl rfl)
theorem dX1_count_150 : decode cX1_count 150 = .ok (.getfield 38, 3) := dk_180 0 38 (dk_at dksX1_count_5 20 rfl rfl)
theorem dX1_count_153 : decode cX1_count 153 = .ok (.invokevirtual 154, 3) := dk_182 0 154 (dk_at dksX1_count_6 0 rfl rfl)
theorem dX1_count_156 : decode cX1_count 156 = .ok (.ireturn, 1) := dk_172 (dk_at dksX1_count_6 3 rfl rfl)
theorem dX1_count_157 : decode cX1_count 157 = .ok (.aload_n 0, 1) := dk_42 (dk_at dksX1_count_6 4 rfl rfl)
theorem dX1_count_158 : decode cX1_count 158 = .ok (.getfield 99, 3) := dk_180 0 99 (dk_at dksX1_count_6 5 rfl rfl)
theorem dX1_count_161 : decode cX1_count 161 = .ok (.ireturn, 1) := dk_172 (dk_at dksX1_count_6 8 rfl rfl)
theorem dX1_count_162 : decode cX1_count 162 = .ok (.iconst (-1), 1) := dk_2 (dk_at dksX1_count_6 9 rfl rfl)
theorem dX1_count_163 : decode cX1_count 163 = .ok (.ireturn, 1) := dk_172 (dk_at dksX1_count_6 10 rfl rfl)
abbrev cX1_napkin : ByteArray := prog_1_method_10_code
def yX1_napkin : MethodName := ⟨RX1, "napkin", "(I)I"⟩
def dkwX1_napkin_4 : List UInt8 := [62, 42, 3, 181, 0, 99, 29, 172, 58, 4, 42, 3, 181, 0, 99, 25, 4, 191]
abbrev dktX1_napkin_4 : List UInt8 := dkwX1_napkin_4 ++ []
def dkwX1_napkin_3 : List UInt8 := [77, 42, 44, 180, 0, 141, 181, 0, 114, 42, 44, 180, 0, 144, 181, 0, 52, 16, 246, 44, 180, 0, 141, 100]
abbrev dktX1_napkin_3 : List UInt8 := dkwX1_napkin_3 ++ dktX1_napkin_4
def dkwX1_napkin_2 : List UInt8 := [180, 0, 38, 182, 0, 74, 42, 180, 0, 19, 180, 0, 130, 180, 0, 134, 61, 42, 3, 181, 0, 99, 28, 172]
abbrev dktX1_napkin_2 : List UInt8 := dkwX1_napkin_2 ++ dktX1_napkin_3
def dkwX1_napkin_1 : List UInt8 := [42, 180, 0, 19, 187, 0, 117, 89, 42, 180, 0, 48, 27, 183, 0, 119, 182, 0, 122, 182, 0, 126, 42]
abbrev dktX1_napkin_1 : List UInt8 := dkwX1_napkin_1 ++ dktX1_napkin_2
def dkwX1_napkin_0 : List UInt8 := [27, 133, 9, 42, 180, 0, 99, 133, 184, 0, 106, 184, 0, 110, 42, 3, 181, 0, 114, 42, 2, 181, 0, 52]
abbrev dktX1_napkin_0 : List UInt8 := dkwX1_napkin_0 ++ dktX1_napkin_1
theorem dksX1_napkin_0 : cX1_napkin.data.toList.drop 0 = dktX1_napkin_0 := by decide +kernel
theorem dksX1_napkin_1 : cX1_napkin.data.toList.drop 24 = dktX1_napkin_1 := dk_seg dksX1_napkin_0 24 rfl rfl
theorem dksX1_napkin_2 : cX1_napkin.data.toList.drop 47 = dktX1_napkin_2 := dk_seg dksX1_napkin_1 23 rfl rfl
theorem dksX1_napkin_3 : cX1_napkin.data.toList.drop 71 = dktX1_napkin_3 := dk_seg dksX1_napkin_2 24 rfl rfl
theorem dksX1_napkin_4 : cX1_napkin.data.toList.drop 95 = dktX1_napkin_4 := dk_seg dksX1_napkin_3 24 rfl rfl
theorem dX1_napkin_0 : decode cX1_napkin 0 = .ok (.iload_n 1, 1) := dk_27 (dk_at dksX1_napkin_0 0 rfl rfl)
theorem dX1_napkin_1 : decode cX1_napkin 1 = .ok (.i2l, 1) := dk_133 (dk_at dksX1_napkin_0 1 rfl rfl)
theorem dX1_napkin_2 : decode cX1_napkin 2 = .ok (.lconst 0, 1) := dk_9 (dk_at dksX1_napkin_0 2 rfl rfl)
theorem dX1_napkin_3 : decode cX1_napkin 3 = .ok (.aload_n 0, 1) := dk_42 (dk_at dksX1_napkin_0 3 rfl rfl)
theorem dX1_napkin_4 : decode cX1_napkin 4 = .ok (.getfield 99, 3) := dk_180 0 99 (dk_at dksX1_napkin_0 4 rfl rfl)
theorem dX1_napkin_7 : decode cX1_napkin 7 = .ok (.i2l, 1) := dk_133 (dk_at dksX1_napkin_0 7 rfl rfl)
theorem dX1_napkin_8 : decode cX1_napkin 8 = .ok (.invokestatic 106, 3) := dk_184 0 106 (dk_at dksX1_napkin_0 8 rfl rfl)
theorem dX1_napkin_11 : decode cX1_napkin 11 = .ok (.invokestatic 110, 3) := dk_184 0 110 (dk_at dksX1_napkin_0 11 rfl rfl)
theorem dX1_napkin_14 : decode cX1_napkin 14 = .ok (.aload_n 0, 1) := dk_42 (dk_at dksX1_napkin_0 14 rfl rfl)
theorem dX1_napkin_15 : decode cX1_napkin 15 = .ok (.iconst 0, 1) := dk_3 (dk_at dksX1_napkin_0 15 rfl rfl)
theorem dX1_napkin_16 : decode cX1_napkin 16 = .ok (.putfield 114, 3) := dk_181 0 114 (dk_at dksX1_napkin_0 16 rfl rfl)
theorem dX1_napkin_19 : decode cX1_napkin 19 = .ok (.aload_n 0, 1) := dk_42 (dk_at dksX1_napkin_0 19 rfl rfl)
theorem dX1_napkin_20 : decode cX1_napkin 20 = .ok (.iconst (-1), 1) := dk_2 (dk_at dksX1_napkin_0 20 rfl rfl)
theorem dX1_napkin_21 : decode cX1_napkin 21 = .ok (.putfield 52, 3) := dk_181 0 52 (dk_at dksX1_napkin_0 21 rfl rfl)
theorem dX1_napkin_24 : decode cX1_napkin 24 = .ok (.aload_n 0, 1) := dk_42 (dk_at dksX1_napkin_1 0 rfl rfl)
theorem dX1_napkin_25 : decode cX1_napkin 25 = .ok (.getfield 19, 3) := dk_180 0 19 (dk_at dksX1_napkin_1 1 rfl rfl)
theorem dX1_napkin_28 : decode cX1_napkin 28 = .ok (.new 117, 3) := dk_187 0 117 (dk_at dksX1_napkin_1 4 rfl rfl)
theorem dX1_napkin_31 : decode cX1_napkin 31 = .ok (.dup, 1) := dk_89 (dk_at dksX1_napkin_1 7 rfl rfl)
theorem dX1_napkin_32 : decode cX1_napkin 32 = .ok (.aload_n 0, 1) := dk_42 (dk_at dksX1_napkin_1 8 rfl rfl)
theorem dX1_napkin_33 : decode cX1_napkin 33 = .ok (.getfield 48, 3) := dk_180 0 48 (dk_at dksX1_napkin_1 9 rfl rfl)
theorem dX1_napkin_36 : decode cX1_napkin 36 = .ok (.iload_n 1, 1) := dk_27 (dk_at dksX1_napkin_1 12 rfl rfl)
theorem dX1_napkin_37 : decode cX1_napkin 37 = .ok (.invokespecial 119, 3) := dk_183 0 119 (dk_at dksX1_napkin_1 13 rfl rfl)
theorem dX1_napkin_40 : decode cX1_napkin 40 = .ok (.invokevirtual 122, 3) := dk_182 0 122 (dk_at dksX1_napkin_1 16 rfl rfl)
theorem dX1_napkin_43 : decode cX1_napkin 43 = .ok (.invokevirtual 126, 3) := dk_182 0 126 (dk_at dksX1_napkin_1 19 rfl rfl)
theorem dX1_napkin_46 : decode cX1_napkin 46 = .ok (.aload_n 0, 1) := dk_42 (dk_at dksX1_napkin_1 22 rfl rfl)
theorem dX1_napkin_47 : decode cX1_napkin 47 = .ok (.getfield 38, 3) := dk_180 0 38 (dk_at dksX1_napkin_2 0 rfl rfl)
theorem dX1_napkin_50 : decode cX1_napkin 50 = .ok (.invokevirtual 74, 3) := dk_182 0 74 (dk_at dksX1_napkin_2 3 rfl rfl)
theorem dX1_napkin_53 : decode cX1_napkin 53 = .ok (.aload_n 0, 1) := dk_42 (dk_at dksX1_napkin_2 6 rfl rfl)
theorem dX1_napkin_54 : decode cX1_napkin 54 = .ok (.getfield 19, 3) := dk_180 0 19 (dk_at dksX1_napkin_2 7 rfl rfl)
theorem dX1_napkin_57 : decode cX1_napkin 57 = .ok (.getfield 130, 3) := dk_180 0 130 (dk_at dksX1_napkin_2 10 rfl rfl)
theorem dX1_napkin_60 : decode cX1_napkin 60 = .ok (.getfield 134, 3) := dk_180 0 134 (dk_at dksX1_napkin_2 13 rfl rfl)
theorem dX1_napkin_63 : decode cX1_napkin 63 = .ok (.istore_n 2, 1) := dk_61 (dk_at dksX1_napkin_2 16 rfl rfl)
theorem dX1_napkin_64 : decode cX1_napkin 64 = .ok (.aload_n 0, 1) := dk_42 (dk_at dksX1_napkin_2 17 rfl rfl)
theorem dX1_napkin_65 : decode cX1_napkin 65 = .ok (.iconst 0, 1) := dk_3 (dk_at dksX1_napkin_2 18 rfl rfl)
theorem dX1_napkin_66 : decode cX1_napkin 66 = .ok (.putfield 99, 3) := dk_181 0 99 (dk_at dksX1_napkin_2 19 rfl rfl)
theorem dX1_napkin_69 : decode cX1_napkin 69 = .ok (.iload_n 2, 1) := dk_28 (dk_at dksX1_napkin_2 22 rfl rfl)
theorem dX1_napkin_70 : decode cX1_napkin 70 = .ok (.ireturn, 1) := dk_172 (dk_at dksX1_napkin_2 23 rfl rfl)
theorem dX1_napkin_71 : decode cX1_napkin 71 = .ok (.astore_n 2, 1) := dk_77 (dk_at dksX1_napkin_3 0 rfl rfl)
theorem dX1_napkin_72 : decode cX1_napkin 72 = .ok (.aload_n 0, 1) := dk_42 (dk_at dksX1_napkin_3 1 rfl rfl)
theorem dX1_napkin_73 : decode cX1_napkin 73 = .ok (.aload_n 2, 1) := dk_44 (dk_at dksX1_napkin_3 2 rfl rfl)
theorem dX1_napkin_74 : decode cX1_napkin 74 = .ok (.getfield 141, 3) := dk_180 0 141 (dk_at dksX1_napkin_3 3 rfl rfl)
theorem dX1_napkin_77 : decode cX1_napkin 77 = .ok (.putfield 114, 3) := dk_181 0 114 (dk_at dksX1_napkin_3 6 rfl rfl)
theorem dX1_napkin_80 : decode cX1_napkin 80 = .ok (.aload_n 0, 1) := dk_42 (dk_at dksX1_napkin_3 9 rfl rfl)
theorem dX1_napkin_81 : decode cX1_napkin 81 = .ok (.aload_n 2, 1) := dk_44 (dk_at dksX1_napkin_3 10 rfl rfl)
theorem dX1_napkin_82 : decode cX1_napkin 82 = .ok (.getfield 144, 3) := dk_180 0 144 (dk_at dksX1_napkin_3 11 rfl rfl)
theorem dX1_napkin_85 : decode cX1_napkin 85 = .ok (.putfield 52, 3) := dk_181 0 52 (dk_at dksX1_napkin_3 14 rfl rfl)
theorem dX1_napkin_88 : decode cX1_napkin 88 = .ok (.bipush (-10), 2) := dk_16 246 (dk_at dksX1_napkin_3 17 rfl rfl)
theorem dX1_napkin_90 : decode cX1_napkin 90 = .ok (.aload_n 2, 1) := dk_44 (dk_at dksX1_napkin_3 19 rfl rfl)
theorem dX1_napkin_91 : decode cX1_napkin 91 = .ok (.getfield 141, 3) := dk_180 0 141 (dk_at dksX1_napkin_3 20 rfl rfl)
theorem dX1_napkin_94 : decode cX1_napkin 94 = .ok (.isub, 1) := dk_100 (dk_at dksX1_napkin_3 23 rfl rfl)
theorem dX1_napkin_95 : decode cX1_napkin 95 = .ok (.istore_n 3, 1) := dk_62 (dk_at dksX1_napkin_4 0 rfl rfl)
theorem dX1_napkin_96 : decode cX1_napkin 96 = .ok (.aload_n 0, 1) := dk_42 (dk_at dksX1_napkin_4 1 rfl rfl)
theorem dX1_napkin_97 : decode cX1_napkin 97 = .ok (.iconst 0, 1) := dk_3 (dk_at dksX1_napkin_4 2 rfl rfl)
theorem dX1_napkin_98 : decode cX1_napkin 98 = .ok (.putfield 99, 3) := dk_181 0 99 (dk_at dksX1_napkin_4 3 rfl rfl)
theorem dX1_napkin_101 : decode cX1_napkin 101 = .ok (.iload_n 3, 1) := dk_29 (dk_at dksX1_napkin_4 6 rfl rfl)
theorem dX1_napkin_102 : decode cX1_napkin 102 = .ok (.ireturn, 1) := dk_172 (dk_at dksX1_napkin_4 7 rfl rfl)
theorem dX1_napkin_103 : decode cX1_napkin 103 = .ok (.astore 4, 2) := dk_58 4 (dk_at dksX1_napkin_4 8 rfl rfl)
theorem dX1_napkin_105 : decode cX1_napkin 105 = .ok (.aload_n 0, 1) := dk_42 (dk_at dksX1_napkin_4 10 rfl rfl)
theorem dX1_napkin_106 : decode cX1_napkin 106 = .ok (.iconst 0, 1) := dk_3 (dk_at dksX1_napkin_4 11 rfl rfl)
theorem dX1_napkin_107 : decode cX1_napkin 107 = .ok (.putfield 99, 3) := dk_181 0 99 (dk_at dksX1_napkin_4 12 rfl rfl)
theorem dX1_napkin_110 : decode cX1_napkin 110 = .ok (.aload 4, 2) := dk_25 4 (dk_at dksX1_napkin_4 15 rfl rfl)
theorem dX1_napkin_112 : decode cX1_napkin 112 = .ok (.athrow, 1) := dk_191 (dk_at dksX1_napkin_4 17 rfl rfl)
abbrev cX1_needs : ByteArray := prog_1_method_2_code
def yX1_needs : MethodName := ⟨RX1, "needs", "(Z)V"⟩
def dkwX1_needs_0 : List UInt8 := [26, 154, 0, 11, 187, 0, 1, 89, 183, 0, 3, 191, 177]
abbrev dktX1_needs_0 : List UInt8 := dkwX1_needs_0 ++ []
theorem dksX1_needs_0 : cX1_needs.data.toList.drop 0 = dktX1_needs_0 := by decide +kernel
theorem dX1_needs_0 : decode cX1_needs 0 = .ok (.iload_n 0, 1) := dk_26 (dk_at dksX1_needs_0 0 rfl rfl)
theorem dX1_needs_1 : decode cX1_needs 1 = .ok (.ifCond .ne 11, 3) := dk_154 0 11 (dk_at dksX1_needs_0 1 rfl rfl)
theorem dX1_needs_4 : decode cX1_needs 4 = .ok (.new 1, 3) := dk_187 0 1 (dk_at dksX1_needs_0 4 rfl rfl)
theorem dX1_needs_7 : decode cX1_needs 7 = .ok (.dup, 1) := dk_89 (dk_at dksX1_needs_0 7 rfl rfl)
theorem dX1_needs_8 : decode cX1_needs 8 = .ok (.invokespecial 3, 3) := dk_183 0 3 (dk_at dksX1_needs_0 8 rfl rfl)
theorem dX1_needs_11 : decode cX1_needs 11 = .ok (.athrow, 1) := dk_191 (dk_at dksX1_needs_0 11 rfl rfl)
theorem dX1_needs_12 : decode cX1_needs 12 = .ok (.return_, 1) := dk_177 (dk_at dksX1_needs_0 12 rfl rfl)
abbrev cX1_cell : ByteArray := prog_1_method_16_code
def yX1_cell : MethodName := ⟨RX1, "cell", "(II)I"⟩
def dkwX1_cell_4 : List UInt8 := [167, 0, 4, 3, 172, 187, 0, 1, 89, 183, 0, 3, 191]
abbrev dktX1_cell_4 : List UInt8 := dkwX1_cell_4 ++ []
def dkwX1_cell_3 : List UInt8 := [182, 0, 182, 172, 45, 27, 45, 27, 182, 0, 182, 182, 0, 186, 172, 45, 27, 182, 0, 190, 153, 0, 7, 4]
abbrev dktX1_cell_3 : List UInt8 := dkwX1_cell_3 ++ dktX1_cell_4
def dkwX1_cell_2 : List UInt8 := [42, 180, 0, 19, 180, 0, 175, 27, 46, 172, 42, 180, 0, 19, 180, 0, 179, 27, 46, 172, 45, 27]
abbrev dktX1_cell_2 : List UInt8 := dkwX1_cell_2 ++ dktX1_cell_3
def dkwX1_cell_1 : List UInt8 := [170, 0, 0, 0, 0, 0, 86, 0, 0, 0, 0, 0, 0, 0, 4, 0, 0, 0, 35, 0, 0, 0, 45, 0, 0, 0, 55, 0, 0, 0, 61, 0, 0, 0, 72]
abbrev dktX1_cell_1 : List UInt8 := dkwX1_cell_1 ++ dktX1_cell_2
def dkwX1_cell_0 : List UInt8 := [42, 180, 0, 19, 180, 0, 130, 27, 133, 182, 0, 171, 184, 0, 168, 42, 182, 0, 161, 78, 28]
abbrev dktX1_cell_0 : List UInt8 := dkwX1_cell_0 ++ dktX1_cell_1
theorem dksX1_cell_0 : cX1_cell.data.toList.drop 0 = dktX1_cell_0 := by decide +kernel
theorem dksX1_cell_1 : cX1_cell.data.toList.drop 21 = dktX1_cell_1 := dk_seg dksX1_cell_0 21 rfl rfl
theorem dksX1_cell_2 : cX1_cell.data.toList.drop 56 = dktX1_cell_2 := dk_seg dksX1_cell_1 35 rfl rfl
theorem dksX1_cell_3 : cX1_cell.data.toList.drop 78 = dktX1_cell_3 := dk_seg dksX1_cell_2 22 rfl rfl
theorem dksX1_cell_4 : cX1_cell.data.toList.drop 102 = dktX1_cell_4 := dk_seg dksX1_cell_3 24 rfl rfl
theorem dX1_cell_0 : decode cX1_cell 0 = .ok (.aload_n 0, 1) := dk_42 (dk_at dksX1_cell_0 0 rfl rfl)
theorem dX1_cell_1 : decode cX1_cell 1 = .ok (.getfield 19, 3) := dk_180 0 19 (dk_at dksX1_cell_0 1 rfl rfl)
theorem dX1_cell_4 : decode cX1_cell 4 = .ok (.getfield 130, 3) := dk_180 0 130 (dk_at dksX1_cell_0 4 rfl rfl)
theorem dX1_cell_7 : decode cX1_cell 7 = .ok (.iload_n 1, 1) := dk_27 (dk_at dksX1_cell_0 7 rfl rfl)
theorem dX1_cell_8 : decode cX1_cell 8 = .ok (.i2l, 1) := dk_133 (dk_at dksX1_cell_0 8 rfl rfl)
theorem dX1_cell_9 : decode cX1_cell 9 = .ok (.invokevirtual 171, 3) := dk_182 0 171 (dk_at dksX1_cell_0 9 rfl rfl)
theorem dX1_cell_12 : decode cX1_cell 12 = .ok (.invokestatic 168, 3) := dk_184 0 168 (dk_at dksX1_cell_0 12 rfl rfl)
theorem dX1_cell_15 : decode cX1_cell 15 = .ok (.aload_n 0, 1) := dk_42 (dk_at dksX1_cell_0 15 rfl rfl)
theorem dX1_cell_16 : decode cX1_cell 16 = .ok (.invokevirtual 161, 3) := dk_182 0 161 (dk_at dksX1_cell_0 16 rfl rfl)
theorem dX1_cell_19 : decode cX1_cell 19 = .ok (.astore_n 3, 1) := dk_78 (dk_at dksX1_cell_0 19 rfl rfl)
theorem dX1_cell_20 : decode cX1_cell 20 = .ok (.iload_n 2, 1) := dk_28 (dk_at dksX1_cell_0 20 rfl rfl)
theorem dX1_cell_21 : decode cX1_cell 21 = .ok (.tableswitch 86 0 4 #[35, 45, 55, 61, 72], 35) := by decide +kernel
theorem dX1_cell_56 : decode cX1_cell 56 = .ok (.aload_n 0, 1) := dk_42 (dk_at dksX1_cell_2 0 rfl rfl)
theorem dX1_cell_57 : decode cX1_cell 57 = .ok (.getfield 19, 3) := dk_180 0 19 (dk_at dksX1_cell_2 1 rfl rfl)
theorem dX1_cell_60 : decode cX1_cell 60 = .ok (.getfield 175, 3) := dk_180 0 175 (dk_at dksX1_cell_2 4 rfl rfl)
theorem dX1_cell_63 : decode cX1_cell 63 = .ok (.iload_n 1, 1) := dk_27 (dk_at dksX1_cell_2 7 rfl rfl)
theorem dX1_cell_64 : decode cX1_cell 64 = .ok (.iaload, 1) := dk_46 (dk_at dksX1_cell_2 8 rfl rfl)
theorem dX1_cell_65 : decode cX1_cell 65 = .ok (.ireturn, 1) := dk_172 (dk_at dksX1_cell_2 9 rfl rfl)
theorem dX1_cell_66 : decode cX1_cell 66 = .ok (.aload_n 0, 1) := dk_42 (dk_at dksX1_cell_2 10 rfl rfl)
theorem dX1_cell_67 : decode cX1_cell 67 = .ok (.getfield 19, 3) := dk_180 0 19 (dk_at dksX1_cell_2 11 rfl rfl)
theorem dX1_cell_70 : decode cX1_cell 70 = .ok (.getfield 179, 3) := dk_180 0 179 (dk_at dksX1_cell_2 14 rfl rfl)
theorem dX1_cell_73 : decode cX1_cell 73 = .ok (.iload_n 1, 1) := dk_27 (dk_at dksX1_cell_2 17 rfl rfl)
theorem dX1_cell_74 : decode cX1_cell 74 = .ok (.iaload, 1) := dk_46 (dk_at dksX1_cell_2 18 rfl rfl)
theorem dX1_cell_75 : decode cX1_cell 75 = .ok (.ireturn, 1) := dk_172 (dk_at dksX1_cell_2 19 rfl rfl)
theorem dX1_cell_76 : decode cX1_cell 76 = .ok (.aload_n 3, 1) := dk_45 (dk_at dksX1_cell_2 20 rfl rfl)
theorem dX1_cell_77 : decode cX1_cell 77 = .ok (.iload_n 1, 1) := dk_27 (dk_at dksX1_cell_2 21 rfl rfl)
theorem dX1_cell_78 : decode cX1_cell 78 = .ok (.invokevirtual 182, 3) := dk_182 0 182 (dk_at dksX1_cell_3 0 rfl rfl)
theorem dX1_cell_81 : decode cX1_cell 81 = .ok (.ireturn, 1) := dk_172 (dk_at dksX1_cell_3 3 rfl rfl)
theorem dX1_cell_82 : decode cX1_cell 82 = .ok (.aload_n 3, 1) := dk_45 (dk_at dksX1_cell_3 4 rfl rfl)
theorem dX1_cell_83 : decode cX1_cell 83 = .ok (.iload_n 1, 1) := dk_27 (dk_at dksX1_cell_3 5 rfl rfl)
theorem dX1_cell_84 : decode cX1_cell 84 = .ok (.aload_n 3, 1) := dk_45 (dk_at dksX1_cell_3 6 rfl rfl)
theorem dX1_cell_85 : decode cX1_cell 85 = .ok (.iload_n 1, 1) := dk_27 (dk_at dksX1_cell_3 7 rfl rfl)
theorem dX1_cell_86 : decode cX1_cell 86 = .ok (.invokevirtual 182, 3) := dk_182 0 182 (dk_at dksX1_cell_3 8 rfl rfl)
theorem dX1_cell_89 : decode cX1_cell 89 = .ok (.invokevirtual 186, 3) := dk_182 0 186 (dk_at dksX1_cell_3 11 rfl rfl)
theorem dX1_cell_92 : decode cX1_cell 92 = .ok (.ireturn, 1) := dk_172 (dk_at dksX1_cell_3 14 rfl rfl)
theorem dX1_cell_93 : decode cX1_cell 93 = .ok (.aload_n 3, 1) := dk_45 (dk_at dksX1_cell_3 15 rfl rfl)
theorem dX1_cell_94 : decode cX1_cell 94 = .ok (.iload_n 1, 1) := dk_27 (dk_at dksX1_cell_3 16 rfl rfl)
theorem dX1_cell_95 : decode cX1_cell 95 = .ok (.invokevirtual 190, 3) := dk_182 0 190 (dk_at dksX1_cell_3 17 rfl rfl)
theorem dX1_cell_98 : decode cX1_cell 98 = .ok (.ifCond .eq 7, 3) := dk_153 0 7 (dk_at dksX1_cell_3 20 rfl rfl)
theorem dX1_cell_101 : decode cX1_cell 101 = .ok (.iconst 1, 1) := dk_4 (dk_at dksX1_cell_3 23 rfl rfl)
theorem dX1_cell_102 : decode cX1_cell 102 = .ok (.goto 4, 3) := dk_167 0 4 (dk_at dksX1_cell_4 0 rfl rfl)
theorem dX1_cell_105 : decode cX1_cell 105 = .ok (.iconst 0, 1) := dk_3 (dk_at dksX1_cell_4 3 rfl rfl)
theorem dX1_cell_106 : decode cX1_cell 106 = .ok (.ireturn, 1) := dk_172 (dk_at dksX1_cell_4 4 rfl rfl)
theorem dX1_cell_107 : decode cX1_cell 107 = .ok (.new 1, 3) := dk_187 0 1 (dk_at dksX1_cell_4 5 rfl rfl)
theorem dX1_cell_110 : decode cX1_cell 110 = .ok (.dup, 1) := dk_89 (dk_at dksX1_cell_4 8 rfl rfl)
theorem dX1_cell_111 : decode cX1_cell 111 = .ok (.invokespecial 3, 3) := dk_183 0 3 (dk_at dksX1_cell_4 9 rfl rfl)
theorem dX1_cell_114 : decode cX1_cell 114 = .ok (.athrow, 1) := dk_191 (dk_at dksX1_cell_4 12 rfl rfl)
abbrev cX1_there : ByteArray := prog_1_method_4_code
def yX1_there : MethodName := ⟨RX1, "there", "(Z)V"⟩
def dkwX1_there_0 : List UInt8 := [26, 154, 0, 11, 187, 0, 10, 89, 183, 0, 12, 191, 177]
abbrev dktX1_there_0 : List UInt8 := dkwX1_there_0 ++ []
theorem dksX1_there_0 : cX1_there.data.toList.drop 0 = dktX1_there_0 := by decide +kernel
theorem dX1_there_0 : decode cX1_there 0 = .ok (.iload_n 0, 1) := dk_26 (dk_at dksX1_there_0 0 rfl rfl)
theorem dX1_there_1 : decode cX1_there 1 = .ok (.ifCond .ne 11, 3) := dk_154 0 11 (dk_at dksX1_there_0 1 rfl rfl)
theorem dX1_there_4 : decode cX1_there 4 = .ok (.new 10, 3) := dk_187 0 10 (dk_at dksX1_there_0 4 rfl rfl)
theorem dX1_there_7 : decode cX1_there 7 = .ok (.dup, 1) := dk_89 (dk_at dksX1_there_0 7 rfl rfl)
theorem dX1_there_8 : decode cX1_there 8 = .ok (.invokespecial 12, 3) := dk_183 0 12 (dk_at dksX1_there_0 8 rfl rfl)
theorem dX1_there_11 : decode cX1_there 11 = .ok (.athrow, 1) := dk_191 (dk_at dksX1_there_0 11 rfl rfl)
theorem dX1_there_12 : decode cX1_there 12 = .ok (.return_, 1) := dk_177 (dk_at dksX1_there_0 12 rfl rfl)
abbrev cX1_high : ByteArray := prog_1_method_17_code
def yX1_high : MethodName := ⟨RX1, "high", "(I)I"⟩
def dkwX1_high_0 : List UInt8 := [42, 27, 182, 0, 194, 180, 0, 198, 27, 46, 172]
abbrev dktX1_high_0 : List UInt8 := dkwX1_high_0 ++ []
theorem dksX1_high_0 : cX1_high.data.toList.drop 0 = dktX1_high_0 := by decide +kernel
theorem dX1_high_0 : decode cX1_high 0 = .ok (.aload_n 0, 1) := dk_42 (dk_at dksX1_high_0 0 rfl rfl)
theorem dX1_high_1 : decode cX1_high 1 = .ok (.iload_n 1, 1) := dk_27 (dk_at dksX1_high_0 1 rfl rfl)
theorem dX1_high_2 : decode cX1_high 2 = .ok (.invokevirtual 194, 3) := dk_182 0 194 (dk_at dksX1_high_0 2 rfl rfl)
theorem dX1_high_5 : decode cX1_high 5 = .ok (.getfield 198, 3) := dk_180 0 198 (dk_at dksX1_high_0 5 rfl rfl)
theorem dX1_high_8 : decode cX1_high 8 = .ok (.iload_n 1, 1) := dk_27 (dk_at dksX1_high_0 8 rfl rfl)
theorem dX1_high_9 : decode cX1_high 9 = .ok (.iaload, 1) := dk_46 (dk_at dksX1_high_0 9 rfl rfl)
theorem dX1_high_10 : decode cX1_high 10 = .ok (.ireturn, 1) := dk_172 (dk_at dksX1_high_0 10 rfl rfl)
abbrev cX1_at : ByteArray := prog_1_method_15_code
def yX1_at : MethodName := ⟨RX1, "at", "(I)LNapkinDeeds$Look;"⟩
def dkwX1_at_0 : List UInt8 := [42, 182, 0, 161, 77, 27, 133, 9, 44, 180, 0, 165, 4, 100, 133, 184, 0, 106, 184, 0, 168, 44, 176]
abbrev dktX1_at_0 : List UInt8 := dkwX1_at_0 ++ []
theorem dksX1_at_0 : cX1_at.data.toList.drop 0 = dktX1_at_0 := by decide +kernel
theorem dX1_at_0 : decode cX1_at 0 = .ok (.aload_n 0, 1) := dk_42 (dk_at dksX1_at_0 0 rfl rfl)
theorem dX1_at_1 : decode cX1_at 1 = .ok (.invokevirtual 161, 3) := dk_182 0 161 (dk_at dksX1_at_0 1 rfl rfl)
theorem dX1_at_4 : decode cX1_at 4 = .ok (.astore_n 2, 1) := dk_77 (dk_at dksX1_at_0 4 rfl rfl)
theorem dX1_at_5 : decode cX1_at 5 = .ok (.iload_n 1, 1) := dk_27 (dk_at dksX1_at_0 5 rfl rfl)
theorem dX1_at_6 : decode cX1_at 6 = .ok (.i2l, 1) := dk_133 (dk_at dksX1_at_0 6 rfl rfl)
theorem dX1_at_7 : decode cX1_at 7 = .ok (.lconst 0, 1) := dk_9 (dk_at dksX1_at_0 7 rfl rfl)
theorem dX1_at_8 : decode cX1_at 8 = .ok (.aload_n 2, 1) := dk_44 (dk_at dksX1_at_0 8 rfl rfl)
theorem dX1_at_9 : decode cX1_at 9 = .ok (.getfield 165, 3) := dk_180 0 165 (dk_at dksX1_at_0 9 rfl rfl)
theorem dX1_at_12 : decode cX1_at 12 = .ok (.iconst 1, 1) := dk_4 (dk_at dksX1_at_0 12 rfl rfl)
theorem dX1_at_13 : decode cX1_at 13 = .ok (.isub, 1) := dk_100 (dk_at dksX1_at_0 13 rfl rfl)
theorem dX1_at_14 : decode cX1_at 14 = .ok (.i2l, 1) := dk_133 (dk_at dksX1_at_0 14 rfl rfl)
theorem dX1_at_15 : decode cX1_at 15 = .ok (.invokestatic 106, 3) := dk_184 0 106 (dk_at dksX1_at_0 15 rfl rfl)
theorem dX1_at_18 : decode cX1_at 18 = .ok (.invokestatic 168, 3) := dk_184 0 168 (dk_at dksX1_at_0 18 rfl rfl)
theorem dX1_at_21 : decode cX1_at 21 = .ok (.aload_n 2, 1) := dk_44 (dk_at dksX1_at_0 21 rfl rfl)
theorem dX1_at_22 : decode cX1_at 22 = .ok (.areturn, 1) := dk_176 (dk_at dksX1_at_0 22 rfl rfl)
abbrev cX1_layer : ByteArray := prog_1_method_18_code
def yX1_layer : MethodName := ⟨RX1, "layer", "(II)I"⟩
def dkwX1_layer_1 : List UInt8 := [46, 162, 0, 16, 45, 180, 0, 201, 27, 50, 28, 46, 5, 108, 167, 0, 4, 2, 172]
abbrev dktX1_layer_1 : List UInt8 := dkwX1_layer_1 ++ []
def dkwX1_layer_0 : List UInt8 := [42, 27, 182, 0, 194, 78, 28, 155, 0, 7, 4, 167, 0, 4, 3, 184, 0, 110, 28, 45, 180, 0, 198, 27]
abbrev dktX1_layer_0 : List UInt8 := dkwX1_layer_0 ++ dktX1_layer_1
theorem dksX1_layer_0 : cX1_layer.data.toList.drop 0 = dktX1_layer_0 := by decide +kernel
theorem dksX1_layer_1 : cX1_layer.data.toList.drop 24 = dktX1_layer_1 := dk_seg dksX1_layer_0 24 rfl rfl
theorem dX1_layer_0 : decode cX1_layer 0 = .ok (.aload_n 0, 1) := dk_42 (dk_at dksX1_layer_0 0 rfl rfl)
theorem dX1_layer_1 : decode cX1_layer 1 = .ok (.iload_n 1, 1) := dk_27 (dk_at dksX1_layer_0 1 rfl rfl)
theorem dX1_layer_2 : decode cX1_layer 2 = .ok (.invokevirtual 194, 3) := dk_182 0 194 (dk_at dksX1_layer_0 2 rfl rfl)
theorem dX1_layer_5 : decode cX1_layer 5 = .ok (.astore_n 3, 1) := dk_78 (dk_at dksX1_layer_0 5 rfl rfl)
theorem dX1_layer_6 : decode cX1_layer 6 = .ok (.iload_n 2, 1) := dk_28 (dk_at dksX1_layer_0 6 rfl rfl)
theorem dX1_layer_7 : decode cX1_layer 7 = .ok (.ifCond .lt 7, 3) := dk_155 0 7 (dk_at dksX1_layer_0 7 rfl rfl)
theorem dX1_layer_10 : decode cX1_layer 10 = .ok (.iconst 1, 1) := dk_4 (dk_at dksX1_layer_0 10 rfl rfl)
theorem dX1_layer_11 : decode cX1_layer 11 = .ok (.goto 4, 3) := dk_167 0 4 (dk_at dksX1_layer_0 11 rfl rfl)
theorem dX1_layer_14 : decode cX1_layer 14 = .ok (.iconst 0, 1) := dk_3 (dk_at dksX1_layer_0 14 rfl rfl)
theorem dX1_layer_15 : decode cX1_layer 15 = .ok (.invokestatic 110, 3) := dk_184 0 110 (dk_at dksX1_layer_0 15 rfl rfl)
theorem dX1_layer_18 : decode cX1_layer 18 = .ok (.iload_n 2, 1) := dk_28 (dk_at dksX1_layer_0 18 rfl rfl)
theorem dX1_layer_19 : decode cX1_layer 19 = .ok (.aload_n 3, 1) := dk_45 (dk_at dksX1_layer_0 19 rfl rfl)
theorem dX1_layer_20 : decode cX1_layer 20 = .ok (.getfield 198, 3) := dk_180 0 198 (dk_at dksX1_layer_0 20 rfl rfl)
theorem dX1_layer_23 : decode cX1_layer 23 = .ok (.iload_n 1, 1) := dk_27 (dk_at dksX1_layer_0 23 rfl rfl)
theorem dX1_layer_24 : decode cX1_layer 24 = .ok (.iaload, 1) := dk_46 (dk_at dksX1_layer_1 0 rfl rfl)
theorem dX1_layer_25 : decode cX1_layer 25 = .ok (.if_icmp .ge 16, 3) := dk_162 0 16 (dk_at dksX1_layer_1 1 rfl rfl)
theorem dX1_layer_28 : decode cX1_layer 28 = .ok (.aload_n 3, 1) := dk_45 (dk_at dksX1_layer_1 4 rfl rfl)
theorem dX1_layer_29 : decode cX1_layer 29 = .ok (.getfield 201, 3) := dk_180 0 201 (dk_at dksX1_layer_1 5 rfl rfl)
theorem dX1_layer_32 : decode cX1_layer 32 = .ok (.iload_n 1, 1) := dk_27 (dk_at dksX1_layer_1 8 rfl rfl)
theorem dX1_layer_33 : decode cX1_layer 33 = .ok (.aaload, 1) := dk_50 (dk_at dksX1_layer_1 9 rfl rfl)
theorem dX1_layer_34 : decode cX1_layer 34 = .ok (.iload_n 2, 1) := dk_28 (dk_at dksX1_layer_1 10 rfl rfl)
theorem dX1_layer_35 : decode cX1_layer 35 = .ok (.iaload, 1) := dk_46 (dk_at dksX1_layer_1 11 rfl rfl)
theorem dX1_layer_36 : decode cX1_layer 36 = .ok (.iconst 2, 1) := dk_5 (dk_at dksX1_layer_1 12 rfl rfl)
theorem dX1_layer_37 : decode cX1_layer 37 = .ok (.idiv, 1) := dk_108 (dk_at dksX1_layer_1 13 rfl rfl)
theorem dX1_layer_38 : decode cX1_layer 38 = .ok (.goto 4, 3) := dk_167 0 4 (dk_at dksX1_layer_1 14 rfl rfl)
theorem dX1_layer_41 : decode cX1_layer 41 = .ok (.iconst (-1), 1) := dk_2 (dk_at dksX1_layer_1 17 rfl rfl)
theorem dX1_layer_42 : decode cX1_layer 42 = .ok (.ireturn, 1) := dk_172 (dk_at dksX1_layer_1 18 rfl rfl)
abbrev cX1_above : ByteArray := prog_1_method_19_code
def yX1_above : MethodName := ⟨RX1, "above", "(I)I"⟩
def dkwX1_above_0 : List UInt8 := [42, 180, 0, 19, 42, 27, 182, 0, 194, 27, 182, 0, 205, 182, 0, 208, 172]
abbrev dktX1_above_0 : List UInt8 := dkwX1_above_0 ++ []
theorem dksX1_above_0 : cX1_above.data.toList.drop 0 = dktX1_above_0 := by decide +kernel
theorem dX1_above_0 : decode cX1_above 0 = .ok (.aload_n 0, 1) := dk_42 (dk_at dksX1_above_0 0 rfl rfl)
theorem dX1_above_1 : decode cX1_above 1 = .ok (.getfield 19, 3) := dk_180 0 19 (dk_at dksX1_above_0 1 rfl rfl)
theorem dX1_above_4 : decode cX1_above 4 = .ok (.aload_n 0, 1) := dk_42 (dk_at dksX1_above_0 4 rfl rfl)
theorem dX1_above_5 : decode cX1_above 5 = .ok (.iload_n 1, 1) := dk_27 (dk_at dksX1_above_0 5 rfl rfl)
theorem dX1_above_6 : decode cX1_above 6 = .ok (.invokevirtual 194, 3) := dk_182 0 194 (dk_at dksX1_above_0 6 rfl rfl)
theorem dX1_above_9 : decode cX1_above 9 = .ok (.iload_n 1, 1) := dk_27 (dk_at dksX1_above_0 9 rfl rfl)
theorem dX1_above_10 : decode cX1_above 10 = .ok (.invokevirtual 205, 3) := dk_182 0 205 (dk_at dksX1_above_0 10 rfl rfl)
theorem dX1_above_13 : decode cX1_above 13 = .ok (.invokevirtual 208, 3) := dk_182 0 208 (dk_at dksX1_above_0 13 rfl rfl)
theorem dX1_above_16 : decode cX1_above 16 = .ok (.ireturn, 1) := dk_172 (dk_at dksX1_above_0 16 rfl rfl)
abbrev cX1_beneath : ByteArray := prog_1_method_20_code
def yX1_beneath : MethodName := ⟨RX1, "beneath", "(I)I"⟩
def dkwX1_beneath_0 : List UInt8 := [42, 180, 0, 19, 42, 27, 182, 0, 194, 27, 182, 0, 211, 182, 0, 208, 172]
abbrev dktX1_beneath_0 : List UInt8 := dkwX1_beneath_0 ++ []
theorem dksX1_beneath_0 : cX1_beneath.data.toList.drop 0 = dktX1_beneath_0 := by decide +kernel
theorem dX1_beneath_0 : decode cX1_beneath 0 = .ok (.aload_n 0, 1) := dk_42 (dk_at dksX1_beneath_0 0 rfl rfl)
theorem dX1_beneath_1 : decode cX1_beneath 1 = .ok (.getfield 19, 3) := dk_180 0 19 (dk_at dksX1_beneath_0 1 rfl rfl)
theorem dX1_beneath_4 : decode cX1_beneath 4 = .ok (.aload_n 0, 1) := dk_42 (dk_at dksX1_beneath_0 4 rfl rfl)
theorem dX1_beneath_5 : decode cX1_beneath 5 = .ok (.iload_n 1, 1) := dk_27 (dk_at dksX1_beneath_0 5 rfl rfl)
theorem dX1_beneath_6 : decode cX1_beneath 6 = .ok (.invokevirtual 194, 3) := dk_182 0 194 (dk_at dksX1_beneath_0 6 rfl rfl)
theorem dX1_beneath_9 : decode cX1_beneath 9 = .ok (.iload_n 1, 1) := dk_27 (dk_at dksX1_beneath_0 9 rfl rfl)
theorem dX1_beneath_10 : decode cX1_beneath 10 = .ok (.invokevirtual 211, 3) := dk_182 0 211 (dk_at dksX1_beneath_0 10 rfl rfl)
theorem dX1_beneath_13 : decode cX1_beneath 13 = .ok (.invokevirtual 208, 3) := dk_182 0 208 (dk_at dksX1_beneath_0 13 rfl rfl)
theorem dX1_beneath_16 : decode cX1_beneath 16 = .ok (.ireturn, 1) := dk_172 (dk_at dksX1_beneath_0 16 rfl rfl)
abbrev cX1_crease : ByteArray := prog_1_method_21_code
def yX1_crease : MethodName := ⟨RX1, "crease", "(I)I"⟩
def dkwX1_crease_1 : List UInt8 := [172]
abbrev dktX1_crease_1 : List UInt8 := dkwX1_crease_1 ++ []
def dkwX1_crease_0 : List UInt8 := [27, 133, 9, 42, 182, 0, 214, 5, 100, 133, 184, 0, 106, 184, 0, 168, 42, 182, 0, 161, 27, 182, 0, 215]
abbrev dktX1_crease_0 : List UInt8 := dkwX1_crease_0 ++ dktX1_crease_1
theorem dksX1_crease_0 : cX1_crease.data.toList.drop 0 = dktX1_crease_0 := by decide +kernel
theorem dksX1_crease_1 : cX1_crease.data.toList.drop 24 = dktX1_crease_1 := dk_seg dksX1_crease_0 24 rfl rfl
theorem dX1_crease_0 : decode cX1_crease 0 = .ok (.iload_n 1, 1) := dk_27 (dk_at dksX1_crease_0 0 rfl rfl)
theorem dX1_crease_1 : decode cX1_crease 1 = .ok (.i2l, 1) := dk_133 (dk_at dksX1_crease_0 1 rfl rfl)
theorem dX1_crease_2 : decode cX1_crease 2 = .ok (.lconst 0, 1) := dk_9 (dk_at dksX1_crease_0 2 rfl rfl)
theorem dX1_crease_3 : decode cX1_crease 3 = .ok (.aload_n 0, 1) := dk_42 (dk_at dksX1_crease_0 3 rfl rfl)
theorem dX1_crease_4 : decode cX1_crease 4 = .ok (.invokevirtual 214, 3) := dk_182 0 214 (dk_at dksX1_crease_0 4 rfl rfl)
theorem dX1_crease_7 : decode cX1_crease 7 = .ok (.iconst 2, 1) := dk_5 (dk_at dksX1_crease_0 7 rfl rfl)
theorem dX1_crease_8 : decode cX1_crease 8 = .ok (.isub, 1) := dk_100 (dk_at dksX1_crease_0 8 rfl rfl)
theorem dX1_crease_9 : decode cX1_crease 9 = .ok (.i2l, 1) := dk_133 (dk_at dksX1_crease_0 9 rfl rfl)
theorem dX1_crease_10 : decode cX1_crease 10 = .ok (.invokestatic 106, 3) := dk_184 0 106 (dk_at dksX1_crease_0 10 rfl rfl)
theorem dX1_crease_13 : decode cX1_crease 13 = .ok (.invokestatic 168, 3) := dk_184 0 168 (dk_at dksX1_crease_0 13 rfl rfl)
theorem dX1_crease_16 : decode cX1_crease 16 = .ok (.aload_n 0, 1) := dk_42 (dk_at dksX1_crease_0 16 rfl rfl)
theorem dX1_crease_17 : decode cX1_crease 17 = .ok (.invokevirtual 161, 3) := dk_182 0 161 (dk_at dksX1_crease_0 17 rfl rfl)
theorem dX1_crease_20 : decode cX1_crease 20 = .ok (.iload_n 1, 1) := dk_27 (dk_at dksX1_crease_0 20 rfl rfl)
theorem dX1_crease_21 : decode cX1_crease 21 = .ok (.invokevirtual 215, 3) := dk_182 0 215 (dk_at dksX1_crease_0 21 rfl rfl)
theorem dX1_crease_24 : decode cX1_crease 24 = .ok (.ireturn, 1) := dk_172 (dk_at dksX1_crease_1 0 rfl rfl)
abbrev cX1_folded : ByteArray := prog_1_method_22_code
def yX1_folded : MethodName := ⟨RX1, "folded", "(I)I"⟩
def dkwX1_folded_1 : List UInt8 := [180, 0, 19, 180, 0, 221, 27, 46, 167, 0, 4, 2, 172]
abbrev dktX1_folded_1 : List UInt8 := dkwX1_folded_1 ++ []
def dkwX1_folded_0 : List UInt8 := [27, 155, 0, 7, 4, 167, 0, 4, 3, 184, 0, 110, 27, 42, 180, 0, 19, 180, 0, 218, 162, 0, 15, 42]
abbrev dktX1_folded_0 : List UInt8 := dkwX1_folded_0 ++ dktX1_folded_1
theorem dksX1_folded_0 : cX1_folded.data.toList.drop 0 = dktX1_folded_0 := by decide +kernel
theorem dksX1_folded_1 : cX1_folded.data.toList.drop 24 = dktX1_folded_1 := dk_seg dksX1_folded_0 24 rfl rfl
theorem dX1_folded_0 : decode cX1_folded 0 = .ok (.iload_n 1, 1) := dk_27 (dk_at dksX1_folded_0 0 rfl rfl)
theorem dX1_folded_1 : decode cX1_folded 1 = .ok (.ifCond .lt 7, 3) := dk_155 0 7 (dk_at dksX1_folded_0 1 rfl rfl)
theorem dX1_folded_4 : decode cX1_folded 4 = .ok (.iconst 1, 1) := dk_4 (dk_at dksX1_folded_0 4 rfl rfl)
theorem dX1_folded_5 : decode cX1_folded 5 = .ok (.goto 4, 3) := dk_167 0 4 (dk_at dksX1_folded_0 5 rfl rfl)
theorem dX1_folded_8 : decode cX1_folded 8 = .ok (.iconst 0, 1) := dk_3 (dk_at dksX1_folded_0 8 rfl rfl)
theorem dX1_folded_9 : decode cX1_folded 9 = .ok (.invokestatic 110, 3) := dk_184 0 110 (dk_at dksX1_folded_0 9 rfl rfl)
theorem dX1_folded_12 : decode cX1_folded 12 = .ok (.iload_n 1, 1) := dk_27 (dk_at dksX1_folded_0 12 rfl rfl)
theorem dX1_folded_13 : decode cX1_folded 13 = .ok (.aload_n 0, 1) := dk_42 (dk_at dksX1_folded_0 13 rfl rfl)
theorem dX1_folded_14 : decode cX1_folded 14 = .ok (.getfield 19, 3) := dk_180 0 19 (dk_at dksX1_folded_0 14 rfl rfl)
theorem dX1_folded_17 : decode cX1_folded 17 = .ok (.getfield 218, 3) := dk_180 0 218 (dk_at dksX1_folded_0 17 rfl rfl)
theorem dX1_folded_20 : decode cX1_folded 20 = .ok (.if_icmp .ge 15, 3) := dk_162 0 15 (dk_at dksX1_folded_0 20 rfl rfl)
theorem dX1_folded_23 : decode cX1_folded 23 = .ok (.aload_n 0, 1) := dk_42 (dk_at dksX1_folded_0 23 rfl rfl)
theorem dX1_folded_24 : decode cX1_folded 24 = .ok (.getfield 19, 3) := dk_180 0 19 (dk_at dksX1_folded_1 0 rfl rfl)
theorem dX1_folded_27 : decode cX1_folded 27 = .ok (.getfield 221, 3) := dk_180 0 221 (dk_at dksX1_folded_1 3 rfl rfl)
theorem dX1_folded_30 : decode cX1_folded 30 = .ok (.iload_n 1, 1) := dk_27 (dk_at dksX1_folded_1 6 rfl rfl)
theorem dX1_folded_31 : decode cX1_folded 31 = .ok (.iaload, 1) := dk_46 (dk_at dksX1_folded_1 7 rfl rfl)
theorem dX1_folded_32 : decode cX1_folded 32 = .ok (.goto 4, 3) := dk_167 0 4 (dk_at dksX1_folded_1 8 rfl rfl)
theorem dX1_folded_35 : decode cX1_folded 35 = .ok (.iconst (-1), 1) := dk_2 (dk_at dksX1_folded_1 11 rfl rfl)
theorem dX1_folded_36 : decode cX1_folded 36 = .ok (.ireturn, 1) := dk_172 (dk_at dksX1_folded_1 12 rfl rfl)
abbrev cX1_likes_2 : ByteArray := prog_1_method_31_code
def yX1_likes_2 : MethodName := ⟨RX1, "likes", "(I)I"⟩
def dkwX1_likes_2_1 : List UInt8 := [180, 0, 19, 180, 0, 218, 182, 1, 26, 172]
abbrev dktX1_likes_2_1 : List UInt8 := dkwX1_likes_2_1 ++ []
def dkwX1_likes_2_0 : List UInt8 := [27, 133, 9, 42, 182, 1, 24, 4, 100, 133, 184, 0, 106, 184, 0, 168, 42, 27, 42, 182, 0, 161, 42]
abbrev dktX1_likes_2_0 : List UInt8 := dkwX1_likes_2_0 ++ dktX1_likes_2_1
theorem dksX1_likes_2_0 : cX1_likes_2.data.toList.drop 0 = dktX1_likes_2_0 := by decide +kernel
theorem dksX1_likes_2_1 : cX1_likes_2.data.toList.drop 23 = dktX1_likes_2_1 := dk_seg dksX1_likes_2_0 23 rfl rfl
theorem dX1_likes_2_0 : decode cX1_likes_2 0 = .ok (.iload_n 1, 1) := dk_27 (dk_at dksX1_likes_2_0 0 rfl rfl)
theorem dX1_likes_2_1 : decode cX1_likes_2 1 = .ok (.i2l, 1) := dk_133 (dk_at dksX1_likes_2_0 1 rfl rfl)
theorem dX1_likes_2_2 : decode cX1_likes_2 2 = .ok (.lconst 0, 1) := dk_9 (dk_at dksX1_likes_2_0 2 rfl rfl)
theorem dX1_likes_2_3 : decode cX1_likes_2 3 = .ok (.aload_n 0, 1) := dk_42 (dk_at dksX1_likes_2_0 3 rfl rfl)
theorem dX1_likes_2_4 : decode cX1_likes_2 4 = .ok (.invokevirtual 280, 3) := dk_182 1 24 (dk_at dksX1_likes_2_0 4 rfl rfl)
theorem dX1_likes_2_7 : decode cX1_likes_2 7 = .ok (.iconst 1, 1) := dk_4 (dk_at dksX1_likes_2_0 7 rfl rfl)
theorem dX1_likes_2_8 : decode cX1_likes_2 8 = .ok (.isub, 1) := dk_100 (dk_at dksX1_likes_2_0 8 rfl rfl)
theorem dX1_likes_2_9 : decode cX1_likes_2 9 = .ok (.i2l, 1) := dk_133 (dk_at dksX1_likes_2_0 9 rfl rfl)
theorem dX1_likes_2_10 : decode cX1_likes_2 10 = .ok (.invokestatic 106, 3) := dk_184 0 106 (dk_at dksX1_likes_2_0 10 rfl rfl)
theorem dX1_likes_2_13 : decode cX1_likes_2 13 = .ok (.invokestatic 168, 3) := dk_184 0 168 (dk_at dksX1_likes_2_0 13 rfl rfl)
theorem dX1_likes_2_16 : decode cX1_likes_2 16 = .ok (.aload_n 0, 1) := dk_42 (dk_at dksX1_likes_2_0 16 rfl rfl)
theorem dX1_likes_2_17 : decode cX1_likes_2 17 = .ok (.iload_n 1, 1) := dk_27 (dk_at dksX1_likes_2_0 17 rfl rfl)
theorem dX1_likes_2_18 : decode cX1_likes_2 18 = .ok (.aload_n 0, 1) := dk_42 (dk_at dksX1_likes_2_0 18 rfl rfl)
theorem dX1_likes_2_19 : decode cX1_likes_2 19 = .ok (.invokevirtual 161, 3) := dk_182 0 161 (dk_at dksX1_likes_2_0 19 rfl rfl)
theorem dX1_likes_2_22 : decode cX1_likes_2 22 = .ok (.aload_n 0, 1) := dk_42 (dk_at dksX1_likes_2_0 22 rfl rfl)
theorem dX1_likes_2_23 : decode cX1_likes_2 23 = .ok (.getfield 19, 3) := dk_180 0 19 (dk_at dksX1_likes_2_1 0 rfl rfl)
theorem dX1_likes_2_26 : decode cX1_likes_2 26 = .ok (.getfield 218, 3) := dk_180 0 218 (dk_at dksX1_likes_2_1 3 rfl rfl)
theorem dX1_likes_2_29 : decode cX1_likes_2 29 = .ok (.invokevirtual 282, 3) := dk_182 1 26 (dk_at dksX1_likes_2_1 6 rfl rfl)
theorem dX1_likes_2_32 : decode cX1_likes_2 32 = .ok (.ireturn, 1) := dk_172 (dk_at dksX1_likes_2_1 9 rfl rfl)
abbrev cX1_unfold : ByteArray := prog_1_method_35_code
def yX1_unfold : MethodName := ⟨RX1, "unfold", "()I"⟩
def dkwX1_unfold_1 : List UInt8 := [180, 0, 19, 89, 180, 0, 218, 4, 100, 181, 0, 218, 42, 182, 0, 161, 180, 0, 165, 172]
abbrev dktX1_unfold_1 : List UInt8 := dkwX1_unfold_1 ++ []
def dkwX1_unfold_0 : List UInt8 := [42, 180, 0, 19, 180, 0, 218, 158, 0, 7, 4, 167, 0, 4, 3, 184, 1, 47, 42, 182, 1, 41, 42]
abbrev dktX1_unfold_0 : List UInt8 := dkwX1_unfold_0 ++ dktX1_unfold_1
theorem dksX1_unfold_0 : cX1_unfold.data.toList.drop 0 = dktX1_unfold_0 := by decide +kernel
theorem dksX1_unfold_1 : cX1_unfold.data.toList.drop 23 = dktX1_unfold_1 := dk_seg dksX1_unfold_0 23 rfl rfl
theorem dX1_unfold_0 : decode cX1_unfold 0 = .ok (.aload_n 0, 1) := dk_42 (dk_at dksX1_unfold_0 0 rfl rfl)
theorem dX1_unfold_1 : decode cX1_unfold 1 = .ok (.getfield 19, 3) := dk_180 0 19 (dk_at dksX1_unfold_0 1 rfl rfl)
theorem dX1_unfold_4 : decode cX1_unfold 4 = .ok (.getfield 218, 3) := dk_180 0 218 (dk_at dksX1_unfold_0 4 rfl rfl)
theorem dX1_unfold_7 : decode cX1_unfold 7 = .ok (.ifCond .le 7, 3) := dk_158 0 7 (dk_at dksX1_unfold_0 7 rfl rfl)
theorem dX1_unfold_10 : decode cX1_unfold 10 = .ok (.iconst 1, 1) := dk_4 (dk_at dksX1_unfold_0 10 rfl rfl)
theorem dX1_unfold_11 : decode cX1_unfold 11 = .ok (.goto 4, 3) := dk_167 0 4 (dk_at dksX1_unfold_0 11 rfl rfl)
theorem dX1_unfold_14 : decode cX1_unfold 14 = .ok (.iconst 0, 1) := dk_3 (dk_at dksX1_unfold_0 14 rfl rfl)
theorem dX1_unfold_15 : decode cX1_unfold 15 = .ok (.invokestatic 303, 3) := dk_184 1 47 (dk_at dksX1_unfold_0 15 rfl rfl)
theorem dX1_unfold_18 : decode cX1_unfold 18 = .ok (.aload_n 0, 1) := dk_42 (dk_at dksX1_unfold_0 18 rfl rfl)
theorem dX1_unfold_19 : decode cX1_unfold 19 = .ok (.invokevirtual 297, 3) := dk_182 1 41 (dk_at dksX1_unfold_0 19 rfl rfl)
theorem dX1_unfold_22 : decode cX1_unfold 22 = .ok (.aload_n 0, 1) := dk_42 (dk_at dksX1_unfold_0 22 rfl rfl)
theorem dX1_unfold_23 : decode cX1_unfold 23 = .ok (.getfield 19, 3) := dk_180 0 19 (dk_at dksX1_unfold_1 0 rfl rfl)
theorem dX1_unfold_26 : decode cX1_unfold 26 = .ok (.dup, 1) := dk_89 (dk_at dksX1_unfold_1 3 rfl rfl)
theorem dX1_unfold_27 : decode cX1_unfold 27 = .ok (.getfield 218, 3) := dk_180 0 218 (dk_at dksX1_unfold_1 4 rfl rfl)
theorem dX1_unfold_30 : decode cX1_unfold 30 = .ok (.iconst 1, 1) := dk_4 (dk_at dksX1_unfold_1 7 rfl rfl)
theorem dX1_unfold_31 : decode cX1_unfold 31 = .ok (.isub, 1) := dk_100 (dk_at dksX1_unfold_1 8 rfl rfl)
theorem dX1_unfold_32 : decode cX1_unfold 32 = .ok (.putfield 218, 3) := dk_181 0 218 (dk_at dksX1_unfold_1 9 rfl rfl)
theorem dX1_unfold_35 : decode cX1_unfold 35 = .ok (.aload_n 0, 1) := dk_42 (dk_at dksX1_unfold_1 12 rfl rfl)
theorem dX1_unfold_36 : decode cX1_unfold 36 = .ok (.invokevirtual 161, 3) := dk_182 0 161 (dk_at dksX1_unfold_1 13 rfl rfl)
theorem dX1_unfold_39 : decode cX1_unfold 39 = .ok (.getfield 165, 3) := dk_180 0 165 (dk_at dksX1_unfold_1 16 rfl rfl)
theorem dX1_unfold_42 : decode cX1_unfold 42 = .ok (.ireturn, 1) := dk_172 (dk_at dksX1_unfold_1 19 rfl rfl)
abbrev cX1_can : ByteArray := prog_1_method_3_code
def yX1_can : MethodName := ⟨RX1, "can", "(Z)V"⟩
def dkwX1_can_0 : List UInt8 := [26, 154, 0, 11, 187, 0, 7, 89, 183, 0, 9, 191, 177]
abbrev dktX1_can_0 : List UInt8 := dkwX1_can_0 ++ []
theorem dksX1_can_0 : cX1_can.data.toList.drop 0 = dktX1_can_0 := by decide +kernel
theorem dX1_can_0 : decode cX1_can 0 = .ok (.iload_n 0, 1) := dk_26 (dk_at dksX1_can_0 0 rfl rfl)
theorem dX1_can_1 : decode cX1_can 1 = .ok (.ifCond .ne 11, 3) := dk_154 0 11 (dk_at dksX1_can_0 1 rfl rfl)
theorem dX1_can_4 : decode cX1_can 4 = .ok (.new 7, 3) := dk_187 0 7 (dk_at dksX1_can_0 4 rfl rfl)
theorem dX1_can_7 : decode cX1_can 7 = .ok (.dup, 1) := dk_89 (dk_at dksX1_can_0 7 rfl rfl)
theorem dX1_can_8 : decode cX1_can 8 = .ok (.invokespecial 9, 3) := dk_183 0 9 (dk_at dksX1_can_0 8 rfl rfl)
theorem dX1_can_11 : decode cX1_can 11 = .ok (.athrow, 1) := dk_191 (dk_at dksX1_can_0 11 rfl rfl)
theorem dX1_can_12 : decode cX1_can 12 = .ok (.return_, 1) := dk_177 (dk_at dksX1_can_0 12 rfl rfl)
abbrev cX1_shake : ByteArray := prog_1_method_36_code
def yX1_shake : MethodName := ⟨RX1, "shake", "()I"⟩
def dkwX1_shake_1 : List UInt8 := [180, 0, 19, 180, 0, 218, 60, 42, 180, 0, 19, 3, 181, 0, 218, 27, 172]
abbrev dktX1_shake_1 : List UInt8 := dkwX1_shake_1 ++ []
def dkwX1_shake_0 : List UInt8 := [42, 180, 0, 19, 180, 0, 218, 158, 0, 7, 4, 167, 0, 4, 3, 184, 1, 47, 42, 182, 1, 41, 42]
abbrev dktX1_shake_0 : List UInt8 := dkwX1_shake_0 ++ dktX1_shake_1
theorem dksX1_shake_0 : cX1_shake.data.toList.drop 0 = dktX1_shake_0 := by decide +kernel
theorem dksX1_shake_1 : cX1_shake.data.toList.drop 23 = dktX1_shake_1 := dk_seg dksX1_shake_0 23 rfl rfl
theorem dX1_shake_0 : decode cX1_shake 0 = .ok (.aload_n 0, 1) := dk_42 (dk_at dksX1_shake_0 0 rfl rfl)
theorem dX1_shake_1 : decode cX1_shake 1 = .ok (.getfield 19, 3) := dk_180 0 19 (dk_at dksX1_shake_0 1 rfl rfl)
theorem dX1_shake_4 : decode cX1_shake 4 = .ok (.getfield 218, 3) := dk_180 0 218 (dk_at dksX1_shake_0 4 rfl rfl)
theorem dX1_shake_7 : decode cX1_shake 7 = .ok (.ifCond .le 7, 3) := dk_158 0 7 (dk_at dksX1_shake_0 7 rfl rfl)
theorem dX1_shake_10 : decode cX1_shake 10 = .ok (.iconst 1, 1) := dk_4 (dk_at dksX1_shake_0 10 rfl rfl)
theorem dX1_shake_11 : decode cX1_shake 11 = .ok (.goto 4, 3) := dk_167 0 4 (dk_at dksX1_shake_0 11 rfl rfl)
theorem dX1_shake_14 : decode cX1_shake 14 = .ok (.iconst 0, 1) := dk_3 (dk_at dksX1_shake_0 14 rfl rfl)
theorem dX1_shake_15 : decode cX1_shake 15 = .ok (.invokestatic 303, 3) := dk_184 1 47 (dk_at dksX1_shake_0 15 rfl rfl)
theorem dX1_shake_18 : decode cX1_shake 18 = .ok (.aload_n 0, 1) := dk_42 (dk_at dksX1_shake_0 18 rfl rfl)
theorem dX1_shake_19 : decode cX1_shake 19 = .ok (.invokevirtual 297, 3) := dk_182 1 41 (dk_at dksX1_shake_0 19 rfl rfl)
theorem dX1_shake_22 : decode cX1_shake 22 = .ok (.aload_n 0, 1) := dk_42 (dk_at dksX1_shake_0 22 rfl rfl)
theorem dX1_shake_23 : decode cX1_shake 23 = .ok (.getfield 19, 3) := dk_180 0 19 (dk_at dksX1_shake_1 0 rfl rfl)
theorem dX1_shake_26 : decode cX1_shake 26 = .ok (.getfield 218, 3) := dk_180 0 218 (dk_at dksX1_shake_1 3 rfl rfl)
theorem dX1_shake_29 : decode cX1_shake 29 = .ok (.istore_n 1, 1) := dk_60 (dk_at dksX1_shake_1 6 rfl rfl)
theorem dX1_shake_30 : decode cX1_shake 30 = .ok (.aload_n 0, 1) := dk_42 (dk_at dksX1_shake_1 7 rfl rfl)
theorem dX1_shake_31 : decode cX1_shake 31 = .ok (.getfield 19, 3) := dk_180 0 19 (dk_at dksX1_shake_1 8 rfl rfl)
theorem dX1_shake_34 : decode cX1_shake 34 = .ok (.iconst 0, 1) := dk_3 (dk_at dksX1_shake_1 11 rfl rfl)
theorem dX1_shake_35 : decode cX1_shake 35 = .ok (.putfield 218, 3) := dk_181 0 218 (dk_at dksX1_shake_1 12 rfl rfl)
theorem dX1_shake_38 : decode cX1_shake 38 = .ok (.iload_n 1, 1) := dk_27 (dk_at dksX1_shake_1 15 rfl rfl)
theorem dX1_shake_39 : decode cX1_shake 39 = .ok (.ireturn, 1) := dk_172 (dk_at dksX1_shake_1 16 rfl rfl)
abbrev cX1_amend : ByteArray := prog_1_method_38_code
def yX1_amend : MethodName := ⟨RX1, "amend", "(III)I"⟩
def dkwX1_amend_2 : List UInt8 := [42, 180, 0, 19, 27, 28, 29, 184, 1, 52, 172]
abbrev dktX1_amend_2 : List UInt8 := dkwX1_amend_2 ++ []
def dkwX1_amend_1 : List UInt8 := [29, 133, 9, 20, 1, 50, 184, 0, 106, 153, 0, 7, 4, 167, 0, 4, 3, 184, 0, 110, 42, 182, 1, 41]
abbrev dktX1_amend_1 : List UInt8 := dkwX1_amend_1 ++ dktX1_amend_2
def dkwX1_amend_0 : List UInt8 := [42, 180, 0, 19, 180, 0, 130, 27, 133, 182, 0, 171, 184, 0, 168, 28, 153, 0, 8, 28, 4, 160, 0, 19]
abbrev dktX1_amend_0 : List UInt8 := dkwX1_amend_0 ++ dktX1_amend_1
theorem dksX1_amend_0 : cX1_amend.data.toList.drop 0 = dktX1_amend_0 := by decide +kernel
theorem dksX1_amend_1 : cX1_amend.data.toList.drop 24 = dktX1_amend_1 := dk_seg dksX1_amend_0 24 rfl rfl
theorem dksX1_amend_2 : cX1_amend.data.toList.drop 48 = dktX1_amend_2 := dk_seg dksX1_amend_1 24 rfl rfl
theorem dX1_amend_0 : decode cX1_amend 0 = .ok (.aload_n 0, 1) := dk_42 (dk_at dksX1_amend_0 0 rfl rfl)
theorem dX1_amend_1 : decode cX1_amend 1 = .ok (.getfield 19, 3) := dk_180 0 19 (dk_at dksX1_amend_0 1 rfl rfl)
theorem dX1_amend_4 : decode cX1_amend 4 = .ok (.getfield 130, 3) := dk_180 0 130 (dk_at dksX1_amend_0 4 rfl rfl)
theorem dX1_amend_7 : decode cX1_amend 7 = .ok (.iload_n 1, 1) := dk_27 (dk_at dksX1_amend_0 7 rfl rfl)
theorem dX1_amend_8 : decode cX1_amend 8 = .ok (.i2l, 1) := dk_133 (dk_at dksX1_amend_0 8 rfl rfl)
theorem dX1_amend_9 : decode cX1_amend 9 = .ok (.invokevirtual 171, 3) := dk_182 0 171 (dk_at dksX1_amend_0 9 rfl rfl)
theorem dX1_amend_12 : decode cX1_amend 12 = .ok (.invokestatic 168, 3) := dk_184 0 168 (dk_at dksX1_amend_0 12 rfl rfl)
theorem dX1_amend_15 : decode cX1_amend 15 = .ok (.iload_n 2, 1) := dk_28 (dk_at dksX1_amend_0 15 rfl rfl)
theorem dX1_amend_16 : decode cX1_amend 16 = .ok (.ifCond .eq 8, 3) := dk_153 0 8 (dk_at dksX1_amend_0 16 rfl rfl)
theorem dX1_amend_19 : decode cX1_amend 19 = .ok (.iload_n 2, 1) := dk_28 (dk_at dksX1_amend_0 19 rfl rfl)
theorem dX1_amend_20 : decode cX1_amend 20 = .ok (.iconst 1, 1) := dk_4 (dk_at dksX1_amend_0 20 rfl rfl)
theorem dX1_amend_21 : decode cX1_amend 21 = .ok (.if_icmp .ne 19, 3) := dk_160 0 19 (dk_at dksX1_amend_0 21 rfl rfl)
theorem dX1_amend_24 : decode cX1_amend 24 = .ok (.iload_n 3, 1) := dk_29 (dk_at dksX1_amend_1 0 rfl rfl)
theorem dX1_amend_25 : decode cX1_amend 25 = .ok (.i2l, 1) := dk_133 (dk_at dksX1_amend_1 1 rfl rfl)
theorem dX1_amend_26 : decode cX1_amend 26 = .ok (.lconst 0, 1) := dk_9 (dk_at dksX1_amend_1 2 rfl rfl)
theorem dX1_amend_27 : decode cX1_amend 27 = .ok (.ldc2_w 306, 3) := dk_20 1 50 (dk_at dksX1_amend_1 3 rfl rfl)
theorem dX1_amend_30 : decode cX1_amend 30 = .ok (.invokestatic 106, 3) := dk_184 0 106 (dk_at dksX1_amend_1 6 rfl rfl)
theorem dX1_amend_33 : decode cX1_amend 33 = .ok (.ifCond .eq 7, 3) := dk_153 0 7 (dk_at dksX1_amend_1 9 rfl rfl)
theorem dX1_amend_36 : decode cX1_amend 36 = .ok (.iconst 1, 1) := dk_4 (dk_at dksX1_amend_1 12 rfl rfl)
theorem dX1_amend_37 : decode cX1_amend 37 = .ok (.goto 4, 3) := dk_167 0 4 (dk_at dksX1_amend_1 13 rfl rfl)
theorem dX1_amend_40 : decode cX1_amend 40 = .ok (.iconst 0, 1) := dk_3 (dk_at dksX1_amend_1 16 rfl rfl)
theorem dX1_amend_41 : decode cX1_amend 41 = .ok (.invokestatic 110, 3) := dk_184 0 110 (dk_at dksX1_amend_1 17 rfl rfl)
theorem dX1_amend_44 : decode cX1_amend 44 = .ok (.aload_n 0, 1) := dk_42 (dk_at dksX1_amend_1 20 rfl rfl)
theorem dX1_amend_45 : decode cX1_amend 45 = .ok (.invokevirtual 297, 3) := dk_182 1 41 (dk_at dksX1_amend_1 21 rfl rfl)
theorem dX1_amend_48 : decode cX1_amend 48 = .ok (.aload_n 0, 1) := dk_42 (dk_at dksX1_amend_2 0 rfl rfl)
theorem dX1_amend_49 : decode cX1_amend 49 = .ok (.getfield 19, 3) := dk_180 0 19 (dk_at dksX1_amend_2 1 rfl rfl)
theorem dX1_amend_52 : decode cX1_amend 52 = .ok (.iload_n 1, 1) := dk_27 (dk_at dksX1_amend_2 4 rfl rfl)
theorem dX1_amend_53 : decode cX1_amend 53 = .ok (.iload_n 2, 1) := dk_28 (dk_at dksX1_amend_2 5 rfl rfl)
theorem dX1_amend_54 : decode cX1_amend 54 = .ok (.iload_n 3, 1) := dk_29 (dk_at dksX1_amend_2 6 rfl rfl)
theorem dX1_amend_55 : decode cX1_amend 55 = .ok (.invokestatic 308, 3) := dk_184 1 52 (dk_at dksX1_amend_2 7 rfl rfl)
theorem dX1_amend_58 : decode cX1_amend 58 = .ok (.ireturn, 1) := dk_172 (dk_at dksX1_amend_2 10 rfl rfl)
abbrev cX1_marks : ByteArray := prog_1_method_37_code
def yX1_marks : MethodName := ⟨RX1, "marks", "(LNapkinDeeds$State;III)I"⟩
def dkwX1_marks_1 : List UInt8 := [25, 4, 27, 29, 79, 21, 5, 172]
abbrev dktX1_marks_1 : List UInt8 := dkwX1_marks_1 ++ []
def dkwX1_marks_0 : List UInt8 := [28, 154, 0, 10, 42, 180, 0, 175, 167, 0, 7, 42, 180, 0, 179, 58, 4, 25, 4, 27, 46, 54, 5]
abbrev dktX1_marks_0 : List UInt8 := dkwX1_marks_0 ++ dktX1_marks_1
theorem dksX1_marks_0 : cX1_marks.data.toList.drop 0 = dktX1_marks_0 := by decide +kernel
theorem dksX1_marks_1 : cX1_marks.data.toList.drop 23 = dktX1_marks_1 := dk_seg dksX1_marks_0 23 rfl rfl
theorem dX1_marks_0 : decode cX1_marks 0 = .ok (.iload_n 2, 1) := dk_28 (dk_at dksX1_marks_0 0 rfl rfl)
theorem dX1_marks_1 : decode cX1_marks 1 = .ok (.ifCond .ne 10, 3) := dk_154 0 10 (dk_at dksX1_marks_0 1 rfl rfl)
theorem dX1_marks_4 : decode cX1_marks 4 = .ok (.aload_n 0, 1) := dk_42 (dk_at dksX1_marks_0 4 rfl rfl)
theorem dX1_marks_5 : decode cX1_marks 5 = .ok (.getfield 175, 3) := dk_180 0 175 (dk_at dksX1_marks_0 5 rfl rfl)
theorem dX1_marks_8 : decode cX1_marks 8 = .ok (.goto 7, 3) := dk_167 0 7 (dk_at dksX1_marks_0 8 rfl rfl)
theorem dX1_marks_11 : decode cX1_marks 11 = .ok (.aload_n 0, 1) := dk_42 (dk_at dksX1_marks_0 11 rfl rfl)
theorem dX1_marks_12 : decode cX1_marks 12 = .ok (.getfield 179, 3) := dk_180 0 179 (dk_at dksX1_marks_0 12 rfl rfl)
theorem dX1_marks_15 : decode cX1_marks 15 = .ok (.astore 4, 2) := dk_58 4 (dk_at dksX1_marks_0 15 rfl rfl)
theorem dX1_marks_17 : decode cX1_marks 17 = .ok (.aload 4, 2) := dk_25 4 (dk_at dksX1_marks_0 17 rfl rfl)
theorem dX1_marks_19 : decode cX1_marks 19 = .ok (.iload_n 1, 1) := dk_27 (dk_at dksX1_marks_0 19 rfl rfl)
theorem dX1_marks_20 : decode cX1_marks 20 = .ok (.iaload, 1) := dk_46 (dk_at dksX1_marks_0 20 rfl rfl)
theorem dX1_marks_21 : decode cX1_marks 21 = .ok (.istore 5, 2) := dk_54 5 (dk_at dksX1_marks_0 21 rfl rfl)
theorem dX1_marks_23 : decode cX1_marks 23 = .ok (.aload 4, 2) := dk_25 4 (dk_at dksX1_marks_1 0 rfl rfl)
theorem dX1_marks_25 : decode cX1_marks 25 = .ok (.iload_n 1, 1) := dk_27 (dk_at dksX1_marks_1 2 rfl rfl)
theorem dX1_marks_26 : decode cX1_marks 26 = .ok (.iload_n 3, 1) := dk_29 (dk_at dksX1_marks_1 3 rfl rfl)
theorem dX1_marks_27 : decode cX1_marks 27 = .ok (.iastore, 1) := dk_79 (dk_at dksX1_marks_1 4 rfl rfl)
theorem dX1_marks_28 : decode cX1_marks 28 = .ok (.iload 5, 2) := dk_21 5 (dk_at dksX1_marks_1 5 rfl rfl)
theorem dX1_marks_30 : decode cX1_marks 30 = .ok (.ireturn, 1) := dk_172 (dk_at dksX1_marks_1 7 rfl rfl)
abbrev cX1_undo : ByteArray := prog_1_method_39_code
def yX1_undo : MethodName := ⟨RX1, "undo", "(I)I"⟩
def dkwX1_undo_3 : List UInt8 := [42, 180, 0, 38, 42, 180, 0, 38, 182, 0, 154, 4, 100, 182, 1, 29, 87, 167, 255, 228, 28, 172]
abbrev dktX1_undo_3 : List UInt8 := dkwX1_undo_3 ++ []
def dkwX1_undo_2 : List UInt8 := [180, 0, 38, 28, 182, 1, 9, 192, 0, 16, 182, 0, 91, 42, 180, 0, 38, 182, 0, 154, 28, 164, 0, 23]
abbrev dktX1_undo_2 : List UInt8 := dkwX1_undo_2 ++ dktX1_undo_3
def dkwX1_undo_1 : List UInt8 := [167, 0, 4, 3, 184, 0, 110, 42, 180, 0, 38, 182, 0, 154, 27, 100, 61, 42, 180, 0, 19, 42]
abbrev dktX1_undo_1 : List UInt8 := dkwX1_undo_1 ++ dktX1_undo_2
def dkwX1_undo_0 : List UInt8 := [27, 133, 10, 20, 1, 56, 184, 0, 106, 153, 0, 18, 27, 42, 180, 0, 38, 182, 0, 154, 163, 0, 7, 4]
abbrev dktX1_undo_0 : List UInt8 := dkwX1_undo_0 ++ dktX1_undo_1
theorem dksX1_undo_0 : cX1_undo.data.toList.drop 0 = dktX1_undo_0 := by decide +kernel
theorem dksX1_undo_1 : cX1_undo.data.toList.drop 24 = dktX1_undo_1 := dk_seg dksX1_undo_0 24 rfl rfl
theorem dksX1_undo_2 : cX1_undo.data.toList.drop 46 = dktX1_undo_2 := dk_seg dksX1_undo_1 22 rfl rfl
theorem dksX1_undo_3 : cX1_undo.data.toList.drop 70 = dktX1_undo_3 := dk_seg dksX1_undo_2 24 rfl rfl
theorem dX1_undo_0 : decode cX1_undo 0 = .ok (.iload_n 1, 1) := dk_27 (dk_at dksX1_undo_0 0 rfl rfl)
theorem dX1_undo_1 : decode cX1_undo 1 = .ok (.i2l, 1) := dk_133 (dk_at dksX1_undo_0 1 rfl rfl)
theorem dX1_undo_2 : decode cX1_undo 2 = .ok (.lconst 1, 1) := dk_10 (dk_at dksX1_undo_0 2 rfl rfl)
theorem dX1_undo_3 : decode cX1_undo 3 = .ok (.ldc2_w 312, 3) := dk_20 1 56 (dk_at dksX1_undo_0 3 rfl rfl)
theorem dX1_undo_6 : decode cX1_undo 6 = .ok (.invokestatic 106, 3) := dk_184 0 106 (dk_at dksX1_undo_0 6 rfl rfl)
theorem dX1_undo_9 : decode cX1_undo 9 = .ok (.ifCond .eq 18, 3) := dk_153 0 18 (dk_at dksX1_undo_0 9 rfl rfl)
theorem dX1_undo_12 : decode cX1_undo 12 = .ok (.iload_n 1, 1) := dk_27 (dk_at dksX1_undo_0 12 rfl rfl)
theorem dX1_undo_13 : decode cX1_undo 13 = .ok (.aload_n 0, 1) := dk_42 (dk_at dksX1_undo_0 13 rfl rfl)
theorem dX1_undo_14 : decode cX1_undo 14 = .ok (.getfield 38, 3) := dk_180 0 38 (dk_at dksX1_undo_0 14 rfl rfl)
theorem dX1_undo_17 : decode cX1_undo 17 = .ok (.invokevirtual 154, 3) := dk_182 0 154 (dk_at dksX1_undo_0 17 rfl rfl)
theorem dX1_undo_20 : decode cX1_undo 20 = .ok (.if_icmp .gt 7, 3) := dk_163 0 7 (dk_at dksX1_undo_0 20 rfl rfl)
theorem dX1_undo_23 : decode cX1_undo 23 = .ok (.iconst 1, 1) := dk_4 (dk_at dksX1_undo_0 23 rfl rfl)
theorem dX1_undo_24 : decode cX1_undo 24 = .ok (.goto 4, 3) := dk_167 0 4 (dk_at dksX1_undo_1 0 rfl rfl)
theorem dX1_undo_27 : decode cX1_undo 27 = .ok (.iconst 0, 1) := dk_3 (dk_at dksX1_undo_1 3 rfl rfl)
theorem dX1_undo_28 : decode cX1_undo 28 = .ok (.invokestatic 110, 3) := dk_184 0 110 (dk_at dksX1_undo_1 4 rfl rfl)
theorem dX1_undo_31 : decode cX1_undo 31 = .ok (.aload_n 0, 1) := dk_42 (dk_at dksX1_undo_1 7 rfl rfl)
theorem dX1_undo_32 : decode cX1_undo 32 = .ok (.getfield 38, 3) := dk_180 0 38 (dk_at dksX1_undo_1 8 rfl rfl)
theorem dX1_undo_35 : decode cX1_undo 35 = .ok (.invokevirtual 154, 3) := dk_182 0 154 (dk_at dksX1_undo_1 11 rfl rfl)
theorem dX1_undo_38 : decode cX1_undo 38 = .ok (.iload_n 1, 1) := dk_27 (dk_at dksX1_undo_1 14 rfl rfl)
theorem dX1_undo_39 : decode cX1_undo 39 = .ok (.isub, 1) := dk_100 (dk_at dksX1_undo_1 15 rfl rfl)
theorem dX1_undo_40 : decode cX1_undo 40 = .ok (.istore_n 2, 1) := dk_61 (dk_at dksX1_undo_1 16 rfl rfl)
theorem dX1_undo_41 : decode cX1_undo 41 = .ok (.aload_n 0, 1) := dk_42 (dk_at dksX1_undo_1 17 rfl rfl)
theorem dX1_undo_42 : decode cX1_undo 42 = .ok (.getfield 19, 3) := dk_180 0 19 (dk_at dksX1_undo_1 18 rfl rfl)
theorem dX1_undo_45 : decode cX1_undo 45 = .ok (.aload_n 0, 1) := dk_42 (dk_at dksX1_undo_1 21 rfl rfl)
theorem dX1_undo_46 : decode cX1_undo 46 = .ok (.getfield 38, 3) := dk_180 0 38 (dk_at dksX1_undo_2 0 rfl rfl)
theorem dX1_undo_49 : decode cX1_undo 49 = .ok (.iload_n 2, 1) := dk_28 (dk_at dksX1_undo_2 3 rfl rfl)
theorem dX1_undo_50 : decode cX1_undo 50 = .ok (.invokevirtual 265, 3) := dk_182 1 9 (dk_at dksX1_undo_2 4 rfl rfl)
theorem dX1_undo_53 : decode cX1_undo 53 = .ok (.checkcast 16, 3) := dk_192 0 16 (dk_at dksX1_undo_2 7 rfl rfl)
theorem dX1_undo_56 : decode cX1_undo 56 = .ok (.invokevirtual 91, 3) := dk_182 0 91 (dk_at dksX1_undo_2 10 rfl rfl)
theorem dX1_undo_59 : decode cX1_undo 59 = .ok (.aload_n 0, 1) := dk_42 (dk_at dksX1_undo_2 13 rfl rfl)
theorem dX1_undo_60 : decode cX1_undo 60 = .ok (.getfield 38, 3) := dk_180 0 38 (dk_at dksX1_undo_2 14 rfl rfl)
theorem dX1_undo_63 : decode cX1_undo 63 = .ok (.invokevirtual 154, 3) := dk_182 0 154 (dk_at dksX1_undo_2 17 rfl rfl)
theorem dX1_undo_66 : decode cX1_undo 66 = .ok (.iload_n 2, 1) := dk_28 (dk_at dksX1_undo_2 20 rfl rfl)
theorem dX1_undo_67 : decode cX1_undo 67 = .ok (.if_icmp .le 23, 3) := dk_164 0 23 (dk_at dksX1_undo_2 21 rfl rfl)
theorem dX1_undo_70 : decode cX1_undo 70 = .ok (.aload_n 0, 1) := dk_42 (dk_at dksX1_undo_3 0 rfl rfl)
theorem dX1_undo_71 : decode cX1_undo 71 = .ok (.getfield 38, 3) := dk_180 0 38 (dk_at dksX1_undo_3 1 rfl rfl)
theorem dX1_undo_74 : decode cX1_undo 74 = .ok (.aload_n 0, 1) := dk_42 (dk_at dksX1_undo_3 4 rfl rfl)
theorem dX1_undo_75 : decode cX1_undo 75 = .ok (.getfield 38, 3) := dk_180 0 38 (dk_at dksX1_undo_3 5 rfl rfl)
theorem dX1_undo_78 : decode cX1_undo 78 = .ok (.invokevirtual 154, 3) := dk_182 0 154 (dk_at dksX1_undo_3 8 rfl rfl)
theorem dX1_undo_81 : decode cX1_undo 81 = .ok (.iconst 1, 1) := dk_4 (dk_at dksX1_undo_3 11 rfl rfl)
theorem dX1_undo_82 : decode cX1_undo 82 = .ok (.isub, 1) := dk_100 (dk_at dksX1_undo_3 12 rfl rfl)
theorem dX1_undo_83 : decode cX1_undo 83 = .ok (.invokevirtual 285, 3) := dk_182 1 29 (dk_at dksX1_undo_3 13 rfl rfl)
theorem dX1_undo_86 : decode cX1_undo 86 = .ok (.pop, 1) := dk_87 (dk_at dksX1_undo_3 16 rfl rfl)
theorem dX1_undo_87 : decode cX1_undo 87 = .ok (.goto (-28), 3) := dk_167 255 228 (dk_at dksX1_undo_3 17 rfl rfl)
theorem dX1_undo_90 : decode cX1_undo 90 = .ok (.iload_n 2, 1) := dk_28 (dk_at dksX1_undo_3 20 rfl rfl)
theorem dX1_undo_91 : decode cX1_undo 91 = .ok (.ireturn, 1) := dk_172 (dk_at dksX1_undo_3 21 rfl rfl)
abbrev cX1_judge : ByteArray := prog_1_method_44_code
def yX1_judge : MethodName := ⟨RX1, "judge", "(II)I"⟩
def dkwX1_judge_6 : List UInt8 := [16, 7, 50, 182, 0, 157, 180, 0, 165, 167, 0, 10, 42, 180, 0, 25, 180, 0, 218, 172]
abbrev dktX1_judge_6 : List UInt8 := dkwX1_judge_6 ++ []
def dkwX1_judge_5 : List UInt8 := [167, 0, 42, 28, 5, 160, 0, 30, 42, 180, 0, 25, 42, 180, 0, 31, 16, 6, 50, 42, 180, 0, 31]
abbrev dktX1_judge_5 : List UInt8 := dkwX1_judge_5 ++ dktX1_judge_6
def dkwX1_judge_4 : List UInt8 := [154, 0, 17, 21, 4, 154, 0, 7, 2, 167, 0, 57, 21, 5, 167, 0, 52, 28, 4, 160, 0, 8, 21, 4]
abbrev dktX1_judge_4 : List UInt8 := dkwX1_judge_4 ++ dktX1_judge_5
def dkwX1_judge_3 : List UInt8 := [167, 0, 23, 42, 180, 0, 25, 45, 21, 5, 182, 1, 85, 136, 184, 1, 92, 132, 5, 1, 167, 255, 206, 28]
abbrev dktX1_judge_3 : List UInt8 := dkwX1_judge_3 ++ dktX1_judge_4
def dkwX1_judge_2 : List UInt8 := [162, 0, 47, 42, 42, 180, 0, 25, 45, 21, 5, 182, 1, 85, 182, 1, 88, 54, 4, 21, 4, 153, 0, 6]
abbrev dktX1_judge_2 : List UInt8 := dkwX1_judge_2 ++ dktX1_judge_3
def dkwX1_judge_1 : List UInt8 := [180, 0, 25, 42, 180, 0, 19, 182, 0, 91, 3, 54, 4, 3, 54, 5, 21, 5, 45, 182, 1, 84]
abbrev dktX1_judge_1 : List UInt8 := dkwX1_judge_1 ++ dktX1_judge_2
def dkwX1_judge_0 : List UInt8 := [42, 27, 182, 1, 76, 78, 45, 184, 1, 80, 28, 133, 9, 20, 1, 35, 184, 0, 106, 184, 0, 110, 42]
abbrev dktX1_judge_0 : List UInt8 := dkwX1_judge_0 ++ dktX1_judge_1
theorem dksX1_judge_0 : cX1_judge.data.toList.drop 0 = dktX1_judge_0 := by decide +kernel
theorem dksX1_judge_1 : cX1_judge.data.toList.drop 23 = dktX1_judge_1 := dk_seg dksX1_judge_0 23 rfl rfl
theorem dksX1_judge_2 : cX1_judge.data.toList.drop 45 = dktX1_judge_2 := dk_seg dksX1_judge_1 22 rfl rfl
theorem dksX1_judge_3 : cX1_judge.data.toList.drop 69 = dktX1_judge_3 := dk_seg dksX1_judge_2 24 rfl rfl
theorem dksX1_judge_4 : cX1_judge.data.toList.drop 93 = dktX1_judge_4 := dk_seg dksX1_judge_3 24 rfl rfl
theorem dksX1_judge_5 : cX1_judge.data.toList.drop 117 = dktX1_judge_5 := dk_seg dksX1_judge_4 24 rfl rfl
theorem dksX1_judge_6 : cX1_judge.data.toList.drop 140 = dktX1_judge_6 := dk_seg dksX1_judge_5 23 rfl rfl
theorem dX1_judge_0 : decode cX1_judge 0 = .ok (.aload_n 0, 1) := dk_42 (dk_at dksX1_judge_0 0 rfl rfl)
theorem dX1_judge_1 : decode cX1_judge 1 = .ok (.iload_n 1, 1) := dk_27 (dk_at dksX1_judge_0 1 rfl rfl)
theorem dX1_judge_2 : decode cX1_judge 2 = .ok (.invokevirtual 332, 3) := dk_182 1 76 (dk_at dksX1_judge_0 2 rfl rfl)
theorem dX1_judge_5 : decode cX1_judge 5 = .ok (.astore_n 3, 1) := dk_78 (dk_at dksX1_judge_0 5 rfl rfl)
theorem dX1_judge_6 : decode cX1_judge 6 = .ok (.aload_n 3, 1) := dk_45 (dk_at dksX1_judge_0 6 rfl rfl)
theorem dX1_judge_7 : decode cX1_judge 7 = .ok (.invokestatic 336, 3) := dk_184 1 80 (dk_at dksX1_judge_0 7 rfl rfl)
theorem dX1_judge_10 : decode cX1_judge 10 = .ok (.iload_n 2, 1) := dk_28 (dk_at dksX1_judge_0 10 rfl rfl)
theorem dX1_judge_11 : decode cX1_judge 11 = .ok (.i2l, 1) := dk_133 (dk_at dksX1_judge_0 11 rfl rfl)
theorem dX1_judge_12 : decode cX1_judge 12 = .ok (.lconst 0, 1) := dk_9 (dk_at dksX1_judge_0 12 rfl rfl)
theorem dX1_judge_13 : decode cX1_judge 13 = .ok (.ldc2_w 291, 3) := dk_20 1 35 (dk_at dksX1_judge_0 13 rfl rfl)
theorem dX1_judge_16 : decode cX1_judge 16 = .ok (.invokestatic 106, 3) := dk_184 0 106 (dk_at dksX1_judge_0 16 rfl rfl)
theorem dX1_judge_19 : decode cX1_judge 19 = .ok (.invokestatic 110, 3) := dk_184 0 110 (dk_at dksX1_judge_0 19 rfl rfl)
theorem dX1_judge_22 : decode cX1_judge 22 = .ok (.aload_n 0, 1) := dk_42 (dk_at dksX1_judge_0 22 rfl rfl)
theorem dX1_judge_23 : decode cX1_judge 23 = .ok (.getfield 25, 3) := dk_180 0 25 (dk_at dksX1_judge_1 0 rfl rfl)
theorem dX1_judge_26 : decode cX1_judge 26 = .ok (.aload_n 0, 1) := dk_42 (dk_at dksX1_judge_1 3 rfl rfl)
theorem dX1_judge_27 : decode cX1_judge 27 = .ok (.getfield 19, 3) := dk_180 0 19 (dk_at dksX1_judge_1 4 rfl rfl)
theorem dX1_judge_30 : decode cX1_judge 30 = .ok (.invokevirtual 91, 3) := dk_182 0 91 (dk_at dksX1_judge_1 7 rfl rfl)
theorem dX1_judge_33 : decode cX1_judge 33 = .ok (.iconst 0, 1) := dk_3 (dk_at dksX1_judge_1 10 rfl rfl)
theorem dX1_judge_34 : decode cX1_judge 34 = .ok (.istore 4, 2) := dk_54 4 (dk_at dksX1_judge_1 11 rfl rfl)
theorem dX1_judge_36 : decode cX1_judge 36 = .ok (.iconst 0, 1) := dk_3 (dk_at dksX1_judge_1 13 rfl rfl)
theorem dX1_judge_37 : decode cX1_judge 37 = .ok (.istore 5, 2) := dk_54 5 (dk_at dksX1_judge_1 14 rfl rfl)
theorem dX1_judge_39 : decode cX1_judge 39 = .ok (.iload 5, 2) := dk_21 5 (dk_at dksX1_judge_1 16 rfl rfl)
theorem dX1_judge_41 : decode cX1_judge 41 = .ok (.aload_n 3, 1) := dk_45 (dk_at dksX1_judge_1 18 rfl rfl)
theorem dX1_judge_42 : decode cX1_judge 42 = .ok (.invokevirtual 340, 3) := dk_182 1 84 (dk_at dksX1_judge_1 19 rfl rfl)
theorem dX1_judge_45 : decode cX1_judge 45 = .ok (.if_icmp .ge 47, 3) := dk_162 0 47 (dk_at dksX1_judge_2 0 rfl rfl)
theorem dX1_judge_48 : decode cX1_judge 48 = .ok (.aload_n 0, 1) := dk_42 (dk_at dksX1_judge_2 3 rfl rfl)
theorem dX1_judge_49 : decode cX1_judge 49 = .ok (.aload_n 0, 1) := dk_42 (dk_at dksX1_judge_2 4 rfl rfl)
theorem dX1_judge_50 : decode cX1_judge 50 = .ok (.getfield 25, 3) := dk_180 0 25 (dk_at dksX1_judge_2 5 rfl rfl)
theorem dX1_judge_53 : decode cX1_judge 53 = .ok (.aload_n 3, 1) := dk_45 (dk_at dksX1_judge_2 8 rfl rfl)
theorem dX1_judge_54 : decode cX1_judge 54 = .ok (.iload 5, 2) := dk_21 5 (dk_at dksX1_judge_2 9 rfl rfl)
theorem dX1_judge_56 : decode cX1_judge 56 = .ok (.invokevirtual 341, 3) := dk_182 1 85 (dk_at dksX1_judge_2 11 rfl rfl)
theorem dX1_judge_59 : decode cX1_judge 59 = .ok (.invokevirtual 344, 3) := dk_182 1 88 (dk_at dksX1_judge_2 14 rfl rfl)
theorem dX1_judge_62 : decode cX1_judge 62 = .ok (.istore 4, 2) := dk_54 4 (dk_at dksX1_judge_2 17 rfl rfl)
theorem dX1_judge_64 : decode cX1_judge 64 = .ok (.iload 4, 2) := dk_21 4 (dk_at dksX1_judge_2 19 rfl rfl)
theorem dX1_judge_66 : decode cX1_judge 66 = .ok (.ifCond .eq 6, 3) := dk_153 0 6 (dk_at dksX1_judge_2 21 rfl rfl)
theorem dX1_judge_69 : decode cX1_judge 69 = .ok (.goto 23, 3) := dk_167 0 23 (dk_at dksX1_judge_3 0 rfl rfl)
theorem dX1_judge_72 : decode cX1_judge 72 = .ok (.aload_n 0, 1) := dk_42 (dk_at dksX1_judge_3 3 rfl rfl)
theorem dX1_judge_73 : decode cX1_judge 73 = .ok (.getfield 25, 3) := dk_180 0 25 (dk_at dksX1_judge_3 4 rfl rfl)
theorem dX1_judge_76 : decode cX1_judge 76 = .ok (.aload_n 3, 1) := dk_45 (dk_at dksX1_judge_3 7 rfl rfl)
theorem dX1_judge_77 : decode cX1_judge 77 = .ok (.iload 5, 2) := dk_21 5 (dk_at dksX1_judge_3 8 rfl rfl)
theorem dX1_judge_79 : decode cX1_judge 79 = .ok (.invokevirtual 341, 3) := dk_182 1 85 (dk_at dksX1_judge_3 10 rfl rfl)
theorem dX1_judge_82 : decode cX1_judge 82 = .ok (.l2i, 1) := dk_136 (dk_at dksX1_judge_3 13 rfl rfl)
theorem dX1_judge_83 : decode cX1_judge 83 = .ok (.invokestatic 348, 3) := dk_184 1 92 (dk_at dksX1_judge_3 14 rfl rfl)
theorem dX1_judge_86 : decode cX1_judge 86 = .ok (.iinc 5 1, 3) := dk_132 5 1 (dk_at dksX1_judge_3 17 rfl rfl)
theorem dX1_judge_89 : decode cX1_judge 89 = .ok (.goto (-50), 3) := dk_167 255 206 (dk_at dksX1_judge_3 20 rfl rfl)
theorem dX1_judge_92 : decode cX1_judge 92 = .ok (.iload_n 2, 1) := dk_28 (dk_at dksX1_judge_3 23 rfl rfl)
theorem dX1_judge_93 : decode cX1_judge 93 = .ok (.ifCond .ne 17, 3) := dk_154 0 17 (dk_at dksX1_judge_4 0 rfl rfl)
theorem dX1_judge_96 : decode cX1_judge 96 = .ok (.iload 4, 2) := dk_21 4 (dk_at dksX1_judge_4 3 rfl rfl)
theorem dX1_judge_98 : decode cX1_judge 98 = .ok (.ifCond .ne 7, 3) := dk_154 0 7 (dk_at dksX1_judge_4 5 rfl rfl)
theorem dX1_judge_101 : decode cX1_judge 101 = .ok (.iconst (-1), 1) := dk_2 (dk_at dksX1_judge_4 8 rfl rfl)
theorem dX1_judge_102 : decode cX1_judge 102 = .ok (.goto 57, 3) := dk_167 0 57 (dk_at dksX1_judge_4 9 rfl rfl)
theorem dX1_judge_105 : decode cX1_judge 105 = .ok (.iload 5, 2) := dk_21 5 (dk_at dksX1_judge_4 12 rfl rfl)
theorem dX1_judge_107 : decode cX1_judge 107 = .ok (.goto 52, 3) := dk_167 0 52 (dk_at dksX1_judge_4 14 rfl rfl)
theorem dX1_judge_110 : decode cX1_judge 110 = .ok (.iload_n 2, 1) := dk_28 (dk_at dksX1_judge_4 17 rfl rfl)
theorem dX1_judge_111 : decode cX1_judge 111 = .ok (.iconst 1, 1) := dk_4 (dk_at dksX1_judge_4 18 rfl rfl)
theorem dX1_judge_112 : decode cX1_judge 112 = .ok (.if_icmp .ne 8, 3) := dk_160 0 8 (dk_at dksX1_judge_4 19 rfl rfl)
theorem dX1_judge_115 : decode cX1_judge 115 = .ok (.iload 4, 2) := dk_21 4 (dk_at dksX1_judge_4 22 rfl rfl)
theorem dX1_judge_117 : decode cX1_judge 117 = .ok (.goto 42, 3) := dk_167 0 42 (dk_at dksX1_judge_5 0 rfl rfl)
theorem dX1_judge_120 : decode cX1_judge 120 = .ok (.iload_n 2, 1) := dk_28 (dk_at dksX1_judge_5 3 rfl rfl)
theorem dX1_judge_121 : decode cX1_judge 121 = .ok (.iconst 2, 1) := dk_5 (dk_at dksX1_judge_5 4 rfl rfl)
theorem dX1_judge_122 : decode cX1_judge 122 = .ok (.if_icmp .ne 30, 3) := dk_160 0 30 (dk_at dksX1_judge_5 5 rfl rfl)
theorem dX1_judge_125 : decode cX1_judge 125 = .ok (.aload_n 0, 1) := dk_42 (dk_at dksX1_judge_5 8 rfl rfl)
theorem dX1_judge_126 : decode cX1_judge 126 = .ok (.getfield 25, 3) := dk_180 0 25 (dk_at dksX1_judge_5 9 rfl rfl)
theorem dX1_judge_129 : decode cX1_judge 129 = .ok (.aload_n 0, 1) := dk_42 (dk_at dksX1_judge_5 12 rfl rfl)
theorem dX1_judge_130 : decode cX1_judge 130 = .ok (.getfield 31, 3) := dk_180 0 31 (dk_at dksX1_judge_5 13 rfl rfl)
theorem dX1_judge_133 : decode cX1_judge 133 = .ok (.bipush 6, 2) := dk_16 6 (dk_at dksX1_judge_5 16 rfl rfl)
theorem dX1_judge_135 : decode cX1_judge 135 = .ok (.aaload, 1) := dk_50 (dk_at dksX1_judge_5 18 rfl rfl)
theorem dX1_judge_136 : decode cX1_judge 136 = .ok (.aload_n 0, 1) := dk_42 (dk_at dksX1_judge_5 19 rfl rfl)
theorem dX1_judge_137 : decode cX1_judge 137 = .ok (.getfield 31, 3) := dk_180 0 31 (dk_at dksX1_judge_5 20 rfl rfl)
theorem dX1_judge_140 : decode cX1_judge 140 = .ok (.bipush 7, 2) := dk_16 7 (dk_at dksX1_judge_6 0 rfl rfl)
theorem dX1_judge_142 : decode cX1_judge 142 = .ok (.aaload, 1) := dk_50 (dk_at dksX1_judge_6 2 rfl rfl)
theorem dX1_judge_143 : decode cX1_judge 143 = .ok (.invokevirtual 157, 3) := dk_182 0 157 (dk_at dksX1_judge_6 3 rfl rfl)
theorem dX1_judge_146 : decode cX1_judge 146 = .ok (.getfield 165, 3) := dk_180 0 165 (dk_at dksX1_judge_6 6 rfl rfl)
theorem dX1_judge_149 : decode cX1_judge 149 = .ok (.goto 10, 3) := dk_167 0 10 (dk_at dksX1_judge_6 9 rfl rfl)
theorem dX1_judge_152 : decode cX1_judge 152 = .ok (.aload_n 0, 1) := dk_42 (dk_at dksX1_judge_6 12 rfl rfl)
theorem dX1_judge_153 : decode cX1_judge 153 = .ok (.getfield 25, 3) := dk_180 0 25 (dk_at dksX1_judge_6 13 rfl rfl)
theorem dX1_judge_156 : decode cX1_judge 156 = .ok (.getfield 218, 3) := dk_180 0 218 (dk_at dksX1_judge_6 16 rfl rfl)
theorem dX1_judge_159 : decode cX1_judge 159 = .ok (.ireturn, 1) := dk_172 (dk_at dksX1_judge_6 19 rfl rfl)
abbrev cX1_trayOf : ByteArray := prog_1_method_40_code
def yX1_trayOf : MethodName := ⟨RX1, "trayOf", "(I)LNapkinDeeds$Tray;"⟩
def dkwX1_trayOf_0 : List UInt8 := [27, 133, 9, 20, 1, 35, 184, 0, 106, 184, 0, 168, 42, 180, 0, 66, 27, 50, 176]
abbrev dktX1_trayOf_0 : List UInt8 := dkwX1_trayOf_0 ++ []
theorem dksX1_trayOf_0 : cX1_trayOf.data.toList.drop 0 = dktX1_trayOf_0 := by decide +kernel
theorem dX1_trayOf_0 : decode cX1_trayOf 0 = .ok (.iload_n 1, 1) := dk_27 (dk_at dksX1_trayOf_0 0 rfl rfl)
theorem dX1_trayOf_1 : decode cX1_trayOf 1 = .ok (.i2l, 1) := dk_133 (dk_at dksX1_trayOf_0 1 rfl rfl)
theorem dX1_trayOf_2 : decode cX1_trayOf 2 = .ok (.lconst 0, 1) := dk_9 (dk_at dksX1_trayOf_0 2 rfl rfl)
theorem dX1_trayOf_3 : decode cX1_trayOf 3 = .ok (.ldc2_w 291, 3) := dk_20 1 35 (dk_at dksX1_trayOf_0 3 rfl rfl)
theorem dX1_trayOf_6 : decode cX1_trayOf 6 = .ok (.invokestatic 106, 3) := dk_184 0 106 (dk_at dksX1_trayOf_0 6 rfl rfl)
theorem dX1_trayOf_9 : decode cX1_trayOf 9 = .ok (.invokestatic 168, 3) := dk_184 0 168 (dk_at dksX1_trayOf_0 9 rfl rfl)
theorem dX1_trayOf_12 : decode cX1_trayOf 12 = .ok (.aload_n 0, 1) := dk_42 (dk_at dksX1_trayOf_0 12 rfl rfl)
theorem dX1_trayOf_13 : decode cX1_trayOf 13 = .ok (.getfield 66, 3) := dk_180 0 66 (dk_at dksX1_trayOf_0 13 rfl rfl)
theorem dX1_trayOf_16 : decode cX1_trayOf 16 = .ok (.iload_n 1, 1) := dk_27 (dk_at dksX1_trayOf_0 16 rfl rfl)
theorem dX1_trayOf_17 : decode cX1_trayOf 17 = .ok (.aaload, 1) := dk_50 (dk_at dksX1_trayOf_0 17 rfl rfl)
theorem dX1_trayOf_18 : decode cX1_trayOf 18 = .ok (.areturn, 1) := dk_176 (dk_at dksX1_trayOf_0 18 rfl rfl)
abbrev cX1_mustBe : ByteArray := prog_1_method_41_code
def yX1_mustBe : MethodName := ⟨RX1, "mustBe", "(LNapkinDeeds$Tray;)V"⟩
def dkwX1_mustBe_0 : List UInt8 := [42, 180, 1, 58, 198, 0, 7, 4, 167, 0, 4, 3, 184, 1, 47, 177]
abbrev dktX1_mustBe_0 : List UInt8 := dkwX1_mustBe_0 ++ []
theorem dksX1_mustBe_0 : cX1_mustBe.data.toList.drop 0 = dktX1_mustBe_0 := by decide +kernel
theorem dX1_mustBe_0 : decode cX1_mustBe 0 = .ok (.aload_n 0, 1) := dk_42 (dk_at dksX1_mustBe_0 0 rfl rfl)
theorem dX1_mustBe_1 : decode cX1_mustBe 1 = .ok (.getfield 314, 3) := dk_180 1 58 (dk_at dksX1_mustBe_0 1 rfl rfl)
theorem dX1_mustBe_4 : decode cX1_mustBe 4 = .ok (.ifnull 7, 3) := dk_198 0 7 (dk_at dksX1_mustBe_0 4 rfl rfl)
theorem dX1_mustBe_7 : decode cX1_mustBe 7 = .ok (.iconst 1, 1) := dk_4 (dk_at dksX1_mustBe_0 7 rfl rfl)
theorem dX1_mustBe_8 : decode cX1_mustBe 8 = .ok (.goto 4, 3) := dk_167 0 4 (dk_at dksX1_mustBe_0 8 rfl rfl)
theorem dX1_mustBe_11 : decode cX1_mustBe 11 = .ok (.iconst 0, 1) := dk_3 (dk_at dksX1_mustBe_0 11 rfl rfl)
theorem dX1_mustBe_12 : decode cX1_mustBe 12 = .ok (.invokestatic 303, 3) := dk_184 1 47 (dk_at dksX1_mustBe_0 12 rfl rfl)
theorem dX1_mustBe_15 : decode cX1_mustBe 15 = .ok (.return_, 1) := dk_177 (dk_at dksX1_mustBe_0 15 rfl rfl)
abbrev cX1_whyNot : ByteArray := prog_1_method_42_code
def yX1_whyNot : MethodName := ⟨RX1, "whyNot", "(LNapkinDeeds$State;J)I"⟩
def dkwX1_whyNot_5 : List UInt8 := [182, 0, 171, 153, 0, 7, 3, 167, 0, 4, 4, 172]
abbrev dktX1_whyNot_5 : List UInt8 := dkwX1_whyNot_5 ++ []
def dkwX1_whyNot_4 : List UInt8 := [167, 0, 4, 3, 54, 4, 21, 4, 153, 0, 26, 43, 180, 0, 130, 32, 20, 1, 68, 113, 20, 1, 64, 109]
abbrev dktX1_whyNot_4 : List UInt8 := dkwX1_whyNot_4 ++ dktX1_whyNot_5
def dkwX1_whyNot_3 : List UInt8 := [20, 1, 70, 184, 0, 106, 154, 0, 16, 32, 20, 1, 72, 20, 1, 74, 184, 0, 106, 153, 0, 7, 4]
abbrev dktX1_whyNot_3 : List UInt8 := dkwX1_whyNot_3 ++ dktX1_whyNot_4
def dkwX1_whyNot_2 : List UInt8 := [20, 1, 66, 148, 154, 0, 16, 43, 180, 0, 218, 158, 0, 7, 3, 167, 0, 4, 5, 172, 32, 20, 1, 68]
abbrev dktX1_whyNot_2 : List UInt8 := dkwX1_whyNot_2 ++ dktX1_whyNot_3
def dkwX1_whyNot_1 : List UInt8 := [20, 1, 56, 109, 32, 20, 1, 56, 113, 182, 1, 37, 172, 32, 20, 1, 64, 148, 153, 0, 11, 32]
abbrev dktX1_whyNot_1 : List UInt8 := dkwX1_whyNot_1 ++ dktX1_whyNot_2
def dkwX1_whyNot_0 : List UInt8 := [32, 20, 1, 62, 148, 154, 0, 5, 3, 172, 32, 9, 20, 1, 50, 184, 0, 106, 153, 0, 19, 42, 43, 32]
abbrev dktX1_whyNot_0 : List UInt8 := dkwX1_whyNot_0 ++ dktX1_whyNot_1
theorem dksX1_whyNot_0 : cX1_whyNot.data.toList.drop 0 = dktX1_whyNot_0 := by decide +kernel
theorem dksX1_whyNot_1 : cX1_whyNot.data.toList.drop 24 = dktX1_whyNot_1 := dk_seg dksX1_whyNot_0 24 rfl rfl
theorem dksX1_whyNot_2 : cX1_whyNot.data.toList.drop 46 = dktX1_whyNot_2 := dk_seg dksX1_whyNot_1 22 rfl rfl
theorem dksX1_whyNot_3 : cX1_whyNot.data.toList.drop 70 = dktX1_whyNot_3 := dk_seg dksX1_whyNot_2 24 rfl rfl
theorem dksX1_whyNot_4 : cX1_whyNot.data.toList.drop 93 = dktX1_whyNot_4 := dk_seg dksX1_whyNot_3 23 rfl rfl
theorem dksX1_whyNot_5 : cX1_whyNot.data.toList.drop 117 = dktX1_whyNot_5 := dk_seg dksX1_whyNot_4 24 rfl rfl
theorem dX1_whyNot_0 : decode cX1_whyNot 0 = .ok (.lload_n 2, 1) := dk_32 (dk_at dksX1_whyNot_0 0 rfl rfl)
theorem dX1_whyNot_1 : decode cX1_whyNot 1 = .ok (.ldc2_w 318, 3) := dk_20 1 62 (dk_at dksX1_whyNot_0 1 rfl rfl)
theorem dX1_whyNot_4 : decode cX1_whyNot 4 = .ok (.lcmp, 1) := dk_148 (dk_at dksX1_whyNot_0 4 rfl rfl)
theorem dX1_whyNot_5 : decode cX1_whyNot 5 = .ok (.ifCond .ne 5, 3) := dk_154 0 5 (dk_at dksX1_whyNot_0 5 rfl rfl)
theorem dX1_whyNot_8 : decode cX1_whyNot 8 = .ok (.iconst 0, 1) := dk_3 (dk_at dksX1_whyNot_0 8 rfl rfl)
theorem dX1_whyNot_9 : decode cX1_whyNot 9 = .ok (.ireturn, 1) := dk_172 (dk_at dksX1_whyNot_0 9 rfl rfl)
theorem dX1_whyNot_10 : decode cX1_whyNot 10 = .ok (.lload_n 2, 1) := dk_32 (dk_at dksX1_whyNot_0 10 rfl rfl)
theorem dX1_whyNot_11 : decode cX1_whyNot 11 = .ok (.lconst 0, 1) := dk_9 (dk_at dksX1_whyNot_0 11 rfl rfl)
theorem dX1_whyNot_12 : decode cX1_whyNot 12 = .ok (.ldc2_w 306, 3) := dk_20 1 50 (dk_at dksX1_whyNot_0 12 rfl rfl)
theorem dX1_whyNot_15 : decode cX1_whyNot 15 = .ok (.invokestatic 106, 3) := dk_184 0 106 (dk_at dksX1_whyNot_0 15 rfl rfl)
theorem dX1_whyNot_18 : decode cX1_whyNot 18 = .ok (.ifCond .eq 19, 3) := dk_153 0 19 (dk_at dksX1_whyNot_0 18 rfl rfl)
theorem dX1_whyNot_21 : decode cX1_whyNot 21 = .ok (.aload_n 0, 1) := dk_42 (dk_at dksX1_whyNot_0 21 rfl rfl)
theorem dX1_whyNot_22 : decode cX1_whyNot 22 = .ok (.aload_n 1, 1) := dk_43 (dk_at dksX1_whyNot_0 22 rfl rfl)
theorem dX1_whyNot_23 : decode cX1_whyNot 23 = .ok (.lload_n 2, 1) := dk_32 (dk_at dksX1_whyNot_0 23 rfl rfl)
theorem dX1_whyNot_24 : decode cX1_whyNot 24 = .ok (.ldc2_w 312, 3) := dk_20 1 56 (dk_at dksX1_whyNot_1 0 rfl rfl)
theorem dX1_whyNot_27 : decode cX1_whyNot 27 = .ok (.ldiv, 1) := dk_109 (dk_at dksX1_whyNot_1 3 rfl rfl)
theorem dX1_whyNot_28 : decode cX1_whyNot 28 = .ok (.lload_n 2, 1) := dk_32 (dk_at dksX1_whyNot_1 4 rfl rfl)
theorem dX1_whyNot_29 : decode cX1_whyNot 29 = .ok (.ldc2_w 312, 3) := dk_20 1 56 (dk_at dksX1_whyNot_1 5 rfl rfl)
theorem dX1_whyNot_32 : decode cX1_whyNot 32 = .ok (.lrem, 1) := dk_113 (dk_at dksX1_whyNot_1 8 rfl rfl)
theorem dX1_whyNot_33 : decode cX1_whyNot 33 = .ok (.invokevirtual 293, 3) := dk_182 1 37 (dk_at dksX1_whyNot_1 9 rfl rfl)
theorem dX1_whyNot_36 : decode cX1_whyNot 36 = .ok (.ireturn, 1) := dk_172 (dk_at dksX1_whyNot_1 12 rfl rfl)
theorem dX1_whyNot_37 : decode cX1_whyNot 37 = .ok (.lload_n 2, 1) := dk_32 (dk_at dksX1_whyNot_1 13 rfl rfl)
theorem dX1_whyNot_38 : decode cX1_whyNot 38 = .ok (.ldc2_w 320, 3) := dk_20 1 64 (dk_at dksX1_whyNot_1 14 rfl rfl)
theorem dX1_whyNot_41 : decode cX1_whyNot 41 = .ok (.lcmp, 1) := dk_148 (dk_at dksX1_whyNot_1 17 rfl rfl)
theorem dX1_whyNot_42 : decode cX1_whyNot 42 = .ok (.ifCond .eq 11, 3) := dk_153 0 11 (dk_at dksX1_whyNot_1 18 rfl rfl)
theorem dX1_whyNot_45 : decode cX1_whyNot 45 = .ok (.lload_n 2, 1) := dk_32 (dk_at dksX1_whyNot_1 21 rfl rfl)
theorem dX1_whyNot_46 : decode cX1_whyNot 46 = .ok (.ldc2_w 322, 3) := dk_20 1 66 (dk_at dksX1_whyNot_2 0 rfl rfl)
theorem dX1_whyNot_49 : decode cX1_whyNot 49 = .ok (.lcmp, 1) := dk_148 (dk_at dksX1_whyNot_2 3 rfl rfl)
theorem dX1_whyNot_50 : decode cX1_whyNot 50 = .ok (.ifCond .ne 16, 3) := dk_154 0 16 (dk_at dksX1_whyNot_2 4 rfl rfl)
theorem dX1_whyNot_53 : decode cX1_whyNot 53 = .ok (.aload_n 1, 1) := dk_43 (dk_at dksX1_whyNot_2 7 rfl rfl)
theorem dX1_whyNot_54 : decode cX1_whyNot 54 = .ok (.getfield 218, 3) := dk_180 0 218 (dk_at dksX1_whyNot_2 8 rfl rfl)
theorem dX1_whyNot_57 : decode cX1_whyNot 57 = .ok (.ifCond .le 7, 3) := dk_158 0 7 (dk_at dksX1_whyNot_2 11 rfl rfl)
theorem dX1_whyNot_60 : decode cX1_whyNot 60 = .ok (.iconst 0, 1) := dk_3 (dk_at dksX1_whyNot_2 14 rfl rfl)
theorem dX1_whyNot_61 : decode cX1_whyNot 61 = .ok (.goto 4, 3) := dk_167 0 4 (dk_at dksX1_whyNot_2 15 rfl rfl)
theorem dX1_whyNot_64 : decode cX1_whyNot 64 = .ok (.iconst 2, 1) := dk_5 (dk_at dksX1_whyNot_2 18 rfl rfl)
theorem dX1_whyNot_65 : decode cX1_whyNot 65 = .ok (.ireturn, 1) := dk_172 (dk_at dksX1_whyNot_2 19 rfl rfl)
theorem dX1_whyNot_66 : decode cX1_whyNot 66 = .ok (.lload_n 2, 1) := dk_32 (dk_at dksX1_whyNot_2 20 rfl rfl)
theorem dX1_whyNot_67 : decode cX1_whyNot 67 = .ok (.ldc2_w 324, 3) := dk_20 1 68 (dk_at dksX1_whyNot_2 21 rfl rfl)
theorem dX1_whyNot_70 : decode cX1_whyNot 70 = .ok (.ldc2_w 326, 3) := dk_20 1 70 (dk_at dksX1_whyNot_3 0 rfl rfl)
theorem dX1_whyNot_73 : decode cX1_whyNot 73 = .ok (.invokestatic 106, 3) := dk_184 0 106 (dk_at dksX1_whyNot_3 3 rfl rfl)
theorem dX1_whyNot_76 : decode cX1_whyNot 76 = .ok (.ifCond .ne 16, 3) := dk_154 0 16 (dk_at dksX1_whyNot_3 6 rfl rfl)
theorem dX1_whyNot_79 : decode cX1_whyNot 79 = .ok (.lload_n 2, 1) := dk_32 (dk_at dksX1_whyNot_3 9 rfl rfl)
theorem dX1_whyNot_80 : decode cX1_whyNot 80 = .ok (.ldc2_w 328, 3) := dk_20 1 72 (dk_at dksX1_whyNot_3 10 rfl rfl)
theorem dX1_whyNot_83 : decode cX1_whyNot 83 = .ok (.ldc2_w 330, 3) := dk_20 1 74 (dk_at dksX1_whyNot_3 13 rfl rfl)
theorem dX1_whyNot_86 : decode cX1_whyNot 86 = .ok (.invokestatic 106, 3) := dk_184 0 106 (dk_at dksX1_whyNot_3 16 rfl rfl)
theorem dX1_whyNot_89 : decode cX1_whyNot 89 = .ok (.ifCond .eq 7, 3) := dk_153 0 7 (dk_at dksX1_whyNot_3 19 rfl rfl)
theorem dX1_whyNot_92 : decode cX1_whyNot 92 = .ok (.iconst 1, 1) := dk_4 (dk_at dksX1_whyNot_3 22 rfl rfl)
theorem dX1_whyNot_93 : decode cX1_whyNot 93 = .ok (.goto 4, 3) := dk_167 0 4 (dk_at dksX1_whyNot_4 0 rfl rfl)
theorem dX1_whyNot_96 : decode cX1_whyNot 96 = .ok (.iconst 0, 1) := dk_3 (dk_at dksX1_whyNot_4 3 rfl rfl)
theorem dX1_whyNot_97 : decode cX1_whyNot 97 = .ok (.istore 4, 2) := dk_54 4 (dk_at dksX1_whyNot_4 4 rfl rfl)
theorem dX1_whyNot_99 : decode cX1_whyNot 99 = .ok (.iload 4, 2) := dk_21 4 (dk_at dksX1_whyNot_4 6 rfl rfl)
theorem dX1_whyNot_101 : decode cX1_whyNot 101 = .ok (.ifCond .eq 26, 3) := dk_153 0 26 (dk_at dksX1_whyNot_4 8 rfl rfl)
theorem dX1_whyNot_104 : decode cX1_whyNot 104 = .ok (.aload_n 1, 1) := dk_43 (dk_at dksX1_whyNot_4 11 rfl rfl)
theorem dX1_whyNot_105 : decode cX1_whyNot 105 = .ok (.getfield 130, 3) := dk_180 0 130 (dk_at dksX1_whyNot_4 12 rfl rfl)
theorem dX1_whyNot_108 : decode cX1_whyNot 108 = .ok (.lload_n 2, 1) := dk_32 (dk_at dksX1_whyNot_4 15 rfl rfl)
theorem dX1_whyNot_109 : decode cX1_whyNot 109 = .ok (.ldc2_w 324, 3) := dk_20 1 68 (dk_at dksX1_whyNot_4 16 rfl rfl)
theorem dX1_whyNot_112 : decode cX1_whyNot 112 = .ok (.lrem, 1) := dk_113 (dk_at dksX1_whyNot_4 19 rfl rfl)
theorem dX1_whyNot_113 : decode cX1_whyNot 113 = .ok (.ldc2_w 320, 3) := dk_20 1 64 (dk_at dksX1_whyNot_4 20 rfl rfl)
theorem dX1_whyNot_116 : decode cX1_whyNot 116 = .ok (.ldiv, 1) := dk_109 (dk_at dksX1_whyNot_4 23 rfl rfl)
theorem dX1_whyNot_117 : decode cX1_whyNot 117 = .ok (.invokevirtual 171, 3) := dk_182 0 171 (dk_at dksX1_whyNot_5 0 rfl rfl)
theorem dX1_whyNot_120 : decode cX1_whyNot 120 = .ok (.ifCond .eq 7, 3) := dk_153 0 7 (dk_at dksX1_whyNot_5 3 rfl rfl)
theorem dX1_whyNot_123 : decode cX1_whyNot 123 = .ok (.iconst 0, 1) := dk_3 (dk_at dksX1_whyNot_5 6 rfl rfl)
theorem dX1_whyNot_124 : decode cX1_whyNot 124 = .ok (.goto 4, 3) := dk_167 0 4 (dk_at dksX1_whyNot_5 7 rfl rfl)
theorem dX1_whyNot_127 : decode cX1_whyNot 127 = .ok (.iconst 1, 1) := dk_4 (dk_at dksX1_whyNot_5 10 rfl rfl)
theorem dX1_whyNot_128 : decode cX1_whyNot 128 = .ok (.ireturn, 1) := dk_172 (dk_at dksX1_whyNot_5 11 rfl rfl)
abbrev cX1_does : ByteArray := prog_1_method_43_code
def yX1_does : MethodName := ⟨RX1, "does", "(LNapkinDeeds$State;I)V"⟩
def dkwX1_does_3 : List UInt8 := [162, 0, 7, 3, 167, 0, 4, 4, 27, 16, 100, 112, 184, 1, 52, 87, 177]
abbrev dktX1_does_3 : List UInt8 := dkwX1_does_3 ++ []
def dkwX1_does_2 : List UInt8 := [180, 0, 218, 4, 100, 181, 0, 218, 167, 0, 32, 42, 27, 17, 3, 232, 112, 16, 100, 108, 27, 17, 7, 208]
abbrev dktX1_does_2 : List UInt8 := dkwX1_does_2 ++ dktX1_does_3
def dkwX1_does_1 : List UInt8 := [167, 0, 63, 27, 17, 3, 232, 162, 0, 27, 42, 27, 17, 0, 200, 160, 0, 7, 3, 167, 0, 9, 42]
abbrev dktX1_does_1 : List UInt8 := dkwX1_does_1 ++ dktX1_does_2
def dkwX1_does_0 : List UInt8 := [27, 2, 160, 0, 4, 177, 27, 16, 100, 162, 0, 18, 42, 27, 16, 10, 108, 27, 16, 10, 112, 182, 1, 44]
abbrev dktX1_does_0 : List UInt8 := dkwX1_does_0 ++ dktX1_does_1
theorem dksX1_does_0 : cX1_does.data.toList.drop 0 = dktX1_does_0 := by decide +kernel
theorem dksX1_does_1 : cX1_does.data.toList.drop 24 = dktX1_does_1 := dk_seg dksX1_does_0 24 rfl rfl
theorem dksX1_does_2 : cX1_does.data.toList.drop 47 = dktX1_does_2 := dk_seg dksX1_does_1 23 rfl rfl
theorem dksX1_does_3 : cX1_does.data.toList.drop 71 = dktX1_does_3 := dk_seg dksX1_does_2 24 rfl rfl
theorem dX1_does_0 : decode cX1_does 0 = .ok (.iload_n 1, 1) := dk_27 (dk_at dksX1_does_0 0 rfl rfl)
theorem dX1_does_1 : decode cX1_does 1 = .ok (.iconst (-1), 1) := dk_2 (dk_at dksX1_does_0 1 rfl rfl)
theorem dX1_does_2 : decode cX1_does 2 = .ok (.if_icmp .ne 4, 3) := dk_160 0 4 (dk_at dksX1_does_0 2 rfl rfl)
theorem dX1_does_5 : decode cX1_does 5 = .ok (.return_, 1) := dk_177 (dk_at dksX1_does_0 5 rfl rfl)
theorem dX1_does_6 : decode cX1_does 6 = .ok (.iload_n 1, 1) := dk_27 (dk_at dksX1_does_0 6 rfl rfl)
theorem dX1_does_7 : decode cX1_does 7 = .ok (.bipush 100, 2) := dk_16 100 (dk_at dksX1_does_0 7 rfl rfl)
theorem dX1_does_9 : decode cX1_does 9 = .ok (.if_icmp .ge 18, 3) := dk_162 0 18 (dk_at dksX1_does_0 9 rfl rfl)
theorem dX1_does_12 : decode cX1_does 12 = .ok (.aload_n 0, 1) := dk_42 (dk_at dksX1_does_0 12 rfl rfl)
theorem dX1_does_13 : decode cX1_does 13 = .ok (.iload_n 1, 1) := dk_27 (dk_at dksX1_does_0 13 rfl rfl)
theorem dX1_does_14 : decode cX1_does 14 = .ok (.bipush 10, 2) := dk_16 10 (dk_at dksX1_does_0 14 rfl rfl)
theorem dX1_does_16 : decode cX1_does 16 = .ok (.idiv, 1) := dk_108 (dk_at dksX1_does_0 16 rfl rfl)
theorem dX1_does_17 : decode cX1_does 17 = .ok (.iload_n 1, 1) := dk_27 (dk_at dksX1_does_0 17 rfl rfl)
theorem dX1_does_18 : decode cX1_does 18 = .ok (.bipush 10, 2) := dk_16 10 (dk_at dksX1_does_0 18 rfl rfl)
theorem dX1_does_20 : decode cX1_does 20 = .ok (.irem, 1) := dk_112 (dk_at dksX1_does_0 20 rfl rfl)
theorem dX1_does_21 : decode cX1_does 21 = .ok (.invokevirtual 300, 3) := dk_182 1 44 (dk_at dksX1_does_0 21 rfl rfl)
theorem dX1_does_24 : decode cX1_does 24 = .ok (.goto 63, 3) := dk_167 0 63 (dk_at dksX1_does_1 0 rfl rfl)
theorem dX1_does_27 : decode cX1_does 27 = .ok (.iload_n 1, 1) := dk_27 (dk_at dksX1_does_1 3 rfl rfl)
theorem dX1_does_28 : decode cX1_does 28 = .ok (.sipush 1000, 3) := dk_17 3 232 (dk_at dksX1_does_1 4 rfl rfl)
theorem dX1_does_31 : decode cX1_does 31 = .ok (.if_icmp .ge 27, 3) := dk_162 0 27 (dk_at dksX1_does_1 7 rfl rfl)
theorem dX1_does_34 : decode cX1_does 34 = .ok (.aload_n 0, 1) := dk_42 (dk_at dksX1_does_1 10 rfl rfl)
theorem dX1_does_35 : decode cX1_does 35 = .ok (.iload_n 1, 1) := dk_27 (dk_at dksX1_does_1 11 rfl rfl)
theorem dX1_does_36 : decode cX1_does 36 = .ok (.sipush 200, 3) := dk_17 0 200 (dk_at dksX1_does_1 12 rfl rfl)
theorem dX1_does_39 : decode cX1_does 39 = .ok (.if_icmp .ne 7, 3) := dk_160 0 7 (dk_at dksX1_does_1 15 rfl rfl)
theorem dX1_does_42 : decode cX1_does 42 = .ok (.iconst 0, 1) := dk_3 (dk_at dksX1_does_1 18 rfl rfl)
theorem dX1_does_43 : decode cX1_does 43 = .ok (.goto 9, 3) := dk_167 0 9 (dk_at dksX1_does_1 19 rfl rfl)
theorem dX1_does_46 : decode cX1_does 46 = .ok (.aload_n 0, 1) := dk_42 (dk_at dksX1_does_1 22 rfl rfl)
theorem dX1_does_47 : decode cX1_does 47 = .ok (.getfield 218, 3) := dk_180 0 218 (dk_at dksX1_does_2 0 rfl rfl)
theorem dX1_does_50 : decode cX1_does 50 = .ok (.iconst 1, 1) := dk_4 (dk_at dksX1_does_2 3 rfl rfl)
theorem dX1_does_51 : decode cX1_does 51 = .ok (.isub, 1) := dk_100 (dk_at dksX1_does_2 4 rfl rfl)
theorem dX1_does_52 : decode cX1_does 52 = .ok (.putfield 218, 3) := dk_181 0 218 (dk_at dksX1_does_2 5 rfl rfl)
theorem dX1_does_55 : decode cX1_does 55 = .ok (.goto 32, 3) := dk_167 0 32 (dk_at dksX1_does_2 8 rfl rfl)
theorem dX1_does_58 : decode cX1_does 58 = .ok (.aload_n 0, 1) := dk_42 (dk_at dksX1_does_2 11 rfl rfl)
theorem dX1_does_59 : decode cX1_does 59 = .ok (.iload_n 1, 1) := dk_27 (dk_at dksX1_does_2 12 rfl rfl)
theorem dX1_does_60 : decode cX1_does 60 = .ok (.sipush 1000, 3) := dk_17 3 232 (dk_at dksX1_does_2 13 rfl rfl)
theorem dX1_does_63 : decode cX1_does 63 = .ok (.irem, 1) := dk_112 (dk_at dksX1_does_2 16 rfl rfl)
theorem dX1_does_64 : decode cX1_does 64 = .ok (.bipush 100, 2) := dk_16 100 (dk_at dksX1_does_2 17 rfl rfl)
theorem dX1_does_66 : decode cX1_does 66 = .ok (.idiv, 1) := dk_108 (dk_at dksX1_does_2 19 rfl rfl)
theorem dX1_does_67 : decode cX1_does 67 = .ok (.iload_n 1, 1) := dk_27 (dk_at dksX1_does_2 20 rfl rfl)
theorem dX1_does_68 : decode cX1_does 68 = .ok (.sipush 2000, 3) := dk_17 7 208 (dk_at dksX1_does_2 21 rfl rfl)
theorem dX1_does_71 : decode cX1_does 71 = .ok (.if_icmp .ge 7, 3) := dk_162 0 7 (dk_at dksX1_does_3 0 rfl rfl)
theorem dX1_does_74 : decode cX1_does 74 = .ok (.iconst 0, 1) := dk_3 (dk_at dksX1_does_3 3 rfl rfl)
theorem dX1_does_75 : decode cX1_does 75 = .ok (.goto 4, 3) := dk_167 0 4 (dk_at dksX1_does_3 4 rfl rfl)
theorem dX1_does_78 : decode cX1_does 78 = .ok (.iconst 1, 1) := dk_4 (dk_at dksX1_does_3 7 rfl rfl)
theorem dX1_does_79 : decode cX1_does 79 = .ok (.iload_n 1, 1) := dk_27 (dk_at dksX1_does_3 8 rfl rfl)
theorem dX1_does_80 : decode cX1_does 80 = .ok (.bipush 100, 2) := dk_16 100 (dk_at dksX1_does_3 9 rfl rfl)
theorem dX1_does_82 : decode cX1_does 82 = .ok (.irem, 1) := dk_112 (dk_at dksX1_does_3 11 rfl rfl)
theorem dX1_does_83 : decode cX1_does 83 = .ok (.invokestatic 308, 3) := dk_184 1 52 (dk_at dksX1_does_3 12 rfl rfl)
theorem dX1_does_86 : decode cX1_does 86 = .ok (.pop, 1) := dk_87 (dk_at dksX1_does_3 15 rfl rfl)
theorem dX1_does_87 : decode cX1_does 87 = .ok (.return_, 1) := dk_177 (dk_at dksX1_does_3 16 rfl rfl)
abbrev cX1_perform : ByteArray := prog_1_method_45_code
def yX1_perform : MethodName := ⟨RX1, "perform", "(I)I"⟩
def dkwX1_perform_3 : List UInt8 := [132, 3, 1, 167, 255, 195, 44, 182, 1, 84, 172]
abbrev dktX1_perform_3 : List UInt8 := dkwX1_perform_3 ++ []
def dkwX1_perform_2 : List UInt8 := [148, 154, 0, 6, 167, 0, 20, 42, 182, 1, 41, 42, 180, 0, 19, 44, 29, 182, 1, 85, 136, 184, 1, 92]
abbrev dktX1_perform_2 : List UInt8 := dkwX1_perform_2 ++ dktX1_perform_3
def dkwX1_perform_1 : List UInt8 := [180, 0, 19, 44, 29, 182, 1, 85, 182, 1, 88, 153, 0, 5, 29, 172, 44, 29, 182, 1, 85, 20, 1, 62]
abbrev dktX1_perform_1 : List UInt8 := dkwX1_perform_1 ++ dktX1_perform_2
def dkwX1_perform_0 : List UInt8 := [42, 27, 182, 1, 76, 77, 44, 184, 1, 80, 3, 62, 29, 44, 182, 1, 84, 162, 0, 59, 42, 42]
abbrev dktX1_perform_0 : List UInt8 := dkwX1_perform_0 ++ dktX1_perform_1
theorem dksX1_perform_0 : cX1_perform.data.toList.drop 0 = dktX1_perform_0 := by decide +kernel
theorem dksX1_perform_1 : cX1_perform.data.toList.drop 22 = dktX1_perform_1 := dk_seg dksX1_perform_0 22 rfl rfl
theorem dksX1_perform_2 : cX1_perform.data.toList.drop 46 = dktX1_perform_2 := dk_seg dksX1_perform_1 24 rfl rfl
theorem dksX1_perform_3 : cX1_perform.data.toList.drop 70 = dktX1_perform_3 := dk_seg dksX1_perform_2 24 rfl rfl
theorem dX1_perform_0 : decode cX1_perform 0 = .ok (.aload_n 0, 1) := dk_42 (dk_at dksX1_perform_0 0 rfl rfl)
theorem dX1_perform_1 : decode cX1_perform 1 = .ok (.iload_n 1, 1) := dk_27 (dk_at dksX1_perform_0 1 rfl rfl)
theorem dX1_perform_2 : decode cX1_perform 2 = .ok (.invokevirtual 332, 3) := dk_182 1 76 (dk_at dksX1_perform_0 2 rfl rfl)
theorem dX1_perform_5 : decode cX1_perform 5 = .ok (.astore_n 2, 1) := dk_77 (dk_at dksX1_perform_0 5 rfl rfl)
theorem dX1_perform_6 : decode cX1_perform 6 = .ok (.aload_n 2, 1) := dk_44 (dk_at dksX1_perform_0 6 rfl rfl)
theorem dX1_perform_7 : decode cX1_perform 7 = .ok (.invokestatic 336, 3) := dk_184 1 80 (dk_at dksX1_perform_0 7 rfl rfl)
theorem dX1_perform_10 : decode cX1_perform 10 = .ok (.iconst 0, 1) := dk_3 (dk_at dksX1_perform_0 10 rfl rfl)
theorem dX1_perform_11 : decode cX1_perform 11 = .ok (.istore_n 3, 1) := dk_62 (dk_at dksX1_perform_0 11 rfl rfl)
theorem dX1_perform_12 : decode cX1_perform 12 = .ok (.iload_n 3, 1) := dk_29 (dk_at dksX1_perform_0 12 rfl rfl)
theorem dX1_perform_13 : decode cX1_perform 13 = .ok (.aload_n 2, 1) := dk_44 (dk_at dksX1_perform_0 13 rfl rfl)
theorem dX1_perform_14 : decode cX1_perform 14 = .ok (.invokevirtual 340, 3) := dk_182 1 84 (dk_at dksX1_perform_0 14 rfl rfl)
theorem dX1_perform_17 : decode cX1_perform 17 = .ok (.if_icmp .ge 59, 3) := dk_162 0 59 (dk_at dksX1_perform_0 17 rfl rfl)
theorem dX1_perform_20 : decode cX1_perform 20 = .ok (.aload_n 0, 1) := dk_42 (dk_at dksX1_perform_0 20 rfl rfl)
theorem dX1_perform_21 : decode cX1_perform 21 = .ok (.aload_n 0, 1) := dk_42 (dk_at dksX1_perform_0 21 rfl rfl)
theorem dX1_perform_22 : decode cX1_perform 22 = .ok (.getfield 19, 3) := dk_180 0 19 (dk_at dksX1_perform_1 0 rfl rfl)
theorem dX1_perform_25 : decode cX1_perform 25 = .ok (.aload_n 2, 1) := dk_44 (dk_at dksX1_perform_1 3 rfl rfl)
theorem dX1_perform_26 : decode cX1_perform 26 = .ok (.iload_n 3, 1) := dk_29 (dk_at dksX1_perform_1 4 rfl rfl)
theorem dX1_perform_27 : decode cX1_perform 27 = .ok (.invokevirtual 341, 3) := dk_182 1 85 (dk_at dksX1_perform_1 5 rfl rfl)
theorem dX1_perform_30 : decode cX1_perform 30 = .ok (.invokevirtual 344, 3) := dk_182 1 88 (dk_at dksX1_perform_1 8 rfl rfl)
theorem dX1_perform_33 : decode cX1_perform 33 = .ok (.ifCond .eq 5, 3) := dk_153 0 5 (dk_at dksX1_perform_1 11 rfl rfl)
theorem dX1_perform_36 : decode cX1_perform 36 = .ok (.iload_n 3, 1) := dk_29 (dk_at dksX1_perform_1 14 rfl rfl)
theorem dX1_perform_37 : decode cX1_perform 37 = .ok (.ireturn, 1) := dk_172 (dk_at dksX1_perform_1 15 rfl rfl)
theorem dX1_perform_38 : decode cX1_perform 38 = .ok (.aload_n 2, 1) := dk_44 (dk_at dksX1_perform_1 16 rfl rfl)
theorem dX1_perform_39 : decode cX1_perform 39 = .ok (.iload_n 3, 1) := dk_29 (dk_at dksX1_perform_1 17 rfl rfl)
theorem dX1_perform_40 : decode cX1_perform 40 = .ok (.invokevirtual 341, 3) := dk_182 1 85 (dk_at dksX1_perform_1 18 rfl rfl)
theorem dX1_perform_43 : decode cX1_perform 43 = .ok (.ldc2_w 318, 3) := dk_20 1 62 (dk_at dksX1_perform_1 21 rfl rfl)
theorem dX1_perform_46 : decode cX1_perform 46 = .ok (.lcmp, 1) := dk_148 (dk_at dksX1_perform_2 0 rfl rfl)
theorem dX1_perform_47 : decode cX1_perform 47 = .ok (.ifCond .ne 6, 3) := dk_154 0 6 (dk_at dksX1_perform_2 1 rfl rfl)
theorem dX1_perform_50 : decode cX1_perform 50 = .ok (.goto 20, 3) := dk_167 0 20 (dk_at dksX1_perform_2 4 rfl rfl)
theorem dX1_perform_53 : decode cX1_perform 53 = .ok (.aload_n 0, 1) := dk_42 (dk_at dksX1_perform_2 7 rfl rfl)
theorem dX1_perform_54 : decode cX1_perform 54 = .ok (.invokevirtual 297, 3) := dk_182 1 41 (dk_at dksX1_perform_2 8 rfl rfl)
theorem dX1_perform_57 : decode cX1_perform 57 = .ok (.aload_n 0, 1) := dk_42 (dk_at dksX1_perform_2 11 rfl rfl)
theorem dX1_perform_58 : decode cX1_perform 58 = .ok (.getfield 19, 3) := dk_180 0 19 (dk_at dksX1_perform_2 12 rfl rfl)
theorem dX1_perform_61 : decode cX1_perform 61 = .ok (.aload_n 2, 1) := dk_44 (dk_at dksX1_perform_2 15 rfl rfl)
theorem dX1_perform_62 : decode cX1_perform 62 = .ok (.iload_n 3, 1) := dk_29 (dk_at dksX1_perform_2 16 rfl rfl)
theorem dX1_perform_63 : decode cX1_perform 63 = .ok (.invokevirtual 341, 3) := dk_182 1 85 (dk_at dksX1_perform_2 17 rfl rfl)
theorem dX1_perform_66 : decode cX1_perform 66 = .ok (.l2i, 1) := dk_136 (dk_at dksX1_perform_2 20 rfl rfl)
theorem dX1_perform_67 : decode cX1_perform 67 = .ok (.invokestatic 348, 3) := dk_184 1 92 (dk_at dksX1_perform_2 21 rfl rfl)
theorem dX1_perform_70 : decode cX1_perform 70 = .ok (.iinc 3 1, 3) := dk_132 3 1 (dk_at dksX1_perform_3 0 rfl rfl)
theorem dX1_perform_73 : decode cX1_perform 73 = .ok (.goto (-61), 3) := dk_167 255 195 (dk_at dksX1_perform_3 3 rfl rfl)
theorem dX1_perform_76 : decode cX1_perform 76 = .ok (.aload_n 2, 1) := dk_44 (dk_at dksX1_perform_3 6 rfl rfl)
theorem dX1_perform_77 : decode cX1_perform 77 = .ok (.invokevirtual 340, 3) := dk_182 1 84 (dk_at dksX1_perform_3 7 rfl rfl)
theorem dX1_perform_80 : decode cX1_perform 80 = .ok (.ireturn, 1) := dk_172 (dk_at dksX1_perform_3 10 rfl rfl)
abbrev cX1_evening : ByteArray := prog_1_method_48_code
def yX1_evening : MethodName := ⟨RX1, "evening", "(II)I"⟩
def dkwX1_evening_3 : List UInt8 := [167, 255, 208, 29, 172]
abbrev dktX1_evening_3 : List UInt8 := dkwX1_evening_3 ++ []
def dkwX1_evening_2 : List UInt8 := [167, 0, 19, 42, 182, 1, 41, 42, 180, 0, 19, 21, 5, 184, 1, 92, 132, 3, 1, 132, 4, 1]
abbrev dktX1_evening_2 : List UInt8 := dkwX1_evening_2 ++ dktX1_evening_3
def dkwX1_evening_1 : List UInt8 := [28, 162, 0, 48, 42, 182, 1, 105, 54, 5, 42, 42, 180, 0, 19, 21, 5, 133, 182, 1, 88, 153, 0, 6]
abbrev dktX1_evening_1 : List UInt8 := dkwX1_evening_1 ++ dktX1_evening_2
def dkwX1_evening_0 : List UInt8 := [28, 133, 10, 20, 1, 103, 184, 0, 106, 184, 0, 110, 42, 27, 181, 1, 97, 3, 62, 3, 54, 4, 21, 4]
abbrev dktX1_evening_0 : List UInt8 := dkwX1_evening_0 ++ dktX1_evening_1
theorem dksX1_evening_0 : cX1_evening.data.toList.drop 0 = dktX1_evening_0 := by decide +kernel
theorem dksX1_evening_1 : cX1_evening.data.toList.drop 24 = dktX1_evening_1 := dk_seg dksX1_evening_0 24 rfl rfl
theorem dksX1_evening_2 : cX1_evening.data.toList.drop 48 = dktX1_evening_2 := dk_seg dksX1_evening_1 24 rfl rfl
theorem dksX1_evening_3 : cX1_evening.data.toList.drop 70 = dktX1_evening_3 := dk_seg dksX1_evening_2 22 rfl rfl
theorem dX1_evening_0 : decode cX1_evening 0 = .ok (.iload_n 2, 1) := dk_28 (dk_at dksX1_evening_0 0 rfl rfl)
theorem dX1_evening_1 : decode cX1_evening 1 = .ok (.i2l, 1) := dk_133 (dk_at dksX1_evening_0 1 rfl rfl)
theorem dX1_evening_2 : decode cX1_evening 2 = .ok (.lconst 1, 1) := dk_10 (dk_at dksX1_evening_0 2 rfl rfl)
theorem dX1_evening_3 : decode cX1_evening 3 = .ok (.ldc2_w 359, 3) := dk_20 1 103 (dk_at dksX1_evening_0 3 rfl rfl)
theorem dX1_evening_6 : decode cX1_evening 6 = .ok (.invokestatic 106, 3) := dk_184 0 106 (dk_at dksX1_evening_0 6 rfl rfl)
theorem dX1_evening_9 : decode cX1_evening 9 = .ok (.invokestatic 110, 3) := dk_184 0 110 (dk_at dksX1_evening_0 9 rfl rfl)
theorem dX1_evening_12 : decode cX1_evening 12 = .ok (.aload_n 0, 1) := dk_42 (dk_at dksX1_evening_0 12 rfl rfl)
theorem dX1_evening_13 : decode cX1_evening 13 = .ok (.iload_n 1, 1) := dk_27 (dk_at dksX1_evening_0 13 rfl rfl)
theorem dX1_evening_14 : decode cX1_evening 14 = .ok (.putfield 353, 3) := dk_181 1 97 (dk_at dksX1_evening_0 14 rfl rfl)
theorem dX1_evening_17 : decode cX1_evening 17 = .ok (.iconst 0, 1) := dk_3 (dk_at dksX1_evening_0 17 rfl rfl)
theorem dX1_evening_18 : decode cX1_evening 18 = .ok (.istore_n 3, 1) := dk_62 (dk_at dksX1_evening_0 18 rfl rfl)
theorem dX1_evening_19 : decode cX1_evening 19 = .ok (.iconst 0, 1) := dk_3 (dk_at dksX1_evening_0 19 rfl rfl)
theorem dX1_evening_20 : decode cX1_evening 20 = .ok (.istore 4, 2) := dk_54 4 (dk_at dksX1_evening_0 20 rfl rfl)
theorem dX1_evening_22 : decode cX1_evening 22 = .ok (.iload 4, 2) := dk_21 4 (dk_at dksX1_evening_0 22 rfl rfl)
theorem dX1_evening_24 : decode cX1_evening 24 = .ok (.iload_n 2, 1) := dk_28 (dk_at dksX1_evening_1 0 rfl rfl)
theorem dX1_evening_25 : decode cX1_evening 25 = .ok (.if_icmp .ge 48, 3) := dk_162 0 48 (dk_at dksX1_evening_1 1 rfl rfl)
theorem dX1_evening_28 : decode cX1_evening 28 = .ok (.aload_n 0, 1) := dk_42 (dk_at dksX1_evening_1 4 rfl rfl)
theorem dX1_evening_29 : decode cX1_evening 29 = .ok (.invokevirtual 361, 3) := dk_182 1 105 (dk_at dksX1_evening_1 5 rfl rfl)
theorem dX1_evening_32 : decode cX1_evening 32 = .ok (.istore 5, 2) := dk_54 5 (dk_at dksX1_evening_1 8 rfl rfl)
theorem dX1_evening_34 : decode cX1_evening 34 = .ok (.aload_n 0, 1) := dk_42 (dk_at dksX1_evening_1 10 rfl rfl)
theorem dX1_evening_35 : decode cX1_evening 35 = .ok (.aload_n 0, 1) := dk_42 (dk_at dksX1_evening_1 11 rfl rfl)
theorem dX1_evening_36 : decode cX1_evening 36 = .ok (.getfield 19, 3) := dk_180 0 19 (dk_at dksX1_evening_1 12 rfl rfl)
theorem dX1_evening_39 : decode cX1_evening 39 = .ok (.iload 5, 2) := dk_21 5 (dk_at dksX1_evening_1 15 rfl rfl)
theorem dX1_evening_41 : decode cX1_evening 41 = .ok (.i2l, 1) := dk_133 (dk_at dksX1_evening_1 17 rfl rfl)
theorem dX1_evening_42 : decode cX1_evening 42 = .ok (.invokevirtual 344, 3) := dk_182 1 88 (dk_at dksX1_evening_1 18 rfl rfl)
theorem dX1_evening_45 : decode cX1_evening 45 = .ok (.ifCond .eq 6, 3) := dk_153 0 6 (dk_at dksX1_evening_1 21 rfl rfl)
theorem dX1_evening_48 : decode cX1_evening 48 = .ok (.goto 19, 3) := dk_167 0 19 (dk_at dksX1_evening_2 0 rfl rfl)
theorem dX1_evening_51 : decode cX1_evening 51 = .ok (.aload_n 0, 1) := dk_42 (dk_at dksX1_evening_2 3 rfl rfl)
theorem dX1_evening_52 : decode cX1_evening 52 = .ok (.invokevirtual 297, 3) := dk_182 1 41 (dk_at dksX1_evening_2 4 rfl rfl)
theorem dX1_evening_55 : decode cX1_evening 55 = .ok (.aload_n 0, 1) := dk_42 (dk_at dksX1_evening_2 7 rfl rfl)
theorem dX1_evening_56 : decode cX1_evening 56 = .ok (.getfield 19, 3) := dk_180 0 19 (dk_at dksX1_evening_2 8 rfl rfl)
theorem dX1_evening_59 : decode cX1_evening 59 = .ok (.iload 5, 2) := dk_21 5 (dk_at dksX1_evening_2 11 rfl rfl)
theorem dX1_evening_61 : decode cX1_evening 61 = .ok (.invokestatic 348, 3) := dk_184 1 92 (dk_at dksX1_evening_2 13 rfl rfl)
theorem dX1_evening_64 : decode cX1_evening 64 = .ok (.iinc 3 1, 3) := dk_132 3 1 (dk_at dksX1_evening_2 16 rfl rfl)
theorem dX1_evening_67 : decode cX1_evening 67 = .ok (.iinc 4 1, 3) := dk_132 4 1 (dk_at dksX1_evening_2 19 rfl rfl)
theorem dX1_evening_70 : decode cX1_evening 70 = .ok (.goto (-48), 3) := dk_167 255 208 (dk_at dksX1_evening_3 0 rfl rfl)
theorem dX1_evening_73 : decode cX1_evening 73 = .ok (.iload_n 3, 1) := dk_29 (dk_at dksX1_evening_3 3 rfl rfl)
theorem dX1_evening_74 : decode cX1_evening 74 = .ok (.ireturn, 1) := dk_172 (dk_at dksX1_evening_3 4 rfl rfl)
abbrev cX1_drawn : ByteArray := prog_1_method_47_code
def yX1_drawn : MethodName := ⟨RX1, "drawn", "()I"⟩
def dkwX1_drawn_2 : List UInt8 := [182, 1, 100, 96, 61, 16, 10, 28, 104, 42, 7, 182, 1, 100, 96, 172]
abbrev dktX1_drawn_2 : List UInt8 := dkwX1_drawn_2 ++ []
def dkwX1_drawn_1 : List UInt8 := [182, 1, 100, 61, 17, 3, 232, 16, 100, 28, 104, 96, 42, 16, 100, 182, 1, 100, 96, 172, 4, 42, 8]
abbrev dktX1_drawn_1 : List UInt8 := dkwX1_drawn_1 ++ dktX1_drawn_2
def dkwX1_drawn_0 : List UInt8 := [42, 7, 182, 1, 100, 60, 27, 5, 160, 0, 6, 16, 100, 172, 27, 6, 160, 0, 26, 42, 16, 6]
abbrev dktX1_drawn_0 : List UInt8 := dkwX1_drawn_0 ++ dktX1_drawn_1
theorem dksX1_drawn_0 : cX1_drawn.data.toList.drop 0 = dktX1_drawn_0 := by decide +kernel
theorem dksX1_drawn_1 : cX1_drawn.data.toList.drop 22 = dktX1_drawn_1 := dk_seg dksX1_drawn_0 22 rfl rfl
theorem dksX1_drawn_2 : cX1_drawn.data.toList.drop 45 = dktX1_drawn_2 := dk_seg dksX1_drawn_1 23 rfl rfl
theorem dX1_drawn_0 : decode cX1_drawn 0 = .ok (.aload_n 0, 1) := dk_42 (dk_at dksX1_drawn_0 0 rfl rfl)
theorem dX1_drawn_1 : decode cX1_drawn 1 = .ok (.iconst 4, 1) := dk_7 (dk_at dksX1_drawn_0 1 rfl rfl)
theorem dX1_drawn_2 : decode cX1_drawn 2 = .ok (.invokevirtual 356, 3) := dk_182 1 100 (dk_at dksX1_drawn_0 2 rfl rfl)
theorem dX1_drawn_5 : decode cX1_drawn 5 = .ok (.istore_n 1, 1) := dk_60 (dk_at dksX1_drawn_0 5 rfl rfl)
theorem dX1_drawn_6 : decode cX1_drawn 6 = .ok (.iload_n 1, 1) := dk_27 (dk_at dksX1_drawn_0 6 rfl rfl)
theorem dX1_drawn_7 : decode cX1_drawn 7 = .ok (.iconst 2, 1) := dk_5 (dk_at dksX1_drawn_0 7 rfl rfl)
theorem dX1_drawn_8 : decode cX1_drawn 8 = .ok (.if_icmp .ne 6, 3) := dk_160 0 6 (dk_at dksX1_drawn_0 8 rfl rfl)
theorem dX1_drawn_11 : decode cX1_drawn 11 = .ok (.bipush 100, 2) := dk_16 100 (dk_at dksX1_drawn_0 11 rfl rfl)
theorem dX1_drawn_13 : decode cX1_drawn 13 = .ok (.ireturn, 1) := dk_172 (dk_at dksX1_drawn_0 13 rfl rfl)
theorem dX1_drawn_14 : decode cX1_drawn 14 = .ok (.iload_n 1, 1) := dk_27 (dk_at dksX1_drawn_0 14 rfl rfl)
theorem dX1_drawn_15 : decode cX1_drawn 15 = .ok (.iconst 3, 1) := dk_6 (dk_at dksX1_drawn_0 15 rfl rfl)
theorem dX1_drawn_16 : decode cX1_drawn 16 = .ok (.if_icmp .ne 26, 3) := dk_160 0 26 (dk_at dksX1_drawn_0 16 rfl rfl)
theorem dX1_drawn_19 : decode cX1_drawn 19 = .ok (.aload_n 0, 1) := dk_42 (dk_at dksX1_drawn_0 19 rfl rfl)
theorem dX1_drawn_20 : decode cX1_drawn 20 = .ok (.bipush 6, 2) := dk_16 6 (dk_at dksX1_drawn_0 20 rfl rfl)
theorem dX1_drawn_22 : decode cX1_drawn 22 = .ok (.invokevirtual 356, 3) := dk_182 1 100 (dk_at dksX1_drawn_1 0 rfl rfl)
theorem dX1_drawn_25 : decode cX1_drawn 25 = .ok (.istore_n 2, 1) := dk_61 (dk_at dksX1_drawn_1 3 rfl rfl)
theorem dX1_drawn_26 : decode cX1_drawn 26 = .ok (.sipush 1000, 3) := dk_17 3 232 (dk_at dksX1_drawn_1 4 rfl rfl)
theorem dX1_drawn_29 : decode cX1_drawn 29 = .ok (.bipush 100, 2) := dk_16 100 (dk_at dksX1_drawn_1 7 rfl rfl)
theorem dX1_drawn_31 : decode cX1_drawn 31 = .ok (.iload_n 2, 1) := dk_28 (dk_at dksX1_drawn_1 9 rfl rfl)
theorem dX1_drawn_32 : decode cX1_drawn 32 = .ok (.imul, 1) := dk_104 (dk_at dksX1_drawn_1 10 rfl rfl)
theorem dX1_drawn_33 : decode cX1_drawn 33 = .ok (.iadd, 1) := dk_96 (dk_at dksX1_drawn_1 11 rfl rfl)
theorem dX1_drawn_34 : decode cX1_drawn 34 = .ok (.aload_n 0, 1) := dk_42 (dk_at dksX1_drawn_1 12 rfl rfl)
theorem dX1_drawn_35 : decode cX1_drawn 35 = .ok (.bipush 100, 2) := dk_16 100 (dk_at dksX1_drawn_1 13 rfl rfl)
theorem dX1_drawn_37 : decode cX1_drawn 37 = .ok (.invokevirtual 356, 3) := dk_182 1 100 (dk_at dksX1_drawn_1 15 rfl rfl)
theorem dX1_drawn_40 : decode cX1_drawn 40 = .ok (.iadd, 1) := dk_96 (dk_at dksX1_drawn_1 18 rfl rfl)
theorem dX1_drawn_41 : decode cX1_drawn 41 = .ok (.ireturn, 1) := dk_172 (dk_at dksX1_drawn_1 19 rfl rfl)
theorem dX1_drawn_42 : decode cX1_drawn 42 = .ok (.iconst 1, 1) := dk_4 (dk_at dksX1_drawn_1 20 rfl rfl)
theorem dX1_drawn_43 : decode cX1_drawn 43 = .ok (.aload_n 0, 1) := dk_42 (dk_at dksX1_drawn_1 21 rfl rfl)
theorem dX1_drawn_44 : decode cX1_drawn 44 = .ok (.iconst 5, 1) := dk_8 (dk_at dksX1_drawn_1 22 rfl rfl)
theorem dX1_drawn_45 : decode cX1_drawn 45 = .ok (.invokevirtual 356, 3) := dk_182 1 100 (dk_at dksX1_drawn_2 0 rfl rfl)
theorem dX1_drawn_48 : decode cX1_drawn 48 = .ok (.iadd, 1) := dk_96 (dk_at dksX1_drawn_2 3 rfl rfl)
theorem dX1_drawn_49 : decode cX1_drawn 49 = .ok (.istore_n 2, 1) := dk_61 (dk_at dksX1_drawn_2 4 rfl rfl)
theorem dX1_drawn_50 : decode cX1_drawn 50 = .ok (.bipush 10, 2) := dk_16 10 (dk_at dksX1_drawn_2 5 rfl rfl)
theorem dX1_drawn_52 : decode cX1_drawn 52 = .ok (.iload_n 2, 1) := dk_28 (dk_at dksX1_drawn_2 7 rfl rfl)
theorem dX1_drawn_53 : decode cX1_drawn 53 = .ok (.imul, 1) := dk_104 (dk_at dksX1_drawn_2 8 rfl rfl)
theorem dX1_drawn_54 : decode cX1_drawn 54 = .ok (.aload_n 0, 1) := dk_42 (dk_at dksX1_drawn_2 9 rfl rfl)
theorem dX1_drawn_55 : decode cX1_drawn 55 = .ok (.iconst 4, 1) := dk_7 (dk_at dksX1_drawn_2 10 rfl rfl)
theorem dX1_drawn_56 : decode cX1_drawn 56 = .ok (.invokevirtual 356, 3) := dk_182 1 100 (dk_at dksX1_drawn_2 11 rfl rfl)
theorem dX1_drawn_59 : decode cX1_drawn 59 = .ok (.iadd, 1) := dk_96 (dk_at dksX1_drawn_2 14 rfl rfl)
theorem dX1_drawn_60 : decode cX1_drawn 60 = .ok (.ireturn, 1) := dk_172 (dk_at dksX1_drawn_2 15 rfl rfl)
abbrev cX1_draw : ByteArray := prog_1_method_46_code
def yX1_draw : MethodName := ⟨RX1, "draw", "(I)I"⟩
def dkwX1_draw_1 : List UInt8 := [112, 172]
abbrev dktX1_draw_1 : List UInt8 := dkwX1_draw_1 ++ []
def dkwX1_draw_0 : List UInt8 := [42, 19, 1, 96, 42, 180, 1, 97, 104, 17, 48, 57, 96, 181, 1, 97, 42, 180, 1, 97, 16, 16, 124, 27]
abbrev dktX1_draw_0 : List UInt8 := dkwX1_draw_0 ++ dktX1_draw_1
theorem dksX1_draw_0 : cX1_draw.data.toList.drop 0 = dktX1_draw_0 := by decide +kernel
theorem dksX1_draw_1 : cX1_draw.data.toList.drop 24 = dktX1_draw_1 := dk_seg dksX1_draw_0 24 rfl rfl
theorem dX1_draw_0 : decode cX1_draw 0 = .ok (.aload_n 0, 1) := dk_42 (dk_at dksX1_draw_0 0 rfl rfl)
theorem dX1_draw_1 : decode cX1_draw 1 = .ok (.ldc_w 352, 3) := dk_19 1 96 (dk_at dksX1_draw_0 1 rfl rfl)
theorem dX1_draw_4 : decode cX1_draw 4 = .ok (.aload_n 0, 1) := dk_42 (dk_at dksX1_draw_0 4 rfl rfl)
theorem dX1_draw_5 : decode cX1_draw 5 = .ok (.getfield 353, 3) := dk_180 1 97 (dk_at dksX1_draw_0 5 rfl rfl)
theorem dX1_draw_8 : decode cX1_draw 8 = .ok (.imul, 1) := dk_104 (dk_at dksX1_draw_0 8 rfl rfl)
theorem dX1_draw_9 : decode cX1_draw 9 = .ok (.sipush 12345, 3) := dk_17 48 57 (dk_at dksX1_draw_0 9 rfl rfl)
theorem dX1_draw_12 : decode cX1_draw 12 = .ok (.iadd, 1) := dk_96 (dk_at dksX1_draw_0 12 rfl rfl)
theorem dX1_draw_13 : decode cX1_draw 13 = .ok (.putfield 353, 3) := dk_181 1 97 (dk_at dksX1_draw_0 13 rfl rfl)
theorem dX1_draw_16 : decode cX1_draw 16 = .ok (.aload_n 0, 1) := dk_42 (dk_at dksX1_draw_0 16 rfl rfl)
theorem dX1_draw_17 : decode cX1_draw 17 = .ok (.getfield 353, 3) := dk_180 1 97 (dk_at dksX1_draw_0 17 rfl rfl)
theorem dX1_draw_20 : decode cX1_draw 20 = .ok (.bipush 16, 2) := dk_16 16 (dk_at dksX1_draw_0 20 rfl rfl)
theorem dX1_draw_22 : decode cX1_draw 22 = .ok (.iushr, 1) := dk_124 (dk_at dksX1_draw_0 22 rfl rfl)
theorem dX1_draw_23 : decode cX1_draw 23 = .ok (.iload_n 1, 1) := dk_27 (dk_at dksX1_draw_0 23 rfl rfl)
theorem dX1_draw_24 : decode cX1_draw 24 = .ok (.irem, 1) := dk_112 (dk_at dksX1_draw_1 0 rfl rfl)
theorem dX1_draw_25 : decode cX1_draw 25 = .ok (.ireturn, 1) := dk_172 (dk_at dksX1_draw_1 1 rfl rfl)
abbrev cX1_rows : ByteArray := prog_1_method_51_code
def yX1_rows : MethodName := ⟨RX1, "rows", "(I)I"⟩
def dkwX1_rows_1 : List UInt8 := [180, 1, 126, 172]
abbrev dktX1_rows_1 : List UInt8 := dkwX1_rows_1 ++ []
def dkwX1_rows_0 : List UInt8 := [27, 184, 1, 112, 187, 1, 115, 89, 42, 27, 183, 1, 117, 77, 44, 3, 27, 182, 1, 120, 87, 44]
abbrev dktX1_rows_0 : List UInt8 := dkwX1_rows_0 ++ dktX1_rows_1
theorem dksX1_rows_0 : cX1_rows.data.toList.drop 0 = dktX1_rows_0 := by decide +kernel
theorem dksX1_rows_1 : cX1_rows.data.toList.drop 22 = dktX1_rows_1 := dk_seg dksX1_rows_0 22 rfl rfl
theorem dX1_rows_0 : decode cX1_rows 0 = .ok (.iload_n 1, 1) := dk_27 (dk_at dksX1_rows_0 0 rfl rfl)
theorem dX1_rows_1 : decode cX1_rows 1 = .ok (.invokestatic 368, 3) := dk_184 1 112 (dk_at dksX1_rows_0 1 rfl rfl)
theorem dX1_rows_4 : decode cX1_rows 4 = .ok (.new 371, 3) := dk_187 1 115 (dk_at dksX1_rows_0 4 rfl rfl)
theorem dX1_rows_7 : decode cX1_rows 7 = .ok (.dup, 1) := dk_89 (dk_at dksX1_rows_0 7 rfl rfl)
theorem dX1_rows_8 : decode cX1_rows 8 = .ok (.aload_n 0, 1) := dk_42 (dk_at dksX1_rows_0 8 rfl rfl)
theorem dX1_rows_9 : decode cX1_rows 9 = .ok (.iload_n 1, 1) := dk_27 (dk_at dksX1_rows_0 9 rfl rfl)
theorem dX1_rows_10 : decode cX1_rows 10 = .ok (.invokespecial 373, 3) := dk_183 1 117 (dk_at dksX1_rows_0 10 rfl rfl)
theorem dX1_rows_13 : decode cX1_rows 13 = .ok (.astore_n 2, 1) := dk_77 (dk_at dksX1_rows_0 13 rfl rfl)
theorem dX1_rows_14 : decode cX1_rows 14 = .ok (.aload_n 2, 1) := dk_44 (dk_at dksX1_rows_0 14 rfl rfl)
theorem dX1_rows_15 : decode cX1_rows 15 = .ok (.iconst 0, 1) := dk_3 (dk_at dksX1_rows_0 15 rfl rfl)
theorem dX1_rows_16 : decode cX1_rows 16 = .ok (.iload_n 1, 1) := dk_27 (dk_at dksX1_rows_0 16 rfl rfl)
theorem dX1_rows_17 : decode cX1_rows 17 = .ok (.invokevirtual 376, 3) := dk_182 1 120 (dk_at dksX1_rows_0 17 rfl rfl)
theorem dX1_rows_20 : decode cX1_rows 20 = .ok (.pop, 1) := dk_87 (dk_at dksX1_rows_0 20 rfl rfl)
theorem dX1_rows_21 : decode cX1_rows 21 = .ok (.aload_n 2, 1) := dk_44 (dk_at dksX1_rows_0 21 rfl rfl)
theorem dX1_rows_22 : decode cX1_rows 22 = .ok (.getfield 382, 3) := dk_180 1 126 (dk_at dksX1_rows_1 0 rfl rfl)
theorem dX1_rows_25 : decode cX1_rows 25 = .ok (.ireturn, 1) := dk_172 (dk_at dksX1_rows_1 3 rfl rfl)
abbrev cX1_mustRows : ByteArray := prog_1_method_49_code
def yX1_mustRows : MethodName := ⟨RX1, "mustRows", "(I)V"⟩
def dkwX1_mustRows_0 : List UInt8 := [26, 133, 9, 20, 1, 108, 184, 0, 106, 184, 0, 110, 177]
abbrev dktX1_mustRows_0 : List UInt8 := dkwX1_mustRows_0 ++ []
theorem dksX1_mustRows_0 : cX1_mustRows.data.toList.drop 0 = dktX1_mustRows_0 := by decide +kernel
theorem dX1_mustRows_0 : decode cX1_mustRows 0 = .ok (.iload_n 0, 1) := dk_26 (dk_at dksX1_mustRows_0 0 rfl rfl)
theorem dX1_mustRows_1 : decode cX1_mustRows 1 = .ok (.i2l, 1) := dk_133 (dk_at dksX1_mustRows_0 1 rfl rfl)
theorem dX1_mustRows_2 : decode cX1_mustRows 2 = .ok (.lconst 0, 1) := dk_9 (dk_at dksX1_mustRows_0 2 rfl rfl)
theorem dX1_mustRows_3 : decode cX1_mustRows 3 = .ok (.ldc2_w 364, 3) := dk_20 1 108 (dk_at dksX1_mustRows_0 3 rfl rfl)
theorem dX1_mustRows_6 : decode cX1_mustRows 6 = .ok (.invokestatic 106, 3) := dk_184 0 106 (dk_at dksX1_mustRows_0 6 rfl rfl)
theorem dX1_mustRows_9 : decode cX1_mustRows 9 = .ok (.invokestatic 110, 3) := dk_184 0 110 (dk_at dksX1_mustRows_0 9 rfl rfl)
theorem dX1_mustRows_12 : decode cX1_mustRows 12 = .ok (.return_, 1) := dk_177 (dk_at dksX1_mustRows_0 12 rfl rfl)
abbrev cX1_looks : ByteArray := prog_1_method_52_code
def yX1_looks : MethodName := ⟨RX1, "looks", "(I)I"⟩
def dkwX1_looks_1 : List UInt8 := [172]
abbrev dktX1_looks_1 : List UInt8 := dkwX1_looks_1 ++ []
def dkwX1_looks_0 : List UInt8 := [27, 184, 1, 112, 187, 1, 127, 89, 42, 183, 1, 129, 77, 44, 3, 27, 182, 1, 132, 87, 44, 182, 1, 135]
abbrev dktX1_looks_0 : List UInt8 := dkwX1_looks_0 ++ dktX1_looks_1
theorem dksX1_looks_0 : cX1_looks.data.toList.drop 0 = dktX1_looks_0 := by decide +kernel
theorem dksX1_looks_1 : cX1_looks.data.toList.drop 24 = dktX1_looks_1 := dk_seg dksX1_looks_0 24 rfl rfl
theorem dX1_looks_0 : decode cX1_looks 0 = .ok (.iload_n 1, 1) := dk_27 (dk_at dksX1_looks_0 0 rfl rfl)
theorem dX1_looks_1 : decode cX1_looks 1 = .ok (.invokestatic 368, 3) := dk_184 1 112 (dk_at dksX1_looks_0 1 rfl rfl)
theorem dX1_looks_4 : decode cX1_looks 4 = .ok (.new 383, 3) := dk_187 1 127 (dk_at dksX1_looks_0 4 rfl rfl)
theorem dX1_looks_7 : decode cX1_looks 7 = .ok (.dup, 1) := dk_89 (dk_at dksX1_looks_0 7 rfl rfl)
theorem dX1_looks_8 : decode cX1_looks 8 = .ok (.aload_n 0, 1) := dk_42 (dk_at dksX1_looks_0 8 rfl rfl)
theorem dX1_looks_9 : decode cX1_looks 9 = .ok (.invokespecial 385, 3) := dk_183 1 129 (dk_at dksX1_looks_0 9 rfl rfl)
theorem dX1_looks_12 : decode cX1_looks 12 = .ok (.astore_n 2, 1) := dk_77 (dk_at dksX1_looks_0 12 rfl rfl)
theorem dX1_looks_13 : decode cX1_looks 13 = .ok (.aload_n 2, 1) := dk_44 (dk_at dksX1_looks_0 13 rfl rfl)
theorem dX1_looks_14 : decode cX1_looks 14 = .ok (.iconst 0, 1) := dk_3 (dk_at dksX1_looks_0 14 rfl rfl)
theorem dX1_looks_15 : decode cX1_looks 15 = .ok (.iload_n 1, 1) := dk_27 (dk_at dksX1_looks_0 15 rfl rfl)
theorem dX1_looks_16 : decode cX1_looks 16 = .ok (.invokevirtual 388, 3) := dk_182 1 132 (dk_at dksX1_looks_0 16 rfl rfl)
theorem dX1_looks_19 : decode cX1_looks 19 = .ok (.pop, 1) := dk_87 (dk_at dksX1_looks_0 19 rfl rfl)
theorem dX1_looks_20 : decode cX1_looks 20 = .ok (.aload_n 2, 1) := dk_44 (dk_at dksX1_looks_0 20 rfl rfl)
theorem dX1_looks_21 : decode cX1_looks 21 = .ok (.invokevirtual 391, 3) := dk_182 1 135 (dk_at dksX1_looks_0 21 rfl rfl)
theorem dX1_looks_24 : decode cX1_looks 24 = .ok (.ireturn, 1) := dk_172 (dk_at dksX1_looks_1 0 rfl rfl)
abbrev cX1_soonest : ByteArray := prog_1_method_53_code
def yX1_soonest : MethodName := ⟨RX1, "soonest", "(I)I"⟩
def dkwX1_soonest_1 : List UInt8 := [182, 1, 147, 172]
abbrev dktX1_soonest_1 : List UInt8 := dkwX1_soonest_1 ++ []
def dkwX1_soonest_0 : List UInt8 := [27, 184, 1, 138, 187, 1, 141, 89, 42, 183, 1, 143, 77, 44, 3, 8, 182, 1, 144, 87, 44, 27]
abbrev dktX1_soonest_0 : List UInt8 := dkwX1_soonest_0 ++ dktX1_soonest_1
theorem dksX1_soonest_0 : cX1_soonest.data.toList.drop 0 = dktX1_soonest_0 := by decide +kernel
theorem dksX1_soonest_1 : cX1_soonest.data.toList.drop 22 = dktX1_soonest_1 := dk_seg dksX1_soonest_0 22 rfl rfl
theorem dX1_soonest_0 : decode cX1_soonest 0 = .ok (.iload_n 1, 1) := dk_27 (dk_at dksX1_soonest_0 0 rfl rfl)
theorem dX1_soonest_1 : decode cX1_soonest 1 = .ok (.invokestatic 394, 3) := dk_184 1 138 (dk_at dksX1_soonest_0 1 rfl rfl)
theorem dX1_soonest_4 : decode cX1_soonest 4 = .ok (.new 397, 3) := dk_187 1 141 (dk_at dksX1_soonest_0 4 rfl rfl)
theorem dX1_soonest_7 : decode cX1_soonest 7 = .ok (.dup, 1) := dk_89 (dk_at dksX1_soonest_0 7 rfl rfl)
theorem dX1_soonest_8 : decode cX1_soonest 8 = .ok (.aload_n 0, 1) := dk_42 (dk_at dksX1_soonest_0 8 rfl rfl)
theorem dX1_soonest_9 : decode cX1_soonest 9 = .ok (.invokespecial 399, 3) := dk_183 1 143 (dk_at dksX1_soonest_0 9 rfl rfl)
theorem dX1_soonest_12 : decode cX1_soonest 12 = .ok (.astore_n 2, 1) := dk_77 (dk_at dksX1_soonest_0 12 rfl rfl)
theorem dX1_soonest_13 : decode cX1_soonest 13 = .ok (.aload_n 2, 1) := dk_44 (dk_at dksX1_soonest_0 13 rfl rfl)
theorem dX1_soonest_14 : decode cX1_soonest 14 = .ok (.iconst 0, 1) := dk_3 (dk_at dksX1_soonest_0 14 rfl rfl)
theorem dX1_soonest_15 : decode cX1_soonest 15 = .ok (.iconst 5, 1) := dk_8 (dk_at dksX1_soonest_0 15 rfl rfl)
theorem dX1_soonest_16 : decode cX1_soonest 16 = .ok (.invokevirtual 400, 3) := dk_182 1 144 (dk_at dksX1_soonest_0 16 rfl rfl)
theorem dX1_soonest_19 : decode cX1_soonest 19 = .ok (.pop, 1) := dk_87 (dk_at dksX1_soonest_0 19 rfl rfl)
theorem dX1_soonest_20 : decode cX1_soonest 20 = .ok (.aload_n 2, 1) := dk_44 (dk_at dksX1_soonest_0 20 rfl rfl)
theorem dX1_soonest_21 : decode cX1_soonest 21 = .ok (.iload_n 1, 1) := dk_27 (dk_at dksX1_soonest_0 21 rfl rfl)
theorem dX1_soonest_22 : decode cX1_soonest 22 = .ok (.invokevirtual 403, 3) := dk_182 1 147 (dk_at dksX1_soonest_1 0 rfl rfl)
theorem dX1_soonest_25 : decode cX1_soonest 25 = .ok (.ireturn, 1) := dk_172 (dk_at dksX1_soonest_1 3 rfl rfl)
abbrev cX1_mustTell : ByteArray := prog_1_method_50_code
def yX1_mustTell : MethodName := ⟨RX1, "mustTell", "(I)V"⟩
def dkwX1_mustTell_1 : List UInt8 := [184, 0, 110, 177]
abbrev dktX1_mustTell_1 : List UInt8 := dkwX1_mustTell_1 ++ []
def dkwX1_mustTell_0 : List UInt8 := [26, 153, 0, 17, 26, 133, 20, 1, 56, 20, 1, 110, 184, 0, 106, 153, 0, 7, 4, 167, 0, 4, 3]
abbrev dktX1_mustTell_0 : List UInt8 := dkwX1_mustTell_0 ++ dktX1_mustTell_1
theorem dksX1_mustTell_0 : cX1_mustTell.data.toList.drop 0 = dktX1_mustTell_0 := by decide +kernel
theorem dksX1_mustTell_1 : cX1_mustTell.data.toList.drop 23 = dktX1_mustTell_1 := dk_seg dksX1_mustTell_0 23 rfl rfl
theorem dX1_mustTell_0 : decode cX1_mustTell 0 = .ok (.iload_n 0, 1) := dk_26 (dk_at dksX1_mustTell_0 0 rfl rfl)
theorem dX1_mustTell_1 : decode cX1_mustTell 1 = .ok (.ifCond .eq 17, 3) := dk_153 0 17 (dk_at dksX1_mustTell_0 1 rfl rfl)
theorem dX1_mustTell_4 : decode cX1_mustTell 4 = .ok (.iload_n 0, 1) := dk_26 (dk_at dksX1_mustTell_0 4 rfl rfl)
theorem dX1_mustTell_5 : decode cX1_mustTell 5 = .ok (.i2l, 1) := dk_133 (dk_at dksX1_mustTell_0 5 rfl rfl)
theorem dX1_mustTell_6 : decode cX1_mustTell 6 = .ok (.ldc2_w 312, 3) := dk_20 1 56 (dk_at dksX1_mustTell_0 6 rfl rfl)
theorem dX1_mustTell_9 : decode cX1_mustTell 9 = .ok (.ldc2_w 366, 3) := dk_20 1 110 (dk_at dksX1_mustTell_0 9 rfl rfl)
theorem dX1_mustTell_12 : decode cX1_mustTell 12 = .ok (.invokestatic 106, 3) := dk_184 0 106 (dk_at dksX1_mustTell_0 12 rfl rfl)
theorem dX1_mustTell_15 : decode cX1_mustTell 15 = .ok (.ifCond .eq 7, 3) := dk_153 0 7 (dk_at dksX1_mustTell_0 15 rfl rfl)
theorem dX1_mustTell_18 : decode cX1_mustTell 18 = .ok (.iconst 1, 1) := dk_4 (dk_at dksX1_mustTell_0 18 rfl rfl)
theorem dX1_mustTell_19 : decode cX1_mustTell 19 = .ok (.goto 4, 3) := dk_167 0 4 (dk_at dksX1_mustTell_0 19 rfl rfl)
theorem dX1_mustTell_22 : decode cX1_mustTell 22 = .ok (.iconst 0, 1) := dk_3 (dk_at dksX1_mustTell_0 22 rfl rfl)
theorem dX1_mustTell_23 : decode cX1_mustTell 23 = .ok (.invokestatic 110, 3) := dk_184 0 110 (dk_at dksX1_mustTell_1 0 rfl rfl)
theorem dX1_mustTell_26 : decode cX1_mustTell 26 = .ok (.return_, 1) := dk_177 (dk_at dksX1_mustTell_1 3 rfl rfl)
abbrev cX1_holding : ByteArray := prog_1_method_54_code
def yX1_holding : MethodName := ⟨RX1, "holding", "(I)I"⟩
def dkwX1_holding_1 : List UInt8 := [172]
abbrev dktX1_holding_1 : List UInt8 := dkwX1_holding_1 ++ []
def dkwX1_holding_0 : List UInt8 := [27, 184, 1, 112, 187, 1, 149, 89, 42, 183, 1, 151, 77, 44, 3, 27, 182, 1, 132, 87, 44, 182, 1, 135]
abbrev dktX1_holding_0 : List UInt8 := dkwX1_holding_0 ++ dktX1_holding_1
theorem dksX1_holding_0 : cX1_holding.data.toList.drop 0 = dktX1_holding_0 := by decide +kernel
theorem dksX1_holding_1 : cX1_holding.data.toList.drop 24 = dktX1_holding_1 := dk_seg dksX1_holding_0 24 rfl rfl
theorem dX1_holding_0 : decode cX1_holding 0 = .ok (.iload_n 1, 1) := dk_27 (dk_at dksX1_holding_0 0 rfl rfl)
theorem dX1_holding_1 : decode cX1_holding 1 = .ok (.invokestatic 368, 3) := dk_184 1 112 (dk_at dksX1_holding_0 1 rfl rfl)
theorem dX1_holding_4 : decode cX1_holding 4 = .ok (.new 405, 3) := dk_187 1 149 (dk_at dksX1_holding_0 4 rfl rfl)
theorem dX1_holding_7 : decode cX1_holding 7 = .ok (.dup, 1) := dk_89 (dk_at dksX1_holding_0 7 rfl rfl)
theorem dX1_holding_8 : decode cX1_holding 8 = .ok (.aload_n 0, 1) := dk_42 (dk_at dksX1_holding_0 8 rfl rfl)
theorem dX1_holding_9 : decode cX1_holding 9 = .ok (.invokespecial 407, 3) := dk_183 1 151 (dk_at dksX1_holding_0 9 rfl rfl)
theorem dX1_holding_12 : decode cX1_holding 12 = .ok (.astore_n 2, 1) := dk_77 (dk_at dksX1_holding_0 12 rfl rfl)
theorem dX1_holding_13 : decode cX1_holding 13 = .ok (.aload_n 2, 1) := dk_44 (dk_at dksX1_holding_0 13 rfl rfl)
theorem dX1_holding_14 : decode cX1_holding 14 = .ok (.iconst 0, 1) := dk_3 (dk_at dksX1_holding_0 14 rfl rfl)
theorem dX1_holding_15 : decode cX1_holding 15 = .ok (.iload_n 1, 1) := dk_27 (dk_at dksX1_holding_0 15 rfl rfl)
theorem dX1_holding_16 : decode cX1_holding 16 = .ok (.invokevirtual 388, 3) := dk_182 1 132 (dk_at dksX1_holding_0 16 rfl rfl)
theorem dX1_holding_19 : decode cX1_holding 19 = .ok (.pop, 1) := dk_87 (dk_at dksX1_holding_0 19 rfl rfl)
theorem dX1_holding_20 : decode cX1_holding 20 = .ok (.aload_n 2, 1) := dk_44 (dk_at dksX1_holding_0 20 rfl rfl)
theorem dX1_holding_21 : decode cX1_holding 21 = .ok (.invokevirtual 391, 3) := dk_182 1 135 (dk_at dksX1_holding_0 21 rfl rfl)
theorem dX1_holding_24 : decode cX1_holding 24 = .ok (.ireturn, 1) := dk_172 (dk_at dksX1_holding_1 0 rfl rfl)
abbrev cX1_best : ByteArray := prog_1_method_56_code
def yX1_best : MethodName := ⟨RX1, "best", "(II)I"⟩
def dkwX1_best_3 : List UInt8 := [182, 1, 169, 172]
abbrev dktX1_best_3 : List UInt8 := dkwX1_best_3 ++ []
def dkwX1_best_2 : List UInt8 := [180, 1, 162, 136, 167, 0, 23, 28, 4, 160, 0, 10, 45, 180, 1, 166, 167, 0, 11, 45, 28, 16, 10, 100]
abbrev dktX1_best_2 : List UInt8 := dkwX1_best_2 ++ dktX1_best_3
def dkwX1_best_1 : List UInt8 := [153, 0, 7, 4, 167, 0, 4, 3, 184, 0, 110, 42, 27, 182, 1, 158, 78, 28, 154, 0, 11, 45]
abbrev dktX1_best_1 : List UInt8 := dkwX1_best_1 ++ dktX1_best_2
def dkwX1_best_0 : List UInt8 := [27, 184, 1, 112, 28, 4, 159, 0, 21, 28, 153, 0, 17, 28, 133, 20, 1, 56, 20, 1, 110, 184, 0, 106]
abbrev dktX1_best_0 : List UInt8 := dkwX1_best_0 ++ dktX1_best_1
theorem dksX1_best_0 : cX1_best.data.toList.drop 0 = dktX1_best_0 := by decide +kernel
theorem dksX1_best_1 : cX1_best.data.toList.drop 24 = dktX1_best_1 := dk_seg dksX1_best_0 24 rfl rfl
theorem dksX1_best_2 : cX1_best.data.toList.drop 46 = dktX1_best_2 := dk_seg dksX1_best_1 22 rfl rfl
theorem dksX1_best_3 : cX1_best.data.toList.drop 70 = dktX1_best_3 := dk_seg dksX1_best_2 24 rfl rfl
theorem dX1_best_0 : decode cX1_best 0 = .ok (.iload_n 1, 1) := dk_27 (dk_at dksX1_best_0 0 rfl rfl)
theorem dX1_best_1 : decode cX1_best 1 = .ok (.invokestatic 368, 3) := dk_184 1 112 (dk_at dksX1_best_0 1 rfl rfl)
theorem dX1_best_4 : decode cX1_best 4 = .ok (.iload_n 2, 1) := dk_28 (dk_at dksX1_best_0 4 rfl rfl)
theorem dX1_best_5 : decode cX1_best 5 = .ok (.iconst 1, 1) := dk_4 (dk_at dksX1_best_0 5 rfl rfl)
theorem dX1_best_6 : decode cX1_best 6 = .ok (.if_icmp .eq 21, 3) := dk_159 0 21 (dk_at dksX1_best_0 6 rfl rfl)
theorem dX1_best_9 : decode cX1_best 9 = .ok (.iload_n 2, 1) := dk_28 (dk_at dksX1_best_0 9 rfl rfl)
theorem dX1_best_10 : decode cX1_best 10 = .ok (.ifCond .eq 17, 3) := dk_153 0 17 (dk_at dksX1_best_0 10 rfl rfl)
theorem dX1_best_13 : decode cX1_best 13 = .ok (.iload_n 2, 1) := dk_28 (dk_at dksX1_best_0 13 rfl rfl)
theorem dX1_best_14 : decode cX1_best 14 = .ok (.i2l, 1) := dk_133 (dk_at dksX1_best_0 14 rfl rfl)
theorem dX1_best_15 : decode cX1_best 15 = .ok (.ldc2_w 312, 3) := dk_20 1 56 (dk_at dksX1_best_0 15 rfl rfl)
theorem dX1_best_18 : decode cX1_best 18 = .ok (.ldc2_w 366, 3) := dk_20 1 110 (dk_at dksX1_best_0 18 rfl rfl)
theorem dX1_best_21 : decode cX1_best 21 = .ok (.invokestatic 106, 3) := dk_184 0 106 (dk_at dksX1_best_0 21 rfl rfl)
theorem dX1_best_24 : decode cX1_best 24 = .ok (.ifCond .eq 7, 3) := dk_153 0 7 (dk_at dksX1_best_1 0 rfl rfl)
theorem dX1_best_27 : decode cX1_best 27 = .ok (.iconst 1, 1) := dk_4 (dk_at dksX1_best_1 3 rfl rfl)
theorem dX1_best_28 : decode cX1_best 28 = .ok (.goto 4, 3) := dk_167 0 4 (dk_at dksX1_best_1 4 rfl rfl)
theorem dX1_best_31 : decode cX1_best 31 = .ok (.iconst 0, 1) := dk_3 (dk_at dksX1_best_1 7 rfl rfl)
theorem dX1_best_32 : decode cX1_best 32 = .ok (.invokestatic 110, 3) := dk_184 0 110 (dk_at dksX1_best_1 8 rfl rfl)
theorem dX1_best_35 : decode cX1_best 35 = .ok (.aload_n 0, 1) := dk_42 (dk_at dksX1_best_1 11 rfl rfl)
theorem dX1_best_36 : decode cX1_best 36 = .ok (.iload_n 1, 1) := dk_27 (dk_at dksX1_best_1 12 rfl rfl)
theorem dX1_best_37 : decode cX1_best 37 = .ok (.invokevirtual 414, 3) := dk_182 1 158 (dk_at dksX1_best_1 13 rfl rfl)
theorem dX1_best_40 : decode cX1_best 40 = .ok (.astore_n 3, 1) := dk_78 (dk_at dksX1_best_1 16 rfl rfl)
theorem dX1_best_41 : decode cX1_best 41 = .ok (.iload_n 2, 1) := dk_28 (dk_at dksX1_best_1 17 rfl rfl)
theorem dX1_best_42 : decode cX1_best 42 = .ok (.ifCond .ne 11, 3) := dk_154 0 11 (dk_at dksX1_best_1 18 rfl rfl)
theorem dX1_best_45 : decode cX1_best 45 = .ok (.aload_n 3, 1) := dk_45 (dk_at dksX1_best_1 21 rfl rfl)
theorem dX1_best_46 : decode cX1_best 46 = .ok (.getfield 418, 3) := dk_180 1 162 (dk_at dksX1_best_2 0 rfl rfl)
theorem dX1_best_49 : decode cX1_best 49 = .ok (.l2i, 1) := dk_136 (dk_at dksX1_best_2 3 rfl rfl)
theorem dX1_best_50 : decode cX1_best 50 = .ok (.goto 23, 3) := dk_167 0 23 (dk_at dksX1_best_2 4 rfl rfl)
theorem dX1_best_53 : decode cX1_best 53 = .ok (.iload_n 2, 1) := dk_28 (dk_at dksX1_best_2 7 rfl rfl)
theorem dX1_best_54 : decode cX1_best 54 = .ok (.iconst 1, 1) := dk_4 (dk_at dksX1_best_2 8 rfl rfl)
theorem dX1_best_55 : decode cX1_best 55 = .ok (.if_icmp .ne 10, 3) := dk_160 0 10 (dk_at dksX1_best_2 9 rfl rfl)
theorem dX1_best_58 : decode cX1_best 58 = .ok (.aload_n 3, 1) := dk_45 (dk_at dksX1_best_2 12 rfl rfl)
theorem dX1_best_59 : decode cX1_best 59 = .ok (.getfield 422, 3) := dk_180 1 166 (dk_at dksX1_best_2 13 rfl rfl)
theorem dX1_best_62 : decode cX1_best 62 = .ok (.goto 11, 3) := dk_167 0 11 (dk_at dksX1_best_2 16 rfl rfl)
theorem dX1_best_65 : decode cX1_best 65 = .ok (.aload_n 3, 1) := dk_45 (dk_at dksX1_best_2 19 rfl rfl)
theorem dX1_best_66 : decode cX1_best 66 = .ok (.iload_n 2, 1) := dk_28 (dk_at dksX1_best_2 20 rfl rfl)
theorem dX1_best_67 : decode cX1_best 67 = .ok (.bipush 10, 2) := dk_16 10 (dk_at dksX1_best_2 21 rfl rfl)
theorem dX1_best_69 : decode cX1_best 69 = .ok (.isub, 1) := dk_100 (dk_at dksX1_best_2 23 rfl rfl)
theorem dX1_best_70 : decode cX1_best 70 = .ok (.invokevirtual 425, 3) := dk_182 1 169 (dk_at dksX1_best_3 0 rfl rfl)
theorem dX1_best_73 : decode cX1_best 73 = .ok (.ireturn, 1) := dk_172 (dk_at dksX1_best_3 3 rfl rfl)
abbrev cX1_reads_2 : ByteArray := prog_1_method_59_code
def yX1_reads_2 : MethodName := ⟨RX1, "reads", "(II)I"⟩
def dkwX1_reads_2_1 : List UInt8 := [8, 182, 1, 144, 87, 25, 4, 28, 182, 1, 147, 172]
abbrev dktX1_reads_2_1 : List UInt8 := dkwX1_reads_2_1 ++ []
def dkwX1_reads_2_0 : List UInt8 := [42, 27, 182, 1, 174, 78, 28, 184, 1, 138, 187, 1, 177, 89, 42, 45, 183, 1, 179, 58, 4, 25, 4, 3]
abbrev dktX1_reads_2_0 : List UInt8 := dkwX1_reads_2_0 ++ dktX1_reads_2_1
theorem dksX1_reads_2_0 : cX1_reads_2.data.toList.drop 0 = dktX1_reads_2_0 := by decide +kernel
theorem dksX1_reads_2_1 : cX1_reads_2.data.toList.drop 24 = dktX1_reads_2_1 := dk_seg dksX1_reads_2_0 24 rfl rfl
theorem dX1_reads_2_0 : decode cX1_reads_2 0 = .ok (.aload_n 0, 1) := dk_42 (dk_at dksX1_reads_2_0 0 rfl rfl)
theorem dX1_reads_2_1 : decode cX1_reads_2 1 = .ok (.iload_n 1, 1) := dk_27 (dk_at dksX1_reads_2_0 1 rfl rfl)
theorem dX1_reads_2_2 : decode cX1_reads_2 2 = .ok (.invokevirtual 430, 3) := dk_182 1 174 (dk_at dksX1_reads_2_0 2 rfl rfl)
theorem dX1_reads_2_5 : decode cX1_reads_2 5 = .ok (.astore_n 3, 1) := dk_78 (dk_at dksX1_reads_2_0 5 rfl rfl)
theorem dX1_reads_2_6 : decode cX1_reads_2 6 = .ok (.iload_n 2, 1) := dk_28 (dk_at dksX1_reads_2_0 6 rfl rfl)
theorem dX1_reads_2_7 : decode cX1_reads_2 7 = .ok (.invokestatic 394, 3) := dk_184 1 138 (dk_at dksX1_reads_2_0 7 rfl rfl)
theorem dX1_reads_2_10 : decode cX1_reads_2 10 = .ok (.new 433, 3) := dk_187 1 177 (dk_at dksX1_reads_2_0 10 rfl rfl)
theorem dX1_reads_2_13 : decode cX1_reads_2 13 = .ok (.dup, 1) := dk_89 (dk_at dksX1_reads_2_0 13 rfl rfl)
theorem dX1_reads_2_14 : decode cX1_reads_2 14 = .ok (.aload_n 0, 1) := dk_42 (dk_at dksX1_reads_2_0 14 rfl rfl)
theorem dX1_reads_2_15 : decode cX1_reads_2 15 = .ok (.aload_n 3, 1) := dk_45 (dk_at dksX1_reads_2_0 15 rfl rfl)
theorem dX1_reads_2_16 : decode cX1_reads_2 16 = .ok (.invokespecial 435, 3) := dk_183 1 179 (dk_at dksX1_reads_2_0 16 rfl rfl)
theorem dX1_reads_2_19 : decode cX1_reads_2 19 = .ok (.astore 4, 2) := dk_58 4 (dk_at dksX1_reads_2_0 19 rfl rfl)
theorem dX1_reads_2_21 : decode cX1_reads_2 21 = .ok (.aload 4, 2) := dk_25 4 (dk_at dksX1_reads_2_0 21 rfl rfl)
theorem dX1_reads_2_23 : decode cX1_reads_2 23 = .ok (.iconst 0, 1) := dk_3 (dk_at dksX1_reads_2_0 23 rfl rfl)
theorem dX1_reads_2_24 : decode cX1_reads_2 24 = .ok (.iconst 5, 1) := dk_8 (dk_at dksX1_reads_2_1 0 rfl rfl)
theorem dX1_reads_2_25 : decode cX1_reads_2 25 = .ok (.invokevirtual 400, 3) := dk_182 1 144 (dk_at dksX1_reads_2_1 1 rfl rfl)
theorem dX1_reads_2_28 : decode cX1_reads_2 28 = .ok (.pop, 1) := dk_87 (dk_at dksX1_reads_2_1 4 rfl rfl)
theorem dX1_reads_2_29 : decode cX1_reads_2 29 = .ok (.aload 4, 2) := dk_25 4 (dk_at dksX1_reads_2_1 5 rfl rfl)
theorem dX1_reads_2_31 : decode cX1_reads_2 31 = .ok (.iload_n 2, 1) := dk_28 (dk_at dksX1_reads_2_1 7 rfl rfl)
theorem dX1_reads_2_32 : decode cX1_reads_2 32 = .ok (.invokevirtual 403, 3) := dk_182 1 147 (dk_at dksX1_reads_2_1 8 rfl rfl)
theorem dX1_reads_2_35 : decode cX1_reads_2 35 = .ok (.ireturn, 1) := dk_172 (dk_at dksX1_reads_2_1 11 rfl rfl)
abbrev cX1_marksOf : ByteArray := prog_1_method_57_code
def yX1_marksOf : MethodName := ⟨RX1, "marksOf", "(I)LNapkinDeeds$Tray;"⟩
def dkwX1_marksOf_2 : List UInt8 := [155, 0, 7, 4, 167, 0, 4, 3, 184, 0, 110, 132, 3, 1, 167, 255, 225, 44, 176]
abbrev dktX1_marksOf_2 : List UInt8 := dkwX1_marksOf_2 ++ []
def dkwX1_marksOf_1 : List UInt8 := [184, 0, 110, 3, 62, 29, 44, 182, 1, 84, 162, 0, 29, 44, 29, 182, 1, 85, 20, 1, 62, 148]
abbrev dktX1_marksOf_1 : List UInt8 := dkwX1_marksOf_1 ++ dktX1_marksOf_2
def dkwX1_marksOf_0 : List UInt8 := [42, 27, 182, 1, 76, 77, 44, 184, 1, 80, 44, 182, 1, 84, 133, 10, 20, 1, 172, 184, 0, 106]
abbrev dktX1_marksOf_0 : List UInt8 := dkwX1_marksOf_0 ++ dktX1_marksOf_1
theorem dksX1_marksOf_0 : cX1_marksOf.data.toList.drop 0 = dktX1_marksOf_0 := by decide +kernel
theorem dksX1_marksOf_1 : cX1_marksOf.data.toList.drop 22 = dktX1_marksOf_1 := dk_seg dksX1_marksOf_0 22 rfl rfl
theorem dksX1_marksOf_2 : cX1_marksOf.data.toList.drop 44 = dktX1_marksOf_2 := dk_seg dksX1_marksOf_1 22 rfl rfl
theorem dX1_marksOf_0 : decode cX1_marksOf 0 = .ok (.aload_n 0, 1) := dk_42 (dk_at dksX1_marksOf_0 0 rfl rfl)
theorem dX1_marksOf_1 : decode cX1_marksOf 1 = .ok (.iload_n 1, 1) := dk_27 (dk_at dksX1_marksOf_0 1 rfl rfl)
theorem dX1_marksOf_2 : decode cX1_marksOf 2 = .ok (.invokevirtual 332, 3) := dk_182 1 76 (dk_at dksX1_marksOf_0 2 rfl rfl)
theorem dX1_marksOf_5 : decode cX1_marksOf 5 = .ok (.astore_n 2, 1) := dk_77 (dk_at dksX1_marksOf_0 5 rfl rfl)
theorem dX1_marksOf_6 : decode cX1_marksOf 6 = .ok (.aload_n 2, 1) := dk_44 (dk_at dksX1_marksOf_0 6 rfl rfl)
theorem dX1_marksOf_7 : decode cX1_marksOf 7 = .ok (.invokestatic 336, 3) := dk_184 1 80 (dk_at dksX1_marksOf_0 7 rfl rfl)
theorem dX1_marksOf_10 : decode cX1_marksOf 10 = .ok (.aload_n 2, 1) := dk_44 (dk_at dksX1_marksOf_0 10 rfl rfl)
theorem dX1_marksOf_11 : decode cX1_marksOf 11 = .ok (.invokevirtual 340, 3) := dk_182 1 84 (dk_at dksX1_marksOf_0 11 rfl rfl)
theorem dX1_marksOf_14 : decode cX1_marksOf 14 = .ok (.i2l, 1) := dk_133 (dk_at dksX1_marksOf_0 14 rfl rfl)
theorem dX1_marksOf_15 : decode cX1_marksOf 15 = .ok (.lconst 1, 1) := dk_10 (dk_at dksX1_marksOf_0 15 rfl rfl)
theorem dX1_marksOf_16 : decode cX1_marksOf 16 = .ok (.ldc2_w 428, 3) := dk_20 1 172 (dk_at dksX1_marksOf_0 16 rfl rfl)
theorem dX1_marksOf_19 : decode cX1_marksOf 19 = .ok (.invokestatic 106, 3) := dk_184 0 106 (dk_at dksX1_marksOf_0 19 rfl rfl)
theorem dX1_marksOf_22 : decode cX1_marksOf 22 = .ok (.invokestatic 110, 3) := dk_184 0 110 (dk_at dksX1_marksOf_1 0 rfl rfl)
theorem dX1_marksOf_25 : decode cX1_marksOf 25 = .ok (.iconst 0, 1) := dk_3 (dk_at dksX1_marksOf_1 3 rfl rfl)
theorem dX1_marksOf_26 : decode cX1_marksOf 26 = .ok (.istore_n 3, 1) := dk_62 (dk_at dksX1_marksOf_1 4 rfl rfl)
theorem dX1_marksOf_27 : decode cX1_marksOf 27 = .ok (.iload_n 3, 1) := dk_29 (dk_at dksX1_marksOf_1 5 rfl rfl)
theorem dX1_marksOf_28 : decode cX1_marksOf 28 = .ok (.aload_n 2, 1) := dk_44 (dk_at dksX1_marksOf_1 6 rfl rfl)
theorem dX1_marksOf_29 : decode cX1_marksOf 29 = .ok (.invokevirtual 340, 3) := dk_182 1 84 (dk_at dksX1_marksOf_1 7 rfl rfl)
theorem dX1_marksOf_32 : decode cX1_marksOf 32 = .ok (.if_icmp .ge 29, 3) := dk_162 0 29 (dk_at dksX1_marksOf_1 10 rfl rfl)
theorem dX1_marksOf_35 : decode cX1_marksOf 35 = .ok (.aload_n 2, 1) := dk_44 (dk_at dksX1_marksOf_1 13 rfl rfl)
theorem dX1_marksOf_36 : decode cX1_marksOf 36 = .ok (.iload_n 3, 1) := dk_29 (dk_at dksX1_marksOf_1 14 rfl rfl)
theorem dX1_marksOf_37 : decode cX1_marksOf 37 = .ok (.invokevirtual 341, 3) := dk_182 1 85 (dk_at dksX1_marksOf_1 15 rfl rfl)
theorem dX1_marksOf_40 : decode cX1_marksOf 40 = .ok (.ldc2_w 318, 3) := dk_20 1 62 (dk_at dksX1_marksOf_1 18 rfl rfl)
theorem dX1_marksOf_43 : decode cX1_marksOf 43 = .ok (.lcmp, 1) := dk_148 (dk_at dksX1_marksOf_1 21 rfl rfl)
theorem dX1_marksOf_44 : decode cX1_marksOf 44 = .ok (.ifCond .lt 7, 3) := dk_155 0 7 (dk_at dksX1_marksOf_2 0 rfl rfl)
theorem dX1_marksOf_47 : decode cX1_marksOf 47 = .ok (.iconst 1, 1) := dk_4 (dk_at dksX1_marksOf_2 3 rfl rfl)
theorem dX1_marksOf_48 : decode cX1_marksOf 48 = .ok (.goto 4, 3) := dk_167 0 4 (dk_at dksX1_marksOf_2 4 rfl rfl)
theorem dX1_marksOf_51 : decode cX1_marksOf 51 = .ok (.iconst 0, 1) := dk_3 (dk_at dksX1_marksOf_2 7 rfl rfl)
theorem dX1_marksOf_52 : decode cX1_marksOf 52 = .ok (.invokestatic 110, 3) := dk_184 0 110 (dk_at dksX1_marksOf_2 8 rfl rfl)
theorem dX1_marksOf_55 : decode cX1_marksOf 55 = .ok (.iinc 3 1, 3) := dk_132 3 1 (dk_at dksX1_marksOf_2 11 rfl rfl)
theorem dX1_marksOf_58 : decode cX1_marksOf 58 = .ok (.goto (-31), 3) := dk_167 255 225 (dk_at dksX1_marksOf_2 14 rfl rfl)
theorem dX1_marksOf_61 : decode cX1_marksOf 61 = .ok (.aload_n 2, 1) := dk_44 (dk_at dksX1_marksOf_2 17 rfl rfl)
theorem dX1_marksOf_62 : decode cX1_marksOf 62 = .ok (.areturn, 1) := dk_176 (dk_at dksX1_marksOf_2 18 rfl rfl)
abbrev cX1_stands_2 : ByteArray := prog_1_method_63_code
def yX1_stands_2 : MethodName := ⟨RX1, "stands", "(I)Z"⟩
def dkwX1_stands_2_0 : List UInt8 := [42, 27, 182, 1, 194, 184, 1, 198, 172]
abbrev dktX1_stands_2_0 : List UInt8 := dkwX1_stands_2_0 ++ []
theorem dksX1_stands_2_0 : cX1_stands_2.data.toList.drop 0 = dktX1_stands_2_0 := by decide +kernel
theorem dX1_stands_2_0 : decode cX1_stands_2 0 = .ok (.aload_n 0, 1) := dk_42 (dk_at dksX1_stands_2_0 0 rfl rfl)
theorem dX1_stands_2_1 : decode cX1_stands_2 1 = .ok (.iload_n 1, 1) := dk_27 (dk_at dksX1_stands_2_0 1 rfl rfl)
theorem dX1_stands_2_2 : decode cX1_stands_2 2 = .ok (.invokevirtual 450, 3) := dk_182 1 194 (dk_at dksX1_stands_2_0 2 rfl rfl)
theorem dX1_stands_2_5 : decode cX1_stands_2 5 = .ok (.invokestatic 454, 3) := dk_184 1 198 (dk_at dksX1_stands_2_0 5 rfl rfl)
theorem dX1_stands_2_8 : decode cX1_stands_2 8 = .ok (.ireturn, 1) := dk_172 (dk_at dksX1_stands_2_0 8 rfl rfl)
abbrev cX1_stackOf : ByteArray := prog_1_method_61_code
def yX1_stackOf : MethodName := ⟨RX1, "stackOf", "(I)[I"⟩
def dkwX1_stackOf_5 : List UInt8 := [167, 255, 182, 45, 176]
abbrev dktX1_stackOf_5 : List UInt8 := dkwX1_stackOf_5 ++ []
def dkwX1_stackOf_4 : List UInt8 := [44, 21, 5, 182, 1, 85, 136, 79, 21, 4, 4, 45, 21, 5, 46, 120, 128, 54, 4, 132, 5, 1]
abbrev dktX1_stackOf_4 : List UInt8 := dkwX1_stackOf_4 ++ dktX1_stackOf_5
def dkwX1_stackOf_3 : List UInt8 := [44, 21, 5, 182, 1, 85, 136, 184, 1, 182, 154, 0, 7, 4, 167, 0, 4, 3, 184, 0, 110, 45, 21, 5]
abbrev dktX1_stackOf_3 : List UInt8 := dkwX1_stackOf_3 ++ dktX1_stackOf_4
def dkwX1_stackOf_2 : List UInt8 := [162, 0, 73, 42, 180, 0, 19, 180, 0, 130, 44, 21, 5, 182, 1, 85, 182, 0, 171, 153, 0, 22, 21, 4]
abbrev dktX1_stackOf_2 : List UInt8 := dkwX1_stackOf_2 ++ dktX1_stackOf_3
def dkwX1_stackOf_1 : List UInt8 := [167, 0, 4, 3, 184, 0, 110, 42, 182, 0, 214, 188, 10, 78, 3, 54, 4, 3, 54, 5, 21, 5, 45, 190]
abbrev dktX1_stackOf_1 : List UInt8 := dkwX1_stackOf_1 ++ dktX1_stackOf_2
def dkwX1_stackOf_0 : List UInt8 := [42, 27, 182, 1, 76, 77, 44, 184, 1, 80, 44, 182, 1, 84, 42, 182, 0, 214, 160, 0, 7, 4]
abbrev dktX1_stackOf_0 : List UInt8 := dkwX1_stackOf_0 ++ dktX1_stackOf_1
theorem dksX1_stackOf_0 : cX1_stackOf.data.toList.drop 0 = dktX1_stackOf_0 := by decide +kernel
theorem dksX1_stackOf_1 : cX1_stackOf.data.toList.drop 22 = dktX1_stackOf_1 := dk_seg dksX1_stackOf_0 22 rfl rfl
theorem dksX1_stackOf_2 : cX1_stackOf.data.toList.drop 46 = dktX1_stackOf_2 := dk_seg dksX1_stackOf_1 24 rfl rfl
theorem dksX1_stackOf_3 : cX1_stackOf.data.toList.drop 70 = dktX1_stackOf_3 := dk_seg dksX1_stackOf_2 24 rfl rfl
theorem dksX1_stackOf_4 : cX1_stackOf.data.toList.drop 94 = dktX1_stackOf_4 := dk_seg dksX1_stackOf_3 24 rfl rfl
theorem dksX1_stackOf_5 : cX1_stackOf.data.toList.drop 116 = dktX1_stackOf_5 := dk_seg dksX1_stackOf_4 22 rfl rfl
theorem dX1_stackOf_0 : decode cX1_stackOf 0 = .ok (.aload_n 0, 1) := dk_42 (dk_at dksX1_stackOf_0 0 rfl rfl)
theorem dX1_stackOf_1 : decode cX1_stackOf 1 = .ok (.iload_n 1, 1) := dk_27 (dk_at dksX1_stackOf_0 1 rfl rfl)
theorem dX1_stackOf_2 : decode cX1_stackOf 2 = .ok (.invokevirtual 332, 3) := dk_182 1 76 (dk_at dksX1_stackOf_0 2 rfl rfl)
theorem dX1_stackOf_5 : decode cX1_stackOf 5 = .ok (.astore_n 2, 1) := dk_77 (dk_at dksX1_stackOf_0 5 rfl rfl)
theorem dX1_stackOf_6 : decode cX1_stackOf 6 = .ok (.aload_n 2, 1) := dk_44 (dk_at dksX1_stackOf_0 6 rfl rfl)
theorem dX1_stackOf_7 : decode cX1_stackOf 7 = .ok (.invokestatic 336, 3) := dk_184 1 80 (dk_at dksX1_stackOf_0 7 rfl rfl)
theorem dX1_stackOf_10 : decode cX1_stackOf 10 = .ok (.aload_n 2, 1) := dk_44 (dk_at dksX1_stackOf_0 10 rfl rfl)
theorem dX1_stackOf_11 : decode cX1_stackOf 11 = .ok (.invokevirtual 340, 3) := dk_182 1 84 (dk_at dksX1_stackOf_0 11 rfl rfl)
theorem dX1_stackOf_14 : decode cX1_stackOf 14 = .ok (.aload_n 0, 1) := dk_42 (dk_at dksX1_stackOf_0 14 rfl rfl)
theorem dX1_stackOf_15 : decode cX1_stackOf 15 = .ok (.invokevirtual 214, 3) := dk_182 0 214 (dk_at dksX1_stackOf_0 15 rfl rfl)
theorem dX1_stackOf_18 : decode cX1_stackOf 18 = .ok (.if_icmp .ne 7, 3) := dk_160 0 7 (dk_at dksX1_stackOf_0 18 rfl rfl)
theorem dX1_stackOf_21 : decode cX1_stackOf 21 = .ok (.iconst 1, 1) := dk_4 (dk_at dksX1_stackOf_0 21 rfl rfl)
theorem dX1_stackOf_22 : decode cX1_stackOf 22 = .ok (.goto 4, 3) := dk_167 0 4 (dk_at dksX1_stackOf_1 0 rfl rfl)
theorem dX1_stackOf_25 : decode cX1_stackOf 25 = .ok (.iconst 0, 1) := dk_3 (dk_at dksX1_stackOf_1 3 rfl rfl)
theorem dX1_stackOf_26 : decode cX1_stackOf 26 = .ok (.invokestatic 110, 3) := dk_184 0 110 (dk_at dksX1_stackOf_1 4 rfl rfl)
theorem dX1_stackOf_29 : decode cX1_stackOf 29 = .ok (.aload_n 0, 1) := dk_42 (dk_at dksX1_stackOf_1 7 rfl rfl)
theorem dX1_stackOf_30 : decode cX1_stackOf 30 = .ok (.invokevirtual 214, 3) := dk_182 0 214 (dk_at dksX1_stackOf_1 8 rfl rfl)
theorem dX1_stackOf_33 : decode cX1_stackOf 33 = .ok (.newarray .int, 2) := dk_188_10 (dk_at dksX1_stackOf_1 11 rfl rfl)
theorem dX1_stackOf_35 : decode cX1_stackOf 35 = .ok (.astore_n 3, 1) := dk_78 (dk_at dksX1_stackOf_1 13 rfl rfl)
theorem dX1_stackOf_36 : decode cX1_stackOf 36 = .ok (.iconst 0, 1) := dk_3 (dk_at dksX1_stackOf_1 14 rfl rfl)
theorem dX1_stackOf_37 : decode cX1_stackOf 37 = .ok (.istore 4, 2) := dk_54 4 (dk_at dksX1_stackOf_1 15 rfl rfl)
theorem dX1_stackOf_39 : decode cX1_stackOf 39 = .ok (.iconst 0, 1) := dk_3 (dk_at dksX1_stackOf_1 17 rfl rfl)
theorem dX1_stackOf_40 : decode cX1_stackOf 40 = .ok (.istore 5, 2) := dk_54 5 (dk_at dksX1_stackOf_1 18 rfl rfl)
theorem dX1_stackOf_42 : decode cX1_stackOf 42 = .ok (.iload 5, 2) := dk_21 5 (dk_at dksX1_stackOf_1 20 rfl rfl)
theorem dX1_stackOf_44 : decode cX1_stackOf 44 = .ok (.aload_n 3, 1) := dk_45 (dk_at dksX1_stackOf_1 22 rfl rfl)
theorem dX1_stackOf_45 : decode cX1_stackOf 45 = .ok (.arraylength, 1) := dk_190 (dk_at dksX1_stackOf_1 23 rfl rfl)
theorem dX1_stackOf_46 : decode cX1_stackOf 46 = .ok (.if_icmp .ge 73, 3) := dk_162 0 73 (dk_at dksX1_stackOf_2 0 rfl rfl)
theorem dX1_stackOf_49 : decode cX1_stackOf 49 = .ok (.aload_n 0, 1) := dk_42 (dk_at dksX1_stackOf_2 3 rfl rfl)
theorem dX1_stackOf_50 : decode cX1_stackOf 50 = .ok (.getfield 19, 3) := dk_180 0 19 (dk_at dksX1_stackOf_2 4 rfl rfl)
theorem dX1_stackOf_53 : decode cX1_stackOf 53 = .ok (.getfield 130, 3) := dk_180 0 130 (dk_at dksX1_stackOf_2 7 rfl rfl)
theorem dX1_stackOf_56 : decode cX1_stackOf 56 = .ok (.aload_n 2, 1) := dk_44 (dk_at dksX1_stackOf_2 10 rfl rfl)
theorem dX1_stackOf_57 : decode cX1_stackOf 57 = .ok (.iload 5, 2) := dk_21 5 (dk_at dksX1_stackOf_2 11 rfl rfl)
theorem dX1_stackOf_59 : decode cX1_stackOf 59 = .ok (.invokevirtual 341, 3) := dk_182 1 85 (dk_at dksX1_stackOf_2 13 rfl rfl)
theorem dX1_stackOf_62 : decode cX1_stackOf 62 = .ok (.invokevirtual 171, 3) := dk_182 0 171 (dk_at dksX1_stackOf_2 16 rfl rfl)
theorem dX1_stackOf_65 : decode cX1_stackOf 65 = .ok (.ifCond .eq 22, 3) := dk_153 0 22 (dk_at dksX1_stackOf_2 19 rfl rfl)
theorem dX1_stackOf_68 : decode cX1_stackOf 68 = .ok (.iload 4, 2) := dk_21 4 (dk_at dksX1_stackOf_2 22 rfl rfl)
theorem dX1_stackOf_70 : decode cX1_stackOf 70 = .ok (.aload_n 2, 1) := dk_44 (dk_at dksX1_stackOf_3 0 rfl rfl)
theorem dX1_stackOf_71 : decode cX1_stackOf 71 = .ok (.iload 5, 2) := dk_21 5 (dk_at dksX1_stackOf_3 1 rfl rfl)
theorem dX1_stackOf_73 : decode cX1_stackOf 73 = .ok (.invokevirtual 341, 3) := dk_182 1 85 (dk_at dksX1_stackOf_3 3 rfl rfl)
theorem dX1_stackOf_76 : decode cX1_stackOf 76 = .ok (.l2i, 1) := dk_136 (dk_at dksX1_stackOf_3 6 rfl rfl)
theorem dX1_stackOf_77 : decode cX1_stackOf 77 = .ok (.invokestatic 438, 3) := dk_184 1 182 (dk_at dksX1_stackOf_3 7 rfl rfl)
theorem dX1_stackOf_80 : decode cX1_stackOf 80 = .ok (.ifCond .ne 7, 3) := dk_154 0 7 (dk_at dksX1_stackOf_3 10 rfl rfl)
theorem dX1_stackOf_83 : decode cX1_stackOf 83 = .ok (.iconst 1, 1) := dk_4 (dk_at dksX1_stackOf_3 13 rfl rfl)
theorem dX1_stackOf_84 : decode cX1_stackOf 84 = .ok (.goto 4, 3) := dk_167 0 4 (dk_at dksX1_stackOf_3 14 rfl rfl)
theorem dX1_stackOf_87 : decode cX1_stackOf 87 = .ok (.iconst 0, 1) := dk_3 (dk_at dksX1_stackOf_3 17 rfl rfl)
theorem dX1_stackOf_88 : decode cX1_stackOf 88 = .ok (.invokestatic 110, 3) := dk_184 0 110 (dk_at dksX1_stackOf_3 18 rfl rfl)
theorem dX1_stackOf_91 : decode cX1_stackOf 91 = .ok (.aload_n 3, 1) := dk_45 (dk_at dksX1_stackOf_3 21 rfl rfl)
theorem dX1_stackOf_92 : decode cX1_stackOf 92 = .ok (.iload 5, 2) := dk_21 5 (dk_at dksX1_stackOf_3 22 rfl rfl)
theorem dX1_stackOf_94 : decode cX1_stackOf 94 = .ok (.aload_n 2, 1) := dk_44 (dk_at dksX1_stackOf_4 0 rfl rfl)
theorem dX1_stackOf_95 : decode cX1_stackOf 95 = .ok (.iload 5, 2) := dk_21 5 (dk_at dksX1_stackOf_4 1 rfl rfl)
theorem dX1_stackOf_97 : decode cX1_stackOf 97 = .ok (.invokevirtual 341, 3) := dk_182 1 85 (dk_at dksX1_stackOf_4 3 rfl rfl)
theorem dX1_stackOf_100 : decode cX1_stackOf 100 = .ok (.l2i, 1) := dk_136 (dk_at dksX1_stackOf_4 6 rfl rfl)
theorem dX1_stackOf_101 : decode cX1_stackOf 101 = .ok (.iastore, 1) := dk_79 (dk_at dksX1_stackOf_4 7 rfl rfl)
theorem dX1_stackOf_102 : decode cX1_stackOf 102 = .ok (.iload 4, 2) := dk_21 4 (dk_at dksX1_stackOf_4 8 rfl rfl)
theorem dX1_stackOf_104 : decode cX1_stackOf 104 = .ok (.iconst 1, 1) := dk_4 (dk_at dksX1_stackOf_4 10 rfl rfl)
theorem dX1_stackOf_105 : decode cX1_stackOf 105 = .ok (.aload_n 3, 1) := dk_45 (dk_at dksX1_stackOf_4 11 rfl rfl)
theorem dX1_stackOf_106 : decode cX1_stackOf 106 = .ok (.iload 5, 2) := dk_21 5 (dk_at dksX1_stackOf_4 12 rfl rfl)
theorem dX1_stackOf_108 : decode cX1_stackOf 108 = .ok (.iaload, 1) := dk_46 (dk_at dksX1_stackOf_4 14 rfl rfl)
theorem dX1_stackOf_109 : decode cX1_stackOf 109 = .ok (.ishl, 1) := dk_120 (dk_at dksX1_stackOf_4 15 rfl rfl)
theorem dX1_stackOf_110 : decode cX1_stackOf 110 = .ok (.ior, 1) := dk_128 (dk_at dksX1_stackOf_4 16 rfl rfl)
theorem dX1_stackOf_111 : decode cX1_stackOf 111 = .ok (.istore 4, 2) := dk_54 4 (dk_at dksX1_stackOf_4 17 rfl rfl)
theorem dX1_stackOf_113 : decode cX1_stackOf 113 = .ok (.iinc 5 1, 3) := dk_132 5 1 (dk_at dksX1_stackOf_4 19 rfl rfl)
theorem dX1_stackOf_116 : decode cX1_stackOf 116 = .ok (.goto (-74), 3) := dk_167 255 182 (dk_at dksX1_stackOf_5 0 rfl rfl)
theorem dX1_stackOf_119 : decode cX1_stackOf 119 = .ok (.aload_n 3, 1) := dk_45 (dk_at dksX1_stackOf_5 3 rfl rfl)
theorem dX1_stackOf_120 : decode cX1_stackOf 120 = .ok (.areturn, 1) := dk_176 (dk_at dksX1_stackOf_5 4 rfl rfl)
abbrev cX1_stack : ByteArray := prog_1_method_66_code
def yX1_stack : MethodName := ⟨RX1, "stack", "(I)I"⟩
def dkwX1_stack_1 : List UInt8 := [3, 182, 1, 147, 172]
abbrev dktX1_stack_1 : List UInt8 := dkwX1_stack_1 ++ []
def dkwX1_stack_0 : List UInt8 := [42, 27, 182, 1, 194, 77, 187, 1, 206, 89, 42, 44, 183, 1, 208, 78, 45, 4, 8, 182, 1, 144, 87, 45]
abbrev dktX1_stack_0 : List UInt8 := dkwX1_stack_0 ++ dktX1_stack_1
theorem dksX1_stack_0 : cX1_stack.data.toList.drop 0 = dktX1_stack_0 := by decide +kernel
theorem dksX1_stack_1 : cX1_stack.data.toList.drop 24 = dktX1_stack_1 := dk_seg dksX1_stack_0 24 rfl rfl
theorem dX1_stack_0 : decode cX1_stack 0 = .ok (.aload_n 0, 1) := dk_42 (dk_at dksX1_stack_0 0 rfl rfl)
theorem dX1_stack_1 : decode cX1_stack 1 = .ok (.iload_n 1, 1) := dk_27 (dk_at dksX1_stack_0 1 rfl rfl)
theorem dX1_stack_2 : decode cX1_stack 2 = .ok (.invokevirtual 450, 3) := dk_182 1 194 (dk_at dksX1_stack_0 2 rfl rfl)
theorem dX1_stack_5 : decode cX1_stack 5 = .ok (.astore_n 2, 1) := dk_77 (dk_at dksX1_stack_0 5 rfl rfl)
theorem dX1_stack_6 : decode cX1_stack 6 = .ok (.new 462, 3) := dk_187 1 206 (dk_at dksX1_stack_0 6 rfl rfl)
theorem dX1_stack_9 : decode cX1_stack 9 = .ok (.dup, 1) := dk_89 (dk_at dksX1_stack_0 9 rfl rfl)
theorem dX1_stack_10 : decode cX1_stack 10 = .ok (.aload_n 0, 1) := dk_42 (dk_at dksX1_stack_0 10 rfl rfl)
theorem dX1_stack_11 : decode cX1_stack 11 = .ok (.aload_n 2, 1) := dk_44 (dk_at dksX1_stack_0 11 rfl rfl)
theorem dX1_stack_12 : decode cX1_stack 12 = .ok (.invokespecial 464, 3) := dk_183 1 208 (dk_at dksX1_stack_0 12 rfl rfl)
theorem dX1_stack_15 : decode cX1_stack 15 = .ok (.astore_n 3, 1) := dk_78 (dk_at dksX1_stack_0 15 rfl rfl)
theorem dX1_stack_16 : decode cX1_stack 16 = .ok (.aload_n 3, 1) := dk_45 (dk_at dksX1_stack_0 16 rfl rfl)
theorem dX1_stack_17 : decode cX1_stack 17 = .ok (.iconst 1, 1) := dk_4 (dk_at dksX1_stack_0 17 rfl rfl)
theorem dX1_stack_18 : decode cX1_stack 18 = .ok (.iconst 5, 1) := dk_8 (dk_at dksX1_stack_0 18 rfl rfl)
theorem dX1_stack_19 : decode cX1_stack 19 = .ok (.invokevirtual 400, 3) := dk_182 1 144 (dk_at dksX1_stack_0 19 rfl rfl)
theorem dX1_stack_22 : decode cX1_stack 22 = .ok (.pop, 1) := dk_87 (dk_at dksX1_stack_0 22 rfl rfl)
theorem dX1_stack_23 : decode cX1_stack 23 = .ok (.aload_n 3, 1) := dk_45 (dk_at dksX1_stack_0 23 rfl rfl)
theorem dX1_stack_24 : decode cX1_stack 24 = .ok (.iconst 0, 1) := dk_3 (dk_at dksX1_stack_1 0 rfl rfl)
theorem dX1_stack_25 : decode cX1_stack 25 = .ok (.invokevirtual 403, 3) := dk_182 1 147 (dk_at dksX1_stack_1 1 rfl rfl)
theorem dX1_stack_28 : decode cX1_stack 28 = .ok (.ireturn, 1) := dk_172 (dk_at dksX1_stack_1 4 rfl rfl)
abbrev cX1_made : ByteArray := prog_1_method_69_code
def yX1_made : MethodName := ⟨RX1, "made", "(I)I"⟩
def dkwX1_made_1 : List UInt8 := [180, 1, 126, 172]
abbrev dktX1_made_1 : List UInt8 := dkwX1_made_1 ++ []
def dkwX1_made_0 : List UInt8 := [42, 27, 182, 1, 216, 61, 187, 1, 219, 89, 42, 28, 183, 1, 221, 78, 45, 4, 8, 182, 1, 120, 87, 45]
abbrev dktX1_made_0 : List UInt8 := dkwX1_made_0 ++ dktX1_made_1
theorem dksX1_made_0 : cX1_made.data.toList.drop 0 = dktX1_made_0 := by decide +kernel
theorem dksX1_made_1 : cX1_made.data.toList.drop 24 = dktX1_made_1 := dk_seg dksX1_made_0 24 rfl rfl
theorem dX1_made_0 : decode cX1_made 0 = .ok (.aload_n 0, 1) := dk_42 (dk_at dksX1_made_0 0 rfl rfl)
theorem dX1_made_1 : decode cX1_made 1 = .ok (.iload_n 1, 1) := dk_27 (dk_at dksX1_made_0 1 rfl rfl)
theorem dX1_made_2 : decode cX1_made 2 = .ok (.invokevirtual 472, 3) := dk_182 1 216 (dk_at dksX1_made_0 2 rfl rfl)
theorem dX1_made_5 : decode cX1_made 5 = .ok (.istore_n 2, 1) := dk_61 (dk_at dksX1_made_0 5 rfl rfl)
theorem dX1_made_6 : decode cX1_made 6 = .ok (.new 475, 3) := dk_187 1 219 (dk_at dksX1_made_0 6 rfl rfl)
theorem dX1_made_9 : decode cX1_made 9 = .ok (.dup, 1) := dk_89 (dk_at dksX1_made_0 9 rfl rfl)
theorem dX1_made_10 : decode cX1_made 10 = .ok (.aload_n 0, 1) := dk_42 (dk_at dksX1_made_0 10 rfl rfl)
theorem dX1_made_11 : decode cX1_made 11 = .ok (.iload_n 2, 1) := dk_28 (dk_at dksX1_made_0 11 rfl rfl)
theorem dX1_made_12 : decode cX1_made 12 = .ok (.invokespecial 477, 3) := dk_183 1 221 (dk_at dksX1_made_0 12 rfl rfl)
theorem dX1_made_15 : decode cX1_made 15 = .ok (.astore_n 3, 1) := dk_78 (dk_at dksX1_made_0 15 rfl rfl)
theorem dX1_made_16 : decode cX1_made 16 = .ok (.aload_n 3, 1) := dk_45 (dk_at dksX1_made_0 16 rfl rfl)
theorem dX1_made_17 : decode cX1_made 17 = .ok (.iconst 1, 1) := dk_4 (dk_at dksX1_made_0 17 rfl rfl)
theorem dX1_made_18 : decode cX1_made 18 = .ok (.iconst 5, 1) := dk_8 (dk_at dksX1_made_0 18 rfl rfl)
theorem dX1_made_19 : decode cX1_made 19 = .ok (.invokevirtual 376, 3) := dk_182 1 120 (dk_at dksX1_made_0 19 rfl rfl)
theorem dX1_made_22 : decode cX1_made 22 = .ok (.pop, 1) := dk_87 (dk_at dksX1_made_0 22 rfl rfl)
theorem dX1_made_23 : decode cX1_made 23 = .ok (.aload_n 3, 1) := dk_45 (dk_at dksX1_made_0 23 rfl rfl)
theorem dX1_made_24 : decode cX1_made 24 = .ok (.getfield 382, 3) := dk_180 1 126 (dk_at dksX1_made_1 0 rfl rfl)
theorem dX1_made_27 : decode cX1_made 27 = .ok (.ireturn, 1) := dk_172 (dk_at dksX1_made_1 3 rfl rfl)
abbrev cX1_creasesOf : ByteArray := prog_1_method_68_code
def yX1_creasesOf : MethodName := ⟨RX1, "creasesOf", "(I)I"⟩
def dkwX1_creasesOf_3 : List UInt8 := [21, 4, 182, 1, 85, 136, 96, 62, 132, 4, 1, 167, 255, 216, 29, 172]
abbrev dktX1_creasesOf_3 : List UInt8 := dkwX1_creasesOf_3 ++ []
def dkwX1_creasesOf_2 : List UInt8 := [162, 0, 37, 44, 21, 4, 182, 1, 85, 9, 20, 1, 214, 184, 0, 106, 184, 0, 110, 6, 29, 104, 44]
abbrev dktX1_creasesOf_2 : List UInt8 := dkwX1_creasesOf_2 ++ dktX1_creasesOf_3
def dkwX1_creasesOf_1 : List UInt8 := [160, 0, 7, 4, 167, 0, 4, 3, 184, 0, 110, 3, 62, 3, 54, 4, 21, 4, 44, 182, 1, 84]
abbrev dktX1_creasesOf_1 : List UInt8 := dkwX1_creasesOf_1 ++ dktX1_creasesOf_2
def dkwX1_creasesOf_0 : List UInt8 := [42, 27, 182, 1, 76, 77, 44, 184, 1, 80, 44, 182, 1, 84, 3, 42, 182, 0, 214, 4, 100, 184, 1, 191]
abbrev dktX1_creasesOf_0 : List UInt8 := dkwX1_creasesOf_0 ++ dktX1_creasesOf_1
theorem dksX1_creasesOf_0 : cX1_creasesOf.data.toList.drop 0 = dktX1_creasesOf_0 := by decide +kernel
theorem dksX1_creasesOf_1 : cX1_creasesOf.data.toList.drop 24 = dktX1_creasesOf_1 := dk_seg dksX1_creasesOf_0 24 rfl rfl
theorem dksX1_creasesOf_2 : cX1_creasesOf.data.toList.drop 46 = dktX1_creasesOf_2 := dk_seg dksX1_creasesOf_1 22 rfl rfl
theorem dksX1_creasesOf_3 : cX1_creasesOf.data.toList.drop 69 = dktX1_creasesOf_3 := dk_seg dksX1_creasesOf_2 23 rfl rfl
theorem dX1_creasesOf_0 : decode cX1_creasesOf 0 = .ok (.aload_n 0, 1) := dk_42 (dk_at dksX1_creasesOf_0 0 rfl rfl)
theorem dX1_creasesOf_1 : decode cX1_creasesOf 1 = .ok (.iload_n 1, 1) := dk_27 (dk_at dksX1_creasesOf_0 1 rfl rfl)
theorem dX1_creasesOf_2 : decode cX1_creasesOf 2 = .ok (.invokevirtual 332, 3) := dk_182 1 76 (dk_at dksX1_creasesOf_0 2 rfl rfl)
theorem dX1_creasesOf_5 : decode cX1_creasesOf 5 = .ok (.astore_n 2, 1) := dk_77 (dk_at dksX1_creasesOf_0 5 rfl rfl)
theorem dX1_creasesOf_6 : decode cX1_creasesOf 6 = .ok (.aload_n 2, 1) := dk_44 (dk_at dksX1_creasesOf_0 6 rfl rfl)
theorem dX1_creasesOf_7 : decode cX1_creasesOf 7 = .ok (.invokestatic 336, 3) := dk_184 1 80 (dk_at dksX1_creasesOf_0 7 rfl rfl)
theorem dX1_creasesOf_10 : decode cX1_creasesOf 10 = .ok (.aload_n 2, 1) := dk_44 (dk_at dksX1_creasesOf_0 10 rfl rfl)
theorem dX1_creasesOf_11 : decode cX1_creasesOf 11 = .ok (.invokevirtual 340, 3) := dk_182 1 84 (dk_at dksX1_creasesOf_0 11 rfl rfl)
theorem dX1_creasesOf_14 : decode cX1_creasesOf 14 = .ok (.iconst 0, 1) := dk_3 (dk_at dksX1_creasesOf_0 14 rfl rfl)
theorem dX1_creasesOf_15 : decode cX1_creasesOf 15 = .ok (.aload_n 0, 1) := dk_42 (dk_at dksX1_creasesOf_0 15 rfl rfl)
theorem dX1_creasesOf_16 : decode cX1_creasesOf 16 = .ok (.invokevirtual 214, 3) := dk_182 0 214 (dk_at dksX1_creasesOf_0 16 rfl rfl)
theorem dX1_creasesOf_19 : decode cX1_creasesOf 19 = .ok (.iconst 1, 1) := dk_4 (dk_at dksX1_creasesOf_0 19 rfl rfl)
theorem dX1_creasesOf_20 : decode cX1_creasesOf 20 = .ok (.isub, 1) := dk_100 (dk_at dksX1_creasesOf_0 20 rfl rfl)
theorem dX1_creasesOf_21 : decode cX1_creasesOf 21 = .ok (.invokestatic 447, 3) := dk_184 1 191 (dk_at dksX1_creasesOf_0 21 rfl rfl)
theorem dX1_creasesOf_24 : decode cX1_creasesOf 24 = .ok (.if_icmp .ne 7, 3) := dk_160 0 7 (dk_at dksX1_creasesOf_1 0 rfl rfl)
theorem dX1_creasesOf_27 : decode cX1_creasesOf 27 = .ok (.iconst 1, 1) := dk_4 (dk_at dksX1_creasesOf_1 3 rfl rfl)
theorem dX1_creasesOf_28 : decode cX1_creasesOf 28 = .ok (.goto 4, 3) := dk_167 0 4 (dk_at dksX1_creasesOf_1 4 rfl rfl)
theorem dX1_creasesOf_31 : decode cX1_creasesOf 31 = .ok (.iconst 0, 1) := dk_3 (dk_at dksX1_creasesOf_1 7 rfl rfl)
theorem dX1_creasesOf_32 : decode cX1_creasesOf 32 = .ok (.invokestatic 110, 3) := dk_184 0 110 (dk_at dksX1_creasesOf_1 8 rfl rfl)
theorem dX1_creasesOf_35 : decode cX1_creasesOf 35 = .ok (.iconst 0, 1) := dk_3 (dk_at dksX1_creasesOf_1 11 rfl rfl)
theorem dX1_creasesOf_36 : decode cX1_creasesOf 36 = .ok (.istore_n 3, 1) := dk_62 (dk_at dksX1_creasesOf_1 12 rfl rfl)
theorem dX1_creasesOf_37 : decode cX1_creasesOf 37 = .ok (.iconst 0, 1) := dk_3 (dk_at dksX1_creasesOf_1 13 rfl rfl)
theorem dX1_creasesOf_38 : decode cX1_creasesOf 38 = .ok (.istore 4, 2) := dk_54 4 (dk_at dksX1_creasesOf_1 14 rfl rfl)
theorem dX1_creasesOf_40 : decode cX1_creasesOf 40 = .ok (.iload 4, 2) := dk_21 4 (dk_at dksX1_creasesOf_1 16 rfl rfl)
theorem dX1_creasesOf_42 : decode cX1_creasesOf 42 = .ok (.aload_n 2, 1) := dk_44 (dk_at dksX1_creasesOf_1 18 rfl rfl)
theorem dX1_creasesOf_43 : decode cX1_creasesOf 43 = .ok (.invokevirtual 340, 3) := dk_182 1 84 (dk_at dksX1_creasesOf_1 19 rfl rfl)
theorem dX1_creasesOf_46 : decode cX1_creasesOf 46 = .ok (.if_icmp .ge 37, 3) := dk_162 0 37 (dk_at dksX1_creasesOf_2 0 rfl rfl)
theorem dX1_creasesOf_49 : decode cX1_creasesOf 49 = .ok (.aload_n 2, 1) := dk_44 (dk_at dksX1_creasesOf_2 3 rfl rfl)
theorem dX1_creasesOf_50 : decode cX1_creasesOf 50 = .ok (.iload 4, 2) := dk_21 4 (dk_at dksX1_creasesOf_2 4 rfl rfl)
theorem dX1_creasesOf_52 : decode cX1_creasesOf 52 = .ok (.invokevirtual 341, 3) := dk_182 1 85 (dk_at dksX1_creasesOf_2 6 rfl rfl)
theorem dX1_creasesOf_55 : decode cX1_creasesOf 55 = .ok (.lconst 0, 1) := dk_9 (dk_at dksX1_creasesOf_2 9 rfl rfl)
theorem dX1_creasesOf_56 : decode cX1_creasesOf 56 = .ok (.ldc2_w 470, 3) := dk_20 1 214 (dk_at dksX1_creasesOf_2 10 rfl rfl)
theorem dX1_creasesOf_59 : decode cX1_creasesOf 59 = .ok (.invokestatic 106, 3) := dk_184 0 106 (dk_at dksX1_creasesOf_2 13 rfl rfl)
theorem dX1_creasesOf_62 : decode cX1_creasesOf 62 = .ok (.invokestatic 110, 3) := dk_184 0 110 (dk_at dksX1_creasesOf_2 16 rfl rfl)
theorem dX1_creasesOf_65 : decode cX1_creasesOf 65 = .ok (.iconst 3, 1) := dk_6 (dk_at dksX1_creasesOf_2 19 rfl rfl)
theorem dX1_creasesOf_66 : decode cX1_creasesOf 66 = .ok (.iload_n 3, 1) := dk_29 (dk_at dksX1_creasesOf_2 20 rfl rfl)
theorem dX1_creasesOf_67 : decode cX1_creasesOf 67 = .ok (.imul, 1) := dk_104 (dk_at dksX1_creasesOf_2 21 rfl rfl)
theorem dX1_creasesOf_68 : decode cX1_creasesOf 68 = .ok (.aload_n 2, 1) := dk_44 (dk_at dksX1_creasesOf_2 22 rfl rfl)
theorem dX1_creasesOf_69 : decode cX1_creasesOf 69 = .ok (.iload 4, 2) := dk_21 4 (dk_at dksX1_creasesOf_3 0 rfl rfl)
theorem dX1_creasesOf_71 : decode cX1_creasesOf 71 = .ok (.invokevirtual 341, 3) := dk_182 1 85 (dk_at dksX1_creasesOf_3 2 rfl rfl)
theorem dX1_creasesOf_74 : decode cX1_creasesOf 74 = .ok (.l2i, 1) := dk_136 (dk_at dksX1_creasesOf_3 5 rfl rfl)
theorem dX1_creasesOf_75 : decode cX1_creasesOf 75 = .ok (.iadd, 1) := dk_96 (dk_at dksX1_creasesOf_3 6 rfl rfl)
theorem dX1_creasesOf_76 : decode cX1_creasesOf 76 = .ok (.istore_n 3, 1) := dk_62 (dk_at dksX1_creasesOf_3 7 rfl rfl)
theorem dX1_creasesOf_77 : decode cX1_creasesOf 77 = .ok (.iinc 4 1, 3) := dk_132 4 1 (dk_at dksX1_creasesOf_3 8 rfl rfl)
theorem dX1_creasesOf_80 : decode cX1_creasesOf 80 = .ok (.goto (-40), 3) := dk_167 255 216 (dk_at dksX1_creasesOf_3 11 rfl rfl)
theorem dX1_creasesOf_83 : decode cX1_creasesOf 83 = .ok (.iload_n 3, 1) := dk_29 (dk_at dksX1_creasesOf_3 14 rfl rfl)
theorem dX1_creasesOf_84 : decode cX1_creasesOf 84 = .ok (.ireturn, 1) := dk_172 (dk_at dksX1_creasesOf_3 15 rfl rfl)
abbrev cX1_madeBy : ByteArray := prog_1_method_70_code
def yX1_madeBy : MethodName := ⟨RX1, "madeBy", "(II)I"⟩
def dkwX1_madeBy_1 : List UInt8 := [183, 1, 224, 58, 4, 25, 4, 4, 8, 182, 1, 144, 87, 25, 4, 28, 182, 1, 225, 172]
abbrev dktX1_madeBy_1 : List UInt8 := dkwX1_madeBy_1 ++ []
def dkwX1_madeBy_0 : List UInt8 := [42, 27, 182, 1, 216, 62, 28, 155, 0, 7, 4, 167, 0, 4, 3, 184, 0, 110, 187, 1, 222, 89, 42, 29]
abbrev dktX1_madeBy_0 : List UInt8 := dkwX1_madeBy_0 ++ dktX1_madeBy_1
theorem dksX1_madeBy_0 : cX1_madeBy.data.toList.drop 0 = dktX1_madeBy_0 := by decide +kernel
theorem dksX1_madeBy_1 : cX1_madeBy.data.toList.drop 24 = dktX1_madeBy_1 := dk_seg dksX1_madeBy_0 24 rfl rfl
theorem dX1_madeBy_0 : decode cX1_madeBy 0 = .ok (.aload_n 0, 1) := dk_42 (dk_at dksX1_madeBy_0 0 rfl rfl)
theorem dX1_madeBy_1 : decode cX1_madeBy 1 = .ok (.iload_n 1, 1) := dk_27 (dk_at dksX1_madeBy_0 1 rfl rfl)
theorem dX1_madeBy_2 : decode cX1_madeBy 2 = .ok (.invokevirtual 472, 3) := dk_182 1 216 (dk_at dksX1_madeBy_0 2 rfl rfl)
theorem dX1_madeBy_5 : decode cX1_madeBy 5 = .ok (.istore_n 3, 1) := dk_62 (dk_at dksX1_madeBy_0 5 rfl rfl)
theorem dX1_madeBy_6 : decode cX1_madeBy 6 = .ok (.iload_n 2, 1) := dk_28 (dk_at dksX1_madeBy_0 6 rfl rfl)
theorem dX1_madeBy_7 : decode cX1_madeBy 7 = .ok (.ifCond .lt 7, 3) := dk_155 0 7 (dk_at dksX1_madeBy_0 7 rfl rfl)
theorem dX1_madeBy_10 : decode cX1_madeBy 10 = .ok (.iconst 1, 1) := dk_4 (dk_at dksX1_madeBy_0 10 rfl rfl)
theorem dX1_madeBy_11 : decode cX1_madeBy 11 = .ok (.goto 4, 3) := dk_167 0 4 (dk_at dksX1_madeBy_0 11 rfl rfl)
theorem dX1_madeBy_14 : decode cX1_madeBy 14 = .ok (.iconst 0, 1) := dk_3 (dk_at dksX1_madeBy_0 14 rfl rfl)
theorem dX1_madeBy_15 : decode cX1_madeBy 15 = .ok (.invokestatic 110, 3) := dk_184 0 110 (dk_at dksX1_madeBy_0 15 rfl rfl)
theorem dX1_madeBy_18 : decode cX1_madeBy 18 = .ok (.new 478, 3) := dk_187 1 222 (dk_at dksX1_madeBy_0 18 rfl rfl)
theorem dX1_madeBy_21 : decode cX1_madeBy 21 = .ok (.dup, 1) := dk_89 (dk_at dksX1_madeBy_0 21 rfl rfl)
theorem dX1_madeBy_22 : decode cX1_madeBy 22 = .ok (.aload_n 0, 1) := dk_42 (dk_at dksX1_madeBy_0 22 rfl rfl)
theorem dX1_madeBy_23 : decode cX1_madeBy 23 = .ok (.iload_n 3, 1) := dk_29 (dk_at dksX1_madeBy_0 23 rfl rfl)
theorem dX1_madeBy_24 : decode cX1_madeBy 24 = .ok (.invokespecial 480, 3) := dk_183 1 224 (dk_at dksX1_madeBy_1 0 rfl rfl)
theorem dX1_madeBy_27 : decode cX1_madeBy 27 = .ok (.astore 4, 2) := dk_58 4 (dk_at dksX1_madeBy_1 3 rfl rfl)
theorem dX1_madeBy_29 : decode cX1_madeBy 29 = .ok (.aload 4, 2) := dk_25 4 (dk_at dksX1_madeBy_1 5 rfl rfl)
theorem dX1_madeBy_31 : decode cX1_madeBy 31 = .ok (.iconst 1, 1) := dk_4 (dk_at dksX1_madeBy_1 7 rfl rfl)
theorem dX1_madeBy_32 : decode cX1_madeBy 32 = .ok (.iconst 5, 1) := dk_8 (dk_at dksX1_madeBy_1 8 rfl rfl)
theorem dX1_madeBy_33 : decode cX1_madeBy 33 = .ok (.invokevirtual 400, 3) := dk_182 1 144 (dk_at dksX1_madeBy_1 9 rfl rfl)
theorem dX1_madeBy_36 : decode cX1_madeBy 36 = .ok (.pop, 1) := dk_87 (dk_at dksX1_madeBy_1 12 rfl rfl)
theorem dX1_madeBy_37 : decode cX1_madeBy 37 = .ok (.aload 4, 2) := dk_25 4 (dk_at dksX1_madeBy_1 13 rfl rfl)
theorem dX1_madeBy_39 : decode cX1_madeBy 39 = .ok (.iload_n 2, 1) := dk_28 (dk_at dksX1_madeBy_1 15 rfl rfl)
theorem dX1_madeBy_40 : decode cX1_madeBy 40 = .ok (.invokevirtual 481, 3) := dk_182 1 225 (dk_at dksX1_madeBy_1 16 rfl rfl)
theorem dX1_madeBy_43 : decode cX1_madeBy 43 = .ok (.ireturn, 1) := dk_172 (dk_at dksX1_madeBy_1 19 rfl rfl)
abbrev cX1_fairest : ByteArray := prog_1_method_74_code
def yX1_fairest : MethodName := ⟨RX1, "fairest", "(II)I"⟩
def dkwX1_fairest_3 : List UInt8 := [180, 1, 166, 167, 0, 11, 45, 28, 16, 10, 100, 182, 1, 169, 172]
abbrev dktX1_fairest_3 : List UInt8 := dkwX1_fairest_3 ++ []
def dkwX1_fairest_2 : List UInt8 := [182, 1, 155, 87, 28, 154, 0, 11, 45, 180, 1, 162, 136, 167, 0, 23, 28, 4, 160, 0, 10, 45]
abbrev dktX1_fairest_2 : List UInt8 := dkwX1_fairest_2 ++ dktX1_fairest_3
def dkwX1_fairest_1 : List UInt8 := [153, 0, 7, 4, 167, 0, 4, 3, 184, 0, 110, 187, 1, 233, 89, 42, 183, 1, 235, 78, 45, 3, 27]
abbrev dktX1_fairest_1 : List UInt8 := dkwX1_fairest_1 ++ dktX1_fairest_2
def dkwX1_fairest_0 : List UInt8 := [27, 184, 1, 112, 28, 4, 159, 0, 21, 28, 153, 0, 17, 28, 133, 20, 1, 56, 20, 1, 110, 184, 0, 106]
abbrev dktX1_fairest_0 : List UInt8 := dkwX1_fairest_0 ++ dktX1_fairest_1
theorem dksX1_fairest_0 : cX1_fairest.data.toList.drop 0 = dktX1_fairest_0 := by decide +kernel
theorem dksX1_fairest_1 : cX1_fairest.data.toList.drop 24 = dktX1_fairest_1 := dk_seg dksX1_fairest_0 24 rfl rfl
theorem dksX1_fairest_2 : cX1_fairest.data.toList.drop 47 = dktX1_fairest_2 := dk_seg dksX1_fairest_1 23 rfl rfl
theorem dksX1_fairest_3 : cX1_fairest.data.toList.drop 69 = dktX1_fairest_3 := dk_seg dksX1_fairest_2 22 rfl rfl
theorem dX1_fairest_0 : decode cX1_fairest 0 = .ok (.iload_n 1, 1) := dk_27 (dk_at dksX1_fairest_0 0 rfl rfl)
theorem dX1_fairest_1 : decode cX1_fairest 1 = .ok (.invokestatic 368, 3) := dk_184 1 112 (dk_at dksX1_fairest_0 1 rfl rfl)
theorem dX1_fairest_4 : decode cX1_fairest 4 = .ok (.iload_n 2, 1) := dk_28 (dk_at dksX1_fairest_0 4 rfl rfl)
theorem dX1_fairest_5 : decode cX1_fairest 5 = .ok (.iconst 1, 1) := dk_4 (dk_at dksX1_fairest_0 5 rfl rfl)
theorem dX1_fairest_6 : decode cX1_fairest 6 = .ok (.if_icmp .eq 21, 3) := dk_159 0 21 (dk_at dksX1_fairest_0 6 rfl rfl)
theorem dX1_fairest_9 : decode cX1_fairest 9 = .ok (.iload_n 2, 1) := dk_28 (dk_at dksX1_fairest_0 9 rfl rfl)
theorem dX1_fairest_10 : decode cX1_fairest 10 = .ok (.ifCond .eq 17, 3) := dk_153 0 17 (dk_at dksX1_fairest_0 10 rfl rfl)
theorem dX1_fairest_13 : decode cX1_fairest 13 = .ok (.iload_n 2, 1) := dk_28 (dk_at dksX1_fairest_0 13 rfl rfl)
theorem dX1_fairest_14 : decode cX1_fairest 14 = .ok (.i2l, 1) := dk_133 (dk_at dksX1_fairest_0 14 rfl rfl)
theorem dX1_fairest_15 : decode cX1_fairest 15 = .ok (.ldc2_w 312, 3) := dk_20 1 56 (dk_at dksX1_fairest_0 15 rfl rfl)
theorem dX1_fairest_18 : decode cX1_fairest 18 = .ok (.ldc2_w 366, 3) := dk_20 1 110 (dk_at dksX1_fairest_0 18 rfl rfl)
theorem dX1_fairest_21 : decode cX1_fairest 21 = .ok (.invokestatic 106, 3) := dk_184 0 106 (dk_at dksX1_fairest_0 21 rfl rfl)
theorem dX1_fairest_24 : decode cX1_fairest 24 = .ok (.ifCond .eq 7, 3) := dk_153 0 7 (dk_at dksX1_fairest_1 0 rfl rfl)
theorem dX1_fairest_27 : decode cX1_fairest 27 = .ok (.iconst 1, 1) := dk_4 (dk_at dksX1_fairest_1 3 rfl rfl)
theorem dX1_fairest_28 : decode cX1_fairest 28 = .ok (.goto 4, 3) := dk_167 0 4 (dk_at dksX1_fairest_1 4 rfl rfl)
theorem dX1_fairest_31 : decode cX1_fairest 31 = .ok (.iconst 0, 1) := dk_3 (dk_at dksX1_fairest_1 7 rfl rfl)
theorem dX1_fairest_32 : decode cX1_fairest 32 = .ok (.invokestatic 110, 3) := dk_184 0 110 (dk_at dksX1_fairest_1 8 rfl rfl)
theorem dX1_fairest_35 : decode cX1_fairest 35 = .ok (.new 489, 3) := dk_187 1 233 (dk_at dksX1_fairest_1 11 rfl rfl)
theorem dX1_fairest_38 : decode cX1_fairest 38 = .ok (.dup, 1) := dk_89 (dk_at dksX1_fairest_1 14 rfl rfl)
theorem dX1_fairest_39 : decode cX1_fairest 39 = .ok (.aload_n 0, 1) := dk_42 (dk_at dksX1_fairest_1 15 rfl rfl)
theorem dX1_fairest_40 : decode cX1_fairest 40 = .ok (.invokespecial 491, 3) := dk_183 1 235 (dk_at dksX1_fairest_1 16 rfl rfl)
theorem dX1_fairest_43 : decode cX1_fairest 43 = .ok (.astore_n 3, 1) := dk_78 (dk_at dksX1_fairest_1 19 rfl rfl)
theorem dX1_fairest_44 : decode cX1_fairest 44 = .ok (.aload_n 3, 1) := dk_45 (dk_at dksX1_fairest_1 20 rfl rfl)
theorem dX1_fairest_45 : decode cX1_fairest 45 = .ok (.iconst 0, 1) := dk_3 (dk_at dksX1_fairest_1 21 rfl rfl)
theorem dX1_fairest_46 : decode cX1_fairest 46 = .ok (.iload_n 1, 1) := dk_27 (dk_at dksX1_fairest_1 22 rfl rfl)
theorem dX1_fairest_47 : decode cX1_fairest 47 = .ok (.invokevirtual 411, 3) := dk_182 1 155 (dk_at dksX1_fairest_2 0 rfl rfl)
theorem dX1_fairest_50 : decode cX1_fairest 50 = .ok (.pop, 1) := dk_87 (dk_at dksX1_fairest_2 3 rfl rfl)
theorem dX1_fairest_51 : decode cX1_fairest 51 = .ok (.iload_n 2, 1) := dk_28 (dk_at dksX1_fairest_2 4 rfl rfl)
theorem dX1_fairest_52 : decode cX1_fairest 52 = .ok (.ifCond .ne 11, 3) := dk_154 0 11 (dk_at dksX1_fairest_2 5 rfl rfl)
theorem dX1_fairest_55 : decode cX1_fairest 55 = .ok (.aload_n 3, 1) := dk_45 (dk_at dksX1_fairest_2 8 rfl rfl)
theorem dX1_fairest_56 : decode cX1_fairest 56 = .ok (.getfield 418, 3) := dk_180 1 162 (dk_at dksX1_fairest_2 9 rfl rfl)
theorem dX1_fairest_59 : decode cX1_fairest 59 = .ok (.l2i, 1) := dk_136 (dk_at dksX1_fairest_2 12 rfl rfl)
theorem dX1_fairest_60 : decode cX1_fairest 60 = .ok (.goto 23, 3) := dk_167 0 23 (dk_at dksX1_fairest_2 13 rfl rfl)
theorem dX1_fairest_63 : decode cX1_fairest 63 = .ok (.iload_n 2, 1) := dk_28 (dk_at dksX1_fairest_2 16 rfl rfl)
theorem dX1_fairest_64 : decode cX1_fairest 64 = .ok (.iconst 1, 1) := dk_4 (dk_at dksX1_fairest_2 17 rfl rfl)
theorem dX1_fairest_65 : decode cX1_fairest 65 = .ok (.if_icmp .ne 10, 3) := dk_160 0 10 (dk_at dksX1_fairest_2 18 rfl rfl)
theorem dX1_fairest_68 : decode cX1_fairest 68 = .ok (.aload_n 3, 1) := dk_45 (dk_at dksX1_fairest_2 21 rfl rfl)
theorem dX1_fairest_69 : decode cX1_fairest 69 = .ok (.getfield 422, 3) := dk_180 1 166 (dk_at dksX1_fairest_3 0 rfl rfl)
theorem dX1_fairest_72 : decode cX1_fairest 72 = .ok (.goto 11, 3) := dk_167 0 11 (dk_at dksX1_fairest_3 3 rfl rfl)
theorem dX1_fairest_75 : decode cX1_fairest 75 = .ok (.aload_n 3, 1) := dk_45 (dk_at dksX1_fairest_3 6 rfl rfl)
theorem dX1_fairest_76 : decode cX1_fairest 76 = .ok (.iload_n 2, 1) := dk_28 (dk_at dksX1_fairest_3 7 rfl rfl)
theorem dX1_fairest_77 : decode cX1_fairest 77 = .ok (.bipush 10, 2) := dk_16 10 (dk_at dksX1_fairest_3 8 rfl rfl)
theorem dX1_fairest_79 : decode cX1_fairest 79 = .ok (.isub, 1) := dk_100 (dk_at dksX1_fairest_3 10 rfl rfl)
theorem dX1_fairest_80 : decode cX1_fairest 80 = .ok (.invokevirtual 425, 3) := dk_182 1 169 (dk_at dksX1_fairest_3 11 rfl rfl)
theorem dX1_fairest_83 : decode cX1_fairest 83 = .ok (.ireturn, 1) := dk_172 (dk_at dksX1_fairest_3 14 rfl rfl)
abbrev cX1_better : ByteArray := prog_1_method_76_code
def yX1_better : MethodName := ⟨RX1, "better", "(I)I"⟩
def dkwX1_better_1 : List UInt8 := [182, 1, 132, 87, 45, 182, 1, 135, 172]
abbrev dktX1_better_1 : List UInt8 := dkwX1_better_1 ++ []
def dkwX1_better_0 : List UInt8 := [27, 184, 1, 112, 42, 182, 1, 236, 77, 187, 1, 240, 89, 42, 44, 183, 1, 242, 78, 45, 3, 27]
abbrev dktX1_better_0 : List UInt8 := dkwX1_better_0 ++ dktX1_better_1
theorem dksX1_better_0 : cX1_better.data.toList.drop 0 = dktX1_better_0 := by decide +kernel
theorem dksX1_better_1 : cX1_better.data.toList.drop 22 = dktX1_better_1 := dk_seg dksX1_better_0 22 rfl rfl
theorem dX1_better_0 : decode cX1_better 0 = .ok (.iload_n 1, 1) := dk_27 (dk_at dksX1_better_0 0 rfl rfl)
theorem dX1_better_1 : decode cX1_better 1 = .ok (.invokestatic 368, 3) := dk_184 1 112 (dk_at dksX1_better_0 1 rfl rfl)
theorem dX1_better_4 : decode cX1_better 4 = .ok (.aload_n 0, 1) := dk_42 (dk_at dksX1_better_0 4 rfl rfl)
theorem dX1_better_5 : decode cX1_better 5 = .ok (.invokevirtual 492, 3) := dk_182 1 236 (dk_at dksX1_better_0 5 rfl rfl)
theorem dX1_better_8 : decode cX1_better 8 = .ok (.astore_n 2, 1) := dk_77 (dk_at dksX1_better_0 8 rfl rfl)
theorem dX1_better_9 : decode cX1_better 9 = .ok (.new 496, 3) := dk_187 1 240 (dk_at dksX1_better_0 9 rfl rfl)
theorem dX1_better_12 : decode cX1_better 12 = .ok (.dup, 1) := dk_89 (dk_at dksX1_better_0 12 rfl rfl)
theorem dX1_better_13 : decode cX1_better 13 = .ok (.aload_n 0, 1) := dk_42 (dk_at dksX1_better_0 13 rfl rfl)
theorem dX1_better_14 : decode cX1_better 14 = .ok (.aload_n 2, 1) := dk_44 (dk_at dksX1_better_0 14 rfl rfl)
theorem dX1_better_15 : decode cX1_better 15 = .ok (.invokespecial 498, 3) := dk_183 1 242 (dk_at dksX1_better_0 15 rfl rfl)
theorem dX1_better_18 : decode cX1_better 18 = .ok (.astore_n 3, 1) := dk_78 (dk_at dksX1_better_0 18 rfl rfl)
theorem dX1_better_19 : decode cX1_better 19 = .ok (.aload_n 3, 1) := dk_45 (dk_at dksX1_better_0 19 rfl rfl)
theorem dX1_better_20 : decode cX1_better 20 = .ok (.iconst 0, 1) := dk_3 (dk_at dksX1_better_0 20 rfl rfl)
theorem dX1_better_21 : decode cX1_better 21 = .ok (.iload_n 1, 1) := dk_27 (dk_at dksX1_better_0 21 rfl rfl)
theorem dX1_better_22 : decode cX1_better 22 = .ok (.invokevirtual 388, 3) := dk_182 1 132 (dk_at dksX1_better_1 0 rfl rfl)
theorem dX1_better_25 : decode cX1_better 25 = .ok (.pop, 1) := dk_87 (dk_at dksX1_better_1 3 rfl rfl)
theorem dX1_better_26 : decode cX1_better 26 = .ok (.aload_n 3, 1) := dk_45 (dk_at dksX1_better_1 4 rfl rfl)
theorem dX1_better_27 : decode cX1_better 27 = .ok (.invokevirtual 391, 3) := dk_182 1 135 (dk_at dksX1_better_1 5 rfl rfl)
theorem dX1_better_30 : decode cX1_better 30 = .ok (.ireturn, 1) := dk_172 (dk_at dksX1_better_1 8 rfl rfl)
abbrev cX1_likesNow : ByteArray := prog_1_method_75_code
def yX1_likesNow : MethodName := ⟨RX1, "likesNow", "()[I"⟩
def dkwX1_likesNow_1 : List UInt8 := [182, 0, 161, 42, 180, 0, 19, 180, 0, 218, 182, 1, 26, 79, 132, 2, 1, 167, 255, 226, 43, 176]
abbrev dktX1_likesNow_1 : List UInt8 := dkwX1_likesNow_1 ++ []
def dkwX1_likesNow_0 : List UInt8 := [42, 182, 1, 24, 188, 10, 76, 3, 61, 28, 42, 182, 1, 24, 162, 0, 28, 43, 28, 42, 28, 42]
abbrev dktX1_likesNow_0 : List UInt8 := dkwX1_likesNow_0 ++ dktX1_likesNow_1
theorem dksX1_likesNow_0 : cX1_likesNow.data.toList.drop 0 = dktX1_likesNow_0 := by decide +kernel
theorem dksX1_likesNow_1 : cX1_likesNow.data.toList.drop 22 = dktX1_likesNow_1 := dk_seg dksX1_likesNow_0 22 rfl rfl
theorem dX1_likesNow_0 : decode cX1_likesNow 0 = .ok (.aload_n 0, 1) := dk_42 (dk_at dksX1_likesNow_0 0 rfl rfl)
theorem dX1_likesNow_1 : decode cX1_likesNow 1 = .ok (.invokevirtual 280, 3) := dk_182 1 24 (dk_at dksX1_likesNow_0 1 rfl rfl)
theorem dX1_likesNow_4 : decode cX1_likesNow 4 = .ok (.newarray .int, 2) := dk_188_10 (dk_at dksX1_likesNow_0 4 rfl rfl)
theorem dX1_likesNow_6 : decode cX1_likesNow 6 = .ok (.astore_n 1, 1) := dk_76 (dk_at dksX1_likesNow_0 6 rfl rfl)
theorem dX1_likesNow_7 : decode cX1_likesNow 7 = .ok (.iconst 0, 1) := dk_3 (dk_at dksX1_likesNow_0 7 rfl rfl)
theorem dX1_likesNow_8 : decode cX1_likesNow 8 = .ok (.istore_n 2, 1) := dk_61 (dk_at dksX1_likesNow_0 8 rfl rfl)
theorem dX1_likesNow_9 : decode cX1_likesNow 9 = .ok (.iload_n 2, 1) := dk_28 (dk_at dksX1_likesNow_0 9 rfl rfl)
theorem dX1_likesNow_10 : decode cX1_likesNow 10 = .ok (.aload_n 0, 1) := dk_42 (dk_at dksX1_likesNow_0 10 rfl rfl)
theorem dX1_likesNow_11 : decode cX1_likesNow 11 = .ok (.invokevirtual 280, 3) := dk_182 1 24 (dk_at dksX1_likesNow_0 11 rfl rfl)
theorem dX1_likesNow_14 : decode cX1_likesNow 14 = .ok (.if_icmp .ge 28, 3) := dk_162 0 28 (dk_at dksX1_likesNow_0 14 rfl rfl)
theorem dX1_likesNow_17 : decode cX1_likesNow 17 = .ok (.aload_n 1, 1) := dk_43 (dk_at dksX1_likesNow_0 17 rfl rfl)
theorem dX1_likesNow_18 : decode cX1_likesNow 18 = .ok (.iload_n 2, 1) := dk_28 (dk_at dksX1_likesNow_0 18 rfl rfl)
theorem dX1_likesNow_19 : decode cX1_likesNow 19 = .ok (.aload_n 0, 1) := dk_42 (dk_at dksX1_likesNow_0 19 rfl rfl)
theorem dX1_likesNow_20 : decode cX1_likesNow 20 = .ok (.iload_n 2, 1) := dk_28 (dk_at dksX1_likesNow_0 20 rfl rfl)
theorem dX1_likesNow_21 : decode cX1_likesNow 21 = .ok (.aload_n 0, 1) := dk_42 (dk_at dksX1_likesNow_0 21 rfl rfl)
theorem dX1_likesNow_22 : decode cX1_likesNow 22 = .ok (.invokevirtual 161, 3) := dk_182 0 161 (dk_at dksX1_likesNow_1 0 rfl rfl)
theorem dX1_likesNow_25 : decode cX1_likesNow 25 = .ok (.aload_n 0, 1) := dk_42 (dk_at dksX1_likesNow_1 3 rfl rfl)
theorem dX1_likesNow_26 : decode cX1_likesNow 26 = .ok (.getfield 19, 3) := dk_180 0 19 (dk_at dksX1_likesNow_1 4 rfl rfl)
theorem dX1_likesNow_29 : decode cX1_likesNow 29 = .ok (.getfield 218, 3) := dk_180 0 218 (dk_at dksX1_likesNow_1 7 rfl rfl)
theorem dX1_likesNow_32 : decode cX1_likesNow 32 = .ok (.invokevirtual 282, 3) := dk_182 1 26 (dk_at dksX1_likesNow_1 10 rfl rfl)
theorem dX1_likesNow_35 : decode cX1_likesNow 35 = .ok (.iastore, 1) := dk_79 (dk_at dksX1_likesNow_1 13 rfl rfl)
theorem dX1_likesNow_36 : decode cX1_likesNow 36 = .ok (.iinc 2 1, 3) := dk_132 2 1 (dk_at dksX1_likesNow_1 14 rfl rfl)
theorem dX1_likesNow_39 : decode cX1_likesNow 39 = .ok (.goto (-30), 3) := dk_167 255 226 (dk_at dksX1_likesNow_1 17 rfl rfl)
theorem dX1_likesNow_42 : decode cX1_likesNow 42 = .ok (.aload_n 1, 1) := dk_43 (dk_at dksX1_likesNow_1 20 rfl rfl)
theorem dX1_likesNow_43 : decode cX1_likesNow 43 = .ok (.areturn, 1) := dk_176 (dk_at dksX1_likesNow_1 21 rfl rfl)
abbrev cX1_keenest : ByteArray := prog_1_method_77_code
def yX1_keenest : MethodName := ⟨RX1, "keenest", "(I)I"⟩
def dkwX1_keenest_4 : List UInt8 := [167, 255, 184, 29, 172]
abbrev dktX1_keenest_4 : List UInt8 := dkwX1_keenest_4 ++ []
def dkwX1_keenest_3 : List UInt8 := [167, 0, 19, 21, 6, 62, 25, 8, 180, 1, 162, 44, 21, 6, 46, 133, 101, 55, 4, 132, 6, 1]
abbrev dktX1_keenest_3 : List UInt8 := dkwX1_keenest_3 ++ dktX1_keenest_4
def dkwX1_keenest_2 : List UInt8 := [3, 27, 182, 1, 155, 87, 25, 8, 180, 1, 162, 44, 21, 6, 46, 133, 101, 22, 4, 148, 157, 0, 6]
abbrev dktX1_keenest_2 : List UInt8 := dkwX1_keenest_2 ++ dktX1_keenest_3
def dkwX1_keenest_1 : List UInt8 := [182, 1, 24, 162, 0, 69, 21, 6, 54, 7, 187, 1, 243, 89, 42, 21, 7, 183, 1, 245, 58, 8, 25, 8]
abbrev dktX1_keenest_1 : List UInt8 := dkwX1_keenest_1 ++ dktX1_keenest_2
def dkwX1_keenest_0 : List UInt8 := [27, 184, 1, 112, 42, 182, 1, 236, 77, 2, 62, 20, 1, 62, 55, 4, 3, 54, 6, 21, 6, 42]
abbrev dktX1_keenest_0 : List UInt8 := dkwX1_keenest_0 ++ dktX1_keenest_1
theorem dksX1_keenest_0 : cX1_keenest.data.toList.drop 0 = dktX1_keenest_0 := by decide +kernel
theorem dksX1_keenest_1 : cX1_keenest.data.toList.drop 22 = dktX1_keenest_1 := dk_seg dksX1_keenest_0 22 rfl rfl
theorem dksX1_keenest_2 : cX1_keenest.data.toList.drop 46 = dktX1_keenest_2 := dk_seg dksX1_keenest_1 24 rfl rfl
theorem dksX1_keenest_3 : cX1_keenest.data.toList.drop 69 = dktX1_keenest_3 := dk_seg dksX1_keenest_2 23 rfl rfl
theorem dksX1_keenest_4 : cX1_keenest.data.toList.drop 91 = dktX1_keenest_4 := dk_seg dksX1_keenest_3 22 rfl rfl
theorem dX1_keenest_0 : decode cX1_keenest 0 = .ok (.iload_n 1, 1) := dk_27 (dk_at dksX1_keenest_0 0 rfl rfl)
theorem dX1_keenest_1 : decode cX1_keenest 1 = .ok (.invokestatic 368, 3) := dk_184 1 112 (dk_at dksX1_keenest_0 1 rfl rfl)
theorem dX1_keenest_4 : decode cX1_keenest 4 = .ok (.aload_n 0, 1) := dk_42 (dk_at dksX1_keenest_0 4 rfl rfl)
theorem dX1_keenest_5 : decode cX1_keenest 5 = .ok (.invokevirtual 492, 3) := dk_182 1 236 (dk_at dksX1_keenest_0 5 rfl rfl)
theorem dX1_keenest_8 : decode cX1_keenest 8 = .ok (.astore_n 2, 1) := dk_77 (dk_at dksX1_keenest_0 8 rfl rfl)
theorem dX1_keenest_9 : decode cX1_keenest 9 = .ok (.iconst (-1), 1) := dk_2 (dk_at dksX1_keenest_0 9 rfl rfl)
theorem dX1_keenest_10 : decode cX1_keenest 10 = .ok (.istore_n 3, 1) := dk_62 (dk_at dksX1_keenest_0 10 rfl rfl)
theorem dX1_keenest_11 : decode cX1_keenest 11 = .ok (.ldc2_w 318, 3) := dk_20 1 62 (dk_at dksX1_keenest_0 11 rfl rfl)
theorem dX1_keenest_14 : decode cX1_keenest 14 = .ok (.lstore 4, 2) := dk_55 4 (dk_at dksX1_keenest_0 14 rfl rfl)
theorem dX1_keenest_16 : decode cX1_keenest 16 = .ok (.iconst 0, 1) := dk_3 (dk_at dksX1_keenest_0 16 rfl rfl)
theorem dX1_keenest_17 : decode cX1_keenest 17 = .ok (.istore 6, 2) := dk_54 6 (dk_at dksX1_keenest_0 17 rfl rfl)
theorem dX1_keenest_19 : decode cX1_keenest 19 = .ok (.iload 6, 2) := dk_21 6 (dk_at dksX1_keenest_0 19 rfl rfl)
theorem dX1_keenest_21 : decode cX1_keenest 21 = .ok (.aload_n 0, 1) := dk_42 (dk_at dksX1_keenest_0 21 rfl rfl)
theorem dX1_keenest_22 : decode cX1_keenest 22 = .ok (.invokevirtual 280, 3) := dk_182 1 24 (dk_at dksX1_keenest_1 0 rfl rfl)
theorem dX1_keenest_25 : decode cX1_keenest 25 = .ok (.if_icmp .ge 69, 3) := dk_162 0 69 (dk_at dksX1_keenest_1 3 rfl rfl)
theorem dX1_keenest_28 : decode cX1_keenest 28 = .ok (.iload 6, 2) := dk_21 6 (dk_at dksX1_keenest_1 6 rfl rfl)
theorem dX1_keenest_30 : decode cX1_keenest 30 = .ok (.istore 7, 2) := dk_54 7 (dk_at dksX1_keenest_1 8 rfl rfl)
theorem dX1_keenest_32 : decode cX1_keenest 32 = .ok (.new 499, 3) := dk_187 1 243 (dk_at dksX1_keenest_1 10 rfl rfl)
theorem dX1_keenest_35 : decode cX1_keenest 35 = .ok (.dup, 1) := dk_89 (dk_at dksX1_keenest_1 13 rfl rfl)
theorem dX1_keenest_36 : decode cX1_keenest 36 = .ok (.aload_n 0, 1) := dk_42 (dk_at dksX1_keenest_1 14 rfl rfl)
theorem dX1_keenest_37 : decode cX1_keenest 37 = .ok (.iload 7, 2) := dk_21 7 (dk_at dksX1_keenest_1 15 rfl rfl)
theorem dX1_keenest_39 : decode cX1_keenest 39 = .ok (.invokespecial 501, 3) := dk_183 1 245 (dk_at dksX1_keenest_1 17 rfl rfl)
theorem dX1_keenest_42 : decode cX1_keenest 42 = .ok (.astore 8, 2) := dk_58 8 (dk_at dksX1_keenest_1 20 rfl rfl)
theorem dX1_keenest_44 : decode cX1_keenest 44 = .ok (.aload 8, 2) := dk_25 8 (dk_at dksX1_keenest_1 22 rfl rfl)
theorem dX1_keenest_46 : decode cX1_keenest 46 = .ok (.iconst 0, 1) := dk_3 (dk_at dksX1_keenest_2 0 rfl rfl)
theorem dX1_keenest_47 : decode cX1_keenest 47 = .ok (.iload_n 1, 1) := dk_27 (dk_at dksX1_keenest_2 1 rfl rfl)
theorem dX1_keenest_48 : decode cX1_keenest 48 = .ok (.invokevirtual 411, 3) := dk_182 1 155 (dk_at dksX1_keenest_2 2 rfl rfl)
theorem dX1_keenest_51 : decode cX1_keenest 51 = .ok (.pop, 1) := dk_87 (dk_at dksX1_keenest_2 5 rfl rfl)
theorem dX1_keenest_52 : decode cX1_keenest 52 = .ok (.aload 8, 2) := dk_25 8 (dk_at dksX1_keenest_2 6 rfl rfl)
theorem dX1_keenest_54 : decode cX1_keenest 54 = .ok (.getfield 418, 3) := dk_180 1 162 (dk_at dksX1_keenest_2 8 rfl rfl)
theorem dX1_keenest_57 : decode cX1_keenest 57 = .ok (.aload_n 2, 1) := dk_44 (dk_at dksX1_keenest_2 11 rfl rfl)
theorem dX1_keenest_58 : decode cX1_keenest 58 = .ok (.iload 6, 2) := dk_21 6 (dk_at dksX1_keenest_2 12 rfl rfl)
theorem dX1_keenest_60 : decode cX1_keenest 60 = .ok (.iaload, 1) := dk_46 (dk_at dksX1_keenest_2 14 rfl rfl)
theorem dX1_keenest_61 : decode cX1_keenest 61 = .ok (.i2l, 1) := dk_133 (dk_at dksX1_keenest_2 15 rfl rfl)
theorem dX1_keenest_62 : decode cX1_keenest 62 = .ok (.lsub, 1) := dk_101 (dk_at dksX1_keenest_2 16 rfl rfl)
theorem dX1_keenest_63 : decode cX1_keenest 63 = .ok (.lload 4, 2) := dk_22 4 (dk_at dksX1_keenest_2 17 rfl rfl)
theorem dX1_keenest_65 : decode cX1_keenest 65 = .ok (.lcmp, 1) := dk_148 (dk_at dksX1_keenest_2 19 rfl rfl)
theorem dX1_keenest_66 : decode cX1_keenest 66 = .ok (.ifCond .gt 6, 3) := dk_157 0 6 (dk_at dksX1_keenest_2 20 rfl rfl)
theorem dX1_keenest_69 : decode cX1_keenest 69 = .ok (.goto 19, 3) := dk_167 0 19 (dk_at dksX1_keenest_3 0 rfl rfl)
theorem dX1_keenest_72 : decode cX1_keenest 72 = .ok (.iload 6, 2) := dk_21 6 (dk_at dksX1_keenest_3 3 rfl rfl)
theorem dX1_keenest_74 : decode cX1_keenest 74 = .ok (.istore_n 3, 1) := dk_62 (dk_at dksX1_keenest_3 5 rfl rfl)
theorem dX1_keenest_75 : decode cX1_keenest 75 = .ok (.aload 8, 2) := dk_25 8 (dk_at dksX1_keenest_3 6 rfl rfl)
theorem dX1_keenest_77 : decode cX1_keenest 77 = .ok (.getfield 418, 3) := dk_180 1 162 (dk_at dksX1_keenest_3 8 rfl rfl)
theorem dX1_keenest_80 : decode cX1_keenest 80 = .ok (.aload_n 2, 1) := dk_44 (dk_at dksX1_keenest_3 11 rfl rfl)
theorem dX1_keenest_81 : decode cX1_keenest 81 = .ok (.iload 6, 2) := dk_21 6 (dk_at dksX1_keenest_3 12 rfl rfl)
theorem dX1_keenest_83 : decode cX1_keenest 83 = .ok (.iaload, 1) := dk_46 (dk_at dksX1_keenest_3 14 rfl rfl)
theorem dX1_keenest_84 : decode cX1_keenest 84 = .ok (.i2l, 1) := dk_133 (dk_at dksX1_keenest_3 15 rfl rfl)
theorem dX1_keenest_85 : decode cX1_keenest 85 = .ok (.lsub, 1) := dk_101 (dk_at dksX1_keenest_3 16 rfl rfl)
theorem dX1_keenest_86 : decode cX1_keenest 86 = .ok (.lstore 4, 2) := dk_55 4 (dk_at dksX1_keenest_3 17 rfl rfl)
theorem dX1_keenest_88 : decode cX1_keenest 88 = .ok (.iinc 6 1, 3) := dk_132 6 1 (dk_at dksX1_keenest_3 19 rfl rfl)
theorem dX1_keenest_91 : decode cX1_keenest 91 = .ok (.goto (-72), 3) := dk_167 255 184 (dk_at dksX1_keenest_4 0 rfl rfl)
theorem dX1_keenest_94 : decode cX1_keenest 94 = .ok (.iload_n 3, 1) := dk_29 (dk_at dksX1_keenest_4 3 rfl rfl)
theorem dX1_keenest_95 : decode cX1_keenest 95 = .ok (.ireturn, 1) := dk_172 (dk_at dksX1_keenest_4 4 rfl rfl)
abbrev cX1_seen : ByteArray := prog_1_method_80_code
def yX1_seen : MethodName := ⟨RX1, "seen", "(II)I"⟩
def dkwX1_seen_0 : List UInt8 := [42, 27, 28, 182, 2, 0, 180, 2, 4, 172]
abbrev dktX1_seen_0 : List UInt8 := dkwX1_seen_0 ++ []
theorem dksX1_seen_0 : cX1_seen.data.toList.drop 0 = dktX1_seen_0 := by decide +kernel
theorem dX1_seen_0 : decode cX1_seen 0 = .ok (.aload_n 0, 1) := dk_42 (dk_at dksX1_seen_0 0 rfl rfl)
theorem dX1_seen_1 : decode cX1_seen 1 = .ok (.iload_n 1, 1) := dk_27 (dk_at dksX1_seen_0 1 rfl rfl)
theorem dX1_seen_2 : decode cX1_seen 2 = .ok (.iload_n 2, 1) := dk_28 (dk_at dksX1_seen_0 2 rfl rfl)
theorem dX1_seen_3 : decode cX1_seen 3 = .ok (.invokevirtual 512, 3) := dk_182 2 0 (dk_at dksX1_seen_0 3 rfl rfl)
theorem dX1_seen_6 : decode cX1_seen 6 = .ok (.getfield 516, 3) := dk_180 2 4 (dk_at dksX1_seen_0 6 rfl rfl)
theorem dX1_seen_9 : decode cX1_seen 9 = .ok (.ireturn, 1) := dk_172 (dk_at dksX1_seen_0 9 rfl rfl)
abbrev cX1_seenBy : ByteArray := prog_1_method_79_code
def yX1_seenBy : MethodName := ⟨RX1, "seenBy", "(II)LNapkinDeeds$Seen;"⟩
def dkwX1_seenBy_0 : List UInt8 := [187, 1, 248, 89, 42, 42, 27, 28, 182, 1, 250, 183, 1, 254, 78, 45, 4, 28, 182, 1, 255, 87, 45, 176]
abbrev dktX1_seenBy_0 : List UInt8 := dkwX1_seenBy_0 ++ []
theorem dksX1_seenBy_0 : cX1_seenBy.data.toList.drop 0 = dktX1_seenBy_0 := by decide +kernel
theorem dX1_seenBy_0 : decode cX1_seenBy 0 = .ok (.new 504, 3) := dk_187 1 248 (dk_at dksX1_seenBy_0 0 rfl rfl)
theorem dX1_seenBy_3 : decode cX1_seenBy 3 = .ok (.dup, 1) := dk_89 (dk_at dksX1_seenBy_0 3 rfl rfl)
theorem dX1_seenBy_4 : decode cX1_seenBy 4 = .ok (.aload_n 0, 1) := dk_42 (dk_at dksX1_seenBy_0 4 rfl rfl)
theorem dX1_seenBy_5 : decode cX1_seenBy 5 = .ok (.aload_n 0, 1) := dk_42 (dk_at dksX1_seenBy_0 5 rfl rfl)
theorem dX1_seenBy_6 : decode cX1_seenBy 6 = .ok (.iload_n 1, 1) := dk_27 (dk_at dksX1_seenBy_0 6 rfl rfl)
theorem dX1_seenBy_7 : decode cX1_seenBy 7 = .ok (.iload_n 2, 1) := dk_28 (dk_at dksX1_seenBy_0 7 rfl rfl)
theorem dX1_seenBy_8 : decode cX1_seenBy 8 = .ok (.invokevirtual 506, 3) := dk_182 1 250 (dk_at dksX1_seenBy_0 8 rfl rfl)
theorem dX1_seenBy_11 : decode cX1_seenBy 11 = .ok (.invokespecial 510, 3) := dk_183 1 254 (dk_at dksX1_seenBy_0 11 rfl rfl)
theorem dX1_seenBy_14 : decode cX1_seenBy 14 = .ok (.astore_n 3, 1) := dk_78 (dk_at dksX1_seenBy_0 14 rfl rfl)
theorem dX1_seenBy_15 : decode cX1_seenBy 15 = .ok (.aload_n 3, 1) := dk_45 (dk_at dksX1_seenBy_0 15 rfl rfl)
theorem dX1_seenBy_16 : decode cX1_seenBy 16 = .ok (.iconst 1, 1) := dk_4 (dk_at dksX1_seenBy_0 16 rfl rfl)
theorem dX1_seenBy_17 : decode cX1_seenBy 17 = .ok (.iload_n 2, 1) := dk_28 (dk_at dksX1_seenBy_0 17 rfl rfl)
theorem dX1_seenBy_18 : decode cX1_seenBy 18 = .ok (.invokevirtual 511, 3) := dk_182 1 255 (dk_at dksX1_seenBy_0 18 rfl rfl)
theorem dX1_seenBy_21 : decode cX1_seenBy 21 = .ok (.pop, 1) := dk_87 (dk_at dksX1_seenBy_0 21 rfl rfl)
theorem dX1_seenBy_22 : decode cX1_seenBy 22 = .ok (.aload_n 3, 1) := dk_45 (dk_at dksX1_seenBy_0 22 rfl rfl)
theorem dX1_seenBy_23 : decode cX1_seenBy 23 = .ok (.areturn, 1) := dk_176 (dk_at dksX1_seenBy_0 23 rfl rfl)
abbrev cX1_seenOf : ByteArray := prog_1_method_78_code
def yX1_seenOf : MethodName := ⟨RX1, "seenOf", "(II)LNapkinDeeds$Tray;"⟩
def dkwX1_seenOf_0 : List UInt8 := [42, 27, 182, 1, 174, 78, 28, 133, 9, 20, 1, 246, 184, 0, 106, 184, 0, 110, 45, 176]
abbrev dktX1_seenOf_0 : List UInt8 := dkwX1_seenOf_0 ++ []
theorem dksX1_seenOf_0 : cX1_seenOf.data.toList.drop 0 = dktX1_seenOf_0 := by decide +kernel
theorem dX1_seenOf_0 : decode cX1_seenOf 0 = .ok (.aload_n 0, 1) := dk_42 (dk_at dksX1_seenOf_0 0 rfl rfl)
theorem dX1_seenOf_1 : decode cX1_seenOf 1 = .ok (.iload_n 1, 1) := dk_27 (dk_at dksX1_seenOf_0 1 rfl rfl)
theorem dX1_seenOf_2 : decode cX1_seenOf 2 = .ok (.invokevirtual 430, 3) := dk_182 1 174 (dk_at dksX1_seenOf_0 2 rfl rfl)
theorem dX1_seenOf_5 : decode cX1_seenOf 5 = .ok (.astore_n 3, 1) := dk_78 (dk_at dksX1_seenOf_0 5 rfl rfl)
theorem dX1_seenOf_6 : decode cX1_seenOf 6 = .ok (.iload_n 2, 1) := dk_28 (dk_at dksX1_seenOf_0 6 rfl rfl)
theorem dX1_seenOf_7 : decode cX1_seenOf 7 = .ok (.i2l, 1) := dk_133 (dk_at dksX1_seenOf_0 7 rfl rfl)
theorem dX1_seenOf_8 : decode cX1_seenOf 8 = .ok (.lconst 0, 1) := dk_9 (dk_at dksX1_seenOf_0 8 rfl rfl)
theorem dX1_seenOf_9 : decode cX1_seenOf 9 = .ok (.ldc2_w 502, 3) := dk_20 1 246 (dk_at dksX1_seenOf_0 9 rfl rfl)
theorem dX1_seenOf_12 : decode cX1_seenOf 12 = .ok (.invokestatic 106, 3) := dk_184 0 106 (dk_at dksX1_seenOf_0 12 rfl rfl)
theorem dX1_seenOf_15 : decode cX1_seenOf 15 = .ok (.invokestatic 110, 3) := dk_184 0 110 (dk_at dksX1_seenOf_0 15 rfl rfl)
theorem dX1_seenOf_18 : decode cX1_seenOf 18 = .ok (.aload_n 3, 1) := dk_45 (dk_at dksX1_seenOf_0 18 rfl rfl)
theorem dX1_seenOf_19 : decode cX1_seenOf 19 = .ok (.areturn, 1) := dk_176 (dk_at dksX1_seenOf_0 19 rfl rfl)
abbrev cX1_sure : ByteArray := prog_1_method_81_code
def yX1_sure : MethodName := ⟨RX1, "sure", "(II)I"⟩
def dkwX1_sure_0 : List UInt8 := [42, 27, 28, 182, 2, 0, 78, 45, 180, 2, 4, 154, 0, 7, 3, 167, 0, 7, 45, 180, 2, 5, 172]
abbrev dktX1_sure_0 : List UInt8 := dkwX1_sure_0 ++ []
theorem dksX1_sure_0 : cX1_sure.data.toList.drop 0 = dktX1_sure_0 := by decide +kernel
theorem dX1_sure_0 : decode cX1_sure 0 = .ok (.aload_n 0, 1) := dk_42 (dk_at dksX1_sure_0 0 rfl rfl)
theorem dX1_sure_1 : decode cX1_sure 1 = .ok (.iload_n 1, 1) := dk_27 (dk_at dksX1_sure_0 1 rfl rfl)
theorem dX1_sure_2 : decode cX1_sure 2 = .ok (.iload_n 2, 1) := dk_28 (dk_at dksX1_sure_0 2 rfl rfl)
theorem dX1_sure_3 : decode cX1_sure 3 = .ok (.invokevirtual 512, 3) := dk_182 2 0 (dk_at dksX1_sure_0 3 rfl rfl)
theorem dX1_sure_6 : decode cX1_sure 6 = .ok (.astore_n 3, 1) := dk_78 (dk_at dksX1_sure_0 6 rfl rfl)
theorem dX1_sure_7 : decode cX1_sure 7 = .ok (.aload_n 3, 1) := dk_45 (dk_at dksX1_sure_0 7 rfl rfl)
theorem dX1_sure_8 : decode cX1_sure 8 = .ok (.getfield 516, 3) := dk_180 2 4 (dk_at dksX1_sure_0 8 rfl rfl)
theorem dX1_sure_11 : decode cX1_sure 11 = .ok (.ifCond .ne 7, 3) := dk_154 0 7 (dk_at dksX1_sure_0 11 rfl rfl)
theorem dX1_sure_14 : decode cX1_sure 14 = .ok (.iconst 0, 1) := dk_3 (dk_at dksX1_sure_0 14 rfl rfl)
theorem dX1_sure_15 : decode cX1_sure 15 = .ok (.goto 7, 3) := dk_167 0 7 (dk_at dksX1_sure_0 15 rfl rfl)
theorem dX1_sure_18 : decode cX1_sure 18 = .ok (.aload_n 3, 1) := dk_45 (dk_at dksX1_sure_0 18 rfl rfl)
theorem dX1_sure_19 : decode cX1_sure 19 = .ok (.getfield 517, 3) := dk_180 2 5 (dk_at dksX1_sure_0 19 rfl rfl)
theorem dX1_sure_22 : decode cX1_sure 22 = .ok (.ireturn, 1) := dk_172 (dk_at dksX1_sure_0 22 rfl rfl)
abbrev cX1_look : ByteArray := prog_1_method_82_code
def yX1_look : MethodName := ⟨RX1, "look", "(II)I"⟩
def dkwX1_look_4 : List UInt8 := [167, 0, 11, 21, 6, 54, 4, 21, 7, 54, 5, 132, 6, 1, 167, 255, 167, 21, 4, 172]
abbrev dktX1_look_4 : List UInt8 := dkwX1_look_4 ++ []
def dkwX1_look_3 : List UInt8 := [21, 7, 21, 11, 184, 1, 191, 54, 7, 132, 10, 1, 167, 255, 230, 21, 7, 21, 5, 161, 0, 6]
abbrev dktX1_look_3 : List UInt8 := dkwX1_look_3 ++ dktX1_look_4
def dkwX1_look_2 : List UInt8 := [58, 8, 25, 8, 190, 54, 9, 3, 54, 10, 21, 10, 21, 9, 162, 0, 25, 25, 8, 21, 10, 46, 54, 11]
abbrev dktX1_look_2 : List UInt8 := dkwX1_look_2 ++ dktX1_look_3
def dkwX1_look_1 : List UInt8 := [182, 1, 84, 162, 0, 83, 45, 180, 2, 4, 158, 0, 76, 3, 54, 7, 45, 180, 2, 12, 21, 6, 50]
abbrev dktX1_look_1 : List UInt8 := dkwX1_look_1 ++ dktX1_look_2
def dkwX1_look_0 : List UInt8 := [42, 27, 28, 182, 2, 0, 78, 2, 54, 4, 17, 109, 96, 54, 5, 3, 54, 6, 21, 6, 45, 180, 2, 8]
abbrev dktX1_look_0 : List UInt8 := dkwX1_look_0 ++ dktX1_look_1
theorem dksX1_look_0 : cX1_look.data.toList.drop 0 = dktX1_look_0 := by decide +kernel
theorem dksX1_look_1 : cX1_look.data.toList.drop 24 = dktX1_look_1 := dk_seg dksX1_look_0 24 rfl rfl
theorem dksX1_look_2 : cX1_look.data.toList.drop 47 = dktX1_look_2 := dk_seg dksX1_look_1 23 rfl rfl
theorem dksX1_look_3 : cX1_look.data.toList.drop 71 = dktX1_look_3 := dk_seg dksX1_look_2 24 rfl rfl
theorem dksX1_look_4 : cX1_look.data.toList.drop 93 = dktX1_look_4 := dk_seg dksX1_look_3 22 rfl rfl
theorem dX1_look_0 : decode cX1_look 0 = .ok (.aload_n 0, 1) := dk_42 (dk_at dksX1_look_0 0 rfl rfl)
theorem dX1_look_1 : decode cX1_look 1 = .ok (.iload_n 1, 1) := dk_27 (dk_at dksX1_look_0 1 rfl rfl)
theorem dX1_look_2 : decode cX1_look 2 = .ok (.iload_n 2, 1) := dk_28 (dk_at dksX1_look_0 2 rfl rfl)
theorem dX1_look_3 : decode cX1_look 3 = .ok (.invokevirtual 512, 3) := dk_182 2 0 (dk_at dksX1_look_0 3 rfl rfl)
theorem dX1_look_6 : decode cX1_look 6 = .ok (.astore_n 3, 1) := dk_78 (dk_at dksX1_look_0 6 rfl rfl)
theorem dX1_look_7 : decode cX1_look 7 = .ok (.iconst (-1), 1) := dk_2 (dk_at dksX1_look_0 7 rfl rfl)
theorem dX1_look_8 : decode cX1_look 8 = .ok (.istore 4, 2) := dk_54 4 (dk_at dksX1_look_0 8 rfl rfl)
theorem dX1_look_10 : decode cX1_look 10 = .ok (.sipush 28000, 3) := dk_17 109 96 (dk_at dksX1_look_0 10 rfl rfl)
theorem dX1_look_13 : decode cX1_look 13 = .ok (.istore 5, 2) := dk_54 5 (dk_at dksX1_look_0 13 rfl rfl)
theorem dX1_look_15 : decode cX1_look 15 = .ok (.iconst 0, 1) := dk_3 (dk_at dksX1_look_0 15 rfl rfl)
theorem dX1_look_16 : decode cX1_look 16 = .ok (.istore 6, 2) := dk_54 6 (dk_at dksX1_look_0 16 rfl rfl)
theorem dX1_look_18 : decode cX1_look 18 = .ok (.iload 6, 2) := dk_21 6 (dk_at dksX1_look_0 18 rfl rfl)
theorem dX1_look_20 : decode cX1_look 20 = .ok (.aload_n 3, 1) := dk_45 (dk_at dksX1_look_0 20 rfl rfl)
theorem dX1_look_21 : decode cX1_look 21 = .ok (.getfield 520, 3) := dk_180 2 8 (dk_at dksX1_look_0 21 rfl rfl)
theorem dX1_look_24 : decode cX1_look 24 = .ok (.invokevirtual 340, 3) := dk_182 1 84 (dk_at dksX1_look_1 0 rfl rfl)
theorem dX1_look_27 : decode cX1_look 27 = .ok (.if_icmp .ge 83, 3) := dk_162 0 83 (dk_at dksX1_look_1 3 rfl rfl)
theorem dX1_look_30 : decode cX1_look 30 = .ok (.aload_n 3, 1) := dk_45 (dk_at dksX1_look_1 6 rfl rfl)
theorem dX1_look_31 : decode cX1_look 31 = .ok (.getfield 516, 3) := dk_180 2 4 (dk_at dksX1_look_1 7 rfl rfl)
theorem dX1_look_34 : decode cX1_look 34 = .ok (.ifCond .le 76, 3) := dk_158 0 76 (dk_at dksX1_look_1 10 rfl rfl)
theorem dX1_look_37 : decode cX1_look 37 = .ok (.iconst 0, 1) := dk_3 (dk_at dksX1_look_1 13 rfl rfl)
theorem dX1_look_38 : decode cX1_look 38 = .ok (.istore 7, 2) := dk_54 7 (dk_at dksX1_look_1 14 rfl rfl)
theorem dX1_look_40 : decode cX1_look 40 = .ok (.aload_n 3, 1) := dk_45 (dk_at dksX1_look_1 16 rfl rfl)
theorem dX1_look_41 : decode cX1_look 41 = .ok (.getfield 524, 3) := dk_180 2 12 (dk_at dksX1_look_1 17 rfl rfl)
theorem dX1_look_44 : decode cX1_look 44 = .ok (.iload 6, 2) := dk_21 6 (dk_at dksX1_look_1 20 rfl rfl)
theorem dX1_look_46 : decode cX1_look 46 = .ok (.aaload, 1) := dk_50 (dk_at dksX1_look_1 22 rfl rfl)
theorem dX1_look_47 : decode cX1_look 47 = .ok (.astore 8, 2) := dk_58 8 (dk_at dksX1_look_2 0 rfl rfl)
theorem dX1_look_49 : decode cX1_look 49 = .ok (.aload 8, 2) := dk_25 8 (dk_at dksX1_look_2 2 rfl rfl)
theorem dX1_look_51 : decode cX1_look 51 = .ok (.arraylength, 1) := dk_190 (dk_at dksX1_look_2 4 rfl rfl)
theorem dX1_look_52 : decode cX1_look 52 = .ok (.istore 9, 2) := dk_54 9 (dk_at dksX1_look_2 5 rfl rfl)
theorem dX1_look_54 : decode cX1_look 54 = .ok (.iconst 0, 1) := dk_3 (dk_at dksX1_look_2 7 rfl rfl)
theorem dX1_look_55 : decode cX1_look 55 = .ok (.istore 10, 2) := dk_54 10 (dk_at dksX1_look_2 8 rfl rfl)
theorem dX1_look_57 : decode cX1_look 57 = .ok (.iload 10, 2) := dk_21 10 (dk_at dksX1_look_2 10 rfl rfl)
theorem dX1_look_59 : decode cX1_look 59 = .ok (.iload 9, 2) := dk_21 9 (dk_at dksX1_look_2 12 rfl rfl)
theorem dX1_look_61 : decode cX1_look 61 = .ok (.if_icmp .ge 25, 3) := dk_162 0 25 (dk_at dksX1_look_2 14 rfl rfl)
theorem dX1_look_64 : decode cX1_look 64 = .ok (.aload 8, 2) := dk_25 8 (dk_at dksX1_look_2 17 rfl rfl)
theorem dX1_look_66 : decode cX1_look 66 = .ok (.iload 10, 2) := dk_21 10 (dk_at dksX1_look_2 19 rfl rfl)
theorem dX1_look_68 : decode cX1_look 68 = .ok (.iaload, 1) := dk_46 (dk_at dksX1_look_2 21 rfl rfl)
theorem dX1_look_69 : decode cX1_look 69 = .ok (.istore 11, 2) := dk_54 11 (dk_at dksX1_look_2 22 rfl rfl)
theorem dX1_look_71 : decode cX1_look 71 = .ok (.iload 7, 2) := dk_21 7 (dk_at dksX1_look_3 0 rfl rfl)
theorem dX1_look_73 : decode cX1_look 73 = .ok (.iload 11, 2) := dk_21 11 (dk_at dksX1_look_3 2 rfl rfl)
theorem dX1_look_75 : decode cX1_look 75 = .ok (.invokestatic 447, 3) := dk_184 1 191 (dk_at dksX1_look_3 4 rfl rfl)
theorem dX1_look_78 : decode cX1_look 78 = .ok (.istore 7, 2) := dk_54 7 (dk_at dksX1_look_3 7 rfl rfl)
theorem dX1_look_80 : decode cX1_look 80 = .ok (.iinc 10 1, 3) := dk_132 10 1 (dk_at dksX1_look_3 9 rfl rfl)
theorem dX1_look_83 : decode cX1_look 83 = .ok (.goto (-26), 3) := dk_167 255 230 (dk_at dksX1_look_3 12 rfl rfl)
theorem dX1_look_86 : decode cX1_look 86 = .ok (.iload 7, 2) := dk_21 7 (dk_at dksX1_look_3 15 rfl rfl)
theorem dX1_look_88 : decode cX1_look 88 = .ok (.iload 5, 2) := dk_21 5 (dk_at dksX1_look_3 17 rfl rfl)
theorem dX1_look_90 : decode cX1_look 90 = .ok (.if_icmp .lt 6, 3) := dk_161 0 6 (dk_at dksX1_look_3 19 rfl rfl)
theorem dX1_look_93 : decode cX1_look 93 = .ok (.goto 11, 3) := dk_167 0 11 (dk_at dksX1_look_4 0 rfl rfl)
theorem dX1_look_96 : decode cX1_look 96 = .ok (.iload 6, 2) := dk_21 6 (dk_at dksX1_look_4 3 rfl rfl)
theorem dX1_look_98 : decode cX1_look 98 = .ok (.istore 4, 2) := dk_54 4 (dk_at dksX1_look_4 5 rfl rfl)
theorem dX1_look_100 : decode cX1_look 100 = .ok (.iload 7, 2) := dk_21 7 (dk_at dksX1_look_4 7 rfl rfl)
theorem dX1_look_102 : decode cX1_look 102 = .ok (.istore 5, 2) := dk_54 5 (dk_at dksX1_look_4 9 rfl rfl)
theorem dX1_look_104 : decode cX1_look 104 = .ok (.iinc 6 1, 3) := dk_132 6 1 (dk_at dksX1_look_4 11 rfl rfl)
theorem dX1_look_107 : decode cX1_look 107 = .ok (.goto (-89), 3) := dk_167 255 167 (dk_at dksX1_look_4 14 rfl rfl)
theorem dX1_look_110 : decode cX1_look 110 = .ok (.iload 4, 2) := dk_21 4 (dk_at dksX1_look_4 17 rfl rfl)
theorem dX1_look_112 : decode cX1_look 112 = .ok (.ireturn, 1) := dk_172 (dk_at dksX1_look_4 19 rfl rfl)
abbrev cX1_tray : ByteArray := prog_1_method_83_code
def yX1_tray : MethodName := ⟨RX1, "tray", "(III)V"⟩
def dkwX1_tray_2 : List UInt8 := [187, 0, 1, 89, 183, 0, 3, 191, 177]
abbrev dktX1_tray_2 : List UInt8 := dkwX1_tray_2 ++ []
def dkwX1_tray_1 : List UInt8 := [163, 0, 7, 4, 167, 0, 4, 3, 184, 0, 110, 25, 4, 28, 29, 182, 2, 15, 167, 0, 13, 58, 5]
abbrev dktX1_tray_1 : List UInt8 := dkwX1_tray_1 ++ dktX1_tray_2
def dkwX1_tray_0 : List UInt8 := [42, 27, 182, 1, 76, 58, 4, 28, 133, 9, 20, 1, 35, 184, 0, 106, 153, 0, 13, 29, 16, 30]
abbrev dktX1_tray_0 : List UInt8 := dkwX1_tray_0 ++ dktX1_tray_1
theorem dksX1_tray_0 : cX1_tray.data.toList.drop 0 = dktX1_tray_0 := by decide +kernel
theorem dksX1_tray_1 : cX1_tray.data.toList.drop 22 = dktX1_tray_1 := dk_seg dksX1_tray_0 22 rfl rfl
theorem dksX1_tray_2 : cX1_tray.data.toList.drop 45 = dktX1_tray_2 := dk_seg dksX1_tray_1 23 rfl rfl
theorem dX1_tray_0 : decode cX1_tray 0 = .ok (.aload_n 0, 1) := dk_42 (dk_at dksX1_tray_0 0 rfl rfl)
theorem dX1_tray_1 : decode cX1_tray 1 = .ok (.iload_n 1, 1) := dk_27 (dk_at dksX1_tray_0 1 rfl rfl)
theorem dX1_tray_2 : decode cX1_tray 2 = .ok (.invokevirtual 332, 3) := dk_182 1 76 (dk_at dksX1_tray_0 2 rfl rfl)
theorem dX1_tray_5 : decode cX1_tray 5 = .ok (.astore 4, 2) := dk_58 4 (dk_at dksX1_tray_0 5 rfl rfl)
theorem dX1_tray_7 : decode cX1_tray 7 = .ok (.iload_n 2, 1) := dk_28 (dk_at dksX1_tray_0 7 rfl rfl)
theorem dX1_tray_8 : decode cX1_tray 8 = .ok (.i2l, 1) := dk_133 (dk_at dksX1_tray_0 8 rfl rfl)
theorem dX1_tray_9 : decode cX1_tray 9 = .ok (.lconst 0, 1) := dk_9 (dk_at dksX1_tray_0 9 rfl rfl)
theorem dX1_tray_10 : decode cX1_tray 10 = .ok (.ldc2_w 291, 3) := dk_20 1 35 (dk_at dksX1_tray_0 10 rfl rfl)
theorem dX1_tray_13 : decode cX1_tray 13 = .ok (.invokestatic 106, 3) := dk_184 0 106 (dk_at dksX1_tray_0 13 rfl rfl)
theorem dX1_tray_16 : decode cX1_tray 16 = .ok (.ifCond .eq 13, 3) := dk_153 0 13 (dk_at dksX1_tray_0 16 rfl rfl)
theorem dX1_tray_19 : decode cX1_tray 19 = .ok (.iload_n 3, 1) := dk_29 (dk_at dksX1_tray_0 19 rfl rfl)
theorem dX1_tray_20 : decode cX1_tray 20 = .ok (.bipush 30, 2) := dk_16 30 (dk_at dksX1_tray_0 20 rfl rfl)
theorem dX1_tray_22 : decode cX1_tray 22 = .ok (.if_icmp .gt 7, 3) := dk_163 0 7 (dk_at dksX1_tray_1 0 rfl rfl)
theorem dX1_tray_25 : decode cX1_tray 25 = .ok (.iconst 1, 1) := dk_4 (dk_at dksX1_tray_1 3 rfl rfl)
theorem dX1_tray_26 : decode cX1_tray 26 = .ok (.goto 4, 3) := dk_167 0 4 (dk_at dksX1_tray_1 4 rfl rfl)
theorem dX1_tray_29 : decode cX1_tray 29 = .ok (.iconst 0, 1) := dk_3 (dk_at dksX1_tray_1 7 rfl rfl)
theorem dX1_tray_30 : decode cX1_tray 30 = .ok (.invokestatic 110, 3) := dk_184 0 110 (dk_at dksX1_tray_1 8 rfl rfl)
theorem dX1_tray_33 : decode cX1_tray 33 = .ok (.aload 4, 2) := dk_25 4 (dk_at dksX1_tray_1 11 rfl rfl)
theorem dX1_tray_35 : decode cX1_tray 35 = .ok (.iload_n 2, 1) := dk_28 (dk_at dksX1_tray_1 13 rfl rfl)
theorem dX1_tray_36 : decode cX1_tray 36 = .ok (.iload_n 3, 1) := dk_29 (dk_at dksX1_tray_1 14 rfl rfl)
theorem dX1_tray_37 : decode cX1_tray 37 = .ok (.invokevirtual 527, 3) := dk_182 2 15 (dk_at dksX1_tray_1 15 rfl rfl)
theorem dX1_tray_40 : decode cX1_tray 40 = .ok (.goto 13, 3) := dk_167 0 13 (dk_at dksX1_tray_1 18 rfl rfl)
theorem dX1_tray_43 : decode cX1_tray 43 = .ok (.astore 5, 2) := dk_58 5 (dk_at dksX1_tray_1 21 rfl rfl)
theorem dX1_tray_45 : decode cX1_tray 45 = .ok (.new 1, 3) := dk_187 0 1 (dk_at dksX1_tray_2 0 rfl rfl)
theorem dX1_tray_48 : decode cX1_tray 48 = .ok (.dup, 1) := dk_89 (dk_at dksX1_tray_2 3 rfl rfl)
theorem dX1_tray_49 : decode cX1_tray 49 = .ok (.invokespecial 3, 3) := dk_183 0 3 (dk_at dksX1_tray_2 4 rfl rfl)
theorem dX1_tray_52 : decode cX1_tray 52 = .ok (.athrow, 1) := dk_191 (dk_at dksX1_tray_2 7 rfl rfl)
theorem dX1_tray_53 : decode cX1_tray 53 = .ok (.return_, 1) := dk_177 (dk_at dksX1_tray_2 8 rfl rfl)
abbrev cX1_write : ByteArray := prog_1_method_84_code
def yX1_write : MethodName := ⟨RX1, "write", "(IIJ)J"⟩
def dkwX1_write_1 : List UInt8 := [187, 0, 7, 89, 183, 0, 9, 191, 58, 6, 187, 2, 28, 89, 183, 2, 30, 191]
abbrev dktX1_write_1 : List UInt8 := dkwX1_write_1 ++ []
def dkwX1_write_0 : List UInt8 := [42, 27, 182, 1, 76, 58, 5, 25, 5, 28, 33, 182, 2, 20, 25, 5, 28, 182, 1, 85, 173, 58, 6]
abbrev dktX1_write_0 : List UInt8 := dkwX1_write_0 ++ dktX1_write_1
theorem dksX1_write_0 : cX1_write.data.toList.drop 0 = dktX1_write_0 := by decide +kernel
theorem dksX1_write_1 : cX1_write.data.toList.drop 23 = dktX1_write_1 := dk_seg dksX1_write_0 23 rfl rfl
theorem dX1_write_0 : decode cX1_write 0 = .ok (.aload_n 0, 1) := dk_42 (dk_at dksX1_write_0 0 rfl rfl)
theorem dX1_write_1 : decode cX1_write 1 = .ok (.iload_n 1, 1) := dk_27 (dk_at dksX1_write_0 1 rfl rfl)
theorem dX1_write_2 : decode cX1_write 2 = .ok (.invokevirtual 332, 3) := dk_182 1 76 (dk_at dksX1_write_0 2 rfl rfl)
theorem dX1_write_5 : decode cX1_write 5 = .ok (.astore 5, 2) := dk_58 5 (dk_at dksX1_write_0 5 rfl rfl)
theorem dX1_write_7 : decode cX1_write 7 = .ok (.aload 5, 2) := dk_25 5 (dk_at dksX1_write_0 7 rfl rfl)
theorem dX1_write_9 : decode cX1_write 9 = .ok (.iload_n 2, 1) := dk_28 (dk_at dksX1_write_0 9 rfl rfl)
theorem dX1_write_10 : decode cX1_write 10 = .ok (.lload_n 3, 1) := dk_33 (dk_at dksX1_write_0 10 rfl rfl)
theorem dX1_write_11 : decode cX1_write 11 = .ok (.invokevirtual 532, 3) := dk_182 2 20 (dk_at dksX1_write_0 11 rfl rfl)
theorem dX1_write_14 : decode cX1_write 14 = .ok (.aload 5, 2) := dk_25 5 (dk_at dksX1_write_0 14 rfl rfl)
theorem dX1_write_16 : decode cX1_write 16 = .ok (.iload_n 2, 1) := dk_28 (dk_at dksX1_write_0 16 rfl rfl)
theorem dX1_write_17 : decode cX1_write 17 = .ok (.invokevirtual 341, 3) := dk_182 1 85 (dk_at dksX1_write_0 17 rfl rfl)
theorem dX1_write_20 : decode cX1_write 20 = .ok (.lreturn, 1) := dk_173 (dk_at dksX1_write_0 20 rfl rfl)
theorem dX1_write_21 : decode cX1_write 21 = .ok (.astore 6, 2) := dk_58 6 (dk_at dksX1_write_0 21 rfl rfl)
theorem dX1_write_23 : decode cX1_write 23 = .ok (.new 7, 3) := dk_187 0 7 (dk_at dksX1_write_1 0 rfl rfl)
theorem dX1_write_26 : decode cX1_write 26 = .ok (.dup, 1) := dk_89 (dk_at dksX1_write_1 3 rfl rfl)
theorem dX1_write_27 : decode cX1_write 27 = .ok (.invokespecial 9, 3) := dk_183 0 9 (dk_at dksX1_write_1 4 rfl rfl)
theorem dX1_write_30 : decode cX1_write 30 = .ok (.athrow, 1) := dk_191 (dk_at dksX1_write_1 7 rfl rfl)
theorem dX1_write_31 : decode cX1_write 31 = .ok (.astore 6, 2) := dk_58 6 (dk_at dksX1_write_1 8 rfl rfl)
theorem dX1_write_33 : decode cX1_write 33 = .ok (.new 540, 3) := dk_187 2 28 (dk_at dksX1_write_1 10 rfl rfl)
theorem dX1_write_36 : decode cX1_write 36 = .ok (.dup, 1) := dk_89 (dk_at dksX1_write_1 13 rfl rfl)
theorem dX1_write_37 : decode cX1_write 37 = .ok (.invokespecial 542, 3) := dk_183 2 30 (dk_at dksX1_write_1 14 rfl rfl)
theorem dX1_write_40 : decode cX1_write 40 = .ok (.athrow, 1) := dk_191 (dk_at dksX1_write_1 17 rfl rfl)
abbrev cX1_copy : ByteArray := prog_1_method_85_code
def yX1_copy : MethodName := ⟨RX1, "copy", "(I)I"⟩
def dkwX1_copy_2 : List UInt8 := [21, 5, 182, 0, 205, 182, 0, 208, 133, 182, 2, 20, 132, 5, 1, 167, 255, 226, 21, 4, 172]
abbrev dktX1_copy_2 : List UInt8 := dkwX1_copy_2 ++ []
def dkwX1_copy_1 : List UInt8 := [184, 1, 186, 54, 4, 3, 54, 5, 21, 5, 21, 4, 162, 0, 29, 44, 21, 5, 42, 180, 0, 19, 45]
abbrev dktX1_copy_1 : List UInt8 := dkwX1_copy_1 ++ dktX1_copy_2
def dkwX1_copy_0 : List UInt8 := [42, 27, 182, 1, 76, 77, 44, 184, 1, 80, 42, 182, 0, 161, 78, 44, 182, 1, 84, 45, 180, 0, 165]
abbrev dktX1_copy_0 : List UInt8 := dkwX1_copy_0 ++ dktX1_copy_1
theorem dksX1_copy_0 : cX1_copy.data.toList.drop 0 = dktX1_copy_0 := by decide +kernel
theorem dksX1_copy_1 : cX1_copy.data.toList.drop 23 = dktX1_copy_1 := dk_seg dksX1_copy_0 23 rfl rfl
theorem dksX1_copy_2 : cX1_copy.data.toList.drop 46 = dktX1_copy_2 := dk_seg dksX1_copy_1 23 rfl rfl
theorem dX1_copy_0 : decode cX1_copy 0 = .ok (.aload_n 0, 1) := dk_42 (dk_at dksX1_copy_0 0 rfl rfl)
theorem dX1_copy_1 : decode cX1_copy 1 = .ok (.iload_n 1, 1) := dk_27 (dk_at dksX1_copy_0 1 rfl rfl)
theorem dX1_copy_2 : decode cX1_copy 2 = .ok (.invokevirtual 332, 3) := dk_182 1 76 (dk_at dksX1_copy_0 2 rfl rfl)
theorem dX1_copy_5 : decode cX1_copy 5 = .ok (.astore_n 2, 1) := dk_77 (dk_at dksX1_copy_0 5 rfl rfl)
theorem dX1_copy_6 : decode cX1_copy 6 = .ok (.aload_n 2, 1) := dk_44 (dk_at dksX1_copy_0 6 rfl rfl)
theorem dX1_copy_7 : decode cX1_copy 7 = .ok (.invokestatic 336, 3) := dk_184 1 80 (dk_at dksX1_copy_0 7 rfl rfl)
theorem dX1_copy_10 : decode cX1_copy 10 = .ok (.aload_n 0, 1) := dk_42 (dk_at dksX1_copy_0 10 rfl rfl)
theorem dX1_copy_11 : decode cX1_copy 11 = .ok (.invokevirtual 161, 3) := dk_182 0 161 (dk_at dksX1_copy_0 11 rfl rfl)
theorem dX1_copy_14 : decode cX1_copy 14 = .ok (.astore_n 3, 1) := dk_78 (dk_at dksX1_copy_0 14 rfl rfl)
theorem dX1_copy_15 : decode cX1_copy 15 = .ok (.aload_n 2, 1) := dk_44 (dk_at dksX1_copy_0 15 rfl rfl)
theorem dX1_copy_16 : decode cX1_copy 16 = .ok (.invokevirtual 340, 3) := dk_182 1 84 (dk_at dksX1_copy_0 16 rfl rfl)
theorem dX1_copy_19 : decode cX1_copy 19 = .ok (.aload_n 3, 1) := dk_45 (dk_at dksX1_copy_0 19 rfl rfl)
theorem dX1_copy_20 : decode cX1_copy 20 = .ok (.getfield 165, 3) := dk_180 0 165 (dk_at dksX1_copy_0 20 rfl rfl)
theorem dX1_copy_23 : decode cX1_copy 23 = .ok (.invokestatic 442, 3) := dk_184 1 186 (dk_at dksX1_copy_1 0 rfl rfl)
theorem dX1_copy_26 : decode cX1_copy 26 = .ok (.istore 4, 2) := dk_54 4 (dk_at dksX1_copy_1 3 rfl rfl)
theorem dX1_copy_28 : decode cX1_copy 28 = .ok (.iconst 0, 1) := dk_3 (dk_at dksX1_copy_1 5 rfl rfl)
theorem dX1_copy_29 : decode cX1_copy 29 = .ok (.istore 5, 2) := dk_54 5 (dk_at dksX1_copy_1 6 rfl rfl)
theorem dX1_copy_31 : decode cX1_copy 31 = .ok (.iload 5, 2) := dk_21 5 (dk_at dksX1_copy_1 8 rfl rfl)
theorem dX1_copy_33 : decode cX1_copy 33 = .ok (.iload 4, 2) := dk_21 4 (dk_at dksX1_copy_1 10 rfl rfl)
theorem dX1_copy_35 : decode cX1_copy 35 = .ok (.if_icmp .ge 29, 3) := dk_162 0 29 (dk_at dksX1_copy_1 12 rfl rfl)
theorem dX1_copy_38 : decode cX1_copy 38 = .ok (.aload_n 2, 1) := dk_44 (dk_at dksX1_copy_1 15 rfl rfl)
theorem dX1_copy_39 : decode cX1_copy 39 = .ok (.iload 5, 2) := dk_21 5 (dk_at dksX1_copy_1 16 rfl rfl)
theorem dX1_copy_41 : decode cX1_copy 41 = .ok (.aload_n 0, 1) := dk_42 (dk_at dksX1_copy_1 18 rfl rfl)
theorem dX1_copy_42 : decode cX1_copy 42 = .ok (.getfield 19, 3) := dk_180 0 19 (dk_at dksX1_copy_1 19 rfl rfl)
theorem dX1_copy_45 : decode cX1_copy 45 = .ok (.aload_n 3, 1) := dk_45 (dk_at dksX1_copy_1 22 rfl rfl)
theorem dX1_copy_46 : decode cX1_copy 46 = .ok (.iload 5, 2) := dk_21 5 (dk_at dksX1_copy_2 0 rfl rfl)
theorem dX1_copy_48 : decode cX1_copy 48 = .ok (.invokevirtual 205, 3) := dk_182 0 205 (dk_at dksX1_copy_2 2 rfl rfl)
theorem dX1_copy_51 : decode cX1_copy 51 = .ok (.invokevirtual 208, 3) := dk_182 0 208 (dk_at dksX1_copy_2 5 rfl rfl)
theorem dX1_copy_54 : decode cX1_copy 54 = .ok (.i2l, 1) := dk_133 (dk_at dksX1_copy_2 8 rfl rfl)
theorem dX1_copy_55 : decode cX1_copy 55 = .ok (.invokevirtual 532, 3) := dk_182 2 20 (dk_at dksX1_copy_2 9 rfl rfl)
theorem dX1_copy_58 : decode cX1_copy 58 = .ok (.iinc 5 1, 3) := dk_132 5 1 (dk_at dksX1_copy_2 12 rfl rfl)
theorem dX1_copy_61 : decode cX1_copy 61 = .ok (.goto (-30), 3) := dk_167 255 226 (dk_at dksX1_copy_2 15 rfl rfl)
theorem dX1_copy_64 : decode cX1_copy 64 = .ok (.iload 4, 2) := dk_21 4 (dk_at dksX1_copy_2 18 rfl rfl)
theorem dX1_copy_66 : decode cX1_copy 66 = .ok (.ireturn, 1) := dk_172 (dk_at dksX1_copy_2 20 rfl rfl)
abbrev cX1_image : ByteArray := prog_1_method_86_code
def yX1_image : MethodName := ⟨RX1, "image", "(I)V"⟩
def dkwX1_image_1 : List UInt8 := [180, 0, 44, 27, 187, 0, 42, 89, 42, 183, 2, 31, 83, 42, 180, 0, 44, 27, 50, 182, 2, 32, 177]
abbrev dktX1_image_1 : List UInt8 := dkwX1_image_1 ++ []
def dkwX1_image_0 : List UInt8 := [27, 133, 9, 20, 1, 214, 184, 0, 106, 184, 0, 168, 42, 180, 0, 44, 27, 50, 199, 0, 17, 42]
abbrev dktX1_image_0 : List UInt8 := dkwX1_image_0 ++ dktX1_image_1
theorem dksX1_image_0 : cX1_image.data.toList.drop 0 = dktX1_image_0 := by decide +kernel
theorem dksX1_image_1 : cX1_image.data.toList.drop 22 = dktX1_image_1 := dk_seg dksX1_image_0 22 rfl rfl
theorem dX1_image_0 : decode cX1_image 0 = .ok (.iload_n 1, 1) := dk_27 (dk_at dksX1_image_0 0 rfl rfl)
theorem dX1_image_1 : decode cX1_image 1 = .ok (.i2l, 1) := dk_133 (dk_at dksX1_image_0 1 rfl rfl)
theorem dX1_image_2 : decode cX1_image 2 = .ok (.lconst 0, 1) := dk_9 (dk_at dksX1_image_0 2 rfl rfl)
theorem dX1_image_3 : decode cX1_image 3 = .ok (.ldc2_w 470, 3) := dk_20 1 214 (dk_at dksX1_image_0 3 rfl rfl)
theorem dX1_image_6 : decode cX1_image 6 = .ok (.invokestatic 106, 3) := dk_184 0 106 (dk_at dksX1_image_0 6 rfl rfl)
theorem dX1_image_9 : decode cX1_image 9 = .ok (.invokestatic 168, 3) := dk_184 0 168 (dk_at dksX1_image_0 9 rfl rfl)
theorem dX1_image_12 : decode cX1_image 12 = .ok (.aload_n 0, 1) := dk_42 (dk_at dksX1_image_0 12 rfl rfl)
theorem dX1_image_13 : decode cX1_image 13 = .ok (.getfield 44, 3) := dk_180 0 44 (dk_at dksX1_image_0 13 rfl rfl)
theorem dX1_image_16 : decode cX1_image 16 = .ok (.iload_n 1, 1) := dk_27 (dk_at dksX1_image_0 16 rfl rfl)
theorem dX1_image_17 : decode cX1_image 17 = .ok (.aaload, 1) := dk_50 (dk_at dksX1_image_0 17 rfl rfl)
theorem dX1_image_18 : decode cX1_image 18 = .ok (.ifnonnull 17, 3) := dk_199 0 17 (dk_at dksX1_image_0 18 rfl rfl)
theorem dX1_image_21 : decode cX1_image 21 = .ok (.aload_n 0, 1) := dk_42 (dk_at dksX1_image_0 21 rfl rfl)
theorem dX1_image_22 : decode cX1_image 22 = .ok (.getfield 44, 3) := dk_180 0 44 (dk_at dksX1_image_1 0 rfl rfl)
theorem dX1_image_25 : decode cX1_image 25 = .ok (.iload_n 1, 1) := dk_27 (dk_at dksX1_image_1 3 rfl rfl)
theorem dX1_image_26 : decode cX1_image 26 = .ok (.new 42, 3) := dk_187 0 42 (dk_at dksX1_image_1 4 rfl rfl)
theorem dX1_image_29 : decode cX1_image 29 = .ok (.dup, 1) := dk_89 (dk_at dksX1_image_1 7 rfl rfl)
theorem dX1_image_30 : decode cX1_image 30 = .ok (.aload_n 0, 1) := dk_42 (dk_at dksX1_image_1 8 rfl rfl)
theorem dX1_image_31 : decode cX1_image 31 = .ok (.invokespecial 543, 3) := dk_183 2 31 (dk_at dksX1_image_1 9 rfl rfl)
theorem dX1_image_34 : decode cX1_image 34 = .ok (.aastore, 1) := dk_83 (dk_at dksX1_image_1 12 rfl rfl)
theorem dX1_image_35 : decode cX1_image 35 = .ok (.aload_n 0, 1) := dk_42 (dk_at dksX1_image_1 13 rfl rfl)
theorem dX1_image_36 : decode cX1_image 36 = .ok (.getfield 44, 3) := dk_180 0 44 (dk_at dksX1_image_1 14 rfl rfl)
theorem dX1_image_39 : decode cX1_image 39 = .ok (.iload_n 1, 1) := dk_27 (dk_at dksX1_image_1 17 rfl rfl)
theorem dX1_image_40 : decode cX1_image 40 = .ok (.aaload, 1) := dk_50 (dk_at dksX1_image_1 18 rfl rfl)
theorem dX1_image_41 : decode cX1_image 41 = .ok (.invokevirtual 544, 3) := dk_182 2 32 (dk_at dksX1_image_1 19 rfl rfl)
theorem dX1_image_44 : decode cX1_image 44 = .ok (.return_, 1) := dk_177 (dk_at dksX1_image_1 22 rfl rfl)
abbrev cX1_copies : ByteArray := prog_1_method_7_code
def yX1_copies : MethodName := ⟨RX1, "copies", "(Ljava/util/ArrayList;Ljava/util/ArrayList;)V"⟩
def dkwX1_copies_2 : List UInt8 := [182, 0, 95, 87, 167, 255, 215, 177]
abbrev dktX1_copies_2 : List UInt8 := dkwX1_copies_2 ++ []
def dkwX1_copies_1 : List UInt8 := [192, 0, 16, 78, 187, 0, 16, 89, 183, 0, 18, 58, 4, 25, 4, 45, 182, 0, 91, 43, 25, 4]
abbrev dktX1_copies_1 : List UInt8 := dkwX1_copies_1 ++ dktX1_copies_2
def dkwX1_copies_0 : List UInt8 := [43, 182, 0, 74, 42, 182, 0, 77, 77, 44, 185, 0, 81, 1, 0, 153, 0, 38, 44, 185, 0, 87, 1, 0]
abbrev dktX1_copies_0 : List UInt8 := dkwX1_copies_0 ++ dktX1_copies_1
theorem dksX1_copies_0 : cX1_copies.data.toList.drop 0 = dktX1_copies_0 := by decide +kernel
theorem dksX1_copies_1 : cX1_copies.data.toList.drop 24 = dktX1_copies_1 := dk_seg dksX1_copies_0 24 rfl rfl
theorem dksX1_copies_2 : cX1_copies.data.toList.drop 46 = dktX1_copies_2 := dk_seg dksX1_copies_1 22 rfl rfl
theorem dX1_copies_0 : decode cX1_copies 0 = .ok (.aload_n 1, 1) := dk_43 (dk_at dksX1_copies_0 0 rfl rfl)
theorem dX1_copies_1 : decode cX1_copies 1 = .ok (.invokevirtual 74, 3) := dk_182 0 74 (dk_at dksX1_copies_0 1 rfl rfl)
theorem dX1_copies_4 : decode cX1_copies 4 = .ok (.aload_n 0, 1) := dk_42 (dk_at dksX1_copies_0 4 rfl rfl)
theorem dX1_copies_5 : decode cX1_copies 5 = .ok (.invokevirtual 77, 3) := dk_182 0 77 (dk_at dksX1_copies_0 5 rfl rfl)
theorem dX1_copies_8 : decode cX1_copies 8 = .ok (.astore_n 2, 1) := dk_77 (dk_at dksX1_copies_0 8 rfl rfl)
theorem dX1_copies_9 : decode cX1_copies 9 = .ok (.aload_n 2, 1) := dk_44 (dk_at dksX1_copies_0 9 rfl rfl)
theorem dX1_copies_10 : decode cX1_copies 10 = .ok (.invokeinterface 81 1, 5) := by decide +kernel
theorem dX1_copies_15 : decode cX1_copies 15 = .ok (.ifCond .eq 38, 3) := dk_153 0 38 (dk_at dksX1_copies_0 15 rfl rfl)
theorem dX1_copies_18 : decode cX1_copies 18 = .ok (.aload_n 2, 1) := dk_44 (dk_at dksX1_copies_0 18 rfl rfl)
theorem dX1_copies_19 : decode cX1_copies 19 = .ok (.invokeinterface 87 1, 5) := by decide +kernel
theorem dX1_copies_24 : decode cX1_copies 24 = .ok (.checkcast 16, 3) := dk_192 0 16 (dk_at dksX1_copies_1 0 rfl rfl)
theorem dX1_copies_27 : decode cX1_copies 27 = .ok (.astore_n 3, 1) := dk_78 (dk_at dksX1_copies_1 3 rfl rfl)
theorem dX1_copies_28 : decode cX1_copies 28 = .ok (.new 16, 3) := dk_187 0 16 (dk_at dksX1_copies_1 4 rfl rfl)
theorem dX1_copies_31 : decode cX1_copies 31 = .ok (.dup, 1) := dk_89 (dk_at dksX1_copies_1 7 rfl rfl)
theorem dX1_copies_32 : decode cX1_copies 32 = .ok (.invokespecial 18, 3) := dk_183 0 18 (dk_at dksX1_copies_1 8 rfl rfl)
theorem dX1_copies_35 : decode cX1_copies 35 = .ok (.astore 4, 2) := dk_58 4 (dk_at dksX1_copies_1 11 rfl rfl)
theorem dX1_copies_37 : decode cX1_copies 37 = .ok (.aload 4, 2) := dk_25 4 (dk_at dksX1_copies_1 13 rfl rfl)
theorem dX1_copies_39 : decode cX1_copies 39 = .ok (.aload_n 3, 1) := dk_45 (dk_at dksX1_copies_1 15 rfl rfl)
theorem dX1_copies_40 : decode cX1_copies 40 = .ok (.invokevirtual 91, 3) := dk_182 0 91 (dk_at dksX1_copies_1 16 rfl rfl)
theorem dX1_copies_43 : decode cX1_copies 43 = .ok (.aload_n 1, 1) := dk_43 (dk_at dksX1_copies_1 19 rfl rfl)
theorem dX1_copies_44 : decode cX1_copies 44 = .ok (.aload 4, 2) := dk_25 4 (dk_at dksX1_copies_1 20 rfl rfl)
theorem dX1_copies_46 : decode cX1_copies 46 = .ok (.invokevirtual 95, 3) := dk_182 0 95 (dk_at dksX1_copies_2 0 rfl rfl)
theorem dX1_copies_49 : decode cX1_copies 49 = .ok (.pop, 1) := dk_87 (dk_at dksX1_copies_2 3 rfl rfl)
theorem dX1_copies_50 : decode cX1_copies 50 = .ok (.goto (-41), 3) := dk_167 255 215 (dk_at dksX1_copies_2 4 rfl rfl)
theorem dX1_copies_53 : decode cX1_copies 53 = .ok (.return_, 1) := dk_177 (dk_at dksX1_copies_2 7 rfl rfl)
abbrev cX1_restore : ByteArray := prog_1_method_87_code
def yX1_restore : MethodName := ⟨RX1, "restore", "(I)V"⟩
def dkwX1_restore_1 : List UInt8 := [167, 0, 4, 3, 184, 1, 47, 42, 180, 0, 44, 27, 50, 182, 2, 35, 177]
abbrev dktX1_restore_1 : List UInt8 := dkwX1_restore_1 ++ []
def dkwX1_restore_0 : List UInt8 := [27, 133, 9, 20, 1, 214, 184, 0, 106, 184, 0, 168, 42, 180, 0, 44, 27, 50, 198, 0, 7, 4]
abbrev dktX1_restore_0 : List UInt8 := dkwX1_restore_0 ++ dktX1_restore_1
theorem dksX1_restore_0 : cX1_restore.data.toList.drop 0 = dktX1_restore_0 := by decide +kernel
theorem dksX1_restore_1 : cX1_restore.data.toList.drop 22 = dktX1_restore_1 := dk_seg dksX1_restore_0 22 rfl rfl
theorem dX1_restore_0 : decode cX1_restore 0 = .ok (.iload_n 1, 1) := dk_27 (dk_at dksX1_restore_0 0 rfl rfl)
theorem dX1_restore_1 : decode cX1_restore 1 = .ok (.i2l, 1) := dk_133 (dk_at dksX1_restore_0 1 rfl rfl)
theorem dX1_restore_2 : decode cX1_restore 2 = .ok (.lconst 0, 1) := dk_9 (dk_at dksX1_restore_0 2 rfl rfl)
theorem dX1_restore_3 : decode cX1_restore 3 = .ok (.ldc2_w 470, 3) := dk_20 1 214 (dk_at dksX1_restore_0 3 rfl rfl)
theorem dX1_restore_6 : decode cX1_restore 6 = .ok (.invokestatic 106, 3) := dk_184 0 106 (dk_at dksX1_restore_0 6 rfl rfl)
theorem dX1_restore_9 : decode cX1_restore 9 = .ok (.invokestatic 168, 3) := dk_184 0 168 (dk_at dksX1_restore_0 9 rfl rfl)
theorem dX1_restore_12 : decode cX1_restore 12 = .ok (.aload_n 0, 1) := dk_42 (dk_at dksX1_restore_0 12 rfl rfl)
theorem dX1_restore_13 : decode cX1_restore 13 = .ok (.getfield 44, 3) := dk_180 0 44 (dk_at dksX1_restore_0 13 rfl rfl)
theorem dX1_restore_16 : decode cX1_restore 16 = .ok (.iload_n 1, 1) := dk_27 (dk_at dksX1_restore_0 16 rfl rfl)
theorem dX1_restore_17 : decode cX1_restore 17 = .ok (.aaload, 1) := dk_50 (dk_at dksX1_restore_0 17 rfl rfl)
theorem dX1_restore_18 : decode cX1_restore 18 = .ok (.ifnull 7, 3) := dk_198 0 7 (dk_at dksX1_restore_0 18 rfl rfl)
theorem dX1_restore_21 : decode cX1_restore 21 = .ok (.iconst 1, 1) := dk_4 (dk_at dksX1_restore_0 21 rfl rfl)
theorem dX1_restore_22 : decode cX1_restore 22 = .ok (.goto 4, 3) := dk_167 0 4 (dk_at dksX1_restore_1 0 rfl rfl)
theorem dX1_restore_25 : decode cX1_restore 25 = .ok (.iconst 0, 1) := dk_3 (dk_at dksX1_restore_1 3 rfl rfl)
theorem dX1_restore_26 : decode cX1_restore 26 = .ok (.invokestatic 303, 3) := dk_184 1 47 (dk_at dksX1_restore_1 4 rfl rfl)
theorem dX1_restore_29 : decode cX1_restore 29 = .ok (.aload_n 0, 1) := dk_42 (dk_at dksX1_restore_1 7 rfl rfl)
theorem dX1_restore_30 : decode cX1_restore 30 = .ok (.getfield 44, 3) := dk_180 0 44 (dk_at dksX1_restore_1 8 rfl rfl)
theorem dX1_restore_33 : decode cX1_restore 33 = .ok (.iload_n 1, 1) := dk_27 (dk_at dksX1_restore_1 11 rfl rfl)
theorem dX1_restore_34 : decode cX1_restore 34 = .ok (.aaload, 1) := dk_50 (dk_at dksX1_restore_1 12 rfl rfl)
theorem dX1_restore_35 : decode cX1_restore 35 = .ok (.invokevirtual 547, 3) := dk_182 2 35 (dk_at dksX1_restore_1 13 rfl rfl)
theorem dX1_restore_38 : decode cX1_restore 38 = .ok (.return_, 1) := dk_177 (dk_at dksX1_restore_1 16 rfl rfl)
theorem q149 : (Jvm.Cond.initialized "NapkinDeeds") ∈ lw_all := lw_g (lw_at lw_m1 1 rfl) rfl
theorem q220 : (Jvm.Cond.instantiable "NapkinDeeds" (13 : Nat)) ∈ lw_all := lw_g (lw_at lw_m1 72 rfl) rfl
theorem q222 : (Jvm.Cond.instanceMethod ({ cls := "NapkinDeeds", name := "<init>", desc := "()V" } : Jvm.MethodName)) ∈ lw_all := lw_g (lw_at lw_m1 74 rfl) rfl
theorem q223 : (Jvm.Cond.code ({ cls := "NapkinDeeds", name := "<init>", desc := "()V" } : Jvm.MethodName) prog_1_method_5_code (1 : Nat) (Option.none : Option Jvm.ClassFile.FieldType)) ∈ lw_all := lw_g (lw_at lw_m1 75 rfl) rfl
theorem q224 : (Jvm.Cond.methodLink "NapkinDeeds" (13 : Nat) ({ cls := "java/lang/Object", name := "<init>", desc := "()V" } : Jvm.MethodName)) ∈ lw_all := lw_g (lw_at lw_m1 76 rfl) rfl
theorem q227 : (Jvm.Cond.classLink "NapkinDeeds" (16 : Nat) "NapkinDeeds$State") ∈ lw_all := lw_g (lw_at lw_m1 79 rfl) rfl
theorem q229 : (Jvm.Cond.methodLinkNest "NapkinDeeds" (18 : Nat) ({ cls := "NapkinDeeds$State", name := "<init>", desc := "()V" } : Jvm.MethodName) "NapkinDeeds") ∈ lw_tbl := lw_at lw_m1 81 rfl
theorem q275 : (Jvm.Cond.fieldLinkNest "NapkinDeeds" (151 : Nat) "NapkinDeeds$Napkin" "guests" "Ljava/util/ArrayList;" "NapkinDeeds") ∈ lw_tbl := lw_at lw_m1 127 rfl
theorem q277 : (Jvm.Cond.fieldLinkNest "NapkinDeeds" (134 : Nat) "NapkinDeeds$Napkin" "lines" "I" "NapkinDeeds") ∈ lw_tbl := lw_at lw_m1 129 rfl
theorem q280 : (Jvm.Cond.fieldLinkNest "NapkinDeeds" (239 : Nat) "NapkinDeeds$Napkin" "worth" "LNapkinDeeds$Sum;" "NapkinDeeds") ∈ lw_tbl := lw_at lw_m1 132 rfl
theorem q282 : (Jvm.Cond.fieldLinkNest "NapkinDeeds" (262 : Nat) "NapkinDeeds$Napkin" "likes" "LNapkinDeeds$Sum;" "NapkinDeeds") ∈ lw_tbl := lw_at lw_m1 134 rfl
theorem q284 : (Jvm.Cond.fieldLinkNest "NapkinDeeds" (253 : Nat) "NapkinDeeds$Napkin" "holds" "LNapkinDeeds$Truth;" "NapkinDeeds") ∈ lw_tbl := lw_at lw_m1 136 rfl
theorem q301 : (Jvm.Cond.fieldLinkNest "NapkinDeeds" (130 : Nat) "NapkinDeeds$State" "napkin" "LNapkinDeeds$Napkin;" "NapkinDeeds") ∈ lw_tbl := lw_at lw_m1 153 rfl
theorem q303 : (Jvm.Cond.fieldLinkNest "NapkinDeeds" (175 : Nat) "NapkinDeeds$State" "fronts" "[I" "NapkinDeeds") ∈ lw_tbl := lw_at lw_m1 155 rfl
theorem q305 : (Jvm.Cond.fieldLinkNest "NapkinDeeds" (179 : Nat) "NapkinDeeds$State" "backs" "[I" "NapkinDeeds") ∈ lw_tbl := lw_at lw_m1 157 rfl
theorem q307 : (Jvm.Cond.fieldLinkNest "NapkinDeeds" (221 : Nat) "NapkinDeeds$State" "folds" "[I" "NapkinDeeds") ∈ lw_tbl := lw_at lw_m1 159 rfl
theorem q310 : (Jvm.Cond.fieldLinkNest "NapkinDeeds" (218 : Nat) "NapkinDeeds$State" "many" "I" "NapkinDeeds") ∈ lw_tbl := lw_at lw_m1 162 rfl
theorem q323 : (Jvm.Cond.classLink "NapkinDeeds" (28 : Nat) "NapkinDeeds$Look") ∈ lw_all := lw_g (lw_at lw_m1 175 rfl) rfl
theorem q326 : (Jvm.Cond.methodLinkNest "NapkinDeeds" (30 : Nat) ({ cls := "NapkinDeeds$Look", name := "<init>", desc := "()V" } : Jvm.MethodName) "NapkinDeeds") ∈ lw_tbl := lw_at lw_m1 178 rfl
theorem q335 : (Jvm.Cond.fieldLinkNest "NapkinDeeds" (201 : Nat) "NapkinDeeds$Look" "columns" "[[I" "NapkinDeeds") ∈ lw_tbl := lw_at lw_m1 187 rfl
theorem q338 : (Jvm.Cond.fieldLinkNest "NapkinDeeds" (198 : Nat) "NapkinDeeds$Look" "high" "[I" "NapkinDeeds") ∈ lw_tbl := lw_at lw_m1 190 rfl
theorem q344 : (Jvm.Cond.fieldLinkNest "NapkinDeeds" (165 : Nat) "NapkinDeeds$Look" "wide" "I" "NapkinDeeds") ∈ lw_tbl := lw_at lw_m1 196 rfl
theorem q352 : (Jvm.Cond.classLink "NapkinDeeds" (35 : Nat) "java/util/ArrayList") ∈ lw_all := lw_g (lw_at lw_m1 204 rfl) rfl
theorem q353 : (Jvm.Cond.methodLink "NapkinDeeds" (37 : Nat) ({ cls := "java/util/ArrayList", name := "<init>", desc := "()V" } : Jvm.MethodName)) ∈ lw_all := lw_g (lw_at lw_m1 205 rfl) rfl
theorem q354 : (Jvm.Cond.classLink "NapkinDeeds" (42 : Nat) "NapkinDeeds$Image") ∈ lw_all := lw_g (lw_at lw_m1 206 rfl) rfl
theorem q356 : (Jvm.Cond.classLink "NapkinDeeds" (56 : Nat) "NapkinDeeds$Case") ∈ lw_all := lw_g (lw_at lw_m1 208 rfl) rfl
theorem q358 : (Jvm.Cond.methodLinkNest "NapkinDeeds" (58 : Nat) ({ cls := "NapkinDeeds$Case", name := "<init>", desc := "()V" } : Jvm.MethodName) "NapkinDeeds") ∈ lw_tbl := lw_at lw_m1 210 rfl
theorem q364 : (Jvm.Cond.fieldLinkNest "NapkinDeeds" (224 : Nat) "NapkinDeeds$Case" "tells" "[I" "NapkinDeeds") ∈ lw_tbl := lw_at lw_m1 216 rfl
theorem q369 : (Jvm.Cond.classLink "NapkinDeeds" (63 : Nat) "NapkinDeeds$Tray") ∈ lw_all := lw_g (lw_at lw_m1 221 rfl) rfl
theorem q372 : (Jvm.Cond.methodLinkNest "NapkinDeeds" (65 : Nat) ({ cls := "NapkinDeeds$Tray", name := "<init>", desc := "()V" } : Jvm.MethodName) "NapkinDeeds") ∈ lw_tbl := lw_at lw_m1 224 rfl
theorem q377 : (Jvm.Cond.fieldLinkNest "NapkinDeeds" (314 : Nat) "NapkinDeeds$Tray" "row" "Ljava/lang/Object;" "NapkinDeeds") ∈ lw_tbl := lw_at lw_m1 229 rfl
theorem q384 : (Jvm.Cond.fieldLink "NapkinDeeds" (19 : Nat) "NapkinDeeds" "state" "LNapkinDeeds$State;") ∈ lw_all := lw_g (lw_at lw_m1 236 rfl) rfl
theorem q385 : (Jvm.Cond.fieldLink "NapkinDeeds" (25 : Nat) "NapkinDeeds" "tried" "LNapkinDeeds$State;") ∈ lw_all := lw_g (lw_at lw_m1 237 rfl) rfl
theorem q387 : (Jvm.Cond.fieldLink "NapkinDeeds" (31 : Nat) "NapkinDeeds" "looks" "[LNapkinDeeds$Look;") ∈ lw_all := lw_g (lw_at lw_m1 239 rfl) rfl
theorem q389 : (Jvm.Cond.fieldLink "NapkinDeeds" (38 : Nat) "NapkinDeeds" "deeds" "Ljava/util/ArrayList;") ∈ lw_all := lw_g (lw_at lw_m2 1 rfl) rfl
theorem q390 : (Jvm.Cond.fieldLink "NapkinDeeds" (44 : Nat) "NapkinDeeds" "images" "[LNapkinDeeds$Image;") ∈ lw_all := lw_g (lw_at lw_m2 2 rfl) rfl
theorem q391 : (Jvm.Cond.fieldLink "NapkinDeeds" (48 : Nat) "NapkinDeeds" "tape" "[B") ∈ lw_all := lw_g (lw_at lw_m2 3 rfl) rfl
theorem q392 : (Jvm.Cond.fieldLink "NapkinDeeds" (99 : Nat) "NapkinDeeds" "taped" "I") ∈ lw_all := lw_g (lw_at lw_m2 4 rfl) rfl
theorem q393 : (Jvm.Cond.fieldLink "NapkinDeeds" (114 : Nat) "NapkinDeeds" "faultKind" "I") ∈ lw_all := lw_g (lw_at lw_m2 5 rfl) rfl
theorem q394 : (Jvm.Cond.fieldLink "NapkinDeeds" (52 : Nat) "NapkinDeeds" "faultAt" "I") ∈ lw_all := lw_g (lw_at lw_m2 6 rfl) rfl
theorem q395 : (Jvm.Cond.fieldLink "NapkinDeeds" (59 : Nat) "NapkinDeeds" "asked" "LNapkinDeeds$Case;") ∈ lw_all := lw_g (lw_at lw_m2 7 rfl) rfl
theorem q396 : (Jvm.Cond.fieldLink "NapkinDeeds" (66 : Nat) "NapkinDeeds" "trays" "[LNapkinDeeds$Tray;") ∈ lw_all := lw_g (lw_at lw_m2 8 rfl) rfl
theorem q397 : (Jvm.Cond.fieldLink "NapkinDeeds" (353 : Nat) "NapkinDeeds" "x" "I") ∈ lw_all := lw_g (lw_at lw_m2 9 rfl) rfl
theorem q399 : (Jvm.Cond.fieldLink "NapkinDeeds" (70 : Nat) "NapkinDeeds" "codes" "[J") ∈ lw_all := lw_g (lw_at lw_m2 11 rfl) rfl
theorem q400 : (Jvm.Cond.laysFinal "NapkinDeeds" "NapkinDeeds" "state" "LNapkinDeeds$State;") ∈ lw_all := lw_g (lw_at lw_m2 12 rfl) rfl
theorem q401 : (Jvm.Cond.soleField "NapkinDeeds" "state") ∈ lw_all := lw_g (lw_at lw_m2 13 rfl) rfl
theorem q402 : (Jvm.Cond.laysFinal "NapkinDeeds" "NapkinDeeds" "tried" "LNapkinDeeds$State;") ∈ lw_all := lw_g (lw_at lw_m2 14 rfl) rfl
theorem q403 : (Jvm.Cond.soleField "NapkinDeeds" "tried") ∈ lw_all := lw_g (lw_at lw_m2 15 rfl) rfl
theorem q404 : (Jvm.Cond.laysFinal "NapkinDeeds" "NapkinDeeds" "looks" "[LNapkinDeeds$Look;") ∈ lw_all := lw_g (lw_at lw_m2 16 rfl) rfl
theorem q405 : (Jvm.Cond.soleField "NapkinDeeds" "looks") ∈ lw_all := lw_g (lw_at lw_m2 17 rfl) rfl
theorem q406 : (Jvm.Cond.laysFinal "NapkinDeeds" "NapkinDeeds" "deeds" "Ljava/util/ArrayList;") ∈ lw_all := lw_g (lw_at lw_m2 18 rfl) rfl
theorem q407 : (Jvm.Cond.soleField "NapkinDeeds" "deeds") ∈ lw_all := lw_g (lw_at lw_m2 19 rfl) rfl
theorem q408 : (Jvm.Cond.laysFinal "NapkinDeeds" "NapkinDeeds" "images" "[LNapkinDeeds$Image;") ∈ lw_all := lw_g (lw_at lw_m2 20 rfl) rfl
theorem q409 : (Jvm.Cond.soleField "NapkinDeeds" "images") ∈ lw_all := lw_g (lw_at lw_m2 21 rfl) rfl
theorem q410 : (Jvm.Cond.laysFinal "NapkinDeeds" "NapkinDeeds" "tape" "[B") ∈ lw_all := lw_g (lw_at lw_m2 22 rfl) rfl
theorem q411 : (Jvm.Cond.soleField "NapkinDeeds" "tape") ∈ lw_all := lw_g (lw_at lw_m2 23 rfl) rfl
theorem q412 : (Jvm.Cond.lays "NapkinDeeds" "NapkinDeeds" "taped" "I") ∈ lw_all := lw_g (lw_at lw_m2 24 rfl) rfl
theorem q413 : (Jvm.Cond.soleField "NapkinDeeds" "taped") ∈ lw_all := lw_g (lw_at lw_m2 25 rfl) rfl
theorem q414 : (Jvm.Cond.lays "NapkinDeeds" "NapkinDeeds" "faultKind" "I") ∈ lw_all := lw_g (lw_at lw_m2 26 rfl) rfl
theorem q415 : (Jvm.Cond.soleField "NapkinDeeds" "faultKind") ∈ lw_all := lw_g (lw_at lw_m2 27 rfl) rfl
theorem q416 : (Jvm.Cond.lays "NapkinDeeds" "NapkinDeeds" "faultAt" "I") ∈ lw_all := lw_g (lw_at lw_m2 28 rfl) rfl
theorem q417 : (Jvm.Cond.soleField "NapkinDeeds" "faultAt") ∈ lw_all := lw_g (lw_at lw_m2 29 rfl) rfl
theorem q418 : (Jvm.Cond.laysFinal "NapkinDeeds" "NapkinDeeds" "asked" "LNapkinDeeds$Case;") ∈ lw_all := lw_g (lw_at lw_m2 30 rfl) rfl
theorem q419 : (Jvm.Cond.soleField "NapkinDeeds" "asked") ∈ lw_all := lw_g (lw_at lw_m2 31 rfl) rfl
theorem q420 : (Jvm.Cond.laysFinal "NapkinDeeds" "NapkinDeeds" "trays" "[LNapkinDeeds$Tray;") ∈ lw_all := lw_g (lw_at lw_m2 32 rfl) rfl
theorem q421 : (Jvm.Cond.soleField "NapkinDeeds" "trays") ∈ lw_all := lw_g (lw_at lw_m2 33 rfl) rfl
theorem q422 : (Jvm.Cond.lays "NapkinDeeds" "NapkinDeeds" "x" "I") ∈ lw_all := lw_g (lw_at lw_m2 34 rfl) rfl
theorem q423 : (Jvm.Cond.soleField "NapkinDeeds" "x") ∈ lw_all := lw_g (lw_at lw_m2 35 rfl) rfl
theorem q424 : (Jvm.Cond.laysFinal "NapkinDeeds" "NapkinDeeds" "codes" "[J") ∈ lw_all := lw_g (lw_at lw_m2 36 rfl) rfl
theorem q425 : (Jvm.Cond.soleField "NapkinDeeds" "codes") ∈ lw_all := lw_g (lw_at lw_m2 37 rfl) rfl
theorem q426 : (Jvm.Cond.superclass "NapkinDeeds" "java/lang/Object") ∈ lw_all := lw_g (lw_at lw_m2 38 rfl) rfl
theorem q429 : (Jvm.Cond.instanceMethod ({ cls := "NapkinDeeds", name := "feed", desc := "(IIIII)I" } : Jvm.MethodName)) ∈ lw_all := lw_g (lw_at lw_m2 41 rfl) rfl
theorem q430 : (Jvm.Cond.selects "NapkinDeeds" ({ cls := "NapkinDeeds", name := "feed", desc := "(IIIII)I" } : Jvm.MethodName) ({ cls := "NapkinDeeds", name := "feed", desc := "(IIIII)I" } : Jvm.MethodName)) ∈ lw_all := lw_g (lw_at lw_m2 42 rfl) rfl
theorem q431 : (Jvm.Cond.code ({ cls := "NapkinDeeds", name := "feed", desc := "(IIIII)I" } : Jvm.MethodName) prog_1_method_8_code (6 : Nat) (Option.some Jvm.ClassFile.FieldType.int)) ∈ lw_all := lw_g (lw_at lw_m2 43 rfl) rfl
theorem q432 : (Jvm.Cond.methodLink "NapkinDeeds" (102 : Nat) ({ cls := "NapkinDeeds", name := "four", desc := "(I)V" } : Jvm.MethodName)) ∈ lw_all := lw_g (lw_at lw_m2 44 rfl) rfl
theorem q433 : (Jvm.Cond.privateMethod ({ cls := "NapkinDeeds", name := "four", desc := "(I)V" } : Jvm.MethodName)) ∈ lw_tbl := lw_at lw_m2 45 rfl
theorem q434 : (Jvm.Cond.instanceMethod ({ cls := "NapkinDeeds", name := "four", desc := "(I)V" } : Jvm.MethodName)) ∈ lw_all := lw_g (lw_at lw_m2 46 rfl) rfl
theorem q435 : (Jvm.Cond.code ({ cls := "NapkinDeeds", name := "four", desc := "(I)V" } : Jvm.MethodName) prog_1_method_9_code (3 : Nat) (Option.none : Option Jvm.ClassFile.FieldType)) ∈ lw_all := lw_g (lw_at lw_m2 47 rfl) rfl
theorem q437 : (Jvm.Cond.instanceMethod ({ cls := "NapkinDeeds", name := "fault", desc := "(I)I" } : Jvm.MethodName)) ∈ lw_all := lw_g (lw_at lw_m2 49 rfl) rfl
theorem q438 : (Jvm.Cond.selects "NapkinDeeds" ({ cls := "NapkinDeeds", name := "fault", desc := "(I)I" } : Jvm.MethodName) ({ cls := "NapkinDeeds", name := "fault", desc := "(I)I" } : Jvm.MethodName)) ∈ lw_all := lw_g (lw_at lw_m2 50 rfl) rfl
theorem q439 : (Jvm.Cond.code ({ cls := "NapkinDeeds", name := "fault", desc := "(I)I" } : Jvm.MethodName) prog_1_method_11_code (2 : Nat) (Option.some Jvm.ClassFile.FieldType.int)) ∈ lw_all := lw_g (lw_at lw_m2 51 rfl) rfl
theorem q441 : (Jvm.Cond.instanceMethod ({ cls := "NapkinDeeds", name := "worth", desc := "()I" } : Jvm.MethodName)) ∈ lw_all := lw_g (lw_at lw_m2 53 rfl) rfl
theorem q442 : (Jvm.Cond.selects "NapkinDeeds" ({ cls := "NapkinDeeds", name := "worth", desc := "()I" } : Jvm.MethodName) ({ cls := "NapkinDeeds", name := "worth", desc := "()I" } : Jvm.MethodName)) ∈ lw_all := lw_g (lw_at lw_m2 54 rfl) rfl
theorem q443 : (Jvm.Cond.code ({ cls := "NapkinDeeds", name := "worth", desc := "()I" } : Jvm.MethodName) prog_1_method_29_code (1 : Nat) (Option.some Jvm.ClassFile.FieldType.int)) ∈ lw_all := lw_g (lw_at lw_m2 55 rfl) rfl
theorem q444 : (Jvm.Cond.methodLink "NapkinDeeds" (161 : Nat) ({ cls := "NapkinDeeds", name := "now", desc := "()LNapkinDeeds$Look;" } : Jvm.MethodName)) ∈ lw_all := lw_g (lw_at lw_m2 56 rfl) rfl
theorem q445 : (Jvm.Cond.privateMethod ({ cls := "NapkinDeeds", name := "now", desc := "()LNapkinDeeds$Look;" } : Jvm.MethodName)) ∈ lw_tbl := lw_at lw_m2 57 rfl
theorem q446 : (Jvm.Cond.instanceMethod ({ cls := "NapkinDeeds", name := "now", desc := "()LNapkinDeeds$Look;" } : Jvm.MethodName)) ∈ lw_all := lw_g (lw_at lw_m2 58 rfl) rfl
theorem q447 : (Jvm.Cond.code ({ cls := "NapkinDeeds", name := "now", desc := "()LNapkinDeeds$Look;" } : Jvm.MethodName) prog_1_method_14_code (1 : Nat) (Option.some (Jvm.ClassFile.FieldType.object "NapkinDeeds$Look"))) ∈ lw_all := lw_g (lw_at lw_m2 59 rfl) rfl
theorem q448 : (Jvm.Cond.methodLink "NapkinDeeds" (157 : Nat) ({ cls := "NapkinDeeds$State", name := "lies", desc := "(LNapkinDeeds$Look;LNapkinDeeds$Look;)LNapkinDeeds$Look;" } : Jvm.MethodName)) ∈ lw_all := lw_g (lw_at lw_m2 60 rfl) rfl
theorem q479 : (Jvm.Cond.methodLink "NapkinDeeds" (274 : Nat) ({ cls := "NapkinDeeds", name := "worth", desc := "(LNapkinDeeds$Look;I)I" } : Jvm.MethodName)) ∈ lw_all := lw_g (lw_at lw_m2 91 rfl) rfl
theorem q480 : (Jvm.Cond.privateMethod ({ cls := "NapkinDeeds", name := "worth", desc := "(LNapkinDeeds$Look;I)I" } : Jvm.MethodName)) ∈ lw_tbl := lw_at lw_m2 92 rfl
theorem q481 : (Jvm.Cond.instanceMethod ({ cls := "NapkinDeeds", name := "worth", desc := "(LNapkinDeeds$Look;I)I" } : Jvm.MethodName)) ∈ lw_all := lw_g (lw_at lw_m2 93 rfl) rfl
theorem q482 : (Jvm.Cond.code ({ cls := "NapkinDeeds", name := "worth", desc := "(LNapkinDeeds$Look;I)I" } : Jvm.MethodName) prog_1_method_26_code (3 : Nat) (Option.some Jvm.ClassFile.FieldType.int)) ∈ lw_all := lw_g (lw_at lw_m2 94 rfl) rfl
theorem q483 : (Jvm.Cond.methodLink "NapkinDeeds" (243 : Nat) ({ cls := "NapkinDeeds", name := "asks", desc := "(LNapkinDeeds$Look;I)LNapkinDeeds$Case;" } : Jvm.MethodName)) ∈ lw_all := lw_g (lw_at lw_m2 95 rfl) rfl
theorem q484 : (Jvm.Cond.privateMethod ({ cls := "NapkinDeeds", name := "asks", desc := "(LNapkinDeeds$Look;I)LNapkinDeeds$Case;" } : Jvm.MethodName)) ∈ lw_tbl := lw_at lw_m2 96 rfl
theorem q485 : (Jvm.Cond.instanceMethod ({ cls := "NapkinDeeds", name := "asks", desc := "(LNapkinDeeds$Look;I)LNapkinDeeds$Case;" } : Jvm.MethodName)) ∈ lw_all := lw_g (lw_at lw_m2 97 rfl) rfl
theorem q486 : (Jvm.Cond.code ({ cls := "NapkinDeeds", name := "asks", desc := "(LNapkinDeeds$Look;I)LNapkinDeeds$Case;" } : Jvm.MethodName) prog_1_method_25_code (4 : Nat) (Option.some (Jvm.ClassFile.FieldType.object "NapkinDeeds$Case"))) ∈ lw_all := lw_g (lw_at lw_m2 98 rfl) rfl
theorem q487 : (Jvm.Cond.methodLink "NapkinDeeds" (227 : Nat) ({ cls := "NapkinDeeds$Look", name := "greatest", desc := "()I" } : Jvm.MethodName)) ∈ lw_all := lw_g (lw_at lw_m2 99 rfl) rfl
theorem q491 : (Jvm.Cond.methodLink "NapkinDeeds" (230 : Nat) ({ cls := "NapkinDeeds", name := "top", desc := "(LNapkinDeeds$Look;)I" } : Jvm.MethodName)) ∈ lw_all := lw_g (lw_at lw_m2 103 rfl) rfl
theorem q492 : (Jvm.Cond.privateMethod ({ cls := "NapkinDeeds", name := "top", desc := "(LNapkinDeeds$Look;)I" } : Jvm.MethodName)) ∈ lw_tbl := lw_at lw_m2 104 rfl
theorem q493 : (Jvm.Cond.instanceMethod ({ cls := "NapkinDeeds", name := "top", desc := "(LNapkinDeeds$Look;)I" } : Jvm.MethodName)) ∈ lw_all := lw_g (lw_at lw_m2 105 rfl) rfl
theorem q494 : (Jvm.Cond.code ({ cls := "NapkinDeeds", name := "top", desc := "(LNapkinDeeds$Look;)I" } : Jvm.MethodName) prog_1_method_23_code (4 : Nat) (Option.some Jvm.ClassFile.FieldType.int)) ∈ lw_all := lw_g (lw_at lw_m2 106 rfl) rfl
theorem q495 : (Jvm.Cond.methodLink "NapkinDeeds" (205 : Nat) ({ cls := "NapkinDeeds$Look", name := "above", desc := "(I)I" } : Jvm.MethodName)) ∈ lw_all := lw_g (lw_at lw_m2 107 rfl) rfl
theorem q499 : (Jvm.Cond.methodLink "NapkinDeeds" (208 : Nat) ({ cls := "NapkinDeeds$State", name := "mark", desc := "(I)I" } : Jvm.MethodName)) ∈ lw_all := lw_g (lw_at lw_m2 111 rfl) rfl
theorem q503 : (Jvm.Cond.methodLink "NapkinDeeds" (234 : Nat) ({ cls := "NapkinDeeds", name := "under", desc := "(LNapkinDeeds$Look;)I" } : Jvm.MethodName)) ∈ lw_all := lw_g (lw_at lw_m2 115 rfl) rfl
theorem q504 : (Jvm.Cond.privateMethod ({ cls := "NapkinDeeds", name := "under", desc := "(LNapkinDeeds$Look;)I" } : Jvm.MethodName)) ∈ lw_tbl := lw_at lw_m2 116 rfl
theorem q505 : (Jvm.Cond.instanceMethod ({ cls := "NapkinDeeds", name := "under", desc := "(LNapkinDeeds$Look;)I" } : Jvm.MethodName)) ∈ lw_all := lw_g (lw_at lw_m2 117 rfl) rfl
theorem q506 : (Jvm.Cond.code ({ cls := "NapkinDeeds", name := "under", desc := "(LNapkinDeeds$Look;)I" } : Jvm.MethodName) prog_1_method_24_code (4 : Nat) (Option.some Jvm.ClassFile.FieldType.int)) ∈ lw_all := lw_g (lw_at lw_m2 118 rfl) rfl
theorem q507 : (Jvm.Cond.methodLink "NapkinDeeds" (211 : Nat) ({ cls := "NapkinDeeds$Look", name := "beneath", desc := "(I)I" } : Jvm.MethodName)) ∈ lw_all := lw_g (lw_at lw_m2 119 rfl) rfl
theorem q511 : (Jvm.Cond.methodLink "NapkinDeeds" (237 : Nat) ({ cls := "NapkinDeeds$State", name := "all", desc := "()I" } : Jvm.MethodName)) ∈ lw_all := lw_g (lw_at lw_m2 123 rfl) rfl
theorem q515 : (Jvm.Cond.interfaceEntry "NapkinDeeds" (247 : Nat)) ∈ lw_tbl := lw_at lw_m2 127 rfl
theorem q516 : (Jvm.Cond.methodLink "NapkinDeeds" (247 : Nat) ({ cls := "NapkinDeeds$Sum", name := "of", desc := "(LNapkinDeeds$Case;)I" } : Jvm.MethodName)) ∈ lw_all := lw_g (lw_at lw_m2 128 rfl) rfl
theorem q574 : (Jvm.Cond.instanceMethod ({ cls := "NapkinDeeds", name := "holds", desc := "()Z" } : Jvm.MethodName)) ∈ lw_all := lw_g (lw_at lw_m2 186 rfl) rfl
theorem q575 : (Jvm.Cond.selects "NapkinDeeds" ({ cls := "NapkinDeeds", name := "holds", desc := "()Z" } : Jvm.MethodName) ({ cls := "NapkinDeeds", name := "holds", desc := "()Z" } : Jvm.MethodName)) ∈ lw_all := lw_g (lw_at lw_m2 187 rfl) rfl
theorem q576 : (Jvm.Cond.code ({ cls := "NapkinDeeds", name := "holds", desc := "()Z" } : Jvm.MethodName) prog_1_method_30_code (1 : Nat) (Option.some Jvm.ClassFile.FieldType.boolean)) ∈ lw_all := lw_g (lw_at lw_m2 188 rfl) rfl
theorem q577 : (Jvm.Cond.methodLink "NapkinDeeds" (277 : Nat) ({ cls := "NapkinDeeds", name := "holds", desc := "(LNapkinDeeds$Look;I)Z" } : Jvm.MethodName)) ∈ lw_all := lw_g (lw_at lw_m2 189 rfl) rfl
theorem q578 : (Jvm.Cond.privateMethod ({ cls := "NapkinDeeds", name := "holds", desc := "(LNapkinDeeds$Look;I)Z" } : Jvm.MethodName)) ∈ lw_tbl := lw_at lw_m2 190 rfl
theorem q579 : (Jvm.Cond.instanceMethod ({ cls := "NapkinDeeds", name := "holds", desc := "(LNapkinDeeds$Look;I)Z" } : Jvm.MethodName)) ∈ lw_all := lw_g (lw_at lw_m2 191 rfl) rfl
theorem q580 : (Jvm.Cond.code ({ cls := "NapkinDeeds", name := "holds", desc := "(LNapkinDeeds$Look;I)Z" } : Jvm.MethodName) prog_1_method_27_code (3 : Nat) (Option.some Jvm.ClassFile.FieldType.boolean)) ∈ lw_all := lw_g (lw_at lw_m2 192 rfl) rfl
theorem q581 : (Jvm.Cond.interfaceEntry "NapkinDeeds" (257 : Nat)) ∈ lw_tbl := lw_at lw_m2 193 rfl
theorem q582 : (Jvm.Cond.methodLink "NapkinDeeds" (257 : Nat) ({ cls := "NapkinDeeds$Truth", name := "holds", desc := "(LNapkinDeeds$Case;)Z" } : Jvm.MethodName)) ∈ lw_all := lw_g (lw_at lw_m2 194 rfl) rfl
theorem q618 : (Jvm.Cond.instanceMethod ({ cls := "NapkinDeeds", name := "fold", desc := "(II)I" } : Jvm.MethodName)) ∈ lw_all := lw_g (lw_at lw_m2 230 rfl) rfl
theorem q619 : (Jvm.Cond.selects "NapkinDeeds" ({ cls := "NapkinDeeds", name := "fold", desc := "(II)I" } : Jvm.MethodName) ({ cls := "NapkinDeeds", name := "fold", desc := "(II)I" } : Jvm.MethodName)) ∈ lw_all := lw_g (lw_at lw_m2 231 rfl) rfl
theorem q620 : (Jvm.Cond.code ({ cls := "NapkinDeeds", name := "fold", desc := "(II)I" } : Jvm.MethodName) prog_1_method_34_code (4 : Nat) (Option.some Jvm.ClassFile.FieldType.int)) ∈ lw_all := lw_g (lw_at lw_m2 232 rfl) rfl
theorem q621 : (Jvm.Cond.methodLink "NapkinDeeds" (293 : Nat) ({ cls := "NapkinDeeds", name := "whyFold", desc := "(LNapkinDeeds$State;JJ)I" } : Jvm.MethodName)) ∈ lw_all := lw_g (lw_at lw_m2 233 rfl) rfl
theorem q622 : (Jvm.Cond.privateMethod ({ cls := "NapkinDeeds", name := "whyFold", desc := "(LNapkinDeeds$State;JJ)I" } : Jvm.MethodName)) ∈ lw_tbl := lw_at lw_m2 234 rfl
theorem q623 : (Jvm.Cond.instanceMethod ({ cls := "NapkinDeeds", name := "whyFold", desc := "(LNapkinDeeds$State;JJ)I" } : Jvm.MethodName)) ∈ lw_all := lw_g (lw_at lw_m2 235 rfl) rfl
theorem q624 : (Jvm.Cond.code ({ cls := "NapkinDeeds", name := "whyFold", desc := "(LNapkinDeeds$State;JJ)I" } : Jvm.MethodName) prog_1_method_33_code (6 : Nat) (Option.some Jvm.ClassFile.FieldType.int)) ∈ lw_all := lw_g (lw_at lw_m2 236 rfl) rfl
theorem q625 : (Jvm.Cond.methodLink "NapkinDeeds" (288 : Nat) ({ cls := "NapkinDeeds$Look", name := "isLine", desc := "(J)Z" } : Jvm.MethodName)) ∈ lw_all := lw_g (lw_at lw_m2 237 rfl) rfl
theorem q630 : (Jvm.Cond.static ({ cls := "NapkinDeeds", name := "isIn", desc := "(JJJ)Z" } : Jvm.MethodName)) ∈ lw_all := lw_g (lw_at lw_m3 2 rfl) rfl
theorem q631 : (Jvm.Cond.code ({ cls := "NapkinDeeds", name := "isIn", desc := "(JJJ)Z" } : Jvm.MethodName) prog_1_method_1_code (6 : Nat) (Option.some Jvm.ClassFile.FieldType.boolean)) ∈ lw_all := lw_g (lw_at lw_m3 3 rfl) rfl
theorem q632 : (Jvm.Cond.constantLong "NapkinDeeds" (291 : Nat) (3 : Int64)) ∈ lw_all := lw_g (lw_at lw_m3 4 rfl) rfl
theorem q633 : (Jvm.Cond.methodLink "NapkinDeeds" (106 : Nat) ({ cls := "NapkinDeeds", name := "isIn", desc := "(JJJ)Z" } : Jvm.MethodName)) ∈ lw_all := lw_g (lw_at lw_m3 5 rfl) rfl
theorem q634 : (Jvm.Cond.methodLink "NapkinDeeds" (297 : Nat) ({ cls := "NapkinDeeds", name := "notes", desc := "()V" } : Jvm.MethodName)) ∈ lw_all := lw_g (lw_at lw_m3 6 rfl) rfl
theorem q635 : (Jvm.Cond.privateMethod ({ cls := "NapkinDeeds", name := "notes", desc := "()V" } : Jvm.MethodName)) ∈ lw_tbl := lw_at lw_m3 7 rfl
theorem q636 : (Jvm.Cond.instanceMethod ({ cls := "NapkinDeeds", name := "notes", desc := "()V" } : Jvm.MethodName)) ∈ lw_all := lw_g (lw_at lw_m3 8 rfl) rfl
theorem q637 : (Jvm.Cond.code ({ cls := "NapkinDeeds", name := "notes", desc := "()V" } : Jvm.MethodName) prog_1_method_32_code (2 : Nat) (Option.none : Option Jvm.ClassFile.FieldType)) ∈ lw_all := lw_g (lw_at lw_m3 9 rfl) rfl
theorem q638 : (Jvm.Cond.methodLink "NapkinDeeds" (154 : Nat) ({ cls := "java/util/ArrayList", name := "size", desc := "()I" } : Jvm.MethodName)) ∈ lw_all := lw_g (lw_at lw_m3 10 rfl) rfl
theorem q639 : (Jvm.Cond.methodLink "NapkinDeeds" (285 : Nat) ({ cls := "java/util/ArrayList", name := "remove", desc := "(I)Ljava/lang/Object;" } : Jvm.MethodName)) ∈ lw_all := lw_g (lw_at lw_m3 11 rfl) rfl
theorem q656 : (Jvm.Cond.methodLink "NapkinDeeds" (91 : Nat) ({ cls := "NapkinDeeds$State", name := "become", desc := "(LNapkinDeeds$State;)V" } : Jvm.MethodName)) ∈ lw_all := lw_g (lw_at lw_m3 28 rfl) rfl
theorem q661 : (Jvm.Cond.methodLink "NapkinDeeds" (95 : Nat) ({ cls := "java/util/ArrayList", name := "add", desc := "(Ljava/lang/Object;)Z" } : Jvm.MethodName)) ∈ lw_all := lw_g (lw_at lw_m3 33 rfl) rfl
theorem q691 : (Jvm.Cond.selects "NapkinDeeds" ({ cls := "java/lang/Object", name := "getClass", desc := "()Ljava/lang/Class;" } : Jvm.MethodName) ({ cls := "java/lang/Object", name := "getClass", desc := "()Ljava/lang/Class;" } : Jvm.MethodName)) ∈ lw_all := lw_g (lw_at lw_m3 63 rfl) rfl
theorem q750 : (Jvm.Cond.methodLink "NapkinDeeds" (300 : Nat) ({ cls := "NapkinDeeds$State", name := "folds", desc := "(II)V" } : Jvm.MethodName)) ∈ lw_all := lw_g (lw_at lw_m3 122 rfl) rfl
theorem q755 : (Jvm.Cond.instanceMethod ({ cls := "NapkinDeeds", name := "step", desc := "()I" } : Jvm.MethodName)) ∈ lw_all := lw_g (lw_at lw_m3 127 rfl) rfl
theorem q756 : (Jvm.Cond.selects "NapkinDeeds" ({ cls := "NapkinDeeds", name := "step", desc := "()I" } : Jvm.MethodName) ({ cls := "NapkinDeeds", name := "step", desc := "()I" } : Jvm.MethodName)) ∈ lw_all := lw_g (lw_at lw_m3 128 rfl) rfl
theorem q757 : (Jvm.Cond.code ({ cls := "NapkinDeeds", name := "step", desc := "()I" } : Jvm.MethodName) prog_1_method_60_code (1 : Nat) (Option.some Jvm.ClassFile.FieldType.int)) ∈ lw_all := lw_g (lw_at lw_m3 129 rfl) rfl
theorem q758 : (Jvm.Cond.methodLink "NapkinDeeds" (414 : Nat) ({ cls := "NapkinDeeds", name := "bestOf", desc := "(I)LNapkinDeeds$Best;" } : Jvm.MethodName)) ∈ lw_all := lw_g (lw_at lw_m3 130 rfl) rfl
theorem q759 : (Jvm.Cond.privateMethod ({ cls := "NapkinDeeds", name := "bestOf", desc := "(I)LNapkinDeeds$Best;" } : Jvm.MethodName)) ∈ lw_tbl := lw_at lw_m3 131 rfl
theorem q760 : (Jvm.Cond.instanceMethod ({ cls := "NapkinDeeds", name := "bestOf", desc := "(I)LNapkinDeeds$Best;" } : Jvm.MethodName)) ∈ lw_all := lw_g (lw_at lw_m3 132 rfl) rfl
theorem q761 : (Jvm.Cond.code ({ cls := "NapkinDeeds", name := "bestOf", desc := "(I)LNapkinDeeds$Best;" } : Jvm.MethodName) prog_1_method_55_code (3 : Nat) (Option.some (Jvm.ClassFile.FieldType.object "NapkinDeeds$Best"))) ∈ lw_all := lw_g (lw_at lw_m3 133 rfl) rfl
theorem q762 : (Jvm.Cond.classLink "NapkinDeeds" (408 : Nat) "NapkinDeeds$5") ∈ lw_all := lw_g (lw_at lw_m3 134 rfl) rfl
theorem q764 : (Jvm.Cond.methodLink "NapkinDeeds" (410 : Nat) ({ cls := "NapkinDeeds$5", name := "<init>", desc := "(LNapkinDeeds;)V" } : Jvm.MethodName)) ∈ lw_all := lw_g (lw_at lw_m3 136 rfl) rfl
theorem q779 : (Jvm.Cond.fieldLinkNest "NapkinDeeds" (422 : Nat) "NapkinDeeds$Best" "fewest" "I" "NapkinDeeds") ∈ lw_tbl := lw_at lw_m3 151 rfl
theorem q781 : (Jvm.Cond.fieldLinkNest "NapkinDeeds" (418 : Nat) "NapkinDeeds$Best" "most" "J" "NapkinDeeds") ∈ lw_tbl := lw_at lw_m3 153 rfl
theorem q802 : (Jvm.Cond.methodLink "NapkinDeeds" (411 : Nat) ({ cls := "NapkinDeeds$Best", name := "seeks", desc := "(ZI)LNapkinDeeds$Rows;" } : Jvm.MethodName)) ∈ lw_all := lw_g (lw_at lw_m3 174 rfl) rfl
theorem q815 : (Jvm.Cond.privateMethod ({ cls := "NapkinDeeds", name := "cells", desc := "()I" } : Jvm.MethodName)) ∈ lw_tbl := lw_at lw_m3 187 rfl
theorem q816 : (Jvm.Cond.instanceMethod ({ cls := "NapkinDeeds", name := "cells", desc := "()I" } : Jvm.MethodName)) ∈ lw_all := lw_g (lw_at lw_m3 188 rfl) rfl
theorem q817 : (Jvm.Cond.code ({ cls := "NapkinDeeds", name := "cells", desc := "()I" } : Jvm.MethodName) prog_1_method_12_code (1 : Nat) (Option.some Jvm.ClassFile.FieldType.int)) ∈ lw_all := lw_g (lw_at lw_m3 189 rfl) rfl
theorem q818 : (Jvm.Cond.methodLink "NapkinDeeds" (147 : Nat) ({ cls := "NapkinDeeds$Napkin", name := "cells", desc := "()I" } : Jvm.MethodName)) ∈ lw_all := lw_g (lw_at lw_m3 190 rfl) rfl
theorem q885 : (Jvm.Cond.privateMethod ({ cls := "NapkinDeeds", name := "reads", desc := "(LNapkinDeeds$Look;LNapkinDeeds$Tray;)Z" } : Jvm.MethodName)) ∈ lw_tbl := lw_at lw_m4 17 rfl
theorem q886 : (Jvm.Cond.instanceMethod ({ cls := "NapkinDeeds", name := "reads", desc := "(LNapkinDeeds$Look;LNapkinDeeds$Tray;)Z" } : Jvm.MethodName)) ∈ lw_all := lw_g (lw_at lw_m4 18 rfl) rfl
theorem q887 : (Jvm.Cond.code ({ cls := "NapkinDeeds", name := "reads", desc := "(LNapkinDeeds$Look;LNapkinDeeds$Tray;)Z" } : Jvm.MethodName) prog_1_method_58_code (4 : Nat) (Option.some Jvm.ClassFile.FieldType.boolean)) ∈ lw_all := lw_g (lw_at lw_m4 19 rfl) rfl
theorem q888 : (Jvm.Cond.methodLink "NapkinDeeds" (340 : Nat) ({ cls := "NapkinDeeds$Tray", name := "size", desc := "()I" } : Jvm.MethodName)) ∈ lw_all := lw_g (lw_at lw_m4 20 rfl) rfl
theorem q896 : (Jvm.Cond.methodLink "NapkinDeeds" (341 : Nat) ({ cls := "NapkinDeeds$Tray", name := "at", desc := "(I)J" } : Jvm.MethodName)) ∈ lw_all := lw_g (lw_at lw_m4 28 rfl) rfl
theorem q900 : (Jvm.Cond.constantLong "NapkinDeeds" (318 : Nat) (-1 : Int64)) ∈ lw_all := lw_g (lw_at lw_m4 32 rfl) rfl
theorem q919 : (Jvm.Cond.privateMethod ({ cls := "NapkinDeeds", name := "leastLikes", desc := "(LNapkinDeeds$Look;I)I" } : Jvm.MethodName)) ∈ lw_tbl := lw_at lw_m4 51 rfl
theorem q920 : (Jvm.Cond.instanceMethod ({ cls := "NapkinDeeds", name := "leastLikes", desc := "(LNapkinDeeds$Look;I)I" } : Jvm.MethodName)) ∈ lw_all := lw_g (lw_at lw_m4 52 rfl) rfl
theorem q921 : (Jvm.Cond.code ({ cls := "NapkinDeeds", name := "leastLikes", desc := "(LNapkinDeeds$Look;I)I" } : Jvm.MethodName) prog_1_method_73_code (5 : Nat) (Option.some Jvm.ClassFile.FieldType.int)) ∈ lw_all := lw_g (lw_at lw_m4 53 rfl) rfl
theorem q922 : (Jvm.Cond.methodLink "NapkinDeeds" (280 : Nat) ({ cls := "NapkinDeeds", name := "guests", desc := "()I" } : Jvm.MethodName)) ∈ lw_all := lw_g (lw_at lw_m4 54 rfl) rfl
theorem q923 : (Jvm.Cond.privateMethod ({ cls := "NapkinDeeds", name := "guests", desc := "()I" } : Jvm.MethodName)) ∈ lw_tbl := lw_at lw_m4 55 rfl
theorem q924 : (Jvm.Cond.instanceMethod ({ cls := "NapkinDeeds", name := "guests", desc := "()I" } : Jvm.MethodName)) ∈ lw_all := lw_g (lw_at lw_m4 56 rfl) rfl
theorem q925 : (Jvm.Cond.code ({ cls := "NapkinDeeds", name := "guests", desc := "()I" } : Jvm.MethodName) prog_1_method_13_code (1 : Nat) (Option.some Jvm.ClassFile.FieldType.int)) ∈ lw_all := lw_g (lw_at lw_m4 57 rfl) rfl
theorem q926 : (Jvm.Cond.constant "NapkinDeeds" (488 : Nat) (1000000 : Int32)) ∈ lw_all := lw_g (lw_at lw_m4 58 rfl) rfl
theorem q927 : (Jvm.Cond.methodLink "NapkinDeeds" (282 : Nat) ({ cls := "NapkinDeeds", name := "likes", desc := "(ILNapkinDeeds$Look;I)I" } : Jvm.MethodName)) ∈ lw_all := lw_g (lw_at lw_m4 59 rfl) rfl
theorem q928 : (Jvm.Cond.privateMethod ({ cls := "NapkinDeeds", name := "likes", desc := "(ILNapkinDeeds$Look;I)I" } : Jvm.MethodName)) ∈ lw_tbl := lw_at lw_m4 60 rfl
theorem q929 : (Jvm.Cond.instanceMethod ({ cls := "NapkinDeeds", name := "likes", desc := "(ILNapkinDeeds$Look;I)I" } : Jvm.MethodName)) ∈ lw_all := lw_g (lw_at lw_m4 61 rfl) rfl
theorem q930 : (Jvm.Cond.code ({ cls := "NapkinDeeds", name := "likes", desc := "(ILNapkinDeeds$Look;I)I" } : Jvm.MethodName) prog_1_method_28_code (4 : Nat) (Option.some Jvm.ClassFile.FieldType.int)) ∈ lw_all := lw_g (lw_at lw_m4 62 rfl) rfl
theorem q931 : (Jvm.Cond.methodLink "NapkinDeeds" (265 : Nat) ({ cls := "java/util/ArrayList", name := "get", desc := "(I)Ljava/lang/Object;" } : Jvm.MethodName)) ∈ lw_all := lw_g (lw_at lw_m4 63 rfl) rfl
theorem q939 : (Jvm.Cond.classLink "NapkinDeeds" (269 : Nat) "java/lang/Integer") ∈ lw_all := lw_g (lw_at lw_m4 71 rfl) rfl
theorem q940 : (Jvm.Cond.methodLink "NapkinDeeds" (271 : Nat) ({ cls := "java/lang/Integer", name := "intValue", desc := "()I" } : Jvm.MethodName)) ∈ lw_all := lw_g (lw_at lw_m4 72 rfl) rfl
theorem q944 : (Jvm.Cond.methodLink "NapkinDeeds" (442 : Nat) ({ cls := "java/lang/Math", name := "min", desc := "(II)I" } : Jvm.MethodName)) ∈ lw_all := lw_g (lw_at lw_m4 76 rfl) rfl
theorem q1022 : (Jvm.Cond.methodLink "NapkinDeeds" (425 : Nat) ({ cls := "NapkinDeeds$Best", name := "fold", desc := "(I)I" } : Jvm.MethodName)) ∈ lw_all := lw_g (lw_at lw_m4 154 rfl) rfl
theorem q1045 : (Jvm.Cond.instanceMethod ({ cls := "NapkinDeeds", name := "stacks", desc := "()I" } : Jvm.MethodName)) ∈ lw_all := lw_g (lw_at lw_m4 177 rfl) rfl
theorem q1046 : (Jvm.Cond.selects "NapkinDeeds" ({ cls := "NapkinDeeds", name := "stacks", desc := "()I" } : Jvm.MethodName) ({ cls := "NapkinDeeds", name := "stacks", desc := "()I" } : Jvm.MethodName)) ∈ lw_all := lw_g (lw_at lw_m4 178 rfl) rfl
theorem q1047 : (Jvm.Cond.code ({ cls := "NapkinDeeds", name := "stacks", desc := "()I" } : Jvm.MethodName) prog_1_method_65_code (1 : Nat) (Option.some Jvm.ClassFile.FieldType.int)) ∈ lw_all := lw_g (lw_at lw_m4 179 rfl) rfl
theorem q1048 : (Jvm.Cond.methodLink "NapkinDeeds" (214 : Nat) ({ cls := "NapkinDeeds", name := "cells", desc := "()I" } : Jvm.MethodName)) ∈ lw_all := lw_g (lw_at lw_m4 180 rfl) rfl
theorem q1049 : (Jvm.Cond.methodLink "NapkinDeeds" (458 : Nat) ({ cls := "NapkinDeeds", name := "stacksFrom", desc := "([III)I" } : Jvm.MethodName)) ∈ lw_all := lw_g (lw_at lw_m4 181 rfl) rfl
theorem q1050 : (Jvm.Cond.privateMethod ({ cls := "NapkinDeeds", name := "stacksFrom", desc := "([III)I" } : Jvm.MethodName)) ∈ lw_tbl := lw_at lw_m4 182 rfl
theorem q1051 : (Jvm.Cond.instanceMethod ({ cls := "NapkinDeeds", name := "stacksFrom", desc := "([III)I" } : Jvm.MethodName)) ∈ lw_all := lw_g (lw_at lw_m4 183 rfl) rfl
theorem q1052 : (Jvm.Cond.code ({ cls := "NapkinDeeds", name := "stacksFrom", desc := "([III)I" } : Jvm.MethodName) prog_1_method_64_code (6 : Nat) (Option.some Jvm.ClassFile.FieldType.int)) ∈ lw_all := lw_g (lw_at lw_m4 184 rfl) rfl
theorem q1053 : (Jvm.Cond.methodLink "NapkinDeeds" (454 : Nat) ({ cls := "NapkinDeeds", name := "stands", desc := "([I)Z" } : Jvm.MethodName)) ∈ lw_all := lw_g (lw_at lw_m4 185 rfl) rfl
theorem q1054 : (Jvm.Cond.static ({ cls := "NapkinDeeds", name := "stands", desc := "([I)Z" } : Jvm.MethodName)) ∈ lw_all := lw_g (lw_at lw_m4 186 rfl) rfl
theorem q1055 : (Jvm.Cond.code ({ cls := "NapkinDeeds", name := "stands", desc := "([I)Z" } : Jvm.MethodName) prog_1_method_62_code (6 : Nat) (Option.some Jvm.ClassFile.FieldType.boolean)) ∈ lw_all := lw_g (lw_at lw_m4 187 rfl) rfl
theorem q1056 : (Jvm.Cond.methodLink "NapkinDeeds" (447 : Nat) ({ cls := "java/lang/Math", name := "max", desc := "(II)I" } : Jvm.MethodName)) ∈ lw_all := lw_g (lw_at lw_m4 188 rfl) rfl
theorem q1057 : (Jvm.Cond.methodLink "NapkinDeeds" (438 : Nat) ({ cls := "NapkinDeeds", name := "has", desc := "(II)Z" } : Jvm.MethodName)) ∈ lw_all := lw_g (lw_at lw_m4 189 rfl) rfl
theorem q1058 : (Jvm.Cond.static ({ cls := "NapkinDeeds", name := "has", desc := "(II)Z" } : Jvm.MethodName)) ∈ lw_all := lw_g (lw_at lw_m4 190 rfl) rfl
theorem q1059 : (Jvm.Cond.code ({ cls := "NapkinDeeds", name := "has", desc := "(II)Z" } : Jvm.MethodName) prog_1_method_6_code (2 : Nat) (Option.some Jvm.ClassFile.FieldType.boolean)) ∈ lw_all := lw_g (lw_at lw_m4 191 rfl) rfl
theorem q1061 : (Jvm.Cond.instanceMethod ({ cls := "NapkinDeeds", name := "simple", desc := "()I" } : Jvm.MethodName)) ∈ lw_all := lw_g (lw_at lw_m4 193 rfl) rfl
theorem q1062 : (Jvm.Cond.selects "NapkinDeeds" ({ cls := "NapkinDeeds", name := "simple", desc := "()I" } : Jvm.MethodName) ({ cls := "NapkinDeeds", name := "simple", desc := "()I" } : Jvm.MethodName)) ∈ lw_all := lw_g (lw_at lw_m4 194 rfl) rfl
theorem q1063 : (Jvm.Cond.code ({ cls := "NapkinDeeds", name := "simple", desc := "()I" } : Jvm.MethodName) prog_1_method_67_code (2 : Nat) (Option.some Jvm.ClassFile.FieldType.int)) ∈ lw_all := lw_g (lw_at lw_m4 195 rfl) rfl
theorem q1064 : (Jvm.Cond.classLink "NapkinDeeds" (467 : Nat) "NapkinDeeds$8") ∈ lw_all := lw_g (lw_at lw_m4 196 rfl) rfl
theorem q1066 : (Jvm.Cond.methodLink "NapkinDeeds" (469 : Nat) ({ cls := "NapkinDeeds$8", name := "<init>", desc := "(LNapkinDeeds;)V" } : Jvm.MethodName)) ∈ lw_all := lw_g (lw_at lw_m4 198 rfl) rfl
theorem q1085 : (Jvm.Cond.methodLink "NapkinDeeds" (388 : Nat) ({ cls := "NapkinDeeds$Unlike", name := "seeks", desc := "(ZI)LNapkinDeeds$Rows;" } : Jvm.MethodName)) ∈ lw_all := lw_g (lw_at lw_m4 217 rfl) rfl
theorem q1092 : (Jvm.Cond.methodLink "NapkinDeeds" (391 : Nat) ({ cls := "NapkinDeeds$Unlike", name := "unlike", desc := "()I" } : Jvm.MethodName)) ∈ lw_all := lw_g (lw_at lw_m4 224 rfl) rfl
theorem q1500 : (Jvm.Cond.instanceMethod ({ cls := "NapkinDeeds", name := "patterns", desc := "()I" } : Jvm.MethodName)) ∈ lw_all := lw_g (lw_at lw_m6 152 rfl) rfl
theorem q1501 : (Jvm.Cond.selects "NapkinDeeds" ({ cls := "NapkinDeeds", name := "patterns", desc := "()I" } : Jvm.MethodName) ({ cls := "NapkinDeeds", name := "patterns", desc := "()I" } : Jvm.MethodName)) ∈ lw_all := lw_g (lw_at lw_m6 153 rfl) rfl
theorem q1502 : (Jvm.Cond.code ({ cls := "NapkinDeeds", name := "patterns", desc := "()I" } : Jvm.MethodName) prog_1_method_71_code (2 : Nat) (Option.some Jvm.ClassFile.FieldType.int)) ∈ lw_all := lw_g (lw_at lw_m6 154 rfl) rfl
theorem q1503 : (Jvm.Cond.classLink "NapkinDeeds" (482 : Nat) "NapkinDeeds$11") ∈ lw_all := lw_g (lw_at lw_m6 155 rfl) rfl
theorem q1505 : (Jvm.Cond.methodLink "NapkinDeeds" (484 : Nat) ({ cls := "NapkinDeeds$11", name := "<init>", desc := "(LNapkinDeeds;)V" } : Jvm.MethodName)) ∈ lw_all := lw_g (lw_at lw_m6 157 rfl) rfl
theorem q1518 : (Jvm.Cond.instanceMethod ({ cls := "NapkinDeeds", name := "refuse", desc := "()I" } : Jvm.MethodName)) ∈ lw_all := lw_g (lw_at lw_m6 170 rfl) rfl
theorem q1519 : (Jvm.Cond.selects "NapkinDeeds" ({ cls := "NapkinDeeds", name := "refuse", desc := "()I" } : Jvm.MethodName) ({ cls := "NapkinDeeds", name := "refuse", desc := "()I" } : Jvm.MethodName)) ∈ lw_all := lw_g (lw_at lw_m6 171 rfl) rfl
theorem q1520 : (Jvm.Cond.code ({ cls := "NapkinDeeds", name := "refuse", desc := "()I" } : Jvm.MethodName) prog_1_method_72_code (4 : Nat) (Option.some Jvm.ClassFile.FieldType.int)) ∈ lw_all := lw_g (lw_at lw_m6 172 rfl) rfl
theorem q1521 : (Jvm.Cond.methodLink "NapkinDeeds" (485 : Nat) ({ cls := "NapkinDeeds$Look", name := "flat", desc := "(I)LNapkinDeeds$Look;" } : Jvm.MethodName)) ∈ lw_all := lw_g (lw_at lw_m6 173 rfl) rfl
theorem q1523 : (Jvm.Cond.instanceMethod ({ cls := "NapkinDeeds", name := "count", desc := "(I)I" } : Jvm.MethodName)) ∈ lw_all := lw_g (lw_at lw_m6 175 rfl) rfl
theorem q1524 : (Jvm.Cond.selects "NapkinDeeds" ({ cls := "NapkinDeeds", name := "count", desc := "(I)I" } : Jvm.MethodName) ({ cls := "NapkinDeeds", name := "count", desc := "(I)I" } : Jvm.MethodName)) ∈ lw_all := lw_g (lw_at lw_m6 176 rfl) rfl
theorem q1525 : (Jvm.Cond.code ({ cls := "NapkinDeeds", name := "count", desc := "(I)I" } : Jvm.MethodName) prog_1_method_88_code (2 : Nat) (Option.some Jvm.ClassFile.FieldType.int)) ∈ lw_all := lw_g (lw_at lw_m6 177 rfl) rfl
theorem q1531 : (Jvm.Cond.instanceMethod ({ cls := "NapkinDeeds", name := "napkin", desc := "(I)I" } : Jvm.MethodName)) ∈ lw_all := lw_g (lw_at lw_m6 183 rfl) rfl
theorem q1532 : (Jvm.Cond.selects "NapkinDeeds" ({ cls := "NapkinDeeds", name := "napkin", desc := "(I)I" } : Jvm.MethodName) ({ cls := "NapkinDeeds", name := "napkin", desc := "(I)I" } : Jvm.MethodName)) ∈ lw_all := lw_g (lw_at lw_m6 184 rfl) rfl
theorem q1533 : (Jvm.Cond.codeWith ({ cls := "NapkinDeeds", name := "napkin", desc := "(I)I" } : Jvm.MethodName) prog_1_method_10_code (5 : Nat) (Option.some Jvm.ClassFile.FieldType.int) [((24 : Nat), (64 : Nat), (71 : Nat), (139 : Nat)), ((24 : Nat), (64 : Nat), (103 : Nat), (0 : Nat)), ((71 : Nat), (96 : Nat), (103 : Nat), (0 : Nat)), ((103 : Nat), (105 : Nat), (103 : Nat), (0 : Nat))]) ∈ lw_all := lw_g (lw_at lw_m6 185 rfl) rfl
theorem q1534 : (Jvm.Cond.classLink "NapkinDeeds" (139 : Nat) "NapkinDeeds$Bad") ∈ lw_all := lw_g (lw_at lw_m6 186 rfl) rfl
theorem q1535 : (Jvm.Cond.methodLink "NapkinDeeds" (110 : Nat) ({ cls := "NapkinDeeds", name := "needs", desc := "(Z)V" } : Jvm.MethodName)) ∈ lw_all := lw_g (lw_at lw_m6 187 rfl) rfl
theorem q1536 : (Jvm.Cond.static ({ cls := "NapkinDeeds", name := "needs", desc := "(Z)V" } : Jvm.MethodName)) ∈ lw_all := lw_g (lw_at lw_m6 188 rfl) rfl
theorem q1537 : (Jvm.Cond.code ({ cls := "NapkinDeeds", name := "needs", desc := "(Z)V" } : Jvm.MethodName) prog_1_method_2_code (1 : Nat) (Option.none : Option Jvm.ClassFile.FieldType)) ∈ lw_all := lw_g (lw_at lw_m6 189 rfl) rfl
theorem q1538 : (Jvm.Cond.classLink "NapkinDeeds" (1 : Nat) "java/lang/IllegalArgumentException") ∈ lw_all := lw_g (lw_at lw_m6 190 rfl) rfl
theorem q1539 : (Jvm.Cond.methodLink "NapkinDeeds" (3 : Nat) ({ cls := "java/lang/IllegalArgumentException", name := "<init>", desc := "()V" } : Jvm.MethodName)) ∈ lw_all := lw_g (lw_at lw_m6 191 rfl) rfl
theorem q1543 : (Jvm.Cond.classLink "NapkinDeeds" (117 : Nat) "NapkinDeeds$Reader") ∈ lw_all := lw_g (lw_at lw_m6 195 rfl) rfl
theorem q1545 : (Jvm.Cond.methodLink "NapkinDeeds" (119 : Nat) ({ cls := "NapkinDeeds$Reader", name := "<init>", desc := "([BI)V" } : Jvm.MethodName)) ∈ lw_all := lw_g (lw_at lw_m6 197 rfl) rfl
theorem q1655 : (Jvm.Cond.methodLink "NapkinDeeds" (122 : Nat) ({ cls := "NapkinDeeds$Reader", name := "all", desc := "()LNapkinDeeds$Napkin;" } : Jvm.MethodName)) ∈ lw_all := lw_g (lw_at lw_m7 67 rfl) rfl
theorem q1711 : (Jvm.Cond.fieldLinkNest "NapkinDeeds" (141 : Nat) "NapkinDeeds$Bad" "kind" "I" "NapkinDeeds") ∈ lw_tbl := lw_at lw_m7 123 rfl
theorem q1713 : (Jvm.Cond.fieldLinkNest "NapkinDeeds" (144 : Nat) "NapkinDeeds$Bad" "place" "I" "NapkinDeeds") ∈ lw_tbl := lw_at lw_m7 125 rfl
theorem q1917 : (Jvm.Cond.methodLink "NapkinDeeds" (126 : Nat) ({ cls := "NapkinDeeds$State", name := "begins", desc := "(LNapkinDeeds$Napkin;)V" } : Jvm.MethodName)) ∈ lw_all := lw_g (lw_at lw_m8 89 rfl) rfl
theorem q1924 : (Jvm.Cond.methodLink "NapkinDeeds" (74 : Nat) ({ cls := "java/util/ArrayList", name := "clear", desc := "()V" } : Jvm.MethodName)) ∈ lw_all := lw_g (lw_at lw_m8 96 rfl) rfl
theorem q1933 : (Jvm.Cond.instanceMethod ({ cls := "NapkinDeeds", name := "cell", desc := "(II)I" } : Jvm.MethodName)) ∈ lw_all := lw_g (lw_at lw_m8 105 rfl) rfl
theorem q1934 : (Jvm.Cond.selects "NapkinDeeds" ({ cls := "NapkinDeeds", name := "cell", desc := "(II)I" } : Jvm.MethodName) ({ cls := "NapkinDeeds", name := "cell", desc := "(II)I" } : Jvm.MethodName)) ∈ lw_all := lw_g (lw_at lw_m8 106 rfl) rfl
theorem q1935 : (Jvm.Cond.code ({ cls := "NapkinDeeds", name := "cell", desc := "(II)I" } : Jvm.MethodName) prog_1_method_16_code (4 : Nat) (Option.some Jvm.ClassFile.FieldType.int)) ∈ lw_all := lw_g (lw_at lw_m8 107 rfl) rfl
theorem q1936 : (Jvm.Cond.methodLink "NapkinDeeds" (171 : Nat) ({ cls := "NapkinDeeds$Napkin", name := "isCell", desc := "(J)Z" } : Jvm.MethodName)) ∈ lw_all := lw_g (lw_at lw_m8 108 rfl) rfl
theorem q1942 : (Jvm.Cond.methodLink "NapkinDeeds" (168 : Nat) ({ cls := "NapkinDeeds", name := "there", desc := "(Z)V" } : Jvm.MethodName)) ∈ lw_all := lw_g (lw_at lw_m8 114 rfl) rfl
theorem q1943 : (Jvm.Cond.static ({ cls := "NapkinDeeds", name := "there", desc := "(Z)V" } : Jvm.MethodName)) ∈ lw_all := lw_g (lw_at lw_m8 115 rfl) rfl
theorem q1944 : (Jvm.Cond.code ({ cls := "NapkinDeeds", name := "there", desc := "(Z)V" } : Jvm.MethodName) prog_1_method_4_code (1 : Nat) (Option.none : Option Jvm.ClassFile.FieldType)) ∈ lw_all := lw_g (lw_at lw_m8 116 rfl) rfl
theorem q1945 : (Jvm.Cond.classLink "NapkinDeeds" (10 : Nat) "java/util/NoSuchElementException") ∈ lw_all := lw_g (lw_at lw_m8 117 rfl) rfl
theorem q1954 : (Jvm.Cond.methodLink "NapkinDeeds" (12 : Nat) ({ cls := "java/util/NoSuchElementException", name := "<init>", desc := "()V" } : Jvm.MethodName)) ∈ lw_all := lw_g (lw_at lw_m8 126 rfl) rfl
theorem q1960 : (Jvm.Cond.methodLink "NapkinDeeds" (182 : Nat) ({ cls := "NapkinDeeds$Look", name := "columnOf", desc := "(I)I" } : Jvm.MethodName)) ∈ lw_all := lw_g (lw_at lw_m8 132 rfl) rfl
theorem q1961 : (Jvm.Cond.methodLinkNest "NapkinDeeds" (186 : Nat) ({ cls := "NapkinDeeds$Look", name := "layerOf", desc := "(II)I" } : Jvm.MethodName) "NapkinDeeds") ∈ lw_tbl := lw_at lw_m8 133 rfl
theorem q1962 : (Jvm.Cond.methodLink "NapkinDeeds" (190 : Nat) ({ cls := "NapkinDeeds$Look", name := "isUp", desc := "(I)Z" } : Jvm.MethodName)) ∈ lw_all := lw_g (lw_at lw_m8 134 rfl) rfl
theorem q1967 : (Jvm.Cond.instanceMethod ({ cls := "NapkinDeeds", name := "high", desc := "(I)I" } : Jvm.MethodName)) ∈ lw_all := lw_g (lw_at lw_m8 139 rfl) rfl
theorem q1968 : (Jvm.Cond.selects "NapkinDeeds" ({ cls := "NapkinDeeds", name := "high", desc := "(I)I" } : Jvm.MethodName) ({ cls := "NapkinDeeds", name := "high", desc := "(I)I" } : Jvm.MethodName)) ∈ lw_all := lw_g (lw_at lw_m8 140 rfl) rfl
theorem q1969 : (Jvm.Cond.code ({ cls := "NapkinDeeds", name := "high", desc := "(I)I" } : Jvm.MethodName) prog_1_method_17_code (2 : Nat) (Option.some Jvm.ClassFile.FieldType.int)) ∈ lw_all := lw_g (lw_at lw_m8 141 rfl) rfl
theorem q1970 : (Jvm.Cond.methodLink "NapkinDeeds" (194 : Nat) ({ cls := "NapkinDeeds", name := "at", desc := "(I)LNapkinDeeds$Look;" } : Jvm.MethodName)) ∈ lw_all := lw_g (lw_at lw_m8 142 rfl) rfl
theorem q1971 : (Jvm.Cond.privateMethod ({ cls := "NapkinDeeds", name := "at", desc := "(I)LNapkinDeeds$Look;" } : Jvm.MethodName)) ∈ lw_tbl := lw_at lw_m8 143 rfl
theorem q1972 : (Jvm.Cond.instanceMethod ({ cls := "NapkinDeeds", name := "at", desc := "(I)LNapkinDeeds$Look;" } : Jvm.MethodName)) ∈ lw_all := lw_g (lw_at lw_m8 144 rfl) rfl
theorem q1973 : (Jvm.Cond.code ({ cls := "NapkinDeeds", name := "at", desc := "(I)LNapkinDeeds$Look;" } : Jvm.MethodName) prog_1_method_15_code (3 : Nat) (Option.some (Jvm.ClassFile.FieldType.object "NapkinDeeds$Look"))) ∈ lw_all := lw_g (lw_at lw_m8 145 rfl) rfl
theorem q1978 : (Jvm.Cond.instanceMethod ({ cls := "NapkinDeeds", name := "layer", desc := "(II)I" } : Jvm.MethodName)) ∈ lw_all := lw_g (lw_at lw_m8 150 rfl) rfl
theorem q1979 : (Jvm.Cond.selects "NapkinDeeds" ({ cls := "NapkinDeeds", name := "layer", desc := "(II)I" } : Jvm.MethodName) ({ cls := "NapkinDeeds", name := "layer", desc := "(II)I" } : Jvm.MethodName)) ∈ lw_all := lw_g (lw_at lw_m8 151 rfl) rfl
theorem q1980 : (Jvm.Cond.code ({ cls := "NapkinDeeds", name := "layer", desc := "(II)I" } : Jvm.MethodName) prog_1_method_18_code (4 : Nat) (Option.some Jvm.ClassFile.FieldType.int)) ∈ lw_all := lw_g (lw_at lw_m8 152 rfl) rfl
theorem q1985 : (Jvm.Cond.instanceMethod ({ cls := "NapkinDeeds", name := "above", desc := "(I)I" } : Jvm.MethodName)) ∈ lw_all := lw_g (lw_at lw_m8 157 rfl) rfl
theorem q1986 : (Jvm.Cond.selects "NapkinDeeds" ({ cls := "NapkinDeeds", name := "above", desc := "(I)I" } : Jvm.MethodName) ({ cls := "NapkinDeeds", name := "above", desc := "(I)I" } : Jvm.MethodName)) ∈ lw_all := lw_g (lw_at lw_m8 158 rfl) rfl
theorem q1987 : (Jvm.Cond.code ({ cls := "NapkinDeeds", name := "above", desc := "(I)I" } : Jvm.MethodName) prog_1_method_19_code (2 : Nat) (Option.some Jvm.ClassFile.FieldType.int)) ∈ lw_all := lw_g (lw_at lw_m8 159 rfl) rfl
theorem q1992 : (Jvm.Cond.instanceMethod ({ cls := "NapkinDeeds", name := "beneath", desc := "(I)I" } : Jvm.MethodName)) ∈ lw_all := lw_g (lw_at lw_m8 164 rfl) rfl
theorem q1993 : (Jvm.Cond.selects "NapkinDeeds" ({ cls := "NapkinDeeds", name := "beneath", desc := "(I)I" } : Jvm.MethodName) ({ cls := "NapkinDeeds", name := "beneath", desc := "(I)I" } : Jvm.MethodName)) ∈ lw_all := lw_g (lw_at lw_m8 165 rfl) rfl
theorem q1994 : (Jvm.Cond.code ({ cls := "NapkinDeeds", name := "beneath", desc := "(I)I" } : Jvm.MethodName) prog_1_method_20_code (2 : Nat) (Option.some Jvm.ClassFile.FieldType.int)) ∈ lw_all := lw_g (lw_at lw_m8 166 rfl) rfl
theorem q1999 : (Jvm.Cond.instanceMethod ({ cls := "NapkinDeeds", name := "crease", desc := "(I)I" } : Jvm.MethodName)) ∈ lw_all := lw_g (lw_at lw_m8 171 rfl) rfl
theorem q2000 : (Jvm.Cond.selects "NapkinDeeds" ({ cls := "NapkinDeeds", name := "crease", desc := "(I)I" } : Jvm.MethodName) ({ cls := "NapkinDeeds", name := "crease", desc := "(I)I" } : Jvm.MethodName)) ∈ lw_all := lw_g (lw_at lw_m8 172 rfl) rfl
theorem q2001 : (Jvm.Cond.code ({ cls := "NapkinDeeds", name := "crease", desc := "(I)I" } : Jvm.MethodName) prog_1_method_21_code (2 : Nat) (Option.some Jvm.ClassFile.FieldType.int)) ∈ lw_all := lw_g (lw_at lw_m8 173 rfl) rfl
theorem q2002 : (Jvm.Cond.methodLink "NapkinDeeds" (215 : Nat) ({ cls := "NapkinDeeds$Look", name := "crease", desc := "(I)I" } : Jvm.MethodName)) ∈ lw_all := lw_g (lw_at lw_m8 174 rfl) rfl
theorem q2007 : (Jvm.Cond.instanceMethod ({ cls := "NapkinDeeds", name := "folded", desc := "(I)I" } : Jvm.MethodName)) ∈ lw_all := lw_g (lw_at lw_m8 179 rfl) rfl
theorem q2008 : (Jvm.Cond.selects "NapkinDeeds" ({ cls := "NapkinDeeds", name := "folded", desc := "(I)I" } : Jvm.MethodName) ({ cls := "NapkinDeeds", name := "folded", desc := "(I)I" } : Jvm.MethodName)) ∈ lw_all := lw_g (lw_at lw_m8 180 rfl) rfl
theorem q2009 : (Jvm.Cond.code ({ cls := "NapkinDeeds", name := "folded", desc := "(I)I" } : Jvm.MethodName) prog_1_method_22_code (2 : Nat) (Option.some Jvm.ClassFile.FieldType.int)) ∈ lw_all := lw_g (lw_at lw_m8 181 rfl) rfl
theorem q2014 : (Jvm.Cond.instanceMethod ({ cls := "NapkinDeeds", name := "likes", desc := "(I)I" } : Jvm.MethodName)) ∈ lw_all := lw_g (lw_at lw_m8 186 rfl) rfl
theorem q2015 : (Jvm.Cond.selects "NapkinDeeds" ({ cls := "NapkinDeeds", name := "likes", desc := "(I)I" } : Jvm.MethodName) ({ cls := "NapkinDeeds", name := "likes", desc := "(I)I" } : Jvm.MethodName)) ∈ lw_all := lw_g (lw_at lw_m8 187 rfl) rfl
theorem q2016 : (Jvm.Cond.code ({ cls := "NapkinDeeds", name := "likes", desc := "(I)I" } : Jvm.MethodName) prog_1_method_31_code (2 : Nat) (Option.some Jvm.ClassFile.FieldType.int)) ∈ lw_all := lw_g (lw_at lw_m8 188 rfl) rfl
theorem q2022 : (Jvm.Cond.instanceMethod ({ cls := "NapkinDeeds", name := "unfold", desc := "()I" } : Jvm.MethodName)) ∈ lw_all := lw_g (lw_at lw_m8 194 rfl) rfl
theorem q2023 : (Jvm.Cond.selects "NapkinDeeds" ({ cls := "NapkinDeeds", name := "unfold", desc := "()I" } : Jvm.MethodName) ({ cls := "NapkinDeeds", name := "unfold", desc := "()I" } : Jvm.MethodName)) ∈ lw_all := lw_g (lw_at lw_m8 195 rfl) rfl
theorem q2024 : (Jvm.Cond.code ({ cls := "NapkinDeeds", name := "unfold", desc := "()I" } : Jvm.MethodName) prog_1_method_35_code (1 : Nat) (Option.some Jvm.ClassFile.FieldType.int)) ∈ lw_all := lw_g (lw_at lw_m8 196 rfl) rfl
theorem q2025 : (Jvm.Cond.methodLink "NapkinDeeds" (303 : Nat) ({ cls := "NapkinDeeds", name := "can", desc := "(Z)V" } : Jvm.MethodName)) ∈ lw_all := lw_g (lw_at lw_m8 197 rfl) rfl
theorem q2026 : (Jvm.Cond.static ({ cls := "NapkinDeeds", name := "can", desc := "(Z)V" } : Jvm.MethodName)) ∈ lw_all := lw_g (lw_at lw_m8 198 rfl) rfl
theorem q2027 : (Jvm.Cond.code ({ cls := "NapkinDeeds", name := "can", desc := "(Z)V" } : Jvm.MethodName) prog_1_method_3_code (1 : Nat) (Option.none : Option Jvm.ClassFile.FieldType)) ∈ lw_all := lw_g (lw_at lw_m8 199 rfl) rfl
theorem q2028 : (Jvm.Cond.classLink "NapkinDeeds" (7 : Nat) "java/lang/IllegalStateException") ∈ lw_all := lw_g (lw_at lw_m8 200 rfl) rfl
theorem q2037 : (Jvm.Cond.methodLink "NapkinDeeds" (9 : Nat) ({ cls := "java/lang/IllegalStateException", name := "<init>", desc := "()V" } : Jvm.MethodName)) ∈ lw_all := lw_g (lw_at lw_m8 209 rfl) rfl
theorem q2047 : (Jvm.Cond.instanceMethod ({ cls := "NapkinDeeds", name := "shake", desc := "()I" } : Jvm.MethodName)) ∈ lw_all := lw_g (lw_at lw_m8 219 rfl) rfl
theorem q2048 : (Jvm.Cond.selects "NapkinDeeds" ({ cls := "NapkinDeeds", name := "shake", desc := "()I" } : Jvm.MethodName) ({ cls := "NapkinDeeds", name := "shake", desc := "()I" } : Jvm.MethodName)) ∈ lw_all := lw_g (lw_at lw_m8 220 rfl) rfl
theorem q2049 : (Jvm.Cond.code ({ cls := "NapkinDeeds", name := "shake", desc := "()I" } : Jvm.MethodName) prog_1_method_36_code (2 : Nat) (Option.some Jvm.ClassFile.FieldType.int)) ∈ lw_all := lw_g (lw_at lw_m8 221 rfl) rfl
theorem q2054 : (Jvm.Cond.instanceMethod ({ cls := "NapkinDeeds", name := "amend", desc := "(III)I" } : Jvm.MethodName)) ∈ lw_all := lw_g (lw_at lw_m8 226 rfl) rfl
theorem q2055 : (Jvm.Cond.selects "NapkinDeeds" ({ cls := "NapkinDeeds", name := "amend", desc := "(III)I" } : Jvm.MethodName) ({ cls := "NapkinDeeds", name := "amend", desc := "(III)I" } : Jvm.MethodName)) ∈ lw_all := lw_g (lw_at lw_m8 227 rfl) rfl
theorem q2056 : (Jvm.Cond.code ({ cls := "NapkinDeeds", name := "amend", desc := "(III)I" } : Jvm.MethodName) prog_1_method_38_code (4 : Nat) (Option.some Jvm.ClassFile.FieldType.int)) ∈ lw_all := lw_g (lw_at lw_m8 228 rfl) rfl
theorem q2057 : (Jvm.Cond.constantLong "NapkinDeeds" (306 : Nat) (99 : Int64)) ∈ lw_all := lw_g (lw_at lw_m8 229 rfl) rfl
theorem q2058 : (Jvm.Cond.methodLink "NapkinDeeds" (308 : Nat) ({ cls := "NapkinDeeds", name := "marks", desc := "(LNapkinDeeds$State;III)I" } : Jvm.MethodName)) ∈ lw_all := lw_g (lw_at lw_m8 230 rfl) rfl
theorem q2059 : (Jvm.Cond.static ({ cls := "NapkinDeeds", name := "marks", desc := "(LNapkinDeeds$State;III)I" } : Jvm.MethodName)) ∈ lw_all := lw_g (lw_at lw_m8 231 rfl) rfl
theorem q2060 : (Jvm.Cond.code ({ cls := "NapkinDeeds", name := "marks", desc := "(LNapkinDeeds$State;III)I" } : Jvm.MethodName) prog_1_method_37_code (6 : Nat) (Option.some Jvm.ClassFile.FieldType.int)) ∈ lw_all := lw_g (lw_at lw_m8 232 rfl) rfl
theorem q2065 : (Jvm.Cond.instanceMethod ({ cls := "NapkinDeeds", name := "undo", desc := "(I)I" } : Jvm.MethodName)) ∈ lw_all := lw_g (lw_at lw_m8 237 rfl) rfl
theorem q2066 : (Jvm.Cond.selects "NapkinDeeds" ({ cls := "NapkinDeeds", name := "undo", desc := "(I)I" } : Jvm.MethodName) ({ cls := "NapkinDeeds", name := "undo", desc := "(I)I" } : Jvm.MethodName)) ∈ lw_all := lw_g (lw_at lw_m8 238 rfl) rfl
theorem q2067 : (Jvm.Cond.code ({ cls := "NapkinDeeds", name := "undo", desc := "(I)I" } : Jvm.MethodName) prog_1_method_39_code (3 : Nat) (Option.some Jvm.ClassFile.FieldType.int)) ∈ lw_all := lw_g (lw_at lw_m8 239 rfl) rfl
theorem q2068 : (Jvm.Cond.constantLong "NapkinDeeds" (312 : Nat) (10 : Int64)) ∈ lw_all := lw_g (lw_at lw_m9 0 rfl) rfl
theorem q2073 : (Jvm.Cond.instanceMethod ({ cls := "NapkinDeeds", name := "judge", desc := "(II)I" } : Jvm.MethodName)) ∈ lw_all := lw_g (lw_at lw_m9 5 rfl) rfl
theorem q2074 : (Jvm.Cond.selects "NapkinDeeds" ({ cls := "NapkinDeeds", name := "judge", desc := "(II)I" } : Jvm.MethodName) ({ cls := "NapkinDeeds", name := "judge", desc := "(II)I" } : Jvm.MethodName)) ∈ lw_all := lw_g (lw_at lw_m9 6 rfl) rfl
theorem q2075 : (Jvm.Cond.code ({ cls := "NapkinDeeds", name := "judge", desc := "(II)I" } : Jvm.MethodName) prog_1_method_44_code (6 : Nat) (Option.some Jvm.ClassFile.FieldType.int)) ∈ lw_all := lw_g (lw_at lw_m9 7 rfl) rfl
theorem q2076 : (Jvm.Cond.methodLink "NapkinDeeds" (332 : Nat) ({ cls := "NapkinDeeds", name := "trayOf", desc := "(I)LNapkinDeeds$Tray;" } : Jvm.MethodName)) ∈ lw_all := lw_g (lw_at lw_m9 8 rfl) rfl
theorem q2077 : (Jvm.Cond.privateMethod ({ cls := "NapkinDeeds", name := "trayOf", desc := "(I)LNapkinDeeds$Tray;" } : Jvm.MethodName)) ∈ lw_tbl := lw_at lw_m9 9 rfl
theorem q2078 : (Jvm.Cond.instanceMethod ({ cls := "NapkinDeeds", name := "trayOf", desc := "(I)LNapkinDeeds$Tray;" } : Jvm.MethodName)) ∈ lw_all := lw_g (lw_at lw_m9 10 rfl) rfl
theorem q2079 : (Jvm.Cond.code ({ cls := "NapkinDeeds", name := "trayOf", desc := "(I)LNapkinDeeds$Tray;" } : Jvm.MethodName) prog_1_method_40_code (2 : Nat) (Option.some (Jvm.ClassFile.FieldType.object "NapkinDeeds$Tray"))) ∈ lw_all := lw_g (lw_at lw_m9 11 rfl) rfl
theorem q2080 : (Jvm.Cond.methodLink "NapkinDeeds" (336 : Nat) ({ cls := "NapkinDeeds", name := "mustBe", desc := "(LNapkinDeeds$Tray;)V" } : Jvm.MethodName)) ∈ lw_all := lw_g (lw_at lw_m9 12 rfl) rfl
theorem q2081 : (Jvm.Cond.static ({ cls := "NapkinDeeds", name := "mustBe", desc := "(LNapkinDeeds$Tray;)V" } : Jvm.MethodName)) ∈ lw_all := lw_g (lw_at lw_m9 13 rfl) rfl
theorem q2082 : (Jvm.Cond.code ({ cls := "NapkinDeeds", name := "mustBe", desc := "(LNapkinDeeds$Tray;)V" } : Jvm.MethodName) prog_1_method_41_code (1 : Nat) (Option.none : Option Jvm.ClassFile.FieldType)) ∈ lw_all := lw_g (lw_at lw_m9 14 rfl) rfl
theorem q2083 : (Jvm.Cond.methodLink "NapkinDeeds" (344 : Nat) ({ cls := "NapkinDeeds", name := "whyNot", desc := "(LNapkinDeeds$State;J)I" } : Jvm.MethodName)) ∈ lw_all := lw_g (lw_at lw_m9 15 rfl) rfl
theorem q2084 : (Jvm.Cond.privateMethod ({ cls := "NapkinDeeds", name := "whyNot", desc := "(LNapkinDeeds$State;J)I" } : Jvm.MethodName)) ∈ lw_tbl := lw_at lw_m9 16 rfl
theorem q2085 : (Jvm.Cond.instanceMethod ({ cls := "NapkinDeeds", name := "whyNot", desc := "(LNapkinDeeds$State;J)I" } : Jvm.MethodName)) ∈ lw_all := lw_g (lw_at lw_m9 17 rfl) rfl
theorem q2086 : (Jvm.Cond.code ({ cls := "NapkinDeeds", name := "whyNot", desc := "(LNapkinDeeds$State;J)I" } : Jvm.MethodName) prog_1_method_42_code (5 : Nat) (Option.some Jvm.ClassFile.FieldType.int)) ∈ lw_all := lw_g (lw_at lw_m9 18 rfl) rfl
theorem q2087 : (Jvm.Cond.constantLong "NapkinDeeds" (320 : Nat) (100 : Int64)) ∈ lw_all := lw_g (lw_at lw_m9 19 rfl) rfl
theorem q2088 : (Jvm.Cond.constantLong "NapkinDeeds" (322 : Nat) (200 : Int64)) ∈ lw_all := lw_g (lw_at lw_m9 20 rfl) rfl
theorem q2089 : (Jvm.Cond.constantLong "NapkinDeeds" (324 : Nat) (1000 : Int64)) ∈ lw_all := lw_g (lw_at lw_m9 21 rfl) rfl
theorem q2090 : (Jvm.Cond.constantLong "NapkinDeeds" (326 : Nat) (1599 : Int64)) ∈ lw_all := lw_g (lw_at lw_m9 22 rfl) rfl
theorem q2091 : (Jvm.Cond.constantLong "NapkinDeeds" (328 : Nat) (2000 : Int64)) ∈ lw_all := lw_g (lw_at lw_m9 23 rfl) rfl
theorem q2092 : (Jvm.Cond.constantLong "NapkinDeeds" (330 : Nat) (2599 : Int64)) ∈ lw_all := lw_g (lw_at lw_m9 24 rfl) rfl
theorem q2093 : (Jvm.Cond.methodLink "NapkinDeeds" (348 : Nat) ({ cls := "NapkinDeeds", name := "does", desc := "(LNapkinDeeds$State;I)V" } : Jvm.MethodName)) ∈ lw_all := lw_g (lw_at lw_m9 25 rfl) rfl
theorem q2094 : (Jvm.Cond.static ({ cls := "NapkinDeeds", name := "does", desc := "(LNapkinDeeds$State;I)V" } : Jvm.MethodName)) ∈ lw_all := lw_g (lw_at lw_m9 26 rfl) rfl
theorem q2095 : (Jvm.Cond.code ({ cls := "NapkinDeeds", name := "does", desc := "(LNapkinDeeds$State;I)V" } : Jvm.MethodName) prog_1_method_43_code (2 : Nat) (Option.none : Option Jvm.ClassFile.FieldType)) ∈ lw_all := lw_g (lw_at lw_m9 27 rfl) rfl
theorem q2100 : (Jvm.Cond.instanceMethod ({ cls := "NapkinDeeds", name := "perform", desc := "(I)I" } : Jvm.MethodName)) ∈ lw_all := lw_g (lw_at lw_m9 32 rfl) rfl
theorem q2101 : (Jvm.Cond.selects "NapkinDeeds" ({ cls := "NapkinDeeds", name := "perform", desc := "(I)I" } : Jvm.MethodName) ({ cls := "NapkinDeeds", name := "perform", desc := "(I)I" } : Jvm.MethodName)) ∈ lw_all := lw_g (lw_at lw_m9 33 rfl) rfl
theorem q2102 : (Jvm.Cond.code ({ cls := "NapkinDeeds", name := "perform", desc := "(I)I" } : Jvm.MethodName) prog_1_method_45_code (4 : Nat) (Option.some Jvm.ClassFile.FieldType.int)) ∈ lw_all := lw_g (lw_at lw_m9 34 rfl) rfl
theorem q2107 : (Jvm.Cond.instanceMethod ({ cls := "NapkinDeeds", name := "evening", desc := "(II)I" } : Jvm.MethodName)) ∈ lw_all := lw_g (lw_at lw_m9 39 rfl) rfl
theorem q2108 : (Jvm.Cond.selects "NapkinDeeds" ({ cls := "NapkinDeeds", name := "evening", desc := "(II)I" } : Jvm.MethodName) ({ cls := "NapkinDeeds", name := "evening", desc := "(II)I" } : Jvm.MethodName)) ∈ lw_all := lw_g (lw_at lw_m9 40 rfl) rfl
theorem q2109 : (Jvm.Cond.code ({ cls := "NapkinDeeds", name := "evening", desc := "(II)I" } : Jvm.MethodName) prog_1_method_48_code (6 : Nat) (Option.some Jvm.ClassFile.FieldType.int)) ∈ lw_all := lw_g (lw_at lw_m9 41 rfl) rfl
theorem q2110 : (Jvm.Cond.constantLong "NapkinDeeds" (359 : Nat) (30 : Int64)) ∈ lw_all := lw_g (lw_at lw_m9 42 rfl) rfl
theorem q2111 : (Jvm.Cond.methodLink "NapkinDeeds" (361 : Nat) ({ cls := "NapkinDeeds", name := "drawn", desc := "()I" } : Jvm.MethodName)) ∈ lw_all := lw_g (lw_at lw_m9 43 rfl) rfl
theorem q2112 : (Jvm.Cond.privateMethod ({ cls := "NapkinDeeds", name := "drawn", desc := "()I" } : Jvm.MethodName)) ∈ lw_tbl := lw_at lw_m9 44 rfl
theorem q2113 : (Jvm.Cond.instanceMethod ({ cls := "NapkinDeeds", name := "drawn", desc := "()I" } : Jvm.MethodName)) ∈ lw_all := lw_g (lw_at lw_m9 45 rfl) rfl
theorem q2114 : (Jvm.Cond.code ({ cls := "NapkinDeeds", name := "drawn", desc := "()I" } : Jvm.MethodName) prog_1_method_47_code (3 : Nat) (Option.some Jvm.ClassFile.FieldType.int)) ∈ lw_all := lw_g (lw_at lw_m9 46 rfl) rfl
theorem q2115 : (Jvm.Cond.methodLink "NapkinDeeds" (356 : Nat) ({ cls := "NapkinDeeds", name := "draw", desc := "(I)I" } : Jvm.MethodName)) ∈ lw_all := lw_g (lw_at lw_m9 47 rfl) rfl
theorem q2116 : (Jvm.Cond.privateMethod ({ cls := "NapkinDeeds", name := "draw", desc := "(I)I" } : Jvm.MethodName)) ∈ lw_tbl := lw_at lw_m9 48 rfl
theorem q2117 : (Jvm.Cond.instanceMethod ({ cls := "NapkinDeeds", name := "draw", desc := "(I)I" } : Jvm.MethodName)) ∈ lw_all := lw_g (lw_at lw_m9 49 rfl) rfl
theorem q2118 : (Jvm.Cond.code ({ cls := "NapkinDeeds", name := "draw", desc := "(I)I" } : Jvm.MethodName) prog_1_method_46_code (2 : Nat) (Option.some Jvm.ClassFile.FieldType.int)) ∈ lw_all := lw_g (lw_at lw_m9 50 rfl) rfl
theorem q2119 : (Jvm.Cond.constant "NapkinDeeds" (352 : Nat) (1103515245 : Int32)) ∈ lw_all := lw_g (lw_at lw_m9 51 rfl) rfl
theorem q2124 : (Jvm.Cond.instanceMethod ({ cls := "NapkinDeeds", name := "rows", desc := "(I)I" } : Jvm.MethodName)) ∈ lw_all := lw_g (lw_at lw_m9 56 rfl) rfl
theorem q2125 : (Jvm.Cond.selects "NapkinDeeds" ({ cls := "NapkinDeeds", name := "rows", desc := "(I)I" } : Jvm.MethodName) ({ cls := "NapkinDeeds", name := "rows", desc := "(I)I" } : Jvm.MethodName)) ∈ lw_all := lw_g (lw_at lw_m9 57 rfl) rfl
theorem q2126 : (Jvm.Cond.code ({ cls := "NapkinDeeds", name := "rows", desc := "(I)I" } : Jvm.MethodName) prog_1_method_51_code (3 : Nat) (Option.some Jvm.ClassFile.FieldType.int)) ∈ lw_all := lw_g (lw_at lw_m9 58 rfl) rfl
theorem q2127 : (Jvm.Cond.methodLink "NapkinDeeds" (368 : Nat) ({ cls := "NapkinDeeds", name := "mustRows", desc := "(I)V" } : Jvm.MethodName)) ∈ lw_all := lw_g (lw_at lw_m9 59 rfl) rfl
theorem q2128 : (Jvm.Cond.static ({ cls := "NapkinDeeds", name := "mustRows", desc := "(I)V" } : Jvm.MethodName)) ∈ lw_all := lw_g (lw_at lw_m9 60 rfl) rfl
theorem q2129 : (Jvm.Cond.code ({ cls := "NapkinDeeds", name := "mustRows", desc := "(I)V" } : Jvm.MethodName) prog_1_method_49_code (1 : Nat) (Option.none : Option Jvm.ClassFile.FieldType)) ∈ lw_all := lw_g (lw_at lw_m9 61 rfl) rfl
theorem q2130 : (Jvm.Cond.constantLong "NapkinDeeds" (364 : Nat) (5 : Int64)) ∈ lw_all := lw_g (lw_at lw_m9 62 rfl) rfl
theorem q2131 : (Jvm.Cond.classLink "NapkinDeeds" (371 : Nat) "NapkinDeeds$1") ∈ lw_all := lw_g (lw_at lw_m9 63 rfl) rfl
theorem q2133 : (Jvm.Cond.methodLink "NapkinDeeds" (373 : Nat) ({ cls := "NapkinDeeds$1", name := "<init>", desc := "(LNapkinDeeds;I)V" } : Jvm.MethodName)) ∈ lw_all := lw_g (lw_at lw_m9 65 rfl) rfl
theorem q2143 : (Jvm.Cond.fieldLink "NapkinDeeds" (382 : Nat) "NapkinDeeds$Many" "many" "I") ∈ lw_all := lw_g (lw_at lw_m9 75 rfl) rfl
theorem q2156 : (Jvm.Cond.methodLink "NapkinDeeds" (376 : Nat) ({ cls := "NapkinDeeds$Many", name := "seeks", desc := "(ZI)LNapkinDeeds$Rows;" } : Jvm.MethodName)) ∈ lw_all := lw_g (lw_at lw_m9 88 rfl) rfl
theorem q2164 : (Jvm.Cond.instanceMethod ({ cls := "NapkinDeeds", name := "looks", desc := "(I)I" } : Jvm.MethodName)) ∈ lw_all := lw_g (lw_at lw_m9 96 rfl) rfl
theorem q2165 : (Jvm.Cond.selects "NapkinDeeds" ({ cls := "NapkinDeeds", name := "looks", desc := "(I)I" } : Jvm.MethodName) ({ cls := "NapkinDeeds", name := "looks", desc := "(I)I" } : Jvm.MethodName)) ∈ lw_all := lw_g (lw_at lw_m9 97 rfl) rfl
theorem q2166 : (Jvm.Cond.code ({ cls := "NapkinDeeds", name := "looks", desc := "(I)I" } : Jvm.MethodName) prog_1_method_52_code (3 : Nat) (Option.some Jvm.ClassFile.FieldType.int)) ∈ lw_all := lw_g (lw_at lw_m9 98 rfl) rfl
theorem q2167 : (Jvm.Cond.classLink "NapkinDeeds" (383 : Nat) "NapkinDeeds$2") ∈ lw_all := lw_g (lw_at lw_m9 99 rfl) rfl
theorem q2169 : (Jvm.Cond.methodLink "NapkinDeeds" (385 : Nat) ({ cls := "NapkinDeeds$2", name := "<init>", desc := "(LNapkinDeeds;)V" } : Jvm.MethodName)) ∈ lw_all := lw_g (lw_at lw_m9 101 rfl) rfl
theorem q2185 : (Jvm.Cond.instanceMethod ({ cls := "NapkinDeeds", name := "soonest", desc := "(I)I" } : Jvm.MethodName)) ∈ lw_all := lw_g (lw_at lw_m9 117 rfl) rfl
theorem q2186 : (Jvm.Cond.selects "NapkinDeeds" ({ cls := "NapkinDeeds", name := "soonest", desc := "(I)I" } : Jvm.MethodName) ({ cls := "NapkinDeeds", name := "soonest", desc := "(I)I" } : Jvm.MethodName)) ∈ lw_all := lw_g (lw_at lw_m9 118 rfl) rfl
theorem q2187 : (Jvm.Cond.code ({ cls := "NapkinDeeds", name := "soonest", desc := "(I)I" } : Jvm.MethodName) prog_1_method_53_code (3 : Nat) (Option.some Jvm.ClassFile.FieldType.int)) ∈ lw_all := lw_g (lw_at lw_m9 119 rfl) rfl
theorem q2188 : (Jvm.Cond.methodLink "NapkinDeeds" (394 : Nat) ({ cls := "NapkinDeeds", name := "mustTell", desc := "(I)V" } : Jvm.MethodName)) ∈ lw_all := lw_g (lw_at lw_m9 120 rfl) rfl
theorem q2189 : (Jvm.Cond.static ({ cls := "NapkinDeeds", name := "mustTell", desc := "(I)V" } : Jvm.MethodName)) ∈ lw_all := lw_g (lw_at lw_m9 121 rfl) rfl
theorem q2190 : (Jvm.Cond.code ({ cls := "NapkinDeeds", name := "mustTell", desc := "(I)V" } : Jvm.MethodName) prog_1_method_50_code (1 : Nat) (Option.none : Option Jvm.ClassFile.FieldType)) ∈ lw_all := lw_g (lw_at lw_m9 122 rfl) rfl
theorem q2191 : (Jvm.Cond.constantLong "NapkinDeeds" (366 : Nat) (14 : Int64)) ∈ lw_all := lw_g (lw_at lw_m9 123 rfl) rfl
theorem q2192 : (Jvm.Cond.classLink "NapkinDeeds" (397 : Nat) "NapkinDeeds$3") ∈ lw_all := lw_g (lw_at lw_m9 124 rfl) rfl
theorem q2194 : (Jvm.Cond.methodLink "NapkinDeeds" (399 : Nat) ({ cls := "NapkinDeeds$3", name := "<init>", desc := "(LNapkinDeeds;)V" } : Jvm.MethodName)) ∈ lw_all := lw_g (lw_at lw_m9 126 rfl) rfl
theorem q2214 : (Jvm.Cond.methodLink "NapkinDeeds" (400 : Nat) ({ cls := "NapkinDeeds$Fewest", name := "seeks", desc := "(ZI)LNapkinDeeds$Rows;" } : Jvm.MethodName)) ∈ lw_all := lw_g (lw_at lw_m9 146 rfl) rfl
theorem q2220 : (Jvm.Cond.methodLink "NapkinDeeds" (403 : Nat) ({ cls := "NapkinDeeds$Fewest", name := "tells", desc := "(I)I" } : Jvm.MethodName)) ∈ lw_all := lw_g (lw_at lw_m9 152 rfl) rfl
theorem q2254 : (Jvm.Cond.instanceMethod ({ cls := "NapkinDeeds", name := "holding", desc := "(I)I" } : Jvm.MethodName)) ∈ lw_all := lw_g (lw_at lw_m9 186 rfl) rfl
theorem q2255 : (Jvm.Cond.selects "NapkinDeeds" ({ cls := "NapkinDeeds", name := "holding", desc := "(I)I" } : Jvm.MethodName) ({ cls := "NapkinDeeds", name := "holding", desc := "(I)I" } : Jvm.MethodName)) ∈ lw_all := lw_g (lw_at lw_m9 187 rfl) rfl
theorem q2256 : (Jvm.Cond.code ({ cls := "NapkinDeeds", name := "holding", desc := "(I)I" } : Jvm.MethodName) prog_1_method_54_code (3 : Nat) (Option.some Jvm.ClassFile.FieldType.int)) ∈ lw_all := lw_g (lw_at lw_m9 188 rfl) rfl
theorem q2257 : (Jvm.Cond.classLink "NapkinDeeds" (405 : Nat) "NapkinDeeds$4") ∈ lw_all := lw_g (lw_at lw_m9 189 rfl) rfl
theorem q2259 : (Jvm.Cond.methodLink "NapkinDeeds" (407 : Nat) ({ cls := "NapkinDeeds$4", name := "<init>", desc := "(LNapkinDeeds;)V" } : Jvm.MethodName)) ∈ lw_all := lw_g (lw_at lw_m9 191 rfl) rfl
theorem q2275 : (Jvm.Cond.instanceMethod ({ cls := "NapkinDeeds", name := "best", desc := "(II)I" } : Jvm.MethodName)) ∈ lw_all := lw_g (lw_at lw_m9 207 rfl) rfl
theorem q2276 : (Jvm.Cond.selects "NapkinDeeds" ({ cls := "NapkinDeeds", name := "best", desc := "(II)I" } : Jvm.MethodName) ({ cls := "NapkinDeeds", name := "best", desc := "(II)I" } : Jvm.MethodName)) ∈ lw_all := lw_g (lw_at lw_m9 208 rfl) rfl
theorem q2277 : (Jvm.Cond.code ({ cls := "NapkinDeeds", name := "best", desc := "(II)I" } : Jvm.MethodName) prog_1_method_56_code (4 : Nat) (Option.some Jvm.ClassFile.FieldType.int)) ∈ lw_all := lw_g (lw_at lw_m9 209 rfl) rfl
theorem q2282 : (Jvm.Cond.instanceMethod ({ cls := "NapkinDeeds", name := "reads", desc := "(II)I" } : Jvm.MethodName)) ∈ lw_all := lw_g (lw_at lw_m9 214 rfl) rfl
theorem q2283 : (Jvm.Cond.selects "NapkinDeeds" ({ cls := "NapkinDeeds", name := "reads", desc := "(II)I" } : Jvm.MethodName) ({ cls := "NapkinDeeds", name := "reads", desc := "(II)I" } : Jvm.MethodName)) ∈ lw_all := lw_g (lw_at lw_m9 215 rfl) rfl
theorem q2284 : (Jvm.Cond.code ({ cls := "NapkinDeeds", name := "reads", desc := "(II)I" } : Jvm.MethodName) prog_1_method_59_code (5 : Nat) (Option.some Jvm.ClassFile.FieldType.int)) ∈ lw_all := lw_g (lw_at lw_m9 216 rfl) rfl
theorem q2285 : (Jvm.Cond.methodLink "NapkinDeeds" (430 : Nat) ({ cls := "NapkinDeeds", name := "marksOf", desc := "(I)LNapkinDeeds$Tray;" } : Jvm.MethodName)) ∈ lw_all := lw_g (lw_at lw_m9 217 rfl) rfl
theorem q2286 : (Jvm.Cond.privateMethod ({ cls := "NapkinDeeds", name := "marksOf", desc := "(I)LNapkinDeeds$Tray;" } : Jvm.MethodName)) ∈ lw_tbl := lw_at lw_m9 218 rfl
theorem q2287 : (Jvm.Cond.instanceMethod ({ cls := "NapkinDeeds", name := "marksOf", desc := "(I)LNapkinDeeds$Tray;" } : Jvm.MethodName)) ∈ lw_all := lw_g (lw_at lw_m9 219 rfl) rfl
theorem q2288 : (Jvm.Cond.code ({ cls := "NapkinDeeds", name := "marksOf", desc := "(I)LNapkinDeeds$Tray;" } : Jvm.MethodName) prog_1_method_57_code (4 : Nat) (Option.some (Jvm.ClassFile.FieldType.object "NapkinDeeds$Tray"))) ∈ lw_all := lw_g (lw_at lw_m9 220 rfl) rfl
theorem q2289 : (Jvm.Cond.constantLong "NapkinDeeds" (428 : Nat) (6 : Int64)) ∈ lw_all := lw_g (lw_at lw_m9 221 rfl) rfl
theorem q2290 : (Jvm.Cond.classLink "NapkinDeeds" (433 : Nat) "NapkinDeeds$6") ∈ lw_all := lw_g (lw_at lw_m9 222 rfl) rfl
theorem q2292 : (Jvm.Cond.methodLink "NapkinDeeds" (435 : Nat) ({ cls := "NapkinDeeds$6", name := "<init>", desc := "(LNapkinDeeds;LNapkinDeeds$Tray;)V" } : Jvm.MethodName)) ∈ lw_all := lw_g (lw_at lw_m9 224 rfl) rfl
theorem q2314 : (Jvm.Cond.instanceMethod ({ cls := "NapkinDeeds", name := "stands", desc := "(I)Z" } : Jvm.MethodName)) ∈ lw_all := lw_g (lw_at lw_m10 6 rfl) rfl
theorem q2315 : (Jvm.Cond.selects "NapkinDeeds" ({ cls := "NapkinDeeds", name := "stands", desc := "(I)Z" } : Jvm.MethodName) ({ cls := "NapkinDeeds", name := "stands", desc := "(I)Z" } : Jvm.MethodName)) ∈ lw_all := lw_g (lw_at lw_m10 7 rfl) rfl
theorem q2316 : (Jvm.Cond.code ({ cls := "NapkinDeeds", name := "stands", desc := "(I)Z" } : Jvm.MethodName) prog_1_method_63_code (2 : Nat) (Option.some Jvm.ClassFile.FieldType.boolean)) ∈ lw_all := lw_g (lw_at lw_m10 8 rfl) rfl
theorem q2317 : (Jvm.Cond.methodLink "NapkinDeeds" (450 : Nat) ({ cls := "NapkinDeeds", name := "stackOf", desc := "(I)[I" } : Jvm.MethodName)) ∈ lw_all := lw_g (lw_at lw_m10 9 rfl) rfl
theorem q2318 : (Jvm.Cond.privateMethod ({ cls := "NapkinDeeds", name := "stackOf", desc := "(I)[I" } : Jvm.MethodName)) ∈ lw_tbl := lw_at lw_m10 10 rfl
theorem q2319 : (Jvm.Cond.instanceMethod ({ cls := "NapkinDeeds", name := "stackOf", desc := "(I)[I" } : Jvm.MethodName)) ∈ lw_all := lw_g (lw_at lw_m10 11 rfl) rfl
theorem q2320 : (Jvm.Cond.code ({ cls := "NapkinDeeds", name := "stackOf", desc := "(I)[I" } : Jvm.MethodName) prog_1_method_61_code (6 : Nat) (Option.some (Jvm.ClassFile.FieldType.array Jvm.ClassFile.FieldType.int))) ∈ lw_all := lw_g (lw_at lw_m10 12 rfl) rfl
theorem q2325 : (Jvm.Cond.instanceMethod ({ cls := "NapkinDeeds", name := "stack", desc := "(I)I" } : Jvm.MethodName)) ∈ lw_all := lw_g (lw_at lw_m10 17 rfl) rfl
theorem q2326 : (Jvm.Cond.selects "NapkinDeeds" ({ cls := "NapkinDeeds", name := "stack", desc := "(I)I" } : Jvm.MethodName) ({ cls := "NapkinDeeds", name := "stack", desc := "(I)I" } : Jvm.MethodName)) ∈ lw_all := lw_g (lw_at lw_m10 18 rfl) rfl
theorem q2327 : (Jvm.Cond.code ({ cls := "NapkinDeeds", name := "stack", desc := "(I)I" } : Jvm.MethodName) prog_1_method_66_code (4 : Nat) (Option.some Jvm.ClassFile.FieldType.int)) ∈ lw_all := lw_g (lw_at lw_m10 19 rfl) rfl
theorem q2328 : (Jvm.Cond.classLink "NapkinDeeds" (462 : Nat) "NapkinDeeds$7") ∈ lw_all := lw_g (lw_at lw_m10 20 rfl) rfl
theorem q2330 : (Jvm.Cond.methodLink "NapkinDeeds" (464 : Nat) ({ cls := "NapkinDeeds$7", name := "<init>", desc := "(LNapkinDeeds;[I)V" } : Jvm.MethodName)) ∈ lw_all := lw_g (lw_at lw_m10 22 rfl) rfl
theorem q2352 : (Jvm.Cond.instanceMethod ({ cls := "NapkinDeeds", name := "made", desc := "(I)I" } : Jvm.MethodName)) ∈ lw_all := lw_g (lw_at lw_m10 44 rfl) rfl
theorem q2353 : (Jvm.Cond.selects "NapkinDeeds" ({ cls := "NapkinDeeds", name := "made", desc := "(I)I" } : Jvm.MethodName) ({ cls := "NapkinDeeds", name := "made", desc := "(I)I" } : Jvm.MethodName)) ∈ lw_all := lw_g (lw_at lw_m10 45 rfl) rfl
theorem q2354 : (Jvm.Cond.code ({ cls := "NapkinDeeds", name := "made", desc := "(I)I" } : Jvm.MethodName) prog_1_method_69_code (4 : Nat) (Option.some Jvm.ClassFile.FieldType.int)) ∈ lw_all := lw_g (lw_at lw_m10 46 rfl) rfl
theorem q2355 : (Jvm.Cond.methodLink "NapkinDeeds" (472 : Nat) ({ cls := "NapkinDeeds", name := "creasesOf", desc := "(I)I" } : Jvm.MethodName)) ∈ lw_all := lw_g (lw_at lw_m10 47 rfl) rfl
theorem q2356 : (Jvm.Cond.privateMethod ({ cls := "NapkinDeeds", name := "creasesOf", desc := "(I)I" } : Jvm.MethodName)) ∈ lw_tbl := lw_at lw_m10 48 rfl
theorem q2357 : (Jvm.Cond.instanceMethod ({ cls := "NapkinDeeds", name := "creasesOf", desc := "(I)I" } : Jvm.MethodName)) ∈ lw_all := lw_g (lw_at lw_m10 49 rfl) rfl
theorem q2358 : (Jvm.Cond.code ({ cls := "NapkinDeeds", name := "creasesOf", desc := "(I)I" } : Jvm.MethodName) prog_1_method_68_code (5 : Nat) (Option.some Jvm.ClassFile.FieldType.int)) ∈ lw_all := lw_g (lw_at lw_m10 50 rfl) rfl
theorem q2359 : (Jvm.Cond.constantLong "NapkinDeeds" (470 : Nat) (2 : Int64)) ∈ lw_all := lw_g (lw_at lw_m10 51 rfl) rfl
theorem q2360 : (Jvm.Cond.classLink "NapkinDeeds" (475 : Nat) "NapkinDeeds$9") ∈ lw_all := lw_g (lw_at lw_m10 52 rfl) rfl
theorem q2362 : (Jvm.Cond.methodLink "NapkinDeeds" (477 : Nat) ({ cls := "NapkinDeeds$9", name := "<init>", desc := "(LNapkinDeeds;I)V" } : Jvm.MethodName)) ∈ lw_all := lw_g (lw_at lw_m10 54 rfl) rfl
theorem q2381 : (Jvm.Cond.instanceMethod ({ cls := "NapkinDeeds", name := "madeBy", desc := "(II)I" } : Jvm.MethodName)) ∈ lw_all := lw_g (lw_at lw_m10 73 rfl) rfl
theorem q2382 : (Jvm.Cond.selects "NapkinDeeds" ({ cls := "NapkinDeeds", name := "madeBy", desc := "(II)I" } : Jvm.MethodName) ({ cls := "NapkinDeeds", name := "madeBy", desc := "(II)I" } : Jvm.MethodName)) ∈ lw_all := lw_g (lw_at lw_m10 74 rfl) rfl
theorem q2383 : (Jvm.Cond.code ({ cls := "NapkinDeeds", name := "madeBy", desc := "(II)I" } : Jvm.MethodName) prog_1_method_70_code (5 : Nat) (Option.some Jvm.ClassFile.FieldType.int)) ∈ lw_all := lw_g (lw_at lw_m10 75 rfl) rfl
theorem q2384 : (Jvm.Cond.classLink "NapkinDeeds" (478 : Nat) "NapkinDeeds$10") ∈ lw_all := lw_g (lw_at lw_m10 76 rfl) rfl
theorem q2386 : (Jvm.Cond.methodLink "NapkinDeeds" (480 : Nat) ({ cls := "NapkinDeeds$10", name := "<init>", desc := "(LNapkinDeeds;I)V" } : Jvm.MethodName)) ∈ lw_all := lw_g (lw_at lw_m10 78 rfl) rfl
theorem q2404 : (Jvm.Cond.methodLink "NapkinDeeds" (481 : Nat) ({ cls := "NapkinDeeds$Fewest", name := "fold", desc := "(I)I" } : Jvm.MethodName)) ∈ lw_all := lw_g (lw_at lw_m10 96 rfl) rfl
theorem q2409 : (Jvm.Cond.instanceMethod ({ cls := "NapkinDeeds", name := "fairest", desc := "(II)I" } : Jvm.MethodName)) ∈ lw_all := lw_g (lw_at lw_m10 101 rfl) rfl
theorem q2410 : (Jvm.Cond.selects "NapkinDeeds" ({ cls := "NapkinDeeds", name := "fairest", desc := "(II)I" } : Jvm.MethodName) ({ cls := "NapkinDeeds", name := "fairest", desc := "(II)I" } : Jvm.MethodName)) ∈ lw_all := lw_g (lw_at lw_m10 102 rfl) rfl
theorem q2411 : (Jvm.Cond.code ({ cls := "NapkinDeeds", name := "fairest", desc := "(II)I" } : Jvm.MethodName) prog_1_method_74_code (4 : Nat) (Option.some Jvm.ClassFile.FieldType.int)) ∈ lw_all := lw_g (lw_at lw_m10 103 rfl) rfl
theorem q2412 : (Jvm.Cond.classLink "NapkinDeeds" (489 : Nat) "NapkinDeeds$12") ∈ lw_all := lw_g (lw_at lw_m10 104 rfl) rfl
theorem q2414 : (Jvm.Cond.methodLink "NapkinDeeds" (491 : Nat) ({ cls := "NapkinDeeds$12", name := "<init>", desc := "(LNapkinDeeds;)V" } : Jvm.MethodName)) ∈ lw_all := lw_g (lw_at lw_m10 106 rfl) rfl
theorem q2432 : (Jvm.Cond.instanceMethod ({ cls := "NapkinDeeds", name := "better", desc := "(I)I" } : Jvm.MethodName)) ∈ lw_all := lw_g (lw_at lw_m10 124 rfl) rfl
theorem q2433 : (Jvm.Cond.selects "NapkinDeeds" ({ cls := "NapkinDeeds", name := "better", desc := "(I)I" } : Jvm.MethodName) ({ cls := "NapkinDeeds", name := "better", desc := "(I)I" } : Jvm.MethodName)) ∈ lw_all := lw_g (lw_at lw_m10 125 rfl) rfl
theorem q2434 : (Jvm.Cond.code ({ cls := "NapkinDeeds", name := "better", desc := "(I)I" } : Jvm.MethodName) prog_1_method_76_code (4 : Nat) (Option.some Jvm.ClassFile.FieldType.int)) ∈ lw_all := lw_g (lw_at lw_m10 126 rfl) rfl
theorem q2435 : (Jvm.Cond.methodLink "NapkinDeeds" (492 : Nat) ({ cls := "NapkinDeeds", name := "likesNow", desc := "()[I" } : Jvm.MethodName)) ∈ lw_all := lw_g (lw_at lw_m10 127 rfl) rfl
theorem q2436 : (Jvm.Cond.privateMethod ({ cls := "NapkinDeeds", name := "likesNow", desc := "()[I" } : Jvm.MethodName)) ∈ lw_tbl := lw_at lw_m10 128 rfl
theorem q2437 : (Jvm.Cond.instanceMethod ({ cls := "NapkinDeeds", name := "likesNow", desc := "()[I" } : Jvm.MethodName)) ∈ lw_all := lw_g (lw_at lw_m10 129 rfl) rfl
theorem q2438 : (Jvm.Cond.code ({ cls := "NapkinDeeds", name := "likesNow", desc := "()[I" } : Jvm.MethodName) prog_1_method_75_code (3 : Nat) (Option.some (Jvm.ClassFile.FieldType.array Jvm.ClassFile.FieldType.int))) ∈ lw_all := lw_g (lw_at lw_m10 130 rfl) rfl
theorem q2439 : (Jvm.Cond.classLink "NapkinDeeds" (496 : Nat) "NapkinDeeds$13") ∈ lw_all := lw_g (lw_at lw_m10 131 rfl) rfl
theorem q2441 : (Jvm.Cond.methodLink "NapkinDeeds" (498 : Nat) ({ cls := "NapkinDeeds$13", name := "<init>", desc := "(LNapkinDeeds;[I)V" } : Jvm.MethodName)) ∈ lw_all := lw_g (lw_at lw_m10 133 rfl) rfl
theorem q2460 : (Jvm.Cond.instanceMethod ({ cls := "NapkinDeeds", name := "keenest", desc := "(I)I" } : Jvm.MethodName)) ∈ lw_all := lw_g (lw_at lw_m10 152 rfl) rfl
theorem q2461 : (Jvm.Cond.selects "NapkinDeeds" ({ cls := "NapkinDeeds", name := "keenest", desc := "(I)I" } : Jvm.MethodName) ({ cls := "NapkinDeeds", name := "keenest", desc := "(I)I" } : Jvm.MethodName)) ∈ lw_all := lw_g (lw_at lw_m10 153 rfl) rfl
theorem q2462 : (Jvm.Cond.code ({ cls := "NapkinDeeds", name := "keenest", desc := "(I)I" } : Jvm.MethodName) prog_1_method_77_code (9 : Nat) (Option.some Jvm.ClassFile.FieldType.int)) ∈ lw_all := lw_g (lw_at lw_m10 154 rfl) rfl
theorem q2463 : (Jvm.Cond.classLink "NapkinDeeds" (499 : Nat) "NapkinDeeds$14") ∈ lw_all := lw_g (lw_at lw_m10 155 rfl) rfl
theorem q2465 : (Jvm.Cond.methodLink "NapkinDeeds" (501 : Nat) ({ cls := "NapkinDeeds$14", name := "<init>", desc := "(LNapkinDeeds;I)V" } : Jvm.MethodName)) ∈ lw_all := lw_g (lw_at lw_m10 157 rfl) rfl
theorem q2486 : (Jvm.Cond.instanceMethod ({ cls := "NapkinDeeds", name := "seen", desc := "(II)I" } : Jvm.MethodName)) ∈ lw_all := lw_g (lw_at lw_m10 178 rfl) rfl
theorem q2487 : (Jvm.Cond.selects "NapkinDeeds" ({ cls := "NapkinDeeds", name := "seen", desc := "(II)I" } : Jvm.MethodName) ({ cls := "NapkinDeeds", name := "seen", desc := "(II)I" } : Jvm.MethodName)) ∈ lw_all := lw_g (lw_at lw_m10 179 rfl) rfl
theorem q2488 : (Jvm.Cond.code ({ cls := "NapkinDeeds", name := "seen", desc := "(II)I" } : Jvm.MethodName) prog_1_method_80_code (3 : Nat) (Option.some Jvm.ClassFile.FieldType.int)) ∈ lw_all := lw_g (lw_at lw_m10 180 rfl) rfl
theorem q2489 : (Jvm.Cond.methodLink "NapkinDeeds" (512 : Nat) ({ cls := "NapkinDeeds", name := "seenBy", desc := "(II)LNapkinDeeds$Seen;" } : Jvm.MethodName)) ∈ lw_all := lw_g (lw_at lw_m10 181 rfl) rfl
theorem q2490 : (Jvm.Cond.privateMethod ({ cls := "NapkinDeeds", name := "seenBy", desc := "(II)LNapkinDeeds$Seen;" } : Jvm.MethodName)) ∈ lw_tbl := lw_at lw_m10 182 rfl
theorem q2491 : (Jvm.Cond.instanceMethod ({ cls := "NapkinDeeds", name := "seenBy", desc := "(II)LNapkinDeeds$Seen;" } : Jvm.MethodName)) ∈ lw_all := lw_g (lw_at lw_m10 183 rfl) rfl
theorem q2492 : (Jvm.Cond.code ({ cls := "NapkinDeeds", name := "seenBy", desc := "(II)LNapkinDeeds$Seen;" } : Jvm.MethodName) prog_1_method_79_code (4 : Nat) (Option.some (Jvm.ClassFile.FieldType.object "NapkinDeeds$Seen"))) ∈ lw_all := lw_g (lw_at lw_m10 184 rfl) rfl
theorem q2493 : (Jvm.Cond.classLink "NapkinDeeds" (504 : Nat) "NapkinDeeds$Seen") ∈ lw_all := lw_g (lw_at lw_m10 185 rfl) rfl
theorem q2495 : (Jvm.Cond.methodLink "NapkinDeeds" (506 : Nat) ({ cls := "NapkinDeeds", name := "seenOf", desc := "(II)LNapkinDeeds$Tray;" } : Jvm.MethodName)) ∈ lw_all := lw_g (lw_at lw_m10 187 rfl) rfl
theorem q2496 : (Jvm.Cond.privateMethod ({ cls := "NapkinDeeds", name := "seenOf", desc := "(II)LNapkinDeeds$Tray;" } : Jvm.MethodName)) ∈ lw_tbl := lw_at lw_m10 188 rfl
theorem q2497 : (Jvm.Cond.instanceMethod ({ cls := "NapkinDeeds", name := "seenOf", desc := "(II)LNapkinDeeds$Tray;" } : Jvm.MethodName)) ∈ lw_all := lw_g (lw_at lw_m10 189 rfl) rfl
theorem q2498 : (Jvm.Cond.code ({ cls := "NapkinDeeds", name := "seenOf", desc := "(II)LNapkinDeeds$Tray;" } : Jvm.MethodName) prog_1_method_78_code (4 : Nat) (Option.some (Jvm.ClassFile.FieldType.object "NapkinDeeds$Tray"))) ∈ lw_all := lw_g (lw_at lw_m10 190 rfl) rfl
theorem q2499 : (Jvm.Cond.constantLong "NapkinDeeds" (502 : Nat) (4 : Int64)) ∈ lw_all := lw_g (lw_at lw_m10 191 rfl) rfl
theorem q2500 : (Jvm.Cond.methodLink "NapkinDeeds" (510 : Nat) ({ cls := "NapkinDeeds$Seen", name := "<init>", desc := "(LNapkinDeeds;LNapkinDeeds$Tray;)V" } : Jvm.MethodName)) ∈ lw_all := lw_g (lw_at lw_m10 192 rfl) rfl
theorem q2506 : (Jvm.Cond.fieldLinkNest "NapkinDeeds" (520 : Nat) "NapkinDeeds$Seen" "tray" "LNapkinDeeds$Tray;" "NapkinDeeds") ∈ lw_tbl := lw_at lw_m10 198 rfl
theorem q2508 : (Jvm.Cond.fieldLinkNest "NapkinDeeds" (524 : Nat) "NapkinDeeds$Seen" "often" "[[I" "NapkinDeeds") ∈ lw_tbl := lw_at lw_m10 200 rfl
theorem q2510 : (Jvm.Cond.fieldLinkNest "NapkinDeeds" (516 : Nat) "NapkinDeeds$Seen" "many" "I" "NapkinDeeds") ∈ lw_tbl := lw_at lw_m10 202 rfl
theorem q2512 : (Jvm.Cond.fieldLinkNest "NapkinDeeds" (517 : Nat) "NapkinDeeds$Seen" "sure" "I" "NapkinDeeds") ∈ lw_tbl := lw_at lw_m10 204 rfl
theorem q2527 : (Jvm.Cond.methodLink "NapkinDeeds" (511 : Nat) ({ cls := "NapkinDeeds$Seen", name := "seeks", desc := "(ZI)LNapkinDeeds$Rows;" } : Jvm.MethodName)) ∈ lw_all := lw_g (lw_at lw_m10 219 rfl) rfl
theorem q2534 : (Jvm.Cond.instanceMethod ({ cls := "NapkinDeeds", name := "sure", desc := "(II)I" } : Jvm.MethodName)) ∈ lw_all := lw_g (lw_at lw_m10 226 rfl) rfl
theorem q2535 : (Jvm.Cond.selects "NapkinDeeds" ({ cls := "NapkinDeeds", name := "sure", desc := "(II)I" } : Jvm.MethodName) ({ cls := "NapkinDeeds", name := "sure", desc := "(II)I" } : Jvm.MethodName)) ∈ lw_all := lw_g (lw_at lw_m10 227 rfl) rfl
theorem q2536 : (Jvm.Cond.code ({ cls := "NapkinDeeds", name := "sure", desc := "(II)I" } : Jvm.MethodName) prog_1_method_81_code (4 : Nat) (Option.some Jvm.ClassFile.FieldType.int)) ∈ lw_all := lw_g (lw_at lw_m10 228 rfl) rfl
theorem q2541 : (Jvm.Cond.instanceMethod ({ cls := "NapkinDeeds", name := "look", desc := "(II)I" } : Jvm.MethodName)) ∈ lw_all := lw_g (lw_at lw_m10 233 rfl) rfl
theorem q2542 : (Jvm.Cond.selects "NapkinDeeds" ({ cls := "NapkinDeeds", name := "look", desc := "(II)I" } : Jvm.MethodName) ({ cls := "NapkinDeeds", name := "look", desc := "(II)I" } : Jvm.MethodName)) ∈ lw_all := lw_g (lw_at lw_m10 234 rfl) rfl
theorem q2543 : (Jvm.Cond.code ({ cls := "NapkinDeeds", name := "look", desc := "(II)I" } : Jvm.MethodName) prog_1_method_82_code (12 : Nat) (Option.some Jvm.ClassFile.FieldType.int)) ∈ lw_all := lw_g (lw_at lw_m10 235 rfl) rfl
theorem q2548 : (Jvm.Cond.instanceMethod ({ cls := "NapkinDeeds", name := "tray", desc := "(III)V" } : Jvm.MethodName)) ∈ lw_all := lw_g (lw_at lw_m11 0 rfl) rfl
theorem q2549 : (Jvm.Cond.selects "NapkinDeeds" ({ cls := "NapkinDeeds", name := "tray", desc := "(III)V" } : Jvm.MethodName) ({ cls := "NapkinDeeds", name := "tray", desc := "(III)V" } : Jvm.MethodName)) ∈ lw_all := lw_g (lw_at lw_m11 1 rfl) rfl
theorem q2550 : (Jvm.Cond.codeWith ({ cls := "NapkinDeeds", name := "tray", desc := "(III)V" } : Jvm.MethodName) prog_1_method_83_code (6 : Nat) (Option.none : Option Jvm.ClassFile.FieldType) [((33 : Nat), (40 : Nat), (43 : Nat), (530 : Nat))]) ∈ lw_all := lw_g (lw_at lw_m11 2 rfl) rfl
theorem q2551 : (Jvm.Cond.classLink "NapkinDeeds" (530 : Nat) "java/lang/NegativeArraySizeException") ∈ lw_all := lw_g (lw_at lw_m11 3 rfl) rfl
theorem q2555 : (Jvm.Cond.methodLink "NapkinDeeds" (527 : Nat) ({ cls := "NapkinDeeds$Tray", name := "make", desc := "(II)V" } : Jvm.MethodName)) ∈ lw_all := lw_g (lw_at lw_m11 7 rfl) rfl
theorem q2567 : (Jvm.Cond.instanceMethod ({ cls := "NapkinDeeds", name := "write", desc := "(IIJ)J" } : Jvm.MethodName)) ∈ lw_all := lw_g (lw_at lw_m11 19 rfl) rfl
theorem q2568 : (Jvm.Cond.selects "NapkinDeeds" ({ cls := "NapkinDeeds", name := "write", desc := "(IIJ)J" } : Jvm.MethodName) ({ cls := "NapkinDeeds", name := "write", desc := "(IIJ)J" } : Jvm.MethodName)) ∈ lw_all := lw_g (lw_at lw_m11 20 rfl) rfl
theorem q2569 : (Jvm.Cond.codeWith ({ cls := "NapkinDeeds", name := "write", desc := "(IIJ)J" } : Jvm.MethodName) prog_1_method_84_code (7 : Nat) (Option.some Jvm.ClassFile.FieldType.long) [((7 : Nat), (20 : Nat), (21 : Nat), (536 : Nat)), ((7 : Nat), (20 : Nat), (31 : Nat), (538 : Nat))]) ∈ lw_all := lw_g (lw_at lw_m11 21 rfl) rfl
theorem q2570 : (Jvm.Cond.classLink "NapkinDeeds" (536 : Nat) "java/lang/NullPointerException") ∈ lw_all := lw_g (lw_at lw_m11 22 rfl) rfl
theorem q2589 : (Jvm.Cond.classLink "NapkinDeeds" (538 : Nat) "java/lang/ArrayIndexOutOfBoundsException") ∈ lw_all := lw_g (lw_at lw_m11 41 rfl) rfl
theorem q2590 : (Jvm.Cond.methodLink "NapkinDeeds" (532 : Nat) ({ cls := "NapkinDeeds$Tray", name := "put", desc := "(IJ)V" } : Jvm.MethodName)) ∈ lw_all := lw_g (lw_at lw_m11 42 rfl) rfl
theorem q2594 : (Jvm.Cond.classLink "NapkinDeeds" (540 : Nat) "java/lang/IndexOutOfBoundsException") ∈ lw_all := lw_g (lw_at lw_m11 46 rfl) rfl
theorem q2603 : (Jvm.Cond.methodLink "NapkinDeeds" (542 : Nat) ({ cls := "java/lang/IndexOutOfBoundsException", name := "<init>", desc := "()V" } : Jvm.MethodName)) ∈ lw_all := lw_g (lw_at lw_m11 55 rfl) rfl
theorem q2613 : (Jvm.Cond.instanceMethod ({ cls := "NapkinDeeds", name := "copy", desc := "(I)I" } : Jvm.MethodName)) ∈ lw_all := lw_g (lw_at lw_m11 65 rfl) rfl
theorem q2614 : (Jvm.Cond.selects "NapkinDeeds" ({ cls := "NapkinDeeds", name := "copy", desc := "(I)I" } : Jvm.MethodName) ({ cls := "NapkinDeeds", name := "copy", desc := "(I)I" } : Jvm.MethodName)) ∈ lw_all := lw_g (lw_at lw_m11 66 rfl) rfl
theorem q2615 : (Jvm.Cond.code ({ cls := "NapkinDeeds", name := "copy", desc := "(I)I" } : Jvm.MethodName) prog_1_method_85_code (6 : Nat) (Option.some Jvm.ClassFile.FieldType.int)) ∈ lw_all := lw_g (lw_at lw_m11 67 rfl) rfl
theorem q2620 : (Jvm.Cond.instanceMethod ({ cls := "NapkinDeeds", name := "image", desc := "(I)V" } : Jvm.MethodName)) ∈ lw_all := lw_g (lw_at lw_m11 72 rfl) rfl
theorem q2621 : (Jvm.Cond.selects "NapkinDeeds" ({ cls := "NapkinDeeds", name := "image", desc := "(I)V" } : Jvm.MethodName) ({ cls := "NapkinDeeds", name := "image", desc := "(I)V" } : Jvm.MethodName)) ∈ lw_all := lw_g (lw_at lw_m11 73 rfl) rfl
theorem q2622 : (Jvm.Cond.code ({ cls := "NapkinDeeds", name := "image", desc := "(I)V" } : Jvm.MethodName) prog_1_method_86_code (2 : Nat) (Option.none : Option Jvm.ClassFile.FieldType)) ∈ lw_all := lw_g (lw_at lw_m11 74 rfl) rfl
theorem q2624 : (Jvm.Cond.methodLinkNest "NapkinDeeds" (543 : Nat) ({ cls := "NapkinDeeds$Image", name := "<init>", desc := "(LNapkinDeeds;)V" } : Jvm.MethodName) "NapkinDeeds") ∈ lw_tbl := lw_at lw_m11 76 rfl
theorem q2642 : (Jvm.Cond.methodLink "NapkinDeeds" (544 : Nat) ({ cls := "NapkinDeeds$Image", name := "takes", desc := "()V" } : Jvm.MethodName)) ∈ lw_all := lw_g (lw_at lw_m11 94 rfl) rfl
theorem q2648 : (Jvm.Cond.static ({ cls := "NapkinDeeds", name := "copies", desc := "(Ljava/util/ArrayList;Ljava/util/ArrayList;)V" } : Jvm.MethodName)) ∈ lw_all := lw_g (lw_at lw_m11 100 rfl) rfl
theorem q2649 : (Jvm.Cond.code ({ cls := "NapkinDeeds", name := "copies", desc := "(Ljava/util/ArrayList;Ljava/util/ArrayList;)V" } : Jvm.MethodName) prog_1_method_7_code (5 : Nat) (Option.none : Option Jvm.ClassFile.FieldType)) ∈ lw_all := lw_g (lw_at lw_m11 101 rfl) rfl
theorem q2650 : (Jvm.Cond.methodLink "NapkinDeeds" (77 : Nat) ({ cls := "java/util/ArrayList", name := "iterator", desc := "()Ljava/util/Iterator;" } : Jvm.MethodName)) ∈ lw_all := lw_g (lw_at lw_m11 102 rfl) rfl
theorem q2673 : (Jvm.Cond.interfaceEntry "NapkinDeeds" (81 : Nat)) ∈ lw_tbl := lw_at lw_m11 125 rfl
theorem q2674 : (Jvm.Cond.methodLink "NapkinDeeds" (81 : Nat) ({ cls := "java/util/Iterator", name := "hasNext", desc := "()Z" } : Jvm.MethodName)) ∈ lw_all := lw_g (lw_at lw_m11 126 rfl) rfl
theorem q2683 : (Jvm.Cond.interfaceEntry "NapkinDeeds" (87 : Nat)) ∈ lw_tbl := lw_at lw_m11 135 rfl
theorem q2684 : (Jvm.Cond.methodLink "NapkinDeeds" (87 : Nat) ({ cls := "java/util/Iterator", name := "next", desc := "()Ljava/lang/Object;" } : Jvm.MethodName)) ∈ lw_all := lw_g (lw_at lw_m11 136 rfl) rfl
theorem q2702 : (Jvm.Cond.instanceMethod ({ cls := "NapkinDeeds", name := "restore", desc := "(I)V" } : Jvm.MethodName)) ∈ lw_all := lw_g (lw_at lw_m11 154 rfl) rfl
theorem q2703 : (Jvm.Cond.selects "NapkinDeeds" ({ cls := "NapkinDeeds", name := "restore", desc := "(I)V" } : Jvm.MethodName) ({ cls := "NapkinDeeds", name := "restore", desc := "(I)V" } : Jvm.MethodName)) ∈ lw_all := lw_g (lw_at lw_m11 155 rfl) rfl
theorem q2704 : (Jvm.Cond.code ({ cls := "NapkinDeeds", name := "restore", desc := "(I)V" } : Jvm.MethodName) prog_1_method_87_code (2 : Nat) (Option.none : Option Jvm.ClassFile.FieldType)) ∈ lw_all := lw_g (lw_at lw_m11 156 rfl) rfl
theorem q2705 : (Jvm.Cond.methodLink "NapkinDeeds" (547 : Nat) ({ cls := "NapkinDeeds$Image", name := "gives", desc := "()V" } : Jvm.MethodName)) ∈ lw_all := lw_g (lw_at lw_m11 157 rfl) rfl
theorem q3503 : (Jvm.Cond.castable "NapkinDeeds" "java/lang/Object") ∈ lw_tbl := lw_at lw_m14 235 rfl
theorem in_X1 : ∀ w ∈ wsX10, w ∈ lw_all := lw_in wsX10 [400, 402, 404, 406, 408, 410, 412, 414, 416, 418, 420, 422, 424] (by decide +kernel) (by decide +kernel)
