/-! NapkinDeeds$State -/
set_option maxRecDepth 100000
def RX2 : String := "NapkinDeeds$State"
def TX2 : u_T := fun k => match k with
  | 0 => ("NapkinDeeds$State", "napkin", "LNapkinDeeds$Napkin;", false)
  | 1 => ("NapkinDeeds$State", "fronts", "[I", true)
  | 2 => ("NapkinDeeds$State", "backs", "[I", true)
  | 3 => ("NapkinDeeds$State", "folds", "[I", true)
  | _ => ("NapkinDeeds$State", "many", "I", false)
def tyX2 : Nat → FieldType := fun k => match k with
  | 0 => .object "NapkinDeeds$Napkin"
  | 1 => .array .int
  | 2 => .array .int
  | 3 => .array .int
  | _ => .int
abbrev wsX20 : List Cond := u_ws RX2 TX2 5
theorem nmX2 : ∀ a, a < 5 → ∀ b, b < 5 → a ≠ b → (TX2 a).2.1 ≠ (TX2 b).2.1 := by decide +kernel
theorem tyX2_ok : ∀ k, k < 5 → parseFieldDescriptor (TX2 k).2.2.1 = some (tyX2 k) := by decide +kernel
abbrev cX2_init : ByteArray := prog_34_method_1_code
def yX2_init : MethodName := ⟨RX2, "<init>", "()V"⟩
def dkwX2_init_1 : List UInt8 := [16, 6, 188, 10, 181, 0, 22, 42, 8, 188, 10, 181, 0, 25, 177]
abbrev dktX2_init_1 : List UInt8 := dkwX2_init_1 ++ []
def dkwX2_init_0 : List UInt8 := [42, 183, 0, 3, 42, 187, 0, 9, 89, 183, 0, 11, 181, 0, 12, 42, 16, 6, 188, 10, 181, 0, 18, 42]
abbrev dktX2_init_0 : List UInt8 := dkwX2_init_0 ++ dktX2_init_1
theorem dksX2_init_0 : cX2_init.data.toList.drop 0 = dktX2_init_0 := by decide +kernel
theorem dksX2_init_1 : cX2_init.data.toList.drop 24 = dktX2_init_1 := dk_seg dksX2_init_0 24 rfl rfl
theorem dX2_init_0 : decode cX2_init 0 = .ok (.aload_n 0, 1) := dk_42 (dk_at dksX2_init_0 0 rfl rfl)
theorem dX2_init_1 : decode cX2_init 1 = .ok (.invokespecial 3, 3) := dk_183 0 3 (dk_at dksX2_init_0 1 rfl rfl)
theorem dX2_init_4 : decode cX2_init 4 = .ok (.aload_n 0, 1) := dk_42 (dk_at dksX2_init_0 4 rfl rfl)
theorem dX2_init_5 : decode cX2_init 5 = .ok (.new 9, 3) := dk_187 0 9 (dk_at dksX2_init_0 5 rfl rfl)
theorem dX2_init_8 : decode cX2_init 8 = .ok (.dup, 1) := dk_89 (dk_at dksX2_init_0 8 rfl rfl)
theorem dX2_init_9 : decode cX2_init 9 = .ok (.invokespecial 11, 3) := dk_183 0 11 (dk_at dksX2_init_0 9 rfl rfl)
theorem dX2_init_12 : decode cX2_init 12 = .ok (.putfield 12, 3) := dk_181 0 12 (dk_at dksX2_init_0 12 rfl rfl)
theorem dX2_init_15 : decode cX2_init 15 = .ok (.aload_n 0, 1) := dk_42 (dk_at dksX2_init_0 15 rfl rfl)
theorem dX2_init_16 : decode cX2_init 16 = .ok (.bipush 6, 2) := dk_16 6 (dk_at dksX2_init_0 16 rfl rfl)
theorem dX2_init_18 : decode cX2_init 18 = .ok (.newarray .int, 2) := dk_188_10 (dk_at dksX2_init_0 18 rfl rfl)
theorem dX2_init_20 : decode cX2_init 20 = .ok (.putfield 18, 3) := dk_181 0 18 (dk_at dksX2_init_0 20 rfl rfl)
theorem dX2_init_23 : decode cX2_init 23 = .ok (.aload_n 0, 1) := dk_42 (dk_at dksX2_init_0 23 rfl rfl)
theorem dX2_init_24 : decode cX2_init 24 = .ok (.bipush 6, 2) := dk_16 6 (dk_at dksX2_init_1 0 rfl rfl)
theorem dX2_init_26 : decode cX2_init 26 = .ok (.newarray .int, 2) := dk_188_10 (dk_at dksX2_init_1 2 rfl rfl)
theorem dX2_init_28 : decode cX2_init 28 = .ok (.putfield 22, 3) := dk_181 0 22 (dk_at dksX2_init_1 4 rfl rfl)
theorem dX2_init_31 : decode cX2_init 31 = .ok (.aload_n 0, 1) := dk_42 (dk_at dksX2_init_1 7 rfl rfl)
theorem dX2_init_32 : decode cX2_init 32 = .ok (.iconst 5, 1) := dk_8 (dk_at dksX2_init_1 8 rfl rfl)
theorem dX2_init_33 : decode cX2_init 33 = .ok (.newarray .int, 2) := dk_188_10 (dk_at dksX2_init_1 9 rfl rfl)
theorem dX2_init_35 : decode cX2_init 35 = .ok (.putfield 25, 3) := dk_181 0 25 (dk_at dksX2_init_1 11 rfl rfl)
theorem dX2_init_38 : decode cX2_init 38 = .ok (.return_, 1) := dk_177 (dk_at dksX2_init_1 14 rfl rfl)
abbrev cX2_lies : ByteArray := prog_34_method_7_code
def yX2_lies : MethodName := ⟨RX2, "lies", "(LNapkinDeeds$Look;LNapkinDeeds$Look;)LNapkinDeeds$Look;"⟩
def dkwX2_lies_2 : List UInt8 := [16, 10, 112, 182, 0, 64, 58, 6, 45, 58, 4, 25, 6, 78, 132, 5, 1, 167, 255, 210, 45, 176]
abbrev dktX2_lies_2 : List UInt8 := dkwX2_lies_2 ++ []
def dkwX2_lies_1 : List UInt8 := [162, 0, 43, 25, 4, 45, 42, 180, 0, 25, 21, 5, 46, 16, 10, 108, 42, 180, 0, 25, 21, 5, 46]
abbrev dktX2_lies_1 : List UInt8 := dkwX2_lies_1 ++ dktX2_lies_2
def dkwX2_lies_0 : List UInt8 := [43, 42, 180, 0, 12, 182, 0, 38, 182, 0, 58, 78, 44, 58, 4, 3, 54, 5, 21, 5, 42, 180, 0, 34]
abbrev dktX2_lies_0 : List UInt8 := dkwX2_lies_0 ++ dktX2_lies_1
theorem dksX2_lies_0 : cX2_lies.data.toList.drop 0 = dktX2_lies_0 := by decide +kernel
theorem dksX2_lies_1 : cX2_lies.data.toList.drop 24 = dktX2_lies_1 := dk_seg dksX2_lies_0 24 rfl rfl
theorem dksX2_lies_2 : cX2_lies.data.toList.drop 47 = dktX2_lies_2 := dk_seg dksX2_lies_1 23 rfl rfl
theorem dX2_lies_0 : decode cX2_lies 0 = .ok (.aload_n 1, 1) := dk_43 (dk_at dksX2_lies_0 0 rfl rfl)
theorem dX2_lies_1 : decode cX2_lies 1 = .ok (.aload_n 0, 1) := dk_42 (dk_at dksX2_lies_0 1 rfl rfl)
theorem dX2_lies_2 : decode cX2_lies 2 = .ok (.getfield 12, 3) := dk_180 0 12 (dk_at dksX2_lies_0 2 rfl rfl)
theorem dX2_lies_5 : decode cX2_lies 5 = .ok (.invokevirtual 38, 3) := dk_182 0 38 (dk_at dksX2_lies_0 5 rfl rfl)
theorem dX2_lies_8 : decode cX2_lies 8 = .ok (.invokevirtual 58, 3) := dk_182 0 58 (dk_at dksX2_lies_0 8 rfl rfl)
theorem dX2_lies_11 : decode cX2_lies 11 = .ok (.astore_n 3, 1) := dk_78 (dk_at dksX2_lies_0 11 rfl rfl)
theorem dX2_lies_12 : decode cX2_lies 12 = .ok (.aload_n 2, 1) := dk_44 (dk_at dksX2_lies_0 12 rfl rfl)
theorem dX2_lies_13 : decode cX2_lies 13 = .ok (.astore 4, 2) := dk_58 4 (dk_at dksX2_lies_0 13 rfl rfl)
theorem dX2_lies_15 : decode cX2_lies 15 = .ok (.iconst 0, 1) := dk_3 (dk_at dksX2_lies_0 15 rfl rfl)
theorem dX2_lies_16 : decode cX2_lies 16 = .ok (.istore 5, 2) := dk_54 5 (dk_at dksX2_lies_0 16 rfl rfl)
theorem dX2_lies_18 : decode cX2_lies 18 = .ok (.iload 5, 2) := dk_21 5 (dk_at dksX2_lies_0 18 rfl rfl)
theorem dX2_lies_20 : decode cX2_lies 20 = .ok (.aload_n 0, 1) := dk_42 (dk_at dksX2_lies_0 20 rfl rfl)
theorem dX2_lies_21 : decode cX2_lies 21 = .ok (.getfield 34, 3) := dk_180 0 34 (dk_at dksX2_lies_0 21 rfl rfl)
theorem dX2_lies_24 : decode cX2_lies 24 = .ok (.if_icmp .ge 43, 3) := dk_162 0 43 (dk_at dksX2_lies_1 0 rfl rfl)
theorem dX2_lies_27 : decode cX2_lies 27 = .ok (.aload 4, 2) := dk_25 4 (dk_at dksX2_lies_1 3 rfl rfl)
theorem dX2_lies_29 : decode cX2_lies 29 = .ok (.aload_n 3, 1) := dk_45 (dk_at dksX2_lies_1 5 rfl rfl)
theorem dX2_lies_30 : decode cX2_lies 30 = .ok (.aload_n 0, 1) := dk_42 (dk_at dksX2_lies_1 6 rfl rfl)
theorem dX2_lies_31 : decode cX2_lies 31 = .ok (.getfield 25, 3) := dk_180 0 25 (dk_at dksX2_lies_1 7 rfl rfl)
theorem dX2_lies_34 : decode cX2_lies 34 = .ok (.iload 5, 2) := dk_21 5 (dk_at dksX2_lies_1 10 rfl rfl)
theorem dX2_lies_36 : decode cX2_lies 36 = .ok (.iaload, 1) := dk_46 (dk_at dksX2_lies_1 12 rfl rfl)
theorem dX2_lies_37 : decode cX2_lies 37 = .ok (.bipush 10, 2) := dk_16 10 (dk_at dksX2_lies_1 13 rfl rfl)
theorem dX2_lies_39 : decode cX2_lies 39 = .ok (.idiv, 1) := dk_108 (dk_at dksX2_lies_1 15 rfl rfl)
theorem dX2_lies_40 : decode cX2_lies 40 = .ok (.aload_n 0, 1) := dk_42 (dk_at dksX2_lies_1 16 rfl rfl)
theorem dX2_lies_41 : decode cX2_lies 41 = .ok (.getfield 25, 3) := dk_180 0 25 (dk_at dksX2_lies_1 17 rfl rfl)
theorem dX2_lies_44 : decode cX2_lies 44 = .ok (.iload 5, 2) := dk_21 5 (dk_at dksX2_lies_1 20 rfl rfl)
theorem dX2_lies_46 : decode cX2_lies 46 = .ok (.iaload, 1) := dk_46 (dk_at dksX2_lies_1 22 rfl rfl)
theorem dX2_lies_47 : decode cX2_lies 47 = .ok (.bipush 10, 2) := dk_16 10 (dk_at dksX2_lies_2 0 rfl rfl)
theorem dX2_lies_49 : decode cX2_lies 49 = .ok (.irem, 1) := dk_112 (dk_at dksX2_lies_2 2 rfl rfl)
theorem dX2_lies_50 : decode cX2_lies 50 = .ok (.invokevirtual 64, 3) := dk_182 0 64 (dk_at dksX2_lies_2 3 rfl rfl)
theorem dX2_lies_53 : decode cX2_lies 53 = .ok (.astore 6, 2) := dk_58 6 (dk_at dksX2_lies_2 6 rfl rfl)
theorem dX2_lies_55 : decode cX2_lies 55 = .ok (.aload_n 3, 1) := dk_45 (dk_at dksX2_lies_2 8 rfl rfl)
theorem dX2_lies_56 : decode cX2_lies 56 = .ok (.astore 4, 2) := dk_58 4 (dk_at dksX2_lies_2 9 rfl rfl)
theorem dX2_lies_58 : decode cX2_lies 58 = .ok (.aload 6, 2) := dk_25 6 (dk_at dksX2_lies_2 11 rfl rfl)
theorem dX2_lies_60 : decode cX2_lies 60 = .ok (.astore_n 3, 1) := dk_78 (dk_at dksX2_lies_2 13 rfl rfl)
theorem dX2_lies_61 : decode cX2_lies 61 = .ok (.iinc 5 1, 3) := dk_132 5 1 (dk_at dksX2_lies_2 14 rfl rfl)
theorem dX2_lies_64 : decode cX2_lies 64 = .ok (.goto (-46), 3) := dk_167 255 210 (dk_at dksX2_lies_2 17 rfl rfl)
theorem dX2_lies_67 : decode cX2_lies 67 = .ok (.aload_n 3, 1) := dk_45 (dk_at dksX2_lies_2 20 rfl rfl)
theorem dX2_lies_68 : decode cX2_lies 68 = .ok (.areturn, 1) := dk_176 (dk_at dksX2_lies_2 21 rfl rfl)
abbrev cX2_mark : ByteArray := prog_34_method_4_code
def yX2_mark : MethodName := ⟨RX2, "mark", "(I)I"⟩
def dkwX2_mark_1 : List UInt8 := [108, 46, 172]
abbrev dktX2_mark_1 : List UInt8 := dkwX2_mark_1 ++ []
def dkwX2_mark_0 : List UInt8 := [27, 5, 112, 4, 160, 0, 14, 42, 180, 0, 18, 27, 5, 108, 46, 167, 0, 11, 42, 180, 0, 22, 27, 5]
abbrev dktX2_mark_0 : List UInt8 := dkwX2_mark_0 ++ dktX2_mark_1
theorem dksX2_mark_0 : cX2_mark.data.toList.drop 0 = dktX2_mark_0 := by decide +kernel
theorem dksX2_mark_1 : cX2_mark.data.toList.drop 24 = dktX2_mark_1 := dk_seg dksX2_mark_0 24 rfl rfl
theorem dX2_mark_0 : decode cX2_mark 0 = .ok (.iload_n 1, 1) := dk_27 (dk_at dksX2_mark_0 0 rfl rfl)
theorem dX2_mark_1 : decode cX2_mark 1 = .ok (.iconst 2, 1) := dk_5 (dk_at dksX2_mark_0 1 rfl rfl)
theorem dX2_mark_2 : decode cX2_mark 2 = .ok (.irem, 1) := dk_112 (dk_at dksX2_mark_0 2 rfl rfl)
theorem dX2_mark_3 : decode cX2_mark 3 = .ok (.iconst 1, 1) := dk_4 (dk_at dksX2_mark_0 3 rfl rfl)
theorem dX2_mark_4 : decode cX2_mark 4 = .ok (.if_icmp .ne 14, 3) := dk_160 0 14 (dk_at dksX2_mark_0 4 rfl rfl)
theorem dX2_mark_7 : decode cX2_mark 7 = .ok (.aload_n 0, 1) := dk_42 (dk_at dksX2_mark_0 7 rfl rfl)
theorem dX2_mark_8 : decode cX2_mark 8 = .ok (.getfield 18, 3) := dk_180 0 18 (dk_at dksX2_mark_0 8 rfl rfl)
theorem dX2_mark_11 : decode cX2_mark 11 = .ok (.iload_n 1, 1) := dk_27 (dk_at dksX2_mark_0 11 rfl rfl)
theorem dX2_mark_12 : decode cX2_mark 12 = .ok (.iconst 2, 1) := dk_5 (dk_at dksX2_mark_0 12 rfl rfl)
theorem dX2_mark_13 : decode cX2_mark 13 = .ok (.idiv, 1) := dk_108 (dk_at dksX2_mark_0 13 rfl rfl)
theorem dX2_mark_14 : decode cX2_mark 14 = .ok (.iaload, 1) := dk_46 (dk_at dksX2_mark_0 14 rfl rfl)
theorem dX2_mark_15 : decode cX2_mark 15 = .ok (.goto 11, 3) := dk_167 0 11 (dk_at dksX2_mark_0 15 rfl rfl)
theorem dX2_mark_18 : decode cX2_mark 18 = .ok (.aload_n 0, 1) := dk_42 (dk_at dksX2_mark_0 18 rfl rfl)
theorem dX2_mark_19 : decode cX2_mark 19 = .ok (.getfield 22, 3) := dk_180 0 22 (dk_at dksX2_mark_0 19 rfl rfl)
theorem dX2_mark_22 : decode cX2_mark 22 = .ok (.iload_n 1, 1) := dk_27 (dk_at dksX2_mark_0 22 rfl rfl)
theorem dX2_mark_23 : decode cX2_mark 23 = .ok (.iconst 2, 1) := dk_5 (dk_at dksX2_mark_0 23 rfl rfl)
theorem dX2_mark_24 : decode cX2_mark 24 = .ok (.idiv, 1) := dk_108 (dk_at dksX2_mark_1 0 rfl rfl)
theorem dX2_mark_25 : decode cX2_mark 25 = .ok (.iaload, 1) := dk_46 (dk_at dksX2_mark_1 1 rfl rfl)
theorem dX2_mark_26 : decode cX2_mark 26 = .ok (.ireturn, 1) := dk_172 (dk_at dksX2_mark_1 2 rfl rfl)
abbrev cX2_all : ByteArray := prog_34_method_5_code
def yX2_all : MethodName := ⟨RX2, "all", "()I"⟩
def dkwX2_all_1 : List UInt8 := [180, 0, 22, 28, 46, 96, 96, 60, 132, 2, 1, 167, 255, 226, 27, 172]
abbrev dktX2_all_1 : List UInt8 := dkwX2_all_1 ++ []
def dkwX2_all_0 : List UInt8 := [3, 60, 3, 61, 28, 42, 180, 0, 12, 182, 0, 38, 162, 0, 25, 27, 42, 180, 0, 18, 28, 46, 42]
abbrev dktX2_all_0 : List UInt8 := dkwX2_all_0 ++ dktX2_all_1
theorem dksX2_all_0 : cX2_all.data.toList.drop 0 = dktX2_all_0 := by decide +kernel
theorem dksX2_all_1 : cX2_all.data.toList.drop 23 = dktX2_all_1 := dk_seg dksX2_all_0 23 rfl rfl
theorem dX2_all_0 : decode cX2_all 0 = .ok (.iconst 0, 1) := dk_3 (dk_at dksX2_all_0 0 rfl rfl)
theorem dX2_all_1 : decode cX2_all 1 = .ok (.istore_n 1, 1) := dk_60 (dk_at dksX2_all_0 1 rfl rfl)
theorem dX2_all_2 : decode cX2_all 2 = .ok (.iconst 0, 1) := dk_3 (dk_at dksX2_all_0 2 rfl rfl)
theorem dX2_all_3 : decode cX2_all 3 = .ok (.istore_n 2, 1) := dk_61 (dk_at dksX2_all_0 3 rfl rfl)
theorem dX2_all_4 : decode cX2_all 4 = .ok (.iload_n 2, 1) := dk_28 (dk_at dksX2_all_0 4 rfl rfl)
theorem dX2_all_5 : decode cX2_all 5 = .ok (.aload_n 0, 1) := dk_42 (dk_at dksX2_all_0 5 rfl rfl)
theorem dX2_all_6 : decode cX2_all 6 = .ok (.getfield 12, 3) := dk_180 0 12 (dk_at dksX2_all_0 6 rfl rfl)
theorem dX2_all_9 : decode cX2_all 9 = .ok (.invokevirtual 38, 3) := dk_182 0 38 (dk_at dksX2_all_0 9 rfl rfl)
theorem dX2_all_12 : decode cX2_all 12 = .ok (.if_icmp .ge 25, 3) := dk_162 0 25 (dk_at dksX2_all_0 12 rfl rfl)
theorem dX2_all_15 : decode cX2_all 15 = .ok (.iload_n 1, 1) := dk_27 (dk_at dksX2_all_0 15 rfl rfl)
theorem dX2_all_16 : decode cX2_all 16 = .ok (.aload_n 0, 1) := dk_42 (dk_at dksX2_all_0 16 rfl rfl)
theorem dX2_all_17 : decode cX2_all 17 = .ok (.getfield 18, 3) := dk_180 0 18 (dk_at dksX2_all_0 17 rfl rfl)
theorem dX2_all_20 : decode cX2_all 20 = .ok (.iload_n 2, 1) := dk_28 (dk_at dksX2_all_0 20 rfl rfl)
theorem dX2_all_21 : decode cX2_all 21 = .ok (.iaload, 1) := dk_46 (dk_at dksX2_all_0 21 rfl rfl)
theorem dX2_all_22 : decode cX2_all 22 = .ok (.aload_n 0, 1) := dk_42 (dk_at dksX2_all_0 22 rfl rfl)
theorem dX2_all_23 : decode cX2_all 23 = .ok (.getfield 22, 3) := dk_180 0 22 (dk_at dksX2_all_1 0 rfl rfl)
theorem dX2_all_26 : decode cX2_all 26 = .ok (.iload_n 2, 1) := dk_28 (dk_at dksX2_all_1 3 rfl rfl)
theorem dX2_all_27 : decode cX2_all 27 = .ok (.iaload, 1) := dk_46 (dk_at dksX2_all_1 4 rfl rfl)
theorem dX2_all_28 : decode cX2_all 28 = .ok (.iadd, 1) := dk_96 (dk_at dksX2_all_1 5 rfl rfl)
theorem dX2_all_29 : decode cX2_all 29 = .ok (.iadd, 1) := dk_96 (dk_at dksX2_all_1 6 rfl rfl)
theorem dX2_all_30 : decode cX2_all 30 = .ok (.istore_n 1, 1) := dk_60 (dk_at dksX2_all_1 7 rfl rfl)
theorem dX2_all_31 : decode cX2_all 31 = .ok (.iinc 2 1, 3) := dk_132 2 1 (dk_at dksX2_all_1 8 rfl rfl)
theorem dX2_all_34 : decode cX2_all 34 = .ok (.goto (-30), 3) := dk_167 255 226 (dk_at dksX2_all_1 11 rfl rfl)
theorem dX2_all_37 : decode cX2_all 37 = .ok (.iload_n 1, 1) := dk_27 (dk_at dksX2_all_1 14 rfl rfl)
theorem dX2_all_38 : decode cX2_all 38 = .ok (.ireturn, 1) := dk_172 (dk_at dksX2_all_1 15 rfl rfl)
abbrev cX2_become : ByteArray := prog_34_method_2_code
def yX2_become : MethodName := ⟨RX2, "become", "(LNapkinDeeds$State;)V"⟩
def dkwX2_become_2 : List UInt8 := [8, 184, 0, 28, 42, 43, 180, 0, 34, 181, 0, 34, 177]
abbrev dktX2_become_2 : List UInt8 := dkwX2_become_2 ++ []
def dkwX2_become_1 : List UInt8 := [180, 0, 22, 3, 42, 180, 0, 22, 3, 16, 6, 184, 0, 28, 43, 180, 0, 25, 3, 42, 180, 0, 25, 3]
abbrev dktX2_become_1 : List UInt8 := dkwX2_become_1 ++ dktX2_become_2
def dkwX2_become_0 : List UInt8 := [42, 43, 180, 0, 12, 181, 0, 12, 43, 180, 0, 18, 3, 42, 180, 0, 18, 3, 16, 6, 184, 0, 28, 43]
abbrev dktX2_become_0 : List UInt8 := dkwX2_become_0 ++ dktX2_become_1
theorem dksX2_become_0 : cX2_become.data.toList.drop 0 = dktX2_become_0 := by decide +kernel
theorem dksX2_become_1 : cX2_become.data.toList.drop 24 = dktX2_become_1 := dk_seg dksX2_become_0 24 rfl rfl
theorem dksX2_become_2 : cX2_become.data.toList.drop 48 = dktX2_become_2 := dk_seg dksX2_become_1 24 rfl rfl
theorem dX2_become_0 : decode cX2_become 0 = .ok (.aload_n 0, 1) := dk_42 (dk_at dksX2_become_0 0 rfl rfl)
theorem dX2_become_1 : decode cX2_become 1 = .ok (.aload_n 1, 1) := dk_43 (dk_at dksX2_become_0 1 rfl rfl)
theorem dX2_become_2 : decode cX2_become 2 = .ok (.getfield 12, 3) := dk_180 0 12 (dk_at dksX2_become_0 2 rfl rfl)
theorem dX2_become_5 : decode cX2_become 5 = .ok (.putfield 12, 3) := dk_181 0 12 (dk_at dksX2_become_0 5 rfl rfl)
theorem dX2_become_8 : decode cX2_become 8 = .ok (.aload_n 1, 1) := dk_43 (dk_at dksX2_become_0 8 rfl rfl)
theorem dX2_become_9 : decode cX2_become 9 = .ok (.getfield 18, 3) := dk_180 0 18 (dk_at dksX2_become_0 9 rfl rfl)
theorem dX2_become_12 : decode cX2_become 12 = .ok (.iconst 0, 1) := dk_3 (dk_at dksX2_become_0 12 rfl rfl)
theorem dX2_become_13 : decode cX2_become 13 = .ok (.aload_n 0, 1) := dk_42 (dk_at dksX2_become_0 13 rfl rfl)
theorem dX2_become_14 : decode cX2_become 14 = .ok (.getfield 18, 3) := dk_180 0 18 (dk_at dksX2_become_0 14 rfl rfl)
theorem dX2_become_17 : decode cX2_become 17 = .ok (.iconst 0, 1) := dk_3 (dk_at dksX2_become_0 17 rfl rfl)
theorem dX2_become_18 : decode cX2_become 18 = .ok (.bipush 6, 2) := dk_16 6 (dk_at dksX2_become_0 18 rfl rfl)
theorem dX2_become_20 : decode cX2_become 20 = .ok (.invokestatic 28, 3) := dk_184 0 28 (dk_at dksX2_become_0 20 rfl rfl)
theorem dX2_become_23 : decode cX2_become 23 = .ok (.aload_n 1, 1) := dk_43 (dk_at dksX2_become_0 23 rfl rfl)
theorem dX2_become_24 : decode cX2_become 24 = .ok (.getfield 22, 3) := dk_180 0 22 (dk_at dksX2_become_1 0 rfl rfl)
theorem dX2_become_27 : decode cX2_become 27 = .ok (.iconst 0, 1) := dk_3 (dk_at dksX2_become_1 3 rfl rfl)
theorem dX2_become_28 : decode cX2_become 28 = .ok (.aload_n 0, 1) := dk_42 (dk_at dksX2_become_1 4 rfl rfl)
theorem dX2_become_29 : decode cX2_become 29 = .ok (.getfield 22, 3) := dk_180 0 22 (dk_at dksX2_become_1 5 rfl rfl)
theorem dX2_become_32 : decode cX2_become 32 = .ok (.iconst 0, 1) := dk_3 (dk_at dksX2_become_1 8 rfl rfl)
theorem dX2_become_33 : decode cX2_become 33 = .ok (.bipush 6, 2) := dk_16 6 (dk_at dksX2_become_1 9 rfl rfl)
theorem dX2_become_35 : decode cX2_become 35 = .ok (.invokestatic 28, 3) := dk_184 0 28 (dk_at dksX2_become_1 11 rfl rfl)
theorem dX2_become_38 : decode cX2_become 38 = .ok (.aload_n 1, 1) := dk_43 (dk_at dksX2_become_1 14 rfl rfl)
theorem dX2_become_39 : decode cX2_become 39 = .ok (.getfield 25, 3) := dk_180 0 25 (dk_at dksX2_become_1 15 rfl rfl)
theorem dX2_become_42 : decode cX2_become 42 = .ok (.iconst 0, 1) := dk_3 (dk_at dksX2_become_1 18 rfl rfl)
theorem dX2_become_43 : decode cX2_become 43 = .ok (.aload_n 0, 1) := dk_42 (dk_at dksX2_become_1 19 rfl rfl)
theorem dX2_become_44 : decode cX2_become 44 = .ok (.getfield 25, 3) := dk_180 0 25 (dk_at dksX2_become_1 20 rfl rfl)
theorem dX2_become_47 : decode cX2_become 47 = .ok (.iconst 0, 1) := dk_3 (dk_at dksX2_become_1 23 rfl rfl)
theorem dX2_become_48 : decode cX2_become 48 = .ok (.iconst 5, 1) := dk_8 (dk_at dksX2_become_2 0 rfl rfl)
theorem dX2_become_49 : decode cX2_become 49 = .ok (.invokestatic 28, 3) := dk_184 0 28 (dk_at dksX2_become_2 1 rfl rfl)
theorem dX2_become_52 : decode cX2_become 52 = .ok (.aload_n 0, 1) := dk_42 (dk_at dksX2_become_2 4 rfl rfl)
theorem dX2_become_53 : decode cX2_become 53 = .ok (.aload_n 1, 1) := dk_43 (dk_at dksX2_become_2 5 rfl rfl)
theorem dX2_become_54 : decode cX2_become 54 = .ok (.getfield 34, 3) := dk_180 0 34 (dk_at dksX2_become_2 6 rfl rfl)
theorem dX2_become_57 : decode cX2_become 57 = .ok (.putfield 34, 3) := dk_181 0 34 (dk_at dksX2_become_2 9 rfl rfl)
theorem dX2_become_60 : decode cX2_become 60 = .ok (.return_, 1) := dk_177 (dk_at dksX2_become_2 12 rfl rfl)
abbrev cX2_folds : ByteArray := prog_34_method_6_code
def yX2_folds : MethodName := ⟨RX2, "folds", "(II)V"⟩
def dkwX2_folds_1 : List UInt8 := [181, 0, 34, 177]
abbrev dktX2_folds_1 : List UInt8 := dkwX2_folds_1 ++ []
def dkwX2_folds_0 : List UInt8 := [42, 180, 0, 25, 42, 180, 0, 34, 16, 10, 27, 104, 28, 96, 79, 42, 89, 180, 0, 34, 4, 96]
abbrev dktX2_folds_0 : List UInt8 := dkwX2_folds_0 ++ dktX2_folds_1
theorem dksX2_folds_0 : cX2_folds.data.toList.drop 0 = dktX2_folds_0 := by decide +kernel
theorem dksX2_folds_1 : cX2_folds.data.toList.drop 22 = dktX2_folds_1 := dk_seg dksX2_folds_0 22 rfl rfl
theorem dX2_folds_0 : decode cX2_folds 0 = .ok (.aload_n 0, 1) := dk_42 (dk_at dksX2_folds_0 0 rfl rfl)
theorem dX2_folds_1 : decode cX2_folds 1 = .ok (.getfield 25, 3) := dk_180 0 25 (dk_at dksX2_folds_0 1 rfl rfl)
theorem dX2_folds_4 : decode cX2_folds 4 = .ok (.aload_n 0, 1) := dk_42 (dk_at dksX2_folds_0 4 rfl rfl)
theorem dX2_folds_5 : decode cX2_folds 5 = .ok (.getfield 34, 3) := dk_180 0 34 (dk_at dksX2_folds_0 5 rfl rfl)
theorem dX2_folds_8 : decode cX2_folds 8 = .ok (.bipush 10, 2) := dk_16 10 (dk_at dksX2_folds_0 8 rfl rfl)
theorem dX2_folds_10 : decode cX2_folds 10 = .ok (.iload_n 1, 1) := dk_27 (dk_at dksX2_folds_0 10 rfl rfl)
theorem dX2_folds_11 : decode cX2_folds 11 = .ok (.imul, 1) := dk_104 (dk_at dksX2_folds_0 11 rfl rfl)
theorem dX2_folds_12 : decode cX2_folds 12 = .ok (.iload_n 2, 1) := dk_28 (dk_at dksX2_folds_0 12 rfl rfl)
theorem dX2_folds_13 : decode cX2_folds 13 = .ok (.iadd, 1) := dk_96 (dk_at dksX2_folds_0 13 rfl rfl)
theorem dX2_folds_14 : decode cX2_folds 14 = .ok (.iastore, 1) := dk_79 (dk_at dksX2_folds_0 14 rfl rfl)
theorem dX2_folds_15 : decode cX2_folds 15 = .ok (.aload_n 0, 1) := dk_42 (dk_at dksX2_folds_0 15 rfl rfl)
theorem dX2_folds_16 : decode cX2_folds 16 = .ok (.dup, 1) := dk_89 (dk_at dksX2_folds_0 16 rfl rfl)
theorem dX2_folds_17 : decode cX2_folds 17 = .ok (.getfield 34, 3) := dk_180 0 34 (dk_at dksX2_folds_0 17 rfl rfl)
theorem dX2_folds_20 : decode cX2_folds 20 = .ok (.iconst 1, 1) := dk_4 (dk_at dksX2_folds_0 20 rfl rfl)
theorem dX2_folds_21 : decode cX2_folds 21 = .ok (.iadd, 1) := dk_96 (dk_at dksX2_folds_0 21 rfl rfl)
theorem dX2_folds_22 : decode cX2_folds 22 = .ok (.putfield 34, 3) := dk_181 0 34 (dk_at dksX2_folds_1 0 rfl rfl)
theorem dX2_folds_25 : decode cX2_folds 25 = .ok (.return_, 1) := dk_177 (dk_at dksX2_folds_1 3 rfl rfl)
abbrev cX2_begins : ByteArray := prog_34_method_3_code
def yX2_begins : MethodName := ⟨RX2, "begins", "(LNapkinDeeds$Napkin;)V"⟩
def dkwX2_begins_2 : List UInt8 := [192, 0, 51, 182, 0, 53, 79, 132, 2, 1, 167, 255, 205, 42, 3, 181, 0, 34, 177]
abbrev dktX2_begins_2 : List UInt8 := dkwX2_begins_2 ++ []
def dkwX2_begins_1 : List UInt8 := [28, 182, 0, 45, 192, 0, 51, 182, 0, 53, 79, 42, 180, 0, 22, 28, 43, 180, 0, 56, 28, 182, 0, 45]
abbrev dktX2_begins_1 : List UInt8 := dkwX2_begins_1 ++ dktX2_begins_2
def dkwX2_begins_0 : List UInt8 := [42, 43, 181, 0, 12, 3, 61, 28, 43, 182, 0, 38, 162, 0, 49, 42, 180, 0, 18, 28, 43, 180, 0, 42]
abbrev dktX2_begins_0 : List UInt8 := dkwX2_begins_0 ++ dktX2_begins_1
theorem dksX2_begins_0 : cX2_begins.data.toList.drop 0 = dktX2_begins_0 := by decide +kernel
theorem dksX2_begins_1 : cX2_begins.data.toList.drop 24 = dktX2_begins_1 := dk_seg dksX2_begins_0 24 rfl rfl
theorem dksX2_begins_2 : cX2_begins.data.toList.drop 48 = dktX2_begins_2 := dk_seg dksX2_begins_1 24 rfl rfl
theorem dX2_begins_0 : decode cX2_begins 0 = .ok (.aload_n 0, 1) := dk_42 (dk_at dksX2_begins_0 0 rfl rfl)
theorem dX2_begins_1 : decode cX2_begins 1 = .ok (.aload_n 1, 1) := dk_43 (dk_at dksX2_begins_0 1 rfl rfl)
theorem dX2_begins_2 : decode cX2_begins 2 = .ok (.putfield 12, 3) := dk_181 0 12 (dk_at dksX2_begins_0 2 rfl rfl)
theorem dX2_begins_5 : decode cX2_begins 5 = .ok (.iconst 0, 1) := dk_3 (dk_at dksX2_begins_0 5 rfl rfl)
theorem dX2_begins_6 : decode cX2_begins 6 = .ok (.istore_n 2, 1) := dk_61 (dk_at dksX2_begins_0 6 rfl rfl)
theorem dX2_begins_7 : decode cX2_begins 7 = .ok (.iload_n 2, 1) := dk_28 (dk_at dksX2_begins_0 7 rfl rfl)
theorem dX2_begins_8 : decode cX2_begins 8 = .ok (.aload_n 1, 1) := dk_43 (dk_at dksX2_begins_0 8 rfl rfl)
theorem dX2_begins_9 : decode cX2_begins 9 = .ok (.invokevirtual 38, 3) := dk_182 0 38 (dk_at dksX2_begins_0 9 rfl rfl)
theorem dX2_begins_12 : decode cX2_begins 12 = .ok (.if_icmp .ge 49, 3) := dk_162 0 49 (dk_at dksX2_begins_0 12 rfl rfl)
theorem dX2_begins_15 : decode cX2_begins 15 = .ok (.aload_n 0, 1) := dk_42 (dk_at dksX2_begins_0 15 rfl rfl)
theorem dX2_begins_16 : decode cX2_begins 16 = .ok (.getfield 18, 3) := dk_180 0 18 (dk_at dksX2_begins_0 16 rfl rfl)
theorem dX2_begins_19 : decode cX2_begins 19 = .ok (.iload_n 2, 1) := dk_28 (dk_at dksX2_begins_0 19 rfl rfl)
theorem dX2_begins_20 : decode cX2_begins 20 = .ok (.aload_n 1, 1) := dk_43 (dk_at dksX2_begins_0 20 rfl rfl)
theorem dX2_begins_21 : decode cX2_begins 21 = .ok (.getfield 42, 3) := dk_180 0 42 (dk_at dksX2_begins_0 21 rfl rfl)
theorem dX2_begins_24 : decode cX2_begins 24 = .ok (.iload_n 2, 1) := dk_28 (dk_at dksX2_begins_1 0 rfl rfl)
theorem dX2_begins_25 : decode cX2_begins 25 = .ok (.invokevirtual 45, 3) := dk_182 0 45 (dk_at dksX2_begins_1 1 rfl rfl)
theorem dX2_begins_28 : decode cX2_begins 28 = .ok (.checkcast 51, 3) := dk_192 0 51 (dk_at dksX2_begins_1 4 rfl rfl)
theorem dX2_begins_31 : decode cX2_begins 31 = .ok (.invokevirtual 53, 3) := dk_182 0 53 (dk_at dksX2_begins_1 7 rfl rfl)
theorem dX2_begins_34 : decode cX2_begins 34 = .ok (.iastore, 1) := dk_79 (dk_at dksX2_begins_1 10 rfl rfl)
theorem dX2_begins_35 : decode cX2_begins 35 = .ok (.aload_n 0, 1) := dk_42 (dk_at dksX2_begins_1 11 rfl rfl)
theorem dX2_begins_36 : decode cX2_begins 36 = .ok (.getfield 22, 3) := dk_180 0 22 (dk_at dksX2_begins_1 12 rfl rfl)
theorem dX2_begins_39 : decode cX2_begins 39 = .ok (.iload_n 2, 1) := dk_28 (dk_at dksX2_begins_1 15 rfl rfl)
theorem dX2_begins_40 : decode cX2_begins 40 = .ok (.aload_n 1, 1) := dk_43 (dk_at dksX2_begins_1 16 rfl rfl)
theorem dX2_begins_41 : decode cX2_begins 41 = .ok (.getfield 56, 3) := dk_180 0 56 (dk_at dksX2_begins_1 17 rfl rfl)
theorem dX2_begins_44 : decode cX2_begins 44 = .ok (.iload_n 2, 1) := dk_28 (dk_at dksX2_begins_1 20 rfl rfl)
theorem dX2_begins_45 : decode cX2_begins 45 = .ok (.invokevirtual 45, 3) := dk_182 0 45 (dk_at dksX2_begins_1 21 rfl rfl)
theorem dX2_begins_48 : decode cX2_begins 48 = .ok (.checkcast 51, 3) := dk_192 0 51 (dk_at dksX2_begins_2 0 rfl rfl)
theorem dX2_begins_51 : decode cX2_begins 51 = .ok (.invokevirtual 53, 3) := dk_182 0 53 (dk_at dksX2_begins_2 3 rfl rfl)
theorem dX2_begins_54 : decode cX2_begins 54 = .ok (.iastore, 1) := dk_79 (dk_at dksX2_begins_2 6 rfl rfl)
theorem dX2_begins_55 : decode cX2_begins 55 = .ok (.iinc 2 1, 3) := dk_132 2 1 (dk_at dksX2_begins_2 7 rfl rfl)
theorem dX2_begins_58 : decode cX2_begins 58 = .ok (.goto (-51), 3) := dk_167 255 205 (dk_at dksX2_begins_2 10 rfl rfl)
theorem dX2_begins_61 : decode cX2_begins 61 = .ok (.aload_n 0, 1) := dk_42 (dk_at dksX2_begins_2 13 rfl rfl)
theorem dX2_begins_62 : decode cX2_begins 62 = .ok (.iconst 0, 1) := dk_3 (dk_at dksX2_begins_2 14 rfl rfl)
theorem dX2_begins_63 : decode cX2_begins 63 = .ok (.putfield 34, 3) := dk_181 0 34 (dk_at dksX2_begins_2 15 rfl rfl)
theorem dX2_begins_66 : decode cX2_begins 66 = .ok (.return_, 1) := dk_177 (dk_at dksX2_begins_2 18 rfl rfl)
theorem q150 : (Jvm.Cond.initialized "NapkinDeeds$State") ∈ lw_all := lw_g (lw_at lw_m1 2 rfl) rfl
theorem q228 : (Jvm.Cond.instantiable "NapkinDeeds$State" (5 : Nat)) ∈ lw_all := lw_g (lw_at lw_m1 80 rfl) rfl
theorem q230 : (Jvm.Cond.instanceMethod ({ cls := "NapkinDeeds$State", name := "<init>", desc := "()V" } : Jvm.MethodName)) ∈ lw_all := lw_g (lw_at lw_m1 82 rfl) rfl
theorem q231 : (Jvm.Cond.code ({ cls := "NapkinDeeds$State", name := "<init>", desc := "()V" } : Jvm.MethodName) prog_34_method_1_code (1 : Nat) (Option.none : Option Jvm.ClassFile.FieldType)) ∈ lw_all := lw_g (lw_at lw_m1 83 rfl) rfl
theorem q232 : (Jvm.Cond.methodLink "NapkinDeeds$State" (3 : Nat) ({ cls := "java/lang/Object", name := "<init>", desc := "()V" } : Jvm.MethodName)) ∈ lw_all := lw_g (lw_at lw_m1 84 rfl) rfl
theorem q233 : (Jvm.Cond.classLink "NapkinDeeds$State" (9 : Nat) "NapkinDeeds$Napkin") ∈ lw_all := lw_g (lw_at lw_m1 85 rfl) rfl
theorem q235 : (Jvm.Cond.methodLinkNest "NapkinDeeds$State" (11 : Nat) ({ cls := "NapkinDeeds$Napkin", name := "<init>", desc := "()V" } : Jvm.MethodName) "NapkinDeeds") ∈ lw_tbl := lw_at lw_m1 87 rfl
theorem q269 : (Jvm.Cond.fieldLinkNest "NapkinDeeds$State" (42 : Nat) "NapkinDeeds$Napkin" "fronts" "Ljava/util/ArrayList;" "NapkinDeeds") ∈ lw_tbl := lw_at lw_m1 121 rfl
theorem q272 : (Jvm.Cond.fieldLinkNest "NapkinDeeds$State" (56 : Nat) "NapkinDeeds$Napkin" "backs" "Ljava/util/ArrayList;" "NapkinDeeds") ∈ lw_tbl := lw_at lw_m1 124 rfl
theorem q300 : (Jvm.Cond.fieldLink "NapkinDeeds$State" (12 : Nat) "NapkinDeeds$State" "napkin" "LNapkinDeeds$Napkin;") ∈ lw_all := lw_g (lw_at lw_m1 152 rfl) rfl
theorem q302 : (Jvm.Cond.fieldLink "NapkinDeeds$State" (18 : Nat) "NapkinDeeds$State" "fronts" "[I") ∈ lw_all := lw_g (lw_at lw_m1 154 rfl) rfl
theorem q304 : (Jvm.Cond.fieldLink "NapkinDeeds$State" (22 : Nat) "NapkinDeeds$State" "backs" "[I") ∈ lw_all := lw_g (lw_at lw_m1 156 rfl) rfl
theorem q306 : (Jvm.Cond.fieldLink "NapkinDeeds$State" (25 : Nat) "NapkinDeeds$State" "folds" "[I") ∈ lw_all := lw_g (lw_at lw_m1 158 rfl) rfl
theorem q308 : (Jvm.Cond.fieldLink "NapkinDeeds$State" (34 : Nat) "NapkinDeeds$State" "many" "I") ∈ lw_all := lw_g (lw_at lw_m1 160 rfl) rfl
theorem q311 : (Jvm.Cond.lays "NapkinDeeds$State" "NapkinDeeds$State" "napkin" "LNapkinDeeds$Napkin;") ∈ lw_all := lw_g (lw_at lw_m1 163 rfl) rfl
theorem q312 : (Jvm.Cond.soleField "NapkinDeeds$State" "napkin") ∈ lw_all := lw_g (lw_at lw_m1 164 rfl) rfl
theorem q313 : (Jvm.Cond.laysFinal "NapkinDeeds$State" "NapkinDeeds$State" "fronts" "[I") ∈ lw_all := lw_g (lw_at lw_m1 165 rfl) rfl
theorem q314 : (Jvm.Cond.soleField "NapkinDeeds$State" "fronts") ∈ lw_all := lw_g (lw_at lw_m1 166 rfl) rfl
theorem q315 : (Jvm.Cond.laysFinal "NapkinDeeds$State" "NapkinDeeds$State" "backs" "[I") ∈ lw_all := lw_g (lw_at lw_m1 167 rfl) rfl
theorem q316 : (Jvm.Cond.soleField "NapkinDeeds$State" "backs") ∈ lw_all := lw_g (lw_at lw_m1 168 rfl) rfl
theorem q317 : (Jvm.Cond.laysFinal "NapkinDeeds$State" "NapkinDeeds$State" "folds" "[I") ∈ lw_all := lw_g (lw_at lw_m1 169 rfl) rfl
theorem q318 : (Jvm.Cond.soleField "NapkinDeeds$State" "folds") ∈ lw_all := lw_g (lw_at lw_m1 170 rfl) rfl
theorem q319 : (Jvm.Cond.lays "NapkinDeeds$State" "NapkinDeeds$State" "many" "I") ∈ lw_all := lw_g (lw_at lw_m1 171 rfl) rfl
theorem q320 : (Jvm.Cond.soleField "NapkinDeeds$State" "many") ∈ lw_all := lw_g (lw_at lw_m1 172 rfl) rfl
theorem q321 : (Jvm.Cond.superclass "NapkinDeeds$State" "java/lang/Object") ∈ lw_all := lw_g (lw_at lw_m1 173 rfl) rfl
theorem q449 : (Jvm.Cond.instanceMethod ({ cls := "NapkinDeeds$State", name := "lies", desc := "(LNapkinDeeds$Look;LNapkinDeeds$Look;)LNapkinDeeds$Look;" } : Jvm.MethodName)) ∈ lw_all := lw_g (lw_at lw_m2 61 rfl) rfl
theorem q450 : (Jvm.Cond.selects "NapkinDeeds$State" ({ cls := "NapkinDeeds$State", name := "lies", desc := "(LNapkinDeeds$Look;LNapkinDeeds$Look;)LNapkinDeeds$Look;" } : Jvm.MethodName) ({ cls := "NapkinDeeds$State", name := "lies", desc := "(LNapkinDeeds$Look;LNapkinDeeds$Look;)LNapkinDeeds$Look;" } : Jvm.MethodName)) ∈ lw_all := lw_g (lw_at lw_m2 62 rfl) rfl
theorem q451 : (Jvm.Cond.code ({ cls := "NapkinDeeds$State", name := "lies", desc := "(LNapkinDeeds$Look;LNapkinDeeds$Look;)LNapkinDeeds$Look;" } : Jvm.MethodName) prog_34_method_7_code (7 : Nat) (Option.some (Jvm.ClassFile.FieldType.object "NapkinDeeds$Look"))) ∈ lw_all := lw_g (lw_at lw_m2 63 rfl) rfl
theorem q452 : (Jvm.Cond.methodLink "NapkinDeeds$State" (38 : Nat) ({ cls := "NapkinDeeds$Napkin", name := "cells", desc := "()I" } : Jvm.MethodName)) ∈ lw_all := lw_g (lw_at lw_m2 64 rfl) rfl
theorem q460 : (Jvm.Cond.methodLink "NapkinDeeds$State" (58 : Nat) ({ cls := "NapkinDeeds$Look", name := "flat", desc := "(I)LNapkinDeeds$Look;" } : Jvm.MethodName)) ∈ lw_all := lw_g (lw_at lw_m2 72 rfl) rfl
theorem q464 : (Jvm.Cond.methodLink "NapkinDeeds$State" (64 : Nat) ({ cls := "NapkinDeeds$Look", name := "folded", desc := "(LNapkinDeeds$Look;II)LNapkinDeeds$Look;" } : Jvm.MethodName)) ∈ lw_all := lw_g (lw_at lw_m2 76 rfl) rfl
theorem q500 : (Jvm.Cond.instanceMethod ({ cls := "NapkinDeeds$State", name := "mark", desc := "(I)I" } : Jvm.MethodName)) ∈ lw_all := lw_g (lw_at lw_m2 112 rfl) rfl
theorem q501 : (Jvm.Cond.selects "NapkinDeeds$State" ({ cls := "NapkinDeeds$State", name := "mark", desc := "(I)I" } : Jvm.MethodName) ({ cls := "NapkinDeeds$State", name := "mark", desc := "(I)I" } : Jvm.MethodName)) ∈ lw_all := lw_g (lw_at lw_m2 113 rfl) rfl
theorem q502 : (Jvm.Cond.code ({ cls := "NapkinDeeds$State", name := "mark", desc := "(I)I" } : Jvm.MethodName) prog_34_method_4_code (2 : Nat) (Option.some Jvm.ClassFile.FieldType.int)) ∈ lw_all := lw_g (lw_at lw_m2 114 rfl) rfl
theorem q512 : (Jvm.Cond.instanceMethod ({ cls := "NapkinDeeds$State", name := "all", desc := "()I" } : Jvm.MethodName)) ∈ lw_all := lw_g (lw_at lw_m2 124 rfl) rfl
theorem q513 : (Jvm.Cond.selects "NapkinDeeds$State" ({ cls := "NapkinDeeds$State", name := "all", desc := "()I" } : Jvm.MethodName) ({ cls := "NapkinDeeds$State", name := "all", desc := "()I" } : Jvm.MethodName)) ∈ lw_all := lw_g (lw_at lw_m2 125 rfl) rfl
theorem q514 : (Jvm.Cond.code ({ cls := "NapkinDeeds$State", name := "all", desc := "()I" } : Jvm.MethodName) prog_34_method_5_code (3 : Nat) (Option.some Jvm.ClassFile.FieldType.int)) ∈ lw_all := lw_g (lw_at lw_m2 126 rfl) rfl
theorem q657 : (Jvm.Cond.instanceMethod ({ cls := "NapkinDeeds$State", name := "become", desc := "(LNapkinDeeds$State;)V" } : Jvm.MethodName)) ∈ lw_all := lw_g (lw_at lw_m3 29 rfl) rfl
theorem q658 : (Jvm.Cond.selects "NapkinDeeds$State" ({ cls := "NapkinDeeds$State", name := "become", desc := "(LNapkinDeeds$State;)V" } : Jvm.MethodName) ({ cls := "NapkinDeeds$State", name := "become", desc := "(LNapkinDeeds$State;)V" } : Jvm.MethodName)) ∈ lw_all := lw_g (lw_at lw_m3 30 rfl) rfl
theorem q659 : (Jvm.Cond.code ({ cls := "NapkinDeeds$State", name := "become", desc := "(LNapkinDeeds$State;)V" } : Jvm.MethodName) prog_34_method_2_code (2 : Nat) (Option.none : Option Jvm.ClassFile.FieldType)) ∈ lw_all := lw_g (lw_at lw_m3 31 rfl) rfl
theorem q660 : (Jvm.Cond.methodLink "NapkinDeeds$State" (28 : Nat) ({ cls := "java/lang/System", name := "arraycopy", desc := "(Ljava/lang/Object;ILjava/lang/Object;II)V" } : Jvm.MethodName)) ∈ lw_all := lw_g (lw_at lw_m3 32 rfl) rfl
theorem q720 : (Jvm.Cond.selects "NapkinDeeds$State" ({ cls := "java/lang/Object", name := "getClass", desc := "()Ljava/lang/Class;" } : Jvm.MethodName) ({ cls := "java/lang/Object", name := "getClass", desc := "()Ljava/lang/Class;" } : Jvm.MethodName)) ∈ lw_all := lw_g (lw_at lw_m3 92 rfl) rfl
theorem q751 : (Jvm.Cond.instanceMethod ({ cls := "NapkinDeeds$State", name := "folds", desc := "(II)V" } : Jvm.MethodName)) ∈ lw_all := lw_g (lw_at lw_m3 123 rfl) rfl
theorem q752 : (Jvm.Cond.selects "NapkinDeeds$State" ({ cls := "NapkinDeeds$State", name := "folds", desc := "(II)V" } : Jvm.MethodName) ({ cls := "NapkinDeeds$State", name := "folds", desc := "(II)V" } : Jvm.MethodName)) ∈ lw_all := lw_g (lw_at lw_m3 124 rfl) rfl
theorem q753 : (Jvm.Cond.code ({ cls := "NapkinDeeds$State", name := "folds", desc := "(II)V" } : Jvm.MethodName) prog_34_method_6_code (3 : Nat) (Option.none : Option Jvm.ClassFile.FieldType)) ∈ lw_all := lw_g (lw_at lw_m3 125 rfl) rfl
theorem q1918 : (Jvm.Cond.instanceMethod ({ cls := "NapkinDeeds$State", name := "begins", desc := "(LNapkinDeeds$Napkin;)V" } : Jvm.MethodName)) ∈ lw_all := lw_g (lw_at lw_m8 90 rfl) rfl
theorem q1919 : (Jvm.Cond.selects "NapkinDeeds$State" ({ cls := "NapkinDeeds$State", name := "begins", desc := "(LNapkinDeeds$Napkin;)V" } : Jvm.MethodName) ({ cls := "NapkinDeeds$State", name := "begins", desc := "(LNapkinDeeds$Napkin;)V" } : Jvm.MethodName)) ∈ lw_all := lw_g (lw_at lw_m8 91 rfl) rfl
theorem q1920 : (Jvm.Cond.code ({ cls := "NapkinDeeds$State", name := "begins", desc := "(LNapkinDeeds$Napkin;)V" } : Jvm.MethodName) prog_34_method_3_code (3 : Nat) (Option.none : Option Jvm.ClassFile.FieldType)) ∈ lw_all := lw_g (lw_at lw_m8 92 rfl) rfl
theorem q1921 : (Jvm.Cond.methodLink "NapkinDeeds$State" (45 : Nat) ({ cls := "java/util/ArrayList", name := "get", desc := "(I)Ljava/lang/Object;" } : Jvm.MethodName)) ∈ lw_all := lw_g (lw_at lw_m8 93 rfl) rfl
theorem q1922 : (Jvm.Cond.classLink "NapkinDeeds$State" (51 : Nat) "java/lang/Integer") ∈ lw_all := lw_g (lw_at lw_m8 94 rfl) rfl
theorem q1923 : (Jvm.Cond.methodLink "NapkinDeeds$State" (53 : Nat) ({ cls := "java/lang/Integer", name := "intValue", desc := "()I" } : Jvm.MethodName)) ∈ lw_all := lw_g (lw_at lw_m8 95 rfl) rfl
theorem q3504 : (Jvm.Cond.castable "NapkinDeeds$State" "java/lang/Object") ∈ lw_tbl := lw_at lw_m14 236 rfl
theorem in_X2 : ∀ w ∈ wsX20, w ∈ lw_all := lw_in wsX20 [311, 313, 315, 317, 319] (by decide +kernel) (by decide +kernel)
/-! NapkinDeeds$Napkin -/
set_option maxRecDepth 100000
def RX3 : String := "NapkinDeeds$Napkin"
def TX3 : u_T := fun k => match k with
  | 0 => ("NapkinDeeds$Napkin", "fronts", "Ljava/util/ArrayList;", true)
  | 1 => ("NapkinDeeds$Napkin", "backs", "Ljava/util/ArrayList;", true)
  | 2 => ("NapkinDeeds$Napkin", "guests", "Ljava/util/ArrayList;", true)
  | 3 => ("NapkinDeeds$Napkin", "lines", "I", false)
  | 4 => ("NapkinDeeds$Napkin", "worth", "LNapkinDeeds$Sum;", false)
  | 5 => ("NapkinDeeds$Napkin", "likes", "LNapkinDeeds$Sum;", false)
  | _ => ("NapkinDeeds$Napkin", "holds", "LNapkinDeeds$Truth;", false)
def tyX3 : Nat → FieldType := fun k => match k with
  | 0 => .object "java/util/ArrayList"
  | 1 => .object "java/util/ArrayList"
  | 2 => .object "java/util/ArrayList"
  | 3 => .int
  | 4 => .object "NapkinDeeds$Sum"
  | 5 => .object "NapkinDeeds$Sum"
  | _ => .object "NapkinDeeds$Truth"
abbrev wsX30 : List Cond := u_ws RX3 TX3 7
theorem nmX3 : ∀ a, a < 7 → ∀ b, b < 7 → a ≠ b → (TX3 a).2.1 ≠ (TX3 b).2.1 := by decide +kernel
theorem tyX3_ok : ∀ k, k < 7 → parseFieldDescriptor (TX3 k).2.2.1 = some (tyX3 k) := by decide +kernel
abbrev cX3_init : ByteArray := prog_27_method_1_code
def yX3_init : MethodName := ⟨RX3, "<init>", "()V"⟩
def dkwX3_init_1 : List UInt8 := [181, 0, 16, 42, 187, 0, 7, 89, 183, 0, 9, 181, 0, 19, 177]
abbrev dktX3_init_1 : List UInt8 := dkwX3_init_1 ++ []
def dkwX3_init_0 : List UInt8 := [42, 183, 0, 1, 42, 187, 0, 7, 89, 183, 0, 9, 181, 0, 10, 42, 187, 0, 7, 89, 183, 0, 9]
abbrev dktX3_init_0 : List UInt8 := dkwX3_init_0 ++ dktX3_init_1
theorem dksX3_init_0 : cX3_init.data.toList.drop 0 = dktX3_init_0 := by decide +kernel
theorem dksX3_init_1 : cX3_init.data.toList.drop 23 = dktX3_init_1 := dk_seg dksX3_init_0 23 rfl rfl
theorem dX3_init_0 : decode cX3_init 0 = .ok (.aload_n 0, 1) := dk_42 (dk_at dksX3_init_0 0 rfl rfl)
theorem dX3_init_1 : decode cX3_init 1 = .ok (.invokespecial 1, 3) := dk_183 0 1 (dk_at dksX3_init_0 1 rfl rfl)
theorem dX3_init_4 : decode cX3_init 4 = .ok (.aload_n 0, 1) := dk_42 (dk_at dksX3_init_0 4 rfl rfl)
theorem dX3_init_5 : decode cX3_init 5 = .ok (.new 7, 3) := dk_187 0 7 (dk_at dksX3_init_0 5 rfl rfl)
theorem dX3_init_8 : decode cX3_init 8 = .ok (.dup, 1) := dk_89 (dk_at dksX3_init_0 8 rfl rfl)
theorem dX3_init_9 : decode cX3_init 9 = .ok (.invokespecial 9, 3) := dk_183 0 9 (dk_at dksX3_init_0 9 rfl rfl)
theorem dX3_init_12 : decode cX3_init 12 = .ok (.putfield 10, 3) := dk_181 0 10 (dk_at dksX3_init_0 12 rfl rfl)
theorem dX3_init_15 : decode cX3_init 15 = .ok (.aload_n 0, 1) := dk_42 (dk_at dksX3_init_0 15 rfl rfl)
theorem dX3_init_16 : decode cX3_init 16 = .ok (.new 7, 3) := dk_187 0 7 (dk_at dksX3_init_0 16 rfl rfl)
theorem dX3_init_19 : decode cX3_init 19 = .ok (.dup, 1) := dk_89 (dk_at dksX3_init_0 19 rfl rfl)
theorem dX3_init_20 : decode cX3_init 20 = .ok (.invokespecial 9, 3) := dk_183 0 9 (dk_at dksX3_init_0 20 rfl rfl)
theorem dX3_init_23 : decode cX3_init 23 = .ok (.putfield 16, 3) := dk_181 0 16 (dk_at dksX3_init_1 0 rfl rfl)
theorem dX3_init_26 : decode cX3_init 26 = .ok (.aload_n 0, 1) := dk_42 (dk_at dksX3_init_1 3 rfl rfl)
theorem dX3_init_27 : decode cX3_init 27 = .ok (.new 7, 3) := dk_187 0 7 (dk_at dksX3_init_1 4 rfl rfl)
theorem dX3_init_30 : decode cX3_init 30 = .ok (.dup, 1) := dk_89 (dk_at dksX3_init_1 7 rfl rfl)
theorem dX3_init_31 : decode cX3_init 31 = .ok (.invokespecial 9, 3) := dk_183 0 9 (dk_at dksX3_init_1 8 rfl rfl)
theorem dX3_init_34 : decode cX3_init 34 = .ok (.putfield 19, 3) := dk_181 0 19 (dk_at dksX3_init_1 11 rfl rfl)
theorem dX3_init_37 : decode cX3_init 37 = .ok (.return_, 1) := dk_177 (dk_at dksX3_init_1 14 rfl rfl)
abbrev cX3_cells : ByteArray := prog_27_method_2_code
def yX3_cells : MethodName := ⟨RX3, "cells", "()I"⟩
def dkwX3_cells_0 : List UInt8 := [42, 180, 0, 10, 182, 0, 22, 172]
abbrev dktX3_cells_0 : List UInt8 := dkwX3_cells_0 ++ []
theorem dksX3_cells_0 : cX3_cells.data.toList.drop 0 = dktX3_cells_0 := by decide +kernel
theorem dX3_cells_0 : decode cX3_cells 0 = .ok (.aload_n 0, 1) := dk_42 (dk_at dksX3_cells_0 0 rfl rfl)
theorem dX3_cells_1 : decode cX3_cells 1 = .ok (.getfield 10, 3) := dk_180 0 10 (dk_at dksX3_cells_0 1 rfl rfl)
theorem dX3_cells_4 : decode cX3_cells 4 = .ok (.invokevirtual 22, 3) := dk_182 0 22 (dk_at dksX3_cells_0 4 rfl rfl)
theorem dX3_cells_7 : decode cX3_cells 7 = .ok (.ireturn, 1) := dk_172 (dk_at dksX3_cells_0 7 rfl rfl)
abbrev cX3_isCell : ByteArray := prog_27_method_3_code
def yX3_isCell : MethodName := ⟨RX3, "isCell", "(J)Z"⟩
def dkwX3_isCell_0 : List UInt8 := [31, 9, 42, 182, 0, 26, 4, 100, 133, 184, 0, 29, 172]
abbrev dktX3_isCell_0 : List UInt8 := dkwX3_isCell_0 ++ []
theorem dksX3_isCell_0 : cX3_isCell.data.toList.drop 0 = dktX3_isCell_0 := by decide +kernel
theorem dX3_isCell_0 : decode cX3_isCell 0 = .ok (.lload_n 1, 1) := dk_31 (dk_at dksX3_isCell_0 0 rfl rfl)
theorem dX3_isCell_1 : decode cX3_isCell 1 = .ok (.lconst 0, 1) := dk_9 (dk_at dksX3_isCell_0 1 rfl rfl)
theorem dX3_isCell_2 : decode cX3_isCell 2 = .ok (.aload_n 0, 1) := dk_42 (dk_at dksX3_isCell_0 2 rfl rfl)
theorem dX3_isCell_3 : decode cX3_isCell 3 = .ok (.invokevirtual 26, 3) := dk_182 0 26 (dk_at dksX3_isCell_0 3 rfl rfl)
theorem dX3_isCell_6 : decode cX3_isCell 6 = .ok (.iconst 1, 1) := dk_4 (dk_at dksX3_isCell_0 6 rfl rfl)
theorem dX3_isCell_7 : decode cX3_isCell 7 = .ok (.isub, 1) := dk_100 (dk_at dksX3_isCell_0 7 rfl rfl)
theorem dX3_isCell_8 : decode cX3_isCell 8 = .ok (.i2l, 1) := dk_133 (dk_at dksX3_isCell_0 8 rfl rfl)
theorem dX3_isCell_9 : decode cX3_isCell 9 = .ok (.invokestatic 29, 3) := dk_184 0 29 (dk_at dksX3_isCell_0 9 rfl rfl)
theorem dX3_isCell_12 : decode cX3_isCell 12 = .ok (.ireturn, 1) := dk_172 (dk_at dksX3_isCell_0 12 rfl rfl)
theorem q151 : (Jvm.Cond.initialized "NapkinDeeds$Napkin") ∈ lw_all := lw_g (lw_at lw_m1 3 rfl) rfl
theorem q234 : (Jvm.Cond.instantiable "NapkinDeeds$Napkin" (7 : Nat)) ∈ lw_all := lw_g (lw_at lw_m1 86 rfl) rfl
theorem q236 : (Jvm.Cond.instanceMethod ({ cls := "NapkinDeeds$Napkin", name := "<init>", desc := "()V" } : Jvm.MethodName)) ∈ lw_all := lw_g (lw_at lw_m1 88 rfl) rfl
theorem q237 : (Jvm.Cond.code ({ cls := "NapkinDeeds$Napkin", name := "<init>", desc := "()V" } : Jvm.MethodName) prog_27_method_1_code (1 : Nat) (Option.none : Option Jvm.ClassFile.FieldType)) ∈ lw_all := lw_g (lw_at lw_m1 89 rfl) rfl
theorem q238 : (Jvm.Cond.methodLink "NapkinDeeds$Napkin" (1 : Nat) ({ cls := "java/lang/Object", name := "<init>", desc := "()V" } : Jvm.MethodName)) ∈ lw_all := lw_g (lw_at lw_m1 90 rfl) rfl
theorem q239 : (Jvm.Cond.classLink "NapkinDeeds$Napkin" (7 : Nat) "java/util/ArrayList") ∈ lw_all := lw_g (lw_at lw_m1 91 rfl) rfl
theorem q241 : (Jvm.Cond.methodLink "NapkinDeeds$Napkin" (9 : Nat) ({ cls := "java/util/ArrayList", name := "<init>", desc := "()V" } : Jvm.MethodName)) ∈ lw_all := lw_g (lw_at lw_m1 93 rfl) rfl
theorem q268 : (Jvm.Cond.fieldLink "NapkinDeeds$Napkin" (10 : Nat) "NapkinDeeds$Napkin" "fronts" "Ljava/util/ArrayList;") ∈ lw_all := lw_g (lw_at lw_m1 120 rfl) rfl
theorem q271 : (Jvm.Cond.fieldLink "NapkinDeeds$Napkin" (16 : Nat) "NapkinDeeds$Napkin" "backs" "Ljava/util/ArrayList;") ∈ lw_all := lw_g (lw_at lw_m1 123 rfl) rfl
theorem q274 : (Jvm.Cond.fieldLink "NapkinDeeds$Napkin" (19 : Nat) "NapkinDeeds$Napkin" "guests" "Ljava/util/ArrayList;") ∈ lw_all := lw_g (lw_at lw_m1 126 rfl) rfl
theorem q285 : (Jvm.Cond.laysFinal "NapkinDeeds$Napkin" "NapkinDeeds$Napkin" "fronts" "Ljava/util/ArrayList;") ∈ lw_all := lw_g (lw_at lw_m1 137 rfl) rfl
theorem q286 : (Jvm.Cond.soleField "NapkinDeeds$Napkin" "fronts") ∈ lw_all := lw_g (lw_at lw_m1 138 rfl) rfl
theorem q287 : (Jvm.Cond.laysFinal "NapkinDeeds$Napkin" "NapkinDeeds$Napkin" "backs" "Ljava/util/ArrayList;") ∈ lw_all := lw_g (lw_at lw_m1 139 rfl) rfl
theorem q288 : (Jvm.Cond.soleField "NapkinDeeds$Napkin" "backs") ∈ lw_all := lw_g (lw_at lw_m1 140 rfl) rfl
theorem q289 : (Jvm.Cond.laysFinal "NapkinDeeds$Napkin" "NapkinDeeds$Napkin" "guests" "Ljava/util/ArrayList;") ∈ lw_all := lw_g (lw_at lw_m1 141 rfl) rfl
theorem q290 : (Jvm.Cond.soleField "NapkinDeeds$Napkin" "guests") ∈ lw_all := lw_g (lw_at lw_m1 142 rfl) rfl
theorem q291 : (Jvm.Cond.lays "NapkinDeeds$Napkin" "NapkinDeeds$Napkin" "lines" "I") ∈ lw_all := lw_g (lw_at lw_m1 143 rfl) rfl
theorem q292 : (Jvm.Cond.soleField "NapkinDeeds$Napkin" "lines") ∈ lw_all := lw_g (lw_at lw_m1 144 rfl) rfl
theorem q293 : (Jvm.Cond.lays "NapkinDeeds$Napkin" "NapkinDeeds$Napkin" "worth" "LNapkinDeeds$Sum;") ∈ lw_all := lw_g (lw_at lw_m1 145 rfl) rfl
theorem q294 : (Jvm.Cond.soleField "NapkinDeeds$Napkin" "worth") ∈ lw_all := lw_g (lw_at lw_m1 146 rfl) rfl
theorem q295 : (Jvm.Cond.lays "NapkinDeeds$Napkin" "NapkinDeeds$Napkin" "likes" "LNapkinDeeds$Sum;") ∈ lw_all := lw_g (lw_at lw_m1 147 rfl) rfl
theorem q296 : (Jvm.Cond.soleField "NapkinDeeds$Napkin" "likes") ∈ lw_all := lw_g (lw_at lw_m1 148 rfl) rfl
theorem q297 : (Jvm.Cond.lays "NapkinDeeds$Napkin" "NapkinDeeds$Napkin" "holds" "LNapkinDeeds$Truth;") ∈ lw_all := lw_g (lw_at lw_m1 149 rfl) rfl
theorem q298 : (Jvm.Cond.soleField "NapkinDeeds$Napkin" "holds") ∈ lw_all := lw_g (lw_at lw_m1 150 rfl) rfl
theorem q299 : (Jvm.Cond.superclass "NapkinDeeds$Napkin" "java/lang/Object") ∈ lw_all := lw_g (lw_at lw_m1 151 rfl) rfl
theorem q453 : (Jvm.Cond.instanceMethod ({ cls := "NapkinDeeds$Napkin", name := "cells", desc := "()I" } : Jvm.MethodName)) ∈ lw_all := lw_g (lw_at lw_m2 65 rfl) rfl
theorem q454 : (Jvm.Cond.selects "NapkinDeeds$Napkin" ({ cls := "NapkinDeeds$Napkin", name := "cells", desc := "()I" } : Jvm.MethodName) ({ cls := "NapkinDeeds$Napkin", name := "cells", desc := "()I" } : Jvm.MethodName)) ∈ lw_all := lw_g (lw_at lw_m2 66 rfl) rfl
theorem q455 : (Jvm.Cond.code ({ cls := "NapkinDeeds$Napkin", name := "cells", desc := "()I" } : Jvm.MethodName) prog_27_method_2_code (1 : Nat) (Option.some Jvm.ClassFile.FieldType.int)) ∈ lw_all := lw_g (lw_at lw_m2 67 rfl) rfl
theorem q456 : (Jvm.Cond.methodLink "NapkinDeeds$Napkin" (22 : Nat) ({ cls := "java/util/ArrayList", name := "size", desc := "()I" } : Jvm.MethodName)) ∈ lw_all := lw_g (lw_at lw_m2 68 rfl) rfl
theorem q714 : (Jvm.Cond.selects "NapkinDeeds$Napkin" ({ cls := "java/lang/Object", name := "getClass", desc := "()Ljava/lang/Class;" } : Jvm.MethodName) ({ cls := "java/lang/Object", name := "getClass", desc := "()Ljava/lang/Class;" } : Jvm.MethodName)) ∈ lw_all := lw_g (lw_at lw_m3 86 rfl) rfl
theorem q1937 : (Jvm.Cond.instanceMethod ({ cls := "NapkinDeeds$Napkin", name := "isCell", desc := "(J)Z" } : Jvm.MethodName)) ∈ lw_all := lw_g (lw_at lw_m8 109 rfl) rfl
theorem q1938 : (Jvm.Cond.selects "NapkinDeeds$Napkin" ({ cls := "NapkinDeeds$Napkin", name := "isCell", desc := "(J)Z" } : Jvm.MethodName) ({ cls := "NapkinDeeds$Napkin", name := "isCell", desc := "(J)Z" } : Jvm.MethodName)) ∈ lw_all := lw_g (lw_at lw_m8 110 rfl) rfl
theorem q1939 : (Jvm.Cond.code ({ cls := "NapkinDeeds$Napkin", name := "isCell", desc := "(J)Z" } : Jvm.MethodName) prog_27_method_3_code (3 : Nat) (Option.some Jvm.ClassFile.FieldType.boolean)) ∈ lw_all := lw_g (lw_at lw_m8 111 rfl) rfl
theorem q1940 : (Jvm.Cond.methodLink "NapkinDeeds$Napkin" (26 : Nat) ({ cls := "NapkinDeeds$Napkin", name := "cells", desc := "()I" } : Jvm.MethodName)) ∈ lw_all := lw_g (lw_at lw_m8 112 rfl) rfl
theorem q1941 : (Jvm.Cond.methodLinkNest "NapkinDeeds$Napkin" (29 : Nat) ({ cls := "NapkinDeeds", name := "isIn", desc := "(JJJ)Z" } : Jvm.MethodName) "NapkinDeeds") ∈ lw_tbl := lw_at lw_m8 113 rfl
theorem q3505 : (Jvm.Cond.castable "NapkinDeeds$Napkin" "java/lang/Object") ∈ lw_tbl := lw_at lw_m14 237 rfl
theorem in_X3 : ∀ w ∈ wsX30, w ∈ lw_all := lw_in wsX30 [285, 287, 289, 291, 293, 295, 297] (by decide +kernel) (by decide +kernel)
/-! NapkinDeeds$Look -/
set_option maxRecDepth 100000
def RX4 : String := "NapkinDeeds$Look"
def TX4 : u_T := fun k => match k with
  | 0 => ("NapkinDeeds$Look", "columns", "[[I", true)
  | 1 => ("NapkinDeeds$Look", "high", "[I", true)
  | _ => ("NapkinDeeds$Look", "wide", "I", false)
def tyX4 : Nat → FieldType := fun k => match k with
  | 0 => .array (.array .int)
  | 1 => .array .int
  | _ => .int
abbrev wsX40 : List Cond := u_ws RX4 TX4 3
theorem nmX4 : ∀ a, a < 3 → ∀ b, b < 3 → a ≠ b → (TX4 a).2.1 ≠ (TX4 b).2.1 := by decide +kernel
theorem tyX4_ok : ∀ k, k < 3 → parseFieldDescriptor (TX4 k).2.2.1 = some (tyX4 k) := by decide +kernel
abbrev cX4_init : ByteArray := prog_24_method_1_code
def yX4_init : MethodName := ⟨RX4, "<init>", "()V"⟩
def dkwX4_init_1 : List UInt8 := [177]
abbrev dktX4_init_1 : List UInt8 := dkwX4_init_1 ++ []
def dkwX4_init_0 : List UInt8 := [42, 183, 0, 3, 42, 16, 6, 16, 6, 197, 0, 9, 2, 181, 0, 11, 42, 16, 6, 188, 10, 181, 0, 16]
abbrev dktX4_init_0 : List UInt8 := dkwX4_init_0 ++ dktX4_init_1
theorem dksX4_init_0 : cX4_init.data.toList.drop 0 = dktX4_init_0 := by decide +kernel
theorem dksX4_init_1 : cX4_init.data.toList.drop 24 = dktX4_init_1 := dk_seg dksX4_init_0 24 rfl rfl
theorem dX4_init_0 : decode cX4_init 0 = .ok (.aload_n 0, 1) := dk_42 (dk_at dksX4_init_0 0 rfl rfl)
theorem dX4_init_1 : decode cX4_init 1 = .ok (.invokespecial 3, 3) := dk_183 0 3 (dk_at dksX4_init_0 1 rfl rfl)
theorem dX4_init_4 : decode cX4_init 4 = .ok (.aload_n 0, 1) := dk_42 (dk_at dksX4_init_0 4 rfl rfl)
theorem dX4_init_5 : decode cX4_init 5 = .ok (.bipush 6, 2) := dk_16 6 (dk_at dksX4_init_0 5 rfl rfl)
theorem dX4_init_7 : decode cX4_init 7 = .ok (.bipush 6, 2) := dk_16 6 (dk_at dksX4_init_0 7 rfl rfl)
theorem dX4_init_9 : decode cX4_init 9 = .ok (.multianewarray 9 2, 4) := by decide +kernel
theorem dX4_init_13 : decode cX4_init 13 = .ok (.putfield 11, 3) := dk_181 0 11 (dk_at dksX4_init_0 13 rfl rfl)
theorem dX4_init_16 : decode cX4_init 16 = .ok (.aload_n 0, 1) := dk_42 (dk_at dksX4_init_0 16 rfl rfl)
theorem dX4_init_17 : decode cX4_init 17 = .ok (.bipush 6, 2) := dk_16 6 (dk_at dksX4_init_0 17 rfl rfl)
theorem dX4_init_19 : decode cX4_init 19 = .ok (.newarray .int, 2) := dk_188_10 (dk_at dksX4_init_0 19 rfl rfl)
theorem dX4_init_21 : decode cX4_init 21 = .ok (.putfield 16, 3) := dk_181 0 16 (dk_at dksX4_init_0 21 rfl rfl)
theorem dX4_init_24 : decode cX4_init 24 = .ok (.return_, 1) := dk_177 (dk_at dksX4_init_1 0 rfl rfl)
abbrev cX4_flat : ByteArray := prog_24_method_2_code
def yX4_flat : MethodName := ⟨RX4, "flat", "(I)LNapkinDeeds$Look;"⟩
def dkwX4_flat_1 : List UInt8 := [50, 3, 5, 28, 104, 4, 96, 79, 132, 2, 1, 167, 255, 228, 42, 176]
abbrev dktX4_flat_1 : List UInt8 := dkwX4_flat_1 ++ []
def dkwX4_flat_0 : List UInt8 := [42, 27, 181, 0, 20, 3, 61, 28, 27, 162, 0, 29, 42, 180, 0, 16, 28, 4, 79, 42, 180, 0, 11, 28]
abbrev dktX4_flat_0 : List UInt8 := dkwX4_flat_0 ++ dktX4_flat_1
theorem dksX4_flat_0 : cX4_flat.data.toList.drop 0 = dktX4_flat_0 := by decide +kernel
theorem dksX4_flat_1 : cX4_flat.data.toList.drop 24 = dktX4_flat_1 := dk_seg dksX4_flat_0 24 rfl rfl
theorem dX4_flat_0 : decode cX4_flat 0 = .ok (.aload_n 0, 1) := dk_42 (dk_at dksX4_flat_0 0 rfl rfl)
theorem dX4_flat_1 : decode cX4_flat 1 = .ok (.iload_n 1, 1) := dk_27 (dk_at dksX4_flat_0 1 rfl rfl)
theorem dX4_flat_2 : decode cX4_flat 2 = .ok (.putfield 20, 3) := dk_181 0 20 (dk_at dksX4_flat_0 2 rfl rfl)
theorem dX4_flat_5 : decode cX4_flat 5 = .ok (.iconst 0, 1) := dk_3 (dk_at dksX4_flat_0 5 rfl rfl)
theorem dX4_flat_6 : decode cX4_flat 6 = .ok (.istore_n 2, 1) := dk_61 (dk_at dksX4_flat_0 6 rfl rfl)
theorem dX4_flat_7 : decode cX4_flat 7 = .ok (.iload_n 2, 1) := dk_28 (dk_at dksX4_flat_0 7 rfl rfl)
theorem dX4_flat_8 : decode cX4_flat 8 = .ok (.iload_n 1, 1) := dk_27 (dk_at dksX4_flat_0 8 rfl rfl)
theorem dX4_flat_9 : decode cX4_flat 9 = .ok (.if_icmp .ge 29, 3) := dk_162 0 29 (dk_at dksX4_flat_0 9 rfl rfl)
theorem dX4_flat_12 : decode cX4_flat 12 = .ok (.aload_n 0, 1) := dk_42 (dk_at dksX4_flat_0 12 rfl rfl)
theorem dX4_flat_13 : decode cX4_flat 13 = .ok (.getfield 16, 3) := dk_180 0 16 (dk_at dksX4_flat_0 13 rfl rfl)
theorem dX4_flat_16 : decode cX4_flat 16 = .ok (.iload_n 2, 1) := dk_28 (dk_at dksX4_flat_0 16 rfl rfl)
theorem dX4_flat_17 : decode cX4_flat 17 = .ok (.iconst 1, 1) := dk_4 (dk_at dksX4_flat_0 17 rfl rfl)
theorem dX4_flat_18 : decode cX4_flat 18 = .ok (.iastore, 1) := dk_79 (dk_at dksX4_flat_0 18 rfl rfl)
theorem dX4_flat_19 : decode cX4_flat 19 = .ok (.aload_n 0, 1) := dk_42 (dk_at dksX4_flat_0 19 rfl rfl)
theorem dX4_flat_20 : decode cX4_flat 20 = .ok (.getfield 11, 3) := dk_180 0 11 (dk_at dksX4_flat_0 20 rfl rfl)
theorem dX4_flat_23 : decode cX4_flat 23 = .ok (.iload_n 2, 1) := dk_28 (dk_at dksX4_flat_0 23 rfl rfl)
theorem dX4_flat_24 : decode cX4_flat 24 = .ok (.aaload, 1) := dk_50 (dk_at dksX4_flat_1 0 rfl rfl)
theorem dX4_flat_25 : decode cX4_flat 25 = .ok (.iconst 0, 1) := dk_3 (dk_at dksX4_flat_1 1 rfl rfl)
theorem dX4_flat_26 : decode cX4_flat 26 = .ok (.iconst 2, 1) := dk_5 (dk_at dksX4_flat_1 2 rfl rfl)
theorem dX4_flat_27 : decode cX4_flat 27 = .ok (.iload_n 2, 1) := dk_28 (dk_at dksX4_flat_1 3 rfl rfl)
theorem dX4_flat_28 : decode cX4_flat 28 = .ok (.imul, 1) := dk_104 (dk_at dksX4_flat_1 4 rfl rfl)
theorem dX4_flat_29 : decode cX4_flat 29 = .ok (.iconst 1, 1) := dk_4 (dk_at dksX4_flat_1 5 rfl rfl)
theorem dX4_flat_30 : decode cX4_flat 30 = .ok (.iadd, 1) := dk_96 (dk_at dksX4_flat_1 6 rfl rfl)
theorem dX4_flat_31 : decode cX4_flat 31 = .ok (.iastore, 1) := dk_79 (dk_at dksX4_flat_1 7 rfl rfl)
theorem dX4_flat_32 : decode cX4_flat 32 = .ok (.iinc 2 1, 3) := dk_132 2 1 (dk_at dksX4_flat_1 8 rfl rfl)
theorem dX4_flat_35 : decode cX4_flat 35 = .ok (.goto (-28), 3) := dk_167 255 228 (dk_at dksX4_flat_1 11 rfl rfl)
theorem dX4_flat_38 : decode cX4_flat 38 = .ok (.aload_n 0, 1) := dk_42 (dk_at dksX4_flat_1 14 rfl rfl)
theorem dX4_flat_39 : decode cX4_flat 39 = .ok (.areturn, 1) := dk_176 (dk_at dksX4_flat_1 15 rfl rfl)
abbrev cX4_folded : ByteArray := prog_24_method_5_code
def yX4_folded : MethodName := ⟨RX4, "folded", "(LNapkinDeeds$Look;II)LNapkinDeeds$Look;"⟩
def dkwX4_folded_8 : List UInt8 := [132, 4, 1, 167, 255, 85, 42, 176]
abbrev dktX4_folded_8 : List UInt8 := dkwX4_folded_8 ++ []
def dkwX4_folded_7 : List UInt8 := [182, 0, 44, 132, 10, 1, 167, 255, 225, 29, 5, 112, 154, 0, 12, 42, 43, 21, 9, 21, 5, 182, 0, 40]
abbrev dktX4_folded_7 : List UInt8 := dkwX4_folded_7 ++ dktX4_folded_8
def dkwX4_folded_6 : List UInt8 := [180, 0, 16, 21, 8, 46, 162, 0, 25, 42, 21, 5, 43, 180, 0, 11, 21, 8, 50, 21, 10, 46]
abbrev dktX4_folded_6 : List UInt8 := dkwX4_folded_6 ++ dktX4_folded_7
def dkwX4_folded_5 : List UInt8 := [160, 0, 12, 42, 43, 21, 9, 21, 5, 182, 0, 40, 21, 8, 155, 0, 40, 3, 54, 10, 21, 10, 43]
abbrev dktX4_folded_5 : List UInt8 := dkwX4_folded_5 ++ dktX4_folded_6
def dkwX4_folded_4 : List UInt8 := [21, 6, 54, 8, 29, 5, 162, 0, 8, 21, 6, 167, 0, 5, 21, 7, 54, 9, 29, 5, 112, 4]
abbrev dktX4_folded_4 : List UInt8 := dkwX4_folded_4 ++ dktX4_folded_5
def dkwX4_folded_3 : List UInt8 := [167, 0, 4, 2, 54, 7, 42, 180, 0, 16, 21, 5, 3, 79, 29, 5, 162, 0, 8, 21, 7, 167, 0, 5]
abbrev dktX4_folded_3 : List UInt8 := dkwX4_folded_3 ++ dktX4_folded_4
def dkwX4_folded_2 : List UInt8 := [28, 4, 100, 21, 4, 100, 54, 6, 28, 21, 4, 96, 43, 180, 0, 20, 162, 0, 10, 28, 21, 4, 96]
abbrev dktX4_folded_2 : List UInt8 := dkwX4_folded_2 ++ dktX4_folded_3
def dkwX4_folded_1 : List UInt8 := [162, 0, 168, 29, 5, 162, 0, 8, 21, 4, 167, 0, 12, 42, 180, 0, 20, 4, 100, 21, 4, 100, 54, 5]
abbrev dktX4_folded_1 : List UInt8 := dkwX4_folded_1 ++ dktX4_folded_2
def dkwX4_folded_0 : List UInt8 := [42, 28, 43, 180, 0, 20, 28, 100, 184, 0, 34, 181, 0, 20, 3, 54, 4, 21, 4, 42, 180, 0, 20]
abbrev dktX4_folded_0 : List UInt8 := dkwX4_folded_0 ++ dktX4_folded_1
theorem dksX4_folded_0 : cX4_folded.data.toList.drop 0 = dktX4_folded_0 := by decide +kernel
theorem dksX4_folded_1 : cX4_folded.data.toList.drop 23 = dktX4_folded_1 := dk_seg dksX4_folded_0 23 rfl rfl
theorem dksX4_folded_2 : cX4_folded.data.toList.drop 47 = dktX4_folded_2 := dk_seg dksX4_folded_1 24 rfl rfl
theorem dksX4_folded_3 : cX4_folded.data.toList.drop 70 = dktX4_folded_3 := dk_seg dksX4_folded_2 23 rfl rfl
theorem dksX4_folded_4 : cX4_folded.data.toList.drop 94 = dktX4_folded_4 := dk_seg dksX4_folded_3 24 rfl rfl
theorem dksX4_folded_5 : cX4_folded.data.toList.drop 116 = dktX4_folded_5 := dk_seg dksX4_folded_4 22 rfl rfl
theorem dksX4_folded_6 : cX4_folded.data.toList.drop 139 = dktX4_folded_6 := dk_seg dksX4_folded_5 23 rfl rfl
theorem dksX4_folded_7 : cX4_folded.data.toList.drop 161 = dktX4_folded_7 := dk_seg dksX4_folded_6 22 rfl rfl
theorem dksX4_folded_8 : cX4_folded.data.toList.drop 185 = dktX4_folded_8 := dk_seg dksX4_folded_7 24 rfl rfl
theorem dX4_folded_0 : decode cX4_folded 0 = .ok (.aload_n 0, 1) := dk_42 (dk_at dksX4_folded_0 0 rfl rfl)
theorem dX4_folded_1 : decode cX4_folded 1 = .ok (.iload_n 2, 1) := dk_28 (dk_at dksX4_folded_0 1 rfl rfl)
theorem dX4_folded_2 : decode cX4_folded 2 = .ok (.aload_n 1, 1) := dk_43 (dk_at dksX4_folded_0 2 rfl rfl)
theorem dX4_folded_3 : decode cX4_folded 3 = .ok (.getfield 20, 3) := dk_180 0 20 (dk_at dksX4_folded_0 3 rfl rfl)
theorem dX4_folded_6 : decode cX4_folded 6 = .ok (.iload_n 2, 1) := dk_28 (dk_at dksX4_folded_0 6 rfl rfl)
theorem dX4_folded_7 : decode cX4_folded 7 = .ok (.isub, 1) := dk_100 (dk_at dksX4_folded_0 7 rfl rfl)
theorem dX4_folded_8 : decode cX4_folded 8 = .ok (.invokestatic 34, 3) := dk_184 0 34 (dk_at dksX4_folded_0 8 rfl rfl)
theorem dX4_folded_11 : decode cX4_folded 11 = .ok (.putfield 20, 3) := dk_181 0 20 (dk_at dksX4_folded_0 11 rfl rfl)
theorem dX4_folded_14 : decode cX4_folded 14 = .ok (.iconst 0, 1) := dk_3 (dk_at dksX4_folded_0 14 rfl rfl)
theorem dX4_folded_15 : decode cX4_folded 15 = .ok (.istore 4, 2) := dk_54 4 (dk_at dksX4_folded_0 15 rfl rfl)
theorem dX4_folded_17 : decode cX4_folded 17 = .ok (.iload 4, 2) := dk_21 4 (dk_at dksX4_folded_0 17 rfl rfl)
theorem dX4_folded_19 : decode cX4_folded 19 = .ok (.aload_n 0, 1) := dk_42 (dk_at dksX4_folded_0 19 rfl rfl)
theorem dX4_folded_20 : decode cX4_folded 20 = .ok (.getfield 20, 3) := dk_180 0 20 (dk_at dksX4_folded_0 20 rfl rfl)
theorem dX4_folded_23 : decode cX4_folded 23 = .ok (.if_icmp .ge 168, 3) := dk_162 0 168 (dk_at dksX4_folded_1 0 rfl rfl)
theorem dX4_folded_26 : decode cX4_folded 26 = .ok (.iload_n 3, 1) := dk_29 (dk_at dksX4_folded_1 3 rfl rfl)
theorem dX4_folded_27 : decode cX4_folded 27 = .ok (.iconst 2, 1) := dk_5 (dk_at dksX4_folded_1 4 rfl rfl)
theorem dX4_folded_28 : decode cX4_folded 28 = .ok (.if_icmp .ge 8, 3) := dk_162 0 8 (dk_at dksX4_folded_1 5 rfl rfl)
theorem dX4_folded_31 : decode cX4_folded 31 = .ok (.iload 4, 2) := dk_21 4 (dk_at dksX4_folded_1 8 rfl rfl)
theorem dX4_folded_33 : decode cX4_folded 33 = .ok (.goto 12, 3) := dk_167 0 12 (dk_at dksX4_folded_1 10 rfl rfl)
theorem dX4_folded_36 : decode cX4_folded 36 = .ok (.aload_n 0, 1) := dk_42 (dk_at dksX4_folded_1 13 rfl rfl)
theorem dX4_folded_37 : decode cX4_folded 37 = .ok (.getfield 20, 3) := dk_180 0 20 (dk_at dksX4_folded_1 14 rfl rfl)
theorem dX4_folded_40 : decode cX4_folded 40 = .ok (.iconst 1, 1) := dk_4 (dk_at dksX4_folded_1 17 rfl rfl)
theorem dX4_folded_41 : decode cX4_folded 41 = .ok (.isub, 1) := dk_100 (dk_at dksX4_folded_1 18 rfl rfl)
theorem dX4_folded_42 : decode cX4_folded 42 = .ok (.iload 4, 2) := dk_21 4 (dk_at dksX4_folded_1 19 rfl rfl)
theorem dX4_folded_44 : decode cX4_folded 44 = .ok (.isub, 1) := dk_100 (dk_at dksX4_folded_1 21 rfl rfl)
theorem dX4_folded_45 : decode cX4_folded 45 = .ok (.istore 5, 2) := dk_54 5 (dk_at dksX4_folded_1 22 rfl rfl)
theorem dX4_folded_47 : decode cX4_folded 47 = .ok (.iload_n 2, 1) := dk_28 (dk_at dksX4_folded_2 0 rfl rfl)
theorem dX4_folded_48 : decode cX4_folded 48 = .ok (.iconst 1, 1) := dk_4 (dk_at dksX4_folded_2 1 rfl rfl)
theorem dX4_folded_49 : decode cX4_folded 49 = .ok (.isub, 1) := dk_100 (dk_at dksX4_folded_2 2 rfl rfl)
theorem dX4_folded_50 : decode cX4_folded 50 = .ok (.iload 4, 2) := dk_21 4 (dk_at dksX4_folded_2 3 rfl rfl)
theorem dX4_folded_52 : decode cX4_folded 52 = .ok (.isub, 1) := dk_100 (dk_at dksX4_folded_2 5 rfl rfl)
theorem dX4_folded_53 : decode cX4_folded 53 = .ok (.istore 6, 2) := dk_54 6 (dk_at dksX4_folded_2 6 rfl rfl)
theorem dX4_folded_55 : decode cX4_folded 55 = .ok (.iload_n 2, 1) := dk_28 (dk_at dksX4_folded_2 8 rfl rfl)
theorem dX4_folded_56 : decode cX4_folded 56 = .ok (.iload 4, 2) := dk_21 4 (dk_at dksX4_folded_2 9 rfl rfl)
theorem dX4_folded_58 : decode cX4_folded 58 = .ok (.iadd, 1) := dk_96 (dk_at dksX4_folded_2 11 rfl rfl)
theorem dX4_folded_59 : decode cX4_folded 59 = .ok (.aload_n 1, 1) := dk_43 (dk_at dksX4_folded_2 12 rfl rfl)
theorem dX4_folded_60 : decode cX4_folded 60 = .ok (.getfield 20, 3) := dk_180 0 20 (dk_at dksX4_folded_2 13 rfl rfl)
theorem dX4_folded_63 : decode cX4_folded 63 = .ok (.if_icmp .ge 10, 3) := dk_162 0 10 (dk_at dksX4_folded_2 16 rfl rfl)
theorem dX4_folded_66 : decode cX4_folded 66 = .ok (.iload_n 2, 1) := dk_28 (dk_at dksX4_folded_2 19 rfl rfl)
theorem dX4_folded_67 : decode cX4_folded 67 = .ok (.iload 4, 2) := dk_21 4 (dk_at dksX4_folded_2 20 rfl rfl)
theorem dX4_folded_69 : decode cX4_folded 69 = .ok (.iadd, 1) := dk_96 (dk_at dksX4_folded_2 22 rfl rfl)
theorem dX4_folded_70 : decode cX4_folded 70 = .ok (.goto 4, 3) := dk_167 0 4 (dk_at dksX4_folded_3 0 rfl rfl)
theorem dX4_folded_73 : decode cX4_folded 73 = .ok (.iconst (-1), 1) := dk_2 (dk_at dksX4_folded_3 3 rfl rfl)
theorem dX4_folded_74 : decode cX4_folded 74 = .ok (.istore 7, 2) := dk_54 7 (dk_at dksX4_folded_3 4 rfl rfl)
theorem dX4_folded_76 : decode cX4_folded 76 = .ok (.aload_n 0, 1) := dk_42 (dk_at dksX4_folded_3 6 rfl rfl)
theorem dX4_folded_77 : decode cX4_folded 77 = .ok (.getfield 16, 3) := dk_180 0 16 (dk_at dksX4_folded_3 7 rfl rfl)
theorem dX4_folded_80 : decode cX4_folded 80 = .ok (.iload 5, 2) := dk_21 5 (dk_at dksX4_folded_3 10 rfl rfl)
theorem dX4_folded_82 : decode cX4_folded 82 = .ok (.iconst 0, 1) := dk_3 (dk_at dksX4_folded_3 12 rfl rfl)
theorem dX4_folded_83 : decode cX4_folded 83 = .ok (.iastore, 1) := dk_79 (dk_at dksX4_folded_3 13 rfl rfl)
theorem dX4_folded_84 : decode cX4_folded 84 = .ok (.iload_n 3, 1) := dk_29 (dk_at dksX4_folded_3 14 rfl rfl)
theorem dX4_folded_85 : decode cX4_folded 85 = .ok (.iconst 2, 1) := dk_5 (dk_at dksX4_folded_3 15 rfl rfl)
theorem dX4_folded_86 : decode cX4_folded 86 = .ok (.if_icmp .ge 8, 3) := dk_162 0 8 (dk_at dksX4_folded_3 16 rfl rfl)
theorem dX4_folded_89 : decode cX4_folded 89 = .ok (.iload 7, 2) := dk_21 7 (dk_at dksX4_folded_3 19 rfl rfl)
theorem dX4_folded_91 : decode cX4_folded 91 = .ok (.goto 5, 3) := dk_167 0 5 (dk_at dksX4_folded_3 21 rfl rfl)
theorem dX4_folded_94 : decode cX4_folded 94 = .ok (.iload 6, 2) := dk_21 6 (dk_at dksX4_folded_4 0 rfl rfl)
theorem dX4_folded_96 : decode cX4_folded 96 = .ok (.istore 8, 2) := dk_54 8 (dk_at dksX4_folded_4 2 rfl rfl)
theorem dX4_folded_98 : decode cX4_folded 98 = .ok (.iload_n 3, 1) := dk_29 (dk_at dksX4_folded_4 4 rfl rfl)
theorem dX4_folded_99 : decode cX4_folded 99 = .ok (.iconst 2, 1) := dk_5 (dk_at dksX4_folded_4 5 rfl rfl)
theorem dX4_folded_100 : decode cX4_folded 100 = .ok (.if_icmp .ge 8, 3) := dk_162 0 8 (dk_at dksX4_folded_4 6 rfl rfl)
theorem dX4_folded_103 : decode cX4_folded 103 = .ok (.iload 6, 2) := dk_21 6 (dk_at dksX4_folded_4 9 rfl rfl)
theorem dX4_folded_105 : decode cX4_folded 105 = .ok (.goto 5, 3) := dk_167 0 5 (dk_at dksX4_folded_4 11 rfl rfl)
theorem dX4_folded_108 : decode cX4_folded 108 = .ok (.iload 7, 2) := dk_21 7 (dk_at dksX4_folded_4 14 rfl rfl)
theorem dX4_folded_110 : decode cX4_folded 110 = .ok (.istore 9, 2) := dk_54 9 (dk_at dksX4_folded_4 16 rfl rfl)
theorem dX4_folded_112 : decode cX4_folded 112 = .ok (.iload_n 3, 1) := dk_29 (dk_at dksX4_folded_4 18 rfl rfl)
theorem dX4_folded_113 : decode cX4_folded 113 = .ok (.iconst 2, 1) := dk_5 (dk_at dksX4_folded_4 19 rfl rfl)
theorem dX4_folded_114 : decode cX4_folded 114 = .ok (.irem, 1) := dk_112 (dk_at dksX4_folded_4 20 rfl rfl)
theorem dX4_folded_115 : decode cX4_folded 115 = .ok (.iconst 1, 1) := dk_4 (dk_at dksX4_folded_4 21 rfl rfl)
theorem dX4_folded_116 : decode cX4_folded 116 = .ok (.if_icmp .ne 12, 3) := dk_160 0 12 (dk_at dksX4_folded_5 0 rfl rfl)
theorem dX4_folded_119 : decode cX4_folded 119 = .ok (.aload_n 0, 1) := dk_42 (dk_at dksX4_folded_5 3 rfl rfl)
theorem dX4_folded_120 : decode cX4_folded 120 = .ok (.aload_n 1, 1) := dk_43 (dk_at dksX4_folded_5 4 rfl rfl)
theorem dX4_folded_121 : decode cX4_folded 121 = .ok (.iload 9, 2) := dk_21 9 (dk_at dksX4_folded_5 5 rfl rfl)
theorem dX4_folded_123 : decode cX4_folded 123 = .ok (.iload 5, 2) := dk_21 5 (dk_at dksX4_folded_5 7 rfl rfl)
theorem dX4_folded_125 : decode cX4_folded 125 = .ok (.invokevirtual 40, 3) := dk_182 0 40 (dk_at dksX4_folded_5 9 rfl rfl)
theorem dX4_folded_128 : decode cX4_folded 128 = .ok (.iload 8, 2) := dk_21 8 (dk_at dksX4_folded_5 12 rfl rfl)
theorem dX4_folded_130 : decode cX4_folded 130 = .ok (.ifCond .lt 40, 3) := dk_155 0 40 (dk_at dksX4_folded_5 14 rfl rfl)
theorem dX4_folded_133 : decode cX4_folded 133 = .ok (.iconst 0, 1) := dk_3 (dk_at dksX4_folded_5 17 rfl rfl)
theorem dX4_folded_134 : decode cX4_folded 134 = .ok (.istore 10, 2) := dk_54 10 (dk_at dksX4_folded_5 18 rfl rfl)
theorem dX4_folded_136 : decode cX4_folded 136 = .ok (.iload 10, 2) := dk_21 10 (dk_at dksX4_folded_5 20 rfl rfl)
theorem dX4_folded_138 : decode cX4_folded 138 = .ok (.aload_n 1, 1) := dk_43 (dk_at dksX4_folded_5 22 rfl rfl)
theorem dX4_folded_139 : decode cX4_folded 139 = .ok (.getfield 16, 3) := dk_180 0 16 (dk_at dksX4_folded_6 0 rfl rfl)
theorem dX4_folded_142 : decode cX4_folded 142 = .ok (.iload 8, 2) := dk_21 8 (dk_at dksX4_folded_6 3 rfl rfl)
theorem dX4_folded_144 : decode cX4_folded 144 = .ok (.iaload, 1) := dk_46 (dk_at dksX4_folded_6 5 rfl rfl)
theorem dX4_folded_145 : decode cX4_folded 145 = .ok (.if_icmp .ge 25, 3) := dk_162 0 25 (dk_at dksX4_folded_6 6 rfl rfl)
theorem dX4_folded_148 : decode cX4_folded 148 = .ok (.aload_n 0, 1) := dk_42 (dk_at dksX4_folded_6 9 rfl rfl)
theorem dX4_folded_149 : decode cX4_folded 149 = .ok (.iload 5, 2) := dk_21 5 (dk_at dksX4_folded_6 10 rfl rfl)
theorem dX4_folded_151 : decode cX4_folded 151 = .ok (.aload_n 1, 1) := dk_43 (dk_at dksX4_folded_6 12 rfl rfl)
theorem dX4_folded_152 : decode cX4_folded 152 = .ok (.getfield 11, 3) := dk_180 0 11 (dk_at dksX4_folded_6 13 rfl rfl)
theorem dX4_folded_155 : decode cX4_folded 155 = .ok (.iload 8, 2) := dk_21 8 (dk_at dksX4_folded_6 16 rfl rfl)
theorem dX4_folded_157 : decode cX4_folded 157 = .ok (.aaload, 1) := dk_50 (dk_at dksX4_folded_6 18 rfl rfl)
theorem dX4_folded_158 : decode cX4_folded 158 = .ok (.iload 10, 2) := dk_21 10 (dk_at dksX4_folded_6 19 rfl rfl)
theorem dX4_folded_160 : decode cX4_folded 160 = .ok (.iaload, 1) := dk_46 (dk_at dksX4_folded_6 21 rfl rfl)
theorem dX4_folded_161 : decode cX4_folded 161 = .ok (.invokevirtual 44, 3) := dk_182 0 44 (dk_at dksX4_folded_7 0 rfl rfl)
theorem dX4_folded_164 : decode cX4_folded 164 = .ok (.iinc 10 1, 3) := dk_132 10 1 (dk_at dksX4_folded_7 3 rfl rfl)
theorem dX4_folded_167 : decode cX4_folded 167 = .ok (.goto (-31), 3) := dk_167 255 225 (dk_at dksX4_folded_7 6 rfl rfl)
theorem dX4_folded_170 : decode cX4_folded 170 = .ok (.iload_n 3, 1) := dk_29 (dk_at dksX4_folded_7 9 rfl rfl)
theorem dX4_folded_171 : decode cX4_folded 171 = .ok (.iconst 2, 1) := dk_5 (dk_at dksX4_folded_7 10 rfl rfl)
theorem dX4_folded_172 : decode cX4_folded 172 = .ok (.irem, 1) := dk_112 (dk_at dksX4_folded_7 11 rfl rfl)
theorem dX4_folded_173 : decode cX4_folded 173 = .ok (.ifCond .ne 12, 3) := dk_154 0 12 (dk_at dksX4_folded_7 12 rfl rfl)
theorem dX4_folded_176 : decode cX4_folded 176 = .ok (.aload_n 0, 1) := dk_42 (dk_at dksX4_folded_7 15 rfl rfl)
theorem dX4_folded_177 : decode cX4_folded 177 = .ok (.aload_n 1, 1) := dk_43 (dk_at dksX4_folded_7 16 rfl rfl)
theorem dX4_folded_178 : decode cX4_folded 178 = .ok (.iload 9, 2) := dk_21 9 (dk_at dksX4_folded_7 17 rfl rfl)
theorem dX4_folded_180 : decode cX4_folded 180 = .ok (.iload 5, 2) := dk_21 5 (dk_at dksX4_folded_7 19 rfl rfl)
theorem dX4_folded_182 : decode cX4_folded 182 = .ok (.invokevirtual 40, 3) := dk_182 0 40 (dk_at dksX4_folded_7 21 rfl rfl)
theorem dX4_folded_185 : decode cX4_folded 185 = .ok (.iinc 4 1, 3) := dk_132 4 1 (dk_at dksX4_folded_8 0 rfl rfl)
theorem dX4_folded_188 : decode cX4_folded 188 = .ok (.goto (-171), 3) := dk_167 255 85 (dk_at dksX4_folded_8 3 rfl rfl)
theorem dX4_folded_191 : decode cX4_folded 191 = .ok (.aload_n 0, 1) := dk_42 (dk_at dksX4_folded_8 6 rfl rfl)
theorem dX4_folded_192 : decode cX4_folded 192 = .ok (.areturn, 1) := dk_176 (dk_at dksX4_folded_8 7 rfl rfl)
abbrev cX4_turns : ByteArray := prog_24_method_6_code
def yX4_turns : MethodName := ⟨RX4, "turns", "(LNapkinDeeds$Look;II)V"⟩
def dkwX4_turns_1 : List UInt8 := [180, 0, 11, 28, 50, 21, 4, 46, 4, 130, 182, 0, 44, 132, 4, 255, 167, 255, 232, 177]
abbrev dktX4_turns_1 : List UInt8 := dkwX4_turns_1 ++ []
def dkwX4_turns_0 : List UInt8 := [28, 156, 0, 4, 177, 43, 180, 0, 16, 28, 46, 4, 100, 54, 4, 21, 4, 155, 0, 25, 42, 29, 43]
abbrev dktX4_turns_0 : List UInt8 := dkwX4_turns_0 ++ dktX4_turns_1
theorem dksX4_turns_0 : cX4_turns.data.toList.drop 0 = dktX4_turns_0 := by decide +kernel
theorem dksX4_turns_1 : cX4_turns.data.toList.drop 23 = dktX4_turns_1 := dk_seg dksX4_turns_0 23 rfl rfl
theorem dX4_turns_0 : decode cX4_turns 0 = .ok (.iload_n 2, 1) := dk_28 (dk_at dksX4_turns_0 0 rfl rfl)
theorem dX4_turns_1 : decode cX4_turns 1 = .ok (.ifCond .ge 4, 3) := dk_156 0 4 (dk_at dksX4_turns_0 1 rfl rfl)
theorem dX4_turns_4 : decode cX4_turns 4 = .ok (.return_, 1) := dk_177 (dk_at dksX4_turns_0 4 rfl rfl)
theorem dX4_turns_5 : decode cX4_turns 5 = .ok (.aload_n 1, 1) := dk_43 (dk_at dksX4_turns_0 5 rfl rfl)
theorem dX4_turns_6 : decode cX4_turns 6 = .ok (.getfield 16, 3) := dk_180 0 16 (dk_at dksX4_turns_0 6 rfl rfl)
theorem dX4_turns_9 : decode cX4_turns 9 = .ok (.iload_n 2, 1) := dk_28 (dk_at dksX4_turns_0 9 rfl rfl)
theorem dX4_turns_10 : decode cX4_turns 10 = .ok (.iaload, 1) := dk_46 (dk_at dksX4_turns_0 10 rfl rfl)
theorem dX4_turns_11 : decode cX4_turns 11 = .ok (.iconst 1, 1) := dk_4 (dk_at dksX4_turns_0 11 rfl rfl)
theorem dX4_turns_12 : decode cX4_turns 12 = .ok (.isub, 1) := dk_100 (dk_at dksX4_turns_0 12 rfl rfl)
theorem dX4_turns_13 : decode cX4_turns 13 = .ok (.istore 4, 2) := dk_54 4 (dk_at dksX4_turns_0 13 rfl rfl)
theorem dX4_turns_15 : decode cX4_turns 15 = .ok (.iload 4, 2) := dk_21 4 (dk_at dksX4_turns_0 15 rfl rfl)
theorem dX4_turns_17 : decode cX4_turns 17 = .ok (.ifCond .lt 25, 3) := dk_155 0 25 (dk_at dksX4_turns_0 17 rfl rfl)
theorem dX4_turns_20 : decode cX4_turns 20 = .ok (.aload_n 0, 1) := dk_42 (dk_at dksX4_turns_0 20 rfl rfl)
theorem dX4_turns_21 : decode cX4_turns 21 = .ok (.iload_n 3, 1) := dk_29 (dk_at dksX4_turns_0 21 rfl rfl)
theorem dX4_turns_22 : decode cX4_turns 22 = .ok (.aload_n 1, 1) := dk_43 (dk_at dksX4_turns_0 22 rfl rfl)
theorem dX4_turns_23 : decode cX4_turns 23 = .ok (.getfield 11, 3) := dk_180 0 11 (dk_at dksX4_turns_1 0 rfl rfl)
theorem dX4_turns_26 : decode cX4_turns 26 = .ok (.iload_n 2, 1) := dk_28 (dk_at dksX4_turns_1 3 rfl rfl)
theorem dX4_turns_27 : decode cX4_turns 27 = .ok (.aaload, 1) := dk_50 (dk_at dksX4_turns_1 4 rfl rfl)
theorem dX4_turns_28 : decode cX4_turns 28 = .ok (.iload 4, 2) := dk_21 4 (dk_at dksX4_turns_1 5 rfl rfl)
theorem dX4_turns_30 : decode cX4_turns 30 = .ok (.iaload, 1) := dk_46 (dk_at dksX4_turns_1 7 rfl rfl)
theorem dX4_turns_31 : decode cX4_turns 31 = .ok (.iconst 1, 1) := dk_4 (dk_at dksX4_turns_1 8 rfl rfl)
theorem dX4_turns_32 : decode cX4_turns 32 = .ok (.ixor, 1) := dk_130 (dk_at dksX4_turns_1 9 rfl rfl)
theorem dX4_turns_33 : decode cX4_turns 33 = .ok (.invokevirtual 44, 3) := dk_182 0 44 (dk_at dksX4_turns_1 10 rfl rfl)
theorem dX4_turns_36 : decode cX4_turns 36 = .ok (.iinc 4 (-1), 3) := dk_132 4 255 (dk_at dksX4_turns_1 13 rfl rfl)
theorem dX4_turns_39 : decode cX4_turns 39 = .ok (.goto (-24), 3) := dk_167 255 232 (dk_at dksX4_turns_1 16 rfl rfl)
theorem dX4_turns_42 : decode cX4_turns 42 = .ok (.return_, 1) := dk_177 (dk_at dksX4_turns_1 19 rfl rfl)
abbrev cX4_adds : ByteArray := prog_24_method_7_code
def yX4_adds : MethodName := ⟨RX4, "adds", "(II)V"⟩
def dkwX4_adds_1 : List UInt8 := [177]
abbrev dktX4_adds_1 : List UInt8 := dkwX4_adds_1 ++ []
def dkwX4_adds_0 : List UInt8 := [42, 180, 0, 11, 27, 50, 42, 180, 0, 16, 27, 46, 28, 79, 42, 180, 0, 16, 27, 92, 46, 4, 96, 79]
abbrev dktX4_adds_0 : List UInt8 := dkwX4_adds_0 ++ dktX4_adds_1
theorem dksX4_adds_0 : cX4_adds.data.toList.drop 0 = dktX4_adds_0 := by decide +kernel
theorem dksX4_adds_1 : cX4_adds.data.toList.drop 24 = dktX4_adds_1 := dk_seg dksX4_adds_0 24 rfl rfl
theorem dX4_adds_0 : decode cX4_adds 0 = .ok (.aload_n 0, 1) := dk_42 (dk_at dksX4_adds_0 0 rfl rfl)
theorem dX4_adds_1 : decode cX4_adds 1 = .ok (.getfield 11, 3) := dk_180 0 11 (dk_at dksX4_adds_0 1 rfl rfl)
theorem dX4_adds_4 : decode cX4_adds 4 = .ok (.iload_n 1, 1) := dk_27 (dk_at dksX4_adds_0 4 rfl rfl)
theorem dX4_adds_5 : decode cX4_adds 5 = .ok (.aaload, 1) := dk_50 (dk_at dksX4_adds_0 5 rfl rfl)
theorem dX4_adds_6 : decode cX4_adds 6 = .ok (.aload_n 0, 1) := dk_42 (dk_at dksX4_adds_0 6 rfl rfl)
theorem dX4_adds_7 : decode cX4_adds 7 = .ok (.getfield 16, 3) := dk_180 0 16 (dk_at dksX4_adds_0 7 rfl rfl)
theorem dX4_adds_10 : decode cX4_adds 10 = .ok (.iload_n 1, 1) := dk_27 (dk_at dksX4_adds_0 10 rfl rfl)
theorem dX4_adds_11 : decode cX4_adds 11 = .ok (.iaload, 1) := dk_46 (dk_at dksX4_adds_0 11 rfl rfl)
theorem dX4_adds_12 : decode cX4_adds 12 = .ok (.iload_n 2, 1) := dk_28 (dk_at dksX4_adds_0 12 rfl rfl)
theorem dX4_adds_13 : decode cX4_adds 13 = .ok (.iastore, 1) := dk_79 (dk_at dksX4_adds_0 13 rfl rfl)
theorem dX4_adds_14 : decode cX4_adds 14 = .ok (.aload_n 0, 1) := dk_42 (dk_at dksX4_adds_0 14 rfl rfl)
theorem dX4_adds_15 : decode cX4_adds 15 = .ok (.getfield 16, 3) := dk_180 0 16 (dk_at dksX4_adds_0 15 rfl rfl)
theorem dX4_adds_18 : decode cX4_adds 18 = .ok (.iload_n 1, 1) := dk_27 (dk_at dksX4_adds_0 18 rfl rfl)
theorem dX4_adds_19 : decode cX4_adds 19 = .ok (.dup2, 1) := dk_92 (dk_at dksX4_adds_0 19 rfl rfl)
theorem dX4_adds_20 : decode cX4_adds 20 = .ok (.iaload, 1) := dk_46 (dk_at dksX4_adds_0 20 rfl rfl)
theorem dX4_adds_21 : decode cX4_adds 21 = .ok (.iconst 1, 1) := dk_4 (dk_at dksX4_adds_0 21 rfl rfl)
theorem dX4_adds_22 : decode cX4_adds 22 = .ok (.iadd, 1) := dk_96 (dk_at dksX4_adds_0 22 rfl rfl)
theorem dX4_adds_23 : decode cX4_adds 23 = .ok (.iastore, 1) := dk_79 (dk_at dksX4_adds_0 23 rfl rfl)
theorem dX4_adds_24 : decode cX4_adds 24 = .ok (.return_, 1) := dk_177 (dk_at dksX4_adds_1 0 rfl rfl)
abbrev cX4_greatest : ByteArray := prog_24_method_14_code
def yX4_greatest : MethodName := ⟨RX4, "greatest", "()I"⟩
def dkwX4_greatest_1 : List UInt8 := [132, 2, 1, 167, 255, 234, 27, 172]
abbrev dktX4_greatest_1 : List UInt8 := dkwX4_greatest_1 ++ []
def dkwX4_greatest_0 : List UInt8 := [3, 60, 3, 61, 28, 42, 180, 0, 20, 162, 0, 20, 27, 42, 180, 0, 16, 28, 46, 184, 0, 34, 60]
abbrev dktX4_greatest_0 : List UInt8 := dkwX4_greatest_0 ++ dktX4_greatest_1
theorem dksX4_greatest_0 : cX4_greatest.data.toList.drop 0 = dktX4_greatest_0 := by decide +kernel
theorem dksX4_greatest_1 : cX4_greatest.data.toList.drop 23 = dktX4_greatest_1 := dk_seg dksX4_greatest_0 23 rfl rfl
theorem dX4_greatest_0 : decode cX4_greatest 0 = .ok (.iconst 0, 1) := dk_3 (dk_at dksX4_greatest_0 0 rfl rfl)
theorem dX4_greatest_1 : decode cX4_greatest 1 = .ok (.istore_n 1, 1) := dk_60 (dk_at dksX4_greatest_0 1 rfl rfl)
theorem dX4_greatest_2 : decode cX4_greatest 2 = .ok (.iconst 0, 1) := dk_3 (dk_at dksX4_greatest_0 2 rfl rfl)
theorem dX4_greatest_3 : decode cX4_greatest 3 = .ok (.istore_n 2, 1) := dk_61 (dk_at dksX4_greatest_0 3 rfl rfl)
theorem dX4_greatest_4 : decode cX4_greatest 4 = .ok (.iload_n 2, 1) := dk_28 (dk_at dksX4_greatest_0 4 rfl rfl)
theorem dX4_greatest_5 : decode cX4_greatest 5 = .ok (.aload_n 0, 1) := dk_42 (dk_at dksX4_greatest_0 5 rfl rfl)
theorem dX4_greatest_6 : decode cX4_greatest 6 = .ok (.getfield 20, 3) := dk_180 0 20 (dk_at dksX4_greatest_0 6 rfl rfl)
theorem dX4_greatest_9 : decode cX4_greatest 9 = .ok (.if_icmp .ge 20, 3) := dk_162 0 20 (dk_at dksX4_greatest_0 9 rfl rfl)
theorem dX4_greatest_12 : decode cX4_greatest 12 = .ok (.iload_n 1, 1) := dk_27 (dk_at dksX4_greatest_0 12 rfl rfl)
theorem dX4_greatest_13 : decode cX4_greatest 13 = .ok (.aload_n 0, 1) := dk_42 (dk_at dksX4_greatest_0 13 rfl rfl)
theorem dX4_greatest_14 : decode cX4_greatest 14 = .ok (.getfield 16, 3) := dk_180 0 16 (dk_at dksX4_greatest_0 14 rfl rfl)
theorem dX4_greatest_17 : decode cX4_greatest 17 = .ok (.iload_n 2, 1) := dk_28 (dk_at dksX4_greatest_0 17 rfl rfl)
theorem dX4_greatest_18 : decode cX4_greatest 18 = .ok (.iaload, 1) := dk_46 (dk_at dksX4_greatest_0 18 rfl rfl)
theorem dX4_greatest_19 : decode cX4_greatest 19 = .ok (.invokestatic 34, 3) := dk_184 0 34 (dk_at dksX4_greatest_0 19 rfl rfl)
theorem dX4_greatest_22 : decode cX4_greatest 22 = .ok (.istore_n 1, 1) := dk_60 (dk_at dksX4_greatest_0 22 rfl rfl)
theorem dX4_greatest_23 : decode cX4_greatest 23 = .ok (.iinc 2 1, 3) := dk_132 2 1 (dk_at dksX4_greatest_1 0 rfl rfl)
theorem dX4_greatest_26 : decode cX4_greatest 26 = .ok (.goto (-22), 3) := dk_167 255 234 (dk_at dksX4_greatest_1 3 rfl rfl)
theorem dX4_greatest_29 : decode cX4_greatest 29 = .ok (.iload_n 1, 1) := dk_27 (dk_at dksX4_greatest_1 6 rfl rfl)
theorem dX4_greatest_30 : decode cX4_greatest 30 = .ok (.ireturn, 1) := dk_172 (dk_at dksX4_greatest_1 7 rfl rfl)
abbrev cX4_above : ByteArray := prog_24_method_8_code
def yX4_above : MethodName := ⟨RX4, "above", "(I)I"⟩
def dkwX4_above_0 : List UInt8 := [42, 180, 0, 11, 27, 50, 42, 180, 0, 16, 27, 46, 4, 100, 46, 172]
abbrev dktX4_above_0 : List UInt8 := dkwX4_above_0 ++ []
theorem dksX4_above_0 : cX4_above.data.toList.drop 0 = dktX4_above_0 := by decide +kernel
theorem dX4_above_0 : decode cX4_above 0 = .ok (.aload_n 0, 1) := dk_42 (dk_at dksX4_above_0 0 rfl rfl)
theorem dX4_above_1 : decode cX4_above 1 = .ok (.getfield 11, 3) := dk_180 0 11 (dk_at dksX4_above_0 1 rfl rfl)
theorem dX4_above_4 : decode cX4_above 4 = .ok (.iload_n 1, 1) := dk_27 (dk_at dksX4_above_0 4 rfl rfl)
theorem dX4_above_5 : decode cX4_above 5 = .ok (.aaload, 1) := dk_50 (dk_at dksX4_above_0 5 rfl rfl)
theorem dX4_above_6 : decode cX4_above 6 = .ok (.aload_n 0, 1) := dk_42 (dk_at dksX4_above_0 6 rfl rfl)
theorem dX4_above_7 : decode cX4_above 7 = .ok (.getfield 16, 3) := dk_180 0 16 (dk_at dksX4_above_0 7 rfl rfl)
theorem dX4_above_10 : decode cX4_above 10 = .ok (.iload_n 1, 1) := dk_27 (dk_at dksX4_above_0 10 rfl rfl)
theorem dX4_above_11 : decode cX4_above 11 = .ok (.iaload, 1) := dk_46 (dk_at dksX4_above_0 11 rfl rfl)
theorem dX4_above_12 : decode cX4_above 12 = .ok (.iconst 1, 1) := dk_4 (dk_at dksX4_above_0 12 rfl rfl)
theorem dX4_above_13 : decode cX4_above 13 = .ok (.isub, 1) := dk_100 (dk_at dksX4_above_0 13 rfl rfl)
theorem dX4_above_14 : decode cX4_above 14 = .ok (.iaload, 1) := dk_46 (dk_at dksX4_above_0 14 rfl rfl)
theorem dX4_above_15 : decode cX4_above 15 = .ok (.ireturn, 1) := dk_172 (dk_at dksX4_above_0 15 rfl rfl)
abbrev cX4_beneath : ByteArray := prog_24_method_9_code
def yX4_beneath : MethodName := ⟨RX4, "beneath", "(I)I"⟩
def dkwX4_beneath_0 : List UInt8 := [42, 180, 0, 11, 27, 50, 3, 46, 4, 130, 172]
abbrev dktX4_beneath_0 : List UInt8 := dkwX4_beneath_0 ++ []
theorem dksX4_beneath_0 : cX4_beneath.data.toList.drop 0 = dktX4_beneath_0 := by decide +kernel
theorem dX4_beneath_0 : decode cX4_beneath 0 = .ok (.aload_n 0, 1) := dk_42 (dk_at dksX4_beneath_0 0 rfl rfl)
theorem dX4_beneath_1 : decode cX4_beneath 1 = .ok (.getfield 11, 3) := dk_180 0 11 (dk_at dksX4_beneath_0 1 rfl rfl)
theorem dX4_beneath_4 : decode cX4_beneath 4 = .ok (.iload_n 1, 1) := dk_27 (dk_at dksX4_beneath_0 4 rfl rfl)
theorem dX4_beneath_5 : decode cX4_beneath 5 = .ok (.aaload, 1) := dk_50 (dk_at dksX4_beneath_0 5 rfl rfl)
theorem dX4_beneath_6 : decode cX4_beneath 6 = .ok (.iconst 0, 1) := dk_3 (dk_at dksX4_beneath_0 6 rfl rfl)
theorem dX4_beneath_7 : decode cX4_beneath 7 = .ok (.iaload, 1) := dk_46 (dk_at dksX4_beneath_0 7 rfl rfl)
theorem dX4_beneath_8 : decode cX4_beneath 8 = .ok (.iconst 1, 1) := dk_4 (dk_at dksX4_beneath_0 8 rfl rfl)
theorem dX4_beneath_9 : decode cX4_beneath 9 = .ok (.ixor, 1) := dk_130 (dk_at dksX4_beneath_0 9 rfl rfl)
theorem dX4_beneath_10 : decode cX4_beneath 10 = .ok (.ireturn, 1) := dk_172 (dk_at dksX4_beneath_0 10 rfl rfl)
abbrev cX4_isLine : ByteArray := prog_24_method_4_code
def yX4_isLine : MethodName := ⟨RX4, "isLine", "(J)Z"⟩
def dkwX4_isLine_0 : List UInt8 := [31, 10, 42, 180, 0, 20, 4, 100, 133, 184, 0, 30, 172]
abbrev dktX4_isLine_0 : List UInt8 := dkwX4_isLine_0 ++ []
theorem dksX4_isLine_0 : cX4_isLine.data.toList.drop 0 = dktX4_isLine_0 := by decide +kernel
theorem dX4_isLine_0 : decode cX4_isLine 0 = .ok (.lload_n 1, 1) := dk_31 (dk_at dksX4_isLine_0 0 rfl rfl)
theorem dX4_isLine_1 : decode cX4_isLine 1 = .ok (.lconst 1, 1) := dk_10 (dk_at dksX4_isLine_0 1 rfl rfl)
theorem dX4_isLine_2 : decode cX4_isLine 2 = .ok (.aload_n 0, 1) := dk_42 (dk_at dksX4_isLine_0 2 rfl rfl)
theorem dX4_isLine_3 : decode cX4_isLine 3 = .ok (.getfield 20, 3) := dk_180 0 20 (dk_at dksX4_isLine_0 3 rfl rfl)
theorem dX4_isLine_6 : decode cX4_isLine 6 = .ok (.iconst 1, 1) := dk_4 (dk_at dksX4_isLine_0 6 rfl rfl)
theorem dX4_isLine_7 : decode cX4_isLine 7 = .ok (.isub, 1) := dk_100 (dk_at dksX4_isLine_0 7 rfl rfl)
theorem dX4_isLine_8 : decode cX4_isLine 8 = .ok (.i2l, 1) := dk_133 (dk_at dksX4_isLine_0 8 rfl rfl)
theorem dX4_isLine_9 : decode cX4_isLine 9 = .ok (.invokestatic 30, 3) := dk_184 0 30 (dk_at dksX4_isLine_0 9 rfl rfl)
theorem dX4_isLine_12 : decode cX4_isLine 12 = .ok (.ireturn, 1) := dk_172 (dk_at dksX4_isLine_0 12 rfl rfl)
abbrev cX4_become : ByteArray := prog_24_method_3_code
def yX4_become : MethodName := ⟨RX4, "become", "(LNapkinDeeds$Look;)LNapkinDeeds$Look;"⟩
def dkwX4_become_2 : List UInt8 := [28, 46, 184, 0, 24, 132, 2, 1, 167, 255, 210, 42, 176]
abbrev dktX4_become_2 : List UInt8 := dkwX4_become_2 ++ []
def dkwX4_become_1 : List UInt8 := [180, 0, 16, 28, 46, 79, 43, 180, 0, 11, 28, 50, 3, 42, 180, 0, 11, 28, 50, 3, 42, 180, 0, 16]
abbrev dktX4_become_1 : List UInt8 := dkwX4_become_1 ++ dktX4_become_2
def dkwX4_become_0 : List UInt8 := [42, 43, 180, 0, 20, 181, 0, 20, 3, 61, 28, 42, 180, 0, 20, 162, 0, 44, 42, 180, 0, 16, 28, 43]
abbrev dktX4_become_0 : List UInt8 := dkwX4_become_0 ++ dktX4_become_1
theorem dksX4_become_0 : cX4_become.data.toList.drop 0 = dktX4_become_0 := by decide +kernel
theorem dksX4_become_1 : cX4_become.data.toList.drop 24 = dktX4_become_1 := dk_seg dksX4_become_0 24 rfl rfl
theorem dksX4_become_2 : cX4_become.data.toList.drop 48 = dktX4_become_2 := dk_seg dksX4_become_1 24 rfl rfl
theorem dX4_become_0 : decode cX4_become 0 = .ok (.aload_n 0, 1) := dk_42 (dk_at dksX4_become_0 0 rfl rfl)
theorem dX4_become_1 : decode cX4_become 1 = .ok (.aload_n 1, 1) := dk_43 (dk_at dksX4_become_0 1 rfl rfl)
theorem dX4_become_2 : decode cX4_become 2 = .ok (.getfield 20, 3) := dk_180 0 20 (dk_at dksX4_become_0 2 rfl rfl)
theorem dX4_become_5 : decode cX4_become 5 = .ok (.putfield 20, 3) := dk_181 0 20 (dk_at dksX4_become_0 5 rfl rfl)
theorem dX4_become_8 : decode cX4_become 8 = .ok (.iconst 0, 1) := dk_3 (dk_at dksX4_become_0 8 rfl rfl)
theorem dX4_become_9 : decode cX4_become 9 = .ok (.istore_n 2, 1) := dk_61 (dk_at dksX4_become_0 9 rfl rfl)
theorem dX4_become_10 : decode cX4_become 10 = .ok (.iload_n 2, 1) := dk_28 (dk_at dksX4_become_0 10 rfl rfl)
theorem dX4_become_11 : decode cX4_become 11 = .ok (.aload_n 0, 1) := dk_42 (dk_at dksX4_become_0 11 rfl rfl)
theorem dX4_become_12 : decode cX4_become 12 = .ok (.getfield 20, 3) := dk_180 0 20 (dk_at dksX4_become_0 12 rfl rfl)
theorem dX4_become_15 : decode cX4_become 15 = .ok (.if_icmp .ge 44, 3) := dk_162 0 44 (dk_at dksX4_become_0 15 rfl rfl)
theorem dX4_become_18 : decode cX4_become 18 = .ok (.aload_n 0, 1) := dk_42 (dk_at dksX4_become_0 18 rfl rfl)
theorem dX4_become_19 : decode cX4_become 19 = .ok (.getfield 16, 3) := dk_180 0 16 (dk_at dksX4_become_0 19 rfl rfl)
theorem dX4_become_22 : decode cX4_become 22 = .ok (.iload_n 2, 1) := dk_28 (dk_at dksX4_become_0 22 rfl rfl)
theorem dX4_become_23 : decode cX4_become 23 = .ok (.aload_n 1, 1) := dk_43 (dk_at dksX4_become_0 23 rfl rfl)
theorem dX4_become_24 : decode cX4_become 24 = .ok (.getfield 16, 3) := dk_180 0 16 (dk_at dksX4_become_1 0 rfl rfl)
theorem dX4_become_27 : decode cX4_become 27 = .ok (.iload_n 2, 1) := dk_28 (dk_at dksX4_become_1 3 rfl rfl)
theorem dX4_become_28 : decode cX4_become 28 = .ok (.iaload, 1) := dk_46 (dk_at dksX4_become_1 4 rfl rfl)
theorem dX4_become_29 : decode cX4_become 29 = .ok (.iastore, 1) := dk_79 (dk_at dksX4_become_1 5 rfl rfl)
theorem dX4_become_30 : decode cX4_become 30 = .ok (.aload_n 1, 1) := dk_43 (dk_at dksX4_become_1 6 rfl rfl)
theorem dX4_become_31 : decode cX4_become 31 = .ok (.getfield 11, 3) := dk_180 0 11 (dk_at dksX4_become_1 7 rfl rfl)
theorem dX4_become_34 : decode cX4_become 34 = .ok (.iload_n 2, 1) := dk_28 (dk_at dksX4_become_1 10 rfl rfl)
theorem dX4_become_35 : decode cX4_become 35 = .ok (.aaload, 1) := dk_50 (dk_at dksX4_become_1 11 rfl rfl)
theorem dX4_become_36 : decode cX4_become 36 = .ok (.iconst 0, 1) := dk_3 (dk_at dksX4_become_1 12 rfl rfl)
theorem dX4_become_37 : decode cX4_become 37 = .ok (.aload_n 0, 1) := dk_42 (dk_at dksX4_become_1 13 rfl rfl)
theorem dX4_become_38 : decode cX4_become 38 = .ok (.getfield 11, 3) := dk_180 0 11 (dk_at dksX4_become_1 14 rfl rfl)
theorem dX4_become_41 : decode cX4_become 41 = .ok (.iload_n 2, 1) := dk_28 (dk_at dksX4_become_1 17 rfl rfl)
theorem dX4_become_42 : decode cX4_become 42 = .ok (.aaload, 1) := dk_50 (dk_at dksX4_become_1 18 rfl rfl)
theorem dX4_become_43 : decode cX4_become 43 = .ok (.iconst 0, 1) := dk_3 (dk_at dksX4_become_1 19 rfl rfl)
theorem dX4_become_44 : decode cX4_become 44 = .ok (.aload_n 0, 1) := dk_42 (dk_at dksX4_become_1 20 rfl rfl)
theorem dX4_become_45 : decode cX4_become 45 = .ok (.getfield 16, 3) := dk_180 0 16 (dk_at dksX4_become_1 21 rfl rfl)
theorem dX4_become_48 : decode cX4_become 48 = .ok (.iload_n 2, 1) := dk_28 (dk_at dksX4_become_2 0 rfl rfl)
theorem dX4_become_49 : decode cX4_become 49 = .ok (.iaload, 1) := dk_46 (dk_at dksX4_become_2 1 rfl rfl)
theorem dX4_become_50 : decode cX4_become 50 = .ok (.invokestatic 24, 3) := dk_184 0 24 (dk_at dksX4_become_2 2 rfl rfl)
theorem dX4_become_53 : decode cX4_become 53 = .ok (.iinc 2 1, 3) := dk_132 2 1 (dk_at dksX4_become_2 5 rfl rfl)
theorem dX4_become_56 : decode cX4_become 56 = .ok (.goto (-46), 3) := dk_167 255 210 (dk_at dksX4_become_2 8 rfl rfl)
theorem dX4_become_59 : decode cX4_become 59 = .ok (.aload_n 0, 1) := dk_42 (dk_at dksX4_become_2 11 rfl rfl)
theorem dX4_become_60 : decode cX4_become 60 = .ok (.areturn, 1) := dk_176 (dk_at dksX4_become_2 12 rfl rfl)
abbrev cX4_creases : ByteArray := prog_24_method_16_code
def yX4_creases : MethodName := ⟨RX4, "creases", "(I)I"⟩
def dkwX4_creases_1 : List UInt8 := [167, 255, 236, 28, 172]
abbrev dktX4_creases_1 : List UInt8 := dkwX4_creases_1 ++ []
def dkwX4_creases_0 : List UInt8 := [3, 61, 3, 62, 29, 4, 96, 27, 162, 0, 19, 6, 28, 104, 42, 29, 182, 0, 63, 96, 61, 132, 3, 1]
abbrev dktX4_creases_0 : List UInt8 := dkwX4_creases_0 ++ dktX4_creases_1
theorem dksX4_creases_0 : cX4_creases.data.toList.drop 0 = dktX4_creases_0 := by decide +kernel
theorem dksX4_creases_1 : cX4_creases.data.toList.drop 24 = dktX4_creases_1 := dk_seg dksX4_creases_0 24 rfl rfl
theorem dX4_creases_0 : decode cX4_creases 0 = .ok (.iconst 0, 1) := dk_3 (dk_at dksX4_creases_0 0 rfl rfl)
theorem dX4_creases_1 : decode cX4_creases 1 = .ok (.istore_n 2, 1) := dk_61 (dk_at dksX4_creases_0 1 rfl rfl)
theorem dX4_creases_2 : decode cX4_creases 2 = .ok (.iconst 0, 1) := dk_3 (dk_at dksX4_creases_0 2 rfl rfl)
theorem dX4_creases_3 : decode cX4_creases 3 = .ok (.istore_n 3, 1) := dk_62 (dk_at dksX4_creases_0 3 rfl rfl)
theorem dX4_creases_4 : decode cX4_creases 4 = .ok (.iload_n 3, 1) := dk_29 (dk_at dksX4_creases_0 4 rfl rfl)
theorem dX4_creases_5 : decode cX4_creases 5 = .ok (.iconst 1, 1) := dk_4 (dk_at dksX4_creases_0 5 rfl rfl)
theorem dX4_creases_6 : decode cX4_creases 6 = .ok (.iadd, 1) := dk_96 (dk_at dksX4_creases_0 6 rfl rfl)
theorem dX4_creases_7 : decode cX4_creases 7 = .ok (.iload_n 1, 1) := dk_27 (dk_at dksX4_creases_0 7 rfl rfl)
theorem dX4_creases_8 : decode cX4_creases 8 = .ok (.if_icmp .ge 19, 3) := dk_162 0 19 (dk_at dksX4_creases_0 8 rfl rfl)
theorem dX4_creases_11 : decode cX4_creases 11 = .ok (.iconst 3, 1) := dk_6 (dk_at dksX4_creases_0 11 rfl rfl)
theorem dX4_creases_12 : decode cX4_creases 12 = .ok (.iload_n 2, 1) := dk_28 (dk_at dksX4_creases_0 12 rfl rfl)
theorem dX4_creases_13 : decode cX4_creases 13 = .ok (.imul, 1) := dk_104 (dk_at dksX4_creases_0 13 rfl rfl)
theorem dX4_creases_14 : decode cX4_creases 14 = .ok (.aload_n 0, 1) := dk_42 (dk_at dksX4_creases_0 14 rfl rfl)
theorem dX4_creases_15 : decode cX4_creases 15 = .ok (.iload_n 3, 1) := dk_29 (dk_at dksX4_creases_0 15 rfl rfl)
theorem dX4_creases_16 : decode cX4_creases 16 = .ok (.invokevirtual 63, 3) := dk_182 0 63 (dk_at dksX4_creases_0 16 rfl rfl)
theorem dX4_creases_19 : decode cX4_creases 19 = .ok (.iadd, 1) := dk_96 (dk_at dksX4_creases_0 19 rfl rfl)
theorem dX4_creases_20 : decode cX4_creases 20 = .ok (.istore_n 2, 1) := dk_61 (dk_at dksX4_creases_0 20 rfl rfl)
theorem dX4_creases_21 : decode cX4_creases 21 = .ok (.iinc 3 1, 3) := dk_132 3 1 (dk_at dksX4_creases_0 21 rfl rfl)
theorem dX4_creases_24 : decode cX4_creases 24 = .ok (.goto (-20), 3) := dk_167 255 236 (dk_at dksX4_creases_1 0 rfl rfl)
theorem dX4_creases_27 : decode cX4_creases 27 = .ok (.iload_n 2, 1) := dk_28 (dk_at dksX4_creases_1 3 rfl rfl)
theorem dX4_creases_28 : decode cX4_creases 28 = .ok (.ireturn, 1) := dk_172 (dk_at dksX4_creases_1 4 rfl rfl)
abbrev cX4_crease : ByteArray := prog_24_method_13_code
def yX4_crease : MethodName := ⟨RX4, "crease", "(I)I"⟩
def dkwX4_crease_2 : List UInt8 := [182, 0, 55, 153, 0, 7, 5, 167, 0, 4, 4, 172]
abbrev dktX4_crease_2 : List UInt8 := dkwX4_crease_2 ++ []
def dkwX4_crease_1 : List UInt8 := [182, 0, 48, 42, 27, 4, 96, 28, 182, 0, 48, 162, 0, 7, 27, 167, 0, 6, 27, 4, 96, 62, 42, 29]
abbrev dktX4_crease_1 : List UInt8 := dkwX4_crease_1 ++ dktX4_crease_2
def dkwX4_crease_0 : List UInt8 := [42, 27, 182, 0, 51, 61, 42, 27, 4, 96, 182, 0, 51, 28, 159, 0, 5, 3, 172, 42, 27, 28]
abbrev dktX4_crease_0 : List UInt8 := dkwX4_crease_0 ++ dktX4_crease_1
theorem dksX4_crease_0 : cX4_crease.data.toList.drop 0 = dktX4_crease_0 := by decide +kernel
theorem dksX4_crease_1 : cX4_crease.data.toList.drop 22 = dktX4_crease_1 := dk_seg dksX4_crease_0 22 rfl rfl
theorem dksX4_crease_2 : cX4_crease.data.toList.drop 46 = dktX4_crease_2 := dk_seg dksX4_crease_1 24 rfl rfl
theorem dX4_crease_0 : decode cX4_crease 0 = .ok (.aload_n 0, 1) := dk_42 (dk_at dksX4_crease_0 0 rfl rfl)
theorem dX4_crease_1 : decode cX4_crease 1 = .ok (.iload_n 1, 1) := dk_27 (dk_at dksX4_crease_0 1 rfl rfl)
theorem dX4_crease_2 : decode cX4_crease 2 = .ok (.invokevirtual 51, 3) := dk_182 0 51 (dk_at dksX4_crease_0 2 rfl rfl)
theorem dX4_crease_5 : decode cX4_crease 5 = .ok (.istore_n 2, 1) := dk_61 (dk_at dksX4_crease_0 5 rfl rfl)
theorem dX4_crease_6 : decode cX4_crease 6 = .ok (.aload_n 0, 1) := dk_42 (dk_at dksX4_crease_0 6 rfl rfl)
theorem dX4_crease_7 : decode cX4_crease 7 = .ok (.iload_n 1, 1) := dk_27 (dk_at dksX4_crease_0 7 rfl rfl)
theorem dX4_crease_8 : decode cX4_crease 8 = .ok (.iconst 1, 1) := dk_4 (dk_at dksX4_crease_0 8 rfl rfl)
theorem dX4_crease_9 : decode cX4_crease 9 = .ok (.iadd, 1) := dk_96 (dk_at dksX4_crease_0 9 rfl rfl)
theorem dX4_crease_10 : decode cX4_crease 10 = .ok (.invokevirtual 51, 3) := dk_182 0 51 (dk_at dksX4_crease_0 10 rfl rfl)
theorem dX4_crease_13 : decode cX4_crease 13 = .ok (.iload_n 2, 1) := dk_28 (dk_at dksX4_crease_0 13 rfl rfl)
theorem dX4_crease_14 : decode cX4_crease 14 = .ok (.if_icmp .eq 5, 3) := dk_159 0 5 (dk_at dksX4_crease_0 14 rfl rfl)
theorem dX4_crease_17 : decode cX4_crease 17 = .ok (.iconst 0, 1) := dk_3 (dk_at dksX4_crease_0 17 rfl rfl)
theorem dX4_crease_18 : decode cX4_crease 18 = .ok (.ireturn, 1) := dk_172 (dk_at dksX4_crease_0 18 rfl rfl)
theorem dX4_crease_19 : decode cX4_crease 19 = .ok (.aload_n 0, 1) := dk_42 (dk_at dksX4_crease_0 19 rfl rfl)
theorem dX4_crease_20 : decode cX4_crease 20 = .ok (.iload_n 1, 1) := dk_27 (dk_at dksX4_crease_0 20 rfl rfl)
theorem dX4_crease_21 : decode cX4_crease 21 = .ok (.iload_n 2, 1) := dk_28 (dk_at dksX4_crease_0 21 rfl rfl)
theorem dX4_crease_22 : decode cX4_crease 22 = .ok (.invokevirtual 48, 3) := dk_182 0 48 (dk_at dksX4_crease_1 0 rfl rfl)
theorem dX4_crease_25 : decode cX4_crease 25 = .ok (.aload_n 0, 1) := dk_42 (dk_at dksX4_crease_1 3 rfl rfl)
theorem dX4_crease_26 : decode cX4_crease 26 = .ok (.iload_n 1, 1) := dk_27 (dk_at dksX4_crease_1 4 rfl rfl)
theorem dX4_crease_27 : decode cX4_crease 27 = .ok (.iconst 1, 1) := dk_4 (dk_at dksX4_crease_1 5 rfl rfl)
theorem dX4_crease_28 : decode cX4_crease 28 = .ok (.iadd, 1) := dk_96 (dk_at dksX4_crease_1 6 rfl rfl)
theorem dX4_crease_29 : decode cX4_crease 29 = .ok (.iload_n 2, 1) := dk_28 (dk_at dksX4_crease_1 7 rfl rfl)
theorem dX4_crease_30 : decode cX4_crease 30 = .ok (.invokevirtual 48, 3) := dk_182 0 48 (dk_at dksX4_crease_1 8 rfl rfl)
theorem dX4_crease_33 : decode cX4_crease 33 = .ok (.if_icmp .ge 7, 3) := dk_162 0 7 (dk_at dksX4_crease_1 11 rfl rfl)
theorem dX4_crease_36 : decode cX4_crease 36 = .ok (.iload_n 1, 1) := dk_27 (dk_at dksX4_crease_1 14 rfl rfl)
theorem dX4_crease_37 : decode cX4_crease 37 = .ok (.goto 6, 3) := dk_167 0 6 (dk_at dksX4_crease_1 15 rfl rfl)
theorem dX4_crease_40 : decode cX4_crease 40 = .ok (.iload_n 1, 1) := dk_27 (dk_at dksX4_crease_1 18 rfl rfl)
theorem dX4_crease_41 : decode cX4_crease 41 = .ok (.iconst 1, 1) := dk_4 (dk_at dksX4_crease_1 19 rfl rfl)
theorem dX4_crease_42 : decode cX4_crease 42 = .ok (.iadd, 1) := dk_96 (dk_at dksX4_crease_1 20 rfl rfl)
theorem dX4_crease_43 : decode cX4_crease 43 = .ok (.istore_n 3, 1) := dk_62 (dk_at dksX4_crease_1 21 rfl rfl)
theorem dX4_crease_44 : decode cX4_crease 44 = .ok (.aload_n 0, 1) := dk_42 (dk_at dksX4_crease_1 22 rfl rfl)
theorem dX4_crease_45 : decode cX4_crease 45 = .ok (.iload_n 3, 1) := dk_29 (dk_at dksX4_crease_1 23 rfl rfl)
theorem dX4_crease_46 : decode cX4_crease 46 = .ok (.invokevirtual 55, 3) := dk_182 0 55 (dk_at dksX4_crease_2 0 rfl rfl)
theorem dX4_crease_49 : decode cX4_crease 49 = .ok (.ifCond .eq 7, 3) := dk_153 0 7 (dk_at dksX4_crease_2 3 rfl rfl)
theorem dX4_crease_52 : decode cX4_crease 52 = .ok (.iconst 2, 1) := dk_5 (dk_at dksX4_crease_2 6 rfl rfl)
theorem dX4_crease_53 : decode cX4_crease 53 = .ok (.goto 4, 3) := dk_167 0 4 (dk_at dksX4_crease_2 7 rfl rfl)
theorem dX4_crease_56 : decode cX4_crease 56 = .ok (.iconst 1, 1) := dk_4 (dk_at dksX4_crease_2 10 rfl rfl)
theorem dX4_crease_57 : decode cX4_crease 57 = .ok (.ireturn, 1) := dk_172 (dk_at dksX4_crease_2 11 rfl rfl)
abbrev cX4_columnOf : ByteArray := prog_24_method_10_code
def yX4_columnOf : MethodName := ⟨RX4, "columnOf", "(I)I"⟩
def dkwX4_columnOf_1 : List UInt8 := [132, 2, 1, 167, 255, 233, 2, 172]
abbrev dktX4_columnOf_1 : List UInt8 := dkwX4_columnOf_1 ++ []
def dkwX4_columnOf_0 : List UInt8 := [3, 61, 28, 42, 180, 0, 20, 162, 0, 21, 42, 27, 28, 182, 0, 48, 2, 159, 0, 5, 28, 172]
abbrev dktX4_columnOf_0 : List UInt8 := dkwX4_columnOf_0 ++ dktX4_columnOf_1
theorem dksX4_columnOf_0 : cX4_columnOf.data.toList.drop 0 = dktX4_columnOf_0 := by decide +kernel
theorem dksX4_columnOf_1 : cX4_columnOf.data.toList.drop 22 = dktX4_columnOf_1 := dk_seg dksX4_columnOf_0 22 rfl rfl
theorem dX4_columnOf_0 : decode cX4_columnOf 0 = .ok (.iconst 0, 1) := dk_3 (dk_at dksX4_columnOf_0 0 rfl rfl)
theorem dX4_columnOf_1 : decode cX4_columnOf 1 = .ok (.istore_n 2, 1) := dk_61 (dk_at dksX4_columnOf_0 1 rfl rfl)
theorem dX4_columnOf_2 : decode cX4_columnOf 2 = .ok (.iload_n 2, 1) := dk_28 (dk_at dksX4_columnOf_0 2 rfl rfl)
theorem dX4_columnOf_3 : decode cX4_columnOf 3 = .ok (.aload_n 0, 1) := dk_42 (dk_at dksX4_columnOf_0 3 rfl rfl)
theorem dX4_columnOf_4 : decode cX4_columnOf 4 = .ok (.getfield 20, 3) := dk_180 0 20 (dk_at dksX4_columnOf_0 4 rfl rfl)
theorem dX4_columnOf_7 : decode cX4_columnOf 7 = .ok (.if_icmp .ge 21, 3) := dk_162 0 21 (dk_at dksX4_columnOf_0 7 rfl rfl)
theorem dX4_columnOf_10 : decode cX4_columnOf 10 = .ok (.aload_n 0, 1) := dk_42 (dk_at dksX4_columnOf_0 10 rfl rfl)
theorem dX4_columnOf_11 : decode cX4_columnOf 11 = .ok (.iload_n 1, 1) := dk_27 (dk_at dksX4_columnOf_0 11 rfl rfl)
theorem dX4_columnOf_12 : decode cX4_columnOf 12 = .ok (.iload_n 2, 1) := dk_28 (dk_at dksX4_columnOf_0 12 rfl rfl)
theorem dX4_columnOf_13 : decode cX4_columnOf 13 = .ok (.invokevirtual 48, 3) := dk_182 0 48 (dk_at dksX4_columnOf_0 13 rfl rfl)
theorem dX4_columnOf_16 : decode cX4_columnOf 16 = .ok (.iconst (-1), 1) := dk_2 (dk_at dksX4_columnOf_0 16 rfl rfl)
theorem dX4_columnOf_17 : decode cX4_columnOf 17 = .ok (.if_icmp .eq 5, 3) := dk_159 0 5 (dk_at dksX4_columnOf_0 17 rfl rfl)
theorem dX4_columnOf_20 : decode cX4_columnOf 20 = .ok (.iload_n 2, 1) := dk_28 (dk_at dksX4_columnOf_0 20 rfl rfl)
theorem dX4_columnOf_21 : decode cX4_columnOf 21 = .ok (.ireturn, 1) := dk_172 (dk_at dksX4_columnOf_0 21 rfl rfl)
theorem dX4_columnOf_22 : decode cX4_columnOf 22 = .ok (.iinc 2 1, 3) := dk_132 2 1 (dk_at dksX4_columnOf_1 0 rfl rfl)
theorem dX4_columnOf_25 : decode cX4_columnOf 25 = .ok (.goto (-23), 3) := dk_167 255 233 (dk_at dksX4_columnOf_1 3 rfl rfl)
theorem dX4_columnOf_28 : decode cX4_columnOf 28 = .ok (.iconst (-1), 1) := dk_2 (dk_at dksX4_columnOf_1 6 rfl rfl)
theorem dX4_columnOf_29 : decode cX4_columnOf 29 = .ok (.ireturn, 1) := dk_172 (dk_at dksX4_columnOf_1 7 rfl rfl)
abbrev cX4_layerOf : ByteArray := prog_24_method_11_code
def yX4_layerOf : MethodName := ⟨RX4, "layerOf", "(II)I"⟩
def dkwX4_layerOf_1 : List UInt8 := [160, 0, 5, 29, 172, 132, 3, 1, 167, 255, 227, 2, 172]
abbrev dktX4_layerOf_1 : List UInt8 := dkwX4_layerOf_1 ++ []
def dkwX4_layerOf_0 : List UInt8 := [3, 62, 29, 42, 180, 0, 16, 28, 46, 162, 0, 25, 42, 180, 0, 11, 28, 50, 29, 46, 5, 108, 27]
abbrev dktX4_layerOf_0 : List UInt8 := dkwX4_layerOf_0 ++ dktX4_layerOf_1
theorem dksX4_layerOf_0 : cX4_layerOf.data.toList.drop 0 = dktX4_layerOf_0 := by decide +kernel
theorem dksX4_layerOf_1 : cX4_layerOf.data.toList.drop 23 = dktX4_layerOf_1 := dk_seg dksX4_layerOf_0 23 rfl rfl
theorem dX4_layerOf_0 : decode cX4_layerOf 0 = .ok (.iconst 0, 1) := dk_3 (dk_at dksX4_layerOf_0 0 rfl rfl)
theorem dX4_layerOf_1 : decode cX4_layerOf 1 = .ok (.istore_n 3, 1) := dk_62 (dk_at dksX4_layerOf_0 1 rfl rfl)
theorem dX4_layerOf_2 : decode cX4_layerOf 2 = .ok (.iload_n 3, 1) := dk_29 (dk_at dksX4_layerOf_0 2 rfl rfl)
theorem dX4_layerOf_3 : decode cX4_layerOf 3 = .ok (.aload_n 0, 1) := dk_42 (dk_at dksX4_layerOf_0 3 rfl rfl)
theorem dX4_layerOf_4 : decode cX4_layerOf 4 = .ok (.getfield 16, 3) := dk_180 0 16 (dk_at dksX4_layerOf_0 4 rfl rfl)
theorem dX4_layerOf_7 : decode cX4_layerOf 7 = .ok (.iload_n 2, 1) := dk_28 (dk_at dksX4_layerOf_0 7 rfl rfl)
theorem dX4_layerOf_8 : decode cX4_layerOf 8 = .ok (.iaload, 1) := dk_46 (dk_at dksX4_layerOf_0 8 rfl rfl)
theorem dX4_layerOf_9 : decode cX4_layerOf 9 = .ok (.if_icmp .ge 25, 3) := dk_162 0 25 (dk_at dksX4_layerOf_0 9 rfl rfl)
theorem dX4_layerOf_12 : decode cX4_layerOf 12 = .ok (.aload_n 0, 1) := dk_42 (dk_at dksX4_layerOf_0 12 rfl rfl)
theorem dX4_layerOf_13 : decode cX4_layerOf 13 = .ok (.getfield 11, 3) := dk_180 0 11 (dk_at dksX4_layerOf_0 13 rfl rfl)
theorem dX4_layerOf_16 : decode cX4_layerOf 16 = .ok (.iload_n 2, 1) := dk_28 (dk_at dksX4_layerOf_0 16 rfl rfl)
theorem dX4_layerOf_17 : decode cX4_layerOf 17 = .ok (.aaload, 1) := dk_50 (dk_at dksX4_layerOf_0 17 rfl rfl)
theorem dX4_layerOf_18 : decode cX4_layerOf 18 = .ok (.iload_n 3, 1) := dk_29 (dk_at dksX4_layerOf_0 18 rfl rfl)
theorem dX4_layerOf_19 : decode cX4_layerOf 19 = .ok (.iaload, 1) := dk_46 (dk_at dksX4_layerOf_0 19 rfl rfl)
theorem dX4_layerOf_20 : decode cX4_layerOf 20 = .ok (.iconst 2, 1) := dk_5 (dk_at dksX4_layerOf_0 20 rfl rfl)
theorem dX4_layerOf_21 : decode cX4_layerOf 21 = .ok (.idiv, 1) := dk_108 (dk_at dksX4_layerOf_0 21 rfl rfl)
theorem dX4_layerOf_22 : decode cX4_layerOf 22 = .ok (.iload_n 1, 1) := dk_27 (dk_at dksX4_layerOf_0 22 rfl rfl)
theorem dX4_layerOf_23 : decode cX4_layerOf 23 = .ok (.if_icmp .ne 5, 3) := dk_160 0 5 (dk_at dksX4_layerOf_1 0 rfl rfl)
theorem dX4_layerOf_26 : decode cX4_layerOf 26 = .ok (.iload_n 3, 1) := dk_29 (dk_at dksX4_layerOf_1 3 rfl rfl)
theorem dX4_layerOf_27 : decode cX4_layerOf 27 = .ok (.ireturn, 1) := dk_172 (dk_at dksX4_layerOf_1 4 rfl rfl)
theorem dX4_layerOf_28 : decode cX4_layerOf 28 = .ok (.iinc 3 1, 3) := dk_132 3 1 (dk_at dksX4_layerOf_1 5 rfl rfl)
theorem dX4_layerOf_31 : decode cX4_layerOf 31 = .ok (.goto (-29), 3) := dk_167 255 227 (dk_at dksX4_layerOf_1 8 rfl rfl)
theorem dX4_layerOf_34 : decode cX4_layerOf 34 = .ok (.iconst (-1), 1) := dk_2 (dk_at dksX4_layerOf_1 11 rfl rfl)
theorem dX4_layerOf_35 : decode cX4_layerOf 35 = .ok (.ireturn, 1) := dk_172 (dk_at dksX4_layerOf_1 12 rfl rfl)
abbrev cX4_isUp : ByteArray := prog_24_method_12_code
def yX4_isUp : MethodName := ⟨RX4, "isUp", "(I)Z"⟩
def dkwX4_isUp_1 : List UInt8 := [160, 0, 7, 4, 167, 0, 4, 3, 172]
abbrev dktX4_isUp_1 : List UInt8 := dkwX4_isUp_1 ++ []
def dkwX4_isUp_0 : List UInt8 := [42, 27, 182, 0, 51, 61, 42, 180, 0, 11, 28, 50, 42, 27, 28, 182, 0, 48, 46, 5, 112, 4]
abbrev dktX4_isUp_0 : List UInt8 := dkwX4_isUp_0 ++ dktX4_isUp_1
theorem dksX4_isUp_0 : cX4_isUp.data.toList.drop 0 = dktX4_isUp_0 := by decide +kernel
theorem dksX4_isUp_1 : cX4_isUp.data.toList.drop 22 = dktX4_isUp_1 := dk_seg dksX4_isUp_0 22 rfl rfl
theorem dX4_isUp_0 : decode cX4_isUp 0 = .ok (.aload_n 0, 1) := dk_42 (dk_at dksX4_isUp_0 0 rfl rfl)
theorem dX4_isUp_1 : decode cX4_isUp 1 = .ok (.iload_n 1, 1) := dk_27 (dk_at dksX4_isUp_0 1 rfl rfl)
theorem dX4_isUp_2 : decode cX4_isUp 2 = .ok (.invokevirtual 51, 3) := dk_182 0 51 (dk_at dksX4_isUp_0 2 rfl rfl)
theorem dX4_isUp_5 : decode cX4_isUp 5 = .ok (.istore_n 2, 1) := dk_61 (dk_at dksX4_isUp_0 5 rfl rfl)
theorem dX4_isUp_6 : decode cX4_isUp 6 = .ok (.aload_n 0, 1) := dk_42 (dk_at dksX4_isUp_0 6 rfl rfl)
theorem dX4_isUp_7 : decode cX4_isUp 7 = .ok (.getfield 11, 3) := dk_180 0 11 (dk_at dksX4_isUp_0 7 rfl rfl)
theorem dX4_isUp_10 : decode cX4_isUp 10 = .ok (.iload_n 2, 1) := dk_28 (dk_at dksX4_isUp_0 10 rfl rfl)
theorem dX4_isUp_11 : decode cX4_isUp 11 = .ok (.aaload, 1) := dk_50 (dk_at dksX4_isUp_0 11 rfl rfl)
theorem dX4_isUp_12 : decode cX4_isUp 12 = .ok (.aload_n 0, 1) := dk_42 (dk_at dksX4_isUp_0 12 rfl rfl)
theorem dX4_isUp_13 : decode cX4_isUp 13 = .ok (.iload_n 1, 1) := dk_27 (dk_at dksX4_isUp_0 13 rfl rfl)
theorem dX4_isUp_14 : decode cX4_isUp 14 = .ok (.iload_n 2, 1) := dk_28 (dk_at dksX4_isUp_0 14 rfl rfl)
theorem dX4_isUp_15 : decode cX4_isUp 15 = .ok (.invokevirtual 48, 3) := dk_182 0 48 (dk_at dksX4_isUp_0 15 rfl rfl)
theorem dX4_isUp_18 : decode cX4_isUp 18 = .ok (.iaload, 1) := dk_46 (dk_at dksX4_isUp_0 18 rfl rfl)
theorem dX4_isUp_19 : decode cX4_isUp 19 = .ok (.iconst 2, 1) := dk_5 (dk_at dksX4_isUp_0 19 rfl rfl)
theorem dX4_isUp_20 : decode cX4_isUp 20 = .ok (.irem, 1) := dk_112 (dk_at dksX4_isUp_0 20 rfl rfl)
theorem dX4_isUp_21 : decode cX4_isUp 21 = .ok (.iconst 1, 1) := dk_4 (dk_at dksX4_isUp_0 21 rfl rfl)
theorem dX4_isUp_22 : decode cX4_isUp 22 = .ok (.if_icmp .ne 7, 3) := dk_160 0 7 (dk_at dksX4_isUp_1 0 rfl rfl)
theorem dX4_isUp_25 : decode cX4_isUp 25 = .ok (.iconst 1, 1) := dk_4 (dk_at dksX4_isUp_1 3 rfl rfl)
theorem dX4_isUp_26 : decode cX4_isUp 26 = .ok (.goto 4, 3) := dk_167 0 4 (dk_at dksX4_isUp_1 4 rfl rfl)
theorem dX4_isUp_29 : decode cX4_isUp 29 = .ok (.iconst 0, 1) := dk_3 (dk_at dksX4_isUp_1 7 rfl rfl)
theorem dX4_isUp_30 : decode cX4_isUp 30 = .ok (.ireturn, 1) := dk_172 (dk_at dksX4_isUp_1 8 rfl rfl)
abbrev cX4_code : ByteArray := prog_24_method_15_code
def yX4_code : MethodName := ⟨RX4, "code", "()J"⟩
def dkwX4_code_2 : List UInt8 := [167, 255, 225, 20, 0, 59, 31, 105, 20, 0, 61, 97, 64, 132, 3, 1, 167, 255, 198, 31, 173]
abbrev dktX4_code_2 : List UInt8 := dkwX4_code_2 ++ []
def dkwX4_code_1 : List UInt8 := [162, 0, 26, 20, 0, 59, 31, 105, 42, 180, 0, 11, 29, 50, 21, 4, 46, 133, 97, 64, 132, 4, 1]
abbrev dktX4_code_1 : List UInt8 := dkwX4_code_1 ++ dktX4_code_2
def dkwX4_code_0 : List UInt8 := [10, 64, 3, 62, 29, 42, 180, 0, 20, 162, 0, 56, 3, 54, 4, 21, 4, 42, 180, 0, 16, 29, 46]
abbrev dktX4_code_0 : List UInt8 := dkwX4_code_0 ++ dktX4_code_1
theorem dksX4_code_0 : cX4_code.data.toList.drop 0 = dktX4_code_0 := by decide +kernel
theorem dksX4_code_1 : cX4_code.data.toList.drop 23 = dktX4_code_1 := dk_seg dksX4_code_0 23 rfl rfl
theorem dksX4_code_2 : cX4_code.data.toList.drop 46 = dktX4_code_2 := dk_seg dksX4_code_1 23 rfl rfl
theorem dX4_code_0 : decode cX4_code 0 = .ok (.lconst 1, 1) := dk_10 (dk_at dksX4_code_0 0 rfl rfl)
theorem dX4_code_1 : decode cX4_code 1 = .ok (.lstore_n 1, 1) := dk_64 (dk_at dksX4_code_0 1 rfl rfl)
theorem dX4_code_2 : decode cX4_code 2 = .ok (.iconst 0, 1) := dk_3 (dk_at dksX4_code_0 2 rfl rfl)
theorem dX4_code_3 : decode cX4_code 3 = .ok (.istore_n 3, 1) := dk_62 (dk_at dksX4_code_0 3 rfl rfl)
theorem dX4_code_4 : decode cX4_code 4 = .ok (.iload_n 3, 1) := dk_29 (dk_at dksX4_code_0 4 rfl rfl)
theorem dX4_code_5 : decode cX4_code 5 = .ok (.aload_n 0, 1) := dk_42 (dk_at dksX4_code_0 5 rfl rfl)
theorem dX4_code_6 : decode cX4_code 6 = .ok (.getfield 20, 3) := dk_180 0 20 (dk_at dksX4_code_0 6 rfl rfl)
theorem dX4_code_9 : decode cX4_code 9 = .ok (.if_icmp .ge 56, 3) := dk_162 0 56 (dk_at dksX4_code_0 9 rfl rfl)
theorem dX4_code_12 : decode cX4_code 12 = .ok (.iconst 0, 1) := dk_3 (dk_at dksX4_code_0 12 rfl rfl)
theorem dX4_code_13 : decode cX4_code 13 = .ok (.istore 4, 2) := dk_54 4 (dk_at dksX4_code_0 13 rfl rfl)
theorem dX4_code_15 : decode cX4_code 15 = .ok (.iload 4, 2) := dk_21 4 (dk_at dksX4_code_0 15 rfl rfl)
theorem dX4_code_17 : decode cX4_code 17 = .ok (.aload_n 0, 1) := dk_42 (dk_at dksX4_code_0 17 rfl rfl)
theorem dX4_code_18 : decode cX4_code 18 = .ok (.getfield 16, 3) := dk_180 0 16 (dk_at dksX4_code_0 18 rfl rfl)
theorem dX4_code_21 : decode cX4_code 21 = .ok (.iload_n 3, 1) := dk_29 (dk_at dksX4_code_0 21 rfl rfl)
theorem dX4_code_22 : decode cX4_code 22 = .ok (.iaload, 1) := dk_46 (dk_at dksX4_code_0 22 rfl rfl)
theorem dX4_code_23 : decode cX4_code 23 = .ok (.if_icmp .ge 26, 3) := dk_162 0 26 (dk_at dksX4_code_1 0 rfl rfl)
theorem dX4_code_26 : decode cX4_code 26 = .ok (.ldc2_w 59, 3) := dk_20 0 59 (dk_at dksX4_code_1 3 rfl rfl)
theorem dX4_code_29 : decode cX4_code 29 = .ok (.lload_n 1, 1) := dk_31 (dk_at dksX4_code_1 6 rfl rfl)
theorem dX4_code_30 : decode cX4_code 30 = .ok (.lmul, 1) := dk_105 (dk_at dksX4_code_1 7 rfl rfl)
theorem dX4_code_31 : decode cX4_code 31 = .ok (.aload_n 0, 1) := dk_42 (dk_at dksX4_code_1 8 rfl rfl)
theorem dX4_code_32 : decode cX4_code 32 = .ok (.getfield 11, 3) := dk_180 0 11 (dk_at dksX4_code_1 9 rfl rfl)
theorem dX4_code_35 : decode cX4_code 35 = .ok (.iload_n 3, 1) := dk_29 (dk_at dksX4_code_1 12 rfl rfl)
theorem dX4_code_36 : decode cX4_code 36 = .ok (.aaload, 1) := dk_50 (dk_at dksX4_code_1 13 rfl rfl)
theorem dX4_code_37 : decode cX4_code 37 = .ok (.iload 4, 2) := dk_21 4 (dk_at dksX4_code_1 14 rfl rfl)
theorem dX4_code_39 : decode cX4_code 39 = .ok (.iaload, 1) := dk_46 (dk_at dksX4_code_1 16 rfl rfl)
theorem dX4_code_40 : decode cX4_code 40 = .ok (.i2l, 1) := dk_133 (dk_at dksX4_code_1 17 rfl rfl)
theorem dX4_code_41 : decode cX4_code 41 = .ok (.ladd, 1) := dk_97 (dk_at dksX4_code_1 18 rfl rfl)
theorem dX4_code_42 : decode cX4_code 42 = .ok (.lstore_n 1, 1) := dk_64 (dk_at dksX4_code_1 19 rfl rfl)
theorem dX4_code_43 : decode cX4_code 43 = .ok (.iinc 4 1, 3) := dk_132 4 1 (dk_at dksX4_code_1 20 rfl rfl)
theorem dX4_code_46 : decode cX4_code 46 = .ok (.goto (-31), 3) := dk_167 255 225 (dk_at dksX4_code_2 0 rfl rfl)
theorem dX4_code_49 : decode cX4_code 49 = .ok (.ldc2_w 59, 3) := dk_20 0 59 (dk_at dksX4_code_2 3 rfl rfl)
theorem dX4_code_52 : decode cX4_code 52 = .ok (.lload_n 1, 1) := dk_31 (dk_at dksX4_code_2 6 rfl rfl)
theorem dX4_code_53 : decode cX4_code 53 = .ok (.lmul, 1) := dk_105 (dk_at dksX4_code_2 7 rfl rfl)
theorem dX4_code_54 : decode cX4_code 54 = .ok (.ldc2_w 61, 3) := dk_20 0 61 (dk_at dksX4_code_2 8 rfl rfl)
theorem dX4_code_57 : decode cX4_code 57 = .ok (.ladd, 1) := dk_97 (dk_at dksX4_code_2 11 rfl rfl)
theorem dX4_code_58 : decode cX4_code 58 = .ok (.lstore_n 1, 1) := dk_64 (dk_at dksX4_code_2 12 rfl rfl)
theorem dX4_code_59 : decode cX4_code 59 = .ok (.iinc 3 1, 3) := dk_132 3 1 (dk_at dksX4_code_2 13 rfl rfl)
theorem dX4_code_62 : decode cX4_code 62 = .ok (.goto (-58), 3) := dk_167 255 198 (dk_at dksX4_code_2 16 rfl rfl)
theorem dX4_code_65 : decode cX4_code 65 = .ok (.lload_n 1, 1) := dk_31 (dk_at dksX4_code_2 19 rfl rfl)
theorem dX4_code_66 : decode cX4_code 66 = .ok (.lreturn, 1) := dk_173 (dk_at dksX4_code_2 20 rfl rfl)
theorem q155 : (Jvm.Cond.initialized "NapkinDeeds$Look") ∈ lw_all := lw_g (lw_at lw_m1 7 rfl) rfl
theorem q325 : (Jvm.Cond.instantiable "NapkinDeeds$Look" (3 : Nat)) ∈ lw_all := lw_g (lw_at lw_m1 177 rfl) rfl
theorem q327 : (Jvm.Cond.instanceMethod ({ cls := "NapkinDeeds$Look", name := "<init>", desc := "()V" } : Jvm.MethodName)) ∈ lw_all := lw_g (lw_at lw_m1 179 rfl) rfl
theorem q328 : (Jvm.Cond.code ({ cls := "NapkinDeeds$Look", name := "<init>", desc := "()V" } : Jvm.MethodName) prog_24_method_1_code (1 : Nat) (Option.none : Option Jvm.ClassFile.FieldType)) ∈ lw_all := lw_g (lw_at lw_m1 180 rfl) rfl
theorem q329 : (Jvm.Cond.methodLink "NapkinDeeds$Look" (3 : Nat) ({ cls := "java/lang/Object", name := "<init>", desc := "()V" } : Jvm.MethodName)) ∈ lw_all := lw_g (lw_at lw_m1 181 rfl) rfl
theorem q330 : (Jvm.Cond.classLink "NapkinDeeds$Look" (9 : Nat) "[[I") ∈ lw_all := lw_g (lw_at lw_m1 182 rfl) rfl
theorem q332 : (Jvm.Cond.fieldLink "NapkinDeeds$Look" (11 : Nat) "NapkinDeeds$Look" "columns" "[[I") ∈ lw_all := lw_g (lw_at lw_m1 184 rfl) rfl
theorem q336 : (Jvm.Cond.fieldLink "NapkinDeeds$Look" (16 : Nat) "NapkinDeeds$Look" "high" "[I") ∈ lw_all := lw_g (lw_at lw_m1 188 rfl) rfl
theorem q341 : (Jvm.Cond.fieldLink "NapkinDeeds$Look" (20 : Nat) "NapkinDeeds$Look" "wide" "I") ∈ lw_all := lw_g (lw_at lw_m1 193 rfl) rfl
theorem q345 : (Jvm.Cond.laysFinal "NapkinDeeds$Look" "NapkinDeeds$Look" "columns" "[[I") ∈ lw_all := lw_g (lw_at lw_m1 197 rfl) rfl
theorem q346 : (Jvm.Cond.soleField "NapkinDeeds$Look" "columns") ∈ lw_all := lw_g (lw_at lw_m1 198 rfl) rfl
theorem q347 : (Jvm.Cond.laysFinal "NapkinDeeds$Look" "NapkinDeeds$Look" "high" "[I") ∈ lw_all := lw_g (lw_at lw_m1 199 rfl) rfl
theorem q348 : (Jvm.Cond.soleField "NapkinDeeds$Look" "high") ∈ lw_all := lw_g (lw_at lw_m1 200 rfl) rfl
theorem q349 : (Jvm.Cond.lays "NapkinDeeds$Look" "NapkinDeeds$Look" "wide" "I") ∈ lw_all := lw_g (lw_at lw_m1 201 rfl) rfl
theorem q350 : (Jvm.Cond.soleField "NapkinDeeds$Look" "wide") ∈ lw_all := lw_g (lw_at lw_m1 202 rfl) rfl
theorem q351 : (Jvm.Cond.superclass "NapkinDeeds$Look" "java/lang/Object") ∈ lw_all := lw_g (lw_at lw_m1 203 rfl) rfl
theorem q461 : (Jvm.Cond.instanceMethod ({ cls := "NapkinDeeds$Look", name := "flat", desc := "(I)LNapkinDeeds$Look;" } : Jvm.MethodName)) ∈ lw_all := lw_g (lw_at lw_m2 73 rfl) rfl
theorem q462 : (Jvm.Cond.selects "NapkinDeeds$Look" ({ cls := "NapkinDeeds$Look", name := "flat", desc := "(I)LNapkinDeeds$Look;" } : Jvm.MethodName) ({ cls := "NapkinDeeds$Look", name := "flat", desc := "(I)LNapkinDeeds$Look;" } : Jvm.MethodName)) ∈ lw_all := lw_g (lw_at lw_m2 74 rfl) rfl
theorem q463 : (Jvm.Cond.code ({ cls := "NapkinDeeds$Look", name := "flat", desc := "(I)LNapkinDeeds$Look;" } : Jvm.MethodName) prog_24_method_2_code (3 : Nat) (Option.some (Jvm.ClassFile.FieldType.object "NapkinDeeds$Look"))) ∈ lw_all := lw_g (lw_at lw_m2 75 rfl) rfl
theorem q465 : (Jvm.Cond.instanceMethod ({ cls := "NapkinDeeds$Look", name := "folded", desc := "(LNapkinDeeds$Look;II)LNapkinDeeds$Look;" } : Jvm.MethodName)) ∈ lw_all := lw_g (lw_at lw_m2 77 rfl) rfl
theorem q466 : (Jvm.Cond.selects "NapkinDeeds$Look" ({ cls := "NapkinDeeds$Look", name := "folded", desc := "(LNapkinDeeds$Look;II)LNapkinDeeds$Look;" } : Jvm.MethodName) ({ cls := "NapkinDeeds$Look", name := "folded", desc := "(LNapkinDeeds$Look;II)LNapkinDeeds$Look;" } : Jvm.MethodName)) ∈ lw_all := lw_g (lw_at lw_m2 78 rfl) rfl
theorem q467 : (Jvm.Cond.code ({ cls := "NapkinDeeds$Look", name := "folded", desc := "(LNapkinDeeds$Look;II)LNapkinDeeds$Look;" } : Jvm.MethodName) prog_24_method_5_code (11 : Nat) (Option.some (Jvm.ClassFile.FieldType.object "NapkinDeeds$Look"))) ∈ lw_all := lw_g (lw_at lw_m2 79 rfl) rfl
theorem q468 : (Jvm.Cond.methodLink "NapkinDeeds$Look" (34 : Nat) ({ cls := "java/lang/Math", name := "max", desc := "(II)I" } : Jvm.MethodName)) ∈ lw_all := lw_g (lw_at lw_m2 80 rfl) rfl
theorem q471 : (Jvm.Cond.methodLink "NapkinDeeds$Look" (40 : Nat) ({ cls := "NapkinDeeds$Look", name := "turns", desc := "(LNapkinDeeds$Look;II)V" } : Jvm.MethodName)) ∈ lw_all := lw_g (lw_at lw_m2 83 rfl) rfl
theorem q472 : (Jvm.Cond.privateMethod ({ cls := "NapkinDeeds$Look", name := "turns", desc := "(LNapkinDeeds$Look;II)V" } : Jvm.MethodName)) ∈ lw_tbl := lw_at lw_m2 84 rfl
theorem q473 : (Jvm.Cond.instanceMethod ({ cls := "NapkinDeeds$Look", name := "turns", desc := "(LNapkinDeeds$Look;II)V" } : Jvm.MethodName)) ∈ lw_all := lw_g (lw_at lw_m2 85 rfl) rfl
theorem q474 : (Jvm.Cond.code ({ cls := "NapkinDeeds$Look", name := "turns", desc := "(LNapkinDeeds$Look;II)V" } : Jvm.MethodName) prog_24_method_6_code (5 : Nat) (Option.none : Option Jvm.ClassFile.FieldType)) ∈ lw_all := lw_g (lw_at lw_m2 86 rfl) rfl
theorem q475 : (Jvm.Cond.methodLink "NapkinDeeds$Look" (44 : Nat) ({ cls := "NapkinDeeds$Look", name := "adds", desc := "(II)V" } : Jvm.MethodName)) ∈ lw_all := lw_g (lw_at lw_m2 87 rfl) rfl
theorem q476 : (Jvm.Cond.privateMethod ({ cls := "NapkinDeeds$Look", name := "adds", desc := "(II)V" } : Jvm.MethodName)) ∈ lw_tbl := lw_at lw_m2 88 rfl
theorem q477 : (Jvm.Cond.instanceMethod ({ cls := "NapkinDeeds$Look", name := "adds", desc := "(II)V" } : Jvm.MethodName)) ∈ lw_all := lw_g (lw_at lw_m2 89 rfl) rfl
theorem q478 : (Jvm.Cond.code ({ cls := "NapkinDeeds$Look", name := "adds", desc := "(II)V" } : Jvm.MethodName) prog_24_method_7_code (3 : Nat) (Option.none : Option Jvm.ClassFile.FieldType)) ∈ lw_all := lw_g (lw_at lw_m2 90 rfl) rfl
theorem q488 : (Jvm.Cond.instanceMethod ({ cls := "NapkinDeeds$Look", name := "greatest", desc := "()I" } : Jvm.MethodName)) ∈ lw_all := lw_g (lw_at lw_m2 100 rfl) rfl
theorem q489 : (Jvm.Cond.selects "NapkinDeeds$Look" ({ cls := "NapkinDeeds$Look", name := "greatest", desc := "()I" } : Jvm.MethodName) ({ cls := "NapkinDeeds$Look", name := "greatest", desc := "()I" } : Jvm.MethodName)) ∈ lw_all := lw_g (lw_at lw_m2 101 rfl) rfl
theorem q490 : (Jvm.Cond.code ({ cls := "NapkinDeeds$Look", name := "greatest", desc := "()I" } : Jvm.MethodName) prog_24_method_14_code (3 : Nat) (Option.some Jvm.ClassFile.FieldType.int)) ∈ lw_all := lw_g (lw_at lw_m2 102 rfl) rfl
theorem q496 : (Jvm.Cond.instanceMethod ({ cls := "NapkinDeeds$Look", name := "above", desc := "(I)I" } : Jvm.MethodName)) ∈ lw_all := lw_g (lw_at lw_m2 108 rfl) rfl
theorem q497 : (Jvm.Cond.selects "NapkinDeeds$Look" ({ cls := "NapkinDeeds$Look", name := "above", desc := "(I)I" } : Jvm.MethodName) ({ cls := "NapkinDeeds$Look", name := "above", desc := "(I)I" } : Jvm.MethodName)) ∈ lw_all := lw_g (lw_at lw_m2 109 rfl) rfl
theorem q498 : (Jvm.Cond.code ({ cls := "NapkinDeeds$Look", name := "above", desc := "(I)I" } : Jvm.MethodName) prog_24_method_8_code (2 : Nat) (Option.some Jvm.ClassFile.FieldType.int)) ∈ lw_all := lw_g (lw_at lw_m2 110 rfl) rfl
theorem q508 : (Jvm.Cond.instanceMethod ({ cls := "NapkinDeeds$Look", name := "beneath", desc := "(I)I" } : Jvm.MethodName)) ∈ lw_all := lw_g (lw_at lw_m2 120 rfl) rfl
theorem q509 : (Jvm.Cond.selects "NapkinDeeds$Look" ({ cls := "NapkinDeeds$Look", name := "beneath", desc := "(I)I" } : Jvm.MethodName) ({ cls := "NapkinDeeds$Look", name := "beneath", desc := "(I)I" } : Jvm.MethodName)) ∈ lw_all := lw_g (lw_at lw_m2 121 rfl) rfl
theorem q510 : (Jvm.Cond.code ({ cls := "NapkinDeeds$Look", name := "beneath", desc := "(I)I" } : Jvm.MethodName) prog_24_method_9_code (2 : Nat) (Option.some Jvm.ClassFile.FieldType.int)) ∈ lw_all := lw_g (lw_at lw_m2 122 rfl) rfl
theorem q626 : (Jvm.Cond.instanceMethod ({ cls := "NapkinDeeds$Look", name := "isLine", desc := "(J)Z" } : Jvm.MethodName)) ∈ lw_all := lw_g (lw_at lw_m2 238 rfl) rfl
theorem q627 : (Jvm.Cond.selects "NapkinDeeds$Look" ({ cls := "NapkinDeeds$Look", name := "isLine", desc := "(J)Z" } : Jvm.MethodName) ({ cls := "NapkinDeeds$Look", name := "isLine", desc := "(J)Z" } : Jvm.MethodName)) ∈ lw_all := lw_g (lw_at lw_m2 239 rfl) rfl
theorem q628 : (Jvm.Cond.code ({ cls := "NapkinDeeds$Look", name := "isLine", desc := "(J)Z" } : Jvm.MethodName) prog_24_method_4_code (3 : Nat) (Option.some Jvm.ClassFile.FieldType.boolean)) ∈ lw_all := lw_g (lw_at lw_m3 0 rfl) rfl
theorem q629 : (Jvm.Cond.methodLinkNest "NapkinDeeds$Look" (30 : Nat) ({ cls := "NapkinDeeds", name := "isIn", desc := "(JJJ)Z" } : Jvm.MethodName) "NapkinDeeds") ∈ lw_tbl := lw_at lw_m3 1 rfl
theorem q712 : (Jvm.Cond.selects "NapkinDeeds$Look" ({ cls := "java/lang/Object", name := "getClass", desc := "()Ljava/lang/Class;" } : Jvm.MethodName) ({ cls := "java/lang/Object", name := "getClass", desc := "()Ljava/lang/Class;" } : Jvm.MethodName)) ∈ lw_all := lw_g (lw_at lw_m3 84 rfl) rfl
theorem q822 : (Jvm.Cond.instanceMethod ({ cls := "NapkinDeeds$Look", name := "become", desc := "(LNapkinDeeds$Look;)LNapkinDeeds$Look;" } : Jvm.MethodName)) ∈ lw_all := lw_g (lw_at lw_m3 194 rfl) rfl
theorem q823 : (Jvm.Cond.selects "NapkinDeeds$Look" ({ cls := "NapkinDeeds$Look", name := "become", desc := "(LNapkinDeeds$Look;)LNapkinDeeds$Look;" } : Jvm.MethodName) ({ cls := "NapkinDeeds$Look", name := "become", desc := "(LNapkinDeeds$Look;)LNapkinDeeds$Look;" } : Jvm.MethodName)) ∈ lw_all := lw_g (lw_at lw_m3 195 rfl) rfl
theorem q824 : (Jvm.Cond.code ({ cls := "NapkinDeeds$Look", name := "become", desc := "(LNapkinDeeds$Look;)LNapkinDeeds$Look;" } : Jvm.MethodName) prog_24_method_3_code (3 : Nat) (Option.some (Jvm.ClassFile.FieldType.object "NapkinDeeds$Look"))) ∈ lw_all := lw_g (lw_at lw_m3 196 rfl) rfl
theorem q825 : (Jvm.Cond.methodLink "NapkinDeeds$Look" (24 : Nat) ({ cls := "java/lang/System", name := "arraycopy", desc := "(Ljava/lang/Object;ILjava/lang/Object;II)V" } : Jvm.MethodName)) ∈ lw_all := lw_g (lw_at lw_m3 197 rfl) rfl
theorem q847 : (Jvm.Cond.instanceMethod ({ cls := "NapkinDeeds$Look", name := "creases", desc := "(I)I" } : Jvm.MethodName)) ∈ lw_all := lw_g (lw_at lw_m3 219 rfl) rfl
theorem q848 : (Jvm.Cond.selects "NapkinDeeds$Look" ({ cls := "NapkinDeeds$Look", name := "creases", desc := "(I)I" } : Jvm.MethodName) ({ cls := "NapkinDeeds$Look", name := "creases", desc := "(I)I" } : Jvm.MethodName)) ∈ lw_all := lw_g (lw_at lw_m3 220 rfl) rfl
theorem q849 : (Jvm.Cond.code ({ cls := "NapkinDeeds$Look", name := "creases", desc := "(I)I" } : Jvm.MethodName) prog_24_method_16_code (4 : Nat) (Option.some Jvm.ClassFile.FieldType.int)) ∈ lw_all := lw_g (lw_at lw_m3 221 rfl) rfl
theorem q850 : (Jvm.Cond.methodLink "NapkinDeeds$Look" (63 : Nat) ({ cls := "NapkinDeeds$Look", name := "crease", desc := "(I)I" } : Jvm.MethodName)) ∈ lw_all := lw_g (lw_at lw_m3 222 rfl) rfl
theorem q851 : (Jvm.Cond.instanceMethod ({ cls := "NapkinDeeds$Look", name := "crease", desc := "(I)I" } : Jvm.MethodName)) ∈ lw_all := lw_g (lw_at lw_m3 223 rfl) rfl
theorem q852 : (Jvm.Cond.selects "NapkinDeeds$Look" ({ cls := "NapkinDeeds$Look", name := "crease", desc := "(I)I" } : Jvm.MethodName) ({ cls := "NapkinDeeds$Look", name := "crease", desc := "(I)I" } : Jvm.MethodName)) ∈ lw_all := lw_g (lw_at lw_m3 224 rfl) rfl
theorem q853 : (Jvm.Cond.code ({ cls := "NapkinDeeds$Look", name := "crease", desc := "(I)I" } : Jvm.MethodName) prog_24_method_13_code (4 : Nat) (Option.some Jvm.ClassFile.FieldType.int)) ∈ lw_all := lw_g (lw_at lw_m3 225 rfl) rfl
theorem q854 : (Jvm.Cond.methodLink "NapkinDeeds$Look" (51 : Nat) ({ cls := "NapkinDeeds$Look", name := "columnOf", desc := "(I)I" } : Jvm.MethodName)) ∈ lw_all := lw_g (lw_at lw_m3 226 rfl) rfl
theorem q855 : (Jvm.Cond.instanceMethod ({ cls := "NapkinDeeds$Look", name := "columnOf", desc := "(I)I" } : Jvm.MethodName)) ∈ lw_all := lw_g (lw_at lw_m3 227 rfl) rfl
theorem q856 : (Jvm.Cond.selects "NapkinDeeds$Look" ({ cls := "NapkinDeeds$Look", name := "columnOf", desc := "(I)I" } : Jvm.MethodName) ({ cls := "NapkinDeeds$Look", name := "columnOf", desc := "(I)I" } : Jvm.MethodName)) ∈ lw_all := lw_g (lw_at lw_m3 228 rfl) rfl
theorem q857 : (Jvm.Cond.code ({ cls := "NapkinDeeds$Look", name := "columnOf", desc := "(I)I" } : Jvm.MethodName) prog_24_method_10_code (3 : Nat) (Option.some Jvm.ClassFile.FieldType.int)) ∈ lw_all := lw_g (lw_at lw_m3 229 rfl) rfl
theorem q858 : (Jvm.Cond.methodLink "NapkinDeeds$Look" (48 : Nat) ({ cls := "NapkinDeeds$Look", name := "layerOf", desc := "(II)I" } : Jvm.MethodName)) ∈ lw_all := lw_g (lw_at lw_m3 230 rfl) rfl
theorem q859 : (Jvm.Cond.privateMethod ({ cls := "NapkinDeeds$Look", name := "layerOf", desc := "(II)I" } : Jvm.MethodName)) ∈ lw_tbl := lw_at lw_m3 231 rfl
theorem q860 : (Jvm.Cond.instanceMethod ({ cls := "NapkinDeeds$Look", name := "layerOf", desc := "(II)I" } : Jvm.MethodName)) ∈ lw_all := lw_g (lw_at lw_m3 232 rfl) rfl
theorem q861 : (Jvm.Cond.code ({ cls := "NapkinDeeds$Look", name := "layerOf", desc := "(II)I" } : Jvm.MethodName) prog_24_method_11_code (4 : Nat) (Option.some Jvm.ClassFile.FieldType.int)) ∈ lw_all := lw_g (lw_at lw_m3 233 rfl) rfl
theorem q862 : (Jvm.Cond.methodLink "NapkinDeeds$Look" (55 : Nat) ({ cls := "NapkinDeeds$Look", name := "isUp", desc := "(I)Z" } : Jvm.MethodName)) ∈ lw_all := lw_g (lw_at lw_m3 234 rfl) rfl
theorem q863 : (Jvm.Cond.instanceMethod ({ cls := "NapkinDeeds$Look", name := "isUp", desc := "(I)Z" } : Jvm.MethodName)) ∈ lw_all := lw_g (lw_at lw_m3 235 rfl) rfl
theorem q864 : (Jvm.Cond.selects "NapkinDeeds$Look" ({ cls := "NapkinDeeds$Look", name := "isUp", desc := "(I)Z" } : Jvm.MethodName) ({ cls := "NapkinDeeds$Look", name := "isUp", desc := "(I)Z" } : Jvm.MethodName)) ∈ lw_all := lw_g (lw_at lw_m3 236 rfl) rfl
theorem q865 : (Jvm.Cond.code ({ cls := "NapkinDeeds$Look", name := "isUp", desc := "(I)Z" } : Jvm.MethodName) prog_24_method_12_code (3 : Nat) (Option.some Jvm.ClassFile.FieldType.boolean)) ∈ lw_all := lw_g (lw_at lw_m3 237 rfl) rfl
theorem q997 : (Jvm.Cond.instanceMethod ({ cls := "NapkinDeeds$Look", name := "code", desc := "()J" } : Jvm.MethodName)) ∈ lw_all := lw_g (lw_at lw_m4 129 rfl) rfl
theorem q998 : (Jvm.Cond.selects "NapkinDeeds$Look" ({ cls := "NapkinDeeds$Look", name := "code", desc := "()J" } : Jvm.MethodName) ({ cls := "NapkinDeeds$Look", name := "code", desc := "()J" } : Jvm.MethodName)) ∈ lw_all := lw_g (lw_at lw_m4 130 rfl) rfl
theorem q999 : (Jvm.Cond.code ({ cls := "NapkinDeeds$Look", name := "code", desc := "()J" } : Jvm.MethodName) prog_24_method_15_code (5 : Nat) (Option.some Jvm.ClassFile.FieldType.long)) ∈ lw_all := lw_g (lw_at lw_m4 131 rfl) rfl
theorem q1000 : (Jvm.Cond.constantLong "NapkinDeeds$Look" (59 : Nat) (13 : Int64)) ∈ lw_all := lw_g (lw_at lw_m4 132 rfl) rfl
theorem q1001 : (Jvm.Cond.constantLong "NapkinDeeds$Look" (61 : Nat) (12 : Int64)) ∈ lw_all := lw_g (lw_at lw_m4 133 rfl) rfl
theorem q3499 : (Jvm.Cond.castable "NapkinDeeds$Look" "java/lang/Object") ∈ lw_tbl := lw_at lw_m14 231 rfl
theorem in_X4 : ∀ w ∈ wsX40, w ∈ lw_all := lw_in wsX40 [345, 347, 349] (by decide +kernel) (by decide +kernel)
/-! NapkinDeeds$Case -/
set_option maxRecDepth 100000
def RX5 : String := "NapkinDeeds$Case"
def TX5 : u_T := fun k => match k with
  | _ => ("NapkinDeeds$Case", "tells", "[I", true)
def tyX5 : Nat → FieldType := fun k => match k with
  | _ => .array .int
abbrev wsX50 : List Cond := u_ws RX5 TX5 1
theorem nmX5 : ∀ a, a < 1 → ∀ b, b < 1 → a ≠ b → (TX5 a).2.1 ≠ (TX5 b).2.1 := by decide +kernel
theorem tyX5_ok : ∀ k, k < 1 → parseFieldDescriptor (TX5 k).2.2.1 = some (tyX5 k) := by decide +kernel
abbrev cX5_init : ByteArray := prog_19_method_1_code
def yX5_init : MethodName := ⟨RX5, "<init>", "()V"⟩
def dkwX5_init_0 : List UInt8 := [42, 183, 0, 1, 42, 16, 8, 188, 10, 181, 0, 7, 177]
abbrev dktX5_init_0 : List UInt8 := dkwX5_init_0 ++ []
theorem dksX5_init_0 : cX5_init.data.toList.drop 0 = dktX5_init_0 := by decide +kernel
theorem dX5_init_0 : decode cX5_init 0 = .ok (.aload_n 0, 1) := dk_42 (dk_at dksX5_init_0 0 rfl rfl)
theorem dX5_init_1 : decode cX5_init 1 = .ok (.invokespecial 1, 3) := dk_183 0 1 (dk_at dksX5_init_0 1 rfl rfl)
theorem dX5_init_4 : decode cX5_init 4 = .ok (.aload_n 0, 1) := dk_42 (dk_at dksX5_init_0 4 rfl rfl)
theorem dX5_init_5 : decode cX5_init 5 = .ok (.bipush 8, 2) := dk_16 8 (dk_at dksX5_init_0 5 rfl rfl)
theorem dX5_init_7 : decode cX5_init 7 = .ok (.newarray .int, 2) := dk_188_10 (dk_at dksX5_init_0 7 rfl rfl)
theorem dX5_init_9 : decode cX5_init 9 = .ok (.putfield 7, 3) := dk_181 0 7 (dk_at dksX5_init_0 9 rfl rfl)
theorem dX5_init_12 : decode cX5_init 12 = .ok (.return_, 1) := dk_177 (dk_at dksX5_init_0 12 rfl rfl)
theorem q156 : (Jvm.Cond.initialized "NapkinDeeds$Case") ∈ lw_all := lw_g (lw_at lw_m1 8 rfl) rfl
theorem q357 : (Jvm.Cond.instantiable "NapkinDeeds$Case" (1 : Nat)) ∈ lw_all := lw_g (lw_at lw_m1 209 rfl) rfl
theorem q359 : (Jvm.Cond.instanceMethod ({ cls := "NapkinDeeds$Case", name := "<init>", desc := "()V" } : Jvm.MethodName)) ∈ lw_all := lw_g (lw_at lw_m1 211 rfl) rfl
theorem q360 : (Jvm.Cond.code ({ cls := "NapkinDeeds$Case", name := "<init>", desc := "()V" } : Jvm.MethodName) prog_19_method_1_code (1 : Nat) (Option.none : Option Jvm.ClassFile.FieldType)) ∈ lw_all := lw_g (lw_at lw_m1 212 rfl) rfl
theorem q361 : (Jvm.Cond.methodLink "NapkinDeeds$Case" (1 : Nat) ({ cls := "java/lang/Object", name := "<init>", desc := "()V" } : Jvm.MethodName)) ∈ lw_all := lw_g (lw_at lw_m1 213 rfl) rfl
theorem q362 : (Jvm.Cond.fieldLink "NapkinDeeds$Case" (7 : Nat) "NapkinDeeds$Case" "tells" "[I") ∈ lw_all := lw_g (lw_at lw_m1 214 rfl) rfl
theorem q365 : (Jvm.Cond.laysFinal "NapkinDeeds$Case" "NapkinDeeds$Case" "tells" "[I") ∈ lw_all := lw_g (lw_at lw_m1 217 rfl) rfl
theorem q366 : (Jvm.Cond.soleField "NapkinDeeds$Case" "tells") ∈ lw_all := lw_g (lw_at lw_m1 218 rfl) rfl
theorem q367 : (Jvm.Cond.superclass "NapkinDeeds$Case" "java/lang/Object") ∈ lw_all := lw_g (lw_at lw_m1 219 rfl) rfl
theorem q708 : (Jvm.Cond.selects "NapkinDeeds$Case" ({ cls := "java/lang/Object", name := "getClass", desc := "()Ljava/lang/Class;" } : Jvm.MethodName) ({ cls := "java/lang/Object", name := "getClass", desc := "()Ljava/lang/Class;" } : Jvm.MethodName)) ∈ lw_all := lw_g (lw_at lw_m3 80 rfl) rfl
theorem q3507 : (Jvm.Cond.castable "NapkinDeeds$Case" "java/lang/Object") ∈ lw_tbl := lw_at lw_m14 239 rfl
theorem in_X5 : ∀ w ∈ wsX50, w ∈ lw_all := lw_in wsX50 [365] (by decide +kernel) (by decide +kernel)
/-! NapkinDeeds$Tray -/
set_option maxRecDepth 100000
def RX6 : String := "NapkinDeeds$Tray"
def TX6 : u_T := fun k => match k with
  | _ => ("NapkinDeeds$Tray", "row", "Ljava/lang/Object;", false)
def tyX6 : Nat → FieldType := fun k => match k with
  | _ => .object "java/lang/Object"
abbrev wsX60 : List Cond := u_ws RX6 TX6 1
theorem nmX6 : ∀ a, a < 1 → ∀ b, b < 1 → a ≠ b → (TX6 a).2.1 ≠ (TX6 b).2.1 := by decide +kernel
theorem tyX6_ok : ∀ k, k < 1 → parseFieldDescriptor (TX6 k).2.2.1 = some (tyX6 k) := by decide +kernel
abbrev cX6_init : ByteArray := prog_37_method_1_code
def yX6_init : MethodName := ⟨RX6, "<init>", "()V"⟩
theorem dX6_init_0 : decode cX6_init 0 = .ok (.aload_n 0, 1) := by decide +kernel
theorem dX6_init_1 : decode cX6_init 1 = .ok (.invokespecial 1, 3) := by decide +kernel
theorem dX6_init_4 : decode cX6_init 4 = .ok (.return_, 1) := by decide +kernel
abbrev cX6_size : ByteArray := prog_37_method_5_code
def yX6_size : MethodName := ⟨RX6, "size", "()I"⟩
def dkwX6_size_2 : List UInt8 := [153, 0, 12, 42, 180, 0, 7, 192, 0, 17, 190, 172, 42, 180, 0, 7, 192, 0, 19, 190, 172]
abbrev dktX6_size_2 : List UInt8 := dkwX6_size_2 ++ []
def dkwX6_size_1 : List UInt8 := [193, 0, 15, 153, 0, 12, 42, 180, 0, 7, 192, 0, 15, 190, 172, 42, 180, 0, 7, 193, 0, 17]
abbrev dktX6_size_1 : List UInt8 := dkwX6_size_1 ++ dktX6_size_2
def dkwX6_size_0 : List UInt8 := [42, 180, 0, 7, 193, 0, 13, 153, 0, 12, 42, 180, 0, 7, 192, 0, 13, 190, 172, 42, 180, 0, 7]
abbrev dktX6_size_0 : List UInt8 := dkwX6_size_0 ++ dktX6_size_1
theorem dksX6_size_0 : cX6_size.data.toList.drop 0 = dktX6_size_0 := by decide +kernel
theorem dksX6_size_1 : cX6_size.data.toList.drop 23 = dktX6_size_1 := dk_seg dksX6_size_0 23 rfl rfl
theorem dksX6_size_2 : cX6_size.data.toList.drop 45 = dktX6_size_2 := dk_seg dksX6_size_1 22 rfl rfl
theorem dX6_size_0 : decode cX6_size 0 = .ok (.aload_n 0, 1) := dk_42 (dk_at dksX6_size_0 0 rfl rfl)
theorem dX6_size_1 : decode cX6_size 1 = .ok (.getfield 7, 3) := dk_180 0 7 (dk_at dksX6_size_0 1 rfl rfl)
theorem dX6_size_4 : decode cX6_size 4 = .ok (.instanceof 13, 3) := dk_193 0 13 (dk_at dksX6_size_0 4 rfl rfl)
theorem dX6_size_7 : decode cX6_size 7 = .ok (.ifCond .eq 12, 3) := dk_153 0 12 (dk_at dksX6_size_0 7 rfl rfl)
theorem dX6_size_10 : decode cX6_size 10 = .ok (.aload_n 0, 1) := dk_42 (dk_at dksX6_size_0 10 rfl rfl)
theorem dX6_size_11 : decode cX6_size 11 = .ok (.getfield 7, 3) := dk_180 0 7 (dk_at dksX6_size_0 11 rfl rfl)
theorem dX6_size_14 : decode cX6_size 14 = .ok (.checkcast 13, 3) := dk_192 0 13 (dk_at dksX6_size_0 14 rfl rfl)
theorem dX6_size_17 : decode cX6_size 17 = .ok (.arraylength, 1) := dk_190 (dk_at dksX6_size_0 17 rfl rfl)
theorem dX6_size_18 : decode cX6_size 18 = .ok (.ireturn, 1) := dk_172 (dk_at dksX6_size_0 18 rfl rfl)
theorem dX6_size_19 : decode cX6_size 19 = .ok (.aload_n 0, 1) := dk_42 (dk_at dksX6_size_0 19 rfl rfl)
theorem dX6_size_20 : decode cX6_size 20 = .ok (.getfield 7, 3) := dk_180 0 7 (dk_at dksX6_size_0 20 rfl rfl)
theorem dX6_size_23 : decode cX6_size 23 = .ok (.instanceof 15, 3) := dk_193 0 15 (dk_at dksX6_size_1 0 rfl rfl)
theorem dX6_size_26 : decode cX6_size 26 = .ok (.ifCond .eq 12, 3) := dk_153 0 12 (dk_at dksX6_size_1 3 rfl rfl)
theorem dX6_size_29 : decode cX6_size 29 = .ok (.aload_n 0, 1) := dk_42 (dk_at dksX6_size_1 6 rfl rfl)
theorem dX6_size_30 : decode cX6_size 30 = .ok (.getfield 7, 3) := dk_180 0 7 (dk_at dksX6_size_1 7 rfl rfl)
theorem dX6_size_33 : decode cX6_size 33 = .ok (.checkcast 15, 3) := dk_192 0 15 (dk_at dksX6_size_1 10 rfl rfl)
theorem dX6_size_36 : decode cX6_size 36 = .ok (.arraylength, 1) := dk_190 (dk_at dksX6_size_1 13 rfl rfl)
theorem dX6_size_37 : decode cX6_size 37 = .ok (.ireturn, 1) := dk_172 (dk_at dksX6_size_1 14 rfl rfl)
theorem dX6_size_38 : decode cX6_size 38 = .ok (.aload_n 0, 1) := dk_42 (dk_at dksX6_size_1 15 rfl rfl)
theorem dX6_size_39 : decode cX6_size 39 = .ok (.getfield 7, 3) := dk_180 0 7 (dk_at dksX6_size_1 16 rfl rfl)
theorem dX6_size_42 : decode cX6_size 42 = .ok (.instanceof 17, 3) := dk_193 0 17 (dk_at dksX6_size_1 19 rfl rfl)
theorem dX6_size_45 : decode cX6_size 45 = .ok (.ifCond .eq 12, 3) := dk_153 0 12 (dk_at dksX6_size_2 0 rfl rfl)
theorem dX6_size_48 : decode cX6_size 48 = .ok (.aload_n 0, 1) := dk_42 (dk_at dksX6_size_2 3 rfl rfl)
theorem dX6_size_49 : decode cX6_size 49 = .ok (.getfield 7, 3) := dk_180 0 7 (dk_at dksX6_size_2 4 rfl rfl)
theorem dX6_size_52 : decode cX6_size 52 = .ok (.checkcast 17, 3) := dk_192 0 17 (dk_at dksX6_size_2 7 rfl rfl)
theorem dX6_size_55 : decode cX6_size 55 = .ok (.arraylength, 1) := dk_190 (dk_at dksX6_size_2 10 rfl rfl)
theorem dX6_size_56 : decode cX6_size 56 = .ok (.ireturn, 1) := dk_172 (dk_at dksX6_size_2 11 rfl rfl)
theorem dX6_size_57 : decode cX6_size 57 = .ok (.aload_n 0, 1) := dk_42 (dk_at dksX6_size_2 12 rfl rfl)
theorem dX6_size_58 : decode cX6_size 58 = .ok (.getfield 7, 3) := dk_180 0 7 (dk_at dksX6_size_2 13 rfl rfl)
theorem dX6_size_61 : decode cX6_size 61 = .ok (.checkcast 19, 3) := dk_192 0 19 (dk_at dksX6_size_2 16 rfl rfl)
theorem dX6_size_64 : decode cX6_size 64 = .ok (.arraylength, 1) := dk_190 (dk_at dksX6_size_2 19 rfl rfl)
theorem dX6_size_65 : decode cX6_size 65 = .ok (.ireturn, 1) := dk_172 (dk_at dksX6_size_2 20 rfl rfl)
abbrev cX6_at : ByteArray := prog_37_method_3_code
def yX6_at : MethodName := ⟨RX6, "at", "(I)J"⟩
def dkwX6_at_3 : List UInt8 := [27, 47, 173]
abbrev dktX6_at_3 : List UInt8 := dkwX6_at_3 ++ []
def dkwX6_at_2 : List UInt8 := [193, 0, 17, 153, 0, 14, 42, 180, 0, 7, 192, 0, 17, 27, 46, 133, 173, 42, 180, 0, 7, 192, 0, 19]
abbrev dktX6_at_2 : List UInt8 := dkwX6_at_2 ++ dktX6_at_3
def dkwX6_at_1 : List UInt8 := [180, 0, 7, 193, 0, 15, 153, 0, 14, 42, 180, 0, 7, 192, 0, 15, 27, 53, 133, 173, 42, 180, 0, 7]
abbrev dktX6_at_1 : List UInt8 := dkwX6_at_1 ++ dktX6_at_2
def dkwX6_at_0 : List UInt8 := [42, 180, 0, 7, 193, 0, 13, 153, 0, 14, 42, 180, 0, 7, 192, 0, 13, 27, 51, 133, 173, 42]
abbrev dktX6_at_0 : List UInt8 := dkwX6_at_0 ++ dktX6_at_1
theorem dksX6_at_0 : cX6_at.data.toList.drop 0 = dktX6_at_0 := by decide +kernel
theorem dksX6_at_1 : cX6_at.data.toList.drop 22 = dktX6_at_1 := dk_seg dksX6_at_0 22 rfl rfl
theorem dksX6_at_2 : cX6_at.data.toList.drop 46 = dktX6_at_2 := dk_seg dksX6_at_1 24 rfl rfl
theorem dksX6_at_3 : cX6_at.data.toList.drop 70 = dktX6_at_3 := dk_seg dksX6_at_2 24 rfl rfl
theorem dX6_at_0 : decode cX6_at 0 = .ok (.aload_n 0, 1) := dk_42 (dk_at dksX6_at_0 0 rfl rfl)
theorem dX6_at_1 : decode cX6_at 1 = .ok (.getfield 7, 3) := dk_180 0 7 (dk_at dksX6_at_0 1 rfl rfl)
theorem dX6_at_4 : decode cX6_at 4 = .ok (.instanceof 13, 3) := dk_193 0 13 (dk_at dksX6_at_0 4 rfl rfl)
theorem dX6_at_7 : decode cX6_at 7 = .ok (.ifCond .eq 14, 3) := dk_153 0 14 (dk_at dksX6_at_0 7 rfl rfl)
theorem dX6_at_10 : decode cX6_at 10 = .ok (.aload_n 0, 1) := dk_42 (dk_at dksX6_at_0 10 rfl rfl)
theorem dX6_at_11 : decode cX6_at 11 = .ok (.getfield 7, 3) := dk_180 0 7 (dk_at dksX6_at_0 11 rfl rfl)
theorem dX6_at_14 : decode cX6_at 14 = .ok (.checkcast 13, 3) := dk_192 0 13 (dk_at dksX6_at_0 14 rfl rfl)
theorem dX6_at_17 : decode cX6_at 17 = .ok (.iload_n 1, 1) := dk_27 (dk_at dksX6_at_0 17 rfl rfl)
theorem dX6_at_18 : decode cX6_at 18 = .ok (.baload, 1) := dk_51 (dk_at dksX6_at_0 18 rfl rfl)
theorem dX6_at_19 : decode cX6_at 19 = .ok (.i2l, 1) := dk_133 (dk_at dksX6_at_0 19 rfl rfl)
theorem dX6_at_20 : decode cX6_at 20 = .ok (.lreturn, 1) := dk_173 (dk_at dksX6_at_0 20 rfl rfl)
theorem dX6_at_21 : decode cX6_at 21 = .ok (.aload_n 0, 1) := dk_42 (dk_at dksX6_at_0 21 rfl rfl)
theorem dX6_at_22 : decode cX6_at 22 = .ok (.getfield 7, 3) := dk_180 0 7 (dk_at dksX6_at_1 0 rfl rfl)
theorem dX6_at_25 : decode cX6_at 25 = .ok (.instanceof 15, 3) := dk_193 0 15 (dk_at dksX6_at_1 3 rfl rfl)
theorem dX6_at_28 : decode cX6_at 28 = .ok (.ifCond .eq 14, 3) := dk_153 0 14 (dk_at dksX6_at_1 6 rfl rfl)
theorem dX6_at_31 : decode cX6_at 31 = .ok (.aload_n 0, 1) := dk_42 (dk_at dksX6_at_1 9 rfl rfl)
theorem dX6_at_32 : decode cX6_at 32 = .ok (.getfield 7, 3) := dk_180 0 7 (dk_at dksX6_at_1 10 rfl rfl)
theorem dX6_at_35 : decode cX6_at 35 = .ok (.checkcast 15, 3) := dk_192 0 15 (dk_at dksX6_at_1 13 rfl rfl)
theorem dX6_at_38 : decode cX6_at 38 = .ok (.iload_n 1, 1) := dk_27 (dk_at dksX6_at_1 16 rfl rfl)
theorem dX6_at_39 : decode cX6_at 39 = .ok (.saload, 1) := dk_53 (dk_at dksX6_at_1 17 rfl rfl)
theorem dX6_at_40 : decode cX6_at 40 = .ok (.i2l, 1) := dk_133 (dk_at dksX6_at_1 18 rfl rfl)
theorem dX6_at_41 : decode cX6_at 41 = .ok (.lreturn, 1) := dk_173 (dk_at dksX6_at_1 19 rfl rfl)
theorem dX6_at_42 : decode cX6_at 42 = .ok (.aload_n 0, 1) := dk_42 (dk_at dksX6_at_1 20 rfl rfl)
theorem dX6_at_43 : decode cX6_at 43 = .ok (.getfield 7, 3) := dk_180 0 7 (dk_at dksX6_at_1 21 rfl rfl)
theorem dX6_at_46 : decode cX6_at 46 = .ok (.instanceof 17, 3) := dk_193 0 17 (dk_at dksX6_at_2 0 rfl rfl)
theorem dX6_at_49 : decode cX6_at 49 = .ok (.ifCond .eq 14, 3) := dk_153 0 14 (dk_at dksX6_at_2 3 rfl rfl)
theorem dX6_at_52 : decode cX6_at 52 = .ok (.aload_n 0, 1) := dk_42 (dk_at dksX6_at_2 6 rfl rfl)
theorem dX6_at_53 : decode cX6_at 53 = .ok (.getfield 7, 3) := dk_180 0 7 (dk_at dksX6_at_2 7 rfl rfl)
theorem dX6_at_56 : decode cX6_at 56 = .ok (.checkcast 17, 3) := dk_192 0 17 (dk_at dksX6_at_2 10 rfl rfl)
theorem dX6_at_59 : decode cX6_at 59 = .ok (.iload_n 1, 1) := dk_27 (dk_at dksX6_at_2 13 rfl rfl)
theorem dX6_at_60 : decode cX6_at 60 = .ok (.iaload, 1) := dk_46 (dk_at dksX6_at_2 14 rfl rfl)
theorem dX6_at_61 : decode cX6_at 61 = .ok (.i2l, 1) := dk_133 (dk_at dksX6_at_2 15 rfl rfl)
theorem dX6_at_62 : decode cX6_at 62 = .ok (.lreturn, 1) := dk_173 (dk_at dksX6_at_2 16 rfl rfl)
theorem dX6_at_63 : decode cX6_at 63 = .ok (.aload_n 0, 1) := dk_42 (dk_at dksX6_at_2 17 rfl rfl)
theorem dX6_at_64 : decode cX6_at 64 = .ok (.getfield 7, 3) := dk_180 0 7 (dk_at dksX6_at_2 18 rfl rfl)
theorem dX6_at_67 : decode cX6_at 67 = .ok (.checkcast 19, 3) := dk_192 0 19 (dk_at dksX6_at_2 21 rfl rfl)
theorem dX6_at_70 : decode cX6_at 70 = .ok (.iload_n 1, 1) := dk_27 (dk_at dksX6_at_3 0 rfl rfl)
theorem dX6_at_71 : decode cX6_at 71 = .ok (.laload, 1) := dk_47 (dk_at dksX6_at_3 1 rfl rfl)
theorem dX6_at_72 : decode cX6_at 72 = .ok (.lreturn, 1) := dk_173 (dk_at dksX6_at_3 2 rfl rfl)
abbrev cX6_make : ByteArray := prog_37_method_2_code
def yX6_make : MethodName := ⟨RX6, "make", "(II)V"⟩
def dkwX6_make_1 : List UInt8 := [160, 0, 9, 28, 188, 10, 167, 0, 6, 28, 188, 11, 181, 0, 7, 177]
abbrev dktX6_make_1 : List UInt8 := dkwX6_make_1 ++ []
def dkwX6_make_0 : List UInt8 := [42, 27, 154, 0, 9, 28, 188, 8, 167, 0, 28, 27, 4, 160, 0, 9, 28, 188, 9, 167, 0, 17, 27, 5]
abbrev dktX6_make_0 : List UInt8 := dkwX6_make_0 ++ dktX6_make_1
theorem dksX6_make_0 : cX6_make.data.toList.drop 0 = dktX6_make_0 := by decide +kernel
theorem dksX6_make_1 : cX6_make.data.toList.drop 24 = dktX6_make_1 := dk_seg dksX6_make_0 24 rfl rfl
theorem dX6_make_0 : decode cX6_make 0 = .ok (.aload_n 0, 1) := dk_42 (dk_at dksX6_make_0 0 rfl rfl)
theorem dX6_make_1 : decode cX6_make 1 = .ok (.iload_n 1, 1) := dk_27 (dk_at dksX6_make_0 1 rfl rfl)
theorem dX6_make_2 : decode cX6_make 2 = .ok (.ifCond .ne 9, 3) := dk_154 0 9 (dk_at dksX6_make_0 2 rfl rfl)
theorem dX6_make_5 : decode cX6_make 5 = .ok (.iload_n 2, 1) := dk_28 (dk_at dksX6_make_0 5 rfl rfl)
theorem dX6_make_6 : decode cX6_make 6 = .ok (.newarray .byte, 2) := dk_188_8 (dk_at dksX6_make_0 6 rfl rfl)
theorem dX6_make_8 : decode cX6_make 8 = .ok (.goto 28, 3) := dk_167 0 28 (dk_at dksX6_make_0 8 rfl rfl)
theorem dX6_make_11 : decode cX6_make 11 = .ok (.iload_n 1, 1) := dk_27 (dk_at dksX6_make_0 11 rfl rfl)
theorem dX6_make_12 : decode cX6_make 12 = .ok (.iconst 1, 1) := dk_4 (dk_at dksX6_make_0 12 rfl rfl)
theorem dX6_make_13 : decode cX6_make 13 = .ok (.if_icmp .ne 9, 3) := dk_160 0 9 (dk_at dksX6_make_0 13 rfl rfl)
theorem dX6_make_16 : decode cX6_make 16 = .ok (.iload_n 2, 1) := dk_28 (dk_at dksX6_make_0 16 rfl rfl)
theorem dX6_make_17 : decode cX6_make 17 = .ok (.newarray .short, 2) := dk_188_9 (dk_at dksX6_make_0 17 rfl rfl)
theorem dX6_make_19 : decode cX6_make 19 = .ok (.goto 17, 3) := dk_167 0 17 (dk_at dksX6_make_0 19 rfl rfl)
theorem dX6_make_22 : decode cX6_make 22 = .ok (.iload_n 1, 1) := dk_27 (dk_at dksX6_make_0 22 rfl rfl)
theorem dX6_make_23 : decode cX6_make 23 = .ok (.iconst 2, 1) := dk_5 (dk_at dksX6_make_0 23 rfl rfl)
theorem dX6_make_24 : decode cX6_make 24 = .ok (.if_icmp .ne 9, 3) := dk_160 0 9 (dk_at dksX6_make_1 0 rfl rfl)
theorem dX6_make_27 : decode cX6_make 27 = .ok (.iload_n 2, 1) := dk_28 (dk_at dksX6_make_1 3 rfl rfl)
theorem dX6_make_28 : decode cX6_make 28 = .ok (.newarray .int, 2) := dk_188_10 (dk_at dksX6_make_1 4 rfl rfl)
theorem dX6_make_30 : decode cX6_make 30 = .ok (.goto 6, 3) := dk_167 0 6 (dk_at dksX6_make_1 6 rfl rfl)
theorem dX6_make_33 : decode cX6_make 33 = .ok (.iload_n 2, 1) := dk_28 (dk_at dksX6_make_1 9 rfl rfl)
theorem dX6_make_34 : decode cX6_make 34 = .ok (.newarray .long, 2) := dk_188_11 (dk_at dksX6_make_1 10 rfl rfl)
theorem dX6_make_36 : decode cX6_make 36 = .ok (.putfield 7, 3) := dk_181 0 7 (dk_at dksX6_make_1 12 rfl rfl)
theorem dX6_make_39 : decode cX6_make 39 = .ok (.return_, 1) := dk_177 (dk_at dksX6_make_1 15 rfl rfl)
abbrev cX6_put : ByteArray := prog_37_method_4_code
def yX6_put : MethodName := ⟨RX6, "put", "(IJ)V"⟩
def dkwX6_put_3 : List UInt8 := [79, 167, 0, 13, 42, 180, 0, 7, 192, 0, 19, 27, 32, 80, 177]
abbrev dktX6_put_3 : List UInt8 := dkwX6_put_3 ++ []
def dkwX6_put_2 : List UInt8 := [86, 167, 0, 37, 42, 180, 0, 7, 193, 0, 17, 153, 0, 17, 42, 180, 0, 7, 192, 0, 17, 27, 32, 136]
abbrev dktX6_put_2 : List UInt8 := dkwX6_put_2 ++ dktX6_put_3
def dkwX6_put_1 : List UInt8 := [167, 0, 62, 42, 180, 0, 7, 193, 0, 15, 153, 0, 18, 42, 180, 0, 7, 192, 0, 15, 27, 32, 136, 147]
abbrev dktX6_put_1 : List UInt8 := dkwX6_put_1 ++ dktX6_put_2
def dkwX6_put_0 : List UInt8 := [42, 180, 0, 7, 193, 0, 13, 153, 0, 18, 42, 180, 0, 7, 192, 0, 13, 27, 32, 136, 145, 84]
abbrev dktX6_put_0 : List UInt8 := dkwX6_put_0 ++ dktX6_put_1
theorem dksX6_put_0 : cX6_put.data.toList.drop 0 = dktX6_put_0 := by decide +kernel
theorem dksX6_put_1 : cX6_put.data.toList.drop 22 = dktX6_put_1 := dk_seg dksX6_put_0 22 rfl rfl
theorem dksX6_put_2 : cX6_put.data.toList.drop 46 = dktX6_put_2 := dk_seg dksX6_put_1 24 rfl rfl
theorem dksX6_put_3 : cX6_put.data.toList.drop 70 = dktX6_put_3 := dk_seg dksX6_put_2 24 rfl rfl
theorem dX6_put_0 : decode cX6_put 0 = .ok (.aload_n 0, 1) := dk_42 (dk_at dksX6_put_0 0 rfl rfl)
theorem dX6_put_1 : decode cX6_put 1 = .ok (.getfield 7, 3) := dk_180 0 7 (dk_at dksX6_put_0 1 rfl rfl)
theorem dX6_put_4 : decode cX6_put 4 = .ok (.instanceof 13, 3) := dk_193 0 13 (dk_at dksX6_put_0 4 rfl rfl)
theorem dX6_put_7 : decode cX6_put 7 = .ok (.ifCond .eq 18, 3) := dk_153 0 18 (dk_at dksX6_put_0 7 rfl rfl)
theorem dX6_put_10 : decode cX6_put 10 = .ok (.aload_n 0, 1) := dk_42 (dk_at dksX6_put_0 10 rfl rfl)
theorem dX6_put_11 : decode cX6_put 11 = .ok (.getfield 7, 3) := dk_180 0 7 (dk_at dksX6_put_0 11 rfl rfl)
theorem dX6_put_14 : decode cX6_put 14 = .ok (.checkcast 13, 3) := dk_192 0 13 (dk_at dksX6_put_0 14 rfl rfl)
theorem dX6_put_17 : decode cX6_put 17 = .ok (.iload_n 1, 1) := dk_27 (dk_at dksX6_put_0 17 rfl rfl)
theorem dX6_put_18 : decode cX6_put 18 = .ok (.lload_n 2, 1) := dk_32 (dk_at dksX6_put_0 18 rfl rfl)
theorem dX6_put_19 : decode cX6_put 19 = .ok (.l2i, 1) := dk_136 (dk_at dksX6_put_0 19 rfl rfl)
theorem dX6_put_20 : decode cX6_put 20 = .ok (.i2b, 1) := dk_145 (dk_at dksX6_put_0 20 rfl rfl)
theorem dX6_put_21 : decode cX6_put 21 = .ok (.bastore, 1) := dk_84 (dk_at dksX6_put_0 21 rfl rfl)
theorem dX6_put_22 : decode cX6_put 22 = .ok (.goto 62, 3) := dk_167 0 62 (dk_at dksX6_put_1 0 rfl rfl)
theorem dX6_put_25 : decode cX6_put 25 = .ok (.aload_n 0, 1) := dk_42 (dk_at dksX6_put_1 3 rfl rfl)
theorem dX6_put_26 : decode cX6_put 26 = .ok (.getfield 7, 3) := dk_180 0 7 (dk_at dksX6_put_1 4 rfl rfl)
theorem dX6_put_29 : decode cX6_put 29 = .ok (.instanceof 15, 3) := dk_193 0 15 (dk_at dksX6_put_1 7 rfl rfl)
theorem dX6_put_32 : decode cX6_put 32 = .ok (.ifCond .eq 18, 3) := dk_153 0 18 (dk_at dksX6_put_1 10 rfl rfl)
theorem dX6_put_35 : decode cX6_put 35 = .ok (.aload_n 0, 1) := dk_42 (dk_at dksX6_put_1 13 rfl rfl)
theorem dX6_put_36 : decode cX6_put 36 = .ok (.getfield 7, 3) := dk_180 0 7 (dk_at dksX6_put_1 14 rfl rfl)
theorem dX6_put_39 : decode cX6_put 39 = .ok (.checkcast 15, 3) := dk_192 0 15 (dk_at dksX6_put_1 17 rfl rfl)
theorem dX6_put_42 : decode cX6_put 42 = .ok (.iload_n 1, 1) := dk_27 (dk_at dksX6_put_1 20 rfl rfl)
theorem dX6_put_43 : decode cX6_put 43 = .ok (.lload_n 2, 1) := dk_32 (dk_at dksX6_put_1 21 rfl rfl)
theorem dX6_put_44 : decode cX6_put 44 = .ok (.l2i, 1) := dk_136 (dk_at dksX6_put_1 22 rfl rfl)
theorem dX6_put_45 : decode cX6_put 45 = .ok (.i2s, 1) := dk_147 (dk_at dksX6_put_1 23 rfl rfl)
theorem dX6_put_46 : decode cX6_put 46 = .ok (.sastore, 1) := dk_86 (dk_at dksX6_put_2 0 rfl rfl)
theorem dX6_put_47 : decode cX6_put 47 = .ok (.goto 37, 3) := dk_167 0 37 (dk_at dksX6_put_2 1 rfl rfl)
theorem dX6_put_50 : decode cX6_put 50 = .ok (.aload_n 0, 1) := dk_42 (dk_at dksX6_put_2 4 rfl rfl)
theorem dX6_put_51 : decode cX6_put 51 = .ok (.getfield 7, 3) := dk_180 0 7 (dk_at dksX6_put_2 5 rfl rfl)
theorem dX6_put_54 : decode cX6_put 54 = .ok (.instanceof 17, 3) := dk_193 0 17 (dk_at dksX6_put_2 8 rfl rfl)
theorem dX6_put_57 : decode cX6_put 57 = .ok (.ifCond .eq 17, 3) := dk_153 0 17 (dk_at dksX6_put_2 11 rfl rfl)
theorem dX6_put_60 : decode cX6_put 60 = .ok (.aload_n 0, 1) := dk_42 (dk_at dksX6_put_2 14 rfl rfl)
theorem dX6_put_61 : decode cX6_put 61 = .ok (.getfield 7, 3) := dk_180 0 7 (dk_at dksX6_put_2 15 rfl rfl)
theorem dX6_put_64 : decode cX6_put 64 = .ok (.checkcast 17, 3) := dk_192 0 17 (dk_at dksX6_put_2 18 rfl rfl)
theorem dX6_put_67 : decode cX6_put 67 = .ok (.iload_n 1, 1) := dk_27 (dk_at dksX6_put_2 21 rfl rfl)
theorem dX6_put_68 : decode cX6_put 68 = .ok (.lload_n 2, 1) := dk_32 (dk_at dksX6_put_2 22 rfl rfl)
theorem dX6_put_69 : decode cX6_put 69 = .ok (.l2i, 1) := dk_136 (dk_at dksX6_put_2 23 rfl rfl)
theorem dX6_put_70 : decode cX6_put 70 = .ok (.iastore, 1) := dk_79 (dk_at dksX6_put_3 0 rfl rfl)
theorem dX6_put_71 : decode cX6_put 71 = .ok (.goto 13, 3) := dk_167 0 13 (dk_at dksX6_put_3 1 rfl rfl)
theorem dX6_put_74 : decode cX6_put 74 = .ok (.aload_n 0, 1) := dk_42 (dk_at dksX6_put_3 4 rfl rfl)
theorem dX6_put_75 : decode cX6_put 75 = .ok (.getfield 7, 3) := dk_180 0 7 (dk_at dksX6_put_3 5 rfl rfl)
theorem dX6_put_78 : decode cX6_put 78 = .ok (.checkcast 19, 3) := dk_192 0 19 (dk_at dksX6_put_3 8 rfl rfl)
theorem dX6_put_81 : decode cX6_put 81 = .ok (.iload_n 1, 1) := dk_27 (dk_at dksX6_put_3 11 rfl rfl)
theorem dX6_put_82 : decode cX6_put 82 = .ok (.lload_n 2, 1) := dk_32 (dk_at dksX6_put_3 12 rfl rfl)
theorem dX6_put_83 : decode cX6_put 83 = .ok (.lastore, 1) := dk_80 (dk_at dksX6_put_3 13 rfl rfl)
theorem dX6_put_84 : decode cX6_put 84 = .ok (.return_, 1) := dk_177 (dk_at dksX6_put_3 14 rfl rfl)
theorem q157 : (Jvm.Cond.initialized "NapkinDeeds$Tray") ∈ lw_all := lw_g (lw_at lw_m1 9 rfl) rfl
theorem q371 : (Jvm.Cond.instantiable "NapkinDeeds$Tray" (1 : Nat)) ∈ lw_all := lw_g (lw_at lw_m1 223 rfl) rfl
theorem q373 : (Jvm.Cond.instanceMethod ({ cls := "NapkinDeeds$Tray", name := "<init>", desc := "()V" } : Jvm.MethodName)) ∈ lw_all := lw_g (lw_at lw_m1 225 rfl) rfl
theorem q374 : (Jvm.Cond.code ({ cls := "NapkinDeeds$Tray", name := "<init>", desc := "()V" } : Jvm.MethodName) prog_37_method_1_code (1 : Nat) (Option.none : Option Jvm.ClassFile.FieldType)) ∈ lw_all := lw_g (lw_at lw_m1 226 rfl) rfl
theorem q375 : (Jvm.Cond.methodLink "NapkinDeeds$Tray" (1 : Nat) ({ cls := "java/lang/Object", name := "<init>", desc := "()V" } : Jvm.MethodName)) ∈ lw_all := lw_g (lw_at lw_m1 227 rfl) rfl
theorem q376 : (Jvm.Cond.fieldLink "NapkinDeeds$Tray" (7 : Nat) "NapkinDeeds$Tray" "row" "Ljava/lang/Object;") ∈ lw_all := lw_g (lw_at lw_m1 228 rfl) rfl
theorem q378 : (Jvm.Cond.lays "NapkinDeeds$Tray" "NapkinDeeds$Tray" "row" "Ljava/lang/Object;") ∈ lw_all := lw_g (lw_at lw_m1 230 rfl) rfl
theorem q379 : (Jvm.Cond.soleField "NapkinDeeds$Tray" "row") ∈ lw_all := lw_g (lw_at lw_m1 231 rfl) rfl
theorem q380 : (Jvm.Cond.superclass "NapkinDeeds$Tray" "java/lang/Object") ∈ lw_all := lw_g (lw_at lw_m1 232 rfl) rfl
theorem q722 : (Jvm.Cond.selects "NapkinDeeds$Tray" ({ cls := "java/lang/Object", name := "getClass", desc := "()Ljava/lang/Class;" } : Jvm.MethodName) ({ cls := "java/lang/Object", name := "getClass", desc := "()Ljava/lang/Class;" } : Jvm.MethodName)) ∈ lw_all := lw_g (lw_at lw_m3 94 rfl) rfl
theorem q889 : (Jvm.Cond.instanceMethod ({ cls := "NapkinDeeds$Tray", name := "size", desc := "()I" } : Jvm.MethodName)) ∈ lw_all := lw_g (lw_at lw_m4 21 rfl) rfl
theorem q890 : (Jvm.Cond.selects "NapkinDeeds$Tray" ({ cls := "NapkinDeeds$Tray", name := "size", desc := "()I" } : Jvm.MethodName) ({ cls := "NapkinDeeds$Tray", name := "size", desc := "()I" } : Jvm.MethodName)) ∈ lw_all := lw_g (lw_at lw_m4 22 rfl) rfl
theorem q891 : (Jvm.Cond.code ({ cls := "NapkinDeeds$Tray", name := "size", desc := "()I" } : Jvm.MethodName) prog_37_method_5_code (1 : Nat) (Option.some Jvm.ClassFile.FieldType.int)) ∈ lw_all := lw_g (lw_at lw_m4 23 rfl) rfl
theorem q892 : (Jvm.Cond.classLink "NapkinDeeds$Tray" (13 : Nat) "[B") ∈ lw_all := lw_g (lw_at lw_m4 24 rfl) rfl
theorem q893 : (Jvm.Cond.classLink "NapkinDeeds$Tray" (15 : Nat) "[S") ∈ lw_all := lw_g (lw_at lw_m4 25 rfl) rfl
theorem q894 : (Jvm.Cond.classLink "NapkinDeeds$Tray" (17 : Nat) "[I") ∈ lw_all := lw_g (lw_at lw_m4 26 rfl) rfl
theorem q895 : (Jvm.Cond.classLink "NapkinDeeds$Tray" (19 : Nat) "[J") ∈ lw_all := lw_g (lw_at lw_m4 27 rfl) rfl
theorem q897 : (Jvm.Cond.instanceMethod ({ cls := "NapkinDeeds$Tray", name := "at", desc := "(I)J" } : Jvm.MethodName)) ∈ lw_all := lw_g (lw_at lw_m4 29 rfl) rfl
theorem q898 : (Jvm.Cond.selects "NapkinDeeds$Tray" ({ cls := "NapkinDeeds$Tray", name := "at", desc := "(I)J" } : Jvm.MethodName) ({ cls := "NapkinDeeds$Tray", name := "at", desc := "(I)J" } : Jvm.MethodName)) ∈ lw_all := lw_g (lw_at lw_m4 30 rfl) rfl
theorem q899 : (Jvm.Cond.code ({ cls := "NapkinDeeds$Tray", name := "at", desc := "(I)J" } : Jvm.MethodName) prog_37_method_3_code (2 : Nat) (Option.some Jvm.ClassFile.FieldType.long)) ∈ lw_all := lw_g (lw_at lw_m4 31 rfl) rfl
theorem q2556 : (Jvm.Cond.instanceMethod ({ cls := "NapkinDeeds$Tray", name := "make", desc := "(II)V" } : Jvm.MethodName)) ∈ lw_all := lw_g (lw_at lw_m11 8 rfl) rfl
theorem q2557 : (Jvm.Cond.selects "NapkinDeeds$Tray" ({ cls := "NapkinDeeds$Tray", name := "make", desc := "(II)V" } : Jvm.MethodName) ({ cls := "NapkinDeeds$Tray", name := "make", desc := "(II)V" } : Jvm.MethodName)) ∈ lw_all := lw_g (lw_at lw_m11 9 rfl) rfl
theorem q2558 : (Jvm.Cond.code ({ cls := "NapkinDeeds$Tray", name := "make", desc := "(II)V" } : Jvm.MethodName) prog_37_method_2_code (3 : Nat) (Option.none : Option Jvm.ClassFile.FieldType)) ∈ lw_all := lw_g (lw_at lw_m11 10 rfl) rfl
theorem q2591 : (Jvm.Cond.instanceMethod ({ cls := "NapkinDeeds$Tray", name := "put", desc := "(IJ)V" } : Jvm.MethodName)) ∈ lw_all := lw_g (lw_at lw_m11 43 rfl) rfl
theorem q2592 : (Jvm.Cond.selects "NapkinDeeds$Tray" ({ cls := "NapkinDeeds$Tray", name := "put", desc := "(IJ)V" } : Jvm.MethodName) ({ cls := "NapkinDeeds$Tray", name := "put", desc := "(IJ)V" } : Jvm.MethodName)) ∈ lw_all := lw_g (lw_at lw_m11 44 rfl) rfl
theorem q2593 : (Jvm.Cond.code ({ cls := "NapkinDeeds$Tray", name := "put", desc := "(IJ)V" } : Jvm.MethodName) prog_37_method_4_code (4 : Nat) (Option.none : Option Jvm.ClassFile.FieldType)) ∈ lw_all := lw_g (lw_at lw_m11 45 rfl) rfl
theorem q3501 : (Jvm.Cond.castable "NapkinDeeds$Tray" "java/lang/Object") ∈ lw_tbl := lw_at lw_m14 233 rfl
theorem in_X6 : ∀ w ∈ wsX60, w ∈ lw_all := lw_in wsX60 [378] (by decide +kernel) (by decide +kernel)
/-! NapkinDeeds$Reader -/
set_option maxRecDepth 100000
def RX8 : String := "NapkinDeeds$Reader"
def TX8 : u_T := fun k => match k with
  | 0 => ("NapkinDeeds$Reader", "words", "[Ljava/lang/String;", true)
  | 1 => ("NapkinDeeds$Reader", "tape", "[B", true)
  | 2 => ("NapkinDeeds$Reader", "size", "I", true)
  | 3 => ("NapkinDeeds$Reader", "made", "LNapkinDeeds$Napkin;", true)
  | 4 => ("NapkinDeeds$Reader", "at", "I", false)
  | 5 => ("NapkinDeeds$Reader", "behind", "I", false)
  | 6 => ("NapkinDeeds$Reader", "kind", "I", false)
  | 7 => ("NapkinDeeds$Reader", "number", "I", false)
  | 8 => ("NapkinDeeds$Reader", "deep", "I", false)
  | _ => ("NapkinDeeds$Reader", "asked", "I", false)
def tyX8 : Nat → FieldType := fun k => match k with
  | 0 => .array (.object "java/lang/String")
  | 1 => .array .byte
  | 2 => .int
  | 3 => .object "NapkinDeeds$Napkin"
  | 4 => .int
  | 5 => .int
  | 6 => .int
  | 7 => .int
  | 8 => .int
  | _ => .int
abbrev wsX80 : List Cond := u_ws RX8 TX8 10
theorem nmX8 : ∀ a, a < 10 → ∀ b, b < 10 → a ≠ b → (TX8 a).2.1 ≠ (TX8 b).2.1 := by decide +kernel
theorem tyX8_ok : ∀ k, k < 10 → parseFieldDescriptor (TX8 k).2.2.1 = some (tyX8 k) := by decide +kernel
abbrev cX8_init : ByteArray := prog_31_method_1_code
def yX8_init : MethodName := ⟨RX8, "<init>", "([BI)V"⟩
def dkwX8_init_3 : List UInt8 := [42, 28, 181, 0, 44, 42, 182, 0, 48, 177]
abbrev dktX8_init_3 : List UInt8 := dkwX8_init_3 ++ []
def dkwX8_init_2 : List UInt8 := [16, 7, 18, 25, 83, 181, 0, 27, 42, 187, 0, 33, 89, 183, 0, 35, 181, 0, 36, 42, 43, 181, 0, 40]
abbrev dktX8_init_2 : List UInt8 := dkwX8_init_2 ++ dktX8_init_3
def dkwX8_init_1 : List UInt8 := [83, 89, 6, 18, 17, 83, 89, 7, 18, 19, 83, 89, 8, 18, 21, 83, 89, 16, 6, 18, 23, 83, 89]
abbrev dktX8_init_1 : List UInt8 := dkwX8_init_1 ++ dktX8_init_2
def dkwX8_init_0 : List UInt8 := [42, 183, 0, 3, 42, 16, 8, 189, 0, 9, 89, 3, 18, 11, 83, 89, 4, 18, 13, 83, 89, 5, 18, 15]
abbrev dktX8_init_0 : List UInt8 := dkwX8_init_0 ++ dktX8_init_1
theorem dksX8_init_0 : cX8_init.data.toList.drop 0 = dktX8_init_0 := by decide +kernel
theorem dksX8_init_1 : cX8_init.data.toList.drop 24 = dktX8_init_1 := dk_seg dksX8_init_0 24 rfl rfl
theorem dksX8_init_2 : cX8_init.data.toList.drop 47 = dktX8_init_2 := dk_seg dksX8_init_1 23 rfl rfl
theorem dksX8_init_3 : cX8_init.data.toList.drop 71 = dktX8_init_3 := dk_seg dksX8_init_2 24 rfl rfl
theorem dX8_init_0 : decode cX8_init 0 = .ok (.aload_n 0, 1) := dk_42 (dk_at dksX8_init_0 0 rfl rfl)
theorem dX8_init_1 : decode cX8_init 1 = .ok (.invokespecial 3, 3) := dk_183 0 3 (dk_at dksX8_init_0 1 rfl rfl)
theorem dX8_init_4 : decode cX8_init 4 = .ok (.aload_n 0, 1) := dk_42 (dk_at dksX8_init_0 4 rfl rfl)
theorem dX8_init_5 : decode cX8_init 5 = .ok (.bipush 8, 2) := dk_16 8 (dk_at dksX8_init_0 5 rfl rfl)
theorem dX8_init_7 : decode cX8_init 7 = .ok (.anewarray 9, 3) := dk_189 0 9 (dk_at dksX8_init_0 7 rfl rfl)
theorem dX8_init_10 : decode cX8_init 10 = .ok (.dup, 1) := dk_89 (dk_at dksX8_init_0 10 rfl rfl)
theorem dX8_init_11 : decode cX8_init 11 = .ok (.iconst 0, 1) := dk_3 (dk_at dksX8_init_0 11 rfl rfl)
theorem dX8_init_12 : decode cX8_init 12 = .ok (.ldc 11, 2) := dk_18 11 (dk_at dksX8_init_0 12 rfl rfl)
theorem dX8_init_14 : decode cX8_init 14 = .ok (.aastore, 1) := dk_83 (dk_at dksX8_init_0 14 rfl rfl)
theorem dX8_init_15 : decode cX8_init 15 = .ok (.dup, 1) := dk_89 (dk_at dksX8_init_0 15 rfl rfl)
theorem dX8_init_16 : decode cX8_init 16 = .ok (.iconst 1, 1) := dk_4 (dk_at dksX8_init_0 16 rfl rfl)
theorem dX8_init_17 : decode cX8_init 17 = .ok (.ldc 13, 2) := dk_18 13 (dk_at dksX8_init_0 17 rfl rfl)
theorem dX8_init_19 : decode cX8_init 19 = .ok (.aastore, 1) := dk_83 (dk_at dksX8_init_0 19 rfl rfl)
theorem dX8_init_20 : decode cX8_init 20 = .ok (.dup, 1) := dk_89 (dk_at dksX8_init_0 20 rfl rfl)
theorem dX8_init_21 : decode cX8_init 21 = .ok (.iconst 2, 1) := dk_5 (dk_at dksX8_init_0 21 rfl rfl)
theorem dX8_init_22 : decode cX8_init 22 = .ok (.ldc 15, 2) := dk_18 15 (dk_at dksX8_init_0 22 rfl rfl)
theorem dX8_init_24 : decode cX8_init 24 = .ok (.aastore, 1) := dk_83 (dk_at dksX8_init_1 0 rfl rfl)
theorem dX8_init_25 : decode cX8_init 25 = .ok (.dup, 1) := dk_89 (dk_at dksX8_init_1 1 rfl rfl)
theorem dX8_init_26 : decode cX8_init 26 = .ok (.iconst 3, 1) := dk_6 (dk_at dksX8_init_1 2 rfl rfl)
theorem dX8_init_27 : decode cX8_init 27 = .ok (.ldc 17, 2) := dk_18 17 (dk_at dksX8_init_1 3 rfl rfl)
theorem dX8_init_29 : decode cX8_init 29 = .ok (.aastore, 1) := dk_83 (dk_at dksX8_init_1 5 rfl rfl)
theorem dX8_init_30 : decode cX8_init 30 = .ok (.dup, 1) := dk_89 (dk_at dksX8_init_1 6 rfl rfl)
theorem dX8_init_31 : decode cX8_init 31 = .ok (.iconst 4, 1) := dk_7 (dk_at dksX8_init_1 7 rfl rfl)
theorem dX8_init_32 : decode cX8_init 32 = .ok (.ldc 19, 2) := dk_18 19 (dk_at dksX8_init_1 8 rfl rfl)
theorem dX8_init_34 : decode cX8_init 34 = .ok (.aastore, 1) := dk_83 (dk_at dksX8_init_1 10 rfl rfl)
theorem dX8_init_35 : decode cX8_init 35 = .ok (.dup, 1) := dk_89 (dk_at dksX8_init_1 11 rfl rfl)
theorem dX8_init_36 : decode cX8_init 36 = .ok (.iconst 5, 1) := dk_8 (dk_at dksX8_init_1 12 rfl rfl)
theorem dX8_init_37 : decode cX8_init 37 = .ok (.ldc 21, 2) := dk_18 21 (dk_at dksX8_init_1 13 rfl rfl)
theorem dX8_init_39 : decode cX8_init 39 = .ok (.aastore, 1) := dk_83 (dk_at dksX8_init_1 15 rfl rfl)
theorem dX8_init_40 : decode cX8_init 40 = .ok (.dup, 1) := dk_89 (dk_at dksX8_init_1 16 rfl rfl)
theorem dX8_init_41 : decode cX8_init 41 = .ok (.bipush 6, 2) := dk_16 6 (dk_at dksX8_init_1 17 rfl rfl)
theorem dX8_init_43 : decode cX8_init 43 = .ok (.ldc 23, 2) := dk_18 23 (dk_at dksX8_init_1 19 rfl rfl)
theorem dX8_init_45 : decode cX8_init 45 = .ok (.aastore, 1) := dk_83 (dk_at dksX8_init_1 21 rfl rfl)
theorem dX8_init_46 : decode cX8_init 46 = .ok (.dup, 1) := dk_89 (dk_at dksX8_init_1 22 rfl rfl)
theorem dX8_init_47 : decode cX8_init 47 = .ok (.bipush 7, 2) := dk_16 7 (dk_at dksX8_init_2 0 rfl rfl)
theorem dX8_init_49 : decode cX8_init 49 = .ok (.ldc 25, 2) := dk_18 25 (dk_at dksX8_init_2 2 rfl rfl)
theorem dX8_init_51 : decode cX8_init 51 = .ok (.aastore, 1) := dk_83 (dk_at dksX8_init_2 4 rfl rfl)
theorem dX8_init_52 : decode cX8_init 52 = .ok (.putfield 27, 3) := dk_181 0 27 (dk_at dksX8_init_2 5 rfl rfl)
theorem dX8_init_55 : decode cX8_init 55 = .ok (.aload_n 0, 1) := dk_42 (dk_at dksX8_init_2 8 rfl rfl)
theorem dX8_init_56 : decode cX8_init 56 = .ok (.new 33, 3) := dk_187 0 33 (dk_at dksX8_init_2 9 rfl rfl)
theorem dX8_init_59 : decode cX8_init 59 = .ok (.dup, 1) := dk_89 (dk_at dksX8_init_2 12 rfl rfl)
theorem dX8_init_60 : decode cX8_init 60 = .ok (.invokespecial 35, 3) := dk_183 0 35 (dk_at dksX8_init_2 13 rfl rfl)
theorem dX8_init_63 : decode cX8_init 63 = .ok (.putfield 36, 3) := dk_181 0 36 (dk_at dksX8_init_2 16 rfl rfl)
theorem dX8_init_66 : decode cX8_init 66 = .ok (.aload_n 0, 1) := dk_42 (dk_at dksX8_init_2 19 rfl rfl)
theorem dX8_init_67 : decode cX8_init 67 = .ok (.aload_n 1, 1) := dk_43 (dk_at dksX8_init_2 20 rfl rfl)
theorem dX8_init_68 : decode cX8_init 68 = .ok (.putfield 40, 3) := dk_181 0 40 (dk_at dksX8_init_2 21 rfl rfl)
theorem dX8_init_71 : decode cX8_init 71 = .ok (.aload_n 0, 1) := dk_42 (dk_at dksX8_init_3 0 rfl rfl)
theorem dX8_init_72 : decode cX8_init 72 = .ok (.iload_n 2, 1) := dk_28 (dk_at dksX8_init_3 1 rfl rfl)
theorem dX8_init_73 : decode cX8_init 73 = .ok (.putfield 44, 3) := dk_181 0 44 (dk_at dksX8_init_3 2 rfl rfl)
theorem dX8_init_76 : decode cX8_init 76 = .ok (.aload_n 0, 1) := dk_42 (dk_at dksX8_init_3 5 rfl rfl)
theorem dX8_init_77 : decode cX8_init 77 = .ok (.invokevirtual 48, 3) := dk_182 0 48 (dk_at dksX8_init_3 6 rfl rfl)
theorem dX8_init_80 : decode cX8_init 80 = .ok (.return_, 1) := dk_177 (dk_at dksX8_init_3 9 rfl rfl)
abbrev cX8_next : ByteArray := prog_31_method_4_code
def yX8_next : MethodName := ⟨RX8, "next", "()V"⟩
def dkwX8_next_11 : List UInt8 := [181, 0, 57, 177]
abbrev dktX8_next_11 : List UInt8 := dkwX8_next_11 ++ []
def dkwX8_next_10 : List UInt8 := [42, 18, 70, 42, 180, 0, 40, 42, 180, 0, 54, 51, 182, 0, 72, 155, 0, 7, 6, 167, 0, 4, 7]
abbrev dktX8_next_10 : List UInt8 := dkwX8_next_10 ++ dktX8_next_11
def dkwX8_next_9 : List UInt8 := [164, 0, 7, 7, 167, 0, 4, 5, 181, 0, 57, 167, 0, 39, 42, 42, 180, 0, 54, 4, 96, 181, 0, 51]
abbrev dktX8_next_9 : List UInt8 := dkwX8_next_9 ++ dktX8_next_10
def dkwX8_next_8 : List UInt8 := [42, 89, 180, 0, 51, 4, 96, 181, 0, 51, 167, 255, 198, 42, 42, 180, 0, 51, 42, 180, 0, 54, 100, 6]
abbrev dktX8_next_8 : List UInt8 := dkwX8_next_8 ++ dktX8_next_9
def dkwX8_next_7 : List UInt8 := [42, 16, 10, 42, 180, 0, 67, 104, 42, 180, 0, 40, 42, 180, 0, 51, 51, 96, 16, 48, 100, 181, 0, 67]
abbrev dktX8_next_7 : List UInt8 := dkwX8_next_7 ++ dktX8_next_8
def dkwX8_next_6 : List UInt8 := [42, 42, 180, 0, 51, 182, 0, 64, 153, 0, 53, 42, 180, 0, 51, 42, 180, 0, 54, 100, 6, 162, 0, 27]
abbrev dktX8_next_6 : List UInt8 := dkwX8_next_6 ++ dktX8_next_7
def dkwX8_next_5 : List UInt8 := [4, 96, 181, 0, 51, 167, 255, 235, 42, 42, 180, 0, 54, 182, 0, 64, 153, 0, 94, 42, 3, 181, 0, 67]
abbrev dktX8_next_5 : List UInt8 := dkwX8_next_5 ++ dktX8_next_6
def dkwX8_next_4 : List UInt8 := [153, 0, 32, 42, 4, 181, 0, 57, 42, 42, 180, 0, 51, 182, 0, 60, 153, 0, 154, 42, 89, 180, 0, 51]
abbrev dktX8_next_4 : List UInt8 := dkwX8_next_4 ++ dktX8_next_5
def dkwX8_next_3 : List UInt8 := [42, 180, 0, 44, 160, 0, 11, 42, 3, 181, 0, 57, 167, 0, 181, 42, 42, 180, 0, 54, 182, 0, 60]
abbrev dktX8_next_3 : List UInt8 := dkwX8_next_3 ++ dktX8_next_4
def dkwX8_next_2 : List UInt8 := [89, 180, 0, 54, 4, 96, 181, 0, 54, 167, 255, 207, 42, 42, 180, 0, 54, 181, 0, 51, 42, 180, 0, 54]
abbrev dktX8_next_2 : List UInt8 := dkwX8_next_2 ++ dktX8_next_3
def dkwX8_next_1 : List UInt8 := [180, 0, 54, 51, 16, 10, 159, 0, 17, 42, 180, 0, 40, 42, 180, 0, 54, 51, 16, 32, 160, 0, 16, 42]
abbrev dktX8_next_1 : List UInt8 := dkwX8_next_1 ++ dktX8_next_2
def dkwX8_next_0 : List UInt8 := [42, 42, 180, 0, 51, 181, 0, 54, 42, 180, 0, 54, 42, 180, 0, 44, 162, 0, 44, 42, 180, 0, 40, 42]
abbrev dktX8_next_0 : List UInt8 := dkwX8_next_0 ++ dktX8_next_1
theorem dksX8_next_0 : cX8_next.data.toList.drop 0 = dktX8_next_0 := by decide +kernel
theorem dksX8_next_1 : cX8_next.data.toList.drop 24 = dktX8_next_1 := dk_seg dksX8_next_0 24 rfl rfl
theorem dksX8_next_2 : cX8_next.data.toList.drop 48 = dktX8_next_2 := dk_seg dksX8_next_1 24 rfl rfl
theorem dksX8_next_3 : cX8_next.data.toList.drop 72 = dktX8_next_3 := dk_seg dksX8_next_2 24 rfl rfl
theorem dksX8_next_4 : cX8_next.data.toList.drop 95 = dktX8_next_4 := dk_seg dksX8_next_3 23 rfl rfl
theorem dksX8_next_5 : cX8_next.data.toList.drop 119 = dktX8_next_5 := dk_seg dksX8_next_4 24 rfl rfl
theorem dksX8_next_6 : cX8_next.data.toList.drop 143 = dktX8_next_6 := dk_seg dksX8_next_5 24 rfl rfl
theorem dksX8_next_7 : cX8_next.data.toList.drop 167 = dktX8_next_7 := dk_seg dksX8_next_6 24 rfl rfl
theorem dksX8_next_8 : cX8_next.data.toList.drop 191 = dktX8_next_8 := dk_seg dksX8_next_7 24 rfl rfl
theorem dksX8_next_9 : cX8_next.data.toList.drop 215 = dktX8_next_9 := dk_seg dksX8_next_8 24 rfl rfl
theorem dksX8_next_10 : cX8_next.data.toList.drop 239 = dktX8_next_10 := dk_seg dksX8_next_9 24 rfl rfl
theorem dksX8_next_11 : cX8_next.data.toList.drop 262 = dktX8_next_11 := dk_seg dksX8_next_10 23 rfl rfl
theorem dX8_next_0 : decode cX8_next 0 = .ok (.aload_n 0, 1) := dk_42 (dk_at dksX8_next_0 0 rfl rfl)
theorem dX8_next_1 : decode cX8_next 1 = .ok (.aload_n 0, 1) := dk_42 (dk_at dksX8_next_0 1 rfl rfl)
theorem dX8_next_2 : decode cX8_next 2 = .ok (.getfield 51, 3) := dk_180 0 51 (dk_at dksX8_next_0 2 rfl rfl)
theorem dX8_next_5 : decode cX8_next 5 = .ok (.putfield 54, 3) := dk_181 0 54 (dk_at dksX8_next_0 5 rfl rfl)
theorem dX8_next_8 : decode cX8_next 8 = .ok (.aload_n 0, 1) := dk_42 (dk_at dksX8_next_0 8 rfl rfl)
theorem dX8_next_9 : decode cX8_next 9 = .ok (.getfield 54, 3) := dk_180 0 54 (dk_at dksX8_next_0 9 rfl rfl)
theorem dX8_next_12 : decode cX8_next 12 = .ok (.aload_n 0, 1) := dk_42 (dk_at dksX8_next_0 12 rfl rfl)
theorem dX8_next_13 : decode cX8_next 13 = .ok (.getfield 44, 3) := dk_180 0 44 (dk_at dksX8_next_0 13 rfl rfl)
theorem dX8_next_16 : decode cX8_next 16 = .ok (.if_icmp .ge 44, 3) := dk_162 0 44 (dk_at dksX8_next_0 16 rfl rfl)
theorem dX8_next_19 : decode cX8_next 19 = .ok (.aload_n 0, 1) := dk_42 (dk_at dksX8_next_0 19 rfl rfl)
theorem dX8_next_20 : decode cX8_next 20 = .ok (.getfield 40, 3) := dk_180 0 40 (dk_at dksX8_next_0 20 rfl rfl)
theorem dX8_next_23 : decode cX8_next 23 = .ok (.aload_n 0, 1) := dk_42 (dk_at dksX8_next_0 23 rfl rfl)
theorem dX8_next_24 : decode cX8_next 24 = .ok (.getfield 54, 3) := dk_180 0 54 (dk_at dksX8_next_1 0 rfl rfl)
theorem dX8_next_27 : decode cX8_next 27 = .ok (.baload, 1) := dk_51 (dk_at dksX8_next_1 3 rfl rfl)
theorem dX8_next_28 : decode cX8_next 28 = .ok (.bipush 10, 2) := dk_16 10 (dk_at dksX8_next_1 4 rfl rfl)
theorem dX8_next_30 : decode cX8_next 30 = .ok (.if_icmp .eq 17, 3) := dk_159 0 17 (dk_at dksX8_next_1 6 rfl rfl)
theorem dX8_next_33 : decode cX8_next 33 = .ok (.aload_n 0, 1) := dk_42 (dk_at dksX8_next_1 9 rfl rfl)
theorem dX8_next_34 : decode cX8_next 34 = .ok (.getfield 40, 3) := dk_180 0 40 (dk_at dksX8_next_1 10 rfl rfl)
theorem dX8_next_37 : decode cX8_next 37 = .ok (.aload_n 0, 1) := dk_42 (dk_at dksX8_next_1 13 rfl rfl)
theorem dX8_next_38 : decode cX8_next 38 = .ok (.getfield 54, 3) := dk_180 0 54 (dk_at dksX8_next_1 14 rfl rfl)
theorem dX8_next_41 : decode cX8_next 41 = .ok (.baload, 1) := dk_51 (dk_at dksX8_next_1 17 rfl rfl)
theorem dX8_next_42 : decode cX8_next 42 = .ok (.bipush 32, 2) := dk_16 32 (dk_at dksX8_next_1 18 rfl rfl)
theorem dX8_next_44 : decode cX8_next 44 = .ok (.if_icmp .ne 16, 3) := dk_160 0 16 (dk_at dksX8_next_1 20 rfl rfl)
theorem dX8_next_47 : decode cX8_next 47 = .ok (.aload_n 0, 1) := dk_42 (dk_at dksX8_next_1 23 rfl rfl)
theorem dX8_next_48 : decode cX8_next 48 = .ok (.dup, 1) := dk_89 (dk_at dksX8_next_2 0 rfl rfl)
theorem dX8_next_49 : decode cX8_next 49 = .ok (.getfield 54, 3) := dk_180 0 54 (dk_at dksX8_next_2 1 rfl rfl)
theorem dX8_next_52 : decode cX8_next 52 = .ok (.iconst 1, 1) := dk_4 (dk_at dksX8_next_2 4 rfl rfl)
theorem dX8_next_53 : decode cX8_next 53 = .ok (.iadd, 1) := dk_96 (dk_at dksX8_next_2 5 rfl rfl)
theorem dX8_next_54 : decode cX8_next 54 = .ok (.putfield 54, 3) := dk_181 0 54 (dk_at dksX8_next_2 6 rfl rfl)
theorem dX8_next_57 : decode cX8_next 57 = .ok (.goto (-49), 3) := dk_167 255 207 (dk_at dksX8_next_2 9 rfl rfl)
theorem dX8_next_60 : decode cX8_next 60 = .ok (.aload_n 0, 1) := dk_42 (dk_at dksX8_next_2 12 rfl rfl)
theorem dX8_next_61 : decode cX8_next 61 = .ok (.aload_n 0, 1) := dk_42 (dk_at dksX8_next_2 13 rfl rfl)
theorem dX8_next_62 : decode cX8_next 62 = .ok (.getfield 54, 3) := dk_180 0 54 (dk_at dksX8_next_2 14 rfl rfl)
theorem dX8_next_65 : decode cX8_next 65 = .ok (.putfield 51, 3) := dk_181 0 51 (dk_at dksX8_next_2 17 rfl rfl)
theorem dX8_next_68 : decode cX8_next 68 = .ok (.aload_n 0, 1) := dk_42 (dk_at dksX8_next_2 20 rfl rfl)
theorem dX8_next_69 : decode cX8_next 69 = .ok (.getfield 54, 3) := dk_180 0 54 (dk_at dksX8_next_2 21 rfl rfl)
theorem dX8_next_72 : decode cX8_next 72 = .ok (.aload_n 0, 1) := dk_42 (dk_at dksX8_next_3 0 rfl rfl)
theorem dX8_next_73 : decode cX8_next 73 = .ok (.getfield 44, 3) := dk_180 0 44 (dk_at dksX8_next_3 1 rfl rfl)
theorem dX8_next_76 : decode cX8_next 76 = .ok (.if_icmp .ne 11, 3) := dk_160 0 11 (dk_at dksX8_next_3 4 rfl rfl)
theorem dX8_next_79 : decode cX8_next 79 = .ok (.aload_n 0, 1) := dk_42 (dk_at dksX8_next_3 7 rfl rfl)
theorem dX8_next_80 : decode cX8_next 80 = .ok (.iconst 0, 1) := dk_3 (dk_at dksX8_next_3 8 rfl rfl)
theorem dX8_next_81 : decode cX8_next 81 = .ok (.putfield 57, 3) := dk_181 0 57 (dk_at dksX8_next_3 9 rfl rfl)
theorem dX8_next_84 : decode cX8_next 84 = .ok (.goto 181, 3) := dk_167 0 181 (dk_at dksX8_next_3 12 rfl rfl)
theorem dX8_next_87 : decode cX8_next 87 = .ok (.aload_n 0, 1) := dk_42 (dk_at dksX8_next_3 15 rfl rfl)
theorem dX8_next_88 : decode cX8_next 88 = .ok (.aload_n 0, 1) := dk_42 (dk_at dksX8_next_3 16 rfl rfl)
theorem dX8_next_89 : decode cX8_next 89 = .ok (.getfield 54, 3) := dk_180 0 54 (dk_at dksX8_next_3 17 rfl rfl)
theorem dX8_next_92 : decode cX8_next 92 = .ok (.invokevirtual 60, 3) := dk_182 0 60 (dk_at dksX8_next_3 20 rfl rfl)
theorem dX8_next_95 : decode cX8_next 95 = .ok (.ifCond .eq 32, 3) := dk_153 0 32 (dk_at dksX8_next_4 0 rfl rfl)
theorem dX8_next_98 : decode cX8_next 98 = .ok (.aload_n 0, 1) := dk_42 (dk_at dksX8_next_4 3 rfl rfl)
theorem dX8_next_99 : decode cX8_next 99 = .ok (.iconst 1, 1) := dk_4 (dk_at dksX8_next_4 4 rfl rfl)
theorem dX8_next_100 : decode cX8_next 100 = .ok (.putfield 57, 3) := dk_181 0 57 (dk_at dksX8_next_4 5 rfl rfl)
theorem dX8_next_103 : decode cX8_next 103 = .ok (.aload_n 0, 1) := dk_42 (dk_at dksX8_next_4 8 rfl rfl)
theorem dX8_next_104 : decode cX8_next 104 = .ok (.aload_n 0, 1) := dk_42 (dk_at dksX8_next_4 9 rfl rfl)
theorem dX8_next_105 : decode cX8_next 105 = .ok (.getfield 51, 3) := dk_180 0 51 (dk_at dksX8_next_4 10 rfl rfl)
theorem dX8_next_108 : decode cX8_next 108 = .ok (.invokevirtual 60, 3) := dk_182 0 60 (dk_at dksX8_next_4 13 rfl rfl)
theorem dX8_next_111 : decode cX8_next 111 = .ok (.ifCond .eq 154, 3) := dk_153 0 154 (dk_at dksX8_next_4 16 rfl rfl)
theorem dX8_next_114 : decode cX8_next 114 = .ok (.aload_n 0, 1) := dk_42 (dk_at dksX8_next_4 19 rfl rfl)
theorem dX8_next_115 : decode cX8_next 115 = .ok (.dup, 1) := dk_89 (dk_at dksX8_next_4 20 rfl rfl)
theorem dX8_next_116 : decode cX8_next 116 = .ok (.getfield 51, 3) := dk_180 0 51 (dk_at dksX8_next_4 21 rfl rfl)
theorem dX8_next_119 : decode cX8_next 119 = .ok (.iconst 1, 1) := dk_4 (dk_at dksX8_next_5 0 rfl rfl)
theorem dX8_next_120 : decode cX8_next 120 = .ok (.iadd, 1) := dk_96 (dk_at dksX8_next_5 1 rfl rfl)
theorem dX8_next_121 : decode cX8_next 121 = .ok (.putfield 51, 3) := dk_181 0 51 (dk_at dksX8_next_5 2 rfl rfl)
theorem dX8_next_124 : decode cX8_next 124 = .ok (.goto (-21), 3) := dk_167 255 235 (dk_at dksX8_next_5 5 rfl rfl)
theorem dX8_next_127 : decode cX8_next 127 = .ok (.aload_n 0, 1) := dk_42 (dk_at dksX8_next_5 8 rfl rfl)
theorem dX8_next_128 : decode cX8_next 128 = .ok (.aload_n 0, 1) := dk_42 (dk_at dksX8_next_5 9 rfl rfl)
theorem dX8_next_129 : decode cX8_next 129 = .ok (.getfield 54, 3) := dk_180 0 54 (dk_at dksX8_next_5 10 rfl rfl)
theorem dX8_next_132 : decode cX8_next 132 = .ok (.invokevirtual 64, 3) := dk_182 0 64 (dk_at dksX8_next_5 13 rfl rfl)
theorem dX8_next_135 : decode cX8_next 135 = .ok (.ifCond .eq 94, 3) := dk_153 0 94 (dk_at dksX8_next_5 16 rfl rfl)
theorem dX8_next_138 : decode cX8_next 138 = .ok (.aload_n 0, 1) := dk_42 (dk_at dksX8_next_5 19 rfl rfl)
theorem dX8_next_139 : decode cX8_next 139 = .ok (.iconst 0, 1) := dk_3 (dk_at dksX8_next_5 20 rfl rfl)
theorem dX8_next_140 : decode cX8_next 140 = .ok (.putfield 67, 3) := dk_181 0 67 (dk_at dksX8_next_5 21 rfl rfl)
theorem dX8_next_143 : decode cX8_next 143 = .ok (.aload_n 0, 1) := dk_42 (dk_at dksX8_next_6 0 rfl rfl)
theorem dX8_next_144 : decode cX8_next 144 = .ok (.aload_n 0, 1) := dk_42 (dk_at dksX8_next_6 1 rfl rfl)
theorem dX8_next_145 : decode cX8_next 145 = .ok (.getfield 51, 3) := dk_180 0 51 (dk_at dksX8_next_6 2 rfl rfl)
theorem dX8_next_148 : decode cX8_next 148 = .ok (.invokevirtual 64, 3) := dk_182 0 64 (dk_at dksX8_next_6 5 rfl rfl)
theorem dX8_next_151 : decode cX8_next 151 = .ok (.ifCond .eq 53, 3) := dk_153 0 53 (dk_at dksX8_next_6 8 rfl rfl)
theorem dX8_next_154 : decode cX8_next 154 = .ok (.aload_n 0, 1) := dk_42 (dk_at dksX8_next_6 11 rfl rfl)
theorem dX8_next_155 : decode cX8_next 155 = .ok (.getfield 51, 3) := dk_180 0 51 (dk_at dksX8_next_6 12 rfl rfl)
theorem dX8_next_158 : decode cX8_next 158 = .ok (.aload_n 0, 1) := dk_42 (dk_at dksX8_next_6 15 rfl rfl)
theorem dX8_next_159 : decode cX8_next 159 = .ok (.getfield 54, 3) := dk_180 0 54 (dk_at dksX8_next_6 16 rfl rfl)
theorem dX8_next_162 : decode cX8_next 162 = .ok (.isub, 1) := dk_100 (dk_at dksX8_next_6 19 rfl rfl)
theorem dX8_next_163 : decode cX8_next 163 = .ok (.iconst 3, 1) := dk_6 (dk_at dksX8_next_6 20 rfl rfl)
theorem dX8_next_164 : decode cX8_next 164 = .ok (.if_icmp .ge 27, 3) := dk_162 0 27 (dk_at dksX8_next_6 21 rfl rfl)
theorem dX8_next_167 : decode cX8_next 167 = .ok (.aload_n 0, 1) := dk_42 (dk_at dksX8_next_7 0 rfl rfl)
theorem dX8_next_168 : decode cX8_next 168 = .ok (.bipush 10, 2) := dk_16 10 (dk_at dksX8_next_7 1 rfl rfl)
theorem dX8_next_170 : decode cX8_next 170 = .ok (.aload_n 0, 1) := dk_42 (dk_at dksX8_next_7 3 rfl rfl)
theorem dX8_next_171 : decode cX8_next 171 = .ok (.getfield 67, 3) := dk_180 0 67 (dk_at dksX8_next_7 4 rfl rfl)
theorem dX8_next_174 : decode cX8_next 174 = .ok (.imul, 1) := dk_104 (dk_at dksX8_next_7 7 rfl rfl)
theorem dX8_next_175 : decode cX8_next 175 = .ok (.aload_n 0, 1) := dk_42 (dk_at dksX8_next_7 8 rfl rfl)
theorem dX8_next_176 : decode cX8_next 176 = .ok (.getfield 40, 3) := dk_180 0 40 (dk_at dksX8_next_7 9 rfl rfl)
theorem dX8_next_179 : decode cX8_next 179 = .ok (.aload_n 0, 1) := dk_42 (dk_at dksX8_next_7 12 rfl rfl)
theorem dX8_next_180 : decode cX8_next 180 = .ok (.getfield 51, 3) := dk_180 0 51 (dk_at dksX8_next_7 13 rfl rfl)
theorem dX8_next_183 : decode cX8_next 183 = .ok (.baload, 1) := dk_51 (dk_at dksX8_next_7 16 rfl rfl)
theorem dX8_next_184 : decode cX8_next 184 = .ok (.iadd, 1) := dk_96 (dk_at dksX8_next_7 17 rfl rfl)
theorem dX8_next_185 : decode cX8_next 185 = .ok (.bipush 48, 2) := dk_16 48 (dk_at dksX8_next_7 18 rfl rfl)
theorem dX8_next_187 : decode cX8_next 187 = .ok (.isub, 1) := dk_100 (dk_at dksX8_next_7 20 rfl rfl)
theorem dX8_next_188 : decode cX8_next 188 = .ok (.putfield 67, 3) := dk_181 0 67 (dk_at dksX8_next_7 21 rfl rfl)
theorem dX8_next_191 : decode cX8_next 191 = .ok (.aload_n 0, 1) := dk_42 (dk_at dksX8_next_8 0 rfl rfl)
theorem dX8_next_192 : decode cX8_next 192 = .ok (.dup, 1) := dk_89 (dk_at dksX8_next_8 1 rfl rfl)
theorem dX8_next_193 : decode cX8_next 193 = .ok (.getfield 51, 3) := dk_180 0 51 (dk_at dksX8_next_8 2 rfl rfl)
theorem dX8_next_196 : decode cX8_next 196 = .ok (.iconst 1, 1) := dk_4 (dk_at dksX8_next_8 5 rfl rfl)
theorem dX8_next_197 : decode cX8_next 197 = .ok (.iadd, 1) := dk_96 (dk_at dksX8_next_8 6 rfl rfl)
theorem dX8_next_198 : decode cX8_next 198 = .ok (.putfield 51, 3) := dk_181 0 51 (dk_at dksX8_next_8 7 rfl rfl)
theorem dX8_next_201 : decode cX8_next 201 = .ok (.goto (-58), 3) := dk_167 255 198 (dk_at dksX8_next_8 10 rfl rfl)
theorem dX8_next_204 : decode cX8_next 204 = .ok (.aload_n 0, 1) := dk_42 (dk_at dksX8_next_8 13 rfl rfl)
theorem dX8_next_205 : decode cX8_next 205 = .ok (.aload_n 0, 1) := dk_42 (dk_at dksX8_next_8 14 rfl rfl)
theorem dX8_next_206 : decode cX8_next 206 = .ok (.getfield 51, 3) := dk_180 0 51 (dk_at dksX8_next_8 15 rfl rfl)
theorem dX8_next_209 : decode cX8_next 209 = .ok (.aload_n 0, 1) := dk_42 (dk_at dksX8_next_8 18 rfl rfl)
theorem dX8_next_210 : decode cX8_next 210 = .ok (.getfield 54, 3) := dk_180 0 54 (dk_at dksX8_next_8 19 rfl rfl)
theorem dX8_next_213 : decode cX8_next 213 = .ok (.isub, 1) := dk_100 (dk_at dksX8_next_8 22 rfl rfl)
theorem dX8_next_214 : decode cX8_next 214 = .ok (.iconst 3, 1) := dk_6 (dk_at dksX8_next_8 23 rfl rfl)
theorem dX8_next_215 : decode cX8_next 215 = .ok (.if_icmp .le 7, 3) := dk_164 0 7 (dk_at dksX8_next_9 0 rfl rfl)
theorem dX8_next_218 : decode cX8_next 218 = .ok (.iconst 4, 1) := dk_7 (dk_at dksX8_next_9 3 rfl rfl)
theorem dX8_next_219 : decode cX8_next 219 = .ok (.goto 4, 3) := dk_167 0 4 (dk_at dksX8_next_9 4 rfl rfl)
theorem dX8_next_222 : decode cX8_next 222 = .ok (.iconst 2, 1) := dk_5 (dk_at dksX8_next_9 7 rfl rfl)
theorem dX8_next_223 : decode cX8_next 223 = .ok (.putfield 57, 3) := dk_181 0 57 (dk_at dksX8_next_9 8 rfl rfl)
theorem dX8_next_226 : decode cX8_next 226 = .ok (.goto 39, 3) := dk_167 0 39 (dk_at dksX8_next_9 11 rfl rfl)
theorem dX8_next_229 : decode cX8_next 229 = .ok (.aload_n 0, 1) := dk_42 (dk_at dksX8_next_9 14 rfl rfl)
theorem dX8_next_230 : decode cX8_next 230 = .ok (.aload_n 0, 1) := dk_42 (dk_at dksX8_next_9 15 rfl rfl)
theorem dX8_next_231 : decode cX8_next 231 = .ok (.getfield 54, 3) := dk_180 0 54 (dk_at dksX8_next_9 16 rfl rfl)
theorem dX8_next_234 : decode cX8_next 234 = .ok (.iconst 1, 1) := dk_4 (dk_at dksX8_next_9 19 rfl rfl)
theorem dX8_next_235 : decode cX8_next 235 = .ok (.iadd, 1) := dk_96 (dk_at dksX8_next_9 20 rfl rfl)
theorem dX8_next_236 : decode cX8_next 236 = .ok (.putfield 51, 3) := dk_181 0 51 (dk_at dksX8_next_9 21 rfl rfl)
theorem dX8_next_239 : decode cX8_next 239 = .ok (.aload_n 0, 1) := dk_42 (dk_at dksX8_next_10 0 rfl rfl)
theorem dX8_next_240 : decode cX8_next 240 = .ok (.ldc 70, 2) := dk_18 70 (dk_at dksX8_next_10 1 rfl rfl)
theorem dX8_next_242 : decode cX8_next 242 = .ok (.aload_n 0, 1) := dk_42 (dk_at dksX8_next_10 3 rfl rfl)
theorem dX8_next_243 : decode cX8_next 243 = .ok (.getfield 40, 3) := dk_180 0 40 (dk_at dksX8_next_10 4 rfl rfl)
theorem dX8_next_246 : decode cX8_next 246 = .ok (.aload_n 0, 1) := dk_42 (dk_at dksX8_next_10 7 rfl rfl)
theorem dX8_next_247 : decode cX8_next 247 = .ok (.getfield 54, 3) := dk_180 0 54 (dk_at dksX8_next_10 8 rfl rfl)
theorem dX8_next_250 : decode cX8_next 250 = .ok (.baload, 1) := dk_51 (dk_at dksX8_next_10 11 rfl rfl)
theorem dX8_next_251 : decode cX8_next 251 = .ok (.invokevirtual 72, 3) := dk_182 0 72 (dk_at dksX8_next_10 12 rfl rfl)
theorem dX8_next_254 : decode cX8_next 254 = .ok (.ifCond .lt 7, 3) := dk_155 0 7 (dk_at dksX8_next_10 15 rfl rfl)
theorem dX8_next_257 : decode cX8_next 257 = .ok (.iconst 3, 1) := dk_6 (dk_at dksX8_next_10 18 rfl rfl)
theorem dX8_next_258 : decode cX8_next 258 = .ok (.goto 4, 3) := dk_167 0 4 (dk_at dksX8_next_10 19 rfl rfl)
theorem dX8_next_261 : decode cX8_next 261 = .ok (.iconst 4, 1) := dk_7 (dk_at dksX8_next_10 22 rfl rfl)
theorem dX8_next_262 : decode cX8_next 262 = .ok (.putfield 57, 3) := dk_181 0 57 (dk_at dksX8_next_11 0 rfl rfl)
theorem dX8_next_265 : decode cX8_next 265 = .ok (.return_, 1) := dk_177 (dk_at dksX8_next_11 3 rfl rfl)
abbrev cX8_isSmall : ByteArray := prog_31_method_2_code
def yX8_isSmall : MethodName := ⟨RX8, "isSmall", "(I)Z"⟩
def dkwX8_isSmall_1 : List UInt8 := [51, 16, 122, 163, 0, 7, 4, 167, 0, 4, 3, 172]
abbrev dktX8_isSmall_1 : List UInt8 := dkwX8_isSmall_1 ++ []
def dkwX8_isSmall_0 : List UInt8 := [27, 42, 180, 0, 44, 162, 0, 29, 42, 180, 0, 40, 27, 51, 16, 97, 161, 0, 18, 42, 180, 0, 40, 27]
abbrev dktX8_isSmall_0 : List UInt8 := dkwX8_isSmall_0 ++ dktX8_isSmall_1
theorem dksX8_isSmall_0 : cX8_isSmall.data.toList.drop 0 = dktX8_isSmall_0 := by decide +kernel
theorem dksX8_isSmall_1 : cX8_isSmall.data.toList.drop 24 = dktX8_isSmall_1 := dk_seg dksX8_isSmall_0 24 rfl rfl
theorem dX8_isSmall_0 : decode cX8_isSmall 0 = .ok (.iload_n 1, 1) := dk_27 (dk_at dksX8_isSmall_0 0 rfl rfl)
theorem dX8_isSmall_1 : decode cX8_isSmall 1 = .ok (.aload_n 0, 1) := dk_42 (dk_at dksX8_isSmall_0 1 rfl rfl)
theorem dX8_isSmall_2 : decode cX8_isSmall 2 = .ok (.getfield 44, 3) := dk_180 0 44 (dk_at dksX8_isSmall_0 2 rfl rfl)
theorem dX8_isSmall_5 : decode cX8_isSmall 5 = .ok (.if_icmp .ge 29, 3) := dk_162 0 29 (dk_at dksX8_isSmall_0 5 rfl rfl)
theorem dX8_isSmall_8 : decode cX8_isSmall 8 = .ok (.aload_n 0, 1) := dk_42 (dk_at dksX8_isSmall_0 8 rfl rfl)
theorem dX8_isSmall_9 : decode cX8_isSmall 9 = .ok (.getfield 40, 3) := dk_180 0 40 (dk_at dksX8_isSmall_0 9 rfl rfl)
theorem dX8_isSmall_12 : decode cX8_isSmall 12 = .ok (.iload_n 1, 1) := dk_27 (dk_at dksX8_isSmall_0 12 rfl rfl)
theorem dX8_isSmall_13 : decode cX8_isSmall 13 = .ok (.baload, 1) := dk_51 (dk_at dksX8_isSmall_0 13 rfl rfl)
theorem dX8_isSmall_14 : decode cX8_isSmall 14 = .ok (.bipush 97, 2) := dk_16 97 (dk_at dksX8_isSmall_0 14 rfl rfl)
theorem dX8_isSmall_16 : decode cX8_isSmall 16 = .ok (.if_icmp .lt 18, 3) := dk_161 0 18 (dk_at dksX8_isSmall_0 16 rfl rfl)
theorem dX8_isSmall_19 : decode cX8_isSmall 19 = .ok (.aload_n 0, 1) := dk_42 (dk_at dksX8_isSmall_0 19 rfl rfl)
theorem dX8_isSmall_20 : decode cX8_isSmall 20 = .ok (.getfield 40, 3) := dk_180 0 40 (dk_at dksX8_isSmall_0 20 rfl rfl)
theorem dX8_isSmall_23 : decode cX8_isSmall 23 = .ok (.iload_n 1, 1) := dk_27 (dk_at dksX8_isSmall_0 23 rfl rfl)
theorem dX8_isSmall_24 : decode cX8_isSmall 24 = .ok (.baload, 1) := dk_51 (dk_at dksX8_isSmall_1 0 rfl rfl)
theorem dX8_isSmall_25 : decode cX8_isSmall 25 = .ok (.bipush 122, 2) := dk_16 122 (dk_at dksX8_isSmall_1 1 rfl rfl)
theorem dX8_isSmall_27 : decode cX8_isSmall 27 = .ok (.if_icmp .gt 7, 3) := dk_163 0 7 (dk_at dksX8_isSmall_1 3 rfl rfl)
theorem dX8_isSmall_30 : decode cX8_isSmall 30 = .ok (.iconst 1, 1) := dk_4 (dk_at dksX8_isSmall_1 6 rfl rfl)
theorem dX8_isSmall_31 : decode cX8_isSmall 31 = .ok (.goto 4, 3) := dk_167 0 4 (dk_at dksX8_isSmall_1 7 rfl rfl)
theorem dX8_isSmall_34 : decode cX8_isSmall 34 = .ok (.iconst 0, 1) := dk_3 (dk_at dksX8_isSmall_1 10 rfl rfl)
theorem dX8_isSmall_35 : decode cX8_isSmall 35 = .ok (.ireturn, 1) := dk_172 (dk_at dksX8_isSmall_1 11 rfl rfl)
abbrev cX8_isDigit : ByteArray := prog_31_method_3_code
def yX8_isDigit : MethodName := ⟨RX8, "isDigit", "(I)Z"⟩
def dkwX8_isDigit_1 : List UInt8 := [51, 16, 57, 163, 0, 7, 4, 167, 0, 4, 3, 172]
abbrev dktX8_isDigit_1 : List UInt8 := dkwX8_isDigit_1 ++ []
def dkwX8_isDigit_0 : List UInt8 := [27, 42, 180, 0, 44, 162, 0, 29, 42, 180, 0, 40, 27, 51, 16, 48, 161, 0, 18, 42, 180, 0, 40, 27]
abbrev dktX8_isDigit_0 : List UInt8 := dkwX8_isDigit_0 ++ dktX8_isDigit_1
theorem dksX8_isDigit_0 : cX8_isDigit.data.toList.drop 0 = dktX8_isDigit_0 := by decide +kernel
theorem dksX8_isDigit_1 : cX8_isDigit.data.toList.drop 24 = dktX8_isDigit_1 := dk_seg dksX8_isDigit_0 24 rfl rfl
theorem dX8_isDigit_0 : decode cX8_isDigit 0 = .ok (.iload_n 1, 1) := dk_27 (dk_at dksX8_isDigit_0 0 rfl rfl)
theorem dX8_isDigit_1 : decode cX8_isDigit 1 = .ok (.aload_n 0, 1) := dk_42 (dk_at dksX8_isDigit_0 1 rfl rfl)
theorem dX8_isDigit_2 : decode cX8_isDigit 2 = .ok (.getfield 44, 3) := dk_180 0 44 (dk_at dksX8_isDigit_0 2 rfl rfl)
theorem dX8_isDigit_5 : decode cX8_isDigit 5 = .ok (.if_icmp .ge 29, 3) := dk_162 0 29 (dk_at dksX8_isDigit_0 5 rfl rfl)
theorem dX8_isDigit_8 : decode cX8_isDigit 8 = .ok (.aload_n 0, 1) := dk_42 (dk_at dksX8_isDigit_0 8 rfl rfl)
theorem dX8_isDigit_9 : decode cX8_isDigit 9 = .ok (.getfield 40, 3) := dk_180 0 40 (dk_at dksX8_isDigit_0 9 rfl rfl)
theorem dX8_isDigit_12 : decode cX8_isDigit 12 = .ok (.iload_n 1, 1) := dk_27 (dk_at dksX8_isDigit_0 12 rfl rfl)
theorem dX8_isDigit_13 : decode cX8_isDigit 13 = .ok (.baload, 1) := dk_51 (dk_at dksX8_isDigit_0 13 rfl rfl)
theorem dX8_isDigit_14 : decode cX8_isDigit 14 = .ok (.bipush 48, 2) := dk_16 48 (dk_at dksX8_isDigit_0 14 rfl rfl)
theorem dX8_isDigit_16 : decode cX8_isDigit 16 = .ok (.if_icmp .lt 18, 3) := dk_161 0 18 (dk_at dksX8_isDigit_0 16 rfl rfl)
theorem dX8_isDigit_19 : decode cX8_isDigit 19 = .ok (.aload_n 0, 1) := dk_42 (dk_at dksX8_isDigit_0 19 rfl rfl)
theorem dX8_isDigit_20 : decode cX8_isDigit 20 = .ok (.getfield 40, 3) := dk_180 0 40 (dk_at dksX8_isDigit_0 20 rfl rfl)
theorem dX8_isDigit_23 : decode cX8_isDigit 23 = .ok (.iload_n 1, 1) := dk_27 (dk_at dksX8_isDigit_0 23 rfl rfl)
theorem dX8_isDigit_24 : decode cX8_isDigit 24 = .ok (.baload, 1) := dk_51 (dk_at dksX8_isDigit_1 0 rfl rfl)
theorem dX8_isDigit_25 : decode cX8_isDigit 25 = .ok (.bipush 57, 2) := dk_16 57 (dk_at dksX8_isDigit_1 1 rfl rfl)
theorem dX8_isDigit_27 : decode cX8_isDigit 27 = .ok (.if_icmp .gt 7, 3) := dk_163 0 7 (dk_at dksX8_isDigit_1 3 rfl rfl)
theorem dX8_isDigit_30 : decode cX8_isDigit 30 = .ok (.iconst 1, 1) := dk_4 (dk_at dksX8_isDigit_1 6 rfl rfl)
theorem dX8_isDigit_31 : decode cX8_isDigit 31 = .ok (.goto 4, 3) := dk_167 0 4 (dk_at dksX8_isDigit_1 7 rfl rfl)
theorem dX8_isDigit_34 : decode cX8_isDigit 34 = .ok (.iconst 0, 1) := dk_3 (dk_at dksX8_isDigit_1 10 rfl rfl)
theorem dX8_isDigit_35 : decode cX8_isDigit 35 = .ok (.ireturn, 1) := dk_172 (dk_at dksX8_isDigit_1 11 rfl rfl)
abbrev cX8_all : ByteArray := prog_31_method_24_code
def yX8_all : MethodName := ⟨RX8, "all", "()LNapkinDeeds$Napkin;"⟩
def dkwX8_all_1 : List UInt8 := [42, 16, 59, 182, 0, 137, 167, 255, 226, 42, 180, 0, 36, 176]
abbrev dktX8_all_1 : List UInt8 := dkwX8_all_1 ++ []
def dkwX8_all_0 : List UInt8 := [42, 180, 0, 57, 153, 0, 29, 42, 182, 0, 247, 42, 180, 0, 36, 89, 180, 0, 250, 4, 96, 181, 0, 250]
abbrev dktX8_all_0 : List UInt8 := dkwX8_all_0 ++ dktX8_all_1
theorem dksX8_all_0 : cX8_all.data.toList.drop 0 = dktX8_all_0 := by decide +kernel
theorem dksX8_all_1 : cX8_all.data.toList.drop 24 = dktX8_all_1 := dk_seg dksX8_all_0 24 rfl rfl
theorem dX8_all_0 : decode cX8_all 0 = .ok (.aload_n 0, 1) := dk_42 (dk_at dksX8_all_0 0 rfl rfl)
theorem dX8_all_1 : decode cX8_all 1 = .ok (.getfield 57, 3) := dk_180 0 57 (dk_at dksX8_all_0 1 rfl rfl)
theorem dX8_all_4 : decode cX8_all 4 = .ok (.ifCond .eq 29, 3) := dk_153 0 29 (dk_at dksX8_all_0 4 rfl rfl)
theorem dX8_all_7 : decode cX8_all 7 = .ok (.aload_n 0, 1) := dk_42 (dk_at dksX8_all_0 7 rfl rfl)
theorem dX8_all_8 : decode cX8_all 8 = .ok (.invokevirtual 247, 3) := dk_182 0 247 (dk_at dksX8_all_0 8 rfl rfl)
theorem dX8_all_11 : decode cX8_all 11 = .ok (.aload_n 0, 1) := dk_42 (dk_at dksX8_all_0 11 rfl rfl)
theorem dX8_all_12 : decode cX8_all 12 = .ok (.getfield 36, 3) := dk_180 0 36 (dk_at dksX8_all_0 12 rfl rfl)
theorem dX8_all_15 : decode cX8_all 15 = .ok (.dup, 1) := dk_89 (dk_at dksX8_all_0 15 rfl rfl)
theorem dX8_all_16 : decode cX8_all 16 = .ok (.getfield 250, 3) := dk_180 0 250 (dk_at dksX8_all_0 16 rfl rfl)
theorem dX8_all_19 : decode cX8_all 19 = .ok (.iconst 1, 1) := dk_4 (dk_at dksX8_all_0 19 rfl rfl)
theorem dX8_all_20 : decode cX8_all 20 = .ok (.iadd, 1) := dk_96 (dk_at dksX8_all_0 20 rfl rfl)
theorem dX8_all_21 : decode cX8_all 21 = .ok (.putfield 250, 3) := dk_181 0 250 (dk_at dksX8_all_0 21 rfl rfl)
theorem dX8_all_24 : decode cX8_all 24 = .ok (.aload_n 0, 1) := dk_42 (dk_at dksX8_all_1 0 rfl rfl)
theorem dX8_all_25 : decode cX8_all 25 = .ok (.bipush 59, 2) := dk_16 59 (dk_at dksX8_all_1 1 rfl rfl)
theorem dX8_all_27 : decode cX8_all 27 = .ok (.invokevirtual 137, 3) := dk_182 0 137 (dk_at dksX8_all_1 3 rfl rfl)
theorem dX8_all_30 : decode cX8_all 30 = .ok (.goto (-30), 3) := dk_167 255 226 (dk_at dksX8_all_1 6 rfl rfl)
theorem dX8_all_33 : decode cX8_all 33 = .ok (.aload_n 0, 1) := dk_42 (dk_at dksX8_all_1 9 rfl rfl)
theorem dX8_all_34 : decode cX8_all 34 = .ok (.getfield 36, 3) := dk_180 0 36 (dk_at dksX8_all_1 10 rfl rfl)
theorem dX8_all_37 : decode cX8_all 37 = .ok (.areturn, 1) := dk_176 (dk_at dksX8_all_1 13 rfl rfl)
abbrev cX8_line : ByteArray := prog_31_method_23_code
def yX8_line : MethodName := ⟨RX8, "line", "()V"⟩
def dkwX8_line_9 : List UInt8 := [42, 180, 0, 36, 42, 182, 0, 133, 181, 0, 245, 167, 0, 8, 42, 182, 0, 94, 191, 177]
abbrev dktX8_line_9 : List UInt8 := dkwX8_line_9 ++ []
def dkwX8_line_8 : List UInt8 := [182, 0, 173, 181, 0, 240, 167, 0, 37, 42, 18, 243, 182, 0, 91, 153, 0, 23, 42, 16, 8, 182, 0, 232]
abbrev dktX8_line_8 : List UInt8 := dkwX8_line_8 ++ dktX8_line_9
def dkwX8_line_7 : List UInt8 := [167, 0, 66, 42, 18, 238, 182, 0, 91, 153, 0, 23, 42, 16, 6, 182, 0, 232, 42, 180, 0, 36, 42]
abbrev dktX8_line_7 : List UInt8 := dkwX8_line_7 ++ dktX8_line_8
def dkwX8_line_6 : List UInt8 := [182, 0, 91, 153, 0, 23, 42, 16, 6, 182, 0, 232, 42, 180, 0, 36, 42, 182, 0, 133, 181, 0, 235]
abbrev dktX8_line_6 : List UInt8 := dkwX8_line_6 ++ dktX8_line_7
def dkwX8_line_5 : List UInt8 := [180, 0, 225, 42, 3, 16, 99, 182, 0, 118, 184, 0, 205, 182, 0, 211, 87, 167, 0, 95, 42, 18, 230]
abbrev dktX8_line_5 : List UInt8 := dkwX8_line_5 ++ dktX8_line_6
def dkwX8_line_4 : List UInt8 := [180, 0, 225, 182, 0, 228, 7, 160, 0, 7, 4, 167, 0, 4, 3, 182, 0, 112, 42, 180, 0, 36]
abbrev dktX8_line_4 : List UInt8 := dkwX8_line_4 ++ dktX8_line_5
def dkwX8_line_3 : List UInt8 := [184, 0, 205, 182, 0, 211, 87, 167, 0, 151, 42, 18, 23, 182, 0, 84, 153, 0, 50, 42, 42, 180, 0, 36]
abbrev dktX8_line_3 : List UInt8 := dkwX8_line_3 ++ dktX8_line_4
def dkwX8_line_2 : List UInt8 := [182, 0, 211, 87, 42, 18, 217, 182, 0, 219, 42, 180, 0, 36, 180, 0, 222, 42, 3, 16, 99, 182, 0, 118]
abbrev dktX8_line_2 : List UInt8 := dkwX8_line_2 ++ dktX8_line_3
def dkwX8_line_1 : List UInt8 := [167, 0, 4, 3, 182, 0, 112, 42, 180, 0, 36, 180, 0, 201, 42, 3, 16, 99, 182, 0, 118, 184, 0, 205]
abbrev dktX8_line_1 : List UInt8 := dkwX8_line_1 ++ dktX8_line_2
def dkwX8_line_0 : List UInt8 := [42, 18, 196, 182, 0, 84, 153, 0, 75, 42, 42, 180, 0, 36, 182, 0, 198, 16, 6, 160, 0, 7, 4]
abbrev dktX8_line_0 : List UInt8 := dkwX8_line_0 ++ dktX8_line_1
theorem dksX8_line_0 : cX8_line.data.toList.drop 0 = dktX8_line_0 := by decide +kernel
theorem dksX8_line_1 : cX8_line.data.toList.drop 23 = dktX8_line_1 := dk_seg dksX8_line_0 23 rfl rfl
theorem dksX8_line_2 : cX8_line.data.toList.drop 47 = dktX8_line_2 := dk_seg dksX8_line_1 24 rfl rfl
theorem dksX8_line_3 : cX8_line.data.toList.drop 71 = dktX8_line_3 := dk_seg dksX8_line_2 24 rfl rfl
theorem dksX8_line_4 : cX8_line.data.toList.drop 95 = dktX8_line_4 := dk_seg dksX8_line_3 24 rfl rfl
theorem dksX8_line_5 : cX8_line.data.toList.drop 117 = dktX8_line_5 := dk_seg dksX8_line_4 22 rfl rfl
theorem dksX8_line_6 : cX8_line.data.toList.drop 140 = dktX8_line_6 := dk_seg dksX8_line_5 23 rfl rfl
theorem dksX8_line_7 : cX8_line.data.toList.drop 163 = dktX8_line_7 := dk_seg dksX8_line_6 23 rfl rfl
theorem dksX8_line_8 : cX8_line.data.toList.drop 186 = dktX8_line_8 := dk_seg dksX8_line_7 23 rfl rfl
theorem dksX8_line_9 : cX8_line.data.toList.drop 210 = dktX8_line_9 := dk_seg dksX8_line_8 24 rfl rfl
theorem dX8_line_0 : decode cX8_line 0 = .ok (.aload_n 0, 1) := dk_42 (dk_at dksX8_line_0 0 rfl rfl)
theorem dX8_line_1 : decode cX8_line 1 = .ok (.ldc 196, 2) := dk_18 196 (dk_at dksX8_line_0 1 rfl rfl)
theorem dX8_line_3 : decode cX8_line 3 = .ok (.invokevirtual 84, 3) := dk_182 0 84 (dk_at dksX8_line_0 3 rfl rfl)
theorem dX8_line_6 : decode cX8_line 6 = .ok (.ifCond .eq 75, 3) := dk_153 0 75 (dk_at dksX8_line_0 6 rfl rfl)
theorem dX8_line_9 : decode cX8_line 9 = .ok (.aload_n 0, 1) := dk_42 (dk_at dksX8_line_0 9 rfl rfl)
theorem dX8_line_10 : decode cX8_line 10 = .ok (.aload_n 0, 1) := dk_42 (dk_at dksX8_line_0 10 rfl rfl)
theorem dX8_line_11 : decode cX8_line 11 = .ok (.getfield 36, 3) := dk_180 0 36 (dk_at dksX8_line_0 11 rfl rfl)
theorem dX8_line_14 : decode cX8_line 14 = .ok (.invokevirtual 198, 3) := dk_182 0 198 (dk_at dksX8_line_0 14 rfl rfl)
theorem dX8_line_17 : decode cX8_line 17 = .ok (.bipush 6, 2) := dk_16 6 (dk_at dksX8_line_0 17 rfl rfl)
theorem dX8_line_19 : decode cX8_line 19 = .ok (.if_icmp .ne 7, 3) := dk_160 0 7 (dk_at dksX8_line_0 19 rfl rfl)
theorem dX8_line_22 : decode cX8_line 22 = .ok (.iconst 1, 1) := dk_4 (dk_at dksX8_line_0 22 rfl rfl)
theorem dX8_line_23 : decode cX8_line 23 = .ok (.goto 4, 3) := dk_167 0 4 (dk_at dksX8_line_1 0 rfl rfl)
theorem dX8_line_26 : decode cX8_line 26 = .ok (.iconst 0, 1) := dk_3 (dk_at dksX8_line_1 3 rfl rfl)
theorem dX8_line_27 : decode cX8_line 27 = .ok (.invokevirtual 112, 3) := dk_182 0 112 (dk_at dksX8_line_1 4 rfl rfl)
theorem dX8_line_30 : decode cX8_line 30 = .ok (.aload_n 0, 1) := dk_42 (dk_at dksX8_line_1 7 rfl rfl)
theorem dX8_line_31 : decode cX8_line 31 = .ok (.getfield 36, 3) := dk_180 0 36 (dk_at dksX8_line_1 8 rfl rfl)
theorem dX8_line_34 : decode cX8_line 34 = .ok (.getfield 201, 3) := dk_180 0 201 (dk_at dksX8_line_1 11 rfl rfl)
theorem dX8_line_37 : decode cX8_line 37 = .ok (.aload_n 0, 1) := dk_42 (dk_at dksX8_line_1 14 rfl rfl)
theorem dX8_line_38 : decode cX8_line 38 = .ok (.iconst 0, 1) := dk_3 (dk_at dksX8_line_1 15 rfl rfl)
theorem dX8_line_39 : decode cX8_line 39 = .ok (.bipush 99, 2) := dk_16 99 (dk_at dksX8_line_1 16 rfl rfl)
theorem dX8_line_41 : decode cX8_line 41 = .ok (.invokevirtual 118, 3) := dk_182 0 118 (dk_at dksX8_line_1 18 rfl rfl)
theorem dX8_line_44 : decode cX8_line 44 = .ok (.invokestatic 205, 3) := dk_184 0 205 (dk_at dksX8_line_1 21 rfl rfl)
theorem dX8_line_47 : decode cX8_line 47 = .ok (.invokevirtual 211, 3) := dk_182 0 211 (dk_at dksX8_line_2 0 rfl rfl)
theorem dX8_line_50 : decode cX8_line 50 = .ok (.pop, 1) := dk_87 (dk_at dksX8_line_2 3 rfl rfl)
theorem dX8_line_51 : decode cX8_line 51 = .ok (.aload_n 0, 1) := dk_42 (dk_at dksX8_line_2 4 rfl rfl)
theorem dX8_line_52 : decode cX8_line 52 = .ok (.ldc 217, 2) := dk_18 217 (dk_at dksX8_line_2 5 rfl rfl)
theorem dX8_line_54 : decode cX8_line 54 = .ok (.invokevirtual 219, 3) := dk_182 0 219 (dk_at dksX8_line_2 7 rfl rfl)
theorem dX8_line_57 : decode cX8_line 57 = .ok (.aload_n 0, 1) := dk_42 (dk_at dksX8_line_2 10 rfl rfl)
theorem dX8_line_58 : decode cX8_line 58 = .ok (.getfield 36, 3) := dk_180 0 36 (dk_at dksX8_line_2 11 rfl rfl)
theorem dX8_line_61 : decode cX8_line 61 = .ok (.getfield 222, 3) := dk_180 0 222 (dk_at dksX8_line_2 14 rfl rfl)
theorem dX8_line_64 : decode cX8_line 64 = .ok (.aload_n 0, 1) := dk_42 (dk_at dksX8_line_2 17 rfl rfl)
theorem dX8_line_65 : decode cX8_line 65 = .ok (.iconst 0, 1) := dk_3 (dk_at dksX8_line_2 18 rfl rfl)
theorem dX8_line_66 : decode cX8_line 66 = .ok (.bipush 99, 2) := dk_16 99 (dk_at dksX8_line_2 19 rfl rfl)
theorem dX8_line_68 : decode cX8_line 68 = .ok (.invokevirtual 118, 3) := dk_182 0 118 (dk_at dksX8_line_2 21 rfl rfl)
theorem dX8_line_71 : decode cX8_line 71 = .ok (.invokestatic 205, 3) := dk_184 0 205 (dk_at dksX8_line_3 0 rfl rfl)
theorem dX8_line_74 : decode cX8_line 74 = .ok (.invokevirtual 211, 3) := dk_182 0 211 (dk_at dksX8_line_3 3 rfl rfl)
theorem dX8_line_77 : decode cX8_line 77 = .ok (.pop, 1) := dk_87 (dk_at dksX8_line_3 6 rfl rfl)
theorem dX8_line_78 : decode cX8_line 78 = .ok (.goto 151, 3) := dk_167 0 151 (dk_at dksX8_line_3 7 rfl rfl)
theorem dX8_line_81 : decode cX8_line 81 = .ok (.aload_n 0, 1) := dk_42 (dk_at dksX8_line_3 10 rfl rfl)
theorem dX8_line_82 : decode cX8_line 82 = .ok (.ldc 23, 2) := dk_18 23 (dk_at dksX8_line_3 11 rfl rfl)
theorem dX8_line_84 : decode cX8_line 84 = .ok (.invokevirtual 84, 3) := dk_182 0 84 (dk_at dksX8_line_3 13 rfl rfl)
theorem dX8_line_87 : decode cX8_line 87 = .ok (.ifCond .eq 50, 3) := dk_153 0 50 (dk_at dksX8_line_3 16 rfl rfl)
theorem dX8_line_90 : decode cX8_line 90 = .ok (.aload_n 0, 1) := dk_42 (dk_at dksX8_line_3 19 rfl rfl)
theorem dX8_line_91 : decode cX8_line 91 = .ok (.aload_n 0, 1) := dk_42 (dk_at dksX8_line_3 20 rfl rfl)
theorem dX8_line_92 : decode cX8_line 92 = .ok (.getfield 36, 3) := dk_180 0 36 (dk_at dksX8_line_3 21 rfl rfl)
theorem dX8_line_95 : decode cX8_line 95 = .ok (.getfield 225, 3) := dk_180 0 225 (dk_at dksX8_line_4 0 rfl rfl)
theorem dX8_line_98 : decode cX8_line 98 = .ok (.invokevirtual 228, 3) := dk_182 0 228 (dk_at dksX8_line_4 3 rfl rfl)
theorem dX8_line_101 : decode cX8_line 101 = .ok (.iconst 4, 1) := dk_7 (dk_at dksX8_line_4 6 rfl rfl)
theorem dX8_line_102 : decode cX8_line 102 = .ok (.if_icmp .ne 7, 3) := dk_160 0 7 (dk_at dksX8_line_4 7 rfl rfl)
theorem dX8_line_105 : decode cX8_line 105 = .ok (.iconst 1, 1) := dk_4 (dk_at dksX8_line_4 10 rfl rfl)
theorem dX8_line_106 : decode cX8_line 106 = .ok (.goto 4, 3) := dk_167 0 4 (dk_at dksX8_line_4 11 rfl rfl)
theorem dX8_line_109 : decode cX8_line 109 = .ok (.iconst 0, 1) := dk_3 (dk_at dksX8_line_4 14 rfl rfl)
theorem dX8_line_110 : decode cX8_line 110 = .ok (.invokevirtual 112, 3) := dk_182 0 112 (dk_at dksX8_line_4 15 rfl rfl)
theorem dX8_line_113 : decode cX8_line 113 = .ok (.aload_n 0, 1) := dk_42 (dk_at dksX8_line_4 18 rfl rfl)
theorem dX8_line_114 : decode cX8_line 114 = .ok (.getfield 36, 3) := dk_180 0 36 (dk_at dksX8_line_4 19 rfl rfl)
theorem dX8_line_117 : decode cX8_line 117 = .ok (.getfield 225, 3) := dk_180 0 225 (dk_at dksX8_line_5 0 rfl rfl)
theorem dX8_line_120 : decode cX8_line 120 = .ok (.aload_n 0, 1) := dk_42 (dk_at dksX8_line_5 3 rfl rfl)
theorem dX8_line_121 : decode cX8_line 121 = .ok (.iconst 0, 1) := dk_3 (dk_at dksX8_line_5 4 rfl rfl)
theorem dX8_line_122 : decode cX8_line 122 = .ok (.bipush 99, 2) := dk_16 99 (dk_at dksX8_line_5 5 rfl rfl)
theorem dX8_line_124 : decode cX8_line 124 = .ok (.invokevirtual 118, 3) := dk_182 0 118 (dk_at dksX8_line_5 7 rfl rfl)
theorem dX8_line_127 : decode cX8_line 127 = .ok (.invokestatic 205, 3) := dk_184 0 205 (dk_at dksX8_line_5 10 rfl rfl)
theorem dX8_line_130 : decode cX8_line 130 = .ok (.invokevirtual 211, 3) := dk_182 0 211 (dk_at dksX8_line_5 13 rfl rfl)
theorem dX8_line_133 : decode cX8_line 133 = .ok (.pop, 1) := dk_87 (dk_at dksX8_line_5 16 rfl rfl)
theorem dX8_line_134 : decode cX8_line 134 = .ok (.goto 95, 3) := dk_167 0 95 (dk_at dksX8_line_5 17 rfl rfl)
theorem dX8_line_137 : decode cX8_line 137 = .ok (.aload_n 0, 1) := dk_42 (dk_at dksX8_line_5 20 rfl rfl)
theorem dX8_line_138 : decode cX8_line 138 = .ok (.ldc 230, 2) := dk_18 230 (dk_at dksX8_line_5 21 rfl rfl)
theorem dX8_line_140 : decode cX8_line 140 = .ok (.invokevirtual 91, 3) := dk_182 0 91 (dk_at dksX8_line_6 0 rfl rfl)
theorem dX8_line_143 : decode cX8_line 143 = .ok (.ifCond .eq 23, 3) := dk_153 0 23 (dk_at dksX8_line_6 3 rfl rfl)
theorem dX8_line_146 : decode cX8_line 146 = .ok (.aload_n 0, 1) := dk_42 (dk_at dksX8_line_6 6 rfl rfl)
theorem dX8_line_147 : decode cX8_line 147 = .ok (.bipush 6, 2) := dk_16 6 (dk_at dksX8_line_6 7 rfl rfl)
theorem dX8_line_149 : decode cX8_line 149 = .ok (.invokevirtual 232, 3) := dk_182 0 232 (dk_at dksX8_line_6 9 rfl rfl)
theorem dX8_line_152 : decode cX8_line 152 = .ok (.aload_n 0, 1) := dk_42 (dk_at dksX8_line_6 12 rfl rfl)
theorem dX8_line_153 : decode cX8_line 153 = .ok (.getfield 36, 3) := dk_180 0 36 (dk_at dksX8_line_6 13 rfl rfl)
theorem dX8_line_156 : decode cX8_line 156 = .ok (.aload_n 0, 1) := dk_42 (dk_at dksX8_line_6 16 rfl rfl)
theorem dX8_line_157 : decode cX8_line 157 = .ok (.invokevirtual 133, 3) := dk_182 0 133 (dk_at dksX8_line_6 17 rfl rfl)
theorem dX8_line_160 : decode cX8_line 160 = .ok (.putfield 235, 3) := dk_181 0 235 (dk_at dksX8_line_6 20 rfl rfl)
theorem dX8_line_163 : decode cX8_line 163 = .ok (.goto 66, 3) := dk_167 0 66 (dk_at dksX8_line_7 0 rfl rfl)
theorem dX8_line_166 : decode cX8_line 166 = .ok (.aload_n 0, 1) := dk_42 (dk_at dksX8_line_7 3 rfl rfl)
theorem dX8_line_167 : decode cX8_line 167 = .ok (.ldc 238, 2) := dk_18 238 (dk_at dksX8_line_7 4 rfl rfl)
theorem dX8_line_169 : decode cX8_line 169 = .ok (.invokevirtual 91, 3) := dk_182 0 91 (dk_at dksX8_line_7 6 rfl rfl)
theorem dX8_line_172 : decode cX8_line 172 = .ok (.ifCond .eq 23, 3) := dk_153 0 23 (dk_at dksX8_line_7 9 rfl rfl)
theorem dX8_line_175 : decode cX8_line 175 = .ok (.aload_n 0, 1) := dk_42 (dk_at dksX8_line_7 12 rfl rfl)
theorem dX8_line_176 : decode cX8_line 176 = .ok (.bipush 6, 2) := dk_16 6 (dk_at dksX8_line_7 13 rfl rfl)
theorem dX8_line_178 : decode cX8_line 178 = .ok (.invokevirtual 232, 3) := dk_182 0 232 (dk_at dksX8_line_7 15 rfl rfl)
theorem dX8_line_181 : decode cX8_line 181 = .ok (.aload_n 0, 1) := dk_42 (dk_at dksX8_line_7 18 rfl rfl)
theorem dX8_line_182 : decode cX8_line 182 = .ok (.getfield 36, 3) := dk_180 0 36 (dk_at dksX8_line_7 19 rfl rfl)
theorem dX8_line_185 : decode cX8_line 185 = .ok (.aload_n 0, 1) := dk_42 (dk_at dksX8_line_7 22 rfl rfl)
theorem dX8_line_186 : decode cX8_line 186 = .ok (.invokevirtual 173, 3) := dk_182 0 173 (dk_at dksX8_line_8 0 rfl rfl)
theorem dX8_line_189 : decode cX8_line 189 = .ok (.putfield 240, 3) := dk_181 0 240 (dk_at dksX8_line_8 3 rfl rfl)
theorem dX8_line_192 : decode cX8_line 192 = .ok (.goto 37, 3) := dk_167 0 37 (dk_at dksX8_line_8 6 rfl rfl)
theorem dX8_line_195 : decode cX8_line 195 = .ok (.aload_n 0, 1) := dk_42 (dk_at dksX8_line_8 9 rfl rfl)
theorem dX8_line_196 : decode cX8_line 196 = .ok (.ldc 243, 2) := dk_18 243 (dk_at dksX8_line_8 10 rfl rfl)
theorem dX8_line_198 : decode cX8_line 198 = .ok (.invokevirtual 91, 3) := dk_182 0 91 (dk_at dksX8_line_8 12 rfl rfl)
theorem dX8_line_201 : decode cX8_line 201 = .ok (.ifCond .eq 23, 3) := dk_153 0 23 (dk_at dksX8_line_8 15 rfl rfl)
theorem dX8_line_204 : decode cX8_line 204 = .ok (.aload_n 0, 1) := dk_42 (dk_at dksX8_line_8 18 rfl rfl)
theorem dX8_line_205 : decode cX8_line 205 = .ok (.bipush 8, 2) := dk_16 8 (dk_at dksX8_line_8 19 rfl rfl)
theorem dX8_line_207 : decode cX8_line 207 = .ok (.invokevirtual 232, 3) := dk_182 0 232 (dk_at dksX8_line_8 21 rfl rfl)
theorem dX8_line_210 : decode cX8_line 210 = .ok (.aload_n 0, 1) := dk_42 (dk_at dksX8_line_9 0 rfl rfl)
theorem dX8_line_211 : decode cX8_line 211 = .ok (.getfield 36, 3) := dk_180 0 36 (dk_at dksX8_line_9 1 rfl rfl)
theorem dX8_line_214 : decode cX8_line 214 = .ok (.aload_n 0, 1) := dk_42 (dk_at dksX8_line_9 4 rfl rfl)
theorem dX8_line_215 : decode cX8_line 215 = .ok (.invokevirtual 133, 3) := dk_182 0 133 (dk_at dksX8_line_9 5 rfl rfl)
theorem dX8_line_218 : decode cX8_line 218 = .ok (.putfield 245, 3) := dk_181 0 245 (dk_at dksX8_line_9 8 rfl rfl)
theorem dX8_line_221 : decode cX8_line 221 = .ok (.goto 8, 3) := dk_167 0 8 (dk_at dksX8_line_9 11 rfl rfl)
theorem dX8_line_224 : decode cX8_line 224 = .ok (.aload_n 0, 1) := dk_42 (dk_at dksX8_line_9 14 rfl rfl)
theorem dX8_line_225 : decode cX8_line 225 = .ok (.invokevirtual 94, 3) := dk_182 0 94 (dk_at dksX8_line_9 15 rfl rfl)
theorem dX8_line_228 : decode cX8_line 228 = .ok (.athrow, 1) := dk_191 (dk_at dksX8_line_9 18 rfl rfl)
theorem dX8_line_229 : decode cX8_line 229 = .ok (.return_, 1) := dk_177 (dk_at dksX8_line_9 19 rfl rfl)
abbrev cX8_is : ByteArray := prog_31_method_5_code
def yX8_is : MethodName := ⟨RX8, "is", "(Ljava/lang/String;)Z"⟩
def dkwX8_is_2 : List UInt8 := [28, 182, 0, 80, 159, 0, 5, 3, 172, 132, 2, 1, 167, 255, 224, 4, 172]
abbrev dktX8_is_2 : List UInt8 := dkwX8_is_2 ++ []
def dkwX8_is_1 : List UInt8 := [3, 172, 3, 61, 28, 43, 182, 0, 76, 162, 0, 30, 42, 180, 0, 40, 42, 180, 0, 54, 28, 96, 51, 43]
abbrev dktX8_is_1 : List UInt8 := dkwX8_is_1 ++ dktX8_is_2
def dkwX8_is_0 : List UInt8 := [42, 180, 0, 57, 4, 160, 0, 19, 42, 180, 0, 51, 42, 180, 0, 54, 100, 43, 182, 0, 76, 159, 0, 5]
abbrev dktX8_is_0 : List UInt8 := dkwX8_is_0 ++ dktX8_is_1
theorem dksX8_is_0 : cX8_is.data.toList.drop 0 = dktX8_is_0 := by decide +kernel
theorem dksX8_is_1 : cX8_is.data.toList.drop 24 = dktX8_is_1 := dk_seg dksX8_is_0 24 rfl rfl
theorem dksX8_is_2 : cX8_is.data.toList.drop 48 = dktX8_is_2 := dk_seg dksX8_is_1 24 rfl rfl
theorem dX8_is_0 : decode cX8_is 0 = .ok (.aload_n 0, 1) := dk_42 (dk_at dksX8_is_0 0 rfl rfl)
theorem dX8_is_1 : decode cX8_is 1 = .ok (.getfield 57, 3) := dk_180 0 57 (dk_at dksX8_is_0 1 rfl rfl)
theorem dX8_is_4 : decode cX8_is 4 = .ok (.iconst 1, 1) := dk_4 (dk_at dksX8_is_0 4 rfl rfl)
theorem dX8_is_5 : decode cX8_is 5 = .ok (.if_icmp .ne 19, 3) := dk_160 0 19 (dk_at dksX8_is_0 5 rfl rfl)
theorem dX8_is_8 : decode cX8_is 8 = .ok (.aload_n 0, 1) := dk_42 (dk_at dksX8_is_0 8 rfl rfl)
theorem dX8_is_9 : decode cX8_is 9 = .ok (.getfield 51, 3) := dk_180 0 51 (dk_at dksX8_is_0 9 rfl rfl)
theorem dX8_is_12 : decode cX8_is 12 = .ok (.aload_n 0, 1) := dk_42 (dk_at dksX8_is_0 12 rfl rfl)
theorem dX8_is_13 : decode cX8_is 13 = .ok (.getfield 54, 3) := dk_180 0 54 (dk_at dksX8_is_0 13 rfl rfl)
theorem dX8_is_16 : decode cX8_is 16 = .ok (.isub, 1) := dk_100 (dk_at dksX8_is_0 16 rfl rfl)
theorem dX8_is_17 : decode cX8_is 17 = .ok (.aload_n 1, 1) := dk_43 (dk_at dksX8_is_0 17 rfl rfl)
theorem dX8_is_18 : decode cX8_is 18 = .ok (.invokevirtual 76, 3) := dk_182 0 76 (dk_at dksX8_is_0 18 rfl rfl)
theorem dX8_is_21 : decode cX8_is 21 = .ok (.if_icmp .eq 5, 3) := dk_159 0 5 (dk_at dksX8_is_0 21 rfl rfl)
theorem dX8_is_24 : decode cX8_is 24 = .ok (.iconst 0, 1) := dk_3 (dk_at dksX8_is_1 0 rfl rfl)
theorem dX8_is_25 : decode cX8_is 25 = .ok (.ireturn, 1) := dk_172 (dk_at dksX8_is_1 1 rfl rfl)
theorem dX8_is_26 : decode cX8_is 26 = .ok (.iconst 0, 1) := dk_3 (dk_at dksX8_is_1 2 rfl rfl)
theorem dX8_is_27 : decode cX8_is 27 = .ok (.istore_n 2, 1) := dk_61 (dk_at dksX8_is_1 3 rfl rfl)
theorem dX8_is_28 : decode cX8_is 28 = .ok (.iload_n 2, 1) := dk_28 (dk_at dksX8_is_1 4 rfl rfl)
theorem dX8_is_29 : decode cX8_is 29 = .ok (.aload_n 1, 1) := dk_43 (dk_at dksX8_is_1 5 rfl rfl)
theorem dX8_is_30 : decode cX8_is 30 = .ok (.invokevirtual 76, 3) := dk_182 0 76 (dk_at dksX8_is_1 6 rfl rfl)
theorem dX8_is_33 : decode cX8_is 33 = .ok (.if_icmp .ge 30, 3) := dk_162 0 30 (dk_at dksX8_is_1 9 rfl rfl)
theorem dX8_is_36 : decode cX8_is 36 = .ok (.aload_n 0, 1) := dk_42 (dk_at dksX8_is_1 12 rfl rfl)
theorem dX8_is_37 : decode cX8_is 37 = .ok (.getfield 40, 3) := dk_180 0 40 (dk_at dksX8_is_1 13 rfl rfl)
theorem dX8_is_40 : decode cX8_is 40 = .ok (.aload_n 0, 1) := dk_42 (dk_at dksX8_is_1 16 rfl rfl)
theorem dX8_is_41 : decode cX8_is 41 = .ok (.getfield 54, 3) := dk_180 0 54 (dk_at dksX8_is_1 17 rfl rfl)
theorem dX8_is_44 : decode cX8_is 44 = .ok (.iload_n 2, 1) := dk_28 (dk_at dksX8_is_1 20 rfl rfl)
theorem dX8_is_45 : decode cX8_is 45 = .ok (.iadd, 1) := dk_96 (dk_at dksX8_is_1 21 rfl rfl)
theorem dX8_is_46 : decode cX8_is 46 = .ok (.baload, 1) := dk_51 (dk_at dksX8_is_1 22 rfl rfl)
theorem dX8_is_47 : decode cX8_is 47 = .ok (.aload_n 1, 1) := dk_43 (dk_at dksX8_is_1 23 rfl rfl)
theorem dX8_is_48 : decode cX8_is 48 = .ok (.iload_n 2, 1) := dk_28 (dk_at dksX8_is_2 0 rfl rfl)
theorem dX8_is_49 : decode cX8_is 49 = .ok (.invokevirtual 80, 3) := dk_182 0 80 (dk_at dksX8_is_2 1 rfl rfl)
theorem dX8_is_52 : decode cX8_is 52 = .ok (.if_icmp .eq 5, 3) := dk_159 0 5 (dk_at dksX8_is_2 4 rfl rfl)
theorem dX8_is_55 : decode cX8_is 55 = .ok (.iconst 0, 1) := dk_3 (dk_at dksX8_is_2 7 rfl rfl)
theorem dX8_is_56 : decode cX8_is 56 = .ok (.ireturn, 1) := dk_172 (dk_at dksX8_is_2 8 rfl rfl)
theorem dX8_is_57 : decode cX8_is 57 = .ok (.iinc 2 1, 3) := dk_132 2 1 (dk_at dksX8_is_2 9 rfl rfl)
theorem dX8_is_60 : decode cX8_is 60 = .ok (.goto (-32), 3) := dk_167 255 224 (dk_at dksX8_is_2 12 rfl rfl)
theorem dX8_is_63 : decode cX8_is 63 = .ok (.iconst 1, 1) := dk_4 (dk_at dksX8_is_2 15 rfl rfl)
theorem dX8_is_64 : decode cX8_is 64 = .ok (.ireturn, 1) := dk_172 (dk_at dksX8_is_2 16 rfl rfl)
abbrev cX8_full : ByteArray := prog_31_method_13_code
def yX8_full : MethodName := ⟨RX8, "full", "(Z)V"⟩
def dkwX8_full_0 : List UInt8 := [27, 153, 0, 16, 187, 0, 100, 89, 7, 42, 180, 0, 54, 183, 0, 102, 191, 42, 182, 0, 48, 177]
abbrev dktX8_full_0 : List UInt8 := dkwX8_full_0 ++ []
theorem dksX8_full_0 : cX8_full.data.toList.drop 0 = dktX8_full_0 := by decide +kernel
theorem dX8_full_0 : decode cX8_full 0 = .ok (.iload_n 1, 1) := dk_27 (dk_at dksX8_full_0 0 rfl rfl)
theorem dX8_full_1 : decode cX8_full 1 = .ok (.ifCond .eq 16, 3) := dk_153 0 16 (dk_at dksX8_full_0 1 rfl rfl)
theorem dX8_full_4 : decode cX8_full 4 = .ok (.new 100, 3) := dk_187 0 100 (dk_at dksX8_full_0 4 rfl rfl)
theorem dX8_full_7 : decode cX8_full 7 = .ok (.dup, 1) := dk_89 (dk_at dksX8_full_0 7 rfl rfl)
theorem dX8_full_8 : decode cX8_full 8 = .ok (.iconst 4, 1) := dk_7 (dk_at dksX8_full_0 8 rfl rfl)
theorem dX8_full_9 : decode cX8_full 9 = .ok (.aload_n 0, 1) := dk_42 (dk_at dksX8_full_0 9 rfl rfl)
theorem dX8_full_10 : decode cX8_full 10 = .ok (.getfield 54, 3) := dk_180 0 54 (dk_at dksX8_full_0 10 rfl rfl)
theorem dX8_full_13 : decode cX8_full 13 = .ok (.invokespecial 102, 3) := dk_183 0 102 (dk_at dksX8_full_0 13 rfl rfl)
theorem dX8_full_16 : decode cX8_full 16 = .ok (.athrow, 1) := dk_191 (dk_at dksX8_full_0 16 rfl rfl)
theorem dX8_full_17 : decode cX8_full 17 = .ok (.aload_n 0, 1) := dk_42 (dk_at dksX8_full_0 17 rfl rfl)
theorem dX8_full_18 : decode cX8_full 18 = .ok (.invokevirtual 48, 3) := dk_182 0 48 (dk_at dksX8_full_0 18 rfl rfl)
theorem dX8_full_21 : decode cX8_full 21 = .ok (.return_, 1) := dk_177 (dk_at dksX8_full_0 21 rfl rfl)
abbrev cX8_number : ByteArray := prog_31_method_12_code
def yX8_number : MethodName := ⟨RX8, "number", "(II)I"⟩
def dkwX8_number_2 : List UInt8 := [42, 182, 0, 48, 29, 172]
abbrev dktX8_number_2 : List UInt8 := dkwX8_number_2 ++ []
def dkwX8_number_1 : List UInt8 := [184, 0, 105, 154, 0, 16, 187, 0, 100, 89, 6, 42, 180, 0, 54, 183, 0, 102, 191, 42, 180, 0, 67, 62]
abbrev dktX8_number_1 : List UInt8 := dkwX8_number_1 ++ dktX8_number_2
def dkwX8_number_0 : List UInt8 := [42, 180, 0, 57, 5, 159, 0, 8, 42, 182, 0, 94, 191, 42, 180, 0, 67, 133, 27, 133, 28, 133]
abbrev dktX8_number_0 : List UInt8 := dkwX8_number_0 ++ dktX8_number_1
theorem dksX8_number_0 : cX8_number.data.toList.drop 0 = dktX8_number_0 := by decide +kernel
theorem dksX8_number_1 : cX8_number.data.toList.drop 22 = dktX8_number_1 := dk_seg dksX8_number_0 22 rfl rfl
theorem dksX8_number_2 : cX8_number.data.toList.drop 46 = dktX8_number_2 := dk_seg dksX8_number_1 24 rfl rfl
theorem dX8_number_0 : decode cX8_number 0 = .ok (.aload_n 0, 1) := dk_42 (dk_at dksX8_number_0 0 rfl rfl)
theorem dX8_number_1 : decode cX8_number 1 = .ok (.getfield 57, 3) := dk_180 0 57 (dk_at dksX8_number_0 1 rfl rfl)
theorem dX8_number_4 : decode cX8_number 4 = .ok (.iconst 2, 1) := dk_5 (dk_at dksX8_number_0 4 rfl rfl)
theorem dX8_number_5 : decode cX8_number 5 = .ok (.if_icmp .eq 8, 3) := dk_159 0 8 (dk_at dksX8_number_0 5 rfl rfl)
theorem dX8_number_8 : decode cX8_number 8 = .ok (.aload_n 0, 1) := dk_42 (dk_at dksX8_number_0 8 rfl rfl)
theorem dX8_number_9 : decode cX8_number 9 = .ok (.invokevirtual 94, 3) := dk_182 0 94 (dk_at dksX8_number_0 9 rfl rfl)
theorem dX8_number_12 : decode cX8_number 12 = .ok (.athrow, 1) := dk_191 (dk_at dksX8_number_0 12 rfl rfl)
theorem dX8_number_13 : decode cX8_number 13 = .ok (.aload_n 0, 1) := dk_42 (dk_at dksX8_number_0 13 rfl rfl)
theorem dX8_number_14 : decode cX8_number 14 = .ok (.getfield 67, 3) := dk_180 0 67 (dk_at dksX8_number_0 14 rfl rfl)
theorem dX8_number_17 : decode cX8_number 17 = .ok (.i2l, 1) := dk_133 (dk_at dksX8_number_0 17 rfl rfl)
theorem dX8_number_18 : decode cX8_number 18 = .ok (.iload_n 1, 1) := dk_27 (dk_at dksX8_number_0 18 rfl rfl)
theorem dX8_number_19 : decode cX8_number 19 = .ok (.i2l, 1) := dk_133 (dk_at dksX8_number_0 19 rfl rfl)
theorem dX8_number_20 : decode cX8_number 20 = .ok (.iload_n 2, 1) := dk_28 (dk_at dksX8_number_0 20 rfl rfl)
theorem dX8_number_21 : decode cX8_number 21 = .ok (.i2l, 1) := dk_133 (dk_at dksX8_number_0 21 rfl rfl)
theorem dX8_number_22 : decode cX8_number 22 = .ok (.invokestatic 105, 3) := dk_184 0 105 (dk_at dksX8_number_1 0 rfl rfl)
theorem dX8_number_25 : decode cX8_number 25 = .ok (.ifCond .ne 16, 3) := dk_154 0 16 (dk_at dksX8_number_1 3 rfl rfl)
theorem dX8_number_28 : decode cX8_number 28 = .ok (.new 100, 3) := dk_187 0 100 (dk_at dksX8_number_1 6 rfl rfl)
theorem dX8_number_31 : decode cX8_number 31 = .ok (.dup, 1) := dk_89 (dk_at dksX8_number_1 9 rfl rfl)
theorem dX8_number_32 : decode cX8_number 32 = .ok (.iconst 3, 1) := dk_6 (dk_at dksX8_number_1 10 rfl rfl)
theorem dX8_number_33 : decode cX8_number 33 = .ok (.aload_n 0, 1) := dk_42 (dk_at dksX8_number_1 11 rfl rfl)
theorem dX8_number_34 : decode cX8_number 34 = .ok (.getfield 54, 3) := dk_180 0 54 (dk_at dksX8_number_1 12 rfl rfl)
theorem dX8_number_37 : decode cX8_number 37 = .ok (.invokespecial 102, 3) := dk_183 0 102 (dk_at dksX8_number_1 15 rfl rfl)
theorem dX8_number_40 : decode cX8_number 40 = .ok (.athrow, 1) := dk_191 (dk_at dksX8_number_1 18 rfl rfl)
theorem dX8_number_41 : decode cX8_number 41 = .ok (.aload_n 0, 1) := dk_42 (dk_at dksX8_number_1 19 rfl rfl)
theorem dX8_number_42 : decode cX8_number 42 = .ok (.getfield 67, 3) := dk_180 0 67 (dk_at dksX8_number_1 20 rfl rfl)
theorem dX8_number_45 : decode cX8_number 45 = .ok (.istore_n 3, 1) := dk_62 (dk_at dksX8_number_1 23 rfl rfl)
theorem dX8_number_46 : decode cX8_number 46 = .ok (.aload_n 0, 1) := dk_42 (dk_at dksX8_number_2 0 rfl rfl)
theorem dX8_number_47 : decode cX8_number 47 = .ok (.invokevirtual 48, 3) := dk_182 0 48 (dk_at dksX8_number_2 1 rfl rfl)
theorem dX8_number_50 : decode cX8_number 50 = .ok (.iload_n 3, 1) := dk_29 (dk_at dksX8_number_2 4 rfl rfl)
theorem dX8_number_51 : decode cX8_number 51 = .ok (.ireturn, 1) := dk_172 (dk_at dksX8_number_2 5 rfl rfl)
abbrev cX8_wrong : ByteArray := prog_31_method_11_code
def yX8_wrong : MethodName := ⟨RX8, "wrong", "()LNapkinDeeds$Bad;"⟩
def dkwX8_wrong_1 : List UInt8 := [176]
abbrev dktX8_wrong_1 : List UInt8 := dkwX8_wrong_1 ++ []
def dkwX8_wrong_0 : List UInt8 := [187, 0, 100, 89, 42, 180, 0, 57, 7, 160, 0, 7, 4, 167, 0, 4, 5, 42, 180, 0, 54, 183, 0, 102]
abbrev dktX8_wrong_0 : List UInt8 := dkwX8_wrong_0 ++ dktX8_wrong_1
theorem dksX8_wrong_0 : cX8_wrong.data.toList.drop 0 = dktX8_wrong_0 := by decide +kernel
theorem dksX8_wrong_1 : cX8_wrong.data.toList.drop 24 = dktX8_wrong_1 := dk_seg dksX8_wrong_0 24 rfl rfl
theorem dX8_wrong_0 : decode cX8_wrong 0 = .ok (.new 100, 3) := dk_187 0 100 (dk_at dksX8_wrong_0 0 rfl rfl)
theorem dX8_wrong_3 : decode cX8_wrong 3 = .ok (.dup, 1) := dk_89 (dk_at dksX8_wrong_0 3 rfl rfl)
theorem dX8_wrong_4 : decode cX8_wrong 4 = .ok (.aload_n 0, 1) := dk_42 (dk_at dksX8_wrong_0 4 rfl rfl)
theorem dX8_wrong_5 : decode cX8_wrong 5 = .ok (.getfield 57, 3) := dk_180 0 57 (dk_at dksX8_wrong_0 5 rfl rfl)
theorem dX8_wrong_8 : decode cX8_wrong 8 = .ok (.iconst 4, 1) := dk_7 (dk_at dksX8_wrong_0 8 rfl rfl)
theorem dX8_wrong_9 : decode cX8_wrong 9 = .ok (.if_icmp .ne 7, 3) := dk_160 0 7 (dk_at dksX8_wrong_0 9 rfl rfl)
theorem dX8_wrong_12 : decode cX8_wrong 12 = .ok (.iconst 1, 1) := dk_4 (dk_at dksX8_wrong_0 12 rfl rfl)
theorem dX8_wrong_13 : decode cX8_wrong 13 = .ok (.goto 4, 3) := dk_167 0 4 (dk_at dksX8_wrong_0 13 rfl rfl)
theorem dX8_wrong_16 : decode cX8_wrong 16 = .ok (.iconst 2, 1) := dk_5 (dk_at dksX8_wrong_0 16 rfl rfl)
theorem dX8_wrong_17 : decode cX8_wrong 17 = .ok (.aload_n 0, 1) := dk_42 (dk_at dksX8_wrong_0 17 rfl rfl)
theorem dX8_wrong_18 : decode cX8_wrong 18 = .ok (.getfield 54, 3) := dk_180 0 54 (dk_at dksX8_wrong_0 18 rfl rfl)
theorem dX8_wrong_21 : decode cX8_wrong 21 = .ok (.invokespecial 102, 3) := dk_183 0 102 (dk_at dksX8_wrong_0 21 rfl rfl)
theorem dX8_wrong_24 : decode cX8_wrong 24 = .ok (.areturn, 1) := dk_176 (dk_at dksX8_wrong_1 0 rfl rfl)
abbrev cX8_must : ByteArray := prog_31_method_9_code
def yX8_must : MethodName := ⟨RX8, "must", "(Ljava/lang/String;)V"⟩
def dkwX8_must_0 : List UInt8 := [42, 43, 182, 0, 91, 154, 0, 8, 42, 182, 0, 94, 191, 177]
abbrev dktX8_must_0 : List UInt8 := dkwX8_must_0 ++ []
theorem dksX8_must_0 : cX8_must.data.toList.drop 0 = dktX8_must_0 := by decide +kernel
theorem dX8_must_0 : decode cX8_must 0 = .ok (.aload_n 0, 1) := dk_42 (dk_at dksX8_must_0 0 rfl rfl)
theorem dX8_must_1 : decode cX8_must 1 = .ok (.aload_n 1, 1) := dk_43 (dk_at dksX8_must_0 1 rfl rfl)
theorem dX8_must_2 : decode cX8_must 2 = .ok (.invokevirtual 91, 3) := dk_182 0 91 (dk_at dksX8_must_0 2 rfl rfl)
theorem dX8_must_5 : decode cX8_must 5 = .ok (.ifCond .ne 8, 3) := dk_154 0 8 (dk_at dksX8_must_0 5 rfl rfl)
theorem dX8_must_8 : decode cX8_must 8 = .ok (.aload_n 0, 1) := dk_42 (dk_at dksX8_must_0 8 rfl rfl)
theorem dX8_must_9 : decode cX8_must 9 = .ok (.invokevirtual 94, 3) := dk_182 0 94 (dk_at dksX8_must_0 9 rfl rfl)
theorem dX8_must_12 : decode cX8_must 12 = .ok (.athrow, 1) := dk_191 (dk_at dksX8_must_0 12 rfl rfl)
theorem dX8_must_13 : decode cX8_must 13 = .ok (.return_, 1) := dk_177 (dk_at dksX8_must_0 13 rfl rfl)
abbrev cX8_eats : ByteArray := prog_31_method_7_code
def yX8_eats : MethodName := ⟨RX8, "eats", "(Ljava/lang/String;)Z"⟩
def dkwX8_eats_0 : List UInt8 := [42, 43, 182, 0, 84, 61, 28, 153, 0, 7, 42, 182, 0, 48, 28, 172]
abbrev dktX8_eats_0 : List UInt8 := dkwX8_eats_0 ++ []
theorem dksX8_eats_0 : cX8_eats.data.toList.drop 0 = dktX8_eats_0 := by decide +kernel
theorem dX8_eats_0 : decode cX8_eats 0 = .ok (.aload_n 0, 1) := dk_42 (dk_at dksX8_eats_0 0 rfl rfl)
theorem dX8_eats_1 : decode cX8_eats 1 = .ok (.aload_n 1, 1) := dk_43 (dk_at dksX8_eats_0 1 rfl rfl)
theorem dX8_eats_2 : decode cX8_eats 2 = .ok (.invokevirtual 84, 3) := dk_182 0 84 (dk_at dksX8_eats_0 2 rfl rfl)
theorem dX8_eats_5 : decode cX8_eats 5 = .ok (.istore_n 2, 1) := dk_61 (dk_at dksX8_eats_0 5 rfl rfl)
theorem dX8_eats_6 : decode cX8_eats 6 = .ok (.iload_n 2, 1) := dk_28 (dk_at dksX8_eats_0 6 rfl rfl)
theorem dX8_eats_7 : decode cX8_eats 7 = .ok (.ifCond .eq 7, 3) := dk_153 0 7 (dk_at dksX8_eats_0 7 rfl rfl)
theorem dX8_eats_10 : decode cX8_eats 10 = .ok (.aload_n 0, 1) := dk_42 (dk_at dksX8_eats_0 10 rfl rfl)
theorem dX8_eats_11 : decode cX8_eats 11 = .ok (.invokevirtual 48, 3) := dk_182 0 48 (dk_at dksX8_eats_0 11 rfl rfl)
theorem dX8_eats_14 : decode cX8_eats 14 = .ok (.iload_n 2, 1) := dk_28 (dk_at dksX8_eats_0 14 rfl rfl)
theorem dX8_eats_15 : decode cX8_eats 15 = .ok (.ireturn, 1) := dk_172 (dk_at dksX8_eats_0 15 rfl rfl)
abbrev cX8_law : ByteArray := prog_31_method_22_code
def yX8_law : MethodName := ⟨RX8, "law", "(I)V"⟩
def dkwX8_law_0 : List UInt8 := [42, 16, 58, 182, 0, 137, 42, 27, 181, 0, 124, 177]
abbrev dktX8_law_0 : List UInt8 := dkwX8_law_0 ++ []
theorem dksX8_law_0 : cX8_law.data.toList.drop 0 = dktX8_law_0 := by decide +kernel
theorem dX8_law_0 : decode cX8_law 0 = .ok (.aload_n 0, 1) := dk_42 (dk_at dksX8_law_0 0 rfl rfl)
theorem dX8_law_1 : decode cX8_law 1 = .ok (.bipush 58, 2) := dk_16 58 (dk_at dksX8_law_0 1 rfl rfl)
theorem dX8_law_3 : decode cX8_law 3 = .ok (.invokevirtual 137, 3) := dk_182 0 137 (dk_at dksX8_law_0 3 rfl rfl)
theorem dX8_law_6 : decode cX8_law 6 = .ok (.aload_n 0, 1) := dk_42 (dk_at dksX8_law_0 6 rfl rfl)
theorem dX8_law_7 : decode cX8_law 7 = .ok (.iload_n 1, 1) := dk_27 (dk_at dksX8_law_0 7 rfl rfl)
theorem dX8_law_8 : decode cX8_law 8 = .ok (.putfield 124, 3) := dk_181 0 124 (dk_at dksX8_law_0 8 rfl rfl)
theorem dX8_law_11 : decode cX8_law 11 = .ok (.return_, 1) := dk_177 (dk_at dksX8_law_0 11 rfl rfl)
abbrev cX8_must_2 : ByteArray := prog_31_method_10_code
def yX8_must_2 : MethodName := ⟨RX8, "must", "(C)V"⟩
def dkwX8_must_2_0 : List UInt8 := [42, 27, 182, 0, 98, 154, 0, 8, 42, 182, 0, 94, 191, 177]
abbrev dktX8_must_2_0 : List UInt8 := dkwX8_must_2_0 ++ []
theorem dksX8_must_2_0 : cX8_must_2.data.toList.drop 0 = dktX8_must_2_0 := by decide +kernel
theorem dX8_must_2_0 : decode cX8_must_2 0 = .ok (.aload_n 0, 1) := dk_42 (dk_at dksX8_must_2_0 0 rfl rfl)
theorem dX8_must_2_1 : decode cX8_must_2 1 = .ok (.iload_n 1, 1) := dk_27 (dk_at dksX8_must_2_0 1 rfl rfl)
theorem dX8_must_2_2 : decode cX8_must_2 2 = .ok (.invokevirtual 98, 3) := dk_182 0 98 (dk_at dksX8_must_2_0 2 rfl rfl)
theorem dX8_must_2_5 : decode cX8_must_2 5 = .ok (.ifCond .ne 8, 3) := dk_154 0 8 (dk_at dksX8_must_2_0 5 rfl rfl)
theorem dX8_must_2_8 : decode cX8_must_2 8 = .ok (.aload_n 0, 1) := dk_42 (dk_at dksX8_must_2_0 8 rfl rfl)
theorem dX8_must_2_9 : decode cX8_must_2 9 = .ok (.invokevirtual 94, 3) := dk_182 0 94 (dk_at dksX8_must_2_0 9 rfl rfl)
theorem dX8_must_2_12 : decode cX8_must_2 12 = .ok (.athrow, 1) := dk_191 (dk_at dksX8_must_2_0 12 rfl rfl)
theorem dX8_must_2_13 : decode cX8_must_2 13 = .ok (.return_, 1) := dk_177 (dk_at dksX8_must_2_0 13 rfl rfl)
abbrev cX8_eats_2 : ByteArray := prog_31_method_8_code
def yX8_eats_2 : MethodName := ⟨RX8, "eats", "(C)Z"⟩
def dkwX8_eats_2_0 : List UInt8 := [42, 27, 182, 0, 88, 61, 28, 153, 0, 7, 42, 182, 0, 48, 28, 172]
abbrev dktX8_eats_2_0 : List UInt8 := dkwX8_eats_2_0 ++ []
theorem dksX8_eats_2_0 : cX8_eats_2.data.toList.drop 0 = dktX8_eats_2_0 := by decide +kernel
theorem dX8_eats_2_0 : decode cX8_eats_2 0 = .ok (.aload_n 0, 1) := dk_42 (dk_at dksX8_eats_2_0 0 rfl rfl)
theorem dX8_eats_2_1 : decode cX8_eats_2 1 = .ok (.iload_n 1, 1) := dk_27 (dk_at dksX8_eats_2_0 1 rfl rfl)
theorem dX8_eats_2_2 : decode cX8_eats_2 2 = .ok (.invokevirtual 88, 3) := dk_182 0 88 (dk_at dksX8_eats_2_0 2 rfl rfl)
theorem dX8_eats_2_5 : decode cX8_eats_2 5 = .ok (.istore_n 2, 1) := dk_61 (dk_at dksX8_eats_2_0 5 rfl rfl)
theorem dX8_eats_2_6 : decode cX8_eats_2 6 = .ok (.iload_n 2, 1) := dk_28 (dk_at dksX8_eats_2_0 6 rfl rfl)
theorem dX8_eats_2_7 : decode cX8_eats_2 7 = .ok (.ifCond .eq 7, 3) := dk_153 0 7 (dk_at dksX8_eats_2_0 7 rfl rfl)
theorem dX8_eats_2_10 : decode cX8_eats_2 10 = .ok (.aload_n 0, 1) := dk_42 (dk_at dksX8_eats_2_0 10 rfl rfl)
theorem dX8_eats_2_11 : decode cX8_eats_2 11 = .ok (.invokevirtual 48, 3) := dk_182 0 48 (dk_at dksX8_eats_2_0 11 rfl rfl)
theorem dX8_eats_2_14 : decode cX8_eats_2 14 = .ok (.iload_n 2, 1) := dk_28 (dk_at dksX8_eats_2_0 14 rfl rfl)
theorem dX8_eats_2_15 : decode cX8_eats_2 15 = .ok (.ireturn, 1) := dk_172 (dk_at dksX8_eats_2_0 15 rfl rfl)
abbrev cX8_is_2 : ByteArray := prog_31_method_6_code
def yX8_is_2 : MethodName := ⟨RX8, "is", "(C)Z"⟩
def dkwX8_is_2_1 : List UInt8 := [167, 0, 4, 3, 172]
abbrev dktX8_is_2_1 : List UInt8 := dkwX8_is_2_1 ++ []
def dkwX8_is_2_0 : List UInt8 := [42, 180, 0, 57, 6, 160, 0, 20, 42, 180, 0, 40, 42, 180, 0, 54, 51, 27, 160, 0, 7, 4]
abbrev dktX8_is_2_0 : List UInt8 := dkwX8_is_2_0 ++ dktX8_is_2_1
theorem dksX8_is_2_0 : cX8_is_2.data.toList.drop 0 = dktX8_is_2_0 := by decide +kernel
theorem dksX8_is_2_1 : cX8_is_2.data.toList.drop 22 = dktX8_is_2_1 := dk_seg dksX8_is_2_0 22 rfl rfl
theorem dX8_is_2_0 : decode cX8_is_2 0 = .ok (.aload_n 0, 1) := dk_42 (dk_at dksX8_is_2_0 0 rfl rfl)
theorem dX8_is_2_1 : decode cX8_is_2 1 = .ok (.getfield 57, 3) := dk_180 0 57 (dk_at dksX8_is_2_0 1 rfl rfl)
theorem dX8_is_2_4 : decode cX8_is_2 4 = .ok (.iconst 3, 1) := dk_6 (dk_at dksX8_is_2_0 4 rfl rfl)
theorem dX8_is_2_5 : decode cX8_is_2 5 = .ok (.if_icmp .ne 20, 3) := dk_160 0 20 (dk_at dksX8_is_2_0 5 rfl rfl)
theorem dX8_is_2_8 : decode cX8_is_2 8 = .ok (.aload_n 0, 1) := dk_42 (dk_at dksX8_is_2_0 8 rfl rfl)
theorem dX8_is_2_9 : decode cX8_is_2 9 = .ok (.getfield 40, 3) := dk_180 0 40 (dk_at dksX8_is_2_0 9 rfl rfl)
theorem dX8_is_2_12 : decode cX8_is_2 12 = .ok (.aload_n 0, 1) := dk_42 (dk_at dksX8_is_2_0 12 rfl rfl)
theorem dX8_is_2_13 : decode cX8_is_2 13 = .ok (.getfield 54, 3) := dk_180 0 54 (dk_at dksX8_is_2_0 13 rfl rfl)
theorem dX8_is_2_16 : decode cX8_is_2 16 = .ok (.baload, 1) := dk_51 (dk_at dksX8_is_2_0 16 rfl rfl)
theorem dX8_is_2_17 : decode cX8_is_2 17 = .ok (.iload_n 1, 1) := dk_27 (dk_at dksX8_is_2_0 17 rfl rfl)
theorem dX8_is_2_18 : decode cX8_is_2 18 = .ok (.if_icmp .ne 7, 3) := dk_160 0 7 (dk_at dksX8_is_2_0 18 rfl rfl)
theorem dX8_is_2_21 : decode cX8_is_2 21 = .ok (.iconst 1, 1) := dk_4 (dk_at dksX8_is_2_0 21 rfl rfl)
theorem dX8_is_2_22 : decode cX8_is_2 22 = .ok (.goto 4, 3) := dk_167 0 4 (dk_at dksX8_is_2_1 0 rfl rfl)
theorem dX8_is_2_25 : decode cX8_is_2 25 = .ok (.iconst 0, 1) := dk_3 (dk_at dksX8_is_2_1 3 rfl rfl)
theorem dX8_is_2_26 : decode cX8_is_2 26 = .ok (.ireturn, 1) := dk_172 (dk_at dksX8_is_2_1 4 rfl rfl)
abbrev cX8_sum : ByteArray := prog_31_method_17_code
def yX8_sum : MethodName := ⟨RX8, "sum", "()LNapkinDeeds$Sum;"⟩
def dkwX8_sum_2 : List UInt8 := [43, 182, 0, 155, 76, 167, 255, 208, 43, 176]
abbrev dktX8_sum_2 : List UInt8 := dkwX8_sum_2 ++ []
def dkwX8_sum_1 : List UInt8 := [16, 43, 182, 0, 98, 153, 0, 18, 187, 0, 152, 89, 43, 42, 182, 0, 149, 183, 0, 154, 167, 0, 8, 42]
abbrev dktX8_sum_1 : List UInt8 := dkwX8_sum_1 ++ dktX8_sum_2
def dkwX8_sum_0 : List UInt8 := [42, 182, 0, 149, 76, 42, 16, 43, 182, 0, 88, 154, 0, 12, 42, 16, 45, 182, 0, 88, 153, 0, 36, 42]
abbrev dktX8_sum_0 : List UInt8 := dkwX8_sum_0 ++ dktX8_sum_1
theorem dksX8_sum_0 : cX8_sum.data.toList.drop 0 = dktX8_sum_0 := by decide +kernel
theorem dksX8_sum_1 : cX8_sum.data.toList.drop 24 = dktX8_sum_1 := dk_seg dksX8_sum_0 24 rfl rfl
theorem dksX8_sum_2 : cX8_sum.data.toList.drop 48 = dktX8_sum_2 := dk_seg dksX8_sum_1 24 rfl rfl
theorem dX8_sum_0 : decode cX8_sum 0 = .ok (.aload_n 0, 1) := dk_42 (dk_at dksX8_sum_0 0 rfl rfl)
theorem dX8_sum_1 : decode cX8_sum 1 = .ok (.invokevirtual 149, 3) := dk_182 0 149 (dk_at dksX8_sum_0 1 rfl rfl)
theorem dX8_sum_4 : decode cX8_sum 4 = .ok (.astore_n 1, 1) := dk_76 (dk_at dksX8_sum_0 4 rfl rfl)
theorem dX8_sum_5 : decode cX8_sum 5 = .ok (.aload_n 0, 1) := dk_42 (dk_at dksX8_sum_0 5 rfl rfl)
theorem dX8_sum_6 : decode cX8_sum 6 = .ok (.bipush 43, 2) := dk_16 43 (dk_at dksX8_sum_0 6 rfl rfl)
theorem dX8_sum_8 : decode cX8_sum 8 = .ok (.invokevirtual 88, 3) := dk_182 0 88 (dk_at dksX8_sum_0 8 rfl rfl)
theorem dX8_sum_11 : decode cX8_sum 11 = .ok (.ifCond .ne 12, 3) := dk_154 0 12 (dk_at dksX8_sum_0 11 rfl rfl)
theorem dX8_sum_14 : decode cX8_sum 14 = .ok (.aload_n 0, 1) := dk_42 (dk_at dksX8_sum_0 14 rfl rfl)
theorem dX8_sum_15 : decode cX8_sum 15 = .ok (.bipush 45, 2) := dk_16 45 (dk_at dksX8_sum_0 15 rfl rfl)
theorem dX8_sum_17 : decode cX8_sum 17 = .ok (.invokevirtual 88, 3) := dk_182 0 88 (dk_at dksX8_sum_0 17 rfl rfl)
theorem dX8_sum_20 : decode cX8_sum 20 = .ok (.ifCond .eq 36, 3) := dk_153 0 36 (dk_at dksX8_sum_0 20 rfl rfl)
theorem dX8_sum_23 : decode cX8_sum 23 = .ok (.aload_n 0, 1) := dk_42 (dk_at dksX8_sum_0 23 rfl rfl)
theorem dX8_sum_24 : decode cX8_sum 24 = .ok (.bipush 43, 2) := dk_16 43 (dk_at dksX8_sum_1 0 rfl rfl)
theorem dX8_sum_26 : decode cX8_sum 26 = .ok (.invokevirtual 98, 3) := dk_182 0 98 (dk_at dksX8_sum_1 2 rfl rfl)
theorem dX8_sum_29 : decode cX8_sum 29 = .ok (.ifCond .eq 18, 3) := dk_153 0 18 (dk_at dksX8_sum_1 5 rfl rfl)
theorem dX8_sum_32 : decode cX8_sum 32 = .ok (.new 152, 3) := dk_187 0 152 (dk_at dksX8_sum_1 8 rfl rfl)
theorem dX8_sum_35 : decode cX8_sum 35 = .ok (.dup, 1) := dk_89 (dk_at dksX8_sum_1 11 rfl rfl)
theorem dX8_sum_36 : decode cX8_sum 36 = .ok (.aload_n 1, 1) := dk_43 (dk_at dksX8_sum_1 12 rfl rfl)
theorem dX8_sum_37 : decode cX8_sum 37 = .ok (.aload_n 0, 1) := dk_42 (dk_at dksX8_sum_1 13 rfl rfl)
theorem dX8_sum_38 : decode cX8_sum 38 = .ok (.invokevirtual 149, 3) := dk_182 0 149 (dk_at dksX8_sum_1 14 rfl rfl)
theorem dX8_sum_41 : decode cX8_sum 41 = .ok (.invokespecial 154, 3) := dk_183 0 154 (dk_at dksX8_sum_1 17 rfl rfl)
theorem dX8_sum_44 : decode cX8_sum 44 = .ok (.goto 8, 3) := dk_167 0 8 (dk_at dksX8_sum_1 20 rfl rfl)
theorem dX8_sum_47 : decode cX8_sum 47 = .ok (.aload_n 0, 1) := dk_42 (dk_at dksX8_sum_1 23 rfl rfl)
theorem dX8_sum_48 : decode cX8_sum 48 = .ok (.aload_n 1, 1) := dk_43 (dk_at dksX8_sum_2 0 rfl rfl)
theorem dX8_sum_49 : decode cX8_sum 49 = .ok (.invokevirtual 155, 3) := dk_182 0 155 (dk_at dksX8_sum_2 1 rfl rfl)
theorem dX8_sum_52 : decode cX8_sum 52 = .ok (.astore_n 1, 1) := dk_76 (dk_at dksX8_sum_2 4 rfl rfl)
theorem dX8_sum_53 : decode cX8_sum 53 = .ok (.goto (-48), 3) := dk_167 255 208 (dk_at dksX8_sum_2 5 rfl rfl)
theorem dX8_sum_56 : decode cX8_sum 56 = .ok (.aload_n 1, 1) := dk_43 (dk_at dksX8_sum_2 8 rfl rfl)
theorem dX8_sum_57 : decode cX8_sum 57 = .ok (.areturn, 1) := dk_176 (dk_at dksX8_sum_2 9 rfl rfl)
abbrev cX8_term : ByteArray := prog_31_method_16_code
def yX8_term : MethodName := ⟨RX8, "term", "()LNapkinDeeds$Sum;"⟩
def dkwX8_term_1 : List UInt8 := [183, 0, 146, 76, 167, 255, 234, 43, 176]
abbrev dktX8_term_1 : List UInt8 := dkwX8_term_1 ++ []
def dkwX8_term_0 : List UInt8 := [42, 182, 0, 141, 76, 42, 16, 42, 182, 0, 98, 153, 0, 19, 187, 0, 144, 89, 43, 42, 182, 0, 141]
abbrev dktX8_term_0 : List UInt8 := dkwX8_term_0 ++ dktX8_term_1
theorem dksX8_term_0 : cX8_term.data.toList.drop 0 = dktX8_term_0 := by decide +kernel
theorem dksX8_term_1 : cX8_term.data.toList.drop 23 = dktX8_term_1 := dk_seg dksX8_term_0 23 rfl rfl
theorem dX8_term_0 : decode cX8_term 0 = .ok (.aload_n 0, 1) := dk_42 (dk_at dksX8_term_0 0 rfl rfl)
theorem dX8_term_1 : decode cX8_term 1 = .ok (.invokevirtual 141, 3) := dk_182 0 141 (dk_at dksX8_term_0 1 rfl rfl)
theorem dX8_term_4 : decode cX8_term 4 = .ok (.astore_n 1, 1) := dk_76 (dk_at dksX8_term_0 4 rfl rfl)
theorem dX8_term_5 : decode cX8_term 5 = .ok (.aload_n 0, 1) := dk_42 (dk_at dksX8_term_0 5 rfl rfl)
theorem dX8_term_6 : decode cX8_term 6 = .ok (.bipush 42, 2) := dk_16 42 (dk_at dksX8_term_0 6 rfl rfl)
theorem dX8_term_8 : decode cX8_term 8 = .ok (.invokevirtual 98, 3) := dk_182 0 98 (dk_at dksX8_term_0 8 rfl rfl)
theorem dX8_term_11 : decode cX8_term 11 = .ok (.ifCond .eq 19, 3) := dk_153 0 19 (dk_at dksX8_term_0 11 rfl rfl)
theorem dX8_term_14 : decode cX8_term 14 = .ok (.new 144, 3) := dk_187 0 144 (dk_at dksX8_term_0 14 rfl rfl)
theorem dX8_term_17 : decode cX8_term 17 = .ok (.dup, 1) := dk_89 (dk_at dksX8_term_0 17 rfl rfl)
theorem dX8_term_18 : decode cX8_term 18 = .ok (.aload_n 1, 1) := dk_43 (dk_at dksX8_term_0 18 rfl rfl)
theorem dX8_term_19 : decode cX8_term 19 = .ok (.aload_n 0, 1) := dk_42 (dk_at dksX8_term_0 19 rfl rfl)
theorem dX8_term_20 : decode cX8_term 20 = .ok (.invokevirtual 141, 3) := dk_182 0 141 (dk_at dksX8_term_0 20 rfl rfl)
theorem dX8_term_23 : decode cX8_term 23 = .ok (.invokespecial 146, 3) := dk_183 0 146 (dk_at dksX8_term_1 0 rfl rfl)
theorem dX8_term_26 : decode cX8_term 26 = .ok (.astore_n 1, 1) := dk_76 (dk_at dksX8_term_1 3 rfl rfl)
theorem dX8_term_27 : decode cX8_term 27 = .ok (.goto (-22), 3) := dk_167 255 234 (dk_at dksX8_term_1 4 rfl rfl)
theorem dX8_term_30 : decode cX8_term 30 = .ok (.aload_n 1, 1) := dk_43 (dk_at dksX8_term_1 7 rfl rfl)
theorem dX8_term_31 : decode cX8_term 31 = .ok (.areturn, 1) := dk_176 (dk_at dksX8_term_1 8 rfl rfl)
abbrev cX8_atom : ByteArray := prog_31_method_15_code
def yX8_atom : MethodName := ⟨RX8, "atom", "()LNapkinDeeds$Sum;"⟩
def dkwX8_atom_4 : List UInt8 := [180, 0, 109, 4, 100, 181, 0, 109, 43, 176]
abbrev dktX8_atom_4 : List UInt8 := dkwX8_atom_4 ++ []
def dkwX8_atom_3 : List UInt8 := [42, 182, 0, 94, 191, 42, 182, 0, 130, 42, 182, 0, 133, 76, 42, 16, 41, 182, 0, 137, 42, 89]
abbrev dktX8_atom_3 : List UInt8 := dkwX8_atom_3 ++ dktX8_atom_4
def dkwX8_atom_2 : List UInt8 := [187, 0, 127, 89, 27, 183, 0, 129, 176, 132, 1, 1, 167, 255, 223, 42, 16, 40, 182, 0, 88, 154, 0, 8]
abbrev dktX8_atom_2 : List UInt8 := dkwX8_atom_2 ++ dktX8_atom_3
def dkwX8_atom_1 : List UInt8 := [3, 60, 27, 42, 180, 0, 124, 162, 0, 31, 42, 42, 180, 0, 27, 27, 50, 182, 0, 91, 153, 0, 12]
abbrev dktX8_atom_1 : List UInt8 := dkwX8_atom_1 ++ dktX8_atom_2
def dkwX8_atom_0 : List UInt8 := [42, 180, 0, 57, 5, 160, 0, 19, 187, 0, 116, 89, 42, 3, 17, 3, 231, 182, 0, 118, 183, 0, 121, 176]
abbrev dktX8_atom_0 : List UInt8 := dkwX8_atom_0 ++ dktX8_atom_1
theorem dksX8_atom_0 : cX8_atom.data.toList.drop 0 = dktX8_atom_0 := by decide +kernel
theorem dksX8_atom_1 : cX8_atom.data.toList.drop 24 = dktX8_atom_1 := dk_seg dksX8_atom_0 24 rfl rfl
theorem dksX8_atom_2 : cX8_atom.data.toList.drop 47 = dktX8_atom_2 := dk_seg dksX8_atom_1 23 rfl rfl
theorem dksX8_atom_3 : cX8_atom.data.toList.drop 71 = dktX8_atom_3 := dk_seg dksX8_atom_2 24 rfl rfl
theorem dksX8_atom_4 : cX8_atom.data.toList.drop 93 = dktX8_atom_4 := dk_seg dksX8_atom_3 22 rfl rfl
theorem dX8_atom_0 : decode cX8_atom 0 = .ok (.aload_n 0, 1) := dk_42 (dk_at dksX8_atom_0 0 rfl rfl)
theorem dX8_atom_1 : decode cX8_atom 1 = .ok (.getfield 57, 3) := dk_180 0 57 (dk_at dksX8_atom_0 1 rfl rfl)
theorem dX8_atom_4 : decode cX8_atom 4 = .ok (.iconst 2, 1) := dk_5 (dk_at dksX8_atom_0 4 rfl rfl)
theorem dX8_atom_5 : decode cX8_atom 5 = .ok (.if_icmp .ne 19, 3) := dk_160 0 19 (dk_at dksX8_atom_0 5 rfl rfl)
theorem dX8_atom_8 : decode cX8_atom 8 = .ok (.new 116, 3) := dk_187 0 116 (dk_at dksX8_atom_0 8 rfl rfl)
theorem dX8_atom_11 : decode cX8_atom 11 = .ok (.dup, 1) := dk_89 (dk_at dksX8_atom_0 11 rfl rfl)
theorem dX8_atom_12 : decode cX8_atom 12 = .ok (.aload_n 0, 1) := dk_42 (dk_at dksX8_atom_0 12 rfl rfl)
theorem dX8_atom_13 : decode cX8_atom 13 = .ok (.iconst 0, 1) := dk_3 (dk_at dksX8_atom_0 13 rfl rfl)
theorem dX8_atom_14 : decode cX8_atom 14 = .ok (.sipush 999, 3) := dk_17 3 231 (dk_at dksX8_atom_0 14 rfl rfl)
theorem dX8_atom_17 : decode cX8_atom 17 = .ok (.invokevirtual 118, 3) := dk_182 0 118 (dk_at dksX8_atom_0 17 rfl rfl)
theorem dX8_atom_20 : decode cX8_atom 20 = .ok (.invokespecial 121, 3) := dk_183 0 121 (dk_at dksX8_atom_0 20 rfl rfl)
theorem dX8_atom_23 : decode cX8_atom 23 = .ok (.areturn, 1) := dk_176 (dk_at dksX8_atom_0 23 rfl rfl)
theorem dX8_atom_24 : decode cX8_atom 24 = .ok (.iconst 0, 1) := dk_3 (dk_at dksX8_atom_1 0 rfl rfl)
theorem dX8_atom_25 : decode cX8_atom 25 = .ok (.istore_n 1, 1) := dk_60 (dk_at dksX8_atom_1 1 rfl rfl)
theorem dX8_atom_26 : decode cX8_atom 26 = .ok (.iload_n 1, 1) := dk_27 (dk_at dksX8_atom_1 2 rfl rfl)
theorem dX8_atom_27 : decode cX8_atom 27 = .ok (.aload_n 0, 1) := dk_42 (dk_at dksX8_atom_1 3 rfl rfl)
theorem dX8_atom_28 : decode cX8_atom 28 = .ok (.getfield 124, 3) := dk_180 0 124 (dk_at dksX8_atom_1 4 rfl rfl)
theorem dX8_atom_31 : decode cX8_atom 31 = .ok (.if_icmp .ge 31, 3) := dk_162 0 31 (dk_at dksX8_atom_1 7 rfl rfl)
theorem dX8_atom_34 : decode cX8_atom 34 = .ok (.aload_n 0, 1) := dk_42 (dk_at dksX8_atom_1 10 rfl rfl)
theorem dX8_atom_35 : decode cX8_atom 35 = .ok (.aload_n 0, 1) := dk_42 (dk_at dksX8_atom_1 11 rfl rfl)
theorem dX8_atom_36 : decode cX8_atom 36 = .ok (.getfield 27, 3) := dk_180 0 27 (dk_at dksX8_atom_1 12 rfl rfl)
theorem dX8_atom_39 : decode cX8_atom 39 = .ok (.iload_n 1, 1) := dk_27 (dk_at dksX8_atom_1 15 rfl rfl)
theorem dX8_atom_40 : decode cX8_atom 40 = .ok (.aaload, 1) := dk_50 (dk_at dksX8_atom_1 16 rfl rfl)
theorem dX8_atom_41 : decode cX8_atom 41 = .ok (.invokevirtual 91, 3) := dk_182 0 91 (dk_at dksX8_atom_1 17 rfl rfl)
theorem dX8_atom_44 : decode cX8_atom 44 = .ok (.ifCond .eq 12, 3) := dk_153 0 12 (dk_at dksX8_atom_1 20 rfl rfl)
theorem dX8_atom_47 : decode cX8_atom 47 = .ok (.new 127, 3) := dk_187 0 127 (dk_at dksX8_atom_2 0 rfl rfl)
theorem dX8_atom_50 : decode cX8_atom 50 = .ok (.dup, 1) := dk_89 (dk_at dksX8_atom_2 3 rfl rfl)
theorem dX8_atom_51 : decode cX8_atom 51 = .ok (.iload_n 1, 1) := dk_27 (dk_at dksX8_atom_2 4 rfl rfl)
theorem dX8_atom_52 : decode cX8_atom 52 = .ok (.invokespecial 129, 3) := dk_183 0 129 (dk_at dksX8_atom_2 5 rfl rfl)
theorem dX8_atom_55 : decode cX8_atom 55 = .ok (.areturn, 1) := dk_176 (dk_at dksX8_atom_2 8 rfl rfl)
theorem dX8_atom_56 : decode cX8_atom 56 = .ok (.iinc 1 1, 3) := dk_132 1 1 (dk_at dksX8_atom_2 9 rfl rfl)
theorem dX8_atom_59 : decode cX8_atom 59 = .ok (.goto (-33), 3) := dk_167 255 223 (dk_at dksX8_atom_2 12 rfl rfl)
theorem dX8_atom_62 : decode cX8_atom 62 = .ok (.aload_n 0, 1) := dk_42 (dk_at dksX8_atom_2 15 rfl rfl)
theorem dX8_atom_63 : decode cX8_atom 63 = .ok (.bipush 40, 2) := dk_16 40 (dk_at dksX8_atom_2 16 rfl rfl)
theorem dX8_atom_65 : decode cX8_atom 65 = .ok (.invokevirtual 88, 3) := dk_182 0 88 (dk_at dksX8_atom_2 18 rfl rfl)
theorem dX8_atom_68 : decode cX8_atom 68 = .ok (.ifCond .ne 8, 3) := dk_154 0 8 (dk_at dksX8_atom_2 21 rfl rfl)
theorem dX8_atom_71 : decode cX8_atom 71 = .ok (.aload_n 0, 1) := dk_42 (dk_at dksX8_atom_3 0 rfl rfl)
theorem dX8_atom_72 : decode cX8_atom 72 = .ok (.invokevirtual 94, 3) := dk_182 0 94 (dk_at dksX8_atom_3 1 rfl rfl)
theorem dX8_atom_75 : decode cX8_atom 75 = .ok (.athrow, 1) := dk_191 (dk_at dksX8_atom_3 4 rfl rfl)
theorem dX8_atom_76 : decode cX8_atom 76 = .ok (.aload_n 0, 1) := dk_42 (dk_at dksX8_atom_3 5 rfl rfl)
theorem dX8_atom_77 : decode cX8_atom 77 = .ok (.invokevirtual 130, 3) := dk_182 0 130 (dk_at dksX8_atom_3 6 rfl rfl)
theorem dX8_atom_80 : decode cX8_atom 80 = .ok (.aload_n 0, 1) := dk_42 (dk_at dksX8_atom_3 9 rfl rfl)
theorem dX8_atom_81 : decode cX8_atom 81 = .ok (.invokevirtual 133, 3) := dk_182 0 133 (dk_at dksX8_atom_3 10 rfl rfl)
theorem dX8_atom_84 : decode cX8_atom 84 = .ok (.astore_n 1, 1) := dk_76 (dk_at dksX8_atom_3 13 rfl rfl)
theorem dX8_atom_85 : decode cX8_atom 85 = .ok (.aload_n 0, 1) := dk_42 (dk_at dksX8_atom_3 14 rfl rfl)
theorem dX8_atom_86 : decode cX8_atom 86 = .ok (.bipush 41, 2) := dk_16 41 (dk_at dksX8_atom_3 15 rfl rfl)
theorem dX8_atom_88 : decode cX8_atom 88 = .ok (.invokevirtual 137, 3) := dk_182 0 137 (dk_at dksX8_atom_3 17 rfl rfl)
theorem dX8_atom_91 : decode cX8_atom 91 = .ok (.aload_n 0, 1) := dk_42 (dk_at dksX8_atom_3 20 rfl rfl)
theorem dX8_atom_92 : decode cX8_atom 92 = .ok (.dup, 1) := dk_89 (dk_at dksX8_atom_3 21 rfl rfl)
theorem dX8_atom_93 : decode cX8_atom 93 = .ok (.getfield 109, 3) := dk_180 0 109 (dk_at dksX8_atom_4 0 rfl rfl)
theorem dX8_atom_96 : decode cX8_atom 96 = .ok (.iconst 1, 1) := dk_4 (dk_at dksX8_atom_4 3 rfl rfl)
theorem dX8_atom_97 : decode cX8_atom 97 = .ok (.isub, 1) := dk_100 (dk_at dksX8_atom_4 4 rfl rfl)
theorem dX8_atom_98 : decode cX8_atom 98 = .ok (.putfield 109, 3) := dk_181 0 109 (dk_at dksX8_atom_4 5 rfl rfl)
theorem dX8_atom_101 : decode cX8_atom 101 = .ok (.aload_n 1, 1) := dk_43 (dk_at dksX8_atom_4 8 rfl rfl)
theorem dX8_atom_102 : decode cX8_atom 102 = .ok (.areturn, 1) := dk_176 (dk_at dksX8_atom_4 9 rfl rfl)
abbrev cX8_deeper : ByteArray := prog_31_method_14_code
def yX8_deeper : MethodName := ⟨RX8, "deeper", "()V"⟩
def dkwX8_deeper_1 : List UInt8 := [96, 181, 0, 109, 177]
abbrev dktX8_deeper_1 : List UInt8 := dkwX8_deeper_1 ++ []
def dkwX8_deeper_0 : List UInt8 := [42, 42, 180, 0, 109, 16, 6, 160, 0, 7, 4, 167, 0, 4, 3, 182, 0, 112, 42, 89, 180, 0, 109, 4]
abbrev dktX8_deeper_0 : List UInt8 := dkwX8_deeper_0 ++ dktX8_deeper_1
theorem dksX8_deeper_0 : cX8_deeper.data.toList.drop 0 = dktX8_deeper_0 := by decide +kernel
theorem dksX8_deeper_1 : cX8_deeper.data.toList.drop 24 = dktX8_deeper_1 := dk_seg dksX8_deeper_0 24 rfl rfl
theorem dX8_deeper_0 : decode cX8_deeper 0 = .ok (.aload_n 0, 1) := dk_42 (dk_at dksX8_deeper_0 0 rfl rfl)
theorem dX8_deeper_1 : decode cX8_deeper 1 = .ok (.aload_n 0, 1) := dk_42 (dk_at dksX8_deeper_0 1 rfl rfl)
theorem dX8_deeper_2 : decode cX8_deeper 2 = .ok (.getfield 109, 3) := dk_180 0 109 (dk_at dksX8_deeper_0 2 rfl rfl)
theorem dX8_deeper_5 : decode cX8_deeper 5 = .ok (.bipush 6, 2) := dk_16 6 (dk_at dksX8_deeper_0 5 rfl rfl)
theorem dX8_deeper_7 : decode cX8_deeper 7 = .ok (.if_icmp .ne 7, 3) := dk_160 0 7 (dk_at dksX8_deeper_0 7 rfl rfl)
theorem dX8_deeper_10 : decode cX8_deeper 10 = .ok (.iconst 1, 1) := dk_4 (dk_at dksX8_deeper_0 10 rfl rfl)
theorem dX8_deeper_11 : decode cX8_deeper 11 = .ok (.goto 4, 3) := dk_167 0 4 (dk_at dksX8_deeper_0 11 rfl rfl)
theorem dX8_deeper_14 : decode cX8_deeper 14 = .ok (.iconst 0, 1) := dk_3 (dk_at dksX8_deeper_0 14 rfl rfl)
theorem dX8_deeper_15 : decode cX8_deeper 15 = .ok (.invokevirtual 112, 3) := dk_182 0 112 (dk_at dksX8_deeper_0 15 rfl rfl)
theorem dX8_deeper_18 : decode cX8_deeper 18 = .ok (.aload_n 0, 1) := dk_42 (dk_at dksX8_deeper_0 18 rfl rfl)
theorem dX8_deeper_19 : decode cX8_deeper 19 = .ok (.dup, 1) := dk_89 (dk_at dksX8_deeper_0 19 rfl rfl)
theorem dX8_deeper_20 : decode cX8_deeper 20 = .ok (.getfield 109, 3) := dk_180 0 109 (dk_at dksX8_deeper_0 20 rfl rfl)
theorem dX8_deeper_23 : decode cX8_deeper 23 = .ok (.iconst 1, 1) := dk_4 (dk_at dksX8_deeper_0 23 rfl rfl)
theorem dX8_deeper_24 : decode cX8_deeper 24 = .ok (.iadd, 1) := dk_96 (dk_at dksX8_deeper_1 0 rfl rfl)
theorem dX8_deeper_25 : decode cX8_deeper 25 = .ok (.putfield 109, 3) := dk_181 0 109 (dk_at dksX8_deeper_1 1 rfl rfl)
theorem dX8_deeper_28 : decode cX8_deeper 28 = .ok (.return_, 1) := dk_177 (dk_at dksX8_deeper_1 4 rfl rfl)
abbrev cX8_minus : ByteArray := prog_31_method_18_code
def yX8_minus : MethodName := ⟨RX8, "minus", "(LNapkinDeeds$Sum;)LNapkinDeeds$Sum;"⟩
def dkwX8_minus_0 : List UInt8 := [42, 182, 0, 48, 187, 0, 159, 89, 43, 42, 182, 0, 149, 183, 0, 161, 176]
abbrev dktX8_minus_0 : List UInt8 := dkwX8_minus_0 ++ []
theorem dksX8_minus_0 : cX8_minus.data.toList.drop 0 = dktX8_minus_0 := by decide +kernel
theorem dX8_minus_0 : decode cX8_minus 0 = .ok (.aload_n 0, 1) := dk_42 (dk_at dksX8_minus_0 0 rfl rfl)
theorem dX8_minus_1 : decode cX8_minus 1 = .ok (.invokevirtual 48, 3) := dk_182 0 48 (dk_at dksX8_minus_0 1 rfl rfl)
theorem dX8_minus_4 : decode cX8_minus 4 = .ok (.new 159, 3) := dk_187 0 159 (dk_at dksX8_minus_0 4 rfl rfl)
theorem dX8_minus_7 : decode cX8_minus 7 = .ok (.dup, 1) := dk_89 (dk_at dksX8_minus_0 7 rfl rfl)
theorem dX8_minus_8 : decode cX8_minus 8 = .ok (.aload_n 1, 1) := dk_43 (dk_at dksX8_minus_0 8 rfl rfl)
theorem dX8_minus_9 : decode cX8_minus 9 = .ok (.aload_n 0, 1) := dk_42 (dk_at dksX8_minus_0 9 rfl rfl)
theorem dX8_minus_10 : decode cX8_minus 10 = .ok (.invokevirtual 149, 3) := dk_182 0 149 (dk_at dksX8_minus_0 10 rfl rfl)
theorem dX8_minus_13 : decode cX8_minus 13 = .ok (.invokespecial 161, 3) := dk_183 0 161 (dk_at dksX8_minus_0 13 rfl rfl)
theorem dX8_minus_16 : decode cX8_minus 16 = .ok (.areturn, 1) := dk_176 (dk_at dksX8_minus_0 16 rfl rfl)
abbrev cX8_truth : ByteArray := prog_31_method_21_code
def yX8_truth : MethodName := ⟨RX8, "truth", "()LNapkinDeeds$Truth;"⟩
def dkwX8_truth_1 : List UInt8 := [183, 0, 195, 76, 167, 255, 234, 43, 176]
abbrev dktX8_truth_1 : List UInt8 := dkwX8_truth_1 ++ []
def dkwX8_truth_0 : List UInt8 := [42, 182, 0, 188, 76, 42, 18, 191, 182, 0, 91, 153, 0, 19, 187, 0, 193, 89, 43, 42, 182, 0, 188]
abbrev dktX8_truth_0 : List UInt8 := dkwX8_truth_0 ++ dktX8_truth_1
theorem dksX8_truth_0 : cX8_truth.data.toList.drop 0 = dktX8_truth_0 := by decide +kernel
theorem dksX8_truth_1 : cX8_truth.data.toList.drop 23 = dktX8_truth_1 := dk_seg dksX8_truth_0 23 rfl rfl
theorem dX8_truth_0 : decode cX8_truth 0 = .ok (.aload_n 0, 1) := dk_42 (dk_at dksX8_truth_0 0 rfl rfl)
theorem dX8_truth_1 : decode cX8_truth 1 = .ok (.invokevirtual 188, 3) := dk_182 0 188 (dk_at dksX8_truth_0 1 rfl rfl)
theorem dX8_truth_4 : decode cX8_truth 4 = .ok (.astore_n 1, 1) := dk_76 (dk_at dksX8_truth_0 4 rfl rfl)
theorem dX8_truth_5 : decode cX8_truth 5 = .ok (.aload_n 0, 1) := dk_42 (dk_at dksX8_truth_0 5 rfl rfl)
theorem dX8_truth_6 : decode cX8_truth 6 = .ok (.ldc 191, 2) := dk_18 191 (dk_at dksX8_truth_0 6 rfl rfl)
theorem dX8_truth_8 : decode cX8_truth 8 = .ok (.invokevirtual 91, 3) := dk_182 0 91 (dk_at dksX8_truth_0 8 rfl rfl)
theorem dX8_truth_11 : decode cX8_truth 11 = .ok (.ifCond .eq 19, 3) := dk_153 0 19 (dk_at dksX8_truth_0 11 rfl rfl)
theorem dX8_truth_14 : decode cX8_truth 14 = .ok (.new 193, 3) := dk_187 0 193 (dk_at dksX8_truth_0 14 rfl rfl)
theorem dX8_truth_17 : decode cX8_truth 17 = .ok (.dup, 1) := dk_89 (dk_at dksX8_truth_0 17 rfl rfl)
theorem dX8_truth_18 : decode cX8_truth 18 = .ok (.aload_n 1, 1) := dk_43 (dk_at dksX8_truth_0 18 rfl rfl)
theorem dX8_truth_19 : decode cX8_truth 19 = .ok (.aload_n 0, 1) := dk_42 (dk_at dksX8_truth_0 19 rfl rfl)
theorem dX8_truth_20 : decode cX8_truth 20 = .ok (.invokevirtual 188, 3) := dk_182 0 188 (dk_at dksX8_truth_0 20 rfl rfl)
theorem dX8_truth_23 : decode cX8_truth 23 = .ok (.invokespecial 195, 3) := dk_183 0 195 (dk_at dksX8_truth_1 0 rfl rfl)
theorem dX8_truth_26 : decode cX8_truth 26 = .ok (.astore_n 1, 1) := dk_76 (dk_at dksX8_truth_1 3 rfl rfl)
theorem dX8_truth_27 : decode cX8_truth 27 = .ok (.goto (-22), 3) := dk_167 255 234 (dk_at dksX8_truth_1 4 rfl rfl)
theorem dX8_truth_30 : decode cX8_truth 30 = .ok (.aload_n 1, 1) := dk_43 (dk_at dksX8_truth_1 7 rfl rfl)
theorem dX8_truth_31 : decode cX8_truth 31 = .ok (.areturn, 1) := dk_176 (dk_at dksX8_truth_1 8 rfl rfl)
abbrev cX8_both : ByteArray := prog_31_method_20_code
def yX8_both : MethodName := ⟨RX8, "both", "()LNapkinDeeds$Truth;"⟩
def dkwX8_both_1 : List UInt8 := [183, 0, 185, 76, 167, 255, 234, 43, 176]
abbrev dktX8_both_1 : List UInt8 := dkwX8_both_1 ++ []
def dkwX8_both_0 : List UInt8 := [42, 182, 0, 166, 76, 42, 18, 181, 182, 0, 91, 153, 0, 19, 187, 0, 183, 89, 43, 42, 182, 0, 166]
abbrev dktX8_both_0 : List UInt8 := dkwX8_both_0 ++ dktX8_both_1
theorem dksX8_both_0 : cX8_both.data.toList.drop 0 = dktX8_both_0 := by decide +kernel
theorem dksX8_both_1 : cX8_both.data.toList.drop 23 = dktX8_both_1 := dk_seg dksX8_both_0 23 rfl rfl
theorem dX8_both_0 : decode cX8_both 0 = .ok (.aload_n 0, 1) := dk_42 (dk_at dksX8_both_0 0 rfl rfl)
theorem dX8_both_1 : decode cX8_both 1 = .ok (.invokevirtual 166, 3) := dk_182 0 166 (dk_at dksX8_both_0 1 rfl rfl)
theorem dX8_both_4 : decode cX8_both 4 = .ok (.astore_n 1, 1) := dk_76 (dk_at dksX8_both_0 4 rfl rfl)
theorem dX8_both_5 : decode cX8_both 5 = .ok (.aload_n 0, 1) := dk_42 (dk_at dksX8_both_0 5 rfl rfl)
theorem dX8_both_6 : decode cX8_both 6 = .ok (.ldc 181, 2) := dk_18 181 (dk_at dksX8_both_0 6 rfl rfl)
theorem dX8_both_8 : decode cX8_both 8 = .ok (.invokevirtual 91, 3) := dk_182 0 91 (dk_at dksX8_both_0 8 rfl rfl)
theorem dX8_both_11 : decode cX8_both 11 = .ok (.ifCond .eq 19, 3) := dk_153 0 19 (dk_at dksX8_both_0 11 rfl rfl)
theorem dX8_both_14 : decode cX8_both 14 = .ok (.new 183, 3) := dk_187 0 183 (dk_at dksX8_both_0 14 rfl rfl)
theorem dX8_both_17 : decode cX8_both 17 = .ok (.dup, 1) := dk_89 (dk_at dksX8_both_0 17 rfl rfl)
theorem dX8_both_18 : decode cX8_both 18 = .ok (.aload_n 1, 1) := dk_43 (dk_at dksX8_both_0 18 rfl rfl)
theorem dX8_both_19 : decode cX8_both 19 = .ok (.aload_n 0, 1) := dk_42 (dk_at dksX8_both_0 19 rfl rfl)
theorem dX8_both_20 : decode cX8_both 20 = .ok (.invokevirtual 166, 3) := dk_182 0 166 (dk_at dksX8_both_0 20 rfl rfl)
theorem dX8_both_23 : decode cX8_both 23 = .ok (.invokespecial 185, 3) := dk_183 0 185 (dk_at dksX8_both_1 0 rfl rfl)
theorem dX8_both_26 : decode cX8_both 26 = .ok (.astore_n 1, 1) := dk_76 (dk_at dksX8_both_1 3 rfl rfl)
theorem dX8_both_27 : decode cX8_both 27 = .ok (.goto (-22), 3) := dk_167 255 234 (dk_at dksX8_both_1 4 rfl rfl)
theorem dX8_both_30 : decode cX8_both 30 = .ok (.aload_n 1, 1) := dk_43 (dk_at dksX8_both_1 7 rfl rfl)
theorem dX8_both_31 : decode cX8_both 31 = .ok (.areturn, 1) := dk_176 (dk_at dksX8_both_1 8 rfl rfl)
abbrev cX8_unit : ByteArray := prog_31_method_19_code
def yX8_unit : MethodName := ⟨RX8, "unit", "()LNapkinDeeds$Truth;"⟩
def dkwX8_unit_5 : List UInt8 := [180, 0, 54, 51, 61, 42, 182, 0, 48, 187, 0, 176, 89, 43, 28, 42, 182, 0, 133, 183, 0, 178, 176]
abbrev dktX8_unit_5 : List UInt8 := dkwX8_unit_5 ++ []
def dkwX8_unit_4 : List UInt8 := [154, 0, 17, 42, 16, 62, 182, 0, 88, 154, 0, 8, 42, 182, 0, 94, 191, 42, 180, 0, 40, 42]
abbrev dktX8_unit_4 : List UInt8 := dkwX8_unit_4 ++ dktX8_unit_5
def dkwX8_unit_3 : List UInt8 := [43, 176, 42, 182, 0, 133, 76, 42, 16, 61, 182, 0, 88, 154, 0, 26, 42, 16, 60, 182, 0, 88]
abbrev dktX8_unit_3 : List UInt8 := dkwX8_unit_3 ++ dktX8_unit_4
def dkwX8_unit_2 : List UInt8 := [182, 0, 130, 42, 182, 0, 173, 76, 42, 16, 93, 182, 0, 137, 42, 89, 180, 0, 109, 4, 100, 181, 0, 109]
abbrev dktX8_unit_2 : List UInt8 := dkwX8_unit_2 ++ dktX8_unit_3
def dkwX8_unit_1 : List UInt8 := [76, 42, 89, 180, 0, 109, 4, 100, 181, 0, 109, 43, 176, 42, 16, 91, 182, 0, 88, 153, 0, 30, 42]
abbrev dktX8_unit_1 : List UInt8 := dkwX8_unit_1 ++ dktX8_unit_2
def dkwX8_unit_0 : List UInt8 := [42, 18, 162, 182, 0, 84, 153, 0, 31, 42, 182, 0, 130, 187, 0, 164, 89, 42, 182, 0, 166, 183, 0, 170]
abbrev dktX8_unit_0 : List UInt8 := dkwX8_unit_0 ++ dktX8_unit_1
theorem dksX8_unit_0 : cX8_unit.data.toList.drop 0 = dktX8_unit_0 := by decide +kernel
theorem dksX8_unit_1 : cX8_unit.data.toList.drop 24 = dktX8_unit_1 := dk_seg dksX8_unit_0 24 rfl rfl
theorem dksX8_unit_2 : cX8_unit.data.toList.drop 47 = dktX8_unit_2 := dk_seg dksX8_unit_1 23 rfl rfl
theorem dksX8_unit_3 : cX8_unit.data.toList.drop 71 = dktX8_unit_3 := dk_seg dksX8_unit_2 24 rfl rfl
theorem dksX8_unit_4 : cX8_unit.data.toList.drop 93 = dktX8_unit_4 := dk_seg dksX8_unit_3 22 rfl rfl
theorem dksX8_unit_5 : cX8_unit.data.toList.drop 115 = dktX8_unit_5 := dk_seg dksX8_unit_4 22 rfl rfl
theorem dX8_unit_0 : decode cX8_unit 0 = .ok (.aload_n 0, 1) := dk_42 (dk_at dksX8_unit_0 0 rfl rfl)
theorem dX8_unit_1 : decode cX8_unit 1 = .ok (.ldc 162, 2) := dk_18 162 (dk_at dksX8_unit_0 1 rfl rfl)
theorem dX8_unit_3 : decode cX8_unit 3 = .ok (.invokevirtual 84, 3) := dk_182 0 84 (dk_at dksX8_unit_0 3 rfl rfl)
theorem dX8_unit_6 : decode cX8_unit 6 = .ok (.ifCond .eq 31, 3) := dk_153 0 31 (dk_at dksX8_unit_0 6 rfl rfl)
theorem dX8_unit_9 : decode cX8_unit 9 = .ok (.aload_n 0, 1) := dk_42 (dk_at dksX8_unit_0 9 rfl rfl)
theorem dX8_unit_10 : decode cX8_unit 10 = .ok (.invokevirtual 130, 3) := dk_182 0 130 (dk_at dksX8_unit_0 10 rfl rfl)
theorem dX8_unit_13 : decode cX8_unit 13 = .ok (.new 164, 3) := dk_187 0 164 (dk_at dksX8_unit_0 13 rfl rfl)
theorem dX8_unit_16 : decode cX8_unit 16 = .ok (.dup, 1) := dk_89 (dk_at dksX8_unit_0 16 rfl rfl)
theorem dX8_unit_17 : decode cX8_unit 17 = .ok (.aload_n 0, 1) := dk_42 (dk_at dksX8_unit_0 17 rfl rfl)
theorem dX8_unit_18 : decode cX8_unit 18 = .ok (.invokevirtual 166, 3) := dk_182 0 166 (dk_at dksX8_unit_0 18 rfl rfl)
theorem dX8_unit_21 : decode cX8_unit 21 = .ok (.invokespecial 170, 3) := dk_183 0 170 (dk_at dksX8_unit_0 21 rfl rfl)
theorem dX8_unit_24 : decode cX8_unit 24 = .ok (.astore_n 1, 1) := dk_76 (dk_at dksX8_unit_1 0 rfl rfl)
theorem dX8_unit_25 : decode cX8_unit 25 = .ok (.aload_n 0, 1) := dk_42 (dk_at dksX8_unit_1 1 rfl rfl)
theorem dX8_unit_26 : decode cX8_unit 26 = .ok (.dup, 1) := dk_89 (dk_at dksX8_unit_1 2 rfl rfl)
theorem dX8_unit_27 : decode cX8_unit 27 = .ok (.getfield 109, 3) := dk_180 0 109 (dk_at dksX8_unit_1 3 rfl rfl)
theorem dX8_unit_30 : decode cX8_unit 30 = .ok (.iconst 1, 1) := dk_4 (dk_at dksX8_unit_1 6 rfl rfl)
theorem dX8_unit_31 : decode cX8_unit 31 = .ok (.isub, 1) := dk_100 (dk_at dksX8_unit_1 7 rfl rfl)
theorem dX8_unit_32 : decode cX8_unit 32 = .ok (.putfield 109, 3) := dk_181 0 109 (dk_at dksX8_unit_1 8 rfl rfl)
theorem dX8_unit_35 : decode cX8_unit 35 = .ok (.aload_n 1, 1) := dk_43 (dk_at dksX8_unit_1 11 rfl rfl)
theorem dX8_unit_36 : decode cX8_unit 36 = .ok (.areturn, 1) := dk_176 (dk_at dksX8_unit_1 12 rfl rfl)
theorem dX8_unit_37 : decode cX8_unit 37 = .ok (.aload_n 0, 1) := dk_42 (dk_at dksX8_unit_1 13 rfl rfl)
theorem dX8_unit_38 : decode cX8_unit 38 = .ok (.bipush 91, 2) := dk_16 91 (dk_at dksX8_unit_1 14 rfl rfl)
theorem dX8_unit_40 : decode cX8_unit 40 = .ok (.invokevirtual 88, 3) := dk_182 0 88 (dk_at dksX8_unit_1 16 rfl rfl)
theorem dX8_unit_43 : decode cX8_unit 43 = .ok (.ifCond .eq 30, 3) := dk_153 0 30 (dk_at dksX8_unit_1 19 rfl rfl)
theorem dX8_unit_46 : decode cX8_unit 46 = .ok (.aload_n 0, 1) := dk_42 (dk_at dksX8_unit_1 22 rfl rfl)
theorem dX8_unit_47 : decode cX8_unit 47 = .ok (.invokevirtual 130, 3) := dk_182 0 130 (dk_at dksX8_unit_2 0 rfl rfl)
theorem dX8_unit_50 : decode cX8_unit 50 = .ok (.aload_n 0, 1) := dk_42 (dk_at dksX8_unit_2 3 rfl rfl)
theorem dX8_unit_51 : decode cX8_unit 51 = .ok (.invokevirtual 173, 3) := dk_182 0 173 (dk_at dksX8_unit_2 4 rfl rfl)
theorem dX8_unit_54 : decode cX8_unit 54 = .ok (.astore_n 1, 1) := dk_76 (dk_at dksX8_unit_2 7 rfl rfl)
theorem dX8_unit_55 : decode cX8_unit 55 = .ok (.aload_n 0, 1) := dk_42 (dk_at dksX8_unit_2 8 rfl rfl)
theorem dX8_unit_56 : decode cX8_unit 56 = .ok (.bipush 93, 2) := dk_16 93 (dk_at dksX8_unit_2 9 rfl rfl)
theorem dX8_unit_58 : decode cX8_unit 58 = .ok (.invokevirtual 137, 3) := dk_182 0 137 (dk_at dksX8_unit_2 11 rfl rfl)
theorem dX8_unit_61 : decode cX8_unit 61 = .ok (.aload_n 0, 1) := dk_42 (dk_at dksX8_unit_2 14 rfl rfl)
theorem dX8_unit_62 : decode cX8_unit 62 = .ok (.dup, 1) := dk_89 (dk_at dksX8_unit_2 15 rfl rfl)
theorem dX8_unit_63 : decode cX8_unit 63 = .ok (.getfield 109, 3) := dk_180 0 109 (dk_at dksX8_unit_2 16 rfl rfl)
theorem dX8_unit_66 : decode cX8_unit 66 = .ok (.iconst 1, 1) := dk_4 (dk_at dksX8_unit_2 19 rfl rfl)
theorem dX8_unit_67 : decode cX8_unit 67 = .ok (.isub, 1) := dk_100 (dk_at dksX8_unit_2 20 rfl rfl)
theorem dX8_unit_68 : decode cX8_unit 68 = .ok (.putfield 109, 3) := dk_181 0 109 (dk_at dksX8_unit_2 21 rfl rfl)
theorem dX8_unit_71 : decode cX8_unit 71 = .ok (.aload_n 1, 1) := dk_43 (dk_at dksX8_unit_3 0 rfl rfl)
theorem dX8_unit_72 : decode cX8_unit 72 = .ok (.areturn, 1) := dk_176 (dk_at dksX8_unit_3 1 rfl rfl)
theorem dX8_unit_73 : decode cX8_unit 73 = .ok (.aload_n 0, 1) := dk_42 (dk_at dksX8_unit_3 2 rfl rfl)
theorem dX8_unit_74 : decode cX8_unit 74 = .ok (.invokevirtual 133, 3) := dk_182 0 133 (dk_at dksX8_unit_3 3 rfl rfl)
theorem dX8_unit_77 : decode cX8_unit 77 = .ok (.astore_n 1, 1) := dk_76 (dk_at dksX8_unit_3 6 rfl rfl)
theorem dX8_unit_78 : decode cX8_unit 78 = .ok (.aload_n 0, 1) := dk_42 (dk_at dksX8_unit_3 7 rfl rfl)
theorem dX8_unit_79 : decode cX8_unit 79 = .ok (.bipush 61, 2) := dk_16 61 (dk_at dksX8_unit_3 8 rfl rfl)
theorem dX8_unit_81 : decode cX8_unit 81 = .ok (.invokevirtual 88, 3) := dk_182 0 88 (dk_at dksX8_unit_3 10 rfl rfl)
theorem dX8_unit_84 : decode cX8_unit 84 = .ok (.ifCond .ne 26, 3) := dk_154 0 26 (dk_at dksX8_unit_3 13 rfl rfl)
theorem dX8_unit_87 : decode cX8_unit 87 = .ok (.aload_n 0, 1) := dk_42 (dk_at dksX8_unit_3 16 rfl rfl)
theorem dX8_unit_88 : decode cX8_unit 88 = .ok (.bipush 60, 2) := dk_16 60 (dk_at dksX8_unit_3 17 rfl rfl)
theorem dX8_unit_90 : decode cX8_unit 90 = .ok (.invokevirtual 88, 3) := dk_182 0 88 (dk_at dksX8_unit_3 19 rfl rfl)
theorem dX8_unit_93 : decode cX8_unit 93 = .ok (.ifCond .ne 17, 3) := dk_154 0 17 (dk_at dksX8_unit_4 0 rfl rfl)
theorem dX8_unit_96 : decode cX8_unit 96 = .ok (.aload_n 0, 1) := dk_42 (dk_at dksX8_unit_4 3 rfl rfl)
theorem dX8_unit_97 : decode cX8_unit 97 = .ok (.bipush 62, 2) := dk_16 62 (dk_at dksX8_unit_4 4 rfl rfl)
theorem dX8_unit_99 : decode cX8_unit 99 = .ok (.invokevirtual 88, 3) := dk_182 0 88 (dk_at dksX8_unit_4 6 rfl rfl)
theorem dX8_unit_102 : decode cX8_unit 102 = .ok (.ifCond .ne 8, 3) := dk_154 0 8 (dk_at dksX8_unit_4 9 rfl rfl)
theorem dX8_unit_105 : decode cX8_unit 105 = .ok (.aload_n 0, 1) := dk_42 (dk_at dksX8_unit_4 12 rfl rfl)
theorem dX8_unit_106 : decode cX8_unit 106 = .ok (.invokevirtual 94, 3) := dk_182 0 94 (dk_at dksX8_unit_4 13 rfl rfl)
theorem dX8_unit_109 : decode cX8_unit 109 = .ok (.athrow, 1) := dk_191 (dk_at dksX8_unit_4 16 rfl rfl)
theorem dX8_unit_110 : decode cX8_unit 110 = .ok (.aload_n 0, 1) := dk_42 (dk_at dksX8_unit_4 17 rfl rfl)
theorem dX8_unit_111 : decode cX8_unit 111 = .ok (.getfield 40, 3) := dk_180 0 40 (dk_at dksX8_unit_4 18 rfl rfl)
theorem dX8_unit_114 : decode cX8_unit 114 = .ok (.aload_n 0, 1) := dk_42 (dk_at dksX8_unit_4 21 rfl rfl)
theorem dX8_unit_115 : decode cX8_unit 115 = .ok (.getfield 54, 3) := dk_180 0 54 (dk_at dksX8_unit_5 0 rfl rfl)
theorem dX8_unit_118 : decode cX8_unit 118 = .ok (.baload, 1) := dk_51 (dk_at dksX8_unit_5 3 rfl rfl)
theorem dX8_unit_119 : decode cX8_unit 119 = .ok (.istore_n 2, 1) := dk_61 (dk_at dksX8_unit_5 4 rfl rfl)
theorem dX8_unit_120 : decode cX8_unit 120 = .ok (.aload_n 0, 1) := dk_42 (dk_at dksX8_unit_5 5 rfl rfl)
theorem dX8_unit_121 : decode cX8_unit 121 = .ok (.invokevirtual 48, 3) := dk_182 0 48 (dk_at dksX8_unit_5 6 rfl rfl)
theorem dX8_unit_124 : decode cX8_unit 124 = .ok (.new 176, 3) := dk_187 0 176 (dk_at dksX8_unit_5 9 rfl rfl)
theorem dX8_unit_127 : decode cX8_unit 127 = .ok (.dup, 1) := dk_89 (dk_at dksX8_unit_5 12 rfl rfl)
theorem dX8_unit_128 : decode cX8_unit 128 = .ok (.aload_n 1, 1) := dk_43 (dk_at dksX8_unit_5 13 rfl rfl)
theorem dX8_unit_129 : decode cX8_unit 129 = .ok (.iload_n 2, 1) := dk_28 (dk_at dksX8_unit_5 14 rfl rfl)
theorem dX8_unit_130 : decode cX8_unit 130 = .ok (.aload_n 0, 1) := dk_42 (dk_at dksX8_unit_5 15 rfl rfl)
theorem dX8_unit_131 : decode cX8_unit 131 = .ok (.invokevirtual 133, 3) := dk_182 0 133 (dk_at dksX8_unit_5 16 rfl rfl)
theorem dX8_unit_134 : decode cX8_unit 134 = .ok (.invokespecial 178, 3) := dk_183 0 178 (dk_at dksX8_unit_5 19 rfl rfl)
theorem dX8_unit_137 : decode cX8_unit 137 = .ok (.areturn, 1) := dk_176 (dk_at dksX8_unit_5 22 rfl rfl)
theorem q163 : (Jvm.Cond.initialized "NapkinDeeds$Reader") ∈ lw_all := lw_g (lw_at lw_m1 15 rfl) rfl
theorem q270 : (Jvm.Cond.fieldLinkNest "NapkinDeeds$Reader" (201 : Nat) "NapkinDeeds$Napkin" "fronts" "Ljava/util/ArrayList;" "NapkinDeeds") ∈ lw_tbl := lw_at lw_m1 122 rfl
theorem q273 : (Jvm.Cond.fieldLinkNest "NapkinDeeds$Reader" (222 : Nat) "NapkinDeeds$Napkin" "backs" "Ljava/util/ArrayList;" "NapkinDeeds") ∈ lw_tbl := lw_at lw_m1 125 rfl
theorem q276 : (Jvm.Cond.fieldLinkNest "NapkinDeeds$Reader" (225 : Nat) "NapkinDeeds$Napkin" "guests" "Ljava/util/ArrayList;" "NapkinDeeds") ∈ lw_tbl := lw_at lw_m1 128 rfl
theorem q278 : (Jvm.Cond.fieldLinkNest "NapkinDeeds$Reader" (250 : Nat) "NapkinDeeds$Napkin" "lines" "I" "NapkinDeeds") ∈ lw_tbl := lw_at lw_m1 130 rfl
theorem q279 : (Jvm.Cond.fieldLinkNest "NapkinDeeds$Reader" (235 : Nat) "NapkinDeeds$Napkin" "worth" "LNapkinDeeds$Sum;" "NapkinDeeds") ∈ lw_tbl := lw_at lw_m1 131 rfl
theorem q281 : (Jvm.Cond.fieldLinkNest "NapkinDeeds$Reader" (245 : Nat) "NapkinDeeds$Napkin" "likes" "LNapkinDeeds$Sum;" "NapkinDeeds") ∈ lw_tbl := lw_at lw_m1 133 rfl
theorem q283 : (Jvm.Cond.fieldLinkNest "NapkinDeeds$Reader" (240 : Nat) "NapkinDeeds$Napkin" "holds" "LNapkinDeeds$Truth;" "NapkinDeeds") ∈ lw_tbl := lw_at lw_m1 135 rfl
theorem q718 : (Jvm.Cond.selects "NapkinDeeds$Reader" ({ cls := "java/lang/Object", name := "getClass", desc := "()Ljava/lang/Class;" } : Jvm.MethodName) ({ cls := "java/lang/Object", name := "getClass", desc := "()Ljava/lang/Class;" } : Jvm.MethodName)) ∈ lw_all := lw_g (lw_at lw_m3 90 rfl) rfl
theorem q1544 : (Jvm.Cond.instantiable "NapkinDeeds$Reader" (10 : Nat)) ∈ lw_all := lw_g (lw_at lw_m6 196 rfl) rfl
theorem q1546 : (Jvm.Cond.instanceMethod ({ cls := "NapkinDeeds$Reader", name := "<init>", desc := "([BI)V" } : Jvm.MethodName)) ∈ lw_all := lw_g (lw_at lw_m6 198 rfl) rfl
theorem q1547 : (Jvm.Cond.code ({ cls := "NapkinDeeds$Reader", name := "<init>", desc := "([BI)V" } : Jvm.MethodName) prog_31_method_1_code (3 : Nat) (Option.none : Option Jvm.ClassFile.FieldType)) ∈ lw_all := lw_g (lw_at lw_m6 199 rfl) rfl
theorem q1548 : (Jvm.Cond.methodLink "NapkinDeeds$Reader" (3 : Nat) ({ cls := "java/lang/Object", name := "<init>", desc := "()V" } : Jvm.MethodName)) ∈ lw_all := lw_g (lw_at lw_m6 200 rfl) rfl
theorem q1549 : (Jvm.Cond.classLink "NapkinDeeds$Reader" (9 : Nat) "java/lang/String") ∈ lw_all := lw_g (lw_at lw_m6 201 rfl) rfl
theorem q1551 : (Jvm.Cond.stringRef "NapkinDeeds$Reader" (11 : Nat) "wide") ∈ lw_tbl := lw_at lw_m6 203 rfl
theorem q1552 : (Jvm.Cond.stringRef "NapkinDeeds$Reader" (13 : Nat) "high") ∈ lw_tbl := lw_at lw_m6 204 rfl
theorem q1553 : (Jvm.Cond.stringRef "NapkinDeeds$Reader" (15 : Nat) "folds") ∈ lw_tbl := lw_at lw_m6 205 rfl
theorem q1554 : (Jvm.Cond.stringRef "NapkinDeeds$Reader" (17 : Nat) "top") ∈ lw_tbl := lw_at lw_m6 206 rfl
theorem q1555 : (Jvm.Cond.stringRef "NapkinDeeds$Reader" (19 : Nat) "under") ∈ lw_tbl := lw_at lw_m6 207 rfl
theorem q1556 : (Jvm.Cond.stringRef "NapkinDeeds$Reader" (21 : Nat) "hidden") ∈ lw_tbl := lw_at lw_m6 208 rfl
theorem q1557 : (Jvm.Cond.stringRef "NapkinDeeds$Reader" (23 : Nat) "guest") ∈ lw_tbl := lw_at lw_m6 209 rfl
theorem q1558 : (Jvm.Cond.stringRef "NapkinDeeds$Reader" (25 : Nat) "want") ∈ lw_tbl := lw_at lw_m6 210 rfl
theorem q1559 : (Jvm.Cond.classLink "NapkinDeeds$Reader" (33 : Nat) "NapkinDeeds$Napkin") ∈ lw_all := lw_g (lw_at lw_m6 211 rfl) rfl
theorem q1560 : (Jvm.Cond.methodLinkNest "NapkinDeeds$Reader" (35 : Nat) ({ cls := "NapkinDeeds$Napkin", name := "<init>", desc := "()V" } : Jvm.MethodName) "NapkinDeeds") ∈ lw_tbl := lw_at lw_m6 212 rfl
theorem q1561 : (Jvm.Cond.methodLink "NapkinDeeds$Reader" (48 : Nat) ({ cls := "NapkinDeeds$Reader", name := "next", desc := "()V" } : Jvm.MethodName)) ∈ lw_all := lw_g (lw_at lw_m6 213 rfl) rfl
theorem q1562 : (Jvm.Cond.privateMethod ({ cls := "NapkinDeeds$Reader", name := "next", desc := "()V" } : Jvm.MethodName)) ∈ lw_tbl := lw_at lw_m6 214 rfl
theorem q1563 : (Jvm.Cond.instanceMethod ({ cls := "NapkinDeeds$Reader", name := "next", desc := "()V" } : Jvm.MethodName)) ∈ lw_all := lw_g (lw_at lw_m6 215 rfl) rfl
theorem q1564 : (Jvm.Cond.code ({ cls := "NapkinDeeds$Reader", name := "next", desc := "()V" } : Jvm.MethodName) prog_31_method_4_code (1 : Nat) (Option.none : Option Jvm.ClassFile.FieldType)) ∈ lw_all := lw_g (lw_at lw_m6 216 rfl) rfl
theorem q1565 : (Jvm.Cond.methodLink "NapkinDeeds$Reader" (60 : Nat) ({ cls := "NapkinDeeds$Reader", name := "isSmall", desc := "(I)Z" } : Jvm.MethodName)) ∈ lw_all := lw_g (lw_at lw_m6 217 rfl) rfl
theorem q1566 : (Jvm.Cond.privateMethod ({ cls := "NapkinDeeds$Reader", name := "isSmall", desc := "(I)Z" } : Jvm.MethodName)) ∈ lw_tbl := lw_at lw_m6 218 rfl
theorem q1567 : (Jvm.Cond.instanceMethod ({ cls := "NapkinDeeds$Reader", name := "isSmall", desc := "(I)Z" } : Jvm.MethodName)) ∈ lw_all := lw_g (lw_at lw_m6 219 rfl) rfl
theorem q1568 : (Jvm.Cond.code ({ cls := "NapkinDeeds$Reader", name := "isSmall", desc := "(I)Z" } : Jvm.MethodName) prog_31_method_2_code (2 : Nat) (Option.some Jvm.ClassFile.FieldType.boolean)) ∈ lw_all := lw_g (lw_at lw_m6 220 rfl) rfl
theorem q1569 : (Jvm.Cond.methodLink "NapkinDeeds$Reader" (64 : Nat) ({ cls := "NapkinDeeds$Reader", name := "isDigit", desc := "(I)Z" } : Jvm.MethodName)) ∈ lw_all := lw_g (lw_at lw_m6 221 rfl) rfl
theorem q1570 : (Jvm.Cond.privateMethod ({ cls := "NapkinDeeds$Reader", name := "isDigit", desc := "(I)Z" } : Jvm.MethodName)) ∈ lw_tbl := lw_at lw_m6 222 rfl
theorem q1571 : (Jvm.Cond.instanceMethod ({ cls := "NapkinDeeds$Reader", name := "isDigit", desc := "(I)Z" } : Jvm.MethodName)) ∈ lw_all := lw_g (lw_at lw_m6 223 rfl) rfl
theorem q1572 : (Jvm.Cond.code ({ cls := "NapkinDeeds$Reader", name := "isDigit", desc := "(I)Z" } : Jvm.MethodName) prog_31_method_3_code (2 : Nat) (Option.some Jvm.ClassFile.FieldType.boolean)) ∈ lw_all := lw_g (lw_at lw_m6 224 rfl) rfl
theorem q1573 : (Jvm.Cond.stringRef "NapkinDeeds$Reader" (70 : Nat) ";:+-*()[]=<>") ∈ lw_tbl := lw_at lw_m6 225 rfl
theorem q1574 : (Jvm.Cond.methodLink "NapkinDeeds$Reader" (72 : Nat) ({ cls := "java/lang/String", name := "indexOf", desc := "(I)I" } : Jvm.MethodName)) ∈ lw_all := lw_g (lw_at lw_m6 226 rfl) rfl
theorem q1624 : (Jvm.Cond.fieldLink "NapkinDeeds$Reader" (27 : Nat) "NapkinDeeds$Reader" "words" "[Ljava/lang/String;") ∈ lw_all := lw_g (lw_at lw_m7 36 rfl) rfl
theorem q1625 : (Jvm.Cond.fieldLink "NapkinDeeds$Reader" (40 : Nat) "NapkinDeeds$Reader" "tape" "[B") ∈ lw_all := lw_g (lw_at lw_m7 37 rfl) rfl
theorem q1626 : (Jvm.Cond.fieldLink "NapkinDeeds$Reader" (44 : Nat) "NapkinDeeds$Reader" "size" "I") ∈ lw_all := lw_g (lw_at lw_m7 38 rfl) rfl
theorem q1627 : (Jvm.Cond.fieldLink "NapkinDeeds$Reader" (36 : Nat) "NapkinDeeds$Reader" "made" "LNapkinDeeds$Napkin;") ∈ lw_all := lw_g (lw_at lw_m7 39 rfl) rfl
theorem q1628 : (Jvm.Cond.fieldLink "NapkinDeeds$Reader" (54 : Nat) "NapkinDeeds$Reader" "at" "I") ∈ lw_all := lw_g (lw_at lw_m7 40 rfl) rfl
theorem q1629 : (Jvm.Cond.fieldLink "NapkinDeeds$Reader" (51 : Nat) "NapkinDeeds$Reader" "behind" "I") ∈ lw_all := lw_g (lw_at lw_m7 41 rfl) rfl
theorem q1630 : (Jvm.Cond.fieldLink "NapkinDeeds$Reader" (57 : Nat) "NapkinDeeds$Reader" "kind" "I") ∈ lw_all := lw_g (lw_at lw_m7 42 rfl) rfl
theorem q1631 : (Jvm.Cond.fieldLink "NapkinDeeds$Reader" (67 : Nat) "NapkinDeeds$Reader" "number" "I") ∈ lw_all := lw_g (lw_at lw_m7 43 rfl) rfl
theorem q1632 : (Jvm.Cond.fieldLink "NapkinDeeds$Reader" (109 : Nat) "NapkinDeeds$Reader" "deep" "I") ∈ lw_all := lw_g (lw_at lw_m7 44 rfl) rfl
theorem q1633 : (Jvm.Cond.fieldLink "NapkinDeeds$Reader" (124 : Nat) "NapkinDeeds$Reader" "asked" "I") ∈ lw_all := lw_g (lw_at lw_m7 45 rfl) rfl
theorem q1634 : (Jvm.Cond.laysFinal "NapkinDeeds$Reader" "NapkinDeeds$Reader" "words" "[Ljava/lang/String;") ∈ lw_all := lw_g (lw_at lw_m7 46 rfl) rfl
theorem q1635 : (Jvm.Cond.soleField "NapkinDeeds$Reader" "words") ∈ lw_all := lw_g (lw_at lw_m7 47 rfl) rfl
theorem q1636 : (Jvm.Cond.laysFinal "NapkinDeeds$Reader" "NapkinDeeds$Reader" "tape" "[B") ∈ lw_all := lw_g (lw_at lw_m7 48 rfl) rfl
theorem q1637 : (Jvm.Cond.soleField "NapkinDeeds$Reader" "tape") ∈ lw_all := lw_g (lw_at lw_m7 49 rfl) rfl
theorem q1638 : (Jvm.Cond.laysFinal "NapkinDeeds$Reader" "NapkinDeeds$Reader" "size" "I") ∈ lw_all := lw_g (lw_at lw_m7 50 rfl) rfl
theorem q1639 : (Jvm.Cond.soleField "NapkinDeeds$Reader" "size") ∈ lw_all := lw_g (lw_at lw_m7 51 rfl) rfl
theorem q1640 : (Jvm.Cond.laysFinal "NapkinDeeds$Reader" "NapkinDeeds$Reader" "made" "LNapkinDeeds$Napkin;") ∈ lw_all := lw_g (lw_at lw_m7 52 rfl) rfl
theorem q1641 : (Jvm.Cond.soleField "NapkinDeeds$Reader" "made") ∈ lw_all := lw_g (lw_at lw_m7 53 rfl) rfl
theorem q1642 : (Jvm.Cond.lays "NapkinDeeds$Reader" "NapkinDeeds$Reader" "at" "I") ∈ lw_all := lw_g (lw_at lw_m7 54 rfl) rfl
theorem q1643 : (Jvm.Cond.soleField "NapkinDeeds$Reader" "at") ∈ lw_all := lw_g (lw_at lw_m7 55 rfl) rfl
theorem q1644 : (Jvm.Cond.lays "NapkinDeeds$Reader" "NapkinDeeds$Reader" "behind" "I") ∈ lw_all := lw_g (lw_at lw_m7 56 rfl) rfl
theorem q1645 : (Jvm.Cond.soleField "NapkinDeeds$Reader" "behind") ∈ lw_all := lw_g (lw_at lw_m7 57 rfl) rfl
theorem q1646 : (Jvm.Cond.lays "NapkinDeeds$Reader" "NapkinDeeds$Reader" "kind" "I") ∈ lw_all := lw_g (lw_at lw_m7 58 rfl) rfl
theorem q1647 : (Jvm.Cond.soleField "NapkinDeeds$Reader" "kind") ∈ lw_all := lw_g (lw_at lw_m7 59 rfl) rfl
theorem q1648 : (Jvm.Cond.lays "NapkinDeeds$Reader" "NapkinDeeds$Reader" "number" "I") ∈ lw_all := lw_g (lw_at lw_m7 60 rfl) rfl
theorem q1649 : (Jvm.Cond.soleField "NapkinDeeds$Reader" "number") ∈ lw_all := lw_g (lw_at lw_m7 61 rfl) rfl
theorem q1650 : (Jvm.Cond.lays "NapkinDeeds$Reader" "NapkinDeeds$Reader" "deep" "I") ∈ lw_all := lw_g (lw_at lw_m7 62 rfl) rfl
theorem q1651 : (Jvm.Cond.soleField "NapkinDeeds$Reader" "deep") ∈ lw_all := lw_g (lw_at lw_m7 63 rfl) rfl
theorem q1652 : (Jvm.Cond.lays "NapkinDeeds$Reader" "NapkinDeeds$Reader" "asked" "I") ∈ lw_all := lw_g (lw_at lw_m7 64 rfl) rfl
theorem q1653 : (Jvm.Cond.soleField "NapkinDeeds$Reader" "asked") ∈ lw_all := lw_g (lw_at lw_m7 65 rfl) rfl
theorem q1654 : (Jvm.Cond.superclass "NapkinDeeds$Reader" "java/lang/Object") ∈ lw_all := lw_g (lw_at lw_m7 66 rfl) rfl
theorem q1656 : (Jvm.Cond.instanceMethod ({ cls := "NapkinDeeds$Reader", name := "all", desc := "()LNapkinDeeds$Napkin;" } : Jvm.MethodName)) ∈ lw_all := lw_g (lw_at lw_m7 68 rfl) rfl
theorem q1657 : (Jvm.Cond.selects "NapkinDeeds$Reader" ({ cls := "NapkinDeeds$Reader", name := "all", desc := "()LNapkinDeeds$Napkin;" } : Jvm.MethodName) ({ cls := "NapkinDeeds$Reader", name := "all", desc := "()LNapkinDeeds$Napkin;" } : Jvm.MethodName)) ∈ lw_all := lw_g (lw_at lw_m7 69 rfl) rfl
theorem q1658 : (Jvm.Cond.code ({ cls := "NapkinDeeds$Reader", name := "all", desc := "()LNapkinDeeds$Napkin;" } : Jvm.MethodName) prog_31_method_24_code (1 : Nat) (Option.some (Jvm.ClassFile.FieldType.object "NapkinDeeds$Napkin"))) ∈ lw_all := lw_g (lw_at lw_m7 70 rfl) rfl
theorem q1659 : (Jvm.Cond.methodLink "NapkinDeeds$Reader" (247 : Nat) ({ cls := "NapkinDeeds$Reader", name := "line", desc := "()V" } : Jvm.MethodName)) ∈ lw_all := lw_g (lw_at lw_m7 71 rfl) rfl
theorem q1660 : (Jvm.Cond.privateMethod ({ cls := "NapkinDeeds$Reader", name := "line", desc := "()V" } : Jvm.MethodName)) ∈ lw_tbl := lw_at lw_m7 72 rfl
theorem q1661 : (Jvm.Cond.instanceMethod ({ cls := "NapkinDeeds$Reader", name := "line", desc := "()V" } : Jvm.MethodName)) ∈ lw_all := lw_g (lw_at lw_m7 73 rfl) rfl
theorem q1662 : (Jvm.Cond.code ({ cls := "NapkinDeeds$Reader", name := "line", desc := "()V" } : Jvm.MethodName) prog_31_method_23_code (1 : Nat) (Option.none : Option Jvm.ClassFile.FieldType)) ∈ lw_all := lw_g (lw_at lw_m7 74 rfl) rfl
theorem q1663 : (Jvm.Cond.stringRef "NapkinDeeds$Reader" (196 : Nat) "cell") ∈ lw_tbl := lw_at lw_m7 75 rfl
theorem q1664 : (Jvm.Cond.methodLink "NapkinDeeds$Reader" (84 : Nat) ({ cls := "NapkinDeeds$Reader", name := "is", desc := "(Ljava/lang/String;)Z" } : Jvm.MethodName)) ∈ lw_all := lw_g (lw_at lw_m7 76 rfl) rfl
theorem q1665 : (Jvm.Cond.privateMethod ({ cls := "NapkinDeeds$Reader", name := "is", desc := "(Ljava/lang/String;)Z" } : Jvm.MethodName)) ∈ lw_tbl := lw_at lw_m7 77 rfl
theorem q1666 : (Jvm.Cond.instanceMethod ({ cls := "NapkinDeeds$Reader", name := "is", desc := "(Ljava/lang/String;)Z" } : Jvm.MethodName)) ∈ lw_all := lw_g (lw_at lw_m7 78 rfl) rfl
theorem q1667 : (Jvm.Cond.code ({ cls := "NapkinDeeds$Reader", name := "is", desc := "(Ljava/lang/String;)Z" } : Jvm.MethodName) prog_31_method_5_code (3 : Nat) (Option.some Jvm.ClassFile.FieldType.boolean)) ∈ lw_all := lw_g (lw_at lw_m7 79 rfl) rfl
theorem q1668 : (Jvm.Cond.methodLink "NapkinDeeds$Reader" (76 : Nat) ({ cls := "java/lang/String", name := "length", desc := "()I" } : Jvm.MethodName)) ∈ lw_all := lw_g (lw_at lw_m7 80 rfl) rfl
theorem q1669 : (Jvm.Cond.methodLink "NapkinDeeds$Reader" (80 : Nat) ({ cls := "java/lang/String", name := "charAt", desc := "(I)C" } : Jvm.MethodName)) ∈ lw_all := lw_g (lw_at lw_m7 81 rfl) rfl
theorem q1687 : (Jvm.Cond.methodLink "NapkinDeeds$Reader" (198 : Nat) ({ cls := "NapkinDeeds$Napkin", name := "cells", desc := "()I" } : Jvm.MethodName)) ∈ lw_all := lw_g (lw_at lw_m7 99 rfl) rfl
theorem q1688 : (Jvm.Cond.methodLink "NapkinDeeds$Reader" (112 : Nat) ({ cls := "NapkinDeeds$Reader", name := "full", desc := "(Z)V" } : Jvm.MethodName)) ∈ lw_all := lw_g (lw_at lw_m7 100 rfl) rfl
theorem q1689 : (Jvm.Cond.privateMethod ({ cls := "NapkinDeeds$Reader", name := "full", desc := "(Z)V" } : Jvm.MethodName)) ∈ lw_tbl := lw_at lw_m7 101 rfl
theorem q1690 : (Jvm.Cond.instanceMethod ({ cls := "NapkinDeeds$Reader", name := "full", desc := "(Z)V" } : Jvm.MethodName)) ∈ lw_all := lw_g (lw_at lw_m7 102 rfl) rfl
theorem q1691 : (Jvm.Cond.code ({ cls := "NapkinDeeds$Reader", name := "full", desc := "(Z)V" } : Jvm.MethodName) prog_31_method_13_code (2 : Nat) (Option.none : Option Jvm.ClassFile.FieldType)) ∈ lw_all := lw_g (lw_at lw_m7 103 rfl) rfl
theorem q1692 : (Jvm.Cond.classLink "NapkinDeeds$Reader" (100 : Nat) "NapkinDeeds$Bad") ∈ lw_all := lw_g (lw_at lw_m7 104 rfl) rfl
theorem q1701 : (Jvm.Cond.methodLink "NapkinDeeds$Reader" (102 : Nat) ({ cls := "NapkinDeeds$Bad", name := "<init>", desc := "(II)V" } : Jvm.MethodName)) ∈ lw_all := lw_g (lw_at lw_m7 113 rfl) rfl
theorem q1720 : (Jvm.Cond.methodLink "NapkinDeeds$Reader" (118 : Nat) ({ cls := "NapkinDeeds$Reader", name := "number", desc := "(II)I" } : Jvm.MethodName)) ∈ lw_all := lw_g (lw_at lw_m7 132 rfl) rfl
theorem q1721 : (Jvm.Cond.privateMethod ({ cls := "NapkinDeeds$Reader", name := "number", desc := "(II)I" } : Jvm.MethodName)) ∈ lw_tbl := lw_at lw_m7 133 rfl
theorem q1722 : (Jvm.Cond.instanceMethod ({ cls := "NapkinDeeds$Reader", name := "number", desc := "(II)I" } : Jvm.MethodName)) ∈ lw_all := lw_g (lw_at lw_m7 134 rfl) rfl
theorem q1723 : (Jvm.Cond.code ({ cls := "NapkinDeeds$Reader", name := "number", desc := "(II)I" } : Jvm.MethodName) prog_31_method_12_code (4 : Nat) (Option.some Jvm.ClassFile.FieldType.int)) ∈ lw_all := lw_g (lw_at lw_m7 135 rfl) rfl
theorem q1724 : (Jvm.Cond.methodLink "NapkinDeeds$Reader" (94 : Nat) ({ cls := "NapkinDeeds$Reader", name := "wrong", desc := "()LNapkinDeeds$Bad;" } : Jvm.MethodName)) ∈ lw_all := lw_g (lw_at lw_m7 136 rfl) rfl
theorem q1725 : (Jvm.Cond.privateMethod ({ cls := "NapkinDeeds$Reader", name := "wrong", desc := "()LNapkinDeeds$Bad;" } : Jvm.MethodName)) ∈ lw_tbl := lw_at lw_m7 137 rfl
theorem q1726 : (Jvm.Cond.instanceMethod ({ cls := "NapkinDeeds$Reader", name := "wrong", desc := "()LNapkinDeeds$Bad;" } : Jvm.MethodName)) ∈ lw_all := lw_g (lw_at lw_m7 138 rfl) rfl
theorem q1727 : (Jvm.Cond.code ({ cls := "NapkinDeeds$Reader", name := "wrong", desc := "()LNapkinDeeds$Bad;" } : Jvm.MethodName) prog_31_method_11_code (1 : Nat) (Option.some (Jvm.ClassFile.FieldType.object "NapkinDeeds$Bad"))) ∈ lw_all := lw_g (lw_at lw_m7 139 rfl) rfl
theorem q1728 : (Jvm.Cond.methodLinkNest "NapkinDeeds$Reader" (105 : Nat) ({ cls := "NapkinDeeds", name := "isIn", desc := "(JJJ)Z" } : Jvm.MethodName) "NapkinDeeds") ∈ lw_tbl := lw_at lw_m7 140 rfl
theorem q1729 : (Jvm.Cond.methodLink "NapkinDeeds$Reader" (205 : Nat) ({ cls := "java/lang/Integer", name := "valueOf", desc := "(I)Ljava/lang/Integer;" } : Jvm.MethodName)) ∈ lw_all := lw_g (lw_at lw_m7 141 rfl) rfl
theorem q1749 : (Jvm.Cond.methodLink "NapkinDeeds$Reader" (211 : Nat) ({ cls := "java/util/ArrayList", name := "add", desc := "(Ljava/lang/Object;)Z" } : Jvm.MethodName)) ∈ lw_all := lw_g (lw_at lw_m7 161 rfl) rfl
theorem q1750 : (Jvm.Cond.stringRef "NapkinDeeds$Reader" (217 : Nat) "back") ∈ lw_tbl := lw_at lw_m7 162 rfl
theorem q1751 : (Jvm.Cond.methodLink "NapkinDeeds$Reader" (219 : Nat) ({ cls := "NapkinDeeds$Reader", name := "must", desc := "(Ljava/lang/String;)V" } : Jvm.MethodName)) ∈ lw_all := lw_g (lw_at lw_m7 163 rfl) rfl
theorem q1752 : (Jvm.Cond.privateMethod ({ cls := "NapkinDeeds$Reader", name := "must", desc := "(Ljava/lang/String;)V" } : Jvm.MethodName)) ∈ lw_tbl := lw_at lw_m7 164 rfl
theorem q1753 : (Jvm.Cond.instanceMethod ({ cls := "NapkinDeeds$Reader", name := "must", desc := "(Ljava/lang/String;)V" } : Jvm.MethodName)) ∈ lw_all := lw_g (lw_at lw_m7 165 rfl) rfl
theorem q1754 : (Jvm.Cond.code ({ cls := "NapkinDeeds$Reader", name := "must", desc := "(Ljava/lang/String;)V" } : Jvm.MethodName) prog_31_method_9_code (2 : Nat) (Option.none : Option Jvm.ClassFile.FieldType)) ∈ lw_all := lw_g (lw_at lw_m7 166 rfl) rfl
theorem q1755 : (Jvm.Cond.methodLink "NapkinDeeds$Reader" (91 : Nat) ({ cls := "NapkinDeeds$Reader", name := "eats", desc := "(Ljava/lang/String;)Z" } : Jvm.MethodName)) ∈ lw_all := lw_g (lw_at lw_m7 167 rfl) rfl
theorem q1756 : (Jvm.Cond.privateMethod ({ cls := "NapkinDeeds$Reader", name := "eats", desc := "(Ljava/lang/String;)Z" } : Jvm.MethodName)) ∈ lw_tbl := lw_at lw_m7 168 rfl
theorem q1757 : (Jvm.Cond.instanceMethod ({ cls := "NapkinDeeds$Reader", name := "eats", desc := "(Ljava/lang/String;)Z" } : Jvm.MethodName)) ∈ lw_all := lw_g (lw_at lw_m7 169 rfl) rfl
theorem q1758 : (Jvm.Cond.code ({ cls := "NapkinDeeds$Reader", name := "eats", desc := "(Ljava/lang/String;)Z" } : Jvm.MethodName) prog_31_method_7_code (3 : Nat) (Option.some Jvm.ClassFile.FieldType.boolean)) ∈ lw_all := lw_g (lw_at lw_m7 170 rfl) rfl
theorem q1759 : (Jvm.Cond.methodLink "NapkinDeeds$Reader" (228 : Nat) ({ cls := "java/util/ArrayList", name := "size", desc := "()I" } : Jvm.MethodName)) ∈ lw_all := lw_g (lw_at lw_m7 171 rfl) rfl
theorem q1760 : (Jvm.Cond.stringRef "NapkinDeeds$Reader" (230 : Nat) "worth") ∈ lw_tbl := lw_at lw_m7 172 rfl
theorem q1761 : (Jvm.Cond.methodLink "NapkinDeeds$Reader" (232 : Nat) ({ cls := "NapkinDeeds$Reader", name := "law", desc := "(I)V" } : Jvm.MethodName)) ∈ lw_all := lw_g (lw_at lw_m7 173 rfl) rfl
theorem q1762 : (Jvm.Cond.privateMethod ({ cls := "NapkinDeeds$Reader", name := "law", desc := "(I)V" } : Jvm.MethodName)) ∈ lw_tbl := lw_at lw_m7 174 rfl
theorem q1763 : (Jvm.Cond.instanceMethod ({ cls := "NapkinDeeds$Reader", name := "law", desc := "(I)V" } : Jvm.MethodName)) ∈ lw_all := lw_g (lw_at lw_m7 175 rfl) rfl
theorem q1764 : (Jvm.Cond.code ({ cls := "NapkinDeeds$Reader", name := "law", desc := "(I)V" } : Jvm.MethodName) prog_31_method_22_code (2 : Nat) (Option.none : Option Jvm.ClassFile.FieldType)) ∈ lw_all := lw_g (lw_at lw_m7 176 rfl) rfl
theorem q1765 : (Jvm.Cond.methodLink "NapkinDeeds$Reader" (137 : Nat) ({ cls := "NapkinDeeds$Reader", name := "must", desc := "(C)V" } : Jvm.MethodName)) ∈ lw_all := lw_g (lw_at lw_m7 177 rfl) rfl
theorem q1766 : (Jvm.Cond.privateMethod ({ cls := "NapkinDeeds$Reader", name := "must", desc := "(C)V" } : Jvm.MethodName)) ∈ lw_tbl := lw_at lw_m7 178 rfl
theorem q1767 : (Jvm.Cond.instanceMethod ({ cls := "NapkinDeeds$Reader", name := "must", desc := "(C)V" } : Jvm.MethodName)) ∈ lw_all := lw_g (lw_at lw_m7 179 rfl) rfl
theorem q1768 : (Jvm.Cond.code ({ cls := "NapkinDeeds$Reader", name := "must", desc := "(C)V" } : Jvm.MethodName) prog_31_method_10_code (2 : Nat) (Option.none : Option Jvm.ClassFile.FieldType)) ∈ lw_all := lw_g (lw_at lw_m7 180 rfl) rfl
theorem q1769 : (Jvm.Cond.methodLink "NapkinDeeds$Reader" (98 : Nat) ({ cls := "NapkinDeeds$Reader", name := "eats", desc := "(C)Z" } : Jvm.MethodName)) ∈ lw_all := lw_g (lw_at lw_m7 181 rfl) rfl
theorem q1770 : (Jvm.Cond.privateMethod ({ cls := "NapkinDeeds$Reader", name := "eats", desc := "(C)Z" } : Jvm.MethodName)) ∈ lw_tbl := lw_at lw_m7 182 rfl
theorem q1771 : (Jvm.Cond.instanceMethod ({ cls := "NapkinDeeds$Reader", name := "eats", desc := "(C)Z" } : Jvm.MethodName)) ∈ lw_all := lw_g (lw_at lw_m7 183 rfl) rfl
theorem q1772 : (Jvm.Cond.code ({ cls := "NapkinDeeds$Reader", name := "eats", desc := "(C)Z" } : Jvm.MethodName) prog_31_method_8_code (3 : Nat) (Option.some Jvm.ClassFile.FieldType.boolean)) ∈ lw_all := lw_g (lw_at lw_m7 184 rfl) rfl
theorem q1773 : (Jvm.Cond.methodLink "NapkinDeeds$Reader" (88 : Nat) ({ cls := "NapkinDeeds$Reader", name := "is", desc := "(C)Z" } : Jvm.MethodName)) ∈ lw_all := lw_g (lw_at lw_m7 185 rfl) rfl
theorem q1774 : (Jvm.Cond.privateMethod ({ cls := "NapkinDeeds$Reader", name := "is", desc := "(C)Z" } : Jvm.MethodName)) ∈ lw_tbl := lw_at lw_m7 186 rfl
theorem q1775 : (Jvm.Cond.instanceMethod ({ cls := "NapkinDeeds$Reader", name := "is", desc := "(C)Z" } : Jvm.MethodName)) ∈ lw_all := lw_g (lw_at lw_m7 187 rfl) rfl
theorem q1776 : (Jvm.Cond.code ({ cls := "NapkinDeeds$Reader", name := "is", desc := "(C)Z" } : Jvm.MethodName) prog_31_method_6_code (2 : Nat) (Option.some Jvm.ClassFile.FieldType.boolean)) ∈ lw_all := lw_g (lw_at lw_m7 188 rfl) rfl
theorem q1777 : (Jvm.Cond.methodLink "NapkinDeeds$Reader" (133 : Nat) ({ cls := "NapkinDeeds$Reader", name := "sum", desc := "()LNapkinDeeds$Sum;" } : Jvm.MethodName)) ∈ lw_all := lw_g (lw_at lw_m7 189 rfl) rfl
theorem q1778 : (Jvm.Cond.privateMethod ({ cls := "NapkinDeeds$Reader", name := "sum", desc := "()LNapkinDeeds$Sum;" } : Jvm.MethodName)) ∈ lw_tbl := lw_at lw_m7 190 rfl
theorem q1779 : (Jvm.Cond.instanceMethod ({ cls := "NapkinDeeds$Reader", name := "sum", desc := "()LNapkinDeeds$Sum;" } : Jvm.MethodName)) ∈ lw_all := lw_g (lw_at lw_m7 191 rfl) rfl
theorem q1780 : (Jvm.Cond.code ({ cls := "NapkinDeeds$Reader", name := "sum", desc := "()LNapkinDeeds$Sum;" } : Jvm.MethodName) prog_31_method_17_code (2 : Nat) (Option.some (Jvm.ClassFile.FieldType.object "NapkinDeeds$Sum"))) ∈ lw_all := lw_g (lw_at lw_m7 192 rfl) rfl
theorem q1781 : (Jvm.Cond.methodLink "NapkinDeeds$Reader" (149 : Nat) ({ cls := "NapkinDeeds$Reader", name := "term", desc := "()LNapkinDeeds$Sum;" } : Jvm.MethodName)) ∈ lw_all := lw_g (lw_at lw_m7 193 rfl) rfl
theorem q1782 : (Jvm.Cond.privateMethod ({ cls := "NapkinDeeds$Reader", name := "term", desc := "()LNapkinDeeds$Sum;" } : Jvm.MethodName)) ∈ lw_tbl := lw_at lw_m7 194 rfl
theorem q1783 : (Jvm.Cond.instanceMethod ({ cls := "NapkinDeeds$Reader", name := "term", desc := "()LNapkinDeeds$Sum;" } : Jvm.MethodName)) ∈ lw_all := lw_g (lw_at lw_m7 195 rfl) rfl
theorem q1784 : (Jvm.Cond.code ({ cls := "NapkinDeeds$Reader", name := "term", desc := "()LNapkinDeeds$Sum;" } : Jvm.MethodName) prog_31_method_16_code (2 : Nat) (Option.some (Jvm.ClassFile.FieldType.object "NapkinDeeds$Sum"))) ∈ lw_all := lw_g (lw_at lw_m7 196 rfl) rfl
theorem q1785 : (Jvm.Cond.methodLink "NapkinDeeds$Reader" (141 : Nat) ({ cls := "NapkinDeeds$Reader", name := "atom", desc := "()LNapkinDeeds$Sum;" } : Jvm.MethodName)) ∈ lw_all := lw_g (lw_at lw_m7 197 rfl) rfl
theorem q1786 : (Jvm.Cond.privateMethod ({ cls := "NapkinDeeds$Reader", name := "atom", desc := "()LNapkinDeeds$Sum;" } : Jvm.MethodName)) ∈ lw_tbl := lw_at lw_m7 198 rfl
theorem q1787 : (Jvm.Cond.instanceMethod ({ cls := "NapkinDeeds$Reader", name := "atom", desc := "()LNapkinDeeds$Sum;" } : Jvm.MethodName)) ∈ lw_all := lw_g (lw_at lw_m7 199 rfl) rfl
theorem q1788 : (Jvm.Cond.code ({ cls := "NapkinDeeds$Reader", name := "atom", desc := "()LNapkinDeeds$Sum;" } : Jvm.MethodName) prog_31_method_15_code (2 : Nat) (Option.some (Jvm.ClassFile.FieldType.object "NapkinDeeds$Sum"))) ∈ lw_all := lw_g (lw_at lw_m7 200 rfl) rfl
theorem q1789 : (Jvm.Cond.classLink "NapkinDeeds$Reader" (116 : Nat) "NapkinDeeds$Number") ∈ lw_all := lw_g (lw_at lw_m7 201 rfl) rfl
theorem q1791 : (Jvm.Cond.methodLink "NapkinDeeds$Reader" (121 : Nat) ({ cls := "NapkinDeeds$Number", name := "<init>", desc := "(I)V" } : Jvm.MethodName)) ∈ lw_all := lw_g (lw_at lw_m7 203 rfl) rfl
theorem q1799 : (Jvm.Cond.classLink "NapkinDeeds$Reader" (127 : Nat) "NapkinDeeds$Word") ∈ lw_all := lw_g (lw_at lw_m7 211 rfl) rfl
theorem q1801 : (Jvm.Cond.methodLink "NapkinDeeds$Reader" (129 : Nat) ({ cls := "NapkinDeeds$Word", name := "<init>", desc := "(I)V" } : Jvm.MethodName)) ∈ lw_all := lw_g (lw_at lw_m7 213 rfl) rfl
theorem q1809 : (Jvm.Cond.methodLink "NapkinDeeds$Reader" (130 : Nat) ({ cls := "NapkinDeeds$Reader", name := "deeper", desc := "()V" } : Jvm.MethodName)) ∈ lw_all := lw_g (lw_at lw_m7 221 rfl) rfl
theorem q1810 : (Jvm.Cond.privateMethod ({ cls := "NapkinDeeds$Reader", name := "deeper", desc := "()V" } : Jvm.MethodName)) ∈ lw_tbl := lw_at lw_m7 222 rfl
theorem q1811 : (Jvm.Cond.instanceMethod ({ cls := "NapkinDeeds$Reader", name := "deeper", desc := "()V" } : Jvm.MethodName)) ∈ lw_all := lw_g (lw_at lw_m7 223 rfl) rfl
theorem q1812 : (Jvm.Cond.code ({ cls := "NapkinDeeds$Reader", name := "deeper", desc := "()V" } : Jvm.MethodName) prog_31_method_14_code (1 : Nat) (Option.none : Option Jvm.ClassFile.FieldType)) ∈ lw_all := lw_g (lw_at lw_m7 224 rfl) rfl
theorem q1813 : (Jvm.Cond.classLink "NapkinDeeds$Reader" (144 : Nat) "NapkinDeeds$Times") ∈ lw_all := lw_g (lw_at lw_m7 225 rfl) rfl
theorem q1815 : (Jvm.Cond.methodLink "NapkinDeeds$Reader" (146 : Nat) ({ cls := "NapkinDeeds$Times", name := "<init>", desc := "(LNapkinDeeds$Sum;LNapkinDeeds$Sum;)V" } : Jvm.MethodName)) ∈ lw_all := lw_g (lw_at lw_m7 227 rfl) rfl
theorem q1829 : (Jvm.Cond.classLink "NapkinDeeds$Reader" (152 : Nat) "NapkinDeeds$Plus") ∈ lw_all := lw_g (lw_at lw_m8 1 rfl) rfl
theorem q1831 : (Jvm.Cond.methodLink "NapkinDeeds$Reader" (154 : Nat) ({ cls := "NapkinDeeds$Plus", name := "<init>", desc := "(LNapkinDeeds$Sum;LNapkinDeeds$Sum;)V" } : Jvm.MethodName)) ∈ lw_all := lw_g (lw_at lw_m8 3 rfl) rfl
theorem q1838 : (Jvm.Cond.methodLink "NapkinDeeds$Reader" (155 : Nat) ({ cls := "NapkinDeeds$Reader", name := "minus", desc := "(LNapkinDeeds$Sum;)LNapkinDeeds$Sum;" } : Jvm.MethodName)) ∈ lw_all := lw_g (lw_at lw_m8 10 rfl) rfl
theorem q1839 : (Jvm.Cond.privateMethod ({ cls := "NapkinDeeds$Reader", name := "minus", desc := "(LNapkinDeeds$Sum;)LNapkinDeeds$Sum;" } : Jvm.MethodName)) ∈ lw_tbl := lw_at lw_m8 11 rfl
theorem q1840 : (Jvm.Cond.instanceMethod ({ cls := "NapkinDeeds$Reader", name := "minus", desc := "(LNapkinDeeds$Sum;)LNapkinDeeds$Sum;" } : Jvm.MethodName)) ∈ lw_all := lw_g (lw_at lw_m8 12 rfl) rfl
theorem q1841 : (Jvm.Cond.code ({ cls := "NapkinDeeds$Reader", name := "minus", desc := "(LNapkinDeeds$Sum;)LNapkinDeeds$Sum;" } : Jvm.MethodName) prog_31_method_18_code (2 : Nat) (Option.some (Jvm.ClassFile.FieldType.object "NapkinDeeds$Sum"))) ∈ lw_all := lw_g (lw_at lw_m8 13 rfl) rfl
theorem q1842 : (Jvm.Cond.classLink "NapkinDeeds$Reader" (159 : Nat) "NapkinDeeds$Minus") ∈ lw_all := lw_g (lw_at lw_m8 14 rfl) rfl
theorem q1844 : (Jvm.Cond.methodLink "NapkinDeeds$Reader" (161 : Nat) ({ cls := "NapkinDeeds$Minus", name := "<init>", desc := "(LNapkinDeeds$Sum;LNapkinDeeds$Sum;)V" } : Jvm.MethodName)) ∈ lw_all := lw_g (lw_at lw_m8 16 rfl) rfl
theorem q1851 : (Jvm.Cond.stringRef "NapkinDeeds$Reader" (238 : Nat) "holds") ∈ lw_tbl := lw_at lw_m8 23 rfl
theorem q1852 : (Jvm.Cond.methodLink "NapkinDeeds$Reader" (173 : Nat) ({ cls := "NapkinDeeds$Reader", name := "truth", desc := "()LNapkinDeeds$Truth;" } : Jvm.MethodName)) ∈ lw_all := lw_g (lw_at lw_m8 24 rfl) rfl
theorem q1853 : (Jvm.Cond.privateMethod ({ cls := "NapkinDeeds$Reader", name := "truth", desc := "()LNapkinDeeds$Truth;" } : Jvm.MethodName)) ∈ lw_tbl := lw_at lw_m8 25 rfl
theorem q1854 : (Jvm.Cond.instanceMethod ({ cls := "NapkinDeeds$Reader", name := "truth", desc := "()LNapkinDeeds$Truth;" } : Jvm.MethodName)) ∈ lw_all := lw_g (lw_at lw_m8 26 rfl) rfl
theorem q1855 : (Jvm.Cond.code ({ cls := "NapkinDeeds$Reader", name := "truth", desc := "()LNapkinDeeds$Truth;" } : Jvm.MethodName) prog_31_method_21_code (2 : Nat) (Option.some (Jvm.ClassFile.FieldType.object "NapkinDeeds$Truth"))) ∈ lw_all := lw_g (lw_at lw_m8 27 rfl) rfl
theorem q1856 : (Jvm.Cond.methodLink "NapkinDeeds$Reader" (188 : Nat) ({ cls := "NapkinDeeds$Reader", name := "both", desc := "()LNapkinDeeds$Truth;" } : Jvm.MethodName)) ∈ lw_all := lw_g (lw_at lw_m8 28 rfl) rfl
theorem q1857 : (Jvm.Cond.privateMethod ({ cls := "NapkinDeeds$Reader", name := "both", desc := "()LNapkinDeeds$Truth;" } : Jvm.MethodName)) ∈ lw_tbl := lw_at lw_m8 29 rfl
theorem q1858 : (Jvm.Cond.instanceMethod ({ cls := "NapkinDeeds$Reader", name := "both", desc := "()LNapkinDeeds$Truth;" } : Jvm.MethodName)) ∈ lw_all := lw_g (lw_at lw_m8 30 rfl) rfl
theorem q1859 : (Jvm.Cond.code ({ cls := "NapkinDeeds$Reader", name := "both", desc := "()LNapkinDeeds$Truth;" } : Jvm.MethodName) prog_31_method_20_code (2 : Nat) (Option.some (Jvm.ClassFile.FieldType.object "NapkinDeeds$Truth"))) ∈ lw_all := lw_g (lw_at lw_m8 31 rfl) rfl
theorem q1860 : (Jvm.Cond.methodLink "NapkinDeeds$Reader" (166 : Nat) ({ cls := "NapkinDeeds$Reader", name := "unit", desc := "()LNapkinDeeds$Truth;" } : Jvm.MethodName)) ∈ lw_all := lw_g (lw_at lw_m8 32 rfl) rfl
theorem q1861 : (Jvm.Cond.privateMethod ({ cls := "NapkinDeeds$Reader", name := "unit", desc := "()LNapkinDeeds$Truth;" } : Jvm.MethodName)) ∈ lw_tbl := lw_at lw_m8 33 rfl
theorem q1862 : (Jvm.Cond.instanceMethod ({ cls := "NapkinDeeds$Reader", name := "unit", desc := "()LNapkinDeeds$Truth;" } : Jvm.MethodName)) ∈ lw_all := lw_g (lw_at lw_m8 34 rfl) rfl
theorem q1863 : (Jvm.Cond.code ({ cls := "NapkinDeeds$Reader", name := "unit", desc := "()LNapkinDeeds$Truth;" } : Jvm.MethodName) prog_31_method_19_code (3 : Nat) (Option.some (Jvm.ClassFile.FieldType.object "NapkinDeeds$Truth"))) ∈ lw_all := lw_g (lw_at lw_m8 35 rfl) rfl
theorem q1864 : (Jvm.Cond.stringRef "NapkinDeeds$Reader" (162 : Nat) "not") ∈ lw_tbl := lw_at lw_m8 36 rfl
theorem q1865 : (Jvm.Cond.classLink "NapkinDeeds$Reader" (164 : Nat) "NapkinDeeds$Not") ∈ lw_all := lw_g (lw_at lw_m8 37 rfl) rfl
theorem q1867 : (Jvm.Cond.methodLink "NapkinDeeds$Reader" (170 : Nat) ({ cls := "NapkinDeeds$Not", name := "<init>", desc := "(LNapkinDeeds$Truth;)V" } : Jvm.MethodName)) ∈ lw_all := lw_g (lw_at lw_m8 39 rfl) rfl
theorem q1875 : (Jvm.Cond.classLink "NapkinDeeds$Reader" (176 : Nat) "NapkinDeeds$Compared") ∈ lw_all := lw_g (lw_at lw_m8 47 rfl) rfl
theorem q1877 : (Jvm.Cond.methodLink "NapkinDeeds$Reader" (178 : Nat) ({ cls := "NapkinDeeds$Compared", name := "<init>", desc := "(LNapkinDeeds$Sum;ILNapkinDeeds$Sum;)V" } : Jvm.MethodName)) ∈ lw_all := lw_g (lw_at lw_m8 49 rfl) rfl
theorem q1891 : (Jvm.Cond.stringRef "NapkinDeeds$Reader" (181 : Nat) "and") ∈ lw_tbl := lw_at lw_m8 63 rfl
theorem q1892 : (Jvm.Cond.classLink "NapkinDeeds$Reader" (183 : Nat) "NapkinDeeds$Both") ∈ lw_all := lw_g (lw_at lw_m8 64 rfl) rfl
theorem q1894 : (Jvm.Cond.methodLink "NapkinDeeds$Reader" (185 : Nat) ({ cls := "NapkinDeeds$Both", name := "<init>", desc := "(LNapkinDeeds$Truth;LNapkinDeeds$Truth;)V" } : Jvm.MethodName)) ∈ lw_all := lw_g (lw_at lw_m8 66 rfl) rfl
theorem q1905 : (Jvm.Cond.stringRef "NapkinDeeds$Reader" (191 : Nat) "or") ∈ lw_tbl := lw_at lw_m8 77 rfl
theorem q1906 : (Jvm.Cond.classLink "NapkinDeeds$Reader" (193 : Nat) "NapkinDeeds$Either") ∈ lw_all := lw_g (lw_at lw_m8 78 rfl) rfl
theorem q1908 : (Jvm.Cond.methodLink "NapkinDeeds$Reader" (195 : Nat) ({ cls := "NapkinDeeds$Either", name := "<init>", desc := "(LNapkinDeeds$Truth;LNapkinDeeds$Truth;)V" } : Jvm.MethodName)) ∈ lw_all := lw_g (lw_at lw_m8 80 rfl) rfl
theorem q1916 : (Jvm.Cond.stringRef "NapkinDeeds$Reader" (243 : Nat) "likes") ∈ lw_tbl := lw_at lw_m8 88 rfl
theorem q3510 : (Jvm.Cond.castable "NapkinDeeds$Reader" "java/lang/Object") ∈ lw_tbl := lw_at lw_m15 2 rfl
theorem in_X8 : ∀ w ∈ wsX80, w ∈ lw_all := lw_in wsX80 [1634, 1636, 1638, 1640, 1642, 1644, 1646, 1648, 1650, 1652] (by decide +kernel) (by decide +kernel)
/-! NapkinDeeds$Bad -/
set_option maxRecDepth 100000
def RX9 : String := "NapkinDeeds$Bad"
def TX9 : u_T := fun k => match k with
  | 0 => ("java/lang/Throwable", "cause", "Ljava/lang/Throwable;", false)
  | 1 => ("java/lang/Throwable", "stackTrace", "[Ljava/lang/StackTraceElement;", false)
  | 2 => ("java/lang/Throwable", "suppressedExceptions", "Ljava/util/List;", false)
  | 3 => ("java/lang/Throwable", "detailMessage", "Ljava/lang/String;", false)
  | 4 => ("java/lang/Throwable", "backtrace", "Ljava/lang/Object;", false)
  | 5 => ("java/lang/Throwable", "depth", "I", false)
  | 6 => ("NapkinDeeds$Bad", "kind", "I", true)
  | _ => ("NapkinDeeds$Bad", "place", "I", true)
def tyX9 : Nat → FieldType := fun k => match k with
  | 0 => .object "java/lang/Throwable"
  | 1 => .array (.object "java/lang/StackTraceElement")
  | 2 => .object "java/util/List"
  | 3 => .object "java/lang/String"
  | 4 => .object "java/lang/Object"
  | 5 => .int
  | 6 => .int
  | _ => .int
abbrev wsX90 : List Cond := u_ws RX9 TX9 8
theorem nmX9 : ∀ a, a < 8 → ∀ b, b < 8 → a ≠ b → (TX9 a).2.1 ≠ (TX9 b).2.1 := by decide +kernel
theorem tyX9_ok : ∀ k, k < 8 → parseFieldDescriptor (TX9 k).2.2.1 = some (tyX9 k) := by decide +kernel
abbrev cX9_init : ByteArray := prog_16_method_1_code
def yX9_init : MethodName := ⟨RX9, "<init>", "(II)V"⟩
def dkwX9_init_0 : List UInt8 := [42, 1, 1, 3, 3, 183, 0, 1, 42, 27, 181, 0, 7, 42, 28, 181, 0, 13, 177]
abbrev dktX9_init_0 : List UInt8 := dkwX9_init_0 ++ []
theorem dksX9_init_0 : cX9_init.data.toList.drop 0 = dktX9_init_0 := by decide +kernel
theorem dX9_init_0 : decode cX9_init 0 = .ok (.aload_n 0, 1) := dk_42 (dk_at dksX9_init_0 0 rfl rfl)
theorem dX9_init_1 : decode cX9_init 1 = .ok (.aconst_null, 1) := dk_1 (dk_at dksX9_init_0 1 rfl rfl)
theorem dX9_init_2 : decode cX9_init 2 = .ok (.aconst_null, 1) := dk_1 (dk_at dksX9_init_0 2 rfl rfl)
theorem dX9_init_3 : decode cX9_init 3 = .ok (.iconst 0, 1) := dk_3 (dk_at dksX9_init_0 3 rfl rfl)
theorem dX9_init_4 : decode cX9_init 4 = .ok (.iconst 0, 1) := dk_3 (dk_at dksX9_init_0 4 rfl rfl)
theorem dX9_init_5 : decode cX9_init 5 = .ok (.invokespecial 1, 3) := dk_183 0 1 (dk_at dksX9_init_0 5 rfl rfl)
theorem dX9_init_8 : decode cX9_init 8 = .ok (.aload_n 0, 1) := dk_42 (dk_at dksX9_init_0 8 rfl rfl)
theorem dX9_init_9 : decode cX9_init 9 = .ok (.iload_n 1, 1) := dk_27 (dk_at dksX9_init_0 9 rfl rfl)
theorem dX9_init_10 : decode cX9_init 10 = .ok (.putfield 7, 3) := dk_181 0 7 (dk_at dksX9_init_0 10 rfl rfl)
theorem dX9_init_13 : decode cX9_init 13 = .ok (.aload_n 0, 1) := dk_42 (dk_at dksX9_init_0 13 rfl rfl)
theorem dX9_init_14 : decode cX9_init 14 = .ok (.iload_n 2, 1) := dk_28 (dk_at dksX9_init_0 14 rfl rfl)
theorem dX9_init_15 : decode cX9_init 15 = .ok (.putfield 13, 3) := dk_181 0 13 (dk_at dksX9_init_0 15 rfl rfl)
theorem dX9_init_18 : decode cX9_init 18 = .ok (.return_, 1) := dk_177 (dk_at dksX9_init_0 18 rfl rfl)
theorem q170 : (Jvm.Cond.initialized "NapkinDeeds$Bad") ∈ lw_all := lw_g (lw_at lw_m1 22 rfl) rfl
theorem q706 : (Jvm.Cond.selects "NapkinDeeds$Bad" ({ cls := "java/lang/Object", name := "getClass", desc := "()Ljava/lang/Class;" } : Jvm.MethodName) ({ cls := "java/lang/Object", name := "getClass", desc := "()Ljava/lang/Class;" } : Jvm.MethodName)) ∈ lw_all := lw_g (lw_at lw_m3 78 rfl) rfl
theorem q1140 : (Jvm.Cond.selects "NapkinDeeds$Bad" ({ cls := "java/lang/Throwable", name := "fillInStackTrace", desc := "()Ljava/lang/Throwable;" } : Jvm.MethodName) ({ cls := "java/lang/Throwable", name := "fillInStackTrace", desc := "()Ljava/lang/Throwable;" } : Jvm.MethodName)) ∈ lw_all := lw_g (lw_at lw_m5 32 rfl) rfl
theorem q1693 : (Jvm.Cond.instantiable "NapkinDeeds$Bad" (8 : Nat)) ∈ lw_all := lw_g (lw_at lw_m7 105 rfl) rfl
theorem q1694 : (Jvm.Cond.castable "NapkinDeeds$Bad" "NapkinDeeds$Bad") ∈ lw_tbl := lw_at lw_m7 106 rfl
theorem q1695 : (Jvm.Cond.selects "NapkinDeeds$Bad" ({ cls := "java/lang/Throwable", name := "fillInStackTrace", desc := "(I)Ljava/lang/Throwable;" } : Jvm.MethodName) ({ cls := "java/lang/Throwable", name := "fillInStackTrace", desc := "(I)Ljava/lang/Throwable;" } : Jvm.MethodName)) ∈ lw_all := lw_g (lw_at lw_m7 107 rfl) rfl
theorem q1696 : (Jvm.Cond.lays "NapkinDeeds$Bad" "java/lang/Throwable" "cause" "Ljava/lang/Throwable;") ∈ lw_all := lw_g (lw_at lw_m7 108 rfl) rfl
theorem q1697 : (Jvm.Cond.lays "NapkinDeeds$Bad" "java/lang/Throwable" "stackTrace" "[Ljava/lang/StackTraceElement;") ∈ lw_all := lw_g (lw_at lw_m7 109 rfl) rfl
theorem q1698 : (Jvm.Cond.lays "NapkinDeeds$Bad" "java/lang/Throwable" "suppressedExceptions" "Ljava/util/List;") ∈ lw_all := lw_g (lw_at lw_m7 110 rfl) rfl
theorem q1699 : (Jvm.Cond.lays "NapkinDeeds$Bad" "java/lang/Throwable" "detailMessage" "Ljava/lang/String;") ∈ lw_all := lw_g (lw_at lw_m7 111 rfl) rfl
theorem q1700 : (Jvm.Cond.lays "NapkinDeeds$Bad" "java/lang/Throwable" "backtrace" "Ljava/lang/Object;") ∈ lw_all := lw_g (lw_at lw_m7 112 rfl) rfl
theorem q1702 : (Jvm.Cond.instanceMethod ({ cls := "NapkinDeeds$Bad", name := "<init>", desc := "(II)V" } : Jvm.MethodName)) ∈ lw_all := lw_g (lw_at lw_m7 114 rfl) rfl
theorem q1703 : (Jvm.Cond.code ({ cls := "NapkinDeeds$Bad", name := "<init>", desc := "(II)V" } : Jvm.MethodName) prog_16_method_1_code (3 : Nat) (Option.none : Option Jvm.ClassFile.FieldType)) ∈ lw_all := lw_g (lw_at lw_m7 115 rfl) rfl
theorem q1704 : (Jvm.Cond.methodLink "NapkinDeeds$Bad" (1 : Nat) ({ cls := "java/lang/Exception", name := "<init>", desc := "(Ljava/lang/String;Ljava/lang/Throwable;ZZ)V" } : Jvm.MethodName)) ∈ lw_all := lw_g (lw_at lw_m7 116 rfl) rfl
theorem q1710 : (Jvm.Cond.fieldLink "NapkinDeeds$Bad" (7 : Nat) "NapkinDeeds$Bad" "kind" "I") ∈ lw_all := lw_g (lw_at lw_m7 122 rfl) rfl
theorem q1712 : (Jvm.Cond.fieldLink "NapkinDeeds$Bad" (13 : Nat) "NapkinDeeds$Bad" "place" "I") ∈ lw_all := lw_g (lw_at lw_m7 124 rfl) rfl
theorem q1714 : (Jvm.Cond.laysFinal "NapkinDeeds$Bad" "NapkinDeeds$Bad" "kind" "I") ∈ lw_all := lw_g (lw_at lw_m7 126 rfl) rfl
theorem q1715 : (Jvm.Cond.soleField "NapkinDeeds$Bad" "kind") ∈ lw_all := lw_g (lw_at lw_m7 127 rfl) rfl
theorem q1716 : (Jvm.Cond.laysFinal "NapkinDeeds$Bad" "NapkinDeeds$Bad" "place" "I") ∈ lw_all := lw_g (lw_at lw_m7 128 rfl) rfl
theorem q1717 : (Jvm.Cond.soleField "NapkinDeeds$Bad" "place") ∈ lw_all := lw_g (lw_at lw_m7 129 rfl) rfl
theorem q1718 : (Jvm.Cond.lays "NapkinDeeds$Bad" "java/lang/Throwable" "depth" "I") ∈ lw_all := lw_g (lw_at lw_m7 130 rfl) rfl
theorem q1719 : (Jvm.Cond.superclass "NapkinDeeds$Bad" "java/lang/Exception") ∈ lw_all := lw_g (lw_at lw_m7 131 rfl) rfl
theorem q3511 : (Jvm.Cond.castable "NapkinDeeds$Bad" "java/lang/Object") ∈ lw_tbl := lw_at lw_m15 3 rfl
theorem in_X9 : ∀ w ∈ wsX90, w ∈ lw_all := lw_in wsX90 [1696, 1697, 1698, 1699, 1700, 1718, 1714, 1716] (by decide +kernel) (by decide +kernel)
/-! NapkinDeeds$Number -/
set_option maxRecDepth 100000
def RX10 : String := "NapkinDeeds$Number"
def TX10 : u_T := fun k => match k with
  | _ => ("NapkinDeeds$Number", "n", "I", true)
def tyX10 : Nat → FieldType := fun k => match k with
  | _ => .int
abbrev wsX100 : List Cond := u_ws RX10 TX10 1
theorem nmX10 : ∀ a, a < 1 → ∀ b, b < 1 → a ≠ b → (TX10 a).2.1 ≠ (TX10 b).2.1 := by decide +kernel
theorem tyX10_ok : ∀ k, k < 1 → parseFieldDescriptor (TX10 k).2.2.1 = some (tyX10 k) := by decide +kernel
abbrev cX10_of : ByteArray := prog_29_method_2_code
def yX10_of : MethodName := ⟨RX10, "of", "(LNapkinDeeds$Case;)I"⟩
theorem dX10_of_0 : decode cX10_of 0 = .ok (.aload_n 0, 1) := by decide +kernel
theorem dX10_of_1 : decode cX10_of 1 = .ok (.getfield 7, 3) := by decide +kernel
theorem dX10_of_4 : decode cX10_of 4 = .ok (.ireturn, 1) := by decide +kernel
abbrev cX10_init : ByteArray := prog_29_method_1_code
def yX10_init : MethodName := ⟨RX10, "<init>", "(I)V"⟩
def dkwX10_init_0 : List UInt8 := [42, 183, 0, 1, 42, 27, 181, 0, 7, 177]
abbrev dktX10_init_0 : List UInt8 := dkwX10_init_0 ++ []
theorem dksX10_init_0 : cX10_init.data.toList.drop 0 = dktX10_init_0 := by decide +kernel
theorem dX10_init_0 : decode cX10_init 0 = .ok (.aload_n 0, 1) := dk_42 (dk_at dksX10_init_0 0 rfl rfl)
theorem dX10_init_1 : decode cX10_init 1 = .ok (.invokespecial 1, 3) := dk_183 0 1 (dk_at dksX10_init_0 1 rfl rfl)
theorem dX10_init_4 : decode cX10_init 4 = .ok (.aload_n 0, 1) := dk_42 (dk_at dksX10_init_0 4 rfl rfl)
theorem dX10_init_5 : decode cX10_init 5 = .ok (.iload_n 1, 1) := dk_27 (dk_at dksX10_init_0 5 rfl rfl)
theorem dX10_init_6 : decode cX10_init 6 = .ok (.putfield 7, 3) := dk_181 0 7 (dk_at dksX10_init_0 6 rfl rfl)
theorem dX10_init_9 : decode cX10_init 9 = .ok (.return_, 1) := dk_177 (dk_at dksX10_init_0 9 rfl rfl)
theorem q177 : (Jvm.Cond.initialized "NapkinDeeds$Number") ∈ lw_all := lw_g (lw_at lw_m1 29 rfl) rfl
theorem q527 : (Jvm.Cond.castable "NapkinDeeds$Number" "NapkinDeeds$Sum") ∈ lw_tbl := lw_at lw_m2 139 rfl
theorem q528 : (Jvm.Cond.selects "NapkinDeeds$Number" ({ cls := "NapkinDeeds$Sum", name := "of", desc := "(LNapkinDeeds$Case;)I" } : Jvm.MethodName) ({ cls := "NapkinDeeds$Number", name := "of", desc := "(LNapkinDeeds$Case;)I" } : Jvm.MethodName)) ∈ lw_all := lw_g (lw_at lw_m2 140 rfl) rfl
theorem q529 : (Jvm.Cond.unhidden "NapkinDeeds$Number" "of" "(LNapkinDeeds$Case;)I") ∈ lw_tbl := lw_at lw_m2 141 rfl
theorem q530 : (Jvm.Cond.instanceMethod ({ cls := "NapkinDeeds$Number", name := "of", desc := "(LNapkinDeeds$Case;)I" } : Jvm.MethodName)) ∈ lw_all := lw_g (lw_at lw_m2 142 rfl) rfl
theorem q531 : (Jvm.Cond.publicMethod ({ cls := "NapkinDeeds$Number", name := "of", desc := "(LNapkinDeeds$Case;)I" } : Jvm.MethodName)) ∈ lw_tbl := lw_at lw_m2 143 rfl
theorem q532 : (Jvm.Cond.code ({ cls := "NapkinDeeds$Number", name := "of", desc := "(LNapkinDeeds$Case;)I" } : Jvm.MethodName) prog_29_method_2_code (2 : Nat) (Option.some Jvm.ClassFile.FieldType.int)) ∈ lw_all := lw_g (lw_at lw_m2 144 rfl) rfl
theorem q716 : (Jvm.Cond.selects "NapkinDeeds$Number" ({ cls := "java/lang/Object", name := "getClass", desc := "()Ljava/lang/Class;" } : Jvm.MethodName) ({ cls := "java/lang/Object", name := "getClass", desc := "()Ljava/lang/Class;" } : Jvm.MethodName)) ∈ lw_all := lw_g (lw_at lw_m3 88 rfl) rfl
theorem q1790 : (Jvm.Cond.instantiable "NapkinDeeds$Number" (1 : Nat)) ∈ lw_all := lw_g (lw_at lw_m7 202 rfl) rfl
theorem q1792 : (Jvm.Cond.instanceMethod ({ cls := "NapkinDeeds$Number", name := "<init>", desc := "(I)V" } : Jvm.MethodName)) ∈ lw_all := lw_g (lw_at lw_m7 204 rfl) rfl
theorem q1793 : (Jvm.Cond.code ({ cls := "NapkinDeeds$Number", name := "<init>", desc := "(I)V" } : Jvm.MethodName) prog_29_method_1_code (2 : Nat) (Option.none : Option Jvm.ClassFile.FieldType)) ∈ lw_all := lw_g (lw_at lw_m7 205 rfl) rfl
theorem q1794 : (Jvm.Cond.methodLink "NapkinDeeds$Number" (1 : Nat) ({ cls := "java/lang/Object", name := "<init>", desc := "()V" } : Jvm.MethodName)) ∈ lw_all := lw_g (lw_at lw_m7 206 rfl) rfl
theorem q1795 : (Jvm.Cond.fieldLink "NapkinDeeds$Number" (7 : Nat) "NapkinDeeds$Number" "n" "I") ∈ lw_all := lw_g (lw_at lw_m7 207 rfl) rfl
theorem q1796 : (Jvm.Cond.laysFinal "NapkinDeeds$Number" "NapkinDeeds$Number" "n" "I") ∈ lw_all := lw_g (lw_at lw_m7 208 rfl) rfl
theorem q1797 : (Jvm.Cond.soleField "NapkinDeeds$Number" "n") ∈ lw_all := lw_g (lw_at lw_m7 209 rfl) rfl
theorem q1798 : (Jvm.Cond.superclass "NapkinDeeds$Number" "java/lang/Object") ∈ lw_all := lw_g (lw_at lw_m7 210 rfl) rfl
theorem q3513 : (Jvm.Cond.castable "NapkinDeeds$Number" "java/lang/Object") ∈ lw_tbl := lw_at lw_m15 5 rfl
theorem in_X10 : ∀ w ∈ wsX100, w ∈ lw_all := lw_in wsX100 [1796] (by decide +kernel) (by decide +kernel)
/-! NapkinDeeds$Word -/
set_option maxRecDepth 100000
def RX11 : String := "NapkinDeeds$Word"
def TX11 : u_T := fun k => match k with
  | _ => ("NapkinDeeds$Word", "which", "I", true)
def tyX11 : Nat → FieldType := fun k => match k with
  | _ => .int
abbrev wsX110 : List Cond := u_ws RX11 TX11 1
theorem nmX11 : ∀ a, a < 1 → ∀ b, b < 1 → a ≠ b → (TX11 a).2.1 ≠ (TX11 b).2.1 := by decide +kernel
theorem tyX11_ok : ∀ k, k < 1 → parseFieldDescriptor (TX11 k).2.2.1 = some (tyX11 k) := by decide +kernel
abbrev cX11_of : ByteArray := prog_41_method_2_code
def yX11_of : MethodName := ⟨RX11, "of", "(LNapkinDeeds$Case;)I"⟩
def dkwX11_of_0 : List UInt8 := [43, 180, 0, 13, 42, 180, 0, 7, 46, 172]
abbrev dktX11_of_0 : List UInt8 := dkwX11_of_0 ++ []
theorem dksX11_of_0 : cX11_of.data.toList.drop 0 = dktX11_of_0 := by decide +kernel
theorem dX11_of_0 : decode cX11_of 0 = .ok (.aload_n 1, 1) := dk_43 (dk_at dksX11_of_0 0 rfl rfl)
theorem dX11_of_1 : decode cX11_of 1 = .ok (.getfield 13, 3) := dk_180 0 13 (dk_at dksX11_of_0 1 rfl rfl)
theorem dX11_of_4 : decode cX11_of 4 = .ok (.aload_n 0, 1) := dk_42 (dk_at dksX11_of_0 4 rfl rfl)
theorem dX11_of_5 : decode cX11_of 5 = .ok (.getfield 7, 3) := dk_180 0 7 (dk_at dksX11_of_0 5 rfl rfl)
theorem dX11_of_8 : decode cX11_of 8 = .ok (.iaload, 1) := dk_46 (dk_at dksX11_of_0 8 rfl rfl)
theorem dX11_of_9 : decode cX11_of 9 = .ok (.ireturn, 1) := dk_172 (dk_at dksX11_of_0 9 rfl rfl)
abbrev cX11_init : ByteArray := prog_41_method_1_code
def yX11_init : MethodName := ⟨RX11, "<init>", "(I)V"⟩
def dkwX11_init_0 : List UInt8 := [42, 183, 0, 1, 42, 27, 181, 0, 7, 177]
abbrev dktX11_init_0 : List UInt8 := dkwX11_init_0 ++ []
theorem dksX11_init_0 : cX11_init.data.toList.drop 0 = dktX11_init_0 := by decide +kernel
theorem dX11_init_0 : decode cX11_init 0 = .ok (.aload_n 0, 1) := dk_42 (dk_at dksX11_init_0 0 rfl rfl)
theorem dX11_init_1 : decode cX11_init 1 = .ok (.invokespecial 1, 3) := dk_183 0 1 (dk_at dksX11_init_0 1 rfl rfl)
theorem dX11_init_4 : decode cX11_init 4 = .ok (.aload_n 0, 1) := dk_42 (dk_at dksX11_init_0 4 rfl rfl)
theorem dX11_init_5 : decode cX11_init 5 = .ok (.iload_n 1, 1) := dk_27 (dk_at dksX11_init_0 5 rfl rfl)
theorem dX11_init_6 : decode cX11_init 6 = .ok (.putfield 7, 3) := dk_181 0 7 (dk_at dksX11_init_0 6 rfl rfl)
theorem dX11_init_9 : decode cX11_init 9 = .ok (.return_, 1) := dk_177 (dk_at dksX11_init_0 9 rfl rfl)
theorem q178 : (Jvm.Cond.initialized "NapkinDeeds$Word") ∈ lw_all := lw_g (lw_at lw_m1 30 rfl) rfl
theorem q363 : (Jvm.Cond.fieldLinkNest "NapkinDeeds$Word" (13 : Nat) "NapkinDeeds$Case" "tells" "[I" "NapkinDeeds") ∈ lw_tbl := lw_at lw_m1 215 rfl
theorem q539 : (Jvm.Cond.castable "NapkinDeeds$Word" "NapkinDeeds$Sum") ∈ lw_tbl := lw_at lw_m2 151 rfl
theorem q540 : (Jvm.Cond.selects "NapkinDeeds$Word" ({ cls := "NapkinDeeds$Sum", name := "of", desc := "(LNapkinDeeds$Case;)I" } : Jvm.MethodName) ({ cls := "NapkinDeeds$Word", name := "of", desc := "(LNapkinDeeds$Case;)I" } : Jvm.MethodName)) ∈ lw_all := lw_g (lw_at lw_m2 152 rfl) rfl
theorem q541 : (Jvm.Cond.unhidden "NapkinDeeds$Word" "of" "(LNapkinDeeds$Case;)I") ∈ lw_tbl := lw_at lw_m2 153 rfl
theorem q542 : (Jvm.Cond.instanceMethod ({ cls := "NapkinDeeds$Word", name := "of", desc := "(LNapkinDeeds$Case;)I" } : Jvm.MethodName)) ∈ lw_all := lw_g (lw_at lw_m2 154 rfl) rfl
theorem q543 : (Jvm.Cond.publicMethod ({ cls := "NapkinDeeds$Word", name := "of", desc := "(LNapkinDeeds$Case;)I" } : Jvm.MethodName)) ∈ lw_tbl := lw_at lw_m2 155 rfl
theorem q544 : (Jvm.Cond.code ({ cls := "NapkinDeeds$Word", name := "of", desc := "(LNapkinDeeds$Case;)I" } : Jvm.MethodName) prog_41_method_2_code (2 : Nat) (Option.some Jvm.ClassFile.FieldType.int)) ∈ lw_all := lw_g (lw_at lw_m2 156 rfl) rfl
theorem q723 : (Jvm.Cond.selects "NapkinDeeds$Word" ({ cls := "java/lang/Object", name := "getClass", desc := "()Ljava/lang/Class;" } : Jvm.MethodName) ({ cls := "java/lang/Object", name := "getClass", desc := "()Ljava/lang/Class;" } : Jvm.MethodName)) ∈ lw_all := lw_g (lw_at lw_m3 95 rfl) rfl
theorem q1800 : (Jvm.Cond.instantiable "NapkinDeeds$Word" (1 : Nat)) ∈ lw_all := lw_g (lw_at lw_m7 212 rfl) rfl
theorem q1802 : (Jvm.Cond.instanceMethod ({ cls := "NapkinDeeds$Word", name := "<init>", desc := "(I)V" } : Jvm.MethodName)) ∈ lw_all := lw_g (lw_at lw_m7 214 rfl) rfl
theorem q1803 : (Jvm.Cond.code ({ cls := "NapkinDeeds$Word", name := "<init>", desc := "(I)V" } : Jvm.MethodName) prog_41_method_1_code (2 : Nat) (Option.none : Option Jvm.ClassFile.FieldType)) ∈ lw_all := lw_g (lw_at lw_m7 215 rfl) rfl
theorem q1804 : (Jvm.Cond.methodLink "NapkinDeeds$Word" (1 : Nat) ({ cls := "java/lang/Object", name := "<init>", desc := "()V" } : Jvm.MethodName)) ∈ lw_all := lw_g (lw_at lw_m7 216 rfl) rfl
theorem q1805 : (Jvm.Cond.fieldLink "NapkinDeeds$Word" (7 : Nat) "NapkinDeeds$Word" "which" "I") ∈ lw_all := lw_g (lw_at lw_m7 217 rfl) rfl
theorem q1806 : (Jvm.Cond.laysFinal "NapkinDeeds$Word" "NapkinDeeds$Word" "which" "I") ∈ lw_all := lw_g (lw_at lw_m7 218 rfl) rfl
theorem q1807 : (Jvm.Cond.soleField "NapkinDeeds$Word" "which") ∈ lw_all := lw_g (lw_at lw_m7 219 rfl) rfl
theorem q1808 : (Jvm.Cond.superclass "NapkinDeeds$Word" "java/lang/Object") ∈ lw_all := lw_g (lw_at lw_m7 220 rfl) rfl
theorem q3514 : (Jvm.Cond.castable "NapkinDeeds$Word" "java/lang/Object") ∈ lw_tbl := lw_at lw_m15 6 rfl
theorem in_X11 : ∀ w ∈ wsX110, w ∈ lw_all := lw_in wsX110 [1806] (by decide +kernel) (by decide +kernel)
/-! NapkinDeeds$Two -/
set_option maxRecDepth 100000
def RX12 : String := "NapkinDeeds$Two"
abbrev cX12_of : ByteArray := prog_39_method_3_code
def yX12_of : MethodName := ⟨RX12, "of", "(LNapkinDeeds$Case;)I"⟩
def dkwX12_of_1 : List UInt8 := [182, 0, 22, 182, 0, 26, 172]
abbrev dktX12_of_1 : List UInt8 := dkwX12_of_1 ++ []
def dkwX12_of_0 : List UInt8 := [42, 42, 42, 180, 0, 7, 43, 185, 0, 16, 2, 0, 133, 42, 180, 0, 13, 43, 185, 0, 16, 2, 0, 133]
abbrev dktX12_of_0 : List UInt8 := dkwX12_of_0 ++ dktX12_of_1
theorem dksX12_of_0 : cX12_of.data.toList.drop 0 = dktX12_of_0 := by decide +kernel
theorem dksX12_of_1 : cX12_of.data.toList.drop 24 = dktX12_of_1 := dk_seg dksX12_of_0 24 rfl rfl
theorem dX12_of_0 : decode cX12_of 0 = .ok (.aload_n 0, 1) := dk_42 (dk_at dksX12_of_0 0 rfl rfl)
theorem dX12_of_1 : decode cX12_of 1 = .ok (.aload_n 0, 1) := dk_42 (dk_at dksX12_of_0 1 rfl rfl)
theorem dX12_of_2 : decode cX12_of 2 = .ok (.aload_n 0, 1) := dk_42 (dk_at dksX12_of_0 2 rfl rfl)
theorem dX12_of_3 : decode cX12_of 3 = .ok (.getfield 7, 3) := dk_180 0 7 (dk_at dksX12_of_0 3 rfl rfl)
theorem dX12_of_6 : decode cX12_of 6 = .ok (.aload_n 1, 1) := dk_43 (dk_at dksX12_of_0 6 rfl rfl)
theorem dX12_of_7 : decode cX12_of 7 = .ok (.invokeinterface 16 2, 5) := by decide +kernel
theorem dX12_of_12 : decode cX12_of 12 = .ok (.i2l, 1) := dk_133 (dk_at dksX12_of_0 12 rfl rfl)
theorem dX12_of_13 : decode cX12_of 13 = .ok (.aload_n 0, 1) := dk_42 (dk_at dksX12_of_0 13 rfl rfl)
theorem dX12_of_14 : decode cX12_of 14 = .ok (.getfield 13, 3) := dk_180 0 13 (dk_at dksX12_of_0 14 rfl rfl)
theorem dX12_of_17 : decode cX12_of 17 = .ok (.aload_n 1, 1) := dk_43 (dk_at dksX12_of_0 17 rfl rfl)
theorem dX12_of_18 : decode cX12_of 18 = .ok (.invokeinterface 16 2, 5) := by decide +kernel
theorem dX12_of_23 : decode cX12_of 23 = .ok (.i2l, 1) := dk_133 (dk_at dksX12_of_0 23 rfl rfl)
theorem dX12_of_24 : decode cX12_of 24 = .ok (.invokevirtual 22, 3) := dk_182 0 22 (dk_at dksX12_of_1 0 rfl rfl)
theorem dX12_of_27 : decode cX12_of 27 = .ok (.invokevirtual 26, 3) := dk_182 0 26 (dk_at dksX12_of_1 3 rfl rfl)
theorem dX12_of_30 : decode cX12_of 30 = .ok (.ireturn, 1) := dk_172 (dk_at dksX12_of_1 6 rfl rfl)
abbrev cX12_init : ByteArray := prog_39_method_1_code
def yX12_init : MethodName := ⟨RX12, "<init>", "(LNapkinDeeds$Sum;LNapkinDeeds$Sum;)V"⟩
def dkwX12_init_0 : List UInt8 := [42, 183, 0, 1, 42, 43, 181, 0, 7, 42, 44, 181, 0, 13, 177]
abbrev dktX12_init_0 : List UInt8 := dkwX12_init_0 ++ []
theorem dksX12_init_0 : cX12_init.data.toList.drop 0 = dktX12_init_0 := by decide +kernel
theorem dX12_init_0 : decode cX12_init 0 = .ok (.aload_n 0, 1) := dk_42 (dk_at dksX12_init_0 0 rfl rfl)
theorem dX12_init_1 : decode cX12_init 1 = .ok (.invokespecial 1, 3) := dk_183 0 1 (dk_at dksX12_init_0 1 rfl rfl)
theorem dX12_init_4 : decode cX12_init 4 = .ok (.aload_n 0, 1) := dk_42 (dk_at dksX12_init_0 4 rfl rfl)
theorem dX12_init_5 : decode cX12_init 5 = .ok (.aload_n 1, 1) := dk_43 (dk_at dksX12_init_0 5 rfl rfl)
theorem dX12_init_6 : decode cX12_init 6 = .ok (.putfield 7, 3) := dk_181 0 7 (dk_at dksX12_init_0 6 rfl rfl)
theorem dX12_init_9 : decode cX12_init 9 = .ok (.aload_n 0, 1) := dk_42 (dk_at dksX12_init_0 9 rfl rfl)
theorem dX12_init_10 : decode cX12_init 10 = .ok (.aload_n 2, 1) := dk_44 (dk_at dksX12_init_0 10 rfl rfl)
theorem dX12_init_11 : decode cX12_init 11 = .ok (.putfield 13, 3) := dk_181 0 13 (dk_at dksX12_init_0 11 rfl rfl)
theorem dX12_init_14 : decode cX12_init 14 = .ok (.return_, 1) := dk_177 (dk_at dksX12_init_0 14 rfl rfl)
theorem q179 : (Jvm.Cond.initialized "NapkinDeeds$Two") ∈ lw_all := lw_g (lw_at lw_m1 31 rfl) rfl
theorem q522 : (Jvm.Cond.instanceMethod ({ cls := "NapkinDeeds$Two", name := "of", desc := "(LNapkinDeeds$Case;)I" } : Jvm.MethodName)) ∈ lw_all := lw_g (lw_at lw_m2 134 rfl) rfl
theorem q523 : (Jvm.Cond.publicMethod ({ cls := "NapkinDeeds$Two", name := "of", desc := "(LNapkinDeeds$Case;)I" } : Jvm.MethodName)) ∈ lw_tbl := lw_at lw_m2 135 rfl
theorem q524 : (Jvm.Cond.code ({ cls := "NapkinDeeds$Two", name := "of", desc := "(LNapkinDeeds$Case;)I" } : Jvm.MethodName) prog_39_method_3_code (2 : Nat) (Option.some Jvm.ClassFile.FieldType.int)) ∈ lw_all := lw_g (lw_at lw_m2 136 rfl) rfl
theorem q525 : (Jvm.Cond.interfaceEntry "NapkinDeeds$Two" (16 : Nat)) ∈ lw_tbl := lw_at lw_m2 137 rfl
theorem q526 : (Jvm.Cond.methodLink "NapkinDeeds$Two" (16 : Nat) ({ cls := "NapkinDeeds$Sum", name := "of", desc := "(LNapkinDeeds$Case;)I" } : Jvm.MethodName)) ∈ lw_all := lw_g (lw_at lw_m2 138 rfl) rfl
theorem q545 : (Jvm.Cond.methodLink "NapkinDeeds$Two" (22 : Nat) ({ cls := "NapkinDeeds$Two", name := "by", desc := "(JJ)J" } : Jvm.MethodName)) ∈ lw_all := lw_g (lw_at lw_m2 157 rfl) rfl
theorem q546 : (Jvm.Cond.declares ({ cls := "NapkinDeeds$Two", name := "by", desc := "(JJ)J" } : Jvm.MethodName)) ∈ lw_tbl := lw_at lw_m2 158 rfl
theorem q547 : (Jvm.Cond.sameMethod "NapkinDeeds$Two" "NapkinDeeds$Two" "by" "(JJ)J") ∈ lw_all := lw_g (lw_at lw_m2 159 rfl) rfl
theorem q557 : (Jvm.Cond.superclass "NapkinDeeds$Two" "java/lang/Object") ∈ lw_all := lw_g (lw_at lw_m2 169 rfl) rfl
theorem q1819 : (Jvm.Cond.instanceMethod ({ cls := "NapkinDeeds$Two", name := "<init>", desc := "(LNapkinDeeds$Sum;LNapkinDeeds$Sum;)V" } : Jvm.MethodName)) ∈ lw_all := lw_g (lw_at lw_m7 231 rfl) rfl
theorem q1820 : (Jvm.Cond.code ({ cls := "NapkinDeeds$Two", name := "<init>", desc := "(LNapkinDeeds$Sum;LNapkinDeeds$Sum;)V" } : Jvm.MethodName) prog_39_method_1_code (3 : Nat) (Option.none : Option Jvm.ClassFile.FieldType)) ∈ lw_all := lw_g (lw_at lw_m7 232 rfl) rfl
theorem q1821 : (Jvm.Cond.methodLink "NapkinDeeds$Two" (1 : Nat) ({ cls := "java/lang/Object", name := "<init>", desc := "()V" } : Jvm.MethodName)) ∈ lw_all := lw_g (lw_at lw_m7 233 rfl) rfl
theorem q1822 : (Jvm.Cond.fieldLink "NapkinDeeds$Two" (7 : Nat) "NapkinDeeds$Two" "one" "LNapkinDeeds$Sum;") ∈ lw_all := lw_g (lw_at lw_m7 234 rfl) rfl
theorem q1823 : (Jvm.Cond.fieldLink "NapkinDeeds$Two" (13 : Nat) "NapkinDeeds$Two" "other" "LNapkinDeeds$Sum;") ∈ lw_all := lw_g (lw_at lw_m7 235 rfl) rfl
theorem q1825 : (Jvm.Cond.soleField "NapkinDeeds$Two" "one") ∈ lw_all := lw_g (lw_at lw_m7 237 rfl) rfl
theorem q1827 : (Jvm.Cond.soleField "NapkinDeeds$Two" "other") ∈ lw_all := lw_g (lw_at lw_m7 239 rfl) rfl
/-! NapkinDeeds$Times -/
set_option maxRecDepth 100000
def RX13 : String := "NapkinDeeds$Times"
def TX13 : u_T := fun k => match k with
  | 0 => ("NapkinDeeds$Two", "one", "LNapkinDeeds$Sum;", true)
  | _ => ("NapkinDeeds$Two", "other", "LNapkinDeeds$Sum;", true)
def tyX13 : Nat → FieldType := fun k => match k with
  | 0 => .object "NapkinDeeds$Sum"
  | _ => .object "NapkinDeeds$Sum"
abbrev wsX130 : List Cond := u_ws RX13 TX13 2
theorem nmX13 : ∀ a, a < 2 → ∀ b, b < 2 → a ≠ b → (TX13 a).2.1 ≠ (TX13 b).2.1 := by decide +kernel
theorem tyX13_ok : ∀ k, k < 2 → parseFieldDescriptor (TX13 k).2.2.1 = some (tyX13 k) := by decide +kernel
abbrev cX13_by : ByteArray := prog_36_method_2_code
def yX13_by : MethodName := ⟨RX13, "by", "(JJ)J"⟩
def dkwX13_by_0 : List UInt8 := [31, 33, 105, 173]
abbrev dktX13_by_0 : List UInt8 := dkwX13_by_0 ++ []
theorem dksX13_by_0 : cX13_by.data.toList.drop 0 = dktX13_by_0 := by decide +kernel
theorem dX13_by_0 : decode cX13_by 0 = .ok (.lload_n 1, 1) := dk_31 (dk_at dksX13_by_0 0 rfl rfl)
theorem dX13_by_1 : decode cX13_by 1 = .ok (.lload_n 3, 1) := dk_33 (dk_at dksX13_by_0 1 rfl rfl)
theorem dX13_by_2 : decode cX13_by 2 = .ok (.lmul, 1) := dk_105 (dk_at dksX13_by_0 2 rfl rfl)
theorem dX13_by_3 : decode cX13_by 3 = .ok (.lreturn, 1) := dk_173 (dk_at dksX13_by_0 3 rfl rfl)
abbrev cX13_init : ByteArray := prog_36_method_1_code
def yX13_init : MethodName := ⟨RX13, "<init>", "(LNapkinDeeds$Sum;LNapkinDeeds$Sum;)V"⟩
def dkwX13_init_0 : List UInt8 := [42, 43, 44, 183, 0, 1, 177]
abbrev dktX13_init_0 : List UInt8 := dkwX13_init_0 ++ []
theorem dksX13_init_0 : cX13_init.data.toList.drop 0 = dktX13_init_0 := by decide +kernel
theorem dX13_init_0 : decode cX13_init 0 = .ok (.aload_n 0, 1) := dk_42 (dk_at dksX13_init_0 0 rfl rfl)
theorem dX13_init_1 : decode cX13_init 1 = .ok (.aload_n 1, 1) := dk_43 (dk_at dksX13_init_0 1 rfl rfl)
theorem dX13_init_2 : decode cX13_init 2 = .ok (.aload_n 2, 1) := dk_44 (dk_at dksX13_init_0 2 rfl rfl)
theorem dX13_init_3 : decode cX13_init 3 = .ok (.invokespecial 1, 3) := dk_183 0 1 (dk_at dksX13_init_0 3 rfl rfl)
theorem dX13_init_6 : decode cX13_init 6 = .ok (.return_, 1) := dk_177 (dk_at dksX13_init_0 6 rfl rfl)
theorem q180 : (Jvm.Cond.initialized "NapkinDeeds$Times") ∈ lw_all := lw_g (lw_at lw_m1 32 rfl) rfl
theorem q536 : (Jvm.Cond.castable "NapkinDeeds$Times" "NapkinDeeds$Sum") ∈ lw_tbl := lw_at lw_m2 148 rfl
theorem q537 : (Jvm.Cond.selects "NapkinDeeds$Times" ({ cls := "NapkinDeeds$Sum", name := "of", desc := "(LNapkinDeeds$Case;)I" } : Jvm.MethodName) ({ cls := "NapkinDeeds$Two", name := "of", desc := "(LNapkinDeeds$Case;)I" } : Jvm.MethodName)) ∈ lw_all := lw_g (lw_at lw_m2 149 rfl) rfl
theorem q538 : (Jvm.Cond.unhidden "NapkinDeeds$Times" "of" "(LNapkinDeeds$Case;)I") ∈ lw_tbl := lw_at lw_m2 150 rfl
theorem q554 : (Jvm.Cond.selects "NapkinDeeds$Times" ({ cls := "NapkinDeeds$Two", name := "by", desc := "(JJ)J" } : Jvm.MethodName) ({ cls := "NapkinDeeds$Times", name := "by", desc := "(JJ)J" } : Jvm.MethodName)) ∈ lw_all := lw_g (lw_at lw_m2 166 rfl) rfl
theorem q555 : (Jvm.Cond.instanceMethod ({ cls := "NapkinDeeds$Times", name := "by", desc := "(JJ)J" } : Jvm.MethodName)) ∈ lw_all := lw_g (lw_at lw_m2 167 rfl) rfl
theorem q556 : (Jvm.Cond.code ({ cls := "NapkinDeeds$Times", name := "by", desc := "(JJ)J" } : Jvm.MethodName) prog_36_method_2_code (5 : Nat) (Option.some Jvm.ClassFile.FieldType.long)) ∈ lw_all := lw_g (lw_at lw_m2 168 rfl) rfl
theorem q561 : (Jvm.Cond.unhidden "NapkinDeeds$Times" "kept" "(J)I") ∈ lw_tbl := lw_at lw_m2 173 rfl
theorem q721 : (Jvm.Cond.selects "NapkinDeeds$Times" ({ cls := "java/lang/Object", name := "getClass", desc := "()Ljava/lang/Class;" } : Jvm.MethodName) ({ cls := "java/lang/Object", name := "getClass", desc := "()Ljava/lang/Class;" } : Jvm.MethodName)) ∈ lw_all := lw_g (lw_at lw_m3 93 rfl) rfl
theorem q1814 : (Jvm.Cond.instantiable "NapkinDeeds$Times" (2 : Nat)) ∈ lw_all := lw_g (lw_at lw_m7 226 rfl) rfl
theorem q1816 : (Jvm.Cond.instanceMethod ({ cls := "NapkinDeeds$Times", name := "<init>", desc := "(LNapkinDeeds$Sum;LNapkinDeeds$Sum;)V" } : Jvm.MethodName)) ∈ lw_all := lw_g (lw_at lw_m7 228 rfl) rfl
theorem q1817 : (Jvm.Cond.code ({ cls := "NapkinDeeds$Times", name := "<init>", desc := "(LNapkinDeeds$Sum;LNapkinDeeds$Sum;)V" } : Jvm.MethodName) prog_36_method_1_code (3 : Nat) (Option.none : Option Jvm.ClassFile.FieldType)) ∈ lw_all := lw_g (lw_at lw_m7 229 rfl) rfl
theorem q1818 : (Jvm.Cond.methodLink "NapkinDeeds$Times" (1 : Nat) ({ cls := "NapkinDeeds$Two", name := "<init>", desc := "(LNapkinDeeds$Sum;LNapkinDeeds$Sum;)V" } : Jvm.MethodName)) ∈ lw_all := lw_g (lw_at lw_m7 230 rfl) rfl
theorem q1824 : (Jvm.Cond.laysFinal "NapkinDeeds$Times" "NapkinDeeds$Two" "one" "LNapkinDeeds$Sum;") ∈ lw_all := lw_g (lw_at lw_m7 236 rfl) rfl
theorem q1826 : (Jvm.Cond.laysFinal "NapkinDeeds$Times" "NapkinDeeds$Two" "other" "LNapkinDeeds$Sum;") ∈ lw_all := lw_g (lw_at lw_m7 238 rfl) rfl
theorem q1828 : (Jvm.Cond.superclass "NapkinDeeds$Times" "NapkinDeeds$Two") ∈ lw_all := lw_g (lw_at lw_m8 0 rfl) rfl
theorem q3515 : (Jvm.Cond.castable "NapkinDeeds$Times" "java/lang/Object") ∈ lw_tbl := lw_at lw_m15 7 rfl
theorem in_X13 : ∀ w ∈ wsX130, w ∈ lw_all := lw_in wsX130 [1824, 1826] (by decide +kernel) (by decide +kernel)
/-! NapkinDeeds$Plus -/
set_option maxRecDepth 100000
def RX14 : String := "NapkinDeeds$Plus"
def TX14 : u_T := fun k => match k with
  | 0 => ("NapkinDeeds$Two", "one", "LNapkinDeeds$Sum;", true)
  | _ => ("NapkinDeeds$Two", "other", "LNapkinDeeds$Sum;", true)
def tyX14 : Nat → FieldType := fun k => match k with
  | 0 => .object "NapkinDeeds$Sum"
  | _ => .object "NapkinDeeds$Sum"
abbrev wsX140 : List Cond := u_ws RX14 TX14 2
theorem nmX14 : ∀ a, a < 2 → ∀ b, b < 2 → a ≠ b → (TX14 a).2.1 ≠ (TX14 b).2.1 := by decide +kernel
theorem tyX14_ok : ∀ k, k < 2 → parseFieldDescriptor (TX14 k).2.2.1 = some (tyX14 k) := by decide +kernel
abbrev cX14_by : ByteArray := prog_30_method_2_code
def yX14_by : MethodName := ⟨RX14, "by", "(JJ)J"⟩
def dkwX14_by_0 : List UInt8 := [31, 33, 97, 173]
abbrev dktX14_by_0 : List UInt8 := dkwX14_by_0 ++ []
theorem dksX14_by_0 : cX14_by.data.toList.drop 0 = dktX14_by_0 := by decide +kernel
theorem dX14_by_0 : decode cX14_by 0 = .ok (.lload_n 1, 1) := dk_31 (dk_at dksX14_by_0 0 rfl rfl)
theorem dX14_by_1 : decode cX14_by 1 = .ok (.lload_n 3, 1) := dk_33 (dk_at dksX14_by_0 1 rfl rfl)
theorem dX14_by_2 : decode cX14_by 2 = .ok (.ladd, 1) := dk_97 (dk_at dksX14_by_0 2 rfl rfl)
theorem dX14_by_3 : decode cX14_by 3 = .ok (.lreturn, 1) := dk_173 (dk_at dksX14_by_0 3 rfl rfl)
abbrev cX14_init : ByteArray := prog_30_method_1_code
def yX14_init : MethodName := ⟨RX14, "<init>", "(LNapkinDeeds$Sum;LNapkinDeeds$Sum;)V"⟩
def dkwX14_init_0 : List UInt8 := [42, 43, 44, 183, 0, 1, 177]
abbrev dktX14_init_0 : List UInt8 := dkwX14_init_0 ++ []
theorem dksX14_init_0 : cX14_init.data.toList.drop 0 = dktX14_init_0 := by decide +kernel
theorem dX14_init_0 : decode cX14_init 0 = .ok (.aload_n 0, 1) := dk_42 (dk_at dksX14_init_0 0 rfl rfl)
theorem dX14_init_1 : decode cX14_init 1 = .ok (.aload_n 1, 1) := dk_43 (dk_at dksX14_init_0 1 rfl rfl)
theorem dX14_init_2 : decode cX14_init 2 = .ok (.aload_n 2, 1) := dk_44 (dk_at dksX14_init_0 2 rfl rfl)
theorem dX14_init_3 : decode cX14_init 3 = .ok (.invokespecial 1, 3) := dk_183 0 1 (dk_at dksX14_init_0 3 rfl rfl)
theorem dX14_init_6 : decode cX14_init 6 = .ok (.return_, 1) := dk_177 (dk_at dksX14_init_0 6 rfl rfl)
theorem q181 : (Jvm.Cond.initialized "NapkinDeeds$Plus") ∈ lw_all := lw_g (lw_at lw_m1 33 rfl) rfl
theorem q533 : (Jvm.Cond.castable "NapkinDeeds$Plus" "NapkinDeeds$Sum") ∈ lw_tbl := lw_at lw_m2 145 rfl
theorem q534 : (Jvm.Cond.selects "NapkinDeeds$Plus" ({ cls := "NapkinDeeds$Sum", name := "of", desc := "(LNapkinDeeds$Case;)I" } : Jvm.MethodName) ({ cls := "NapkinDeeds$Two", name := "of", desc := "(LNapkinDeeds$Case;)I" } : Jvm.MethodName)) ∈ lw_all := lw_g (lw_at lw_m2 146 rfl) rfl
theorem q535 : (Jvm.Cond.unhidden "NapkinDeeds$Plus" "of" "(LNapkinDeeds$Case;)I") ∈ lw_tbl := lw_at lw_m2 147 rfl
theorem q551 : (Jvm.Cond.selects "NapkinDeeds$Plus" ({ cls := "NapkinDeeds$Two", name := "by", desc := "(JJ)J" } : Jvm.MethodName) ({ cls := "NapkinDeeds$Plus", name := "by", desc := "(JJ)J" } : Jvm.MethodName)) ∈ lw_all := lw_g (lw_at lw_m2 163 rfl) rfl
theorem q552 : (Jvm.Cond.instanceMethod ({ cls := "NapkinDeeds$Plus", name := "by", desc := "(JJ)J" } : Jvm.MethodName)) ∈ lw_all := lw_g (lw_at lw_m2 164 rfl) rfl
theorem q553 : (Jvm.Cond.code ({ cls := "NapkinDeeds$Plus", name := "by", desc := "(JJ)J" } : Jvm.MethodName) prog_30_method_2_code (5 : Nat) (Option.some Jvm.ClassFile.FieldType.long)) ∈ lw_all := lw_g (lw_at lw_m2 165 rfl) rfl
theorem q560 : (Jvm.Cond.unhidden "NapkinDeeds$Plus" "kept" "(J)I") ∈ lw_tbl := lw_at lw_m2 172 rfl
theorem q717 : (Jvm.Cond.selects "NapkinDeeds$Plus" ({ cls := "java/lang/Object", name := "getClass", desc := "()Ljava/lang/Class;" } : Jvm.MethodName) ({ cls := "java/lang/Object", name := "getClass", desc := "()Ljava/lang/Class;" } : Jvm.MethodName)) ∈ lw_all := lw_g (lw_at lw_m3 89 rfl) rfl
theorem q1830 : (Jvm.Cond.instantiable "NapkinDeeds$Plus" (2 : Nat)) ∈ lw_all := lw_g (lw_at lw_m8 2 rfl) rfl
theorem q1832 : (Jvm.Cond.instanceMethod ({ cls := "NapkinDeeds$Plus", name := "<init>", desc := "(LNapkinDeeds$Sum;LNapkinDeeds$Sum;)V" } : Jvm.MethodName)) ∈ lw_all := lw_g (lw_at lw_m8 4 rfl) rfl
theorem q1833 : (Jvm.Cond.code ({ cls := "NapkinDeeds$Plus", name := "<init>", desc := "(LNapkinDeeds$Sum;LNapkinDeeds$Sum;)V" } : Jvm.MethodName) prog_30_method_1_code (3 : Nat) (Option.none : Option Jvm.ClassFile.FieldType)) ∈ lw_all := lw_g (lw_at lw_m8 5 rfl) rfl
theorem q1834 : (Jvm.Cond.methodLink "NapkinDeeds$Plus" (1 : Nat) ({ cls := "NapkinDeeds$Two", name := "<init>", desc := "(LNapkinDeeds$Sum;LNapkinDeeds$Sum;)V" } : Jvm.MethodName)) ∈ lw_all := lw_g (lw_at lw_m8 6 rfl) rfl
theorem q1835 : (Jvm.Cond.laysFinal "NapkinDeeds$Plus" "NapkinDeeds$Two" "one" "LNapkinDeeds$Sum;") ∈ lw_all := lw_g (lw_at lw_m8 7 rfl) rfl
theorem q1836 : (Jvm.Cond.laysFinal "NapkinDeeds$Plus" "NapkinDeeds$Two" "other" "LNapkinDeeds$Sum;") ∈ lw_all := lw_g (lw_at lw_m8 8 rfl) rfl
theorem q1837 : (Jvm.Cond.superclass "NapkinDeeds$Plus" "NapkinDeeds$Two") ∈ lw_all := lw_g (lw_at lw_m8 9 rfl) rfl
theorem q3516 : (Jvm.Cond.castable "NapkinDeeds$Plus" "java/lang/Object") ∈ lw_tbl := lw_at lw_m15 8 rfl
theorem in_X14 : ∀ w ∈ wsX140, w ∈ lw_all := lw_in wsX140 [1835, 1836] (by decide +kernel) (by decide +kernel)
/-! NapkinDeeds$Minus -/
set_option maxRecDepth 100000
def RX15 : String := "NapkinDeeds$Minus"
def TX15 : u_T := fun k => match k with
  | 0 => ("NapkinDeeds$Two", "one", "LNapkinDeeds$Sum;", true)
  | _ => ("NapkinDeeds$Two", "other", "LNapkinDeeds$Sum;", true)
def tyX15 : Nat → FieldType := fun k => match k with
  | 0 => .object "NapkinDeeds$Sum"
  | _ => .object "NapkinDeeds$Sum"
abbrev wsX150 : List Cond := u_ws RX15 TX15 2
theorem nmX15 : ∀ a, a < 2 → ∀ b, b < 2 → a ≠ b → (TX15 a).2.1 ≠ (TX15 b).2.1 := by decide +kernel
theorem tyX15_ok : ∀ k, k < 2 → parseFieldDescriptor (TX15 k).2.2.1 = some (tyX15 k) := by decide +kernel
abbrev cX15_by : ByteArray := prog_26_method_2_code
def yX15_by : MethodName := ⟨RX15, "by", "(JJ)J"⟩
def dkwX15_by_0 : List UInt8 := [31, 33, 101, 173]
abbrev dktX15_by_0 : List UInt8 := dkwX15_by_0 ++ []
theorem dksX15_by_0 : cX15_by.data.toList.drop 0 = dktX15_by_0 := by decide +kernel
theorem dX15_by_0 : decode cX15_by 0 = .ok (.lload_n 1, 1) := dk_31 (dk_at dksX15_by_0 0 rfl rfl)
theorem dX15_by_1 : decode cX15_by 1 = .ok (.lload_n 3, 1) := dk_33 (dk_at dksX15_by_0 1 rfl rfl)
theorem dX15_by_2 : decode cX15_by 2 = .ok (.lsub, 1) := dk_101 (dk_at dksX15_by_0 2 rfl rfl)
theorem dX15_by_3 : decode cX15_by 3 = .ok (.lreturn, 1) := dk_173 (dk_at dksX15_by_0 3 rfl rfl)
abbrev cX15_init : ByteArray := prog_26_method_1_code
def yX15_init : MethodName := ⟨RX15, "<init>", "(LNapkinDeeds$Sum;LNapkinDeeds$Sum;)V"⟩
def dkwX15_init_0 : List UInt8 := [42, 43, 44, 183, 0, 1, 177]
abbrev dktX15_init_0 : List UInt8 := dkwX15_init_0 ++ []
theorem dksX15_init_0 : cX15_init.data.toList.drop 0 = dktX15_init_0 := by decide +kernel
theorem dX15_init_0 : decode cX15_init 0 = .ok (.aload_n 0, 1) := dk_42 (dk_at dksX15_init_0 0 rfl rfl)
theorem dX15_init_1 : decode cX15_init 1 = .ok (.aload_n 1, 1) := dk_43 (dk_at dksX15_init_0 1 rfl rfl)
theorem dX15_init_2 : decode cX15_init 2 = .ok (.aload_n 2, 1) := dk_44 (dk_at dksX15_init_0 2 rfl rfl)
theorem dX15_init_3 : decode cX15_init 3 = .ok (.invokespecial 1, 3) := dk_183 0 1 (dk_at dksX15_init_0 3 rfl rfl)
theorem dX15_init_6 : decode cX15_init 6 = .ok (.return_, 1) := dk_177 (dk_at dksX15_init_0 6 rfl rfl)
theorem q182 : (Jvm.Cond.initialized "NapkinDeeds$Minus") ∈ lw_all := lw_g (lw_at lw_m1 34 rfl) rfl
theorem q519 : (Jvm.Cond.castable "NapkinDeeds$Minus" "NapkinDeeds$Sum") ∈ lw_tbl := lw_at lw_m2 131 rfl
theorem q520 : (Jvm.Cond.selects "NapkinDeeds$Minus" ({ cls := "NapkinDeeds$Sum", name := "of", desc := "(LNapkinDeeds$Case;)I" } : Jvm.MethodName) ({ cls := "NapkinDeeds$Two", name := "of", desc := "(LNapkinDeeds$Case;)I" } : Jvm.MethodName)) ∈ lw_all := lw_g (lw_at lw_m2 132 rfl) rfl
theorem q521 : (Jvm.Cond.unhidden "NapkinDeeds$Minus" "of" "(LNapkinDeeds$Case;)I") ∈ lw_tbl := lw_at lw_m2 133 rfl
theorem q548 : (Jvm.Cond.selects "NapkinDeeds$Minus" ({ cls := "NapkinDeeds$Two", name := "by", desc := "(JJ)J" } : Jvm.MethodName) ({ cls := "NapkinDeeds$Minus", name := "by", desc := "(JJ)J" } : Jvm.MethodName)) ∈ lw_all := lw_g (lw_at lw_m2 160 rfl) rfl
theorem q549 : (Jvm.Cond.instanceMethod ({ cls := "NapkinDeeds$Minus", name := "by", desc := "(JJ)J" } : Jvm.MethodName)) ∈ lw_all := lw_g (lw_at lw_m2 161 rfl) rfl
theorem q550 : (Jvm.Cond.code ({ cls := "NapkinDeeds$Minus", name := "by", desc := "(JJ)J" } : Jvm.MethodName) prog_26_method_2_code (5 : Nat) (Option.some Jvm.ClassFile.FieldType.long)) ∈ lw_all := lw_g (lw_at lw_m2 162 rfl) rfl
theorem q559 : (Jvm.Cond.unhidden "NapkinDeeds$Minus" "kept" "(J)I") ∈ lw_tbl := lw_at lw_m2 171 rfl
theorem q713 : (Jvm.Cond.selects "NapkinDeeds$Minus" ({ cls := "java/lang/Object", name := "getClass", desc := "()Ljava/lang/Class;" } : Jvm.MethodName) ({ cls := "java/lang/Object", name := "getClass", desc := "()Ljava/lang/Class;" } : Jvm.MethodName)) ∈ lw_all := lw_g (lw_at lw_m3 85 rfl) rfl
theorem q1843 : (Jvm.Cond.instantiable "NapkinDeeds$Minus" (2 : Nat)) ∈ lw_all := lw_g (lw_at lw_m8 15 rfl) rfl
theorem q1845 : (Jvm.Cond.instanceMethod ({ cls := "NapkinDeeds$Minus", name := "<init>", desc := "(LNapkinDeeds$Sum;LNapkinDeeds$Sum;)V" } : Jvm.MethodName)) ∈ lw_all := lw_g (lw_at lw_m8 17 rfl) rfl
theorem q1846 : (Jvm.Cond.code ({ cls := "NapkinDeeds$Minus", name := "<init>", desc := "(LNapkinDeeds$Sum;LNapkinDeeds$Sum;)V" } : Jvm.MethodName) prog_26_method_1_code (3 : Nat) (Option.none : Option Jvm.ClassFile.FieldType)) ∈ lw_all := lw_g (lw_at lw_m8 18 rfl) rfl
theorem q1847 : (Jvm.Cond.methodLink "NapkinDeeds$Minus" (1 : Nat) ({ cls := "NapkinDeeds$Two", name := "<init>", desc := "(LNapkinDeeds$Sum;LNapkinDeeds$Sum;)V" } : Jvm.MethodName)) ∈ lw_all := lw_g (lw_at lw_m8 19 rfl) rfl
theorem q1848 : (Jvm.Cond.laysFinal "NapkinDeeds$Minus" "NapkinDeeds$Two" "one" "LNapkinDeeds$Sum;") ∈ lw_all := lw_g (lw_at lw_m8 20 rfl) rfl
theorem q1849 : (Jvm.Cond.laysFinal "NapkinDeeds$Minus" "NapkinDeeds$Two" "other" "LNapkinDeeds$Sum;") ∈ lw_all := lw_g (lw_at lw_m8 21 rfl) rfl
theorem q1850 : (Jvm.Cond.superclass "NapkinDeeds$Minus" "NapkinDeeds$Two") ∈ lw_all := lw_g (lw_at lw_m8 22 rfl) rfl
theorem q3517 : (Jvm.Cond.castable "NapkinDeeds$Minus" "java/lang/Object") ∈ lw_tbl := lw_at lw_m15 9 rfl
theorem in_X15 : ∀ w ∈ wsX150, w ∈ lw_all := lw_in wsX150 [1848, 1849] (by decide +kernel) (by decide +kernel)
/-! NapkinDeeds$Not -/
set_option maxRecDepth 100000
def RX16 : String := "NapkinDeeds$Not"
def TX16 : u_T := fun k => match k with
  | _ => ("NapkinDeeds$Not", "of", "LNapkinDeeds$Truth;", true)
def tyX16 : Nat → FieldType := fun k => match k with
  | _ => .object "NapkinDeeds$Truth"
abbrev wsX160 : List Cond := u_ws RX16 TX16 1
theorem nmX16 : ∀ a, a < 1 → ∀ b, b < 1 → a ≠ b → (TX16 a).2.1 ≠ (TX16 b).2.1 := by decide +kernel
theorem tyX16_ok : ∀ k, k < 1 → parseFieldDescriptor (TX16 k).2.2.1 = some (tyX16 k) := by decide +kernel
abbrev cX16_holds : ByteArray := prog_28_method_2_code
def yX16_holds : MethodName := ⟨RX16, "holds", "(LNapkinDeeds$Case;)Z"⟩
def dkwX16_holds_0 : List UInt8 := [42, 180, 0, 7, 43, 185, 0, 13, 2, 0, 154, 0, 7, 4, 167, 0, 4, 3, 172]
abbrev dktX16_holds_0 : List UInt8 := dkwX16_holds_0 ++ []
theorem dksX16_holds_0 : cX16_holds.data.toList.drop 0 = dktX16_holds_0 := by decide +kernel
theorem dX16_holds_0 : decode cX16_holds 0 = .ok (.aload_n 0, 1) := dk_42 (dk_at dksX16_holds_0 0 rfl rfl)
theorem dX16_holds_1 : decode cX16_holds 1 = .ok (.getfield 7, 3) := dk_180 0 7 (dk_at dksX16_holds_0 1 rfl rfl)
theorem dX16_holds_4 : decode cX16_holds 4 = .ok (.aload_n 1, 1) := dk_43 (dk_at dksX16_holds_0 4 rfl rfl)
theorem dX16_holds_5 : decode cX16_holds 5 = .ok (.invokeinterface 13 2, 5) := by decide +kernel
theorem dX16_holds_10 : decode cX16_holds 10 = .ok (.ifCond .ne 7, 3) := dk_154 0 7 (dk_at dksX16_holds_0 10 rfl rfl)
theorem dX16_holds_13 : decode cX16_holds 13 = .ok (.iconst 1, 1) := dk_4 (dk_at dksX16_holds_0 13 rfl rfl)
theorem dX16_holds_14 : decode cX16_holds 14 = .ok (.goto 4, 3) := dk_167 0 4 (dk_at dksX16_holds_0 14 rfl rfl)
theorem dX16_holds_17 : decode cX16_holds 17 = .ok (.iconst 0, 1) := dk_3 (dk_at dksX16_holds_0 17 rfl rfl)
theorem dX16_holds_18 : decode cX16_holds 18 = .ok (.ireturn, 1) := dk_172 (dk_at dksX16_holds_0 18 rfl rfl)
abbrev cX16_init : ByteArray := prog_28_method_1_code
def yX16_init : MethodName := ⟨RX16, "<init>", "(LNapkinDeeds$Truth;)V"⟩
def dkwX16_init_0 : List UInt8 := [42, 183, 0, 1, 42, 43, 181, 0, 7, 177]
abbrev dktX16_init_0 : List UInt8 := dkwX16_init_0 ++ []
theorem dksX16_init_0 : cX16_init.data.toList.drop 0 = dktX16_init_0 := by decide +kernel
theorem dX16_init_0 : decode cX16_init 0 = .ok (.aload_n 0, 1) := dk_42 (dk_at dksX16_init_0 0 rfl rfl)
theorem dX16_init_1 : decode cX16_init 1 = .ok (.invokespecial 1, 3) := dk_183 0 1 (dk_at dksX16_init_0 1 rfl rfl)
theorem dX16_init_4 : decode cX16_init 4 = .ok (.aload_n 0, 1) := dk_42 (dk_at dksX16_init_0 4 rfl rfl)
theorem dX16_init_5 : decode cX16_init 5 = .ok (.aload_n 1, 1) := dk_43 (dk_at dksX16_init_0 5 rfl rfl)
theorem dX16_init_6 : decode cX16_init 6 = .ok (.putfield 7, 3) := dk_181 0 7 (dk_at dksX16_init_0 6 rfl rfl)
theorem dX16_init_9 : decode cX16_init 9 = .ok (.return_, 1) := dk_177 (dk_at dksX16_init_0 9 rfl rfl)
theorem q183 : (Jvm.Cond.initialized "NapkinDeeds$Not") ∈ lw_all := lw_g (lw_at lw_m1 35 rfl) rfl
theorem q609 : (Jvm.Cond.castable "NapkinDeeds$Not" "NapkinDeeds$Truth") ∈ lw_tbl := lw_at lw_m2 221 rfl
theorem q610 : (Jvm.Cond.selects "NapkinDeeds$Not" ({ cls := "NapkinDeeds$Truth", name := "holds", desc := "(LNapkinDeeds$Case;)Z" } : Jvm.MethodName) ({ cls := "NapkinDeeds$Not", name := "holds", desc := "(LNapkinDeeds$Case;)Z" } : Jvm.MethodName)) ∈ lw_all := lw_g (lw_at lw_m2 222 rfl) rfl
theorem q611 : (Jvm.Cond.unhidden "NapkinDeeds$Not" "holds" "(LNapkinDeeds$Case;)Z") ∈ lw_tbl := lw_at lw_m2 223 rfl
theorem q612 : (Jvm.Cond.instanceMethod ({ cls := "NapkinDeeds$Not", name := "holds", desc := "(LNapkinDeeds$Case;)Z" } : Jvm.MethodName)) ∈ lw_all := lw_g (lw_at lw_m2 224 rfl) rfl
theorem q613 : (Jvm.Cond.publicMethod ({ cls := "NapkinDeeds$Not", name := "holds", desc := "(LNapkinDeeds$Case;)Z" } : Jvm.MethodName)) ∈ lw_tbl := lw_at lw_m2 225 rfl
theorem q614 : (Jvm.Cond.code ({ cls := "NapkinDeeds$Not", name := "holds", desc := "(LNapkinDeeds$Case;)Z" } : Jvm.MethodName) prog_28_method_2_code (2 : Nat) (Option.some Jvm.ClassFile.FieldType.boolean)) ∈ lw_all := lw_g (lw_at lw_m2 226 rfl) rfl
theorem q615 : (Jvm.Cond.interfaceEntry "NapkinDeeds$Not" (13 : Nat)) ∈ lw_tbl := lw_at lw_m2 227 rfl
theorem q616 : (Jvm.Cond.methodLink "NapkinDeeds$Not" (13 : Nat) ({ cls := "NapkinDeeds$Truth", name := "holds", desc := "(LNapkinDeeds$Case;)Z" } : Jvm.MethodName)) ∈ lw_all := lw_g (lw_at lw_m2 228 rfl) rfl
theorem q715 : (Jvm.Cond.selects "NapkinDeeds$Not" ({ cls := "java/lang/Object", name := "getClass", desc := "()Ljava/lang/Class;" } : Jvm.MethodName) ({ cls := "java/lang/Object", name := "getClass", desc := "()Ljava/lang/Class;" } : Jvm.MethodName)) ∈ lw_all := lw_g (lw_at lw_m3 87 rfl) rfl
theorem q1866 : (Jvm.Cond.instantiable "NapkinDeeds$Not" (1 : Nat)) ∈ lw_all := lw_g (lw_at lw_m8 38 rfl) rfl
theorem q1868 : (Jvm.Cond.instanceMethod ({ cls := "NapkinDeeds$Not", name := "<init>", desc := "(LNapkinDeeds$Truth;)V" } : Jvm.MethodName)) ∈ lw_all := lw_g (lw_at lw_m8 40 rfl) rfl
theorem q1869 : (Jvm.Cond.code ({ cls := "NapkinDeeds$Not", name := "<init>", desc := "(LNapkinDeeds$Truth;)V" } : Jvm.MethodName) prog_28_method_1_code (2 : Nat) (Option.none : Option Jvm.ClassFile.FieldType)) ∈ lw_all := lw_g (lw_at lw_m8 41 rfl) rfl
theorem q1870 : (Jvm.Cond.methodLink "NapkinDeeds$Not" (1 : Nat) ({ cls := "java/lang/Object", name := "<init>", desc := "()V" } : Jvm.MethodName)) ∈ lw_all := lw_g (lw_at lw_m8 42 rfl) rfl
theorem q1871 : (Jvm.Cond.fieldLink "NapkinDeeds$Not" (7 : Nat) "NapkinDeeds$Not" "of" "LNapkinDeeds$Truth;") ∈ lw_all := lw_g (lw_at lw_m8 43 rfl) rfl
theorem q1872 : (Jvm.Cond.laysFinal "NapkinDeeds$Not" "NapkinDeeds$Not" "of" "LNapkinDeeds$Truth;") ∈ lw_all := lw_g (lw_at lw_m8 44 rfl) rfl
theorem q1873 : (Jvm.Cond.soleField "NapkinDeeds$Not" "of") ∈ lw_all := lw_g (lw_at lw_m8 45 rfl) rfl
theorem q1874 : (Jvm.Cond.superclass "NapkinDeeds$Not" "java/lang/Object") ∈ lw_all := lw_g (lw_at lw_m8 46 rfl) rfl
theorem q3518 : (Jvm.Cond.castable "NapkinDeeds$Not" "java/lang/Object") ∈ lw_tbl := lw_at lw_m15 10 rfl
theorem in_X16 : ∀ w ∈ wsX160, w ∈ lw_all := lw_in wsX160 [1872] (by decide +kernel) (by decide +kernel)
/-! NapkinDeeds$Compared -/
set_option maxRecDepth 100000
def RX17 : String := "NapkinDeeds$Compared"
def TX17 : u_T := fun k => match k with
  | 0 => ("NapkinDeeds$Compared", "one", "LNapkinDeeds$Sum;", true)
  | 1 => ("NapkinDeeds$Compared", "other", "LNapkinDeeds$Sum;", true)
  | _ => ("NapkinDeeds$Compared", "sign", "I", true)
def tyX17 : Nat → FieldType := fun k => match k with
  | 0 => .object "NapkinDeeds$Sum"
  | 1 => .object "NapkinDeeds$Sum"
  | _ => .int
abbrev wsX170 : List Cond := u_ws RX17 TX17 3
theorem nmX17 : ∀ a, a < 3 → ∀ b, b < 3 → a ≠ b → (TX17 a).2.1 ≠ (TX17 b).2.1 := by decide +kernel
theorem tyX17_ok : ∀ k, k < 3 → parseFieldDescriptor (TX17 k).2.2.1 = some (tyX17 k) := by decide +kernel
abbrev cX17_holds : ByteArray := prog_20_method_2_code
def yX17_holds : MethodName := ⟨RX17, "holds", "(LNapkinDeeds$Case;)Z"⟩
def dkwX17_holds_3 : List UInt8 := [164, 0, 7, 4, 167, 0, 4, 3, 172]
abbrev dktX17_holds_3 : List UInt8 := dkwX17_holds_3 ++ []
def dkwX17_holds_2 : List UInt8 := [180, 0, 13, 16, 60, 160, 0, 16, 28, 29, 162, 0, 7, 4, 167, 0, 17, 3, 167, 0, 13, 28, 29]
abbrev dktX17_holds_2 : List UInt8 := dkwX17_holds_2 ++ dktX17_holds_3
def dkwX17_holds_1 : List UInt8 := [180, 0, 13, 16, 61, 160, 0, 16, 28, 29, 160, 0, 7, 4, 167, 0, 39, 3, 167, 0, 35, 42]
abbrev dktX17_holds_1 : List UInt8 := dkwX17_holds_1 ++ dktX17_holds_2
def dkwX17_holds_0 : List UInt8 := [42, 180, 0, 7, 43, 185, 0, 20, 2, 0, 61, 42, 180, 0, 17, 43, 185, 0, 20, 2, 0, 62, 42]
abbrev dktX17_holds_0 : List UInt8 := dkwX17_holds_0 ++ dktX17_holds_1
theorem dksX17_holds_0 : cX17_holds.data.toList.drop 0 = dktX17_holds_0 := by decide +kernel
theorem dksX17_holds_1 : cX17_holds.data.toList.drop 23 = dktX17_holds_1 := dk_seg dksX17_holds_0 23 rfl rfl
theorem dksX17_holds_2 : cX17_holds.data.toList.drop 45 = dktX17_holds_2 := dk_seg dksX17_holds_1 22 rfl rfl
theorem dksX17_holds_3 : cX17_holds.data.toList.drop 68 = dktX17_holds_3 := dk_seg dksX17_holds_2 23 rfl rfl
theorem dX17_holds_0 : decode cX17_holds 0 = .ok (.aload_n 0, 1) := dk_42 (dk_at dksX17_holds_0 0 rfl rfl)
theorem dX17_holds_1 : decode cX17_holds 1 = .ok (.getfield 7, 3) := dk_180 0 7 (dk_at dksX17_holds_0 1 rfl rfl)
theorem dX17_holds_4 : decode cX17_holds 4 = .ok (.aload_n 1, 1) := dk_43 (dk_at dksX17_holds_0 4 rfl rfl)
theorem dX17_holds_5 : decode cX17_holds 5 = .ok (.invokeinterface 20 2, 5) := by decide +kernel
theorem dX17_holds_10 : decode cX17_holds 10 = .ok (.istore_n 2, 1) := dk_61 (dk_at dksX17_holds_0 10 rfl rfl)
theorem dX17_holds_11 : decode cX17_holds 11 = .ok (.aload_n 0, 1) := dk_42 (dk_at dksX17_holds_0 11 rfl rfl)
theorem dX17_holds_12 : decode cX17_holds 12 = .ok (.getfield 17, 3) := dk_180 0 17 (dk_at dksX17_holds_0 12 rfl rfl)
theorem dX17_holds_15 : decode cX17_holds 15 = .ok (.aload_n 1, 1) := dk_43 (dk_at dksX17_holds_0 15 rfl rfl)
theorem dX17_holds_16 : decode cX17_holds 16 = .ok (.invokeinterface 20 2, 5) := by decide +kernel
theorem dX17_holds_21 : decode cX17_holds 21 = .ok (.istore_n 3, 1) := dk_62 (dk_at dksX17_holds_0 21 rfl rfl)
theorem dX17_holds_22 : decode cX17_holds 22 = .ok (.aload_n 0, 1) := dk_42 (dk_at dksX17_holds_0 22 rfl rfl)
theorem dX17_holds_23 : decode cX17_holds 23 = .ok (.getfield 13, 3) := dk_180 0 13 (dk_at dksX17_holds_1 0 rfl rfl)
theorem dX17_holds_26 : decode cX17_holds 26 = .ok (.bipush 61, 2) := dk_16 61 (dk_at dksX17_holds_1 3 rfl rfl)
theorem dX17_holds_28 : decode cX17_holds 28 = .ok (.if_icmp .ne 16, 3) := dk_160 0 16 (dk_at dksX17_holds_1 5 rfl rfl)
theorem dX17_holds_31 : decode cX17_holds 31 = .ok (.iload_n 2, 1) := dk_28 (dk_at dksX17_holds_1 8 rfl rfl)
theorem dX17_holds_32 : decode cX17_holds 32 = .ok (.iload_n 3, 1) := dk_29 (dk_at dksX17_holds_1 9 rfl rfl)
theorem dX17_holds_33 : decode cX17_holds 33 = .ok (.if_icmp .ne 7, 3) := dk_160 0 7 (dk_at dksX17_holds_1 10 rfl rfl)
theorem dX17_holds_36 : decode cX17_holds 36 = .ok (.iconst 1, 1) := dk_4 (dk_at dksX17_holds_1 13 rfl rfl)
theorem dX17_holds_37 : decode cX17_holds 37 = .ok (.goto 39, 3) := dk_167 0 39 (dk_at dksX17_holds_1 14 rfl rfl)
theorem dX17_holds_40 : decode cX17_holds 40 = .ok (.iconst 0, 1) := dk_3 (dk_at dksX17_holds_1 17 rfl rfl)
theorem dX17_holds_41 : decode cX17_holds 41 = .ok (.goto 35, 3) := dk_167 0 35 (dk_at dksX17_holds_1 18 rfl rfl)
theorem dX17_holds_44 : decode cX17_holds 44 = .ok (.aload_n 0, 1) := dk_42 (dk_at dksX17_holds_1 21 rfl rfl)
theorem dX17_holds_45 : decode cX17_holds 45 = .ok (.getfield 13, 3) := dk_180 0 13 (dk_at dksX17_holds_2 0 rfl rfl)
theorem dX17_holds_48 : decode cX17_holds 48 = .ok (.bipush 60, 2) := dk_16 60 (dk_at dksX17_holds_2 3 rfl rfl)
theorem dX17_holds_50 : decode cX17_holds 50 = .ok (.if_icmp .ne 16, 3) := dk_160 0 16 (dk_at dksX17_holds_2 5 rfl rfl)
theorem dX17_holds_53 : decode cX17_holds 53 = .ok (.iload_n 2, 1) := dk_28 (dk_at dksX17_holds_2 8 rfl rfl)
theorem dX17_holds_54 : decode cX17_holds 54 = .ok (.iload_n 3, 1) := dk_29 (dk_at dksX17_holds_2 9 rfl rfl)
theorem dX17_holds_55 : decode cX17_holds 55 = .ok (.if_icmp .ge 7, 3) := dk_162 0 7 (dk_at dksX17_holds_2 10 rfl rfl)
theorem dX17_holds_58 : decode cX17_holds 58 = .ok (.iconst 1, 1) := dk_4 (dk_at dksX17_holds_2 13 rfl rfl)
theorem dX17_holds_59 : decode cX17_holds 59 = .ok (.goto 17, 3) := dk_167 0 17 (dk_at dksX17_holds_2 14 rfl rfl)
theorem dX17_holds_62 : decode cX17_holds 62 = .ok (.iconst 0, 1) := dk_3 (dk_at dksX17_holds_2 17 rfl rfl)
theorem dX17_holds_63 : decode cX17_holds 63 = .ok (.goto 13, 3) := dk_167 0 13 (dk_at dksX17_holds_2 18 rfl rfl)
theorem dX17_holds_66 : decode cX17_holds 66 = .ok (.iload_n 2, 1) := dk_28 (dk_at dksX17_holds_2 21 rfl rfl)
theorem dX17_holds_67 : decode cX17_holds 67 = .ok (.iload_n 3, 1) := dk_29 (dk_at dksX17_holds_2 22 rfl rfl)
theorem dX17_holds_68 : decode cX17_holds 68 = .ok (.if_icmp .le 7, 3) := dk_164 0 7 (dk_at dksX17_holds_3 0 rfl rfl)
theorem dX17_holds_71 : decode cX17_holds 71 = .ok (.iconst 1, 1) := dk_4 (dk_at dksX17_holds_3 3 rfl rfl)
theorem dX17_holds_72 : decode cX17_holds 72 = .ok (.goto 4, 3) := dk_167 0 4 (dk_at dksX17_holds_3 4 rfl rfl)
theorem dX17_holds_75 : decode cX17_holds 75 = .ok (.iconst 0, 1) := dk_3 (dk_at dksX17_holds_3 7 rfl rfl)
theorem dX17_holds_76 : decode cX17_holds 76 = .ok (.ireturn, 1) := dk_172 (dk_at dksX17_holds_3 8 rfl rfl)
abbrev cX17_init : ByteArray := prog_20_method_1_code
def yX17_init : MethodName := ⟨RX17, "<init>", "(LNapkinDeeds$Sum;ILNapkinDeeds$Sum;)V"⟩
def dkwX17_init_0 : List UInt8 := [42, 183, 0, 1, 42, 43, 181, 0, 7, 42, 28, 181, 0, 13, 42, 45, 181, 0, 17, 177]
abbrev dktX17_init_0 : List UInt8 := dkwX17_init_0 ++ []
theorem dksX17_init_0 : cX17_init.data.toList.drop 0 = dktX17_init_0 := by decide +kernel
theorem dX17_init_0 : decode cX17_init 0 = .ok (.aload_n 0, 1) := dk_42 (dk_at dksX17_init_0 0 rfl rfl)
theorem dX17_init_1 : decode cX17_init 1 = .ok (.invokespecial 1, 3) := dk_183 0 1 (dk_at dksX17_init_0 1 rfl rfl)
theorem dX17_init_4 : decode cX17_init 4 = .ok (.aload_n 0, 1) := dk_42 (dk_at dksX17_init_0 4 rfl rfl)
theorem dX17_init_5 : decode cX17_init 5 = .ok (.aload_n 1, 1) := dk_43 (dk_at dksX17_init_0 5 rfl rfl)
theorem dX17_init_6 : decode cX17_init 6 = .ok (.putfield 7, 3) := dk_181 0 7 (dk_at dksX17_init_0 6 rfl rfl)
theorem dX17_init_9 : decode cX17_init 9 = .ok (.aload_n 0, 1) := dk_42 (dk_at dksX17_init_0 9 rfl rfl)
theorem dX17_init_10 : decode cX17_init 10 = .ok (.iload_n 2, 1) := dk_28 (dk_at dksX17_init_0 10 rfl rfl)
theorem dX17_init_11 : decode cX17_init 11 = .ok (.putfield 13, 3) := dk_181 0 13 (dk_at dksX17_init_0 11 rfl rfl)
theorem dX17_init_14 : decode cX17_init 14 = .ok (.aload_n 0, 1) := dk_42 (dk_at dksX17_init_0 14 rfl rfl)
theorem dX17_init_15 : decode cX17_init 15 = .ok (.aload_n 3, 1) := dk_45 (dk_at dksX17_init_0 15 rfl rfl)
theorem dX17_init_16 : decode cX17_init 16 = .ok (.putfield 17, 3) := dk_181 0 17 (dk_at dksX17_init_0 16 rfl rfl)
theorem dX17_init_19 : decode cX17_init 19 = .ok (.return_, 1) := dk_177 (dk_at dksX17_init_0 19 rfl rfl)
theorem q184 : (Jvm.Cond.initialized "NapkinDeeds$Compared") ∈ lw_all := lw_g (lw_at lw_m1 36 rfl) rfl
theorem q593 : (Jvm.Cond.castable "NapkinDeeds$Compared" "NapkinDeeds$Truth") ∈ lw_tbl := lw_at lw_m2 205 rfl
theorem q594 : (Jvm.Cond.selects "NapkinDeeds$Compared" ({ cls := "NapkinDeeds$Truth", name := "holds", desc := "(LNapkinDeeds$Case;)Z" } : Jvm.MethodName) ({ cls := "NapkinDeeds$Compared", name := "holds", desc := "(LNapkinDeeds$Case;)Z" } : Jvm.MethodName)) ∈ lw_all := lw_g (lw_at lw_m2 206 rfl) rfl
theorem q595 : (Jvm.Cond.unhidden "NapkinDeeds$Compared" "holds" "(LNapkinDeeds$Case;)Z") ∈ lw_tbl := lw_at lw_m2 207 rfl
theorem q596 : (Jvm.Cond.instanceMethod ({ cls := "NapkinDeeds$Compared", name := "holds", desc := "(LNapkinDeeds$Case;)Z" } : Jvm.MethodName)) ∈ lw_all := lw_g (lw_at lw_m2 208 rfl) rfl
theorem q597 : (Jvm.Cond.publicMethod ({ cls := "NapkinDeeds$Compared", name := "holds", desc := "(LNapkinDeeds$Case;)Z" } : Jvm.MethodName)) ∈ lw_tbl := lw_at lw_m2 209 rfl
theorem q598 : (Jvm.Cond.code ({ cls := "NapkinDeeds$Compared", name := "holds", desc := "(LNapkinDeeds$Case;)Z" } : Jvm.MethodName) prog_20_method_2_code (4 : Nat) (Option.some Jvm.ClassFile.FieldType.boolean)) ∈ lw_all := lw_g (lw_at lw_m2 210 rfl) rfl
theorem q599 : (Jvm.Cond.interfaceEntry "NapkinDeeds$Compared" (20 : Nat)) ∈ lw_tbl := lw_at lw_m2 211 rfl
theorem q600 : (Jvm.Cond.methodLink "NapkinDeeds$Compared" (20 : Nat) ({ cls := "NapkinDeeds$Sum", name := "of", desc := "(LNapkinDeeds$Case;)I" } : Jvm.MethodName)) ∈ lw_all := lw_g (lw_at lw_m2 212 rfl) rfl
theorem q709 : (Jvm.Cond.selects "NapkinDeeds$Compared" ({ cls := "java/lang/Object", name := "getClass", desc := "()Ljava/lang/Class;" } : Jvm.MethodName) ({ cls := "java/lang/Object", name := "getClass", desc := "()Ljava/lang/Class;" } : Jvm.MethodName)) ∈ lw_all := lw_g (lw_at lw_m3 81 rfl) rfl
theorem q1876 : (Jvm.Cond.instantiable "NapkinDeeds$Compared" (3 : Nat)) ∈ lw_all := lw_g (lw_at lw_m8 48 rfl) rfl
theorem q1878 : (Jvm.Cond.instanceMethod ({ cls := "NapkinDeeds$Compared", name := "<init>", desc := "(LNapkinDeeds$Sum;ILNapkinDeeds$Sum;)V" } : Jvm.MethodName)) ∈ lw_all := lw_g (lw_at lw_m8 50 rfl) rfl
theorem q1879 : (Jvm.Cond.code ({ cls := "NapkinDeeds$Compared", name := "<init>", desc := "(LNapkinDeeds$Sum;ILNapkinDeeds$Sum;)V" } : Jvm.MethodName) prog_20_method_1_code (4 : Nat) (Option.none : Option Jvm.ClassFile.FieldType)) ∈ lw_all := lw_g (lw_at lw_m8 51 rfl) rfl
theorem q1880 : (Jvm.Cond.methodLink "NapkinDeeds$Compared" (1 : Nat) ({ cls := "java/lang/Object", name := "<init>", desc := "()V" } : Jvm.MethodName)) ∈ lw_all := lw_g (lw_at lw_m8 52 rfl) rfl
theorem q1881 : (Jvm.Cond.fieldLink "NapkinDeeds$Compared" (7 : Nat) "NapkinDeeds$Compared" "one" "LNapkinDeeds$Sum;") ∈ lw_all := lw_g (lw_at lw_m8 53 rfl) rfl
theorem q1882 : (Jvm.Cond.fieldLink "NapkinDeeds$Compared" (17 : Nat) "NapkinDeeds$Compared" "other" "LNapkinDeeds$Sum;") ∈ lw_all := lw_g (lw_at lw_m8 54 rfl) rfl
theorem q1883 : (Jvm.Cond.fieldLink "NapkinDeeds$Compared" (13 : Nat) "NapkinDeeds$Compared" "sign" "I") ∈ lw_all := lw_g (lw_at lw_m8 55 rfl) rfl
theorem q1884 : (Jvm.Cond.laysFinal "NapkinDeeds$Compared" "NapkinDeeds$Compared" "one" "LNapkinDeeds$Sum;") ∈ lw_all := lw_g (lw_at lw_m8 56 rfl) rfl
theorem q1885 : (Jvm.Cond.soleField "NapkinDeeds$Compared" "one") ∈ lw_all := lw_g (lw_at lw_m8 57 rfl) rfl
theorem q1886 : (Jvm.Cond.laysFinal "NapkinDeeds$Compared" "NapkinDeeds$Compared" "other" "LNapkinDeeds$Sum;") ∈ lw_all := lw_g (lw_at lw_m8 58 rfl) rfl
theorem q1887 : (Jvm.Cond.soleField "NapkinDeeds$Compared" "other") ∈ lw_all := lw_g (lw_at lw_m8 59 rfl) rfl
theorem q1888 : (Jvm.Cond.laysFinal "NapkinDeeds$Compared" "NapkinDeeds$Compared" "sign" "I") ∈ lw_all := lw_g (lw_at lw_m8 60 rfl) rfl
theorem q1889 : (Jvm.Cond.soleField "NapkinDeeds$Compared" "sign") ∈ lw_all := lw_g (lw_at lw_m8 61 rfl) rfl
theorem q1890 : (Jvm.Cond.superclass "NapkinDeeds$Compared" "java/lang/Object") ∈ lw_all := lw_g (lw_at lw_m8 62 rfl) rfl
theorem q3519 : (Jvm.Cond.castable "NapkinDeeds$Compared" "java/lang/Object") ∈ lw_tbl := lw_at lw_m15 11 rfl
theorem in_X17 : ∀ w ∈ wsX170, w ∈ lw_all := lw_in wsX170 [1884, 1886, 1888] (by decide +kernel) (by decide +kernel)
/-! NapkinDeeds$Both -/
set_option maxRecDepth 100000
def RX18 : String := "NapkinDeeds$Both"
def TX18 : u_T := fun k => match k with
  | 0 => ("NapkinDeeds$Both", "one", "LNapkinDeeds$Truth;", true)
  | _ => ("NapkinDeeds$Both", "other", "LNapkinDeeds$Truth;", true)
def tyX18 : Nat → FieldType := fun k => match k with
  | 0 => .object "NapkinDeeds$Truth"
  | _ => .object "NapkinDeeds$Truth"
abbrev wsX180 : List Cond := u_ws RX18 TX18 2
theorem nmX18 : ∀ a, a < 2 → ∀ b, b < 2 → a ≠ b → (TX18 a).2.1 ≠ (TX18 b).2.1 := by decide +kernel
theorem tyX18_ok : ∀ k, k < 2 → parseFieldDescriptor (TX18 k).2.2.1 = some (tyX18 k) := by decide +kernel
abbrev cX18_holds : ByteArray := prog_18_method_2_code
def yX18_holds : MethodName := ⟨RX18, "holds", "(LNapkinDeeds$Case;)Z"⟩
def dkwX18_holds_1 : List UInt8 := [153, 0, 7, 4, 167, 0, 4, 3, 172]
abbrev dktX18_holds_1 : List UInt8 := dkwX18_holds_1 ++ []
def dkwX18_holds_0 : List UInt8 := [42, 180, 0, 7, 43, 185, 0, 16, 2, 0, 153, 0, 20, 42, 180, 0, 13, 43, 185, 0, 16, 2, 0]
abbrev dktX18_holds_0 : List UInt8 := dkwX18_holds_0 ++ dktX18_holds_1
theorem dksX18_holds_0 : cX18_holds.data.toList.drop 0 = dktX18_holds_0 := by decide +kernel
theorem dksX18_holds_1 : cX18_holds.data.toList.drop 23 = dktX18_holds_1 := dk_seg dksX18_holds_0 23 rfl rfl
theorem dX18_holds_0 : decode cX18_holds 0 = .ok (.aload_n 0, 1) := dk_42 (dk_at dksX18_holds_0 0 rfl rfl)
theorem dX18_holds_1 : decode cX18_holds 1 = .ok (.getfield 7, 3) := dk_180 0 7 (dk_at dksX18_holds_0 1 rfl rfl)
theorem dX18_holds_4 : decode cX18_holds 4 = .ok (.aload_n 1, 1) := dk_43 (dk_at dksX18_holds_0 4 rfl rfl)
theorem dX18_holds_5 : decode cX18_holds 5 = .ok (.invokeinterface 16 2, 5) := by decide +kernel
theorem dX18_holds_10 : decode cX18_holds 10 = .ok (.ifCond .eq 20, 3) := dk_153 0 20 (dk_at dksX18_holds_0 10 rfl rfl)
theorem dX18_holds_13 : decode cX18_holds 13 = .ok (.aload_n 0, 1) := dk_42 (dk_at dksX18_holds_0 13 rfl rfl)
theorem dX18_holds_14 : decode cX18_holds 14 = .ok (.getfield 13, 3) := dk_180 0 13 (dk_at dksX18_holds_0 14 rfl rfl)
theorem dX18_holds_17 : decode cX18_holds 17 = .ok (.aload_n 1, 1) := dk_43 (dk_at dksX18_holds_0 17 rfl rfl)
theorem dX18_holds_18 : decode cX18_holds 18 = .ok (.invokeinterface 16 2, 5) := by decide +kernel
theorem dX18_holds_23 : decode cX18_holds 23 = .ok (.ifCond .eq 7, 3) := dk_153 0 7 (dk_at dksX18_holds_1 0 rfl rfl)
theorem dX18_holds_26 : decode cX18_holds 26 = .ok (.iconst 1, 1) := dk_4 (dk_at dksX18_holds_1 3 rfl rfl)
theorem dX18_holds_27 : decode cX18_holds 27 = .ok (.goto 4, 3) := dk_167 0 4 (dk_at dksX18_holds_1 4 rfl rfl)
theorem dX18_holds_30 : decode cX18_holds 30 = .ok (.iconst 0, 1) := dk_3 (dk_at dksX18_holds_1 7 rfl rfl)
theorem dX18_holds_31 : decode cX18_holds 31 = .ok (.ireturn, 1) := dk_172 (dk_at dksX18_holds_1 8 rfl rfl)
abbrev cX18_init : ByteArray := prog_18_method_1_code
def yX18_init : MethodName := ⟨RX18, "<init>", "(LNapkinDeeds$Truth;LNapkinDeeds$Truth;)V"⟩
def dkwX18_init_0 : List UInt8 := [42, 183, 0, 1, 42, 43, 181, 0, 7, 42, 44, 181, 0, 13, 177]
abbrev dktX18_init_0 : List UInt8 := dkwX18_init_0 ++ []
theorem dksX18_init_0 : cX18_init.data.toList.drop 0 = dktX18_init_0 := by decide +kernel
theorem dX18_init_0 : decode cX18_init 0 = .ok (.aload_n 0, 1) := dk_42 (dk_at dksX18_init_0 0 rfl rfl)
theorem dX18_init_1 : decode cX18_init 1 = .ok (.invokespecial 1, 3) := dk_183 0 1 (dk_at dksX18_init_0 1 rfl rfl)
theorem dX18_init_4 : decode cX18_init 4 = .ok (.aload_n 0, 1) := dk_42 (dk_at dksX18_init_0 4 rfl rfl)
theorem dX18_init_5 : decode cX18_init 5 = .ok (.aload_n 1, 1) := dk_43 (dk_at dksX18_init_0 5 rfl rfl)
theorem dX18_init_6 : decode cX18_init 6 = .ok (.putfield 7, 3) := dk_181 0 7 (dk_at dksX18_init_0 6 rfl rfl)
theorem dX18_init_9 : decode cX18_init 9 = .ok (.aload_n 0, 1) := dk_42 (dk_at dksX18_init_0 9 rfl rfl)
theorem dX18_init_10 : decode cX18_init 10 = .ok (.aload_n 2, 1) := dk_44 (dk_at dksX18_init_0 10 rfl rfl)
theorem dX18_init_11 : decode cX18_init 11 = .ok (.putfield 13, 3) := dk_181 0 13 (dk_at dksX18_init_0 11 rfl rfl)
theorem dX18_init_14 : decode cX18_init 14 = .ok (.return_, 1) := dk_177 (dk_at dksX18_init_0 14 rfl rfl)
theorem q185 : (Jvm.Cond.initialized "NapkinDeeds$Both") ∈ lw_all := lw_g (lw_at lw_m1 37 rfl) rfl
theorem q585 : (Jvm.Cond.castable "NapkinDeeds$Both" "NapkinDeeds$Truth") ∈ lw_tbl := lw_at lw_m2 197 rfl
theorem q586 : (Jvm.Cond.selects "NapkinDeeds$Both" ({ cls := "NapkinDeeds$Truth", name := "holds", desc := "(LNapkinDeeds$Case;)Z" } : Jvm.MethodName) ({ cls := "NapkinDeeds$Both", name := "holds", desc := "(LNapkinDeeds$Case;)Z" } : Jvm.MethodName)) ∈ lw_all := lw_g (lw_at lw_m2 198 rfl) rfl
theorem q587 : (Jvm.Cond.unhidden "NapkinDeeds$Both" "holds" "(LNapkinDeeds$Case;)Z") ∈ lw_tbl := lw_at lw_m2 199 rfl
theorem q588 : (Jvm.Cond.instanceMethod ({ cls := "NapkinDeeds$Both", name := "holds", desc := "(LNapkinDeeds$Case;)Z" } : Jvm.MethodName)) ∈ lw_all := lw_g (lw_at lw_m2 200 rfl) rfl
theorem q589 : (Jvm.Cond.publicMethod ({ cls := "NapkinDeeds$Both", name := "holds", desc := "(LNapkinDeeds$Case;)Z" } : Jvm.MethodName)) ∈ lw_tbl := lw_at lw_m2 201 rfl
theorem q590 : (Jvm.Cond.code ({ cls := "NapkinDeeds$Both", name := "holds", desc := "(LNapkinDeeds$Case;)Z" } : Jvm.MethodName) prog_18_method_2_code (2 : Nat) (Option.some Jvm.ClassFile.FieldType.boolean)) ∈ lw_all := lw_g (lw_at lw_m2 202 rfl) rfl
theorem q591 : (Jvm.Cond.interfaceEntry "NapkinDeeds$Both" (16 : Nat)) ∈ lw_tbl := lw_at lw_m2 203 rfl
theorem q592 : (Jvm.Cond.methodLink "NapkinDeeds$Both" (16 : Nat) ({ cls := "NapkinDeeds$Truth", name := "holds", desc := "(LNapkinDeeds$Case;)Z" } : Jvm.MethodName)) ∈ lw_all := lw_g (lw_at lw_m2 204 rfl) rfl
theorem q707 : (Jvm.Cond.selects "NapkinDeeds$Both" ({ cls := "java/lang/Object", name := "getClass", desc := "()Ljava/lang/Class;" } : Jvm.MethodName) ({ cls := "java/lang/Object", name := "getClass", desc := "()Ljava/lang/Class;" } : Jvm.MethodName)) ∈ lw_all := lw_g (lw_at lw_m3 79 rfl) rfl
theorem q1893 : (Jvm.Cond.instantiable "NapkinDeeds$Both" (2 : Nat)) ∈ lw_all := lw_g (lw_at lw_m8 65 rfl) rfl
theorem q1895 : (Jvm.Cond.instanceMethod ({ cls := "NapkinDeeds$Both", name := "<init>", desc := "(LNapkinDeeds$Truth;LNapkinDeeds$Truth;)V" } : Jvm.MethodName)) ∈ lw_all := lw_g (lw_at lw_m8 67 rfl) rfl
theorem q1896 : (Jvm.Cond.code ({ cls := "NapkinDeeds$Both", name := "<init>", desc := "(LNapkinDeeds$Truth;LNapkinDeeds$Truth;)V" } : Jvm.MethodName) prog_18_method_1_code (3 : Nat) (Option.none : Option Jvm.ClassFile.FieldType)) ∈ lw_all := lw_g (lw_at lw_m8 68 rfl) rfl
theorem q1897 : (Jvm.Cond.methodLink "NapkinDeeds$Both" (1 : Nat) ({ cls := "java/lang/Object", name := "<init>", desc := "()V" } : Jvm.MethodName)) ∈ lw_all := lw_g (lw_at lw_m8 69 rfl) rfl
theorem q1898 : (Jvm.Cond.fieldLink "NapkinDeeds$Both" (7 : Nat) "NapkinDeeds$Both" "one" "LNapkinDeeds$Truth;") ∈ lw_all := lw_g (lw_at lw_m8 70 rfl) rfl
theorem q1899 : (Jvm.Cond.fieldLink "NapkinDeeds$Both" (13 : Nat) "NapkinDeeds$Both" "other" "LNapkinDeeds$Truth;") ∈ lw_all := lw_g (lw_at lw_m8 71 rfl) rfl
theorem q1900 : (Jvm.Cond.laysFinal "NapkinDeeds$Both" "NapkinDeeds$Both" "one" "LNapkinDeeds$Truth;") ∈ lw_all := lw_g (lw_at lw_m8 72 rfl) rfl
theorem q1901 : (Jvm.Cond.soleField "NapkinDeeds$Both" "one") ∈ lw_all := lw_g (lw_at lw_m8 73 rfl) rfl
theorem q1902 : (Jvm.Cond.laysFinal "NapkinDeeds$Both" "NapkinDeeds$Both" "other" "LNapkinDeeds$Truth;") ∈ lw_all := lw_g (lw_at lw_m8 74 rfl) rfl
theorem q1903 : (Jvm.Cond.soleField "NapkinDeeds$Both" "other") ∈ lw_all := lw_g (lw_at lw_m8 75 rfl) rfl
theorem q1904 : (Jvm.Cond.superclass "NapkinDeeds$Both" "java/lang/Object") ∈ lw_all := lw_g (lw_at lw_m8 76 rfl) rfl
theorem q3484 : (Jvm.Cond.sameMethod "NapkinDeeds$Both" "NapkinDeeds$Both" "holds" "(LNapkinDeeds$Case;)Z") ∈ lw_all := lw_g (lw_at lw_m14 216 rfl) rfl
theorem q3520 : (Jvm.Cond.castable "NapkinDeeds$Both" "java/lang/Object") ∈ lw_tbl := lw_at lw_m15 12 rfl
theorem in_X18 : ∀ w ∈ wsX180, w ∈ lw_all := lw_in wsX180 [1900, 1902] (by decide +kernel) (by decide +kernel)
/-! NapkinDeeds$Either -/
set_option maxRecDepth 100000
def RX19 : String := "NapkinDeeds$Either"
def TX19 : u_T := fun k => match k with
  | 0 => ("NapkinDeeds$Both", "one", "LNapkinDeeds$Truth;", true)
  | _ => ("NapkinDeeds$Both", "other", "LNapkinDeeds$Truth;", true)
def tyX19 : Nat → FieldType := fun k => match k with
  | 0 => .object "NapkinDeeds$Truth"
  | _ => .object "NapkinDeeds$Truth"
abbrev wsX190 : List Cond := u_ws RX19 TX19 2
theorem nmX19 : ∀ a, a < 2 → ∀ b, b < 2 → a ≠ b → (TX19 a).2.1 ≠ (TX19 b).2.1 := by decide +kernel
theorem tyX19_ok : ∀ k, k < 2 → parseFieldDescriptor (TX19 k).2.2.1 = some (tyX19 k) := by decide +kernel
abbrev cX19_holds : ByteArray := prog_21_method_2_code
def yX19_holds : MethodName := ⟨RX19, "holds", "(LNapkinDeeds$Case;)Z"⟩
def dkwX19_holds_0 : List UInt8 := [42, 43, 183, 0, 12, 154, 0, 7, 4, 167, 0, 4, 3, 172]
abbrev dktX19_holds_0 : List UInt8 := dkwX19_holds_0 ++ []
theorem dksX19_holds_0 : cX19_holds.data.toList.drop 0 = dktX19_holds_0 := by decide +kernel
theorem dX19_holds_0 : decode cX19_holds 0 = .ok (.aload_n 0, 1) := dk_42 (dk_at dksX19_holds_0 0 rfl rfl)
theorem dX19_holds_1 : decode cX19_holds 1 = .ok (.aload_n 1, 1) := dk_43 (dk_at dksX19_holds_0 1 rfl rfl)
theorem dX19_holds_2 : decode cX19_holds 2 = .ok (.invokespecial 12, 3) := dk_183 0 12 (dk_at dksX19_holds_0 2 rfl rfl)
theorem dX19_holds_5 : decode cX19_holds 5 = .ok (.ifCond .ne 7, 3) := dk_154 0 7 (dk_at dksX19_holds_0 5 rfl rfl)
theorem dX19_holds_8 : decode cX19_holds 8 = .ok (.iconst 1, 1) := dk_4 (dk_at dksX19_holds_0 8 rfl rfl)
theorem dX19_holds_9 : decode cX19_holds 9 = .ok (.goto 4, 3) := dk_167 0 4 (dk_at dksX19_holds_0 9 rfl rfl)
theorem dX19_holds_12 : decode cX19_holds 12 = .ok (.iconst 0, 1) := dk_3 (dk_at dksX19_holds_0 12 rfl rfl)
theorem dX19_holds_13 : decode cX19_holds 13 = .ok (.ireturn, 1) := dk_172 (dk_at dksX19_holds_0 13 rfl rfl)
abbrev cX19_init : ByteArray := prog_21_method_1_code
def yX19_init : MethodName := ⟨RX19, "<init>", "(LNapkinDeeds$Truth;LNapkinDeeds$Truth;)V"⟩
def dkwX19_init_0 : List UInt8 := [42, 187, 0, 1, 89, 43, 183, 0, 3, 187, 0, 1, 89, 44, 183, 0, 3, 183, 0, 7, 177]
abbrev dktX19_init_0 : List UInt8 := dkwX19_init_0 ++ []
theorem dksX19_init_0 : cX19_init.data.toList.drop 0 = dktX19_init_0 := by decide +kernel
theorem dX19_init_0 : decode cX19_init 0 = .ok (.aload_n 0, 1) := dk_42 (dk_at dksX19_init_0 0 rfl rfl)
theorem dX19_init_1 : decode cX19_init 1 = .ok (.new 1, 3) := dk_187 0 1 (dk_at dksX19_init_0 1 rfl rfl)
theorem dX19_init_4 : decode cX19_init 4 = .ok (.dup, 1) := dk_89 (dk_at dksX19_init_0 4 rfl rfl)
theorem dX19_init_5 : decode cX19_init 5 = .ok (.aload_n 1, 1) := dk_43 (dk_at dksX19_init_0 5 rfl rfl)
theorem dX19_init_6 : decode cX19_init 6 = .ok (.invokespecial 3, 3) := dk_183 0 3 (dk_at dksX19_init_0 6 rfl rfl)
theorem dX19_init_9 : decode cX19_init 9 = .ok (.new 1, 3) := dk_187 0 1 (dk_at dksX19_init_0 9 rfl rfl)
theorem dX19_init_12 : decode cX19_init 12 = .ok (.dup, 1) := dk_89 (dk_at dksX19_init_0 12 rfl rfl)
theorem dX19_init_13 : decode cX19_init 13 = .ok (.aload_n 2, 1) := dk_44 (dk_at dksX19_init_0 13 rfl rfl)
theorem dX19_init_14 : decode cX19_init 14 = .ok (.invokespecial 3, 3) := dk_183 0 3 (dk_at dksX19_init_0 14 rfl rfl)
theorem dX19_init_17 : decode cX19_init 17 = .ok (.invokespecial 7, 3) := dk_183 0 7 (dk_at dksX19_init_0 17 rfl rfl)
theorem dX19_init_20 : decode cX19_init 20 = .ok (.return_, 1) := dk_177 (dk_at dksX19_init_0 20 rfl rfl)
theorem q186 : (Jvm.Cond.initialized "NapkinDeeds$Either") ∈ lw_all := lw_g (lw_at lw_m1 38 rfl) rfl
theorem q601 : (Jvm.Cond.castable "NapkinDeeds$Either" "NapkinDeeds$Truth") ∈ lw_tbl := lw_at lw_m2 213 rfl
theorem q602 : (Jvm.Cond.selects "NapkinDeeds$Either" ({ cls := "NapkinDeeds$Truth", name := "holds", desc := "(LNapkinDeeds$Case;)Z" } : Jvm.MethodName) ({ cls := "NapkinDeeds$Either", name := "holds", desc := "(LNapkinDeeds$Case;)Z" } : Jvm.MethodName)) ∈ lw_all := lw_g (lw_at lw_m2 214 rfl) rfl
theorem q603 : (Jvm.Cond.unhidden "NapkinDeeds$Either" "holds" "(LNapkinDeeds$Case;)Z") ∈ lw_tbl := lw_at lw_m2 215 rfl
theorem q604 : (Jvm.Cond.instanceMethod ({ cls := "NapkinDeeds$Either", name := "holds", desc := "(LNapkinDeeds$Case;)Z" } : Jvm.MethodName)) ∈ lw_all := lw_g (lw_at lw_m2 216 rfl) rfl
theorem q605 : (Jvm.Cond.publicMethod ({ cls := "NapkinDeeds$Either", name := "holds", desc := "(LNapkinDeeds$Case;)Z" } : Jvm.MethodName)) ∈ lw_tbl := lw_at lw_m2 217 rfl
theorem q606 : (Jvm.Cond.code ({ cls := "NapkinDeeds$Either", name := "holds", desc := "(LNapkinDeeds$Case;)Z" } : Jvm.MethodName) prog_21_method_2_code (2 : Nat) (Option.some Jvm.ClassFile.FieldType.boolean)) ∈ lw_all := lw_g (lw_at lw_m2 218 rfl) rfl
theorem q607 : (Jvm.Cond.methodLink "NapkinDeeds$Either" (12 : Nat) ({ cls := "NapkinDeeds$Both", name := "holds", desc := "(LNapkinDeeds$Case;)Z" } : Jvm.MethodName)) ∈ lw_all := lw_g (lw_at lw_m2 219 rfl) rfl
theorem q608 : (Jvm.Cond.superclass "NapkinDeeds$Either" "NapkinDeeds$Both") ∈ lw_all := lw_g (lw_at lw_m2 220 rfl) rfl
theorem q710 : (Jvm.Cond.selects "NapkinDeeds$Either" ({ cls := "java/lang/Object", name := "getClass", desc := "()Ljava/lang/Class;" } : Jvm.MethodName) ({ cls := "java/lang/Object", name := "getClass", desc := "()Ljava/lang/Class;" } : Jvm.MethodName)) ∈ lw_all := lw_g (lw_at lw_m3 82 rfl) rfl
theorem q1907 : (Jvm.Cond.instantiable "NapkinDeeds$Either" (2 : Nat)) ∈ lw_all := lw_g (lw_at lw_m8 79 rfl) rfl
theorem q1909 : (Jvm.Cond.instanceMethod ({ cls := "NapkinDeeds$Either", name := "<init>", desc := "(LNapkinDeeds$Truth;LNapkinDeeds$Truth;)V" } : Jvm.MethodName)) ∈ lw_all := lw_g (lw_at lw_m8 81 rfl) rfl
theorem q1910 : (Jvm.Cond.code ({ cls := "NapkinDeeds$Either", name := "<init>", desc := "(LNapkinDeeds$Truth;LNapkinDeeds$Truth;)V" } : Jvm.MethodName) prog_21_method_1_code (3 : Nat) (Option.none : Option Jvm.ClassFile.FieldType)) ∈ lw_all := lw_g (lw_at lw_m8 82 rfl) rfl
theorem q1911 : (Jvm.Cond.classLink "NapkinDeeds$Either" (1 : Nat) "NapkinDeeds$Not") ∈ lw_all := lw_g (lw_at lw_m8 83 rfl) rfl
theorem q1912 : (Jvm.Cond.methodLink "NapkinDeeds$Either" (3 : Nat) ({ cls := "NapkinDeeds$Not", name := "<init>", desc := "(LNapkinDeeds$Truth;)V" } : Jvm.MethodName)) ∈ lw_all := lw_g (lw_at lw_m8 84 rfl) rfl
theorem q1913 : (Jvm.Cond.methodLink "NapkinDeeds$Either" (7 : Nat) ({ cls := "NapkinDeeds$Both", name := "<init>", desc := "(LNapkinDeeds$Truth;LNapkinDeeds$Truth;)V" } : Jvm.MethodName)) ∈ lw_all := lw_g (lw_at lw_m8 85 rfl) rfl
theorem q1914 : (Jvm.Cond.laysFinal "NapkinDeeds$Either" "NapkinDeeds$Both" "one" "LNapkinDeeds$Truth;") ∈ lw_all := lw_g (lw_at lw_m8 86 rfl) rfl
theorem q1915 : (Jvm.Cond.laysFinal "NapkinDeeds$Either" "NapkinDeeds$Both" "other" "LNapkinDeeds$Truth;") ∈ lw_all := lw_g (lw_at lw_m8 87 rfl) rfl
theorem q3521 : (Jvm.Cond.castable "NapkinDeeds$Either" "java/lang/Object") ∈ lw_tbl := lw_at lw_m15 13 rfl
theorem in_X19 : ∀ w ∈ wsX190, w ∈ lw_all := lw_in wsX190 [1914, 1915] (by decide +kernel) (by decide +kernel)
/-! NapkinDeeds$Rows -/
set_option maxRecDepth 100000
def RX20 : String := "NapkinDeeds$Rows"
abbrev cX20_init : ByteArray := prog_32_method_1_code
def yX20_init : MethodName := ⟨RX20, "<init>", "(LNapkinDeeds;)V"⟩
def dkwX20_init_0 : List UInt8 := [42, 43, 181, 0, 3, 42, 183, 0, 9, 42, 8, 188, 10, 181, 0, 15, 177]
abbrev dktX20_init_0 : List UInt8 := dkwX20_init_0 ++ []
theorem dksX20_init_0 : cX20_init.data.toList.drop 0 = dktX20_init_0 := by decide +kernel
theorem dX20_init_0 : decode cX20_init 0 = .ok (.aload_n 0, 1) := dk_42 (dk_at dksX20_init_0 0 rfl rfl)
theorem dX20_init_1 : decode cX20_init 1 = .ok (.aload_n 1, 1) := dk_43 (dk_at dksX20_init_0 1 rfl rfl)
theorem dX20_init_2 : decode cX20_init 2 = .ok (.putfield 3, 3) := dk_181 0 3 (dk_at dksX20_init_0 2 rfl rfl)
theorem dX20_init_5 : decode cX20_init 5 = .ok (.aload_n 0, 1) := dk_42 (dk_at dksX20_init_0 5 rfl rfl)
theorem dX20_init_6 : decode cX20_init 6 = .ok (.invokespecial 9, 3) := dk_183 0 9 (dk_at dksX20_init_0 6 rfl rfl)
theorem dX20_init_9 : decode cX20_init 9 = .ok (.aload_n 0, 1) := dk_42 (dk_at dksX20_init_0 9 rfl rfl)
theorem dX20_init_10 : decode cX20_init 10 = .ok (.iconst 5, 1) := dk_8 (dk_at dksX20_init_0 10 rfl rfl)
theorem dX20_init_11 : decode cX20_init 11 = .ok (.newarray .int, 2) := dk_188_10 (dk_at dksX20_init_0 11 rfl rfl)
theorem dX20_init_13 : decode cX20_init 13 = .ok (.putfield 15, 3) := dk_181 0 15 (dk_at dksX20_init_0 13 rfl rfl)
theorem dX20_init_16 : decode cX20_init 16 = .ok (.return_, 1) := dk_177 (dk_at dksX20_init_0 16 rfl rfl)
abbrev cX20_seeks : ByteArray := prog_32_method_3_code
def yX20_seeks : MethodName := ⟨RX20, "seeks", "(ZI)LNapkinDeeds$Rows;"⟩
def dkwX20_seeks_3 : List UInt8 := [42, 176]
abbrev dktX20_seeks_3 : List UInt8 := dkwX20_seeks_3 ++ []
def dkwX20_seeks_2 : List UInt8 := [45, 3, 27, 153, 0, 7, 3, 167, 0, 13, 42, 180, 0, 3, 180, 0, 41, 180, 0, 45, 28, 182, 0, 51]
abbrev dktX20_seeks_2 : List UInt8 := dkwX20_seeks_2 ++ dktX20_seeks_3
def dkwX20_seeks_1 : List UInt8 := [167, 0, 22, 42, 180, 0, 3, 180, 0, 19, 3, 50, 42, 180, 0, 3, 182, 0, 33, 182, 0, 37, 78, 42]
abbrev dktX20_seeks_1 : List UInt8 := dkwX20_seeks_1 ++ dktX20_seeks_2
def dkwX20_seeks_0 : List UInt8 := [27, 153, 0, 25, 42, 180, 0, 3, 180, 0, 19, 3, 50, 42, 180, 0, 3, 182, 0, 23, 182, 0, 27]
abbrev dktX20_seeks_0 : List UInt8 := dkwX20_seeks_0 ++ dktX20_seeks_1
theorem dksX20_seeks_0 : cX20_seeks.data.toList.drop 0 = dktX20_seeks_0 := by decide +kernel
theorem dksX20_seeks_1 : cX20_seeks.data.toList.drop 23 = dktX20_seeks_1 := dk_seg dksX20_seeks_0 23 rfl rfl
theorem dksX20_seeks_2 : cX20_seeks.data.toList.drop 47 = dktX20_seeks_2 := dk_seg dksX20_seeks_1 24 rfl rfl
theorem dksX20_seeks_3 : cX20_seeks.data.toList.drop 71 = dktX20_seeks_3 := dk_seg dksX20_seeks_2 24 rfl rfl
theorem dX20_seeks_0 : decode cX20_seeks 0 = .ok (.iload_n 1, 1) := dk_27 (dk_at dksX20_seeks_0 0 rfl rfl)
theorem dX20_seeks_1 : decode cX20_seeks 1 = .ok (.ifCond .eq 25, 3) := dk_153 0 25 (dk_at dksX20_seeks_0 1 rfl rfl)
theorem dX20_seeks_4 : decode cX20_seeks 4 = .ok (.aload_n 0, 1) := dk_42 (dk_at dksX20_seeks_0 4 rfl rfl)
theorem dX20_seeks_5 : decode cX20_seeks 5 = .ok (.getfield 3, 3) := dk_180 0 3 (dk_at dksX20_seeks_0 5 rfl rfl)
theorem dX20_seeks_8 : decode cX20_seeks 8 = .ok (.getfield 19, 3) := dk_180 0 19 (dk_at dksX20_seeks_0 8 rfl rfl)
theorem dX20_seeks_11 : decode cX20_seeks 11 = .ok (.iconst 0, 1) := dk_3 (dk_at dksX20_seeks_0 11 rfl rfl)
theorem dX20_seeks_12 : decode cX20_seeks 12 = .ok (.aaload, 1) := dk_50 (dk_at dksX20_seeks_0 12 rfl rfl)
theorem dX20_seeks_13 : decode cX20_seeks 13 = .ok (.aload_n 0, 1) := dk_42 (dk_at dksX20_seeks_0 13 rfl rfl)
theorem dX20_seeks_14 : decode cX20_seeks 14 = .ok (.getfield 3, 3) := dk_180 0 3 (dk_at dksX20_seeks_0 14 rfl rfl)
theorem dX20_seeks_17 : decode cX20_seeks 17 = .ok (.invokevirtual 23, 3) := dk_182 0 23 (dk_at dksX20_seeks_0 17 rfl rfl)
theorem dX20_seeks_20 : decode cX20_seeks 20 = .ok (.invokevirtual 27, 3) := dk_182 0 27 (dk_at dksX20_seeks_0 20 rfl rfl)
theorem dX20_seeks_23 : decode cX20_seeks 23 = .ok (.goto 22, 3) := dk_167 0 22 (dk_at dksX20_seeks_1 0 rfl rfl)
theorem dX20_seeks_26 : decode cX20_seeks 26 = .ok (.aload_n 0, 1) := dk_42 (dk_at dksX20_seeks_1 3 rfl rfl)
theorem dX20_seeks_27 : decode cX20_seeks 27 = .ok (.getfield 3, 3) := dk_180 0 3 (dk_at dksX20_seeks_1 4 rfl rfl)
theorem dX20_seeks_30 : decode cX20_seeks 30 = .ok (.getfield 19, 3) := dk_180 0 19 (dk_at dksX20_seeks_1 7 rfl rfl)
theorem dX20_seeks_33 : decode cX20_seeks 33 = .ok (.iconst 0, 1) := dk_3 (dk_at dksX20_seeks_1 10 rfl rfl)
theorem dX20_seeks_34 : decode cX20_seeks 34 = .ok (.aaload, 1) := dk_50 (dk_at dksX20_seeks_1 11 rfl rfl)
theorem dX20_seeks_35 : decode cX20_seeks 35 = .ok (.aload_n 0, 1) := dk_42 (dk_at dksX20_seeks_1 12 rfl rfl)
theorem dX20_seeks_36 : decode cX20_seeks 36 = .ok (.getfield 3, 3) := dk_180 0 3 (dk_at dksX20_seeks_1 13 rfl rfl)
theorem dX20_seeks_39 : decode cX20_seeks 39 = .ok (.invokevirtual 33, 3) := dk_182 0 33 (dk_at dksX20_seeks_1 16 rfl rfl)
theorem dX20_seeks_42 : decode cX20_seeks 42 = .ok (.invokevirtual 37, 3) := dk_182 0 37 (dk_at dksX20_seeks_1 19 rfl rfl)
theorem dX20_seeks_45 : decode cX20_seeks 45 = .ok (.astore_n 3, 1) := dk_78 (dk_at dksX20_seeks_1 22 rfl rfl)
theorem dX20_seeks_46 : decode cX20_seeks 46 = .ok (.aload_n 0, 1) := dk_42 (dk_at dksX20_seeks_1 23 rfl rfl)
theorem dX20_seeks_47 : decode cX20_seeks 47 = .ok (.aload_n 3, 1) := dk_45 (dk_at dksX20_seeks_2 0 rfl rfl)
theorem dX20_seeks_48 : decode cX20_seeks 48 = .ok (.iconst 0, 1) := dk_3 (dk_at dksX20_seeks_2 1 rfl rfl)
theorem dX20_seeks_49 : decode cX20_seeks 49 = .ok (.iload_n 1, 1) := dk_27 (dk_at dksX20_seeks_2 2 rfl rfl)
theorem dX20_seeks_50 : decode cX20_seeks 50 = .ok (.ifCond .eq 7, 3) := dk_153 0 7 (dk_at dksX20_seeks_2 3 rfl rfl)
theorem dX20_seeks_53 : decode cX20_seeks 53 = .ok (.iconst 0, 1) := dk_3 (dk_at dksX20_seeks_2 6 rfl rfl)
theorem dX20_seeks_54 : decode cX20_seeks 54 = .ok (.goto 13, 3) := dk_167 0 13 (dk_at dksX20_seeks_2 7 rfl rfl)
theorem dX20_seeks_57 : decode cX20_seeks 57 = .ok (.aload_n 0, 1) := dk_42 (dk_at dksX20_seeks_2 10 rfl rfl)
theorem dX20_seeks_58 : decode cX20_seeks 58 = .ok (.getfield 3, 3) := dk_180 0 3 (dk_at dksX20_seeks_2 11 rfl rfl)
theorem dX20_seeks_61 : decode cX20_seeks 61 = .ok (.getfield 41, 3) := dk_180 0 41 (dk_at dksX20_seeks_2 14 rfl rfl)
theorem dX20_seeks_64 : decode cX20_seeks 64 = .ok (.getfield 45, 3) := dk_180 0 45 (dk_at dksX20_seeks_2 17 rfl rfl)
theorem dX20_seeks_67 : decode cX20_seeks 67 = .ok (.iload_n 2, 1) := dk_28 (dk_at dksX20_seeks_2 20 rfl rfl)
theorem dX20_seeks_68 : decode cX20_seeks 68 = .ok (.invokevirtual 51, 3) := dk_182 0 51 (dk_at dksX20_seeks_2 21 rfl rfl)
theorem dX20_seeks_71 : decode cX20_seeks 71 = .ok (.aload_n 0, 1) := dk_42 (dk_at dksX20_seeks_3 0 rfl rfl)
theorem dX20_seeks_72 : decode cX20_seeks 72 = .ok (.areturn, 1) := dk_176 (dk_at dksX20_seeks_3 1 rfl rfl)
abbrev cX20_goes : ByteArray := prog_32_method_4_code
def yX20_goes : MethodName := ⟨RX20, "goes", "(LNapkinDeeds$Look;III)V"⟩
def dkwX20_goes_3 : List UInt8 := [96, 29, 4, 96, 21, 4, 182, 0, 51, 132, 6, 1, 167, 255, 202, 132, 5, 1, 167, 255, 184, 177]
abbrev dktX20_goes_3 : List UInt8 := dkwX20_goes_3 ++ []
def dkwX20_goes_2 : List UInt8 := [96, 79, 42, 42, 180, 0, 3, 180, 0, 19, 28, 4, 96, 50, 43, 21, 5, 21, 6, 182, 0, 62, 28, 4]
abbrev dktX20_goes_2 : List UInt8 := dkwX20_goes_2 ++ dktX20_goes_3
def dkwX20_goes_1 : List UInt8 := [162, 0, 69, 3, 54, 6, 21, 6, 7, 162, 0, 54, 42, 180, 0, 15, 28, 16, 10, 21, 5, 104, 21, 6]
abbrev dktX20_goes_1 : List UInt8 := dkwX20_goes_1 ++ dktX20_goes_2
def dkwX20_goes_0 : List UInt8 := [42, 43, 28, 29, 182, 0, 55, 28, 21, 4, 160, 0, 4, 177, 4, 54, 5, 21, 5, 43, 180, 0, 59]
abbrev dktX20_goes_0 : List UInt8 := dkwX20_goes_0 ++ dktX20_goes_1
theorem dksX20_goes_0 : cX20_goes.data.toList.drop 0 = dktX20_goes_0 := by decide +kernel
theorem dksX20_goes_1 : cX20_goes.data.toList.drop 23 = dktX20_goes_1 := dk_seg dksX20_goes_0 23 rfl rfl
theorem dksX20_goes_2 : cX20_goes.data.toList.drop 47 = dktX20_goes_2 := dk_seg dksX20_goes_1 24 rfl rfl
theorem dksX20_goes_3 : cX20_goes.data.toList.drop 71 = dktX20_goes_3 := dk_seg dksX20_goes_2 24 rfl rfl
theorem dX20_goes_0 : decode cX20_goes 0 = .ok (.aload_n 0, 1) := dk_42 (dk_at dksX20_goes_0 0 rfl rfl)
theorem dX20_goes_1 : decode cX20_goes 1 = .ok (.aload_n 1, 1) := dk_43 (dk_at dksX20_goes_0 1 rfl rfl)
theorem dX20_goes_2 : decode cX20_goes 2 = .ok (.iload_n 2, 1) := dk_28 (dk_at dksX20_goes_0 2 rfl rfl)
theorem dX20_goes_3 : decode cX20_goes 3 = .ok (.iload_n 3, 1) := dk_29 (dk_at dksX20_goes_0 3 rfl rfl)
theorem dX20_goes_4 : decode cX20_goes 4 = .ok (.invokevirtual 55, 3) := dk_182 0 55 (dk_at dksX20_goes_0 4 rfl rfl)
theorem dX20_goes_7 : decode cX20_goes 7 = .ok (.iload_n 2, 1) := dk_28 (dk_at dksX20_goes_0 7 rfl rfl)
theorem dX20_goes_8 : decode cX20_goes 8 = .ok (.iload 4, 2) := dk_21 4 (dk_at dksX20_goes_0 8 rfl rfl)
theorem dX20_goes_10 : decode cX20_goes 10 = .ok (.if_icmp .ne 4, 3) := dk_160 0 4 (dk_at dksX20_goes_0 10 rfl rfl)
theorem dX20_goes_13 : decode cX20_goes 13 = .ok (.return_, 1) := dk_177 (dk_at dksX20_goes_0 13 rfl rfl)
theorem dX20_goes_14 : decode cX20_goes 14 = .ok (.iconst 1, 1) := dk_4 (dk_at dksX20_goes_0 14 rfl rfl)
theorem dX20_goes_15 : decode cX20_goes 15 = .ok (.istore 5, 2) := dk_54 5 (dk_at dksX20_goes_0 15 rfl rfl)
theorem dX20_goes_17 : decode cX20_goes 17 = .ok (.iload 5, 2) := dk_21 5 (dk_at dksX20_goes_0 17 rfl rfl)
theorem dX20_goes_19 : decode cX20_goes 19 = .ok (.aload_n 1, 1) := dk_43 (dk_at dksX20_goes_0 19 rfl rfl)
theorem dX20_goes_20 : decode cX20_goes 20 = .ok (.getfield 59, 3) := dk_180 0 59 (dk_at dksX20_goes_0 20 rfl rfl)
theorem dX20_goes_23 : decode cX20_goes 23 = .ok (.if_icmp .ge 69, 3) := dk_162 0 69 (dk_at dksX20_goes_1 0 rfl rfl)
theorem dX20_goes_26 : decode cX20_goes 26 = .ok (.iconst 0, 1) := dk_3 (dk_at dksX20_goes_1 3 rfl rfl)
theorem dX20_goes_27 : decode cX20_goes 27 = .ok (.istore 6, 2) := dk_54 6 (dk_at dksX20_goes_1 4 rfl rfl)
theorem dX20_goes_29 : decode cX20_goes 29 = .ok (.iload 6, 2) := dk_21 6 (dk_at dksX20_goes_1 6 rfl rfl)
theorem dX20_goes_31 : decode cX20_goes 31 = .ok (.iconst 4, 1) := dk_7 (dk_at dksX20_goes_1 8 rfl rfl)
theorem dX20_goes_32 : decode cX20_goes 32 = .ok (.if_icmp .ge 54, 3) := dk_162 0 54 (dk_at dksX20_goes_1 9 rfl rfl)
theorem dX20_goes_35 : decode cX20_goes 35 = .ok (.aload_n 0, 1) := dk_42 (dk_at dksX20_goes_1 12 rfl rfl)
theorem dX20_goes_36 : decode cX20_goes 36 = .ok (.getfield 15, 3) := dk_180 0 15 (dk_at dksX20_goes_1 13 rfl rfl)
theorem dX20_goes_39 : decode cX20_goes 39 = .ok (.iload_n 2, 1) := dk_28 (dk_at dksX20_goes_1 16 rfl rfl)
theorem dX20_goes_40 : decode cX20_goes 40 = .ok (.bipush 10, 2) := dk_16 10 (dk_at dksX20_goes_1 17 rfl rfl)
theorem dX20_goes_42 : decode cX20_goes 42 = .ok (.iload 5, 2) := dk_21 5 (dk_at dksX20_goes_1 19 rfl rfl)
theorem dX20_goes_44 : decode cX20_goes 44 = .ok (.imul, 1) := dk_104 (dk_at dksX20_goes_1 21 rfl rfl)
theorem dX20_goes_45 : decode cX20_goes 45 = .ok (.iload 6, 2) := dk_21 6 (dk_at dksX20_goes_1 22 rfl rfl)
theorem dX20_goes_47 : decode cX20_goes 47 = .ok (.iadd, 1) := dk_96 (dk_at dksX20_goes_2 0 rfl rfl)
theorem dX20_goes_48 : decode cX20_goes 48 = .ok (.iastore, 1) := dk_79 (dk_at dksX20_goes_2 1 rfl rfl)
theorem dX20_goes_49 : decode cX20_goes 49 = .ok (.aload_n 0, 1) := dk_42 (dk_at dksX20_goes_2 2 rfl rfl)
theorem dX20_goes_50 : decode cX20_goes 50 = .ok (.aload_n 0, 1) := dk_42 (dk_at dksX20_goes_2 3 rfl rfl)
theorem dX20_goes_51 : decode cX20_goes 51 = .ok (.getfield 3, 3) := dk_180 0 3 (dk_at dksX20_goes_2 4 rfl rfl)
theorem dX20_goes_54 : decode cX20_goes 54 = .ok (.getfield 19, 3) := dk_180 0 19 (dk_at dksX20_goes_2 7 rfl rfl)
theorem dX20_goes_57 : decode cX20_goes 57 = .ok (.iload_n 2, 1) := dk_28 (dk_at dksX20_goes_2 10 rfl rfl)
theorem dX20_goes_58 : decode cX20_goes 58 = .ok (.iconst 1, 1) := dk_4 (dk_at dksX20_goes_2 11 rfl rfl)
theorem dX20_goes_59 : decode cX20_goes 59 = .ok (.iadd, 1) := dk_96 (dk_at dksX20_goes_2 12 rfl rfl)
theorem dX20_goes_60 : decode cX20_goes 60 = .ok (.aaload, 1) := dk_50 (dk_at dksX20_goes_2 13 rfl rfl)
theorem dX20_goes_61 : decode cX20_goes 61 = .ok (.aload_n 1, 1) := dk_43 (dk_at dksX20_goes_2 14 rfl rfl)
theorem dX20_goes_62 : decode cX20_goes 62 = .ok (.iload 5, 2) := dk_21 5 (dk_at dksX20_goes_2 15 rfl rfl)
theorem dX20_goes_64 : decode cX20_goes 64 = .ok (.iload 6, 2) := dk_21 6 (dk_at dksX20_goes_2 17 rfl rfl)
theorem dX20_goes_66 : decode cX20_goes 66 = .ok (.invokevirtual 62, 3) := dk_182 0 62 (dk_at dksX20_goes_2 19 rfl rfl)
theorem dX20_goes_69 : decode cX20_goes 69 = .ok (.iload_n 2, 1) := dk_28 (dk_at dksX20_goes_2 22 rfl rfl)
theorem dX20_goes_70 : decode cX20_goes 70 = .ok (.iconst 1, 1) := dk_4 (dk_at dksX20_goes_2 23 rfl rfl)
theorem dX20_goes_71 : decode cX20_goes 71 = .ok (.iadd, 1) := dk_96 (dk_at dksX20_goes_3 0 rfl rfl)
theorem dX20_goes_72 : decode cX20_goes 72 = .ok (.iload_n 3, 1) := dk_29 (dk_at dksX20_goes_3 1 rfl rfl)
theorem dX20_goes_73 : decode cX20_goes 73 = .ok (.iconst 1, 1) := dk_4 (dk_at dksX20_goes_3 2 rfl rfl)
theorem dX20_goes_74 : decode cX20_goes 74 = .ok (.iadd, 1) := dk_96 (dk_at dksX20_goes_3 3 rfl rfl)
theorem dX20_goes_75 : decode cX20_goes 75 = .ok (.iload 4, 2) := dk_21 4 (dk_at dksX20_goes_3 4 rfl rfl)
theorem dX20_goes_77 : decode cX20_goes 77 = .ok (.invokevirtual 51, 3) := dk_182 0 51 (dk_at dksX20_goes_3 6 rfl rfl)
theorem dX20_goes_80 : decode cX20_goes 80 = .ok (.iinc 6 1, 3) := dk_132 6 1 (dk_at dksX20_goes_3 9 rfl rfl)
theorem dX20_goes_83 : decode cX20_goes 83 = .ok (.goto (-54), 3) := dk_167 255 202 (dk_at dksX20_goes_3 12 rfl rfl)
theorem dX20_goes_86 : decode cX20_goes 86 = .ok (.iinc 5 1, 3) := dk_132 5 1 (dk_at dksX20_goes_3 15 rfl rfl)
theorem dX20_goes_89 : decode cX20_goes 89 = .ok (.goto (-72), 3) := dk_167 255 184 (dk_at dksX20_goes_3 18 rfl rfl)
theorem dX20_goes_92 : decode cX20_goes 92 = .ok (.return_, 1) := dk_177 (dk_at dksX20_goes_3 21 rfl rfl)
theorem q190 : (Jvm.Cond.initialized "NapkinDeeds$Rows") ∈ lw_all := lw_g (lw_at lw_m1 42 rfl) rfl
theorem q309 : (Jvm.Cond.fieldLinkNest "NapkinDeeds$Rows" (45 : Nat) "NapkinDeeds$State" "many" "I" "NapkinDeeds") ∈ lw_tbl := lw_at lw_m1 161 rfl
theorem q343 : (Jvm.Cond.fieldLinkNest "NapkinDeeds$Rows" (59 : Nat) "NapkinDeeds$Look" "wide" "I" "NapkinDeeds") ∈ lw_tbl := lw_at lw_m1 195 rfl
theorem q383 : (Jvm.Cond.fieldLinkNest "NapkinDeeds$Rows" (41 : Nat) "NapkinDeeds" "state" "LNapkinDeeds$State;" "NapkinDeeds") ∈ lw_tbl := lw_at lw_m1 235 rfl
theorem q386 : (Jvm.Cond.fieldLinkNest "NapkinDeeds$Rows" (19 : Nat) "NapkinDeeds" "looks" "[LNapkinDeeds$Look;" "NapkinDeeds") ∈ lw_tbl := lw_at lw_m1 238 rfl
theorem q771 : (Jvm.Cond.instanceMethod ({ cls := "NapkinDeeds$Rows", name := "<init>", desc := "(LNapkinDeeds;)V" } : Jvm.MethodName)) ∈ lw_all := lw_g (lw_at lw_m3 143 rfl) rfl
theorem q772 : (Jvm.Cond.code ({ cls := "NapkinDeeds$Rows", name := "<init>", desc := "(LNapkinDeeds;)V" } : Jvm.MethodName) prog_32_method_1_code (2 : Nat) (Option.none : Option Jvm.ClassFile.FieldType)) ∈ lw_all := lw_g (lw_at lw_m3 144 rfl) rfl
theorem q773 : (Jvm.Cond.methodLink "NapkinDeeds$Rows" (9 : Nat) ({ cls := "java/lang/Object", name := "<init>", desc := "()V" } : Jvm.MethodName)) ∈ lw_all := lw_g (lw_at lw_m3 145 rfl) rfl
theorem q783 : (Jvm.Cond.fieldLink "NapkinDeeds$Rows" (15 : Nat) "NapkinDeeds$Rows" "row" "[I") ∈ lw_all := lw_g (lw_at lw_m3 155 rfl) rfl
theorem q786 : (Jvm.Cond.fieldLink "NapkinDeeds$Rows" (3 : Nat) "NapkinDeeds$Rows" "this$0" "LNapkinDeeds;") ∈ lw_all := lw_g (lw_at lw_m3 158 rfl) rfl
theorem q798 : (Jvm.Cond.soleField "NapkinDeeds$Rows" "row") ∈ lw_all := lw_g (lw_at lw_m3 170 rfl) rfl
theorem q800 : (Jvm.Cond.soleField "NapkinDeeds$Rows" "this$0") ∈ lw_all := lw_g (lw_at lw_m3 172 rfl) rfl
theorem q804 : (Jvm.Cond.declares ({ cls := "NapkinDeeds$Rows", name := "seeks", desc := "(ZI)LNapkinDeeds$Rows;" } : Jvm.MethodName)) ∈ lw_tbl := lw_at lw_m3 176 rfl
theorem q812 : (Jvm.Cond.instanceMethod ({ cls := "NapkinDeeds$Rows", name := "seeks", desc := "(ZI)LNapkinDeeds$Rows;" } : Jvm.MethodName)) ∈ lw_all := lw_g (lw_at lw_m3 184 rfl) rfl
theorem q813 : (Jvm.Cond.code ({ cls := "NapkinDeeds$Rows", name := "seeks", desc := "(ZI)LNapkinDeeds$Rows;" } : Jvm.MethodName) prog_32_method_3_code (4 : Nat) (Option.some (Jvm.ClassFile.FieldType.object "NapkinDeeds$Rows"))) ∈ lw_all := lw_g (lw_at lw_m3 185 rfl) rfl
theorem q814 : (Jvm.Cond.methodLinkNest "NapkinDeeds$Rows" (23 : Nat) ({ cls := "NapkinDeeds", name := "cells", desc := "()I" } : Jvm.MethodName) "NapkinDeeds") ∈ lw_tbl := lw_at lw_m3 186 rfl
theorem q819 : (Jvm.Cond.methodLink "NapkinDeeds$Rows" (27 : Nat) ({ cls := "NapkinDeeds$Look", name := "flat", desc := "(I)LNapkinDeeds$Look;" } : Jvm.MethodName)) ∈ lw_all := lw_g (lw_at lw_m3 191 rfl) rfl
theorem q820 : (Jvm.Cond.methodLinkNest "NapkinDeeds$Rows" (33 : Nat) ({ cls := "NapkinDeeds", name := "now", desc := "()LNapkinDeeds$Look;" } : Jvm.MethodName) "NapkinDeeds") ∈ lw_tbl := lw_at lw_m3 192 rfl
theorem q821 : (Jvm.Cond.methodLink "NapkinDeeds$Rows" (37 : Nat) ({ cls := "NapkinDeeds$Look", name := "become", desc := "(LNapkinDeeds$Look;)LNapkinDeeds$Look;" } : Jvm.MethodName)) ∈ lw_all := lw_g (lw_at lw_m3 193 rfl) rfl
theorem q826 : (Jvm.Cond.methodLink "NapkinDeeds$Rows" (51 : Nat) ({ cls := "NapkinDeeds$Rows", name := "goes", desc := "(LNapkinDeeds$Look;III)V" } : Jvm.MethodName)) ∈ lw_all := lw_g (lw_at lw_m3 198 rfl) rfl
theorem q827 : (Jvm.Cond.privateMethod ({ cls := "NapkinDeeds$Rows", name := "goes", desc := "(LNapkinDeeds$Look;III)V" } : Jvm.MethodName)) ∈ lw_tbl := lw_at lw_m3 199 rfl
theorem q828 : (Jvm.Cond.instanceMethod ({ cls := "NapkinDeeds$Rows", name := "goes", desc := "(LNapkinDeeds$Look;III)V" } : Jvm.MethodName)) ∈ lw_all := lw_g (lw_at lw_m3 200 rfl) rfl
theorem q829 : (Jvm.Cond.code ({ cls := "NapkinDeeds$Rows", name := "goes", desc := "(LNapkinDeeds$Look;III)V" } : Jvm.MethodName) prog_32_method_4_code (7 : Nat) (Option.none : Option Jvm.ClassFile.FieldType)) ∈ lw_all := lw_g (lw_at lw_m3 201 rfl) rfl
theorem q830 : (Jvm.Cond.methodLink "NapkinDeeds$Rows" (55 : Nat) ({ cls := "NapkinDeeds$Rows", name := "sees", desc := "(LNapkinDeeds$Look;II)V" } : Jvm.MethodName)) ∈ lw_all := lw_g (lw_at lw_m3 202 rfl) rfl
theorem q831 : (Jvm.Cond.declares ({ cls := "NapkinDeeds$Rows", name := "sees", desc := "(LNapkinDeeds$Look;II)V" } : Jvm.MethodName)) ∈ lw_tbl := lw_at lw_m3 203 rfl
theorem q832 : (Jvm.Cond.sameMethod "NapkinDeeds$Rows" "NapkinDeeds$Rows" "sees" "(LNapkinDeeds$Look;II)V") ∈ lw_all := lw_g (lw_at lw_m3 204 rfl) rfl
theorem q1021 : (Jvm.Cond.methodLink "NapkinDeeds$Rows" (62 : Nat) ({ cls := "NapkinDeeds$Look", name := "folded", desc := "(LNapkinDeeds$Look;II)LNapkinDeeds$Look;" } : Jvm.MethodName)) ∈ lw_all := lw_g (lw_at lw_m4 153 rfl) rfl
theorem q3485 : (Jvm.Cond.sameMethod "NapkinDeeds$Rows" "NapkinDeeds$Rows" "goes" "(LNapkinDeeds$Look;III)V") ∈ lw_all := lw_g (lw_at lw_m14 217 rfl) rfl
/-! NapkinDeeds$Many -/
set_option maxRecDepth 100000
def RX21 : String := "NapkinDeeds$Many"
abbrev cX21_sees : ByteArray := prog_25_method_3_code
def yX21_sees : MethodName := ⟨RX21, "sees", "(LNapkinDeeds$Look;II)V"⟩
def dkwX21_sees_1 : List UInt8 := [177]
abbrev dktX21_sees_1 : List UInt8 := dkwX21_sees_1 ++ []
def dkwX21_sees_0 : List UInt8 := [42, 89, 180, 0, 13, 42, 43, 28, 29, 182, 0, 17, 153, 0, 7, 4, 167, 0, 4, 3, 96, 181, 0, 13]
abbrev dktX21_sees_0 : List UInt8 := dkwX21_sees_0 ++ dktX21_sees_1
theorem dksX21_sees_0 : cX21_sees.data.toList.drop 0 = dktX21_sees_0 := by decide +kernel
theorem dksX21_sees_1 : cX21_sees.data.toList.drop 24 = dktX21_sees_1 := dk_seg dksX21_sees_0 24 rfl rfl
theorem dX21_sees_0 : decode cX21_sees 0 = .ok (.aload_n 0, 1) := dk_42 (dk_at dksX21_sees_0 0 rfl rfl)
theorem dX21_sees_1 : decode cX21_sees 1 = .ok (.dup, 1) := dk_89 (dk_at dksX21_sees_0 1 rfl rfl)
theorem dX21_sees_2 : decode cX21_sees 2 = .ok (.getfield 13, 3) := dk_180 0 13 (dk_at dksX21_sees_0 2 rfl rfl)
theorem dX21_sees_5 : decode cX21_sees 5 = .ok (.aload_n 0, 1) := dk_42 (dk_at dksX21_sees_0 5 rfl rfl)
theorem dX21_sees_6 : decode cX21_sees 6 = .ok (.aload_n 1, 1) := dk_43 (dk_at dksX21_sees_0 6 rfl rfl)
theorem dX21_sees_7 : decode cX21_sees 7 = .ok (.iload_n 2, 1) := dk_28 (dk_at dksX21_sees_0 7 rfl rfl)
theorem dX21_sees_8 : decode cX21_sees 8 = .ok (.iload_n 3, 1) := dk_29 (dk_at dksX21_sees_0 8 rfl rfl)
theorem dX21_sees_9 : decode cX21_sees 9 = .ok (.invokevirtual 17, 3) := dk_182 0 17 (dk_at dksX21_sees_0 9 rfl rfl)
theorem dX21_sees_12 : decode cX21_sees 12 = .ok (.ifCond .eq 7, 3) := dk_153 0 7 (dk_at dksX21_sees_0 12 rfl rfl)
theorem dX21_sees_15 : decode cX21_sees 15 = .ok (.iconst 1, 1) := dk_4 (dk_at dksX21_sees_0 15 rfl rfl)
theorem dX21_sees_16 : decode cX21_sees 16 = .ok (.goto 4, 3) := dk_167 0 4 (dk_at dksX21_sees_0 16 rfl rfl)
theorem dX21_sees_19 : decode cX21_sees 19 = .ok (.iconst 0, 1) := dk_3 (dk_at dksX21_sees_0 19 rfl rfl)
theorem dX21_sees_20 : decode cX21_sees 20 = .ok (.iadd, 1) := dk_96 (dk_at dksX21_sees_0 20 rfl rfl)
theorem dX21_sees_21 : decode cX21_sees 21 = .ok (.putfield 13, 3) := dk_181 0 13 (dk_at dksX21_sees_0 21 rfl rfl)
theorem dX21_sees_24 : decode cX21_sees 24 = .ok (.return_, 1) := dk_177 (dk_at dksX21_sees_1 0 rfl rfl)
abbrev cX21_init : ByteArray := prog_25_method_1_code
def yX21_init : MethodName := ⟨RX21, "<init>", "(LNapkinDeeds;)V"⟩
def dkwX21_init_0 : List UInt8 := [42, 43, 181, 0, 1, 42, 43, 183, 0, 7, 177]
abbrev dktX21_init_0 : List UInt8 := dkwX21_init_0 ++ []
theorem dksX21_init_0 : cX21_init.data.toList.drop 0 = dktX21_init_0 := by decide +kernel
theorem dX21_init_0 : decode cX21_init 0 = .ok (.aload_n 0, 1) := dk_42 (dk_at dksX21_init_0 0 rfl rfl)
theorem dX21_init_1 : decode cX21_init 1 = .ok (.aload_n 1, 1) := dk_43 (dk_at dksX21_init_0 1 rfl rfl)
theorem dX21_init_2 : decode cX21_init 2 = .ok (.putfield 1, 3) := dk_181 0 1 (dk_at dksX21_init_0 2 rfl rfl)
theorem dX21_init_5 : decode cX21_init 5 = .ok (.aload_n 0, 1) := dk_42 (dk_at dksX21_init_0 5 rfl rfl)
theorem dX21_init_6 : decode cX21_init 6 = .ok (.aload_n 1, 1) := dk_43 (dk_at dksX21_init_0 6 rfl rfl)
theorem dX21_init_7 : decode cX21_init 7 = .ok (.invokespecial 7, 3) := dk_183 0 7 (dk_at dksX21_init_0 7 rfl rfl)
theorem dX21_init_10 : decode cX21_init 10 = .ok (.return_, 1) := dk_177 (dk_at dksX21_init_0 10 rfl rfl)
theorem q191 : (Jvm.Cond.initialized "NapkinDeeds$Many") ∈ lw_all := lw_g (lw_at lw_m1 43 rfl) rfl
theorem q834 : (Jvm.Cond.instanceMethod ({ cls := "NapkinDeeds$Many", name := "sees", desc := "(LNapkinDeeds$Look;II)V" } : Jvm.MethodName)) ∈ lw_all := lw_g (lw_at lw_m3 206 rfl) rfl
theorem q835 : (Jvm.Cond.code ({ cls := "NapkinDeeds$Many", name := "sees", desc := "(LNapkinDeeds$Look;II)V" } : Jvm.MethodName) prog_25_method_3_code (4 : Nat) (Option.none : Option Jvm.ClassFile.FieldType)) ∈ lw_all := lw_g (lw_at lw_m3 207 rfl) rfl
theorem q836 : (Jvm.Cond.methodLink "NapkinDeeds$Many" (17 : Nat) ({ cls := "NapkinDeeds$Many", name := "isSo", desc := "(LNapkinDeeds$Look;II)Z" } : Jvm.MethodName)) ∈ lw_all := lw_g (lw_at lw_m3 208 rfl) rfl
theorem q837 : (Jvm.Cond.declares ({ cls := "NapkinDeeds$Many", name := "isSo", desc := "(LNapkinDeeds$Look;II)Z" } : Jvm.MethodName)) ∈ lw_tbl := lw_at lw_m3 209 rfl
theorem q838 : (Jvm.Cond.sameMethod "NapkinDeeds$Many" "NapkinDeeds$Many" "isSo" "(LNapkinDeeds$Look;II)Z") ∈ lw_all := lw_g (lw_at lw_m3 210 rfl) rfl
theorem q2137 : (Jvm.Cond.instanceMethod ({ cls := "NapkinDeeds$Many", name := "<init>", desc := "(LNapkinDeeds;)V" } : Jvm.MethodName)) ∈ lw_all := lw_g (lw_at lw_m9 69 rfl) rfl
theorem q2138 : (Jvm.Cond.code ({ cls := "NapkinDeeds$Many", name := "<init>", desc := "(LNapkinDeeds;)V" } : Jvm.MethodName) prog_25_method_1_code (2 : Nat) (Option.none : Option Jvm.ClassFile.FieldType)) ∈ lw_all := lw_g (lw_at lw_m9 70 rfl) rfl
theorem q2139 : (Jvm.Cond.methodLinkNest "NapkinDeeds$Many" (7 : Nat) ({ cls := "NapkinDeeds$Rows", name := "<init>", desc := "(LNapkinDeeds;)V" } : Jvm.MethodName) "NapkinDeeds") ∈ lw_tbl := lw_at lw_m9 71 rfl
theorem q2142 : (Jvm.Cond.fieldLink "NapkinDeeds$Many" (13 : Nat) "NapkinDeeds$Many" "many" "I") ∈ lw_all := lw_g (lw_at lw_m9 74 rfl) rfl
theorem q2144 : (Jvm.Cond.fieldLink "NapkinDeeds$Many" (1 : Nat) "NapkinDeeds$Many" "this$0" "LNapkinDeeds;") ∈ lw_all := lw_g (lw_at lw_m9 76 rfl) rfl
theorem q2150 : (Jvm.Cond.soleField "NapkinDeeds$Many" "many") ∈ lw_all := lw_g (lw_at lw_m9 82 rfl) rfl
theorem q2152 : (Jvm.Cond.soleField "NapkinDeeds$Many" "this$0") ∈ lw_all := lw_g (lw_at lw_m9 84 rfl) rfl
theorem q2157 : (Jvm.Cond.sameMethod "NapkinDeeds$Many" "NapkinDeeds$Rows" "seeks" "(ZI)LNapkinDeeds$Rows;") ∈ lw_all := lw_g (lw_at lw_m9 89 rfl) rfl
/-! NapkinDeeds$1 -/
set_option maxRecDepth 100000
def RX22 : String := "NapkinDeeds$1"
def TX22 : u_T := fun k => match k with
  | 0 => ("NapkinDeeds$Many", "many", "I", false)
  | 1 => ("NapkinDeeds$Many", "this$0", "LNapkinDeeds;", true)
  | 2 => ("NapkinDeeds$Rows", "row", "[I", true)
  | 3 => ("NapkinDeeds$Rows", "this$0", "LNapkinDeeds;", true)
  | 4 => ("NapkinDeeds$1", "val$n", "I", true)
  | _ => ("NapkinDeeds$1", "this$0", "LNapkinDeeds;", true)
def tyX22 : Nat → FieldType := fun k => match k with
  | 0 => .int
  | 1 => .object "NapkinDeeds"
  | 2 => .array .int
  | 3 => .object "NapkinDeeds"
  | 4 => .int
  | _ => .object "NapkinDeeds"
abbrev wsX220 : List Cond := u_ws RX22 TX22 6
-- two fields of one name: no nmX22
theorem tyX22_ok : ∀ k, k < 6 → parseFieldDescriptor (TX22 k).2.2.1 = some (tyX22 k) := by decide +kernel
abbrev cX22_isSo : ByteArray := prog_2_method_2_code
def yX22_isSo : MethodName := ⟨RX22, "isSo", "(LNapkinDeeds$Look;II)Z"⟩
def dkwX22_isSo_0 : List UInt8 := [28, 42, 180, 0, 7, 160, 0, 7, 4, 167, 0, 4, 3, 172]
abbrev dktX22_isSo_0 : List UInt8 := dkwX22_isSo_0 ++ []
theorem dksX22_isSo_0 : cX22_isSo.data.toList.drop 0 = dktX22_isSo_0 := by decide +kernel
theorem dX22_isSo_0 : decode cX22_isSo 0 = .ok (.iload_n 2, 1) := dk_28 (dk_at dksX22_isSo_0 0 rfl rfl)
theorem dX22_isSo_1 : decode cX22_isSo 1 = .ok (.aload_n 0, 1) := dk_42 (dk_at dksX22_isSo_0 1 rfl rfl)
theorem dX22_isSo_2 : decode cX22_isSo 2 = .ok (.getfield 7, 3) := dk_180 0 7 (dk_at dksX22_isSo_0 2 rfl rfl)
theorem dX22_isSo_5 : decode cX22_isSo 5 = .ok (.if_icmp .ne 7, 3) := dk_160 0 7 (dk_at dksX22_isSo_0 5 rfl rfl)
theorem dX22_isSo_8 : decode cX22_isSo 8 = .ok (.iconst 1, 1) := dk_4 (dk_at dksX22_isSo_0 8 rfl rfl)
theorem dX22_isSo_9 : decode cX22_isSo 9 = .ok (.goto 4, 3) := dk_167 0 4 (dk_at dksX22_isSo_0 9 rfl rfl)
theorem dX22_isSo_12 : decode cX22_isSo 12 = .ok (.iconst 0, 1) := dk_3 (dk_at dksX22_isSo_0 12 rfl rfl)
theorem dX22_isSo_13 : decode cX22_isSo 13 = .ok (.ireturn, 1) := dk_172 (dk_at dksX22_isSo_0 13 rfl rfl)
abbrev cX22_init : ByteArray := prog_2_method_1_code
def yX22_init : MethodName := ⟨RX22, "<init>", "(LNapkinDeeds;I)V"⟩
def dkwX22_init_0 : List UInt8 := [42, 43, 181, 0, 1, 42, 28, 181, 0, 7, 42, 43, 183, 0, 11, 177]
abbrev dktX22_init_0 : List UInt8 := dkwX22_init_0 ++ []
theorem dksX22_init_0 : cX22_init.data.toList.drop 0 = dktX22_init_0 := by decide +kernel
theorem dX22_init_0 : decode cX22_init 0 = .ok (.aload_n 0, 1) := dk_42 (dk_at dksX22_init_0 0 rfl rfl)
theorem dX22_init_1 : decode cX22_init 1 = .ok (.aload_n 1, 1) := dk_43 (dk_at dksX22_init_0 1 rfl rfl)
theorem dX22_init_2 : decode cX22_init 2 = .ok (.putfield 1, 3) := dk_181 0 1 (dk_at dksX22_init_0 2 rfl rfl)
theorem dX22_init_5 : decode cX22_init 5 = .ok (.aload_n 0, 1) := dk_42 (dk_at dksX22_init_0 5 rfl rfl)
theorem dX22_init_6 : decode cX22_init 6 = .ok (.iload_n 2, 1) := dk_28 (dk_at dksX22_init_0 6 rfl rfl)
theorem dX22_init_7 : decode cX22_init 7 = .ok (.putfield 7, 3) := dk_181 0 7 (dk_at dksX22_init_0 7 rfl rfl)
theorem dX22_init_10 : decode cX22_init 10 = .ok (.aload_n 0, 1) := dk_42 (dk_at dksX22_init_0 10 rfl rfl)
theorem dX22_init_11 : decode cX22_init 11 = .ok (.aload_n 1, 1) := dk_43 (dk_at dksX22_init_0 11 rfl rfl)
theorem dX22_init_12 : decode cX22_init 12 = .ok (.invokespecial 11, 3) := dk_183 0 11 (dk_at dksX22_init_0 12 rfl rfl)
theorem dX22_init_15 : decode cX22_init 15 = .ok (.return_, 1) := dk_177 (dk_at dksX22_init_0 15 rfl rfl)
theorem q192 : (Jvm.Cond.initialized "NapkinDeeds$1") ∈ lw_all := lw_g (lw_at lw_m1 44 rfl) rfl
theorem q692 : (Jvm.Cond.selects "NapkinDeeds$1" ({ cls := "java/lang/Object", name := "getClass", desc := "()Ljava/lang/Class;" } : Jvm.MethodName) ({ cls := "java/lang/Object", name := "getClass", desc := "()Ljava/lang/Class;" } : Jvm.MethodName)) ∈ lw_all := lw_g (lw_at lw_m3 64 rfl) rfl
theorem q833 : (Jvm.Cond.selects "NapkinDeeds$1" ({ cls := "NapkinDeeds$Rows", name := "sees", desc := "(LNapkinDeeds$Look;II)V" } : Jvm.MethodName) ({ cls := "NapkinDeeds$Many", name := "sees", desc := "(LNapkinDeeds$Look;II)V" } : Jvm.MethodName)) ∈ lw_all := lw_g (lw_at lw_m3 205 rfl) rfl
theorem q839 : (Jvm.Cond.selects "NapkinDeeds$1" ({ cls := "NapkinDeeds$Many", name := "isSo", desc := "(LNapkinDeeds$Look;II)Z" } : Jvm.MethodName) ({ cls := "NapkinDeeds$1", name := "isSo", desc := "(LNapkinDeeds$Look;II)Z" } : Jvm.MethodName)) ∈ lw_all := lw_g (lw_at lw_m3 211 rfl) rfl
theorem q840 : (Jvm.Cond.instanceMethod ({ cls := "NapkinDeeds$1", name := "isSo", desc := "(LNapkinDeeds$Look;II)Z" } : Jvm.MethodName)) ∈ lw_all := lw_g (lw_at lw_m3 212 rfl) rfl
theorem q841 : (Jvm.Cond.code ({ cls := "NapkinDeeds$1", name := "isSo", desc := "(LNapkinDeeds$Look;II)Z" } : Jvm.MethodName) prog_2_method_2_code (4 : Nat) (Option.some Jvm.ClassFile.FieldType.boolean)) ∈ lw_all := lw_g (lw_at lw_m3 213 rfl) rfl
theorem q2132 : (Jvm.Cond.instantiable "NapkinDeeds$1" (6 : Nat)) ∈ lw_all := lw_g (lw_at lw_m9 64 rfl) rfl
theorem q2134 : (Jvm.Cond.instanceMethod ({ cls := "NapkinDeeds$1", name := "<init>", desc := "(LNapkinDeeds;I)V" } : Jvm.MethodName)) ∈ lw_all := lw_g (lw_at lw_m9 66 rfl) rfl
theorem q2135 : (Jvm.Cond.code ({ cls := "NapkinDeeds$1", name := "<init>", desc := "(LNapkinDeeds;I)V" } : Jvm.MethodName) prog_2_method_1_code (3 : Nat) (Option.none : Option Jvm.ClassFile.FieldType)) ∈ lw_all := lw_g (lw_at lw_m9 67 rfl) rfl
theorem q2136 : (Jvm.Cond.methodLinkNest "NapkinDeeds$1" (11 : Nat) ({ cls := "NapkinDeeds$Many", name := "<init>", desc := "(LNapkinDeeds;)V" } : Jvm.MethodName) "NapkinDeeds") ∈ lw_tbl := lw_at lw_m9 68 rfl
theorem q2140 : (Jvm.Cond.fieldLink "NapkinDeeds$1" (7 : Nat) "NapkinDeeds$1" "val$n" "I") ∈ lw_all := lw_g (lw_at lw_m9 72 rfl) rfl
theorem q2141 : (Jvm.Cond.fieldLink "NapkinDeeds$1" (1 : Nat) "NapkinDeeds$1" "this$0" "LNapkinDeeds;") ∈ lw_all := lw_g (lw_at lw_m9 73 rfl) rfl
theorem q2145 : (Jvm.Cond.laysFinal "NapkinDeeds$1" "NapkinDeeds$1" "val$n" "I") ∈ lw_all := lw_g (lw_at lw_m9 77 rfl) rfl
theorem q2146 : (Jvm.Cond.soleField "NapkinDeeds$1" "val$n") ∈ lw_all := lw_g (lw_at lw_m9 78 rfl) rfl
theorem q2147 : (Jvm.Cond.laysFinal "NapkinDeeds$1" "NapkinDeeds$1" "this$0" "LNapkinDeeds;") ∈ lw_all := lw_g (lw_at lw_m9 79 rfl) rfl
theorem q2148 : (Jvm.Cond.soleField "NapkinDeeds$1" "this$0") ∈ lw_all := lw_g (lw_at lw_m9 80 rfl) rfl
theorem q2149 : (Jvm.Cond.lays "NapkinDeeds$1" "NapkinDeeds$Many" "many" "I") ∈ lw_all := lw_g (lw_at lw_m9 81 rfl) rfl
theorem q2151 : (Jvm.Cond.laysFinal "NapkinDeeds$1" "NapkinDeeds$Many" "this$0" "LNapkinDeeds;") ∈ lw_all := lw_g (lw_at lw_m9 83 rfl) rfl
theorem q2153 : (Jvm.Cond.laysFinal "NapkinDeeds$1" "NapkinDeeds$Rows" "row" "[I") ∈ lw_all := lw_g (lw_at lw_m9 85 rfl) rfl
theorem q2154 : (Jvm.Cond.laysFinal "NapkinDeeds$1" "NapkinDeeds$Rows" "this$0" "LNapkinDeeds;") ∈ lw_all := lw_g (lw_at lw_m9 86 rfl) rfl
theorem q2155 : (Jvm.Cond.superclass "NapkinDeeds$1" "NapkinDeeds$Many") ∈ lw_all := lw_g (lw_at lw_m9 87 rfl) rfl
theorem q2158 : (Jvm.Cond.selects "NapkinDeeds$1" ({ cls := "NapkinDeeds$Many", name := "seeks", desc := "(ZI)LNapkinDeeds$Rows;" } : Jvm.MethodName) ({ cls := "NapkinDeeds$Rows", name := "seeks", desc := "(ZI)LNapkinDeeds$Rows;" } : Jvm.MethodName)) ∈ lw_all := lw_g (lw_at lw_m9 90 rfl) rfl
theorem q3524 : (Jvm.Cond.castable "NapkinDeeds$1" "java/lang/Object") ∈ lw_tbl := lw_at lw_m15 16 rfl
theorem in_X22 : ∀ w ∈ wsX220, w ∈ lw_all := lw_in wsX220 [2149, 2151, 2153, 2154, 2145, 2147] (by decide +kernel) (by decide +kernel)
/-! NapkinDeeds$Unlike -/
set_option maxRecDepth 100000
def RX23 : String := "NapkinDeeds$Unlike"
abbrev cX23_sees : ByteArray := prog_40_method_4_code
def yX23_sees : MethodName := ⟨RX23, "sees", "(LNapkinDeeds$Look;II)V"⟩
def dkwX23_sees_1 : List UInt8 := [182, 0, 33, 80, 42, 89, 180, 0, 29, 4, 96, 181, 0, 29, 177]
abbrev dktX23_sees_1 : List UInt8 := dkwX23_sees_1 ++ []
def dkwX23_sees_0 : List UInt8 := [42, 43, 29, 182, 0, 19, 154, 0, 4, 177, 42, 180, 0, 1, 180, 0, 23, 42, 180, 0, 29, 42, 43]
abbrev dktX23_sees_0 : List UInt8 := dkwX23_sees_0 ++ dktX23_sees_1
theorem dksX23_sees_0 : cX23_sees.data.toList.drop 0 = dktX23_sees_0 := by decide +kernel
theorem dksX23_sees_1 : cX23_sees.data.toList.drop 23 = dktX23_sees_1 := dk_seg dksX23_sees_0 23 rfl rfl
theorem dX23_sees_0 : decode cX23_sees 0 = .ok (.aload_n 0, 1) := dk_42 (dk_at dksX23_sees_0 0 rfl rfl)
theorem dX23_sees_1 : decode cX23_sees 1 = .ok (.aload_n 1, 1) := dk_43 (dk_at dksX23_sees_0 1 rfl rfl)
theorem dX23_sees_2 : decode cX23_sees 2 = .ok (.iload_n 3, 1) := dk_29 (dk_at dksX23_sees_0 2 rfl rfl)
theorem dX23_sees_3 : decode cX23_sees 3 = .ok (.invokevirtual 19, 3) := dk_182 0 19 (dk_at dksX23_sees_0 3 rfl rfl)
theorem dX23_sees_6 : decode cX23_sees 6 = .ok (.ifCond .ne 4, 3) := dk_154 0 4 (dk_at dksX23_sees_0 6 rfl rfl)
theorem dX23_sees_9 : decode cX23_sees 9 = .ok (.return_, 1) := dk_177 (dk_at dksX23_sees_0 9 rfl rfl)
theorem dX23_sees_10 : decode cX23_sees 10 = .ok (.aload_n 0, 1) := dk_42 (dk_at dksX23_sees_0 10 rfl rfl)
theorem dX23_sees_11 : decode cX23_sees 11 = .ok (.getfield 1, 3) := dk_180 0 1 (dk_at dksX23_sees_0 11 rfl rfl)
theorem dX23_sees_14 : decode cX23_sees 14 = .ok (.getfield 23, 3) := dk_180 0 23 (dk_at dksX23_sees_0 14 rfl rfl)
theorem dX23_sees_17 : decode cX23_sees 17 = .ok (.aload_n 0, 1) := dk_42 (dk_at dksX23_sees_0 17 rfl rfl)
theorem dX23_sees_18 : decode cX23_sees 18 = .ok (.getfield 29, 3) := dk_180 0 29 (dk_at dksX23_sees_0 18 rfl rfl)
theorem dX23_sees_21 : decode cX23_sees 21 = .ok (.aload_n 0, 1) := dk_42 (dk_at dksX23_sees_0 21 rfl rfl)
theorem dX23_sees_22 : decode cX23_sees 22 = .ok (.aload_n 1, 1) := dk_43 (dk_at dksX23_sees_0 22 rfl rfl)
theorem dX23_sees_23 : decode cX23_sees 23 = .ok (.invokevirtual 33, 3) := dk_182 0 33 (dk_at dksX23_sees_1 0 rfl rfl)
theorem dX23_sees_26 : decode cX23_sees 26 = .ok (.lastore, 1) := dk_80 (dk_at dksX23_sees_1 3 rfl rfl)
theorem dX23_sees_27 : decode cX23_sees 27 = .ok (.aload_n 0, 1) := dk_42 (dk_at dksX23_sees_1 4 rfl rfl)
theorem dX23_sees_28 : decode cX23_sees 28 = .ok (.dup, 1) := dk_89 (dk_at dksX23_sees_1 5 rfl rfl)
theorem dX23_sees_29 : decode cX23_sees 29 = .ok (.getfield 29, 3) := dk_180 0 29 (dk_at dksX23_sees_1 6 rfl rfl)
theorem dX23_sees_32 : decode cX23_sees 32 = .ok (.iconst 1, 1) := dk_4 (dk_at dksX23_sees_1 9 rfl rfl)
theorem dX23_sees_33 : decode cX23_sees 33 = .ok (.iadd, 1) := dk_96 (dk_at dksX23_sees_1 10 rfl rfl)
theorem dX23_sees_34 : decode cX23_sees 34 = .ok (.putfield 29, 3) := dk_181 0 29 (dk_at dksX23_sees_1 11 rfl rfl)
theorem dX23_sees_37 : decode cX23_sees 37 = .ok (.return_, 1) := dk_177 (dk_at dksX23_sees_1 14 rfl rfl)
abbrev cX23_code : ByteArray := prog_40_method_3_code
def yX23_code : MethodName := ⟨RX23, "code", "(LNapkinDeeds$Look;)J"⟩
theorem dX23_code_0 : decode cX23_code 0 = .ok (.aload_n 1, 1) := by decide +kernel
theorem dX23_code_1 : decode cX23_code 1 = .ok (.invokevirtual 13, 3) := by decide +kernel
theorem dX23_code_4 : decode cX23_code 4 = .ok (.lreturn, 1) := by decide +kernel
abbrev cX23_init : ByteArray := prog_40_method_1_code
def yX23_init : MethodName := ⟨RX23, "<init>", "(LNapkinDeeds;)V"⟩
def dkwX23_init_0 : List UInt8 := [42, 43, 181, 0, 1, 42, 43, 183, 0, 7, 177]
abbrev dktX23_init_0 : List UInt8 := dkwX23_init_0 ++ []
theorem dksX23_init_0 : cX23_init.data.toList.drop 0 = dktX23_init_0 := by decide +kernel
theorem dX23_init_0 : decode cX23_init 0 = .ok (.aload_n 0, 1) := dk_42 (dk_at dksX23_init_0 0 rfl rfl)
theorem dX23_init_1 : decode cX23_init 1 = .ok (.aload_n 1, 1) := dk_43 (dk_at dksX23_init_0 1 rfl rfl)
theorem dX23_init_2 : decode cX23_init 2 = .ok (.putfield 1, 3) := dk_181 0 1 (dk_at dksX23_init_0 2 rfl rfl)
theorem dX23_init_5 : decode cX23_init 5 = .ok (.aload_n 0, 1) := dk_42 (dk_at dksX23_init_0 5 rfl rfl)
theorem dX23_init_6 : decode cX23_init 6 = .ok (.aload_n 1, 1) := dk_43 (dk_at dksX23_init_0 6 rfl rfl)
theorem dX23_init_7 : decode cX23_init 7 = .ok (.invokespecial 7, 3) := dk_183 0 7 (dk_at dksX23_init_0 7 rfl rfl)
theorem dX23_init_10 : decode cX23_init 10 = .ok (.return_, 1) := dk_177 (dk_at dksX23_init_0 10 rfl rfl)
abbrev cX23_unlike : ByteArray := prog_40_method_5_code
def yX23_unlike : MethodName := ⟨RX23, "unlike", "()I"⟩
def dkwX23_unlike_2 : List UInt8 := [28, 4, 100, 47, 148, 153, 0, 7, 4, 167, 0, 4, 3, 96, 60, 132, 2, 1, 167, 255, 209, 27, 172]
abbrev dktX23_unlike_2 : List UInt8 := dkwX23_unlike_2 ++ []
def dkwX23_unlike_1 : List UInt8 := [162, 0, 45, 27, 28, 153, 0, 27, 42, 180, 0, 1, 180, 0, 23, 28, 47, 42, 180, 0, 1, 180, 0, 23]
abbrev dktX23_unlike_1 : List UInt8 := dkwX23_unlike_1 ++ dktX23_unlike_2
def dkwX23_unlike_0 : List UInt8 := [42, 180, 0, 1, 180, 0, 23, 3, 42, 180, 0, 29, 184, 0, 36, 3, 60, 3, 61, 28, 42, 180, 0, 29]
abbrev dktX23_unlike_0 : List UInt8 := dkwX23_unlike_0 ++ dktX23_unlike_1
theorem dksX23_unlike_0 : cX23_unlike.data.toList.drop 0 = dktX23_unlike_0 := by decide +kernel
theorem dksX23_unlike_1 : cX23_unlike.data.toList.drop 24 = dktX23_unlike_1 := dk_seg dksX23_unlike_0 24 rfl rfl
theorem dksX23_unlike_2 : cX23_unlike.data.toList.drop 48 = dktX23_unlike_2 := dk_seg dksX23_unlike_1 24 rfl rfl
theorem dX23_unlike_0 : decode cX23_unlike 0 = .ok (.aload_n 0, 1) := dk_42 (dk_at dksX23_unlike_0 0 rfl rfl)
theorem dX23_unlike_1 : decode cX23_unlike 1 = .ok (.getfield 1, 3) := dk_180 0 1 (dk_at dksX23_unlike_0 1 rfl rfl)
theorem dX23_unlike_4 : decode cX23_unlike 4 = .ok (.getfield 23, 3) := dk_180 0 23 (dk_at dksX23_unlike_0 4 rfl rfl)
theorem dX23_unlike_7 : decode cX23_unlike 7 = .ok (.iconst 0, 1) := dk_3 (dk_at dksX23_unlike_0 7 rfl rfl)
theorem dX23_unlike_8 : decode cX23_unlike 8 = .ok (.aload_n 0, 1) := dk_42 (dk_at dksX23_unlike_0 8 rfl rfl)
theorem dX23_unlike_9 : decode cX23_unlike 9 = .ok (.getfield 29, 3) := dk_180 0 29 (dk_at dksX23_unlike_0 9 rfl rfl)
theorem dX23_unlike_12 : decode cX23_unlike 12 = .ok (.invokestatic 36, 3) := dk_184 0 36 (dk_at dksX23_unlike_0 12 rfl rfl)
theorem dX23_unlike_15 : decode cX23_unlike 15 = .ok (.iconst 0, 1) := dk_3 (dk_at dksX23_unlike_0 15 rfl rfl)
theorem dX23_unlike_16 : decode cX23_unlike 16 = .ok (.istore_n 1, 1) := dk_60 (dk_at dksX23_unlike_0 16 rfl rfl)
theorem dX23_unlike_17 : decode cX23_unlike 17 = .ok (.iconst 0, 1) := dk_3 (dk_at dksX23_unlike_0 17 rfl rfl)
theorem dX23_unlike_18 : decode cX23_unlike 18 = .ok (.istore_n 2, 1) := dk_61 (dk_at dksX23_unlike_0 18 rfl rfl)
theorem dX23_unlike_19 : decode cX23_unlike 19 = .ok (.iload_n 2, 1) := dk_28 (dk_at dksX23_unlike_0 19 rfl rfl)
theorem dX23_unlike_20 : decode cX23_unlike 20 = .ok (.aload_n 0, 1) := dk_42 (dk_at dksX23_unlike_0 20 rfl rfl)
theorem dX23_unlike_21 : decode cX23_unlike 21 = .ok (.getfield 29, 3) := dk_180 0 29 (dk_at dksX23_unlike_0 21 rfl rfl)
theorem dX23_unlike_24 : decode cX23_unlike 24 = .ok (.if_icmp .ge 45, 3) := dk_162 0 45 (dk_at dksX23_unlike_1 0 rfl rfl)
theorem dX23_unlike_27 : decode cX23_unlike 27 = .ok (.iload_n 1, 1) := dk_27 (dk_at dksX23_unlike_1 3 rfl rfl)
theorem dX23_unlike_28 : decode cX23_unlike 28 = .ok (.iload_n 2, 1) := dk_28 (dk_at dksX23_unlike_1 4 rfl rfl)
theorem dX23_unlike_29 : decode cX23_unlike 29 = .ok (.ifCond .eq 27, 3) := dk_153 0 27 (dk_at dksX23_unlike_1 5 rfl rfl)
theorem dX23_unlike_32 : decode cX23_unlike 32 = .ok (.aload_n 0, 1) := dk_42 (dk_at dksX23_unlike_1 8 rfl rfl)
theorem dX23_unlike_33 : decode cX23_unlike 33 = .ok (.getfield 1, 3) := dk_180 0 1 (dk_at dksX23_unlike_1 9 rfl rfl)
theorem dX23_unlike_36 : decode cX23_unlike 36 = .ok (.getfield 23, 3) := dk_180 0 23 (dk_at dksX23_unlike_1 12 rfl rfl)
theorem dX23_unlike_39 : decode cX23_unlike 39 = .ok (.iload_n 2, 1) := dk_28 (dk_at dksX23_unlike_1 15 rfl rfl)
theorem dX23_unlike_40 : decode cX23_unlike 40 = .ok (.laload, 1) := dk_47 (dk_at dksX23_unlike_1 16 rfl rfl)
theorem dX23_unlike_41 : decode cX23_unlike 41 = .ok (.aload_n 0, 1) := dk_42 (dk_at dksX23_unlike_1 17 rfl rfl)
theorem dX23_unlike_42 : decode cX23_unlike 42 = .ok (.getfield 1, 3) := dk_180 0 1 (dk_at dksX23_unlike_1 18 rfl rfl)
theorem dX23_unlike_45 : decode cX23_unlike 45 = .ok (.getfield 23, 3) := dk_180 0 23 (dk_at dksX23_unlike_1 21 rfl rfl)
theorem dX23_unlike_48 : decode cX23_unlike 48 = .ok (.iload_n 2, 1) := dk_28 (dk_at dksX23_unlike_2 0 rfl rfl)
theorem dX23_unlike_49 : decode cX23_unlike 49 = .ok (.iconst 1, 1) := dk_4 (dk_at dksX23_unlike_2 1 rfl rfl)
theorem dX23_unlike_50 : decode cX23_unlike 50 = .ok (.isub, 1) := dk_100 (dk_at dksX23_unlike_2 2 rfl rfl)
theorem dX23_unlike_51 : decode cX23_unlike 51 = .ok (.laload, 1) := dk_47 (dk_at dksX23_unlike_2 3 rfl rfl)
theorem dX23_unlike_52 : decode cX23_unlike 52 = .ok (.lcmp, 1) := dk_148 (dk_at dksX23_unlike_2 4 rfl rfl)
theorem dX23_unlike_53 : decode cX23_unlike 53 = .ok (.ifCond .eq 7, 3) := dk_153 0 7 (dk_at dksX23_unlike_2 5 rfl rfl)
theorem dX23_unlike_56 : decode cX23_unlike 56 = .ok (.iconst 1, 1) := dk_4 (dk_at dksX23_unlike_2 8 rfl rfl)
theorem dX23_unlike_57 : decode cX23_unlike 57 = .ok (.goto 4, 3) := dk_167 0 4 (dk_at dksX23_unlike_2 9 rfl rfl)
theorem dX23_unlike_60 : decode cX23_unlike 60 = .ok (.iconst 0, 1) := dk_3 (dk_at dksX23_unlike_2 12 rfl rfl)
theorem dX23_unlike_61 : decode cX23_unlike 61 = .ok (.iadd, 1) := dk_96 (dk_at dksX23_unlike_2 13 rfl rfl)
theorem dX23_unlike_62 : decode cX23_unlike 62 = .ok (.istore_n 1, 1) := dk_60 (dk_at dksX23_unlike_2 14 rfl rfl)
theorem dX23_unlike_63 : decode cX23_unlike 63 = .ok (.iinc 2 1, 3) := dk_132 2 1 (dk_at dksX23_unlike_2 15 rfl rfl)
theorem dX23_unlike_66 : decode cX23_unlike 66 = .ok (.goto (-47), 3) := dk_167 255 209 (dk_at dksX23_unlike_2 18 rfl rfl)
theorem dX23_unlike_69 : decode cX23_unlike 69 = .ok (.iload_n 1, 1) := dk_27 (dk_at dksX23_unlike_2 21 rfl rfl)
theorem dX23_unlike_70 : decode cX23_unlike 70 = .ok (.ireturn, 1) := dk_172 (dk_at dksX23_unlike_2 22 rfl rfl)
theorem q193 : (Jvm.Cond.initialized "NapkinDeeds$Unlike") ∈ lw_all := lw_g (lw_at lw_m1 45 rfl) rfl
theorem q398 : (Jvm.Cond.fieldLinkNest "NapkinDeeds$Unlike" (23 : Nat) "NapkinDeeds" "codes" "[J" "NapkinDeeds") ∈ lw_tbl := lw_at lw_m2 10 rfl
theorem q958 : (Jvm.Cond.instanceMethod ({ cls := "NapkinDeeds$Unlike", name := "sees", desc := "(LNapkinDeeds$Look;II)V" } : Jvm.MethodName)) ∈ lw_all := lw_g (lw_at lw_m4 90 rfl) rfl
theorem q959 : (Jvm.Cond.code ({ cls := "NapkinDeeds$Unlike", name := "sees", desc := "(LNapkinDeeds$Look;II)V" } : Jvm.MethodName) prog_40_method_4_code (4 : Nat) (Option.none : Option Jvm.ClassFile.FieldType)) ∈ lw_all := lw_g (lw_at lw_m4 91 rfl) rfl
theorem q960 : (Jvm.Cond.methodLink "NapkinDeeds$Unlike" (19 : Nat) ({ cls := "NapkinDeeds$Unlike", name := "isSo", desc := "(LNapkinDeeds$Look;I)Z" } : Jvm.MethodName)) ∈ lw_all := lw_g (lw_at lw_m4 92 rfl) rfl
theorem q961 : (Jvm.Cond.declares ({ cls := "NapkinDeeds$Unlike", name := "isSo", desc := "(LNapkinDeeds$Look;I)Z" } : Jvm.MethodName)) ∈ lw_tbl := lw_at lw_m4 93 rfl
theorem q962 : (Jvm.Cond.sameMethod "NapkinDeeds$Unlike" "NapkinDeeds$Unlike" "isSo" "(LNapkinDeeds$Look;I)Z") ∈ lw_all := lw_g (lw_at lw_m4 94 rfl) rfl
theorem q980 : (Jvm.Cond.methodLink "NapkinDeeds$Unlike" (33 : Nat) ({ cls := "NapkinDeeds$Unlike", name := "code", desc := "(LNapkinDeeds$Look;)J" } : Jvm.MethodName)) ∈ lw_all := lw_g (lw_at lw_m4 112 rfl) rfl
theorem q981 : (Jvm.Cond.instanceMethod ({ cls := "NapkinDeeds$Unlike", name := "code", desc := "(LNapkinDeeds$Look;)J" } : Jvm.MethodName)) ∈ lw_all := lw_g (lw_at lw_m4 113 rfl) rfl
theorem q982 : (Jvm.Cond.sameMethod "NapkinDeeds$Unlike" "NapkinDeeds$Unlike" "code" "(LNapkinDeeds$Look;)J") ∈ lw_all := lw_g (lw_at lw_m4 114 rfl) rfl
theorem q995 : (Jvm.Cond.code ({ cls := "NapkinDeeds$Unlike", name := "code", desc := "(LNapkinDeeds$Look;)J" } : Jvm.MethodName) prog_40_method_3_code (2 : Nat) (Option.some Jvm.ClassFile.FieldType.long)) ∈ lw_all := lw_g (lw_at lw_m4 127 rfl) rfl
theorem q996 : (Jvm.Cond.methodLink "NapkinDeeds$Unlike" (13 : Nat) ({ cls := "NapkinDeeds$Look", name := "code", desc := "()J" } : Jvm.MethodName)) ∈ lw_all := lw_g (lw_at lw_m4 128 rfl) rfl
theorem q1070 : (Jvm.Cond.instanceMethod ({ cls := "NapkinDeeds$Unlike", name := "<init>", desc := "(LNapkinDeeds;)V" } : Jvm.MethodName)) ∈ lw_all := lw_g (lw_at lw_m4 202 rfl) rfl
theorem q1071 : (Jvm.Cond.code ({ cls := "NapkinDeeds$Unlike", name := "<init>", desc := "(LNapkinDeeds;)V" } : Jvm.MethodName) prog_40_method_1_code (2 : Nat) (Option.none : Option Jvm.ClassFile.FieldType)) ∈ lw_all := lw_g (lw_at lw_m4 203 rfl) rfl
theorem q1072 : (Jvm.Cond.methodLinkNest "NapkinDeeds$Unlike" (7 : Nat) ({ cls := "NapkinDeeds$Rows", name := "<init>", desc := "(LNapkinDeeds;)V" } : Jvm.MethodName) "NapkinDeeds") ∈ lw_tbl := lw_at lw_m4 204 rfl
theorem q1074 : (Jvm.Cond.fieldLink "NapkinDeeds$Unlike" (29 : Nat) "NapkinDeeds$Unlike" "many" "I") ∈ lw_all := lw_g (lw_at lw_m4 206 rfl) rfl
theorem q1075 : (Jvm.Cond.fieldLink "NapkinDeeds$Unlike" (1 : Nat) "NapkinDeeds$Unlike" "this$0" "LNapkinDeeds;") ∈ lw_all := lw_g (lw_at lw_m4 207 rfl) rfl
theorem q1079 : (Jvm.Cond.soleField "NapkinDeeds$Unlike" "many") ∈ lw_all := lw_g (lw_at lw_m4 211 rfl) rfl
theorem q1081 : (Jvm.Cond.soleField "NapkinDeeds$Unlike" "this$0") ∈ lw_all := lw_g (lw_at lw_m4 213 rfl) rfl
theorem q1086 : (Jvm.Cond.sameMethod "NapkinDeeds$Unlike" "NapkinDeeds$Rows" "seeks" "(ZI)LNapkinDeeds$Rows;") ∈ lw_all := lw_g (lw_at lw_m4 218 rfl) rfl
theorem q1093 : (Jvm.Cond.instanceMethod ({ cls := "NapkinDeeds$Unlike", name := "unlike", desc := "()I" } : Jvm.MethodName)) ∈ lw_all := lw_g (lw_at lw_m4 225 rfl) rfl
theorem q1094 : (Jvm.Cond.sameMethod "NapkinDeeds$Unlike" "NapkinDeeds$Unlike" "unlike" "()I") ∈ lw_all := lw_g (lw_at lw_m4 226 rfl) rfl
theorem q1100 : (Jvm.Cond.code ({ cls := "NapkinDeeds$Unlike", name := "unlike", desc := "()I" } : Jvm.MethodName) prog_40_method_5_code (3 : Nat) (Option.some Jvm.ClassFile.FieldType.int)) ∈ lw_all := lw_g (lw_at lw_m4 232 rfl) rfl
theorem q1101 : (Jvm.Cond.methodLink "NapkinDeeds$Unlike" (36 : Nat) ({ cls := "java/util/Arrays", name := "sort", desc := "([JII)V" } : Jvm.MethodName)) ∈ lw_all := lw_g (lw_at lw_m4 233 rfl) rfl
/-! NapkinDeeds$2 -/
set_option maxRecDepth 100000
def RX24 : String := "NapkinDeeds$2"
def TX24 : u_T := fun k => match k with
  | 0 => ("NapkinDeeds$Unlike", "many", "I", false)
  | 1 => ("NapkinDeeds$Unlike", "this$0", "LNapkinDeeds;", true)
  | 2 => ("NapkinDeeds$Rows", "row", "[I", true)
  | 3 => ("NapkinDeeds$Rows", "this$0", "LNapkinDeeds;", true)
  | _ => ("NapkinDeeds$2", "this$0", "LNapkinDeeds;", true)
def tyX24 : Nat → FieldType := fun k => match k with
  | 0 => .int
  | 1 => .object "NapkinDeeds"
  | 2 => .array .int
  | 3 => .object "NapkinDeeds"
  | _ => .object "NapkinDeeds"
abbrev wsX240 : List Cond := u_ws RX24 TX24 5
-- two fields of one name: no nmX24
theorem tyX24_ok : ∀ k, k < 5 → parseFieldDescriptor (TX24 k).2.2.1 = some (tyX24 k) := by decide +kernel
abbrev cX24_isSo : ByteArray := prog_8_method_2_code
def yX24_isSo : MethodName := ⟨RX24, "isSo", "(LNapkinDeeds$Look;I)Z"⟩
theorem dX24_isSo_0 : decode cX24_isSo 0 = .ok (.iconst 1, 1) := by decide +kernel
theorem dX24_isSo_1 : decode cX24_isSo 1 = .ok (.ireturn, 1) := by decide +kernel
abbrev cX24_init : ByteArray := prog_8_method_1_code
def yX24_init : MethodName := ⟨RX24, "<init>", "(LNapkinDeeds;)V"⟩
def dkwX24_init_0 : List UInt8 := [42, 43, 181, 0, 1, 42, 43, 183, 0, 7, 177]
abbrev dktX24_init_0 : List UInt8 := dkwX24_init_0 ++ []
theorem dksX24_init_0 : cX24_init.data.toList.drop 0 = dktX24_init_0 := by decide +kernel
theorem dX24_init_0 : decode cX24_init 0 = .ok (.aload_n 0, 1) := dk_42 (dk_at dksX24_init_0 0 rfl rfl)
theorem dX24_init_1 : decode cX24_init 1 = .ok (.aload_n 1, 1) := dk_43 (dk_at dksX24_init_0 1 rfl rfl)
theorem dX24_init_2 : decode cX24_init 2 = .ok (.putfield 1, 3) := dk_181 0 1 (dk_at dksX24_init_0 2 rfl rfl)
theorem dX24_init_5 : decode cX24_init 5 = .ok (.aload_n 0, 1) := dk_42 (dk_at dksX24_init_0 5 rfl rfl)
theorem dX24_init_6 : decode cX24_init 6 = .ok (.aload_n 1, 1) := dk_43 (dk_at dksX24_init_0 6 rfl rfl)
theorem dX24_init_7 : decode cX24_init 7 = .ok (.invokespecial 7, 3) := dk_183 0 7 (dk_at dksX24_init_0 7 rfl rfl)
theorem dX24_init_10 : decode cX24_init 10 = .ok (.return_, 1) := dk_177 (dk_at dksX24_init_0 10 rfl rfl)
theorem q194 : (Jvm.Cond.initialized "NapkinDeeds$2") ∈ lw_all := lw_g (lw_at lw_m1 46 rfl) rfl
theorem q698 : (Jvm.Cond.selects "NapkinDeeds$2" ({ cls := "java/lang/Object", name := "getClass", desc := "()Ljava/lang/Class;" } : Jvm.MethodName) ({ cls := "java/lang/Object", name := "getClass", desc := "()Ljava/lang/Class;" } : Jvm.MethodName)) ∈ lw_all := lw_g (lw_at lw_m3 70 rfl) rfl
theorem q970 : (Jvm.Cond.selects "NapkinDeeds$2" ({ cls := "NapkinDeeds$Unlike", name := "isSo", desc := "(LNapkinDeeds$Look;I)Z" } : Jvm.MethodName) ({ cls := "NapkinDeeds$2", name := "isSo", desc := "(LNapkinDeeds$Look;I)Z" } : Jvm.MethodName)) ∈ lw_all := lw_g (lw_at lw_m4 102 rfl) rfl
theorem q971 : (Jvm.Cond.instanceMethod ({ cls := "NapkinDeeds$2", name := "isSo", desc := "(LNapkinDeeds$Look;I)Z" } : Jvm.MethodName)) ∈ lw_all := lw_g (lw_at lw_m4 103 rfl) rfl
theorem q972 : (Jvm.Cond.code ({ cls := "NapkinDeeds$2", name := "isSo", desc := "(LNapkinDeeds$Look;I)Z" } : Jvm.MethodName) prog_8_method_2_code (3 : Nat) (Option.some Jvm.ClassFile.FieldType.boolean)) ∈ lw_all := lw_g (lw_at lw_m4 104 rfl) rfl
theorem q989 : (Jvm.Cond.selects "NapkinDeeds$2" ({ cls := "NapkinDeeds$Unlike", name := "code", desc := "(LNapkinDeeds$Look;)J" } : Jvm.MethodName) ({ cls := "NapkinDeeds$Unlike", name := "code", desc := "(LNapkinDeeds$Look;)J" } : Jvm.MethodName)) ∈ lw_all := lw_g (lw_at lw_m4 121 rfl) rfl
theorem q1005 : (Jvm.Cond.selects "NapkinDeeds$2" ({ cls := "NapkinDeeds$Rows", name := "sees", desc := "(LNapkinDeeds$Look;II)V" } : Jvm.MethodName) ({ cls := "NapkinDeeds$Unlike", name := "sees", desc := "(LNapkinDeeds$Look;II)V" } : Jvm.MethodName)) ∈ lw_all := lw_g (lw_at lw_m4 137 rfl) rfl
theorem q1089 : (Jvm.Cond.selects "NapkinDeeds$2" ({ cls := "NapkinDeeds$Unlike", name := "seeks", desc := "(ZI)LNapkinDeeds$Rows;" } : Jvm.MethodName) ({ cls := "NapkinDeeds$Rows", name := "seeks", desc := "(ZI)LNapkinDeeds$Rows;" } : Jvm.MethodName)) ∈ lw_all := lw_g (lw_at lw_m4 221 rfl) rfl
theorem q1097 : (Jvm.Cond.selects "NapkinDeeds$2" ({ cls := "NapkinDeeds$Unlike", name := "unlike", desc := "()I" } : Jvm.MethodName) ({ cls := "NapkinDeeds$Unlike", name := "unlike", desc := "()I" } : Jvm.MethodName)) ∈ lw_all := lw_g (lw_at lw_m4 229 rfl) rfl
theorem q2168 : (Jvm.Cond.instantiable "NapkinDeeds$2" (5 : Nat)) ∈ lw_all := lw_g (lw_at lw_m9 100 rfl) rfl
theorem q2170 : (Jvm.Cond.instanceMethod ({ cls := "NapkinDeeds$2", name := "<init>", desc := "(LNapkinDeeds;)V" } : Jvm.MethodName)) ∈ lw_all := lw_g (lw_at lw_m9 102 rfl) rfl
theorem q2171 : (Jvm.Cond.code ({ cls := "NapkinDeeds$2", name := "<init>", desc := "(LNapkinDeeds;)V" } : Jvm.MethodName) prog_8_method_1_code (2 : Nat) (Option.none : Option Jvm.ClassFile.FieldType)) ∈ lw_all := lw_g (lw_at lw_m9 103 rfl) rfl
theorem q2172 : (Jvm.Cond.methodLinkNest "NapkinDeeds$2" (7 : Nat) ({ cls := "NapkinDeeds$Unlike", name := "<init>", desc := "(LNapkinDeeds;)V" } : Jvm.MethodName) "NapkinDeeds") ∈ lw_tbl := lw_at lw_m9 104 rfl
theorem q2173 : (Jvm.Cond.fieldLink "NapkinDeeds$2" (1 : Nat) "NapkinDeeds$2" "this$0" "LNapkinDeeds;") ∈ lw_all := lw_g (lw_at lw_m9 105 rfl) rfl
theorem q2174 : (Jvm.Cond.laysFinal "NapkinDeeds$2" "NapkinDeeds$2" "this$0" "LNapkinDeeds;") ∈ lw_all := lw_g (lw_at lw_m9 106 rfl) rfl
theorem q2175 : (Jvm.Cond.soleField "NapkinDeeds$2" "this$0") ∈ lw_all := lw_g (lw_at lw_m9 107 rfl) rfl
theorem q2176 : (Jvm.Cond.lays "NapkinDeeds$2" "NapkinDeeds$Unlike" "many" "I") ∈ lw_all := lw_g (lw_at lw_m9 108 rfl) rfl
theorem q2177 : (Jvm.Cond.laysFinal "NapkinDeeds$2" "NapkinDeeds$Unlike" "this$0" "LNapkinDeeds;") ∈ lw_all := lw_g (lw_at lw_m9 109 rfl) rfl
theorem q2178 : (Jvm.Cond.laysFinal "NapkinDeeds$2" "NapkinDeeds$Rows" "row" "[I") ∈ lw_all := lw_g (lw_at lw_m9 110 rfl) rfl
theorem q2179 : (Jvm.Cond.laysFinal "NapkinDeeds$2" "NapkinDeeds$Rows" "this$0" "LNapkinDeeds;") ∈ lw_all := lw_g (lw_at lw_m9 111 rfl) rfl
theorem q2180 : (Jvm.Cond.superclass "NapkinDeeds$2" "NapkinDeeds$Unlike") ∈ lw_all := lw_g (lw_at lw_m9 112 rfl) rfl
theorem q3525 : (Jvm.Cond.castable "NapkinDeeds$2" "java/lang/Object") ∈ lw_tbl := lw_at lw_m15 17 rfl
theorem in_X24 : ∀ w ∈ wsX240, w ∈ lw_all := lw_in wsX240 [2176, 2177, 2178, 2179, 2174] (by decide +kernel) (by decide +kernel)
/-! NapkinDeeds$Best -/
set_option maxRecDepth 100000
def RX25 : String := "NapkinDeeds$Best"
abbrev cX25_init : ByteArray := prog_17_method_1_code
def yX25_init : MethodName := ⟨RX25, "<init>", "(LNapkinDeeds;)V"⟩
def dkwX25_init_1 : List UInt8 := [20, 0, 25, 181, 0, 27, 177]
abbrev dktX25_init_1 : List UInt8 := dkwX25_init_1 ++ []
def dkwX25_init_0 : List UInt8 := [42, 43, 181, 0, 3, 42, 43, 183, 0, 9, 42, 8, 188, 10, 181, 0, 15, 42, 2, 181, 0, 19, 42]
abbrev dktX25_init_0 : List UInt8 := dkwX25_init_0 ++ dktX25_init_1
theorem dksX25_init_0 : cX25_init.data.toList.drop 0 = dktX25_init_0 := by decide +kernel
theorem dksX25_init_1 : cX25_init.data.toList.drop 23 = dktX25_init_1 := dk_seg dksX25_init_0 23 rfl rfl
theorem dX25_init_0 : decode cX25_init 0 = .ok (.aload_n 0, 1) := dk_42 (dk_at dksX25_init_0 0 rfl rfl)
theorem dX25_init_1 : decode cX25_init 1 = .ok (.aload_n 1, 1) := dk_43 (dk_at dksX25_init_0 1 rfl rfl)
theorem dX25_init_2 : decode cX25_init 2 = .ok (.putfield 3, 3) := dk_181 0 3 (dk_at dksX25_init_0 2 rfl rfl)
theorem dX25_init_5 : decode cX25_init 5 = .ok (.aload_n 0, 1) := dk_42 (dk_at dksX25_init_0 5 rfl rfl)
theorem dX25_init_6 : decode cX25_init 6 = .ok (.aload_n 1, 1) := dk_43 (dk_at dksX25_init_0 6 rfl rfl)
theorem dX25_init_7 : decode cX25_init 7 = .ok (.invokespecial 9, 3) := dk_183 0 9 (dk_at dksX25_init_0 7 rfl rfl)
theorem dX25_init_10 : decode cX25_init 10 = .ok (.aload_n 0, 1) := dk_42 (dk_at dksX25_init_0 10 rfl rfl)
theorem dX25_init_11 : decode cX25_init 11 = .ok (.iconst 5, 1) := dk_8 (dk_at dksX25_init_0 11 rfl rfl)
theorem dX25_init_12 : decode cX25_init 12 = .ok (.newarray .int, 2) := dk_188_10 (dk_at dksX25_init_0 12 rfl rfl)
theorem dX25_init_14 : decode cX25_init 14 = .ok (.putfield 15, 3) := dk_181 0 15 (dk_at dksX25_init_0 14 rfl rfl)
theorem dX25_init_17 : decode cX25_init 17 = .ok (.aload_n 0, 1) := dk_42 (dk_at dksX25_init_0 17 rfl rfl)
theorem dX25_init_18 : decode cX25_init 18 = .ok (.iconst (-1), 1) := dk_2 (dk_at dksX25_init_0 18 rfl rfl)
theorem dX25_init_19 : decode cX25_init 19 = .ok (.putfield 19, 3) := dk_181 0 19 (dk_at dksX25_init_0 19 rfl rfl)
theorem dX25_init_22 : decode cX25_init 22 = .ok (.aload_n 0, 1) := dk_42 (dk_at dksX25_init_0 22 rfl rfl)
theorem dX25_init_23 : decode cX25_init 23 = .ok (.ldc2_w 25, 3) := dk_20 0 25 (dk_at dksX25_init_1 0 rfl rfl)
theorem dX25_init_26 : decode cX25_init 26 = .ok (.putfield 27, 3) := dk_181 0 27 (dk_at dksX25_init_1 3 rfl rfl)
theorem dX25_init_29 : decode cX25_init 29 = .ok (.return_, 1) := dk_177 (dk_at dksX25_init_1 6 rfl rfl)
abbrev cX25_sees : ByteArray := prog_17_method_3_code
def yX25_sees : MethodName := ⟨RX25, "sees", "(LNapkinDeeds$Look;II)V"⟩
def dkwX25_sees_3 : List UInt8 := [184, 0, 38, 177]
abbrev dktX25_sees_3 : List UInt8 := dkwX25_sees_3 ++ []
def dkwX25_sees_2 : List UInt8 := [42, 22, 4, 181, 0, 27, 42, 28, 181, 0, 19, 42, 180, 0, 35, 3, 42, 180, 0, 15, 3, 8]
abbrev dktX25_sees_2 : List UInt8 := dkwX25_sees_2 ++ dktX25_sees_3
def dkwX25_sees_1 : List UInt8 := [180, 0, 27, 148, 154, 0, 20, 42, 180, 0, 19, 2, 159, 0, 11, 28, 42, 180, 0, 19, 161, 0, 4, 177]
abbrev dktX25_sees_1 : List UInt8 := dkwX25_sees_1 ++ dktX25_sees_2
def dkwX25_sees_0 : List UInt8 := [42, 43, 28, 29, 182, 0, 31, 55, 4, 22, 4, 42, 180, 0, 27, 148, 155, 0, 29, 22, 4, 42]
abbrev dktX25_sees_0 : List UInt8 := dkwX25_sees_0 ++ dktX25_sees_1
theorem dksX25_sees_0 : cX25_sees.data.toList.drop 0 = dktX25_sees_0 := by decide +kernel
theorem dksX25_sees_1 : cX25_sees.data.toList.drop 22 = dktX25_sees_1 := dk_seg dksX25_sees_0 22 rfl rfl
theorem dksX25_sees_2 : cX25_sees.data.toList.drop 46 = dktX25_sees_2 := dk_seg dksX25_sees_1 24 rfl rfl
theorem dksX25_sees_3 : cX25_sees.data.toList.drop 68 = dktX25_sees_3 := dk_seg dksX25_sees_2 22 rfl rfl
theorem dX25_sees_0 : decode cX25_sees 0 = .ok (.aload_n 0, 1) := dk_42 (dk_at dksX25_sees_0 0 rfl rfl)
theorem dX25_sees_1 : decode cX25_sees 1 = .ok (.aload_n 1, 1) := dk_43 (dk_at dksX25_sees_0 1 rfl rfl)
theorem dX25_sees_2 : decode cX25_sees 2 = .ok (.iload_n 2, 1) := dk_28 (dk_at dksX25_sees_0 2 rfl rfl)
theorem dX25_sees_3 : decode cX25_sees 3 = .ok (.iload_n 3, 1) := dk_29 (dk_at dksX25_sees_0 3 rfl rfl)
theorem dX25_sees_4 : decode cX25_sees 4 = .ok (.invokevirtual 31, 3) := dk_182 0 31 (dk_at dksX25_sees_0 4 rfl rfl)
theorem dX25_sees_7 : decode cX25_sees 7 = .ok (.lstore 4, 2) := dk_55 4 (dk_at dksX25_sees_0 7 rfl rfl)
theorem dX25_sees_9 : decode cX25_sees 9 = .ok (.lload 4, 2) := dk_22 4 (dk_at dksX25_sees_0 9 rfl rfl)
theorem dX25_sees_11 : decode cX25_sees 11 = .ok (.aload_n 0, 1) := dk_42 (dk_at dksX25_sees_0 11 rfl rfl)
theorem dX25_sees_12 : decode cX25_sees 12 = .ok (.getfield 27, 3) := dk_180 0 27 (dk_at dksX25_sees_0 12 rfl rfl)
theorem dX25_sees_15 : decode cX25_sees 15 = .ok (.lcmp, 1) := dk_148 (dk_at dksX25_sees_0 15 rfl rfl)
theorem dX25_sees_16 : decode cX25_sees 16 = .ok (.ifCond .lt 29, 3) := dk_155 0 29 (dk_at dksX25_sees_0 16 rfl rfl)
theorem dX25_sees_19 : decode cX25_sees 19 = .ok (.lload 4, 2) := dk_22 4 (dk_at dksX25_sees_0 19 rfl rfl)
theorem dX25_sees_21 : decode cX25_sees 21 = .ok (.aload_n 0, 1) := dk_42 (dk_at dksX25_sees_0 21 rfl rfl)
theorem dX25_sees_22 : decode cX25_sees 22 = .ok (.getfield 27, 3) := dk_180 0 27 (dk_at dksX25_sees_1 0 rfl rfl)
theorem dX25_sees_25 : decode cX25_sees 25 = .ok (.lcmp, 1) := dk_148 (dk_at dksX25_sees_1 3 rfl rfl)
theorem dX25_sees_26 : decode cX25_sees 26 = .ok (.ifCond .ne 20, 3) := dk_154 0 20 (dk_at dksX25_sees_1 4 rfl rfl)
theorem dX25_sees_29 : decode cX25_sees 29 = .ok (.aload_n 0, 1) := dk_42 (dk_at dksX25_sees_1 7 rfl rfl)
theorem dX25_sees_30 : decode cX25_sees 30 = .ok (.getfield 19, 3) := dk_180 0 19 (dk_at dksX25_sees_1 8 rfl rfl)
theorem dX25_sees_33 : decode cX25_sees 33 = .ok (.iconst (-1), 1) := dk_2 (dk_at dksX25_sees_1 11 rfl rfl)
theorem dX25_sees_34 : decode cX25_sees 34 = .ok (.if_icmp .eq 11, 3) := dk_159 0 11 (dk_at dksX25_sees_1 12 rfl rfl)
theorem dX25_sees_37 : decode cX25_sees 37 = .ok (.iload_n 2, 1) := dk_28 (dk_at dksX25_sees_1 15 rfl rfl)
theorem dX25_sees_38 : decode cX25_sees 38 = .ok (.aload_n 0, 1) := dk_42 (dk_at dksX25_sees_1 16 rfl rfl)
theorem dX25_sees_39 : decode cX25_sees 39 = .ok (.getfield 19, 3) := dk_180 0 19 (dk_at dksX25_sees_1 17 rfl rfl)
theorem dX25_sees_42 : decode cX25_sees 42 = .ok (.if_icmp .lt 4, 3) := dk_161 0 4 (dk_at dksX25_sees_1 20 rfl rfl)
theorem dX25_sees_45 : decode cX25_sees 45 = .ok (.return_, 1) := dk_177 (dk_at dksX25_sees_1 23 rfl rfl)
theorem dX25_sees_46 : decode cX25_sees 46 = .ok (.aload_n 0, 1) := dk_42 (dk_at dksX25_sees_2 0 rfl rfl)
theorem dX25_sees_47 : decode cX25_sees 47 = .ok (.lload 4, 2) := dk_22 4 (dk_at dksX25_sees_2 1 rfl rfl)
theorem dX25_sees_49 : decode cX25_sees 49 = .ok (.putfield 27, 3) := dk_181 0 27 (dk_at dksX25_sees_2 3 rfl rfl)
theorem dX25_sees_52 : decode cX25_sees 52 = .ok (.aload_n 0, 1) := dk_42 (dk_at dksX25_sees_2 6 rfl rfl)
theorem dX25_sees_53 : decode cX25_sees 53 = .ok (.iload_n 2, 1) := dk_28 (dk_at dksX25_sees_2 7 rfl rfl)
theorem dX25_sees_54 : decode cX25_sees 54 = .ok (.putfield 19, 3) := dk_181 0 19 (dk_at dksX25_sees_2 8 rfl rfl)
theorem dX25_sees_57 : decode cX25_sees 57 = .ok (.aload_n 0, 1) := dk_42 (dk_at dksX25_sees_2 11 rfl rfl)
theorem dX25_sees_58 : decode cX25_sees 58 = .ok (.getfield 35, 3) := dk_180 0 35 (dk_at dksX25_sees_2 12 rfl rfl)
theorem dX25_sees_61 : decode cX25_sees 61 = .ok (.iconst 0, 1) := dk_3 (dk_at dksX25_sees_2 15 rfl rfl)
theorem dX25_sees_62 : decode cX25_sees 62 = .ok (.aload_n 0, 1) := dk_42 (dk_at dksX25_sees_2 16 rfl rfl)
theorem dX25_sees_63 : decode cX25_sees 63 = .ok (.getfield 15, 3) := dk_180 0 15 (dk_at dksX25_sees_2 17 rfl rfl)
theorem dX25_sees_66 : decode cX25_sees 66 = .ok (.iconst 0, 1) := dk_3 (dk_at dksX25_sees_2 20 rfl rfl)
theorem dX25_sees_67 : decode cX25_sees 67 = .ok (.iconst 5, 1) := dk_8 (dk_at dksX25_sees_2 21 rfl rfl)
theorem dX25_sees_68 : decode cX25_sees 68 = .ok (.invokestatic 38, 3) := dk_184 0 38 (dk_at dksX25_sees_3 0 rfl rfl)
theorem dX25_sees_71 : decode cX25_sees 71 = .ok (.return_, 1) := dk_177 (dk_at dksX25_sees_3 3 rfl rfl)
abbrev cX25_fold : ByteArray := prog_17_method_5_code
def yX25_fold : MethodName := ⟨RX25, "fold", "(I)I"⟩
def dkwX25_fold_1 : List UInt8 := [2, 172]
abbrev dktX25_fold_1 : List UInt8 := dkwX25_fold_1 ++ []
def dkwX25_fold_0 : List UInt8 := [42, 182, 0, 44, 154, 0, 20, 27, 42, 180, 0, 19, 162, 0, 12, 42, 180, 0, 15, 27, 46, 167, 0, 4]
abbrev dktX25_fold_0 : List UInt8 := dkwX25_fold_0 ++ dktX25_fold_1
theorem dksX25_fold_0 : cX25_fold.data.toList.drop 0 = dktX25_fold_0 := by decide +kernel
theorem dksX25_fold_1 : cX25_fold.data.toList.drop 24 = dktX25_fold_1 := dk_seg dksX25_fold_0 24 rfl rfl
theorem dX25_fold_0 : decode cX25_fold 0 = .ok (.aload_n 0, 1) := dk_42 (dk_at dksX25_fold_0 0 rfl rfl)
theorem dX25_fold_1 : decode cX25_fold 1 = .ok (.invokevirtual 44, 3) := dk_182 0 44 (dk_at dksX25_fold_0 1 rfl rfl)
theorem dX25_fold_4 : decode cX25_fold 4 = .ok (.ifCond .ne 20, 3) := dk_154 0 20 (dk_at dksX25_fold_0 4 rfl rfl)
theorem dX25_fold_7 : decode cX25_fold 7 = .ok (.iload_n 1, 1) := dk_27 (dk_at dksX25_fold_0 7 rfl rfl)
theorem dX25_fold_8 : decode cX25_fold 8 = .ok (.aload_n 0, 1) := dk_42 (dk_at dksX25_fold_0 8 rfl rfl)
theorem dX25_fold_9 : decode cX25_fold 9 = .ok (.getfield 19, 3) := dk_180 0 19 (dk_at dksX25_fold_0 9 rfl rfl)
theorem dX25_fold_12 : decode cX25_fold 12 = .ok (.if_icmp .ge 12, 3) := dk_162 0 12 (dk_at dksX25_fold_0 12 rfl rfl)
theorem dX25_fold_15 : decode cX25_fold 15 = .ok (.aload_n 0, 1) := dk_42 (dk_at dksX25_fold_0 15 rfl rfl)
theorem dX25_fold_16 : decode cX25_fold 16 = .ok (.getfield 15, 3) := dk_180 0 15 (dk_at dksX25_fold_0 16 rfl rfl)
theorem dX25_fold_19 : decode cX25_fold 19 = .ok (.iload_n 1, 1) := dk_27 (dk_at dksX25_fold_0 19 rfl rfl)
theorem dX25_fold_20 : decode cX25_fold 20 = .ok (.iaload, 1) := dk_46 (dk_at dksX25_fold_0 20 rfl rfl)
theorem dX25_fold_21 : decode cX25_fold 21 = .ok (.goto 4, 3) := dk_167 0 4 (dk_at dksX25_fold_0 21 rfl rfl)
theorem dX25_fold_24 : decode cX25_fold 24 = .ok (.iconst (-1), 1) := dk_2 (dk_at dksX25_fold_1 0 rfl rfl)
theorem dX25_fold_25 : decode cX25_fold 25 = .ok (.ireturn, 1) := dk_172 (dk_at dksX25_fold_1 1 rfl rfl)
abbrev cX25_isNone : ByteArray := prog_17_method_4_code
def yX25_isNone : MethodName := ⟨RX25, "isNone", "()Z"⟩
def dkwX25_isNone_0 : List UInt8 := [42, 180, 0, 27, 20, 0, 25, 148, 154, 0, 7, 4, 167, 0, 4, 3, 172]
abbrev dktX25_isNone_0 : List UInt8 := dkwX25_isNone_0 ++ []
theorem dksX25_isNone_0 : cX25_isNone.data.toList.drop 0 = dktX25_isNone_0 := by decide +kernel
theorem dX25_isNone_0 : decode cX25_isNone 0 = .ok (.aload_n 0, 1) := dk_42 (dk_at dksX25_isNone_0 0 rfl rfl)
theorem dX25_isNone_1 : decode cX25_isNone 1 = .ok (.getfield 27, 3) := dk_180 0 27 (dk_at dksX25_isNone_0 1 rfl rfl)
theorem dX25_isNone_4 : decode cX25_isNone 4 = .ok (.ldc2_w 25, 3) := dk_20 0 25 (dk_at dksX25_isNone_0 4 rfl rfl)
theorem dX25_isNone_7 : decode cX25_isNone 7 = .ok (.lcmp, 1) := dk_148 (dk_at dksX25_isNone_0 7 rfl rfl)
theorem dX25_isNone_8 : decode cX25_isNone 8 = .ok (.ifCond .ne 7, 3) := dk_154 0 7 (dk_at dksX25_isNone_0 8 rfl rfl)
theorem dX25_isNone_11 : decode cX25_isNone 11 = .ok (.iconst 1, 1) := dk_4 (dk_at dksX25_isNone_0 11 rfl rfl)
theorem dX25_isNone_12 : decode cX25_isNone 12 = .ok (.goto 4, 3) := dk_167 0 4 (dk_at dksX25_isNone_0 12 rfl rfl)
theorem dX25_isNone_15 : decode cX25_isNone 15 = .ok (.iconst 0, 1) := dk_3 (dk_at dksX25_isNone_0 15 rfl rfl)
theorem dX25_isNone_16 : decode cX25_isNone 16 = .ok (.ireturn, 1) := dk_172 (dk_at dksX25_isNone_0 16 rfl rfl)
theorem q201 : (Jvm.Cond.initialized "NapkinDeeds$Best") ∈ lw_all := lw_g (lw_at lw_m1 53 rfl) rfl
theorem q768 : (Jvm.Cond.instanceMethod ({ cls := "NapkinDeeds$Best", name := "<init>", desc := "(LNapkinDeeds;)V" } : Jvm.MethodName)) ∈ lw_all := lw_g (lw_at lw_m3 140 rfl) rfl
theorem q769 : (Jvm.Cond.code ({ cls := "NapkinDeeds$Best", name := "<init>", desc := "(LNapkinDeeds;)V" } : Jvm.MethodName) prog_17_method_1_code (2 : Nat) (Option.none : Option Jvm.ClassFile.FieldType)) ∈ lw_all := lw_g (lw_at lw_m3 141 rfl) rfl
theorem q770 : (Jvm.Cond.methodLinkNest "NapkinDeeds$Best" (9 : Nat) ({ cls := "NapkinDeeds$Rows", name := "<init>", desc := "(LNapkinDeeds;)V" } : Jvm.MethodName) "NapkinDeeds") ∈ lw_tbl := lw_at lw_m3 142 rfl
theorem q774 : (Jvm.Cond.constantLong "NapkinDeeds$Best" (25 : Nat) (-9223372036854775808 : Int64)) ∈ lw_all := lw_g (lw_at lw_m3 146 rfl) rfl
theorem q776 : (Jvm.Cond.fieldLink "NapkinDeeds$Best" (15 : Nat) "NapkinDeeds$Best" "best" "[I") ∈ lw_all := lw_g (lw_at lw_m3 148 rfl) rfl
theorem q777 : (Jvm.Cond.fieldLink "NapkinDeeds$Best" (19 : Nat) "NapkinDeeds$Best" "fewest" "I") ∈ lw_all := lw_g (lw_at lw_m3 149 rfl) rfl
theorem q780 : (Jvm.Cond.fieldLink "NapkinDeeds$Best" (27 : Nat) "NapkinDeeds$Best" "most" "J") ∈ lw_all := lw_g (lw_at lw_m3 152 rfl) rfl
theorem q782 : (Jvm.Cond.fieldLink "NapkinDeeds$Best" (3 : Nat) "NapkinDeeds$Best" "this$0" "LNapkinDeeds;") ∈ lw_all := lw_g (lw_at lw_m3 154 rfl) rfl
theorem q784 : (Jvm.Cond.fieldLink "NapkinDeeds$Best" (35 : Nat) "NapkinDeeds$Best" "row" "[I") ∈ lw_all := lw_g (lw_at lw_m3 156 rfl) rfl
theorem q785 : (Jvm.Cond.sameField "NapkinDeeds$Best" "NapkinDeeds$Rows" "row" "[I") ∈ lw_all := lw_g (lw_at lw_m3 157 rfl) rfl
theorem q790 : (Jvm.Cond.soleField "NapkinDeeds$Best" "best") ∈ lw_all := lw_g (lw_at lw_m3 162 rfl) rfl
theorem q792 : (Jvm.Cond.soleField "NapkinDeeds$Best" "fewest") ∈ lw_all := lw_g (lw_at lw_m3 164 rfl) rfl
theorem q794 : (Jvm.Cond.soleField "NapkinDeeds$Best" "most") ∈ lw_all := lw_g (lw_at lw_m3 166 rfl) rfl
theorem q796 : (Jvm.Cond.soleField "NapkinDeeds$Best" "this$0") ∈ lw_all := lw_g (lw_at lw_m3 168 rfl) rfl
theorem q803 : (Jvm.Cond.sameMethod "NapkinDeeds$Best" "NapkinDeeds$Rows" "seeks" "(ZI)LNapkinDeeds$Rows;") ∈ lw_all := lw_g (lw_at lw_m3 175 rfl) rfl
theorem q906 : (Jvm.Cond.instanceMethod ({ cls := "NapkinDeeds$Best", name := "sees", desc := "(LNapkinDeeds$Look;II)V" } : Jvm.MethodName)) ∈ lw_all := lw_g (lw_at lw_m4 38 rfl) rfl
theorem q907 : (Jvm.Cond.code ({ cls := "NapkinDeeds$Best", name := "sees", desc := "(LNapkinDeeds$Look;II)V" } : Jvm.MethodName) prog_17_method_3_code (6 : Nat) (Option.none : Option Jvm.ClassFile.FieldType)) ∈ lw_all := lw_g (lw_at lw_m4 39 rfl) rfl
theorem q908 : (Jvm.Cond.methodLink "NapkinDeeds$Best" (31 : Nat) ({ cls := "NapkinDeeds$Best", name := "value", desc := "(LNapkinDeeds$Look;II)J" } : Jvm.MethodName)) ∈ lw_all := lw_g (lw_at lw_m4 40 rfl) rfl
theorem q909 : (Jvm.Cond.declares ({ cls := "NapkinDeeds$Best", name := "value", desc := "(LNapkinDeeds$Look;II)J" } : Jvm.MethodName)) ∈ lw_tbl := lw_at lw_m4 41 rfl
theorem q910 : (Jvm.Cond.sameMethod "NapkinDeeds$Best" "NapkinDeeds$Best" "value" "(LNapkinDeeds$Look;II)J") ∈ lw_all := lw_g (lw_at lw_m4 42 rfl) rfl
theorem q956 : (Jvm.Cond.methodLink "NapkinDeeds$Best" (38 : Nat) ({ cls := "java/lang/System", name := "arraycopy", desc := "(Ljava/lang/Object;ILjava/lang/Object;II)V" } : Jvm.MethodName)) ∈ lw_all := lw_g (lw_at lw_m4 88 rfl) rfl
theorem q1023 : (Jvm.Cond.instanceMethod ({ cls := "NapkinDeeds$Best", name := "fold", desc := "(I)I" } : Jvm.MethodName)) ∈ lw_all := lw_g (lw_at lw_m4 155 rfl) rfl
theorem q1024 : (Jvm.Cond.sameMethod "NapkinDeeds$Best" "NapkinDeeds$Best" "fold" "(I)I") ∈ lw_all := lw_g (lw_at lw_m4 156 rfl) rfl
theorem q1032 : (Jvm.Cond.code ({ cls := "NapkinDeeds$Best", name := "fold", desc := "(I)I" } : Jvm.MethodName) prog_17_method_5_code (2 : Nat) (Option.some Jvm.ClassFile.FieldType.int)) ∈ lw_all := lw_g (lw_at lw_m4 164 rfl) rfl
theorem q1033 : (Jvm.Cond.methodLink "NapkinDeeds$Best" (44 : Nat) ({ cls := "NapkinDeeds$Best", name := "isNone", desc := "()Z" } : Jvm.MethodName)) ∈ lw_all := lw_g (lw_at lw_m4 165 rfl) rfl
theorem q1034 : (Jvm.Cond.instanceMethod ({ cls := "NapkinDeeds$Best", name := "isNone", desc := "()Z" } : Jvm.MethodName)) ∈ lw_all := lw_g (lw_at lw_m4 166 rfl) rfl
theorem q1035 : (Jvm.Cond.sameMethod "NapkinDeeds$Best" "NapkinDeeds$Best" "isNone" "()Z") ∈ lw_all := lw_g (lw_at lw_m4 167 rfl) rfl
theorem q1043 : (Jvm.Cond.code ({ cls := "NapkinDeeds$Best", name := "isNone", desc := "()Z" } : Jvm.MethodName) prog_17_method_4_code (1 : Nat) (Option.some Jvm.ClassFile.FieldType.boolean)) ∈ lw_all := lw_g (lw_at lw_m4 175 rfl) rfl
theorem q2230 : (Jvm.Cond.declares ({ cls := "NapkinDeeds$Best", name := "isNone", desc := "()Z" } : Jvm.MethodName)) ∈ lw_tbl := lw_at lw_m9 162 rfl
theorem q2245 : (Jvm.Cond.declares ({ cls := "NapkinDeeds$Best", name := "fold", desc := "(I)I" } : Jvm.MethodName)) ∈ lw_tbl := lw_at lw_m9 177 rfl
theorem q3486 : (Jvm.Cond.sameMethod "NapkinDeeds$Best" "NapkinDeeds$Best" "sees" "(LNapkinDeeds$Look;II)V") ∈ lw_all := lw_g (lw_at lw_m14 218 rfl) rfl
/-! NapkinDeeds$Fewest -/
set_option maxRecDepth 100000
def RX26 : String := "NapkinDeeds$Fewest"
abbrev cX26_sees : ByteArray := prog_22_method_4_code
def yX26_sees : MethodName := ⟨RX26, "sees", "(LNapkinDeeds$Look;II)V"⟩
def dkwX26_sees_0 : List UInt8 := [42, 43, 29, 182, 0, 15, 153, 0, 10, 42, 43, 28, 29, 183, 0, 23, 177]
abbrev dktX26_sees_0 : List UInt8 := dkwX26_sees_0 ++ []
theorem dksX26_sees_0 : cX26_sees.data.toList.drop 0 = dktX26_sees_0 := by decide +kernel
theorem dX26_sees_0 : decode cX26_sees 0 = .ok (.aload_n 0, 1) := dk_42 (dk_at dksX26_sees_0 0 rfl rfl)
theorem dX26_sees_1 : decode cX26_sees 1 = .ok (.aload_n 1, 1) := dk_43 (dk_at dksX26_sees_0 1 rfl rfl)
theorem dX26_sees_2 : decode cX26_sees 2 = .ok (.iload_n 3, 1) := dk_29 (dk_at dksX26_sees_0 2 rfl rfl)
theorem dX26_sees_3 : decode cX26_sees 3 = .ok (.invokevirtual 15, 3) := dk_182 0 15 (dk_at dksX26_sees_0 3 rfl rfl)
theorem dX26_sees_6 : decode cX26_sees 6 = .ok (.ifCond .eq 10, 3) := dk_153 0 10 (dk_at dksX26_sees_0 6 rfl rfl)
theorem dX26_sees_9 : decode cX26_sees 9 = .ok (.aload_n 0, 1) := dk_42 (dk_at dksX26_sees_0 9 rfl rfl)
theorem dX26_sees_10 : decode cX26_sees 10 = .ok (.aload_n 1, 1) := dk_43 (dk_at dksX26_sees_0 10 rfl rfl)
theorem dX26_sees_11 : decode cX26_sees 11 = .ok (.iload_n 2, 1) := dk_28 (dk_at dksX26_sees_0 11 rfl rfl)
theorem dX26_sees_12 : decode cX26_sees 12 = .ok (.iload_n 3, 1) := dk_29 (dk_at dksX26_sees_0 12 rfl rfl)
theorem dX26_sees_13 : decode cX26_sees 13 = .ok (.invokespecial 23, 3) := dk_183 0 23 (dk_at dksX26_sees_0 13 rfl rfl)
theorem dX26_sees_16 : decode cX26_sees 16 = .ok (.return_, 1) := dk_177 (dk_at dksX26_sees_0 16 rfl rfl)
abbrev cX26_value : ByteArray := prog_22_method_3_code
def yX26_value : MethodName := ⟨RX26, "value", "(LNapkinDeeds$Look;II)J"⟩
def dkwX26_value_0 : List UInt8 := [42, 43, 29, 182, 0, 15, 153, 0, 7, 10, 167, 0, 6, 20, 0, 21, 173]
abbrev dktX26_value_0 : List UInt8 := dkwX26_value_0 ++ []
theorem dksX26_value_0 : cX26_value.data.toList.drop 0 = dktX26_value_0 := by decide +kernel
theorem dX26_value_0 : decode cX26_value 0 = .ok (.aload_n 0, 1) := dk_42 (dk_at dksX26_value_0 0 rfl rfl)
theorem dX26_value_1 : decode cX26_value 1 = .ok (.aload_n 1, 1) := dk_43 (dk_at dksX26_value_0 1 rfl rfl)
theorem dX26_value_2 : decode cX26_value 2 = .ok (.iload_n 3, 1) := dk_29 (dk_at dksX26_value_0 2 rfl rfl)
theorem dX26_value_3 : decode cX26_value 3 = .ok (.invokevirtual 15, 3) := dk_182 0 15 (dk_at dksX26_value_0 3 rfl rfl)
theorem dX26_value_6 : decode cX26_value 6 = .ok (.ifCond .eq 7, 3) := dk_153 0 7 (dk_at dksX26_value_0 6 rfl rfl)
theorem dX26_value_9 : decode cX26_value 9 = .ok (.lconst 1, 1) := dk_10 (dk_at dksX26_value_0 9 rfl rfl)
theorem dX26_value_10 : decode cX26_value 10 = .ok (.goto 6, 3) := dk_167 0 6 (dk_at dksX26_value_0 10 rfl rfl)
theorem dX26_value_13 : decode cX26_value 13 = .ok (.ldc2_w 21, 3) := dk_20 0 21 (dk_at dksX26_value_0 13 rfl rfl)
theorem dX26_value_16 : decode cX26_value 16 = .ok (.lreturn, 1) := dk_173 (dk_at dksX26_value_0 16 rfl rfl)
abbrev cX26_init : ByteArray := prog_22_method_1_code
def yX26_init : MethodName := ⟨RX26, "<init>", "(LNapkinDeeds;)V"⟩
def dkwX26_init_0 : List UInt8 := [42, 43, 181, 0, 3, 42, 43, 183, 0, 9, 177]
abbrev dktX26_init_0 : List UInt8 := dkwX26_init_0 ++ []
theorem dksX26_init_0 : cX26_init.data.toList.drop 0 = dktX26_init_0 := by decide +kernel
theorem dX26_init_0 : decode cX26_init 0 = .ok (.aload_n 0, 1) := dk_42 (dk_at dksX26_init_0 0 rfl rfl)
theorem dX26_init_1 : decode cX26_init 1 = .ok (.aload_n 1, 1) := dk_43 (dk_at dksX26_init_0 1 rfl rfl)
theorem dX26_init_2 : decode cX26_init 2 = .ok (.putfield 3, 3) := dk_181 0 3 (dk_at dksX26_init_0 2 rfl rfl)
theorem dX26_init_5 : decode cX26_init 5 = .ok (.aload_n 0, 1) := dk_42 (dk_at dksX26_init_0 5 rfl rfl)
theorem dX26_init_6 : decode cX26_init 6 = .ok (.aload_n 1, 1) := dk_43 (dk_at dksX26_init_0 6 rfl rfl)
theorem dX26_init_7 : decode cX26_init 7 = .ok (.invokespecial 9, 3) := dk_183 0 9 (dk_at dksX26_init_0 7 rfl rfl)
theorem dX26_init_10 : decode cX26_init 10 = .ok (.return_, 1) := dk_177 (dk_at dksX26_init_0 10 rfl rfl)
abbrev cX26_tells : ByteArray := prog_22_method_5_code
def yX26_tells : MethodName := ⟨RX26, "tells", "(I)I"⟩
def dkwX26_tells_1 : List UInt8 := [16, 10, 100, 182, 0, 35, 172]
abbrev dktX26_tells_1 : List UInt8 := dkwX26_tells_1 ++ []
def dkwX26_tells_0 : List UInt8 := [27, 154, 0, 21, 42, 182, 0, 27, 153, 0, 7, 2, 167, 0, 18, 42, 182, 0, 31, 167, 0, 11, 42, 27]
abbrev dktX26_tells_0 : List UInt8 := dkwX26_tells_0 ++ dktX26_tells_1
theorem dksX26_tells_0 : cX26_tells.data.toList.drop 0 = dktX26_tells_0 := by decide +kernel
theorem dksX26_tells_1 : cX26_tells.data.toList.drop 24 = dktX26_tells_1 := dk_seg dksX26_tells_0 24 rfl rfl
theorem dX26_tells_0 : decode cX26_tells 0 = .ok (.iload_n 1, 1) := dk_27 (dk_at dksX26_tells_0 0 rfl rfl)
theorem dX26_tells_1 : decode cX26_tells 1 = .ok (.ifCond .ne 21, 3) := dk_154 0 21 (dk_at dksX26_tells_0 1 rfl rfl)
theorem dX26_tells_4 : decode cX26_tells 4 = .ok (.aload_n 0, 1) := dk_42 (dk_at dksX26_tells_0 4 rfl rfl)
theorem dX26_tells_5 : decode cX26_tells 5 = .ok (.invokevirtual 27, 3) := dk_182 0 27 (dk_at dksX26_tells_0 5 rfl rfl)
theorem dX26_tells_8 : decode cX26_tells 8 = .ok (.ifCond .eq 7, 3) := dk_153 0 7 (dk_at dksX26_tells_0 8 rfl rfl)
theorem dX26_tells_11 : decode cX26_tells 11 = .ok (.iconst (-1), 1) := dk_2 (dk_at dksX26_tells_0 11 rfl rfl)
theorem dX26_tells_12 : decode cX26_tells 12 = .ok (.goto 18, 3) := dk_167 0 18 (dk_at dksX26_tells_0 12 rfl rfl)
theorem dX26_tells_15 : decode cX26_tells 15 = .ok (.aload_n 0, 1) := dk_42 (dk_at dksX26_tells_0 15 rfl rfl)
theorem dX26_tells_16 : decode cX26_tells 16 = .ok (.invokevirtual 31, 3) := dk_182 0 31 (dk_at dksX26_tells_0 16 rfl rfl)
theorem dX26_tells_19 : decode cX26_tells 19 = .ok (.goto 11, 3) := dk_167 0 11 (dk_at dksX26_tells_0 19 rfl rfl)
theorem dX26_tells_22 : decode cX26_tells 22 = .ok (.aload_n 0, 1) := dk_42 (dk_at dksX26_tells_0 22 rfl rfl)
theorem dX26_tells_23 : decode cX26_tells 23 = .ok (.iload_n 1, 1) := dk_27 (dk_at dksX26_tells_0 23 rfl rfl)
theorem dX26_tells_24 : decode cX26_tells 24 = .ok (.bipush 10, 2) := dk_16 10 (dk_at dksX26_tells_1 0 rfl rfl)
theorem dX26_tells_26 : decode cX26_tells 26 = .ok (.isub, 1) := dk_100 (dk_at dksX26_tells_1 2 rfl rfl)
theorem dX26_tells_27 : decode cX26_tells 27 = .ok (.invokevirtual 35, 3) := dk_182 0 35 (dk_at dksX26_tells_1 3 rfl rfl)
theorem dX26_tells_30 : decode cX26_tells 30 = .ok (.ireturn, 1) := dk_172 (dk_at dksX26_tells_1 6 rfl rfl)
abbrev cX26_fewestFolds : ByteArray := prog_22_method_6_code
def yX26_fewestFolds : MethodName := ⟨RX26, "fewestFolds", "()I"⟩
theorem dX26_fewestFolds_0 : decode cX26_fewestFolds 0 = .ok (.aload_n 0, 1) := by decide +kernel
theorem dX26_fewestFolds_1 : decode cX26_fewestFolds 1 = .ok (.getfield 39, 3) := by decide +kernel
theorem dX26_fewestFolds_4 : decode cX26_fewestFolds 4 = .ok (.ireturn, 1) := by decide +kernel
theorem q202 : (Jvm.Cond.initialized "NapkinDeeds$Fewest") ∈ lw_all := lw_g (lw_at lw_m1 54 rfl) rfl
theorem q778 : (Jvm.Cond.fieldLinkNest "NapkinDeeds$Fewest" (39 : Nat) "NapkinDeeds$Best" "fewest" "I" "NapkinDeeds") ∈ lw_tbl := lw_at lw_m3 150 rfl
theorem q867 : (Jvm.Cond.instanceMethod ({ cls := "NapkinDeeds$Fewest", name := "sees", desc := "(LNapkinDeeds$Look;II)V" } : Jvm.MethodName)) ∈ lw_all := lw_g (lw_at lw_m3 239 rfl) rfl
theorem q868 : (Jvm.Cond.code ({ cls := "NapkinDeeds$Fewest", name := "sees", desc := "(LNapkinDeeds$Look;II)V" } : Jvm.MethodName) prog_22_method_4_code (4 : Nat) (Option.none : Option Jvm.ClassFile.FieldType)) ∈ lw_all := lw_g (lw_at lw_m4 0 rfl) rfl
theorem q869 : (Jvm.Cond.methodLink "NapkinDeeds$Fewest" (15 : Nat) ({ cls := "NapkinDeeds$Fewest", name := "isSo", desc := "(LNapkinDeeds$Look;I)Z" } : Jvm.MethodName)) ∈ lw_all := lw_g (lw_at lw_m4 1 rfl) rfl
theorem q870 : (Jvm.Cond.declares ({ cls := "NapkinDeeds$Fewest", name := "isSo", desc := "(LNapkinDeeds$Look;I)Z" } : Jvm.MethodName)) ∈ lw_tbl := lw_at lw_m4 2 rfl
theorem q871 : (Jvm.Cond.sameMethod "NapkinDeeds$Fewest" "NapkinDeeds$Fewest" "isSo" "(LNapkinDeeds$Look;I)Z") ∈ lw_all := lw_g (lw_at lw_m4 3 rfl) rfl
theorem q904 : (Jvm.Cond.methodLink "NapkinDeeds$Fewest" (23 : Nat) ({ cls := "NapkinDeeds$Best", name := "sees", desc := "(LNapkinDeeds$Look;II)V" } : Jvm.MethodName)) ∈ lw_all := lw_g (lw_at lw_m4 36 rfl) rfl
theorem q905 : (Jvm.Cond.superclass "NapkinDeeds$Fewest" "NapkinDeeds$Best") ∈ lw_all := lw_g (lw_at lw_m4 37 rfl) rfl
theorem q912 : (Jvm.Cond.instanceMethod ({ cls := "NapkinDeeds$Fewest", name := "value", desc := "(LNapkinDeeds$Look;II)J" } : Jvm.MethodName)) ∈ lw_all := lw_g (lw_at lw_m4 44 rfl) rfl
theorem q913 : (Jvm.Cond.code ({ cls := "NapkinDeeds$Fewest", name := "value", desc := "(LNapkinDeeds$Look;II)J" } : Jvm.MethodName) prog_22_method_3_code (4 : Nat) (Option.some Jvm.ClassFile.FieldType.long)) ∈ lw_all := lw_g (lw_at lw_m4 45 rfl) rfl
theorem q914 : (Jvm.Cond.constantLong "NapkinDeeds$Fewest" (21 : Nat) (-9223372036854775808 : Int64)) ∈ lw_all := lw_g (lw_at lw_m4 46 rfl) rfl
theorem q2198 : (Jvm.Cond.instanceMethod ({ cls := "NapkinDeeds$Fewest", name := "<init>", desc := "(LNapkinDeeds;)V" } : Jvm.MethodName)) ∈ lw_all := lw_g (lw_at lw_m9 130 rfl) rfl
theorem q2199 : (Jvm.Cond.code ({ cls := "NapkinDeeds$Fewest", name := "<init>", desc := "(LNapkinDeeds;)V" } : Jvm.MethodName) prog_22_method_1_code (2 : Nat) (Option.none : Option Jvm.ClassFile.FieldType)) ∈ lw_all := lw_g (lw_at lw_m9 131 rfl) rfl
theorem q2200 : (Jvm.Cond.methodLinkNest "NapkinDeeds$Fewest" (9 : Nat) ({ cls := "NapkinDeeds$Best", name := "<init>", desc := "(LNapkinDeeds;)V" } : Jvm.MethodName) "NapkinDeeds") ∈ lw_tbl := lw_at lw_m9 132 rfl
theorem q2202 : (Jvm.Cond.fieldLink "NapkinDeeds$Fewest" (3 : Nat) "NapkinDeeds$Fewest" "this$0" "LNapkinDeeds;") ∈ lw_all := lw_g (lw_at lw_m9 134 rfl) rfl
theorem q2206 : (Jvm.Cond.soleField "NapkinDeeds$Fewest" "this$0") ∈ lw_all := lw_g (lw_at lw_m9 138 rfl) rfl
theorem q2215 : (Jvm.Cond.sameMethod "NapkinDeeds$Fewest" "NapkinDeeds$Rows" "seeks" "(ZI)LNapkinDeeds$Rows;") ∈ lw_all := lw_g (lw_at lw_m9 147 rfl) rfl
theorem q2221 : (Jvm.Cond.instanceMethod ({ cls := "NapkinDeeds$Fewest", name := "tells", desc := "(I)I" } : Jvm.MethodName)) ∈ lw_all := lw_g (lw_at lw_m9 153 rfl) rfl
theorem q2222 : (Jvm.Cond.sameMethod "NapkinDeeds$Fewest" "NapkinDeeds$Fewest" "tells" "(I)I") ∈ lw_all := lw_g (lw_at lw_m9 154 rfl) rfl
theorem q2227 : (Jvm.Cond.code ({ cls := "NapkinDeeds$Fewest", name := "tells", desc := "(I)I" } : Jvm.MethodName) prog_22_method_5_code (2 : Nat) (Option.some Jvm.ClassFile.FieldType.int)) ∈ lw_all := lw_g (lw_at lw_m9 159 rfl) rfl
theorem q2228 : (Jvm.Cond.methodLink "NapkinDeeds$Fewest" (27 : Nat) ({ cls := "NapkinDeeds$Fewest", name := "isNone", desc := "()Z" } : Jvm.MethodName)) ∈ lw_all := lw_g (lw_at lw_m9 160 rfl) rfl
theorem q2229 : (Jvm.Cond.sameMethod "NapkinDeeds$Fewest" "NapkinDeeds$Best" "isNone" "()Z") ∈ lw_all := lw_g (lw_at lw_m9 161 rfl) rfl
theorem q2235 : (Jvm.Cond.methodLink "NapkinDeeds$Fewest" (31 : Nat) ({ cls := "NapkinDeeds$Fewest", name := "fewestFolds", desc := "()I" } : Jvm.MethodName)) ∈ lw_all := lw_g (lw_at lw_m9 167 rfl) rfl
theorem q2236 : (Jvm.Cond.instanceMethod ({ cls := "NapkinDeeds$Fewest", name := "fewestFolds", desc := "()I" } : Jvm.MethodName)) ∈ lw_all := lw_g (lw_at lw_m9 168 rfl) rfl
theorem q2237 : (Jvm.Cond.sameMethod "NapkinDeeds$Fewest" "NapkinDeeds$Fewest" "fewestFolds" "()I") ∈ lw_all := lw_g (lw_at lw_m9 169 rfl) rfl
theorem q2242 : (Jvm.Cond.code ({ cls := "NapkinDeeds$Fewest", name := "fewestFolds", desc := "()I" } : Jvm.MethodName) prog_22_method_6_code (1 : Nat) (Option.some Jvm.ClassFile.FieldType.int)) ∈ lw_all := lw_g (lw_at lw_m9 174 rfl) rfl
theorem q2243 : (Jvm.Cond.methodLink "NapkinDeeds$Fewest" (35 : Nat) ({ cls := "NapkinDeeds$Fewest", name := "fold", desc := "(I)I" } : Jvm.MethodName)) ∈ lw_all := lw_g (lw_at lw_m9 175 rfl) rfl
theorem q2244 : (Jvm.Cond.sameMethod "NapkinDeeds$Fewest" "NapkinDeeds$Best" "fold" "(I)I") ∈ lw_all := lw_g (lw_at lw_m9 176 rfl) rfl
/-! NapkinDeeds$3 -/
set_option maxRecDepth 100000
def RX27 : String := "NapkinDeeds$3"
def TX27 : u_T := fun k => match k with
  | 0 => ("NapkinDeeds$Best", "best", "[I", true)
  | 1 => ("NapkinDeeds$Best", "fewest", "I", false)
  | 2 => ("NapkinDeeds$Best", "most", "J", false)
  | 3 => ("NapkinDeeds$Best", "this$0", "LNapkinDeeds;", true)
  | 4 => ("NapkinDeeds$Rows", "row", "[I", true)
  | 5 => ("NapkinDeeds$Rows", "this$0", "LNapkinDeeds;", true)
  | 6 => ("NapkinDeeds$Fewest", "this$0", "LNapkinDeeds;", true)
  | _ => ("NapkinDeeds$3", "this$0", "LNapkinDeeds;", true)
def tyX27 : Nat → FieldType := fun k => match k with
  | 0 => .array .int
  | 1 => .int
  | 2 => .long
  | 3 => .object "NapkinDeeds"
  | 4 => .array .int
  | 5 => .object "NapkinDeeds"
  | 6 => .object "NapkinDeeds"
  | _ => .object "NapkinDeeds"
abbrev wsX270 : List Cond := u_ws RX27 TX27 8
-- two fields of one name: no nmX27
theorem tyX27_ok : ∀ k, k < 8 → parseFieldDescriptor (TX27 k).2.2.1 = some (tyX27 k) := by decide +kernel
abbrev cX27_isSo : ByteArray := prog_9_method_2_code
def yX27_isSo : MethodName := ⟨RX27, "isSo", "(LNapkinDeeds$Look;I)Z"⟩
def dkwX27_isSo_0 : List UInt8 := [42, 180, 0, 1, 43, 28, 182, 0, 13, 172]
abbrev dktX27_isSo_0 : List UInt8 := dkwX27_isSo_0 ++ []
theorem dksX27_isSo_0 : cX27_isSo.data.toList.drop 0 = dktX27_isSo_0 := by decide +kernel
theorem dX27_isSo_0 : decode cX27_isSo 0 = .ok (.aload_n 0, 1) := dk_42 (dk_at dksX27_isSo_0 0 rfl rfl)
theorem dX27_isSo_1 : decode cX27_isSo 1 = .ok (.getfield 1, 3) := dk_180 0 1 (dk_at dksX27_isSo_0 1 rfl rfl)
theorem dX27_isSo_4 : decode cX27_isSo 4 = .ok (.aload_n 1, 1) := dk_43 (dk_at dksX27_isSo_0 4 rfl rfl)
theorem dX27_isSo_5 : decode cX27_isSo 5 = .ok (.iload_n 2, 1) := dk_28 (dk_at dksX27_isSo_0 5 rfl rfl)
theorem dX27_isSo_6 : decode cX27_isSo 6 = .ok (.invokevirtual 13, 3) := dk_182 0 13 (dk_at dksX27_isSo_0 6 rfl rfl)
theorem dX27_isSo_9 : decode cX27_isSo 9 = .ok (.ireturn, 1) := dk_172 (dk_at dksX27_isSo_0 9 rfl rfl)
abbrev cX27_init : ByteArray := prog_9_method_1_code
def yX27_init : MethodName := ⟨RX27, "<init>", "(LNapkinDeeds;)V"⟩
def dkwX27_init_0 : List UInt8 := [42, 43, 181, 0, 1, 42, 43, 183, 0, 7, 177]
abbrev dktX27_init_0 : List UInt8 := dkwX27_init_0 ++ []
theorem dksX27_init_0 : cX27_init.data.toList.drop 0 = dktX27_init_0 := by decide +kernel
theorem dX27_init_0 : decode cX27_init 0 = .ok (.aload_n 0, 1) := dk_42 (dk_at dksX27_init_0 0 rfl rfl)
theorem dX27_init_1 : decode cX27_init 1 = .ok (.aload_n 1, 1) := dk_43 (dk_at dksX27_init_0 1 rfl rfl)
theorem dX27_init_2 : decode cX27_init 2 = .ok (.putfield 1, 3) := dk_181 0 1 (dk_at dksX27_init_0 2 rfl rfl)
theorem dX27_init_5 : decode cX27_init 5 = .ok (.aload_n 0, 1) := dk_42 (dk_at dksX27_init_0 5 rfl rfl)
theorem dX27_init_6 : decode cX27_init 6 = .ok (.aload_n 1, 1) := dk_43 (dk_at dksX27_init_0 6 rfl rfl)
theorem dX27_init_7 : decode cX27_init 7 = .ok (.invokespecial 7, 3) := dk_183 0 7 (dk_at dksX27_init_0 7 rfl rfl)
theorem dX27_init_10 : decode cX27_init 10 = .ok (.return_, 1) := dk_177 (dk_at dksX27_init_0 10 rfl rfl)
theorem q203 : (Jvm.Cond.initialized "NapkinDeeds$3") ∈ lw_all := lw_g (lw_at lw_m1 55 rfl) rfl
theorem q699 : (Jvm.Cond.selects "NapkinDeeds$3" ({ cls := "java/lang/Object", name := "getClass", desc := "()Ljava/lang/Class;" } : Jvm.MethodName) ({ cls := "java/lang/Object", name := "getClass", desc := "()Ljava/lang/Class;" } : Jvm.MethodName)) ∈ lw_all := lw_g (lw_at lw_m3 71 rfl) rfl
theorem q808 : (Jvm.Cond.selects "NapkinDeeds$3" ({ cls := "NapkinDeeds$Best", name := "seeks", desc := "(ZI)LNapkinDeeds$Rows;" } : Jvm.MethodName) ({ cls := "NapkinDeeds$Rows", name := "seeks", desc := "(ZI)LNapkinDeeds$Rows;" } : Jvm.MethodName)) ∈ lw_all := lw_g (lw_at lw_m3 180 rfl) rfl
theorem q877 : (Jvm.Cond.selects "NapkinDeeds$3" ({ cls := "NapkinDeeds$Fewest", name := "isSo", desc := "(LNapkinDeeds$Look;I)Z" } : Jvm.MethodName) ({ cls := "NapkinDeeds$3", name := "isSo", desc := "(LNapkinDeeds$Look;I)Z" } : Jvm.MethodName)) ∈ lw_all := lw_g (lw_at lw_m4 9 rfl) rfl
theorem q878 : (Jvm.Cond.instanceMethod ({ cls := "NapkinDeeds$3", name := "isSo", desc := "(LNapkinDeeds$Look;I)Z" } : Jvm.MethodName)) ∈ lw_all := lw_g (lw_at lw_m4 10 rfl) rfl
theorem q879 : (Jvm.Cond.code ({ cls := "NapkinDeeds$3", name := "isSo", desc := "(LNapkinDeeds$Look;I)Z" } : Jvm.MethodName) prog_9_method_2_code (3 : Nat) (Option.some Jvm.ClassFile.FieldType.boolean)) ∈ lw_all := lw_g (lw_at lw_m4 11 rfl) rfl
theorem q880 : (Jvm.Cond.methodLinkNest "NapkinDeeds$3" (13 : Nat) ({ cls := "NapkinDeeds", name := "holds", desc := "(LNapkinDeeds$Look;I)Z" } : Jvm.MethodName) "NapkinDeeds") ∈ lw_tbl := lw_at lw_m4 12 rfl
theorem q949 : (Jvm.Cond.selects "NapkinDeeds$3" ({ cls := "NapkinDeeds$Best", name := "value", desc := "(LNapkinDeeds$Look;II)J" } : Jvm.MethodName) ({ cls := "NapkinDeeds$Fewest", name := "value", desc := "(LNapkinDeeds$Look;II)J" } : Jvm.MethodName)) ∈ lw_all := lw_g (lw_at lw_m4 81 rfl) rfl
theorem q1006 : (Jvm.Cond.selects "NapkinDeeds$3" ({ cls := "NapkinDeeds$Rows", name := "sees", desc := "(LNapkinDeeds$Look;II)V" } : Jvm.MethodName) ({ cls := "NapkinDeeds$Fewest", name := "sees", desc := "(LNapkinDeeds$Look;II)V" } : Jvm.MethodName)) ∈ lw_all := lw_g (lw_at lw_m4 138 rfl) rfl
theorem q1028 : (Jvm.Cond.selects "NapkinDeeds$3" ({ cls := "NapkinDeeds$Best", name := "fold", desc := "(I)I" } : Jvm.MethodName) ({ cls := "NapkinDeeds$Best", name := "fold", desc := "(I)I" } : Jvm.MethodName)) ∈ lw_all := lw_g (lw_at lw_m4 160 rfl) rfl
theorem q1039 : (Jvm.Cond.selects "NapkinDeeds$3" ({ cls := "NapkinDeeds$Best", name := "isNone", desc := "()Z" } : Jvm.MethodName) ({ cls := "NapkinDeeds$Best", name := "isNone", desc := "()Z" } : Jvm.MethodName)) ∈ lw_all := lw_g (lw_at lw_m4 171 rfl) rfl
theorem q2193 : (Jvm.Cond.instantiable "NapkinDeeds$3" (8 : Nat)) ∈ lw_all := lw_g (lw_at lw_m9 125 rfl) rfl
theorem q2195 : (Jvm.Cond.instanceMethod ({ cls := "NapkinDeeds$3", name := "<init>", desc := "(LNapkinDeeds;)V" } : Jvm.MethodName)) ∈ lw_all := lw_g (lw_at lw_m9 127 rfl) rfl
theorem q2196 : (Jvm.Cond.code ({ cls := "NapkinDeeds$3", name := "<init>", desc := "(LNapkinDeeds;)V" } : Jvm.MethodName) prog_9_method_1_code (2 : Nat) (Option.none : Option Jvm.ClassFile.FieldType)) ∈ lw_all := lw_g (lw_at lw_m9 128 rfl) rfl
theorem q2197 : (Jvm.Cond.methodLinkNest "NapkinDeeds$3" (7 : Nat) ({ cls := "NapkinDeeds$Fewest", name := "<init>", desc := "(LNapkinDeeds;)V" } : Jvm.MethodName) "NapkinDeeds") ∈ lw_tbl := lw_at lw_m9 129 rfl
theorem q2201 : (Jvm.Cond.fieldLink "NapkinDeeds$3" (1 : Nat) "NapkinDeeds$3" "this$0" "LNapkinDeeds;") ∈ lw_all := lw_g (lw_at lw_m9 133 rfl) rfl
theorem q2203 : (Jvm.Cond.laysFinal "NapkinDeeds$3" "NapkinDeeds$3" "this$0" "LNapkinDeeds;") ∈ lw_all := lw_g (lw_at lw_m9 135 rfl) rfl
theorem q2204 : (Jvm.Cond.soleField "NapkinDeeds$3" "this$0") ∈ lw_all := lw_g (lw_at lw_m9 136 rfl) rfl
theorem q2205 : (Jvm.Cond.laysFinal "NapkinDeeds$3" "NapkinDeeds$Fewest" "this$0" "LNapkinDeeds;") ∈ lw_all := lw_g (lw_at lw_m9 137 rfl) rfl
theorem q2207 : (Jvm.Cond.laysFinal "NapkinDeeds$3" "NapkinDeeds$Best" "best" "[I") ∈ lw_all := lw_g (lw_at lw_m9 139 rfl) rfl
theorem q2208 : (Jvm.Cond.lays "NapkinDeeds$3" "NapkinDeeds$Best" "fewest" "I") ∈ lw_all := lw_g (lw_at lw_m9 140 rfl) rfl
theorem q2209 : (Jvm.Cond.lays "NapkinDeeds$3" "NapkinDeeds$Best" "most" "J") ∈ lw_all := lw_g (lw_at lw_m9 141 rfl) rfl
theorem q2210 : (Jvm.Cond.laysFinal "NapkinDeeds$3" "NapkinDeeds$Best" "this$0" "LNapkinDeeds;") ∈ lw_all := lw_g (lw_at lw_m9 142 rfl) rfl
theorem q2211 : (Jvm.Cond.laysFinal "NapkinDeeds$3" "NapkinDeeds$Rows" "row" "[I") ∈ lw_all := lw_g (lw_at lw_m9 143 rfl) rfl
theorem q2212 : (Jvm.Cond.laysFinal "NapkinDeeds$3" "NapkinDeeds$Rows" "this$0" "LNapkinDeeds;") ∈ lw_all := lw_g (lw_at lw_m9 144 rfl) rfl
theorem q2213 : (Jvm.Cond.superclass "NapkinDeeds$3" "NapkinDeeds$Fewest") ∈ lw_all := lw_g (lw_at lw_m9 145 rfl) rfl
theorem q2217 : (Jvm.Cond.selects "NapkinDeeds$3" ({ cls := "NapkinDeeds$Fewest", name := "seeks", desc := "(ZI)LNapkinDeeds$Rows;" } : Jvm.MethodName) ({ cls := "NapkinDeeds$Rows", name := "seeks", desc := "(ZI)LNapkinDeeds$Rows;" } : Jvm.MethodName)) ∈ lw_all := lw_g (lw_at lw_m9 149 rfl) rfl
theorem q2224 : (Jvm.Cond.selects "NapkinDeeds$3" ({ cls := "NapkinDeeds$Fewest", name := "tells", desc := "(I)I" } : Jvm.MethodName) ({ cls := "NapkinDeeds$Fewest", name := "tells", desc := "(I)I" } : Jvm.MethodName)) ∈ lw_all := lw_g (lw_at lw_m9 156 rfl) rfl
theorem q2232 : (Jvm.Cond.selects "NapkinDeeds$3" ({ cls := "NapkinDeeds$Fewest", name := "isNone", desc := "()Z" } : Jvm.MethodName) ({ cls := "NapkinDeeds$Best", name := "isNone", desc := "()Z" } : Jvm.MethodName)) ∈ lw_all := lw_g (lw_at lw_m9 164 rfl) rfl
theorem q2239 : (Jvm.Cond.selects "NapkinDeeds$3" ({ cls := "NapkinDeeds$Fewest", name := "fewestFolds", desc := "()I" } : Jvm.MethodName) ({ cls := "NapkinDeeds$Fewest", name := "fewestFolds", desc := "()I" } : Jvm.MethodName)) ∈ lw_all := lw_g (lw_at lw_m9 171 rfl) rfl
theorem q2247 : (Jvm.Cond.selects "NapkinDeeds$3" ({ cls := "NapkinDeeds$Fewest", name := "fold", desc := "(I)I" } : Jvm.MethodName) ({ cls := "NapkinDeeds$Best", name := "fold", desc := "(I)I" } : Jvm.MethodName)) ∈ lw_all := lw_g (lw_at lw_m9 179 rfl) rfl
theorem q3529 : (Jvm.Cond.castable "NapkinDeeds$3" "java/lang/Object") ∈ lw_tbl := lw_at lw_m15 21 rfl
theorem in_X27 : ∀ w ∈ wsX270, w ∈ lw_all := lw_in wsX270 [2207, 2208, 2209, 2210, 2211, 2212, 2205, 2203] (by decide +kernel) (by decide +kernel)
/-! NapkinDeeds$4 -/
set_option maxRecDepth 100000
def RX28 : String := "NapkinDeeds$4"
def TX28 : u_T := fun k => match k with
  | 0 => ("NapkinDeeds$Unlike", "many", "I", false)
  | 1 => ("NapkinDeeds$Unlike", "this$0", "LNapkinDeeds;", true)
  | 2 => ("NapkinDeeds$Rows", "row", "[I", true)
  | 3 => ("NapkinDeeds$Rows", "this$0", "LNapkinDeeds;", true)
  | _ => ("NapkinDeeds$4", "this$0", "LNapkinDeeds;", true)
def tyX28 : Nat → FieldType := fun k => match k with
  | 0 => .int
  | 1 => .object "NapkinDeeds"
  | 2 => .array .int
  | 3 => .object "NapkinDeeds"
  | _ => .object "NapkinDeeds"
abbrev wsX280 : List Cond := u_ws RX28 TX28 5
-- two fields of one name: no nmX28
theorem tyX28_ok : ∀ k, k < 5 → parseFieldDescriptor (TX28 k).2.2.1 = some (tyX28 k) := by decide +kernel
abbrev cX28_isSo : ByteArray := prog_10_method_2_code
def yX28_isSo : MethodName := ⟨RX28, "isSo", "(LNapkinDeeds$Look;I)Z"⟩
def dkwX28_isSo_0 : List UInt8 := [42, 180, 0, 1, 43, 28, 182, 0, 13, 172]
abbrev dktX28_isSo_0 : List UInt8 := dkwX28_isSo_0 ++ []
theorem dksX28_isSo_0 : cX28_isSo.data.toList.drop 0 = dktX28_isSo_0 := by decide +kernel
theorem dX28_isSo_0 : decode cX28_isSo 0 = .ok (.aload_n 0, 1) := dk_42 (dk_at dksX28_isSo_0 0 rfl rfl)
theorem dX28_isSo_1 : decode cX28_isSo 1 = .ok (.getfield 1, 3) := dk_180 0 1 (dk_at dksX28_isSo_0 1 rfl rfl)
theorem dX28_isSo_4 : decode cX28_isSo 4 = .ok (.aload_n 1, 1) := dk_43 (dk_at dksX28_isSo_0 4 rfl rfl)
theorem dX28_isSo_5 : decode cX28_isSo 5 = .ok (.iload_n 2, 1) := dk_28 (dk_at dksX28_isSo_0 5 rfl rfl)
theorem dX28_isSo_6 : decode cX28_isSo 6 = .ok (.invokevirtual 13, 3) := dk_182 0 13 (dk_at dksX28_isSo_0 6 rfl rfl)
theorem dX28_isSo_9 : decode cX28_isSo 9 = .ok (.ireturn, 1) := dk_172 (dk_at dksX28_isSo_0 9 rfl rfl)
abbrev cX28_init : ByteArray := prog_10_method_1_code
def yX28_init : MethodName := ⟨RX28, "<init>", "(LNapkinDeeds;)V"⟩
def dkwX28_init_0 : List UInt8 := [42, 43, 181, 0, 1, 42, 43, 183, 0, 7, 177]
abbrev dktX28_init_0 : List UInt8 := dkwX28_init_0 ++ []
theorem dksX28_init_0 : cX28_init.data.toList.drop 0 = dktX28_init_0 := by decide +kernel
theorem dX28_init_0 : decode cX28_init 0 = .ok (.aload_n 0, 1) := dk_42 (dk_at dksX28_init_0 0 rfl rfl)
theorem dX28_init_1 : decode cX28_init 1 = .ok (.aload_n 1, 1) := dk_43 (dk_at dksX28_init_0 1 rfl rfl)
theorem dX28_init_2 : decode cX28_init 2 = .ok (.putfield 1, 3) := dk_181 0 1 (dk_at dksX28_init_0 2 rfl rfl)
theorem dX28_init_5 : decode cX28_init 5 = .ok (.aload_n 0, 1) := dk_42 (dk_at dksX28_init_0 5 rfl rfl)
theorem dX28_init_6 : decode cX28_init 6 = .ok (.aload_n 1, 1) := dk_43 (dk_at dksX28_init_0 6 rfl rfl)
theorem dX28_init_7 : decode cX28_init 7 = .ok (.invokespecial 7, 3) := dk_183 0 7 (dk_at dksX28_init_0 7 rfl rfl)
theorem dX28_init_10 : decode cX28_init 10 = .ok (.return_, 1) := dk_177 (dk_at dksX28_init_0 10 rfl rfl)
theorem q204 : (Jvm.Cond.initialized "NapkinDeeds$4") ∈ lw_all := lw_g (lw_at lw_m1 56 rfl) rfl
theorem q700 : (Jvm.Cond.selects "NapkinDeeds$4" ({ cls := "java/lang/Object", name := "getClass", desc := "()Ljava/lang/Class;" } : Jvm.MethodName) ({ cls := "java/lang/Object", name := "getClass", desc := "()Ljava/lang/Class;" } : Jvm.MethodName)) ∈ lw_all := lw_g (lw_at lw_m3 72 rfl) rfl
theorem q973 : (Jvm.Cond.selects "NapkinDeeds$4" ({ cls := "NapkinDeeds$Unlike", name := "isSo", desc := "(LNapkinDeeds$Look;I)Z" } : Jvm.MethodName) ({ cls := "NapkinDeeds$4", name := "isSo", desc := "(LNapkinDeeds$Look;I)Z" } : Jvm.MethodName)) ∈ lw_all := lw_g (lw_at lw_m4 105 rfl) rfl
theorem q974 : (Jvm.Cond.instanceMethod ({ cls := "NapkinDeeds$4", name := "isSo", desc := "(LNapkinDeeds$Look;I)Z" } : Jvm.MethodName)) ∈ lw_all := lw_g (lw_at lw_m4 106 rfl) rfl
theorem q975 : (Jvm.Cond.code ({ cls := "NapkinDeeds$4", name := "isSo", desc := "(LNapkinDeeds$Look;I)Z" } : Jvm.MethodName) prog_10_method_2_code (3 : Nat) (Option.some Jvm.ClassFile.FieldType.boolean)) ∈ lw_all := lw_g (lw_at lw_m4 107 rfl) rfl
theorem q976 : (Jvm.Cond.methodLinkNest "NapkinDeeds$4" (13 : Nat) ({ cls := "NapkinDeeds", name := "holds", desc := "(LNapkinDeeds$Look;I)Z" } : Jvm.MethodName) "NapkinDeeds") ∈ lw_tbl := lw_at lw_m4 108 rfl
theorem q990 : (Jvm.Cond.selects "NapkinDeeds$4" ({ cls := "NapkinDeeds$Unlike", name := "code", desc := "(LNapkinDeeds$Look;)J" } : Jvm.MethodName) ({ cls := "NapkinDeeds$Unlike", name := "code", desc := "(LNapkinDeeds$Look;)J" } : Jvm.MethodName)) ∈ lw_all := lw_g (lw_at lw_m4 122 rfl) rfl
theorem q1007 : (Jvm.Cond.selects "NapkinDeeds$4" ({ cls := "NapkinDeeds$Rows", name := "sees", desc := "(LNapkinDeeds$Look;II)V" } : Jvm.MethodName) ({ cls := "NapkinDeeds$Unlike", name := "sees", desc := "(LNapkinDeeds$Look;II)V" } : Jvm.MethodName)) ∈ lw_all := lw_g (lw_at lw_m4 139 rfl) rfl
theorem q1090 : (Jvm.Cond.selects "NapkinDeeds$4" ({ cls := "NapkinDeeds$Unlike", name := "seeks", desc := "(ZI)LNapkinDeeds$Rows;" } : Jvm.MethodName) ({ cls := "NapkinDeeds$Rows", name := "seeks", desc := "(ZI)LNapkinDeeds$Rows;" } : Jvm.MethodName)) ∈ lw_all := lw_g (lw_at lw_m4 222 rfl) rfl
theorem q1098 : (Jvm.Cond.selects "NapkinDeeds$4" ({ cls := "NapkinDeeds$Unlike", name := "unlike", desc := "()I" } : Jvm.MethodName) ({ cls := "NapkinDeeds$Unlike", name := "unlike", desc := "()I" } : Jvm.MethodName)) ∈ lw_all := lw_g (lw_at lw_m4 230 rfl) rfl
theorem q2258 : (Jvm.Cond.instantiable "NapkinDeeds$4" (5 : Nat)) ∈ lw_all := lw_g (lw_at lw_m9 190 rfl) rfl
theorem q2260 : (Jvm.Cond.instanceMethod ({ cls := "NapkinDeeds$4", name := "<init>", desc := "(LNapkinDeeds;)V" } : Jvm.MethodName)) ∈ lw_all := lw_g (lw_at lw_m9 192 rfl) rfl
theorem q2261 : (Jvm.Cond.code ({ cls := "NapkinDeeds$4", name := "<init>", desc := "(LNapkinDeeds;)V" } : Jvm.MethodName) prog_10_method_1_code (2 : Nat) (Option.none : Option Jvm.ClassFile.FieldType)) ∈ lw_all := lw_g (lw_at lw_m9 193 rfl) rfl
theorem q2262 : (Jvm.Cond.methodLinkNest "NapkinDeeds$4" (7 : Nat) ({ cls := "NapkinDeeds$Unlike", name := "<init>", desc := "(LNapkinDeeds;)V" } : Jvm.MethodName) "NapkinDeeds") ∈ lw_tbl := lw_at lw_m9 194 rfl
theorem q2263 : (Jvm.Cond.fieldLink "NapkinDeeds$4" (1 : Nat) "NapkinDeeds$4" "this$0" "LNapkinDeeds;") ∈ lw_all := lw_g (lw_at lw_m9 195 rfl) rfl
theorem q2264 : (Jvm.Cond.laysFinal "NapkinDeeds$4" "NapkinDeeds$4" "this$0" "LNapkinDeeds;") ∈ lw_all := lw_g (lw_at lw_m9 196 rfl) rfl
theorem q2265 : (Jvm.Cond.soleField "NapkinDeeds$4" "this$0") ∈ lw_all := lw_g (lw_at lw_m9 197 rfl) rfl
theorem q2266 : (Jvm.Cond.lays "NapkinDeeds$4" "NapkinDeeds$Unlike" "many" "I") ∈ lw_all := lw_g (lw_at lw_m9 198 rfl) rfl
theorem q2267 : (Jvm.Cond.laysFinal "NapkinDeeds$4" "NapkinDeeds$Unlike" "this$0" "LNapkinDeeds;") ∈ lw_all := lw_g (lw_at lw_m9 199 rfl) rfl
theorem q2268 : (Jvm.Cond.laysFinal "NapkinDeeds$4" "NapkinDeeds$Rows" "row" "[I") ∈ lw_all := lw_g (lw_at lw_m9 200 rfl) rfl
theorem q2269 : (Jvm.Cond.laysFinal "NapkinDeeds$4" "NapkinDeeds$Rows" "this$0" "LNapkinDeeds;") ∈ lw_all := lw_g (lw_at lw_m9 201 rfl) rfl
theorem q2270 : (Jvm.Cond.superclass "NapkinDeeds$4" "NapkinDeeds$Unlike") ∈ lw_all := lw_g (lw_at lw_m9 202 rfl) rfl
theorem q3530 : (Jvm.Cond.castable "NapkinDeeds$4" "java/lang/Object") ∈ lw_tbl := lw_at lw_m15 22 rfl
theorem in_X28 : ∀ w ∈ wsX280, w ∈ lw_all := lw_in wsX280 [2266, 2267, 2268, 2269, 2264] (by decide +kernel) (by decide +kernel)
/-! NapkinDeeds$5 -/
set_option maxRecDepth 100000
def RX29 : String := "NapkinDeeds$5"
def TX29 : u_T := fun k => match k with
  | 0 => ("NapkinDeeds$Best", "best", "[I", true)
  | 1 => ("NapkinDeeds$Best", "fewest", "I", false)
  | 2 => ("NapkinDeeds$Best", "most", "J", false)
  | 3 => ("NapkinDeeds$Best", "this$0", "LNapkinDeeds;", true)
  | 4 => ("NapkinDeeds$Rows", "row", "[I", true)
  | 5 => ("NapkinDeeds$Rows", "this$0", "LNapkinDeeds;", true)
  | _ => ("NapkinDeeds$5", "this$0", "LNapkinDeeds;", true)
def tyX29 : Nat → FieldType := fun k => match k with
  | 0 => .array .int
  | 1 => .int
  | 2 => .long
  | 3 => .object "NapkinDeeds"
  | 4 => .array .int
  | 5 => .object "NapkinDeeds"
  | _ => .object "NapkinDeeds"
abbrev wsX290 : List Cond := u_ws RX29 TX29 7
-- two fields of one name: no nmX29
theorem tyX29_ok : ∀ k, k < 7 → parseFieldDescriptor (TX29 k).2.2.1 = some (tyX29 k) := by decide +kernel
abbrev cX29_init : ByteArray := prog_11_method_1_code
def yX29_init : MethodName := ⟨RX29, "<init>", "(LNapkinDeeds;)V"⟩
def dkwX29_init_0 : List UInt8 := [42, 43, 181, 0, 1, 42, 43, 183, 0, 7, 177]
abbrev dktX29_init_0 : List UInt8 := dkwX29_init_0 ++ []
theorem dksX29_init_0 : cX29_init.data.toList.drop 0 = dktX29_init_0 := by decide +kernel
theorem dX29_init_0 : decode cX29_init 0 = .ok (.aload_n 0, 1) := dk_42 (dk_at dksX29_init_0 0 rfl rfl)
theorem dX29_init_1 : decode cX29_init 1 = .ok (.aload_n 1, 1) := dk_43 (dk_at dksX29_init_0 1 rfl rfl)
theorem dX29_init_2 : decode cX29_init 2 = .ok (.putfield 1, 3) := dk_181 0 1 (dk_at dksX29_init_0 2 rfl rfl)
theorem dX29_init_5 : decode cX29_init 5 = .ok (.aload_n 0, 1) := dk_42 (dk_at dksX29_init_0 5 rfl rfl)
theorem dX29_init_6 : decode cX29_init 6 = .ok (.aload_n 1, 1) := dk_43 (dk_at dksX29_init_0 6 rfl rfl)
theorem dX29_init_7 : decode cX29_init 7 = .ok (.invokespecial 7, 3) := dk_183 0 7 (dk_at dksX29_init_0 7 rfl rfl)
theorem dX29_init_10 : decode cX29_init 10 = .ok (.return_, 1) := dk_177 (dk_at dksX29_init_0 10 rfl rfl)
abbrev cX29_value : ByteArray := prog_11_method_2_code
def yX29_value : MethodName := ⟨RX29, "value", "(LNapkinDeeds$Look;II)J"⟩
def dkwX29_value_0 : List UInt8 := [42, 180, 0, 1, 43, 29, 182, 0, 13, 133, 173]
abbrev dktX29_value_0 : List UInt8 := dkwX29_value_0 ++ []
theorem dksX29_value_0 : cX29_value.data.toList.drop 0 = dktX29_value_0 := by decide +kernel
theorem dX29_value_0 : decode cX29_value 0 = .ok (.aload_n 0, 1) := dk_42 (dk_at dksX29_value_0 0 rfl rfl)
theorem dX29_value_1 : decode cX29_value 1 = .ok (.getfield 1, 3) := dk_180 0 1 (dk_at dksX29_value_0 1 rfl rfl)
theorem dX29_value_4 : decode cX29_value 4 = .ok (.aload_n 1, 1) := dk_43 (dk_at dksX29_value_0 4 rfl rfl)
theorem dX29_value_5 : decode cX29_value 5 = .ok (.iload_n 3, 1) := dk_29 (dk_at dksX29_value_0 5 rfl rfl)
theorem dX29_value_6 : decode cX29_value 6 = .ok (.invokevirtual 13, 3) := dk_182 0 13 (dk_at dksX29_value_0 6 rfl rfl)
theorem dX29_value_9 : decode cX29_value 9 = .ok (.i2l, 1) := dk_133 (dk_at dksX29_value_0 9 rfl rfl)
theorem dX29_value_10 : decode cX29_value 10 = .ok (.lreturn, 1) := dk_173 (dk_at dksX29_value_0 10 rfl rfl)
theorem q205 : (Jvm.Cond.initialized "NapkinDeeds$5") ∈ lw_all := lw_g (lw_at lw_m1 57 rfl) rfl
theorem q701 : (Jvm.Cond.selects "NapkinDeeds$5" ({ cls := "java/lang/Object", name := "getClass", desc := "()Ljava/lang/Class;" } : Jvm.MethodName) ({ cls := "java/lang/Object", name := "getClass", desc := "()Ljava/lang/Class;" } : Jvm.MethodName)) ∈ lw_all := lw_g (lw_at lw_m3 73 rfl) rfl
theorem q763 : (Jvm.Cond.instantiable "NapkinDeeds$5" (7 : Nat)) ∈ lw_all := lw_g (lw_at lw_m3 135 rfl) rfl
theorem q765 : (Jvm.Cond.instanceMethod ({ cls := "NapkinDeeds$5", name := "<init>", desc := "(LNapkinDeeds;)V" } : Jvm.MethodName)) ∈ lw_all := lw_g (lw_at lw_m3 137 rfl) rfl
theorem q766 : (Jvm.Cond.code ({ cls := "NapkinDeeds$5", name := "<init>", desc := "(LNapkinDeeds;)V" } : Jvm.MethodName) prog_11_method_1_code (2 : Nat) (Option.none : Option Jvm.ClassFile.FieldType)) ∈ lw_all := lw_g (lw_at lw_m3 138 rfl) rfl
theorem q767 : (Jvm.Cond.methodLinkNest "NapkinDeeds$5" (7 : Nat) ({ cls := "NapkinDeeds$Best", name := "<init>", desc := "(LNapkinDeeds;)V" } : Jvm.MethodName) "NapkinDeeds") ∈ lw_tbl := lw_at lw_m3 139 rfl
theorem q775 : (Jvm.Cond.fieldLink "NapkinDeeds$5" (1 : Nat) "NapkinDeeds$5" "this$0" "LNapkinDeeds;") ∈ lw_all := lw_g (lw_at lw_m3 147 rfl) rfl
theorem q787 : (Jvm.Cond.laysFinal "NapkinDeeds$5" "NapkinDeeds$5" "this$0" "LNapkinDeeds;") ∈ lw_all := lw_g (lw_at lw_m3 159 rfl) rfl
theorem q788 : (Jvm.Cond.soleField "NapkinDeeds$5" "this$0") ∈ lw_all := lw_g (lw_at lw_m3 160 rfl) rfl
theorem q789 : (Jvm.Cond.laysFinal "NapkinDeeds$5" "NapkinDeeds$Best" "best" "[I") ∈ lw_all := lw_g (lw_at lw_m3 161 rfl) rfl
theorem q791 : (Jvm.Cond.lays "NapkinDeeds$5" "NapkinDeeds$Best" "fewest" "I") ∈ lw_all := lw_g (lw_at lw_m3 163 rfl) rfl
theorem q793 : (Jvm.Cond.lays "NapkinDeeds$5" "NapkinDeeds$Best" "most" "J") ∈ lw_all := lw_g (lw_at lw_m3 165 rfl) rfl
theorem q795 : (Jvm.Cond.laysFinal "NapkinDeeds$5" "NapkinDeeds$Best" "this$0" "LNapkinDeeds;") ∈ lw_all := lw_g (lw_at lw_m3 167 rfl) rfl
theorem q797 : (Jvm.Cond.laysFinal "NapkinDeeds$5" "NapkinDeeds$Rows" "row" "[I") ∈ lw_all := lw_g (lw_at lw_m3 169 rfl) rfl
theorem q799 : (Jvm.Cond.laysFinal "NapkinDeeds$5" "NapkinDeeds$Rows" "this$0" "LNapkinDeeds;") ∈ lw_all := lw_g (lw_at lw_m3 171 rfl) rfl
theorem q801 : (Jvm.Cond.superclass "NapkinDeeds$5" "NapkinDeeds$Best") ∈ lw_all := lw_g (lw_at lw_m3 173 rfl) rfl
theorem q809 : (Jvm.Cond.selects "NapkinDeeds$5" ({ cls := "NapkinDeeds$Best", name := "seeks", desc := "(ZI)LNapkinDeeds$Rows;" } : Jvm.MethodName) ({ cls := "NapkinDeeds$Rows", name := "seeks", desc := "(ZI)LNapkinDeeds$Rows;" } : Jvm.MethodName)) ∈ lw_all := lw_g (lw_at lw_m3 181 rfl) rfl
theorem q950 : (Jvm.Cond.selects "NapkinDeeds$5" ({ cls := "NapkinDeeds$Best", name := "value", desc := "(LNapkinDeeds$Look;II)J" } : Jvm.MethodName) ({ cls := "NapkinDeeds$5", name := "value", desc := "(LNapkinDeeds$Look;II)J" } : Jvm.MethodName)) ∈ lw_all := lw_g (lw_at lw_m4 82 rfl) rfl
theorem q951 : (Jvm.Cond.instanceMethod ({ cls := "NapkinDeeds$5", name := "value", desc := "(LNapkinDeeds$Look;II)J" } : Jvm.MethodName)) ∈ lw_all := lw_g (lw_at lw_m4 83 rfl) rfl
theorem q952 : (Jvm.Cond.code ({ cls := "NapkinDeeds$5", name := "value", desc := "(LNapkinDeeds$Look;II)J" } : Jvm.MethodName) prog_11_method_2_code (4 : Nat) (Option.some Jvm.ClassFile.FieldType.long)) ∈ lw_all := lw_g (lw_at lw_m4 84 rfl) rfl
theorem q953 : (Jvm.Cond.methodLinkNest "NapkinDeeds$5" (13 : Nat) ({ cls := "NapkinDeeds", name := "worth", desc := "(LNapkinDeeds$Look;I)I" } : Jvm.MethodName) "NapkinDeeds") ∈ lw_tbl := lw_at lw_m4 85 rfl
theorem q1008 : (Jvm.Cond.selects "NapkinDeeds$5" ({ cls := "NapkinDeeds$Rows", name := "sees", desc := "(LNapkinDeeds$Look;II)V" } : Jvm.MethodName) ({ cls := "NapkinDeeds$Best", name := "sees", desc := "(LNapkinDeeds$Look;II)V" } : Jvm.MethodName)) ∈ lw_all := lw_g (lw_at lw_m4 140 rfl) rfl
theorem q1029 : (Jvm.Cond.selects "NapkinDeeds$5" ({ cls := "NapkinDeeds$Best", name := "fold", desc := "(I)I" } : Jvm.MethodName) ({ cls := "NapkinDeeds$Best", name := "fold", desc := "(I)I" } : Jvm.MethodName)) ∈ lw_all := lw_g (lw_at lw_m4 161 rfl) rfl
theorem q1040 : (Jvm.Cond.selects "NapkinDeeds$5" ({ cls := "NapkinDeeds$Best", name := "isNone", desc := "()Z" } : Jvm.MethodName) ({ cls := "NapkinDeeds$Best", name := "isNone", desc := "()Z" } : Jvm.MethodName)) ∈ lw_all := lw_g (lw_at lw_m4 172 rfl) rfl
theorem q3531 : (Jvm.Cond.castable "NapkinDeeds$5" "java/lang/Object") ∈ lw_tbl := lw_at lw_m15 23 rfl
theorem in_X29 : ∀ w ∈ wsX290, w ∈ lw_all := lw_in wsX290 [789, 791, 793, 795, 797, 799, 787] (by decide +kernel) (by decide +kernel)
/-! NapkinDeeds$6 -/
set_option maxRecDepth 100000
def RX30 : String := "NapkinDeeds$6"
def TX30 : u_T := fun k => match k with
  | 0 => ("NapkinDeeds$Best", "best", "[I", true)
  | 1 => ("NapkinDeeds$Best", "fewest", "I", false)
  | 2 => ("NapkinDeeds$Best", "most", "J", false)
  | 3 => ("NapkinDeeds$Best", "this$0", "LNapkinDeeds;", true)
  | 4 => ("NapkinDeeds$Rows", "row", "[I", true)
  | 5 => ("NapkinDeeds$Rows", "this$0", "LNapkinDeeds;", true)
  | 6 => ("NapkinDeeds$Fewest", "this$0", "LNapkinDeeds;", true)
  | 7 => ("NapkinDeeds$6", "val$t", "LNapkinDeeds$Tray;", true)
  | _ => ("NapkinDeeds$6", "this$0", "LNapkinDeeds;", true)
def tyX30 : Nat → FieldType := fun k => match k with
  | 0 => .array .int
  | 1 => .int
  | 2 => .long
  | 3 => .object "NapkinDeeds"
  | 4 => .array .int
  | 5 => .object "NapkinDeeds"
  | 6 => .object "NapkinDeeds"
  | 7 => .object "NapkinDeeds$Tray"
  | _ => .object "NapkinDeeds"
abbrev wsX300 : List Cond := u_ws RX30 TX30 9
-- two fields of one name: no nmX30
theorem tyX30_ok : ∀ k, k < 9 → parseFieldDescriptor (TX30 k).2.2.1 = some (tyX30 k) := by decide +kernel
abbrev cX30_isSo : ByteArray := prog_12_method_2_code
def yX30_isSo : MethodName := ⟨RX30, "isSo", "(LNapkinDeeds$Look;I)Z"⟩
def dkwX30_isSo_0 : List UInt8 := [42, 180, 0, 1, 43, 42, 180, 0, 7, 182, 0, 17, 172]
abbrev dktX30_isSo_0 : List UInt8 := dkwX30_isSo_0 ++ []
theorem dksX30_isSo_0 : cX30_isSo.data.toList.drop 0 = dktX30_isSo_0 := by decide +kernel
theorem dX30_isSo_0 : decode cX30_isSo 0 = .ok (.aload_n 0, 1) := dk_42 (dk_at dksX30_isSo_0 0 rfl rfl)
theorem dX30_isSo_1 : decode cX30_isSo 1 = .ok (.getfield 1, 3) := dk_180 0 1 (dk_at dksX30_isSo_0 1 rfl rfl)
theorem dX30_isSo_4 : decode cX30_isSo 4 = .ok (.aload_n 1, 1) := dk_43 (dk_at dksX30_isSo_0 4 rfl rfl)
theorem dX30_isSo_5 : decode cX30_isSo 5 = .ok (.aload_n 0, 1) := dk_42 (dk_at dksX30_isSo_0 5 rfl rfl)
theorem dX30_isSo_6 : decode cX30_isSo 6 = .ok (.getfield 7, 3) := dk_180 0 7 (dk_at dksX30_isSo_0 6 rfl rfl)
theorem dX30_isSo_9 : decode cX30_isSo 9 = .ok (.invokevirtual 17, 3) := dk_182 0 17 (dk_at dksX30_isSo_0 9 rfl rfl)
theorem dX30_isSo_12 : decode cX30_isSo 12 = .ok (.ireturn, 1) := dk_172 (dk_at dksX30_isSo_0 12 rfl rfl)
abbrev cX30_init : ByteArray := prog_12_method_1_code
def yX30_init : MethodName := ⟨RX30, "<init>", "(LNapkinDeeds;LNapkinDeeds$Tray;)V"⟩
def dkwX30_init_0 : List UInt8 := [42, 43, 181, 0, 1, 42, 44, 181, 0, 7, 42, 43, 183, 0, 11, 177]
abbrev dktX30_init_0 : List UInt8 := dkwX30_init_0 ++ []
theorem dksX30_init_0 : cX30_init.data.toList.drop 0 = dktX30_init_0 := by decide +kernel
theorem dX30_init_0 : decode cX30_init 0 = .ok (.aload_n 0, 1) := dk_42 (dk_at dksX30_init_0 0 rfl rfl)
theorem dX30_init_1 : decode cX30_init 1 = .ok (.aload_n 1, 1) := dk_43 (dk_at dksX30_init_0 1 rfl rfl)
theorem dX30_init_2 : decode cX30_init 2 = .ok (.putfield 1, 3) := dk_181 0 1 (dk_at dksX30_init_0 2 rfl rfl)
theorem dX30_init_5 : decode cX30_init 5 = .ok (.aload_n 0, 1) := dk_42 (dk_at dksX30_init_0 5 rfl rfl)
theorem dX30_init_6 : decode cX30_init 6 = .ok (.aload_n 2, 1) := dk_44 (dk_at dksX30_init_0 6 rfl rfl)
theorem dX30_init_7 : decode cX30_init 7 = .ok (.putfield 7, 3) := dk_181 0 7 (dk_at dksX30_init_0 7 rfl rfl)
theorem dX30_init_10 : decode cX30_init 10 = .ok (.aload_n 0, 1) := dk_42 (dk_at dksX30_init_0 10 rfl rfl)
theorem dX30_init_11 : decode cX30_init 11 = .ok (.aload_n 1, 1) := dk_43 (dk_at dksX30_init_0 11 rfl rfl)
theorem dX30_init_12 : decode cX30_init 12 = .ok (.invokespecial 11, 3) := dk_183 0 11 (dk_at dksX30_init_0 12 rfl rfl)
theorem dX30_init_15 : decode cX30_init 15 = .ok (.return_, 1) := dk_177 (dk_at dksX30_init_0 15 rfl rfl)
theorem q206 : (Jvm.Cond.initialized "NapkinDeeds$6") ∈ lw_all := lw_g (lw_at lw_m1 58 rfl) rfl
theorem q702 : (Jvm.Cond.selects "NapkinDeeds$6" ({ cls := "java/lang/Object", name := "getClass", desc := "()Ljava/lang/Class;" } : Jvm.MethodName) ({ cls := "java/lang/Object", name := "getClass", desc := "()Ljava/lang/Class;" } : Jvm.MethodName)) ∈ lw_all := lw_g (lw_at lw_m3 74 rfl) rfl
theorem q810 : (Jvm.Cond.selects "NapkinDeeds$6" ({ cls := "NapkinDeeds$Best", name := "seeks", desc := "(ZI)LNapkinDeeds$Rows;" } : Jvm.MethodName) ({ cls := "NapkinDeeds$Rows", name := "seeks", desc := "(ZI)LNapkinDeeds$Rows;" } : Jvm.MethodName)) ∈ lw_all := lw_g (lw_at lw_m3 182 rfl) rfl
theorem q881 : (Jvm.Cond.selects "NapkinDeeds$6" ({ cls := "NapkinDeeds$Fewest", name := "isSo", desc := "(LNapkinDeeds$Look;I)Z" } : Jvm.MethodName) ({ cls := "NapkinDeeds$6", name := "isSo", desc := "(LNapkinDeeds$Look;I)Z" } : Jvm.MethodName)) ∈ lw_all := lw_g (lw_at lw_m4 13 rfl) rfl
theorem q882 : (Jvm.Cond.instanceMethod ({ cls := "NapkinDeeds$6", name := "isSo", desc := "(LNapkinDeeds$Look;I)Z" } : Jvm.MethodName)) ∈ lw_all := lw_g (lw_at lw_m4 14 rfl) rfl
theorem q883 : (Jvm.Cond.code ({ cls := "NapkinDeeds$6", name := "isSo", desc := "(LNapkinDeeds$Look;I)Z" } : Jvm.MethodName) prog_12_method_2_code (3 : Nat) (Option.some Jvm.ClassFile.FieldType.boolean)) ∈ lw_all := lw_g (lw_at lw_m4 15 rfl) rfl
theorem q884 : (Jvm.Cond.methodLinkNest "NapkinDeeds$6" (17 : Nat) ({ cls := "NapkinDeeds", name := "reads", desc := "(LNapkinDeeds$Look;LNapkinDeeds$Tray;)Z" } : Jvm.MethodName) "NapkinDeeds") ∈ lw_tbl := lw_at lw_m4 16 rfl
theorem q954 : (Jvm.Cond.selects "NapkinDeeds$6" ({ cls := "NapkinDeeds$Best", name := "value", desc := "(LNapkinDeeds$Look;II)J" } : Jvm.MethodName) ({ cls := "NapkinDeeds$Fewest", name := "value", desc := "(LNapkinDeeds$Look;II)J" } : Jvm.MethodName)) ∈ lw_all := lw_g (lw_at lw_m4 86 rfl) rfl
theorem q1009 : (Jvm.Cond.selects "NapkinDeeds$6" ({ cls := "NapkinDeeds$Rows", name := "sees", desc := "(LNapkinDeeds$Look;II)V" } : Jvm.MethodName) ({ cls := "NapkinDeeds$Fewest", name := "sees", desc := "(LNapkinDeeds$Look;II)V" } : Jvm.MethodName)) ∈ lw_all := lw_g (lw_at lw_m4 141 rfl) rfl
theorem q1030 : (Jvm.Cond.selects "NapkinDeeds$6" ({ cls := "NapkinDeeds$Best", name := "fold", desc := "(I)I" } : Jvm.MethodName) ({ cls := "NapkinDeeds$Best", name := "fold", desc := "(I)I" } : Jvm.MethodName)) ∈ lw_all := lw_g (lw_at lw_m4 162 rfl) rfl
theorem q1041 : (Jvm.Cond.selects "NapkinDeeds$6" ({ cls := "NapkinDeeds$Best", name := "isNone", desc := "()Z" } : Jvm.MethodName) ({ cls := "NapkinDeeds$Best", name := "isNone", desc := "()Z" } : Jvm.MethodName)) ∈ lw_all := lw_g (lw_at lw_m4 173 rfl) rfl
theorem q2218 : (Jvm.Cond.selects "NapkinDeeds$6" ({ cls := "NapkinDeeds$Fewest", name := "seeks", desc := "(ZI)LNapkinDeeds$Rows;" } : Jvm.MethodName) ({ cls := "NapkinDeeds$Rows", name := "seeks", desc := "(ZI)LNapkinDeeds$Rows;" } : Jvm.MethodName)) ∈ lw_all := lw_g (lw_at lw_m9 150 rfl) rfl
theorem q2225 : (Jvm.Cond.selects "NapkinDeeds$6" ({ cls := "NapkinDeeds$Fewest", name := "tells", desc := "(I)I" } : Jvm.MethodName) ({ cls := "NapkinDeeds$Fewest", name := "tells", desc := "(I)I" } : Jvm.MethodName)) ∈ lw_all := lw_g (lw_at lw_m9 157 rfl) rfl
theorem q2233 : (Jvm.Cond.selects "NapkinDeeds$6" ({ cls := "NapkinDeeds$Fewest", name := "isNone", desc := "()Z" } : Jvm.MethodName) ({ cls := "NapkinDeeds$Best", name := "isNone", desc := "()Z" } : Jvm.MethodName)) ∈ lw_all := lw_g (lw_at lw_m9 165 rfl) rfl
theorem q2240 : (Jvm.Cond.selects "NapkinDeeds$6" ({ cls := "NapkinDeeds$Fewest", name := "fewestFolds", desc := "()I" } : Jvm.MethodName) ({ cls := "NapkinDeeds$Fewest", name := "fewestFolds", desc := "()I" } : Jvm.MethodName)) ∈ lw_all := lw_g (lw_at lw_m9 172 rfl) rfl
theorem q2248 : (Jvm.Cond.selects "NapkinDeeds$6" ({ cls := "NapkinDeeds$Fewest", name := "fold", desc := "(I)I" } : Jvm.MethodName) ({ cls := "NapkinDeeds$Best", name := "fold", desc := "(I)I" } : Jvm.MethodName)) ∈ lw_all := lw_g (lw_at lw_m9 180 rfl) rfl
theorem q2291 : (Jvm.Cond.instantiable "NapkinDeeds$6" (9 : Nat)) ∈ lw_all := lw_g (lw_at lw_m9 223 rfl) rfl
theorem q2293 : (Jvm.Cond.instanceMethod ({ cls := "NapkinDeeds$6", name := "<init>", desc := "(LNapkinDeeds;LNapkinDeeds$Tray;)V" } : Jvm.MethodName)) ∈ lw_all := lw_g (lw_at lw_m9 225 rfl) rfl
theorem q2294 : (Jvm.Cond.code ({ cls := "NapkinDeeds$6", name := "<init>", desc := "(LNapkinDeeds;LNapkinDeeds$Tray;)V" } : Jvm.MethodName) prog_12_method_1_code (3 : Nat) (Option.none : Option Jvm.ClassFile.FieldType)) ∈ lw_all := lw_g (lw_at lw_m9 226 rfl) rfl
theorem q2295 : (Jvm.Cond.methodLinkNest "NapkinDeeds$6" (11 : Nat) ({ cls := "NapkinDeeds$Fewest", name := "<init>", desc := "(LNapkinDeeds;)V" } : Jvm.MethodName) "NapkinDeeds") ∈ lw_tbl := lw_at lw_m9 227 rfl
theorem q2296 : (Jvm.Cond.fieldLink "NapkinDeeds$6" (7 : Nat) "NapkinDeeds$6" "val$t" "LNapkinDeeds$Tray;") ∈ lw_all := lw_g (lw_at lw_m9 228 rfl) rfl
theorem q2297 : (Jvm.Cond.fieldLink "NapkinDeeds$6" (1 : Nat) "NapkinDeeds$6" "this$0" "LNapkinDeeds;") ∈ lw_all := lw_g (lw_at lw_m9 229 rfl) rfl
theorem q2298 : (Jvm.Cond.laysFinal "NapkinDeeds$6" "NapkinDeeds$6" "val$t" "LNapkinDeeds$Tray;") ∈ lw_all := lw_g (lw_at lw_m9 230 rfl) rfl
theorem q2299 : (Jvm.Cond.soleField "NapkinDeeds$6" "val$t") ∈ lw_all := lw_g (lw_at lw_m9 231 rfl) rfl
theorem q2300 : (Jvm.Cond.laysFinal "NapkinDeeds$6" "NapkinDeeds$6" "this$0" "LNapkinDeeds;") ∈ lw_all := lw_g (lw_at lw_m9 232 rfl) rfl
theorem q2301 : (Jvm.Cond.soleField "NapkinDeeds$6" "this$0") ∈ lw_all := lw_g (lw_at lw_m9 233 rfl) rfl
theorem q2302 : (Jvm.Cond.laysFinal "NapkinDeeds$6" "NapkinDeeds$Fewest" "this$0" "LNapkinDeeds;") ∈ lw_all := lw_g (lw_at lw_m9 234 rfl) rfl
theorem q2303 : (Jvm.Cond.laysFinal "NapkinDeeds$6" "NapkinDeeds$Best" "best" "[I") ∈ lw_all := lw_g (lw_at lw_m9 235 rfl) rfl
theorem q2304 : (Jvm.Cond.lays "NapkinDeeds$6" "NapkinDeeds$Best" "fewest" "I") ∈ lw_all := lw_g (lw_at lw_m9 236 rfl) rfl
theorem q2305 : (Jvm.Cond.lays "NapkinDeeds$6" "NapkinDeeds$Best" "most" "J") ∈ lw_all := lw_g (lw_at lw_m9 237 rfl) rfl
theorem q2306 : (Jvm.Cond.laysFinal "NapkinDeeds$6" "NapkinDeeds$Best" "this$0" "LNapkinDeeds;") ∈ lw_all := lw_g (lw_at lw_m9 238 rfl) rfl
theorem q2307 : (Jvm.Cond.laysFinal "NapkinDeeds$6" "NapkinDeeds$Rows" "row" "[I") ∈ lw_all := lw_g (lw_at lw_m9 239 rfl) rfl
theorem q2308 : (Jvm.Cond.laysFinal "NapkinDeeds$6" "NapkinDeeds$Rows" "this$0" "LNapkinDeeds;") ∈ lw_all := lw_g (lw_at lw_m10 0 rfl) rfl
theorem q2309 : (Jvm.Cond.superclass "NapkinDeeds$6" "NapkinDeeds$Fewest") ∈ lw_all := lw_g (lw_at lw_m10 1 rfl) rfl
theorem q3532 : (Jvm.Cond.castable "NapkinDeeds$6" "java/lang/Object") ∈ lw_tbl := lw_at lw_m15 24 rfl
theorem in_X30 : ∀ w ∈ wsX300, w ∈ lw_all := lw_in wsX300 [2303, 2304, 2305, 2306, 2307, 2308, 2302, 2298, 2300] (by decide +kernel) (by decide +kernel)
/-! NapkinDeeds$7 -/
set_option maxRecDepth 100000
def RX31 : String := "NapkinDeeds$7"
def TX31 : u_T := fun k => match k with
  | 0 => ("NapkinDeeds$Best", "best", "[I", true)
  | 1 => ("NapkinDeeds$Best", "fewest", "I", false)
  | 2 => ("NapkinDeeds$Best", "most", "J", false)
  | 3 => ("NapkinDeeds$Best", "this$0", "LNapkinDeeds;", true)
  | 4 => ("NapkinDeeds$Rows", "row", "[I", true)
  | 5 => ("NapkinDeeds$Rows", "this$0", "LNapkinDeeds;", true)
  | 6 => ("NapkinDeeds$Fewest", "this$0", "LNapkinDeeds;", true)
  | 7 => ("NapkinDeeds$7", "val$stack", "[I", true)
  | _ => ("NapkinDeeds$7", "this$0", "LNapkinDeeds;", true)
def tyX31 : Nat → FieldType := fun k => match k with
  | 0 => .array .int
  | 1 => .int
  | 2 => .long
  | 3 => .object "NapkinDeeds"
  | 4 => .array .int
  | 5 => .object "NapkinDeeds"
  | 6 => .object "NapkinDeeds"
  | 7 => .array .int
  | _ => .object "NapkinDeeds"
abbrev wsX310 : List Cond := u_ws RX31 TX31 9
-- two fields of one name: no nmX31
theorem tyX31_ok : ∀ k, k < 9 → parseFieldDescriptor (TX31 k).2.2.1 = some (tyX31 k) := by decide +kernel
abbrev cX31_isSo : ByteArray := prog_13_method_2_code
def yX31_isSo : MethodName := ⟨RX31, "isSo", "(LNapkinDeeds$Look;I)Z"⟩
def dkwX31_isSo_2 : List UInt8 := [167, 255, 223, 4, 172]
abbrev dktX31_isSo_2 : List UInt8 := dkwX31_isSo_2 ++ []
def dkwX31_isSo_1 : List UInt8 := [180, 0, 23, 3, 50, 29, 46, 5, 108, 42, 180, 0, 7, 29, 46, 159, 0, 5, 3, 172, 132, 3, 1]
abbrev dktX31_isSo_1 : List UInt8 := dkwX31_isSo_1 ++ dktX31_isSo_2
def dkwX31_isSo_0 : List UInt8 := [43, 180, 0, 17, 4, 164, 0, 5, 3, 172, 3, 62, 29, 42, 180, 0, 7, 190, 162, 0, 30, 43]
abbrev dktX31_isSo_0 : List UInt8 := dkwX31_isSo_0 ++ dktX31_isSo_1
theorem dksX31_isSo_0 : cX31_isSo.data.toList.drop 0 = dktX31_isSo_0 := by decide +kernel
theorem dksX31_isSo_1 : cX31_isSo.data.toList.drop 22 = dktX31_isSo_1 := dk_seg dksX31_isSo_0 22 rfl rfl
theorem dksX31_isSo_2 : cX31_isSo.data.toList.drop 45 = dktX31_isSo_2 := dk_seg dksX31_isSo_1 23 rfl rfl
theorem dX31_isSo_0 : decode cX31_isSo 0 = .ok (.aload_n 1, 1) := dk_43 (dk_at dksX31_isSo_0 0 rfl rfl)
theorem dX31_isSo_1 : decode cX31_isSo 1 = .ok (.getfield 17, 3) := dk_180 0 17 (dk_at dksX31_isSo_0 1 rfl rfl)
theorem dX31_isSo_4 : decode cX31_isSo 4 = .ok (.iconst 1, 1) := dk_4 (dk_at dksX31_isSo_0 4 rfl rfl)
theorem dX31_isSo_5 : decode cX31_isSo 5 = .ok (.if_icmp .le 5, 3) := dk_164 0 5 (dk_at dksX31_isSo_0 5 rfl rfl)
theorem dX31_isSo_8 : decode cX31_isSo 8 = .ok (.iconst 0, 1) := dk_3 (dk_at dksX31_isSo_0 8 rfl rfl)
theorem dX31_isSo_9 : decode cX31_isSo 9 = .ok (.ireturn, 1) := dk_172 (dk_at dksX31_isSo_0 9 rfl rfl)
theorem dX31_isSo_10 : decode cX31_isSo 10 = .ok (.iconst 0, 1) := dk_3 (dk_at dksX31_isSo_0 10 rfl rfl)
theorem dX31_isSo_11 : decode cX31_isSo 11 = .ok (.istore_n 3, 1) := dk_62 (dk_at dksX31_isSo_0 11 rfl rfl)
theorem dX31_isSo_12 : decode cX31_isSo 12 = .ok (.iload_n 3, 1) := dk_29 (dk_at dksX31_isSo_0 12 rfl rfl)
theorem dX31_isSo_13 : decode cX31_isSo 13 = .ok (.aload_n 0, 1) := dk_42 (dk_at dksX31_isSo_0 13 rfl rfl)
theorem dX31_isSo_14 : decode cX31_isSo 14 = .ok (.getfield 7, 3) := dk_180 0 7 (dk_at dksX31_isSo_0 14 rfl rfl)
theorem dX31_isSo_17 : decode cX31_isSo 17 = .ok (.arraylength, 1) := dk_190 (dk_at dksX31_isSo_0 17 rfl rfl)
theorem dX31_isSo_18 : decode cX31_isSo 18 = .ok (.if_icmp .ge 30, 3) := dk_162 0 30 (dk_at dksX31_isSo_0 18 rfl rfl)
theorem dX31_isSo_21 : decode cX31_isSo 21 = .ok (.aload_n 1, 1) := dk_43 (dk_at dksX31_isSo_0 21 rfl rfl)
theorem dX31_isSo_22 : decode cX31_isSo 22 = .ok (.getfield 23, 3) := dk_180 0 23 (dk_at dksX31_isSo_1 0 rfl rfl)
theorem dX31_isSo_25 : decode cX31_isSo 25 = .ok (.iconst 0, 1) := dk_3 (dk_at dksX31_isSo_1 3 rfl rfl)
theorem dX31_isSo_26 : decode cX31_isSo 26 = .ok (.aaload, 1) := dk_50 (dk_at dksX31_isSo_1 4 rfl rfl)
theorem dX31_isSo_27 : decode cX31_isSo 27 = .ok (.iload_n 3, 1) := dk_29 (dk_at dksX31_isSo_1 5 rfl rfl)
theorem dX31_isSo_28 : decode cX31_isSo 28 = .ok (.iaload, 1) := dk_46 (dk_at dksX31_isSo_1 6 rfl rfl)
theorem dX31_isSo_29 : decode cX31_isSo 29 = .ok (.iconst 2, 1) := dk_5 (dk_at dksX31_isSo_1 7 rfl rfl)
theorem dX31_isSo_30 : decode cX31_isSo 30 = .ok (.idiv, 1) := dk_108 (dk_at dksX31_isSo_1 8 rfl rfl)
theorem dX31_isSo_31 : decode cX31_isSo 31 = .ok (.aload_n 0, 1) := dk_42 (dk_at dksX31_isSo_1 9 rfl rfl)
theorem dX31_isSo_32 : decode cX31_isSo 32 = .ok (.getfield 7, 3) := dk_180 0 7 (dk_at dksX31_isSo_1 10 rfl rfl)
theorem dX31_isSo_35 : decode cX31_isSo 35 = .ok (.iload_n 3, 1) := dk_29 (dk_at dksX31_isSo_1 13 rfl rfl)
theorem dX31_isSo_36 : decode cX31_isSo 36 = .ok (.iaload, 1) := dk_46 (dk_at dksX31_isSo_1 14 rfl rfl)
theorem dX31_isSo_37 : decode cX31_isSo 37 = .ok (.if_icmp .eq 5, 3) := dk_159 0 5 (dk_at dksX31_isSo_1 15 rfl rfl)
theorem dX31_isSo_40 : decode cX31_isSo 40 = .ok (.iconst 0, 1) := dk_3 (dk_at dksX31_isSo_1 18 rfl rfl)
theorem dX31_isSo_41 : decode cX31_isSo 41 = .ok (.ireturn, 1) := dk_172 (dk_at dksX31_isSo_1 19 rfl rfl)
theorem dX31_isSo_42 : decode cX31_isSo 42 = .ok (.iinc 3 1, 3) := dk_132 3 1 (dk_at dksX31_isSo_1 20 rfl rfl)
theorem dX31_isSo_45 : decode cX31_isSo 45 = .ok (.goto (-33), 3) := dk_167 255 223 (dk_at dksX31_isSo_2 0 rfl rfl)
theorem dX31_isSo_48 : decode cX31_isSo 48 = .ok (.iconst 1, 1) := dk_4 (dk_at dksX31_isSo_2 3 rfl rfl)
theorem dX31_isSo_49 : decode cX31_isSo 49 = .ok (.ireturn, 1) := dk_172 (dk_at dksX31_isSo_2 4 rfl rfl)
abbrev cX31_init : ByteArray := prog_13_method_1_code
def yX31_init : MethodName := ⟨RX31, "<init>", "(LNapkinDeeds;[I)V"⟩
def dkwX31_init_0 : List UInt8 := [42, 43, 181, 0, 1, 42, 44, 181, 0, 7, 42, 43, 183, 0, 11, 177]
abbrev dktX31_init_0 : List UInt8 := dkwX31_init_0 ++ []
theorem dksX31_init_0 : cX31_init.data.toList.drop 0 = dktX31_init_0 := by decide +kernel
theorem dX31_init_0 : decode cX31_init 0 = .ok (.aload_n 0, 1) := dk_42 (dk_at dksX31_init_0 0 rfl rfl)
theorem dX31_init_1 : decode cX31_init 1 = .ok (.aload_n 1, 1) := dk_43 (dk_at dksX31_init_0 1 rfl rfl)
theorem dX31_init_2 : decode cX31_init 2 = .ok (.putfield 1, 3) := dk_181 0 1 (dk_at dksX31_init_0 2 rfl rfl)
theorem dX31_init_5 : decode cX31_init 5 = .ok (.aload_n 0, 1) := dk_42 (dk_at dksX31_init_0 5 rfl rfl)
theorem dX31_init_6 : decode cX31_init 6 = .ok (.aload_n 2, 1) := dk_44 (dk_at dksX31_init_0 6 rfl rfl)
theorem dX31_init_7 : decode cX31_init 7 = .ok (.putfield 7, 3) := dk_181 0 7 (dk_at dksX31_init_0 7 rfl rfl)
theorem dX31_init_10 : decode cX31_init 10 = .ok (.aload_n 0, 1) := dk_42 (dk_at dksX31_init_0 10 rfl rfl)
theorem dX31_init_11 : decode cX31_init 11 = .ok (.aload_n 1, 1) := dk_43 (dk_at dksX31_init_0 11 rfl rfl)
theorem dX31_init_12 : decode cX31_init 12 = .ok (.invokespecial 11, 3) := dk_183 0 11 (dk_at dksX31_init_0 12 rfl rfl)
theorem dX31_init_15 : decode cX31_init 15 = .ok (.return_, 1) := dk_177 (dk_at dksX31_init_0 15 rfl rfl)
theorem q207 : (Jvm.Cond.initialized "NapkinDeeds$7") ∈ lw_all := lw_g (lw_at lw_m1 59 rfl) rfl
theorem q333 : (Jvm.Cond.fieldLinkNest "NapkinDeeds$7" (23 : Nat) "NapkinDeeds$Look" "columns" "[[I" "NapkinDeeds") ∈ lw_tbl := lw_at lw_m1 185 rfl
theorem q339 : (Jvm.Cond.fieldLinkNest "NapkinDeeds$7" (17 : Nat) "NapkinDeeds$Look" "wide" "I" "NapkinDeeds") ∈ lw_tbl := lw_at lw_m1 191 rfl
theorem q703 : (Jvm.Cond.selects "NapkinDeeds$7" ({ cls := "java/lang/Object", name := "getClass", desc := "()Ljava/lang/Class;" } : Jvm.MethodName) ({ cls := "java/lang/Object", name := "getClass", desc := "()Ljava/lang/Class;" } : Jvm.MethodName)) ∈ lw_all := lw_g (lw_at lw_m3 75 rfl) rfl
theorem q811 : (Jvm.Cond.selects "NapkinDeeds$7" ({ cls := "NapkinDeeds$Best", name := "seeks", desc := "(ZI)LNapkinDeeds$Rows;" } : Jvm.MethodName) ({ cls := "NapkinDeeds$Rows", name := "seeks", desc := "(ZI)LNapkinDeeds$Rows;" } : Jvm.MethodName)) ∈ lw_all := lw_g (lw_at lw_m3 183 rfl) rfl
theorem q901 : (Jvm.Cond.selects "NapkinDeeds$7" ({ cls := "NapkinDeeds$Fewest", name := "isSo", desc := "(LNapkinDeeds$Look;I)Z" } : Jvm.MethodName) ({ cls := "NapkinDeeds$7", name := "isSo", desc := "(LNapkinDeeds$Look;I)Z" } : Jvm.MethodName)) ∈ lw_all := lw_g (lw_at lw_m4 33 rfl) rfl
theorem q902 : (Jvm.Cond.instanceMethod ({ cls := "NapkinDeeds$7", name := "isSo", desc := "(LNapkinDeeds$Look;I)Z" } : Jvm.MethodName)) ∈ lw_all := lw_g (lw_at lw_m4 34 rfl) rfl
theorem q903 : (Jvm.Cond.code ({ cls := "NapkinDeeds$7", name := "isSo", desc := "(LNapkinDeeds$Look;I)Z" } : Jvm.MethodName) prog_13_method_2_code (4 : Nat) (Option.some Jvm.ClassFile.FieldType.boolean)) ∈ lw_all := lw_g (lw_at lw_m4 35 rfl) rfl
theorem q955 : (Jvm.Cond.selects "NapkinDeeds$7" ({ cls := "NapkinDeeds$Best", name := "value", desc := "(LNapkinDeeds$Look;II)J" } : Jvm.MethodName) ({ cls := "NapkinDeeds$Fewest", name := "value", desc := "(LNapkinDeeds$Look;II)J" } : Jvm.MethodName)) ∈ lw_all := lw_g (lw_at lw_m4 87 rfl) rfl
theorem q1010 : (Jvm.Cond.selects "NapkinDeeds$7" ({ cls := "NapkinDeeds$Rows", name := "sees", desc := "(LNapkinDeeds$Look;II)V" } : Jvm.MethodName) ({ cls := "NapkinDeeds$Fewest", name := "sees", desc := "(LNapkinDeeds$Look;II)V" } : Jvm.MethodName)) ∈ lw_all := lw_g (lw_at lw_m4 142 rfl) rfl
theorem q1031 : (Jvm.Cond.selects "NapkinDeeds$7" ({ cls := "NapkinDeeds$Best", name := "fold", desc := "(I)I" } : Jvm.MethodName) ({ cls := "NapkinDeeds$Best", name := "fold", desc := "(I)I" } : Jvm.MethodName)) ∈ lw_all := lw_g (lw_at lw_m4 163 rfl) rfl
theorem q1042 : (Jvm.Cond.selects "NapkinDeeds$7" ({ cls := "NapkinDeeds$Best", name := "isNone", desc := "()Z" } : Jvm.MethodName) ({ cls := "NapkinDeeds$Best", name := "isNone", desc := "()Z" } : Jvm.MethodName)) ∈ lw_all := lw_g (lw_at lw_m4 174 rfl) rfl
theorem q2219 : (Jvm.Cond.selects "NapkinDeeds$7" ({ cls := "NapkinDeeds$Fewest", name := "seeks", desc := "(ZI)LNapkinDeeds$Rows;" } : Jvm.MethodName) ({ cls := "NapkinDeeds$Rows", name := "seeks", desc := "(ZI)LNapkinDeeds$Rows;" } : Jvm.MethodName)) ∈ lw_all := lw_g (lw_at lw_m9 151 rfl) rfl
theorem q2226 : (Jvm.Cond.selects "NapkinDeeds$7" ({ cls := "NapkinDeeds$Fewest", name := "tells", desc := "(I)I" } : Jvm.MethodName) ({ cls := "NapkinDeeds$Fewest", name := "tells", desc := "(I)I" } : Jvm.MethodName)) ∈ lw_all := lw_g (lw_at lw_m9 158 rfl) rfl
theorem q2234 : (Jvm.Cond.selects "NapkinDeeds$7" ({ cls := "NapkinDeeds$Fewest", name := "isNone", desc := "()Z" } : Jvm.MethodName) ({ cls := "NapkinDeeds$Best", name := "isNone", desc := "()Z" } : Jvm.MethodName)) ∈ lw_all := lw_g (lw_at lw_m9 166 rfl) rfl
theorem q2241 : (Jvm.Cond.selects "NapkinDeeds$7" ({ cls := "NapkinDeeds$Fewest", name := "fewestFolds", desc := "()I" } : Jvm.MethodName) ({ cls := "NapkinDeeds$Fewest", name := "fewestFolds", desc := "()I" } : Jvm.MethodName)) ∈ lw_all := lw_g (lw_at lw_m9 173 rfl) rfl
theorem q2249 : (Jvm.Cond.selects "NapkinDeeds$7" ({ cls := "NapkinDeeds$Fewest", name := "fold", desc := "(I)I" } : Jvm.MethodName) ({ cls := "NapkinDeeds$Best", name := "fold", desc := "(I)I" } : Jvm.MethodName)) ∈ lw_all := lw_g (lw_at lw_m9 181 rfl) rfl
theorem q2329 : (Jvm.Cond.instantiable "NapkinDeeds$7" (9 : Nat)) ∈ lw_all := lw_g (lw_at lw_m10 21 rfl) rfl
theorem q2331 : (Jvm.Cond.instanceMethod ({ cls := "NapkinDeeds$7", name := "<init>", desc := "(LNapkinDeeds;[I)V" } : Jvm.MethodName)) ∈ lw_all := lw_g (lw_at lw_m10 23 rfl) rfl
theorem q2332 : (Jvm.Cond.code ({ cls := "NapkinDeeds$7", name := "<init>", desc := "(LNapkinDeeds;[I)V" } : Jvm.MethodName) prog_13_method_1_code (3 : Nat) (Option.none : Option Jvm.ClassFile.FieldType)) ∈ lw_all := lw_g (lw_at lw_m10 24 rfl) rfl
theorem q2333 : (Jvm.Cond.methodLinkNest "NapkinDeeds$7" (11 : Nat) ({ cls := "NapkinDeeds$Fewest", name := "<init>", desc := "(LNapkinDeeds;)V" } : Jvm.MethodName) "NapkinDeeds") ∈ lw_tbl := lw_at lw_m10 25 rfl
theorem q2334 : (Jvm.Cond.fieldLink "NapkinDeeds$7" (7 : Nat) "NapkinDeeds$7" "val$stack" "[I") ∈ lw_all := lw_g (lw_at lw_m10 26 rfl) rfl
theorem q2335 : (Jvm.Cond.fieldLink "NapkinDeeds$7" (1 : Nat) "NapkinDeeds$7" "this$0" "LNapkinDeeds;") ∈ lw_all := lw_g (lw_at lw_m10 27 rfl) rfl
theorem q2336 : (Jvm.Cond.laysFinal "NapkinDeeds$7" "NapkinDeeds$7" "val$stack" "[I") ∈ lw_all := lw_g (lw_at lw_m10 28 rfl) rfl
theorem q2337 : (Jvm.Cond.soleField "NapkinDeeds$7" "val$stack") ∈ lw_all := lw_g (lw_at lw_m10 29 rfl) rfl
theorem q2338 : (Jvm.Cond.laysFinal "NapkinDeeds$7" "NapkinDeeds$7" "this$0" "LNapkinDeeds;") ∈ lw_all := lw_g (lw_at lw_m10 30 rfl) rfl
theorem q2339 : (Jvm.Cond.soleField "NapkinDeeds$7" "this$0") ∈ lw_all := lw_g (lw_at lw_m10 31 rfl) rfl
theorem q2340 : (Jvm.Cond.laysFinal "NapkinDeeds$7" "NapkinDeeds$Fewest" "this$0" "LNapkinDeeds;") ∈ lw_all := lw_g (lw_at lw_m10 32 rfl) rfl
theorem q2341 : (Jvm.Cond.laysFinal "NapkinDeeds$7" "NapkinDeeds$Best" "best" "[I") ∈ lw_all := lw_g (lw_at lw_m10 33 rfl) rfl
theorem q2342 : (Jvm.Cond.lays "NapkinDeeds$7" "NapkinDeeds$Best" "fewest" "I") ∈ lw_all := lw_g (lw_at lw_m10 34 rfl) rfl
theorem q2343 : (Jvm.Cond.lays "NapkinDeeds$7" "NapkinDeeds$Best" "most" "J") ∈ lw_all := lw_g (lw_at lw_m10 35 rfl) rfl
theorem q2344 : (Jvm.Cond.laysFinal "NapkinDeeds$7" "NapkinDeeds$Best" "this$0" "LNapkinDeeds;") ∈ lw_all := lw_g (lw_at lw_m10 36 rfl) rfl
theorem q2345 : (Jvm.Cond.laysFinal "NapkinDeeds$7" "NapkinDeeds$Rows" "row" "[I") ∈ lw_all := lw_g (lw_at lw_m10 37 rfl) rfl
theorem q2346 : (Jvm.Cond.laysFinal "NapkinDeeds$7" "NapkinDeeds$Rows" "this$0" "LNapkinDeeds;") ∈ lw_all := lw_g (lw_at lw_m10 38 rfl) rfl
theorem q2347 : (Jvm.Cond.superclass "NapkinDeeds$7" "NapkinDeeds$Fewest") ∈ lw_all := lw_g (lw_at lw_m10 39 rfl) rfl
theorem q3533 : (Jvm.Cond.castable "NapkinDeeds$7" "java/lang/Object") ∈ lw_tbl := lw_at lw_m15 25 rfl
theorem in_X31 : ∀ w ∈ wsX310, w ∈ lw_all := lw_in wsX310 [2341, 2342, 2343, 2344, 2345, 2346, 2340, 2336, 2338] (by decide +kernel) (by decide +kernel)
/-! NapkinDeeds$8 -/
set_option maxRecDepth 100000
def RX32 : String := "NapkinDeeds$8"
def TX32 : u_T := fun k => match k with
  | 0 => ("NapkinDeeds$Unlike", "many", "I", false)
  | 1 => ("NapkinDeeds$Unlike", "this$0", "LNapkinDeeds;", true)
  | 2 => ("NapkinDeeds$Rows", "row", "[I", true)
  | 3 => ("NapkinDeeds$Rows", "this$0", "LNapkinDeeds;", true)
  | _ => ("NapkinDeeds$8", "this$0", "LNapkinDeeds;", true)
def tyX32 : Nat → FieldType := fun k => match k with
  | 0 => .int
  | 1 => .object "NapkinDeeds"
  | 2 => .array .int
  | 3 => .object "NapkinDeeds"
  | _ => .object "NapkinDeeds"
abbrev wsX320 : List Cond := u_ws RX32 TX32 5
-- two fields of one name: no nmX32
theorem tyX32_ok : ∀ k, k < 5 → parseFieldDescriptor (TX32 k).2.2.1 = some (tyX32 k) := by decide +kernel
abbrev cX32_isSo : ByteArray := prog_14_method_2_code
def yX32_isSo : MethodName := ⟨RX32, "isSo", "(LNapkinDeeds$Look;I)Z"⟩
def dkwX32_isSo_0 : List UInt8 := [43, 180, 0, 13, 4, 163, 0, 7, 4, 167, 0, 4, 3, 172]
abbrev dktX32_isSo_0 : List UInt8 := dkwX32_isSo_0 ++ []
theorem dksX32_isSo_0 : cX32_isSo.data.toList.drop 0 = dktX32_isSo_0 := by decide +kernel
theorem dX32_isSo_0 : decode cX32_isSo 0 = .ok (.aload_n 1, 1) := dk_43 (dk_at dksX32_isSo_0 0 rfl rfl)
theorem dX32_isSo_1 : decode cX32_isSo 1 = .ok (.getfield 13, 3) := dk_180 0 13 (dk_at dksX32_isSo_0 1 rfl rfl)
theorem dX32_isSo_4 : decode cX32_isSo 4 = .ok (.iconst 1, 1) := dk_4 (dk_at dksX32_isSo_0 4 rfl rfl)
theorem dX32_isSo_5 : decode cX32_isSo 5 = .ok (.if_icmp .gt 7, 3) := dk_163 0 7 (dk_at dksX32_isSo_0 5 rfl rfl)
theorem dX32_isSo_8 : decode cX32_isSo 8 = .ok (.iconst 1, 1) := dk_4 (dk_at dksX32_isSo_0 8 rfl rfl)
theorem dX32_isSo_9 : decode cX32_isSo 9 = .ok (.goto 4, 3) := dk_167 0 4 (dk_at dksX32_isSo_0 9 rfl rfl)
theorem dX32_isSo_12 : decode cX32_isSo 12 = .ok (.iconst 0, 1) := dk_3 (dk_at dksX32_isSo_0 12 rfl rfl)
theorem dX32_isSo_13 : decode cX32_isSo 13 = .ok (.ireturn, 1) := dk_172 (dk_at dksX32_isSo_0 13 rfl rfl)
abbrev cX32_code : ByteArray := prog_14_method_3_code
def yX32_code : MethodName := ⟨RX32, "code", "(LNapkinDeeds$Look;)J"⟩
def dkwX32_code_2 : List UInt8 := [167, 255, 216, 32, 173]
abbrev dktX32_code_2 : List UInt8 := dkwX32_code_2 ++ []
def dkwX32_code_1 : List UInt8 := [20, 0, 23, 32, 105, 43, 180, 0, 25, 3, 50, 21, 4, 46, 5, 108, 133, 97, 65, 132, 4, 1]
abbrev dktX32_code_1 : List UInt8 := dkwX32_code_1 ++ dktX32_code_2
def dkwX32_code_0 : List UInt8 := [9, 65, 3, 54, 4, 43, 180, 0, 13, 158, 0, 39, 21, 4, 43, 180, 0, 19, 3, 46, 162, 0, 28]
abbrev dktX32_code_0 : List UInt8 := dkwX32_code_0 ++ dktX32_code_1
theorem dksX32_code_0 : cX32_code.data.toList.drop 0 = dktX32_code_0 := by decide +kernel
theorem dksX32_code_1 : cX32_code.data.toList.drop 23 = dktX32_code_1 := dk_seg dksX32_code_0 23 rfl rfl
theorem dksX32_code_2 : cX32_code.data.toList.drop 45 = dktX32_code_2 := dk_seg dksX32_code_1 22 rfl rfl
theorem dX32_code_0 : decode cX32_code 0 = .ok (.lconst 0, 1) := dk_9 (dk_at dksX32_code_0 0 rfl rfl)
theorem dX32_code_1 : decode cX32_code 1 = .ok (.lstore_n 2, 1) := dk_65 (dk_at dksX32_code_0 1 rfl rfl)
theorem dX32_code_2 : decode cX32_code 2 = .ok (.iconst 0, 1) := dk_3 (dk_at dksX32_code_0 2 rfl rfl)
theorem dX32_code_3 : decode cX32_code 3 = .ok (.istore 4, 2) := dk_54 4 (dk_at dksX32_code_0 3 rfl rfl)
theorem dX32_code_5 : decode cX32_code 5 = .ok (.aload_n 1, 1) := dk_43 (dk_at dksX32_code_0 5 rfl rfl)
theorem dX32_code_6 : decode cX32_code 6 = .ok (.getfield 13, 3) := dk_180 0 13 (dk_at dksX32_code_0 6 rfl rfl)
theorem dX32_code_9 : decode cX32_code 9 = .ok (.ifCond .le 39, 3) := dk_158 0 39 (dk_at dksX32_code_0 9 rfl rfl)
theorem dX32_code_12 : decode cX32_code 12 = .ok (.iload 4, 2) := dk_21 4 (dk_at dksX32_code_0 12 rfl rfl)
theorem dX32_code_14 : decode cX32_code 14 = .ok (.aload_n 1, 1) := dk_43 (dk_at dksX32_code_0 14 rfl rfl)
theorem dX32_code_15 : decode cX32_code 15 = .ok (.getfield 19, 3) := dk_180 0 19 (dk_at dksX32_code_0 15 rfl rfl)
theorem dX32_code_18 : decode cX32_code 18 = .ok (.iconst 0, 1) := dk_3 (dk_at dksX32_code_0 18 rfl rfl)
theorem dX32_code_19 : decode cX32_code 19 = .ok (.iaload, 1) := dk_46 (dk_at dksX32_code_0 19 rfl rfl)
theorem dX32_code_20 : decode cX32_code 20 = .ok (.if_icmp .ge 28, 3) := dk_162 0 28 (dk_at dksX32_code_0 20 rfl rfl)
theorem dX32_code_23 : decode cX32_code 23 = .ok (.ldc2_w 23, 3) := dk_20 0 23 (dk_at dksX32_code_1 0 rfl rfl)
theorem dX32_code_26 : decode cX32_code 26 = .ok (.lload_n 2, 1) := dk_32 (dk_at dksX32_code_1 3 rfl rfl)
theorem dX32_code_27 : decode cX32_code 27 = .ok (.lmul, 1) := dk_105 (dk_at dksX32_code_1 4 rfl rfl)
theorem dX32_code_28 : decode cX32_code 28 = .ok (.aload_n 1, 1) := dk_43 (dk_at dksX32_code_1 5 rfl rfl)
theorem dX32_code_29 : decode cX32_code 29 = .ok (.getfield 25, 3) := dk_180 0 25 (dk_at dksX32_code_1 6 rfl rfl)
theorem dX32_code_32 : decode cX32_code 32 = .ok (.iconst 0, 1) := dk_3 (dk_at dksX32_code_1 9 rfl rfl)
theorem dX32_code_33 : decode cX32_code 33 = .ok (.aaload, 1) := dk_50 (dk_at dksX32_code_1 10 rfl rfl)
theorem dX32_code_34 : decode cX32_code 34 = .ok (.iload 4, 2) := dk_21 4 (dk_at dksX32_code_1 11 rfl rfl)
theorem dX32_code_36 : decode cX32_code 36 = .ok (.iaload, 1) := dk_46 (dk_at dksX32_code_1 13 rfl rfl)
theorem dX32_code_37 : decode cX32_code 37 = .ok (.iconst 2, 1) := dk_5 (dk_at dksX32_code_1 14 rfl rfl)
theorem dX32_code_38 : decode cX32_code 38 = .ok (.idiv, 1) := dk_108 (dk_at dksX32_code_1 15 rfl rfl)
theorem dX32_code_39 : decode cX32_code 39 = .ok (.i2l, 1) := dk_133 (dk_at dksX32_code_1 16 rfl rfl)
theorem dX32_code_40 : decode cX32_code 40 = .ok (.ladd, 1) := dk_97 (dk_at dksX32_code_1 17 rfl rfl)
theorem dX32_code_41 : decode cX32_code 41 = .ok (.lstore_n 2, 1) := dk_65 (dk_at dksX32_code_1 18 rfl rfl)
theorem dX32_code_42 : decode cX32_code 42 = .ok (.iinc 4 1, 3) := dk_132 4 1 (dk_at dksX32_code_1 19 rfl rfl)
theorem dX32_code_45 : decode cX32_code 45 = .ok (.goto (-40), 3) := dk_167 255 216 (dk_at dksX32_code_2 0 rfl rfl)
theorem dX32_code_48 : decode cX32_code 48 = .ok (.lload_n 2, 1) := dk_32 (dk_at dksX32_code_2 3 rfl rfl)
theorem dX32_code_49 : decode cX32_code 49 = .ok (.lreturn, 1) := dk_173 (dk_at dksX32_code_2 4 rfl rfl)
abbrev cX32_init : ByteArray := prog_14_method_1_code
def yX32_init : MethodName := ⟨RX32, "<init>", "(LNapkinDeeds;)V"⟩
def dkwX32_init_0 : List UInt8 := [42, 43, 181, 0, 1, 42, 43, 183, 0, 7, 177]
abbrev dktX32_init_0 : List UInt8 := dkwX32_init_0 ++ []
theorem dksX32_init_0 : cX32_init.data.toList.drop 0 = dktX32_init_0 := by decide +kernel
theorem dX32_init_0 : decode cX32_init 0 = .ok (.aload_n 0, 1) := dk_42 (dk_at dksX32_init_0 0 rfl rfl)
theorem dX32_init_1 : decode cX32_init 1 = .ok (.aload_n 1, 1) := dk_43 (dk_at dksX32_init_0 1 rfl rfl)
theorem dX32_init_2 : decode cX32_init 2 = .ok (.putfield 1, 3) := dk_181 0 1 (dk_at dksX32_init_0 2 rfl rfl)
theorem dX32_init_5 : decode cX32_init 5 = .ok (.aload_n 0, 1) := dk_42 (dk_at dksX32_init_0 5 rfl rfl)
theorem dX32_init_6 : decode cX32_init 6 = .ok (.aload_n 1, 1) := dk_43 (dk_at dksX32_init_0 6 rfl rfl)
theorem dX32_init_7 : decode cX32_init 7 = .ok (.invokespecial 7, 3) := dk_183 0 7 (dk_at dksX32_init_0 7 rfl rfl)
theorem dX32_init_10 : decode cX32_init 10 = .ok (.return_, 1) := dk_177 (dk_at dksX32_init_0 10 rfl rfl)
theorem q208 : (Jvm.Cond.initialized "NapkinDeeds$8") ∈ lw_all := lw_g (lw_at lw_m1 60 rfl) rfl
theorem q334 : (Jvm.Cond.fieldLinkNest "NapkinDeeds$8" (25 : Nat) "NapkinDeeds$Look" "columns" "[[I" "NapkinDeeds") ∈ lw_tbl := lw_at lw_m1 186 rfl
theorem q337 : (Jvm.Cond.fieldLinkNest "NapkinDeeds$8" (19 : Nat) "NapkinDeeds$Look" "high" "[I" "NapkinDeeds") ∈ lw_tbl := lw_at lw_m1 189 rfl
theorem q340 : (Jvm.Cond.fieldLinkNest "NapkinDeeds$8" (13 : Nat) "NapkinDeeds$Look" "wide" "I" "NapkinDeeds") ∈ lw_tbl := lw_at lw_m1 192 rfl
theorem q704 : (Jvm.Cond.selects "NapkinDeeds$8" ({ cls := "java/lang/Object", name := "getClass", desc := "()Ljava/lang/Class;" } : Jvm.MethodName) ({ cls := "java/lang/Object", name := "getClass", desc := "()Ljava/lang/Class;" } : Jvm.MethodName)) ∈ lw_all := lw_g (lw_at lw_m3 76 rfl) rfl
theorem q977 : (Jvm.Cond.selects "NapkinDeeds$8" ({ cls := "NapkinDeeds$Unlike", name := "isSo", desc := "(LNapkinDeeds$Look;I)Z" } : Jvm.MethodName) ({ cls := "NapkinDeeds$8", name := "isSo", desc := "(LNapkinDeeds$Look;I)Z" } : Jvm.MethodName)) ∈ lw_all := lw_g (lw_at lw_m4 109 rfl) rfl
theorem q978 : (Jvm.Cond.instanceMethod ({ cls := "NapkinDeeds$8", name := "isSo", desc := "(LNapkinDeeds$Look;I)Z" } : Jvm.MethodName)) ∈ lw_all := lw_g (lw_at lw_m4 110 rfl) rfl
theorem q979 : (Jvm.Cond.code ({ cls := "NapkinDeeds$8", name := "isSo", desc := "(LNapkinDeeds$Look;I)Z" } : Jvm.MethodName) prog_14_method_2_code (3 : Nat) (Option.some Jvm.ClassFile.FieldType.boolean)) ∈ lw_all := lw_g (lw_at lw_m4 111 rfl) rfl
theorem q991 : (Jvm.Cond.selects "NapkinDeeds$8" ({ cls := "NapkinDeeds$Unlike", name := "code", desc := "(LNapkinDeeds$Look;)J" } : Jvm.MethodName) ({ cls := "NapkinDeeds$8", name := "code", desc := "(LNapkinDeeds$Look;)J" } : Jvm.MethodName)) ∈ lw_all := lw_g (lw_at lw_m4 123 rfl) rfl
theorem q992 : (Jvm.Cond.instanceMethod ({ cls := "NapkinDeeds$8", name := "code", desc := "(LNapkinDeeds$Look;)J" } : Jvm.MethodName)) ∈ lw_all := lw_g (lw_at lw_m4 124 rfl) rfl
theorem q993 : (Jvm.Cond.code ({ cls := "NapkinDeeds$8", name := "code", desc := "(LNapkinDeeds$Look;)J" } : Jvm.MethodName) prog_14_method_3_code (5 : Nat) (Option.some Jvm.ClassFile.FieldType.long)) ∈ lw_all := lw_g (lw_at lw_m4 125 rfl) rfl
theorem q994 : (Jvm.Cond.constantLong "NapkinDeeds$8" (23 : Nat) (6 : Int64)) ∈ lw_all := lw_g (lw_at lw_m4 126 rfl) rfl
theorem q1011 : (Jvm.Cond.selects "NapkinDeeds$8" ({ cls := "NapkinDeeds$Rows", name := "sees", desc := "(LNapkinDeeds$Look;II)V" } : Jvm.MethodName) ({ cls := "NapkinDeeds$Unlike", name := "sees", desc := "(LNapkinDeeds$Look;II)V" } : Jvm.MethodName)) ∈ lw_all := lw_g (lw_at lw_m4 143 rfl) rfl
theorem q1065 : (Jvm.Cond.instantiable "NapkinDeeds$8" (5 : Nat)) ∈ lw_all := lw_g (lw_at lw_m4 197 rfl) rfl
theorem q1067 : (Jvm.Cond.instanceMethod ({ cls := "NapkinDeeds$8", name := "<init>", desc := "(LNapkinDeeds;)V" } : Jvm.MethodName)) ∈ lw_all := lw_g (lw_at lw_m4 199 rfl) rfl
theorem q1068 : (Jvm.Cond.code ({ cls := "NapkinDeeds$8", name := "<init>", desc := "(LNapkinDeeds;)V" } : Jvm.MethodName) prog_14_method_1_code (2 : Nat) (Option.none : Option Jvm.ClassFile.FieldType)) ∈ lw_all := lw_g (lw_at lw_m4 200 rfl) rfl
theorem q1069 : (Jvm.Cond.methodLinkNest "NapkinDeeds$8" (7 : Nat) ({ cls := "NapkinDeeds$Unlike", name := "<init>", desc := "(LNapkinDeeds;)V" } : Jvm.MethodName) "NapkinDeeds") ∈ lw_tbl := lw_at lw_m4 201 rfl
theorem q1073 : (Jvm.Cond.fieldLink "NapkinDeeds$8" (1 : Nat) "NapkinDeeds$8" "this$0" "LNapkinDeeds;") ∈ lw_all := lw_g (lw_at lw_m4 205 rfl) rfl
theorem q1076 : (Jvm.Cond.laysFinal "NapkinDeeds$8" "NapkinDeeds$8" "this$0" "LNapkinDeeds;") ∈ lw_all := lw_g (lw_at lw_m4 208 rfl) rfl
theorem q1077 : (Jvm.Cond.soleField "NapkinDeeds$8" "this$0") ∈ lw_all := lw_g (lw_at lw_m4 209 rfl) rfl
theorem q1078 : (Jvm.Cond.lays "NapkinDeeds$8" "NapkinDeeds$Unlike" "many" "I") ∈ lw_all := lw_g (lw_at lw_m4 210 rfl) rfl
theorem q1080 : (Jvm.Cond.laysFinal "NapkinDeeds$8" "NapkinDeeds$Unlike" "this$0" "LNapkinDeeds;") ∈ lw_all := lw_g (lw_at lw_m4 212 rfl) rfl
theorem q1082 : (Jvm.Cond.laysFinal "NapkinDeeds$8" "NapkinDeeds$Rows" "row" "[I") ∈ lw_all := lw_g (lw_at lw_m4 214 rfl) rfl
theorem q1083 : (Jvm.Cond.laysFinal "NapkinDeeds$8" "NapkinDeeds$Rows" "this$0" "LNapkinDeeds;") ∈ lw_all := lw_g (lw_at lw_m4 215 rfl) rfl
theorem q1084 : (Jvm.Cond.superclass "NapkinDeeds$8" "NapkinDeeds$Unlike") ∈ lw_all := lw_g (lw_at lw_m4 216 rfl) rfl
theorem q1091 : (Jvm.Cond.selects "NapkinDeeds$8" ({ cls := "NapkinDeeds$Unlike", name := "seeks", desc := "(ZI)LNapkinDeeds$Rows;" } : Jvm.MethodName) ({ cls := "NapkinDeeds$Rows", name := "seeks", desc := "(ZI)LNapkinDeeds$Rows;" } : Jvm.MethodName)) ∈ lw_all := lw_g (lw_at lw_m4 223 rfl) rfl
theorem q1099 : (Jvm.Cond.selects "NapkinDeeds$8" ({ cls := "NapkinDeeds$Unlike", name := "unlike", desc := "()I" } : Jvm.MethodName) ({ cls := "NapkinDeeds$Unlike", name := "unlike", desc := "()I" } : Jvm.MethodName)) ∈ lw_all := lw_g (lw_at lw_m4 231 rfl) rfl
theorem q3534 : (Jvm.Cond.castable "NapkinDeeds$8" "java/lang/Object") ∈ lw_tbl := lw_at lw_m15 26 rfl
theorem in_X32 : ∀ w ∈ wsX320, w ∈ lw_all := lw_in wsX320 [1078, 1080, 1082, 1083, 1076] (by decide +kernel) (by decide +kernel)
/-! NapkinDeeds$9 -/
set_option maxRecDepth 100000
def RX33 : String := "NapkinDeeds$9"
def TX33 : u_T := fun k => match k with
  | 0 => ("NapkinDeeds$Many", "many", "I", false)
  | 1 => ("NapkinDeeds$Many", "this$0", "LNapkinDeeds;", true)
  | 2 => ("NapkinDeeds$Rows", "row", "[I", true)
  | 3 => ("NapkinDeeds$Rows", "this$0", "LNapkinDeeds;", true)
  | 4 => ("NapkinDeeds$9", "val$code", "I", true)
  | _ => ("NapkinDeeds$9", "this$0", "LNapkinDeeds;", true)
def tyX33 : Nat → FieldType := fun k => match k with
  | 0 => .int
  | 1 => .object "NapkinDeeds"
  | 2 => .array .int
  | 3 => .object "NapkinDeeds"
  | 4 => .int
  | _ => .object "NapkinDeeds"
abbrev wsX330 : List Cond := u_ws RX33 TX33 6
-- two fields of one name: no nmX33
theorem tyX33_ok : ∀ k, k < 6 → parseFieldDescriptor (TX33 k).2.2.1 = some (tyX33 k) := by decide +kernel
abbrev cX33_isSo : ByteArray := prog_15_method_2_code
def yX33_isSo : MethodName := ⟨RX33, "isSo", "(LNapkinDeeds$Look;II)Z"⟩
def dkwX33_isSo_0 : List UInt8 := [43, 42, 180, 0, 1, 182, 0, 17, 182, 0, 23, 42, 180, 0, 7, 160, 0, 7, 4, 167, 0, 4, 3, 172]
abbrev dktX33_isSo_0 : List UInt8 := dkwX33_isSo_0 ++ []
theorem dksX33_isSo_0 : cX33_isSo.data.toList.drop 0 = dktX33_isSo_0 := by decide +kernel
theorem dX33_isSo_0 : decode cX33_isSo 0 = .ok (.aload_n 1, 1) := dk_43 (dk_at dksX33_isSo_0 0 rfl rfl)
theorem dX33_isSo_1 : decode cX33_isSo 1 = .ok (.aload_n 0, 1) := dk_42 (dk_at dksX33_isSo_0 1 rfl rfl)
theorem dX33_isSo_2 : decode cX33_isSo 2 = .ok (.getfield 1, 3) := dk_180 0 1 (dk_at dksX33_isSo_0 2 rfl rfl)
theorem dX33_isSo_5 : decode cX33_isSo 5 = .ok (.invokevirtual 17, 3) := dk_182 0 17 (dk_at dksX33_isSo_0 5 rfl rfl)
theorem dX33_isSo_8 : decode cX33_isSo 8 = .ok (.invokevirtual 23, 3) := dk_182 0 23 (dk_at dksX33_isSo_0 8 rfl rfl)
theorem dX33_isSo_11 : decode cX33_isSo 11 = .ok (.aload_n 0, 1) := dk_42 (dk_at dksX33_isSo_0 11 rfl rfl)
theorem dX33_isSo_12 : decode cX33_isSo 12 = .ok (.getfield 7, 3) := dk_180 0 7 (dk_at dksX33_isSo_0 12 rfl rfl)
theorem dX33_isSo_15 : decode cX33_isSo 15 = .ok (.if_icmp .ne 7, 3) := dk_160 0 7 (dk_at dksX33_isSo_0 15 rfl rfl)
theorem dX33_isSo_18 : decode cX33_isSo 18 = .ok (.iconst 1, 1) := dk_4 (dk_at dksX33_isSo_0 18 rfl rfl)
theorem dX33_isSo_19 : decode cX33_isSo 19 = .ok (.goto 4, 3) := dk_167 0 4 (dk_at dksX33_isSo_0 19 rfl rfl)
theorem dX33_isSo_22 : decode cX33_isSo 22 = .ok (.iconst 0, 1) := dk_3 (dk_at dksX33_isSo_0 22 rfl rfl)
theorem dX33_isSo_23 : decode cX33_isSo 23 = .ok (.ireturn, 1) := dk_172 (dk_at dksX33_isSo_0 23 rfl rfl)
abbrev cX33_init : ByteArray := prog_15_method_1_code
def yX33_init : MethodName := ⟨RX33, "<init>", "(LNapkinDeeds;I)V"⟩
def dkwX33_init_0 : List UInt8 := [42, 43, 181, 0, 1, 42, 28, 181, 0, 7, 42, 43, 183, 0, 11, 177]
abbrev dktX33_init_0 : List UInt8 := dkwX33_init_0 ++ []
theorem dksX33_init_0 : cX33_init.data.toList.drop 0 = dktX33_init_0 := by decide +kernel
theorem dX33_init_0 : decode cX33_init 0 = .ok (.aload_n 0, 1) := dk_42 (dk_at dksX33_init_0 0 rfl rfl)
theorem dX33_init_1 : decode cX33_init 1 = .ok (.aload_n 1, 1) := dk_43 (dk_at dksX33_init_0 1 rfl rfl)
theorem dX33_init_2 : decode cX33_init 2 = .ok (.putfield 1, 3) := dk_181 0 1 (dk_at dksX33_init_0 2 rfl rfl)
theorem dX33_init_5 : decode cX33_init 5 = .ok (.aload_n 0, 1) := dk_42 (dk_at dksX33_init_0 5 rfl rfl)
theorem dX33_init_6 : decode cX33_init 6 = .ok (.iload_n 2, 1) := dk_28 (dk_at dksX33_init_0 6 rfl rfl)
theorem dX33_init_7 : decode cX33_init 7 = .ok (.putfield 7, 3) := dk_181 0 7 (dk_at dksX33_init_0 7 rfl rfl)
theorem dX33_init_10 : decode cX33_init 10 = .ok (.aload_n 0, 1) := dk_42 (dk_at dksX33_init_0 10 rfl rfl)
theorem dX33_init_11 : decode cX33_init 11 = .ok (.aload_n 1, 1) := dk_43 (dk_at dksX33_init_0 11 rfl rfl)
theorem dX33_init_12 : decode cX33_init 12 = .ok (.invokespecial 11, 3) := dk_183 0 11 (dk_at dksX33_init_0 12 rfl rfl)
theorem dX33_init_15 : decode cX33_init 15 = .ok (.return_, 1) := dk_177 (dk_at dksX33_init_0 15 rfl rfl)
theorem q209 : (Jvm.Cond.initialized "NapkinDeeds$9") ∈ lw_all := lw_g (lw_at lw_m1 61 rfl) rfl
theorem q705 : (Jvm.Cond.selects "NapkinDeeds$9" ({ cls := "java/lang/Object", name := "getClass", desc := "()Ljava/lang/Class;" } : Jvm.MethodName) ({ cls := "java/lang/Object", name := "getClass", desc := "()Ljava/lang/Class;" } : Jvm.MethodName)) ∈ lw_all := lw_g (lw_at lw_m3 77 rfl) rfl
theorem q842 : (Jvm.Cond.selects "NapkinDeeds$9" ({ cls := "NapkinDeeds$Many", name := "isSo", desc := "(LNapkinDeeds$Look;II)Z" } : Jvm.MethodName) ({ cls := "NapkinDeeds$9", name := "isSo", desc := "(LNapkinDeeds$Look;II)Z" } : Jvm.MethodName)) ∈ lw_all := lw_g (lw_at lw_m3 214 rfl) rfl
theorem q843 : (Jvm.Cond.instanceMethod ({ cls := "NapkinDeeds$9", name := "isSo", desc := "(LNapkinDeeds$Look;II)Z" } : Jvm.MethodName)) ∈ lw_all := lw_g (lw_at lw_m3 215 rfl) rfl
theorem q844 : (Jvm.Cond.code ({ cls := "NapkinDeeds$9", name := "isSo", desc := "(LNapkinDeeds$Look;II)Z" } : Jvm.MethodName) prog_15_method_2_code (4 : Nat) (Option.some Jvm.ClassFile.FieldType.boolean)) ∈ lw_all := lw_g (lw_at lw_m3 216 rfl) rfl
theorem q845 : (Jvm.Cond.methodLinkNest "NapkinDeeds$9" (17 : Nat) ({ cls := "NapkinDeeds", name := "cells", desc := "()I" } : Jvm.MethodName) "NapkinDeeds") ∈ lw_tbl := lw_at lw_m3 217 rfl
theorem q846 : (Jvm.Cond.methodLink "NapkinDeeds$9" (23 : Nat) ({ cls := "NapkinDeeds$Look", name := "creases", desc := "(I)I" } : Jvm.MethodName)) ∈ lw_all := lw_g (lw_at lw_m3 218 rfl) rfl
theorem q1012 : (Jvm.Cond.selects "NapkinDeeds$9" ({ cls := "NapkinDeeds$Rows", name := "sees", desc := "(LNapkinDeeds$Look;II)V" } : Jvm.MethodName) ({ cls := "NapkinDeeds$Many", name := "sees", desc := "(LNapkinDeeds$Look;II)V" } : Jvm.MethodName)) ∈ lw_all := lw_g (lw_at lw_m4 144 rfl) rfl
theorem q2159 : (Jvm.Cond.selects "NapkinDeeds$9" ({ cls := "NapkinDeeds$Many", name := "seeks", desc := "(ZI)LNapkinDeeds$Rows;" } : Jvm.MethodName) ({ cls := "NapkinDeeds$Rows", name := "seeks", desc := "(ZI)LNapkinDeeds$Rows;" } : Jvm.MethodName)) ∈ lw_all := lw_g (lw_at lw_m9 91 rfl) rfl
theorem q2361 : (Jvm.Cond.instantiable "NapkinDeeds$9" (6 : Nat)) ∈ lw_all := lw_g (lw_at lw_m10 53 rfl) rfl
theorem q2363 : (Jvm.Cond.instanceMethod ({ cls := "NapkinDeeds$9", name := "<init>", desc := "(LNapkinDeeds;I)V" } : Jvm.MethodName)) ∈ lw_all := lw_g (lw_at lw_m10 55 rfl) rfl
theorem q2364 : (Jvm.Cond.code ({ cls := "NapkinDeeds$9", name := "<init>", desc := "(LNapkinDeeds;I)V" } : Jvm.MethodName) prog_15_method_1_code (3 : Nat) (Option.none : Option Jvm.ClassFile.FieldType)) ∈ lw_all := lw_g (lw_at lw_m10 56 rfl) rfl
theorem q2365 : (Jvm.Cond.methodLinkNest "NapkinDeeds$9" (11 : Nat) ({ cls := "NapkinDeeds$Many", name := "<init>", desc := "(LNapkinDeeds;)V" } : Jvm.MethodName) "NapkinDeeds") ∈ lw_tbl := lw_at lw_m10 57 rfl
theorem q2366 : (Jvm.Cond.fieldLink "NapkinDeeds$9" (7 : Nat) "NapkinDeeds$9" "val$code" "I") ∈ lw_all := lw_g (lw_at lw_m10 58 rfl) rfl
theorem q2367 : (Jvm.Cond.fieldLink "NapkinDeeds$9" (1 : Nat) "NapkinDeeds$9" "this$0" "LNapkinDeeds;") ∈ lw_all := lw_g (lw_at lw_m10 59 rfl) rfl
theorem q2368 : (Jvm.Cond.laysFinal "NapkinDeeds$9" "NapkinDeeds$9" "val$code" "I") ∈ lw_all := lw_g (lw_at lw_m10 60 rfl) rfl
theorem q2369 : (Jvm.Cond.soleField "NapkinDeeds$9" "val$code") ∈ lw_all := lw_g (lw_at lw_m10 61 rfl) rfl
theorem q2370 : (Jvm.Cond.laysFinal "NapkinDeeds$9" "NapkinDeeds$9" "this$0" "LNapkinDeeds;") ∈ lw_all := lw_g (lw_at lw_m10 62 rfl) rfl
theorem q2371 : (Jvm.Cond.soleField "NapkinDeeds$9" "this$0") ∈ lw_all := lw_g (lw_at lw_m10 63 rfl) rfl
theorem q2372 : (Jvm.Cond.lays "NapkinDeeds$9" "NapkinDeeds$Many" "many" "I") ∈ lw_all := lw_g (lw_at lw_m10 64 rfl) rfl
theorem q2373 : (Jvm.Cond.laysFinal "NapkinDeeds$9" "NapkinDeeds$Many" "this$0" "LNapkinDeeds;") ∈ lw_all := lw_g (lw_at lw_m10 65 rfl) rfl
theorem q2374 : (Jvm.Cond.laysFinal "NapkinDeeds$9" "NapkinDeeds$Rows" "row" "[I") ∈ lw_all := lw_g (lw_at lw_m10 66 rfl) rfl
theorem q2375 : (Jvm.Cond.laysFinal "NapkinDeeds$9" "NapkinDeeds$Rows" "this$0" "LNapkinDeeds;") ∈ lw_all := lw_g (lw_at lw_m10 67 rfl) rfl
theorem q2376 : (Jvm.Cond.superclass "NapkinDeeds$9" "NapkinDeeds$Many") ∈ lw_all := lw_g (lw_at lw_m10 68 rfl) rfl
theorem q3535 : (Jvm.Cond.castable "NapkinDeeds$9" "java/lang/Object") ∈ lw_tbl := lw_at lw_m15 27 rfl
theorem in_X33 : ∀ w ∈ wsX330, w ∈ lw_all := lw_in wsX330 [2372, 2373, 2374, 2375, 2368, 2370] (by decide +kernel) (by decide +kernel)
/-! NapkinDeeds$10 -/
set_option maxRecDepth 100000
def RX34 : String := "NapkinDeeds$10"
def TX34 : u_T := fun k => match k with
  | 0 => ("NapkinDeeds$Best", "best", "[I", true)
  | 1 => ("NapkinDeeds$Best", "fewest", "I", false)
  | 2 => ("NapkinDeeds$Best", "most", "J", false)
  | 3 => ("NapkinDeeds$Best", "this$0", "LNapkinDeeds;", true)
  | 4 => ("NapkinDeeds$Rows", "row", "[I", true)
  | 5 => ("NapkinDeeds$Rows", "this$0", "LNapkinDeeds;", true)
  | 6 => ("NapkinDeeds$Fewest", "this$0", "LNapkinDeeds;", true)
  | 7 => ("NapkinDeeds$10", "val$code", "I", true)
  | _ => ("NapkinDeeds$10", "this$0", "LNapkinDeeds;", true)
def tyX34 : Nat → FieldType := fun k => match k with
  | 0 => .array .int
  | 1 => .int
  | 2 => .long
  | 3 => .object "NapkinDeeds"
  | 4 => .array .int
  | 5 => .object "NapkinDeeds"
  | 6 => .object "NapkinDeeds"
  | 7 => .int
  | _ => .object "NapkinDeeds"
abbrev wsX340 : List Cond := u_ws RX34 TX34 9
-- two fields of one name: no nmX34
theorem tyX34_ok : ∀ k, k < 9 → parseFieldDescriptor (TX34 k).2.2.1 = some (tyX34 k) := by decide +kernel
abbrev cX34_isSo : ByteArray := prog_3_method_2_code
def yX34_isSo : MethodName := ⟨RX34, "isSo", "(LNapkinDeeds$Look;I)Z"⟩
def dkwX34_isSo_0 : List UInt8 := [43, 42, 180, 0, 1, 182, 0, 17, 182, 0, 23, 42, 180, 0, 7, 160, 0, 7, 4, 167, 0, 4, 3, 172]
abbrev dktX34_isSo_0 : List UInt8 := dkwX34_isSo_0 ++ []
theorem dksX34_isSo_0 : cX34_isSo.data.toList.drop 0 = dktX34_isSo_0 := by decide +kernel
theorem dX34_isSo_0 : decode cX34_isSo 0 = .ok (.aload_n 1, 1) := dk_43 (dk_at dksX34_isSo_0 0 rfl rfl)
theorem dX34_isSo_1 : decode cX34_isSo 1 = .ok (.aload_n 0, 1) := dk_42 (dk_at dksX34_isSo_0 1 rfl rfl)
theorem dX34_isSo_2 : decode cX34_isSo 2 = .ok (.getfield 1, 3) := dk_180 0 1 (dk_at dksX34_isSo_0 2 rfl rfl)
theorem dX34_isSo_5 : decode cX34_isSo 5 = .ok (.invokevirtual 17, 3) := dk_182 0 17 (dk_at dksX34_isSo_0 5 rfl rfl)
theorem dX34_isSo_8 : decode cX34_isSo 8 = .ok (.invokevirtual 23, 3) := dk_182 0 23 (dk_at dksX34_isSo_0 8 rfl rfl)
theorem dX34_isSo_11 : decode cX34_isSo 11 = .ok (.aload_n 0, 1) := dk_42 (dk_at dksX34_isSo_0 11 rfl rfl)
theorem dX34_isSo_12 : decode cX34_isSo 12 = .ok (.getfield 7, 3) := dk_180 0 7 (dk_at dksX34_isSo_0 12 rfl rfl)
theorem dX34_isSo_15 : decode cX34_isSo 15 = .ok (.if_icmp .ne 7, 3) := dk_160 0 7 (dk_at dksX34_isSo_0 15 rfl rfl)
theorem dX34_isSo_18 : decode cX34_isSo 18 = .ok (.iconst 1, 1) := dk_4 (dk_at dksX34_isSo_0 18 rfl rfl)
theorem dX34_isSo_19 : decode cX34_isSo 19 = .ok (.goto 4, 3) := dk_167 0 4 (dk_at dksX34_isSo_0 19 rfl rfl)
theorem dX34_isSo_22 : decode cX34_isSo 22 = .ok (.iconst 0, 1) := dk_3 (dk_at dksX34_isSo_0 22 rfl rfl)
theorem dX34_isSo_23 : decode cX34_isSo 23 = .ok (.ireturn, 1) := dk_172 (dk_at dksX34_isSo_0 23 rfl rfl)
abbrev cX34_init : ByteArray := prog_3_method_1_code
def yX34_init : MethodName := ⟨RX34, "<init>", "(LNapkinDeeds;I)V"⟩
def dkwX34_init_0 : List UInt8 := [42, 43, 181, 0, 1, 42, 28, 181, 0, 7, 42, 43, 183, 0, 11, 177]
abbrev dktX34_init_0 : List UInt8 := dkwX34_init_0 ++ []
theorem dksX34_init_0 : cX34_init.data.toList.drop 0 = dktX34_init_0 := by decide +kernel
theorem dX34_init_0 : decode cX34_init 0 = .ok (.aload_n 0, 1) := dk_42 (dk_at dksX34_init_0 0 rfl rfl)
theorem dX34_init_1 : decode cX34_init 1 = .ok (.aload_n 1, 1) := dk_43 (dk_at dksX34_init_0 1 rfl rfl)
theorem dX34_init_2 : decode cX34_init 2 = .ok (.putfield 1, 3) := dk_181 0 1 (dk_at dksX34_init_0 2 rfl rfl)
theorem dX34_init_5 : decode cX34_init 5 = .ok (.aload_n 0, 1) := dk_42 (dk_at dksX34_init_0 5 rfl rfl)
theorem dX34_init_6 : decode cX34_init 6 = .ok (.iload_n 2, 1) := dk_28 (dk_at dksX34_init_0 6 rfl rfl)
theorem dX34_init_7 : decode cX34_init 7 = .ok (.putfield 7, 3) := dk_181 0 7 (dk_at dksX34_init_0 7 rfl rfl)
theorem dX34_init_10 : decode cX34_init 10 = .ok (.aload_n 0, 1) := dk_42 (dk_at dksX34_init_0 10 rfl rfl)
theorem dX34_init_11 : decode cX34_init 11 = .ok (.aload_n 1, 1) := dk_43 (dk_at dksX34_init_0 11 rfl rfl)
theorem dX34_init_12 : decode cX34_init 12 = .ok (.invokespecial 11, 3) := dk_183 0 11 (dk_at dksX34_init_0 12 rfl rfl)
theorem dX34_init_15 : decode cX34_init 15 = .ok (.return_, 1) := dk_177 (dk_at dksX34_init_0 15 rfl rfl)
theorem q210 : (Jvm.Cond.initialized "NapkinDeeds$10") ∈ lw_all := lw_g (lw_at lw_m1 62 rfl) rfl
theorem q693 : (Jvm.Cond.selects "NapkinDeeds$10" ({ cls := "java/lang/Object", name := "getClass", desc := "()Ljava/lang/Class;" } : Jvm.MethodName) ({ cls := "java/lang/Object", name := "getClass", desc := "()Ljava/lang/Class;" } : Jvm.MethodName)) ∈ lw_all := lw_g (lw_at lw_m3 65 rfl) rfl
theorem q805 : (Jvm.Cond.selects "NapkinDeeds$10" ({ cls := "NapkinDeeds$Best", name := "seeks", desc := "(ZI)LNapkinDeeds$Rows;" } : Jvm.MethodName) ({ cls := "NapkinDeeds$Rows", name := "seeks", desc := "(ZI)LNapkinDeeds$Rows;" } : Jvm.MethodName)) ∈ lw_all := lw_g (lw_at lw_m3 177 rfl) rfl
theorem q866 : (Jvm.Cond.selects "NapkinDeeds$10" ({ cls := "NapkinDeeds$Rows", name := "sees", desc := "(LNapkinDeeds$Look;II)V" } : Jvm.MethodName) ({ cls := "NapkinDeeds$Fewest", name := "sees", desc := "(LNapkinDeeds$Look;II)V" } : Jvm.MethodName)) ∈ lw_all := lw_g (lw_at lw_m3 238 rfl) rfl
theorem q872 : (Jvm.Cond.selects "NapkinDeeds$10" ({ cls := "NapkinDeeds$Fewest", name := "isSo", desc := "(LNapkinDeeds$Look;I)Z" } : Jvm.MethodName) ({ cls := "NapkinDeeds$10", name := "isSo", desc := "(LNapkinDeeds$Look;I)Z" } : Jvm.MethodName)) ∈ lw_all := lw_g (lw_at lw_m4 4 rfl) rfl
theorem q873 : (Jvm.Cond.instanceMethod ({ cls := "NapkinDeeds$10", name := "isSo", desc := "(LNapkinDeeds$Look;I)Z" } : Jvm.MethodName)) ∈ lw_all := lw_g (lw_at lw_m4 5 rfl) rfl
theorem q874 : (Jvm.Cond.code ({ cls := "NapkinDeeds$10", name := "isSo", desc := "(LNapkinDeeds$Look;I)Z" } : Jvm.MethodName) prog_3_method_2_code (3 : Nat) (Option.some Jvm.ClassFile.FieldType.boolean)) ∈ lw_all := lw_g (lw_at lw_m4 6 rfl) rfl
theorem q875 : (Jvm.Cond.methodLinkNest "NapkinDeeds$10" (17 : Nat) ({ cls := "NapkinDeeds", name := "cells", desc := "()I" } : Jvm.MethodName) "NapkinDeeds") ∈ lw_tbl := lw_at lw_m4 7 rfl
theorem q876 : (Jvm.Cond.methodLink "NapkinDeeds$10" (23 : Nat) ({ cls := "NapkinDeeds$Look", name := "creases", desc := "(I)I" } : Jvm.MethodName)) ∈ lw_all := lw_g (lw_at lw_m4 8 rfl) rfl
theorem q911 : (Jvm.Cond.selects "NapkinDeeds$10" ({ cls := "NapkinDeeds$Best", name := "value", desc := "(LNapkinDeeds$Look;II)J" } : Jvm.MethodName) ({ cls := "NapkinDeeds$Fewest", name := "value", desc := "(LNapkinDeeds$Look;II)J" } : Jvm.MethodName)) ∈ lw_all := lw_g (lw_at lw_m4 43 rfl) rfl
theorem q1025 : (Jvm.Cond.selects "NapkinDeeds$10" ({ cls := "NapkinDeeds$Best", name := "fold", desc := "(I)I" } : Jvm.MethodName) ({ cls := "NapkinDeeds$Best", name := "fold", desc := "(I)I" } : Jvm.MethodName)) ∈ lw_all := lw_g (lw_at lw_m4 157 rfl) rfl
theorem q1036 : (Jvm.Cond.selects "NapkinDeeds$10" ({ cls := "NapkinDeeds$Best", name := "isNone", desc := "()Z" } : Jvm.MethodName) ({ cls := "NapkinDeeds$Best", name := "isNone", desc := "()Z" } : Jvm.MethodName)) ∈ lw_all := lw_g (lw_at lw_m4 168 rfl) rfl
theorem q2216 : (Jvm.Cond.selects "NapkinDeeds$10" ({ cls := "NapkinDeeds$Fewest", name := "seeks", desc := "(ZI)LNapkinDeeds$Rows;" } : Jvm.MethodName) ({ cls := "NapkinDeeds$Rows", name := "seeks", desc := "(ZI)LNapkinDeeds$Rows;" } : Jvm.MethodName)) ∈ lw_all := lw_g (lw_at lw_m9 148 rfl) rfl
theorem q2223 : (Jvm.Cond.selects "NapkinDeeds$10" ({ cls := "NapkinDeeds$Fewest", name := "tells", desc := "(I)I" } : Jvm.MethodName) ({ cls := "NapkinDeeds$Fewest", name := "tells", desc := "(I)I" } : Jvm.MethodName)) ∈ lw_all := lw_g (lw_at lw_m9 155 rfl) rfl
theorem q2231 : (Jvm.Cond.selects "NapkinDeeds$10" ({ cls := "NapkinDeeds$Fewest", name := "isNone", desc := "()Z" } : Jvm.MethodName) ({ cls := "NapkinDeeds$Best", name := "isNone", desc := "()Z" } : Jvm.MethodName)) ∈ lw_all := lw_g (lw_at lw_m9 163 rfl) rfl
theorem q2238 : (Jvm.Cond.selects "NapkinDeeds$10" ({ cls := "NapkinDeeds$Fewest", name := "fewestFolds", desc := "()I" } : Jvm.MethodName) ({ cls := "NapkinDeeds$Fewest", name := "fewestFolds", desc := "()I" } : Jvm.MethodName)) ∈ lw_all := lw_g (lw_at lw_m9 170 rfl) rfl
theorem q2246 : (Jvm.Cond.selects "NapkinDeeds$10" ({ cls := "NapkinDeeds$Fewest", name := "fold", desc := "(I)I" } : Jvm.MethodName) ({ cls := "NapkinDeeds$Best", name := "fold", desc := "(I)I" } : Jvm.MethodName)) ∈ lw_all := lw_g (lw_at lw_m9 178 rfl) rfl
theorem q2385 : (Jvm.Cond.instantiable "NapkinDeeds$10" (9 : Nat)) ∈ lw_all := lw_g (lw_at lw_m10 77 rfl) rfl
theorem q2387 : (Jvm.Cond.instanceMethod ({ cls := "NapkinDeeds$10", name := "<init>", desc := "(LNapkinDeeds;I)V" } : Jvm.MethodName)) ∈ lw_all := lw_g (lw_at lw_m10 79 rfl) rfl
theorem q2388 : (Jvm.Cond.code ({ cls := "NapkinDeeds$10", name := "<init>", desc := "(LNapkinDeeds;I)V" } : Jvm.MethodName) prog_3_method_1_code (3 : Nat) (Option.none : Option Jvm.ClassFile.FieldType)) ∈ lw_all := lw_g (lw_at lw_m10 80 rfl) rfl
theorem q2389 : (Jvm.Cond.methodLinkNest "NapkinDeeds$10" (11 : Nat) ({ cls := "NapkinDeeds$Fewest", name := "<init>", desc := "(LNapkinDeeds;)V" } : Jvm.MethodName) "NapkinDeeds") ∈ lw_tbl := lw_at lw_m10 81 rfl
theorem q2390 : (Jvm.Cond.fieldLink "NapkinDeeds$10" (7 : Nat) "NapkinDeeds$10" "val$code" "I") ∈ lw_all := lw_g (lw_at lw_m10 82 rfl) rfl
theorem q2391 : (Jvm.Cond.fieldLink "NapkinDeeds$10" (1 : Nat) "NapkinDeeds$10" "this$0" "LNapkinDeeds;") ∈ lw_all := lw_g (lw_at lw_m10 83 rfl) rfl
theorem q2392 : (Jvm.Cond.laysFinal "NapkinDeeds$10" "NapkinDeeds$10" "val$code" "I") ∈ lw_all := lw_g (lw_at lw_m10 84 rfl) rfl
theorem q2393 : (Jvm.Cond.soleField "NapkinDeeds$10" "val$code") ∈ lw_all := lw_g (lw_at lw_m10 85 rfl) rfl
theorem q2394 : (Jvm.Cond.laysFinal "NapkinDeeds$10" "NapkinDeeds$10" "this$0" "LNapkinDeeds;") ∈ lw_all := lw_g (lw_at lw_m10 86 rfl) rfl
theorem q2395 : (Jvm.Cond.soleField "NapkinDeeds$10" "this$0") ∈ lw_all := lw_g (lw_at lw_m10 87 rfl) rfl
theorem q2396 : (Jvm.Cond.laysFinal "NapkinDeeds$10" "NapkinDeeds$Fewest" "this$0" "LNapkinDeeds;") ∈ lw_all := lw_g (lw_at lw_m10 88 rfl) rfl
theorem q2397 : (Jvm.Cond.laysFinal "NapkinDeeds$10" "NapkinDeeds$Best" "best" "[I") ∈ lw_all := lw_g (lw_at lw_m10 89 rfl) rfl
theorem q2398 : (Jvm.Cond.lays "NapkinDeeds$10" "NapkinDeeds$Best" "fewest" "I") ∈ lw_all := lw_g (lw_at lw_m10 90 rfl) rfl
theorem q2399 : (Jvm.Cond.lays "NapkinDeeds$10" "NapkinDeeds$Best" "most" "J") ∈ lw_all := lw_g (lw_at lw_m10 91 rfl) rfl
theorem q2400 : (Jvm.Cond.laysFinal "NapkinDeeds$10" "NapkinDeeds$Best" "this$0" "LNapkinDeeds;") ∈ lw_all := lw_g (lw_at lw_m10 92 rfl) rfl
theorem q2401 : (Jvm.Cond.laysFinal "NapkinDeeds$10" "NapkinDeeds$Rows" "row" "[I") ∈ lw_all := lw_g (lw_at lw_m10 93 rfl) rfl
theorem q2402 : (Jvm.Cond.laysFinal "NapkinDeeds$10" "NapkinDeeds$Rows" "this$0" "LNapkinDeeds;") ∈ lw_all := lw_g (lw_at lw_m10 94 rfl) rfl
theorem q2403 : (Jvm.Cond.superclass "NapkinDeeds$10" "NapkinDeeds$Fewest") ∈ lw_all := lw_g (lw_at lw_m10 95 rfl) rfl
theorem q3536 : (Jvm.Cond.castable "NapkinDeeds$10" "java/lang/Object") ∈ lw_tbl := lw_at lw_m15 28 rfl
theorem in_X34 : ∀ w ∈ wsX340, w ∈ lw_all := lw_in wsX340 [2397, 2398, 2399, 2400, 2401, 2402, 2396, 2392, 2394] (by decide +kernel) (by decide +kernel)
/-! NapkinDeeds$11 -/
set_option maxRecDepth 100000
def RX35 : String := "NapkinDeeds$11"
def TX35 : u_T := fun k => match k with
  | 0 => ("NapkinDeeds$Unlike", "many", "I", false)
  | 1 => ("NapkinDeeds$Unlike", "this$0", "LNapkinDeeds;", true)
  | 2 => ("NapkinDeeds$Rows", "row", "[I", true)
  | 3 => ("NapkinDeeds$Rows", "this$0", "LNapkinDeeds;", true)
  | _ => ("NapkinDeeds$11", "this$0", "LNapkinDeeds;", true)
def tyX35 : Nat → FieldType := fun k => match k with
  | 0 => .int
  | 1 => .object "NapkinDeeds"
  | 2 => .array .int
  | 3 => .object "NapkinDeeds"
  | _ => .object "NapkinDeeds"
abbrev wsX350 : List Cond := u_ws RX35 TX35 5
-- two fields of one name: no nmX35
theorem tyX35_ok : ∀ k, k < 5 → parseFieldDescriptor (TX35 k).2.2.1 = some (tyX35 k) := by decide +kernel
abbrev cX35_isSo : ByteArray := prog_4_method_2_code
def yX35_isSo : MethodName := ⟨RX35, "isSo", "(LNapkinDeeds$Look;I)Z"⟩
theorem dX35_isSo_0 : decode cX35_isSo 0 = .ok (.iconst 1, 1) := by decide +kernel
theorem dX35_isSo_1 : decode cX35_isSo 1 = .ok (.ireturn, 1) := by decide +kernel
abbrev cX35_code : ByteArray := prog_4_method_3_code
def yX35_code : MethodName := ⟨RX35, "code", "(LNapkinDeeds$Look;)J"⟩
def dkwX35_code_0 : List UInt8 := [43, 42, 180, 0, 1, 182, 0, 13, 182, 0, 19, 133, 173]
abbrev dktX35_code_0 : List UInt8 := dkwX35_code_0 ++ []
theorem dksX35_code_0 : cX35_code.data.toList.drop 0 = dktX35_code_0 := by decide +kernel
theorem dX35_code_0 : decode cX35_code 0 = .ok (.aload_n 1, 1) := dk_43 (dk_at dksX35_code_0 0 rfl rfl)
theorem dX35_code_1 : decode cX35_code 1 = .ok (.aload_n 0, 1) := dk_42 (dk_at dksX35_code_0 1 rfl rfl)
theorem dX35_code_2 : decode cX35_code 2 = .ok (.getfield 1, 3) := dk_180 0 1 (dk_at dksX35_code_0 2 rfl rfl)
theorem dX35_code_5 : decode cX35_code 5 = .ok (.invokevirtual 13, 3) := dk_182 0 13 (dk_at dksX35_code_0 5 rfl rfl)
theorem dX35_code_8 : decode cX35_code 8 = .ok (.invokevirtual 19, 3) := dk_182 0 19 (dk_at dksX35_code_0 8 rfl rfl)
theorem dX35_code_11 : decode cX35_code 11 = .ok (.i2l, 1) := dk_133 (dk_at dksX35_code_0 11 rfl rfl)
theorem dX35_code_12 : decode cX35_code 12 = .ok (.lreturn, 1) := dk_173 (dk_at dksX35_code_0 12 rfl rfl)
abbrev cX35_init : ByteArray := prog_4_method_1_code
def yX35_init : MethodName := ⟨RX35, "<init>", "(LNapkinDeeds;)V"⟩
def dkwX35_init_0 : List UInt8 := [42, 43, 181, 0, 1, 42, 43, 183, 0, 7, 177]
abbrev dktX35_init_0 : List UInt8 := dkwX35_init_0 ++ []
theorem dksX35_init_0 : cX35_init.data.toList.drop 0 = dktX35_init_0 := by decide +kernel
theorem dX35_init_0 : decode cX35_init 0 = .ok (.aload_n 0, 1) := dk_42 (dk_at dksX35_init_0 0 rfl rfl)
theorem dX35_init_1 : decode cX35_init 1 = .ok (.aload_n 1, 1) := dk_43 (dk_at dksX35_init_0 1 rfl rfl)
theorem dX35_init_2 : decode cX35_init 2 = .ok (.putfield 1, 3) := dk_181 0 1 (dk_at dksX35_init_0 2 rfl rfl)
theorem dX35_init_5 : decode cX35_init 5 = .ok (.aload_n 0, 1) := dk_42 (dk_at dksX35_init_0 5 rfl rfl)
theorem dX35_init_6 : decode cX35_init 6 = .ok (.aload_n 1, 1) := dk_43 (dk_at dksX35_init_0 6 rfl rfl)
theorem dX35_init_7 : decode cX35_init 7 = .ok (.invokespecial 7, 3) := dk_183 0 7 (dk_at dksX35_init_0 7 rfl rfl)
theorem dX35_init_10 : decode cX35_init 10 = .ok (.return_, 1) := dk_177 (dk_at dksX35_init_0 10 rfl rfl)
theorem q211 : (Jvm.Cond.initialized "NapkinDeeds$11") ∈ lw_all := lw_g (lw_at lw_m1 63 rfl) rfl
theorem q694 : (Jvm.Cond.selects "NapkinDeeds$11" ({ cls := "java/lang/Object", name := "getClass", desc := "()Ljava/lang/Class;" } : Jvm.MethodName) ({ cls := "java/lang/Object", name := "getClass", desc := "()Ljava/lang/Class;" } : Jvm.MethodName)) ∈ lw_all := lw_g (lw_at lw_m3 66 rfl) rfl
theorem q957 : (Jvm.Cond.selects "NapkinDeeds$11" ({ cls := "NapkinDeeds$Rows", name := "sees", desc := "(LNapkinDeeds$Look;II)V" } : Jvm.MethodName) ({ cls := "NapkinDeeds$Unlike", name := "sees", desc := "(LNapkinDeeds$Look;II)V" } : Jvm.MethodName)) ∈ lw_all := lw_g (lw_at lw_m4 89 rfl) rfl
theorem q963 : (Jvm.Cond.selects "NapkinDeeds$11" ({ cls := "NapkinDeeds$Unlike", name := "isSo", desc := "(LNapkinDeeds$Look;I)Z" } : Jvm.MethodName) ({ cls := "NapkinDeeds$11", name := "isSo", desc := "(LNapkinDeeds$Look;I)Z" } : Jvm.MethodName)) ∈ lw_all := lw_g (lw_at lw_m4 95 rfl) rfl
theorem q964 : (Jvm.Cond.instanceMethod ({ cls := "NapkinDeeds$11", name := "isSo", desc := "(LNapkinDeeds$Look;I)Z" } : Jvm.MethodName)) ∈ lw_all := lw_g (lw_at lw_m4 96 rfl) rfl
theorem q965 : (Jvm.Cond.code ({ cls := "NapkinDeeds$11", name := "isSo", desc := "(LNapkinDeeds$Look;I)Z" } : Jvm.MethodName) prog_4_method_2_code (3 : Nat) (Option.some Jvm.ClassFile.FieldType.boolean)) ∈ lw_all := lw_g (lw_at lw_m4 97 rfl) rfl
theorem q983 : (Jvm.Cond.selects "NapkinDeeds$11" ({ cls := "NapkinDeeds$Unlike", name := "code", desc := "(LNapkinDeeds$Look;)J" } : Jvm.MethodName) ({ cls := "NapkinDeeds$11", name := "code", desc := "(LNapkinDeeds$Look;)J" } : Jvm.MethodName)) ∈ lw_all := lw_g (lw_at lw_m4 115 rfl) rfl
theorem q984 : (Jvm.Cond.instanceMethod ({ cls := "NapkinDeeds$11", name := "code", desc := "(LNapkinDeeds$Look;)J" } : Jvm.MethodName)) ∈ lw_all := lw_g (lw_at lw_m4 116 rfl) rfl
theorem q985 : (Jvm.Cond.code ({ cls := "NapkinDeeds$11", name := "code", desc := "(LNapkinDeeds$Look;)J" } : Jvm.MethodName) prog_4_method_3_code (2 : Nat) (Option.some Jvm.ClassFile.FieldType.long)) ∈ lw_all := lw_g (lw_at lw_m4 117 rfl) rfl
theorem q986 : (Jvm.Cond.methodLinkNest "NapkinDeeds$11" (13 : Nat) ({ cls := "NapkinDeeds", name := "cells", desc := "()I" } : Jvm.MethodName) "NapkinDeeds") ∈ lw_tbl := lw_at lw_m4 118 rfl
theorem q987 : (Jvm.Cond.methodLink "NapkinDeeds$11" (19 : Nat) ({ cls := "NapkinDeeds$Look", name := "creases", desc := "(I)I" } : Jvm.MethodName)) ∈ lw_all := lw_g (lw_at lw_m4 119 rfl) rfl
theorem q1087 : (Jvm.Cond.selects "NapkinDeeds$11" ({ cls := "NapkinDeeds$Unlike", name := "seeks", desc := "(ZI)LNapkinDeeds$Rows;" } : Jvm.MethodName) ({ cls := "NapkinDeeds$Rows", name := "seeks", desc := "(ZI)LNapkinDeeds$Rows;" } : Jvm.MethodName)) ∈ lw_all := lw_g (lw_at lw_m4 219 rfl) rfl
theorem q1095 : (Jvm.Cond.selects "NapkinDeeds$11" ({ cls := "NapkinDeeds$Unlike", name := "unlike", desc := "()I" } : Jvm.MethodName) ({ cls := "NapkinDeeds$Unlike", name := "unlike", desc := "()I" } : Jvm.MethodName)) ∈ lw_all := lw_g (lw_at lw_m4 227 rfl) rfl
theorem q1504 : (Jvm.Cond.instantiable "NapkinDeeds$11" (5 : Nat)) ∈ lw_all := lw_g (lw_at lw_m6 156 rfl) rfl
theorem q1506 : (Jvm.Cond.instanceMethod ({ cls := "NapkinDeeds$11", name := "<init>", desc := "(LNapkinDeeds;)V" } : Jvm.MethodName)) ∈ lw_all := lw_g (lw_at lw_m6 158 rfl) rfl
theorem q1507 : (Jvm.Cond.code ({ cls := "NapkinDeeds$11", name := "<init>", desc := "(LNapkinDeeds;)V" } : Jvm.MethodName) prog_4_method_1_code (2 : Nat) (Option.none : Option Jvm.ClassFile.FieldType)) ∈ lw_all := lw_g (lw_at lw_m6 159 rfl) rfl
theorem q1508 : (Jvm.Cond.methodLinkNest "NapkinDeeds$11" (7 : Nat) ({ cls := "NapkinDeeds$Unlike", name := "<init>", desc := "(LNapkinDeeds;)V" } : Jvm.MethodName) "NapkinDeeds") ∈ lw_tbl := lw_at lw_m6 160 rfl
theorem q1509 : (Jvm.Cond.fieldLink "NapkinDeeds$11" (1 : Nat) "NapkinDeeds$11" "this$0" "LNapkinDeeds;") ∈ lw_all := lw_g (lw_at lw_m6 161 rfl) rfl
theorem q1510 : (Jvm.Cond.laysFinal "NapkinDeeds$11" "NapkinDeeds$11" "this$0" "LNapkinDeeds;") ∈ lw_all := lw_g (lw_at lw_m6 162 rfl) rfl
theorem q1511 : (Jvm.Cond.soleField "NapkinDeeds$11" "this$0") ∈ lw_all := lw_g (lw_at lw_m6 163 rfl) rfl
theorem q1512 : (Jvm.Cond.lays "NapkinDeeds$11" "NapkinDeeds$Unlike" "many" "I") ∈ lw_all := lw_g (lw_at lw_m6 164 rfl) rfl
theorem q1513 : (Jvm.Cond.laysFinal "NapkinDeeds$11" "NapkinDeeds$Unlike" "this$0" "LNapkinDeeds;") ∈ lw_all := lw_g (lw_at lw_m6 165 rfl) rfl
theorem q1514 : (Jvm.Cond.laysFinal "NapkinDeeds$11" "NapkinDeeds$Rows" "row" "[I") ∈ lw_all := lw_g (lw_at lw_m6 166 rfl) rfl
theorem q1515 : (Jvm.Cond.laysFinal "NapkinDeeds$11" "NapkinDeeds$Rows" "this$0" "LNapkinDeeds;") ∈ lw_all := lw_g (lw_at lw_m6 167 rfl) rfl
theorem q1516 : (Jvm.Cond.superclass "NapkinDeeds$11" "NapkinDeeds$Unlike") ∈ lw_all := lw_g (lw_at lw_m6 168 rfl) rfl
theorem q3537 : (Jvm.Cond.castable "NapkinDeeds$11" "java/lang/Object") ∈ lw_tbl := lw_at lw_m15 29 rfl
theorem in_X35 : ∀ w ∈ wsX350, w ∈ lw_all := lw_in wsX350 [1512, 1513, 1514, 1515, 1510] (by decide +kernel) (by decide +kernel)
/-! NapkinDeeds$12 -/
set_option maxRecDepth 100000
def RX36 : String := "NapkinDeeds$12"
def TX36 : u_T := fun k => match k with
  | 0 => ("NapkinDeeds$Best", "best", "[I", true)
  | 1 => ("NapkinDeeds$Best", "fewest", "I", false)
  | 2 => ("NapkinDeeds$Best", "most", "J", false)
  | 3 => ("NapkinDeeds$Best", "this$0", "LNapkinDeeds;", true)
  | 4 => ("NapkinDeeds$Rows", "row", "[I", true)
  | 5 => ("NapkinDeeds$Rows", "this$0", "LNapkinDeeds;", true)
  | _ => ("NapkinDeeds$12", "this$0", "LNapkinDeeds;", true)
def tyX36 : Nat → FieldType := fun k => match k with
  | 0 => .array .int
  | 1 => .int
  | 2 => .long
  | 3 => .object "NapkinDeeds"
  | 4 => .array .int
  | 5 => .object "NapkinDeeds"
  | _ => .object "NapkinDeeds"
abbrev wsX360 : List Cond := u_ws RX36 TX36 7
-- two fields of one name: no nmX36
theorem tyX36_ok : ∀ k, k < 7 → parseFieldDescriptor (TX36 k).2.2.1 = some (tyX36 k) := by decide +kernel
abbrev cX36_value : ByteArray := prog_5_method_2_code
def yX36_value : MethodName := ⟨RX36, "value", "(LNapkinDeeds$Look;II)J"⟩
def dkwX36_value_0 : List UInt8 := [42, 180, 0, 1, 43, 29, 182, 0, 13, 133, 173]
abbrev dktX36_value_0 : List UInt8 := dkwX36_value_0 ++ []
theorem dksX36_value_0 : cX36_value.data.toList.drop 0 = dktX36_value_0 := by decide +kernel
theorem dX36_value_0 : decode cX36_value 0 = .ok (.aload_n 0, 1) := dk_42 (dk_at dksX36_value_0 0 rfl rfl)
theorem dX36_value_1 : decode cX36_value 1 = .ok (.getfield 1, 3) := dk_180 0 1 (dk_at dksX36_value_0 1 rfl rfl)
theorem dX36_value_4 : decode cX36_value 4 = .ok (.aload_n 1, 1) := dk_43 (dk_at dksX36_value_0 4 rfl rfl)
theorem dX36_value_5 : decode cX36_value 5 = .ok (.iload_n 3, 1) := dk_29 (dk_at dksX36_value_0 5 rfl rfl)
theorem dX36_value_6 : decode cX36_value 6 = .ok (.invokevirtual 13, 3) := dk_182 0 13 (dk_at dksX36_value_0 6 rfl rfl)
theorem dX36_value_9 : decode cX36_value 9 = .ok (.i2l, 1) := dk_133 (dk_at dksX36_value_0 9 rfl rfl)
theorem dX36_value_10 : decode cX36_value 10 = .ok (.lreturn, 1) := dk_173 (dk_at dksX36_value_0 10 rfl rfl)
abbrev cX36_init : ByteArray := prog_5_method_1_code
def yX36_init : MethodName := ⟨RX36, "<init>", "(LNapkinDeeds;)V"⟩
def dkwX36_init_0 : List UInt8 := [42, 43, 181, 0, 1, 42, 43, 183, 0, 7, 177]
abbrev dktX36_init_0 : List UInt8 := dkwX36_init_0 ++ []
theorem dksX36_init_0 : cX36_init.data.toList.drop 0 = dktX36_init_0 := by decide +kernel
theorem dX36_init_0 : decode cX36_init 0 = .ok (.aload_n 0, 1) := dk_42 (dk_at dksX36_init_0 0 rfl rfl)
theorem dX36_init_1 : decode cX36_init 1 = .ok (.aload_n 1, 1) := dk_43 (dk_at dksX36_init_0 1 rfl rfl)
theorem dX36_init_2 : decode cX36_init 2 = .ok (.putfield 1, 3) := dk_181 0 1 (dk_at dksX36_init_0 2 rfl rfl)
theorem dX36_init_5 : decode cX36_init 5 = .ok (.aload_n 0, 1) := dk_42 (dk_at dksX36_init_0 5 rfl rfl)
theorem dX36_init_6 : decode cX36_init 6 = .ok (.aload_n 1, 1) := dk_43 (dk_at dksX36_init_0 6 rfl rfl)
theorem dX36_init_7 : decode cX36_init 7 = .ok (.invokespecial 7, 3) := dk_183 0 7 (dk_at dksX36_init_0 7 rfl rfl)
theorem dX36_init_10 : decode cX36_init 10 = .ok (.return_, 1) := dk_177 (dk_at dksX36_init_0 10 rfl rfl)
theorem q212 : (Jvm.Cond.initialized "NapkinDeeds$12") ∈ lw_all := lw_g (lw_at lw_m1 64 rfl) rfl
theorem q695 : (Jvm.Cond.selects "NapkinDeeds$12" ({ cls := "java/lang/Object", name := "getClass", desc := "()Ljava/lang/Class;" } : Jvm.MethodName) ({ cls := "java/lang/Object", name := "getClass", desc := "()Ljava/lang/Class;" } : Jvm.MethodName)) ∈ lw_all := lw_g (lw_at lw_m3 67 rfl) rfl
theorem q806 : (Jvm.Cond.selects "NapkinDeeds$12" ({ cls := "NapkinDeeds$Best", name := "seeks", desc := "(ZI)LNapkinDeeds$Rows;" } : Jvm.MethodName) ({ cls := "NapkinDeeds$Rows", name := "seeks", desc := "(ZI)LNapkinDeeds$Rows;" } : Jvm.MethodName)) ∈ lw_all := lw_g (lw_at lw_m3 178 rfl) rfl
theorem q915 : (Jvm.Cond.selects "NapkinDeeds$12" ({ cls := "NapkinDeeds$Best", name := "value", desc := "(LNapkinDeeds$Look;II)J" } : Jvm.MethodName) ({ cls := "NapkinDeeds$12", name := "value", desc := "(LNapkinDeeds$Look;II)J" } : Jvm.MethodName)) ∈ lw_all := lw_g (lw_at lw_m4 47 rfl) rfl
theorem q916 : (Jvm.Cond.instanceMethod ({ cls := "NapkinDeeds$12", name := "value", desc := "(LNapkinDeeds$Look;II)J" } : Jvm.MethodName)) ∈ lw_all := lw_g (lw_at lw_m4 48 rfl) rfl
theorem q917 : (Jvm.Cond.code ({ cls := "NapkinDeeds$12", name := "value", desc := "(LNapkinDeeds$Look;II)J" } : Jvm.MethodName) prog_5_method_2_code (4 : Nat) (Option.some Jvm.ClassFile.FieldType.long)) ∈ lw_all := lw_g (lw_at lw_m4 49 rfl) rfl
theorem q918 : (Jvm.Cond.methodLinkNest "NapkinDeeds$12" (13 : Nat) ({ cls := "NapkinDeeds", name := "leastLikes", desc := "(LNapkinDeeds$Look;I)I" } : Jvm.MethodName) "NapkinDeeds") ∈ lw_tbl := lw_at lw_m4 50 rfl
theorem q1002 : (Jvm.Cond.selects "NapkinDeeds$12" ({ cls := "NapkinDeeds$Rows", name := "sees", desc := "(LNapkinDeeds$Look;II)V" } : Jvm.MethodName) ({ cls := "NapkinDeeds$Best", name := "sees", desc := "(LNapkinDeeds$Look;II)V" } : Jvm.MethodName)) ∈ lw_all := lw_g (lw_at lw_m4 134 rfl) rfl
theorem q1026 : (Jvm.Cond.selects "NapkinDeeds$12" ({ cls := "NapkinDeeds$Best", name := "fold", desc := "(I)I" } : Jvm.MethodName) ({ cls := "NapkinDeeds$Best", name := "fold", desc := "(I)I" } : Jvm.MethodName)) ∈ lw_all := lw_g (lw_at lw_m4 158 rfl) rfl
theorem q1037 : (Jvm.Cond.selects "NapkinDeeds$12" ({ cls := "NapkinDeeds$Best", name := "isNone", desc := "()Z" } : Jvm.MethodName) ({ cls := "NapkinDeeds$Best", name := "isNone", desc := "()Z" } : Jvm.MethodName)) ∈ lw_all := lw_g (lw_at lw_m4 169 rfl) rfl
theorem q2413 : (Jvm.Cond.instantiable "NapkinDeeds$12" (7 : Nat)) ∈ lw_all := lw_g (lw_at lw_m10 105 rfl) rfl
theorem q2415 : (Jvm.Cond.instanceMethod ({ cls := "NapkinDeeds$12", name := "<init>", desc := "(LNapkinDeeds;)V" } : Jvm.MethodName)) ∈ lw_all := lw_g (lw_at lw_m10 107 rfl) rfl
theorem q2416 : (Jvm.Cond.code ({ cls := "NapkinDeeds$12", name := "<init>", desc := "(LNapkinDeeds;)V" } : Jvm.MethodName) prog_5_method_1_code (2 : Nat) (Option.none : Option Jvm.ClassFile.FieldType)) ∈ lw_all := lw_g (lw_at lw_m10 108 rfl) rfl
theorem q2417 : (Jvm.Cond.methodLinkNest "NapkinDeeds$12" (7 : Nat) ({ cls := "NapkinDeeds$Best", name := "<init>", desc := "(LNapkinDeeds;)V" } : Jvm.MethodName) "NapkinDeeds") ∈ lw_tbl := lw_at lw_m10 109 rfl
theorem q2418 : (Jvm.Cond.fieldLink "NapkinDeeds$12" (1 : Nat) "NapkinDeeds$12" "this$0" "LNapkinDeeds;") ∈ lw_all := lw_g (lw_at lw_m10 110 rfl) rfl
theorem q2419 : (Jvm.Cond.laysFinal "NapkinDeeds$12" "NapkinDeeds$12" "this$0" "LNapkinDeeds;") ∈ lw_all := lw_g (lw_at lw_m10 111 rfl) rfl
theorem q2420 : (Jvm.Cond.soleField "NapkinDeeds$12" "this$0") ∈ lw_all := lw_g (lw_at lw_m10 112 rfl) rfl
theorem q2421 : (Jvm.Cond.laysFinal "NapkinDeeds$12" "NapkinDeeds$Best" "best" "[I") ∈ lw_all := lw_g (lw_at lw_m10 113 rfl) rfl
theorem q2422 : (Jvm.Cond.lays "NapkinDeeds$12" "NapkinDeeds$Best" "fewest" "I") ∈ lw_all := lw_g (lw_at lw_m10 114 rfl) rfl
theorem q2423 : (Jvm.Cond.lays "NapkinDeeds$12" "NapkinDeeds$Best" "most" "J") ∈ lw_all := lw_g (lw_at lw_m10 115 rfl) rfl
theorem q2424 : (Jvm.Cond.laysFinal "NapkinDeeds$12" "NapkinDeeds$Best" "this$0" "LNapkinDeeds;") ∈ lw_all := lw_g (lw_at lw_m10 116 rfl) rfl
theorem q2425 : (Jvm.Cond.laysFinal "NapkinDeeds$12" "NapkinDeeds$Rows" "row" "[I") ∈ lw_all := lw_g (lw_at lw_m10 117 rfl) rfl
theorem q2426 : (Jvm.Cond.laysFinal "NapkinDeeds$12" "NapkinDeeds$Rows" "this$0" "LNapkinDeeds;") ∈ lw_all := lw_g (lw_at lw_m10 118 rfl) rfl
theorem q2427 : (Jvm.Cond.superclass "NapkinDeeds$12" "NapkinDeeds$Best") ∈ lw_all := lw_g (lw_at lw_m10 119 rfl) rfl
theorem q3538 : (Jvm.Cond.castable "NapkinDeeds$12" "java/lang/Object") ∈ lw_tbl := lw_at lw_m15 30 rfl
theorem in_X36 : ∀ w ∈ wsX360, w ∈ lw_all := lw_in wsX360 [2421, 2422, 2423, 2424, 2425, 2426, 2419] (by decide +kernel) (by decide +kernel)
/-! NapkinDeeds$13 -/
set_option maxRecDepth 100000
def RX37 : String := "NapkinDeeds$13"
def TX37 : u_T := fun k => match k with
  | 0 => ("NapkinDeeds$Unlike", "many", "I", false)
  | 1 => ("NapkinDeeds$Unlike", "this$0", "LNapkinDeeds;", true)
  | 2 => ("NapkinDeeds$Rows", "row", "[I", true)
  | 3 => ("NapkinDeeds$Rows", "this$0", "LNapkinDeeds;", true)
  | 4 => ("NapkinDeeds$13", "val$now", "[I", true)
  | _ => ("NapkinDeeds$13", "this$0", "LNapkinDeeds;", true)
def tyX37 : Nat → FieldType := fun k => match k with
  | 0 => .int
  | 1 => .object "NapkinDeeds"
  | 2 => .array .int
  | 3 => .object "NapkinDeeds"
  | 4 => .array .int
  | _ => .object "NapkinDeeds"
abbrev wsX370 : List Cond := u_ws RX37 TX37 6
-- two fields of one name: no nmX37
theorem tyX37_ok : ∀ k, k < 6 → parseFieldDescriptor (TX37 k).2.2.1 = some (tyX37 k) := by decide +kernel
abbrev cX37_isSo : ByteArray := prog_6_method_2_code
def yX37_isSo : MethodName := ⟨RX37, "isSo", "(LNapkinDeeds$Look;I)Z"⟩
def dkwX37_isSo_2 : List UInt8 := [180, 0, 7, 21, 4, 46, 164, 0, 7, 4, 167, 0, 4, 3, 128, 62, 132, 4, 1, 167, 255, 196, 29, 172]
abbrev dktX37_isSo_2 : List UInt8 := dkwX37_isSo_2 ++ []
def dkwX37_isSo_1 : List UInt8 := [182, 0, 17, 54, 5, 21, 5, 42, 180, 0, 7, 21, 4, 46, 162, 0, 5, 3, 172, 29, 21, 5, 42]
abbrev dktX37_isSo_1 : List UInt8 := dkwX37_isSo_1 ++ dktX37_isSo_2
def dkwX37_isSo_0 : List UInt8 := [3, 62, 3, 54, 4, 21, 4, 42, 180, 0, 7, 190, 162, 0, 56, 42, 180, 0, 1, 21, 4, 43, 28]
abbrev dktX37_isSo_0 : List UInt8 := dkwX37_isSo_0 ++ dktX37_isSo_1
theorem dksX37_isSo_0 : cX37_isSo.data.toList.drop 0 = dktX37_isSo_0 := by decide +kernel
theorem dksX37_isSo_1 : cX37_isSo.data.toList.drop 23 = dktX37_isSo_1 := dk_seg dksX37_isSo_0 23 rfl rfl
theorem dksX37_isSo_2 : cX37_isSo.data.toList.drop 46 = dktX37_isSo_2 := dk_seg dksX37_isSo_1 23 rfl rfl
theorem dX37_isSo_0 : decode cX37_isSo 0 = .ok (.iconst 0, 1) := dk_3 (dk_at dksX37_isSo_0 0 rfl rfl)
theorem dX37_isSo_1 : decode cX37_isSo 1 = .ok (.istore_n 3, 1) := dk_62 (dk_at dksX37_isSo_0 1 rfl rfl)
theorem dX37_isSo_2 : decode cX37_isSo 2 = .ok (.iconst 0, 1) := dk_3 (dk_at dksX37_isSo_0 2 rfl rfl)
theorem dX37_isSo_3 : decode cX37_isSo 3 = .ok (.istore 4, 2) := dk_54 4 (dk_at dksX37_isSo_0 3 rfl rfl)
theorem dX37_isSo_5 : decode cX37_isSo 5 = .ok (.iload 4, 2) := dk_21 4 (dk_at dksX37_isSo_0 5 rfl rfl)
theorem dX37_isSo_7 : decode cX37_isSo 7 = .ok (.aload_n 0, 1) := dk_42 (dk_at dksX37_isSo_0 7 rfl rfl)
theorem dX37_isSo_8 : decode cX37_isSo 8 = .ok (.getfield 7, 3) := dk_180 0 7 (dk_at dksX37_isSo_0 8 rfl rfl)
theorem dX37_isSo_11 : decode cX37_isSo 11 = .ok (.arraylength, 1) := dk_190 (dk_at dksX37_isSo_0 11 rfl rfl)
theorem dX37_isSo_12 : decode cX37_isSo 12 = .ok (.if_icmp .ge 56, 3) := dk_162 0 56 (dk_at dksX37_isSo_0 12 rfl rfl)
theorem dX37_isSo_15 : decode cX37_isSo 15 = .ok (.aload_n 0, 1) := dk_42 (dk_at dksX37_isSo_0 15 rfl rfl)
theorem dX37_isSo_16 : decode cX37_isSo 16 = .ok (.getfield 1, 3) := dk_180 0 1 (dk_at dksX37_isSo_0 16 rfl rfl)
theorem dX37_isSo_19 : decode cX37_isSo 19 = .ok (.iload 4, 2) := dk_21 4 (dk_at dksX37_isSo_0 19 rfl rfl)
theorem dX37_isSo_21 : decode cX37_isSo 21 = .ok (.aload_n 1, 1) := dk_43 (dk_at dksX37_isSo_0 21 rfl rfl)
theorem dX37_isSo_22 : decode cX37_isSo 22 = .ok (.iload_n 2, 1) := dk_28 (dk_at dksX37_isSo_0 22 rfl rfl)
theorem dX37_isSo_23 : decode cX37_isSo 23 = .ok (.invokevirtual 17, 3) := dk_182 0 17 (dk_at dksX37_isSo_1 0 rfl rfl)
theorem dX37_isSo_26 : decode cX37_isSo 26 = .ok (.istore 5, 2) := dk_54 5 (dk_at dksX37_isSo_1 3 rfl rfl)
theorem dX37_isSo_28 : decode cX37_isSo 28 = .ok (.iload 5, 2) := dk_21 5 (dk_at dksX37_isSo_1 5 rfl rfl)
theorem dX37_isSo_30 : decode cX37_isSo 30 = .ok (.aload_n 0, 1) := dk_42 (dk_at dksX37_isSo_1 7 rfl rfl)
theorem dX37_isSo_31 : decode cX37_isSo 31 = .ok (.getfield 7, 3) := dk_180 0 7 (dk_at dksX37_isSo_1 8 rfl rfl)
theorem dX37_isSo_34 : decode cX37_isSo 34 = .ok (.iload 4, 2) := dk_21 4 (dk_at dksX37_isSo_1 11 rfl rfl)
theorem dX37_isSo_36 : decode cX37_isSo 36 = .ok (.iaload, 1) := dk_46 (dk_at dksX37_isSo_1 13 rfl rfl)
theorem dX37_isSo_37 : decode cX37_isSo 37 = .ok (.if_icmp .ge 5, 3) := dk_162 0 5 (dk_at dksX37_isSo_1 14 rfl rfl)
theorem dX37_isSo_40 : decode cX37_isSo 40 = .ok (.iconst 0, 1) := dk_3 (dk_at dksX37_isSo_1 17 rfl rfl)
theorem dX37_isSo_41 : decode cX37_isSo 41 = .ok (.ireturn, 1) := dk_172 (dk_at dksX37_isSo_1 18 rfl rfl)
theorem dX37_isSo_42 : decode cX37_isSo 42 = .ok (.iload_n 3, 1) := dk_29 (dk_at dksX37_isSo_1 19 rfl rfl)
theorem dX37_isSo_43 : decode cX37_isSo 43 = .ok (.iload 5, 2) := dk_21 5 (dk_at dksX37_isSo_1 20 rfl rfl)
theorem dX37_isSo_45 : decode cX37_isSo 45 = .ok (.aload_n 0, 1) := dk_42 (dk_at dksX37_isSo_1 22 rfl rfl)
theorem dX37_isSo_46 : decode cX37_isSo 46 = .ok (.getfield 7, 3) := dk_180 0 7 (dk_at dksX37_isSo_2 0 rfl rfl)
theorem dX37_isSo_49 : decode cX37_isSo 49 = .ok (.iload 4, 2) := dk_21 4 (dk_at dksX37_isSo_2 3 rfl rfl)
theorem dX37_isSo_51 : decode cX37_isSo 51 = .ok (.iaload, 1) := dk_46 (dk_at dksX37_isSo_2 5 rfl rfl)
theorem dX37_isSo_52 : decode cX37_isSo 52 = .ok (.if_icmp .le 7, 3) := dk_164 0 7 (dk_at dksX37_isSo_2 6 rfl rfl)
theorem dX37_isSo_55 : decode cX37_isSo 55 = .ok (.iconst 1, 1) := dk_4 (dk_at dksX37_isSo_2 9 rfl rfl)
theorem dX37_isSo_56 : decode cX37_isSo 56 = .ok (.goto 4, 3) := dk_167 0 4 (dk_at dksX37_isSo_2 10 rfl rfl)
theorem dX37_isSo_59 : decode cX37_isSo 59 = .ok (.iconst 0, 1) := dk_3 (dk_at dksX37_isSo_2 13 rfl rfl)
theorem dX37_isSo_60 : decode cX37_isSo 60 = .ok (.ior, 1) := dk_128 (dk_at dksX37_isSo_2 14 rfl rfl)
theorem dX37_isSo_61 : decode cX37_isSo 61 = .ok (.istore_n 3, 1) := dk_62 (dk_at dksX37_isSo_2 15 rfl rfl)
theorem dX37_isSo_62 : decode cX37_isSo 62 = .ok (.iinc 4 1, 3) := dk_132 4 1 (dk_at dksX37_isSo_2 16 rfl rfl)
theorem dX37_isSo_65 : decode cX37_isSo 65 = .ok (.goto (-60), 3) := dk_167 255 196 (dk_at dksX37_isSo_2 19 rfl rfl)
theorem dX37_isSo_68 : decode cX37_isSo 68 = .ok (.iload_n 3, 1) := dk_29 (dk_at dksX37_isSo_2 22 rfl rfl)
theorem dX37_isSo_69 : decode cX37_isSo 69 = .ok (.ireturn, 1) := dk_172 (dk_at dksX37_isSo_2 23 rfl rfl)
abbrev cX37_init : ByteArray := prog_6_method_1_code
def yX37_init : MethodName := ⟨RX37, "<init>", "(LNapkinDeeds;[I)V"⟩
def dkwX37_init_0 : List UInt8 := [42, 43, 181, 0, 1, 42, 44, 181, 0, 7, 42, 43, 183, 0, 11, 177]
abbrev dktX37_init_0 : List UInt8 := dkwX37_init_0 ++ []
theorem dksX37_init_0 : cX37_init.data.toList.drop 0 = dktX37_init_0 := by decide +kernel
theorem dX37_init_0 : decode cX37_init 0 = .ok (.aload_n 0, 1) := dk_42 (dk_at dksX37_init_0 0 rfl rfl)
theorem dX37_init_1 : decode cX37_init 1 = .ok (.aload_n 1, 1) := dk_43 (dk_at dksX37_init_0 1 rfl rfl)
theorem dX37_init_2 : decode cX37_init 2 = .ok (.putfield 1, 3) := dk_181 0 1 (dk_at dksX37_init_0 2 rfl rfl)
theorem dX37_init_5 : decode cX37_init 5 = .ok (.aload_n 0, 1) := dk_42 (dk_at dksX37_init_0 5 rfl rfl)
theorem dX37_init_6 : decode cX37_init 6 = .ok (.aload_n 2, 1) := dk_44 (dk_at dksX37_init_0 6 rfl rfl)
theorem dX37_init_7 : decode cX37_init 7 = .ok (.putfield 7, 3) := dk_181 0 7 (dk_at dksX37_init_0 7 rfl rfl)
theorem dX37_init_10 : decode cX37_init 10 = .ok (.aload_n 0, 1) := dk_42 (dk_at dksX37_init_0 10 rfl rfl)
theorem dX37_init_11 : decode cX37_init 11 = .ok (.aload_n 1, 1) := dk_43 (dk_at dksX37_init_0 11 rfl rfl)
theorem dX37_init_12 : decode cX37_init 12 = .ok (.invokespecial 11, 3) := dk_183 0 11 (dk_at dksX37_init_0 12 rfl rfl)
theorem dX37_init_15 : decode cX37_init 15 = .ok (.return_, 1) := dk_177 (dk_at dksX37_init_0 15 rfl rfl)
theorem q213 : (Jvm.Cond.initialized "NapkinDeeds$13") ∈ lw_all := lw_g (lw_at lw_m1 65 rfl) rfl
theorem q696 : (Jvm.Cond.selects "NapkinDeeds$13" ({ cls := "java/lang/Object", name := "getClass", desc := "()Ljava/lang/Class;" } : Jvm.MethodName) ({ cls := "java/lang/Object", name := "getClass", desc := "()Ljava/lang/Class;" } : Jvm.MethodName)) ∈ lw_all := lw_g (lw_at lw_m3 68 rfl) rfl
theorem q966 : (Jvm.Cond.selects "NapkinDeeds$13" ({ cls := "NapkinDeeds$Unlike", name := "isSo", desc := "(LNapkinDeeds$Look;I)Z" } : Jvm.MethodName) ({ cls := "NapkinDeeds$13", name := "isSo", desc := "(LNapkinDeeds$Look;I)Z" } : Jvm.MethodName)) ∈ lw_all := lw_g (lw_at lw_m4 98 rfl) rfl
theorem q967 : (Jvm.Cond.instanceMethod ({ cls := "NapkinDeeds$13", name := "isSo", desc := "(LNapkinDeeds$Look;I)Z" } : Jvm.MethodName)) ∈ lw_all := lw_g (lw_at lw_m4 99 rfl) rfl
theorem q968 : (Jvm.Cond.code ({ cls := "NapkinDeeds$13", name := "isSo", desc := "(LNapkinDeeds$Look;I)Z" } : Jvm.MethodName) prog_6_method_2_code (6 : Nat) (Option.some Jvm.ClassFile.FieldType.boolean)) ∈ lw_all := lw_g (lw_at lw_m4 100 rfl) rfl
theorem q969 : (Jvm.Cond.methodLinkNest "NapkinDeeds$13" (17 : Nat) ({ cls := "NapkinDeeds", name := "likes", desc := "(ILNapkinDeeds$Look;I)I" } : Jvm.MethodName) "NapkinDeeds") ∈ lw_tbl := lw_at lw_m4 101 rfl
theorem q988 : (Jvm.Cond.selects "NapkinDeeds$13" ({ cls := "NapkinDeeds$Unlike", name := "code", desc := "(LNapkinDeeds$Look;)J" } : Jvm.MethodName) ({ cls := "NapkinDeeds$Unlike", name := "code", desc := "(LNapkinDeeds$Look;)J" } : Jvm.MethodName)) ∈ lw_all := lw_g (lw_at lw_m4 120 rfl) rfl
theorem q1003 : (Jvm.Cond.selects "NapkinDeeds$13" ({ cls := "NapkinDeeds$Rows", name := "sees", desc := "(LNapkinDeeds$Look;II)V" } : Jvm.MethodName) ({ cls := "NapkinDeeds$Unlike", name := "sees", desc := "(LNapkinDeeds$Look;II)V" } : Jvm.MethodName)) ∈ lw_all := lw_g (lw_at lw_m4 135 rfl) rfl
theorem q1088 : (Jvm.Cond.selects "NapkinDeeds$13" ({ cls := "NapkinDeeds$Unlike", name := "seeks", desc := "(ZI)LNapkinDeeds$Rows;" } : Jvm.MethodName) ({ cls := "NapkinDeeds$Rows", name := "seeks", desc := "(ZI)LNapkinDeeds$Rows;" } : Jvm.MethodName)) ∈ lw_all := lw_g (lw_at lw_m4 220 rfl) rfl
theorem q1096 : (Jvm.Cond.selects "NapkinDeeds$13" ({ cls := "NapkinDeeds$Unlike", name := "unlike", desc := "()I" } : Jvm.MethodName) ({ cls := "NapkinDeeds$Unlike", name := "unlike", desc := "()I" } : Jvm.MethodName)) ∈ lw_all := lw_g (lw_at lw_m4 228 rfl) rfl
theorem q2440 : (Jvm.Cond.instantiable "NapkinDeeds$13" (6 : Nat)) ∈ lw_all := lw_g (lw_at lw_m10 132 rfl) rfl
theorem q2442 : (Jvm.Cond.instanceMethod ({ cls := "NapkinDeeds$13", name := "<init>", desc := "(LNapkinDeeds;[I)V" } : Jvm.MethodName)) ∈ lw_all := lw_g (lw_at lw_m10 134 rfl) rfl
theorem q2443 : (Jvm.Cond.code ({ cls := "NapkinDeeds$13", name := "<init>", desc := "(LNapkinDeeds;[I)V" } : Jvm.MethodName) prog_6_method_1_code (3 : Nat) (Option.none : Option Jvm.ClassFile.FieldType)) ∈ lw_all := lw_g (lw_at lw_m10 135 rfl) rfl
theorem q2444 : (Jvm.Cond.methodLinkNest "NapkinDeeds$13" (11 : Nat) ({ cls := "NapkinDeeds$Unlike", name := "<init>", desc := "(LNapkinDeeds;)V" } : Jvm.MethodName) "NapkinDeeds") ∈ lw_tbl := lw_at lw_m10 136 rfl
theorem q2445 : (Jvm.Cond.fieldLink "NapkinDeeds$13" (7 : Nat) "NapkinDeeds$13" "val$now" "[I") ∈ lw_all := lw_g (lw_at lw_m10 137 rfl) rfl
theorem q2446 : (Jvm.Cond.fieldLink "NapkinDeeds$13" (1 : Nat) "NapkinDeeds$13" "this$0" "LNapkinDeeds;") ∈ lw_all := lw_g (lw_at lw_m10 138 rfl) rfl
theorem q2447 : (Jvm.Cond.laysFinal "NapkinDeeds$13" "NapkinDeeds$13" "val$now" "[I") ∈ lw_all := lw_g (lw_at lw_m10 139 rfl) rfl
theorem q2448 : (Jvm.Cond.soleField "NapkinDeeds$13" "val$now") ∈ lw_all := lw_g (lw_at lw_m10 140 rfl) rfl
theorem q2449 : (Jvm.Cond.laysFinal "NapkinDeeds$13" "NapkinDeeds$13" "this$0" "LNapkinDeeds;") ∈ lw_all := lw_g (lw_at lw_m10 141 rfl) rfl
theorem q2450 : (Jvm.Cond.soleField "NapkinDeeds$13" "this$0") ∈ lw_all := lw_g (lw_at lw_m10 142 rfl) rfl
theorem q2451 : (Jvm.Cond.lays "NapkinDeeds$13" "NapkinDeeds$Unlike" "many" "I") ∈ lw_all := lw_g (lw_at lw_m10 143 rfl) rfl
theorem q2452 : (Jvm.Cond.laysFinal "NapkinDeeds$13" "NapkinDeeds$Unlike" "this$0" "LNapkinDeeds;") ∈ lw_all := lw_g (lw_at lw_m10 144 rfl) rfl
theorem q2453 : (Jvm.Cond.laysFinal "NapkinDeeds$13" "NapkinDeeds$Rows" "row" "[I") ∈ lw_all := lw_g (lw_at lw_m10 145 rfl) rfl
theorem q2454 : (Jvm.Cond.laysFinal "NapkinDeeds$13" "NapkinDeeds$Rows" "this$0" "LNapkinDeeds;") ∈ lw_all := lw_g (lw_at lw_m10 146 rfl) rfl
theorem q2455 : (Jvm.Cond.superclass "NapkinDeeds$13" "NapkinDeeds$Unlike") ∈ lw_all := lw_g (lw_at lw_m10 147 rfl) rfl
theorem q3539 : (Jvm.Cond.castable "NapkinDeeds$13" "java/lang/Object") ∈ lw_tbl := lw_at lw_m15 31 rfl
theorem in_X37 : ∀ w ∈ wsX370, w ∈ lw_all := lw_in wsX370 [2451, 2452, 2453, 2454, 2447, 2449] (by decide +kernel) (by decide +kernel)
/-! NapkinDeeds$14 -/
set_option maxRecDepth 100000
def RX38 : String := "NapkinDeeds$14"
def TX38 : u_T := fun k => match k with
  | 0 => ("NapkinDeeds$Best", "best", "[I", true)
  | 1 => ("NapkinDeeds$Best", "fewest", "I", false)
  | 2 => ("NapkinDeeds$Best", "most", "J", false)
  | 3 => ("NapkinDeeds$Best", "this$0", "LNapkinDeeds;", true)
  | 4 => ("NapkinDeeds$Rows", "row", "[I", true)
  | 5 => ("NapkinDeeds$Rows", "this$0", "LNapkinDeeds;", true)
  | 6 => ("NapkinDeeds$14", "val$guest", "I", true)
  | _ => ("NapkinDeeds$14", "this$0", "LNapkinDeeds;", true)
def tyX38 : Nat → FieldType := fun k => match k with
  | 0 => .array .int
  | 1 => .int
  | 2 => .long
  | 3 => .object "NapkinDeeds"
  | 4 => .array .int
  | 5 => .object "NapkinDeeds"
  | 6 => .int
  | _ => .object "NapkinDeeds"
abbrev wsX380 : List Cond := u_ws RX38 TX38 8
-- two fields of one name: no nmX38
theorem tyX38_ok : ∀ k, k < 8 → parseFieldDescriptor (TX38 k).2.2.1 = some (tyX38 k) := by decide +kernel
abbrev cX38_value : ByteArray := prog_7_method_2_code
def yX38_value : MethodName := ⟨RX38, "value", "(LNapkinDeeds$Look;II)J"⟩
def dkwX38_value_0 : List UInt8 := [42, 180, 0, 1, 42, 180, 0, 7, 43, 29, 182, 0, 17, 133, 173]
abbrev dktX38_value_0 : List UInt8 := dkwX38_value_0 ++ []
theorem dksX38_value_0 : cX38_value.data.toList.drop 0 = dktX38_value_0 := by decide +kernel
theorem dX38_value_0 : decode cX38_value 0 = .ok (.aload_n 0, 1) := dk_42 (dk_at dksX38_value_0 0 rfl rfl)
theorem dX38_value_1 : decode cX38_value 1 = .ok (.getfield 1, 3) := dk_180 0 1 (dk_at dksX38_value_0 1 rfl rfl)
theorem dX38_value_4 : decode cX38_value 4 = .ok (.aload_n 0, 1) := dk_42 (dk_at dksX38_value_0 4 rfl rfl)
theorem dX38_value_5 : decode cX38_value 5 = .ok (.getfield 7, 3) := dk_180 0 7 (dk_at dksX38_value_0 5 rfl rfl)
theorem dX38_value_8 : decode cX38_value 8 = .ok (.aload_n 1, 1) := dk_43 (dk_at dksX38_value_0 8 rfl rfl)
theorem dX38_value_9 : decode cX38_value 9 = .ok (.iload_n 3, 1) := dk_29 (dk_at dksX38_value_0 9 rfl rfl)
theorem dX38_value_10 : decode cX38_value 10 = .ok (.invokevirtual 17, 3) := dk_182 0 17 (dk_at dksX38_value_0 10 rfl rfl)
theorem dX38_value_13 : decode cX38_value 13 = .ok (.i2l, 1) := dk_133 (dk_at dksX38_value_0 13 rfl rfl)
theorem dX38_value_14 : decode cX38_value 14 = .ok (.lreturn, 1) := dk_173 (dk_at dksX38_value_0 14 rfl rfl)
abbrev cX38_init : ByteArray := prog_7_method_1_code
def yX38_init : MethodName := ⟨RX38, "<init>", "(LNapkinDeeds;I)V"⟩
def dkwX38_init_0 : List UInt8 := [42, 43, 181, 0, 1, 42, 28, 181, 0, 7, 42, 43, 183, 0, 11, 177]
abbrev dktX38_init_0 : List UInt8 := dkwX38_init_0 ++ []
theorem dksX38_init_0 : cX38_init.data.toList.drop 0 = dktX38_init_0 := by decide +kernel
theorem dX38_init_0 : decode cX38_init 0 = .ok (.aload_n 0, 1) := dk_42 (dk_at dksX38_init_0 0 rfl rfl)
theorem dX38_init_1 : decode cX38_init 1 = .ok (.aload_n 1, 1) := dk_43 (dk_at dksX38_init_0 1 rfl rfl)
theorem dX38_init_2 : decode cX38_init 2 = .ok (.putfield 1, 3) := dk_181 0 1 (dk_at dksX38_init_0 2 rfl rfl)
theorem dX38_init_5 : decode cX38_init 5 = .ok (.aload_n 0, 1) := dk_42 (dk_at dksX38_init_0 5 rfl rfl)
theorem dX38_init_6 : decode cX38_init 6 = .ok (.iload_n 2, 1) := dk_28 (dk_at dksX38_init_0 6 rfl rfl)
theorem dX38_init_7 : decode cX38_init 7 = .ok (.putfield 7, 3) := dk_181 0 7 (dk_at dksX38_init_0 7 rfl rfl)
theorem dX38_init_10 : decode cX38_init 10 = .ok (.aload_n 0, 1) := dk_42 (dk_at dksX38_init_0 10 rfl rfl)
theorem dX38_init_11 : decode cX38_init 11 = .ok (.aload_n 1, 1) := dk_43 (dk_at dksX38_init_0 11 rfl rfl)
theorem dX38_init_12 : decode cX38_init 12 = .ok (.invokespecial 11, 3) := dk_183 0 11 (dk_at dksX38_init_0 12 rfl rfl)
theorem dX38_init_15 : decode cX38_init 15 = .ok (.return_, 1) := dk_177 (dk_at dksX38_init_0 15 rfl rfl)
theorem q214 : (Jvm.Cond.initialized "NapkinDeeds$14") ∈ lw_all := lw_g (lw_at lw_m1 66 rfl) rfl
theorem q697 : (Jvm.Cond.selects "NapkinDeeds$14" ({ cls := "java/lang/Object", name := "getClass", desc := "()Ljava/lang/Class;" } : Jvm.MethodName) ({ cls := "java/lang/Object", name := "getClass", desc := "()Ljava/lang/Class;" } : Jvm.MethodName)) ∈ lw_all := lw_g (lw_at lw_m3 69 rfl) rfl
theorem q807 : (Jvm.Cond.selects "NapkinDeeds$14" ({ cls := "NapkinDeeds$Best", name := "seeks", desc := "(ZI)LNapkinDeeds$Rows;" } : Jvm.MethodName) ({ cls := "NapkinDeeds$Rows", name := "seeks", desc := "(ZI)LNapkinDeeds$Rows;" } : Jvm.MethodName)) ∈ lw_all := lw_g (lw_at lw_m3 179 rfl) rfl
theorem q945 : (Jvm.Cond.selects "NapkinDeeds$14" ({ cls := "NapkinDeeds$Best", name := "value", desc := "(LNapkinDeeds$Look;II)J" } : Jvm.MethodName) ({ cls := "NapkinDeeds$14", name := "value", desc := "(LNapkinDeeds$Look;II)J" } : Jvm.MethodName)) ∈ lw_all := lw_g (lw_at lw_m4 77 rfl) rfl
theorem q946 : (Jvm.Cond.instanceMethod ({ cls := "NapkinDeeds$14", name := "value", desc := "(LNapkinDeeds$Look;II)J" } : Jvm.MethodName)) ∈ lw_all := lw_g (lw_at lw_m4 78 rfl) rfl
theorem q947 : (Jvm.Cond.code ({ cls := "NapkinDeeds$14", name := "value", desc := "(LNapkinDeeds$Look;II)J" } : Jvm.MethodName) prog_7_method_2_code (4 : Nat) (Option.some Jvm.ClassFile.FieldType.long)) ∈ lw_all := lw_g (lw_at lw_m4 79 rfl) rfl
theorem q948 : (Jvm.Cond.methodLinkNest "NapkinDeeds$14" (17 : Nat) ({ cls := "NapkinDeeds", name := "likes", desc := "(ILNapkinDeeds$Look;I)I" } : Jvm.MethodName) "NapkinDeeds") ∈ lw_tbl := lw_at lw_m4 80 rfl
theorem q1004 : (Jvm.Cond.selects "NapkinDeeds$14" ({ cls := "NapkinDeeds$Rows", name := "sees", desc := "(LNapkinDeeds$Look;II)V" } : Jvm.MethodName) ({ cls := "NapkinDeeds$Best", name := "sees", desc := "(LNapkinDeeds$Look;II)V" } : Jvm.MethodName)) ∈ lw_all := lw_g (lw_at lw_m4 136 rfl) rfl
theorem q1027 : (Jvm.Cond.selects "NapkinDeeds$14" ({ cls := "NapkinDeeds$Best", name := "fold", desc := "(I)I" } : Jvm.MethodName) ({ cls := "NapkinDeeds$Best", name := "fold", desc := "(I)I" } : Jvm.MethodName)) ∈ lw_all := lw_g (lw_at lw_m4 159 rfl) rfl
theorem q1038 : (Jvm.Cond.selects "NapkinDeeds$14" ({ cls := "NapkinDeeds$Best", name := "isNone", desc := "()Z" } : Jvm.MethodName) ({ cls := "NapkinDeeds$Best", name := "isNone", desc := "()Z" } : Jvm.MethodName)) ∈ lw_all := lw_g (lw_at lw_m4 170 rfl) rfl
theorem q2464 : (Jvm.Cond.instantiable "NapkinDeeds$14" (8 : Nat)) ∈ lw_all := lw_g (lw_at lw_m10 156 rfl) rfl
theorem q2466 : (Jvm.Cond.instanceMethod ({ cls := "NapkinDeeds$14", name := "<init>", desc := "(LNapkinDeeds;I)V" } : Jvm.MethodName)) ∈ lw_all := lw_g (lw_at lw_m10 158 rfl) rfl
theorem q2467 : (Jvm.Cond.code ({ cls := "NapkinDeeds$14", name := "<init>", desc := "(LNapkinDeeds;I)V" } : Jvm.MethodName) prog_7_method_1_code (3 : Nat) (Option.none : Option Jvm.ClassFile.FieldType)) ∈ lw_all := lw_g (lw_at lw_m10 159 rfl) rfl
theorem q2468 : (Jvm.Cond.methodLinkNest "NapkinDeeds$14" (11 : Nat) ({ cls := "NapkinDeeds$Best", name := "<init>", desc := "(LNapkinDeeds;)V" } : Jvm.MethodName) "NapkinDeeds") ∈ lw_tbl := lw_at lw_m10 160 rfl
theorem q2469 : (Jvm.Cond.fieldLink "NapkinDeeds$14" (7 : Nat) "NapkinDeeds$14" "val$guest" "I") ∈ lw_all := lw_g (lw_at lw_m10 161 rfl) rfl
theorem q2470 : (Jvm.Cond.fieldLink "NapkinDeeds$14" (1 : Nat) "NapkinDeeds$14" "this$0" "LNapkinDeeds;") ∈ lw_all := lw_g (lw_at lw_m10 162 rfl) rfl
theorem q2471 : (Jvm.Cond.laysFinal "NapkinDeeds$14" "NapkinDeeds$14" "val$guest" "I") ∈ lw_all := lw_g (lw_at lw_m10 163 rfl) rfl
theorem q2472 : (Jvm.Cond.soleField "NapkinDeeds$14" "val$guest") ∈ lw_all := lw_g (lw_at lw_m10 164 rfl) rfl
theorem q2473 : (Jvm.Cond.laysFinal "NapkinDeeds$14" "NapkinDeeds$14" "this$0" "LNapkinDeeds;") ∈ lw_all := lw_g (lw_at lw_m10 165 rfl) rfl
theorem q2474 : (Jvm.Cond.soleField "NapkinDeeds$14" "this$0") ∈ lw_all := lw_g (lw_at lw_m10 166 rfl) rfl
theorem q2475 : (Jvm.Cond.laysFinal "NapkinDeeds$14" "NapkinDeeds$Best" "best" "[I") ∈ lw_all := lw_g (lw_at lw_m10 167 rfl) rfl
theorem q2476 : (Jvm.Cond.lays "NapkinDeeds$14" "NapkinDeeds$Best" "fewest" "I") ∈ lw_all := lw_g (lw_at lw_m10 168 rfl) rfl
theorem q2477 : (Jvm.Cond.lays "NapkinDeeds$14" "NapkinDeeds$Best" "most" "J") ∈ lw_all := lw_g (lw_at lw_m10 169 rfl) rfl
theorem q2478 : (Jvm.Cond.laysFinal "NapkinDeeds$14" "NapkinDeeds$Best" "this$0" "LNapkinDeeds;") ∈ lw_all := lw_g (lw_at lw_m10 170 rfl) rfl
theorem q2479 : (Jvm.Cond.laysFinal "NapkinDeeds$14" "NapkinDeeds$Rows" "row" "[I") ∈ lw_all := lw_g (lw_at lw_m10 171 rfl) rfl
theorem q2480 : (Jvm.Cond.laysFinal "NapkinDeeds$14" "NapkinDeeds$Rows" "this$0" "LNapkinDeeds;") ∈ lw_all := lw_g (lw_at lw_m10 172 rfl) rfl
theorem q2481 : (Jvm.Cond.superclass "NapkinDeeds$14" "NapkinDeeds$Best") ∈ lw_all := lw_g (lw_at lw_m10 173 rfl) rfl
theorem q3540 : (Jvm.Cond.castable "NapkinDeeds$14" "java/lang/Object") ∈ lw_tbl := lw_at lw_m15 32 rfl
theorem in_X38 : ∀ w ∈ wsX380, w ∈ lw_all := lw_in wsX380 [2475, 2476, 2477, 2478, 2479, 2480, 2471, 2473] (by decide +kernel) (by decide +kernel)
/-! NapkinDeeds$Seen -/
set_option maxRecDepth 100000
def RX39 : String := "NapkinDeeds$Seen"
def TX39 : u_T := fun k => match k with
  | 0 => ("NapkinDeeds$Rows", "row", "[I", true)
  | 1 => ("NapkinDeeds$Rows", "this$0", "LNapkinDeeds;", true)
  | 2 => ("NapkinDeeds$Seen", "tray", "LNapkinDeeds$Tray;", true)
  | 3 => ("NapkinDeeds$Seen", "often", "[[I", true)
  | 4 => ("NapkinDeeds$Seen", "many", "I", false)
  | 5 => ("NapkinDeeds$Seen", "sure", "I", false)
  | _ => ("NapkinDeeds$Seen", "this$0", "LNapkinDeeds;", true)
def tyX39 : Nat → FieldType := fun k => match k with
  | 0 => .array .int
  | 1 => .object "NapkinDeeds"
  | 2 => .object "NapkinDeeds$Tray"
  | 3 => .array (.array .int)
  | 4 => .int
  | 5 => .int
  | _ => .object "NapkinDeeds"
abbrev wsX390 : List Cond := u_ws RX39 TX39 7
-- two fields of one name: no nmX39
theorem tyX39_ok : ∀ k, k < 7 → parseFieldDescriptor (TX39 k).2.2.1 = some (tyX39 k) := by decide +kernel
abbrev cX39_sees : ByteArray := prog_33_method_2_code
def yX39_sees : MethodName := ⟨RX39, "sees", "(LNapkinDeeds$Look;II)V"⟩
def dkwX39_sees_5 : List UInt8 := [182, 0, 52, 182, 0, 55, 92, 46, 4, 96, 79, 132, 5, 1, 167, 255, 216, 177]
abbrev dktX39_sees_5 : List UInt8 := dkwX39_sees_5 ++ []
def dkwX39_sees_4 : List UInt8 := [180, 0, 45, 162, 0, 37, 42, 180, 0, 17, 21, 5, 50, 42, 180, 0, 3, 180, 0, 48, 43, 21, 5]
abbrev dktX39_sees_4 : List UInt8 := dkwX39_sees_4 ++ dktX39_sees_5
def dkwX39_sees_3 : List UInt8 := [132, 5, 1, 167, 255, 217, 42, 89, 180, 0, 24, 21, 4, 126, 181, 0, 24, 3, 54, 5, 21, 5, 43]
abbrev dktX39_sees_3 : List UInt8 := dkwX39_sees_3 ++ dktX39_sees_4
def dkwX39_sees_2 : List UInt8 := [21, 4, 43, 21, 5, 182, 0, 39, 158, 0, 10, 4, 21, 5, 120, 167, 0, 4, 3, 128, 54, 4]
abbrev dktX39_sees_2 : List UInt8 := dkwX39_sees_2 ++ dktX39_sees_3
def dkwX39_sees_1 : List UInt8 := [181, 0, 32, 3, 54, 4, 3, 54, 5, 21, 5, 4, 96, 42, 180, 0, 3, 182, 0, 35, 162, 0, 31]
abbrev dktX39_sees_1 : List UInt8 := dkwX39_sees_1 ++ dktX39_sees_2
def dkwX39_sees_0 : List UInt8 := [42, 180, 0, 3, 43, 42, 180, 0, 20, 182, 0, 28, 154, 0, 4, 177, 42, 89, 180, 0, 32, 4, 96]
abbrev dktX39_sees_0 : List UInt8 := dkwX39_sees_0 ++ dktX39_sees_1
theorem dksX39_sees_0 : cX39_sees.data.toList.drop 0 = dktX39_sees_0 := by decide +kernel
theorem dksX39_sees_1 : cX39_sees.data.toList.drop 23 = dktX39_sees_1 := dk_seg dksX39_sees_0 23 rfl rfl
theorem dksX39_sees_2 : cX39_sees.data.toList.drop 46 = dktX39_sees_2 := dk_seg dksX39_sees_1 23 rfl rfl
theorem dksX39_sees_3 : cX39_sees.data.toList.drop 68 = dktX39_sees_3 := dk_seg dksX39_sees_2 22 rfl rfl
theorem dksX39_sees_4 : cX39_sees.data.toList.drop 91 = dktX39_sees_4 := dk_seg dksX39_sees_3 23 rfl rfl
theorem dksX39_sees_5 : cX39_sees.data.toList.drop 114 = dktX39_sees_5 := dk_seg dksX39_sees_4 23 rfl rfl
theorem dX39_sees_0 : decode cX39_sees 0 = .ok (.aload_n 0, 1) := dk_42 (dk_at dksX39_sees_0 0 rfl rfl)
theorem dX39_sees_1 : decode cX39_sees 1 = .ok (.getfield 3, 3) := dk_180 0 3 (dk_at dksX39_sees_0 1 rfl rfl)
theorem dX39_sees_4 : decode cX39_sees 4 = .ok (.aload_n 1, 1) := dk_43 (dk_at dksX39_sees_0 4 rfl rfl)
theorem dX39_sees_5 : decode cX39_sees 5 = .ok (.aload_n 0, 1) := dk_42 (dk_at dksX39_sees_0 5 rfl rfl)
theorem dX39_sees_6 : decode cX39_sees 6 = .ok (.getfield 20, 3) := dk_180 0 20 (dk_at dksX39_sees_0 6 rfl rfl)
theorem dX39_sees_9 : decode cX39_sees 9 = .ok (.invokevirtual 28, 3) := dk_182 0 28 (dk_at dksX39_sees_0 9 rfl rfl)
theorem dX39_sees_12 : decode cX39_sees 12 = .ok (.ifCond .ne 4, 3) := dk_154 0 4 (dk_at dksX39_sees_0 12 rfl rfl)
theorem dX39_sees_15 : decode cX39_sees 15 = .ok (.return_, 1) := dk_177 (dk_at dksX39_sees_0 15 rfl rfl)
theorem dX39_sees_16 : decode cX39_sees 16 = .ok (.aload_n 0, 1) := dk_42 (dk_at dksX39_sees_0 16 rfl rfl)
theorem dX39_sees_17 : decode cX39_sees 17 = .ok (.dup, 1) := dk_89 (dk_at dksX39_sees_0 17 rfl rfl)
theorem dX39_sees_18 : decode cX39_sees 18 = .ok (.getfield 32, 3) := dk_180 0 32 (dk_at dksX39_sees_0 18 rfl rfl)
theorem dX39_sees_21 : decode cX39_sees 21 = .ok (.iconst 1, 1) := dk_4 (dk_at dksX39_sees_0 21 rfl rfl)
theorem dX39_sees_22 : decode cX39_sees 22 = .ok (.iadd, 1) := dk_96 (dk_at dksX39_sees_0 22 rfl rfl)
theorem dX39_sees_23 : decode cX39_sees 23 = .ok (.putfield 32, 3) := dk_181 0 32 (dk_at dksX39_sees_1 0 rfl rfl)
theorem dX39_sees_26 : decode cX39_sees 26 = .ok (.iconst 0, 1) := dk_3 (dk_at dksX39_sees_1 3 rfl rfl)
theorem dX39_sees_27 : decode cX39_sees 27 = .ok (.istore 4, 2) := dk_54 4 (dk_at dksX39_sees_1 4 rfl rfl)
theorem dX39_sees_29 : decode cX39_sees 29 = .ok (.iconst 0, 1) := dk_3 (dk_at dksX39_sees_1 6 rfl rfl)
theorem dX39_sees_30 : decode cX39_sees 30 = .ok (.istore 5, 2) := dk_54 5 (dk_at dksX39_sees_1 7 rfl rfl)
theorem dX39_sees_32 : decode cX39_sees 32 = .ok (.iload 5, 2) := dk_21 5 (dk_at dksX39_sees_1 9 rfl rfl)
theorem dX39_sees_34 : decode cX39_sees 34 = .ok (.iconst 1, 1) := dk_4 (dk_at dksX39_sees_1 11 rfl rfl)
theorem dX39_sees_35 : decode cX39_sees 35 = .ok (.iadd, 1) := dk_96 (dk_at dksX39_sees_1 12 rfl rfl)
theorem dX39_sees_36 : decode cX39_sees 36 = .ok (.aload_n 0, 1) := dk_42 (dk_at dksX39_sees_1 13 rfl rfl)
theorem dX39_sees_37 : decode cX39_sees 37 = .ok (.getfield 3, 3) := dk_180 0 3 (dk_at dksX39_sees_1 14 rfl rfl)
theorem dX39_sees_40 : decode cX39_sees 40 = .ok (.invokevirtual 35, 3) := dk_182 0 35 (dk_at dksX39_sees_1 17 rfl rfl)
theorem dX39_sees_43 : decode cX39_sees 43 = .ok (.if_icmp .ge 31, 3) := dk_162 0 31 (dk_at dksX39_sees_1 20 rfl rfl)
theorem dX39_sees_46 : decode cX39_sees 46 = .ok (.iload 4, 2) := dk_21 4 (dk_at dksX39_sees_2 0 rfl rfl)
theorem dX39_sees_48 : decode cX39_sees 48 = .ok (.aload_n 1, 1) := dk_43 (dk_at dksX39_sees_2 2 rfl rfl)
theorem dX39_sees_49 : decode cX39_sees 49 = .ok (.iload 5, 2) := dk_21 5 (dk_at dksX39_sees_2 3 rfl rfl)
theorem dX39_sees_51 : decode cX39_sees 51 = .ok (.invokevirtual 39, 3) := dk_182 0 39 (dk_at dksX39_sees_2 5 rfl rfl)
theorem dX39_sees_54 : decode cX39_sees 54 = .ok (.ifCond .le 10, 3) := dk_158 0 10 (dk_at dksX39_sees_2 8 rfl rfl)
theorem dX39_sees_57 : decode cX39_sees 57 = .ok (.iconst 1, 1) := dk_4 (dk_at dksX39_sees_2 11 rfl rfl)
theorem dX39_sees_58 : decode cX39_sees 58 = .ok (.iload 5, 2) := dk_21 5 (dk_at dksX39_sees_2 12 rfl rfl)
theorem dX39_sees_60 : decode cX39_sees 60 = .ok (.ishl, 1) := dk_120 (dk_at dksX39_sees_2 14 rfl rfl)
theorem dX39_sees_61 : decode cX39_sees 61 = .ok (.goto 4, 3) := dk_167 0 4 (dk_at dksX39_sees_2 15 rfl rfl)
theorem dX39_sees_64 : decode cX39_sees 64 = .ok (.iconst 0, 1) := dk_3 (dk_at dksX39_sees_2 18 rfl rfl)
theorem dX39_sees_65 : decode cX39_sees 65 = .ok (.ior, 1) := dk_128 (dk_at dksX39_sees_2 19 rfl rfl)
theorem dX39_sees_66 : decode cX39_sees 66 = .ok (.istore 4, 2) := dk_54 4 (dk_at dksX39_sees_2 20 rfl rfl)
theorem dX39_sees_68 : decode cX39_sees 68 = .ok (.iinc 5 1, 3) := dk_132 5 1 (dk_at dksX39_sees_3 0 rfl rfl)
theorem dX39_sees_71 : decode cX39_sees 71 = .ok (.goto (-39), 3) := dk_167 255 217 (dk_at dksX39_sees_3 3 rfl rfl)
theorem dX39_sees_74 : decode cX39_sees 74 = .ok (.aload_n 0, 1) := dk_42 (dk_at dksX39_sees_3 6 rfl rfl)
theorem dX39_sees_75 : decode cX39_sees 75 = .ok (.dup, 1) := dk_89 (dk_at dksX39_sees_3 7 rfl rfl)
theorem dX39_sees_76 : decode cX39_sees 76 = .ok (.getfield 24, 3) := dk_180 0 24 (dk_at dksX39_sees_3 8 rfl rfl)
theorem dX39_sees_79 : decode cX39_sees 79 = .ok (.iload 4, 2) := dk_21 4 (dk_at dksX39_sees_3 11 rfl rfl)
theorem dX39_sees_81 : decode cX39_sees 81 = .ok (.iand, 1) := dk_126 (dk_at dksX39_sees_3 13 rfl rfl)
theorem dX39_sees_82 : decode cX39_sees 82 = .ok (.putfield 24, 3) := dk_181 0 24 (dk_at dksX39_sees_3 14 rfl rfl)
theorem dX39_sees_85 : decode cX39_sees 85 = .ok (.iconst 0, 1) := dk_3 (dk_at dksX39_sees_3 17 rfl rfl)
theorem dX39_sees_86 : decode cX39_sees 86 = .ok (.istore 5, 2) := dk_54 5 (dk_at dksX39_sees_3 18 rfl rfl)
theorem dX39_sees_88 : decode cX39_sees 88 = .ok (.iload 5, 2) := dk_21 5 (dk_at dksX39_sees_3 20 rfl rfl)
theorem dX39_sees_90 : decode cX39_sees 90 = .ok (.aload_n 1, 1) := dk_43 (dk_at dksX39_sees_3 22 rfl rfl)
theorem dX39_sees_91 : decode cX39_sees 91 = .ok (.getfield 45, 3) := dk_180 0 45 (dk_at dksX39_sees_4 0 rfl rfl)
theorem dX39_sees_94 : decode cX39_sees 94 = .ok (.if_icmp .ge 37, 3) := dk_162 0 37 (dk_at dksX39_sees_4 3 rfl rfl)
theorem dX39_sees_97 : decode cX39_sees 97 = .ok (.aload_n 0, 1) := dk_42 (dk_at dksX39_sees_4 6 rfl rfl)
theorem dX39_sees_98 : decode cX39_sees 98 = .ok (.getfield 17, 3) := dk_180 0 17 (dk_at dksX39_sees_4 7 rfl rfl)
theorem dX39_sees_101 : decode cX39_sees 101 = .ok (.iload 5, 2) := dk_21 5 (dk_at dksX39_sees_4 10 rfl rfl)
theorem dX39_sees_103 : decode cX39_sees 103 = .ok (.aaload, 1) := dk_50 (dk_at dksX39_sees_4 12 rfl rfl)
theorem dX39_sees_104 : decode cX39_sees 104 = .ok (.aload_n 0, 1) := dk_42 (dk_at dksX39_sees_4 13 rfl rfl)
theorem dX39_sees_105 : decode cX39_sees 105 = .ok (.getfield 3, 3) := dk_180 0 3 (dk_at dksX39_sees_4 14 rfl rfl)
theorem dX39_sees_108 : decode cX39_sees 108 = .ok (.getfield 48, 3) := dk_180 0 48 (dk_at dksX39_sees_4 17 rfl rfl)
theorem dX39_sees_111 : decode cX39_sees 111 = .ok (.aload_n 1, 1) := dk_43 (dk_at dksX39_sees_4 20 rfl rfl)
theorem dX39_sees_112 : decode cX39_sees 112 = .ok (.iload 5, 2) := dk_21 5 (dk_at dksX39_sees_4 21 rfl rfl)
theorem dX39_sees_114 : decode cX39_sees 114 = .ok (.invokevirtual 52, 3) := dk_182 0 52 (dk_at dksX39_sees_5 0 rfl rfl)
theorem dX39_sees_117 : decode cX39_sees 117 = .ok (.invokevirtual 55, 3) := dk_182 0 55 (dk_at dksX39_sees_5 3 rfl rfl)
theorem dX39_sees_120 : decode cX39_sees 120 = .ok (.dup2, 1) := dk_92 (dk_at dksX39_sees_5 6 rfl rfl)
theorem dX39_sees_121 : decode cX39_sees 121 = .ok (.iaload, 1) := dk_46 (dk_at dksX39_sees_5 7 rfl rfl)
theorem dX39_sees_122 : decode cX39_sees 122 = .ok (.iconst 1, 1) := dk_4 (dk_at dksX39_sees_5 8 rfl rfl)
theorem dX39_sees_123 : decode cX39_sees 123 = .ok (.iadd, 1) := dk_96 (dk_at dksX39_sees_5 9 rfl rfl)
theorem dX39_sees_124 : decode cX39_sees 124 = .ok (.iastore, 1) := dk_79 (dk_at dksX39_sees_5 10 rfl rfl)
theorem dX39_sees_125 : decode cX39_sees 125 = .ok (.iinc 5 1, 3) := dk_132 5 1 (dk_at dksX39_sees_5 11 rfl rfl)
theorem dX39_sees_128 : decode cX39_sees 128 = .ok (.goto (-40), 3) := dk_167 255 216 (dk_at dksX39_sees_5 14 rfl rfl)
theorem dX39_sees_131 : decode cX39_sees 131 = .ok (.return_, 1) := dk_177 (dk_at dksX39_sees_5 17 rfl rfl)
abbrev cX39_init : ByteArray := prog_33_method_1_code
def yX39_init : MethodName := ⟨RX39, "<init>", "(LNapkinDeeds;LNapkinDeeds$Tray;)V"⟩
def dkwX39_init_1 : List UInt8 := [181, 0, 20, 42, 16, 63, 181, 0, 24, 177]
abbrev dktX39_init_1 : List UInt8 := dkwX39_init_1 ++ []
def dkwX39_init_0 : List UInt8 := [42, 43, 181, 0, 3, 42, 43, 183, 0, 9, 42, 16, 6, 16, 100, 197, 0, 15, 2, 181, 0, 17, 42, 44]
abbrev dktX39_init_0 : List UInt8 := dkwX39_init_0 ++ dktX39_init_1
theorem dksX39_init_0 : cX39_init.data.toList.drop 0 = dktX39_init_0 := by decide +kernel
theorem dksX39_init_1 : cX39_init.data.toList.drop 24 = dktX39_init_1 := dk_seg dksX39_init_0 24 rfl rfl
theorem dX39_init_0 : decode cX39_init 0 = .ok (.aload_n 0, 1) := dk_42 (dk_at dksX39_init_0 0 rfl rfl)
theorem dX39_init_1 : decode cX39_init 1 = .ok (.aload_n 1, 1) := dk_43 (dk_at dksX39_init_0 1 rfl rfl)
theorem dX39_init_2 : decode cX39_init 2 = .ok (.putfield 3, 3) := dk_181 0 3 (dk_at dksX39_init_0 2 rfl rfl)
theorem dX39_init_5 : decode cX39_init 5 = .ok (.aload_n 0, 1) := dk_42 (dk_at dksX39_init_0 5 rfl rfl)
theorem dX39_init_6 : decode cX39_init 6 = .ok (.aload_n 1, 1) := dk_43 (dk_at dksX39_init_0 6 rfl rfl)
theorem dX39_init_7 : decode cX39_init 7 = .ok (.invokespecial 9, 3) := dk_183 0 9 (dk_at dksX39_init_0 7 rfl rfl)
theorem dX39_init_10 : decode cX39_init 10 = .ok (.aload_n 0, 1) := dk_42 (dk_at dksX39_init_0 10 rfl rfl)
theorem dX39_init_11 : decode cX39_init 11 = .ok (.bipush 6, 2) := dk_16 6 (dk_at dksX39_init_0 11 rfl rfl)
theorem dX39_init_13 : decode cX39_init 13 = .ok (.bipush 100, 2) := dk_16 100 (dk_at dksX39_init_0 13 rfl rfl)
theorem dX39_init_15 : decode cX39_init 15 = .ok (.multianewarray 15 2, 4) := by decide +kernel
theorem dX39_init_19 : decode cX39_init 19 = .ok (.putfield 17, 3) := dk_181 0 17 (dk_at dksX39_init_0 19 rfl rfl)
theorem dX39_init_22 : decode cX39_init 22 = .ok (.aload_n 0, 1) := dk_42 (dk_at dksX39_init_0 22 rfl rfl)
theorem dX39_init_23 : decode cX39_init 23 = .ok (.aload_n 2, 1) := dk_44 (dk_at dksX39_init_0 23 rfl rfl)
theorem dX39_init_24 : decode cX39_init 24 = .ok (.putfield 20, 3) := dk_181 0 20 (dk_at dksX39_init_1 0 rfl rfl)
theorem dX39_init_27 : decode cX39_init 27 = .ok (.aload_n 0, 1) := dk_42 (dk_at dksX39_init_1 3 rfl rfl)
theorem dX39_init_28 : decode cX39_init 28 = .ok (.bipush 63, 2) := dk_16 63 (dk_at dksX39_init_1 4 rfl rfl)
theorem dX39_init_30 : decode cX39_init 30 = .ok (.putfield 24, 3) := dk_181 0 24 (dk_at dksX39_init_1 6 rfl rfl)
theorem dX39_init_33 : decode cX39_init 33 = .ok (.return_, 1) := dk_177 (dk_at dksX39_init_1 9 rfl rfl)
theorem q215 : (Jvm.Cond.initialized "NapkinDeeds$Seen") ∈ lw_all := lw_g (lw_at lw_m1 67 rfl) rfl
theorem q342 : (Jvm.Cond.fieldLinkNest "NapkinDeeds$Seen" (45 : Nat) "NapkinDeeds$Look" "wide" "I" "NapkinDeeds") ∈ lw_tbl := lw_at lw_m1 194 rfl
theorem q382 : (Jvm.Cond.fieldLinkNest "NapkinDeeds$Seen" (48 : Nat) "NapkinDeeds" "state" "LNapkinDeeds$State;" "NapkinDeeds") ∈ lw_tbl := lw_at lw_m1 234 rfl
theorem q719 : (Jvm.Cond.selects "NapkinDeeds$Seen" ({ cls := "java/lang/Object", name := "getClass", desc := "()Ljava/lang/Class;" } : Jvm.MethodName) ({ cls := "java/lang/Object", name := "getClass", desc := "()Ljava/lang/Class;" } : Jvm.MethodName)) ∈ lw_all := lw_g (lw_at lw_m3 91 rfl) rfl
theorem q1013 : (Jvm.Cond.selects "NapkinDeeds$Seen" ({ cls := "NapkinDeeds$Rows", name := "sees", desc := "(LNapkinDeeds$Look;II)V" } : Jvm.MethodName) ({ cls := "NapkinDeeds$Seen", name := "sees", desc := "(LNapkinDeeds$Look;II)V" } : Jvm.MethodName)) ∈ lw_all := lw_g (lw_at lw_m4 145 rfl) rfl
theorem q1014 : (Jvm.Cond.instanceMethod ({ cls := "NapkinDeeds$Seen", name := "sees", desc := "(LNapkinDeeds$Look;II)V" } : Jvm.MethodName)) ∈ lw_all := lw_g (lw_at lw_m4 146 rfl) rfl
theorem q1015 : (Jvm.Cond.code ({ cls := "NapkinDeeds$Seen", name := "sees", desc := "(LNapkinDeeds$Look;II)V" } : Jvm.MethodName) prog_33_method_2_code (6 : Nat) (Option.none : Option Jvm.ClassFile.FieldType)) ∈ lw_all := lw_g (lw_at lw_m4 147 rfl) rfl
theorem q1016 : (Jvm.Cond.methodLinkNest "NapkinDeeds$Seen" (28 : Nat) ({ cls := "NapkinDeeds", name := "reads", desc := "(LNapkinDeeds$Look;LNapkinDeeds$Tray;)Z" } : Jvm.MethodName) "NapkinDeeds") ∈ lw_tbl := lw_at lw_m4 148 rfl
theorem q1017 : (Jvm.Cond.methodLinkNest "NapkinDeeds$Seen" (35 : Nat) ({ cls := "NapkinDeeds", name := "cells", desc := "()I" } : Jvm.MethodName) "NapkinDeeds") ∈ lw_tbl := lw_at lw_m4 149 rfl
theorem q1018 : (Jvm.Cond.methodLink "NapkinDeeds$Seen" (39 : Nat) ({ cls := "NapkinDeeds$Look", name := "crease", desc := "(I)I" } : Jvm.MethodName)) ∈ lw_all := lw_g (lw_at lw_m4 150 rfl) rfl
theorem q1019 : (Jvm.Cond.methodLink "NapkinDeeds$Seen" (52 : Nat) ({ cls := "NapkinDeeds$Look", name := "beneath", desc := "(I)I" } : Jvm.MethodName)) ∈ lw_all := lw_g (lw_at lw_m4 151 rfl) rfl
theorem q1020 : (Jvm.Cond.methodLink "NapkinDeeds$Seen" (55 : Nat) ({ cls := "NapkinDeeds$State", name := "mark", desc := "(I)I" } : Jvm.MethodName)) ∈ lw_all := lw_g (lw_at lw_m4 152 rfl) rfl
theorem q2494 : (Jvm.Cond.instantiable "NapkinDeeds$Seen" (7 : Nat)) ∈ lw_all := lw_g (lw_at lw_m10 186 rfl) rfl
theorem q2501 : (Jvm.Cond.instanceMethod ({ cls := "NapkinDeeds$Seen", name := "<init>", desc := "(LNapkinDeeds;LNapkinDeeds$Tray;)V" } : Jvm.MethodName)) ∈ lw_all := lw_g (lw_at lw_m10 193 rfl) rfl
theorem q2502 : (Jvm.Cond.code ({ cls := "NapkinDeeds$Seen", name := "<init>", desc := "(LNapkinDeeds;LNapkinDeeds$Tray;)V" } : Jvm.MethodName) prog_33_method_1_code (3 : Nat) (Option.none : Option Jvm.ClassFile.FieldType)) ∈ lw_all := lw_g (lw_at lw_m10 194 rfl) rfl
theorem q2503 : (Jvm.Cond.methodLinkNest "NapkinDeeds$Seen" (9 : Nat) ({ cls := "NapkinDeeds$Rows", name := "<init>", desc := "(LNapkinDeeds;)V" } : Jvm.MethodName) "NapkinDeeds") ∈ lw_tbl := lw_at lw_m10 195 rfl
theorem q2504 : (Jvm.Cond.classLink "NapkinDeeds$Seen" (15 : Nat) "[[I") ∈ lw_all := lw_g (lw_at lw_m10 196 rfl) rfl
theorem q2505 : (Jvm.Cond.fieldLink "NapkinDeeds$Seen" (20 : Nat) "NapkinDeeds$Seen" "tray" "LNapkinDeeds$Tray;") ∈ lw_all := lw_g (lw_at lw_m10 197 rfl) rfl
theorem q2507 : (Jvm.Cond.fieldLink "NapkinDeeds$Seen" (17 : Nat) "NapkinDeeds$Seen" "often" "[[I") ∈ lw_all := lw_g (lw_at lw_m10 199 rfl) rfl
theorem q2509 : (Jvm.Cond.fieldLink "NapkinDeeds$Seen" (32 : Nat) "NapkinDeeds$Seen" "many" "I") ∈ lw_all := lw_g (lw_at lw_m10 201 rfl) rfl
theorem q2511 : (Jvm.Cond.fieldLink "NapkinDeeds$Seen" (24 : Nat) "NapkinDeeds$Seen" "sure" "I") ∈ lw_all := lw_g (lw_at lw_m10 203 rfl) rfl
theorem q2513 : (Jvm.Cond.fieldLink "NapkinDeeds$Seen" (3 : Nat) "NapkinDeeds$Seen" "this$0" "LNapkinDeeds;") ∈ lw_all := lw_g (lw_at lw_m10 205 rfl) rfl
theorem q2514 : (Jvm.Cond.laysFinal "NapkinDeeds$Seen" "NapkinDeeds$Seen" "tray" "LNapkinDeeds$Tray;") ∈ lw_all := lw_g (lw_at lw_m10 206 rfl) rfl
theorem q2515 : (Jvm.Cond.soleField "NapkinDeeds$Seen" "tray") ∈ lw_all := lw_g (lw_at lw_m10 207 rfl) rfl
theorem q2516 : (Jvm.Cond.laysFinal "NapkinDeeds$Seen" "NapkinDeeds$Seen" "often" "[[I") ∈ lw_all := lw_g (lw_at lw_m10 208 rfl) rfl
theorem q2517 : (Jvm.Cond.soleField "NapkinDeeds$Seen" "often") ∈ lw_all := lw_g (lw_at lw_m10 209 rfl) rfl
theorem q2518 : (Jvm.Cond.lays "NapkinDeeds$Seen" "NapkinDeeds$Seen" "many" "I") ∈ lw_all := lw_g (lw_at lw_m10 210 rfl) rfl
theorem q2519 : (Jvm.Cond.soleField "NapkinDeeds$Seen" "many") ∈ lw_all := lw_g (lw_at lw_m10 211 rfl) rfl
theorem q2520 : (Jvm.Cond.lays "NapkinDeeds$Seen" "NapkinDeeds$Seen" "sure" "I") ∈ lw_all := lw_g (lw_at lw_m10 212 rfl) rfl
theorem q2521 : (Jvm.Cond.soleField "NapkinDeeds$Seen" "sure") ∈ lw_all := lw_g (lw_at lw_m10 213 rfl) rfl
theorem q2522 : (Jvm.Cond.laysFinal "NapkinDeeds$Seen" "NapkinDeeds$Seen" "this$0" "LNapkinDeeds;") ∈ lw_all := lw_g (lw_at lw_m10 214 rfl) rfl
theorem q2523 : (Jvm.Cond.soleField "NapkinDeeds$Seen" "this$0") ∈ lw_all := lw_g (lw_at lw_m10 215 rfl) rfl
theorem q2524 : (Jvm.Cond.laysFinal "NapkinDeeds$Seen" "NapkinDeeds$Rows" "row" "[I") ∈ lw_all := lw_g (lw_at lw_m10 216 rfl) rfl
theorem q2525 : (Jvm.Cond.laysFinal "NapkinDeeds$Seen" "NapkinDeeds$Rows" "this$0" "LNapkinDeeds;") ∈ lw_all := lw_g (lw_at lw_m10 217 rfl) rfl
theorem q2526 : (Jvm.Cond.superclass "NapkinDeeds$Seen" "NapkinDeeds$Rows") ∈ lw_all := lw_g (lw_at lw_m10 218 rfl) rfl
theorem q2528 : (Jvm.Cond.sameMethod "NapkinDeeds$Seen" "NapkinDeeds$Rows" "seeks" "(ZI)LNapkinDeeds$Rows;") ∈ lw_all := lw_g (lw_at lw_m10 220 rfl) rfl
theorem q2529 : (Jvm.Cond.selects "NapkinDeeds$Seen" ({ cls := "NapkinDeeds$Seen", name := "seeks", desc := "(ZI)LNapkinDeeds$Rows;" } : Jvm.MethodName) ({ cls := "NapkinDeeds$Rows", name := "seeks", desc := "(ZI)LNapkinDeeds$Rows;" } : Jvm.MethodName)) ∈ lw_all := lw_g (lw_at lw_m10 221 rfl) rfl
theorem q3541 : (Jvm.Cond.castable "NapkinDeeds$Seen" "java/lang/Object") ∈ lw_tbl := lw_at lw_m15 33 rfl
theorem in_X39 : ∀ w ∈ wsX390, w ∈ lw_all := lw_in wsX390 [2524, 2525, 2514, 2516, 2518, 2520, 2522] (by decide +kernel) (by decide +kernel)
/-! NapkinDeeds$Image -/
set_option maxRecDepth 100000
def RX40 : String := "NapkinDeeds$Image"
def TX40 : u_T := fun k => match k with
  | 0 => ("NapkinDeeds$Image", "was", "LNapkinDeeds$State;", true)
  | 1 => ("NapkinDeeds$Image", "done", "Ljava/util/ArrayList;", true)
  | _ => ("NapkinDeeds$Image", "this$0", "LNapkinDeeds;", true)
def tyX40 : Nat → FieldType := fun k => match k with
  | 0 => .object "NapkinDeeds$State"
  | 1 => .object "java/util/ArrayList"
  | _ => .object "NapkinDeeds"
abbrev wsX400 : List Cond := u_ws RX40 TX40 3
theorem nmX40 : ∀ a, a < 3 → ∀ b, b < 3 → a ≠ b → (TX40 a).2.1 ≠ (TX40 b).2.1 := by decide +kernel
theorem tyX40_ok : ∀ k, k < 3 → parseFieldDescriptor (TX40 k).2.2.1 = some (tyX40 k) := by decide +kernel
abbrev cX40_init : ByteArray := prog_23_method_1_code
def yX40_init : MethodName := ⟨RX40, "<init>", "(LNapkinDeeds;)V"⟩
def dkwX40_init_1 : List UInt8 := [89, 183, 0, 22, 181, 0, 23, 177]
abbrev dktX40_init_1 : List UInt8 := dkwX40_init_1 ++ []
def dkwX40_init_0 : List UInt8 := [42, 43, 181, 0, 1, 42, 183, 0, 7, 42, 187, 0, 13, 89, 183, 0, 15, 181, 0, 16, 42, 187, 0, 20]
abbrev dktX40_init_0 : List UInt8 := dkwX40_init_0 ++ dktX40_init_1
theorem dksX40_init_0 : cX40_init.data.toList.drop 0 = dktX40_init_0 := by decide +kernel
theorem dksX40_init_1 : cX40_init.data.toList.drop 24 = dktX40_init_1 := dk_seg dksX40_init_0 24 rfl rfl
theorem dX40_init_0 : decode cX40_init 0 = .ok (.aload_n 0, 1) := dk_42 (dk_at dksX40_init_0 0 rfl rfl)
theorem dX40_init_1 : decode cX40_init 1 = .ok (.aload_n 1, 1) := dk_43 (dk_at dksX40_init_0 1 rfl rfl)
theorem dX40_init_2 : decode cX40_init 2 = .ok (.putfield 1, 3) := dk_181 0 1 (dk_at dksX40_init_0 2 rfl rfl)
theorem dX40_init_5 : decode cX40_init 5 = .ok (.aload_n 0, 1) := dk_42 (dk_at dksX40_init_0 5 rfl rfl)
theorem dX40_init_6 : decode cX40_init 6 = .ok (.invokespecial 7, 3) := dk_183 0 7 (dk_at dksX40_init_0 6 rfl rfl)
theorem dX40_init_9 : decode cX40_init 9 = .ok (.aload_n 0, 1) := dk_42 (dk_at dksX40_init_0 9 rfl rfl)
theorem dX40_init_10 : decode cX40_init 10 = .ok (.new 13, 3) := dk_187 0 13 (dk_at dksX40_init_0 10 rfl rfl)
theorem dX40_init_13 : decode cX40_init 13 = .ok (.dup, 1) := dk_89 (dk_at dksX40_init_0 13 rfl rfl)
theorem dX40_init_14 : decode cX40_init 14 = .ok (.invokespecial 15, 3) := dk_183 0 15 (dk_at dksX40_init_0 14 rfl rfl)
theorem dX40_init_17 : decode cX40_init 17 = .ok (.putfield 16, 3) := dk_181 0 16 (dk_at dksX40_init_0 17 rfl rfl)
theorem dX40_init_20 : decode cX40_init 20 = .ok (.aload_n 0, 1) := dk_42 (dk_at dksX40_init_0 20 rfl rfl)
theorem dX40_init_21 : decode cX40_init 21 = .ok (.new 20, 3) := dk_187 0 20 (dk_at dksX40_init_0 21 rfl rfl)
theorem dX40_init_24 : decode cX40_init 24 = .ok (.dup, 1) := dk_89 (dk_at dksX40_init_1 0 rfl rfl)
theorem dX40_init_25 : decode cX40_init 25 = .ok (.invokespecial 22, 3) := dk_183 0 22 (dk_at dksX40_init_1 1 rfl rfl)
theorem dX40_init_28 : decode cX40_init 28 = .ok (.putfield 23, 3) := dk_181 0 23 (dk_at dksX40_init_1 4 rfl rfl)
theorem dX40_init_31 : decode cX40_init 31 = .ok (.return_, 1) := dk_177 (dk_at dksX40_init_1 7 rfl rfl)
abbrev cX40_takes : ByteArray := prog_23_method_2_code
def yX40_takes : MethodName := ⟨RX40, "takes", "()V"⟩
def dkwX40_takes_1 : List UInt8 := [180, 0, 23, 184, 0, 39, 177]
abbrev dktX40_takes_1 : List UInt8 := dkwX40_takes_1 ++ []
def dkwX40_takes_0 : List UInt8 := [42, 180, 0, 16, 42, 180, 0, 1, 180, 0, 27, 182, 0, 32, 42, 180, 0, 1, 180, 0, 36, 42]
abbrev dktX40_takes_0 : List UInt8 := dkwX40_takes_0 ++ dktX40_takes_1
theorem dksX40_takes_0 : cX40_takes.data.toList.drop 0 = dktX40_takes_0 := by decide +kernel
theorem dksX40_takes_1 : cX40_takes.data.toList.drop 22 = dktX40_takes_1 := dk_seg dksX40_takes_0 22 rfl rfl
theorem dX40_takes_0 : decode cX40_takes 0 = .ok (.aload_n 0, 1) := dk_42 (dk_at dksX40_takes_0 0 rfl rfl)
theorem dX40_takes_1 : decode cX40_takes 1 = .ok (.getfield 16, 3) := dk_180 0 16 (dk_at dksX40_takes_0 1 rfl rfl)
theorem dX40_takes_4 : decode cX40_takes 4 = .ok (.aload_n 0, 1) := dk_42 (dk_at dksX40_takes_0 4 rfl rfl)
theorem dX40_takes_5 : decode cX40_takes 5 = .ok (.getfield 1, 3) := dk_180 0 1 (dk_at dksX40_takes_0 5 rfl rfl)
theorem dX40_takes_8 : decode cX40_takes 8 = .ok (.getfield 27, 3) := dk_180 0 27 (dk_at dksX40_takes_0 8 rfl rfl)
theorem dX40_takes_11 : decode cX40_takes 11 = .ok (.invokevirtual 32, 3) := dk_182 0 32 (dk_at dksX40_takes_0 11 rfl rfl)
theorem dX40_takes_14 : decode cX40_takes 14 = .ok (.aload_n 0, 1) := dk_42 (dk_at dksX40_takes_0 14 rfl rfl)
theorem dX40_takes_15 : decode cX40_takes 15 = .ok (.getfield 1, 3) := dk_180 0 1 (dk_at dksX40_takes_0 15 rfl rfl)
theorem dX40_takes_18 : decode cX40_takes 18 = .ok (.getfield 36, 3) := dk_180 0 36 (dk_at dksX40_takes_0 18 rfl rfl)
theorem dX40_takes_21 : decode cX40_takes 21 = .ok (.aload_n 0, 1) := dk_42 (dk_at dksX40_takes_0 21 rfl rfl)
theorem dX40_takes_22 : decode cX40_takes 22 = .ok (.getfield 23, 3) := dk_180 0 23 (dk_at dksX40_takes_1 0 rfl rfl)
theorem dX40_takes_25 : decode cX40_takes 25 = .ok (.invokestatic 39, 3) := dk_184 0 39 (dk_at dksX40_takes_1 3 rfl rfl)
theorem dX40_takes_28 : decode cX40_takes 28 = .ok (.return_, 1) := dk_177 (dk_at dksX40_takes_1 6 rfl rfl)
abbrev cX40_gives : ByteArray := prog_23_method_3_code
def yX40_gives : MethodName := ⟨RX40, "gives", "()V"⟩
def dkwX40_gives_1 : List UInt8 := [180, 0, 36, 184, 0, 39, 177]
abbrev dktX40_gives_1 : List UInt8 := dkwX40_gives_1 ++ []
def dkwX40_gives_0 : List UInt8 := [42, 180, 0, 1, 180, 0, 27, 42, 180, 0, 16, 182, 0, 32, 42, 180, 0, 23, 42, 180, 0, 1]
abbrev dktX40_gives_0 : List UInt8 := dkwX40_gives_0 ++ dktX40_gives_1
theorem dksX40_gives_0 : cX40_gives.data.toList.drop 0 = dktX40_gives_0 := by decide +kernel
theorem dksX40_gives_1 : cX40_gives.data.toList.drop 22 = dktX40_gives_1 := dk_seg dksX40_gives_0 22 rfl rfl
theorem dX40_gives_0 : decode cX40_gives 0 = .ok (.aload_n 0, 1) := dk_42 (dk_at dksX40_gives_0 0 rfl rfl)
theorem dX40_gives_1 : decode cX40_gives 1 = .ok (.getfield 1, 3) := dk_180 0 1 (dk_at dksX40_gives_0 1 rfl rfl)
theorem dX40_gives_4 : decode cX40_gives 4 = .ok (.getfield 27, 3) := dk_180 0 27 (dk_at dksX40_gives_0 4 rfl rfl)
theorem dX40_gives_7 : decode cX40_gives 7 = .ok (.aload_n 0, 1) := dk_42 (dk_at dksX40_gives_0 7 rfl rfl)
theorem dX40_gives_8 : decode cX40_gives 8 = .ok (.getfield 16, 3) := dk_180 0 16 (dk_at dksX40_gives_0 8 rfl rfl)
theorem dX40_gives_11 : decode cX40_gives 11 = .ok (.invokevirtual 32, 3) := dk_182 0 32 (dk_at dksX40_gives_0 11 rfl rfl)
theorem dX40_gives_14 : decode cX40_gives 14 = .ok (.aload_n 0, 1) := dk_42 (dk_at dksX40_gives_0 14 rfl rfl)
theorem dX40_gives_15 : decode cX40_gives 15 = .ok (.getfield 23, 3) := dk_180 0 23 (dk_at dksX40_gives_0 15 rfl rfl)
theorem dX40_gives_18 : decode cX40_gives 18 = .ok (.aload_n 0, 1) := dk_42 (dk_at dksX40_gives_0 18 rfl rfl)
theorem dX40_gives_19 : decode cX40_gives 19 = .ok (.getfield 1, 3) := dk_180 0 1 (dk_at dksX40_gives_0 19 rfl rfl)
theorem dX40_gives_22 : decode cX40_gives 22 = .ok (.getfield 36, 3) := dk_180 0 36 (dk_at dksX40_gives_1 0 rfl rfl)
theorem dX40_gives_25 : decode cX40_gives 25 = .ok (.invokestatic 39, 3) := dk_184 0 39 (dk_at dksX40_gives_1 3 rfl rfl)
theorem dX40_gives_28 : decode cX40_gives 28 = .ok (.return_, 1) := dk_177 (dk_at dksX40_gives_1 6 rfl rfl)
theorem q217 : (Jvm.Cond.initialized "NapkinDeeds$Image") ∈ lw_all := lw_g (lw_at lw_m1 69 rfl) rfl
theorem q381 : (Jvm.Cond.fieldLinkNest "NapkinDeeds$Image" (27 : Nat) "NapkinDeeds" "state" "LNapkinDeeds$State;" "NapkinDeeds") ∈ lw_tbl := lw_at lw_m1 233 rfl
theorem q388 : (Jvm.Cond.fieldLinkNest "NapkinDeeds$Image" (36 : Nat) "NapkinDeeds" "deeds" "Ljava/util/ArrayList;" "NapkinDeeds") ∈ lw_tbl := lw_at lw_m2 0 rfl
theorem q711 : (Jvm.Cond.selects "NapkinDeeds$Image" ({ cls := "java/lang/Object", name := "getClass", desc := "()Ljava/lang/Class;" } : Jvm.MethodName) ({ cls := "java/lang/Object", name := "getClass", desc := "()Ljava/lang/Class;" } : Jvm.MethodName)) ∈ lw_all := lw_g (lw_at lw_m3 83 rfl) rfl
theorem q2623 : (Jvm.Cond.instantiable "NapkinDeeds$Image" (3 : Nat)) ∈ lw_all := lw_g (lw_at lw_m11 75 rfl) rfl
theorem q2625 : (Jvm.Cond.instanceMethod ({ cls := "NapkinDeeds$Image", name := "<init>", desc := "(LNapkinDeeds;)V" } : Jvm.MethodName)) ∈ lw_all := lw_g (lw_at lw_m11 77 rfl) rfl
theorem q2626 : (Jvm.Cond.code ({ cls := "NapkinDeeds$Image", name := "<init>", desc := "(LNapkinDeeds;)V" } : Jvm.MethodName) prog_23_method_1_code (2 : Nat) (Option.none : Option Jvm.ClassFile.FieldType)) ∈ lw_all := lw_g (lw_at lw_m11 78 rfl) rfl
theorem q2627 : (Jvm.Cond.methodLink "NapkinDeeds$Image" (7 : Nat) ({ cls := "java/lang/Object", name := "<init>", desc := "()V" } : Jvm.MethodName)) ∈ lw_all := lw_g (lw_at lw_m11 79 rfl) rfl
theorem q2628 : (Jvm.Cond.classLink "NapkinDeeds$Image" (13 : Nat) "NapkinDeeds$State") ∈ lw_all := lw_g (lw_at lw_m11 80 rfl) rfl
theorem q2629 : (Jvm.Cond.methodLinkNest "NapkinDeeds$Image" (15 : Nat) ({ cls := "NapkinDeeds$State", name := "<init>", desc := "()V" } : Jvm.MethodName) "NapkinDeeds") ∈ lw_tbl := lw_at lw_m11 81 rfl
theorem q2630 : (Jvm.Cond.classLink "NapkinDeeds$Image" (20 : Nat) "java/util/ArrayList") ∈ lw_all := lw_g (lw_at lw_m11 82 rfl) rfl
theorem q2631 : (Jvm.Cond.methodLink "NapkinDeeds$Image" (22 : Nat) ({ cls := "java/util/ArrayList", name := "<init>", desc := "()V" } : Jvm.MethodName)) ∈ lw_all := lw_g (lw_at lw_m11 83 rfl) rfl
theorem q2632 : (Jvm.Cond.fieldLink "NapkinDeeds$Image" (16 : Nat) "NapkinDeeds$Image" "was" "LNapkinDeeds$State;") ∈ lw_all := lw_g (lw_at lw_m11 84 rfl) rfl
theorem q2633 : (Jvm.Cond.fieldLink "NapkinDeeds$Image" (23 : Nat) "NapkinDeeds$Image" "done" "Ljava/util/ArrayList;") ∈ lw_all := lw_g (lw_at lw_m11 85 rfl) rfl
theorem q2634 : (Jvm.Cond.fieldLink "NapkinDeeds$Image" (1 : Nat) "NapkinDeeds$Image" "this$0" "LNapkinDeeds;") ∈ lw_all := lw_g (lw_at lw_m11 86 rfl) rfl
theorem q2635 : (Jvm.Cond.laysFinal "NapkinDeeds$Image" "NapkinDeeds$Image" "was" "LNapkinDeeds$State;") ∈ lw_all := lw_g (lw_at lw_m11 87 rfl) rfl
theorem q2636 : (Jvm.Cond.soleField "NapkinDeeds$Image" "was") ∈ lw_all := lw_g (lw_at lw_m11 88 rfl) rfl
theorem q2637 : (Jvm.Cond.laysFinal "NapkinDeeds$Image" "NapkinDeeds$Image" "done" "Ljava/util/ArrayList;") ∈ lw_all := lw_g (lw_at lw_m11 89 rfl) rfl
theorem q2638 : (Jvm.Cond.soleField "NapkinDeeds$Image" "done") ∈ lw_all := lw_g (lw_at lw_m11 90 rfl) rfl
theorem q2639 : (Jvm.Cond.laysFinal "NapkinDeeds$Image" "NapkinDeeds$Image" "this$0" "LNapkinDeeds;") ∈ lw_all := lw_g (lw_at lw_m11 91 rfl) rfl
theorem q2640 : (Jvm.Cond.soleField "NapkinDeeds$Image" "this$0") ∈ lw_all := lw_g (lw_at lw_m11 92 rfl) rfl
theorem q2641 : (Jvm.Cond.superclass "NapkinDeeds$Image" "java/lang/Object") ∈ lw_all := lw_g (lw_at lw_m11 93 rfl) rfl
theorem q2643 : (Jvm.Cond.instanceMethod ({ cls := "NapkinDeeds$Image", name := "takes", desc := "()V" } : Jvm.MethodName)) ∈ lw_all := lw_g (lw_at lw_m11 95 rfl) rfl
theorem q2644 : (Jvm.Cond.selects "NapkinDeeds$Image" ({ cls := "NapkinDeeds$Image", name := "takes", desc := "()V" } : Jvm.MethodName) ({ cls := "NapkinDeeds$Image", name := "takes", desc := "()V" } : Jvm.MethodName)) ∈ lw_all := lw_g (lw_at lw_m11 96 rfl) rfl
theorem q2645 : (Jvm.Cond.code ({ cls := "NapkinDeeds$Image", name := "takes", desc := "()V" } : Jvm.MethodName) prog_23_method_2_code (1 : Nat) (Option.none : Option Jvm.ClassFile.FieldType)) ∈ lw_all := lw_g (lw_at lw_m11 97 rfl) rfl
theorem q2646 : (Jvm.Cond.methodLink "NapkinDeeds$Image" (32 : Nat) ({ cls := "NapkinDeeds$State", name := "become", desc := "(LNapkinDeeds$State;)V" } : Jvm.MethodName)) ∈ lw_all := lw_g (lw_at lw_m11 98 rfl) rfl
theorem q2647 : (Jvm.Cond.methodLinkNest "NapkinDeeds$Image" (39 : Nat) ({ cls := "NapkinDeeds", name := "copies", desc := "(Ljava/util/ArrayList;Ljava/util/ArrayList;)V" } : Jvm.MethodName) "NapkinDeeds") ∈ lw_tbl := lw_at lw_m11 99 rfl
theorem q2706 : (Jvm.Cond.instanceMethod ({ cls := "NapkinDeeds$Image", name := "gives", desc := "()V" } : Jvm.MethodName)) ∈ lw_all := lw_g (lw_at lw_m11 158 rfl) rfl
theorem q2707 : (Jvm.Cond.selects "NapkinDeeds$Image" ({ cls := "NapkinDeeds$Image", name := "gives", desc := "()V" } : Jvm.MethodName) ({ cls := "NapkinDeeds$Image", name := "gives", desc := "()V" } : Jvm.MethodName)) ∈ lw_all := lw_g (lw_at lw_m11 159 rfl) rfl
theorem q2708 : (Jvm.Cond.code ({ cls := "NapkinDeeds$Image", name := "gives", desc := "()V" } : Jvm.MethodName) prog_23_method_3_code (1 : Nat) (Option.none : Option Jvm.ClassFile.FieldType)) ∈ lw_all := lw_g (lw_at lw_m11 160 rfl) rfl
theorem q3500 : (Jvm.Cond.castable "NapkinDeeds$Image" "java/lang/Object") ∈ lw_tbl := lw_at lw_m14 232 rfl
theorem in_X40 : ∀ w ∈ wsX400, w ∈ lw_all := lw_in wsX400 [2635, 2637, 2639] (by decide +kernel) (by decide +kernel)
/-! NapkinDeeds$Sum -/
set_option maxRecDepth 100000
def RX41 : String := "NapkinDeeds$Sum"
abbrev cX41_kept : ByteArray := prog_35_method_2_code
def yX41_kept : MethodName := ⟨RX41, "kept", "(J)I"⟩
def dkwX41_kept_0 : List UInt8 := [20, 0, 3, 20, 0, 5, 31, 184, 0, 7, 184, 0, 13, 136, 172]
abbrev dktX41_kept_0 : List UInt8 := dkwX41_kept_0 ++ []
theorem dksX41_kept_0 : cX41_kept.data.toList.drop 0 = dktX41_kept_0 := by decide +kernel
theorem dX41_kept_0 : decode cX41_kept 0 = .ok (.ldc2_w 3, 3) := dk_20 0 3 (dk_at dksX41_kept_0 0 rfl rfl)
theorem dX41_kept_3 : decode cX41_kept 3 = .ok (.ldc2_w 5, 3) := dk_20 0 5 (dk_at dksX41_kept_0 3 rfl rfl)
theorem dX41_kept_6 : decode cX41_kept 6 = .ok (.lload_n 1, 1) := dk_31 (dk_at dksX41_kept_0 6 rfl rfl)
theorem dX41_kept_7 : decode cX41_kept 7 = .ok (.invokestatic 7, 3) := dk_184 0 7 (dk_at dksX41_kept_0 7 rfl rfl)
theorem dX41_kept_10 : decode cX41_kept 10 = .ok (.invokestatic 13, 3) := dk_184 0 13 (dk_at dksX41_kept_0 10 rfl rfl)
theorem dX41_kept_13 : decode cX41_kept 13 = .ok (.l2i, 1) := dk_136 (dk_at dksX41_kept_0 13 rfl rfl)
theorem dX41_kept_14 : decode cX41_kept 14 = .ok (.ireturn, 1) := dk_172 (dk_at dksX41_kept_0 14 rfl rfl)
theorem q517 : (Jvm.Cond.interfaceMethod "NapkinDeeds$Sum" "NapkinDeeds$Sum" "of" "(LNapkinDeeds$Case;)I") ∈ lw_tbl := lw_at lw_m2 129 rfl
theorem q518 : (Jvm.Cond.declares ({ cls := "NapkinDeeds$Sum", name := "of", desc := "(LNapkinDeeds$Case;)I" } : Jvm.MethodName)) ∈ lw_tbl := lw_at lw_m2 130 rfl
theorem q558 : (Jvm.Cond.declares ({ cls := "NapkinDeeds$Sum", name := "kept", desc := "(J)I" } : Jvm.MethodName)) ∈ lw_tbl := lw_at lw_m2 170 rfl
theorem q562 : (Jvm.Cond.instanceMethod ({ cls := "NapkinDeeds$Sum", name := "kept", desc := "(J)I" } : Jvm.MethodName)) ∈ lw_all := lw_g (lw_at lw_m2 174 rfl) rfl
theorem q563 : (Jvm.Cond.publicMethod ({ cls := "NapkinDeeds$Sum", name := "kept", desc := "(J)I" } : Jvm.MethodName)) ∈ lw_tbl := lw_at lw_m2 175 rfl
theorem q564 : (Jvm.Cond.code ({ cls := "NapkinDeeds$Sum", name := "kept", desc := "(J)I" } : Jvm.MethodName) prog_35_method_2_code (3 : Nat) (Option.some Jvm.ClassFile.FieldType.int)) ∈ lw_all := lw_g (lw_at lw_m2 176 rfl) rfl
theorem q565 : (Jvm.Cond.constantLong "NapkinDeeds$Sum" (3 : Nat) (-1000000 : Int64)) ∈ lw_all := lw_g (lw_at lw_m2 177 rfl) rfl
theorem q566 : (Jvm.Cond.constantLong "NapkinDeeds$Sum" (5 : Nat) (1000000 : Int64)) ∈ lw_all := lw_g (lw_at lw_m2 178 rfl) rfl
theorem q567 : (Jvm.Cond.methodLink "NapkinDeeds$Sum" (7 : Nat) ({ cls := "java/lang/Math", name := "min", desc := "(JJ)J" } : Jvm.MethodName)) ∈ lw_all := lw_g (lw_at lw_m2 179 rfl) rfl
theorem q570 : (Jvm.Cond.methodLink "NapkinDeeds$Sum" (13 : Nat) ({ cls := "java/lang/Math", name := "max", desc := "(JJ)J" } : Jvm.MethodName)) ∈ lw_all := lw_g (lw_at lw_m2 182 rfl) rfl
theorem q3497 : (Jvm.Cond.initialized "NapkinDeeds$Sum") ∈ lw_all := lw_g (lw_at lw_m14 229 rfl) rfl
