/-! java/util/DualPivotQuicksort -/
set_option maxRecDepth 100000
def RJ25 : String := "java/util/DualPivotQuicksort"
abbrev cJ25_sort : ByteArray := prog_78_method_12_code
def yJ25_sort : MethodName := ⟨RJ25, "sort", "([JIII)V"⟩
def dkwJ25_sort_3 : List UInt8 := [29, 184, 0, 99, 177]
abbrev dktJ25_sort_3 : List UInt8 := dkwJ25_sort_3 ++ []
def dkwJ25_sort_2 : List UInt8 := [1, 42, 25, 6, 28, 21, 4, 28, 21, 5, 183, 0, 19, 182, 0, 22, 87, 167, 0, 11, 1, 42, 3, 28]
abbrev dktJ25_sort_2 : List UInt8 := dkwJ25_sort_2 ++ dktJ25_sort_3
def dkwJ25_sort_1 : List UInt8 := [184, 0, 13, 54, 5, 21, 5, 154, 0, 7, 1, 167, 0, 7, 21, 4, 188, 11, 58, 6, 187, 0, 17, 89]
abbrev dktJ25_sort_1 : List UInt8 := dkwJ25_sort_1 ++ dktJ25_sort_2
def dkwJ25_sort_0 : List UInt8 := [29, 28, 100, 54, 4, 27, 4, 164, 0, 61, 21, 4, 17, 16, 0, 164, 0, 53, 27, 21, 4, 16, 12, 122]
abbrev dktJ25_sort_0 : List UInt8 := dkwJ25_sort_0 ++ dktJ25_sort_1
theorem dksJ25_sort_0 : cJ25_sort.data.toList.drop 0 = dktJ25_sort_0 := by decide +kernel
theorem dksJ25_sort_1 : cJ25_sort.data.toList.drop 24 = dktJ25_sort_1 := dk_seg dksJ25_sort_0 24 rfl rfl
theorem dksJ25_sort_2 : cJ25_sort.data.toList.drop 48 = dktJ25_sort_2 := dk_seg dksJ25_sort_1 24 rfl rfl
theorem dksJ25_sort_3 : cJ25_sort.data.toList.drop 72 = dktJ25_sort_3 := dk_seg dksJ25_sort_2 24 rfl rfl
theorem dJ25_sort_0 : decode cJ25_sort 0 = .ok (.iload_n 3, 1) := dk_29 (dk_at dksJ25_sort_0 0 rfl rfl)
theorem dJ25_sort_1 : decode cJ25_sort 1 = .ok (.iload_n 2, 1) := dk_28 (dk_at dksJ25_sort_0 1 rfl rfl)
theorem dJ25_sort_2 : decode cJ25_sort 2 = .ok (.isub, 1) := dk_100 (dk_at dksJ25_sort_0 2 rfl rfl)
theorem dJ25_sort_3 : decode cJ25_sort 3 = .ok (.istore 4, 2) := dk_54 4 (dk_at dksJ25_sort_0 3 rfl rfl)
theorem dJ25_sort_5 : decode cJ25_sort 5 = .ok (.iload_n 1, 1) := dk_27 (dk_at dksJ25_sort_0 5 rfl rfl)
theorem dJ25_sort_6 : decode cJ25_sort 6 = .ok (.iconst 1, 1) := dk_4 (dk_at dksJ25_sort_0 6 rfl rfl)
theorem dJ25_sort_7 : decode cJ25_sort 7 = .ok (.if_icmp .le 61, 3) := dk_164 0 61 (dk_at dksJ25_sort_0 7 rfl rfl)
theorem dJ25_sort_10 : decode cJ25_sort 10 = .ok (.iload 4, 2) := dk_21 4 (dk_at dksJ25_sort_0 10 rfl rfl)
theorem dJ25_sort_12 : decode cJ25_sort 12 = .ok (.sipush 4096, 3) := dk_17 16 0 (dk_at dksJ25_sort_0 12 rfl rfl)
theorem dJ25_sort_15 : decode cJ25_sort 15 = .ok (.if_icmp .le 53, 3) := dk_164 0 53 (dk_at dksJ25_sort_0 15 rfl rfl)
theorem dJ25_sort_18 : decode cJ25_sort 18 = .ok (.iload_n 1, 1) := dk_27 (dk_at dksJ25_sort_0 18 rfl rfl)
theorem dJ25_sort_19 : decode cJ25_sort 19 = .ok (.iload 4, 2) := dk_21 4 (dk_at dksJ25_sort_0 19 rfl rfl)
theorem dJ25_sort_21 : decode cJ25_sort 21 = .ok (.bipush 12, 2) := dk_16 12 (dk_at dksJ25_sort_0 21 rfl rfl)
theorem dJ25_sort_23 : decode cJ25_sort 23 = .ok (.ishr, 1) := dk_122 (dk_at dksJ25_sort_0 23 rfl rfl)
theorem dJ25_sort_24 : decode cJ25_sort 24 = .ok (.invokestatic 13, 3) := dk_184 0 13 (dk_at dksJ25_sort_1 0 rfl rfl)
theorem dJ25_sort_27 : decode cJ25_sort 27 = .ok (.istore 5, 2) := dk_54 5 (dk_at dksJ25_sort_1 3 rfl rfl)
theorem dJ25_sort_29 : decode cJ25_sort 29 = .ok (.iload 5, 2) := dk_21 5 (dk_at dksJ25_sort_1 5 rfl rfl)
theorem dJ25_sort_31 : decode cJ25_sort 31 = .ok (.ifCond .ne 7, 3) := dk_154 0 7 (dk_at dksJ25_sort_1 7 rfl rfl)
theorem dJ25_sort_34 : decode cJ25_sort 34 = .ok (.aconst_null, 1) := dk_1 (dk_at dksJ25_sort_1 10 rfl rfl)
theorem dJ25_sort_35 : decode cJ25_sort 35 = .ok (.goto 7, 3) := dk_167 0 7 (dk_at dksJ25_sort_1 11 rfl rfl)
theorem dJ25_sort_38 : decode cJ25_sort 38 = .ok (.iload 4, 2) := dk_21 4 (dk_at dksJ25_sort_1 14 rfl rfl)
theorem dJ25_sort_40 : decode cJ25_sort 40 = .ok (.newarray .long, 2) := dk_188_11 (dk_at dksJ25_sort_1 16 rfl rfl)
theorem dJ25_sort_42 : decode cJ25_sort 42 = .ok (.astore 6, 2) := dk_58 6 (dk_at dksJ25_sort_1 18 rfl rfl)
theorem dJ25_sort_44 : decode cJ25_sort 44 = .ok (.new 17, 3) := dk_187 0 17 (dk_at dksJ25_sort_1 20 rfl rfl)
theorem dJ25_sort_47 : decode cJ25_sort 47 = .ok (.dup, 1) := dk_89 (dk_at dksJ25_sort_1 23 rfl rfl)
theorem dJ25_sort_48 : decode cJ25_sort 48 = .ok (.aconst_null, 1) := dk_1 (dk_at dksJ25_sort_2 0 rfl rfl)
theorem dJ25_sort_49 : decode cJ25_sort 49 = .ok (.aload_n 0, 1) := dk_42 (dk_at dksJ25_sort_2 1 rfl rfl)
theorem dJ25_sort_50 : decode cJ25_sort 50 = .ok (.aload 6, 2) := dk_25 6 (dk_at dksJ25_sort_2 2 rfl rfl)
theorem dJ25_sort_52 : decode cJ25_sort 52 = .ok (.iload_n 2, 1) := dk_28 (dk_at dksJ25_sort_2 4 rfl rfl)
theorem dJ25_sort_53 : decode cJ25_sort 53 = .ok (.iload 4, 2) := dk_21 4 (dk_at dksJ25_sort_2 5 rfl rfl)
theorem dJ25_sort_55 : decode cJ25_sort 55 = .ok (.iload_n 2, 1) := dk_28 (dk_at dksJ25_sort_2 7 rfl rfl)
theorem dJ25_sort_56 : decode cJ25_sort 56 = .ok (.iload 5, 2) := dk_21 5 (dk_at dksJ25_sort_2 8 rfl rfl)
theorem dJ25_sort_58 : decode cJ25_sort 58 = .ok (.invokespecial 19, 3) := dk_183 0 19 (dk_at dksJ25_sort_2 10 rfl rfl)
theorem dJ25_sort_61 : decode cJ25_sort 61 = .ok (.invokevirtual 22, 3) := dk_182 0 22 (dk_at dksJ25_sort_2 13 rfl rfl)
theorem dJ25_sort_64 : decode cJ25_sort 64 = .ok (.pop, 1) := dk_87 (dk_at dksJ25_sort_2 16 rfl rfl)
theorem dJ25_sort_65 : decode cJ25_sort 65 = .ok (.goto 11, 3) := dk_167 0 11 (dk_at dksJ25_sort_2 17 rfl rfl)
theorem dJ25_sort_68 : decode cJ25_sort 68 = .ok (.aconst_null, 1) := dk_1 (dk_at dksJ25_sort_2 20 rfl rfl)
theorem dJ25_sort_69 : decode cJ25_sort 69 = .ok (.aload_n 0, 1) := dk_42 (dk_at dksJ25_sort_2 21 rfl rfl)
theorem dJ25_sort_70 : decode cJ25_sort 70 = .ok (.iconst 0, 1) := dk_3 (dk_at dksJ25_sort_2 22 rfl rfl)
theorem dJ25_sort_71 : decode cJ25_sort 71 = .ok (.iload_n 2, 1) := dk_28 (dk_at dksJ25_sort_2 23 rfl rfl)
theorem dJ25_sort_72 : decode cJ25_sort 72 = .ok (.iload_n 3, 1) := dk_29 (dk_at dksJ25_sort_3 0 rfl rfl)
theorem dJ25_sort_73 : decode cJ25_sort 73 = .ok (.invokestatic 99, 3) := dk_184 0 99 (dk_at dksJ25_sort_3 1 rfl rfl)
theorem dJ25_sort_76 : decode cJ25_sort 76 = .ok (.return_, 1) := dk_177 (dk_at dksJ25_sort_3 4 rfl rfl)
abbrev cJ25_sort_2 : ByteArray := prog_78_method_13_code
def yJ25_sort_2 : MethodName := ⟨RJ25, "sort", "(Ljava/util/DualPivotQuicksort$Sorter;[JIII)V"⟩
def dkwJ25_sort_2_41 : List UInt8 := [167, 252, 57]
abbrev dktJ25_sort_2_41 : List UInt8 := dkwJ25_sort_2_41 ++ []
def dkwJ25_sort_2_40 : List UInt8 := [21, 4, 182, 0, 45, 167, 0, 15, 42, 43, 28, 4, 128, 21, 16, 21, 4, 184, 0, 99, 21, 15, 54, 4]
abbrev dktJ25_sort_2_40 : List UInt8 := dkwJ25_sort_2_40 ++ dktJ25_sort_2_41
def dkwJ25_sort_2_39 : List UInt8 := [21, 15, 22, 17, 80, 21, 6, 17, 16, 0, 164, 0, 21, 42, 198, 0, 17, 42, 28, 4, 128, 21, 16]
abbrev dktJ25_sort_2_39 : List UInt8 := dkwJ25_sort_2_39 ++ dktJ25_sort_2_40
def dkwJ25_sort_2_38 : List UInt8 := [167, 0, 12, 43, 132, 16, 255, 21, 16, 22, 20, 80, 167, 255, 163, 43, 29, 43, 21, 15, 47, 80, 43]
abbrev dktJ25_sort_2_38 : List UInt8 := dkwJ25_sort_2_38 ++ dktJ25_sort_2_39
def dkwJ25_sort_2_37 : List UInt8 := [22, 17, 148, 158, 0, 14, 43, 132, 16, 255, 21, 16, 43, 21, 15, 47, 80, 43, 21, 15, 22, 20, 80]
abbrev dktJ25_sort_2_37 : List UInt8 := dkwJ25_sort_2_37 ++ dktJ25_sort_2_38
def dkwJ25_sort_2_36 : List UInt8 := [156, 0, 49, 43, 132, 15, 1, 21, 15, 47, 22, 17, 148, 156, 0, 6, 167, 255, 243, 43, 21, 15, 47]
abbrev dktJ25_sort_2_36 : List UInt8 := dkwJ25_sort_2_36 ++ dktJ25_sort_2_37
def dkwJ25_sort_2_35 : List UInt8 := [21, 19, 47, 55, 20, 22, 20, 22, 17, 148, 153, 0, 72, 43, 21, 19, 22, 17, 80, 22, 20, 22, 17, 148]
abbrev dktJ25_sort_2_35 : List UInt8 := dkwJ25_sort_2_35 ++ dktJ25_sort_2_36
def dkwJ25_sort_2_34 : List UInt8 := [43, 21, 15, 47, 80, 132, 16, 1, 21, 16, 54, 19, 132, 19, 255, 21, 19, 21, 15, 164, 0, 89, 43]
abbrev dktJ25_sort_2_34 : List UInt8 := dkwJ25_sort_2_34 ++ dktJ25_sort_2_35
def dkwJ25_sort_2_33 : List UInt8 := [28, 4, 128, 21, 16, 4, 96, 21, 4, 184, 0, 99, 167, 0, 171, 43, 21, 10, 47, 55, 17, 43, 21, 10]
abbrev dktJ25_sort_2_33 : List UInt8 := dkwJ25_sort_2_33 ++ dktJ25_sort_2_34
def dkwJ25_sort_2_32 : List UInt8 := [21, 4, 182, 0, 45, 167, 0, 31, 42, 43, 28, 4, 128, 21, 15, 4, 96, 21, 16, 184, 0, 99, 42, 43]
abbrev dktJ25_sort_2_32 : List UInt8 := dkwJ25_sort_2_32 ++ dktJ25_sort_2_33
def dkwJ25_sort_2_31 : List UInt8 := [198, 0, 32, 42, 28, 4, 128, 21, 15, 4, 96, 21, 16, 182, 0, 45, 42, 28, 4, 128, 21, 16, 4, 96]
abbrev dktJ25_sort_2_31 : List UInt8 := dkwJ25_sort_2_31 ++ dktJ25_sort_2_32
def dkwJ25_sort_2_30 : List UInt8 := [21, 5, 43, 21, 16, 47, 80, 43, 21, 16, 22, 19, 80, 21, 6, 17, 16, 0, 164, 0, 36, 42]
abbrev dktJ25_sort_2_30 : List UInt8 := dkwJ25_sort_2_30 ++ dktJ25_sort_2_31
def dkwJ25_sort_2_29 : List UInt8 := [80, 43, 21, 16, 22, 23, 80, 167, 255, 138, 43, 29, 43, 21, 15, 47, 80, 43, 21, 15, 22, 17, 80, 43]
abbrev dktJ25_sort_2_29 : List UInt8 := dkwJ25_sort_2_29 ++ dktJ25_sort_2_30
def dkwJ25_sort_2_28 : List UInt8 := [22, 23, 80, 167, 0, 28, 22, 23, 22, 19, 148, 158, 0, 20, 43, 21, 22, 43, 132, 16, 255, 21, 16, 47]
abbrev dktJ25_sort_2_28 : List UInt8 := dkwJ25_sort_2_28 ++ dktJ25_sort_2_29
def dkwJ25_sort_2_27 : List UInt8 := [80, 43, 21, 16, 43, 21, 15, 47, 80, 167, 0, 11, 43, 21, 22, 43, 21, 15, 47, 80, 43, 21, 15]
abbrev dktJ25_sort_2_27 : List UInt8 := dkwJ25_sort_2_27 ++ dktJ25_sort_2_28
def dkwJ25_sort_2_26 : List UInt8 := [148, 155, 255, 239, 43, 21, 15, 47, 22, 19, 148, 158, 0, 25, 43, 21, 22, 43, 132, 16, 255, 21, 16, 47]
abbrev dktJ25_sort_2_26 : List UInt8 := dkwJ25_sort_2_26 ++ dktJ25_sort_2_27
def dkwJ25_sort_2_25 : List UInt8 := [22, 23, 22, 17, 148, 156, 0, 72, 21, 15, 21, 22, 162, 0, 90, 43, 132, 15, 1, 21, 15, 47, 22, 17]
abbrev dktJ25_sort_2_25 : List UInt8 := dkwJ25_sort_2_25 ++ dktJ25_sort_2_26
def dkwJ25_sort_2_24 : List UInt8 := [132, 16, 1, 21, 16, 54, 22, 132, 22, 255, 21, 22, 21, 15, 164, 0, 114, 43, 21, 22, 47, 55, 23]
abbrev dktJ25_sort_2_24 : List UInt8 := dkwJ25_sort_2_24 ++ dktJ25_sort_2_25
def dkwJ25_sort_2_23 : List UInt8 := [43, 132, 16, 255, 21, 16, 47, 22, 19, 148, 158, 0, 6, 167, 255, 243, 132, 15, 255, 21, 15, 54, 21]
abbrev dktJ25_sort_2_23 : List UInt8 := dkwJ25_sort_2_23 ++ dktJ25_sort_2_24
def dkwJ25_sort_2_22 : List UInt8 := [43, 21, 9, 43, 21, 16, 47, 80, 43, 132, 15, 1, 21, 15, 47, 22, 17, 148, 156, 0, 6, 167, 255, 243]
abbrev dktJ25_sort_2_22 : List UInt8 := dkwJ25_sort_2_22 ++ dktJ25_sort_2_23
def dkwJ25_sort_2_21 : List UInt8 := [148, 156, 1, 41, 43, 21, 8, 47, 55, 17, 43, 21, 9, 47, 55, 19, 43, 21, 8, 43, 21, 15, 47, 80]
abbrev dktJ25_sort_2_21 : List UInt8 := dkwJ25_sort_2_21 ++ dktJ25_sort_2_22
def dkwJ25_sort_2_20 : List UInt8 := [148, 156, 1, 65, 43, 21, 10, 47, 43, 21, 12, 47, 148, 156, 1, 53, 43, 21, 12, 47, 43, 21, 9, 47]
abbrev dktJ25_sort_2_20 : List UInt8 := dkwJ25_sort_2_20 ++ dktJ25_sort_2_21
def dkwJ25_sort_2_19 : List UInt8 := [21, 5, 54, 16, 43, 21, 8, 47, 43, 21, 11, 47, 148, 156, 1, 77, 43, 21, 11, 47, 43, 21, 10, 47]
abbrev dktJ25_sort_2_19 : List UInt8 := dkwJ25_sort_2_19 ++ dktJ25_sort_2_20
def dkwJ25_sort_2_18 : List UInt8 := [22, 13, 80, 167, 0, 17, 43, 21, 10, 43, 21, 12, 47, 80, 43, 21, 12, 22, 13, 80, 29, 54, 15]
abbrev dktJ25_sort_2_18 : List UInt8 := dkwJ25_sort_2_18 ++ dktJ25_sort_2_19
def dkwJ25_sort_2_17 : List UInt8 := [148, 158, 0, 28, 43, 21, 10, 43, 21, 12, 47, 80, 43, 21, 12, 43, 21, 9, 47, 80, 43, 21, 9]
abbrev dktJ25_sort_2_17 : List UInt8 := dkwJ25_sort_2_17 ++ dktJ25_sort_2_18
def dkwJ25_sort_2_16 : List UInt8 := [21, 11, 22, 13, 80, 167, 0, 62, 22, 13, 43, 21, 12, 47, 148, 158, 0, 52, 22, 13, 43, 21, 9, 47]
abbrev dktJ25_sort_2_16 : List UInt8 := dkwJ25_sort_2_16 ++ dktJ25_sort_2_17
def dkwJ25_sort_2_15 : List UInt8 := [43, 21, 8, 47, 80, 43, 21, 8, 22, 13, 80, 167, 0, 79, 43, 21, 10, 43, 21, 11, 47, 80, 43]
abbrev dktJ25_sort_2_15 : List UInt8 := dkwJ25_sort_2_15 ++ dktJ25_sort_2_16
def dkwJ25_sort_2_14 : List UInt8 := [156, 0, 55, 22, 13, 43, 21, 8, 47, 148, 156, 0, 28, 43, 21, 10, 43, 21, 11, 47, 80, 43, 21, 11]
abbrev dktJ25_sort_2_14 : List UInt8 := dkwJ25_sort_2_14 ++ dktJ25_sort_2_15
def dkwJ25_sort_2_13 : List UInt8 := [55, 15, 43, 21, 12, 43, 21, 11, 47, 80, 43, 21, 11, 22, 15, 80, 22, 13, 43, 21, 11, 47, 148]
abbrev dktJ25_sort_2_13 : List UInt8 := dkwJ25_sort_2_13 ++ dktJ25_sort_2_14
def dkwJ25_sort_2_12 : List UInt8 := [47, 80, 43, 21, 8, 22, 15, 80, 43, 21, 12, 47, 43, 21, 11, 47, 148, 156, 0, 23, 43, 21, 12, 47]
abbrev dktJ25_sort_2_12 : List UInt8 := dkwJ25_sort_2_12 ++ dktJ25_sort_2_13
def dkwJ25_sort_2_11 : List UInt8 := [43, 21, 11, 47, 43, 21, 8, 47, 148, 156, 0, 23, 43, 21, 11, 47, 55, 15, 43, 21, 11, 43, 21, 8]
abbrev dktJ25_sort_2_11 : List UInt8 := dkwJ25_sort_2_11 ++ dktJ25_sort_2_12
def dkwJ25_sort_2_10 : List UInt8 := [148, 156, 0, 23, 43, 21, 9, 47, 55, 15, 43, 21, 9, 43, 21, 12, 47, 80, 43, 21, 12, 22, 15, 80]
abbrev dktJ25_sort_2_10 : List UInt8 := dkwJ25_sort_2_10 ++ dktJ25_sort_2_11
def dkwJ25_sort_2_9 : List UInt8 := [55, 15, 43, 21, 12, 43, 21, 8, 47, 80, 43, 21, 8, 22, 15, 80, 43, 21, 9, 47, 43, 21, 12, 47]
abbrev dktJ25_sort_2_9 : List UInt8 := dkwJ25_sort_2_9 ++ dktJ25_sort_2_10
def dkwJ25_sort_2_8 : List UInt8 := [47, 80, 43, 21, 11, 22, 15, 80, 43, 21, 12, 47, 43, 21, 8, 47, 148, 156, 0, 23, 43, 21, 12, 47]
abbrev dktJ25_sort_2_8 : List UInt8 := dkwJ25_sort_2_8 ++ dktJ25_sort_2_9
def dkwJ25_sort_2_7 : List UInt8 := [43, 21, 9, 47, 43, 21, 11, 47, 148, 156, 0, 23, 43, 21, 9, 47, 55, 15, 43, 21, 9, 43, 21, 11]
abbrev dktJ25_sort_2_7 : List UInt8 := dkwJ25_sort_2_7 ++ dktJ25_sort_2_8
def dkwJ25_sort_2_6 : List UInt8 := [21, 8, 21, 10, 96, 4, 124, 54, 11, 21, 10, 21, 9, 96, 4, 124, 54, 12, 43, 21, 10, 47, 55, 13]
abbrev dktJ25_sort_2_6 : List UInt8 := dkwJ25_sort_2_6 ++ dktJ25_sort_2_7
def dkwJ25_sort_2_5 : List UInt8 := [54, 7, 29, 21, 7, 96, 54, 8, 21, 5, 21, 7, 100, 54, 9, 21, 8, 21, 9, 96, 4, 124, 54, 10]
abbrev dktJ25_sort_2_5 : List UInt8 := dkwJ25_sort_2_5 ++ dktJ25_sort_2_6
def dkwJ25_sort_2_4 : List UInt8 := [28, 17, 1, 128, 164, 0, 11, 43, 29, 21, 4, 184, 0, 111, 177, 21, 6, 6, 122, 6, 104, 6, 96]
abbrev dktJ25_sort_2_4 : List UInt8 := dkwJ25_sort_2_4 ++ dktJ25_sort_2_5
def dkwJ25_sort_2_3 : List UInt8 := [164, 0, 21, 28, 4, 126, 158, 0, 15, 42, 43, 29, 21, 6, 184, 0, 108, 153, 0, 4, 177, 132, 2, 6]
abbrev dktJ25_sort_2_3 : List UInt8 := dkwJ25_sort_2_3 ++ dktJ25_sort_2_4
def dkwJ25_sort_2_2 : List UInt8 := [16, 44, 162, 0, 11, 43, 29, 21, 4, 184, 0, 105, 177, 28, 153, 0, 17, 21, 6, 17, 16, 0]
abbrev dktJ25_sort_2_2 : List UInt8 := dkwJ25_sort_2_2 ++ dktJ25_sort_2_3
def dkwJ25_sort_2_1 : List UInt8 := [158, 0, 22, 43, 29, 21, 4, 6, 21, 6, 8, 122, 6, 120, 104, 100, 21, 4, 184, 0, 102, 177, 21, 6]
abbrev dktJ25_sort_2_1 : List UInt8 := dkwJ25_sort_2_1 ++ dktJ25_sort_2_2
def dkwJ25_sort_2_0 : List UInt8 := [21, 4, 4, 100, 54, 5, 21, 4, 29, 100, 54, 6, 21, 6, 16, 65, 28, 96, 162, 0, 28, 28, 4, 126]
abbrev dktJ25_sort_2_0 : List UInt8 := dkwJ25_sort_2_0 ++ dktJ25_sort_2_1
theorem dksJ25_sort_2_0 : cJ25_sort_2.data.toList.drop 0 = dktJ25_sort_2_0 := by decide +kernel
theorem dksJ25_sort_2_1 : cJ25_sort_2.data.toList.drop 24 = dktJ25_sort_2_1 := dk_seg dksJ25_sort_2_0 24 rfl rfl
theorem dksJ25_sort_2_2 : cJ25_sort_2.data.toList.drop 48 = dktJ25_sort_2_2 := dk_seg dksJ25_sort_2_1 24 rfl rfl
theorem dksJ25_sort_2_3 : cJ25_sort_2.data.toList.drop 70 = dktJ25_sort_2_3 := dk_seg dksJ25_sort_2_2 22 rfl rfl
theorem dksJ25_sort_2_4 : cJ25_sort_2.data.toList.drop 94 = dktJ25_sort_2_4 := dk_seg dksJ25_sort_2_3 24 rfl rfl
theorem dksJ25_sort_2_5 : cJ25_sort_2.data.toList.drop 117 = dktJ25_sort_2_5 := dk_seg dksJ25_sort_2_4 23 rfl rfl
theorem dksJ25_sort_2_6 : cJ25_sort_2.data.toList.drop 141 = dktJ25_sort_2_6 := dk_seg dksJ25_sort_2_5 24 rfl rfl
theorem dksJ25_sort_2_7 : cJ25_sort_2.data.toList.drop 165 = dktJ25_sort_2_7 := dk_seg dksJ25_sort_2_6 24 rfl rfl
theorem dksJ25_sort_2_8 : cJ25_sort_2.data.toList.drop 189 = dktJ25_sort_2_8 := dk_seg dksJ25_sort_2_7 24 rfl rfl
theorem dksJ25_sort_2_9 : cJ25_sort_2.data.toList.drop 213 = dktJ25_sort_2_9 := dk_seg dksJ25_sort_2_8 24 rfl rfl
theorem dksJ25_sort_2_10 : cJ25_sort_2.data.toList.drop 237 = dktJ25_sort_2_10 := dk_seg dksJ25_sort_2_9 24 rfl rfl
theorem dksJ25_sort_2_11 : cJ25_sort_2.data.toList.drop 261 = dktJ25_sort_2_11 := dk_seg dksJ25_sort_2_10 24 rfl rfl
theorem dksJ25_sort_2_12 : cJ25_sort_2.data.toList.drop 285 = dktJ25_sort_2_12 := dk_seg dksJ25_sort_2_11 24 rfl rfl
theorem dksJ25_sort_2_13 : cJ25_sort_2.data.toList.drop 309 = dktJ25_sort_2_13 := dk_seg dksJ25_sort_2_12 24 rfl rfl
theorem dksJ25_sort_2_14 : cJ25_sort_2.data.toList.drop 332 = dktJ25_sort_2_14 := dk_seg dksJ25_sort_2_13 23 rfl rfl
theorem dksJ25_sort_2_15 : cJ25_sort_2.data.toList.drop 356 = dktJ25_sort_2_15 := dk_seg dksJ25_sort_2_14 24 rfl rfl
theorem dksJ25_sort_2_16 : cJ25_sort_2.data.toList.drop 379 = dktJ25_sort_2_16 := dk_seg dksJ25_sort_2_15 23 rfl rfl
theorem dksJ25_sort_2_17 : cJ25_sort_2.data.toList.drop 403 = dktJ25_sort_2_17 := dk_seg dksJ25_sort_2_16 24 rfl rfl
theorem dksJ25_sort_2_18 : cJ25_sort_2.data.toList.drop 426 = dktJ25_sort_2_18 := dk_seg dksJ25_sort_2_17 23 rfl rfl
theorem dksJ25_sort_2_19 : cJ25_sort_2.data.toList.drop 449 = dktJ25_sort_2_19 := dk_seg dksJ25_sort_2_18 23 rfl rfl
theorem dksJ25_sort_2_20 : cJ25_sort_2.data.toList.drop 473 = dktJ25_sort_2_20 := dk_seg dksJ25_sort_2_19 24 rfl rfl
theorem dksJ25_sort_2_21 : cJ25_sort_2.data.toList.drop 497 = dktJ25_sort_2_21 := dk_seg dksJ25_sort_2_20 24 rfl rfl
theorem dksJ25_sort_2_22 : cJ25_sort_2.data.toList.drop 521 = dktJ25_sort_2_22 := dk_seg dksJ25_sort_2_21 24 rfl rfl
theorem dksJ25_sort_2_23 : cJ25_sort_2.data.toList.drop 545 = dktJ25_sort_2_23 := dk_seg dksJ25_sort_2_22 24 rfl rfl
theorem dksJ25_sort_2_24 : cJ25_sort_2.data.toList.drop 568 = dktJ25_sort_2_24 := dk_seg dksJ25_sort_2_23 23 rfl rfl
theorem dksJ25_sort_2_25 : cJ25_sort_2.data.toList.drop 591 = dktJ25_sort_2_25 := dk_seg dksJ25_sort_2_24 23 rfl rfl
theorem dksJ25_sort_2_26 : cJ25_sort_2.data.toList.drop 615 = dktJ25_sort_2_26 := dk_seg dksJ25_sort_2_25 24 rfl rfl
theorem dksJ25_sort_2_27 : cJ25_sort_2.data.toList.drop 639 = dktJ25_sort_2_27 := dk_seg dksJ25_sort_2_26 24 rfl rfl
theorem dksJ25_sort_2_28 : cJ25_sort_2.data.toList.drop 662 = dktJ25_sort_2_28 := dk_seg dksJ25_sort_2_27 23 rfl rfl
theorem dksJ25_sort_2_29 : cJ25_sort_2.data.toList.drop 686 = dktJ25_sort_2_29 := dk_seg dksJ25_sort_2_28 24 rfl rfl
theorem dksJ25_sort_2_30 : cJ25_sort_2.data.toList.drop 710 = dktJ25_sort_2_30 := dk_seg dksJ25_sort_2_29 24 rfl rfl
theorem dksJ25_sort_2_31 : cJ25_sort_2.data.toList.drop 732 = dktJ25_sort_2_31 := dk_seg dksJ25_sort_2_30 22 rfl rfl
theorem dksJ25_sort_2_32 : cJ25_sort_2.data.toList.drop 756 = dktJ25_sort_2_32 := dk_seg dksJ25_sort_2_31 24 rfl rfl
theorem dksJ25_sort_2_33 : cJ25_sort_2.data.toList.drop 780 = dktJ25_sort_2_33 := dk_seg dksJ25_sort_2_32 24 rfl rfl
theorem dksJ25_sort_2_34 : cJ25_sort_2.data.toList.drop 804 = dktJ25_sort_2_34 := dk_seg dksJ25_sort_2_33 24 rfl rfl
theorem dksJ25_sort_2_35 : cJ25_sort_2.data.toList.drop 827 = dktJ25_sort_2_35 := dk_seg dksJ25_sort_2_34 23 rfl rfl
theorem dksJ25_sort_2_36 : cJ25_sort_2.data.toList.drop 851 = dktJ25_sort_2_36 := dk_seg dksJ25_sort_2_35 24 rfl rfl
theorem dksJ25_sort_2_37 : cJ25_sort_2.data.toList.drop 874 = dktJ25_sort_2_37 := dk_seg dksJ25_sort_2_36 23 rfl rfl
theorem dksJ25_sort_2_38 : cJ25_sort_2.data.toList.drop 897 = dktJ25_sort_2_38 := dk_seg dksJ25_sort_2_37 23 rfl rfl
theorem dksJ25_sort_2_39 : cJ25_sort_2.data.toList.drop 920 = dktJ25_sort_2_39 := dk_seg dksJ25_sort_2_38 23 rfl rfl
theorem dksJ25_sort_2_40 : cJ25_sort_2.data.toList.drop 943 = dktJ25_sort_2_40 := dk_seg dksJ25_sort_2_39 23 rfl rfl
theorem dksJ25_sort_2_41 : cJ25_sort_2.data.toList.drop 967 = dktJ25_sort_2_41 := dk_seg dksJ25_sort_2_40 24 rfl rfl
theorem dJ25_sort_2_0 : decode cJ25_sort_2 0 = .ok (.iload 4, 2) := dk_21 4 (dk_at dksJ25_sort_2_0 0 rfl rfl)
theorem dJ25_sort_2_2 : decode cJ25_sort_2 2 = .ok (.iconst 1, 1) := dk_4 (dk_at dksJ25_sort_2_0 2 rfl rfl)
theorem dJ25_sort_2_3 : decode cJ25_sort_2 3 = .ok (.isub, 1) := dk_100 (dk_at dksJ25_sort_2_0 3 rfl rfl)
theorem dJ25_sort_2_4 : decode cJ25_sort_2 4 = .ok (.istore 5, 2) := dk_54 5 (dk_at dksJ25_sort_2_0 4 rfl rfl)
theorem dJ25_sort_2_6 : decode cJ25_sort_2 6 = .ok (.iload 4, 2) := dk_21 4 (dk_at dksJ25_sort_2_0 6 rfl rfl)
theorem dJ25_sort_2_8 : decode cJ25_sort_2 8 = .ok (.iload_n 3, 1) := dk_29 (dk_at dksJ25_sort_2_0 8 rfl rfl)
theorem dJ25_sort_2_9 : decode cJ25_sort_2 9 = .ok (.isub, 1) := dk_100 (dk_at dksJ25_sort_2_0 9 rfl rfl)
theorem dJ25_sort_2_10 : decode cJ25_sort_2 10 = .ok (.istore 6, 2) := dk_54 6 (dk_at dksJ25_sort_2_0 10 rfl rfl)
theorem dJ25_sort_2_12 : decode cJ25_sort_2 12 = .ok (.iload 6, 2) := dk_21 6 (dk_at dksJ25_sort_2_0 12 rfl rfl)
theorem dJ25_sort_2_14 : decode cJ25_sort_2 14 = .ok (.bipush 65, 2) := dk_16 65 (dk_at dksJ25_sort_2_0 14 rfl rfl)
theorem dJ25_sort_2_16 : decode cJ25_sort_2 16 = .ok (.iload_n 2, 1) := dk_28 (dk_at dksJ25_sort_2_0 16 rfl rfl)
theorem dJ25_sort_2_17 : decode cJ25_sort_2 17 = .ok (.iadd, 1) := dk_96 (dk_at dksJ25_sort_2_0 17 rfl rfl)
theorem dJ25_sort_2_18 : decode cJ25_sort_2 18 = .ok (.if_icmp .ge 28, 3) := dk_162 0 28 (dk_at dksJ25_sort_2_0 18 rfl rfl)
theorem dJ25_sort_2_21 : decode cJ25_sort_2 21 = .ok (.iload_n 2, 1) := dk_28 (dk_at dksJ25_sort_2_0 21 rfl rfl)
theorem dJ25_sort_2_22 : decode cJ25_sort_2 22 = .ok (.iconst 1, 1) := dk_4 (dk_at dksJ25_sort_2_0 22 rfl rfl)
theorem dJ25_sort_2_23 : decode cJ25_sort_2 23 = .ok (.iand, 1) := dk_126 (dk_at dksJ25_sort_2_0 23 rfl rfl)
theorem dJ25_sort_2_24 : decode cJ25_sort_2 24 = .ok (.ifCond .le 22, 3) := dk_158 0 22 (dk_at dksJ25_sort_2_1 0 rfl rfl)
theorem dJ25_sort_2_27 : decode cJ25_sort_2 27 = .ok (.aload_n 1, 1) := dk_43 (dk_at dksJ25_sort_2_1 3 rfl rfl)
theorem dJ25_sort_2_28 : decode cJ25_sort_2 28 = .ok (.iload_n 3, 1) := dk_29 (dk_at dksJ25_sort_2_1 4 rfl rfl)
theorem dJ25_sort_2_29 : decode cJ25_sort_2 29 = .ok (.iload 4, 2) := dk_21 4 (dk_at dksJ25_sort_2_1 5 rfl rfl)
theorem dJ25_sort_2_31 : decode cJ25_sort_2 31 = .ok (.iconst 3, 1) := dk_6 (dk_at dksJ25_sort_2_1 7 rfl rfl)
theorem dJ25_sort_2_32 : decode cJ25_sort_2 32 = .ok (.iload 6, 2) := dk_21 6 (dk_at dksJ25_sort_2_1 8 rfl rfl)
theorem dJ25_sort_2_34 : decode cJ25_sort_2 34 = .ok (.iconst 5, 1) := dk_8 (dk_at dksJ25_sort_2_1 10 rfl rfl)
theorem dJ25_sort_2_35 : decode cJ25_sort_2 35 = .ok (.ishr, 1) := dk_122 (dk_at dksJ25_sort_2_1 11 rfl rfl)
theorem dJ25_sort_2_36 : decode cJ25_sort_2 36 = .ok (.iconst 3, 1) := dk_6 (dk_at dksJ25_sort_2_1 12 rfl rfl)
theorem dJ25_sort_2_37 : decode cJ25_sort_2 37 = .ok (.ishl, 1) := dk_120 (dk_at dksJ25_sort_2_1 13 rfl rfl)
theorem dJ25_sort_2_38 : decode cJ25_sort_2 38 = .ok (.imul, 1) := dk_104 (dk_at dksJ25_sort_2_1 14 rfl rfl)
theorem dJ25_sort_2_39 : decode cJ25_sort_2 39 = .ok (.isub, 1) := dk_100 (dk_at dksJ25_sort_2_1 15 rfl rfl)
theorem dJ25_sort_2_40 : decode cJ25_sort_2 40 = .ok (.iload 4, 2) := dk_21 4 (dk_at dksJ25_sort_2_1 16 rfl rfl)
theorem dJ25_sort_2_42 : decode cJ25_sort_2 42 = .ok (.invokestatic 102, 3) := dk_184 0 102 (dk_at dksJ25_sort_2_1 18 rfl rfl)
theorem dJ25_sort_2_45 : decode cJ25_sort_2 45 = .ok (.return_, 1) := dk_177 (dk_at dksJ25_sort_2_1 21 rfl rfl)
theorem dJ25_sort_2_46 : decode cJ25_sort_2 46 = .ok (.iload 6, 2) := dk_21 6 (dk_at dksJ25_sort_2_1 22 rfl rfl)
theorem dJ25_sort_2_48 : decode cJ25_sort_2 48 = .ok (.bipush 44, 2) := dk_16 44 (dk_at dksJ25_sort_2_2 0 rfl rfl)
theorem dJ25_sort_2_50 : decode cJ25_sort_2 50 = .ok (.if_icmp .ge 11, 3) := dk_162 0 11 (dk_at dksJ25_sort_2_2 2 rfl rfl)
theorem dJ25_sort_2_53 : decode cJ25_sort_2 53 = .ok (.aload_n 1, 1) := dk_43 (dk_at dksJ25_sort_2_2 5 rfl rfl)
theorem dJ25_sort_2_54 : decode cJ25_sort_2 54 = .ok (.iload_n 3, 1) := dk_29 (dk_at dksJ25_sort_2_2 6 rfl rfl)
theorem dJ25_sort_2_55 : decode cJ25_sort_2 55 = .ok (.iload 4, 2) := dk_21 4 (dk_at dksJ25_sort_2_2 7 rfl rfl)
theorem dJ25_sort_2_57 : decode cJ25_sort_2 57 = .ok (.invokestatic 105, 3) := dk_184 0 105 (dk_at dksJ25_sort_2_2 9 rfl rfl)
theorem dJ25_sort_2_60 : decode cJ25_sort_2 60 = .ok (.return_, 1) := dk_177 (dk_at dksJ25_sort_2_2 12 rfl rfl)
theorem dJ25_sort_2_61 : decode cJ25_sort_2 61 = .ok (.iload_n 2, 1) := dk_28 (dk_at dksJ25_sort_2_2 13 rfl rfl)
theorem dJ25_sort_2_62 : decode cJ25_sort_2 62 = .ok (.ifCond .eq 17, 3) := dk_153 0 17 (dk_at dksJ25_sort_2_2 14 rfl rfl)
theorem dJ25_sort_2_65 : decode cJ25_sort_2 65 = .ok (.iload 6, 2) := dk_21 6 (dk_at dksJ25_sort_2_2 17 rfl rfl)
theorem dJ25_sort_2_67 : decode cJ25_sort_2 67 = .ok (.sipush 4096, 3) := dk_17 16 0 (dk_at dksJ25_sort_2_2 19 rfl rfl)
theorem dJ25_sort_2_70 : decode cJ25_sort_2 70 = .ok (.if_icmp .le 21, 3) := dk_164 0 21 (dk_at dksJ25_sort_2_3 0 rfl rfl)
theorem dJ25_sort_2_73 : decode cJ25_sort_2 73 = .ok (.iload_n 2, 1) := dk_28 (dk_at dksJ25_sort_2_3 3 rfl rfl)
theorem dJ25_sort_2_74 : decode cJ25_sort_2 74 = .ok (.iconst 1, 1) := dk_4 (dk_at dksJ25_sort_2_3 4 rfl rfl)
theorem dJ25_sort_2_75 : decode cJ25_sort_2 75 = .ok (.iand, 1) := dk_126 (dk_at dksJ25_sort_2_3 5 rfl rfl)
theorem dJ25_sort_2_76 : decode cJ25_sort_2 76 = .ok (.ifCond .le 15, 3) := dk_158 0 15 (dk_at dksJ25_sort_2_3 6 rfl rfl)
theorem dJ25_sort_2_79 : decode cJ25_sort_2 79 = .ok (.aload_n 0, 1) := dk_42 (dk_at dksJ25_sort_2_3 9 rfl rfl)
theorem dJ25_sort_2_80 : decode cJ25_sort_2 80 = .ok (.aload_n 1, 1) := dk_43 (dk_at dksJ25_sort_2_3 10 rfl rfl)
theorem dJ25_sort_2_81 : decode cJ25_sort_2 81 = .ok (.iload_n 3, 1) := dk_29 (dk_at dksJ25_sort_2_3 11 rfl rfl)
theorem dJ25_sort_2_82 : decode cJ25_sort_2 82 = .ok (.iload 6, 2) := dk_21 6 (dk_at dksJ25_sort_2_3 12 rfl rfl)
theorem dJ25_sort_2_84 : decode cJ25_sort_2 84 = .ok (.invokestatic 108, 3) := dk_184 0 108 (dk_at dksJ25_sort_2_3 14 rfl rfl)
theorem dJ25_sort_2_87 : decode cJ25_sort_2 87 = .ok (.ifCond .eq 4, 3) := dk_153 0 4 (dk_at dksJ25_sort_2_3 17 rfl rfl)
theorem dJ25_sort_2_90 : decode cJ25_sort_2 90 = .ok (.return_, 1) := dk_177 (dk_at dksJ25_sort_2_3 20 rfl rfl)
theorem dJ25_sort_2_91 : decode cJ25_sort_2 91 = .ok (.iinc 2 6, 3) := dk_132 2 6 (dk_at dksJ25_sort_2_3 21 rfl rfl)
theorem dJ25_sort_2_94 : decode cJ25_sort_2 94 = .ok (.iload_n 2, 1) := dk_28 (dk_at dksJ25_sort_2_4 0 rfl rfl)
theorem dJ25_sort_2_95 : decode cJ25_sort_2 95 = .ok (.sipush 384, 3) := dk_17 1 128 (dk_at dksJ25_sort_2_4 1 rfl rfl)
theorem dJ25_sort_2_98 : decode cJ25_sort_2 98 = .ok (.if_icmp .le 11, 3) := dk_164 0 11 (dk_at dksJ25_sort_2_4 4 rfl rfl)
theorem dJ25_sort_2_101 : decode cJ25_sort_2 101 = .ok (.aload_n 1, 1) := dk_43 (dk_at dksJ25_sort_2_4 7 rfl rfl)
theorem dJ25_sort_2_102 : decode cJ25_sort_2 102 = .ok (.iload_n 3, 1) := dk_29 (dk_at dksJ25_sort_2_4 8 rfl rfl)
theorem dJ25_sort_2_103 : decode cJ25_sort_2 103 = .ok (.iload 4, 2) := dk_21 4 (dk_at dksJ25_sort_2_4 9 rfl rfl)
theorem dJ25_sort_2_105 : decode cJ25_sort_2 105 = .ok (.invokestatic 111, 3) := dk_184 0 111 (dk_at dksJ25_sort_2_4 11 rfl rfl)
theorem dJ25_sort_2_108 : decode cJ25_sort_2 108 = .ok (.return_, 1) := dk_177 (dk_at dksJ25_sort_2_4 14 rfl rfl)
theorem dJ25_sort_2_109 : decode cJ25_sort_2 109 = .ok (.iload 6, 2) := dk_21 6 (dk_at dksJ25_sort_2_4 15 rfl rfl)
theorem dJ25_sort_2_111 : decode cJ25_sort_2 111 = .ok (.iconst 3, 1) := dk_6 (dk_at dksJ25_sort_2_4 17 rfl rfl)
theorem dJ25_sort_2_112 : decode cJ25_sort_2 112 = .ok (.ishr, 1) := dk_122 (dk_at dksJ25_sort_2_4 18 rfl rfl)
theorem dJ25_sort_2_113 : decode cJ25_sort_2 113 = .ok (.iconst 3, 1) := dk_6 (dk_at dksJ25_sort_2_4 19 rfl rfl)
theorem dJ25_sort_2_114 : decode cJ25_sort_2 114 = .ok (.imul, 1) := dk_104 (dk_at dksJ25_sort_2_4 20 rfl rfl)
theorem dJ25_sort_2_115 : decode cJ25_sort_2 115 = .ok (.iconst 3, 1) := dk_6 (dk_at dksJ25_sort_2_4 21 rfl rfl)
theorem dJ25_sort_2_116 : decode cJ25_sort_2 116 = .ok (.iadd, 1) := dk_96 (dk_at dksJ25_sort_2_4 22 rfl rfl)
theorem dJ25_sort_2_117 : decode cJ25_sort_2 117 = .ok (.istore 7, 2) := dk_54 7 (dk_at dksJ25_sort_2_5 0 rfl rfl)
theorem dJ25_sort_2_119 : decode cJ25_sort_2 119 = .ok (.iload_n 3, 1) := dk_29 (dk_at dksJ25_sort_2_5 2 rfl rfl)
theorem dJ25_sort_2_120 : decode cJ25_sort_2 120 = .ok (.iload 7, 2) := dk_21 7 (dk_at dksJ25_sort_2_5 3 rfl rfl)
theorem dJ25_sort_2_122 : decode cJ25_sort_2 122 = .ok (.iadd, 1) := dk_96 (dk_at dksJ25_sort_2_5 5 rfl rfl)
theorem dJ25_sort_2_123 : decode cJ25_sort_2 123 = .ok (.istore 8, 2) := dk_54 8 (dk_at dksJ25_sort_2_5 6 rfl rfl)
theorem dJ25_sort_2_125 : decode cJ25_sort_2 125 = .ok (.iload 5, 2) := dk_21 5 (dk_at dksJ25_sort_2_5 8 rfl rfl)
theorem dJ25_sort_2_127 : decode cJ25_sort_2 127 = .ok (.iload 7, 2) := dk_21 7 (dk_at dksJ25_sort_2_5 10 rfl rfl)
theorem dJ25_sort_2_129 : decode cJ25_sort_2 129 = .ok (.isub, 1) := dk_100 (dk_at dksJ25_sort_2_5 12 rfl rfl)
theorem dJ25_sort_2_130 : decode cJ25_sort_2 130 = .ok (.istore 9, 2) := dk_54 9 (dk_at dksJ25_sort_2_5 13 rfl rfl)
theorem dJ25_sort_2_132 : decode cJ25_sort_2 132 = .ok (.iload 8, 2) := dk_21 8 (dk_at dksJ25_sort_2_5 15 rfl rfl)
theorem dJ25_sort_2_134 : decode cJ25_sort_2 134 = .ok (.iload 9, 2) := dk_21 9 (dk_at dksJ25_sort_2_5 17 rfl rfl)
theorem dJ25_sort_2_136 : decode cJ25_sort_2 136 = .ok (.iadd, 1) := dk_96 (dk_at dksJ25_sort_2_5 19 rfl rfl)
theorem dJ25_sort_2_137 : decode cJ25_sort_2 137 = .ok (.iconst 1, 1) := dk_4 (dk_at dksJ25_sort_2_5 20 rfl rfl)
theorem dJ25_sort_2_138 : decode cJ25_sort_2 138 = .ok (.iushr, 1) := dk_124 (dk_at dksJ25_sort_2_5 21 rfl rfl)
theorem dJ25_sort_2_139 : decode cJ25_sort_2 139 = .ok (.istore 10, 2) := dk_54 10 (dk_at dksJ25_sort_2_5 22 rfl rfl)
theorem dJ25_sort_2_141 : decode cJ25_sort_2 141 = .ok (.iload 8, 2) := dk_21 8 (dk_at dksJ25_sort_2_6 0 rfl rfl)
theorem dJ25_sort_2_143 : decode cJ25_sort_2 143 = .ok (.iload 10, 2) := dk_21 10 (dk_at dksJ25_sort_2_6 2 rfl rfl)
theorem dJ25_sort_2_145 : decode cJ25_sort_2 145 = .ok (.iadd, 1) := dk_96 (dk_at dksJ25_sort_2_6 4 rfl rfl)
theorem dJ25_sort_2_146 : decode cJ25_sort_2 146 = .ok (.iconst 1, 1) := dk_4 (dk_at dksJ25_sort_2_6 5 rfl rfl)
theorem dJ25_sort_2_147 : decode cJ25_sort_2 147 = .ok (.iushr, 1) := dk_124 (dk_at dksJ25_sort_2_6 6 rfl rfl)
theorem dJ25_sort_2_148 : decode cJ25_sort_2 148 = .ok (.istore 11, 2) := dk_54 11 (dk_at dksJ25_sort_2_6 7 rfl rfl)
theorem dJ25_sort_2_150 : decode cJ25_sort_2 150 = .ok (.iload 10, 2) := dk_21 10 (dk_at dksJ25_sort_2_6 9 rfl rfl)
theorem dJ25_sort_2_152 : decode cJ25_sort_2 152 = .ok (.iload 9, 2) := dk_21 9 (dk_at dksJ25_sort_2_6 11 rfl rfl)
theorem dJ25_sort_2_154 : decode cJ25_sort_2 154 = .ok (.iadd, 1) := dk_96 (dk_at dksJ25_sort_2_6 13 rfl rfl)
theorem dJ25_sort_2_155 : decode cJ25_sort_2 155 = .ok (.iconst 1, 1) := dk_4 (dk_at dksJ25_sort_2_6 14 rfl rfl)
theorem dJ25_sort_2_156 : decode cJ25_sort_2 156 = .ok (.iushr, 1) := dk_124 (dk_at dksJ25_sort_2_6 15 rfl rfl)
theorem dJ25_sort_2_157 : decode cJ25_sort_2 157 = .ok (.istore 12, 2) := dk_54 12 (dk_at dksJ25_sort_2_6 16 rfl rfl)
theorem dJ25_sort_2_159 : decode cJ25_sort_2 159 = .ok (.aload_n 1, 1) := dk_43 (dk_at dksJ25_sort_2_6 18 rfl rfl)
theorem dJ25_sort_2_160 : decode cJ25_sort_2 160 = .ok (.iload 10, 2) := dk_21 10 (dk_at dksJ25_sort_2_6 19 rfl rfl)
theorem dJ25_sort_2_162 : decode cJ25_sort_2 162 = .ok (.laload, 1) := dk_47 (dk_at dksJ25_sort_2_6 21 rfl rfl)
theorem dJ25_sort_2_163 : decode cJ25_sort_2 163 = .ok (.lstore 13, 2) := dk_55 13 (dk_at dksJ25_sort_2_6 22 rfl rfl)
theorem dJ25_sort_2_165 : decode cJ25_sort_2 165 = .ok (.aload_n 1, 1) := dk_43 (dk_at dksJ25_sort_2_7 0 rfl rfl)
theorem dJ25_sort_2_166 : decode cJ25_sort_2 166 = .ok (.iload 9, 2) := dk_21 9 (dk_at dksJ25_sort_2_7 1 rfl rfl)
theorem dJ25_sort_2_168 : decode cJ25_sort_2 168 = .ok (.laload, 1) := dk_47 (dk_at dksJ25_sort_2_7 3 rfl rfl)
theorem dJ25_sort_2_169 : decode cJ25_sort_2 169 = .ok (.aload_n 1, 1) := dk_43 (dk_at dksJ25_sort_2_7 4 rfl rfl)
theorem dJ25_sort_2_170 : decode cJ25_sort_2 170 = .ok (.iload 11, 2) := dk_21 11 (dk_at dksJ25_sort_2_7 5 rfl rfl)
theorem dJ25_sort_2_172 : decode cJ25_sort_2 172 = .ok (.laload, 1) := dk_47 (dk_at dksJ25_sort_2_7 7 rfl rfl)
theorem dJ25_sort_2_173 : decode cJ25_sort_2 173 = .ok (.lcmp, 1) := dk_148 (dk_at dksJ25_sort_2_7 8 rfl rfl)
theorem dJ25_sort_2_174 : decode cJ25_sort_2 174 = .ok (.ifCond .ge 23, 3) := dk_156 0 23 (dk_at dksJ25_sort_2_7 9 rfl rfl)
theorem dJ25_sort_2_177 : decode cJ25_sort_2 177 = .ok (.aload_n 1, 1) := dk_43 (dk_at dksJ25_sort_2_7 12 rfl rfl)
theorem dJ25_sort_2_178 : decode cJ25_sort_2 178 = .ok (.iload 9, 2) := dk_21 9 (dk_at dksJ25_sort_2_7 13 rfl rfl)
theorem dJ25_sort_2_180 : decode cJ25_sort_2 180 = .ok (.laload, 1) := dk_47 (dk_at dksJ25_sort_2_7 15 rfl rfl)
theorem dJ25_sort_2_181 : decode cJ25_sort_2 181 = .ok (.lstore 15, 2) := dk_55 15 (dk_at dksJ25_sort_2_7 16 rfl rfl)
theorem dJ25_sort_2_183 : decode cJ25_sort_2 183 = .ok (.aload_n 1, 1) := dk_43 (dk_at dksJ25_sort_2_7 18 rfl rfl)
theorem dJ25_sort_2_184 : decode cJ25_sort_2 184 = .ok (.iload 9, 2) := dk_21 9 (dk_at dksJ25_sort_2_7 19 rfl rfl)
theorem dJ25_sort_2_186 : decode cJ25_sort_2 186 = .ok (.aload_n 1, 1) := dk_43 (dk_at dksJ25_sort_2_7 21 rfl rfl)
theorem dJ25_sort_2_187 : decode cJ25_sort_2 187 = .ok (.iload 11, 2) := dk_21 11 (dk_at dksJ25_sort_2_7 22 rfl rfl)
theorem dJ25_sort_2_189 : decode cJ25_sort_2 189 = .ok (.laload, 1) := dk_47 (dk_at dksJ25_sort_2_8 0 rfl rfl)
theorem dJ25_sort_2_190 : decode cJ25_sort_2 190 = .ok (.lastore, 1) := dk_80 (dk_at dksJ25_sort_2_8 1 rfl rfl)
theorem dJ25_sort_2_191 : decode cJ25_sort_2 191 = .ok (.aload_n 1, 1) := dk_43 (dk_at dksJ25_sort_2_8 2 rfl rfl)
theorem dJ25_sort_2_192 : decode cJ25_sort_2 192 = .ok (.iload 11, 2) := dk_21 11 (dk_at dksJ25_sort_2_8 3 rfl rfl)
theorem dJ25_sort_2_194 : decode cJ25_sort_2 194 = .ok (.lload 15, 2) := dk_22 15 (dk_at dksJ25_sort_2_8 5 rfl rfl)
theorem dJ25_sort_2_196 : decode cJ25_sort_2 196 = .ok (.lastore, 1) := dk_80 (dk_at dksJ25_sort_2_8 7 rfl rfl)
theorem dJ25_sort_2_197 : decode cJ25_sort_2 197 = .ok (.aload_n 1, 1) := dk_43 (dk_at dksJ25_sort_2_8 8 rfl rfl)
theorem dJ25_sort_2_198 : decode cJ25_sort_2 198 = .ok (.iload 12, 2) := dk_21 12 (dk_at dksJ25_sort_2_8 9 rfl rfl)
theorem dJ25_sort_2_200 : decode cJ25_sort_2 200 = .ok (.laload, 1) := dk_47 (dk_at dksJ25_sort_2_8 11 rfl rfl)
theorem dJ25_sort_2_201 : decode cJ25_sort_2 201 = .ok (.aload_n 1, 1) := dk_43 (dk_at dksJ25_sort_2_8 12 rfl rfl)
theorem dJ25_sort_2_202 : decode cJ25_sort_2 202 = .ok (.iload 8, 2) := dk_21 8 (dk_at dksJ25_sort_2_8 13 rfl rfl)
theorem dJ25_sort_2_204 : decode cJ25_sort_2 204 = .ok (.laload, 1) := dk_47 (dk_at dksJ25_sort_2_8 15 rfl rfl)
theorem dJ25_sort_2_205 : decode cJ25_sort_2 205 = .ok (.lcmp, 1) := dk_148 (dk_at dksJ25_sort_2_8 16 rfl rfl)
theorem dJ25_sort_2_206 : decode cJ25_sort_2 206 = .ok (.ifCond .ge 23, 3) := dk_156 0 23 (dk_at dksJ25_sort_2_8 17 rfl rfl)
theorem dJ25_sort_2_209 : decode cJ25_sort_2 209 = .ok (.aload_n 1, 1) := dk_43 (dk_at dksJ25_sort_2_8 20 rfl rfl)
theorem dJ25_sort_2_210 : decode cJ25_sort_2 210 = .ok (.iload 12, 2) := dk_21 12 (dk_at dksJ25_sort_2_8 21 rfl rfl)
theorem dJ25_sort_2_212 : decode cJ25_sort_2 212 = .ok (.laload, 1) := dk_47 (dk_at dksJ25_sort_2_8 23 rfl rfl)
theorem dJ25_sort_2_213 : decode cJ25_sort_2 213 = .ok (.lstore 15, 2) := dk_55 15 (dk_at dksJ25_sort_2_9 0 rfl rfl)
theorem dJ25_sort_2_215 : decode cJ25_sort_2 215 = .ok (.aload_n 1, 1) := dk_43 (dk_at dksJ25_sort_2_9 2 rfl rfl)
theorem dJ25_sort_2_216 : decode cJ25_sort_2 216 = .ok (.iload 12, 2) := dk_21 12 (dk_at dksJ25_sort_2_9 3 rfl rfl)
theorem dJ25_sort_2_218 : decode cJ25_sort_2 218 = .ok (.aload_n 1, 1) := dk_43 (dk_at dksJ25_sort_2_9 5 rfl rfl)
theorem dJ25_sort_2_219 : decode cJ25_sort_2 219 = .ok (.iload 8, 2) := dk_21 8 (dk_at dksJ25_sort_2_9 6 rfl rfl)
theorem dJ25_sort_2_221 : decode cJ25_sort_2 221 = .ok (.laload, 1) := dk_47 (dk_at dksJ25_sort_2_9 8 rfl rfl)
theorem dJ25_sort_2_222 : decode cJ25_sort_2 222 = .ok (.lastore, 1) := dk_80 (dk_at dksJ25_sort_2_9 9 rfl rfl)
theorem dJ25_sort_2_223 : decode cJ25_sort_2 223 = .ok (.aload_n 1, 1) := dk_43 (dk_at dksJ25_sort_2_9 10 rfl rfl)
theorem dJ25_sort_2_224 : decode cJ25_sort_2 224 = .ok (.iload 8, 2) := dk_21 8 (dk_at dksJ25_sort_2_9 11 rfl rfl)
theorem dJ25_sort_2_226 : decode cJ25_sort_2 226 = .ok (.lload 15, 2) := dk_22 15 (dk_at dksJ25_sort_2_9 13 rfl rfl)
theorem dJ25_sort_2_228 : decode cJ25_sort_2 228 = .ok (.lastore, 1) := dk_80 (dk_at dksJ25_sort_2_9 15 rfl rfl)
theorem dJ25_sort_2_229 : decode cJ25_sort_2 229 = .ok (.aload_n 1, 1) := dk_43 (dk_at dksJ25_sort_2_9 16 rfl rfl)
theorem dJ25_sort_2_230 : decode cJ25_sort_2 230 = .ok (.iload 9, 2) := dk_21 9 (dk_at dksJ25_sort_2_9 17 rfl rfl)
theorem dJ25_sort_2_232 : decode cJ25_sort_2 232 = .ok (.laload, 1) := dk_47 (dk_at dksJ25_sort_2_9 19 rfl rfl)
theorem dJ25_sort_2_233 : decode cJ25_sort_2 233 = .ok (.aload_n 1, 1) := dk_43 (dk_at dksJ25_sort_2_9 20 rfl rfl)
theorem dJ25_sort_2_234 : decode cJ25_sort_2 234 = .ok (.iload 12, 2) := dk_21 12 (dk_at dksJ25_sort_2_9 21 rfl rfl)
theorem dJ25_sort_2_236 : decode cJ25_sort_2 236 = .ok (.laload, 1) := dk_47 (dk_at dksJ25_sort_2_9 23 rfl rfl)
theorem dJ25_sort_2_237 : decode cJ25_sort_2 237 = .ok (.lcmp, 1) := dk_148 (dk_at dksJ25_sort_2_10 0 rfl rfl)
theorem dJ25_sort_2_238 : decode cJ25_sort_2 238 = .ok (.ifCond .ge 23, 3) := dk_156 0 23 (dk_at dksJ25_sort_2_10 1 rfl rfl)
theorem dJ25_sort_2_241 : decode cJ25_sort_2 241 = .ok (.aload_n 1, 1) := dk_43 (dk_at dksJ25_sort_2_10 4 rfl rfl)
theorem dJ25_sort_2_242 : decode cJ25_sort_2 242 = .ok (.iload 9, 2) := dk_21 9 (dk_at dksJ25_sort_2_10 5 rfl rfl)
theorem dJ25_sort_2_244 : decode cJ25_sort_2 244 = .ok (.laload, 1) := dk_47 (dk_at dksJ25_sort_2_10 7 rfl rfl)
theorem dJ25_sort_2_245 : decode cJ25_sort_2 245 = .ok (.lstore 15, 2) := dk_55 15 (dk_at dksJ25_sort_2_10 8 rfl rfl)
theorem dJ25_sort_2_247 : decode cJ25_sort_2 247 = .ok (.aload_n 1, 1) := dk_43 (dk_at dksJ25_sort_2_10 10 rfl rfl)
theorem dJ25_sort_2_248 : decode cJ25_sort_2 248 = .ok (.iload 9, 2) := dk_21 9 (dk_at dksJ25_sort_2_10 11 rfl rfl)
theorem dJ25_sort_2_250 : decode cJ25_sort_2 250 = .ok (.aload_n 1, 1) := dk_43 (dk_at dksJ25_sort_2_10 13 rfl rfl)
theorem dJ25_sort_2_251 : decode cJ25_sort_2 251 = .ok (.iload 12, 2) := dk_21 12 (dk_at dksJ25_sort_2_10 14 rfl rfl)
theorem dJ25_sort_2_253 : decode cJ25_sort_2 253 = .ok (.laload, 1) := dk_47 (dk_at dksJ25_sort_2_10 16 rfl rfl)
theorem dJ25_sort_2_254 : decode cJ25_sort_2 254 = .ok (.lastore, 1) := dk_80 (dk_at dksJ25_sort_2_10 17 rfl rfl)
theorem dJ25_sort_2_255 : decode cJ25_sort_2 255 = .ok (.aload_n 1, 1) := dk_43 (dk_at dksJ25_sort_2_10 18 rfl rfl)
theorem dJ25_sort_2_256 : decode cJ25_sort_2 256 = .ok (.iload 12, 2) := dk_21 12 (dk_at dksJ25_sort_2_10 19 rfl rfl)
theorem dJ25_sort_2_258 : decode cJ25_sort_2 258 = .ok (.lload 15, 2) := dk_22 15 (dk_at dksJ25_sort_2_10 21 rfl rfl)
theorem dJ25_sort_2_260 : decode cJ25_sort_2 260 = .ok (.lastore, 1) := dk_80 (dk_at dksJ25_sort_2_10 23 rfl rfl)
theorem dJ25_sort_2_261 : decode cJ25_sort_2 261 = .ok (.aload_n 1, 1) := dk_43 (dk_at dksJ25_sort_2_11 0 rfl rfl)
theorem dJ25_sort_2_262 : decode cJ25_sort_2 262 = .ok (.iload 11, 2) := dk_21 11 (dk_at dksJ25_sort_2_11 1 rfl rfl)
theorem dJ25_sort_2_264 : decode cJ25_sort_2 264 = .ok (.laload, 1) := dk_47 (dk_at dksJ25_sort_2_11 3 rfl rfl)
theorem dJ25_sort_2_265 : decode cJ25_sort_2 265 = .ok (.aload_n 1, 1) := dk_43 (dk_at dksJ25_sort_2_11 4 rfl rfl)
theorem dJ25_sort_2_266 : decode cJ25_sort_2 266 = .ok (.iload 8, 2) := dk_21 8 (dk_at dksJ25_sort_2_11 5 rfl rfl)
theorem dJ25_sort_2_268 : decode cJ25_sort_2 268 = .ok (.laload, 1) := dk_47 (dk_at dksJ25_sort_2_11 7 rfl rfl)
theorem dJ25_sort_2_269 : decode cJ25_sort_2 269 = .ok (.lcmp, 1) := dk_148 (dk_at dksJ25_sort_2_11 8 rfl rfl)
theorem dJ25_sort_2_270 : decode cJ25_sort_2 270 = .ok (.ifCond .ge 23, 3) := dk_156 0 23 (dk_at dksJ25_sort_2_11 9 rfl rfl)
theorem dJ25_sort_2_273 : decode cJ25_sort_2 273 = .ok (.aload_n 1, 1) := dk_43 (dk_at dksJ25_sort_2_11 12 rfl rfl)
theorem dJ25_sort_2_274 : decode cJ25_sort_2 274 = .ok (.iload 11, 2) := dk_21 11 (dk_at dksJ25_sort_2_11 13 rfl rfl)
theorem dJ25_sort_2_276 : decode cJ25_sort_2 276 = .ok (.laload, 1) := dk_47 (dk_at dksJ25_sort_2_11 15 rfl rfl)
theorem dJ25_sort_2_277 : decode cJ25_sort_2 277 = .ok (.lstore 15, 2) := dk_55 15 (dk_at dksJ25_sort_2_11 16 rfl rfl)
theorem dJ25_sort_2_279 : decode cJ25_sort_2 279 = .ok (.aload_n 1, 1) := dk_43 (dk_at dksJ25_sort_2_11 18 rfl rfl)
theorem dJ25_sort_2_280 : decode cJ25_sort_2 280 = .ok (.iload 11, 2) := dk_21 11 (dk_at dksJ25_sort_2_11 19 rfl rfl)
theorem dJ25_sort_2_282 : decode cJ25_sort_2 282 = .ok (.aload_n 1, 1) := dk_43 (dk_at dksJ25_sort_2_11 21 rfl rfl)
theorem dJ25_sort_2_283 : decode cJ25_sort_2 283 = .ok (.iload 8, 2) := dk_21 8 (dk_at dksJ25_sort_2_11 22 rfl rfl)
theorem dJ25_sort_2_285 : decode cJ25_sort_2 285 = .ok (.laload, 1) := dk_47 (dk_at dksJ25_sort_2_12 0 rfl rfl)
theorem dJ25_sort_2_286 : decode cJ25_sort_2 286 = .ok (.lastore, 1) := dk_80 (dk_at dksJ25_sort_2_12 1 rfl rfl)
theorem dJ25_sort_2_287 : decode cJ25_sort_2 287 = .ok (.aload_n 1, 1) := dk_43 (dk_at dksJ25_sort_2_12 2 rfl rfl)
theorem dJ25_sort_2_288 : decode cJ25_sort_2 288 = .ok (.iload 8, 2) := dk_21 8 (dk_at dksJ25_sort_2_12 3 rfl rfl)
theorem dJ25_sort_2_290 : decode cJ25_sort_2 290 = .ok (.lload 15, 2) := dk_22 15 (dk_at dksJ25_sort_2_12 5 rfl rfl)
theorem dJ25_sort_2_292 : decode cJ25_sort_2 292 = .ok (.lastore, 1) := dk_80 (dk_at dksJ25_sort_2_12 7 rfl rfl)
theorem dJ25_sort_2_293 : decode cJ25_sort_2 293 = .ok (.aload_n 1, 1) := dk_43 (dk_at dksJ25_sort_2_12 8 rfl rfl)
theorem dJ25_sort_2_294 : decode cJ25_sort_2 294 = .ok (.iload 12, 2) := dk_21 12 (dk_at dksJ25_sort_2_12 9 rfl rfl)
theorem dJ25_sort_2_296 : decode cJ25_sort_2 296 = .ok (.laload, 1) := dk_47 (dk_at dksJ25_sort_2_12 11 rfl rfl)
theorem dJ25_sort_2_297 : decode cJ25_sort_2 297 = .ok (.aload_n 1, 1) := dk_43 (dk_at dksJ25_sort_2_12 12 rfl rfl)
theorem dJ25_sort_2_298 : decode cJ25_sort_2 298 = .ok (.iload 11, 2) := dk_21 11 (dk_at dksJ25_sort_2_12 13 rfl rfl)
theorem dJ25_sort_2_300 : decode cJ25_sort_2 300 = .ok (.laload, 1) := dk_47 (dk_at dksJ25_sort_2_12 15 rfl rfl)
theorem dJ25_sort_2_301 : decode cJ25_sort_2 301 = .ok (.lcmp, 1) := dk_148 (dk_at dksJ25_sort_2_12 16 rfl rfl)
theorem dJ25_sort_2_302 : decode cJ25_sort_2 302 = .ok (.ifCond .ge 23, 3) := dk_156 0 23 (dk_at dksJ25_sort_2_12 17 rfl rfl)
theorem dJ25_sort_2_305 : decode cJ25_sort_2 305 = .ok (.aload_n 1, 1) := dk_43 (dk_at dksJ25_sort_2_12 20 rfl rfl)
theorem dJ25_sort_2_306 : decode cJ25_sort_2 306 = .ok (.iload 12, 2) := dk_21 12 (dk_at dksJ25_sort_2_12 21 rfl rfl)
theorem dJ25_sort_2_308 : decode cJ25_sort_2 308 = .ok (.laload, 1) := dk_47 (dk_at dksJ25_sort_2_12 23 rfl rfl)
theorem dJ25_sort_2_309 : decode cJ25_sort_2 309 = .ok (.lstore 15, 2) := dk_55 15 (dk_at dksJ25_sort_2_13 0 rfl rfl)
theorem dJ25_sort_2_311 : decode cJ25_sort_2 311 = .ok (.aload_n 1, 1) := dk_43 (dk_at dksJ25_sort_2_13 2 rfl rfl)
theorem dJ25_sort_2_312 : decode cJ25_sort_2 312 = .ok (.iload 12, 2) := dk_21 12 (dk_at dksJ25_sort_2_13 3 rfl rfl)
theorem dJ25_sort_2_314 : decode cJ25_sort_2 314 = .ok (.aload_n 1, 1) := dk_43 (dk_at dksJ25_sort_2_13 5 rfl rfl)
theorem dJ25_sort_2_315 : decode cJ25_sort_2 315 = .ok (.iload 11, 2) := dk_21 11 (dk_at dksJ25_sort_2_13 6 rfl rfl)
theorem dJ25_sort_2_317 : decode cJ25_sort_2 317 = .ok (.laload, 1) := dk_47 (dk_at dksJ25_sort_2_13 8 rfl rfl)
theorem dJ25_sort_2_318 : decode cJ25_sort_2 318 = .ok (.lastore, 1) := dk_80 (dk_at dksJ25_sort_2_13 9 rfl rfl)
theorem dJ25_sort_2_319 : decode cJ25_sort_2 319 = .ok (.aload_n 1, 1) := dk_43 (dk_at dksJ25_sort_2_13 10 rfl rfl)
theorem dJ25_sort_2_320 : decode cJ25_sort_2 320 = .ok (.iload 11, 2) := dk_21 11 (dk_at dksJ25_sort_2_13 11 rfl rfl)
theorem dJ25_sort_2_322 : decode cJ25_sort_2 322 = .ok (.lload 15, 2) := dk_22 15 (dk_at dksJ25_sort_2_13 13 rfl rfl)
theorem dJ25_sort_2_324 : decode cJ25_sort_2 324 = .ok (.lastore, 1) := dk_80 (dk_at dksJ25_sort_2_13 15 rfl rfl)
theorem dJ25_sort_2_325 : decode cJ25_sort_2 325 = .ok (.lload 13, 2) := dk_22 13 (dk_at dksJ25_sort_2_13 16 rfl rfl)
theorem dJ25_sort_2_327 : decode cJ25_sort_2 327 = .ok (.aload_n 1, 1) := dk_43 (dk_at dksJ25_sort_2_13 18 rfl rfl)
theorem dJ25_sort_2_328 : decode cJ25_sort_2 328 = .ok (.iload 11, 2) := dk_21 11 (dk_at dksJ25_sort_2_13 19 rfl rfl)
theorem dJ25_sort_2_330 : decode cJ25_sort_2 330 = .ok (.laload, 1) := dk_47 (dk_at dksJ25_sort_2_13 21 rfl rfl)
theorem dJ25_sort_2_331 : decode cJ25_sort_2 331 = .ok (.lcmp, 1) := dk_148 (dk_at dksJ25_sort_2_13 22 rfl rfl)
theorem dJ25_sort_2_332 : decode cJ25_sort_2 332 = .ok (.ifCond .ge 55, 3) := dk_156 0 55 (dk_at dksJ25_sort_2_14 0 rfl rfl)
theorem dJ25_sort_2_335 : decode cJ25_sort_2 335 = .ok (.lload 13, 2) := dk_22 13 (dk_at dksJ25_sort_2_14 3 rfl rfl)
theorem dJ25_sort_2_337 : decode cJ25_sort_2 337 = .ok (.aload_n 1, 1) := dk_43 (dk_at dksJ25_sort_2_14 5 rfl rfl)
theorem dJ25_sort_2_338 : decode cJ25_sort_2 338 = .ok (.iload 8, 2) := dk_21 8 (dk_at dksJ25_sort_2_14 6 rfl rfl)
theorem dJ25_sort_2_340 : decode cJ25_sort_2 340 = .ok (.laload, 1) := dk_47 (dk_at dksJ25_sort_2_14 8 rfl rfl)
theorem dJ25_sort_2_341 : decode cJ25_sort_2 341 = .ok (.lcmp, 1) := dk_148 (dk_at dksJ25_sort_2_14 9 rfl rfl)
theorem dJ25_sort_2_342 : decode cJ25_sort_2 342 = .ok (.ifCond .ge 28, 3) := dk_156 0 28 (dk_at dksJ25_sort_2_14 10 rfl rfl)
theorem dJ25_sort_2_345 : decode cJ25_sort_2 345 = .ok (.aload_n 1, 1) := dk_43 (dk_at dksJ25_sort_2_14 13 rfl rfl)
theorem dJ25_sort_2_346 : decode cJ25_sort_2 346 = .ok (.iload 10, 2) := dk_21 10 (dk_at dksJ25_sort_2_14 14 rfl rfl)
theorem dJ25_sort_2_348 : decode cJ25_sort_2 348 = .ok (.aload_n 1, 1) := dk_43 (dk_at dksJ25_sort_2_14 16 rfl rfl)
theorem dJ25_sort_2_349 : decode cJ25_sort_2 349 = .ok (.iload 11, 2) := dk_21 11 (dk_at dksJ25_sort_2_14 17 rfl rfl)
theorem dJ25_sort_2_351 : decode cJ25_sort_2 351 = .ok (.laload, 1) := dk_47 (dk_at dksJ25_sort_2_14 19 rfl rfl)
theorem dJ25_sort_2_352 : decode cJ25_sort_2 352 = .ok (.lastore, 1) := dk_80 (dk_at dksJ25_sort_2_14 20 rfl rfl)
theorem dJ25_sort_2_353 : decode cJ25_sort_2 353 = .ok (.aload_n 1, 1) := dk_43 (dk_at dksJ25_sort_2_14 21 rfl rfl)
theorem dJ25_sort_2_354 : decode cJ25_sort_2 354 = .ok (.iload 11, 2) := dk_21 11 (dk_at dksJ25_sort_2_14 22 rfl rfl)
theorem dJ25_sort_2_356 : decode cJ25_sort_2 356 = .ok (.aload_n 1, 1) := dk_43 (dk_at dksJ25_sort_2_15 0 rfl rfl)
theorem dJ25_sort_2_357 : decode cJ25_sort_2 357 = .ok (.iload 8, 2) := dk_21 8 (dk_at dksJ25_sort_2_15 1 rfl rfl)
theorem dJ25_sort_2_359 : decode cJ25_sort_2 359 = .ok (.laload, 1) := dk_47 (dk_at dksJ25_sort_2_15 3 rfl rfl)
theorem dJ25_sort_2_360 : decode cJ25_sort_2 360 = .ok (.lastore, 1) := dk_80 (dk_at dksJ25_sort_2_15 4 rfl rfl)
theorem dJ25_sort_2_361 : decode cJ25_sort_2 361 = .ok (.aload_n 1, 1) := dk_43 (dk_at dksJ25_sort_2_15 5 rfl rfl)
theorem dJ25_sort_2_362 : decode cJ25_sort_2 362 = .ok (.iload 8, 2) := dk_21 8 (dk_at dksJ25_sort_2_15 6 rfl rfl)
theorem dJ25_sort_2_364 : decode cJ25_sort_2 364 = .ok (.lload 13, 2) := dk_22 13 (dk_at dksJ25_sort_2_15 8 rfl rfl)
theorem dJ25_sort_2_366 : decode cJ25_sort_2 366 = .ok (.lastore, 1) := dk_80 (dk_at dksJ25_sort_2_15 10 rfl rfl)
theorem dJ25_sort_2_367 : decode cJ25_sort_2 367 = .ok (.goto 79, 3) := dk_167 0 79 (dk_at dksJ25_sort_2_15 11 rfl rfl)
theorem dJ25_sort_2_370 : decode cJ25_sort_2 370 = .ok (.aload_n 1, 1) := dk_43 (dk_at dksJ25_sort_2_15 14 rfl rfl)
theorem dJ25_sort_2_371 : decode cJ25_sort_2 371 = .ok (.iload 10, 2) := dk_21 10 (dk_at dksJ25_sort_2_15 15 rfl rfl)
theorem dJ25_sort_2_373 : decode cJ25_sort_2 373 = .ok (.aload_n 1, 1) := dk_43 (dk_at dksJ25_sort_2_15 17 rfl rfl)
theorem dJ25_sort_2_374 : decode cJ25_sort_2 374 = .ok (.iload 11, 2) := dk_21 11 (dk_at dksJ25_sort_2_15 18 rfl rfl)
theorem dJ25_sort_2_376 : decode cJ25_sort_2 376 = .ok (.laload, 1) := dk_47 (dk_at dksJ25_sort_2_15 20 rfl rfl)
theorem dJ25_sort_2_377 : decode cJ25_sort_2 377 = .ok (.lastore, 1) := dk_80 (dk_at dksJ25_sort_2_15 21 rfl rfl)
theorem dJ25_sort_2_378 : decode cJ25_sort_2 378 = .ok (.aload_n 1, 1) := dk_43 (dk_at dksJ25_sort_2_15 22 rfl rfl)
theorem dJ25_sort_2_379 : decode cJ25_sort_2 379 = .ok (.iload 11, 2) := dk_21 11 (dk_at dksJ25_sort_2_16 0 rfl rfl)
theorem dJ25_sort_2_381 : decode cJ25_sort_2 381 = .ok (.lload 13, 2) := dk_22 13 (dk_at dksJ25_sort_2_16 2 rfl rfl)
theorem dJ25_sort_2_383 : decode cJ25_sort_2 383 = .ok (.lastore, 1) := dk_80 (dk_at dksJ25_sort_2_16 4 rfl rfl)
theorem dJ25_sort_2_384 : decode cJ25_sort_2 384 = .ok (.goto 62, 3) := dk_167 0 62 (dk_at dksJ25_sort_2_16 5 rfl rfl)
theorem dJ25_sort_2_387 : decode cJ25_sort_2 387 = .ok (.lload 13, 2) := dk_22 13 (dk_at dksJ25_sort_2_16 8 rfl rfl)
theorem dJ25_sort_2_389 : decode cJ25_sort_2 389 = .ok (.aload_n 1, 1) := dk_43 (dk_at dksJ25_sort_2_16 10 rfl rfl)
theorem dJ25_sort_2_390 : decode cJ25_sort_2 390 = .ok (.iload 12, 2) := dk_21 12 (dk_at dksJ25_sort_2_16 11 rfl rfl)
theorem dJ25_sort_2_392 : decode cJ25_sort_2 392 = .ok (.laload, 1) := dk_47 (dk_at dksJ25_sort_2_16 13 rfl rfl)
theorem dJ25_sort_2_393 : decode cJ25_sort_2 393 = .ok (.lcmp, 1) := dk_148 (dk_at dksJ25_sort_2_16 14 rfl rfl)
theorem dJ25_sort_2_394 : decode cJ25_sort_2 394 = .ok (.ifCond .le 52, 3) := dk_158 0 52 (dk_at dksJ25_sort_2_16 15 rfl rfl)
theorem dJ25_sort_2_397 : decode cJ25_sort_2 397 = .ok (.lload 13, 2) := dk_22 13 (dk_at dksJ25_sort_2_16 18 rfl rfl)
theorem dJ25_sort_2_399 : decode cJ25_sort_2 399 = .ok (.aload_n 1, 1) := dk_43 (dk_at dksJ25_sort_2_16 20 rfl rfl)
theorem dJ25_sort_2_400 : decode cJ25_sort_2 400 = .ok (.iload 9, 2) := dk_21 9 (dk_at dksJ25_sort_2_16 21 rfl rfl)
theorem dJ25_sort_2_402 : decode cJ25_sort_2 402 = .ok (.laload, 1) := dk_47 (dk_at dksJ25_sort_2_16 23 rfl rfl)
theorem dJ25_sort_2_403 : decode cJ25_sort_2 403 = .ok (.lcmp, 1) := dk_148 (dk_at dksJ25_sort_2_17 0 rfl rfl)
theorem dJ25_sort_2_404 : decode cJ25_sort_2 404 = .ok (.ifCond .le 28, 3) := dk_158 0 28 (dk_at dksJ25_sort_2_17 1 rfl rfl)
theorem dJ25_sort_2_407 : decode cJ25_sort_2 407 = .ok (.aload_n 1, 1) := dk_43 (dk_at dksJ25_sort_2_17 4 rfl rfl)
theorem dJ25_sort_2_408 : decode cJ25_sort_2 408 = .ok (.iload 10, 2) := dk_21 10 (dk_at dksJ25_sort_2_17 5 rfl rfl)
theorem dJ25_sort_2_410 : decode cJ25_sort_2 410 = .ok (.aload_n 1, 1) := dk_43 (dk_at dksJ25_sort_2_17 7 rfl rfl)
theorem dJ25_sort_2_411 : decode cJ25_sort_2 411 = .ok (.iload 12, 2) := dk_21 12 (dk_at dksJ25_sort_2_17 8 rfl rfl)
theorem dJ25_sort_2_413 : decode cJ25_sort_2 413 = .ok (.laload, 1) := dk_47 (dk_at dksJ25_sort_2_17 10 rfl rfl)
theorem dJ25_sort_2_414 : decode cJ25_sort_2 414 = .ok (.lastore, 1) := dk_80 (dk_at dksJ25_sort_2_17 11 rfl rfl)
theorem dJ25_sort_2_415 : decode cJ25_sort_2 415 = .ok (.aload_n 1, 1) := dk_43 (dk_at dksJ25_sort_2_17 12 rfl rfl)
theorem dJ25_sort_2_416 : decode cJ25_sort_2 416 = .ok (.iload 12, 2) := dk_21 12 (dk_at dksJ25_sort_2_17 13 rfl rfl)
theorem dJ25_sort_2_418 : decode cJ25_sort_2 418 = .ok (.aload_n 1, 1) := dk_43 (dk_at dksJ25_sort_2_17 15 rfl rfl)
theorem dJ25_sort_2_419 : decode cJ25_sort_2 419 = .ok (.iload 9, 2) := dk_21 9 (dk_at dksJ25_sort_2_17 16 rfl rfl)
theorem dJ25_sort_2_421 : decode cJ25_sort_2 421 = .ok (.laload, 1) := dk_47 (dk_at dksJ25_sort_2_17 18 rfl rfl)
theorem dJ25_sort_2_422 : decode cJ25_sort_2 422 = .ok (.lastore, 1) := dk_80 (dk_at dksJ25_sort_2_17 19 rfl rfl)
theorem dJ25_sort_2_423 : decode cJ25_sort_2 423 = .ok (.aload_n 1, 1) := dk_43 (dk_at dksJ25_sort_2_17 20 rfl rfl)
theorem dJ25_sort_2_424 : decode cJ25_sort_2 424 = .ok (.iload 9, 2) := dk_21 9 (dk_at dksJ25_sort_2_17 21 rfl rfl)
theorem dJ25_sort_2_426 : decode cJ25_sort_2 426 = .ok (.lload 13, 2) := dk_22 13 (dk_at dksJ25_sort_2_18 0 rfl rfl)
theorem dJ25_sort_2_428 : decode cJ25_sort_2 428 = .ok (.lastore, 1) := dk_80 (dk_at dksJ25_sort_2_18 2 rfl rfl)
theorem dJ25_sort_2_429 : decode cJ25_sort_2 429 = .ok (.goto 17, 3) := dk_167 0 17 (dk_at dksJ25_sort_2_18 3 rfl rfl)
theorem dJ25_sort_2_432 : decode cJ25_sort_2 432 = .ok (.aload_n 1, 1) := dk_43 (dk_at dksJ25_sort_2_18 6 rfl rfl)
theorem dJ25_sort_2_433 : decode cJ25_sort_2 433 = .ok (.iload 10, 2) := dk_21 10 (dk_at dksJ25_sort_2_18 7 rfl rfl)
theorem dJ25_sort_2_435 : decode cJ25_sort_2 435 = .ok (.aload_n 1, 1) := dk_43 (dk_at dksJ25_sort_2_18 9 rfl rfl)
theorem dJ25_sort_2_436 : decode cJ25_sort_2 436 = .ok (.iload 12, 2) := dk_21 12 (dk_at dksJ25_sort_2_18 10 rfl rfl)
theorem dJ25_sort_2_438 : decode cJ25_sort_2 438 = .ok (.laload, 1) := dk_47 (dk_at dksJ25_sort_2_18 12 rfl rfl)
theorem dJ25_sort_2_439 : decode cJ25_sort_2 439 = .ok (.lastore, 1) := dk_80 (dk_at dksJ25_sort_2_18 13 rfl rfl)
theorem dJ25_sort_2_440 : decode cJ25_sort_2 440 = .ok (.aload_n 1, 1) := dk_43 (dk_at dksJ25_sort_2_18 14 rfl rfl)
theorem dJ25_sort_2_441 : decode cJ25_sort_2 441 = .ok (.iload 12, 2) := dk_21 12 (dk_at dksJ25_sort_2_18 15 rfl rfl)
theorem dJ25_sort_2_443 : decode cJ25_sort_2 443 = .ok (.lload 13, 2) := dk_22 13 (dk_at dksJ25_sort_2_18 17 rfl rfl)
theorem dJ25_sort_2_445 : decode cJ25_sort_2 445 = .ok (.lastore, 1) := dk_80 (dk_at dksJ25_sort_2_18 19 rfl rfl)
theorem dJ25_sort_2_446 : decode cJ25_sort_2 446 = .ok (.iload_n 3, 1) := dk_29 (dk_at dksJ25_sort_2_18 20 rfl rfl)
theorem dJ25_sort_2_447 : decode cJ25_sort_2 447 = .ok (.istore 15, 2) := dk_54 15 (dk_at dksJ25_sort_2_18 21 rfl rfl)
theorem dJ25_sort_2_449 : decode cJ25_sort_2 449 = .ok (.iload 5, 2) := dk_21 5 (dk_at dksJ25_sort_2_19 0 rfl rfl)
theorem dJ25_sort_2_451 : decode cJ25_sort_2 451 = .ok (.istore 16, 2) := dk_54 16 (dk_at dksJ25_sort_2_19 2 rfl rfl)
theorem dJ25_sort_2_453 : decode cJ25_sort_2 453 = .ok (.aload_n 1, 1) := dk_43 (dk_at dksJ25_sort_2_19 4 rfl rfl)
theorem dJ25_sort_2_454 : decode cJ25_sort_2 454 = .ok (.iload 8, 2) := dk_21 8 (dk_at dksJ25_sort_2_19 5 rfl rfl)
theorem dJ25_sort_2_456 : decode cJ25_sort_2 456 = .ok (.laload, 1) := dk_47 (dk_at dksJ25_sort_2_19 7 rfl rfl)
theorem dJ25_sort_2_457 : decode cJ25_sort_2 457 = .ok (.aload_n 1, 1) := dk_43 (dk_at dksJ25_sort_2_19 8 rfl rfl)
theorem dJ25_sort_2_458 : decode cJ25_sort_2 458 = .ok (.iload 11, 2) := dk_21 11 (dk_at dksJ25_sort_2_19 9 rfl rfl)
theorem dJ25_sort_2_460 : decode cJ25_sort_2 460 = .ok (.laload, 1) := dk_47 (dk_at dksJ25_sort_2_19 11 rfl rfl)
theorem dJ25_sort_2_461 : decode cJ25_sort_2 461 = .ok (.lcmp, 1) := dk_148 (dk_at dksJ25_sort_2_19 12 rfl rfl)
theorem dJ25_sort_2_462 : decode cJ25_sort_2 462 = .ok (.ifCond .ge 333, 3) := dk_156 1 77 (dk_at dksJ25_sort_2_19 13 rfl rfl)
theorem dJ25_sort_2_465 : decode cJ25_sort_2 465 = .ok (.aload_n 1, 1) := dk_43 (dk_at dksJ25_sort_2_19 16 rfl rfl)
theorem dJ25_sort_2_466 : decode cJ25_sort_2 466 = .ok (.iload 11, 2) := dk_21 11 (dk_at dksJ25_sort_2_19 17 rfl rfl)
theorem dJ25_sort_2_468 : decode cJ25_sort_2 468 = .ok (.laload, 1) := dk_47 (dk_at dksJ25_sort_2_19 19 rfl rfl)
theorem dJ25_sort_2_469 : decode cJ25_sort_2 469 = .ok (.aload_n 1, 1) := dk_43 (dk_at dksJ25_sort_2_19 20 rfl rfl)
theorem dJ25_sort_2_470 : decode cJ25_sort_2 470 = .ok (.iload 10, 2) := dk_21 10 (dk_at dksJ25_sort_2_19 21 rfl rfl)
theorem dJ25_sort_2_472 : decode cJ25_sort_2 472 = .ok (.laload, 1) := dk_47 (dk_at dksJ25_sort_2_19 23 rfl rfl)
theorem dJ25_sort_2_473 : decode cJ25_sort_2 473 = .ok (.lcmp, 1) := dk_148 (dk_at dksJ25_sort_2_20 0 rfl rfl)
theorem dJ25_sort_2_474 : decode cJ25_sort_2 474 = .ok (.ifCond .ge 321, 3) := dk_156 1 65 (dk_at dksJ25_sort_2_20 1 rfl rfl)
theorem dJ25_sort_2_477 : decode cJ25_sort_2 477 = .ok (.aload_n 1, 1) := dk_43 (dk_at dksJ25_sort_2_20 4 rfl rfl)
theorem dJ25_sort_2_478 : decode cJ25_sort_2 478 = .ok (.iload 10, 2) := dk_21 10 (dk_at dksJ25_sort_2_20 5 rfl rfl)
theorem dJ25_sort_2_480 : decode cJ25_sort_2 480 = .ok (.laload, 1) := dk_47 (dk_at dksJ25_sort_2_20 7 rfl rfl)
theorem dJ25_sort_2_481 : decode cJ25_sort_2 481 = .ok (.aload_n 1, 1) := dk_43 (dk_at dksJ25_sort_2_20 8 rfl rfl)
theorem dJ25_sort_2_482 : decode cJ25_sort_2 482 = .ok (.iload 12, 2) := dk_21 12 (dk_at dksJ25_sort_2_20 9 rfl rfl)
theorem dJ25_sort_2_484 : decode cJ25_sort_2 484 = .ok (.laload, 1) := dk_47 (dk_at dksJ25_sort_2_20 11 rfl rfl)
theorem dJ25_sort_2_485 : decode cJ25_sort_2 485 = .ok (.lcmp, 1) := dk_148 (dk_at dksJ25_sort_2_20 12 rfl rfl)
theorem dJ25_sort_2_486 : decode cJ25_sort_2 486 = .ok (.ifCond .ge 309, 3) := dk_156 1 53 (dk_at dksJ25_sort_2_20 13 rfl rfl)
theorem dJ25_sort_2_489 : decode cJ25_sort_2 489 = .ok (.aload_n 1, 1) := dk_43 (dk_at dksJ25_sort_2_20 16 rfl rfl)
theorem dJ25_sort_2_490 : decode cJ25_sort_2 490 = .ok (.iload 12, 2) := dk_21 12 (dk_at dksJ25_sort_2_20 17 rfl rfl)
theorem dJ25_sort_2_492 : decode cJ25_sort_2 492 = .ok (.laload, 1) := dk_47 (dk_at dksJ25_sort_2_20 19 rfl rfl)
theorem dJ25_sort_2_493 : decode cJ25_sort_2 493 = .ok (.aload_n 1, 1) := dk_43 (dk_at dksJ25_sort_2_20 20 rfl rfl)
theorem dJ25_sort_2_494 : decode cJ25_sort_2 494 = .ok (.iload 9, 2) := dk_21 9 (dk_at dksJ25_sort_2_20 21 rfl rfl)
theorem dJ25_sort_2_496 : decode cJ25_sort_2 496 = .ok (.laload, 1) := dk_47 (dk_at dksJ25_sort_2_20 23 rfl rfl)
theorem dJ25_sort_2_497 : decode cJ25_sort_2 497 = .ok (.lcmp, 1) := dk_148 (dk_at dksJ25_sort_2_21 0 rfl rfl)
theorem dJ25_sort_2_498 : decode cJ25_sort_2 498 = .ok (.ifCond .ge 297, 3) := dk_156 1 41 (dk_at dksJ25_sort_2_21 1 rfl rfl)
theorem dJ25_sort_2_501 : decode cJ25_sort_2 501 = .ok (.aload_n 1, 1) := dk_43 (dk_at dksJ25_sort_2_21 4 rfl rfl)
theorem dJ25_sort_2_502 : decode cJ25_sort_2 502 = .ok (.iload 8, 2) := dk_21 8 (dk_at dksJ25_sort_2_21 5 rfl rfl)
theorem dJ25_sort_2_504 : decode cJ25_sort_2 504 = .ok (.laload, 1) := dk_47 (dk_at dksJ25_sort_2_21 7 rfl rfl)
theorem dJ25_sort_2_505 : decode cJ25_sort_2 505 = .ok (.lstore 17, 2) := dk_55 17 (dk_at dksJ25_sort_2_21 8 rfl rfl)
theorem dJ25_sort_2_507 : decode cJ25_sort_2 507 = .ok (.aload_n 1, 1) := dk_43 (dk_at dksJ25_sort_2_21 10 rfl rfl)
theorem dJ25_sort_2_508 : decode cJ25_sort_2 508 = .ok (.iload 9, 2) := dk_21 9 (dk_at dksJ25_sort_2_21 11 rfl rfl)
theorem dJ25_sort_2_510 : decode cJ25_sort_2 510 = .ok (.laload, 1) := dk_47 (dk_at dksJ25_sort_2_21 13 rfl rfl)
theorem dJ25_sort_2_511 : decode cJ25_sort_2 511 = .ok (.lstore 19, 2) := dk_55 19 (dk_at dksJ25_sort_2_21 14 rfl rfl)
theorem dJ25_sort_2_513 : decode cJ25_sort_2 513 = .ok (.aload_n 1, 1) := dk_43 (dk_at dksJ25_sort_2_21 16 rfl rfl)
theorem dJ25_sort_2_514 : decode cJ25_sort_2 514 = .ok (.iload 8, 2) := dk_21 8 (dk_at dksJ25_sort_2_21 17 rfl rfl)
theorem dJ25_sort_2_516 : decode cJ25_sort_2 516 = .ok (.aload_n 1, 1) := dk_43 (dk_at dksJ25_sort_2_21 19 rfl rfl)
theorem dJ25_sort_2_517 : decode cJ25_sort_2 517 = .ok (.iload 15, 2) := dk_21 15 (dk_at dksJ25_sort_2_21 20 rfl rfl)
theorem dJ25_sort_2_519 : decode cJ25_sort_2 519 = .ok (.laload, 1) := dk_47 (dk_at dksJ25_sort_2_21 22 rfl rfl)
theorem dJ25_sort_2_520 : decode cJ25_sort_2 520 = .ok (.lastore, 1) := dk_80 (dk_at dksJ25_sort_2_21 23 rfl rfl)
theorem dJ25_sort_2_521 : decode cJ25_sort_2 521 = .ok (.aload_n 1, 1) := dk_43 (dk_at dksJ25_sort_2_22 0 rfl rfl)
theorem dJ25_sort_2_522 : decode cJ25_sort_2 522 = .ok (.iload 9, 2) := dk_21 9 (dk_at dksJ25_sort_2_22 1 rfl rfl)
theorem dJ25_sort_2_524 : decode cJ25_sort_2 524 = .ok (.aload_n 1, 1) := dk_43 (dk_at dksJ25_sort_2_22 3 rfl rfl)
theorem dJ25_sort_2_525 : decode cJ25_sort_2 525 = .ok (.iload 16, 2) := dk_21 16 (dk_at dksJ25_sort_2_22 4 rfl rfl)
theorem dJ25_sort_2_527 : decode cJ25_sort_2 527 = .ok (.laload, 1) := dk_47 (dk_at dksJ25_sort_2_22 6 rfl rfl)
theorem dJ25_sort_2_528 : decode cJ25_sort_2 528 = .ok (.lastore, 1) := dk_80 (dk_at dksJ25_sort_2_22 7 rfl rfl)
theorem dJ25_sort_2_529 : decode cJ25_sort_2 529 = .ok (.aload_n 1, 1) := dk_43 (dk_at dksJ25_sort_2_22 8 rfl rfl)
theorem dJ25_sort_2_530 : decode cJ25_sort_2 530 = .ok (.iinc 15 1, 3) := dk_132 15 1 (dk_at dksJ25_sort_2_22 9 rfl rfl)
theorem dJ25_sort_2_533 : decode cJ25_sort_2 533 = .ok (.iload 15, 2) := dk_21 15 (dk_at dksJ25_sort_2_22 12 rfl rfl)
theorem dJ25_sort_2_535 : decode cJ25_sort_2 535 = .ok (.laload, 1) := dk_47 (dk_at dksJ25_sort_2_22 14 rfl rfl)
theorem dJ25_sort_2_536 : decode cJ25_sort_2 536 = .ok (.lload 17, 2) := dk_22 17 (dk_at dksJ25_sort_2_22 15 rfl rfl)
theorem dJ25_sort_2_538 : decode cJ25_sort_2 538 = .ok (.lcmp, 1) := dk_148 (dk_at dksJ25_sort_2_22 17 rfl rfl)
theorem dJ25_sort_2_539 : decode cJ25_sort_2 539 = .ok (.ifCond .ge 6, 3) := dk_156 0 6 (dk_at dksJ25_sort_2_22 18 rfl rfl)
theorem dJ25_sort_2_542 : decode cJ25_sort_2 542 = .ok (.goto (-13), 3) := dk_167 255 243 (dk_at dksJ25_sort_2_22 21 rfl rfl)
theorem dJ25_sort_2_545 : decode cJ25_sort_2 545 = .ok (.aload_n 1, 1) := dk_43 (dk_at dksJ25_sort_2_23 0 rfl rfl)
theorem dJ25_sort_2_546 : decode cJ25_sort_2 546 = .ok (.iinc 16 (-1), 3) := dk_132 16 255 (dk_at dksJ25_sort_2_23 1 rfl rfl)
theorem dJ25_sort_2_549 : decode cJ25_sort_2 549 = .ok (.iload 16, 2) := dk_21 16 (dk_at dksJ25_sort_2_23 4 rfl rfl)
theorem dJ25_sort_2_551 : decode cJ25_sort_2 551 = .ok (.laload, 1) := dk_47 (dk_at dksJ25_sort_2_23 6 rfl rfl)
theorem dJ25_sort_2_552 : decode cJ25_sort_2 552 = .ok (.lload 19, 2) := dk_22 19 (dk_at dksJ25_sort_2_23 7 rfl rfl)
theorem dJ25_sort_2_554 : decode cJ25_sort_2 554 = .ok (.lcmp, 1) := dk_148 (dk_at dksJ25_sort_2_23 9 rfl rfl)
theorem dJ25_sort_2_555 : decode cJ25_sort_2 555 = .ok (.ifCond .le 6, 3) := dk_158 0 6 (dk_at dksJ25_sort_2_23 10 rfl rfl)
theorem dJ25_sort_2_558 : decode cJ25_sort_2 558 = .ok (.goto (-13), 3) := dk_167 255 243 (dk_at dksJ25_sort_2_23 13 rfl rfl)
theorem dJ25_sort_2_561 : decode cJ25_sort_2 561 = .ok (.iinc 15 (-1), 3) := dk_132 15 255 (dk_at dksJ25_sort_2_23 16 rfl rfl)
theorem dJ25_sort_2_564 : decode cJ25_sort_2 564 = .ok (.iload 15, 2) := dk_21 15 (dk_at dksJ25_sort_2_23 19 rfl rfl)
theorem dJ25_sort_2_566 : decode cJ25_sort_2 566 = .ok (.istore 21, 2) := dk_54 21 (dk_at dksJ25_sort_2_23 21 rfl rfl)
theorem dJ25_sort_2_568 : decode cJ25_sort_2 568 = .ok (.iinc 16 1, 3) := dk_132 16 1 (dk_at dksJ25_sort_2_24 0 rfl rfl)
theorem dJ25_sort_2_571 : decode cJ25_sort_2 571 = .ok (.iload 16, 2) := dk_21 16 (dk_at dksJ25_sort_2_24 3 rfl rfl)
theorem dJ25_sort_2_573 : decode cJ25_sort_2 573 = .ok (.istore 22, 2) := dk_54 22 (dk_at dksJ25_sort_2_24 5 rfl rfl)
theorem dJ25_sort_2_575 : decode cJ25_sort_2 575 = .ok (.iinc 22 (-1), 3) := dk_132 22 255 (dk_at dksJ25_sort_2_24 7 rfl rfl)
theorem dJ25_sort_2_578 : decode cJ25_sort_2 578 = .ok (.iload 22, 2) := dk_21 22 (dk_at dksJ25_sort_2_24 10 rfl rfl)
theorem dJ25_sort_2_580 : decode cJ25_sort_2 580 = .ok (.iload 15, 2) := dk_21 15 (dk_at dksJ25_sort_2_24 12 rfl rfl)
theorem dJ25_sort_2_582 : decode cJ25_sort_2 582 = .ok (.if_icmp .le 114, 3) := dk_164 0 114 (dk_at dksJ25_sort_2_24 14 rfl rfl)
theorem dJ25_sort_2_585 : decode cJ25_sort_2 585 = .ok (.aload_n 1, 1) := dk_43 (dk_at dksJ25_sort_2_24 17 rfl rfl)
theorem dJ25_sort_2_586 : decode cJ25_sort_2 586 = .ok (.iload 22, 2) := dk_21 22 (dk_at dksJ25_sort_2_24 18 rfl rfl)
theorem dJ25_sort_2_588 : decode cJ25_sort_2 588 = .ok (.laload, 1) := dk_47 (dk_at dksJ25_sort_2_24 20 rfl rfl)
theorem dJ25_sort_2_589 : decode cJ25_sort_2 589 = .ok (.lstore 23, 2) := dk_55 23 (dk_at dksJ25_sort_2_24 21 rfl rfl)
theorem dJ25_sort_2_591 : decode cJ25_sort_2 591 = .ok (.lload 23, 2) := dk_22 23 (dk_at dksJ25_sort_2_25 0 rfl rfl)
theorem dJ25_sort_2_593 : decode cJ25_sort_2 593 = .ok (.lload 17, 2) := dk_22 17 (dk_at dksJ25_sort_2_25 2 rfl rfl)
theorem dJ25_sort_2_595 : decode cJ25_sort_2 595 = .ok (.lcmp, 1) := dk_148 (dk_at dksJ25_sort_2_25 4 rfl rfl)
theorem dJ25_sort_2_596 : decode cJ25_sort_2 596 = .ok (.ifCond .ge 72, 3) := dk_156 0 72 (dk_at dksJ25_sort_2_25 5 rfl rfl)
theorem dJ25_sort_2_599 : decode cJ25_sort_2 599 = .ok (.iload 15, 2) := dk_21 15 (dk_at dksJ25_sort_2_25 8 rfl rfl)
theorem dJ25_sort_2_601 : decode cJ25_sort_2 601 = .ok (.iload 22, 2) := dk_21 22 (dk_at dksJ25_sort_2_25 10 rfl rfl)
theorem dJ25_sort_2_603 : decode cJ25_sort_2 603 = .ok (.if_icmp .ge 90, 3) := dk_162 0 90 (dk_at dksJ25_sort_2_25 12 rfl rfl)
theorem dJ25_sort_2_606 : decode cJ25_sort_2 606 = .ok (.aload_n 1, 1) := dk_43 (dk_at dksJ25_sort_2_25 15 rfl rfl)
theorem dJ25_sort_2_607 : decode cJ25_sort_2 607 = .ok (.iinc 15 1, 3) := dk_132 15 1 (dk_at dksJ25_sort_2_25 16 rfl rfl)
theorem dJ25_sort_2_610 : decode cJ25_sort_2 610 = .ok (.iload 15, 2) := dk_21 15 (dk_at dksJ25_sort_2_25 19 rfl rfl)
theorem dJ25_sort_2_612 : decode cJ25_sort_2 612 = .ok (.laload, 1) := dk_47 (dk_at dksJ25_sort_2_25 21 rfl rfl)
theorem dJ25_sort_2_613 : decode cJ25_sort_2 613 = .ok (.lload 17, 2) := dk_22 17 (dk_at dksJ25_sort_2_25 22 rfl rfl)
theorem dJ25_sort_2_615 : decode cJ25_sort_2 615 = .ok (.lcmp, 1) := dk_148 (dk_at dksJ25_sort_2_26 0 rfl rfl)
theorem dJ25_sort_2_616 : decode cJ25_sort_2 616 = .ok (.ifCond .lt (-17), 3) := dk_155 255 239 (dk_at dksJ25_sort_2_26 1 rfl rfl)
theorem dJ25_sort_2_619 : decode cJ25_sort_2 619 = .ok (.aload_n 1, 1) := dk_43 (dk_at dksJ25_sort_2_26 4 rfl rfl)
theorem dJ25_sort_2_620 : decode cJ25_sort_2 620 = .ok (.iload 15, 2) := dk_21 15 (dk_at dksJ25_sort_2_26 5 rfl rfl)
theorem dJ25_sort_2_622 : decode cJ25_sort_2 622 = .ok (.laload, 1) := dk_47 (dk_at dksJ25_sort_2_26 7 rfl rfl)
theorem dJ25_sort_2_623 : decode cJ25_sort_2 623 = .ok (.lload 19, 2) := dk_22 19 (dk_at dksJ25_sort_2_26 8 rfl rfl)
theorem dJ25_sort_2_625 : decode cJ25_sort_2 625 = .ok (.lcmp, 1) := dk_148 (dk_at dksJ25_sort_2_26 10 rfl rfl)
theorem dJ25_sort_2_626 : decode cJ25_sort_2 626 = .ok (.ifCond .le 25, 3) := dk_158 0 25 (dk_at dksJ25_sort_2_26 11 rfl rfl)
theorem dJ25_sort_2_629 : decode cJ25_sort_2 629 = .ok (.aload_n 1, 1) := dk_43 (dk_at dksJ25_sort_2_26 14 rfl rfl)
theorem dJ25_sort_2_630 : decode cJ25_sort_2 630 = .ok (.iload 22, 2) := dk_21 22 (dk_at dksJ25_sort_2_26 15 rfl rfl)
theorem dJ25_sort_2_632 : decode cJ25_sort_2 632 = .ok (.aload_n 1, 1) := dk_43 (dk_at dksJ25_sort_2_26 17 rfl rfl)
theorem dJ25_sort_2_633 : decode cJ25_sort_2 633 = .ok (.iinc 16 (-1), 3) := dk_132 16 255 (dk_at dksJ25_sort_2_26 18 rfl rfl)
theorem dJ25_sort_2_636 : decode cJ25_sort_2 636 = .ok (.iload 16, 2) := dk_21 16 (dk_at dksJ25_sort_2_26 21 rfl rfl)
theorem dJ25_sort_2_638 : decode cJ25_sort_2 638 = .ok (.laload, 1) := dk_47 (dk_at dksJ25_sort_2_26 23 rfl rfl)
theorem dJ25_sort_2_639 : decode cJ25_sort_2 639 = .ok (.lastore, 1) := dk_80 (dk_at dksJ25_sort_2_27 0 rfl rfl)
theorem dJ25_sort_2_640 : decode cJ25_sort_2 640 = .ok (.aload_n 1, 1) := dk_43 (dk_at dksJ25_sort_2_27 1 rfl rfl)
theorem dJ25_sort_2_641 : decode cJ25_sort_2 641 = .ok (.iload 16, 2) := dk_21 16 (dk_at dksJ25_sort_2_27 2 rfl rfl)
theorem dJ25_sort_2_643 : decode cJ25_sort_2 643 = .ok (.aload_n 1, 1) := dk_43 (dk_at dksJ25_sort_2_27 4 rfl rfl)
theorem dJ25_sort_2_644 : decode cJ25_sort_2 644 = .ok (.iload 15, 2) := dk_21 15 (dk_at dksJ25_sort_2_27 5 rfl rfl)
theorem dJ25_sort_2_646 : decode cJ25_sort_2 646 = .ok (.laload, 1) := dk_47 (dk_at dksJ25_sort_2_27 7 rfl rfl)
theorem dJ25_sort_2_647 : decode cJ25_sort_2 647 = .ok (.lastore, 1) := dk_80 (dk_at dksJ25_sort_2_27 8 rfl rfl)
theorem dJ25_sort_2_648 : decode cJ25_sort_2 648 = .ok (.goto 11, 3) := dk_167 0 11 (dk_at dksJ25_sort_2_27 9 rfl rfl)
theorem dJ25_sort_2_651 : decode cJ25_sort_2 651 = .ok (.aload_n 1, 1) := dk_43 (dk_at dksJ25_sort_2_27 12 rfl rfl)
theorem dJ25_sort_2_652 : decode cJ25_sort_2 652 = .ok (.iload 22, 2) := dk_21 22 (dk_at dksJ25_sort_2_27 13 rfl rfl)
theorem dJ25_sort_2_654 : decode cJ25_sort_2 654 = .ok (.aload_n 1, 1) := dk_43 (dk_at dksJ25_sort_2_27 15 rfl rfl)
theorem dJ25_sort_2_655 : decode cJ25_sort_2 655 = .ok (.iload 15, 2) := dk_21 15 (dk_at dksJ25_sort_2_27 16 rfl rfl)
theorem dJ25_sort_2_657 : decode cJ25_sort_2 657 = .ok (.laload, 1) := dk_47 (dk_at dksJ25_sort_2_27 18 rfl rfl)
theorem dJ25_sort_2_658 : decode cJ25_sort_2 658 = .ok (.lastore, 1) := dk_80 (dk_at dksJ25_sort_2_27 19 rfl rfl)
theorem dJ25_sort_2_659 : decode cJ25_sort_2 659 = .ok (.aload_n 1, 1) := dk_43 (dk_at dksJ25_sort_2_27 20 rfl rfl)
theorem dJ25_sort_2_660 : decode cJ25_sort_2 660 = .ok (.iload 15, 2) := dk_21 15 (dk_at dksJ25_sort_2_27 21 rfl rfl)
theorem dJ25_sort_2_662 : decode cJ25_sort_2 662 = .ok (.lload 23, 2) := dk_22 23 (dk_at dksJ25_sort_2_28 0 rfl rfl)
theorem dJ25_sort_2_664 : decode cJ25_sort_2 664 = .ok (.lastore, 1) := dk_80 (dk_at dksJ25_sort_2_28 2 rfl rfl)
theorem dJ25_sort_2_665 : decode cJ25_sort_2 665 = .ok (.goto 28, 3) := dk_167 0 28 (dk_at dksJ25_sort_2_28 3 rfl rfl)
theorem dJ25_sort_2_668 : decode cJ25_sort_2 668 = .ok (.lload 23, 2) := dk_22 23 (dk_at dksJ25_sort_2_28 6 rfl rfl)
theorem dJ25_sort_2_670 : decode cJ25_sort_2 670 = .ok (.lload 19, 2) := dk_22 19 (dk_at dksJ25_sort_2_28 8 rfl rfl)
theorem dJ25_sort_2_672 : decode cJ25_sort_2 672 = .ok (.lcmp, 1) := dk_148 (dk_at dksJ25_sort_2_28 10 rfl rfl)
theorem dJ25_sort_2_673 : decode cJ25_sort_2 673 = .ok (.ifCond .le 20, 3) := dk_158 0 20 (dk_at dksJ25_sort_2_28 11 rfl rfl)
theorem dJ25_sort_2_676 : decode cJ25_sort_2 676 = .ok (.aload_n 1, 1) := dk_43 (dk_at dksJ25_sort_2_28 14 rfl rfl)
theorem dJ25_sort_2_677 : decode cJ25_sort_2 677 = .ok (.iload 22, 2) := dk_21 22 (dk_at dksJ25_sort_2_28 15 rfl rfl)
theorem dJ25_sort_2_679 : decode cJ25_sort_2 679 = .ok (.aload_n 1, 1) := dk_43 (dk_at dksJ25_sort_2_28 17 rfl rfl)
theorem dJ25_sort_2_680 : decode cJ25_sort_2 680 = .ok (.iinc 16 (-1), 3) := dk_132 16 255 (dk_at dksJ25_sort_2_28 18 rfl rfl)
theorem dJ25_sort_2_683 : decode cJ25_sort_2 683 = .ok (.iload 16, 2) := dk_21 16 (dk_at dksJ25_sort_2_28 21 rfl rfl)
theorem dJ25_sort_2_685 : decode cJ25_sort_2 685 = .ok (.laload, 1) := dk_47 (dk_at dksJ25_sort_2_28 23 rfl rfl)
theorem dJ25_sort_2_686 : decode cJ25_sort_2 686 = .ok (.lastore, 1) := dk_80 (dk_at dksJ25_sort_2_29 0 rfl rfl)
theorem dJ25_sort_2_687 : decode cJ25_sort_2 687 = .ok (.aload_n 1, 1) := dk_43 (dk_at dksJ25_sort_2_29 1 rfl rfl)
theorem dJ25_sort_2_688 : decode cJ25_sort_2 688 = .ok (.iload 16, 2) := dk_21 16 (dk_at dksJ25_sort_2_29 2 rfl rfl)
theorem dJ25_sort_2_690 : decode cJ25_sort_2 690 = .ok (.lload 23, 2) := dk_22 23 (dk_at dksJ25_sort_2_29 4 rfl rfl)
theorem dJ25_sort_2_692 : decode cJ25_sort_2 692 = .ok (.lastore, 1) := dk_80 (dk_at dksJ25_sort_2_29 6 rfl rfl)
theorem dJ25_sort_2_693 : decode cJ25_sort_2 693 = .ok (.goto (-118), 3) := dk_167 255 138 (dk_at dksJ25_sort_2_29 7 rfl rfl)
theorem dJ25_sort_2_696 : decode cJ25_sort_2 696 = .ok (.aload_n 1, 1) := dk_43 (dk_at dksJ25_sort_2_29 10 rfl rfl)
theorem dJ25_sort_2_697 : decode cJ25_sort_2 697 = .ok (.iload_n 3, 1) := dk_29 (dk_at dksJ25_sort_2_29 11 rfl rfl)
theorem dJ25_sort_2_698 : decode cJ25_sort_2 698 = .ok (.aload_n 1, 1) := dk_43 (dk_at dksJ25_sort_2_29 12 rfl rfl)
theorem dJ25_sort_2_699 : decode cJ25_sort_2 699 = .ok (.iload 15, 2) := dk_21 15 (dk_at dksJ25_sort_2_29 13 rfl rfl)
theorem dJ25_sort_2_701 : decode cJ25_sort_2 701 = .ok (.laload, 1) := dk_47 (dk_at dksJ25_sort_2_29 15 rfl rfl)
theorem dJ25_sort_2_702 : decode cJ25_sort_2 702 = .ok (.lastore, 1) := dk_80 (dk_at dksJ25_sort_2_29 16 rfl rfl)
theorem dJ25_sort_2_703 : decode cJ25_sort_2 703 = .ok (.aload_n 1, 1) := dk_43 (dk_at dksJ25_sort_2_29 17 rfl rfl)
theorem dJ25_sort_2_704 : decode cJ25_sort_2 704 = .ok (.iload 15, 2) := dk_21 15 (dk_at dksJ25_sort_2_29 18 rfl rfl)
theorem dJ25_sort_2_706 : decode cJ25_sort_2 706 = .ok (.lload 17, 2) := dk_22 17 (dk_at dksJ25_sort_2_29 20 rfl rfl)
theorem dJ25_sort_2_708 : decode cJ25_sort_2 708 = .ok (.lastore, 1) := dk_80 (dk_at dksJ25_sort_2_29 22 rfl rfl)
theorem dJ25_sort_2_709 : decode cJ25_sort_2 709 = .ok (.aload_n 1, 1) := dk_43 (dk_at dksJ25_sort_2_29 23 rfl rfl)
theorem dJ25_sort_2_710 : decode cJ25_sort_2 710 = .ok (.iload 5, 2) := dk_21 5 (dk_at dksJ25_sort_2_30 0 rfl rfl)
theorem dJ25_sort_2_712 : decode cJ25_sort_2 712 = .ok (.aload_n 1, 1) := dk_43 (dk_at dksJ25_sort_2_30 2 rfl rfl)
theorem dJ25_sort_2_713 : decode cJ25_sort_2 713 = .ok (.iload 16, 2) := dk_21 16 (dk_at dksJ25_sort_2_30 3 rfl rfl)
theorem dJ25_sort_2_715 : decode cJ25_sort_2 715 = .ok (.laload, 1) := dk_47 (dk_at dksJ25_sort_2_30 5 rfl rfl)
theorem dJ25_sort_2_716 : decode cJ25_sort_2 716 = .ok (.lastore, 1) := dk_80 (dk_at dksJ25_sort_2_30 6 rfl rfl)
theorem dJ25_sort_2_717 : decode cJ25_sort_2 717 = .ok (.aload_n 1, 1) := dk_43 (dk_at dksJ25_sort_2_30 7 rfl rfl)
theorem dJ25_sort_2_718 : decode cJ25_sort_2 718 = .ok (.iload 16, 2) := dk_21 16 (dk_at dksJ25_sort_2_30 8 rfl rfl)
theorem dJ25_sort_2_720 : decode cJ25_sort_2 720 = .ok (.lload 19, 2) := dk_22 19 (dk_at dksJ25_sort_2_30 10 rfl rfl)
theorem dJ25_sort_2_722 : decode cJ25_sort_2 722 = .ok (.lastore, 1) := dk_80 (dk_at dksJ25_sort_2_30 12 rfl rfl)
theorem dJ25_sort_2_723 : decode cJ25_sort_2 723 = .ok (.iload 6, 2) := dk_21 6 (dk_at dksJ25_sort_2_30 13 rfl rfl)
theorem dJ25_sort_2_725 : decode cJ25_sort_2 725 = .ok (.sipush 4096, 3) := dk_17 16 0 (dk_at dksJ25_sort_2_30 15 rfl rfl)
theorem dJ25_sort_2_728 : decode cJ25_sort_2 728 = .ok (.if_icmp .le 36, 3) := dk_164 0 36 (dk_at dksJ25_sort_2_30 18 rfl rfl)
theorem dJ25_sort_2_731 : decode cJ25_sort_2 731 = .ok (.aload_n 0, 1) := dk_42 (dk_at dksJ25_sort_2_30 21 rfl rfl)
theorem dJ25_sort_2_732 : decode cJ25_sort_2 732 = .ok (.ifnull 32, 3) := dk_198 0 32 (dk_at dksJ25_sort_2_31 0 rfl rfl)
theorem dJ25_sort_2_735 : decode cJ25_sort_2 735 = .ok (.aload_n 0, 1) := dk_42 (dk_at dksJ25_sort_2_31 3 rfl rfl)
theorem dJ25_sort_2_736 : decode cJ25_sort_2 736 = .ok (.iload_n 2, 1) := dk_28 (dk_at dksJ25_sort_2_31 4 rfl rfl)
theorem dJ25_sort_2_737 : decode cJ25_sort_2 737 = .ok (.iconst 1, 1) := dk_4 (dk_at dksJ25_sort_2_31 5 rfl rfl)
theorem dJ25_sort_2_738 : decode cJ25_sort_2 738 = .ok (.ior, 1) := dk_128 (dk_at dksJ25_sort_2_31 6 rfl rfl)
theorem dJ25_sort_2_739 : decode cJ25_sort_2 739 = .ok (.iload 15, 2) := dk_21 15 (dk_at dksJ25_sort_2_31 7 rfl rfl)
theorem dJ25_sort_2_741 : decode cJ25_sort_2 741 = .ok (.iconst 1, 1) := dk_4 (dk_at dksJ25_sort_2_31 9 rfl rfl)
theorem dJ25_sort_2_742 : decode cJ25_sort_2 742 = .ok (.iadd, 1) := dk_96 (dk_at dksJ25_sort_2_31 10 rfl rfl)
theorem dJ25_sort_2_743 : decode cJ25_sort_2 743 = .ok (.iload 16, 2) := dk_21 16 (dk_at dksJ25_sort_2_31 11 rfl rfl)
theorem dJ25_sort_2_745 : decode cJ25_sort_2 745 = .ok (.invokevirtual 45, 3) := dk_182 0 45 (dk_at dksJ25_sort_2_31 13 rfl rfl)
theorem dJ25_sort_2_748 : decode cJ25_sort_2 748 = .ok (.aload_n 0, 1) := dk_42 (dk_at dksJ25_sort_2_31 16 rfl rfl)
theorem dJ25_sort_2_749 : decode cJ25_sort_2 749 = .ok (.iload_n 2, 1) := dk_28 (dk_at dksJ25_sort_2_31 17 rfl rfl)
theorem dJ25_sort_2_750 : decode cJ25_sort_2 750 = .ok (.iconst 1, 1) := dk_4 (dk_at dksJ25_sort_2_31 18 rfl rfl)
theorem dJ25_sort_2_751 : decode cJ25_sort_2 751 = .ok (.ior, 1) := dk_128 (dk_at dksJ25_sort_2_31 19 rfl rfl)
theorem dJ25_sort_2_752 : decode cJ25_sort_2 752 = .ok (.iload 16, 2) := dk_21 16 (dk_at dksJ25_sort_2_31 20 rfl rfl)
theorem dJ25_sort_2_754 : decode cJ25_sort_2 754 = .ok (.iconst 1, 1) := dk_4 (dk_at dksJ25_sort_2_31 22 rfl rfl)
theorem dJ25_sort_2_755 : decode cJ25_sort_2 755 = .ok (.iadd, 1) := dk_96 (dk_at dksJ25_sort_2_31 23 rfl rfl)
theorem dJ25_sort_2_756 : decode cJ25_sort_2 756 = .ok (.iload 4, 2) := dk_21 4 (dk_at dksJ25_sort_2_32 0 rfl rfl)
theorem dJ25_sort_2_758 : decode cJ25_sort_2 758 = .ok (.invokevirtual 45, 3) := dk_182 0 45 (dk_at dksJ25_sort_2_32 2 rfl rfl)
theorem dJ25_sort_2_761 : decode cJ25_sort_2 761 = .ok (.goto 31, 3) := dk_167 0 31 (dk_at dksJ25_sort_2_32 5 rfl rfl)
theorem dJ25_sort_2_764 : decode cJ25_sort_2 764 = .ok (.aload_n 0, 1) := dk_42 (dk_at dksJ25_sort_2_32 8 rfl rfl)
theorem dJ25_sort_2_765 : decode cJ25_sort_2 765 = .ok (.aload_n 1, 1) := dk_43 (dk_at dksJ25_sort_2_32 9 rfl rfl)
theorem dJ25_sort_2_766 : decode cJ25_sort_2 766 = .ok (.iload_n 2, 1) := dk_28 (dk_at dksJ25_sort_2_32 10 rfl rfl)
theorem dJ25_sort_2_767 : decode cJ25_sort_2 767 = .ok (.iconst 1, 1) := dk_4 (dk_at dksJ25_sort_2_32 11 rfl rfl)
theorem dJ25_sort_2_768 : decode cJ25_sort_2 768 = .ok (.ior, 1) := dk_128 (dk_at dksJ25_sort_2_32 12 rfl rfl)
theorem dJ25_sort_2_769 : decode cJ25_sort_2 769 = .ok (.iload 15, 2) := dk_21 15 (dk_at dksJ25_sort_2_32 13 rfl rfl)
theorem dJ25_sort_2_771 : decode cJ25_sort_2 771 = .ok (.iconst 1, 1) := dk_4 (dk_at dksJ25_sort_2_32 15 rfl rfl)
theorem dJ25_sort_2_772 : decode cJ25_sort_2 772 = .ok (.iadd, 1) := dk_96 (dk_at dksJ25_sort_2_32 16 rfl rfl)
theorem dJ25_sort_2_773 : decode cJ25_sort_2 773 = .ok (.iload 16, 2) := dk_21 16 (dk_at dksJ25_sort_2_32 17 rfl rfl)
theorem dJ25_sort_2_775 : decode cJ25_sort_2 775 = .ok (.invokestatic 99, 3) := dk_184 0 99 (dk_at dksJ25_sort_2_32 19 rfl rfl)
theorem dJ25_sort_2_778 : decode cJ25_sort_2 778 = .ok (.aload_n 0, 1) := dk_42 (dk_at dksJ25_sort_2_32 22 rfl rfl)
theorem dJ25_sort_2_779 : decode cJ25_sort_2 779 = .ok (.aload_n 1, 1) := dk_43 (dk_at dksJ25_sort_2_32 23 rfl rfl)
theorem dJ25_sort_2_780 : decode cJ25_sort_2 780 = .ok (.iload_n 2, 1) := dk_28 (dk_at dksJ25_sort_2_33 0 rfl rfl)
theorem dJ25_sort_2_781 : decode cJ25_sort_2 781 = .ok (.iconst 1, 1) := dk_4 (dk_at dksJ25_sort_2_33 1 rfl rfl)
theorem dJ25_sort_2_782 : decode cJ25_sort_2 782 = .ok (.ior, 1) := dk_128 (dk_at dksJ25_sort_2_33 2 rfl rfl)
theorem dJ25_sort_2_783 : decode cJ25_sort_2 783 = .ok (.iload 16, 2) := dk_21 16 (dk_at dksJ25_sort_2_33 3 rfl rfl)
theorem dJ25_sort_2_785 : decode cJ25_sort_2 785 = .ok (.iconst 1, 1) := dk_4 (dk_at dksJ25_sort_2_33 5 rfl rfl)
theorem dJ25_sort_2_786 : decode cJ25_sort_2 786 = .ok (.iadd, 1) := dk_96 (dk_at dksJ25_sort_2_33 6 rfl rfl)
theorem dJ25_sort_2_787 : decode cJ25_sort_2 787 = .ok (.iload 4, 2) := dk_21 4 (dk_at dksJ25_sort_2_33 7 rfl rfl)
theorem dJ25_sort_2_789 : decode cJ25_sort_2 789 = .ok (.invokestatic 99, 3) := dk_184 0 99 (dk_at dksJ25_sort_2_33 9 rfl rfl)
theorem dJ25_sort_2_792 : decode cJ25_sort_2 792 = .ok (.goto 171, 3) := dk_167 0 171 (dk_at dksJ25_sort_2_33 12 rfl rfl)
theorem dJ25_sort_2_795 : decode cJ25_sort_2 795 = .ok (.aload_n 1, 1) := dk_43 (dk_at dksJ25_sort_2_33 15 rfl rfl)
theorem dJ25_sort_2_796 : decode cJ25_sort_2 796 = .ok (.iload 10, 2) := dk_21 10 (dk_at dksJ25_sort_2_33 16 rfl rfl)
theorem dJ25_sort_2_798 : decode cJ25_sort_2 798 = .ok (.laload, 1) := dk_47 (dk_at dksJ25_sort_2_33 18 rfl rfl)
theorem dJ25_sort_2_799 : decode cJ25_sort_2 799 = .ok (.lstore 17, 2) := dk_55 17 (dk_at dksJ25_sort_2_33 19 rfl rfl)
theorem dJ25_sort_2_801 : decode cJ25_sort_2 801 = .ok (.aload_n 1, 1) := dk_43 (dk_at dksJ25_sort_2_33 21 rfl rfl)
theorem dJ25_sort_2_802 : decode cJ25_sort_2 802 = .ok (.iload 10, 2) := dk_21 10 (dk_at dksJ25_sort_2_33 22 rfl rfl)
theorem dJ25_sort_2_804 : decode cJ25_sort_2 804 = .ok (.aload_n 1, 1) := dk_43 (dk_at dksJ25_sort_2_34 0 rfl rfl)
theorem dJ25_sort_2_805 : decode cJ25_sort_2 805 = .ok (.iload 15, 2) := dk_21 15 (dk_at dksJ25_sort_2_34 1 rfl rfl)
theorem dJ25_sort_2_807 : decode cJ25_sort_2 807 = .ok (.laload, 1) := dk_47 (dk_at dksJ25_sort_2_34 3 rfl rfl)
theorem dJ25_sort_2_808 : decode cJ25_sort_2 808 = .ok (.lastore, 1) := dk_80 (dk_at dksJ25_sort_2_34 4 rfl rfl)
theorem dJ25_sort_2_809 : decode cJ25_sort_2 809 = .ok (.iinc 16 1, 3) := dk_132 16 1 (dk_at dksJ25_sort_2_34 5 rfl rfl)
theorem dJ25_sort_2_812 : decode cJ25_sort_2 812 = .ok (.iload 16, 2) := dk_21 16 (dk_at dksJ25_sort_2_34 8 rfl rfl)
theorem dJ25_sort_2_814 : decode cJ25_sort_2 814 = .ok (.istore 19, 2) := dk_54 19 (dk_at dksJ25_sort_2_34 10 rfl rfl)
theorem dJ25_sort_2_816 : decode cJ25_sort_2 816 = .ok (.iinc 19 (-1), 3) := dk_132 19 255 (dk_at dksJ25_sort_2_34 12 rfl rfl)
theorem dJ25_sort_2_819 : decode cJ25_sort_2 819 = .ok (.iload 19, 2) := dk_21 19 (dk_at dksJ25_sort_2_34 15 rfl rfl)
theorem dJ25_sort_2_821 : decode cJ25_sort_2 821 = .ok (.iload 15, 2) := dk_21 15 (dk_at dksJ25_sort_2_34 17 rfl rfl)
theorem dJ25_sort_2_823 : decode cJ25_sort_2 823 = .ok (.if_icmp .le 89, 3) := dk_164 0 89 (dk_at dksJ25_sort_2_34 19 rfl rfl)
theorem dJ25_sort_2_826 : decode cJ25_sort_2 826 = .ok (.aload_n 1, 1) := dk_43 (dk_at dksJ25_sort_2_34 22 rfl rfl)
theorem dJ25_sort_2_827 : decode cJ25_sort_2 827 = .ok (.iload 19, 2) := dk_21 19 (dk_at dksJ25_sort_2_35 0 rfl rfl)
theorem dJ25_sort_2_829 : decode cJ25_sort_2 829 = .ok (.laload, 1) := dk_47 (dk_at dksJ25_sort_2_35 2 rfl rfl)
theorem dJ25_sort_2_830 : decode cJ25_sort_2 830 = .ok (.lstore 20, 2) := dk_55 20 (dk_at dksJ25_sort_2_35 3 rfl rfl)
theorem dJ25_sort_2_832 : decode cJ25_sort_2 832 = .ok (.lload 20, 2) := dk_22 20 (dk_at dksJ25_sort_2_35 5 rfl rfl)
theorem dJ25_sort_2_834 : decode cJ25_sort_2 834 = .ok (.lload 17, 2) := dk_22 17 (dk_at dksJ25_sort_2_35 7 rfl rfl)
theorem dJ25_sort_2_836 : decode cJ25_sort_2 836 = .ok (.lcmp, 1) := dk_148 (dk_at dksJ25_sort_2_35 9 rfl rfl)
theorem dJ25_sort_2_837 : decode cJ25_sort_2 837 = .ok (.ifCond .eq 72, 3) := dk_153 0 72 (dk_at dksJ25_sort_2_35 10 rfl rfl)
theorem dJ25_sort_2_840 : decode cJ25_sort_2 840 = .ok (.aload_n 1, 1) := dk_43 (dk_at dksJ25_sort_2_35 13 rfl rfl)
theorem dJ25_sort_2_841 : decode cJ25_sort_2 841 = .ok (.iload 19, 2) := dk_21 19 (dk_at dksJ25_sort_2_35 14 rfl rfl)
theorem dJ25_sort_2_843 : decode cJ25_sort_2 843 = .ok (.lload 17, 2) := dk_22 17 (dk_at dksJ25_sort_2_35 16 rfl rfl)
theorem dJ25_sort_2_845 : decode cJ25_sort_2 845 = .ok (.lastore, 1) := dk_80 (dk_at dksJ25_sort_2_35 18 rfl rfl)
theorem dJ25_sort_2_846 : decode cJ25_sort_2 846 = .ok (.lload 20, 2) := dk_22 20 (dk_at dksJ25_sort_2_35 19 rfl rfl)
theorem dJ25_sort_2_848 : decode cJ25_sort_2 848 = .ok (.lload 17, 2) := dk_22 17 (dk_at dksJ25_sort_2_35 21 rfl rfl)
theorem dJ25_sort_2_850 : decode cJ25_sort_2 850 = .ok (.lcmp, 1) := dk_148 (dk_at dksJ25_sort_2_35 23 rfl rfl)
theorem dJ25_sort_2_851 : decode cJ25_sort_2 851 = .ok (.ifCond .ge 49, 3) := dk_156 0 49 (dk_at dksJ25_sort_2_36 0 rfl rfl)
theorem dJ25_sort_2_854 : decode cJ25_sort_2 854 = .ok (.aload_n 1, 1) := dk_43 (dk_at dksJ25_sort_2_36 3 rfl rfl)
theorem dJ25_sort_2_855 : decode cJ25_sort_2 855 = .ok (.iinc 15 1, 3) := dk_132 15 1 (dk_at dksJ25_sort_2_36 4 rfl rfl)
theorem dJ25_sort_2_858 : decode cJ25_sort_2 858 = .ok (.iload 15, 2) := dk_21 15 (dk_at dksJ25_sort_2_36 7 rfl rfl)
theorem dJ25_sort_2_860 : decode cJ25_sort_2 860 = .ok (.laload, 1) := dk_47 (dk_at dksJ25_sort_2_36 9 rfl rfl)
theorem dJ25_sort_2_861 : decode cJ25_sort_2 861 = .ok (.lload 17, 2) := dk_22 17 (dk_at dksJ25_sort_2_36 10 rfl rfl)
theorem dJ25_sort_2_863 : decode cJ25_sort_2 863 = .ok (.lcmp, 1) := dk_148 (dk_at dksJ25_sort_2_36 12 rfl rfl)
theorem dJ25_sort_2_864 : decode cJ25_sort_2 864 = .ok (.ifCond .ge 6, 3) := dk_156 0 6 (dk_at dksJ25_sort_2_36 13 rfl rfl)
theorem dJ25_sort_2_867 : decode cJ25_sort_2 867 = .ok (.goto (-13), 3) := dk_167 255 243 (dk_at dksJ25_sort_2_36 16 rfl rfl)
theorem dJ25_sort_2_870 : decode cJ25_sort_2 870 = .ok (.aload_n 1, 1) := dk_43 (dk_at dksJ25_sort_2_36 19 rfl rfl)
theorem dJ25_sort_2_871 : decode cJ25_sort_2 871 = .ok (.iload 15, 2) := dk_21 15 (dk_at dksJ25_sort_2_36 20 rfl rfl)
theorem dJ25_sort_2_873 : decode cJ25_sort_2 873 = .ok (.laload, 1) := dk_47 (dk_at dksJ25_sort_2_36 22 rfl rfl)
theorem dJ25_sort_2_874 : decode cJ25_sort_2 874 = .ok (.lload 17, 2) := dk_22 17 (dk_at dksJ25_sort_2_37 0 rfl rfl)
theorem dJ25_sort_2_876 : decode cJ25_sort_2 876 = .ok (.lcmp, 1) := dk_148 (dk_at dksJ25_sort_2_37 2 rfl rfl)
theorem dJ25_sort_2_877 : decode cJ25_sort_2 877 = .ok (.ifCond .le 14, 3) := dk_158 0 14 (dk_at dksJ25_sort_2_37 3 rfl rfl)
theorem dJ25_sort_2_880 : decode cJ25_sort_2 880 = .ok (.aload_n 1, 1) := dk_43 (dk_at dksJ25_sort_2_37 6 rfl rfl)
theorem dJ25_sort_2_881 : decode cJ25_sort_2 881 = .ok (.iinc 16 (-1), 3) := dk_132 16 255 (dk_at dksJ25_sort_2_37 7 rfl rfl)
theorem dJ25_sort_2_884 : decode cJ25_sort_2 884 = .ok (.iload 16, 2) := dk_21 16 (dk_at dksJ25_sort_2_37 10 rfl rfl)
theorem dJ25_sort_2_886 : decode cJ25_sort_2 886 = .ok (.aload_n 1, 1) := dk_43 (dk_at dksJ25_sort_2_37 12 rfl rfl)
theorem dJ25_sort_2_887 : decode cJ25_sort_2 887 = .ok (.iload 15, 2) := dk_21 15 (dk_at dksJ25_sort_2_37 13 rfl rfl)
theorem dJ25_sort_2_889 : decode cJ25_sort_2 889 = .ok (.laload, 1) := dk_47 (dk_at dksJ25_sort_2_37 15 rfl rfl)
theorem dJ25_sort_2_890 : decode cJ25_sort_2 890 = .ok (.lastore, 1) := dk_80 (dk_at dksJ25_sort_2_37 16 rfl rfl)
theorem dJ25_sort_2_891 : decode cJ25_sort_2 891 = .ok (.aload_n 1, 1) := dk_43 (dk_at dksJ25_sort_2_37 17 rfl rfl)
theorem dJ25_sort_2_892 : decode cJ25_sort_2 892 = .ok (.iload 15, 2) := dk_21 15 (dk_at dksJ25_sort_2_37 18 rfl rfl)
theorem dJ25_sort_2_894 : decode cJ25_sort_2 894 = .ok (.lload 20, 2) := dk_22 20 (dk_at dksJ25_sort_2_37 20 rfl rfl)
theorem dJ25_sort_2_896 : decode cJ25_sort_2 896 = .ok (.lastore, 1) := dk_80 (dk_at dksJ25_sort_2_37 22 rfl rfl)
theorem dJ25_sort_2_897 : decode cJ25_sort_2 897 = .ok (.goto 12, 3) := dk_167 0 12 (dk_at dksJ25_sort_2_38 0 rfl rfl)
theorem dJ25_sort_2_900 : decode cJ25_sort_2 900 = .ok (.aload_n 1, 1) := dk_43 (dk_at dksJ25_sort_2_38 3 rfl rfl)
theorem dJ25_sort_2_901 : decode cJ25_sort_2 901 = .ok (.iinc 16 (-1), 3) := dk_132 16 255 (dk_at dksJ25_sort_2_38 4 rfl rfl)
theorem dJ25_sort_2_904 : decode cJ25_sort_2 904 = .ok (.iload 16, 2) := dk_21 16 (dk_at dksJ25_sort_2_38 7 rfl rfl)
theorem dJ25_sort_2_906 : decode cJ25_sort_2 906 = .ok (.lload 20, 2) := dk_22 20 (dk_at dksJ25_sort_2_38 9 rfl rfl)
theorem dJ25_sort_2_908 : decode cJ25_sort_2 908 = .ok (.lastore, 1) := dk_80 (dk_at dksJ25_sort_2_38 11 rfl rfl)
theorem dJ25_sort_2_909 : decode cJ25_sort_2 909 = .ok (.goto (-93), 3) := dk_167 255 163 (dk_at dksJ25_sort_2_38 12 rfl rfl)
theorem dJ25_sort_2_912 : decode cJ25_sort_2 912 = .ok (.aload_n 1, 1) := dk_43 (dk_at dksJ25_sort_2_38 15 rfl rfl)
theorem dJ25_sort_2_913 : decode cJ25_sort_2 913 = .ok (.iload_n 3, 1) := dk_29 (dk_at dksJ25_sort_2_38 16 rfl rfl)
theorem dJ25_sort_2_914 : decode cJ25_sort_2 914 = .ok (.aload_n 1, 1) := dk_43 (dk_at dksJ25_sort_2_38 17 rfl rfl)
theorem dJ25_sort_2_915 : decode cJ25_sort_2 915 = .ok (.iload 15, 2) := dk_21 15 (dk_at dksJ25_sort_2_38 18 rfl rfl)
theorem dJ25_sort_2_917 : decode cJ25_sort_2 917 = .ok (.laload, 1) := dk_47 (dk_at dksJ25_sort_2_38 20 rfl rfl)
theorem dJ25_sort_2_918 : decode cJ25_sort_2 918 = .ok (.lastore, 1) := dk_80 (dk_at dksJ25_sort_2_38 21 rfl rfl)
theorem dJ25_sort_2_919 : decode cJ25_sort_2 919 = .ok (.aload_n 1, 1) := dk_43 (dk_at dksJ25_sort_2_38 22 rfl rfl)
theorem dJ25_sort_2_920 : decode cJ25_sort_2 920 = .ok (.iload 15, 2) := dk_21 15 (dk_at dksJ25_sort_2_39 0 rfl rfl)
theorem dJ25_sort_2_922 : decode cJ25_sort_2 922 = .ok (.lload 17, 2) := dk_22 17 (dk_at dksJ25_sort_2_39 2 rfl rfl)
theorem dJ25_sort_2_924 : decode cJ25_sort_2 924 = .ok (.lastore, 1) := dk_80 (dk_at dksJ25_sort_2_39 4 rfl rfl)
theorem dJ25_sort_2_925 : decode cJ25_sort_2 925 = .ok (.iload 6, 2) := dk_21 6 (dk_at dksJ25_sort_2_39 5 rfl rfl)
theorem dJ25_sort_2_927 : decode cJ25_sort_2 927 = .ok (.sipush 4096, 3) := dk_17 16 0 (dk_at dksJ25_sort_2_39 7 rfl rfl)
theorem dJ25_sort_2_930 : decode cJ25_sort_2 930 = .ok (.if_icmp .le 21, 3) := dk_164 0 21 (dk_at dksJ25_sort_2_39 10 rfl rfl)
theorem dJ25_sort_2_933 : decode cJ25_sort_2 933 = .ok (.aload_n 0, 1) := dk_42 (dk_at dksJ25_sort_2_39 13 rfl rfl)
theorem dJ25_sort_2_934 : decode cJ25_sort_2 934 = .ok (.ifnull 17, 3) := dk_198 0 17 (dk_at dksJ25_sort_2_39 14 rfl rfl)
theorem dJ25_sort_2_937 : decode cJ25_sort_2 937 = .ok (.aload_n 0, 1) := dk_42 (dk_at dksJ25_sort_2_39 17 rfl rfl)
theorem dJ25_sort_2_938 : decode cJ25_sort_2 938 = .ok (.iload_n 2, 1) := dk_28 (dk_at dksJ25_sort_2_39 18 rfl rfl)
theorem dJ25_sort_2_939 : decode cJ25_sort_2 939 = .ok (.iconst 1, 1) := dk_4 (dk_at dksJ25_sort_2_39 19 rfl rfl)
theorem dJ25_sort_2_940 : decode cJ25_sort_2 940 = .ok (.ior, 1) := dk_128 (dk_at dksJ25_sort_2_39 20 rfl rfl)
theorem dJ25_sort_2_941 : decode cJ25_sort_2 941 = .ok (.iload 16, 2) := dk_21 16 (dk_at dksJ25_sort_2_39 21 rfl rfl)
theorem dJ25_sort_2_943 : decode cJ25_sort_2 943 = .ok (.iload 4, 2) := dk_21 4 (dk_at dksJ25_sort_2_40 0 rfl rfl)
theorem dJ25_sort_2_945 : decode cJ25_sort_2 945 = .ok (.invokevirtual 45, 3) := dk_182 0 45 (dk_at dksJ25_sort_2_40 2 rfl rfl)
theorem dJ25_sort_2_948 : decode cJ25_sort_2 948 = .ok (.goto 15, 3) := dk_167 0 15 (dk_at dksJ25_sort_2_40 5 rfl rfl)
theorem dJ25_sort_2_951 : decode cJ25_sort_2 951 = .ok (.aload_n 0, 1) := dk_42 (dk_at dksJ25_sort_2_40 8 rfl rfl)
theorem dJ25_sort_2_952 : decode cJ25_sort_2 952 = .ok (.aload_n 1, 1) := dk_43 (dk_at dksJ25_sort_2_40 9 rfl rfl)
theorem dJ25_sort_2_953 : decode cJ25_sort_2 953 = .ok (.iload_n 2, 1) := dk_28 (dk_at dksJ25_sort_2_40 10 rfl rfl)
theorem dJ25_sort_2_954 : decode cJ25_sort_2 954 = .ok (.iconst 1, 1) := dk_4 (dk_at dksJ25_sort_2_40 11 rfl rfl)
theorem dJ25_sort_2_955 : decode cJ25_sort_2 955 = .ok (.ior, 1) := dk_128 (dk_at dksJ25_sort_2_40 12 rfl rfl)
theorem dJ25_sort_2_956 : decode cJ25_sort_2 956 = .ok (.iload 16, 2) := dk_21 16 (dk_at dksJ25_sort_2_40 13 rfl rfl)
theorem dJ25_sort_2_958 : decode cJ25_sort_2 958 = .ok (.iload 4, 2) := dk_21 4 (dk_at dksJ25_sort_2_40 15 rfl rfl)
theorem dJ25_sort_2_960 : decode cJ25_sort_2 960 = .ok (.invokestatic 99, 3) := dk_184 0 99 (dk_at dksJ25_sort_2_40 17 rfl rfl)
theorem dJ25_sort_2_963 : decode cJ25_sort_2 963 = .ok (.iload 15, 2) := dk_21 15 (dk_at dksJ25_sort_2_40 20 rfl rfl)
theorem dJ25_sort_2_965 : decode cJ25_sort_2 965 = .ok (.istore 4, 2) := dk_54 4 (dk_at dksJ25_sort_2_40 22 rfl rfl)
theorem dJ25_sort_2_967 : decode cJ25_sort_2 967 = .ok (.goto (-967), 3) := dk_167 252 57 (dk_at dksJ25_sort_2_41 0 rfl rfl)
abbrev cJ25_mixedInsertionSort : ByteArray := prog_78_method_14_code
def yJ25_mixedInsertionSort : MethodName := ⟨RJ25, "mixedInsertionSort", "([JIII)V"⟩
def dkwJ25_mixedInsertionSort_17 : List UInt8 := [96, 42, 21, 6, 47, 80, 167, 255, 233, 42, 21, 6, 4, 96, 22, 7, 80, 132, 1, 1, 167, 255, 67, 177]
abbrev dktJ25_mixedInsertionSort_17 : List UInt8 := dkwJ25_mixedInsertionSort_17 ++ []
def dkwJ25_mixedInsertionSort_16 : List UInt8 := [21, 6, 4, 96, 22, 9, 80, 22, 7, 42, 132, 6, 255, 21, 6, 47, 148, 156, 0, 16, 42, 21, 6, 4]
abbrev dktJ25_mixedInsertionSort_16 : List UInt8 := dkwJ25_mixedInsertionSort_16 ++ dktJ25_mixedInsertionSort_17
def dkwJ25_mixedInsertionSort_15 : List UInt8 := [21, 6, 47, 148, 156, 0, 16, 42, 21, 6, 5, 96, 42, 21, 6, 47, 80, 167, 255, 233, 42, 132, 6, 1]
abbrev dktJ25_mixedInsertionSort_15 : List UInt8 := dkwJ25_mixedInsertionSort_15 ++ dktJ25_mixedInsertionSort_16
def dkwJ25_mixedInsertionSort_14 : List UInt8 := [22, 9, 80, 167, 0, 86, 22, 7, 42, 21, 6, 4, 100, 47, 148, 156, 0, 74, 22, 9, 42, 132, 6, 255]
abbrev dktJ25_mixedInsertionSort_14 : List UInt8 := dkwJ25_mixedInsertionSort_14 ++ dktJ25_mixedInsertionSort_15
def dkwJ25_mixedInsertionSort_13 : List UInt8 := [47, 148, 156, 0, 16, 42, 21, 6, 4, 96, 42, 21, 6, 47, 80, 167, 255, 233, 42, 21, 6, 4, 96]
abbrev dktJ25_mixedInsertionSort_13 : List UInt8 := dkwJ25_mixedInsertionSort_13 ++ dktJ25_mixedInsertionSort_14
def dkwJ25_mixedInsertionSort_12 : List UInt8 := [47, 80, 167, 255, 233, 42, 132, 6, 1, 21, 6, 4, 96, 22, 7, 80, 22, 9, 42, 132, 6, 255, 21, 6]
abbrev dktJ25_mixedInsertionSort_12 : List UInt8 := dkwJ25_mixedInsertionSort_12 ++ dktJ25_mixedInsertionSort_13
def dkwJ25_mixedInsertionSort_11 : List UInt8 := [158, 0, 77, 22, 7, 42, 132, 6, 255, 21, 6, 47, 148, 156, 0, 16, 42, 21, 6, 5, 96, 42, 21, 6]
abbrev dktJ25_mixedInsertionSort_11 : List UInt8 := dkwJ25_mixedInsertionSort_11 ++ dktJ25_mixedInsertionSort_12
def dkwJ25_mixedInsertionSort_10 : List UInt8 := [162, 0, 190, 42, 27, 89, 54, 6, 47, 55, 7, 42, 132, 1, 1, 27, 47, 55, 9, 22, 7, 22, 9, 148]
abbrev dktJ25_mixedInsertionSort_10 : List UInt8 := dkwJ25_mixedInsertionSort_10 ++ dktJ25_mixedInsertionSort_11
def dkwJ25_mixedInsertionSort_9 : List UInt8 := [96, 42, 21, 6, 47, 80, 167, 255, 233, 42, 21, 6, 4, 96, 22, 8, 80, 167, 255, 94, 27, 29]
abbrev dktJ25_mixedInsertionSort_9 : List UInt8 := dkwJ25_mixedInsertionSort_9 ++ dktJ25_mixedInsertionSort_10
def dkwJ25_mixedInsertionSort_8 : List UInt8 := [21, 7, 42, 21, 6, 47, 80, 22, 8, 42, 132, 6, 255, 21, 6, 47, 148, 156, 0, 16, 42, 21, 6, 4]
abbrev dktJ25_mixedInsertionSort_8 : List UInt8 := dkwJ25_mixedInsertionSort_8 ++ dktJ25_mixedInsertionSort_9
def dkwJ25_mixedInsertionSort_7 : List UInt8 := [47, 22, 4, 148, 158, 0, 6, 167, 255, 243, 21, 7, 21, 6, 164, 0, 17, 42, 21, 7, 47, 55, 8, 42]
abbrev dktJ25_mixedInsertionSort_7 : List UInt8 := dkwJ25_mixedInsertionSort_7 ++ dktJ25_mixedInsertionSort_8
def dkwJ25_mixedInsertionSort_6 : List UInt8 := [167, 0, 89, 21, 7, 21, 6, 164, 0, 82, 22, 8, 22, 4, 148, 158, 0, 74, 42, 132, 7, 255, 21, 7]
abbrev dktJ25_mixedInsertionSort_6 : List UInt8 := dkwJ25_mixedInsertionSort_6 ++ dktJ25_mixedInsertionSort_7
def dkwJ25_mixedInsertionSort_5 : List UInt8 := [156, 0, 16, 42, 21, 6, 4, 96, 42, 21, 6, 47, 80, 167, 255, 233, 42, 21, 6, 4, 96, 22, 8, 80]
abbrev dktJ25_mixedInsertionSort_5 : List UInt8 := dkwJ25_mixedInsertionSort_5 ++ dktJ25_mixedInsertionSort_6
def dkwJ25_mixedInsertionSort_4 : List UInt8 := [156, 0, 51, 42, 21, 6, 42, 132, 6, 255, 21, 6, 47, 80, 22, 8, 42, 132, 6, 255, 21, 6, 47, 148]
abbrev dktJ25_mixedInsertionSort_4 : List UInt8 := dkwJ25_mixedInsertionSort_4 ++ dktJ25_mixedInsertionSort_5
def dkwJ25_mixedInsertionSort_3 : List UInt8 := [27, 28, 162, 0, 160, 42, 27, 89, 54, 6, 47, 55, 8, 22, 8, 42, 21, 6, 4, 100, 47, 148]
abbrev dktJ25_mixedInsertionSort_3 : List UInt8 := dkwJ25_mixedInsertionSort_3 ++ dktJ25_mixedInsertionSort_4
def dkwJ25_mixedInsertionSort_2 : List UInt8 := [21, 4, 4, 96, 22, 5, 80, 167, 255, 206, 167, 1, 112, 42, 28, 47, 55, 4, 29, 54, 7, 132, 1, 1]
abbrev dktJ25_mixedInsertionSort_2 : List UInt8 := dkwJ25_mixedInsertionSort_2 ++ dktJ25_mixedInsertionSort_3
def dkwJ25_mixedInsertionSort_1 : List UInt8 := [132, 4, 255, 21, 4, 47, 148, 156, 0, 16, 42, 21, 4, 4, 96, 42, 21, 4, 47, 80, 167, 255, 233, 42]
abbrev dktJ25_mixedInsertionSort_1 : List UInt8 := dkwJ25_mixedInsertionSort_1 ++ dktJ25_mixedInsertionSort_2
def dkwJ25_mixedInsertionSort_0 : List UInt8 := [28, 29, 160, 0, 59, 132, 1, 1, 27, 28, 162, 0, 48, 42, 27, 89, 54, 4, 47, 55, 5, 22, 5, 42]
abbrev dktJ25_mixedInsertionSort_0 : List UInt8 := dkwJ25_mixedInsertionSort_0 ++ dktJ25_mixedInsertionSort_1
theorem dksJ25_mixedInsertionSort_0 : cJ25_mixedInsertionSort.data.toList.drop 0 = dktJ25_mixedInsertionSort_0 := by decide +kernel
theorem dksJ25_mixedInsertionSort_1 : cJ25_mixedInsertionSort.data.toList.drop 24 = dktJ25_mixedInsertionSort_1 := dk_seg dksJ25_mixedInsertionSort_0 24 rfl rfl
theorem dksJ25_mixedInsertionSort_2 : cJ25_mixedInsertionSort.data.toList.drop 48 = dktJ25_mixedInsertionSort_2 := dk_seg dksJ25_mixedInsertionSort_1 24 rfl rfl
theorem dksJ25_mixedInsertionSort_3 : cJ25_mixedInsertionSort.data.toList.drop 72 = dktJ25_mixedInsertionSort_3 := dk_seg dksJ25_mixedInsertionSort_2 24 rfl rfl
theorem dksJ25_mixedInsertionSort_4 : cJ25_mixedInsertionSort.data.toList.drop 94 = dktJ25_mixedInsertionSort_4 := dk_seg dksJ25_mixedInsertionSort_3 22 rfl rfl
theorem dksJ25_mixedInsertionSort_5 : cJ25_mixedInsertionSort.data.toList.drop 118 = dktJ25_mixedInsertionSort_5 := dk_seg dksJ25_mixedInsertionSort_4 24 rfl rfl
theorem dksJ25_mixedInsertionSort_6 : cJ25_mixedInsertionSort.data.toList.drop 142 = dktJ25_mixedInsertionSort_6 := dk_seg dksJ25_mixedInsertionSort_5 24 rfl rfl
theorem dksJ25_mixedInsertionSort_7 : cJ25_mixedInsertionSort.data.toList.drop 166 = dktJ25_mixedInsertionSort_7 := dk_seg dksJ25_mixedInsertionSort_6 24 rfl rfl
theorem dksJ25_mixedInsertionSort_8 : cJ25_mixedInsertionSort.data.toList.drop 190 = dktJ25_mixedInsertionSort_8 := dk_seg dksJ25_mixedInsertionSort_7 24 rfl rfl
theorem dksJ25_mixedInsertionSort_9 : cJ25_mixedInsertionSort.data.toList.drop 214 = dktJ25_mixedInsertionSort_9 := dk_seg dksJ25_mixedInsertionSort_8 24 rfl rfl
theorem dksJ25_mixedInsertionSort_10 : cJ25_mixedInsertionSort.data.toList.drop 236 = dktJ25_mixedInsertionSort_10 := dk_seg dksJ25_mixedInsertionSort_9 22 rfl rfl
theorem dksJ25_mixedInsertionSort_11 : cJ25_mixedInsertionSort.data.toList.drop 260 = dktJ25_mixedInsertionSort_11 := dk_seg dksJ25_mixedInsertionSort_10 24 rfl rfl
theorem dksJ25_mixedInsertionSort_12 : cJ25_mixedInsertionSort.data.toList.drop 284 = dktJ25_mixedInsertionSort_12 := dk_seg dksJ25_mixedInsertionSort_11 24 rfl rfl
theorem dksJ25_mixedInsertionSort_13 : cJ25_mixedInsertionSort.data.toList.drop 308 = dktJ25_mixedInsertionSort_13 := dk_seg dksJ25_mixedInsertionSort_12 24 rfl rfl
theorem dksJ25_mixedInsertionSort_14 : cJ25_mixedInsertionSort.data.toList.drop 331 = dktJ25_mixedInsertionSort_14 := dk_seg dksJ25_mixedInsertionSort_13 23 rfl rfl
theorem dksJ25_mixedInsertionSort_15 : cJ25_mixedInsertionSort.data.toList.drop 355 = dktJ25_mixedInsertionSort_15 := dk_seg dksJ25_mixedInsertionSort_14 24 rfl rfl
theorem dksJ25_mixedInsertionSort_16 : cJ25_mixedInsertionSort.data.toList.drop 379 = dktJ25_mixedInsertionSort_16 := dk_seg dksJ25_mixedInsertionSort_15 24 rfl rfl
theorem dksJ25_mixedInsertionSort_17 : cJ25_mixedInsertionSort.data.toList.drop 403 = dktJ25_mixedInsertionSort_17 := dk_seg dksJ25_mixedInsertionSort_16 24 rfl rfl
theorem dJ25_mixedInsertionSort_0 : decode cJ25_mixedInsertionSort 0 = .ok (.iload_n 2, 1) := dk_28 (dk_at dksJ25_mixedInsertionSort_0 0 rfl rfl)
theorem dJ25_mixedInsertionSort_1 : decode cJ25_mixedInsertionSort 1 = .ok (.iload_n 3, 1) := dk_29 (dk_at dksJ25_mixedInsertionSort_0 1 rfl rfl)
theorem dJ25_mixedInsertionSort_2 : decode cJ25_mixedInsertionSort 2 = .ok (.if_icmp .ne 59, 3) := dk_160 0 59 (dk_at dksJ25_mixedInsertionSort_0 2 rfl rfl)
theorem dJ25_mixedInsertionSort_5 : decode cJ25_mixedInsertionSort 5 = .ok (.iinc 1 1, 3) := dk_132 1 1 (dk_at dksJ25_mixedInsertionSort_0 5 rfl rfl)
theorem dJ25_mixedInsertionSort_8 : decode cJ25_mixedInsertionSort 8 = .ok (.iload_n 1, 1) := dk_27 (dk_at dksJ25_mixedInsertionSort_0 8 rfl rfl)
theorem dJ25_mixedInsertionSort_9 : decode cJ25_mixedInsertionSort 9 = .ok (.iload_n 2, 1) := dk_28 (dk_at dksJ25_mixedInsertionSort_0 9 rfl rfl)
theorem dJ25_mixedInsertionSort_10 : decode cJ25_mixedInsertionSort 10 = .ok (.if_icmp .ge 48, 3) := dk_162 0 48 (dk_at dksJ25_mixedInsertionSort_0 10 rfl rfl)
theorem dJ25_mixedInsertionSort_13 : decode cJ25_mixedInsertionSort 13 = .ok (.aload_n 0, 1) := dk_42 (dk_at dksJ25_mixedInsertionSort_0 13 rfl rfl)
theorem dJ25_mixedInsertionSort_14 : decode cJ25_mixedInsertionSort 14 = .ok (.iload_n 1, 1) := dk_27 (dk_at dksJ25_mixedInsertionSort_0 14 rfl rfl)
theorem dJ25_mixedInsertionSort_15 : decode cJ25_mixedInsertionSort 15 = .ok (.dup, 1) := dk_89 (dk_at dksJ25_mixedInsertionSort_0 15 rfl rfl)
theorem dJ25_mixedInsertionSort_16 : decode cJ25_mixedInsertionSort 16 = .ok (.istore 4, 2) := dk_54 4 (dk_at dksJ25_mixedInsertionSort_0 16 rfl rfl)
theorem dJ25_mixedInsertionSort_18 : decode cJ25_mixedInsertionSort 18 = .ok (.laload, 1) := dk_47 (dk_at dksJ25_mixedInsertionSort_0 18 rfl rfl)
theorem dJ25_mixedInsertionSort_19 : decode cJ25_mixedInsertionSort 19 = .ok (.lstore 5, 2) := dk_55 5 (dk_at dksJ25_mixedInsertionSort_0 19 rfl rfl)
theorem dJ25_mixedInsertionSort_21 : decode cJ25_mixedInsertionSort 21 = .ok (.lload 5, 2) := dk_22 5 (dk_at dksJ25_mixedInsertionSort_0 21 rfl rfl)
theorem dJ25_mixedInsertionSort_23 : decode cJ25_mixedInsertionSort 23 = .ok (.aload_n 0, 1) := dk_42 (dk_at dksJ25_mixedInsertionSort_0 23 rfl rfl)
theorem dJ25_mixedInsertionSort_24 : decode cJ25_mixedInsertionSort 24 = .ok (.iinc 4 (-1), 3) := dk_132 4 255 (dk_at dksJ25_mixedInsertionSort_1 0 rfl rfl)
theorem dJ25_mixedInsertionSort_27 : decode cJ25_mixedInsertionSort 27 = .ok (.iload 4, 2) := dk_21 4 (dk_at dksJ25_mixedInsertionSort_1 3 rfl rfl)
theorem dJ25_mixedInsertionSort_29 : decode cJ25_mixedInsertionSort 29 = .ok (.laload, 1) := dk_47 (dk_at dksJ25_mixedInsertionSort_1 5 rfl rfl)
theorem dJ25_mixedInsertionSort_30 : decode cJ25_mixedInsertionSort 30 = .ok (.lcmp, 1) := dk_148 (dk_at dksJ25_mixedInsertionSort_1 6 rfl rfl)
theorem dJ25_mixedInsertionSort_31 : decode cJ25_mixedInsertionSort 31 = .ok (.ifCond .ge 16, 3) := dk_156 0 16 (dk_at dksJ25_mixedInsertionSort_1 7 rfl rfl)
theorem dJ25_mixedInsertionSort_34 : decode cJ25_mixedInsertionSort 34 = .ok (.aload_n 0, 1) := dk_42 (dk_at dksJ25_mixedInsertionSort_1 10 rfl rfl)
theorem dJ25_mixedInsertionSort_35 : decode cJ25_mixedInsertionSort 35 = .ok (.iload 4, 2) := dk_21 4 (dk_at dksJ25_mixedInsertionSort_1 11 rfl rfl)
theorem dJ25_mixedInsertionSort_37 : decode cJ25_mixedInsertionSort 37 = .ok (.iconst 1, 1) := dk_4 (dk_at dksJ25_mixedInsertionSort_1 13 rfl rfl)
theorem dJ25_mixedInsertionSort_38 : decode cJ25_mixedInsertionSort 38 = .ok (.iadd, 1) := dk_96 (dk_at dksJ25_mixedInsertionSort_1 14 rfl rfl)
theorem dJ25_mixedInsertionSort_39 : decode cJ25_mixedInsertionSort 39 = .ok (.aload_n 0, 1) := dk_42 (dk_at dksJ25_mixedInsertionSort_1 15 rfl rfl)
theorem dJ25_mixedInsertionSort_40 : decode cJ25_mixedInsertionSort 40 = .ok (.iload 4, 2) := dk_21 4 (dk_at dksJ25_mixedInsertionSort_1 16 rfl rfl)
theorem dJ25_mixedInsertionSort_42 : decode cJ25_mixedInsertionSort 42 = .ok (.laload, 1) := dk_47 (dk_at dksJ25_mixedInsertionSort_1 18 rfl rfl)
theorem dJ25_mixedInsertionSort_43 : decode cJ25_mixedInsertionSort 43 = .ok (.lastore, 1) := dk_80 (dk_at dksJ25_mixedInsertionSort_1 19 rfl rfl)
theorem dJ25_mixedInsertionSort_44 : decode cJ25_mixedInsertionSort 44 = .ok (.goto (-23), 3) := dk_167 255 233 (dk_at dksJ25_mixedInsertionSort_1 20 rfl rfl)
theorem dJ25_mixedInsertionSort_47 : decode cJ25_mixedInsertionSort 47 = .ok (.aload_n 0, 1) := dk_42 (dk_at dksJ25_mixedInsertionSort_1 23 rfl rfl)
theorem dJ25_mixedInsertionSort_48 : decode cJ25_mixedInsertionSort 48 = .ok (.iload 4, 2) := dk_21 4 (dk_at dksJ25_mixedInsertionSort_2 0 rfl rfl)
theorem dJ25_mixedInsertionSort_50 : decode cJ25_mixedInsertionSort 50 = .ok (.iconst 1, 1) := dk_4 (dk_at dksJ25_mixedInsertionSort_2 2 rfl rfl)
theorem dJ25_mixedInsertionSort_51 : decode cJ25_mixedInsertionSort 51 = .ok (.iadd, 1) := dk_96 (dk_at dksJ25_mixedInsertionSort_2 3 rfl rfl)
theorem dJ25_mixedInsertionSort_52 : decode cJ25_mixedInsertionSort 52 = .ok (.lload 5, 2) := dk_22 5 (dk_at dksJ25_mixedInsertionSort_2 4 rfl rfl)
theorem dJ25_mixedInsertionSort_54 : decode cJ25_mixedInsertionSort 54 = .ok (.lastore, 1) := dk_80 (dk_at dksJ25_mixedInsertionSort_2 6 rfl rfl)
theorem dJ25_mixedInsertionSort_55 : decode cJ25_mixedInsertionSort 55 = .ok (.goto (-50), 3) := dk_167 255 206 (dk_at dksJ25_mixedInsertionSort_2 7 rfl rfl)
theorem dJ25_mixedInsertionSort_58 : decode cJ25_mixedInsertionSort 58 = .ok (.goto 368, 3) := dk_167 1 112 (dk_at dksJ25_mixedInsertionSort_2 10 rfl rfl)
theorem dJ25_mixedInsertionSort_61 : decode cJ25_mixedInsertionSort 61 = .ok (.aload_n 0, 1) := dk_42 (dk_at dksJ25_mixedInsertionSort_2 13 rfl rfl)
theorem dJ25_mixedInsertionSort_62 : decode cJ25_mixedInsertionSort 62 = .ok (.iload_n 2, 1) := dk_28 (dk_at dksJ25_mixedInsertionSort_2 14 rfl rfl)
theorem dJ25_mixedInsertionSort_63 : decode cJ25_mixedInsertionSort 63 = .ok (.laload, 1) := dk_47 (dk_at dksJ25_mixedInsertionSort_2 15 rfl rfl)
theorem dJ25_mixedInsertionSort_64 : decode cJ25_mixedInsertionSort 64 = .ok (.lstore 4, 2) := dk_55 4 (dk_at dksJ25_mixedInsertionSort_2 16 rfl rfl)
theorem dJ25_mixedInsertionSort_66 : decode cJ25_mixedInsertionSort 66 = .ok (.iload_n 3, 1) := dk_29 (dk_at dksJ25_mixedInsertionSort_2 18 rfl rfl)
theorem dJ25_mixedInsertionSort_67 : decode cJ25_mixedInsertionSort 67 = .ok (.istore 7, 2) := dk_54 7 (dk_at dksJ25_mixedInsertionSort_2 19 rfl rfl)
theorem dJ25_mixedInsertionSort_69 : decode cJ25_mixedInsertionSort 69 = .ok (.iinc 1 1, 3) := dk_132 1 1 (dk_at dksJ25_mixedInsertionSort_2 21 rfl rfl)
theorem dJ25_mixedInsertionSort_72 : decode cJ25_mixedInsertionSort 72 = .ok (.iload_n 1, 1) := dk_27 (dk_at dksJ25_mixedInsertionSort_3 0 rfl rfl)
theorem dJ25_mixedInsertionSort_73 : decode cJ25_mixedInsertionSort 73 = .ok (.iload_n 2, 1) := dk_28 (dk_at dksJ25_mixedInsertionSort_3 1 rfl rfl)
theorem dJ25_mixedInsertionSort_74 : decode cJ25_mixedInsertionSort 74 = .ok (.if_icmp .ge 160, 3) := dk_162 0 160 (dk_at dksJ25_mixedInsertionSort_3 2 rfl rfl)
theorem dJ25_mixedInsertionSort_77 : decode cJ25_mixedInsertionSort 77 = .ok (.aload_n 0, 1) := dk_42 (dk_at dksJ25_mixedInsertionSort_3 5 rfl rfl)
theorem dJ25_mixedInsertionSort_78 : decode cJ25_mixedInsertionSort 78 = .ok (.iload_n 1, 1) := dk_27 (dk_at dksJ25_mixedInsertionSort_3 6 rfl rfl)
theorem dJ25_mixedInsertionSort_79 : decode cJ25_mixedInsertionSort 79 = .ok (.dup, 1) := dk_89 (dk_at dksJ25_mixedInsertionSort_3 7 rfl rfl)
theorem dJ25_mixedInsertionSort_80 : decode cJ25_mixedInsertionSort 80 = .ok (.istore 6, 2) := dk_54 6 (dk_at dksJ25_mixedInsertionSort_3 8 rfl rfl)
theorem dJ25_mixedInsertionSort_82 : decode cJ25_mixedInsertionSort 82 = .ok (.laload, 1) := dk_47 (dk_at dksJ25_mixedInsertionSort_3 10 rfl rfl)
theorem dJ25_mixedInsertionSort_83 : decode cJ25_mixedInsertionSort 83 = .ok (.lstore 8, 2) := dk_55 8 (dk_at dksJ25_mixedInsertionSort_3 11 rfl rfl)
theorem dJ25_mixedInsertionSort_85 : decode cJ25_mixedInsertionSort 85 = .ok (.lload 8, 2) := dk_22 8 (dk_at dksJ25_mixedInsertionSort_3 13 rfl rfl)
theorem dJ25_mixedInsertionSort_87 : decode cJ25_mixedInsertionSort 87 = .ok (.aload_n 0, 1) := dk_42 (dk_at dksJ25_mixedInsertionSort_3 15 rfl rfl)
theorem dJ25_mixedInsertionSort_88 : decode cJ25_mixedInsertionSort 88 = .ok (.iload 6, 2) := dk_21 6 (dk_at dksJ25_mixedInsertionSort_3 16 rfl rfl)
theorem dJ25_mixedInsertionSort_90 : decode cJ25_mixedInsertionSort 90 = .ok (.iconst 1, 1) := dk_4 (dk_at dksJ25_mixedInsertionSort_3 18 rfl rfl)
theorem dJ25_mixedInsertionSort_91 : decode cJ25_mixedInsertionSort 91 = .ok (.isub, 1) := dk_100 (dk_at dksJ25_mixedInsertionSort_3 19 rfl rfl)
theorem dJ25_mixedInsertionSort_92 : decode cJ25_mixedInsertionSort 92 = .ok (.laload, 1) := dk_47 (dk_at dksJ25_mixedInsertionSort_3 20 rfl rfl)
theorem dJ25_mixedInsertionSort_93 : decode cJ25_mixedInsertionSort 93 = .ok (.lcmp, 1) := dk_148 (dk_at dksJ25_mixedInsertionSort_3 21 rfl rfl)
theorem dJ25_mixedInsertionSort_94 : decode cJ25_mixedInsertionSort 94 = .ok (.ifCond .ge 51, 3) := dk_156 0 51 (dk_at dksJ25_mixedInsertionSort_4 0 rfl rfl)
theorem dJ25_mixedInsertionSort_97 : decode cJ25_mixedInsertionSort 97 = .ok (.aload_n 0, 1) := dk_42 (dk_at dksJ25_mixedInsertionSort_4 3 rfl rfl)
theorem dJ25_mixedInsertionSort_98 : decode cJ25_mixedInsertionSort 98 = .ok (.iload 6, 2) := dk_21 6 (dk_at dksJ25_mixedInsertionSort_4 4 rfl rfl)
theorem dJ25_mixedInsertionSort_100 : decode cJ25_mixedInsertionSort 100 = .ok (.aload_n 0, 1) := dk_42 (dk_at dksJ25_mixedInsertionSort_4 6 rfl rfl)
theorem dJ25_mixedInsertionSort_101 : decode cJ25_mixedInsertionSort 101 = .ok (.iinc 6 (-1), 3) := dk_132 6 255 (dk_at dksJ25_mixedInsertionSort_4 7 rfl rfl)
theorem dJ25_mixedInsertionSort_104 : decode cJ25_mixedInsertionSort 104 = .ok (.iload 6, 2) := dk_21 6 (dk_at dksJ25_mixedInsertionSort_4 10 rfl rfl)
theorem dJ25_mixedInsertionSort_106 : decode cJ25_mixedInsertionSort 106 = .ok (.laload, 1) := dk_47 (dk_at dksJ25_mixedInsertionSort_4 12 rfl rfl)
theorem dJ25_mixedInsertionSort_107 : decode cJ25_mixedInsertionSort 107 = .ok (.lastore, 1) := dk_80 (dk_at dksJ25_mixedInsertionSort_4 13 rfl rfl)
theorem dJ25_mixedInsertionSort_108 : decode cJ25_mixedInsertionSort 108 = .ok (.lload 8, 2) := dk_22 8 (dk_at dksJ25_mixedInsertionSort_4 14 rfl rfl)
theorem dJ25_mixedInsertionSort_110 : decode cJ25_mixedInsertionSort 110 = .ok (.aload_n 0, 1) := dk_42 (dk_at dksJ25_mixedInsertionSort_4 16 rfl rfl)
theorem dJ25_mixedInsertionSort_111 : decode cJ25_mixedInsertionSort 111 = .ok (.iinc 6 (-1), 3) := dk_132 6 255 (dk_at dksJ25_mixedInsertionSort_4 17 rfl rfl)
theorem dJ25_mixedInsertionSort_114 : decode cJ25_mixedInsertionSort 114 = .ok (.iload 6, 2) := dk_21 6 (dk_at dksJ25_mixedInsertionSort_4 20 rfl rfl)
theorem dJ25_mixedInsertionSort_116 : decode cJ25_mixedInsertionSort 116 = .ok (.laload, 1) := dk_47 (dk_at dksJ25_mixedInsertionSort_4 22 rfl rfl)
theorem dJ25_mixedInsertionSort_117 : decode cJ25_mixedInsertionSort 117 = .ok (.lcmp, 1) := dk_148 (dk_at dksJ25_mixedInsertionSort_4 23 rfl rfl)
theorem dJ25_mixedInsertionSort_118 : decode cJ25_mixedInsertionSort 118 = .ok (.ifCond .ge 16, 3) := dk_156 0 16 (dk_at dksJ25_mixedInsertionSort_5 0 rfl rfl)
theorem dJ25_mixedInsertionSort_121 : decode cJ25_mixedInsertionSort 121 = .ok (.aload_n 0, 1) := dk_42 (dk_at dksJ25_mixedInsertionSort_5 3 rfl rfl)
theorem dJ25_mixedInsertionSort_122 : decode cJ25_mixedInsertionSort 122 = .ok (.iload 6, 2) := dk_21 6 (dk_at dksJ25_mixedInsertionSort_5 4 rfl rfl)
theorem dJ25_mixedInsertionSort_124 : decode cJ25_mixedInsertionSort 124 = .ok (.iconst 1, 1) := dk_4 (dk_at dksJ25_mixedInsertionSort_5 6 rfl rfl)
theorem dJ25_mixedInsertionSort_125 : decode cJ25_mixedInsertionSort 125 = .ok (.iadd, 1) := dk_96 (dk_at dksJ25_mixedInsertionSort_5 7 rfl rfl)
theorem dJ25_mixedInsertionSort_126 : decode cJ25_mixedInsertionSort 126 = .ok (.aload_n 0, 1) := dk_42 (dk_at dksJ25_mixedInsertionSort_5 8 rfl rfl)
theorem dJ25_mixedInsertionSort_127 : decode cJ25_mixedInsertionSort 127 = .ok (.iload 6, 2) := dk_21 6 (dk_at dksJ25_mixedInsertionSort_5 9 rfl rfl)
theorem dJ25_mixedInsertionSort_129 : decode cJ25_mixedInsertionSort 129 = .ok (.laload, 1) := dk_47 (dk_at dksJ25_mixedInsertionSort_5 11 rfl rfl)
theorem dJ25_mixedInsertionSort_130 : decode cJ25_mixedInsertionSort 130 = .ok (.lastore, 1) := dk_80 (dk_at dksJ25_mixedInsertionSort_5 12 rfl rfl)
theorem dJ25_mixedInsertionSort_131 : decode cJ25_mixedInsertionSort 131 = .ok (.goto (-23), 3) := dk_167 255 233 (dk_at dksJ25_mixedInsertionSort_5 13 rfl rfl)
theorem dJ25_mixedInsertionSort_134 : decode cJ25_mixedInsertionSort 134 = .ok (.aload_n 0, 1) := dk_42 (dk_at dksJ25_mixedInsertionSort_5 16 rfl rfl)
theorem dJ25_mixedInsertionSort_135 : decode cJ25_mixedInsertionSort 135 = .ok (.iload 6, 2) := dk_21 6 (dk_at dksJ25_mixedInsertionSort_5 17 rfl rfl)
theorem dJ25_mixedInsertionSort_137 : decode cJ25_mixedInsertionSort 137 = .ok (.iconst 1, 1) := dk_4 (dk_at dksJ25_mixedInsertionSort_5 19 rfl rfl)
theorem dJ25_mixedInsertionSort_138 : decode cJ25_mixedInsertionSort 138 = .ok (.iadd, 1) := dk_96 (dk_at dksJ25_mixedInsertionSort_5 20 rfl rfl)
theorem dJ25_mixedInsertionSort_139 : decode cJ25_mixedInsertionSort 139 = .ok (.lload 8, 2) := dk_22 8 (dk_at dksJ25_mixedInsertionSort_5 21 rfl rfl)
theorem dJ25_mixedInsertionSort_141 : decode cJ25_mixedInsertionSort 141 = .ok (.lastore, 1) := dk_80 (dk_at dksJ25_mixedInsertionSort_5 23 rfl rfl)
theorem dJ25_mixedInsertionSort_142 : decode cJ25_mixedInsertionSort 142 = .ok (.goto 89, 3) := dk_167 0 89 (dk_at dksJ25_mixedInsertionSort_6 0 rfl rfl)
theorem dJ25_mixedInsertionSort_145 : decode cJ25_mixedInsertionSort 145 = .ok (.iload 7, 2) := dk_21 7 (dk_at dksJ25_mixedInsertionSort_6 3 rfl rfl)
theorem dJ25_mixedInsertionSort_147 : decode cJ25_mixedInsertionSort 147 = .ok (.iload 6, 2) := dk_21 6 (dk_at dksJ25_mixedInsertionSort_6 5 rfl rfl)
theorem dJ25_mixedInsertionSort_149 : decode cJ25_mixedInsertionSort 149 = .ok (.if_icmp .le 82, 3) := dk_164 0 82 (dk_at dksJ25_mixedInsertionSort_6 7 rfl rfl)
theorem dJ25_mixedInsertionSort_152 : decode cJ25_mixedInsertionSort 152 = .ok (.lload 8, 2) := dk_22 8 (dk_at dksJ25_mixedInsertionSort_6 10 rfl rfl)
theorem dJ25_mixedInsertionSort_154 : decode cJ25_mixedInsertionSort 154 = .ok (.lload 4, 2) := dk_22 4 (dk_at dksJ25_mixedInsertionSort_6 12 rfl rfl)
theorem dJ25_mixedInsertionSort_156 : decode cJ25_mixedInsertionSort 156 = .ok (.lcmp, 1) := dk_148 (dk_at dksJ25_mixedInsertionSort_6 14 rfl rfl)
theorem dJ25_mixedInsertionSort_157 : decode cJ25_mixedInsertionSort 157 = .ok (.ifCond .le 74, 3) := dk_158 0 74 (dk_at dksJ25_mixedInsertionSort_6 15 rfl rfl)
theorem dJ25_mixedInsertionSort_160 : decode cJ25_mixedInsertionSort 160 = .ok (.aload_n 0, 1) := dk_42 (dk_at dksJ25_mixedInsertionSort_6 18 rfl rfl)
theorem dJ25_mixedInsertionSort_161 : decode cJ25_mixedInsertionSort 161 = .ok (.iinc 7 (-1), 3) := dk_132 7 255 (dk_at dksJ25_mixedInsertionSort_6 19 rfl rfl)
theorem dJ25_mixedInsertionSort_164 : decode cJ25_mixedInsertionSort 164 = .ok (.iload 7, 2) := dk_21 7 (dk_at dksJ25_mixedInsertionSort_6 22 rfl rfl)
theorem dJ25_mixedInsertionSort_166 : decode cJ25_mixedInsertionSort 166 = .ok (.laload, 1) := dk_47 (dk_at dksJ25_mixedInsertionSort_7 0 rfl rfl)
theorem dJ25_mixedInsertionSort_167 : decode cJ25_mixedInsertionSort 167 = .ok (.lload 4, 2) := dk_22 4 (dk_at dksJ25_mixedInsertionSort_7 1 rfl rfl)
theorem dJ25_mixedInsertionSort_169 : decode cJ25_mixedInsertionSort 169 = .ok (.lcmp, 1) := dk_148 (dk_at dksJ25_mixedInsertionSort_7 3 rfl rfl)
theorem dJ25_mixedInsertionSort_170 : decode cJ25_mixedInsertionSort 170 = .ok (.ifCond .le 6, 3) := dk_158 0 6 (dk_at dksJ25_mixedInsertionSort_7 4 rfl rfl)
theorem dJ25_mixedInsertionSort_173 : decode cJ25_mixedInsertionSort 173 = .ok (.goto (-13), 3) := dk_167 255 243 (dk_at dksJ25_mixedInsertionSort_7 7 rfl rfl)
theorem dJ25_mixedInsertionSort_176 : decode cJ25_mixedInsertionSort 176 = .ok (.iload 7, 2) := dk_21 7 (dk_at dksJ25_mixedInsertionSort_7 10 rfl rfl)
theorem dJ25_mixedInsertionSort_178 : decode cJ25_mixedInsertionSort 178 = .ok (.iload 6, 2) := dk_21 6 (dk_at dksJ25_mixedInsertionSort_7 12 rfl rfl)
theorem dJ25_mixedInsertionSort_180 : decode cJ25_mixedInsertionSort 180 = .ok (.if_icmp .le 17, 3) := dk_164 0 17 (dk_at dksJ25_mixedInsertionSort_7 14 rfl rfl)
theorem dJ25_mixedInsertionSort_183 : decode cJ25_mixedInsertionSort 183 = .ok (.aload_n 0, 1) := dk_42 (dk_at dksJ25_mixedInsertionSort_7 17 rfl rfl)
theorem dJ25_mixedInsertionSort_184 : decode cJ25_mixedInsertionSort 184 = .ok (.iload 7, 2) := dk_21 7 (dk_at dksJ25_mixedInsertionSort_7 18 rfl rfl)
theorem dJ25_mixedInsertionSort_186 : decode cJ25_mixedInsertionSort 186 = .ok (.laload, 1) := dk_47 (dk_at dksJ25_mixedInsertionSort_7 20 rfl rfl)
theorem dJ25_mixedInsertionSort_187 : decode cJ25_mixedInsertionSort 187 = .ok (.lstore 8, 2) := dk_55 8 (dk_at dksJ25_mixedInsertionSort_7 21 rfl rfl)
theorem dJ25_mixedInsertionSort_189 : decode cJ25_mixedInsertionSort 189 = .ok (.aload_n 0, 1) := dk_42 (dk_at dksJ25_mixedInsertionSort_7 23 rfl rfl)
theorem dJ25_mixedInsertionSort_190 : decode cJ25_mixedInsertionSort 190 = .ok (.iload 7, 2) := dk_21 7 (dk_at dksJ25_mixedInsertionSort_8 0 rfl rfl)
theorem dJ25_mixedInsertionSort_192 : decode cJ25_mixedInsertionSort 192 = .ok (.aload_n 0, 1) := dk_42 (dk_at dksJ25_mixedInsertionSort_8 2 rfl rfl)
theorem dJ25_mixedInsertionSort_193 : decode cJ25_mixedInsertionSort 193 = .ok (.iload 6, 2) := dk_21 6 (dk_at dksJ25_mixedInsertionSort_8 3 rfl rfl)
theorem dJ25_mixedInsertionSort_195 : decode cJ25_mixedInsertionSort 195 = .ok (.laload, 1) := dk_47 (dk_at dksJ25_mixedInsertionSort_8 5 rfl rfl)
theorem dJ25_mixedInsertionSort_196 : decode cJ25_mixedInsertionSort 196 = .ok (.lastore, 1) := dk_80 (dk_at dksJ25_mixedInsertionSort_8 6 rfl rfl)
theorem dJ25_mixedInsertionSort_197 : decode cJ25_mixedInsertionSort 197 = .ok (.lload 8, 2) := dk_22 8 (dk_at dksJ25_mixedInsertionSort_8 7 rfl rfl)
theorem dJ25_mixedInsertionSort_199 : decode cJ25_mixedInsertionSort 199 = .ok (.aload_n 0, 1) := dk_42 (dk_at dksJ25_mixedInsertionSort_8 9 rfl rfl)
theorem dJ25_mixedInsertionSort_200 : decode cJ25_mixedInsertionSort 200 = .ok (.iinc 6 (-1), 3) := dk_132 6 255 (dk_at dksJ25_mixedInsertionSort_8 10 rfl rfl)
theorem dJ25_mixedInsertionSort_203 : decode cJ25_mixedInsertionSort 203 = .ok (.iload 6, 2) := dk_21 6 (dk_at dksJ25_mixedInsertionSort_8 13 rfl rfl)
theorem dJ25_mixedInsertionSort_205 : decode cJ25_mixedInsertionSort 205 = .ok (.laload, 1) := dk_47 (dk_at dksJ25_mixedInsertionSort_8 15 rfl rfl)
theorem dJ25_mixedInsertionSort_206 : decode cJ25_mixedInsertionSort 206 = .ok (.lcmp, 1) := dk_148 (dk_at dksJ25_mixedInsertionSort_8 16 rfl rfl)
theorem dJ25_mixedInsertionSort_207 : decode cJ25_mixedInsertionSort 207 = .ok (.ifCond .ge 16, 3) := dk_156 0 16 (dk_at dksJ25_mixedInsertionSort_8 17 rfl rfl)
theorem dJ25_mixedInsertionSort_210 : decode cJ25_mixedInsertionSort 210 = .ok (.aload_n 0, 1) := dk_42 (dk_at dksJ25_mixedInsertionSort_8 20 rfl rfl)
theorem dJ25_mixedInsertionSort_211 : decode cJ25_mixedInsertionSort 211 = .ok (.iload 6, 2) := dk_21 6 (dk_at dksJ25_mixedInsertionSort_8 21 rfl rfl)
theorem dJ25_mixedInsertionSort_213 : decode cJ25_mixedInsertionSort 213 = .ok (.iconst 1, 1) := dk_4 (dk_at dksJ25_mixedInsertionSort_8 23 rfl rfl)
theorem dJ25_mixedInsertionSort_214 : decode cJ25_mixedInsertionSort 214 = .ok (.iadd, 1) := dk_96 (dk_at dksJ25_mixedInsertionSort_9 0 rfl rfl)
theorem dJ25_mixedInsertionSort_215 : decode cJ25_mixedInsertionSort 215 = .ok (.aload_n 0, 1) := dk_42 (dk_at dksJ25_mixedInsertionSort_9 1 rfl rfl)
theorem dJ25_mixedInsertionSort_216 : decode cJ25_mixedInsertionSort 216 = .ok (.iload 6, 2) := dk_21 6 (dk_at dksJ25_mixedInsertionSort_9 2 rfl rfl)
theorem dJ25_mixedInsertionSort_218 : decode cJ25_mixedInsertionSort 218 = .ok (.laload, 1) := dk_47 (dk_at dksJ25_mixedInsertionSort_9 4 rfl rfl)
theorem dJ25_mixedInsertionSort_219 : decode cJ25_mixedInsertionSort 219 = .ok (.lastore, 1) := dk_80 (dk_at dksJ25_mixedInsertionSort_9 5 rfl rfl)
theorem dJ25_mixedInsertionSort_220 : decode cJ25_mixedInsertionSort 220 = .ok (.goto (-23), 3) := dk_167 255 233 (dk_at dksJ25_mixedInsertionSort_9 6 rfl rfl)
theorem dJ25_mixedInsertionSort_223 : decode cJ25_mixedInsertionSort 223 = .ok (.aload_n 0, 1) := dk_42 (dk_at dksJ25_mixedInsertionSort_9 9 rfl rfl)
theorem dJ25_mixedInsertionSort_224 : decode cJ25_mixedInsertionSort 224 = .ok (.iload 6, 2) := dk_21 6 (dk_at dksJ25_mixedInsertionSort_9 10 rfl rfl)
theorem dJ25_mixedInsertionSort_226 : decode cJ25_mixedInsertionSort 226 = .ok (.iconst 1, 1) := dk_4 (dk_at dksJ25_mixedInsertionSort_9 12 rfl rfl)
theorem dJ25_mixedInsertionSort_227 : decode cJ25_mixedInsertionSort 227 = .ok (.iadd, 1) := dk_96 (dk_at dksJ25_mixedInsertionSort_9 13 rfl rfl)
theorem dJ25_mixedInsertionSort_228 : decode cJ25_mixedInsertionSort 228 = .ok (.lload 8, 2) := dk_22 8 (dk_at dksJ25_mixedInsertionSort_9 14 rfl rfl)
theorem dJ25_mixedInsertionSort_230 : decode cJ25_mixedInsertionSort 230 = .ok (.lastore, 1) := dk_80 (dk_at dksJ25_mixedInsertionSort_9 16 rfl rfl)
theorem dJ25_mixedInsertionSort_231 : decode cJ25_mixedInsertionSort 231 = .ok (.goto (-162), 3) := dk_167 255 94 (dk_at dksJ25_mixedInsertionSort_9 17 rfl rfl)
theorem dJ25_mixedInsertionSort_234 : decode cJ25_mixedInsertionSort 234 = .ok (.iload_n 1, 1) := dk_27 (dk_at dksJ25_mixedInsertionSort_9 20 rfl rfl)
theorem dJ25_mixedInsertionSort_235 : decode cJ25_mixedInsertionSort 235 = .ok (.iload_n 3, 1) := dk_29 (dk_at dksJ25_mixedInsertionSort_9 21 rfl rfl)
theorem dJ25_mixedInsertionSort_236 : decode cJ25_mixedInsertionSort 236 = .ok (.if_icmp .ge 190, 3) := dk_162 0 190 (dk_at dksJ25_mixedInsertionSort_10 0 rfl rfl)
theorem dJ25_mixedInsertionSort_239 : decode cJ25_mixedInsertionSort 239 = .ok (.aload_n 0, 1) := dk_42 (dk_at dksJ25_mixedInsertionSort_10 3 rfl rfl)
theorem dJ25_mixedInsertionSort_240 : decode cJ25_mixedInsertionSort 240 = .ok (.iload_n 1, 1) := dk_27 (dk_at dksJ25_mixedInsertionSort_10 4 rfl rfl)
theorem dJ25_mixedInsertionSort_241 : decode cJ25_mixedInsertionSort 241 = .ok (.dup, 1) := dk_89 (dk_at dksJ25_mixedInsertionSort_10 5 rfl rfl)
theorem dJ25_mixedInsertionSort_242 : decode cJ25_mixedInsertionSort 242 = .ok (.istore 6, 2) := dk_54 6 (dk_at dksJ25_mixedInsertionSort_10 6 rfl rfl)
theorem dJ25_mixedInsertionSort_244 : decode cJ25_mixedInsertionSort 244 = .ok (.laload, 1) := dk_47 (dk_at dksJ25_mixedInsertionSort_10 8 rfl rfl)
theorem dJ25_mixedInsertionSort_245 : decode cJ25_mixedInsertionSort 245 = .ok (.lstore 7, 2) := dk_55 7 (dk_at dksJ25_mixedInsertionSort_10 9 rfl rfl)
theorem dJ25_mixedInsertionSort_247 : decode cJ25_mixedInsertionSort 247 = .ok (.aload_n 0, 1) := dk_42 (dk_at dksJ25_mixedInsertionSort_10 11 rfl rfl)
theorem dJ25_mixedInsertionSort_248 : decode cJ25_mixedInsertionSort 248 = .ok (.iinc 1 1, 3) := dk_132 1 1 (dk_at dksJ25_mixedInsertionSort_10 12 rfl rfl)
theorem dJ25_mixedInsertionSort_251 : decode cJ25_mixedInsertionSort 251 = .ok (.iload_n 1, 1) := dk_27 (dk_at dksJ25_mixedInsertionSort_10 15 rfl rfl)
theorem dJ25_mixedInsertionSort_252 : decode cJ25_mixedInsertionSort 252 = .ok (.laload, 1) := dk_47 (dk_at dksJ25_mixedInsertionSort_10 16 rfl rfl)
theorem dJ25_mixedInsertionSort_253 : decode cJ25_mixedInsertionSort 253 = .ok (.lstore 9, 2) := dk_55 9 (dk_at dksJ25_mixedInsertionSort_10 17 rfl rfl)
theorem dJ25_mixedInsertionSort_255 : decode cJ25_mixedInsertionSort 255 = .ok (.lload 7, 2) := dk_22 7 (dk_at dksJ25_mixedInsertionSort_10 19 rfl rfl)
theorem dJ25_mixedInsertionSort_257 : decode cJ25_mixedInsertionSort 257 = .ok (.lload 9, 2) := dk_22 9 (dk_at dksJ25_mixedInsertionSort_10 21 rfl rfl)
theorem dJ25_mixedInsertionSort_259 : decode cJ25_mixedInsertionSort 259 = .ok (.lcmp, 1) := dk_148 (dk_at dksJ25_mixedInsertionSort_10 23 rfl rfl)
theorem dJ25_mixedInsertionSort_260 : decode cJ25_mixedInsertionSort 260 = .ok (.ifCond .le 77, 3) := dk_158 0 77 (dk_at dksJ25_mixedInsertionSort_11 0 rfl rfl)
theorem dJ25_mixedInsertionSort_263 : decode cJ25_mixedInsertionSort 263 = .ok (.lload 7, 2) := dk_22 7 (dk_at dksJ25_mixedInsertionSort_11 3 rfl rfl)
theorem dJ25_mixedInsertionSort_265 : decode cJ25_mixedInsertionSort 265 = .ok (.aload_n 0, 1) := dk_42 (dk_at dksJ25_mixedInsertionSort_11 5 rfl rfl)
theorem dJ25_mixedInsertionSort_266 : decode cJ25_mixedInsertionSort 266 = .ok (.iinc 6 (-1), 3) := dk_132 6 255 (dk_at dksJ25_mixedInsertionSort_11 6 rfl rfl)
theorem dJ25_mixedInsertionSort_269 : decode cJ25_mixedInsertionSort 269 = .ok (.iload 6, 2) := dk_21 6 (dk_at dksJ25_mixedInsertionSort_11 9 rfl rfl)
theorem dJ25_mixedInsertionSort_271 : decode cJ25_mixedInsertionSort 271 = .ok (.laload, 1) := dk_47 (dk_at dksJ25_mixedInsertionSort_11 11 rfl rfl)
theorem dJ25_mixedInsertionSort_272 : decode cJ25_mixedInsertionSort 272 = .ok (.lcmp, 1) := dk_148 (dk_at dksJ25_mixedInsertionSort_11 12 rfl rfl)
theorem dJ25_mixedInsertionSort_273 : decode cJ25_mixedInsertionSort 273 = .ok (.ifCond .ge 16, 3) := dk_156 0 16 (dk_at dksJ25_mixedInsertionSort_11 13 rfl rfl)
theorem dJ25_mixedInsertionSort_276 : decode cJ25_mixedInsertionSort 276 = .ok (.aload_n 0, 1) := dk_42 (dk_at dksJ25_mixedInsertionSort_11 16 rfl rfl)
theorem dJ25_mixedInsertionSort_277 : decode cJ25_mixedInsertionSort 277 = .ok (.iload 6, 2) := dk_21 6 (dk_at dksJ25_mixedInsertionSort_11 17 rfl rfl)
theorem dJ25_mixedInsertionSort_279 : decode cJ25_mixedInsertionSort 279 = .ok (.iconst 2, 1) := dk_5 (dk_at dksJ25_mixedInsertionSort_11 19 rfl rfl)
theorem dJ25_mixedInsertionSort_280 : decode cJ25_mixedInsertionSort 280 = .ok (.iadd, 1) := dk_96 (dk_at dksJ25_mixedInsertionSort_11 20 rfl rfl)
theorem dJ25_mixedInsertionSort_281 : decode cJ25_mixedInsertionSort 281 = .ok (.aload_n 0, 1) := dk_42 (dk_at dksJ25_mixedInsertionSort_11 21 rfl rfl)
theorem dJ25_mixedInsertionSort_282 : decode cJ25_mixedInsertionSort 282 = .ok (.iload 6, 2) := dk_21 6 (dk_at dksJ25_mixedInsertionSort_11 22 rfl rfl)
theorem dJ25_mixedInsertionSort_284 : decode cJ25_mixedInsertionSort 284 = .ok (.laload, 1) := dk_47 (dk_at dksJ25_mixedInsertionSort_12 0 rfl rfl)
theorem dJ25_mixedInsertionSort_285 : decode cJ25_mixedInsertionSort 285 = .ok (.lastore, 1) := dk_80 (dk_at dksJ25_mixedInsertionSort_12 1 rfl rfl)
theorem dJ25_mixedInsertionSort_286 : decode cJ25_mixedInsertionSort 286 = .ok (.goto (-23), 3) := dk_167 255 233 (dk_at dksJ25_mixedInsertionSort_12 2 rfl rfl)
theorem dJ25_mixedInsertionSort_289 : decode cJ25_mixedInsertionSort 289 = .ok (.aload_n 0, 1) := dk_42 (dk_at dksJ25_mixedInsertionSort_12 5 rfl rfl)
theorem dJ25_mixedInsertionSort_290 : decode cJ25_mixedInsertionSort 290 = .ok (.iinc 6 1, 3) := dk_132 6 1 (dk_at dksJ25_mixedInsertionSort_12 6 rfl rfl)
theorem dJ25_mixedInsertionSort_293 : decode cJ25_mixedInsertionSort 293 = .ok (.iload 6, 2) := dk_21 6 (dk_at dksJ25_mixedInsertionSort_12 9 rfl rfl)
theorem dJ25_mixedInsertionSort_295 : decode cJ25_mixedInsertionSort 295 = .ok (.iconst 1, 1) := dk_4 (dk_at dksJ25_mixedInsertionSort_12 11 rfl rfl)
theorem dJ25_mixedInsertionSort_296 : decode cJ25_mixedInsertionSort 296 = .ok (.iadd, 1) := dk_96 (dk_at dksJ25_mixedInsertionSort_12 12 rfl rfl)
theorem dJ25_mixedInsertionSort_297 : decode cJ25_mixedInsertionSort 297 = .ok (.lload 7, 2) := dk_22 7 (dk_at dksJ25_mixedInsertionSort_12 13 rfl rfl)
theorem dJ25_mixedInsertionSort_299 : decode cJ25_mixedInsertionSort 299 = .ok (.lastore, 1) := dk_80 (dk_at dksJ25_mixedInsertionSort_12 15 rfl rfl)
theorem dJ25_mixedInsertionSort_300 : decode cJ25_mixedInsertionSort 300 = .ok (.lload 9, 2) := dk_22 9 (dk_at dksJ25_mixedInsertionSort_12 16 rfl rfl)
theorem dJ25_mixedInsertionSort_302 : decode cJ25_mixedInsertionSort 302 = .ok (.aload_n 0, 1) := dk_42 (dk_at dksJ25_mixedInsertionSort_12 18 rfl rfl)
theorem dJ25_mixedInsertionSort_303 : decode cJ25_mixedInsertionSort 303 = .ok (.iinc 6 (-1), 3) := dk_132 6 255 (dk_at dksJ25_mixedInsertionSort_12 19 rfl rfl)
theorem dJ25_mixedInsertionSort_306 : decode cJ25_mixedInsertionSort 306 = .ok (.iload 6, 2) := dk_21 6 (dk_at dksJ25_mixedInsertionSort_12 22 rfl rfl)
theorem dJ25_mixedInsertionSort_308 : decode cJ25_mixedInsertionSort 308 = .ok (.laload, 1) := dk_47 (dk_at dksJ25_mixedInsertionSort_13 0 rfl rfl)
theorem dJ25_mixedInsertionSort_309 : decode cJ25_mixedInsertionSort 309 = .ok (.lcmp, 1) := dk_148 (dk_at dksJ25_mixedInsertionSort_13 1 rfl rfl)
theorem dJ25_mixedInsertionSort_310 : decode cJ25_mixedInsertionSort 310 = .ok (.ifCond .ge 16, 3) := dk_156 0 16 (dk_at dksJ25_mixedInsertionSort_13 2 rfl rfl)
theorem dJ25_mixedInsertionSort_313 : decode cJ25_mixedInsertionSort 313 = .ok (.aload_n 0, 1) := dk_42 (dk_at dksJ25_mixedInsertionSort_13 5 rfl rfl)
theorem dJ25_mixedInsertionSort_314 : decode cJ25_mixedInsertionSort 314 = .ok (.iload 6, 2) := dk_21 6 (dk_at dksJ25_mixedInsertionSort_13 6 rfl rfl)
theorem dJ25_mixedInsertionSort_316 : decode cJ25_mixedInsertionSort 316 = .ok (.iconst 1, 1) := dk_4 (dk_at dksJ25_mixedInsertionSort_13 8 rfl rfl)
theorem dJ25_mixedInsertionSort_317 : decode cJ25_mixedInsertionSort 317 = .ok (.iadd, 1) := dk_96 (dk_at dksJ25_mixedInsertionSort_13 9 rfl rfl)
theorem dJ25_mixedInsertionSort_318 : decode cJ25_mixedInsertionSort 318 = .ok (.aload_n 0, 1) := dk_42 (dk_at dksJ25_mixedInsertionSort_13 10 rfl rfl)
theorem dJ25_mixedInsertionSort_319 : decode cJ25_mixedInsertionSort 319 = .ok (.iload 6, 2) := dk_21 6 (dk_at dksJ25_mixedInsertionSort_13 11 rfl rfl)
theorem dJ25_mixedInsertionSort_321 : decode cJ25_mixedInsertionSort 321 = .ok (.laload, 1) := dk_47 (dk_at dksJ25_mixedInsertionSort_13 13 rfl rfl)
theorem dJ25_mixedInsertionSort_322 : decode cJ25_mixedInsertionSort 322 = .ok (.lastore, 1) := dk_80 (dk_at dksJ25_mixedInsertionSort_13 14 rfl rfl)
theorem dJ25_mixedInsertionSort_323 : decode cJ25_mixedInsertionSort 323 = .ok (.goto (-23), 3) := dk_167 255 233 (dk_at dksJ25_mixedInsertionSort_13 15 rfl rfl)
theorem dJ25_mixedInsertionSort_326 : decode cJ25_mixedInsertionSort 326 = .ok (.aload_n 0, 1) := dk_42 (dk_at dksJ25_mixedInsertionSort_13 18 rfl rfl)
theorem dJ25_mixedInsertionSort_327 : decode cJ25_mixedInsertionSort 327 = .ok (.iload 6, 2) := dk_21 6 (dk_at dksJ25_mixedInsertionSort_13 19 rfl rfl)
theorem dJ25_mixedInsertionSort_329 : decode cJ25_mixedInsertionSort 329 = .ok (.iconst 1, 1) := dk_4 (dk_at dksJ25_mixedInsertionSort_13 21 rfl rfl)
theorem dJ25_mixedInsertionSort_330 : decode cJ25_mixedInsertionSort 330 = .ok (.iadd, 1) := dk_96 (dk_at dksJ25_mixedInsertionSort_13 22 rfl rfl)
theorem dJ25_mixedInsertionSort_331 : decode cJ25_mixedInsertionSort 331 = .ok (.lload 9, 2) := dk_22 9 (dk_at dksJ25_mixedInsertionSort_14 0 rfl rfl)
theorem dJ25_mixedInsertionSort_333 : decode cJ25_mixedInsertionSort 333 = .ok (.lastore, 1) := dk_80 (dk_at dksJ25_mixedInsertionSort_14 2 rfl rfl)
theorem dJ25_mixedInsertionSort_334 : decode cJ25_mixedInsertionSort 334 = .ok (.goto 86, 3) := dk_167 0 86 (dk_at dksJ25_mixedInsertionSort_14 3 rfl rfl)
theorem dJ25_mixedInsertionSort_337 : decode cJ25_mixedInsertionSort 337 = .ok (.lload 7, 2) := dk_22 7 (dk_at dksJ25_mixedInsertionSort_14 6 rfl rfl)
theorem dJ25_mixedInsertionSort_339 : decode cJ25_mixedInsertionSort 339 = .ok (.aload_n 0, 1) := dk_42 (dk_at dksJ25_mixedInsertionSort_14 8 rfl rfl)
theorem dJ25_mixedInsertionSort_340 : decode cJ25_mixedInsertionSort 340 = .ok (.iload 6, 2) := dk_21 6 (dk_at dksJ25_mixedInsertionSort_14 9 rfl rfl)
theorem dJ25_mixedInsertionSort_342 : decode cJ25_mixedInsertionSort 342 = .ok (.iconst 1, 1) := dk_4 (dk_at dksJ25_mixedInsertionSort_14 11 rfl rfl)
theorem dJ25_mixedInsertionSort_343 : decode cJ25_mixedInsertionSort 343 = .ok (.isub, 1) := dk_100 (dk_at dksJ25_mixedInsertionSort_14 12 rfl rfl)
theorem dJ25_mixedInsertionSort_344 : decode cJ25_mixedInsertionSort 344 = .ok (.laload, 1) := dk_47 (dk_at dksJ25_mixedInsertionSort_14 13 rfl rfl)
theorem dJ25_mixedInsertionSort_345 : decode cJ25_mixedInsertionSort 345 = .ok (.lcmp, 1) := dk_148 (dk_at dksJ25_mixedInsertionSort_14 14 rfl rfl)
theorem dJ25_mixedInsertionSort_346 : decode cJ25_mixedInsertionSort 346 = .ok (.ifCond .ge 74, 3) := dk_156 0 74 (dk_at dksJ25_mixedInsertionSort_14 15 rfl rfl)
theorem dJ25_mixedInsertionSort_349 : decode cJ25_mixedInsertionSort 349 = .ok (.lload 9, 2) := dk_22 9 (dk_at dksJ25_mixedInsertionSort_14 18 rfl rfl)
theorem dJ25_mixedInsertionSort_351 : decode cJ25_mixedInsertionSort 351 = .ok (.aload_n 0, 1) := dk_42 (dk_at dksJ25_mixedInsertionSort_14 20 rfl rfl)
theorem dJ25_mixedInsertionSort_352 : decode cJ25_mixedInsertionSort 352 = .ok (.iinc 6 (-1), 3) := dk_132 6 255 (dk_at dksJ25_mixedInsertionSort_14 21 rfl rfl)
theorem dJ25_mixedInsertionSort_355 : decode cJ25_mixedInsertionSort 355 = .ok (.iload 6, 2) := dk_21 6 (dk_at dksJ25_mixedInsertionSort_15 0 rfl rfl)
theorem dJ25_mixedInsertionSort_357 : decode cJ25_mixedInsertionSort 357 = .ok (.laload, 1) := dk_47 (dk_at dksJ25_mixedInsertionSort_15 2 rfl rfl)
theorem dJ25_mixedInsertionSort_358 : decode cJ25_mixedInsertionSort 358 = .ok (.lcmp, 1) := dk_148 (dk_at dksJ25_mixedInsertionSort_15 3 rfl rfl)
theorem dJ25_mixedInsertionSort_359 : decode cJ25_mixedInsertionSort 359 = .ok (.ifCond .ge 16, 3) := dk_156 0 16 (dk_at dksJ25_mixedInsertionSort_15 4 rfl rfl)
theorem dJ25_mixedInsertionSort_362 : decode cJ25_mixedInsertionSort 362 = .ok (.aload_n 0, 1) := dk_42 (dk_at dksJ25_mixedInsertionSort_15 7 rfl rfl)
theorem dJ25_mixedInsertionSort_363 : decode cJ25_mixedInsertionSort 363 = .ok (.iload 6, 2) := dk_21 6 (dk_at dksJ25_mixedInsertionSort_15 8 rfl rfl)
theorem dJ25_mixedInsertionSort_365 : decode cJ25_mixedInsertionSort 365 = .ok (.iconst 2, 1) := dk_5 (dk_at dksJ25_mixedInsertionSort_15 10 rfl rfl)
theorem dJ25_mixedInsertionSort_366 : decode cJ25_mixedInsertionSort 366 = .ok (.iadd, 1) := dk_96 (dk_at dksJ25_mixedInsertionSort_15 11 rfl rfl)
theorem dJ25_mixedInsertionSort_367 : decode cJ25_mixedInsertionSort 367 = .ok (.aload_n 0, 1) := dk_42 (dk_at dksJ25_mixedInsertionSort_15 12 rfl rfl)
theorem dJ25_mixedInsertionSort_368 : decode cJ25_mixedInsertionSort 368 = .ok (.iload 6, 2) := dk_21 6 (dk_at dksJ25_mixedInsertionSort_15 13 rfl rfl)
theorem dJ25_mixedInsertionSort_370 : decode cJ25_mixedInsertionSort 370 = .ok (.laload, 1) := dk_47 (dk_at dksJ25_mixedInsertionSort_15 15 rfl rfl)
theorem dJ25_mixedInsertionSort_371 : decode cJ25_mixedInsertionSort 371 = .ok (.lastore, 1) := dk_80 (dk_at dksJ25_mixedInsertionSort_15 16 rfl rfl)
theorem dJ25_mixedInsertionSort_372 : decode cJ25_mixedInsertionSort 372 = .ok (.goto (-23), 3) := dk_167 255 233 (dk_at dksJ25_mixedInsertionSort_15 17 rfl rfl)
theorem dJ25_mixedInsertionSort_375 : decode cJ25_mixedInsertionSort 375 = .ok (.aload_n 0, 1) := dk_42 (dk_at dksJ25_mixedInsertionSort_15 20 rfl rfl)
theorem dJ25_mixedInsertionSort_376 : decode cJ25_mixedInsertionSort 376 = .ok (.iinc 6 1, 3) := dk_132 6 1 (dk_at dksJ25_mixedInsertionSort_15 21 rfl rfl)
theorem dJ25_mixedInsertionSort_379 : decode cJ25_mixedInsertionSort 379 = .ok (.iload 6, 2) := dk_21 6 (dk_at dksJ25_mixedInsertionSort_16 0 rfl rfl)
theorem dJ25_mixedInsertionSort_381 : decode cJ25_mixedInsertionSort 381 = .ok (.iconst 1, 1) := dk_4 (dk_at dksJ25_mixedInsertionSort_16 2 rfl rfl)
theorem dJ25_mixedInsertionSort_382 : decode cJ25_mixedInsertionSort 382 = .ok (.iadd, 1) := dk_96 (dk_at dksJ25_mixedInsertionSort_16 3 rfl rfl)
theorem dJ25_mixedInsertionSort_383 : decode cJ25_mixedInsertionSort 383 = .ok (.lload 9, 2) := dk_22 9 (dk_at dksJ25_mixedInsertionSort_16 4 rfl rfl)
theorem dJ25_mixedInsertionSort_385 : decode cJ25_mixedInsertionSort 385 = .ok (.lastore, 1) := dk_80 (dk_at dksJ25_mixedInsertionSort_16 6 rfl rfl)
theorem dJ25_mixedInsertionSort_386 : decode cJ25_mixedInsertionSort 386 = .ok (.lload 7, 2) := dk_22 7 (dk_at dksJ25_mixedInsertionSort_16 7 rfl rfl)
theorem dJ25_mixedInsertionSort_388 : decode cJ25_mixedInsertionSort 388 = .ok (.aload_n 0, 1) := dk_42 (dk_at dksJ25_mixedInsertionSort_16 9 rfl rfl)
theorem dJ25_mixedInsertionSort_389 : decode cJ25_mixedInsertionSort 389 = .ok (.iinc 6 (-1), 3) := dk_132 6 255 (dk_at dksJ25_mixedInsertionSort_16 10 rfl rfl)
theorem dJ25_mixedInsertionSort_392 : decode cJ25_mixedInsertionSort 392 = .ok (.iload 6, 2) := dk_21 6 (dk_at dksJ25_mixedInsertionSort_16 13 rfl rfl)
theorem dJ25_mixedInsertionSort_394 : decode cJ25_mixedInsertionSort 394 = .ok (.laload, 1) := dk_47 (dk_at dksJ25_mixedInsertionSort_16 15 rfl rfl)
theorem dJ25_mixedInsertionSort_395 : decode cJ25_mixedInsertionSort 395 = .ok (.lcmp, 1) := dk_148 (dk_at dksJ25_mixedInsertionSort_16 16 rfl rfl)
theorem dJ25_mixedInsertionSort_396 : decode cJ25_mixedInsertionSort 396 = .ok (.ifCond .ge 16, 3) := dk_156 0 16 (dk_at dksJ25_mixedInsertionSort_16 17 rfl rfl)
theorem dJ25_mixedInsertionSort_399 : decode cJ25_mixedInsertionSort 399 = .ok (.aload_n 0, 1) := dk_42 (dk_at dksJ25_mixedInsertionSort_16 20 rfl rfl)
theorem dJ25_mixedInsertionSort_400 : decode cJ25_mixedInsertionSort 400 = .ok (.iload 6, 2) := dk_21 6 (dk_at dksJ25_mixedInsertionSort_16 21 rfl rfl)
theorem dJ25_mixedInsertionSort_402 : decode cJ25_mixedInsertionSort 402 = .ok (.iconst 1, 1) := dk_4 (dk_at dksJ25_mixedInsertionSort_16 23 rfl rfl)
theorem dJ25_mixedInsertionSort_403 : decode cJ25_mixedInsertionSort 403 = .ok (.iadd, 1) := dk_96 (dk_at dksJ25_mixedInsertionSort_17 0 rfl rfl)
theorem dJ25_mixedInsertionSort_404 : decode cJ25_mixedInsertionSort 404 = .ok (.aload_n 0, 1) := dk_42 (dk_at dksJ25_mixedInsertionSort_17 1 rfl rfl)
theorem dJ25_mixedInsertionSort_405 : decode cJ25_mixedInsertionSort 405 = .ok (.iload 6, 2) := dk_21 6 (dk_at dksJ25_mixedInsertionSort_17 2 rfl rfl)
theorem dJ25_mixedInsertionSort_407 : decode cJ25_mixedInsertionSort 407 = .ok (.laload, 1) := dk_47 (dk_at dksJ25_mixedInsertionSort_17 4 rfl rfl)
theorem dJ25_mixedInsertionSort_408 : decode cJ25_mixedInsertionSort 408 = .ok (.lastore, 1) := dk_80 (dk_at dksJ25_mixedInsertionSort_17 5 rfl rfl)
theorem dJ25_mixedInsertionSort_409 : decode cJ25_mixedInsertionSort 409 = .ok (.goto (-23), 3) := dk_167 255 233 (dk_at dksJ25_mixedInsertionSort_17 6 rfl rfl)
theorem dJ25_mixedInsertionSort_412 : decode cJ25_mixedInsertionSort 412 = .ok (.aload_n 0, 1) := dk_42 (dk_at dksJ25_mixedInsertionSort_17 9 rfl rfl)
theorem dJ25_mixedInsertionSort_413 : decode cJ25_mixedInsertionSort 413 = .ok (.iload 6, 2) := dk_21 6 (dk_at dksJ25_mixedInsertionSort_17 10 rfl rfl)
theorem dJ25_mixedInsertionSort_415 : decode cJ25_mixedInsertionSort 415 = .ok (.iconst 1, 1) := dk_4 (dk_at dksJ25_mixedInsertionSort_17 12 rfl rfl)
theorem dJ25_mixedInsertionSort_416 : decode cJ25_mixedInsertionSort 416 = .ok (.iadd, 1) := dk_96 (dk_at dksJ25_mixedInsertionSort_17 13 rfl rfl)
theorem dJ25_mixedInsertionSort_417 : decode cJ25_mixedInsertionSort 417 = .ok (.lload 7, 2) := dk_22 7 (dk_at dksJ25_mixedInsertionSort_17 14 rfl rfl)
theorem dJ25_mixedInsertionSort_419 : decode cJ25_mixedInsertionSort 419 = .ok (.lastore, 1) := dk_80 (dk_at dksJ25_mixedInsertionSort_17 16 rfl rfl)
theorem dJ25_mixedInsertionSort_420 : decode cJ25_mixedInsertionSort 420 = .ok (.iinc 1 1, 3) := dk_132 1 1 (dk_at dksJ25_mixedInsertionSort_17 17 rfl rfl)
theorem dJ25_mixedInsertionSort_423 : decode cJ25_mixedInsertionSort 423 = .ok (.goto (-189), 3) := dk_167 255 67 (dk_at dksJ25_mixedInsertionSort_17 20 rfl rfl)
theorem dJ25_mixedInsertionSort_426 : decode cJ25_mixedInsertionSort 426 = .ok (.return_, 1) := dk_177 (dk_at dksJ25_mixedInsertionSort_17 23 rfl rfl)
abbrev cJ25_insertionSort : ByteArray := prog_78_method_15_code
def yJ25_insertionSort : MethodName := ⟨RJ25, "insertionSort", "([JII)V"⟩
def dkwJ25_insertionSort_2 : List UInt8 := [42, 29, 4, 96, 42, 29, 47, 80, 167, 255, 231, 42, 29, 4, 96, 22, 5, 80, 167, 255, 193, 177]
abbrev dktJ25_insertionSort_2 : List UInt8 := dkwJ25_insertionSort_2 ++ []
def dkwJ25_insertionSort_1 : List UInt8 := [4, 100, 47, 148, 156, 0, 38, 132, 3, 255, 29, 27, 161, 0, 23, 22, 5, 42, 29, 47, 148, 156, 0, 14]
abbrev dktJ25_insertionSort_1 : List UInt8 := dkwJ25_insertionSort_1 ++ dktJ25_insertionSort_2
def dkwJ25_insertionSort_0 : List UInt8 := [27, 54, 4, 132, 4, 1, 21, 4, 28, 162, 0, 60, 42, 21, 4, 89, 62, 47, 55, 5, 22, 5, 42, 29]
abbrev dktJ25_insertionSort_0 : List UInt8 := dkwJ25_insertionSort_0 ++ dktJ25_insertionSort_1
theorem dksJ25_insertionSort_0 : cJ25_insertionSort.data.toList.drop 0 = dktJ25_insertionSort_0 := by decide +kernel
theorem dksJ25_insertionSort_1 : cJ25_insertionSort.data.toList.drop 24 = dktJ25_insertionSort_1 := dk_seg dksJ25_insertionSort_0 24 rfl rfl
theorem dksJ25_insertionSort_2 : cJ25_insertionSort.data.toList.drop 48 = dktJ25_insertionSort_2 := dk_seg dksJ25_insertionSort_1 24 rfl rfl
theorem dJ25_insertionSort_0 : decode cJ25_insertionSort 0 = .ok (.iload_n 1, 1) := dk_27 (dk_at dksJ25_insertionSort_0 0 rfl rfl)
theorem dJ25_insertionSort_1 : decode cJ25_insertionSort 1 = .ok (.istore 4, 2) := dk_54 4 (dk_at dksJ25_insertionSort_0 1 rfl rfl)
theorem dJ25_insertionSort_3 : decode cJ25_insertionSort 3 = .ok (.iinc 4 1, 3) := dk_132 4 1 (dk_at dksJ25_insertionSort_0 3 rfl rfl)
theorem dJ25_insertionSort_6 : decode cJ25_insertionSort 6 = .ok (.iload 4, 2) := dk_21 4 (dk_at dksJ25_insertionSort_0 6 rfl rfl)
theorem dJ25_insertionSort_8 : decode cJ25_insertionSort 8 = .ok (.iload_n 2, 1) := dk_28 (dk_at dksJ25_insertionSort_0 8 rfl rfl)
theorem dJ25_insertionSort_9 : decode cJ25_insertionSort 9 = .ok (.if_icmp .ge 60, 3) := dk_162 0 60 (dk_at dksJ25_insertionSort_0 9 rfl rfl)
theorem dJ25_insertionSort_12 : decode cJ25_insertionSort 12 = .ok (.aload_n 0, 1) := dk_42 (dk_at dksJ25_insertionSort_0 12 rfl rfl)
theorem dJ25_insertionSort_13 : decode cJ25_insertionSort 13 = .ok (.iload 4, 2) := dk_21 4 (dk_at dksJ25_insertionSort_0 13 rfl rfl)
theorem dJ25_insertionSort_15 : decode cJ25_insertionSort 15 = .ok (.dup, 1) := dk_89 (dk_at dksJ25_insertionSort_0 15 rfl rfl)
theorem dJ25_insertionSort_16 : decode cJ25_insertionSort 16 = .ok (.istore_n 3, 1) := dk_62 (dk_at dksJ25_insertionSort_0 16 rfl rfl)
theorem dJ25_insertionSort_17 : decode cJ25_insertionSort 17 = .ok (.laload, 1) := dk_47 (dk_at dksJ25_insertionSort_0 17 rfl rfl)
theorem dJ25_insertionSort_18 : decode cJ25_insertionSort 18 = .ok (.lstore 5, 2) := dk_55 5 (dk_at dksJ25_insertionSort_0 18 rfl rfl)
theorem dJ25_insertionSort_20 : decode cJ25_insertionSort 20 = .ok (.lload 5, 2) := dk_22 5 (dk_at dksJ25_insertionSort_0 20 rfl rfl)
theorem dJ25_insertionSort_22 : decode cJ25_insertionSort 22 = .ok (.aload_n 0, 1) := dk_42 (dk_at dksJ25_insertionSort_0 22 rfl rfl)
theorem dJ25_insertionSort_23 : decode cJ25_insertionSort 23 = .ok (.iload_n 3, 1) := dk_29 (dk_at dksJ25_insertionSort_0 23 rfl rfl)
theorem dJ25_insertionSort_24 : decode cJ25_insertionSort 24 = .ok (.iconst 1, 1) := dk_4 (dk_at dksJ25_insertionSort_1 0 rfl rfl)
theorem dJ25_insertionSort_25 : decode cJ25_insertionSort 25 = .ok (.isub, 1) := dk_100 (dk_at dksJ25_insertionSort_1 1 rfl rfl)
theorem dJ25_insertionSort_26 : decode cJ25_insertionSort 26 = .ok (.laload, 1) := dk_47 (dk_at dksJ25_insertionSort_1 2 rfl rfl)
theorem dJ25_insertionSort_27 : decode cJ25_insertionSort 27 = .ok (.lcmp, 1) := dk_148 (dk_at dksJ25_insertionSort_1 3 rfl rfl)
theorem dJ25_insertionSort_28 : decode cJ25_insertionSort 28 = .ok (.ifCond .ge 38, 3) := dk_156 0 38 (dk_at dksJ25_insertionSort_1 4 rfl rfl)
theorem dJ25_insertionSort_31 : decode cJ25_insertionSort 31 = .ok (.iinc 3 (-1), 3) := dk_132 3 255 (dk_at dksJ25_insertionSort_1 7 rfl rfl)
theorem dJ25_insertionSort_34 : decode cJ25_insertionSort 34 = .ok (.iload_n 3, 1) := dk_29 (dk_at dksJ25_insertionSort_1 10 rfl rfl)
theorem dJ25_insertionSort_35 : decode cJ25_insertionSort 35 = .ok (.iload_n 1, 1) := dk_27 (dk_at dksJ25_insertionSort_1 11 rfl rfl)
theorem dJ25_insertionSort_36 : decode cJ25_insertionSort 36 = .ok (.if_icmp .lt 23, 3) := dk_161 0 23 (dk_at dksJ25_insertionSort_1 12 rfl rfl)
theorem dJ25_insertionSort_39 : decode cJ25_insertionSort 39 = .ok (.lload 5, 2) := dk_22 5 (dk_at dksJ25_insertionSort_1 15 rfl rfl)
theorem dJ25_insertionSort_41 : decode cJ25_insertionSort 41 = .ok (.aload_n 0, 1) := dk_42 (dk_at dksJ25_insertionSort_1 17 rfl rfl)
theorem dJ25_insertionSort_42 : decode cJ25_insertionSort 42 = .ok (.iload_n 3, 1) := dk_29 (dk_at dksJ25_insertionSort_1 18 rfl rfl)
theorem dJ25_insertionSort_43 : decode cJ25_insertionSort 43 = .ok (.laload, 1) := dk_47 (dk_at dksJ25_insertionSort_1 19 rfl rfl)
theorem dJ25_insertionSort_44 : decode cJ25_insertionSort 44 = .ok (.lcmp, 1) := dk_148 (dk_at dksJ25_insertionSort_1 20 rfl rfl)
theorem dJ25_insertionSort_45 : decode cJ25_insertionSort 45 = .ok (.ifCond .ge 14, 3) := dk_156 0 14 (dk_at dksJ25_insertionSort_1 21 rfl rfl)
theorem dJ25_insertionSort_48 : decode cJ25_insertionSort 48 = .ok (.aload_n 0, 1) := dk_42 (dk_at dksJ25_insertionSort_2 0 rfl rfl)
theorem dJ25_insertionSort_49 : decode cJ25_insertionSort 49 = .ok (.iload_n 3, 1) := dk_29 (dk_at dksJ25_insertionSort_2 1 rfl rfl)
theorem dJ25_insertionSort_50 : decode cJ25_insertionSort 50 = .ok (.iconst 1, 1) := dk_4 (dk_at dksJ25_insertionSort_2 2 rfl rfl)
theorem dJ25_insertionSort_51 : decode cJ25_insertionSort 51 = .ok (.iadd, 1) := dk_96 (dk_at dksJ25_insertionSort_2 3 rfl rfl)
theorem dJ25_insertionSort_52 : decode cJ25_insertionSort 52 = .ok (.aload_n 0, 1) := dk_42 (dk_at dksJ25_insertionSort_2 4 rfl rfl)
theorem dJ25_insertionSort_53 : decode cJ25_insertionSort 53 = .ok (.iload_n 3, 1) := dk_29 (dk_at dksJ25_insertionSort_2 5 rfl rfl)
theorem dJ25_insertionSort_54 : decode cJ25_insertionSort 54 = .ok (.laload, 1) := dk_47 (dk_at dksJ25_insertionSort_2 6 rfl rfl)
theorem dJ25_insertionSort_55 : decode cJ25_insertionSort 55 = .ok (.lastore, 1) := dk_80 (dk_at dksJ25_insertionSort_2 7 rfl rfl)
theorem dJ25_insertionSort_56 : decode cJ25_insertionSort 56 = .ok (.goto (-25), 3) := dk_167 255 231 (dk_at dksJ25_insertionSort_2 8 rfl rfl)
theorem dJ25_insertionSort_59 : decode cJ25_insertionSort 59 = .ok (.aload_n 0, 1) := dk_42 (dk_at dksJ25_insertionSort_2 11 rfl rfl)
theorem dJ25_insertionSort_60 : decode cJ25_insertionSort 60 = .ok (.iload_n 3, 1) := dk_29 (dk_at dksJ25_insertionSort_2 12 rfl rfl)
theorem dJ25_insertionSort_61 : decode cJ25_insertionSort 61 = .ok (.iconst 1, 1) := dk_4 (dk_at dksJ25_insertionSort_2 13 rfl rfl)
theorem dJ25_insertionSort_62 : decode cJ25_insertionSort 62 = .ok (.iadd, 1) := dk_96 (dk_at dksJ25_insertionSort_2 14 rfl rfl)
theorem dJ25_insertionSort_63 : decode cJ25_insertionSort 63 = .ok (.lload 5, 2) := dk_22 5 (dk_at dksJ25_insertionSort_2 15 rfl rfl)
theorem dJ25_insertionSort_65 : decode cJ25_insertionSort 65 = .ok (.lastore, 1) := dk_80 (dk_at dksJ25_insertionSort_2 17 rfl rfl)
theorem dJ25_insertionSort_66 : decode cJ25_insertionSort 66 = .ok (.goto (-63), 3) := dk_167 255 193 (dk_at dksJ25_insertionSort_2 18 rfl rfl)
theorem dJ25_insertionSort_69 : decode cJ25_insertionSort 69 = .ok (.return_, 1) := dk_177 (dk_at dksJ25_insertionSort_2 21 rfl rfl)
abbrev cJ25_tryMergeRuns : ByteArray := prog_78_method_18_code
def yJ25_tryMergeRuns : MethodName := ⟨RJ25, "tryMergeRuns", "(Ljava/util/DualPivotQuicksort$Sorter;[JII)Z"⟩
def dkwJ25_tryMergeRuns_16 : List UInt8 := [4, 42, 198, 0, 7, 4, 167, 0, 4, 3, 25, 4, 3, 21, 6, 184, 0, 118, 87, 4, 172]
abbrev dktJ25_tryMergeRuns_16 : List UInt8 := dkwJ25_tryMergeRuns_16 ++ []
def dkwJ25_tryMergeRuns_15 : List UInt8 := [58, 8, 199, 0, 11, 29, 188, 11, 58, 8, 167, 0, 9, 42, 180, 0, 65, 54, 9, 43, 25, 8, 21, 9]
abbrev dktJ25_tryMergeRuns_15 : List UInt8 := dkwJ25_tryMergeRuns_15 ++ dktJ25_tryMergeRuns_16
def dkwJ25_tryMergeRuns_14 : List UInt8 := [167, 254, 205, 21, 6, 4, 164, 0, 61, 28, 54, 9, 42, 198, 0, 16, 42, 180, 0, 59, 192, 0, 116, 89]
abbrev dktJ25_tryMergeRuns_14 : List UInt8 := dkwJ25_tryMergeRuns_14 ++ dktJ25_tryMergeRuns_15
def dkwJ25_tryMergeRuns_13 : List UInt8 := [160, 0, 14, 25, 4, 21, 6, 4, 120, 184, 0, 53, 58, 4, 25, 4, 21, 6, 21, 8, 89, 54, 7, 79]
abbrev dktJ25_tryMergeRuns_13 : List UInt8 := dkwJ25_tryMergeRuns_13 ++ dktJ25_tryMergeRuns_14
def dkwJ25_tryMergeRuns_12 : List UInt8 := [164, 0, 5, 3, 172, 132, 6, 1, 21, 6, 17, 20, 0, 160, 0, 5, 3, 172, 21, 6, 25, 4, 190]
abbrev dktJ25_tryMergeRuns_12 : List UInt8 := dkwJ25_tryMergeRuns_12 ++ dktJ25_tryMergeRuns_13
def dkwJ25_tryMergeRuns_11 : List UInt8 := [21, 7, 4, 100, 47, 43, 21, 7, 47, 148, 158, 0, 49, 21, 6, 21, 8, 28, 100, 16, 7, 122]
abbrev dktJ25_tryMergeRuns_11 : List UInt8 := dkwJ25_tryMergeRuns_11 ++ dktJ25_tryMergeRuns_12
def dkwJ25_tryMergeRuns_10 : List UInt8 := [16, 10, 122, 16, 127, 128, 17, 3, 255, 126, 188, 10, 58, 4, 25, 4, 3, 28, 79, 167, 0, 63, 43]
abbrev dktJ25_tryMergeRuns_10 : List UInt8 := dkwJ25_tryMergeRuns_10 ++ dktJ25_tryMergeRuns_11
def dkwJ25_tryMergeRuns_9 : List UInt8 := [199, 0, 46, 21, 8, 21, 5, 160, 0, 5, 4, 172, 21, 8, 28, 100, 16, 16, 162, 0, 5, 3, 172, 29]
abbrev dktJ25_tryMergeRuns_9 : List UInt8 := dkwJ25_tryMergeRuns_9 ++ dktJ25_tryMergeRuns_10
def dkwJ25_tryMergeRuns_8 : List UInt8 := [43, 21, 8, 47, 148, 154, 0, 6, 167, 255, 236, 21, 8, 21, 5, 162, 0, 6, 167, 255, 70, 25, 4]
abbrev dktJ25_tryMergeRuns_8 : List UInt8 := dkwJ25_tryMergeRuns_8 ++ dktJ25_tryMergeRuns_9
def dkwJ25_tryMergeRuns_7 : List UInt8 := [167, 255, 211, 167, 0, 42, 43, 21, 8, 47, 55, 9, 132, 8, 1, 21, 8, 21, 5, 162, 0, 16, 22, 9]
abbrev dktJ25_tryMergeRuns_7 : List UInt8 := dkwJ25_tryMergeRuns_7 ++ dktJ25_tryMergeRuns_8
def dkwJ25_tryMergeRuns_6 : List UInt8 := [158, 0, 26, 43, 21, 9, 47, 55, 11, 43, 21, 9, 43, 21, 10, 47, 80, 43, 21, 10, 22, 11, 80]
abbrev dktJ25_tryMergeRuns_6 : List UInt8 := dkwJ25_tryMergeRuns_6 ++ dktJ25_tryMergeRuns_7
def dkwJ25_tryMergeRuns_5 : List UInt8 := [132, 9, 1, 21, 9, 132, 10, 255, 21, 10, 162, 0, 38, 43, 21, 9, 47, 43, 21, 10, 47, 148]
abbrev dktJ25_tryMergeRuns_5 : List UInt8 := dkwJ25_tryMergeRuns_5 ++ dktJ25_tryMergeRuns_6
def dkwJ25_tryMergeRuns_4 : List UInt8 := [100, 47, 43, 21, 8, 47, 148, 155, 0, 6, 167, 255, 232, 21, 7, 4, 100, 54, 9, 21, 8, 54, 10]
abbrev dktJ25_tryMergeRuns_4 : List UInt8 := dkwJ25_tryMergeRuns_4 ++ dktJ25_tryMergeRuns_5
def dkwJ25_tryMergeRuns_3 : List UInt8 := [100, 47, 43, 21, 8, 47, 148, 158, 0, 91, 132, 8, 1, 21, 8, 21, 5, 162, 0, 20, 43, 21, 8, 4]
abbrev dktJ25_tryMergeRuns_3 : List UInt8 := dkwJ25_tryMergeRuns_3 ++ dktJ25_tryMergeRuns_4
def dkwJ25_tryMergeRuns_2 : List UInt8 := [162, 0, 161, 43, 21, 8, 4, 100, 47, 43, 21, 8, 47, 148, 157, 0, 147, 167, 255, 232, 43, 21, 8, 4]
abbrev dktJ25_tryMergeRuns_2 : List UInt8 := dkwJ25_tryMergeRuns_2 ++ dktJ25_tryMergeRuns_3
def dkwJ25_tryMergeRuns_1 : List UInt8 := [162, 1, 50, 43, 21, 8, 4, 100, 47, 43, 21, 8, 47, 148, 156, 0, 30, 132, 8, 1, 21, 8, 21, 5]
abbrev dktJ25_tryMergeRuns_1 : List UInt8 := dkwJ25_tryMergeRuns_1 ++ dktJ25_tryMergeRuns_2
def dkwJ25_tryMergeRuns_0 : List UInt8 := [1, 58, 4, 28, 29, 96, 54, 5, 4, 54, 6, 28, 54, 7, 28, 4, 96, 54, 8, 21, 8, 21, 5]
abbrev dktJ25_tryMergeRuns_0 : List UInt8 := dkwJ25_tryMergeRuns_0 ++ dktJ25_tryMergeRuns_1
theorem dksJ25_tryMergeRuns_0 : cJ25_tryMergeRuns.data.toList.drop 0 = dktJ25_tryMergeRuns_0 := by decide +kernel
theorem dksJ25_tryMergeRuns_1 : cJ25_tryMergeRuns.data.toList.drop 23 = dktJ25_tryMergeRuns_1 := dk_seg dksJ25_tryMergeRuns_0 23 rfl rfl
theorem dksJ25_tryMergeRuns_2 : cJ25_tryMergeRuns.data.toList.drop 47 = dktJ25_tryMergeRuns_2 := dk_seg dksJ25_tryMergeRuns_1 24 rfl rfl
theorem dksJ25_tryMergeRuns_3 : cJ25_tryMergeRuns.data.toList.drop 71 = dktJ25_tryMergeRuns_3 := dk_seg dksJ25_tryMergeRuns_2 24 rfl rfl
theorem dksJ25_tryMergeRuns_4 : cJ25_tryMergeRuns.data.toList.drop 95 = dktJ25_tryMergeRuns_4 := dk_seg dksJ25_tryMergeRuns_3 24 rfl rfl
theorem dksJ25_tryMergeRuns_5 : cJ25_tryMergeRuns.data.toList.drop 118 = dktJ25_tryMergeRuns_5 := dk_seg dksJ25_tryMergeRuns_4 23 rfl rfl
theorem dksJ25_tryMergeRuns_6 : cJ25_tryMergeRuns.data.toList.drop 140 = dktJ25_tryMergeRuns_6 := dk_seg dksJ25_tryMergeRuns_5 22 rfl rfl
theorem dksJ25_tryMergeRuns_7 : cJ25_tryMergeRuns.data.toList.drop 163 = dktJ25_tryMergeRuns_7 := dk_seg dksJ25_tryMergeRuns_6 23 rfl rfl
theorem dksJ25_tryMergeRuns_8 : cJ25_tryMergeRuns.data.toList.drop 187 = dktJ25_tryMergeRuns_8 := dk_seg dksJ25_tryMergeRuns_7 24 rfl rfl
theorem dksJ25_tryMergeRuns_9 : cJ25_tryMergeRuns.data.toList.drop 210 = dktJ25_tryMergeRuns_9 := dk_seg dksJ25_tryMergeRuns_8 23 rfl rfl
theorem dksJ25_tryMergeRuns_10 : cJ25_tryMergeRuns.data.toList.drop 234 = dktJ25_tryMergeRuns_10 := dk_seg dksJ25_tryMergeRuns_9 24 rfl rfl
theorem dksJ25_tryMergeRuns_11 : cJ25_tryMergeRuns.data.toList.drop 257 = dktJ25_tryMergeRuns_11 := dk_seg dksJ25_tryMergeRuns_10 23 rfl rfl
theorem dksJ25_tryMergeRuns_12 : cJ25_tryMergeRuns.data.toList.drop 279 = dktJ25_tryMergeRuns_12 := dk_seg dksJ25_tryMergeRuns_11 22 rfl rfl
theorem dksJ25_tryMergeRuns_13 : cJ25_tryMergeRuns.data.toList.drop 302 = dktJ25_tryMergeRuns_13 := dk_seg dksJ25_tryMergeRuns_12 23 rfl rfl
theorem dksJ25_tryMergeRuns_14 : cJ25_tryMergeRuns.data.toList.drop 326 = dktJ25_tryMergeRuns_14 := dk_seg dksJ25_tryMergeRuns_13 24 rfl rfl
theorem dksJ25_tryMergeRuns_15 : cJ25_tryMergeRuns.data.toList.drop 350 = dktJ25_tryMergeRuns_15 := dk_seg dksJ25_tryMergeRuns_14 24 rfl rfl
theorem dksJ25_tryMergeRuns_16 : cJ25_tryMergeRuns.data.toList.drop 374 = dktJ25_tryMergeRuns_16 := dk_seg dksJ25_tryMergeRuns_15 24 rfl rfl
theorem dJ25_tryMergeRuns_0 : decode cJ25_tryMergeRuns 0 = .ok (.aconst_null, 1) := dk_1 (dk_at dksJ25_tryMergeRuns_0 0 rfl rfl)
theorem dJ25_tryMergeRuns_1 : decode cJ25_tryMergeRuns 1 = .ok (.astore 4, 2) := dk_58 4 (dk_at dksJ25_tryMergeRuns_0 1 rfl rfl)
theorem dJ25_tryMergeRuns_3 : decode cJ25_tryMergeRuns 3 = .ok (.iload_n 2, 1) := dk_28 (dk_at dksJ25_tryMergeRuns_0 3 rfl rfl)
theorem dJ25_tryMergeRuns_4 : decode cJ25_tryMergeRuns 4 = .ok (.iload_n 3, 1) := dk_29 (dk_at dksJ25_tryMergeRuns_0 4 rfl rfl)
theorem dJ25_tryMergeRuns_5 : decode cJ25_tryMergeRuns 5 = .ok (.iadd, 1) := dk_96 (dk_at dksJ25_tryMergeRuns_0 5 rfl rfl)
theorem dJ25_tryMergeRuns_6 : decode cJ25_tryMergeRuns 6 = .ok (.istore 5, 2) := dk_54 5 (dk_at dksJ25_tryMergeRuns_0 6 rfl rfl)
theorem dJ25_tryMergeRuns_8 : decode cJ25_tryMergeRuns 8 = .ok (.iconst 1, 1) := dk_4 (dk_at dksJ25_tryMergeRuns_0 8 rfl rfl)
theorem dJ25_tryMergeRuns_9 : decode cJ25_tryMergeRuns 9 = .ok (.istore 6, 2) := dk_54 6 (dk_at dksJ25_tryMergeRuns_0 9 rfl rfl)
theorem dJ25_tryMergeRuns_11 : decode cJ25_tryMergeRuns 11 = .ok (.iload_n 2, 1) := dk_28 (dk_at dksJ25_tryMergeRuns_0 11 rfl rfl)
theorem dJ25_tryMergeRuns_12 : decode cJ25_tryMergeRuns 12 = .ok (.istore 7, 2) := dk_54 7 (dk_at dksJ25_tryMergeRuns_0 12 rfl rfl)
theorem dJ25_tryMergeRuns_14 : decode cJ25_tryMergeRuns 14 = .ok (.iload_n 2, 1) := dk_28 (dk_at dksJ25_tryMergeRuns_0 14 rfl rfl)
theorem dJ25_tryMergeRuns_15 : decode cJ25_tryMergeRuns 15 = .ok (.iconst 1, 1) := dk_4 (dk_at dksJ25_tryMergeRuns_0 15 rfl rfl)
theorem dJ25_tryMergeRuns_16 : decode cJ25_tryMergeRuns 16 = .ok (.iadd, 1) := dk_96 (dk_at dksJ25_tryMergeRuns_0 16 rfl rfl)
theorem dJ25_tryMergeRuns_17 : decode cJ25_tryMergeRuns 17 = .ok (.istore 8, 2) := dk_54 8 (dk_at dksJ25_tryMergeRuns_0 17 rfl rfl)
theorem dJ25_tryMergeRuns_19 : decode cJ25_tryMergeRuns 19 = .ok (.iload 8, 2) := dk_21 8 (dk_at dksJ25_tryMergeRuns_0 19 rfl rfl)
theorem dJ25_tryMergeRuns_21 : decode cJ25_tryMergeRuns 21 = .ok (.iload 5, 2) := dk_21 5 (dk_at dksJ25_tryMergeRuns_0 21 rfl rfl)
theorem dJ25_tryMergeRuns_23 : decode cJ25_tryMergeRuns 23 = .ok (.if_icmp .ge 306, 3) := dk_162 1 50 (dk_at dksJ25_tryMergeRuns_1 0 rfl rfl)
theorem dJ25_tryMergeRuns_26 : decode cJ25_tryMergeRuns 26 = .ok (.aload_n 1, 1) := dk_43 (dk_at dksJ25_tryMergeRuns_1 3 rfl rfl)
theorem dJ25_tryMergeRuns_27 : decode cJ25_tryMergeRuns 27 = .ok (.iload 8, 2) := dk_21 8 (dk_at dksJ25_tryMergeRuns_1 4 rfl rfl)
theorem dJ25_tryMergeRuns_29 : decode cJ25_tryMergeRuns 29 = .ok (.iconst 1, 1) := dk_4 (dk_at dksJ25_tryMergeRuns_1 6 rfl rfl)
theorem dJ25_tryMergeRuns_30 : decode cJ25_tryMergeRuns 30 = .ok (.isub, 1) := dk_100 (dk_at dksJ25_tryMergeRuns_1 7 rfl rfl)
theorem dJ25_tryMergeRuns_31 : decode cJ25_tryMergeRuns 31 = .ok (.laload, 1) := dk_47 (dk_at dksJ25_tryMergeRuns_1 8 rfl rfl)
theorem dJ25_tryMergeRuns_32 : decode cJ25_tryMergeRuns 32 = .ok (.aload_n 1, 1) := dk_43 (dk_at dksJ25_tryMergeRuns_1 9 rfl rfl)
theorem dJ25_tryMergeRuns_33 : decode cJ25_tryMergeRuns 33 = .ok (.iload 8, 2) := dk_21 8 (dk_at dksJ25_tryMergeRuns_1 10 rfl rfl)
theorem dJ25_tryMergeRuns_35 : decode cJ25_tryMergeRuns 35 = .ok (.laload, 1) := dk_47 (dk_at dksJ25_tryMergeRuns_1 12 rfl rfl)
theorem dJ25_tryMergeRuns_36 : decode cJ25_tryMergeRuns 36 = .ok (.lcmp, 1) := dk_148 (dk_at dksJ25_tryMergeRuns_1 13 rfl rfl)
theorem dJ25_tryMergeRuns_37 : decode cJ25_tryMergeRuns 37 = .ok (.ifCond .ge 30, 3) := dk_156 0 30 (dk_at dksJ25_tryMergeRuns_1 14 rfl rfl)
theorem dJ25_tryMergeRuns_40 : decode cJ25_tryMergeRuns 40 = .ok (.iinc 8 1, 3) := dk_132 8 1 (dk_at dksJ25_tryMergeRuns_1 17 rfl rfl)
theorem dJ25_tryMergeRuns_43 : decode cJ25_tryMergeRuns 43 = .ok (.iload 8, 2) := dk_21 8 (dk_at dksJ25_tryMergeRuns_1 20 rfl rfl)
theorem dJ25_tryMergeRuns_45 : decode cJ25_tryMergeRuns 45 = .ok (.iload 5, 2) := dk_21 5 (dk_at dksJ25_tryMergeRuns_1 22 rfl rfl)
theorem dJ25_tryMergeRuns_47 : decode cJ25_tryMergeRuns 47 = .ok (.if_icmp .ge 161, 3) := dk_162 0 161 (dk_at dksJ25_tryMergeRuns_2 0 rfl rfl)
theorem dJ25_tryMergeRuns_50 : decode cJ25_tryMergeRuns 50 = .ok (.aload_n 1, 1) := dk_43 (dk_at dksJ25_tryMergeRuns_2 3 rfl rfl)
theorem dJ25_tryMergeRuns_51 : decode cJ25_tryMergeRuns 51 = .ok (.iload 8, 2) := dk_21 8 (dk_at dksJ25_tryMergeRuns_2 4 rfl rfl)
theorem dJ25_tryMergeRuns_53 : decode cJ25_tryMergeRuns 53 = .ok (.iconst 1, 1) := dk_4 (dk_at dksJ25_tryMergeRuns_2 6 rfl rfl)
theorem dJ25_tryMergeRuns_54 : decode cJ25_tryMergeRuns 54 = .ok (.isub, 1) := dk_100 (dk_at dksJ25_tryMergeRuns_2 7 rfl rfl)
theorem dJ25_tryMergeRuns_55 : decode cJ25_tryMergeRuns 55 = .ok (.laload, 1) := dk_47 (dk_at dksJ25_tryMergeRuns_2 8 rfl rfl)
theorem dJ25_tryMergeRuns_56 : decode cJ25_tryMergeRuns 56 = .ok (.aload_n 1, 1) := dk_43 (dk_at dksJ25_tryMergeRuns_2 9 rfl rfl)
theorem dJ25_tryMergeRuns_57 : decode cJ25_tryMergeRuns 57 = .ok (.iload 8, 2) := dk_21 8 (dk_at dksJ25_tryMergeRuns_2 10 rfl rfl)
theorem dJ25_tryMergeRuns_59 : decode cJ25_tryMergeRuns 59 = .ok (.laload, 1) := dk_47 (dk_at dksJ25_tryMergeRuns_2 12 rfl rfl)
theorem dJ25_tryMergeRuns_60 : decode cJ25_tryMergeRuns 60 = .ok (.lcmp, 1) := dk_148 (dk_at dksJ25_tryMergeRuns_2 13 rfl rfl)
theorem dJ25_tryMergeRuns_61 : decode cJ25_tryMergeRuns 61 = .ok (.ifCond .gt 147, 3) := dk_157 0 147 (dk_at dksJ25_tryMergeRuns_2 14 rfl rfl)
theorem dJ25_tryMergeRuns_64 : decode cJ25_tryMergeRuns 64 = .ok (.goto (-24), 3) := dk_167 255 232 (dk_at dksJ25_tryMergeRuns_2 17 rfl rfl)
theorem dJ25_tryMergeRuns_67 : decode cJ25_tryMergeRuns 67 = .ok (.aload_n 1, 1) := dk_43 (dk_at dksJ25_tryMergeRuns_2 20 rfl rfl)
theorem dJ25_tryMergeRuns_68 : decode cJ25_tryMergeRuns 68 = .ok (.iload 8, 2) := dk_21 8 (dk_at dksJ25_tryMergeRuns_2 21 rfl rfl)
theorem dJ25_tryMergeRuns_70 : decode cJ25_tryMergeRuns 70 = .ok (.iconst 1, 1) := dk_4 (dk_at dksJ25_tryMergeRuns_2 23 rfl rfl)
theorem dJ25_tryMergeRuns_71 : decode cJ25_tryMergeRuns 71 = .ok (.isub, 1) := dk_100 (dk_at dksJ25_tryMergeRuns_3 0 rfl rfl)
theorem dJ25_tryMergeRuns_72 : decode cJ25_tryMergeRuns 72 = .ok (.laload, 1) := dk_47 (dk_at dksJ25_tryMergeRuns_3 1 rfl rfl)
theorem dJ25_tryMergeRuns_73 : decode cJ25_tryMergeRuns 73 = .ok (.aload_n 1, 1) := dk_43 (dk_at dksJ25_tryMergeRuns_3 2 rfl rfl)
theorem dJ25_tryMergeRuns_74 : decode cJ25_tryMergeRuns 74 = .ok (.iload 8, 2) := dk_21 8 (dk_at dksJ25_tryMergeRuns_3 3 rfl rfl)
theorem dJ25_tryMergeRuns_76 : decode cJ25_tryMergeRuns 76 = .ok (.laload, 1) := dk_47 (dk_at dksJ25_tryMergeRuns_3 5 rfl rfl)
theorem dJ25_tryMergeRuns_77 : decode cJ25_tryMergeRuns 77 = .ok (.lcmp, 1) := dk_148 (dk_at dksJ25_tryMergeRuns_3 6 rfl rfl)
theorem dJ25_tryMergeRuns_78 : decode cJ25_tryMergeRuns 78 = .ok (.ifCond .le 91, 3) := dk_158 0 91 (dk_at dksJ25_tryMergeRuns_3 7 rfl rfl)
theorem dJ25_tryMergeRuns_81 : decode cJ25_tryMergeRuns 81 = .ok (.iinc 8 1, 3) := dk_132 8 1 (dk_at dksJ25_tryMergeRuns_3 10 rfl rfl)
theorem dJ25_tryMergeRuns_84 : decode cJ25_tryMergeRuns 84 = .ok (.iload 8, 2) := dk_21 8 (dk_at dksJ25_tryMergeRuns_3 13 rfl rfl)
theorem dJ25_tryMergeRuns_86 : decode cJ25_tryMergeRuns 86 = .ok (.iload 5, 2) := dk_21 5 (dk_at dksJ25_tryMergeRuns_3 15 rfl rfl)
theorem dJ25_tryMergeRuns_88 : decode cJ25_tryMergeRuns 88 = .ok (.if_icmp .ge 20, 3) := dk_162 0 20 (dk_at dksJ25_tryMergeRuns_3 17 rfl rfl)
theorem dJ25_tryMergeRuns_91 : decode cJ25_tryMergeRuns 91 = .ok (.aload_n 1, 1) := dk_43 (dk_at dksJ25_tryMergeRuns_3 20 rfl rfl)
theorem dJ25_tryMergeRuns_92 : decode cJ25_tryMergeRuns 92 = .ok (.iload 8, 2) := dk_21 8 (dk_at dksJ25_tryMergeRuns_3 21 rfl rfl)
theorem dJ25_tryMergeRuns_94 : decode cJ25_tryMergeRuns 94 = .ok (.iconst 1, 1) := dk_4 (dk_at dksJ25_tryMergeRuns_3 23 rfl rfl)
theorem dJ25_tryMergeRuns_95 : decode cJ25_tryMergeRuns 95 = .ok (.isub, 1) := dk_100 (dk_at dksJ25_tryMergeRuns_4 0 rfl rfl)
theorem dJ25_tryMergeRuns_96 : decode cJ25_tryMergeRuns 96 = .ok (.laload, 1) := dk_47 (dk_at dksJ25_tryMergeRuns_4 1 rfl rfl)
theorem dJ25_tryMergeRuns_97 : decode cJ25_tryMergeRuns 97 = .ok (.aload_n 1, 1) := dk_43 (dk_at dksJ25_tryMergeRuns_4 2 rfl rfl)
theorem dJ25_tryMergeRuns_98 : decode cJ25_tryMergeRuns 98 = .ok (.iload 8, 2) := dk_21 8 (dk_at dksJ25_tryMergeRuns_4 3 rfl rfl)
theorem dJ25_tryMergeRuns_100 : decode cJ25_tryMergeRuns 100 = .ok (.laload, 1) := dk_47 (dk_at dksJ25_tryMergeRuns_4 5 rfl rfl)
theorem dJ25_tryMergeRuns_101 : decode cJ25_tryMergeRuns 101 = .ok (.lcmp, 1) := dk_148 (dk_at dksJ25_tryMergeRuns_4 6 rfl rfl)
theorem dJ25_tryMergeRuns_102 : decode cJ25_tryMergeRuns 102 = .ok (.ifCond .lt 6, 3) := dk_155 0 6 (dk_at dksJ25_tryMergeRuns_4 7 rfl rfl)
theorem dJ25_tryMergeRuns_105 : decode cJ25_tryMergeRuns 105 = .ok (.goto (-24), 3) := dk_167 255 232 (dk_at dksJ25_tryMergeRuns_4 10 rfl rfl)
theorem dJ25_tryMergeRuns_108 : decode cJ25_tryMergeRuns 108 = .ok (.iload 7, 2) := dk_21 7 (dk_at dksJ25_tryMergeRuns_4 13 rfl rfl)
theorem dJ25_tryMergeRuns_110 : decode cJ25_tryMergeRuns 110 = .ok (.iconst 1, 1) := dk_4 (dk_at dksJ25_tryMergeRuns_4 15 rfl rfl)
theorem dJ25_tryMergeRuns_111 : decode cJ25_tryMergeRuns 111 = .ok (.isub, 1) := dk_100 (dk_at dksJ25_tryMergeRuns_4 16 rfl rfl)
theorem dJ25_tryMergeRuns_112 : decode cJ25_tryMergeRuns 112 = .ok (.istore 9, 2) := dk_54 9 (dk_at dksJ25_tryMergeRuns_4 17 rfl rfl)
theorem dJ25_tryMergeRuns_114 : decode cJ25_tryMergeRuns 114 = .ok (.iload 8, 2) := dk_21 8 (dk_at dksJ25_tryMergeRuns_4 19 rfl rfl)
theorem dJ25_tryMergeRuns_116 : decode cJ25_tryMergeRuns 116 = .ok (.istore 10, 2) := dk_54 10 (dk_at dksJ25_tryMergeRuns_4 21 rfl rfl)
theorem dJ25_tryMergeRuns_118 : decode cJ25_tryMergeRuns 118 = .ok (.iinc 9 1, 3) := dk_132 9 1 (dk_at dksJ25_tryMergeRuns_5 0 rfl rfl)
theorem dJ25_tryMergeRuns_121 : decode cJ25_tryMergeRuns 121 = .ok (.iload 9, 2) := dk_21 9 (dk_at dksJ25_tryMergeRuns_5 3 rfl rfl)
theorem dJ25_tryMergeRuns_123 : decode cJ25_tryMergeRuns 123 = .ok (.iinc 10 (-1), 3) := dk_132 10 255 (dk_at dksJ25_tryMergeRuns_5 5 rfl rfl)
theorem dJ25_tryMergeRuns_126 : decode cJ25_tryMergeRuns 126 = .ok (.iload 10, 2) := dk_21 10 (dk_at dksJ25_tryMergeRuns_5 8 rfl rfl)
theorem dJ25_tryMergeRuns_128 : decode cJ25_tryMergeRuns 128 = .ok (.if_icmp .ge 38, 3) := dk_162 0 38 (dk_at dksJ25_tryMergeRuns_5 10 rfl rfl)
theorem dJ25_tryMergeRuns_131 : decode cJ25_tryMergeRuns 131 = .ok (.aload_n 1, 1) := dk_43 (dk_at dksJ25_tryMergeRuns_5 13 rfl rfl)
theorem dJ25_tryMergeRuns_132 : decode cJ25_tryMergeRuns 132 = .ok (.iload 9, 2) := dk_21 9 (dk_at dksJ25_tryMergeRuns_5 14 rfl rfl)
theorem dJ25_tryMergeRuns_134 : decode cJ25_tryMergeRuns 134 = .ok (.laload, 1) := dk_47 (dk_at dksJ25_tryMergeRuns_5 16 rfl rfl)
theorem dJ25_tryMergeRuns_135 : decode cJ25_tryMergeRuns 135 = .ok (.aload_n 1, 1) := dk_43 (dk_at dksJ25_tryMergeRuns_5 17 rfl rfl)
theorem dJ25_tryMergeRuns_136 : decode cJ25_tryMergeRuns 136 = .ok (.iload 10, 2) := dk_21 10 (dk_at dksJ25_tryMergeRuns_5 18 rfl rfl)
theorem dJ25_tryMergeRuns_138 : decode cJ25_tryMergeRuns 138 = .ok (.laload, 1) := dk_47 (dk_at dksJ25_tryMergeRuns_5 20 rfl rfl)
theorem dJ25_tryMergeRuns_139 : decode cJ25_tryMergeRuns 139 = .ok (.lcmp, 1) := dk_148 (dk_at dksJ25_tryMergeRuns_5 21 rfl rfl)
theorem dJ25_tryMergeRuns_140 : decode cJ25_tryMergeRuns 140 = .ok (.ifCond .le 26, 3) := dk_158 0 26 (dk_at dksJ25_tryMergeRuns_6 0 rfl rfl)
theorem dJ25_tryMergeRuns_143 : decode cJ25_tryMergeRuns 143 = .ok (.aload_n 1, 1) := dk_43 (dk_at dksJ25_tryMergeRuns_6 3 rfl rfl)
theorem dJ25_tryMergeRuns_144 : decode cJ25_tryMergeRuns 144 = .ok (.iload 9, 2) := dk_21 9 (dk_at dksJ25_tryMergeRuns_6 4 rfl rfl)
theorem dJ25_tryMergeRuns_146 : decode cJ25_tryMergeRuns 146 = .ok (.laload, 1) := dk_47 (dk_at dksJ25_tryMergeRuns_6 6 rfl rfl)
theorem dJ25_tryMergeRuns_147 : decode cJ25_tryMergeRuns 147 = .ok (.lstore 11, 2) := dk_55 11 (dk_at dksJ25_tryMergeRuns_6 7 rfl rfl)
theorem dJ25_tryMergeRuns_149 : decode cJ25_tryMergeRuns 149 = .ok (.aload_n 1, 1) := dk_43 (dk_at dksJ25_tryMergeRuns_6 9 rfl rfl)
theorem dJ25_tryMergeRuns_150 : decode cJ25_tryMergeRuns 150 = .ok (.iload 9, 2) := dk_21 9 (dk_at dksJ25_tryMergeRuns_6 10 rfl rfl)
theorem dJ25_tryMergeRuns_152 : decode cJ25_tryMergeRuns 152 = .ok (.aload_n 1, 1) := dk_43 (dk_at dksJ25_tryMergeRuns_6 12 rfl rfl)
theorem dJ25_tryMergeRuns_153 : decode cJ25_tryMergeRuns 153 = .ok (.iload 10, 2) := dk_21 10 (dk_at dksJ25_tryMergeRuns_6 13 rfl rfl)
theorem dJ25_tryMergeRuns_155 : decode cJ25_tryMergeRuns 155 = .ok (.laload, 1) := dk_47 (dk_at dksJ25_tryMergeRuns_6 15 rfl rfl)
theorem dJ25_tryMergeRuns_156 : decode cJ25_tryMergeRuns 156 = .ok (.lastore, 1) := dk_80 (dk_at dksJ25_tryMergeRuns_6 16 rfl rfl)
theorem dJ25_tryMergeRuns_157 : decode cJ25_tryMergeRuns 157 = .ok (.aload_n 1, 1) := dk_43 (dk_at dksJ25_tryMergeRuns_6 17 rfl rfl)
theorem dJ25_tryMergeRuns_158 : decode cJ25_tryMergeRuns 158 = .ok (.iload 10, 2) := dk_21 10 (dk_at dksJ25_tryMergeRuns_6 18 rfl rfl)
theorem dJ25_tryMergeRuns_160 : decode cJ25_tryMergeRuns 160 = .ok (.lload 11, 2) := dk_22 11 (dk_at dksJ25_tryMergeRuns_6 20 rfl rfl)
theorem dJ25_tryMergeRuns_162 : decode cJ25_tryMergeRuns 162 = .ok (.lastore, 1) := dk_80 (dk_at dksJ25_tryMergeRuns_6 22 rfl rfl)
theorem dJ25_tryMergeRuns_163 : decode cJ25_tryMergeRuns 163 = .ok (.goto (-45), 3) := dk_167 255 211 (dk_at dksJ25_tryMergeRuns_7 0 rfl rfl)
theorem dJ25_tryMergeRuns_166 : decode cJ25_tryMergeRuns 166 = .ok (.goto 42, 3) := dk_167 0 42 (dk_at dksJ25_tryMergeRuns_7 3 rfl rfl)
theorem dJ25_tryMergeRuns_169 : decode cJ25_tryMergeRuns 169 = .ok (.aload_n 1, 1) := dk_43 (dk_at dksJ25_tryMergeRuns_7 6 rfl rfl)
theorem dJ25_tryMergeRuns_170 : decode cJ25_tryMergeRuns 170 = .ok (.iload 8, 2) := dk_21 8 (dk_at dksJ25_tryMergeRuns_7 7 rfl rfl)
theorem dJ25_tryMergeRuns_172 : decode cJ25_tryMergeRuns 172 = .ok (.laload, 1) := dk_47 (dk_at dksJ25_tryMergeRuns_7 9 rfl rfl)
theorem dJ25_tryMergeRuns_173 : decode cJ25_tryMergeRuns 173 = .ok (.lstore 9, 2) := dk_55 9 (dk_at dksJ25_tryMergeRuns_7 10 rfl rfl)
theorem dJ25_tryMergeRuns_175 : decode cJ25_tryMergeRuns 175 = .ok (.iinc 8 1, 3) := dk_132 8 1 (dk_at dksJ25_tryMergeRuns_7 12 rfl rfl)
theorem dJ25_tryMergeRuns_178 : decode cJ25_tryMergeRuns 178 = .ok (.iload 8, 2) := dk_21 8 (dk_at dksJ25_tryMergeRuns_7 15 rfl rfl)
theorem dJ25_tryMergeRuns_180 : decode cJ25_tryMergeRuns 180 = .ok (.iload 5, 2) := dk_21 5 (dk_at dksJ25_tryMergeRuns_7 17 rfl rfl)
theorem dJ25_tryMergeRuns_182 : decode cJ25_tryMergeRuns 182 = .ok (.if_icmp .ge 16, 3) := dk_162 0 16 (dk_at dksJ25_tryMergeRuns_7 19 rfl rfl)
theorem dJ25_tryMergeRuns_185 : decode cJ25_tryMergeRuns 185 = .ok (.lload 9, 2) := dk_22 9 (dk_at dksJ25_tryMergeRuns_7 22 rfl rfl)
theorem dJ25_tryMergeRuns_187 : decode cJ25_tryMergeRuns 187 = .ok (.aload_n 1, 1) := dk_43 (dk_at dksJ25_tryMergeRuns_8 0 rfl rfl)
theorem dJ25_tryMergeRuns_188 : decode cJ25_tryMergeRuns 188 = .ok (.iload 8, 2) := dk_21 8 (dk_at dksJ25_tryMergeRuns_8 1 rfl rfl)
theorem dJ25_tryMergeRuns_190 : decode cJ25_tryMergeRuns 190 = .ok (.laload, 1) := dk_47 (dk_at dksJ25_tryMergeRuns_8 3 rfl rfl)
theorem dJ25_tryMergeRuns_191 : decode cJ25_tryMergeRuns 191 = .ok (.lcmp, 1) := dk_148 (dk_at dksJ25_tryMergeRuns_8 4 rfl rfl)
theorem dJ25_tryMergeRuns_192 : decode cJ25_tryMergeRuns 192 = .ok (.ifCond .ne 6, 3) := dk_154 0 6 (dk_at dksJ25_tryMergeRuns_8 5 rfl rfl)
theorem dJ25_tryMergeRuns_195 : decode cJ25_tryMergeRuns 195 = .ok (.goto (-20), 3) := dk_167 255 236 (dk_at dksJ25_tryMergeRuns_8 8 rfl rfl)
theorem dJ25_tryMergeRuns_198 : decode cJ25_tryMergeRuns 198 = .ok (.iload 8, 2) := dk_21 8 (dk_at dksJ25_tryMergeRuns_8 11 rfl rfl)
theorem dJ25_tryMergeRuns_200 : decode cJ25_tryMergeRuns 200 = .ok (.iload 5, 2) := dk_21 5 (dk_at dksJ25_tryMergeRuns_8 13 rfl rfl)
theorem dJ25_tryMergeRuns_202 : decode cJ25_tryMergeRuns 202 = .ok (.if_icmp .ge 6, 3) := dk_162 0 6 (dk_at dksJ25_tryMergeRuns_8 15 rfl rfl)
theorem dJ25_tryMergeRuns_205 : decode cJ25_tryMergeRuns 205 = .ok (.goto (-186), 3) := dk_167 255 70 (dk_at dksJ25_tryMergeRuns_8 18 rfl rfl)
theorem dJ25_tryMergeRuns_208 : decode cJ25_tryMergeRuns 208 = .ok (.aload 4, 2) := dk_25 4 (dk_at dksJ25_tryMergeRuns_8 21 rfl rfl)
theorem dJ25_tryMergeRuns_210 : decode cJ25_tryMergeRuns 210 = .ok (.ifnonnull 46, 3) := dk_199 0 46 (dk_at dksJ25_tryMergeRuns_9 0 rfl rfl)
theorem dJ25_tryMergeRuns_213 : decode cJ25_tryMergeRuns 213 = .ok (.iload 8, 2) := dk_21 8 (dk_at dksJ25_tryMergeRuns_9 3 rfl rfl)
theorem dJ25_tryMergeRuns_215 : decode cJ25_tryMergeRuns 215 = .ok (.iload 5, 2) := dk_21 5 (dk_at dksJ25_tryMergeRuns_9 5 rfl rfl)
theorem dJ25_tryMergeRuns_217 : decode cJ25_tryMergeRuns 217 = .ok (.if_icmp .ne 5, 3) := dk_160 0 5 (dk_at dksJ25_tryMergeRuns_9 7 rfl rfl)
theorem dJ25_tryMergeRuns_220 : decode cJ25_tryMergeRuns 220 = .ok (.iconst 1, 1) := dk_4 (dk_at dksJ25_tryMergeRuns_9 10 rfl rfl)
theorem dJ25_tryMergeRuns_221 : decode cJ25_tryMergeRuns 221 = .ok (.ireturn, 1) := dk_172 (dk_at dksJ25_tryMergeRuns_9 11 rfl rfl)
theorem dJ25_tryMergeRuns_222 : decode cJ25_tryMergeRuns 222 = .ok (.iload 8, 2) := dk_21 8 (dk_at dksJ25_tryMergeRuns_9 12 rfl rfl)
theorem dJ25_tryMergeRuns_224 : decode cJ25_tryMergeRuns 224 = .ok (.iload_n 2, 1) := dk_28 (dk_at dksJ25_tryMergeRuns_9 14 rfl rfl)
theorem dJ25_tryMergeRuns_225 : decode cJ25_tryMergeRuns 225 = .ok (.isub, 1) := dk_100 (dk_at dksJ25_tryMergeRuns_9 15 rfl rfl)
theorem dJ25_tryMergeRuns_226 : decode cJ25_tryMergeRuns 226 = .ok (.bipush 16, 2) := dk_16 16 (dk_at dksJ25_tryMergeRuns_9 16 rfl rfl)
theorem dJ25_tryMergeRuns_228 : decode cJ25_tryMergeRuns 228 = .ok (.if_icmp .ge 5, 3) := dk_162 0 5 (dk_at dksJ25_tryMergeRuns_9 18 rfl rfl)
theorem dJ25_tryMergeRuns_231 : decode cJ25_tryMergeRuns 231 = .ok (.iconst 0, 1) := dk_3 (dk_at dksJ25_tryMergeRuns_9 21 rfl rfl)
theorem dJ25_tryMergeRuns_232 : decode cJ25_tryMergeRuns 232 = .ok (.ireturn, 1) := dk_172 (dk_at dksJ25_tryMergeRuns_9 22 rfl rfl)
theorem dJ25_tryMergeRuns_233 : decode cJ25_tryMergeRuns 233 = .ok (.iload_n 3, 1) := dk_29 (dk_at dksJ25_tryMergeRuns_9 23 rfl rfl)
theorem dJ25_tryMergeRuns_234 : decode cJ25_tryMergeRuns 234 = .ok (.bipush 10, 2) := dk_16 10 (dk_at dksJ25_tryMergeRuns_10 0 rfl rfl)
theorem dJ25_tryMergeRuns_236 : decode cJ25_tryMergeRuns 236 = .ok (.ishr, 1) := dk_122 (dk_at dksJ25_tryMergeRuns_10 2 rfl rfl)
theorem dJ25_tryMergeRuns_237 : decode cJ25_tryMergeRuns 237 = .ok (.bipush 127, 2) := dk_16 127 (dk_at dksJ25_tryMergeRuns_10 3 rfl rfl)
theorem dJ25_tryMergeRuns_239 : decode cJ25_tryMergeRuns 239 = .ok (.ior, 1) := dk_128 (dk_at dksJ25_tryMergeRuns_10 5 rfl rfl)
theorem dJ25_tryMergeRuns_240 : decode cJ25_tryMergeRuns 240 = .ok (.sipush 1023, 3) := dk_17 3 255 (dk_at dksJ25_tryMergeRuns_10 6 rfl rfl)
theorem dJ25_tryMergeRuns_243 : decode cJ25_tryMergeRuns 243 = .ok (.iand, 1) := dk_126 (dk_at dksJ25_tryMergeRuns_10 9 rfl rfl)
theorem dJ25_tryMergeRuns_244 : decode cJ25_tryMergeRuns 244 = .ok (.newarray .int, 2) := dk_188_10 (dk_at dksJ25_tryMergeRuns_10 10 rfl rfl)
theorem dJ25_tryMergeRuns_246 : decode cJ25_tryMergeRuns 246 = .ok (.astore 4, 2) := dk_58 4 (dk_at dksJ25_tryMergeRuns_10 12 rfl rfl)
theorem dJ25_tryMergeRuns_248 : decode cJ25_tryMergeRuns 248 = .ok (.aload 4, 2) := dk_25 4 (dk_at dksJ25_tryMergeRuns_10 14 rfl rfl)
theorem dJ25_tryMergeRuns_250 : decode cJ25_tryMergeRuns 250 = .ok (.iconst 0, 1) := dk_3 (dk_at dksJ25_tryMergeRuns_10 16 rfl rfl)
theorem dJ25_tryMergeRuns_251 : decode cJ25_tryMergeRuns 251 = .ok (.iload_n 2, 1) := dk_28 (dk_at dksJ25_tryMergeRuns_10 17 rfl rfl)
theorem dJ25_tryMergeRuns_252 : decode cJ25_tryMergeRuns 252 = .ok (.iastore, 1) := dk_79 (dk_at dksJ25_tryMergeRuns_10 18 rfl rfl)
theorem dJ25_tryMergeRuns_253 : decode cJ25_tryMergeRuns 253 = .ok (.goto 63, 3) := dk_167 0 63 (dk_at dksJ25_tryMergeRuns_10 19 rfl rfl)
theorem dJ25_tryMergeRuns_256 : decode cJ25_tryMergeRuns 256 = .ok (.aload_n 1, 1) := dk_43 (dk_at dksJ25_tryMergeRuns_10 22 rfl rfl)
theorem dJ25_tryMergeRuns_257 : decode cJ25_tryMergeRuns 257 = .ok (.iload 7, 2) := dk_21 7 (dk_at dksJ25_tryMergeRuns_11 0 rfl rfl)
theorem dJ25_tryMergeRuns_259 : decode cJ25_tryMergeRuns 259 = .ok (.iconst 1, 1) := dk_4 (dk_at dksJ25_tryMergeRuns_11 2 rfl rfl)
theorem dJ25_tryMergeRuns_260 : decode cJ25_tryMergeRuns 260 = .ok (.isub, 1) := dk_100 (dk_at dksJ25_tryMergeRuns_11 3 rfl rfl)
theorem dJ25_tryMergeRuns_261 : decode cJ25_tryMergeRuns 261 = .ok (.laload, 1) := dk_47 (dk_at dksJ25_tryMergeRuns_11 4 rfl rfl)
theorem dJ25_tryMergeRuns_262 : decode cJ25_tryMergeRuns 262 = .ok (.aload_n 1, 1) := dk_43 (dk_at dksJ25_tryMergeRuns_11 5 rfl rfl)
theorem dJ25_tryMergeRuns_263 : decode cJ25_tryMergeRuns 263 = .ok (.iload 7, 2) := dk_21 7 (dk_at dksJ25_tryMergeRuns_11 6 rfl rfl)
theorem dJ25_tryMergeRuns_265 : decode cJ25_tryMergeRuns 265 = .ok (.laload, 1) := dk_47 (dk_at dksJ25_tryMergeRuns_11 8 rfl rfl)
theorem dJ25_tryMergeRuns_266 : decode cJ25_tryMergeRuns 266 = .ok (.lcmp, 1) := dk_148 (dk_at dksJ25_tryMergeRuns_11 9 rfl rfl)
theorem dJ25_tryMergeRuns_267 : decode cJ25_tryMergeRuns 267 = .ok (.ifCond .le 49, 3) := dk_158 0 49 (dk_at dksJ25_tryMergeRuns_11 10 rfl rfl)
theorem dJ25_tryMergeRuns_270 : decode cJ25_tryMergeRuns 270 = .ok (.iload 6, 2) := dk_21 6 (dk_at dksJ25_tryMergeRuns_11 13 rfl rfl)
theorem dJ25_tryMergeRuns_272 : decode cJ25_tryMergeRuns 272 = .ok (.iload 8, 2) := dk_21 8 (dk_at dksJ25_tryMergeRuns_11 15 rfl rfl)
theorem dJ25_tryMergeRuns_274 : decode cJ25_tryMergeRuns 274 = .ok (.iload_n 2, 1) := dk_28 (dk_at dksJ25_tryMergeRuns_11 17 rfl rfl)
theorem dJ25_tryMergeRuns_275 : decode cJ25_tryMergeRuns 275 = .ok (.isub, 1) := dk_100 (dk_at dksJ25_tryMergeRuns_11 18 rfl rfl)
theorem dJ25_tryMergeRuns_276 : decode cJ25_tryMergeRuns 276 = .ok (.bipush 7, 2) := dk_16 7 (dk_at dksJ25_tryMergeRuns_11 19 rfl rfl)
theorem dJ25_tryMergeRuns_278 : decode cJ25_tryMergeRuns 278 = .ok (.ishr, 1) := dk_122 (dk_at dksJ25_tryMergeRuns_11 21 rfl rfl)
theorem dJ25_tryMergeRuns_279 : decode cJ25_tryMergeRuns 279 = .ok (.if_icmp .le 5, 3) := dk_164 0 5 (dk_at dksJ25_tryMergeRuns_12 0 rfl rfl)
theorem dJ25_tryMergeRuns_282 : decode cJ25_tryMergeRuns 282 = .ok (.iconst 0, 1) := dk_3 (dk_at dksJ25_tryMergeRuns_12 3 rfl rfl)
theorem dJ25_tryMergeRuns_283 : decode cJ25_tryMergeRuns 283 = .ok (.ireturn, 1) := dk_172 (dk_at dksJ25_tryMergeRuns_12 4 rfl rfl)
theorem dJ25_tryMergeRuns_284 : decode cJ25_tryMergeRuns 284 = .ok (.iinc 6 1, 3) := dk_132 6 1 (dk_at dksJ25_tryMergeRuns_12 5 rfl rfl)
theorem dJ25_tryMergeRuns_287 : decode cJ25_tryMergeRuns 287 = .ok (.iload 6, 2) := dk_21 6 (dk_at dksJ25_tryMergeRuns_12 8 rfl rfl)
theorem dJ25_tryMergeRuns_289 : decode cJ25_tryMergeRuns 289 = .ok (.sipush 5120, 3) := dk_17 20 0 (dk_at dksJ25_tryMergeRuns_12 10 rfl rfl)
theorem dJ25_tryMergeRuns_292 : decode cJ25_tryMergeRuns 292 = .ok (.if_icmp .ne 5, 3) := dk_160 0 5 (dk_at dksJ25_tryMergeRuns_12 13 rfl rfl)
theorem dJ25_tryMergeRuns_295 : decode cJ25_tryMergeRuns 295 = .ok (.iconst 0, 1) := dk_3 (dk_at dksJ25_tryMergeRuns_12 16 rfl rfl)
theorem dJ25_tryMergeRuns_296 : decode cJ25_tryMergeRuns 296 = .ok (.ireturn, 1) := dk_172 (dk_at dksJ25_tryMergeRuns_12 17 rfl rfl)
theorem dJ25_tryMergeRuns_297 : decode cJ25_tryMergeRuns 297 = .ok (.iload 6, 2) := dk_21 6 (dk_at dksJ25_tryMergeRuns_12 18 rfl rfl)
theorem dJ25_tryMergeRuns_299 : decode cJ25_tryMergeRuns 299 = .ok (.aload 4, 2) := dk_25 4 (dk_at dksJ25_tryMergeRuns_12 20 rfl rfl)
theorem dJ25_tryMergeRuns_301 : decode cJ25_tryMergeRuns 301 = .ok (.arraylength, 1) := dk_190 (dk_at dksJ25_tryMergeRuns_12 22 rfl rfl)
theorem dJ25_tryMergeRuns_302 : decode cJ25_tryMergeRuns 302 = .ok (.if_icmp .ne 14, 3) := dk_160 0 14 (dk_at dksJ25_tryMergeRuns_13 0 rfl rfl)
theorem dJ25_tryMergeRuns_305 : decode cJ25_tryMergeRuns 305 = .ok (.aload 4, 2) := dk_25 4 (dk_at dksJ25_tryMergeRuns_13 3 rfl rfl)
theorem dJ25_tryMergeRuns_307 : decode cJ25_tryMergeRuns 307 = .ok (.iload 6, 2) := dk_21 6 (dk_at dksJ25_tryMergeRuns_13 5 rfl rfl)
theorem dJ25_tryMergeRuns_309 : decode cJ25_tryMergeRuns 309 = .ok (.iconst 1, 1) := dk_4 (dk_at dksJ25_tryMergeRuns_13 7 rfl rfl)
theorem dJ25_tryMergeRuns_310 : decode cJ25_tryMergeRuns 310 = .ok (.ishl, 1) := dk_120 (dk_at dksJ25_tryMergeRuns_13 8 rfl rfl)
theorem dJ25_tryMergeRuns_311 : decode cJ25_tryMergeRuns 311 = .ok (.invokestatic 53, 3) := dk_184 0 53 (dk_at dksJ25_tryMergeRuns_13 9 rfl rfl)
theorem dJ25_tryMergeRuns_314 : decode cJ25_tryMergeRuns 314 = .ok (.astore 4, 2) := dk_58 4 (dk_at dksJ25_tryMergeRuns_13 12 rfl rfl)
theorem dJ25_tryMergeRuns_316 : decode cJ25_tryMergeRuns 316 = .ok (.aload 4, 2) := dk_25 4 (dk_at dksJ25_tryMergeRuns_13 14 rfl rfl)
theorem dJ25_tryMergeRuns_318 : decode cJ25_tryMergeRuns 318 = .ok (.iload 6, 2) := dk_21 6 (dk_at dksJ25_tryMergeRuns_13 16 rfl rfl)
theorem dJ25_tryMergeRuns_320 : decode cJ25_tryMergeRuns 320 = .ok (.iload 8, 2) := dk_21 8 (dk_at dksJ25_tryMergeRuns_13 18 rfl rfl)
theorem dJ25_tryMergeRuns_322 : decode cJ25_tryMergeRuns 322 = .ok (.dup, 1) := dk_89 (dk_at dksJ25_tryMergeRuns_13 20 rfl rfl)
theorem dJ25_tryMergeRuns_323 : decode cJ25_tryMergeRuns 323 = .ok (.istore 7, 2) := dk_54 7 (dk_at dksJ25_tryMergeRuns_13 21 rfl rfl)
theorem dJ25_tryMergeRuns_325 : decode cJ25_tryMergeRuns 325 = .ok (.iastore, 1) := dk_79 (dk_at dksJ25_tryMergeRuns_13 23 rfl rfl)
theorem dJ25_tryMergeRuns_326 : decode cJ25_tryMergeRuns 326 = .ok (.goto (-307), 3) := dk_167 254 205 (dk_at dksJ25_tryMergeRuns_14 0 rfl rfl)
theorem dJ25_tryMergeRuns_329 : decode cJ25_tryMergeRuns 329 = .ok (.iload 6, 2) := dk_21 6 (dk_at dksJ25_tryMergeRuns_14 3 rfl rfl)
theorem dJ25_tryMergeRuns_331 : decode cJ25_tryMergeRuns 331 = .ok (.iconst 1, 1) := dk_4 (dk_at dksJ25_tryMergeRuns_14 5 rfl rfl)
theorem dJ25_tryMergeRuns_332 : decode cJ25_tryMergeRuns 332 = .ok (.if_icmp .le 61, 3) := dk_164 0 61 (dk_at dksJ25_tryMergeRuns_14 6 rfl rfl)
theorem dJ25_tryMergeRuns_335 : decode cJ25_tryMergeRuns 335 = .ok (.iload_n 2, 1) := dk_28 (dk_at dksJ25_tryMergeRuns_14 9 rfl rfl)
theorem dJ25_tryMergeRuns_336 : decode cJ25_tryMergeRuns 336 = .ok (.istore 9, 2) := dk_54 9 (dk_at dksJ25_tryMergeRuns_14 10 rfl rfl)
theorem dJ25_tryMergeRuns_338 : decode cJ25_tryMergeRuns 338 = .ok (.aload_n 0, 1) := dk_42 (dk_at dksJ25_tryMergeRuns_14 12 rfl rfl)
theorem dJ25_tryMergeRuns_339 : decode cJ25_tryMergeRuns 339 = .ok (.ifnull 16, 3) := dk_198 0 16 (dk_at dksJ25_tryMergeRuns_14 13 rfl rfl)
theorem dJ25_tryMergeRuns_342 : decode cJ25_tryMergeRuns 342 = .ok (.aload_n 0, 1) := dk_42 (dk_at dksJ25_tryMergeRuns_14 16 rfl rfl)
theorem dJ25_tryMergeRuns_343 : decode cJ25_tryMergeRuns 343 = .ok (.getfield 59, 3) := dk_180 0 59 (dk_at dksJ25_tryMergeRuns_14 17 rfl rfl)
theorem dJ25_tryMergeRuns_346 : decode cJ25_tryMergeRuns 346 = .ok (.checkcast 116, 3) := dk_192 0 116 (dk_at dksJ25_tryMergeRuns_14 20 rfl rfl)
theorem dJ25_tryMergeRuns_349 : decode cJ25_tryMergeRuns 349 = .ok (.dup, 1) := dk_89 (dk_at dksJ25_tryMergeRuns_14 23 rfl rfl)
theorem dJ25_tryMergeRuns_350 : decode cJ25_tryMergeRuns 350 = .ok (.astore 8, 2) := dk_58 8 (dk_at dksJ25_tryMergeRuns_15 0 rfl rfl)
theorem dJ25_tryMergeRuns_352 : decode cJ25_tryMergeRuns 352 = .ok (.ifnonnull 11, 3) := dk_199 0 11 (dk_at dksJ25_tryMergeRuns_15 2 rfl rfl)
theorem dJ25_tryMergeRuns_355 : decode cJ25_tryMergeRuns 355 = .ok (.iload_n 3, 1) := dk_29 (dk_at dksJ25_tryMergeRuns_15 5 rfl rfl)
theorem dJ25_tryMergeRuns_356 : decode cJ25_tryMergeRuns 356 = .ok (.newarray .long, 2) := dk_188_11 (dk_at dksJ25_tryMergeRuns_15 6 rfl rfl)
theorem dJ25_tryMergeRuns_358 : decode cJ25_tryMergeRuns 358 = .ok (.astore 8, 2) := dk_58 8 (dk_at dksJ25_tryMergeRuns_15 8 rfl rfl)
theorem dJ25_tryMergeRuns_360 : decode cJ25_tryMergeRuns 360 = .ok (.goto 9, 3) := dk_167 0 9 (dk_at dksJ25_tryMergeRuns_15 10 rfl rfl)
theorem dJ25_tryMergeRuns_363 : decode cJ25_tryMergeRuns 363 = .ok (.aload_n 0, 1) := dk_42 (dk_at dksJ25_tryMergeRuns_15 13 rfl rfl)
theorem dJ25_tryMergeRuns_364 : decode cJ25_tryMergeRuns 364 = .ok (.getfield 65, 3) := dk_180 0 65 (dk_at dksJ25_tryMergeRuns_15 14 rfl rfl)
theorem dJ25_tryMergeRuns_367 : decode cJ25_tryMergeRuns 367 = .ok (.istore 9, 2) := dk_54 9 (dk_at dksJ25_tryMergeRuns_15 17 rfl rfl)
theorem dJ25_tryMergeRuns_369 : decode cJ25_tryMergeRuns 369 = .ok (.aload_n 1, 1) := dk_43 (dk_at dksJ25_tryMergeRuns_15 19 rfl rfl)
theorem dJ25_tryMergeRuns_370 : decode cJ25_tryMergeRuns 370 = .ok (.aload 8, 2) := dk_25 8 (dk_at dksJ25_tryMergeRuns_15 20 rfl rfl)
theorem dJ25_tryMergeRuns_372 : decode cJ25_tryMergeRuns 372 = .ok (.iload 9, 2) := dk_21 9 (dk_at dksJ25_tryMergeRuns_15 22 rfl rfl)
theorem dJ25_tryMergeRuns_374 : decode cJ25_tryMergeRuns 374 = .ok (.iconst 1, 1) := dk_4 (dk_at dksJ25_tryMergeRuns_16 0 rfl rfl)
theorem dJ25_tryMergeRuns_375 : decode cJ25_tryMergeRuns 375 = .ok (.aload_n 0, 1) := dk_42 (dk_at dksJ25_tryMergeRuns_16 1 rfl rfl)
theorem dJ25_tryMergeRuns_376 : decode cJ25_tryMergeRuns 376 = .ok (.ifnull 7, 3) := dk_198 0 7 (dk_at dksJ25_tryMergeRuns_16 2 rfl rfl)
theorem dJ25_tryMergeRuns_379 : decode cJ25_tryMergeRuns 379 = .ok (.iconst 1, 1) := dk_4 (dk_at dksJ25_tryMergeRuns_16 5 rfl rfl)
theorem dJ25_tryMergeRuns_380 : decode cJ25_tryMergeRuns 380 = .ok (.goto 4, 3) := dk_167 0 4 (dk_at dksJ25_tryMergeRuns_16 6 rfl rfl)
theorem dJ25_tryMergeRuns_383 : decode cJ25_tryMergeRuns 383 = .ok (.iconst 0, 1) := dk_3 (dk_at dksJ25_tryMergeRuns_16 9 rfl rfl)
theorem dJ25_tryMergeRuns_384 : decode cJ25_tryMergeRuns 384 = .ok (.aload 4, 2) := dk_25 4 (dk_at dksJ25_tryMergeRuns_16 10 rfl rfl)
theorem dJ25_tryMergeRuns_386 : decode cJ25_tryMergeRuns 386 = .ok (.iconst 0, 1) := dk_3 (dk_at dksJ25_tryMergeRuns_16 12 rfl rfl)
theorem dJ25_tryMergeRuns_387 : decode cJ25_tryMergeRuns 387 = .ok (.iload 6, 2) := dk_21 6 (dk_at dksJ25_tryMergeRuns_16 13 rfl rfl)
theorem dJ25_tryMergeRuns_389 : decode cJ25_tryMergeRuns 389 = .ok (.invokestatic 118, 3) := dk_184 0 118 (dk_at dksJ25_tryMergeRuns_16 15 rfl rfl)
theorem dJ25_tryMergeRuns_392 : decode cJ25_tryMergeRuns 392 = .ok (.pop, 1) := dk_87 (dk_at dksJ25_tryMergeRuns_16 18 rfl rfl)
theorem dJ25_tryMergeRuns_393 : decode cJ25_tryMergeRuns 393 = .ok (.iconst 1, 1) := dk_4 (dk_at dksJ25_tryMergeRuns_16 19 rfl rfl)
theorem dJ25_tryMergeRuns_394 : decode cJ25_tryMergeRuns 394 = .ok (.ireturn, 1) := dk_172 (dk_at dksJ25_tryMergeRuns_16 20 rfl rfl)
abbrev cJ25_mergeRuns : ByteArray := prog_78_method_19_code
def yJ25_mergeRuns : MethodName := ⟨RJ25, "mergeRuns", "([J[JIIZ[III)[J"⟩
def dkwJ25_mergeRuns_16 : List UInt8 := [21, 16, 21, 17, 184, 0, 121, 25, 12, 176]
abbrev dktJ25_mergeRuns_16 : List UInt8 := dkwJ25_mergeRuns_16 ++ []
def dkwJ25_mergeRuns_15 : List UInt8 := [183, 0, 87, 182, 0, 90, 87, 167, 0, 23, 1, 25, 12, 21, 13, 25, 10, 21, 14, 21, 15, 25, 11]
abbrev dktJ25_mergeRuns_15 : List UInt8 := dkwJ25_mergeRuns_15 ++ dktJ25_mergeRuns_16
def dkwJ25_mergeRuns_14 : List UInt8 := [153, 0, 34, 187, 0, 85, 89, 1, 25, 12, 21, 13, 25, 10, 21, 14, 21, 15, 25, 11, 21, 16, 21, 17]
abbrev dktJ25_mergeRuns_14 : List UInt8 := dkwJ25_mergeRuns_14 ++ dktJ25_mergeRuns_15
def dkwJ25_mergeRuns_13 : List UInt8 := [166, 0, 13, 25, 5, 21, 7, 46, 28, 100, 167, 0, 8, 25, 5, 21, 7, 46, 54, 17, 21, 4]
abbrev dktJ25_mergeRuns_13 : List UInt8 := dkwJ25_mergeRuns_13 ++ dktJ25_mergeRuns_14
def dkwJ25_mergeRuns_12 : List UInt8 := [166, 0, 13, 25, 5, 21, 8, 46, 28, 100, 167, 0, 8, 25, 5, 21, 8, 46, 54, 16, 25, 11, 43]
abbrev dktJ25_mergeRuns_12 : List UInt8 := dkwJ25_mergeRuns_12 ++ dktJ25_mergeRuns_13
def dkwJ25_mergeRuns_11 : List UInt8 := [166, 0, 13, 25, 5, 21, 8, 46, 28, 100, 167, 0, 8, 25, 5, 21, 8, 46, 54, 15, 25, 11, 43]
abbrev dktJ25_mergeRuns_11 : List UInt8 := dkwJ25_mergeRuns_11 ++ dktJ25_mergeRuns_12
def dkwJ25_mergeRuns_10 : List UInt8 := [166, 0, 13, 25, 5, 21, 6, 46, 28, 100, 167, 0, 8, 25, 5, 21, 6, 46, 54, 14, 25, 10, 43]
abbrev dktJ25_mergeRuns_10 : List UInt8 := dkwJ25_mergeRuns_10 ++ dktJ25_mergeRuns_11
def dkwJ25_mergeRuns_9 : List UInt8 := [166, 0, 13, 25, 5, 21, 6, 46, 28, 100, 167, 0, 8, 25, 5, 21, 6, 46, 54, 13, 25, 10, 43]
abbrev dktJ25_mergeRuns_9 : List UInt8 := dkwJ25_mergeRuns_9 ++ dktJ25_mergeRuns_10
def dkwJ25_mergeRuns_8 : List UInt8 := [21, 7, 184, 0, 118, 58, 11, 25, 10, 42, 166, 0, 7, 43, 167, 0, 4, 42, 58, 12, 25, 10, 42]
abbrev dktJ25_mergeRuns_8 : List UInt8 := dkwJ25_mergeRuns_8 ++ dktJ25_mergeRuns_9
def dkwJ25_mergeRuns_7 : List UInt8 := [28, 29, 116, 3, 25, 5, 21, 6, 21, 8, 184, 0, 118, 58, 10, 42, 43, 28, 3, 3, 25, 5, 21, 8]
abbrev dktJ25_mergeRuns_7 : List UInt8 := dkwJ25_mergeRuns_7 ++ dktJ25_mergeRuns_8
def dkwJ25_mergeRuns_6 : List UInt8 := [21, 6, 21, 8, 184, 0, 118, 58, 10, 25, 12, 182, 0, 82, 192, 0, 116, 58, 11, 167, 0, 36, 42, 43]
abbrev dktJ25_mergeRuns_6 : List UInt8 := dkwJ25_mergeRuns_6 ++ dktJ25_mergeRuns_7
def dkwJ25_mergeRuns_5 : List UInt8 := [3, 25, 5, 21, 8, 21, 7, 183, 0, 75, 182, 0, 78, 58, 12, 42, 43, 28, 29, 116, 4, 25, 5]
abbrev dktJ25_mergeRuns_5 : List UInt8 := dkwJ25_mergeRuns_5 ++ dktJ25_mergeRuns_6
def dkwJ25_mergeRuns_4 : List UInt8 := [167, 255, 241, 21, 4, 153, 0, 64, 21, 7, 21, 6, 100, 7, 164, 0, 55, 187, 0, 73, 89, 42, 43, 28]
abbrev dktJ25_mergeRuns_4 : List UInt8 := dkwJ25_mergeRuns_4 ++ dktJ25_mergeRuns_5
def dkwJ25_mergeRuns_3 : List UInt8 := [21, 7, 46, 96, 4, 124, 54, 9, 25, 5, 132, 8, 1, 21, 8, 4, 96, 46, 21, 9, 163, 0, 6]
abbrev dktJ25_mergeRuns_3 : List UInt8 := dkwJ25_mergeRuns_3 ++ dktJ25_mergeRuns_4
def dkwJ25_mergeRuns_2 : List UInt8 := [42, 132, 8, 255, 21, 8, 47, 80, 167, 255, 235, 43, 176, 21, 6, 54, 8, 25, 5, 21, 6, 46, 25, 5]
abbrev dktJ25_mergeRuns_2 : List UInt8 := dkwJ25_mergeRuns_2 ++ dktJ25_mergeRuns_3
def dkwJ25_mergeRuns_1 : List UInt8 := [28, 100, 54, 9, 25, 5, 21, 6, 46, 54, 10, 21, 8, 21, 10, 164, 0, 20, 43, 132, 9, 255, 21, 9]
abbrev dktJ25_mergeRuns_1 : List UInt8 := dkwJ25_mergeRuns_1 ++ dktJ25_mergeRuns_2
def dkwJ25_mergeRuns_0 : List UInt8 := [21, 7, 21, 6, 100, 4, 160, 0, 55, 29, 155, 0, 5, 42, 176, 25, 5, 21, 7, 46, 54, 8, 21, 8]
abbrev dktJ25_mergeRuns_0 : List UInt8 := dkwJ25_mergeRuns_0 ++ dktJ25_mergeRuns_1
theorem dksJ25_mergeRuns_0 : cJ25_mergeRuns.data.toList.drop 0 = dktJ25_mergeRuns_0 := by decide +kernel
theorem dksJ25_mergeRuns_1 : cJ25_mergeRuns.data.toList.drop 24 = dktJ25_mergeRuns_1 := dk_seg dksJ25_mergeRuns_0 24 rfl rfl
theorem dksJ25_mergeRuns_2 : cJ25_mergeRuns.data.toList.drop 48 = dktJ25_mergeRuns_2 := dk_seg dksJ25_mergeRuns_1 24 rfl rfl
theorem dksJ25_mergeRuns_3 : cJ25_mergeRuns.data.toList.drop 72 = dktJ25_mergeRuns_3 := dk_seg dksJ25_mergeRuns_2 24 rfl rfl
theorem dksJ25_mergeRuns_4 : cJ25_mergeRuns.data.toList.drop 95 = dktJ25_mergeRuns_4 := dk_seg dksJ25_mergeRuns_3 23 rfl rfl
theorem dksJ25_mergeRuns_5 : cJ25_mergeRuns.data.toList.drop 119 = dktJ25_mergeRuns_5 := dk_seg dksJ25_mergeRuns_4 24 rfl rfl
theorem dksJ25_mergeRuns_6 : cJ25_mergeRuns.data.toList.drop 142 = dktJ25_mergeRuns_6 := dk_seg dksJ25_mergeRuns_5 23 rfl rfl
theorem dksJ25_mergeRuns_7 : cJ25_mergeRuns.data.toList.drop 166 = dktJ25_mergeRuns_7 := dk_seg dksJ25_mergeRuns_6 24 rfl rfl
theorem dksJ25_mergeRuns_8 : cJ25_mergeRuns.data.toList.drop 190 = dktJ25_mergeRuns_8 := dk_seg dksJ25_mergeRuns_7 24 rfl rfl
theorem dksJ25_mergeRuns_9 : cJ25_mergeRuns.data.toList.drop 213 = dktJ25_mergeRuns_9 := dk_seg dksJ25_mergeRuns_8 23 rfl rfl
theorem dksJ25_mergeRuns_10 : cJ25_mergeRuns.data.toList.drop 236 = dktJ25_mergeRuns_10 := dk_seg dksJ25_mergeRuns_9 23 rfl rfl
theorem dksJ25_mergeRuns_11 : cJ25_mergeRuns.data.toList.drop 259 = dktJ25_mergeRuns_11 := dk_seg dksJ25_mergeRuns_10 23 rfl rfl
theorem dksJ25_mergeRuns_12 : cJ25_mergeRuns.data.toList.drop 282 = dktJ25_mergeRuns_12 := dk_seg dksJ25_mergeRuns_11 23 rfl rfl
theorem dksJ25_mergeRuns_13 : cJ25_mergeRuns.data.toList.drop 305 = dktJ25_mergeRuns_13 := dk_seg dksJ25_mergeRuns_12 23 rfl rfl
theorem dksJ25_mergeRuns_14 : cJ25_mergeRuns.data.toList.drop 327 = dktJ25_mergeRuns_14 := dk_seg dksJ25_mergeRuns_13 22 rfl rfl
theorem dksJ25_mergeRuns_15 : cJ25_mergeRuns.data.toList.drop 351 = dktJ25_mergeRuns_15 := dk_seg dksJ25_mergeRuns_14 24 rfl rfl
theorem dksJ25_mergeRuns_16 : cJ25_mergeRuns.data.toList.drop 374 = dktJ25_mergeRuns_16 := dk_seg dksJ25_mergeRuns_15 23 rfl rfl
theorem dJ25_mergeRuns_0 : decode cJ25_mergeRuns 0 = .ok (.iload 7, 2) := dk_21 7 (dk_at dksJ25_mergeRuns_0 0 rfl rfl)
theorem dJ25_mergeRuns_2 : decode cJ25_mergeRuns 2 = .ok (.iload 6, 2) := dk_21 6 (dk_at dksJ25_mergeRuns_0 2 rfl rfl)
theorem dJ25_mergeRuns_4 : decode cJ25_mergeRuns 4 = .ok (.isub, 1) := dk_100 (dk_at dksJ25_mergeRuns_0 4 rfl rfl)
theorem dJ25_mergeRuns_5 : decode cJ25_mergeRuns 5 = .ok (.iconst 1, 1) := dk_4 (dk_at dksJ25_mergeRuns_0 5 rfl rfl)
theorem dJ25_mergeRuns_6 : decode cJ25_mergeRuns 6 = .ok (.if_icmp .ne 55, 3) := dk_160 0 55 (dk_at dksJ25_mergeRuns_0 6 rfl rfl)
theorem dJ25_mergeRuns_9 : decode cJ25_mergeRuns 9 = .ok (.iload_n 3, 1) := dk_29 (dk_at dksJ25_mergeRuns_0 9 rfl rfl)
theorem dJ25_mergeRuns_10 : decode cJ25_mergeRuns 10 = .ok (.ifCond .lt 5, 3) := dk_155 0 5 (dk_at dksJ25_mergeRuns_0 10 rfl rfl)
theorem dJ25_mergeRuns_13 : decode cJ25_mergeRuns 13 = .ok (.aload_n 0, 1) := dk_42 (dk_at dksJ25_mergeRuns_0 13 rfl rfl)
theorem dJ25_mergeRuns_14 : decode cJ25_mergeRuns 14 = .ok (.areturn, 1) := dk_176 (dk_at dksJ25_mergeRuns_0 14 rfl rfl)
theorem dJ25_mergeRuns_15 : decode cJ25_mergeRuns 15 = .ok (.aload 5, 2) := dk_25 5 (dk_at dksJ25_mergeRuns_0 15 rfl rfl)
theorem dJ25_mergeRuns_17 : decode cJ25_mergeRuns 17 = .ok (.iload 7, 2) := dk_21 7 (dk_at dksJ25_mergeRuns_0 17 rfl rfl)
theorem dJ25_mergeRuns_19 : decode cJ25_mergeRuns 19 = .ok (.iaload, 1) := dk_46 (dk_at dksJ25_mergeRuns_0 19 rfl rfl)
theorem dJ25_mergeRuns_20 : decode cJ25_mergeRuns 20 = .ok (.istore 8, 2) := dk_54 8 (dk_at dksJ25_mergeRuns_0 20 rfl rfl)
theorem dJ25_mergeRuns_22 : decode cJ25_mergeRuns 22 = .ok (.iload 8, 2) := dk_21 8 (dk_at dksJ25_mergeRuns_0 22 rfl rfl)
theorem dJ25_mergeRuns_24 : decode cJ25_mergeRuns 24 = .ok (.iload_n 2, 1) := dk_28 (dk_at dksJ25_mergeRuns_1 0 rfl rfl)
theorem dJ25_mergeRuns_25 : decode cJ25_mergeRuns 25 = .ok (.isub, 1) := dk_100 (dk_at dksJ25_mergeRuns_1 1 rfl rfl)
theorem dJ25_mergeRuns_26 : decode cJ25_mergeRuns 26 = .ok (.istore 9, 2) := dk_54 9 (dk_at dksJ25_mergeRuns_1 2 rfl rfl)
theorem dJ25_mergeRuns_28 : decode cJ25_mergeRuns 28 = .ok (.aload 5, 2) := dk_25 5 (dk_at dksJ25_mergeRuns_1 4 rfl rfl)
theorem dJ25_mergeRuns_30 : decode cJ25_mergeRuns 30 = .ok (.iload 6, 2) := dk_21 6 (dk_at dksJ25_mergeRuns_1 6 rfl rfl)
theorem dJ25_mergeRuns_32 : decode cJ25_mergeRuns 32 = .ok (.iaload, 1) := dk_46 (dk_at dksJ25_mergeRuns_1 8 rfl rfl)
theorem dJ25_mergeRuns_33 : decode cJ25_mergeRuns 33 = .ok (.istore 10, 2) := dk_54 10 (dk_at dksJ25_mergeRuns_1 9 rfl rfl)
theorem dJ25_mergeRuns_35 : decode cJ25_mergeRuns 35 = .ok (.iload 8, 2) := dk_21 8 (dk_at dksJ25_mergeRuns_1 11 rfl rfl)
theorem dJ25_mergeRuns_37 : decode cJ25_mergeRuns 37 = .ok (.iload 10, 2) := dk_21 10 (dk_at dksJ25_mergeRuns_1 13 rfl rfl)
theorem dJ25_mergeRuns_39 : decode cJ25_mergeRuns 39 = .ok (.if_icmp .le 20, 3) := dk_164 0 20 (dk_at dksJ25_mergeRuns_1 15 rfl rfl)
theorem dJ25_mergeRuns_42 : decode cJ25_mergeRuns 42 = .ok (.aload_n 1, 1) := dk_43 (dk_at dksJ25_mergeRuns_1 18 rfl rfl)
theorem dJ25_mergeRuns_43 : decode cJ25_mergeRuns 43 = .ok (.iinc 9 (-1), 3) := dk_132 9 255 (dk_at dksJ25_mergeRuns_1 19 rfl rfl)
theorem dJ25_mergeRuns_46 : decode cJ25_mergeRuns 46 = .ok (.iload 9, 2) := dk_21 9 (dk_at dksJ25_mergeRuns_1 22 rfl rfl)
theorem dJ25_mergeRuns_48 : decode cJ25_mergeRuns 48 = .ok (.aload_n 0, 1) := dk_42 (dk_at dksJ25_mergeRuns_2 0 rfl rfl)
theorem dJ25_mergeRuns_49 : decode cJ25_mergeRuns 49 = .ok (.iinc 8 (-1), 3) := dk_132 8 255 (dk_at dksJ25_mergeRuns_2 1 rfl rfl)
theorem dJ25_mergeRuns_52 : decode cJ25_mergeRuns 52 = .ok (.iload 8, 2) := dk_21 8 (dk_at dksJ25_mergeRuns_2 4 rfl rfl)
theorem dJ25_mergeRuns_54 : decode cJ25_mergeRuns 54 = .ok (.laload, 1) := dk_47 (dk_at dksJ25_mergeRuns_2 6 rfl rfl)
theorem dJ25_mergeRuns_55 : decode cJ25_mergeRuns 55 = .ok (.lastore, 1) := dk_80 (dk_at dksJ25_mergeRuns_2 7 rfl rfl)
theorem dJ25_mergeRuns_56 : decode cJ25_mergeRuns 56 = .ok (.goto (-21), 3) := dk_167 255 235 (dk_at dksJ25_mergeRuns_2 8 rfl rfl)
theorem dJ25_mergeRuns_59 : decode cJ25_mergeRuns 59 = .ok (.aload_n 1, 1) := dk_43 (dk_at dksJ25_mergeRuns_2 11 rfl rfl)
theorem dJ25_mergeRuns_60 : decode cJ25_mergeRuns 60 = .ok (.areturn, 1) := dk_176 (dk_at dksJ25_mergeRuns_2 12 rfl rfl)
theorem dJ25_mergeRuns_61 : decode cJ25_mergeRuns 61 = .ok (.iload 6, 2) := dk_21 6 (dk_at dksJ25_mergeRuns_2 13 rfl rfl)
theorem dJ25_mergeRuns_63 : decode cJ25_mergeRuns 63 = .ok (.istore 8, 2) := dk_54 8 (dk_at dksJ25_mergeRuns_2 15 rfl rfl)
theorem dJ25_mergeRuns_65 : decode cJ25_mergeRuns 65 = .ok (.aload 5, 2) := dk_25 5 (dk_at dksJ25_mergeRuns_2 17 rfl rfl)
theorem dJ25_mergeRuns_67 : decode cJ25_mergeRuns 67 = .ok (.iload 6, 2) := dk_21 6 (dk_at dksJ25_mergeRuns_2 19 rfl rfl)
theorem dJ25_mergeRuns_69 : decode cJ25_mergeRuns 69 = .ok (.iaload, 1) := dk_46 (dk_at dksJ25_mergeRuns_2 21 rfl rfl)
theorem dJ25_mergeRuns_70 : decode cJ25_mergeRuns 70 = .ok (.aload 5, 2) := dk_25 5 (dk_at dksJ25_mergeRuns_2 22 rfl rfl)
theorem dJ25_mergeRuns_72 : decode cJ25_mergeRuns 72 = .ok (.iload 7, 2) := dk_21 7 (dk_at dksJ25_mergeRuns_3 0 rfl rfl)
theorem dJ25_mergeRuns_74 : decode cJ25_mergeRuns 74 = .ok (.iaload, 1) := dk_46 (dk_at dksJ25_mergeRuns_3 2 rfl rfl)
theorem dJ25_mergeRuns_75 : decode cJ25_mergeRuns 75 = .ok (.iadd, 1) := dk_96 (dk_at dksJ25_mergeRuns_3 3 rfl rfl)
theorem dJ25_mergeRuns_76 : decode cJ25_mergeRuns 76 = .ok (.iconst 1, 1) := dk_4 (dk_at dksJ25_mergeRuns_3 4 rfl rfl)
theorem dJ25_mergeRuns_77 : decode cJ25_mergeRuns 77 = .ok (.iushr, 1) := dk_124 (dk_at dksJ25_mergeRuns_3 5 rfl rfl)
theorem dJ25_mergeRuns_78 : decode cJ25_mergeRuns 78 = .ok (.istore 9, 2) := dk_54 9 (dk_at dksJ25_mergeRuns_3 6 rfl rfl)
theorem dJ25_mergeRuns_80 : decode cJ25_mergeRuns 80 = .ok (.aload 5, 2) := dk_25 5 (dk_at dksJ25_mergeRuns_3 8 rfl rfl)
theorem dJ25_mergeRuns_82 : decode cJ25_mergeRuns 82 = .ok (.iinc 8 1, 3) := dk_132 8 1 (dk_at dksJ25_mergeRuns_3 10 rfl rfl)
theorem dJ25_mergeRuns_85 : decode cJ25_mergeRuns 85 = .ok (.iload 8, 2) := dk_21 8 (dk_at dksJ25_mergeRuns_3 13 rfl rfl)
theorem dJ25_mergeRuns_87 : decode cJ25_mergeRuns 87 = .ok (.iconst 1, 1) := dk_4 (dk_at dksJ25_mergeRuns_3 15 rfl rfl)
theorem dJ25_mergeRuns_88 : decode cJ25_mergeRuns 88 = .ok (.iadd, 1) := dk_96 (dk_at dksJ25_mergeRuns_3 16 rfl rfl)
theorem dJ25_mergeRuns_89 : decode cJ25_mergeRuns 89 = .ok (.iaload, 1) := dk_46 (dk_at dksJ25_mergeRuns_3 17 rfl rfl)
theorem dJ25_mergeRuns_90 : decode cJ25_mergeRuns 90 = .ok (.iload 9, 2) := dk_21 9 (dk_at dksJ25_mergeRuns_3 18 rfl rfl)
theorem dJ25_mergeRuns_92 : decode cJ25_mergeRuns 92 = .ok (.if_icmp .gt 6, 3) := dk_163 0 6 (dk_at dksJ25_mergeRuns_3 20 rfl rfl)
theorem dJ25_mergeRuns_95 : decode cJ25_mergeRuns 95 = .ok (.goto (-15), 3) := dk_167 255 241 (dk_at dksJ25_mergeRuns_4 0 rfl rfl)
theorem dJ25_mergeRuns_98 : decode cJ25_mergeRuns 98 = .ok (.iload 4, 2) := dk_21 4 (dk_at dksJ25_mergeRuns_4 3 rfl rfl)
theorem dJ25_mergeRuns_100 : decode cJ25_mergeRuns 100 = .ok (.ifCond .eq 64, 3) := dk_153 0 64 (dk_at dksJ25_mergeRuns_4 5 rfl rfl)
theorem dJ25_mergeRuns_103 : decode cJ25_mergeRuns 103 = .ok (.iload 7, 2) := dk_21 7 (dk_at dksJ25_mergeRuns_4 8 rfl rfl)
theorem dJ25_mergeRuns_105 : decode cJ25_mergeRuns 105 = .ok (.iload 6, 2) := dk_21 6 (dk_at dksJ25_mergeRuns_4 10 rfl rfl)
theorem dJ25_mergeRuns_107 : decode cJ25_mergeRuns 107 = .ok (.isub, 1) := dk_100 (dk_at dksJ25_mergeRuns_4 12 rfl rfl)
theorem dJ25_mergeRuns_108 : decode cJ25_mergeRuns 108 = .ok (.iconst 4, 1) := dk_7 (dk_at dksJ25_mergeRuns_4 13 rfl rfl)
theorem dJ25_mergeRuns_109 : decode cJ25_mergeRuns 109 = .ok (.if_icmp .le 55, 3) := dk_164 0 55 (dk_at dksJ25_mergeRuns_4 14 rfl rfl)
theorem dJ25_mergeRuns_112 : decode cJ25_mergeRuns 112 = .ok (.new 73, 3) := dk_187 0 73 (dk_at dksJ25_mergeRuns_4 17 rfl rfl)
theorem dJ25_mergeRuns_115 : decode cJ25_mergeRuns 115 = .ok (.dup, 1) := dk_89 (dk_at dksJ25_mergeRuns_4 20 rfl rfl)
theorem dJ25_mergeRuns_116 : decode cJ25_mergeRuns 116 = .ok (.aload_n 0, 1) := dk_42 (dk_at dksJ25_mergeRuns_4 21 rfl rfl)
theorem dJ25_mergeRuns_117 : decode cJ25_mergeRuns 117 = .ok (.aload_n 1, 1) := dk_43 (dk_at dksJ25_mergeRuns_4 22 rfl rfl)
theorem dJ25_mergeRuns_118 : decode cJ25_mergeRuns 118 = .ok (.iload_n 2, 1) := dk_28 (dk_at dksJ25_mergeRuns_4 23 rfl rfl)
theorem dJ25_mergeRuns_119 : decode cJ25_mergeRuns 119 = .ok (.iconst 0, 1) := dk_3 (dk_at dksJ25_mergeRuns_5 0 rfl rfl)
theorem dJ25_mergeRuns_120 : decode cJ25_mergeRuns 120 = .ok (.aload 5, 2) := dk_25 5 (dk_at dksJ25_mergeRuns_5 1 rfl rfl)
theorem dJ25_mergeRuns_122 : decode cJ25_mergeRuns 122 = .ok (.iload 8, 2) := dk_21 8 (dk_at dksJ25_mergeRuns_5 3 rfl rfl)
theorem dJ25_mergeRuns_124 : decode cJ25_mergeRuns 124 = .ok (.iload 7, 2) := dk_21 7 (dk_at dksJ25_mergeRuns_5 5 rfl rfl)
theorem dJ25_mergeRuns_126 : decode cJ25_mergeRuns 126 = .ok (.invokespecial 75, 3) := dk_183 0 75 (dk_at dksJ25_mergeRuns_5 7 rfl rfl)
theorem dJ25_mergeRuns_129 : decode cJ25_mergeRuns 129 = .ok (.invokevirtual 78, 3) := dk_182 0 78 (dk_at dksJ25_mergeRuns_5 10 rfl rfl)
theorem dJ25_mergeRuns_132 : decode cJ25_mergeRuns 132 = .ok (.astore 12, 2) := dk_58 12 (dk_at dksJ25_mergeRuns_5 13 rfl rfl)
theorem dJ25_mergeRuns_134 : decode cJ25_mergeRuns 134 = .ok (.aload_n 0, 1) := dk_42 (dk_at dksJ25_mergeRuns_5 15 rfl rfl)
theorem dJ25_mergeRuns_135 : decode cJ25_mergeRuns 135 = .ok (.aload_n 1, 1) := dk_43 (dk_at dksJ25_mergeRuns_5 16 rfl rfl)
theorem dJ25_mergeRuns_136 : decode cJ25_mergeRuns 136 = .ok (.iload_n 2, 1) := dk_28 (dk_at dksJ25_mergeRuns_5 17 rfl rfl)
theorem dJ25_mergeRuns_137 : decode cJ25_mergeRuns 137 = .ok (.iload_n 3, 1) := dk_29 (dk_at dksJ25_mergeRuns_5 18 rfl rfl)
theorem dJ25_mergeRuns_138 : decode cJ25_mergeRuns 138 = .ok (.ineg, 1) := dk_116 (dk_at dksJ25_mergeRuns_5 19 rfl rfl)
theorem dJ25_mergeRuns_139 : decode cJ25_mergeRuns 139 = .ok (.iconst 1, 1) := dk_4 (dk_at dksJ25_mergeRuns_5 20 rfl rfl)
theorem dJ25_mergeRuns_140 : decode cJ25_mergeRuns 140 = .ok (.aload 5, 2) := dk_25 5 (dk_at dksJ25_mergeRuns_5 21 rfl rfl)
theorem dJ25_mergeRuns_142 : decode cJ25_mergeRuns 142 = .ok (.iload 6, 2) := dk_21 6 (dk_at dksJ25_mergeRuns_6 0 rfl rfl)
theorem dJ25_mergeRuns_144 : decode cJ25_mergeRuns 144 = .ok (.iload 8, 2) := dk_21 8 (dk_at dksJ25_mergeRuns_6 2 rfl rfl)
theorem dJ25_mergeRuns_146 : decode cJ25_mergeRuns 146 = .ok (.invokestatic 118, 3) := dk_184 0 118 (dk_at dksJ25_mergeRuns_6 4 rfl rfl)
theorem dJ25_mergeRuns_149 : decode cJ25_mergeRuns 149 = .ok (.astore 10, 2) := dk_58 10 (dk_at dksJ25_mergeRuns_6 7 rfl rfl)
theorem dJ25_mergeRuns_151 : decode cJ25_mergeRuns 151 = .ok (.aload 12, 2) := dk_25 12 (dk_at dksJ25_mergeRuns_6 9 rfl rfl)
theorem dJ25_mergeRuns_153 : decode cJ25_mergeRuns 153 = .ok (.invokevirtual 82, 3) := dk_182 0 82 (dk_at dksJ25_mergeRuns_6 11 rfl rfl)
theorem dJ25_mergeRuns_156 : decode cJ25_mergeRuns 156 = .ok (.checkcast 116, 3) := dk_192 0 116 (dk_at dksJ25_mergeRuns_6 14 rfl rfl)
theorem dJ25_mergeRuns_159 : decode cJ25_mergeRuns 159 = .ok (.astore 11, 2) := dk_58 11 (dk_at dksJ25_mergeRuns_6 17 rfl rfl)
theorem dJ25_mergeRuns_161 : decode cJ25_mergeRuns 161 = .ok (.goto 36, 3) := dk_167 0 36 (dk_at dksJ25_mergeRuns_6 19 rfl rfl)
theorem dJ25_mergeRuns_164 : decode cJ25_mergeRuns 164 = .ok (.aload_n 0, 1) := dk_42 (dk_at dksJ25_mergeRuns_6 22 rfl rfl)
theorem dJ25_mergeRuns_165 : decode cJ25_mergeRuns 165 = .ok (.aload_n 1, 1) := dk_43 (dk_at dksJ25_mergeRuns_6 23 rfl rfl)
theorem dJ25_mergeRuns_166 : decode cJ25_mergeRuns 166 = .ok (.iload_n 2, 1) := dk_28 (dk_at dksJ25_mergeRuns_7 0 rfl rfl)
theorem dJ25_mergeRuns_167 : decode cJ25_mergeRuns 167 = .ok (.iload_n 3, 1) := dk_29 (dk_at dksJ25_mergeRuns_7 1 rfl rfl)
theorem dJ25_mergeRuns_168 : decode cJ25_mergeRuns 168 = .ok (.ineg, 1) := dk_116 (dk_at dksJ25_mergeRuns_7 2 rfl rfl)
theorem dJ25_mergeRuns_169 : decode cJ25_mergeRuns 169 = .ok (.iconst 0, 1) := dk_3 (dk_at dksJ25_mergeRuns_7 3 rfl rfl)
theorem dJ25_mergeRuns_170 : decode cJ25_mergeRuns 170 = .ok (.aload 5, 2) := dk_25 5 (dk_at dksJ25_mergeRuns_7 4 rfl rfl)
theorem dJ25_mergeRuns_172 : decode cJ25_mergeRuns 172 = .ok (.iload 6, 2) := dk_21 6 (dk_at dksJ25_mergeRuns_7 6 rfl rfl)
theorem dJ25_mergeRuns_174 : decode cJ25_mergeRuns 174 = .ok (.iload 8, 2) := dk_21 8 (dk_at dksJ25_mergeRuns_7 8 rfl rfl)
theorem dJ25_mergeRuns_176 : decode cJ25_mergeRuns 176 = .ok (.invokestatic 118, 3) := dk_184 0 118 (dk_at dksJ25_mergeRuns_7 10 rfl rfl)
theorem dJ25_mergeRuns_179 : decode cJ25_mergeRuns 179 = .ok (.astore 10, 2) := dk_58 10 (dk_at dksJ25_mergeRuns_7 13 rfl rfl)
theorem dJ25_mergeRuns_181 : decode cJ25_mergeRuns 181 = .ok (.aload_n 0, 1) := dk_42 (dk_at dksJ25_mergeRuns_7 15 rfl rfl)
theorem dJ25_mergeRuns_182 : decode cJ25_mergeRuns 182 = .ok (.aload_n 1, 1) := dk_43 (dk_at dksJ25_mergeRuns_7 16 rfl rfl)
theorem dJ25_mergeRuns_183 : decode cJ25_mergeRuns 183 = .ok (.iload_n 2, 1) := dk_28 (dk_at dksJ25_mergeRuns_7 17 rfl rfl)
theorem dJ25_mergeRuns_184 : decode cJ25_mergeRuns 184 = .ok (.iconst 0, 1) := dk_3 (dk_at dksJ25_mergeRuns_7 18 rfl rfl)
theorem dJ25_mergeRuns_185 : decode cJ25_mergeRuns 185 = .ok (.iconst 0, 1) := dk_3 (dk_at dksJ25_mergeRuns_7 19 rfl rfl)
theorem dJ25_mergeRuns_186 : decode cJ25_mergeRuns 186 = .ok (.aload 5, 2) := dk_25 5 (dk_at dksJ25_mergeRuns_7 20 rfl rfl)
theorem dJ25_mergeRuns_188 : decode cJ25_mergeRuns 188 = .ok (.iload 8, 2) := dk_21 8 (dk_at dksJ25_mergeRuns_7 22 rfl rfl)
theorem dJ25_mergeRuns_190 : decode cJ25_mergeRuns 190 = .ok (.iload 7, 2) := dk_21 7 (dk_at dksJ25_mergeRuns_8 0 rfl rfl)
theorem dJ25_mergeRuns_192 : decode cJ25_mergeRuns 192 = .ok (.invokestatic 118, 3) := dk_184 0 118 (dk_at dksJ25_mergeRuns_8 2 rfl rfl)
theorem dJ25_mergeRuns_195 : decode cJ25_mergeRuns 195 = .ok (.astore 11, 2) := dk_58 11 (dk_at dksJ25_mergeRuns_8 5 rfl rfl)
theorem dJ25_mergeRuns_197 : decode cJ25_mergeRuns 197 = .ok (.aload 10, 2) := dk_25 10 (dk_at dksJ25_mergeRuns_8 7 rfl rfl)
theorem dJ25_mergeRuns_199 : decode cJ25_mergeRuns 199 = .ok (.aload_n 0, 1) := dk_42 (dk_at dksJ25_mergeRuns_8 9 rfl rfl)
theorem dJ25_mergeRuns_200 : decode cJ25_mergeRuns 200 = .ok (.if_acmp .ne 7, 3) := dk_166 0 7 (dk_at dksJ25_mergeRuns_8 10 rfl rfl)
theorem dJ25_mergeRuns_203 : decode cJ25_mergeRuns 203 = .ok (.aload_n 1, 1) := dk_43 (dk_at dksJ25_mergeRuns_8 13 rfl rfl)
theorem dJ25_mergeRuns_204 : decode cJ25_mergeRuns 204 = .ok (.goto 4, 3) := dk_167 0 4 (dk_at dksJ25_mergeRuns_8 14 rfl rfl)
theorem dJ25_mergeRuns_207 : decode cJ25_mergeRuns 207 = .ok (.aload_n 0, 1) := dk_42 (dk_at dksJ25_mergeRuns_8 17 rfl rfl)
theorem dJ25_mergeRuns_208 : decode cJ25_mergeRuns 208 = .ok (.astore 12, 2) := dk_58 12 (dk_at dksJ25_mergeRuns_8 18 rfl rfl)
theorem dJ25_mergeRuns_210 : decode cJ25_mergeRuns 210 = .ok (.aload 10, 2) := dk_25 10 (dk_at dksJ25_mergeRuns_8 20 rfl rfl)
theorem dJ25_mergeRuns_212 : decode cJ25_mergeRuns 212 = .ok (.aload_n 0, 1) := dk_42 (dk_at dksJ25_mergeRuns_8 22 rfl rfl)
theorem dJ25_mergeRuns_213 : decode cJ25_mergeRuns 213 = .ok (.if_acmp .ne 13, 3) := dk_166 0 13 (dk_at dksJ25_mergeRuns_9 0 rfl rfl)
theorem dJ25_mergeRuns_216 : decode cJ25_mergeRuns 216 = .ok (.aload 5, 2) := dk_25 5 (dk_at dksJ25_mergeRuns_9 3 rfl rfl)
theorem dJ25_mergeRuns_218 : decode cJ25_mergeRuns 218 = .ok (.iload 6, 2) := dk_21 6 (dk_at dksJ25_mergeRuns_9 5 rfl rfl)
theorem dJ25_mergeRuns_220 : decode cJ25_mergeRuns 220 = .ok (.iaload, 1) := dk_46 (dk_at dksJ25_mergeRuns_9 7 rfl rfl)
theorem dJ25_mergeRuns_221 : decode cJ25_mergeRuns 221 = .ok (.iload_n 2, 1) := dk_28 (dk_at dksJ25_mergeRuns_9 8 rfl rfl)
theorem dJ25_mergeRuns_222 : decode cJ25_mergeRuns 222 = .ok (.isub, 1) := dk_100 (dk_at dksJ25_mergeRuns_9 9 rfl rfl)
theorem dJ25_mergeRuns_223 : decode cJ25_mergeRuns 223 = .ok (.goto 8, 3) := dk_167 0 8 (dk_at dksJ25_mergeRuns_9 10 rfl rfl)
theorem dJ25_mergeRuns_226 : decode cJ25_mergeRuns 226 = .ok (.aload 5, 2) := dk_25 5 (dk_at dksJ25_mergeRuns_9 13 rfl rfl)
theorem dJ25_mergeRuns_228 : decode cJ25_mergeRuns 228 = .ok (.iload 6, 2) := dk_21 6 (dk_at dksJ25_mergeRuns_9 15 rfl rfl)
theorem dJ25_mergeRuns_230 : decode cJ25_mergeRuns 230 = .ok (.iaload, 1) := dk_46 (dk_at dksJ25_mergeRuns_9 17 rfl rfl)
theorem dJ25_mergeRuns_231 : decode cJ25_mergeRuns 231 = .ok (.istore 13, 2) := dk_54 13 (dk_at dksJ25_mergeRuns_9 18 rfl rfl)
theorem dJ25_mergeRuns_233 : decode cJ25_mergeRuns 233 = .ok (.aload 10, 2) := dk_25 10 (dk_at dksJ25_mergeRuns_9 20 rfl rfl)
theorem dJ25_mergeRuns_235 : decode cJ25_mergeRuns 235 = .ok (.aload_n 1, 1) := dk_43 (dk_at dksJ25_mergeRuns_9 22 rfl rfl)
theorem dJ25_mergeRuns_236 : decode cJ25_mergeRuns 236 = .ok (.if_acmp .ne 13, 3) := dk_166 0 13 (dk_at dksJ25_mergeRuns_10 0 rfl rfl)
theorem dJ25_mergeRuns_239 : decode cJ25_mergeRuns 239 = .ok (.aload 5, 2) := dk_25 5 (dk_at dksJ25_mergeRuns_10 3 rfl rfl)
theorem dJ25_mergeRuns_241 : decode cJ25_mergeRuns 241 = .ok (.iload 6, 2) := dk_21 6 (dk_at dksJ25_mergeRuns_10 5 rfl rfl)
theorem dJ25_mergeRuns_243 : decode cJ25_mergeRuns 243 = .ok (.iaload, 1) := dk_46 (dk_at dksJ25_mergeRuns_10 7 rfl rfl)
theorem dJ25_mergeRuns_244 : decode cJ25_mergeRuns 244 = .ok (.iload_n 2, 1) := dk_28 (dk_at dksJ25_mergeRuns_10 8 rfl rfl)
theorem dJ25_mergeRuns_245 : decode cJ25_mergeRuns 245 = .ok (.isub, 1) := dk_100 (dk_at dksJ25_mergeRuns_10 9 rfl rfl)
theorem dJ25_mergeRuns_246 : decode cJ25_mergeRuns 246 = .ok (.goto 8, 3) := dk_167 0 8 (dk_at dksJ25_mergeRuns_10 10 rfl rfl)
theorem dJ25_mergeRuns_249 : decode cJ25_mergeRuns 249 = .ok (.aload 5, 2) := dk_25 5 (dk_at dksJ25_mergeRuns_10 13 rfl rfl)
theorem dJ25_mergeRuns_251 : decode cJ25_mergeRuns 251 = .ok (.iload 6, 2) := dk_21 6 (dk_at dksJ25_mergeRuns_10 15 rfl rfl)
theorem dJ25_mergeRuns_253 : decode cJ25_mergeRuns 253 = .ok (.iaload, 1) := dk_46 (dk_at dksJ25_mergeRuns_10 17 rfl rfl)
theorem dJ25_mergeRuns_254 : decode cJ25_mergeRuns 254 = .ok (.istore 14, 2) := dk_54 14 (dk_at dksJ25_mergeRuns_10 18 rfl rfl)
theorem dJ25_mergeRuns_256 : decode cJ25_mergeRuns 256 = .ok (.aload 10, 2) := dk_25 10 (dk_at dksJ25_mergeRuns_10 20 rfl rfl)
theorem dJ25_mergeRuns_258 : decode cJ25_mergeRuns 258 = .ok (.aload_n 1, 1) := dk_43 (dk_at dksJ25_mergeRuns_10 22 rfl rfl)
theorem dJ25_mergeRuns_259 : decode cJ25_mergeRuns 259 = .ok (.if_acmp .ne 13, 3) := dk_166 0 13 (dk_at dksJ25_mergeRuns_11 0 rfl rfl)
theorem dJ25_mergeRuns_262 : decode cJ25_mergeRuns 262 = .ok (.aload 5, 2) := dk_25 5 (dk_at dksJ25_mergeRuns_11 3 rfl rfl)
theorem dJ25_mergeRuns_264 : decode cJ25_mergeRuns 264 = .ok (.iload 8, 2) := dk_21 8 (dk_at dksJ25_mergeRuns_11 5 rfl rfl)
theorem dJ25_mergeRuns_266 : decode cJ25_mergeRuns 266 = .ok (.iaload, 1) := dk_46 (dk_at dksJ25_mergeRuns_11 7 rfl rfl)
theorem dJ25_mergeRuns_267 : decode cJ25_mergeRuns 267 = .ok (.iload_n 2, 1) := dk_28 (dk_at dksJ25_mergeRuns_11 8 rfl rfl)
theorem dJ25_mergeRuns_268 : decode cJ25_mergeRuns 268 = .ok (.isub, 1) := dk_100 (dk_at dksJ25_mergeRuns_11 9 rfl rfl)
theorem dJ25_mergeRuns_269 : decode cJ25_mergeRuns 269 = .ok (.goto 8, 3) := dk_167 0 8 (dk_at dksJ25_mergeRuns_11 10 rfl rfl)
theorem dJ25_mergeRuns_272 : decode cJ25_mergeRuns 272 = .ok (.aload 5, 2) := dk_25 5 (dk_at dksJ25_mergeRuns_11 13 rfl rfl)
theorem dJ25_mergeRuns_274 : decode cJ25_mergeRuns 274 = .ok (.iload 8, 2) := dk_21 8 (dk_at dksJ25_mergeRuns_11 15 rfl rfl)
theorem dJ25_mergeRuns_276 : decode cJ25_mergeRuns 276 = .ok (.iaload, 1) := dk_46 (dk_at dksJ25_mergeRuns_11 17 rfl rfl)
theorem dJ25_mergeRuns_277 : decode cJ25_mergeRuns 277 = .ok (.istore 15, 2) := dk_54 15 (dk_at dksJ25_mergeRuns_11 18 rfl rfl)
theorem dJ25_mergeRuns_279 : decode cJ25_mergeRuns 279 = .ok (.aload 11, 2) := dk_25 11 (dk_at dksJ25_mergeRuns_11 20 rfl rfl)
theorem dJ25_mergeRuns_281 : decode cJ25_mergeRuns 281 = .ok (.aload_n 1, 1) := dk_43 (dk_at dksJ25_mergeRuns_11 22 rfl rfl)
theorem dJ25_mergeRuns_282 : decode cJ25_mergeRuns 282 = .ok (.if_acmp .ne 13, 3) := dk_166 0 13 (dk_at dksJ25_mergeRuns_12 0 rfl rfl)
theorem dJ25_mergeRuns_285 : decode cJ25_mergeRuns 285 = .ok (.aload 5, 2) := dk_25 5 (dk_at dksJ25_mergeRuns_12 3 rfl rfl)
theorem dJ25_mergeRuns_287 : decode cJ25_mergeRuns 287 = .ok (.iload 8, 2) := dk_21 8 (dk_at dksJ25_mergeRuns_12 5 rfl rfl)
theorem dJ25_mergeRuns_289 : decode cJ25_mergeRuns 289 = .ok (.iaload, 1) := dk_46 (dk_at dksJ25_mergeRuns_12 7 rfl rfl)
theorem dJ25_mergeRuns_290 : decode cJ25_mergeRuns 290 = .ok (.iload_n 2, 1) := dk_28 (dk_at dksJ25_mergeRuns_12 8 rfl rfl)
theorem dJ25_mergeRuns_291 : decode cJ25_mergeRuns 291 = .ok (.isub, 1) := dk_100 (dk_at dksJ25_mergeRuns_12 9 rfl rfl)
theorem dJ25_mergeRuns_292 : decode cJ25_mergeRuns 292 = .ok (.goto 8, 3) := dk_167 0 8 (dk_at dksJ25_mergeRuns_12 10 rfl rfl)
theorem dJ25_mergeRuns_295 : decode cJ25_mergeRuns 295 = .ok (.aload 5, 2) := dk_25 5 (dk_at dksJ25_mergeRuns_12 13 rfl rfl)
theorem dJ25_mergeRuns_297 : decode cJ25_mergeRuns 297 = .ok (.iload 8, 2) := dk_21 8 (dk_at dksJ25_mergeRuns_12 15 rfl rfl)
theorem dJ25_mergeRuns_299 : decode cJ25_mergeRuns 299 = .ok (.iaload, 1) := dk_46 (dk_at dksJ25_mergeRuns_12 17 rfl rfl)
theorem dJ25_mergeRuns_300 : decode cJ25_mergeRuns 300 = .ok (.istore 16, 2) := dk_54 16 (dk_at dksJ25_mergeRuns_12 18 rfl rfl)
theorem dJ25_mergeRuns_302 : decode cJ25_mergeRuns 302 = .ok (.aload 11, 2) := dk_25 11 (dk_at dksJ25_mergeRuns_12 20 rfl rfl)
theorem dJ25_mergeRuns_304 : decode cJ25_mergeRuns 304 = .ok (.aload_n 1, 1) := dk_43 (dk_at dksJ25_mergeRuns_12 22 rfl rfl)
theorem dJ25_mergeRuns_305 : decode cJ25_mergeRuns 305 = .ok (.if_acmp .ne 13, 3) := dk_166 0 13 (dk_at dksJ25_mergeRuns_13 0 rfl rfl)
theorem dJ25_mergeRuns_308 : decode cJ25_mergeRuns 308 = .ok (.aload 5, 2) := dk_25 5 (dk_at dksJ25_mergeRuns_13 3 rfl rfl)
theorem dJ25_mergeRuns_310 : decode cJ25_mergeRuns 310 = .ok (.iload 7, 2) := dk_21 7 (dk_at dksJ25_mergeRuns_13 5 rfl rfl)
theorem dJ25_mergeRuns_312 : decode cJ25_mergeRuns 312 = .ok (.iaload, 1) := dk_46 (dk_at dksJ25_mergeRuns_13 7 rfl rfl)
theorem dJ25_mergeRuns_313 : decode cJ25_mergeRuns 313 = .ok (.iload_n 2, 1) := dk_28 (dk_at dksJ25_mergeRuns_13 8 rfl rfl)
theorem dJ25_mergeRuns_314 : decode cJ25_mergeRuns 314 = .ok (.isub, 1) := dk_100 (dk_at dksJ25_mergeRuns_13 9 rfl rfl)
theorem dJ25_mergeRuns_315 : decode cJ25_mergeRuns 315 = .ok (.goto 8, 3) := dk_167 0 8 (dk_at dksJ25_mergeRuns_13 10 rfl rfl)
theorem dJ25_mergeRuns_318 : decode cJ25_mergeRuns 318 = .ok (.aload 5, 2) := dk_25 5 (dk_at dksJ25_mergeRuns_13 13 rfl rfl)
theorem dJ25_mergeRuns_320 : decode cJ25_mergeRuns 320 = .ok (.iload 7, 2) := dk_21 7 (dk_at dksJ25_mergeRuns_13 15 rfl rfl)
theorem dJ25_mergeRuns_322 : decode cJ25_mergeRuns 322 = .ok (.iaload, 1) := dk_46 (dk_at dksJ25_mergeRuns_13 17 rfl rfl)
theorem dJ25_mergeRuns_323 : decode cJ25_mergeRuns 323 = .ok (.istore 17, 2) := dk_54 17 (dk_at dksJ25_mergeRuns_13 18 rfl rfl)
theorem dJ25_mergeRuns_325 : decode cJ25_mergeRuns 325 = .ok (.iload 4, 2) := dk_21 4 (dk_at dksJ25_mergeRuns_13 20 rfl rfl)
theorem dJ25_mergeRuns_327 : decode cJ25_mergeRuns 327 = .ok (.ifCond .eq 34, 3) := dk_153 0 34 (dk_at dksJ25_mergeRuns_14 0 rfl rfl)
theorem dJ25_mergeRuns_330 : decode cJ25_mergeRuns 330 = .ok (.new 85, 3) := dk_187 0 85 (dk_at dksJ25_mergeRuns_14 3 rfl rfl)
theorem dJ25_mergeRuns_333 : decode cJ25_mergeRuns 333 = .ok (.dup, 1) := dk_89 (dk_at dksJ25_mergeRuns_14 6 rfl rfl)
theorem dJ25_mergeRuns_334 : decode cJ25_mergeRuns 334 = .ok (.aconst_null, 1) := dk_1 (dk_at dksJ25_mergeRuns_14 7 rfl rfl)
theorem dJ25_mergeRuns_335 : decode cJ25_mergeRuns 335 = .ok (.aload 12, 2) := dk_25 12 (dk_at dksJ25_mergeRuns_14 8 rfl rfl)
theorem dJ25_mergeRuns_337 : decode cJ25_mergeRuns 337 = .ok (.iload 13, 2) := dk_21 13 (dk_at dksJ25_mergeRuns_14 10 rfl rfl)
theorem dJ25_mergeRuns_339 : decode cJ25_mergeRuns 339 = .ok (.aload 10, 2) := dk_25 10 (dk_at dksJ25_mergeRuns_14 12 rfl rfl)
theorem dJ25_mergeRuns_341 : decode cJ25_mergeRuns 341 = .ok (.iload 14, 2) := dk_21 14 (dk_at dksJ25_mergeRuns_14 14 rfl rfl)
theorem dJ25_mergeRuns_343 : decode cJ25_mergeRuns 343 = .ok (.iload 15, 2) := dk_21 15 (dk_at dksJ25_mergeRuns_14 16 rfl rfl)
theorem dJ25_mergeRuns_345 : decode cJ25_mergeRuns 345 = .ok (.aload 11, 2) := dk_25 11 (dk_at dksJ25_mergeRuns_14 18 rfl rfl)
theorem dJ25_mergeRuns_347 : decode cJ25_mergeRuns 347 = .ok (.iload 16, 2) := dk_21 16 (dk_at dksJ25_mergeRuns_14 20 rfl rfl)
theorem dJ25_mergeRuns_349 : decode cJ25_mergeRuns 349 = .ok (.iload 17, 2) := dk_21 17 (dk_at dksJ25_mergeRuns_14 22 rfl rfl)
theorem dJ25_mergeRuns_351 : decode cJ25_mergeRuns 351 = .ok (.invokespecial 87, 3) := dk_183 0 87 (dk_at dksJ25_mergeRuns_15 0 rfl rfl)
theorem dJ25_mergeRuns_354 : decode cJ25_mergeRuns 354 = .ok (.invokevirtual 90, 3) := dk_182 0 90 (dk_at dksJ25_mergeRuns_15 3 rfl rfl)
theorem dJ25_mergeRuns_357 : decode cJ25_mergeRuns 357 = .ok (.pop, 1) := dk_87 (dk_at dksJ25_mergeRuns_15 6 rfl rfl)
theorem dJ25_mergeRuns_358 : decode cJ25_mergeRuns 358 = .ok (.goto 23, 3) := dk_167 0 23 (dk_at dksJ25_mergeRuns_15 7 rfl rfl)
theorem dJ25_mergeRuns_361 : decode cJ25_mergeRuns 361 = .ok (.aconst_null, 1) := dk_1 (dk_at dksJ25_mergeRuns_15 10 rfl rfl)
theorem dJ25_mergeRuns_362 : decode cJ25_mergeRuns 362 = .ok (.aload 12, 2) := dk_25 12 (dk_at dksJ25_mergeRuns_15 11 rfl rfl)
theorem dJ25_mergeRuns_364 : decode cJ25_mergeRuns 364 = .ok (.iload 13, 2) := dk_21 13 (dk_at dksJ25_mergeRuns_15 13 rfl rfl)
theorem dJ25_mergeRuns_366 : decode cJ25_mergeRuns 366 = .ok (.aload 10, 2) := dk_25 10 (dk_at dksJ25_mergeRuns_15 15 rfl rfl)
theorem dJ25_mergeRuns_368 : decode cJ25_mergeRuns 368 = .ok (.iload 14, 2) := dk_21 14 (dk_at dksJ25_mergeRuns_15 17 rfl rfl)
theorem dJ25_mergeRuns_370 : decode cJ25_mergeRuns 370 = .ok (.iload 15, 2) := dk_21 15 (dk_at dksJ25_mergeRuns_15 19 rfl rfl)
theorem dJ25_mergeRuns_372 : decode cJ25_mergeRuns 372 = .ok (.aload 11, 2) := dk_25 11 (dk_at dksJ25_mergeRuns_15 21 rfl rfl)
theorem dJ25_mergeRuns_374 : decode cJ25_mergeRuns 374 = .ok (.iload 16, 2) := dk_21 16 (dk_at dksJ25_mergeRuns_16 0 rfl rfl)
theorem dJ25_mergeRuns_376 : decode cJ25_mergeRuns 376 = .ok (.iload 17, 2) := dk_21 17 (dk_at dksJ25_mergeRuns_16 2 rfl rfl)
theorem dJ25_mergeRuns_378 : decode cJ25_mergeRuns 378 = .ok (.invokestatic 121, 3) := dk_184 0 121 (dk_at dksJ25_mergeRuns_16 4 rfl rfl)
theorem dJ25_mergeRuns_381 : decode cJ25_mergeRuns 381 = .ok (.aload 12, 2) := dk_25 12 (dk_at dksJ25_mergeRuns_16 7 rfl rfl)
theorem dJ25_mergeRuns_383 : decode cJ25_mergeRuns 383 = .ok (.areturn, 1) := dk_176 (dk_at dksJ25_mergeRuns_16 9 rfl rfl)
abbrev cJ25_mergeParts : ByteArray := prog_78_method_20_code
def yJ25_mergeParts : MethodName := ⟨RJ25, "mergeParts", "(Ljava/util/DualPivotQuicksort$Merger;[JI[JII[JII)V"⟩
def dkwJ25_mergeParts_12 : List UInt8 := [132, 2, 1, 25, 6, 21, 7, 132, 7, 1, 47, 80, 167, 255, 235, 177]
abbrev dktJ25_mergeParts_12 : List UInt8 := dkwJ25_mergeParts_12 ++ []
def dkwJ25_mergeParts_11 : List UInt8 := [167, 255, 236, 43, 25, 6, 166, 0, 9, 28, 21, 7, 162, 0, 27, 21, 7, 21, 8, 162, 0, 20, 43, 28]
abbrev dktJ25_mergeParts_11 : List UInt8 := dkwJ25_mergeParts_11 ++ dktJ25_mergeParts_12
def dkwJ25_mergeParts_10 : List UInt8 := [162, 0, 26, 21, 4, 21, 5, 162, 0, 19, 43, 28, 132, 2, 1, 45, 21, 4, 132, 4, 1, 47, 80]
abbrev dktJ25_mergeParts_10 : List UInt8 := dkwJ25_mergeParts_10 ++ dktJ25_mergeParts_11
def dkwJ25_mergeParts_9 : List UInt8 := [167, 0, 11, 25, 6, 21, 7, 132, 7, 1, 47, 80, 167, 255, 205, 43, 45, 166, 0, 9, 28, 21, 4]
abbrev dktJ25_mergeParts_9 : List UInt8 := dkwJ25_mergeParts_9 ++ dktJ25_mergeParts_10
def dkwJ25_mergeParts_8 : List UInt8 := [132, 2, 1, 45, 21, 4, 47, 25, 6, 21, 7, 47, 148, 156, 0, 13, 45, 21, 4, 132, 4, 1, 47]
abbrev dktJ25_mergeParts_8 : List UInt8 := dkwJ25_mergeParts_8 ++ dktJ25_mergeParts_9
def dkwJ25_mergeParts_7 : List UInt8 := [21, 12, 54, 8, 167, 255, 98, 21, 4, 21, 5, 162, 0, 50, 21, 7, 21, 8, 162, 0, 43, 43, 28]
abbrev dktJ25_mergeParts_7 : List UInt8 := dkwJ25_mergeParts_7 ++ dktJ25_mergeParts_8
def dkwJ25_mergeParts_6 : List UInt8 := [43, 28, 21, 13, 96, 45, 21, 9, 21, 5, 25, 6, 21, 12, 21, 8, 182, 0, 95, 21, 9, 54, 5]
abbrev dktJ25_mergeParts_6 : List UInt8 := dkwJ25_mergeParts_6 ++ dktJ25_mergeParts_7
def dkwJ25_mergeParts_5 : List UInt8 := [167, 0, 7, 21, 14, 54, 12, 167, 255, 216, 21, 12, 21, 7, 100, 21, 9, 96, 21, 4, 100, 54, 13, 42]
abbrev dktJ25_mergeParts_5 : List UInt8 := dkwJ25_mergeParts_5 ++ dktJ25_mergeParts_6
def dkwJ25_mergeParts_4 : List UInt8 := [96, 4, 124, 54, 14, 22, 10, 25, 6, 21, 14, 47, 148, 158, 0, 12, 21, 14, 4, 96, 54, 13]
abbrev dktJ25_mergeParts_4 : List UInt8 := dkwJ25_mergeParts_4 ++ dktJ25_mergeParts_5
def dkwJ25_mergeParts_3 : List UInt8 := [21, 9, 47, 55, 10, 21, 8, 54, 12, 21, 7, 54, 13, 21, 13, 21, 12, 162, 0, 39, 21, 13, 21, 12]
abbrev dktJ25_mergeParts_3 : List UInt8 := dkwJ25_mergeParts_3 ++ dktJ25_mergeParts_4
def dkwJ25_mergeParts_2 : List UInt8 := [21, 5, 21, 4, 100, 17, 16, 0, 162, 0, 6, 167, 0, 113, 21, 4, 21, 5, 96, 4, 124, 54, 9, 45]
abbrev dktJ25_mergeParts_2 : List UInt8 := dkwJ25_mergeParts_2 ++ dktJ25_mergeParts_3
def dkwJ25_mergeParts_1 : List UInt8 := [21, 4, 54, 9, 21, 7, 54, 4, 21, 9, 54, 7, 21, 5, 54, 10, 21, 8, 54, 5, 21, 10, 54, 8]
abbrev dktJ25_mergeParts_1 : List UInt8 := dkwJ25_mergeParts_1 ++ dktJ25_mergeParts_2
def dkwJ25_mergeParts_0 : List UInt8 := [42, 198, 0, 170, 45, 25, 6, 166, 0, 164, 21, 5, 21, 4, 100, 21, 8, 21, 7, 100, 162, 0, 27]
abbrev dktJ25_mergeParts_0 : List UInt8 := dkwJ25_mergeParts_0 ++ dktJ25_mergeParts_1
theorem dksJ25_mergeParts_0 : cJ25_mergeParts.data.toList.drop 0 = dktJ25_mergeParts_0 := by decide +kernel
theorem dksJ25_mergeParts_1 : cJ25_mergeParts.data.toList.drop 23 = dktJ25_mergeParts_1 := dk_seg dksJ25_mergeParts_0 23 rfl rfl
theorem dksJ25_mergeParts_2 : cJ25_mergeParts.data.toList.drop 47 = dktJ25_mergeParts_2 := dk_seg dksJ25_mergeParts_1 24 rfl rfl
theorem dksJ25_mergeParts_3 : cJ25_mergeParts.data.toList.drop 71 = dktJ25_mergeParts_3 := dk_seg dksJ25_mergeParts_2 24 rfl rfl
theorem dksJ25_mergeParts_4 : cJ25_mergeParts.data.toList.drop 95 = dktJ25_mergeParts_4 := dk_seg dksJ25_mergeParts_3 24 rfl rfl
theorem dksJ25_mergeParts_5 : cJ25_mergeParts.data.toList.drop 117 = dktJ25_mergeParts_5 := dk_seg dksJ25_mergeParts_4 22 rfl rfl
theorem dksJ25_mergeParts_6 : cJ25_mergeParts.data.toList.drop 141 = dktJ25_mergeParts_6 := dk_seg dksJ25_mergeParts_5 24 rfl rfl
theorem dksJ25_mergeParts_7 : cJ25_mergeParts.data.toList.drop 164 = dktJ25_mergeParts_7 := dk_seg dksJ25_mergeParts_6 23 rfl rfl
theorem dksJ25_mergeParts_8 : cJ25_mergeParts.data.toList.drop 187 = dktJ25_mergeParts_8 := dk_seg dksJ25_mergeParts_7 23 rfl rfl
theorem dksJ25_mergeParts_9 : cJ25_mergeParts.data.toList.drop 210 = dktJ25_mergeParts_9 := dk_seg dksJ25_mergeParts_8 23 rfl rfl
theorem dksJ25_mergeParts_10 : cJ25_mergeParts.data.toList.drop 233 = dktJ25_mergeParts_10 := dk_seg dksJ25_mergeParts_9 23 rfl rfl
theorem dksJ25_mergeParts_11 : cJ25_mergeParts.data.toList.drop 256 = dktJ25_mergeParts_11 := dk_seg dksJ25_mergeParts_10 23 rfl rfl
theorem dksJ25_mergeParts_12 : cJ25_mergeParts.data.toList.drop 280 = dktJ25_mergeParts_12 := dk_seg dksJ25_mergeParts_11 24 rfl rfl
theorem dJ25_mergeParts_0 : decode cJ25_mergeParts 0 = .ok (.aload_n 0, 1) := dk_42 (dk_at dksJ25_mergeParts_0 0 rfl rfl)
theorem dJ25_mergeParts_1 : decode cJ25_mergeParts 1 = .ok (.ifnull 170, 3) := dk_198 0 170 (dk_at dksJ25_mergeParts_0 1 rfl rfl)
theorem dJ25_mergeParts_4 : decode cJ25_mergeParts 4 = .ok (.aload_n 3, 1) := dk_45 (dk_at dksJ25_mergeParts_0 4 rfl rfl)
theorem dJ25_mergeParts_5 : decode cJ25_mergeParts 5 = .ok (.aload 6, 2) := dk_25 6 (dk_at dksJ25_mergeParts_0 5 rfl rfl)
theorem dJ25_mergeParts_7 : decode cJ25_mergeParts 7 = .ok (.if_acmp .ne 164, 3) := dk_166 0 164 (dk_at dksJ25_mergeParts_0 7 rfl rfl)
theorem dJ25_mergeParts_10 : decode cJ25_mergeParts 10 = .ok (.iload 5, 2) := dk_21 5 (dk_at dksJ25_mergeParts_0 10 rfl rfl)
theorem dJ25_mergeParts_12 : decode cJ25_mergeParts 12 = .ok (.iload 4, 2) := dk_21 4 (dk_at dksJ25_mergeParts_0 12 rfl rfl)
theorem dJ25_mergeParts_14 : decode cJ25_mergeParts 14 = .ok (.isub, 1) := dk_100 (dk_at dksJ25_mergeParts_0 14 rfl rfl)
theorem dJ25_mergeParts_15 : decode cJ25_mergeParts 15 = .ok (.iload 8, 2) := dk_21 8 (dk_at dksJ25_mergeParts_0 15 rfl rfl)
theorem dJ25_mergeParts_17 : decode cJ25_mergeParts 17 = .ok (.iload 7, 2) := dk_21 7 (dk_at dksJ25_mergeParts_0 17 rfl rfl)
theorem dJ25_mergeParts_19 : decode cJ25_mergeParts 19 = .ok (.isub, 1) := dk_100 (dk_at dksJ25_mergeParts_0 19 rfl rfl)
theorem dJ25_mergeParts_20 : decode cJ25_mergeParts 20 = .ok (.if_icmp .ge 27, 3) := dk_162 0 27 (dk_at dksJ25_mergeParts_0 20 rfl rfl)
theorem dJ25_mergeParts_23 : decode cJ25_mergeParts 23 = .ok (.iload 4, 2) := dk_21 4 (dk_at dksJ25_mergeParts_1 0 rfl rfl)
theorem dJ25_mergeParts_25 : decode cJ25_mergeParts 25 = .ok (.istore 9, 2) := dk_54 9 (dk_at dksJ25_mergeParts_1 2 rfl rfl)
theorem dJ25_mergeParts_27 : decode cJ25_mergeParts 27 = .ok (.iload 7, 2) := dk_21 7 (dk_at dksJ25_mergeParts_1 4 rfl rfl)
theorem dJ25_mergeParts_29 : decode cJ25_mergeParts 29 = .ok (.istore 4, 2) := dk_54 4 (dk_at dksJ25_mergeParts_1 6 rfl rfl)
theorem dJ25_mergeParts_31 : decode cJ25_mergeParts 31 = .ok (.iload 9, 2) := dk_21 9 (dk_at dksJ25_mergeParts_1 8 rfl rfl)
theorem dJ25_mergeParts_33 : decode cJ25_mergeParts 33 = .ok (.istore 7, 2) := dk_54 7 (dk_at dksJ25_mergeParts_1 10 rfl rfl)
theorem dJ25_mergeParts_35 : decode cJ25_mergeParts 35 = .ok (.iload 5, 2) := dk_21 5 (dk_at dksJ25_mergeParts_1 12 rfl rfl)
theorem dJ25_mergeParts_37 : decode cJ25_mergeParts 37 = .ok (.istore 10, 2) := dk_54 10 (dk_at dksJ25_mergeParts_1 14 rfl rfl)
theorem dJ25_mergeParts_39 : decode cJ25_mergeParts 39 = .ok (.iload 8, 2) := dk_21 8 (dk_at dksJ25_mergeParts_1 16 rfl rfl)
theorem dJ25_mergeParts_41 : decode cJ25_mergeParts 41 = .ok (.istore 5, 2) := dk_54 5 (dk_at dksJ25_mergeParts_1 18 rfl rfl)
theorem dJ25_mergeParts_43 : decode cJ25_mergeParts 43 = .ok (.iload 10, 2) := dk_21 10 (dk_at dksJ25_mergeParts_1 20 rfl rfl)
theorem dJ25_mergeParts_45 : decode cJ25_mergeParts 45 = .ok (.istore 8, 2) := dk_54 8 (dk_at dksJ25_mergeParts_1 22 rfl rfl)
theorem dJ25_mergeParts_47 : decode cJ25_mergeParts 47 = .ok (.iload 5, 2) := dk_21 5 (dk_at dksJ25_mergeParts_2 0 rfl rfl)
theorem dJ25_mergeParts_49 : decode cJ25_mergeParts 49 = .ok (.iload 4, 2) := dk_21 4 (dk_at dksJ25_mergeParts_2 2 rfl rfl)
theorem dJ25_mergeParts_51 : decode cJ25_mergeParts 51 = .ok (.isub, 1) := dk_100 (dk_at dksJ25_mergeParts_2 4 rfl rfl)
theorem dJ25_mergeParts_52 : decode cJ25_mergeParts 52 = .ok (.sipush 4096, 3) := dk_17 16 0 (dk_at dksJ25_mergeParts_2 5 rfl rfl)
theorem dJ25_mergeParts_55 : decode cJ25_mergeParts 55 = .ok (.if_icmp .ge 6, 3) := dk_162 0 6 (dk_at dksJ25_mergeParts_2 8 rfl rfl)
theorem dJ25_mergeParts_58 : decode cJ25_mergeParts 58 = .ok (.goto 113, 3) := dk_167 0 113 (dk_at dksJ25_mergeParts_2 11 rfl rfl)
theorem dJ25_mergeParts_61 : decode cJ25_mergeParts 61 = .ok (.iload 4, 2) := dk_21 4 (dk_at dksJ25_mergeParts_2 14 rfl rfl)
theorem dJ25_mergeParts_63 : decode cJ25_mergeParts 63 = .ok (.iload 5, 2) := dk_21 5 (dk_at dksJ25_mergeParts_2 16 rfl rfl)
theorem dJ25_mergeParts_65 : decode cJ25_mergeParts 65 = .ok (.iadd, 1) := dk_96 (dk_at dksJ25_mergeParts_2 18 rfl rfl)
theorem dJ25_mergeParts_66 : decode cJ25_mergeParts 66 = .ok (.iconst 1, 1) := dk_4 (dk_at dksJ25_mergeParts_2 19 rfl rfl)
theorem dJ25_mergeParts_67 : decode cJ25_mergeParts 67 = .ok (.iushr, 1) := dk_124 (dk_at dksJ25_mergeParts_2 20 rfl rfl)
theorem dJ25_mergeParts_68 : decode cJ25_mergeParts 68 = .ok (.istore 9, 2) := dk_54 9 (dk_at dksJ25_mergeParts_2 21 rfl rfl)
theorem dJ25_mergeParts_70 : decode cJ25_mergeParts 70 = .ok (.aload_n 3, 1) := dk_45 (dk_at dksJ25_mergeParts_2 23 rfl rfl)
theorem dJ25_mergeParts_71 : decode cJ25_mergeParts 71 = .ok (.iload 9, 2) := dk_21 9 (dk_at dksJ25_mergeParts_3 0 rfl rfl)
theorem dJ25_mergeParts_73 : decode cJ25_mergeParts 73 = .ok (.laload, 1) := dk_47 (dk_at dksJ25_mergeParts_3 2 rfl rfl)
theorem dJ25_mergeParts_74 : decode cJ25_mergeParts 74 = .ok (.lstore 10, 2) := dk_55 10 (dk_at dksJ25_mergeParts_3 3 rfl rfl)
theorem dJ25_mergeParts_76 : decode cJ25_mergeParts 76 = .ok (.iload 8, 2) := dk_21 8 (dk_at dksJ25_mergeParts_3 5 rfl rfl)
theorem dJ25_mergeParts_78 : decode cJ25_mergeParts 78 = .ok (.istore 12, 2) := dk_54 12 (dk_at dksJ25_mergeParts_3 7 rfl rfl)
theorem dJ25_mergeParts_80 : decode cJ25_mergeParts 80 = .ok (.iload 7, 2) := dk_21 7 (dk_at dksJ25_mergeParts_3 9 rfl rfl)
theorem dJ25_mergeParts_82 : decode cJ25_mergeParts 82 = .ok (.istore 13, 2) := dk_54 13 (dk_at dksJ25_mergeParts_3 11 rfl rfl)
theorem dJ25_mergeParts_84 : decode cJ25_mergeParts 84 = .ok (.iload 13, 2) := dk_21 13 (dk_at dksJ25_mergeParts_3 13 rfl rfl)
theorem dJ25_mergeParts_86 : decode cJ25_mergeParts 86 = .ok (.iload 12, 2) := dk_21 12 (dk_at dksJ25_mergeParts_3 15 rfl rfl)
theorem dJ25_mergeParts_88 : decode cJ25_mergeParts 88 = .ok (.if_icmp .ge 39, 3) := dk_162 0 39 (dk_at dksJ25_mergeParts_3 17 rfl rfl)
theorem dJ25_mergeParts_91 : decode cJ25_mergeParts 91 = .ok (.iload 13, 2) := dk_21 13 (dk_at dksJ25_mergeParts_3 20 rfl rfl)
theorem dJ25_mergeParts_93 : decode cJ25_mergeParts 93 = .ok (.iload 12, 2) := dk_21 12 (dk_at dksJ25_mergeParts_3 22 rfl rfl)
theorem dJ25_mergeParts_95 : decode cJ25_mergeParts 95 = .ok (.iadd, 1) := dk_96 (dk_at dksJ25_mergeParts_4 0 rfl rfl)
theorem dJ25_mergeParts_96 : decode cJ25_mergeParts 96 = .ok (.iconst 1, 1) := dk_4 (dk_at dksJ25_mergeParts_4 1 rfl rfl)
theorem dJ25_mergeParts_97 : decode cJ25_mergeParts 97 = .ok (.iushr, 1) := dk_124 (dk_at dksJ25_mergeParts_4 2 rfl rfl)
theorem dJ25_mergeParts_98 : decode cJ25_mergeParts 98 = .ok (.istore 14, 2) := dk_54 14 (dk_at dksJ25_mergeParts_4 3 rfl rfl)
theorem dJ25_mergeParts_100 : decode cJ25_mergeParts 100 = .ok (.lload 10, 2) := dk_22 10 (dk_at dksJ25_mergeParts_4 5 rfl rfl)
theorem dJ25_mergeParts_102 : decode cJ25_mergeParts 102 = .ok (.aload 6, 2) := dk_25 6 (dk_at dksJ25_mergeParts_4 7 rfl rfl)
theorem dJ25_mergeParts_104 : decode cJ25_mergeParts 104 = .ok (.iload 14, 2) := dk_21 14 (dk_at dksJ25_mergeParts_4 9 rfl rfl)
theorem dJ25_mergeParts_106 : decode cJ25_mergeParts 106 = .ok (.laload, 1) := dk_47 (dk_at dksJ25_mergeParts_4 11 rfl rfl)
theorem dJ25_mergeParts_107 : decode cJ25_mergeParts 107 = .ok (.lcmp, 1) := dk_148 (dk_at dksJ25_mergeParts_4 12 rfl rfl)
theorem dJ25_mergeParts_108 : decode cJ25_mergeParts 108 = .ok (.ifCond .le 12, 3) := dk_158 0 12 (dk_at dksJ25_mergeParts_4 13 rfl rfl)
theorem dJ25_mergeParts_111 : decode cJ25_mergeParts 111 = .ok (.iload 14, 2) := dk_21 14 (dk_at dksJ25_mergeParts_4 16 rfl rfl)
theorem dJ25_mergeParts_113 : decode cJ25_mergeParts 113 = .ok (.iconst 1, 1) := dk_4 (dk_at dksJ25_mergeParts_4 18 rfl rfl)
theorem dJ25_mergeParts_114 : decode cJ25_mergeParts 114 = .ok (.iadd, 1) := dk_96 (dk_at dksJ25_mergeParts_4 19 rfl rfl)
theorem dJ25_mergeParts_115 : decode cJ25_mergeParts 115 = .ok (.istore 13, 2) := dk_54 13 (dk_at dksJ25_mergeParts_4 20 rfl rfl)
theorem dJ25_mergeParts_117 : decode cJ25_mergeParts 117 = .ok (.goto 7, 3) := dk_167 0 7 (dk_at dksJ25_mergeParts_5 0 rfl rfl)
theorem dJ25_mergeParts_120 : decode cJ25_mergeParts 120 = .ok (.iload 14, 2) := dk_21 14 (dk_at dksJ25_mergeParts_5 3 rfl rfl)
theorem dJ25_mergeParts_122 : decode cJ25_mergeParts 122 = .ok (.istore 12, 2) := dk_54 12 (dk_at dksJ25_mergeParts_5 5 rfl rfl)
theorem dJ25_mergeParts_124 : decode cJ25_mergeParts 124 = .ok (.goto (-40), 3) := dk_167 255 216 (dk_at dksJ25_mergeParts_5 7 rfl rfl)
theorem dJ25_mergeParts_127 : decode cJ25_mergeParts 127 = .ok (.iload 12, 2) := dk_21 12 (dk_at dksJ25_mergeParts_5 10 rfl rfl)
theorem dJ25_mergeParts_129 : decode cJ25_mergeParts 129 = .ok (.iload 7, 2) := dk_21 7 (dk_at dksJ25_mergeParts_5 12 rfl rfl)
theorem dJ25_mergeParts_131 : decode cJ25_mergeParts 131 = .ok (.isub, 1) := dk_100 (dk_at dksJ25_mergeParts_5 14 rfl rfl)
theorem dJ25_mergeParts_132 : decode cJ25_mergeParts 132 = .ok (.iload 9, 2) := dk_21 9 (dk_at dksJ25_mergeParts_5 15 rfl rfl)
theorem dJ25_mergeParts_134 : decode cJ25_mergeParts 134 = .ok (.iadd, 1) := dk_96 (dk_at dksJ25_mergeParts_5 17 rfl rfl)
theorem dJ25_mergeParts_135 : decode cJ25_mergeParts 135 = .ok (.iload 4, 2) := dk_21 4 (dk_at dksJ25_mergeParts_5 18 rfl rfl)
theorem dJ25_mergeParts_137 : decode cJ25_mergeParts 137 = .ok (.isub, 1) := dk_100 (dk_at dksJ25_mergeParts_5 20 rfl rfl)
theorem dJ25_mergeParts_138 : decode cJ25_mergeParts 138 = .ok (.istore 13, 2) := dk_54 13 (dk_at dksJ25_mergeParts_5 21 rfl rfl)
theorem dJ25_mergeParts_140 : decode cJ25_mergeParts 140 = .ok (.aload_n 0, 1) := dk_42 (dk_at dksJ25_mergeParts_5 23 rfl rfl)
theorem dJ25_mergeParts_141 : decode cJ25_mergeParts 141 = .ok (.aload_n 1, 1) := dk_43 (dk_at dksJ25_mergeParts_6 0 rfl rfl)
theorem dJ25_mergeParts_142 : decode cJ25_mergeParts 142 = .ok (.iload_n 2, 1) := dk_28 (dk_at dksJ25_mergeParts_6 1 rfl rfl)
theorem dJ25_mergeParts_143 : decode cJ25_mergeParts 143 = .ok (.iload 13, 2) := dk_21 13 (dk_at dksJ25_mergeParts_6 2 rfl rfl)
theorem dJ25_mergeParts_145 : decode cJ25_mergeParts 145 = .ok (.iadd, 1) := dk_96 (dk_at dksJ25_mergeParts_6 4 rfl rfl)
theorem dJ25_mergeParts_146 : decode cJ25_mergeParts 146 = .ok (.aload_n 3, 1) := dk_45 (dk_at dksJ25_mergeParts_6 5 rfl rfl)
theorem dJ25_mergeParts_147 : decode cJ25_mergeParts 147 = .ok (.iload 9, 2) := dk_21 9 (dk_at dksJ25_mergeParts_6 6 rfl rfl)
theorem dJ25_mergeParts_149 : decode cJ25_mergeParts 149 = .ok (.iload 5, 2) := dk_21 5 (dk_at dksJ25_mergeParts_6 8 rfl rfl)
theorem dJ25_mergeParts_151 : decode cJ25_mergeParts 151 = .ok (.aload 6, 2) := dk_25 6 (dk_at dksJ25_mergeParts_6 10 rfl rfl)
theorem dJ25_mergeParts_153 : decode cJ25_mergeParts 153 = .ok (.iload 12, 2) := dk_21 12 (dk_at dksJ25_mergeParts_6 12 rfl rfl)
theorem dJ25_mergeParts_155 : decode cJ25_mergeParts 155 = .ok (.iload 8, 2) := dk_21 8 (dk_at dksJ25_mergeParts_6 14 rfl rfl)
theorem dJ25_mergeParts_157 : decode cJ25_mergeParts 157 = .ok (.invokevirtual 95, 3) := dk_182 0 95 (dk_at dksJ25_mergeParts_6 16 rfl rfl)
theorem dJ25_mergeParts_160 : decode cJ25_mergeParts 160 = .ok (.iload 9, 2) := dk_21 9 (dk_at dksJ25_mergeParts_6 19 rfl rfl)
theorem dJ25_mergeParts_162 : decode cJ25_mergeParts 162 = .ok (.istore 5, 2) := dk_54 5 (dk_at dksJ25_mergeParts_6 21 rfl rfl)
theorem dJ25_mergeParts_164 : decode cJ25_mergeParts 164 = .ok (.iload 12, 2) := dk_21 12 (dk_at dksJ25_mergeParts_7 0 rfl rfl)
theorem dJ25_mergeParts_166 : decode cJ25_mergeParts 166 = .ok (.istore 8, 2) := dk_54 8 (dk_at dksJ25_mergeParts_7 2 rfl rfl)
theorem dJ25_mergeParts_168 : decode cJ25_mergeParts 168 = .ok (.goto (-158), 3) := dk_167 255 98 (dk_at dksJ25_mergeParts_7 4 rfl rfl)
theorem dJ25_mergeParts_171 : decode cJ25_mergeParts 171 = .ok (.iload 4, 2) := dk_21 4 (dk_at dksJ25_mergeParts_7 7 rfl rfl)
theorem dJ25_mergeParts_173 : decode cJ25_mergeParts 173 = .ok (.iload 5, 2) := dk_21 5 (dk_at dksJ25_mergeParts_7 9 rfl rfl)
theorem dJ25_mergeParts_175 : decode cJ25_mergeParts 175 = .ok (.if_icmp .ge 50, 3) := dk_162 0 50 (dk_at dksJ25_mergeParts_7 11 rfl rfl)
theorem dJ25_mergeParts_178 : decode cJ25_mergeParts 178 = .ok (.iload 7, 2) := dk_21 7 (dk_at dksJ25_mergeParts_7 14 rfl rfl)
theorem dJ25_mergeParts_180 : decode cJ25_mergeParts 180 = .ok (.iload 8, 2) := dk_21 8 (dk_at dksJ25_mergeParts_7 16 rfl rfl)
theorem dJ25_mergeParts_182 : decode cJ25_mergeParts 182 = .ok (.if_icmp .ge 43, 3) := dk_162 0 43 (dk_at dksJ25_mergeParts_7 18 rfl rfl)
theorem dJ25_mergeParts_185 : decode cJ25_mergeParts 185 = .ok (.aload_n 1, 1) := dk_43 (dk_at dksJ25_mergeParts_7 21 rfl rfl)
theorem dJ25_mergeParts_186 : decode cJ25_mergeParts 186 = .ok (.iload_n 2, 1) := dk_28 (dk_at dksJ25_mergeParts_7 22 rfl rfl)
theorem dJ25_mergeParts_187 : decode cJ25_mergeParts 187 = .ok (.iinc 2 1, 3) := dk_132 2 1 (dk_at dksJ25_mergeParts_8 0 rfl rfl)
theorem dJ25_mergeParts_190 : decode cJ25_mergeParts 190 = .ok (.aload_n 3, 1) := dk_45 (dk_at dksJ25_mergeParts_8 3 rfl rfl)
theorem dJ25_mergeParts_191 : decode cJ25_mergeParts 191 = .ok (.iload 4, 2) := dk_21 4 (dk_at dksJ25_mergeParts_8 4 rfl rfl)
theorem dJ25_mergeParts_193 : decode cJ25_mergeParts 193 = .ok (.laload, 1) := dk_47 (dk_at dksJ25_mergeParts_8 6 rfl rfl)
theorem dJ25_mergeParts_194 : decode cJ25_mergeParts 194 = .ok (.aload 6, 2) := dk_25 6 (dk_at dksJ25_mergeParts_8 7 rfl rfl)
theorem dJ25_mergeParts_196 : decode cJ25_mergeParts 196 = .ok (.iload 7, 2) := dk_21 7 (dk_at dksJ25_mergeParts_8 9 rfl rfl)
theorem dJ25_mergeParts_198 : decode cJ25_mergeParts 198 = .ok (.laload, 1) := dk_47 (dk_at dksJ25_mergeParts_8 11 rfl rfl)
theorem dJ25_mergeParts_199 : decode cJ25_mergeParts 199 = .ok (.lcmp, 1) := dk_148 (dk_at dksJ25_mergeParts_8 12 rfl rfl)
theorem dJ25_mergeParts_200 : decode cJ25_mergeParts 200 = .ok (.ifCond .ge 13, 3) := dk_156 0 13 (dk_at dksJ25_mergeParts_8 13 rfl rfl)
theorem dJ25_mergeParts_203 : decode cJ25_mergeParts 203 = .ok (.aload_n 3, 1) := dk_45 (dk_at dksJ25_mergeParts_8 16 rfl rfl)
theorem dJ25_mergeParts_204 : decode cJ25_mergeParts 204 = .ok (.iload 4, 2) := dk_21 4 (dk_at dksJ25_mergeParts_8 17 rfl rfl)
theorem dJ25_mergeParts_206 : decode cJ25_mergeParts 206 = .ok (.iinc 4 1, 3) := dk_132 4 1 (dk_at dksJ25_mergeParts_8 19 rfl rfl)
theorem dJ25_mergeParts_209 : decode cJ25_mergeParts 209 = .ok (.laload, 1) := dk_47 (dk_at dksJ25_mergeParts_8 22 rfl rfl)
theorem dJ25_mergeParts_210 : decode cJ25_mergeParts 210 = .ok (.goto 11, 3) := dk_167 0 11 (dk_at dksJ25_mergeParts_9 0 rfl rfl)
theorem dJ25_mergeParts_213 : decode cJ25_mergeParts 213 = .ok (.aload 6, 2) := dk_25 6 (dk_at dksJ25_mergeParts_9 3 rfl rfl)
theorem dJ25_mergeParts_215 : decode cJ25_mergeParts 215 = .ok (.iload 7, 2) := dk_21 7 (dk_at dksJ25_mergeParts_9 5 rfl rfl)
theorem dJ25_mergeParts_217 : decode cJ25_mergeParts 217 = .ok (.iinc 7 1, 3) := dk_132 7 1 (dk_at dksJ25_mergeParts_9 7 rfl rfl)
theorem dJ25_mergeParts_220 : decode cJ25_mergeParts 220 = .ok (.laload, 1) := dk_47 (dk_at dksJ25_mergeParts_9 10 rfl rfl)
theorem dJ25_mergeParts_221 : decode cJ25_mergeParts 221 = .ok (.lastore, 1) := dk_80 (dk_at dksJ25_mergeParts_9 11 rfl rfl)
theorem dJ25_mergeParts_222 : decode cJ25_mergeParts 222 = .ok (.goto (-51), 3) := dk_167 255 205 (dk_at dksJ25_mergeParts_9 12 rfl rfl)
theorem dJ25_mergeParts_225 : decode cJ25_mergeParts 225 = .ok (.aload_n 1, 1) := dk_43 (dk_at dksJ25_mergeParts_9 15 rfl rfl)
theorem dJ25_mergeParts_226 : decode cJ25_mergeParts 226 = .ok (.aload_n 3, 1) := dk_45 (dk_at dksJ25_mergeParts_9 16 rfl rfl)
theorem dJ25_mergeParts_227 : decode cJ25_mergeParts 227 = .ok (.if_acmp .ne 9, 3) := dk_166 0 9 (dk_at dksJ25_mergeParts_9 17 rfl rfl)
theorem dJ25_mergeParts_230 : decode cJ25_mergeParts 230 = .ok (.iload_n 2, 1) := dk_28 (dk_at dksJ25_mergeParts_9 20 rfl rfl)
theorem dJ25_mergeParts_231 : decode cJ25_mergeParts 231 = .ok (.iload 4, 2) := dk_21 4 (dk_at dksJ25_mergeParts_9 21 rfl rfl)
theorem dJ25_mergeParts_233 : decode cJ25_mergeParts 233 = .ok (.if_icmp .ge 26, 3) := dk_162 0 26 (dk_at dksJ25_mergeParts_10 0 rfl rfl)
theorem dJ25_mergeParts_236 : decode cJ25_mergeParts 236 = .ok (.iload 4, 2) := dk_21 4 (dk_at dksJ25_mergeParts_10 3 rfl rfl)
theorem dJ25_mergeParts_238 : decode cJ25_mergeParts 238 = .ok (.iload 5, 2) := dk_21 5 (dk_at dksJ25_mergeParts_10 5 rfl rfl)
theorem dJ25_mergeParts_240 : decode cJ25_mergeParts 240 = .ok (.if_icmp .ge 19, 3) := dk_162 0 19 (dk_at dksJ25_mergeParts_10 7 rfl rfl)
theorem dJ25_mergeParts_243 : decode cJ25_mergeParts 243 = .ok (.aload_n 1, 1) := dk_43 (dk_at dksJ25_mergeParts_10 10 rfl rfl)
theorem dJ25_mergeParts_244 : decode cJ25_mergeParts 244 = .ok (.iload_n 2, 1) := dk_28 (dk_at dksJ25_mergeParts_10 11 rfl rfl)
theorem dJ25_mergeParts_245 : decode cJ25_mergeParts 245 = .ok (.iinc 2 1, 3) := dk_132 2 1 (dk_at dksJ25_mergeParts_10 12 rfl rfl)
theorem dJ25_mergeParts_248 : decode cJ25_mergeParts 248 = .ok (.aload_n 3, 1) := dk_45 (dk_at dksJ25_mergeParts_10 15 rfl rfl)
theorem dJ25_mergeParts_249 : decode cJ25_mergeParts 249 = .ok (.iload 4, 2) := dk_21 4 (dk_at dksJ25_mergeParts_10 16 rfl rfl)
theorem dJ25_mergeParts_251 : decode cJ25_mergeParts 251 = .ok (.iinc 4 1, 3) := dk_132 4 1 (dk_at dksJ25_mergeParts_10 18 rfl rfl)
theorem dJ25_mergeParts_254 : decode cJ25_mergeParts 254 = .ok (.laload, 1) := dk_47 (dk_at dksJ25_mergeParts_10 21 rfl rfl)
theorem dJ25_mergeParts_255 : decode cJ25_mergeParts 255 = .ok (.lastore, 1) := dk_80 (dk_at dksJ25_mergeParts_10 22 rfl rfl)
theorem dJ25_mergeParts_256 : decode cJ25_mergeParts 256 = .ok (.goto (-20), 3) := dk_167 255 236 (dk_at dksJ25_mergeParts_11 0 rfl rfl)
theorem dJ25_mergeParts_259 : decode cJ25_mergeParts 259 = .ok (.aload_n 1, 1) := dk_43 (dk_at dksJ25_mergeParts_11 3 rfl rfl)
theorem dJ25_mergeParts_260 : decode cJ25_mergeParts 260 = .ok (.aload 6, 2) := dk_25 6 (dk_at dksJ25_mergeParts_11 4 rfl rfl)
theorem dJ25_mergeParts_262 : decode cJ25_mergeParts 262 = .ok (.if_acmp .ne 9, 3) := dk_166 0 9 (dk_at dksJ25_mergeParts_11 6 rfl rfl)
theorem dJ25_mergeParts_265 : decode cJ25_mergeParts 265 = .ok (.iload_n 2, 1) := dk_28 (dk_at dksJ25_mergeParts_11 9 rfl rfl)
theorem dJ25_mergeParts_266 : decode cJ25_mergeParts 266 = .ok (.iload 7, 2) := dk_21 7 (dk_at dksJ25_mergeParts_11 10 rfl rfl)
theorem dJ25_mergeParts_268 : decode cJ25_mergeParts 268 = .ok (.if_icmp .ge 27, 3) := dk_162 0 27 (dk_at dksJ25_mergeParts_11 12 rfl rfl)
theorem dJ25_mergeParts_271 : decode cJ25_mergeParts 271 = .ok (.iload 7, 2) := dk_21 7 (dk_at dksJ25_mergeParts_11 15 rfl rfl)
theorem dJ25_mergeParts_273 : decode cJ25_mergeParts 273 = .ok (.iload 8, 2) := dk_21 8 (dk_at dksJ25_mergeParts_11 17 rfl rfl)
theorem dJ25_mergeParts_275 : decode cJ25_mergeParts 275 = .ok (.if_icmp .ge 20, 3) := dk_162 0 20 (dk_at dksJ25_mergeParts_11 19 rfl rfl)
theorem dJ25_mergeParts_278 : decode cJ25_mergeParts 278 = .ok (.aload_n 1, 1) := dk_43 (dk_at dksJ25_mergeParts_11 22 rfl rfl)
theorem dJ25_mergeParts_279 : decode cJ25_mergeParts 279 = .ok (.iload_n 2, 1) := dk_28 (dk_at dksJ25_mergeParts_11 23 rfl rfl)
theorem dJ25_mergeParts_280 : decode cJ25_mergeParts 280 = .ok (.iinc 2 1, 3) := dk_132 2 1 (dk_at dksJ25_mergeParts_12 0 rfl rfl)
theorem dJ25_mergeParts_283 : decode cJ25_mergeParts 283 = .ok (.aload 6, 2) := dk_25 6 (dk_at dksJ25_mergeParts_12 3 rfl rfl)
theorem dJ25_mergeParts_285 : decode cJ25_mergeParts 285 = .ok (.iload 7, 2) := dk_21 7 (dk_at dksJ25_mergeParts_12 5 rfl rfl)
theorem dJ25_mergeParts_287 : decode cJ25_mergeParts 287 = .ok (.iinc 7 1, 3) := dk_132 7 1 (dk_at dksJ25_mergeParts_12 7 rfl rfl)
theorem dJ25_mergeParts_290 : decode cJ25_mergeParts 290 = .ok (.laload, 1) := dk_47 (dk_at dksJ25_mergeParts_12 10 rfl rfl)
theorem dJ25_mergeParts_291 : decode cJ25_mergeParts 291 = .ok (.lastore, 1) := dk_80 (dk_at dksJ25_mergeParts_12 11 rfl rfl)
theorem dJ25_mergeParts_292 : decode cJ25_mergeParts 292 = .ok (.goto (-21), 3) := dk_167 255 235 (dk_at dksJ25_mergeParts_12 12 rfl rfl)
theorem dJ25_mergeParts_295 : decode cJ25_mergeParts 295 = .ok (.return_, 1) := dk_177 (dk_at dksJ25_mergeParts_12 15 rfl rfl)
abbrev cJ25_heapSort : ByteArray := prog_78_method_16_code
def yJ25_heapSort : MethodName := ⟨RJ25, "heapSort", "([JII)V"⟩
def dkwJ25_heapSort_2 : List UInt8 := [184, 0, 113, 42, 28, 33, 80, 167, 255, 230, 177]
abbrev dktJ25_heapSort_2 : List UInt8 := dkwJ25_heapSort_2 ++ []
def dkwJ25_heapSort_1 : List UInt8 := [167, 255, 238, 132, 2, 255, 28, 27, 164, 0, 24, 42, 27, 47, 66, 42, 27, 42, 28, 47, 27, 28]
abbrev dktJ25_heapSort_1 : List UInt8 := dkwJ25_heapSort_1 ++ dktJ25_heapSort_2
def dkwJ25_heapSort_0 : List UInt8 := [27, 28, 96, 4, 124, 62, 29, 27, 164, 0, 19, 42, 132, 3, 255, 29, 42, 29, 47, 27, 28, 184, 0, 113]
abbrev dktJ25_heapSort_0 : List UInt8 := dkwJ25_heapSort_0 ++ dktJ25_heapSort_1
theorem dksJ25_heapSort_0 : cJ25_heapSort.data.toList.drop 0 = dktJ25_heapSort_0 := by decide +kernel
theorem dksJ25_heapSort_1 : cJ25_heapSort.data.toList.drop 24 = dktJ25_heapSort_1 := dk_seg dksJ25_heapSort_0 24 rfl rfl
theorem dksJ25_heapSort_2 : cJ25_heapSort.data.toList.drop 46 = dktJ25_heapSort_2 := dk_seg dksJ25_heapSort_1 22 rfl rfl
theorem dJ25_heapSort_0 : decode cJ25_heapSort 0 = .ok (.iload_n 1, 1) := dk_27 (dk_at dksJ25_heapSort_0 0 rfl rfl)
theorem dJ25_heapSort_1 : decode cJ25_heapSort 1 = .ok (.iload_n 2, 1) := dk_28 (dk_at dksJ25_heapSort_0 1 rfl rfl)
theorem dJ25_heapSort_2 : decode cJ25_heapSort 2 = .ok (.iadd, 1) := dk_96 (dk_at dksJ25_heapSort_0 2 rfl rfl)
theorem dJ25_heapSort_3 : decode cJ25_heapSort 3 = .ok (.iconst 1, 1) := dk_4 (dk_at dksJ25_heapSort_0 3 rfl rfl)
theorem dJ25_heapSort_4 : decode cJ25_heapSort 4 = .ok (.iushr, 1) := dk_124 (dk_at dksJ25_heapSort_0 4 rfl rfl)
theorem dJ25_heapSort_5 : decode cJ25_heapSort 5 = .ok (.istore_n 3, 1) := dk_62 (dk_at dksJ25_heapSort_0 5 rfl rfl)
theorem dJ25_heapSort_6 : decode cJ25_heapSort 6 = .ok (.iload_n 3, 1) := dk_29 (dk_at dksJ25_heapSort_0 6 rfl rfl)
theorem dJ25_heapSort_7 : decode cJ25_heapSort 7 = .ok (.iload_n 1, 1) := dk_27 (dk_at dksJ25_heapSort_0 7 rfl rfl)
theorem dJ25_heapSort_8 : decode cJ25_heapSort 8 = .ok (.if_icmp .le 19, 3) := dk_164 0 19 (dk_at dksJ25_heapSort_0 8 rfl rfl)
theorem dJ25_heapSort_11 : decode cJ25_heapSort 11 = .ok (.aload_n 0, 1) := dk_42 (dk_at dksJ25_heapSort_0 11 rfl rfl)
theorem dJ25_heapSort_12 : decode cJ25_heapSort 12 = .ok (.iinc 3 (-1), 3) := dk_132 3 255 (dk_at dksJ25_heapSort_0 12 rfl rfl)
theorem dJ25_heapSort_15 : decode cJ25_heapSort 15 = .ok (.iload_n 3, 1) := dk_29 (dk_at dksJ25_heapSort_0 15 rfl rfl)
theorem dJ25_heapSort_16 : decode cJ25_heapSort 16 = .ok (.aload_n 0, 1) := dk_42 (dk_at dksJ25_heapSort_0 16 rfl rfl)
theorem dJ25_heapSort_17 : decode cJ25_heapSort 17 = .ok (.iload_n 3, 1) := dk_29 (dk_at dksJ25_heapSort_0 17 rfl rfl)
theorem dJ25_heapSort_18 : decode cJ25_heapSort 18 = .ok (.laload, 1) := dk_47 (dk_at dksJ25_heapSort_0 18 rfl rfl)
theorem dJ25_heapSort_19 : decode cJ25_heapSort 19 = .ok (.iload_n 1, 1) := dk_27 (dk_at dksJ25_heapSort_0 19 rfl rfl)
theorem dJ25_heapSort_20 : decode cJ25_heapSort 20 = .ok (.iload_n 2, 1) := dk_28 (dk_at dksJ25_heapSort_0 20 rfl rfl)
theorem dJ25_heapSort_21 : decode cJ25_heapSort 21 = .ok (.invokestatic 113, 3) := dk_184 0 113 (dk_at dksJ25_heapSort_0 21 rfl rfl)
theorem dJ25_heapSort_24 : decode cJ25_heapSort 24 = .ok (.goto (-18), 3) := dk_167 255 238 (dk_at dksJ25_heapSort_1 0 rfl rfl)
theorem dJ25_heapSort_27 : decode cJ25_heapSort 27 = .ok (.iinc 2 (-1), 3) := dk_132 2 255 (dk_at dksJ25_heapSort_1 3 rfl rfl)
theorem dJ25_heapSort_30 : decode cJ25_heapSort 30 = .ok (.iload_n 2, 1) := dk_28 (dk_at dksJ25_heapSort_1 6 rfl rfl)
theorem dJ25_heapSort_31 : decode cJ25_heapSort 31 = .ok (.iload_n 1, 1) := dk_27 (dk_at dksJ25_heapSort_1 7 rfl rfl)
theorem dJ25_heapSort_32 : decode cJ25_heapSort 32 = .ok (.if_icmp .le 24, 3) := dk_164 0 24 (dk_at dksJ25_heapSort_1 8 rfl rfl)
theorem dJ25_heapSort_35 : decode cJ25_heapSort 35 = .ok (.aload_n 0, 1) := dk_42 (dk_at dksJ25_heapSort_1 11 rfl rfl)
theorem dJ25_heapSort_36 : decode cJ25_heapSort 36 = .ok (.iload_n 1, 1) := dk_27 (dk_at dksJ25_heapSort_1 12 rfl rfl)
theorem dJ25_heapSort_37 : decode cJ25_heapSort 37 = .ok (.laload, 1) := dk_47 (dk_at dksJ25_heapSort_1 13 rfl rfl)
theorem dJ25_heapSort_38 : decode cJ25_heapSort 38 = .ok (.lstore_n 3, 1) := dk_66 (dk_at dksJ25_heapSort_1 14 rfl rfl)
theorem dJ25_heapSort_39 : decode cJ25_heapSort 39 = .ok (.aload_n 0, 1) := dk_42 (dk_at dksJ25_heapSort_1 15 rfl rfl)
theorem dJ25_heapSort_40 : decode cJ25_heapSort 40 = .ok (.iload_n 1, 1) := dk_27 (dk_at dksJ25_heapSort_1 16 rfl rfl)
theorem dJ25_heapSort_41 : decode cJ25_heapSort 41 = .ok (.aload_n 0, 1) := dk_42 (dk_at dksJ25_heapSort_1 17 rfl rfl)
theorem dJ25_heapSort_42 : decode cJ25_heapSort 42 = .ok (.iload_n 2, 1) := dk_28 (dk_at dksJ25_heapSort_1 18 rfl rfl)
theorem dJ25_heapSort_43 : decode cJ25_heapSort 43 = .ok (.laload, 1) := dk_47 (dk_at dksJ25_heapSort_1 19 rfl rfl)
theorem dJ25_heapSort_44 : decode cJ25_heapSort 44 = .ok (.iload_n 1, 1) := dk_27 (dk_at dksJ25_heapSort_1 20 rfl rfl)
theorem dJ25_heapSort_45 : decode cJ25_heapSort 45 = .ok (.iload_n 2, 1) := dk_28 (dk_at dksJ25_heapSort_1 21 rfl rfl)
theorem dJ25_heapSort_46 : decode cJ25_heapSort 46 = .ok (.invokestatic 113, 3) := dk_184 0 113 (dk_at dksJ25_heapSort_2 0 rfl rfl)
theorem dJ25_heapSort_49 : decode cJ25_heapSort 49 = .ok (.aload_n 0, 1) := dk_42 (dk_at dksJ25_heapSort_2 3 rfl rfl)
theorem dJ25_heapSort_50 : decode cJ25_heapSort 50 = .ok (.iload_n 2, 1) := dk_28 (dk_at dksJ25_heapSort_2 4 rfl rfl)
theorem dJ25_heapSort_51 : decode cJ25_heapSort 51 = .ok (.lload_n 3, 1) := dk_33 (dk_at dksJ25_heapSort_2 5 rfl rfl)
theorem dJ25_heapSort_52 : decode cJ25_heapSort 52 = .ok (.lastore, 1) := dk_80 (dk_at dksJ25_heapSort_2 6 rfl rfl)
theorem dJ25_heapSort_53 : decode cJ25_heapSort 53 = .ok (.goto (-26), 3) := dk_167 255 230 (dk_at dksJ25_heapSort_2 7 rfl rfl)
theorem dJ25_heapSort_56 : decode cJ25_heapSort 56 = .ok (.return_, 1) := dk_177 (dk_at dksJ25_heapSort_2 10 rfl rfl)
abbrev cJ25_pushDown : ByteArray := prog_78_method_17_code
def yJ25_pushDown : MethodName := ⟨RJ25, "pushDown", "([JIJII)V"⟩
def dkwJ25_pushDown_3 : List UInt8 := [177]
abbrev dktJ25_pushDown_3 : List UInt8 := dkwJ25_pushDown_3 ++ []
def dkwJ25_pushDown_2 : List UInt8 := [32, 148, 157, 0, 6, 167, 0, 15, 42, 27, 42, 21, 6, 89, 60, 47, 80, 167, 255, 191, 42, 27, 32, 80]
abbrev dktJ25_pushDown_2 : List UInt8 := dkwJ25_pushDown_2 ++ dktJ25_pushDown_3
def dkwJ25_pushDown_1 : List UInt8 := [159, 0, 17, 42, 21, 6, 47, 42, 21, 6, 4, 100, 47, 148, 156, 0, 6, 132, 6, 255, 42, 21, 6, 47]
abbrev dktJ25_pushDown_1 : List UInt8 := dkwJ25_pushDown_1 ++ dktJ25_pushDown_2
def dkwJ25_pushDown_0 : List UInt8 := [27, 4, 120, 21, 4, 100, 5, 96, 54, 6, 21, 6, 21, 5, 164, 0, 6, 167, 0, 51, 21, 6, 21, 5]
abbrev dktJ25_pushDown_0 : List UInt8 := dkwJ25_pushDown_0 ++ dktJ25_pushDown_1
theorem dksJ25_pushDown_0 : cJ25_pushDown.data.toList.drop 0 = dktJ25_pushDown_0 := by decide +kernel
theorem dksJ25_pushDown_1 : cJ25_pushDown.data.toList.drop 24 = dktJ25_pushDown_1 := dk_seg dksJ25_pushDown_0 24 rfl rfl
theorem dksJ25_pushDown_2 : cJ25_pushDown.data.toList.drop 48 = dktJ25_pushDown_2 := dk_seg dksJ25_pushDown_1 24 rfl rfl
theorem dksJ25_pushDown_3 : cJ25_pushDown.data.toList.drop 72 = dktJ25_pushDown_3 := dk_seg dksJ25_pushDown_2 24 rfl rfl
theorem dJ25_pushDown_0 : decode cJ25_pushDown 0 = .ok (.iload_n 1, 1) := dk_27 (dk_at dksJ25_pushDown_0 0 rfl rfl)
theorem dJ25_pushDown_1 : decode cJ25_pushDown 1 = .ok (.iconst 1, 1) := dk_4 (dk_at dksJ25_pushDown_0 1 rfl rfl)
theorem dJ25_pushDown_2 : decode cJ25_pushDown 2 = .ok (.ishl, 1) := dk_120 (dk_at dksJ25_pushDown_0 2 rfl rfl)
theorem dJ25_pushDown_3 : decode cJ25_pushDown 3 = .ok (.iload 4, 2) := dk_21 4 (dk_at dksJ25_pushDown_0 3 rfl rfl)
theorem dJ25_pushDown_5 : decode cJ25_pushDown 5 = .ok (.isub, 1) := dk_100 (dk_at dksJ25_pushDown_0 5 rfl rfl)
theorem dJ25_pushDown_6 : decode cJ25_pushDown 6 = .ok (.iconst 2, 1) := dk_5 (dk_at dksJ25_pushDown_0 6 rfl rfl)
theorem dJ25_pushDown_7 : decode cJ25_pushDown 7 = .ok (.iadd, 1) := dk_96 (dk_at dksJ25_pushDown_0 7 rfl rfl)
theorem dJ25_pushDown_8 : decode cJ25_pushDown 8 = .ok (.istore 6, 2) := dk_54 6 (dk_at dksJ25_pushDown_0 8 rfl rfl)
theorem dJ25_pushDown_10 : decode cJ25_pushDown 10 = .ok (.iload 6, 2) := dk_21 6 (dk_at dksJ25_pushDown_0 10 rfl rfl)
theorem dJ25_pushDown_12 : decode cJ25_pushDown 12 = .ok (.iload 5, 2) := dk_21 5 (dk_at dksJ25_pushDown_0 12 rfl rfl)
theorem dJ25_pushDown_14 : decode cJ25_pushDown 14 = .ok (.if_icmp .le 6, 3) := dk_164 0 6 (dk_at dksJ25_pushDown_0 14 rfl rfl)
theorem dJ25_pushDown_17 : decode cJ25_pushDown 17 = .ok (.goto 51, 3) := dk_167 0 51 (dk_at dksJ25_pushDown_0 17 rfl rfl)
theorem dJ25_pushDown_20 : decode cJ25_pushDown 20 = .ok (.iload 6, 2) := dk_21 6 (dk_at dksJ25_pushDown_0 20 rfl rfl)
theorem dJ25_pushDown_22 : decode cJ25_pushDown 22 = .ok (.iload 5, 2) := dk_21 5 (dk_at dksJ25_pushDown_0 22 rfl rfl)
theorem dJ25_pushDown_24 : decode cJ25_pushDown 24 = .ok (.if_icmp .eq 17, 3) := dk_159 0 17 (dk_at dksJ25_pushDown_1 0 rfl rfl)
theorem dJ25_pushDown_27 : decode cJ25_pushDown 27 = .ok (.aload_n 0, 1) := dk_42 (dk_at dksJ25_pushDown_1 3 rfl rfl)
theorem dJ25_pushDown_28 : decode cJ25_pushDown 28 = .ok (.iload 6, 2) := dk_21 6 (dk_at dksJ25_pushDown_1 4 rfl rfl)
theorem dJ25_pushDown_30 : decode cJ25_pushDown 30 = .ok (.laload, 1) := dk_47 (dk_at dksJ25_pushDown_1 6 rfl rfl)
theorem dJ25_pushDown_31 : decode cJ25_pushDown 31 = .ok (.aload_n 0, 1) := dk_42 (dk_at dksJ25_pushDown_1 7 rfl rfl)
theorem dJ25_pushDown_32 : decode cJ25_pushDown 32 = .ok (.iload 6, 2) := dk_21 6 (dk_at dksJ25_pushDown_1 8 rfl rfl)
theorem dJ25_pushDown_34 : decode cJ25_pushDown 34 = .ok (.iconst 1, 1) := dk_4 (dk_at dksJ25_pushDown_1 10 rfl rfl)
theorem dJ25_pushDown_35 : decode cJ25_pushDown 35 = .ok (.isub, 1) := dk_100 (dk_at dksJ25_pushDown_1 11 rfl rfl)
theorem dJ25_pushDown_36 : decode cJ25_pushDown 36 = .ok (.laload, 1) := dk_47 (dk_at dksJ25_pushDown_1 12 rfl rfl)
theorem dJ25_pushDown_37 : decode cJ25_pushDown 37 = .ok (.lcmp, 1) := dk_148 (dk_at dksJ25_pushDown_1 13 rfl rfl)
theorem dJ25_pushDown_38 : decode cJ25_pushDown 38 = .ok (.ifCond .ge 6, 3) := dk_156 0 6 (dk_at dksJ25_pushDown_1 14 rfl rfl)
theorem dJ25_pushDown_41 : decode cJ25_pushDown 41 = .ok (.iinc 6 (-1), 3) := dk_132 6 255 (dk_at dksJ25_pushDown_1 17 rfl rfl)
theorem dJ25_pushDown_44 : decode cJ25_pushDown 44 = .ok (.aload_n 0, 1) := dk_42 (dk_at dksJ25_pushDown_1 20 rfl rfl)
theorem dJ25_pushDown_45 : decode cJ25_pushDown 45 = .ok (.iload 6, 2) := dk_21 6 (dk_at dksJ25_pushDown_1 21 rfl rfl)
theorem dJ25_pushDown_47 : decode cJ25_pushDown 47 = .ok (.laload, 1) := dk_47 (dk_at dksJ25_pushDown_1 23 rfl rfl)
theorem dJ25_pushDown_48 : decode cJ25_pushDown 48 = .ok (.lload_n 2, 1) := dk_32 (dk_at dksJ25_pushDown_2 0 rfl rfl)
theorem dJ25_pushDown_49 : decode cJ25_pushDown 49 = .ok (.lcmp, 1) := dk_148 (dk_at dksJ25_pushDown_2 1 rfl rfl)
theorem dJ25_pushDown_50 : decode cJ25_pushDown 50 = .ok (.ifCond .gt 6, 3) := dk_157 0 6 (dk_at dksJ25_pushDown_2 2 rfl rfl)
theorem dJ25_pushDown_53 : decode cJ25_pushDown 53 = .ok (.goto 15, 3) := dk_167 0 15 (dk_at dksJ25_pushDown_2 5 rfl rfl)
theorem dJ25_pushDown_56 : decode cJ25_pushDown 56 = .ok (.aload_n 0, 1) := dk_42 (dk_at dksJ25_pushDown_2 8 rfl rfl)
theorem dJ25_pushDown_57 : decode cJ25_pushDown 57 = .ok (.iload_n 1, 1) := dk_27 (dk_at dksJ25_pushDown_2 9 rfl rfl)
theorem dJ25_pushDown_58 : decode cJ25_pushDown 58 = .ok (.aload_n 0, 1) := dk_42 (dk_at dksJ25_pushDown_2 10 rfl rfl)
theorem dJ25_pushDown_59 : decode cJ25_pushDown 59 = .ok (.iload 6, 2) := dk_21 6 (dk_at dksJ25_pushDown_2 11 rfl rfl)
theorem dJ25_pushDown_61 : decode cJ25_pushDown 61 = .ok (.dup, 1) := dk_89 (dk_at dksJ25_pushDown_2 13 rfl rfl)
theorem dJ25_pushDown_62 : decode cJ25_pushDown 62 = .ok (.istore_n 1, 1) := dk_60 (dk_at dksJ25_pushDown_2 14 rfl rfl)
theorem dJ25_pushDown_63 : decode cJ25_pushDown 63 = .ok (.laload, 1) := dk_47 (dk_at dksJ25_pushDown_2 15 rfl rfl)
theorem dJ25_pushDown_64 : decode cJ25_pushDown 64 = .ok (.lastore, 1) := dk_80 (dk_at dksJ25_pushDown_2 16 rfl rfl)
theorem dJ25_pushDown_65 : decode cJ25_pushDown 65 = .ok (.goto (-65), 3) := dk_167 255 191 (dk_at dksJ25_pushDown_2 17 rfl rfl)
theorem dJ25_pushDown_68 : decode cJ25_pushDown 68 = .ok (.aload_n 0, 1) := dk_42 (dk_at dksJ25_pushDown_2 20 rfl rfl)
theorem dJ25_pushDown_69 : decode cJ25_pushDown 69 = .ok (.iload_n 1, 1) := dk_27 (dk_at dksJ25_pushDown_2 21 rfl rfl)
theorem dJ25_pushDown_70 : decode cJ25_pushDown 70 = .ok (.lload_n 2, 1) := dk_32 (dk_at dksJ25_pushDown_2 22 rfl rfl)
theorem dJ25_pushDown_71 : decode cJ25_pushDown 71 = .ok (.lastore, 1) := dk_80 (dk_at dksJ25_pushDown_2 23 rfl rfl)
theorem dJ25_pushDown_72 : decode cJ25_pushDown 72 = .ok (.return_, 1) := dk_177 (dk_at dksJ25_pushDown_3 0 rfl rfl)
theorem q200 : (Jvm.Cond.initialized "java/util/DualPivotQuicksort") ∈ lw_all := lw_g (lw_at lw_m1 52 rfl) rfl
theorem q1464 : (Jvm.Cond.static ({ cls := "java/util/DualPivotQuicksort", name := "sort", desc := "([JIII)V" } : Jvm.MethodName)) ∈ lw_all := lw_g (lw_at lw_m6 116 rfl) rfl
theorem q1465 : (Jvm.Cond.code ({ cls := "java/util/DualPivotQuicksort", name := "sort", desc := "([JIII)V" } : Jvm.MethodName) prog_78_method_12_code (7 : Nat) (Option.none : Option Jvm.ClassFile.FieldType)) ∈ lw_all := lw_g (lw_at lw_m6 117 rfl) rfl
theorem q1466 : (Jvm.Cond.methodLink "java/util/DualPivotQuicksort" (99 : Nat) ({ cls := "java/util/DualPivotQuicksort", name := "sort", desc := "(Ljava/util/DualPivotQuicksort$Sorter;[JIII)V" } : Jvm.MethodName)) ∈ lw_all := lw_g (lw_at lw_m6 118 rfl) rfl
theorem q1467 : (Jvm.Cond.static ({ cls := "java/util/DualPivotQuicksort", name := "sort", desc := "(Ljava/util/DualPivotQuicksort$Sorter;[JIII)V" } : Jvm.MethodName)) ∈ lw_all := lw_g (lw_at lw_m6 119 rfl) rfl
theorem q1468 : (Jvm.Cond.code ({ cls := "java/util/DualPivotQuicksort", name := "sort", desc := "(Ljava/util/DualPivotQuicksort$Sorter;[JIII)V" } : Jvm.MethodName) prog_78_method_13_code (25 : Nat) (Option.none : Option Jvm.ClassFile.FieldType)) ∈ lw_all := lw_g (lw_at lw_m6 120 rfl) rfl
theorem q1469 : (Jvm.Cond.methodLink "java/util/DualPivotQuicksort" (102 : Nat) ({ cls := "java/util/DualPivotQuicksort", name := "mixedInsertionSort", desc := "([JIII)V" } : Jvm.MethodName)) ∈ lw_all := lw_g (lw_at lw_m6 121 rfl) rfl
theorem q1470 : (Jvm.Cond.static ({ cls := "java/util/DualPivotQuicksort", name := "mixedInsertionSort", desc := "([JIII)V" } : Jvm.MethodName)) ∈ lw_all := lw_g (lw_at lw_m6 122 rfl) rfl
theorem q1471 : (Jvm.Cond.code ({ cls := "java/util/DualPivotQuicksort", name := "mixedInsertionSort", desc := "([JIII)V" } : Jvm.MethodName) prog_78_method_14_code (11 : Nat) (Option.none : Option Jvm.ClassFile.FieldType)) ∈ lw_all := lw_g (lw_at lw_m6 123 rfl) rfl
theorem q1472 : (Jvm.Cond.methodLink "java/util/DualPivotQuicksort" (105 : Nat) ({ cls := "java/util/DualPivotQuicksort", name := "insertionSort", desc := "([JII)V" } : Jvm.MethodName)) ∈ lw_all := lw_g (lw_at lw_m6 124 rfl) rfl
theorem q1473 : (Jvm.Cond.static ({ cls := "java/util/DualPivotQuicksort", name := "insertionSort", desc := "([JII)V" } : Jvm.MethodName)) ∈ lw_all := lw_g (lw_at lw_m6 125 rfl) rfl
theorem q1474 : (Jvm.Cond.code ({ cls := "java/util/DualPivotQuicksort", name := "insertionSort", desc := "([JII)V" } : Jvm.MethodName) prog_78_method_15_code (7 : Nat) (Option.none : Option Jvm.ClassFile.FieldType)) ∈ lw_all := lw_g (lw_at lw_m6 126 rfl) rfl
theorem q1475 : (Jvm.Cond.methodLink "java/util/DualPivotQuicksort" (108 : Nat) ({ cls := "java/util/DualPivotQuicksort", name := "tryMergeRuns", desc := "(Ljava/util/DualPivotQuicksort$Sorter;[JII)Z" } : Jvm.MethodName)) ∈ lw_all := lw_g (lw_at lw_m6 127 rfl) rfl
theorem q1476 : (Jvm.Cond.static ({ cls := "java/util/DualPivotQuicksort", name := "tryMergeRuns", desc := "(Ljava/util/DualPivotQuicksort$Sorter;[JII)Z" } : Jvm.MethodName)) ∈ lw_all := lw_g (lw_at lw_m6 128 rfl) rfl
theorem q1477 : (Jvm.Cond.code ({ cls := "java/util/DualPivotQuicksort", name := "tryMergeRuns", desc := "(Ljava/util/DualPivotQuicksort$Sorter;[JII)Z" } : Jvm.MethodName) prog_78_method_18_code (13 : Nat) (Option.some Jvm.ClassFile.FieldType.boolean)) ∈ lw_all := lw_g (lw_at lw_m6 129 rfl) rfl
theorem q1478 : (Jvm.Cond.methodLink "java/util/DualPivotQuicksort" (53 : Nat) ({ cls := "java/util/Arrays", name := "copyOf", desc := "([II)[I" } : Jvm.MethodName)) ∈ lw_all := lw_g (lw_at lw_m6 130 rfl) rfl
theorem q1486 : (Jvm.Cond.classLink "java/util/DualPivotQuicksort" (116 : Nat) "[J") ∈ lw_all := lw_g (lw_at lw_m6 138 rfl) rfl
theorem q1487 : (Jvm.Cond.methodLink "java/util/DualPivotQuicksort" (118 : Nat) ({ cls := "java/util/DualPivotQuicksort", name := "mergeRuns", desc := "([J[JIIZ[III)[J" } : Jvm.MethodName)) ∈ lw_all := lw_g (lw_at lw_m6 139 rfl) rfl
theorem q1488 : (Jvm.Cond.static ({ cls := "java/util/DualPivotQuicksort", name := "mergeRuns", desc := "([J[JIIZ[III)[J" } : Jvm.MethodName)) ∈ lw_all := lw_g (lw_at lw_m6 140 rfl) rfl
theorem q1489 : (Jvm.Cond.code ({ cls := "java/util/DualPivotQuicksort", name := "mergeRuns", desc := "([J[JIIZ[III)[J" } : Jvm.MethodName) prog_78_method_19_code (18 : Nat) (Option.some (Jvm.ClassFile.FieldType.array Jvm.ClassFile.FieldType.long))) ∈ lw_all := lw_g (lw_at lw_m6 141 rfl) rfl
theorem q1490 : (Jvm.Cond.methodLink "java/util/DualPivotQuicksort" (121 : Nat) ({ cls := "java/util/DualPivotQuicksort", name := "mergeParts", desc := "(Ljava/util/DualPivotQuicksort$Merger;[JI[JII[JII)V" } : Jvm.MethodName)) ∈ lw_all := lw_g (lw_at lw_m6 142 rfl) rfl
theorem q1491 : (Jvm.Cond.static ({ cls := "java/util/DualPivotQuicksort", name := "mergeParts", desc := "(Ljava/util/DualPivotQuicksort$Merger;[JI[JII[JII)V" } : Jvm.MethodName)) ∈ lw_all := lw_g (lw_at lw_m6 143 rfl) rfl
theorem q1492 : (Jvm.Cond.code ({ cls := "java/util/DualPivotQuicksort", name := "mergeParts", desc := "(Ljava/util/DualPivotQuicksort$Merger;[JI[JII[JII)V" } : Jvm.MethodName) prog_78_method_20_code (15 : Nat) (Option.none : Option Jvm.ClassFile.FieldType)) ∈ lw_all := lw_g (lw_at lw_m6 144 rfl) rfl
theorem q1493 : (Jvm.Cond.methodLink "java/util/DualPivotQuicksort" (111 : Nat) ({ cls := "java/util/DualPivotQuicksort", name := "heapSort", desc := "([JII)V" } : Jvm.MethodName)) ∈ lw_all := lw_g (lw_at lw_m6 145 rfl) rfl
theorem q1494 : (Jvm.Cond.static ({ cls := "java/util/DualPivotQuicksort", name := "heapSort", desc := "([JII)V" } : Jvm.MethodName)) ∈ lw_all := lw_g (lw_at lw_m6 146 rfl) rfl
theorem q1495 : (Jvm.Cond.code ({ cls := "java/util/DualPivotQuicksort", name := "heapSort", desc := "([JII)V" } : Jvm.MethodName) prog_78_method_16_code (5 : Nat) (Option.none : Option Jvm.ClassFile.FieldType)) ∈ lw_all := lw_g (lw_at lw_m6 147 rfl) rfl
theorem q1496 : (Jvm.Cond.methodLink "java/util/DualPivotQuicksort" (113 : Nat) ({ cls := "java/util/DualPivotQuicksort", name := "pushDown", desc := "([JIJII)V" } : Jvm.MethodName)) ∈ lw_all := lw_g (lw_at lw_m6 148 rfl) rfl
theorem q1497 : (Jvm.Cond.static ({ cls := "java/util/DualPivotQuicksort", name := "pushDown", desc := "([JIJII)V" } : Jvm.MethodName)) ∈ lw_all := lw_g (lw_at lw_m6 149 rfl) rfl
theorem q1498 : (Jvm.Cond.code ({ cls := "java/util/DualPivotQuicksort", name := "pushDown", desc := "([JIJII)V" } : Jvm.MethodName) prog_78_method_17_code (7 : Nat) (Option.none : Option Jvm.ClassFile.FieldType)) ∈ lw_all := lw_g (lw_at lw_m6 150 rfl) rfl
