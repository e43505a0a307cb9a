set_option maxRecDepth 100000
abbrev cJ6_buildFromSorted_2 : ByteArray := prog_83_method_91_code
def yJ6_buildFromSorted_2 : MethodName := ⟨RJ6, "buildFromSorted", "(IIIILjava/util/Iterator;Ljava/io/ObjectInputStream;Ljava/lang/Object;)Ljava/util/TreeMap$Entry;"⟩
def dkwJ6_buildFromSorted_2_9 : List UInt8 := [25, 13, 25, 12, 181, 0, 124, 25, 12, 176]
abbrev dktJ6_buildFromSorted_2_9 : List UInt8 := dkwJ6_buildFromSorted_2_9 ++ []
def dkwJ6_buildFromSorted_2_8 : List UInt8 := [4, 96, 29, 21, 4, 25, 5, 25, 6, 25, 7, 182, 1, 110, 58, 13, 25, 12, 25, 13, 181, 0, 114]
abbrev dktJ6_buildFromSorted_2_8 : List UInt8 := dkwJ6_buildFromSorted_2_8 ++ dktJ6_buildFromSorted_2_9
def dkwJ6_buildFromSorted_2_7 : List UInt8 := [25, 9, 181, 0, 111, 25, 9, 25, 12, 181, 0, 124, 21, 8, 29, 162, 0, 39, 42, 27, 4, 96, 21, 8]
abbrev dktJ6_buildFromSorted_2_7 : List UInt8 := dkwJ6_buildFromSorted_2_7 ++ dktJ6_buildFromSorted_2_8
def dkwJ6_buildFromSorted_2_6 : List UInt8 := [183, 0, 167, 58, 12, 27, 21, 4, 160, 0, 9, 25, 12, 3, 181, 1, 34, 25, 9, 198, 0, 17, 25, 12]
abbrev dktJ6_buildFromSorted_2_6 : List UInt8 := dkwJ6_buildFromSorted_2_6 ++ dktJ6_buildFromSorted_2_7
def dkwJ6_buildFromSorted_2_5 : List UInt8 := [198, 0, 8, 25, 7, 167, 0, 8, 25, 6, 182, 1, 113, 58, 11, 187, 0, 59, 89, 25, 10, 25, 11, 1]
abbrev dktJ6_buildFromSorted_2_5 : List UInt8 := dkwJ6_buildFromSorted_2_5 ++ dktJ6_buildFromSorted_2_6
def dkwJ6_buildFromSorted_2_4 : List UInt8 := [185, 1, 79, 1, 0, 58, 10, 25, 7, 58, 11, 167, 0, 27, 25, 6, 182, 1, 113, 58, 10, 25, 7]
abbrev dktJ6_buildFromSorted_2_4 : List UInt8 := dkwJ6_buildFromSorted_2_4 ++ dktJ6_buildFromSorted_2_5
def dkwJ6_buildFromSorted_2_3 : List UInt8 := [185, 1, 84, 1, 0, 58, 10, 25, 12, 185, 1, 91, 1, 0, 58, 11, 167, 0, 43, 25, 5]
abbrev dktJ6_buildFromSorted_2_3 : List UInt8 := dkwJ6_buildFromSorted_2_3 ++ dktJ6_buildFromSorted_2_4
def dkwJ6_buildFromSorted_2_2 : List UInt8 := [198, 0, 57, 25, 7, 199, 0, 36, 25, 5, 185, 1, 79, 1, 0, 192, 1, 82, 58, 12, 25, 12]
abbrev dktJ6_buildFromSorted_2_2 : List UInt8 := dkwJ6_buildFromSorted_2_2 ++ dktJ6_buildFromSorted_2_3
def dkwJ6_buildFromSorted_2_1 : List UInt8 := [27, 4, 96, 28, 21, 8, 4, 100, 21, 4, 25, 5, 25, 6, 25, 7, 182, 1, 110, 58, 9, 25, 5]
abbrev dktJ6_buildFromSorted_2_1 : List UInt8 := dkwJ6_buildFromSorted_2_1 ++ dktJ6_buildFromSorted_2_2
def dkwJ6_buildFromSorted_2_0 : List UInt8 := [29, 28, 162, 0, 5, 1, 176, 28, 29, 96, 4, 124, 54, 8, 1, 58, 9, 28, 21, 8, 162, 0, 25, 42]
abbrev dktJ6_buildFromSorted_2_0 : List UInt8 := dkwJ6_buildFromSorted_2_0 ++ dktJ6_buildFromSorted_2_1
theorem dksJ6_buildFromSorted_2_0 : cJ6_buildFromSorted_2.data.toList.drop 0 = dktJ6_buildFromSorted_2_0 := by decide +kernel
theorem dksJ6_buildFromSorted_2_1 : cJ6_buildFromSorted_2.data.toList.drop 24 = dktJ6_buildFromSorted_2_1 := dk_seg dksJ6_buildFromSorted_2_0 24 rfl rfl
theorem dksJ6_buildFromSorted_2_2 : cJ6_buildFromSorted_2.data.toList.drop 47 = dktJ6_buildFromSorted_2_2 := dk_seg dksJ6_buildFromSorted_2_1 23 rfl rfl
theorem dksJ6_buildFromSorted_2_3 : cJ6_buildFromSorted_2.data.toList.drop 69 = dktJ6_buildFromSorted_2_3 := dk_seg dksJ6_buildFromSorted_2_2 22 rfl rfl
theorem dksJ6_buildFromSorted_2_4 : cJ6_buildFromSorted_2.data.toList.drop 90 = dktJ6_buildFromSorted_2_4 := dk_seg dksJ6_buildFromSorted_2_3 21 rfl rfl
theorem dksJ6_buildFromSorted_2_5 : cJ6_buildFromSorted_2.data.toList.drop 113 = dktJ6_buildFromSorted_2_5 := dk_seg dksJ6_buildFromSorted_2_4 23 rfl rfl
theorem dksJ6_buildFromSorted_2_6 : cJ6_buildFromSorted_2.data.toList.drop 137 = dktJ6_buildFromSorted_2_6 := dk_seg dksJ6_buildFromSorted_2_5 24 rfl rfl
theorem dksJ6_buildFromSorted_2_7 : cJ6_buildFromSorted_2.data.toList.drop 161 = dktJ6_buildFromSorted_2_7 := dk_seg dksJ6_buildFromSorted_2_6 24 rfl rfl
theorem dksJ6_buildFromSorted_2_8 : cJ6_buildFromSorted_2.data.toList.drop 185 = dktJ6_buildFromSorted_2_8 := dk_seg dksJ6_buildFromSorted_2_7 24 rfl rfl
theorem dksJ6_buildFromSorted_2_9 : cJ6_buildFromSorted_2.data.toList.drop 208 = dktJ6_buildFromSorted_2_9 := dk_seg dksJ6_buildFromSorted_2_8 23 rfl rfl
theorem dJ6_buildFromSorted_2_0 : decode cJ6_buildFromSorted_2 0 = .ok (.iload_n 3, 1) := dk_29 (dk_at dksJ6_buildFromSorted_2_0 0 rfl rfl)
theorem dJ6_buildFromSorted_2_1 : decode cJ6_buildFromSorted_2 1 = .ok (.iload_n 2, 1) := dk_28 (dk_at dksJ6_buildFromSorted_2_0 1 rfl rfl)
theorem dJ6_buildFromSorted_2_2 : decode cJ6_buildFromSorted_2 2 = .ok (.if_icmp .ge 5, 3) := dk_162 0 5 (dk_at dksJ6_buildFromSorted_2_0 2 rfl rfl)
theorem dJ6_buildFromSorted_2_5 : decode cJ6_buildFromSorted_2 5 = .ok (.aconst_null, 1) := dk_1 (dk_at dksJ6_buildFromSorted_2_0 5 rfl rfl)
theorem dJ6_buildFromSorted_2_6 : decode cJ6_buildFromSorted_2 6 = .ok (.areturn, 1) := dk_176 (dk_at dksJ6_buildFromSorted_2_0 6 rfl rfl)
theorem dJ6_buildFromSorted_2_7 : decode cJ6_buildFromSorted_2 7 = .ok (.iload_n 2, 1) := dk_28 (dk_at dksJ6_buildFromSorted_2_0 7 rfl rfl)
theorem dJ6_buildFromSorted_2_8 : decode cJ6_buildFromSorted_2 8 = .ok (.iload_n 3, 1) := dk_29 (dk_at dksJ6_buildFromSorted_2_0 8 rfl rfl)
theorem dJ6_buildFromSorted_2_9 : decode cJ6_buildFromSorted_2 9 = .ok (.iadd, 1) := dk_96 (dk_at dksJ6_buildFromSorted_2_0 9 rfl rfl)
theorem dJ6_buildFromSorted_2_10 : decode cJ6_buildFromSorted_2 10 = .ok (.iconst 1, 1) := dk_4 (dk_at dksJ6_buildFromSorted_2_0 10 rfl rfl)
theorem dJ6_buildFromSorted_2_11 : decode cJ6_buildFromSorted_2 11 = .ok (.iushr, 1) := dk_124 (dk_at dksJ6_buildFromSorted_2_0 11 rfl rfl)
theorem dJ6_buildFromSorted_2_12 : decode cJ6_buildFromSorted_2 12 = .ok (.istore 8, 2) := dk_54 8 (dk_at dksJ6_buildFromSorted_2_0 12 rfl rfl)
theorem dJ6_buildFromSorted_2_14 : decode cJ6_buildFromSorted_2 14 = .ok (.aconst_null, 1) := dk_1 (dk_at dksJ6_buildFromSorted_2_0 14 rfl rfl)
theorem dJ6_buildFromSorted_2_15 : decode cJ6_buildFromSorted_2 15 = .ok (.astore 9, 2) := dk_58 9 (dk_at dksJ6_buildFromSorted_2_0 15 rfl rfl)
theorem dJ6_buildFromSorted_2_17 : decode cJ6_buildFromSorted_2 17 = .ok (.iload_n 2, 1) := dk_28 (dk_at dksJ6_buildFromSorted_2_0 17 rfl rfl)
theorem dJ6_buildFromSorted_2_18 : decode cJ6_buildFromSorted_2 18 = .ok (.iload 8, 2) := dk_21 8 (dk_at dksJ6_buildFromSorted_2_0 18 rfl rfl)
theorem dJ6_buildFromSorted_2_20 : decode cJ6_buildFromSorted_2 20 = .ok (.if_icmp .ge 25, 3) := dk_162 0 25 (dk_at dksJ6_buildFromSorted_2_0 20 rfl rfl)
theorem dJ6_buildFromSorted_2_23 : decode cJ6_buildFromSorted_2 23 = .ok (.aload_n 0, 1) := dk_42 (dk_at dksJ6_buildFromSorted_2_0 23 rfl rfl)
theorem dJ6_buildFromSorted_2_24 : decode cJ6_buildFromSorted_2 24 = .ok (.iload_n 1, 1) := dk_27 (dk_at dksJ6_buildFromSorted_2_1 0 rfl rfl)
theorem dJ6_buildFromSorted_2_25 : decode cJ6_buildFromSorted_2 25 = .ok (.iconst 1, 1) := dk_4 (dk_at dksJ6_buildFromSorted_2_1 1 rfl rfl)
theorem dJ6_buildFromSorted_2_26 : decode cJ6_buildFromSorted_2 26 = .ok (.iadd, 1) := dk_96 (dk_at dksJ6_buildFromSorted_2_1 2 rfl rfl)
theorem dJ6_buildFromSorted_2_27 : decode cJ6_buildFromSorted_2 27 = .ok (.iload_n 2, 1) := dk_28 (dk_at dksJ6_buildFromSorted_2_1 3 rfl rfl)
theorem dJ6_buildFromSorted_2_28 : decode cJ6_buildFromSorted_2 28 = .ok (.iload 8, 2) := dk_21 8 (dk_at dksJ6_buildFromSorted_2_1 4 rfl rfl)
theorem dJ6_buildFromSorted_2_30 : decode cJ6_buildFromSorted_2 30 = .ok (.iconst 1, 1) := dk_4 (dk_at dksJ6_buildFromSorted_2_1 6 rfl rfl)
theorem dJ6_buildFromSorted_2_31 : decode cJ6_buildFromSorted_2 31 = .ok (.isub, 1) := dk_100 (dk_at dksJ6_buildFromSorted_2_1 7 rfl rfl)
theorem dJ6_buildFromSorted_2_32 : decode cJ6_buildFromSorted_2 32 = .ok (.iload 4, 2) := dk_21 4 (dk_at dksJ6_buildFromSorted_2_1 8 rfl rfl)
theorem dJ6_buildFromSorted_2_34 : decode cJ6_buildFromSorted_2 34 = .ok (.aload 5, 2) := dk_25 5 (dk_at dksJ6_buildFromSorted_2_1 10 rfl rfl)
theorem dJ6_buildFromSorted_2_36 : decode cJ6_buildFromSorted_2 36 = .ok (.aload 6, 2) := dk_25 6 (dk_at dksJ6_buildFromSorted_2_1 12 rfl rfl)
theorem dJ6_buildFromSorted_2_38 : decode cJ6_buildFromSorted_2 38 = .ok (.aload 7, 2) := dk_25 7 (dk_at dksJ6_buildFromSorted_2_1 14 rfl rfl)
theorem dJ6_buildFromSorted_2_40 : decode cJ6_buildFromSorted_2 40 = .ok (.invokevirtual 366, 3) := dk_182 1 110 (dk_at dksJ6_buildFromSorted_2_1 16 rfl rfl)
theorem dJ6_buildFromSorted_2_43 : decode cJ6_buildFromSorted_2 43 = .ok (.astore 9, 2) := dk_58 9 (dk_at dksJ6_buildFromSorted_2_1 19 rfl rfl)
theorem dJ6_buildFromSorted_2_45 : decode cJ6_buildFromSorted_2 45 = .ok (.aload 5, 2) := dk_25 5 (dk_at dksJ6_buildFromSorted_2_1 21 rfl rfl)
theorem dJ6_buildFromSorted_2_47 : decode cJ6_buildFromSorted_2 47 = .ok (.ifnull 57, 3) := dk_198 0 57 (dk_at dksJ6_buildFromSorted_2_2 0 rfl rfl)
theorem dJ6_buildFromSorted_2_50 : decode cJ6_buildFromSorted_2 50 = .ok (.aload 7, 2) := dk_25 7 (dk_at dksJ6_buildFromSorted_2_2 3 rfl rfl)
theorem dJ6_buildFromSorted_2_52 : decode cJ6_buildFromSorted_2 52 = .ok (.ifnonnull 36, 3) := dk_199 0 36 (dk_at dksJ6_buildFromSorted_2_2 5 rfl rfl)
theorem dJ6_buildFromSorted_2_55 : decode cJ6_buildFromSorted_2 55 = .ok (.aload 5, 2) := dk_25 5 (dk_at dksJ6_buildFromSorted_2_2 8 rfl rfl)
theorem dJ6_buildFromSorted_2_57 : decode cJ6_buildFromSorted_2 57 = .ok (.invokeinterface 335 1, 5) := by decide +kernel
theorem dJ6_buildFromSorted_2_62 : decode cJ6_buildFromSorted_2 62 = .ok (.checkcast 338, 3) := dk_192 1 82 (dk_at dksJ6_buildFromSorted_2_2 15 rfl rfl)
theorem dJ6_buildFromSorted_2_65 : decode cJ6_buildFromSorted_2 65 = .ok (.astore 12, 2) := dk_58 12 (dk_at dksJ6_buildFromSorted_2_2 18 rfl rfl)
theorem dJ6_buildFromSorted_2_67 : decode cJ6_buildFromSorted_2 67 = .ok (.aload 12, 2) := dk_25 12 (dk_at dksJ6_buildFromSorted_2_2 20 rfl rfl)
theorem dJ6_buildFromSorted_2_69 : decode cJ6_buildFromSorted_2 69 = .ok (.invokeinterface 340 1, 5) := by decide +kernel
theorem dJ6_buildFromSorted_2_74 : decode cJ6_buildFromSorted_2 74 = .ok (.astore 10, 2) := dk_58 10 (dk_at dksJ6_buildFromSorted_2_3 5 rfl rfl)
theorem dJ6_buildFromSorted_2_76 : decode cJ6_buildFromSorted_2 76 = .ok (.aload 12, 2) := dk_25 12 (dk_at dksJ6_buildFromSorted_2_3 7 rfl rfl)
theorem dJ6_buildFromSorted_2_78 : decode cJ6_buildFromSorted_2 78 = .ok (.invokeinterface 347 1, 5) := by decide +kernel
theorem dJ6_buildFromSorted_2_83 : decode cJ6_buildFromSorted_2 83 = .ok (.astore 11, 2) := dk_58 11 (dk_at dksJ6_buildFromSorted_2_3 14 rfl rfl)
theorem dJ6_buildFromSorted_2_85 : decode cJ6_buildFromSorted_2 85 = .ok (.goto 43, 3) := dk_167 0 43 (dk_at dksJ6_buildFromSorted_2_3 16 rfl rfl)
theorem dJ6_buildFromSorted_2_88 : decode cJ6_buildFromSorted_2 88 = .ok (.aload 5, 2) := dk_25 5 (dk_at dksJ6_buildFromSorted_2_3 19 rfl rfl)
theorem dJ6_buildFromSorted_2_90 : decode cJ6_buildFromSorted_2 90 = .ok (.invokeinterface 335 1, 5) := by decide +kernel
theorem dJ6_buildFromSorted_2_95 : decode cJ6_buildFromSorted_2 95 = .ok (.astore 10, 2) := dk_58 10 (dk_at dksJ6_buildFromSorted_2_4 5 rfl rfl)
theorem dJ6_buildFromSorted_2_97 : decode cJ6_buildFromSorted_2 97 = .ok (.aload 7, 2) := dk_25 7 (dk_at dksJ6_buildFromSorted_2_4 7 rfl rfl)
theorem dJ6_buildFromSorted_2_99 : decode cJ6_buildFromSorted_2 99 = .ok (.astore 11, 2) := dk_58 11 (dk_at dksJ6_buildFromSorted_2_4 9 rfl rfl)
theorem dJ6_buildFromSorted_2_101 : decode cJ6_buildFromSorted_2 101 = .ok (.goto 27, 3) := dk_167 0 27 (dk_at dksJ6_buildFromSorted_2_4 11 rfl rfl)
theorem dJ6_buildFromSorted_2_104 : decode cJ6_buildFromSorted_2 104 = .ok (.aload 6, 2) := dk_25 6 (dk_at dksJ6_buildFromSorted_2_4 14 rfl rfl)
theorem dJ6_buildFromSorted_2_106 : decode cJ6_buildFromSorted_2 106 = .ok (.invokevirtual 369, 3) := dk_182 1 113 (dk_at dksJ6_buildFromSorted_2_4 16 rfl rfl)
theorem dJ6_buildFromSorted_2_109 : decode cJ6_buildFromSorted_2 109 = .ok (.astore 10, 2) := dk_58 10 (dk_at dksJ6_buildFromSorted_2_4 19 rfl rfl)
theorem dJ6_buildFromSorted_2_111 : decode cJ6_buildFromSorted_2 111 = .ok (.aload 7, 2) := dk_25 7 (dk_at dksJ6_buildFromSorted_2_4 21 rfl rfl)
theorem dJ6_buildFromSorted_2_113 : decode cJ6_buildFromSorted_2 113 = .ok (.ifnull 8, 3) := dk_198 0 8 (dk_at dksJ6_buildFromSorted_2_5 0 rfl rfl)
theorem dJ6_buildFromSorted_2_116 : decode cJ6_buildFromSorted_2 116 = .ok (.aload 7, 2) := dk_25 7 (dk_at dksJ6_buildFromSorted_2_5 3 rfl rfl)
theorem dJ6_buildFromSorted_2_118 : decode cJ6_buildFromSorted_2 118 = .ok (.goto 8, 3) := dk_167 0 8 (dk_at dksJ6_buildFromSorted_2_5 5 rfl rfl)
theorem dJ6_buildFromSorted_2_121 : decode cJ6_buildFromSorted_2 121 = .ok (.aload 6, 2) := dk_25 6 (dk_at dksJ6_buildFromSorted_2_5 8 rfl rfl)
theorem dJ6_buildFromSorted_2_123 : decode cJ6_buildFromSorted_2 123 = .ok (.invokevirtual 369, 3) := dk_182 1 113 (dk_at dksJ6_buildFromSorted_2_5 10 rfl rfl)
theorem dJ6_buildFromSorted_2_126 : decode cJ6_buildFromSorted_2 126 = .ok (.astore 11, 2) := dk_58 11 (dk_at dksJ6_buildFromSorted_2_5 13 rfl rfl)
theorem dJ6_buildFromSorted_2_128 : decode cJ6_buildFromSorted_2 128 = .ok (.new 59, 3) := dk_187 0 59 (dk_at dksJ6_buildFromSorted_2_5 15 rfl rfl)
theorem dJ6_buildFromSorted_2_131 : decode cJ6_buildFromSorted_2 131 = .ok (.dup, 1) := dk_89 (dk_at dksJ6_buildFromSorted_2_5 18 rfl rfl)
theorem dJ6_buildFromSorted_2_132 : decode cJ6_buildFromSorted_2 132 = .ok (.aload 10, 2) := dk_25 10 (dk_at dksJ6_buildFromSorted_2_5 19 rfl rfl)
theorem dJ6_buildFromSorted_2_134 : decode cJ6_buildFromSorted_2 134 = .ok (.aload 11, 2) := dk_25 11 (dk_at dksJ6_buildFromSorted_2_5 21 rfl rfl)
theorem dJ6_buildFromSorted_2_136 : decode cJ6_buildFromSorted_2 136 = .ok (.aconst_null, 1) := dk_1 (dk_at dksJ6_buildFromSorted_2_5 23 rfl rfl)
theorem dJ6_buildFromSorted_2_137 : decode cJ6_buildFromSorted_2 137 = .ok (.invokespecial 167, 3) := dk_183 0 167 (dk_at dksJ6_buildFromSorted_2_6 0 rfl rfl)
theorem dJ6_buildFromSorted_2_140 : decode cJ6_buildFromSorted_2 140 = .ok (.astore 12, 2) := dk_58 12 (dk_at dksJ6_buildFromSorted_2_6 3 rfl rfl)
theorem dJ6_buildFromSorted_2_142 : decode cJ6_buildFromSorted_2 142 = .ok (.iload_n 1, 1) := dk_27 (dk_at dksJ6_buildFromSorted_2_6 5 rfl rfl)
theorem dJ6_buildFromSorted_2_143 : decode cJ6_buildFromSorted_2 143 = .ok (.iload 4, 2) := dk_21 4 (dk_at dksJ6_buildFromSorted_2_6 6 rfl rfl)
theorem dJ6_buildFromSorted_2_145 : decode cJ6_buildFromSorted_2 145 = .ok (.if_icmp .ne 9, 3) := dk_160 0 9 (dk_at dksJ6_buildFromSorted_2_6 8 rfl rfl)
theorem dJ6_buildFromSorted_2_148 : decode cJ6_buildFromSorted_2 148 = .ok (.aload 12, 2) := dk_25 12 (dk_at dksJ6_buildFromSorted_2_6 11 rfl rfl)
theorem dJ6_buildFromSorted_2_150 : decode cJ6_buildFromSorted_2 150 = .ok (.iconst 0, 1) := dk_3 (dk_at dksJ6_buildFromSorted_2_6 13 rfl rfl)
theorem dJ6_buildFromSorted_2_151 : decode cJ6_buildFromSorted_2 151 = .ok (.putfield 290, 3) := dk_181 1 34 (dk_at dksJ6_buildFromSorted_2_6 14 rfl rfl)
theorem dJ6_buildFromSorted_2_154 : decode cJ6_buildFromSorted_2 154 = .ok (.aload 9, 2) := dk_25 9 (dk_at dksJ6_buildFromSorted_2_6 17 rfl rfl)
theorem dJ6_buildFromSorted_2_156 : decode cJ6_buildFromSorted_2 156 = .ok (.ifnull 17, 3) := dk_198 0 17 (dk_at dksJ6_buildFromSorted_2_6 19 rfl rfl)
theorem dJ6_buildFromSorted_2_159 : decode cJ6_buildFromSorted_2 159 = .ok (.aload 12, 2) := dk_25 12 (dk_at dksJ6_buildFromSorted_2_6 22 rfl rfl)
theorem dJ6_buildFromSorted_2_161 : decode cJ6_buildFromSorted_2 161 = .ok (.aload 9, 2) := dk_25 9 (dk_at dksJ6_buildFromSorted_2_7 0 rfl rfl)
theorem dJ6_buildFromSorted_2_163 : decode cJ6_buildFromSorted_2 163 = .ok (.putfield 111, 3) := dk_181 0 111 (dk_at dksJ6_buildFromSorted_2_7 2 rfl rfl)
theorem dJ6_buildFromSorted_2_166 : decode cJ6_buildFromSorted_2 166 = .ok (.aload 9, 2) := dk_25 9 (dk_at dksJ6_buildFromSorted_2_7 5 rfl rfl)
theorem dJ6_buildFromSorted_2_168 : decode cJ6_buildFromSorted_2 168 = .ok (.aload 12, 2) := dk_25 12 (dk_at dksJ6_buildFromSorted_2_7 7 rfl rfl)
theorem dJ6_buildFromSorted_2_170 : decode cJ6_buildFromSorted_2 170 = .ok (.putfield 124, 3) := dk_181 0 124 (dk_at dksJ6_buildFromSorted_2_7 9 rfl rfl)
theorem dJ6_buildFromSorted_2_173 : decode cJ6_buildFromSorted_2 173 = .ok (.iload 8, 2) := dk_21 8 (dk_at dksJ6_buildFromSorted_2_7 12 rfl rfl)
theorem dJ6_buildFromSorted_2_175 : decode cJ6_buildFromSorted_2 175 = .ok (.iload_n 3, 1) := dk_29 (dk_at dksJ6_buildFromSorted_2_7 14 rfl rfl)
theorem dJ6_buildFromSorted_2_176 : decode cJ6_buildFromSorted_2 176 = .ok (.if_icmp .ge 39, 3) := dk_162 0 39 (dk_at dksJ6_buildFromSorted_2_7 15 rfl rfl)
theorem dJ6_buildFromSorted_2_179 : decode cJ6_buildFromSorted_2 179 = .ok (.aload_n 0, 1) := dk_42 (dk_at dksJ6_buildFromSorted_2_7 18 rfl rfl)
theorem dJ6_buildFromSorted_2_180 : decode cJ6_buildFromSorted_2 180 = .ok (.iload_n 1, 1) := dk_27 (dk_at dksJ6_buildFromSorted_2_7 19 rfl rfl)
theorem dJ6_buildFromSorted_2_181 : decode cJ6_buildFromSorted_2 181 = .ok (.iconst 1, 1) := dk_4 (dk_at dksJ6_buildFromSorted_2_7 20 rfl rfl)
theorem dJ6_buildFromSorted_2_182 : decode cJ6_buildFromSorted_2 182 = .ok (.iadd, 1) := dk_96 (dk_at dksJ6_buildFromSorted_2_7 21 rfl rfl)
theorem dJ6_buildFromSorted_2_183 : decode cJ6_buildFromSorted_2 183 = .ok (.iload 8, 2) := dk_21 8 (dk_at dksJ6_buildFromSorted_2_7 22 rfl rfl)
theorem dJ6_buildFromSorted_2_185 : decode cJ6_buildFromSorted_2 185 = .ok (.iconst 1, 1) := dk_4 (dk_at dksJ6_buildFromSorted_2_8 0 rfl rfl)
theorem dJ6_buildFromSorted_2_186 : decode cJ6_buildFromSorted_2 186 = .ok (.iadd, 1) := dk_96 (dk_at dksJ6_buildFromSorted_2_8 1 rfl rfl)
theorem dJ6_buildFromSorted_2_187 : decode cJ6_buildFromSorted_2 187 = .ok (.iload_n 3, 1) := dk_29 (dk_at dksJ6_buildFromSorted_2_8 2 rfl rfl)
theorem dJ6_buildFromSorted_2_188 : decode cJ6_buildFromSorted_2 188 = .ok (.iload 4, 2) := dk_21 4 (dk_at dksJ6_buildFromSorted_2_8 3 rfl rfl)
theorem dJ6_buildFromSorted_2_190 : decode cJ6_buildFromSorted_2 190 = .ok (.aload 5, 2) := dk_25 5 (dk_at dksJ6_buildFromSorted_2_8 5 rfl rfl)
theorem dJ6_buildFromSorted_2_192 : decode cJ6_buildFromSorted_2 192 = .ok (.aload 6, 2) := dk_25 6 (dk_at dksJ6_buildFromSorted_2_8 7 rfl rfl)
theorem dJ6_buildFromSorted_2_194 : decode cJ6_buildFromSorted_2 194 = .ok (.aload 7, 2) := dk_25 7 (dk_at dksJ6_buildFromSorted_2_8 9 rfl rfl)
theorem dJ6_buildFromSorted_2_196 : decode cJ6_buildFromSorted_2 196 = .ok (.invokevirtual 366, 3) := dk_182 1 110 (dk_at dksJ6_buildFromSorted_2_8 11 rfl rfl)
theorem dJ6_buildFromSorted_2_199 : decode cJ6_buildFromSorted_2 199 = .ok (.astore 13, 2) := dk_58 13 (dk_at dksJ6_buildFromSorted_2_8 14 rfl rfl)
theorem dJ6_buildFromSorted_2_201 : decode cJ6_buildFromSorted_2 201 = .ok (.aload 12, 2) := dk_25 12 (dk_at dksJ6_buildFromSorted_2_8 16 rfl rfl)
theorem dJ6_buildFromSorted_2_203 : decode cJ6_buildFromSorted_2 203 = .ok (.aload 13, 2) := dk_25 13 (dk_at dksJ6_buildFromSorted_2_8 18 rfl rfl)
theorem dJ6_buildFromSorted_2_205 : decode cJ6_buildFromSorted_2 205 = .ok (.putfield 114, 3) := dk_181 0 114 (dk_at dksJ6_buildFromSorted_2_8 20 rfl rfl)
theorem dJ6_buildFromSorted_2_208 : decode cJ6_buildFromSorted_2 208 = .ok (.aload 13, 2) := dk_25 13 (dk_at dksJ6_buildFromSorted_2_9 0 rfl rfl)
theorem dJ6_buildFromSorted_2_210 : decode cJ6_buildFromSorted_2 210 = .ok (.aload 12, 2) := dk_25 12 (dk_at dksJ6_buildFromSorted_2_9 2 rfl rfl)
theorem dJ6_buildFromSorted_2_212 : decode cJ6_buildFromSorted_2 212 = .ok (.putfield 124, 3) := dk_181 0 124 (dk_at dksJ6_buildFromSorted_2_9 4 rfl rfl)
theorem dJ6_buildFromSorted_2_215 : decode cJ6_buildFromSorted_2 215 = .ok (.aload 12, 2) := dk_25 12 (dk_at dksJ6_buildFromSorted_2_9 7 rfl rfl)
theorem dJ6_buildFromSorted_2_217 : decode cJ6_buildFromSorted_2 217 = .ok (.areturn, 1) := dk_176 (dk_at dksJ6_buildFromSorted_2_9 9 rfl rfl)
theorem yk_J6_buildFromSorted_2 : yk yJ6_buildFromSorted_2 7 := by unfold yk; decide +kernel
abbrev KJ6_buildFromSorted_2 (G : Gx) (d mc ms : Nat) (av : List Sv) (M : Mem) (post : Option Sv → Mem → Prop) : Prop := Ct G yJ6_buildFromSorted_2 cJ6_buildFromSorted_2 14 ((Option.some (Jvm.ClassFile.FieldType.object "java/util/TreeMap$Entry"))) d mc ms av M post
def yi_Iterator_next_937 : MethodName := ⟨"java/util/Iterator", "next", "()Ljava/lang/Object;"⟩
theorem yk_i_Iterator_next_937 : yk ⟨"java/util/Iterator", "next", "()Ljava/lang/Object;"⟩ 0 := by unfold yk; decide +kernel
def yi_Map_Entry_getKey_937 : MethodName := ⟨"java/util/Map$Entry", "getKey", "()Ljava/lang/Object;"⟩
theorem yk_i_Map_Entry_getKey_937 : yk ⟨"java/util/Map$Entry", "getKey", "()Ljava/lang/Object;"⟩ 0 := by unfold yk; decide +kernel
def yi_Map_Entry_getValue_937 : MethodName := ⟨"java/util/Map$Entry", "getValue", "()Ljava/lang/Object;"⟩
theorem yk_i_Map_Entry_getValue_937 : yk ⟨"java/util/Map$Entry", "getValue", "()Ljava/lang/Object;"⟩ 0 := by unfold yk; decide +kernel
theorem q735 : (Jvm.Cond.methodLink "java/util/TreeMap" (366 : Nat) ({ cls := "java/util/TreeMap", name := "buildFromSorted", desc := "(IIIILjava/util/Iterator;Ljava/io/ObjectInputStream;Ljava/lang/Object;)Ljava/util/TreeMap$Entry;" } : Jvm.MethodName)) ∈ lw_all := lw_g (lw_at lw_m3 207 rfl) rfl
theorem q737 : (Jvm.Cond.instanceMethod ({ cls := "java/util/TreeMap", name := "buildFromSorted", desc := "(IIIILjava/util/Iterator;Ljava/io/ObjectInputStream;Ljava/lang/Object;)Ljava/util/TreeMap$Entry;" } : Jvm.MethodName)) ∈ lw_all := lw_g (lw_at lw_m3 209 rfl) rfl
theorem q738 : (Jvm.Cond.code ({ cls := "java/util/TreeMap", name := "buildFromSorted", desc := "(IIIILjava/util/Iterator;Ljava/io/ObjectInputStream;Ljava/lang/Object;)Ljava/util/TreeMap$Entry;" } : Jvm.MethodName) prog_83_method_91_code (14 : Nat) (Option.some (Jvm.ClassFile.FieldType.object "java/util/TreeMap$Entry"))) ∈ lw_all := lw_g (lw_at lw_m3 210 rfl) rfl
theorem q740 : (Jvm.Cond.methodLink "java/util/TreeMap" (335 : Nat) ({ cls := "java/util/Iterator", name := "next", desc := "()Ljava/lang/Object;" } : Jvm.MethodName)) ∈ lw_all := lw_g (lw_at lw_m3 212 rfl) rfl
theorem q741 : (Jvm.Cond.interfaceMethod "java/util/Iterator" "java/util/Iterator" "next" "()Ljava/lang/Object;") ∈ lw_tbl := lw_at lw_m3 213 rfl
theorem q742 : (Jvm.Cond.declares ({ cls := "java/util/Iterator", name := "next", desc := "()Ljava/lang/Object;" } : Jvm.MethodName)) ∈ lw_tbl := lw_at lw_m3 214 rfl
theorem q889 : (Jvm.Cond.castable "java/util/TreeMap$EntryIterator" "java/util/Iterator") ∈ lw_tbl := lw_at lw_m4 121 rfl
theorem q890 : (Jvm.Cond.selects "java/util/TreeMap$EntryIterator" ({ cls := "java/util/Iterator", name := "next", desc := "()Ljava/lang/Object;" } : Jvm.MethodName) ({ cls := "java/util/TreeMap$EntryIterator", name := "next", desc := "()Ljava/lang/Object;" } : Jvm.MethodName)) ∈ lw_all := lw_g (lw_at lw_m4 122 rfl) rfl
theorem q891 : (Jvm.Cond.unhidden "java/util/TreeMap$EntryIterator" "next" "()Ljava/lang/Object;") ∈ lw_tbl := lw_at lw_m4 123 rfl
theorem q892 : (Jvm.Cond.instanceMethod ({ cls := "java/util/TreeMap$EntryIterator", name := "next", desc := "()Ljava/lang/Object;" } : Jvm.MethodName)) ∈ lw_all := lw_g (lw_at lw_m4 124 rfl) rfl
theorem q893 : (Jvm.Cond.publicMethod ({ cls := "java/util/TreeMap$EntryIterator", name := "next", desc := "()Ljava/lang/Object;" } : Jvm.MethodName)) ∈ lw_tbl := lw_at lw_m4 125 rfl
theorem q894 : (Jvm.Cond.code ({ cls := "java/util/TreeMap$EntryIterator", name := "next", desc := "()Ljava/lang/Object;" } : Jvm.MethodName) prog_85_method_3_code (1 : Nat) (Option.some (Jvm.ClassFile.FieldType.object "java/lang/Object"))) ∈ lw_all := lw_g (lw_at lw_m4 126 rfl) rfl
theorem q928 : (Jvm.Cond.classLink "java/util/TreeMap" (338 : Nat) "java/util/Map$Entry") ∈ lw_all := lw_g (lw_at lw_m4 160 rfl) rfl
theorem q930 : (Jvm.Cond.methodLink "java/util/TreeMap" (340 : Nat) ({ cls := "java/util/Map$Entry", name := "getKey", desc := "()Ljava/lang/Object;" } : Jvm.MethodName)) ∈ lw_all := lw_g (lw_at lw_m4 162 rfl) rfl
theorem q931 : (Jvm.Cond.interfaceMethod "java/util/Map$Entry" "java/util/Map$Entry" "getKey" "()Ljava/lang/Object;") ∈ lw_tbl := lw_at lw_m4 163 rfl
theorem q932 : (Jvm.Cond.declares ({ cls := "java/util/Map$Entry", name := "getKey", desc := "()Ljava/lang/Object;" } : Jvm.MethodName)) ∈ lw_tbl := lw_at lw_m4 164 rfl
theorem q943 : (Jvm.Cond.castable "java/util/TreeMap$Entry" "java/util/Map$Entry") ∈ lw_tbl := lw_at lw_m4 175 rfl
theorem q944 : (Jvm.Cond.selects "java/util/TreeMap$Entry" ({ cls := "java/util/Map$Entry", name := "getKey", desc := "()Ljava/lang/Object;" } : Jvm.MethodName) ({ cls := "java/util/TreeMap$Entry", name := "getKey", desc := "()Ljava/lang/Object;" } : Jvm.MethodName)) ∈ lw_all := lw_g (lw_at lw_m4 176 rfl) rfl
theorem q945 : (Jvm.Cond.unhidden "java/util/TreeMap$Entry" "getKey" "()Ljava/lang/Object;") ∈ lw_tbl := lw_at lw_m4 177 rfl
theorem q946 : (Jvm.Cond.instanceMethod ({ cls := "java/util/TreeMap$Entry", name := "getKey", desc := "()Ljava/lang/Object;" } : Jvm.MethodName)) ∈ lw_all := lw_g (lw_at lw_m4 178 rfl) rfl
theorem q947 : (Jvm.Cond.publicMethod ({ cls := "java/util/TreeMap$Entry", name := "getKey", desc := "()Ljava/lang/Object;" } : Jvm.MethodName)) ∈ lw_tbl := lw_at lw_m4 179 rfl
theorem q948 : (Jvm.Cond.code ({ cls := "java/util/TreeMap$Entry", name := "getKey", desc := "()Ljava/lang/Object;" } : Jvm.MethodName) prog_84_method_2_code (1 : Nat) (Option.some (Jvm.ClassFile.FieldType.object "java/lang/Object"))) ∈ lw_all := lw_g (lw_at lw_m4 180 rfl) rfl
theorem q950 : (Jvm.Cond.methodLink "java/util/TreeMap" (347 : Nat) ({ cls := "java/util/Map$Entry", name := "getValue", desc := "()Ljava/lang/Object;" } : Jvm.MethodName)) ∈ lw_all := lw_g (lw_at lw_m4 182 rfl) rfl
theorem q951 : (Jvm.Cond.interfaceMethod "java/util/Map$Entry" "java/util/Map$Entry" "getValue" "()Ljava/lang/Object;") ∈ lw_tbl := lw_at lw_m4 183 rfl
theorem q952 : (Jvm.Cond.declares ({ cls := "java/util/Map$Entry", name := "getValue", desc := "()Ljava/lang/Object;" } : Jvm.MethodName)) ∈ lw_tbl := lw_at lw_m4 184 rfl
theorem q962 : (Jvm.Cond.selects "java/util/TreeMap$Entry" ({ cls := "java/util/Map$Entry", name := "getValue", desc := "()Ljava/lang/Object;" } : Jvm.MethodName) ({ cls := "java/util/TreeMap$Entry", name := "getValue", desc := "()Ljava/lang/Object;" } : Jvm.MethodName)) ∈ lw_all := lw_g (lw_at lw_m4 194 rfl) rfl
theorem q963 : (Jvm.Cond.unhidden "java/util/TreeMap$Entry" "getValue" "()Ljava/lang/Object;") ∈ lw_tbl := lw_at lw_m4 195 rfl
theorem q964 : (Jvm.Cond.instanceMethod ({ cls := "java/util/TreeMap$Entry", name := "getValue", desc := "()Ljava/lang/Object;" } : Jvm.MethodName)) ∈ lw_all := lw_g (lw_at lw_m4 196 rfl) rfl
theorem q965 : (Jvm.Cond.publicMethod ({ cls := "java/util/TreeMap$Entry", name := "getValue", desc := "()Ljava/lang/Object;" } : Jvm.MethodName)) ∈ lw_tbl := lw_at lw_m4 197 rfl
theorem q966 : (Jvm.Cond.code ({ cls := "java/util/TreeMap$Entry", name := "getValue", desc := "()Ljava/lang/Object;" } : Jvm.MethodName) prog_84_method_3_code (1 : Nat) (Option.some (Jvm.ClassFile.FieldType.object "java/lang/Object"))) ∈ lw_all := lw_g (lw_at lw_m4 198 rfl) rfl
/-! ===== TreeMap.buildFromSorted: the recursion ===== -/
/-- the stretch a .. z-1 of the source is built as a tree of new nodes; ghosts t.. go on as ghosts ad' .. -/
def BT (M M' : Mem) (ρ ρi it t' n : Nat) (sad : Nat → Nat) (ky : Nat → Int32) (vl : Nat → Nat) (a z : Nat) (tad tps tlo thi ad' ps' lo' hi' : Nat → Nat) (r : Option Nat) : Prop :=
  (∀ j, j < a ∨ z ≤ j → ad' j = tad j) ∧ (∀ x, mK M x ≠ 0 → ps' x = tps x ∧ lo' x = tlo x ∧ hi' x = thi x) ∧
  TR a z ad' ps' lo' hi' (fun x => mR M' x 2) (fun x => mR M' x 3) (fun x => mR M' x 4) r ∧
  (∀ j, a ≤ j → j < z → mK M (ad' j) = 0 ∧ mK M' (ad' j) = kEN ∧ mO M' (ad' j) = ρ ∧ b01 (mI M' (ad' j) 5) ∧ (∃ b, mR M' (ad' j) 0 = some b ∧ Bx M' b (ky j)) ∧ mR M' (ad' j) 1 = some (vl j)) ∧
  Fr (fun q => q = ρi) M M' ∧ It M' kEI it ρi t' (if z < n then some (sad z) else none)
theorem mid_val {a z : Nat} (h : a < z) (hz : z ≤ 1000) : ((nI a + (nI z - 1)).toUInt32 >>> ((1 : Int32).toUInt32 &&& Int32.toUInt32 31)).toInt32 = nI ((a + z - 1) / 2) := by
  have e : nI a + (nI z - 1) = nI (a + z - 1) := by
    have : nI z - 1 = nI (z - 1) := by
      have h1 : z = (z - 1) + 1 := by omega
      rw [h1, nI_pred]; simp
    rw [this, nI_add]; congr 1; omega
  rw [e, pk_ushrN (by omega) 1 1 (by decide)]
theorem pk_sub_toInt' {z : Nat} (hz : z ≤ 1000) : (nI z - 1).toInt = (z : Int) - 1 := by
  have := pk_sub_toInt (a := z) (b := 1) (by omega) (by decide)
  have e : (1 : Int32) = nI 1 := rfl
  rw [e]; simpa using this
section Bfs2
variable {G : Gx} {ρs ρi ρ t' t n it : Nat} {sad sps slo shi : Nat → Nat} {ky : Nat → Int32} {vl : Nat → Nat}
abbrev BfsPost (M : Mem) (ρ ρi it t' n : Nat) (sad : Nat → Nat) (ky : Nat → Int32) (vl : Nat → Nat) (a z : Nat) (tad tps tlo thi : Nat → Nat) : Option Sv → Mem → Prop := fun v M' => ∃ (r : Option Nat) (ad' ps' lo' hi' : Nat → Nat), v = some (vr r) ∧ BT M M' ρ ρi it t' n sad ky vl a z tad tps tlo thi ad' ps' lo' hi' r
/-- the left part stands: the middle node, the right part -/
theorem bf_rest (hB : Base G) (h1 : ρi ≠ ρs) (h2 : ρi ≠ 0) (h3 : ρ ≠ ρi) (hn : n ≤ 1000) {D : Nat}
    (ih : ∀ (M : Mem) (a z : Nat) (lev rl : Int32) (tad tps tlo thi : Nat → Nat), TMc M ρs t' n sad sps slo shi ky vl → mK M t = kTM → It M kEI it ρi t' (if a < n then some (sad a) else none) → a ≤ z → z ≤ n → z < a + 2 ^ D →
      KJ6_buildFromSorted_2 G (D + 5) (z - a) (6 * (z - a)) [vr (some t), vi lev, vi (nI a), vi (nI z - 1), vi rl, vr (some it), vr none, vr none] M (BfsPost M ρ ρi it t' n sad ky vl a z tad tps tlo thi))
    {M : Mem} {a z m : Nat} {lev rl : Int32} {tad tps tlo thi : Nat → Nat} (hS : TMc M ρs t' n sad sps slo shi ky vl) (hkt : mK M t = kTM) (hma : a ≤ m) (hmz : m < z) (hzn : z ≤ n) (hD : z < m + 1 + 2 ^ D) :
    ∀ C, Ok C G cJ6_buildFromSorted_2 RJ6 "buildFromSorted" (D + 1 + 5) (z - a) (6 * (z - a)) → Rt C G (some (.object "java/util/TreeMap$Entry")) (z - a) (6 * (z - a)) (BfsPost M ρ ρi it t' n sad ky vl a z tad tps tlo thi) → ∀ {M1 : Mem} {l : Option Nat} {ad1 ps1 lo1 hi1 : Nat → Nat}, BT M M1 ρ ρi it t' n sad ky vl a m tad tps tlo thi ad1 ps1 lo1 hi1 l → Go C 45 [some (vr (some t)), some (vi lev), some (vi (nI a)), some (vi (nI z - 1)), some (vi rl), some (vr (some it)), some (vr none), some (vr none), some (vi (nI m)), some (vr l), none, none, none, none] [] M1 (m - a) (6 * (m - a)) := by
  intro C hC hQ M1 l ad1 ps1 lo1 hi1 hBT1
  obtain ⟨p1, p2, p3, p4, p5, p6⟩ := hBT1
  have hmn : m < n := by omega
  rw [if_pos hmn] at p6
  have hS1 := hS.fr p5 (fun q => h1 q.symm) (fun q => h2 q.symm)
  have hki1 := p6.1
  refine g_aload hC dJ6_buildFromSorted_2_45 rfl ?_
  refine g_ifnull hC 104 dJ6_buildFromSorted_2_47 (by decide) (fun hc => ?_) (fun y47 hc => ?_)
  · cases hc
  · refine g_aload hC dJ6_buildFromSorted_2_50 rfl ?_
    refine g_ifnonnull hC 88 dJ6_buildFromSorted_2_52 (by decide) (fun y52 hc2 => ?_) (fun hc2 => ?_)
    · cases hc2
    · refine g_aload hC dJ6_buildFromSorted_2_55 rfl ?_
      refine g_callF hC (by first | with_reducible rfl | with_reducible assumption | (simp only [mR_sI, mR_sL]; with_reducible assumption) | exact rfl | assumption) (Rk.o (ci := 21) (by first | with_reducible assumption | (simp only [mK_sI, mK_sR, mK_sL, mK_sO]; with_reducible assumption) | assumption | (simp only [mK_sI, mK_sR, mK_sL, mK_sO, mK_nw, mK_sK]; first | assumption | (simp only [*]; done))) rfl) (ct_nextE hB hS1.1 hmn p6 h1 h2) rfl (by first | decide | omega) rfl yk_i_Iterator_next_937 q740 q890 q892 q76 q894 q742 q741 q893 q891 q889 rfl dJ6_buildFromSorted_2_57 (by omega) (by omega) (fun v M2 hp => ?_)
      obtain ⟨rfl, hF2, hI2⟩ := hp
      simp only [Option.toList_some, Option.toList_none, List.cons_append, List.nil_append, Nat.add_zero, Nat.zero_add]
      have hS2 := hS1.fr hF2 (fun q => h1 q.symm) (fun q => h2 q.symm)
      obtain ⟨sTt, sky, svl, -⟩ := hS2.1.2.2.2.2.2.2
      have sN : Nd n sad sps (sad m) := ⟨by rw [sTt.1.1 m hmn]; exact hmn, by rw [sTt.1.1 m hmn]⟩
      have hkx2 := (sTt.2 _ sN).1
      obtain ⟨b, hb1, hb2⟩ := sky m hmn
      have hv1 := svl m hmn
      refine g_castY hC (ci := 9) (by first | with_reducible rfl | with_reducible assumption | (simp only [mR_sI, mR_sL]; with_reducible assumption) | exact rfl | assumption) (by first | with_reducible assumption | (simp only [mK_sI, mK_sR, mK_sL, mK_sO]; with_reducible assumption) | assumption | (simp only [mK_sI, mK_sR, mK_sL, mK_sO, mK_nw, mK_sK]; first | assumption | (simp only [*]; done))) rfl q928 q943 dJ6_buildFromSorted_2_62 ?_
      refine g_astore hC dJ6_buildFromSorted_2_65 rfl rfl ?_
      try simp only [stL, clr]
      refine g_aload hC dJ6_buildFromSorted_2_67 rfl ?_
      refine g_callF hC (by first | with_reducible rfl | with_reducible assumption | (simp only [mR_sI, mR_sL]; with_reducible assumption) | exact rfl | assumption) (Rk.o (ci := 9) (by first | with_reducible assumption | (simp only [mK_sI, mK_sR, mK_sL, mK_sO]; with_reducible assumption) | assumption | (simp only [mK_sI, mK_sR, mK_sL, mK_sO, mK_nw, mK_sK]; first | assumption | (simp only [*]; done))) rfl) (ct_getKey hB hkx2) rfl (by first | decide | omega) rfl yk_i_Map_Entry_getKey_937 q930 q944 q946 q85 q948 q932 q931 q947 q945 q943 rfl dJ6_buildFromSorted_2_69 (by omega) (by omega) (fun v M1 hp => ?_)
      obtain ⟨rfl, hM⟩ := hp
      cases hM.symm
      simp only [Option.toList_some, Option.toList_none, List.cons_append, List.nil_append, Nat.add_zero, Nat.zero_add]
      simp only [mR_sI, hb1]
      refine g_astore hC dJ6_buildFromSorted_2_74 rfl rfl ?_
      try simp only [stL, clr]
      refine g_aload hC dJ6_buildFromSorted_2_76 rfl ?_
      refine g_callF hC (by first | with_reducible rfl | with_reducible assumption | (simp only [mR_sI, mR_sL]; with_reducible assumption) | exact rfl | assumption) (Rk.o (ci := 9) (by first | with_reducible assumption | (simp only [mK_sI, mK_sR, mK_sL, mK_sO]; with_reducible assumption) | assumption | (simp only [mK_sI, mK_sR, mK_sL, mK_sO, mK_nw, mK_sK]; first | assumption | (simp only [*]; done))) rfl) (ct_getValue hB hkx2) rfl (by first | decide | omega) rfl yk_i_Map_Entry_getValue_937 q950 q962 q964 q85 q966 q952 q951 q965 q963 q943 rfl dJ6_buildFromSorted_2_78 (by omega) (by omega) (fun v M1 hp => ?_)
      obtain ⟨rfl, hM⟩ := hp
      cases hM.symm
      simp only [Option.toList_some, Option.toList_none, List.cons_append, List.nil_append, Nat.add_zero, Nat.zero_add]
      simp only [mR_sI, hv1]
      refine g_astore hC dJ6_buildFromSorted_2_83 rfl rfl ?_
      try simp only [stL, clr]
      refine g_goto hC 128 dJ6_buildFromSorted_2_85 (by decide) ?_
      refine g_new hC (ci := 9) (ρ) 6 rfl rfl q967 q968 q85 dJ6_buildFromSorted_2_128 (by omega) (by omega) (fun e he0 => ?_)
      have hke : mK (nw M2 e 10 0 ρ) e = kEN := by rw [mK_nw, if_pos rfl]
      refine g_dup hC dJ6_buildFromSorted_2_131 rfl ?_
      refine g_aload hC dJ6_buildFromSorted_2_132 rfl ?_
      refine g_aload hC dJ6_buildFromSorted_2_134 rfl ?_
      refine g_null hC dJ6_buildFromSorted_2_136 ?_
      refine g_callI hC (by first | with_reducible rfl | with_reducible assumption | (simp only [mR_sI, mR_sL]; with_reducible assumption) | exact rfl | assumption) (ct_Entry_init hB hke) rfl (by first | decide | omega) rfl yk_J30_init rfl q969 q970 q85 q971 rfl dJ6_buildFromSorted_2_137 (by omega) (by omega) (fun v M3 hp => ?_)
      obtain ⟨rfl, hM⟩ := hp
      cases hM.symm
      simp only [Option.toList_some, Option.toList_none, List.cons_append, List.nil_append, Nat.add_zero, Nat.zero_add]
      show Go C 140 _ _ (mkE M2 e ρ (some b) (some (vl m)) none) _ _
      have hNE := mkE_new M2 e ρ (some b) (some (vl m)) none
      have hFr0 : Fr (fun q => q = ρi) M2 (mkE M2 e ρ (some b) (some (vl m)) none) := mkE_fr _ _ _ _ _ _ he0
      generalize mkE M2 e ρ (some b) (some (vl m)) none = M3 at hNE hFr0 ⊢
      obtain ⟨n0, ne0, ne1, ne2, ne3, ne4, ne5, neK, neO⟩ := hNE
      have hkM : ∀ x, mK M x ≠ 0 → mK M1 x ≠ 0 := fun x q => by rw [(p5 x q).1]; exact q
      have hkM2 : ∀ x, mK M1 x ≠ 0 → mK M2 x ≠ 0 := fun x q => by rw [(hF2 x q).1]; exact q
      have heM1 : mK M1 e = 0 := Classical.byContradiction fun q => hkM2 e q he0
      have heM : mK M e = 0 := Classical.byContradiction fun q => hkM e q heM1
      -- the left nodes
      have lft : ∀ i, a ≤ i → i < m → ad1 i ≠ e ∧ mK M1 (ad1 i) ≠ 0 := by
        intro i q1 q2
        have := (p4 i q1 q2).2.1
        exact ⟨(fun z => by rw [z, heM1] at this; cases this), (by rw [this]; decide)⟩
      have nxt2 : ∀ M5 : Mem, mR M5 e 2 = l → mR M5 e 3 = none → mR M5 e 4 = none → mR M5 e 0 = some b → mR M5 e 1 = some (vl m) → b01 (mI M5 e 5) → mK M5 e = kEN → mO M5 e = ρ → (∀ x, x ≠ e → mK M5 x = mK M2 x ∧ mO M5 x = mO M2 x ∧ (∀ j, mI M5 x j = mI M2 x j) ∧ (∀ j, j ≠ 4 → mR M5 x j = mR M2 x j) ∧ mR M5 x 4 = if l = some x then some e else mR M2 x 4) → Fr (fun q => q = ρi) M M5 → TMc M5 ρs t' n sad sps slo shi ky vl → It M5 kEI it ρi t' (if m + 1 < n then some (sad (m + 1)) else none) → Go C 173 [some (vr (some t)), some (vi lev), some (vi (nI a)), some (vi (nI z - 1)), some (vi rl), some (vr (some it)), some (vr none), some (vr none), some (vi (nI m)), some (vr l), some (vr (some b)), some (vr (some (vl m))), some (vr (some e)), none] [] M5 (m - a + 1) (6 * (m - a) + 6) := by
        intro M5 q2 q3 q4 q0 q1 qc qK qO qx qF qS qI
        have hkt5 : mK M5 t = kTM := qF.k hkt (by decide)
        have hke5 : mK M5 e ≠ 0 := by rw [qK]; decide
        have k15 : ∀ x, mK M1 x ≠ 0 → x ≠ e ∧ mK M5 x = mK M1 x ∧ mO M5 x = mO M1 x := by
          intro x hx
          have xe : x ≠ e := by intro z; subst z; exact hx heM1
          exact ⟨xe, (qx x xe).1.trans (hF2 x hx).1, (qx x xe).2.1.trans (hF2 x hx).2.2.1⟩
        have fin : ∀ (M6 M7 : Mem) (r : Option Nat) (ad3 ps3 lo3 hi3 : Nat → Nat), BT M5 M6 ρ ρi it t' n sad ky vl (m + 1) z (up1 ad1 m e) (up1 ps1 e m) (up1 lo1 e a) (up1 hi1 e z) ad3 ps3 lo3 hi3 r → mR M7 e 3 = r → (∀ x j, j ≠ 3 → j ≠ 4 → mR M7 x j = mR M6 x j) → (∀ x, x ≠ e → mR M7 x 3 = mR M6 x 3) → (∀ x, mR M7 x 4 = if r = some x then some e else mR M6 x 4) → (∀ x j, mI M7 x j = mI M6 x j) → (∀ x, mK M7 x = mK M6 x ∧ mO M7 x = mO M6 x) → Fr (fun q => q = ρi) M M7 → It M7 kEI it ρi t' (if z < n then some (sad z) else none) → BfsPost M ρ ρi it t' n sad ky vl a z tad tps tlo thi (some (vr (some e))) M7 := by
          intro M6 M7 r ad3 ps3 lo3 hi3 hBT w3 wR w3' w4 wI wK wF wIt
          obtain ⟨r1, r2, r3, r4, r5, r6⟩ := hBT
          have g5 : ∀ x, mK M5 x ≠ 0 → mO M5 x = ρ → (∀ j, mR M6 x j = mR M5 x j ∧ mI M6 x j = mI M5 x j) ∧ mK M6 x = mK M5 x ∧ mO M6 x = mO M5 x := by
            intro x hx ho
            obtain ⟨c1, c2, c3, c4⟩ := r5 x hx
            exact ⟨fun j => ⟨(c4 (by rw [ho]; exact h3) j).2.1, (c4 (by rw [ho]; exact h3) j).1⟩, c1, c3⟩
          have ge := g5 e hke5 qO
          have rk : ∀ x, r = some x → mK M5 x = 0 := by
            intro x hx
            obtain ⟨c1, -⟩ := r3.2.2.2.2.2.2.2.2.2 x hx
            have := (r4 (ps3 x) c1.1 c1.2.1).1
            rw [c1.2.2] at this; exact this
          have bx : ∀ b' k', Bx M1 b' k' → Bx M7 b' k' := by
            intro b' k' hb'
            have hb2 : Bx M2 b' k' := hb'.fr hF2 (fun q => h2 q.symm)
            have xe : b' ≠ e := by intro z; subst z; have := hb2.1; rw [he0] at this; cases this
            have hb5 : Bx M5 b' k' := ⟨(qx b' xe).1.trans hb2.1, ((qx b' xe).2.2.1 0).trans hb2.2.1, (qx b' xe).2.1.trans hb2.2.2⟩
            have hb6 := hb5.fr r5 (fun q => h2 q.symm)
            exact ⟨(wK b').1.trans hb6.1, (wI b' 0).trans hb6.2.1, (wK b').2.trans hb6.2.2⟩
          have lc : ∀ i, a ≤ i → i < m → ad3 i = ad1 i := by
            intro i z1 z2
            rw [r1 i (by omega)]; unfold up1; rw [if_neg (by omega)]
          have lx : ∀ i, a ≤ i → i < m → (∀ j, mR M6 (ad1 i) j = mR M5 (ad1 i) j ∧ mI M6 (ad1 i) j = mI M5 (ad1 i) j) ∧ mK M6 (ad1 i) = kEN ∧ mO M6 (ad1 i) = ρ ∧ ad1 i ≠ e ∧ r ≠ some (ad1 i) ∧ mK M5 (ad1 i) ≠ 0 ∧ (∀ j, mR M2 (ad1 i) j = mR M1 (ad1 i) j ∧ mI M2 (ad1 i) j = mI M1 (ad1 i) j) := by
            intro i z1 z2
            obtain ⟨c1, c2, c3, -⟩ := p4 i z1 z2
            obtain ⟨d1, d2⟩ := lft i z1 z2
            obtain ⟨e1, e2, e3⟩ := k15 _ d2
            have e4 : mK M5 (ad1 i) ≠ 0 := by rw [e2]; exact d2
            obtain ⟨f1, f2, f3⟩ := g5 _ e4 (e3.trans c3)
            obtain ⟨-, -, -, u4⟩ := hF2 _ d2
            refine ⟨f1, f2.trans (e2.trans c2), f3.trans (e3.trans c3), d1, fun q => e4 (rk _ q), e4, fun j => ?_⟩
            have := u4 (by rw [c3]; exact h3) j
            exact ⟨this.2.1, this.1⟩
          have em : ad3 m = e := by rw [r1 m (by omega)]; simp [up1]
          have eg := r2 e hke5
          have e1 : ps3 e = m := by rw [eg.1]; simp [up1]
          have e2 : lo3 e = a := by rw [eg.2.1]; simp [up1]
          have e3 : hi3 e = z := by rw [eg.2.2]; simp [up1]
          have hre : r ≠ some e := fun q => hke5 (rk e q)
          have hleft : TR a m ad3 ps3 lo3 hi3 (fun x => mR M1 x 2) (fun x => mR M1 x 3) (fun x => mR M1 x 4) l := by
            refine p3.to lc (fun i z1 z2 => ?_) (fun i _ _ => ⟨rfl, rfl, rfl⟩)
            obtain ⟨-, -, -, d1, -, d2, -⟩ := lx i z1 z2
            obtain ⟨c1, c2, c3⟩ := r2 _ d2
            rw [c1, c2, c3]
            simp only [up1, if_neg d1]
            exact ⟨p3.1 i z1 z2, trivial, trivial⟩
          have hrn : ∀ x, Nr (m + 1) z ad3 ps3 x → x ≠ e := by
            intro x hx q
            have := (r4 (ps3 x) hx.1 hx.2.1).1
            rw [hx.2.2, q] at this; exact hke5 this
          refine ⟨some e, ad3, ps3, lo3, hi3, rfl, ?_, ?_, ?_, ?_, wF, wIt⟩
          · intro j hj
            rw [r1 j (by omega)]; unfold up1; rw [if_neg (by omega)]; exact p1 j (by omega)
          · intro x hx
            have hx5 : mK M5 x ≠ 0 := by rw [(qF x hx).1]; exact hx
            have xe : x ≠ e := by intro q; subst q; exact hx heM
            obtain ⟨c1, c2, c3⟩ := r2 x hx5
            rw [c1, c2, c3]
            simp only [up1, if_neg xe]
            exact p2 x hx
          · refine TR.join hleft r3 hma hmz em e1 e2 e3 ?_ ?_ ?_ w3 ?_ ?_ ?_
            · intro x hx
              obtain ⟨c1, c2, c3, c4, c5, c6, c7⟩ := lx (ps3 x) hx.1 hx.2.1
              have e9 : ad1 (ps3 x) = x := by rw [← lc _ hx.1 hx.2.1]; exact hx.2.2
              rw [e9] at c1 c2 c3 c4 c5 c6 c7
              have qq := (qx x c4).2.2.2.1
              constructor
              · show mR M7 x 2 = mR M1 x 2
                rw [wR x 2 (by decide) (by decide), (c1 2).1, qq 2 (by decide), (c7 2).1]
              · show mR M7 x 3 = mR M1 x 3
                rw [w3' x c4, (c1 3).1, qq 3 (by decide), (c7 3).1]
            · intro x hx
              exact ⟨wR x 2 (by decide) (by decide), w3' x (hrn x hx)⟩
            · show mR M7 e 2 = l
              rw [wR e 2 (by decide) (by decide), (ge.1 2).1]; exact q2
            · show mR M7 e 4 = none
              rw [w4 e, if_neg hre, (ge.1 4).1]; exact q4
            · intro x hx
              obtain ⟨c1, c2, c3, c4, c5, c6, c7⟩ := lx (ps3 x) hx.1 hx.2.1
              have e9 : ad1 (ps3 x) = x := by rw [← lc _ hx.1 hx.2.1]; exact hx.2.2
              rw [e9] at c1 c2 c3 c4 c5 c6 c7
              show mR M7 x 4 = _
              rw [w4 x, if_neg c5, (c1 4).1, (qx x c4).2.2.2.2, (c7 4).1]
            · intro x hx
              exact w4 x
          · intro j hj1 hj2
            rcases Nat.lt_trichotomy j m with q | q | q
            · obtain ⟨c1, c2, c3, c4, c5, c6, c7⟩ := lx j hj1 q
              obtain ⟨d1, d2, d3, d4, ⟨b', d5, d6⟩, d7⟩ := p4 j hj1 q
              have qq := (qx _ c4).2.2
              rw [lc j hj1 q]
              refine ⟨d1, (wK _).1.trans c2, (wK _).2.trans c3, ?_, ⟨b', ?_, bx b' _ d6⟩, ?_⟩
              · rw [wI, (c1 5).2, qq.1 5, (c7 5).2]; exact d4
              · rw [wR _ 0 (by decide) (by decide), (c1 0).1, qq.2.1 0 (by decide), (c7 0).1]; exact d5
              · rw [wR _ 1 (by decide) (by decide), (c1 1).1, qq.2.1 1 (by decide), (c7 1).1]; exact d7
            · rw [q, em]
              have hb1' : Bx M5 b (ky m) := by
                have xe : b ≠ e := by intro z; subst z; have := hb2.1; rw [he0] at this; cases this
                exact ⟨(qx b xe).1.trans hb2.1, ((qx b xe).2.2.1 0).trans hb2.2.1, (qx b xe).2.1.trans hb2.2.2⟩
              have hb6 := hb1'.fr r5 (fun q => h2 q.symm)
              refine ⟨heM, (wK e).1.trans (ge.2.1.trans qK), (wK e).2.trans (ge.2.2.trans qO), ?_, ⟨b, ?_, (wK b).1.trans hb6.1, (wI b 0).trans hb6.2.1, (wK b).2.trans hb6.2.2⟩, ?_⟩
              · rw [wI, (ge.1 5).2]; exact qc
              · rw [wR _ 0 (by decide) (by decide), (ge.1 0).1]; exact q0
              · rw [wR _ 1 (by decide) (by decide), (ge.1 1).1]; exact q1
            · obtain ⟨d1, d2, d3, d4, ⟨b', d5, d6⟩, d7⟩ := r4 j q hj2
              refine ⟨Classical.byContradiction fun w => ?_, (wK _).1.trans d2, (wK _).2.trans d3, by rw [wI]; exact d4, ⟨b', by rw [wR _ 0 (by decide) (by decide)]; exact d5, (wK _).1.trans d6.1, (wI _ 0).trans d6.2.1, (wK _).2.trans d6.2.2⟩, by rw [wR _ 1 (by decide) (by decide)]; exact d7⟩
              have := (qF _ w).1
              rw [d1] at this; exact w this.symm
        refine g_iload hC dJ6_buildFromSorted_2_173 rfl ?_
        refine g_iload_n hC dJ6_buildFromSorted_2_175 rfl ?_
        refine g_icmp_ge hC 215 dJ6_buildFromSorted_2_176 (by decide) (fun hc7 => ?_) (fun hc7 => ?_)
        · have hmz' : m + 1 = z := by
            have : ¬ ((m : Int) < (z : Int) - 1) := by
              intro q; apply hc7
              rw [i32_lt, pk_sub_toInt' (by omega), nI_toInt (by omega)]; exact q
            omega
          refine g_aload hC dJ6_buildFromSorted_2_215 rfl ?_
          refine g_aret hC hQ (by omega) (by omega) rfl dJ6_buildFromSorted_2_217 ?_
          subst hmz'
          exact fin M5 M5 none _ _ _ _ ⟨fun _ _ => rfl, fun _ _ => ⟨rfl, rfl, rfl⟩, TR.nil, fun j z1 z2 => by omega, Fr.rf _ _, qI⟩ q3 (fun _ _ _ _ => rfl) (fun _ _ => rfl) (fun x => by simp) (fun _ _ => rfl) (fun _ => ⟨rfl, rfl⟩) qF qI
        · have hmz' : m + 1 < z := by
            rw [i32_lt, pk_sub_toInt' (by omega), nI_toInt (by omega)] at hc7; omega
          have hki5 := qI.1
          refine g_aload_n hC dJ6_buildFromSorted_2_179 rfl ?_
          refine g_iload_n hC dJ6_buildFromSorted_2_180 rfl ?_
          refine g_iconst (v := 1) hC dJ6_buildFromSorted_2_181 (by decide) ?_
          refine g_iadd hC dJ6_buildFromSorted_2_182 ?_
          refine g_iload hC dJ6_buildFromSorted_2_183 rfl ?_
          refine g_iconst (v := 1) hC dJ6_buildFromSorted_2_185 (by decide) ?_
          refine g_iadd hC dJ6_buildFromSorted_2_186 ?_
          rw [nI_1]
          refine g_iload_n hC dJ6_buildFromSorted_2_187 rfl ?_
          refine g_iload hC dJ6_buildFromSorted_2_188 rfl ?_
          refine g_aload hC dJ6_buildFromSorted_2_190 rfl ?_
          refine g_aload hC dJ6_buildFromSorted_2_192 rfl ?_
          refine g_aload hC dJ6_buildFromSorted_2_194 rfl ?_
          refine g_callV hC (by first | with_reducible rfl | with_reducible assumption | (simp only [mR_sI, mR_sL]; with_reducible assumption) | exact rfl | assumption) (Rk.o (ci := 8) (by first | with_reducible assumption | (simp only [mK_sI, mK_sR, mK_sL, mK_sO]; with_reducible assumption) | assumption | (simp only [mK_sI, mK_sR, mK_sL, mK_sO, mK_nw, mK_sK]; first | assumption | (simp only [*]; done))) rfl) (ih M5 (m + 1) z (lev + 1) rl (up1 ad1 m e) (up1 ps1 e m) (up1 lo1 e a) (up1 hi1 e z) qS hkt5 qI (by omega) hzn (by omega)) rfl (by first | decide | omega) rfl rfl yk_J6_buildFromSorted_2 q735 q737 qs7 q59 q738 rfl dJ6_buildFromSorted_2_196 (by omega) (by omega) (fun v M6 hp => ?_)
          obtain ⟨r, ad3, ps3, lo3, hi3, rfl, hBT⟩ := hp
          simp only [Option.toList_some, Option.toList_none, List.cons_append, List.nil_append, Nat.add_zero, Nat.zero_add]
          obtain ⟨rr, hrr⟩ : ∃ rr, r = some rr := by
            cases r with
            | none => have := hBT.2.2.1.2.2.2.2.2.2.2.2.1 rfl; omega
            | some rr => exact ⟨rr, rfl⟩
          subst hrr
          have c1 := (hBT.2.2.1.2.2.2.2.2.2.2.2.2 rr rfl).1
          have c2 := hBT.2.2.2.1 (ps3 rr) c1.1 c1.2.1
          rw [c1.2.2] at c2
          have hkr6 := c2.2.1
          have hke6 : mK M6 e = kEN := hBT.2.2.2.2.1.k qK (by decide)
          have hre : rr ≠ e := by intro z; rw [z] at c2; exact hke5 c2.1
          refine g_astore hC dJ6_buildFromSorted_2_199 rfl rfl ?_
          try simp only [stL, clr]
          refine g_aload hC dJ6_buildFromSorted_2_201 rfl ?_
          refine g_aload hC dJ6_buildFromSorted_2_203 rfl ?_
          refine g_putR hC (ci := 9) (by first | with_reducible rfl | with_reducible assumption | (simp only [mR_sI, mR_sL]; with_reducible assumption) | exact rfl | assumption) (by first | with_reducible assumption | (simp only [mK_sI, mK_sR, mK_sL, mK_sO]; with_reducible assumption) | assumption | (simp only [mK_sI, mK_sR, mK_sL, mK_sO, mK_nw, mK_sK]; first | assumption | (simp only [*]; done))) rfl 3 (by decide) q982 (Or.inl rfl) (Or.inl rfl) rfl dJ6_buildFromSorted_2_205 ?_
          refine g_aload hC dJ6_buildFromSorted_2_208 rfl ?_
          refine g_aload hC dJ6_buildFromSorted_2_210 rfl ?_
          refine g_putR hC (ci := 9) (by first | with_reducible rfl | with_reducible assumption | (simp only [mR_sI, mR_sL]; with_reducible assumption) | exact rfl | assumption) (by first | with_reducible assumption | (simp only [mK_sI, mK_sR, mK_sL, mK_sO]; with_reducible assumption) | assumption | (simp only [mK_sI, mK_sR, mK_sL, mK_sO, mK_nw, mK_sK]; first | assumption | (simp only [*]; done))) rfl 4 (by decide) q984 (Or.inl rfl) (Or.inl rfl) rfl dJ6_buildFromSorted_2_212 ?_
          refine g_aload hC dJ6_buildFromSorted_2_215 rfl ?_
          refine g_aret hC hQ (by omega) (by omega) rfl dJ6_buildFromSorted_2_217 ?_
          have F5 := hBT.2.2.2.2.1
          refine fin M6 _ (some rr) ad3 ps3 lo3 hi3 hBT ?_ ?_ ?_ ?_ (fun _ _ => rfl) (fun _ => ⟨rfl, rfl⟩) ?_ ?_
          · rw [mR_sRk e (by decide)]; exact mR_sRe _ _ _
          · intro x j z1 z2; rw [mR_sRk x z2, mR_sRk x z1]
          · intro x z1; rw [mR_sRk x (by decide), mR_sRa z1]
          · intro x
            by_cases z1 : x = rr
            · subst z1; rw [mR_sRe]; simp
            · rw [mR_sRa z1, mR_sRk x (by decide)]
              rw [if_neg (by intro q; cases q; exact z1 rfl)]
          · intro y hy
            have y5 : mK M5 y ≠ 0 := by rw [(qF y hy).1]; exact hy
            have ye : y ≠ e := by intro z; subst z; exact hy heM
            have yr : y ≠ rr := by intro z; rw [z] at y5; exact y5 c2.1
            obtain ⟨f1, f2, f3, f4⟩ := (qF.tr F5) y hy
            exact ⟨f1, f2, f3, fun q j => ⟨(f4 q j).1, by rw [mR_sRa yr, mR_sRa ye]; exact (f4 q j).2.1, (f4 q j).2.2⟩⟩
          · obtain ⟨i1, i2, i3, i4, i5⟩ := hBT.2.2.2.2.2
            have ie : it ≠ e := by intro z; rw [z] at hki5; rw [qK] at hki5; cases hki5
            have ir : it ≠ rr := by intro z; rw [z] at hki5; rw [c2.1] at hki5; cases hki5
            exact ⟨i1, i2, by rw [mR_sRa ir, mR_sRa ie]; exact i3, by rw [mR_sRa ir, mR_sRa ie]; exact i4, i5⟩
      have nxt : ∀ M4 : Mem, (∀ x j, mR M4 x j = mR M3 x j) → (∀ x, mK M4 x = mK M3 x ∧ mO M4 x = mO M3 x ∧ mN M4 x = mN M3 x) → (∀ x j, x ≠ e → mI M4 x j = mI M3 x j) → b01 (mI M4 e 5) → Fr (fun q => q = ρi) M2 M4 → Go C 154 [some (vr (some t)), some (vi lev), some (vi (nI a)), some (vi (nI z - 1)), some (vi rl), some (vr (some it)), some (vr none), some (vr none), some (vi (nI m)), some (vr l), some (vr (some b)), some (vr (some (vl m))), some (vr (some e)), none] [] M4 (m - a + 1) (6 * (m - a) + 6) := by
        intro M4 r1 r2 r3 r4 r5
        have it2 := hI2.1
        have ie : it ≠ e := by intro z; rw [z, he0] at it2; cases it2
        have hkt2 : mK M2 t' ≠ 0 := by rw [hS2.1.1]; decide
        have te : t' ≠ e := by intro z; rw [z] at hkt2; exact hkt2 he0
        have hF4 : Fr (fun q => q = ρi) M M4 := (p5.tr hF2).tr r5
        have hS4 := hS2.fr r5 (fun q => h1 q.symm) (fun q => h2 q.symm)
        have hI4 : It M4 kEI it ρi t' (if m + 1 < n then some (sad (m + 1)) else none) := by
          obtain ⟨i1, i2, i3, i4, i5⟩ := hI2
          exact ⟨(r2 it).1.trans ((n0 it ie).1.trans i1), (r2 it).2.1.trans ((n0 it ie).2.1.trans i2), (r1 it 0).trans (((n0 it ie).2.2 0).1.trans i3), (r1 it 3).trans (((n0 it ie).2.2 3).1.trans i4), ((r3 it 2 ie).trans ((n0 it ie).2.2 2).2).trans (i5.trans ((r3 t' 5 te).trans ((n0 t' te).2.2 5).2).symm)⟩
        have hke4 : mK M4 e = kEN := (r2 e).1.trans neK
        have hoe4 : mO M4 e = ρ := (r2 e).2.1.trans neO
        have hx4 : ∀ x, x ≠ e → mK M4 x = mK M2 x ∧ mO M4 x = mO M2 x ∧ (∀ j, mI M4 x j = mI M2 x j) ∧ (∀ j, mR M4 x j = mR M2 x j) := fun x q => ⟨(r2 x).1.trans (n0 x q).1, (r2 x).2.1.trans (n0 x q).2.1, fun j => (r3 x j q).trans ((n0 x q).2.2 j).2, fun j => (r1 x j).trans ((n0 x q).2.2 j).1⟩
        refine g_aload hC dJ6_buildFromSorted_2_154 rfl ?_
        refine g_ifnull hC 173 dJ6_buildFromSorted_2_156 (by decide) (fun hc6 => ?_) (fun y hc6 => ?_)
        · refine nxt2 M4 ?_ ((r1 e 3).trans ne3) ((r1 e 4).trans ne4) ((r1 e 0).trans ne0) ((r1 e 1).trans ne1) r4 hke4 hoe4 (fun x q => ?_) hF4 hS4 hI4
          · rw [hc6]; exact (r1 e 2).trans ne2
          · obtain ⟨c1, c2, c3, c4⟩ := hx4 x q
            exact ⟨c1, c2, c3, fun j _ => c4 j, by rw [hc6]; simp; exact c4 4⟩
        · obtain ⟨g1, -⟩ := p3.2.2.2.2.2.2.2.2.2 y hc6
          have g2 := p4 (ps1 y) g1.1 g1.2.1
          rw [g1.2.2] at g2
          have ky1 : mK M1 y ≠ 0 := by rw [g2.2.1]; decide
          have ye : y ≠ e := by intro z; rw [z] at ky1; exact ky1 heM1
          have hky4 : mK M4 y = kEN := ((hx4 y ye).1.trans (hF2 y ky1).1).trans g2.2.1
          have hoy4 : mO M4 y = ρ := ((hx4 y ye).2.1.trans (hF2 y ky1).2.2.1).trans g2.2.2.1
          refine g_aload hC dJ6_buildFromSorted_2_159 rfl ?_
          refine g_aload hC dJ6_buildFromSorted_2_161 rfl ?_
          refine g_putR hC (ci := 9) (by first | with_reducible rfl | with_reducible assumption | (simp only [mR_sI, mR_sL]; with_reducible assumption) | exact rfl | assumption) (by first | with_reducible assumption | (simp only [mK_sI, mK_sR, mK_sL, mK_sO]; with_reducible assumption) | assumption | (simp only [mK_sI, mK_sR, mK_sL, mK_sO, mK_nw, mK_sK]; first | assumption | (simp only [*]; done))) rfl 2 (by decide) q980 (Or.inl rfl) (Or.inl rfl) rfl dJ6_buildFromSorted_2_163 ?_
          refine g_aload hC dJ6_buildFromSorted_2_166 rfl ?_
          refine g_aload hC dJ6_buildFromSorted_2_168 rfl ?_
          refine g_putR hC (ci := 9) (by first | with_reducible rfl | with_reducible assumption | (simp only [mR_sI, mR_sL]; with_reducible assumption) | exact rfl | assumption) (by first | with_reducible assumption | (simp only [mK_sI, mK_sR, mK_sL, mK_sO]; with_reducible assumption) | assumption | (simp only [mK_sI, mK_sR, mK_sL, mK_sO, mK_nw, mK_sK]; first | assumption | (simp only [*]; done))) rfl 4 (by decide) q984 (Or.inl rfl) (Or.inl rfl) rfl dJ6_buildFromSorted_2_170 ?_
          have hF5 : Fr (fun q => q = ρi) M (sR (sR M4 e 2 l) y 4 (some e)) := by
            intro x hx
            have xe : x ≠ e := by intro z; rw [z] at hx; exact hx heM
            have xy : x ≠ y := by intro z; rw [z] at hx; exact hx g2.1
            obtain ⟨f1, f2, f3, f4⟩ := hF4 x hx
            exact ⟨f1, f2, f3, fun q j => ⟨(f4 q j).1, by rw [mR_sRa xy, mR_sRa xe]; exact (f4 q j).2.1, (f4 q j).2.2⟩⟩
          have iy : it ≠ y := by intro z; rw [z] at it2; have := (hx4 y ye).1; rw [it2, hky4] at this; cases this
          have hF45 : Fr (fun q => q = ρ) M4 (sR (sR M4 e 2 l) y 4 (some e)) := (Fr.sR hoe4).tr (Fr.sR hoy4)
          refine nxt2 _ ?_ ?_ ?_ ?_ ?_ r4 hke4 hoe4 (fun x q => ?_) hF5 (hS.fr hF5 (fun q => h1 q.symm) (fun q => h2 q.symm)) ?_
          · rw [mR_sRa ye.symm]; exact mR_sRe _ _ _
          · rw [mR_sRa ye.symm, mR_sRk e (by decide)]; exact (r1 e 3).trans ne3
          · rw [mR_sRa ye.symm, mR_sRk e (by decide)]; exact (r1 e 4).trans ne4
          · rw [mR_sRa ye.symm, mR_sRk e (by decide)]; exact (r1 e 0).trans ne0
          · rw [mR_sRa ye.symm, mR_sRk e (by decide)]; exact (r1 e 1).trans ne1
          · obtain ⟨c1, c2, c3, c4⟩ := hx4 x q
            refine ⟨c1, c2, c3, fun j z1 => by rw [mR_sRk x z1, mR_sRa q]; exact c4 j, ?_⟩
            by_cases z1 : x = y
            · rw [z1, mR_sRe, hc6]; simp
            · rw [mR_sRa z1, mR_sRa q, if_neg (by rw [hc6]; intro w; cases w; exact z1 rfl)]; exact c4 4
          · obtain ⟨i1, i2, i3, i4, i5⟩ := hI4
            exact ⟨i1, i2, by rw [mR_sRa iy, mR_sRa ie]; exact i3, by rw [mR_sRa iy, mR_sRa ie]; exact i4, i5⟩
      refine g_astore hC dJ6_buildFromSorted_2_140 rfl rfl ?_
      try simp only [stL, clr]
      refine g_iload_n hC dJ6_buildFromSorted_2_142 rfl ?_
      refine g_iload hC dJ6_buildFromSorted_2_143 rfl ?_
      refine g_icmp_ne hC 154 dJ6_buildFromSorted_2_145 (by decide) (fun hc3 => ?_) (fun hc3 => ?_)
      · exact nxt M3 (fun _ _ => rfl) (fun _ => ⟨rfl, rfl, rfl⟩) (fun _ _ _ => rfl) (by rw [ne5]; exact b01.o) hFr0
      · refine g_aload hC dJ6_buildFromSorted_2_148 rfl ?_
        refine g_iconst (v := 0) hC dJ6_buildFromSorted_2_150 (by decide) ?_
        refine g_putI hC (ci := 9) (by first | with_reducible rfl | with_reducible assumption | (simp only [mR_sI, mR_sL]; with_reducible assumption) | exact rfl | assumption) (by first | with_reducible assumption | (simp only [mK_sI, mK_sR, mK_sL, mK_sO]; with_reducible assumption) | assumption | (simp only [mK_sI, mK_sR, mK_sL, mK_sO, mK_nw, mK_sK]; first | assumption | (simp only [*]; done))) rfl 5 (by decide) q986 (Or.inl rfl) (Or.inl rfl) rfl (by first | rfl | assumption) (by first | rfl | assumption) dJ6_buildFromSorted_2_151 ?_
        refine nxt _ (fun x j => by rw [mR_sI]) (fun x => ⟨rfl, rfl, rfl⟩) (fun x j q => by rw [mI_sI]; simp [q]) (by rw [mI_sI]; simp; exact b01.z) (fun y hy => ?_)
        have ye : y ≠ e := by intro z; subst z; exact hy he0
        obtain ⟨f1, f2, f3, f4⟩ := hFr0 y hy
        exact ⟨f1, f2, f3, fun q j => ⟨by rw [mI_sI]; simp [ye]; exact (f4 q j).1, (f4 q j).2.1, (f4 q j).2.2⟩⟩
theorem ct_bfs2 (hB : Base G) (h1 : ρi ≠ ρs) (h2 : ρi ≠ 0) (h3 : ρ ≠ ρi) (hn : n ≤ 1000) : ∀ (D : Nat) (M : Mem) (a z : Nat) (lev rl : Int32) (tad tps tlo thi : Nat → Nat), TMc M ρs t' n sad sps slo shi ky vl → mK M t = kTM → It M kEI it ρi t' (if a < n then some (sad a) else none) → a ≤ z → z ≤ n → z < a + 2 ^ D →
    KJ6_buildFromSorted_2 G (D + 5) (z - a) (6 * (z - a)) [vr (some t), vi lev, vi (nI a), vi (nI z - 1), vi rl, vr (some it), vr none, vr none] M (BfsPost M ρ ρi it t' n sad ky vl a z tad tps tlo thi) := by
  have cmpz : ∀ a z : Nat, a ≤ 1000 → z ≤ 1000 → (nI z - 1 < nI a ↔ z ≤ a) := by
    intro a z ha hz
    rw [i32_lt, pk_sub_toInt' hz, nI_toInt (by omega)]; omega
  intro D
  induction D with
  | zero =>
    intro M a z lev rl tad tps tlo thi hS hkt hI haz hzn hD
    refine Ct.of (own := RJ6) (nm := "buildFromSorted") hB (by decide) rfl rfl rfl rfl (fun C hC hQ => ?_)
    refine g_iload_n hC dJ6_buildFromSorted_2_0 rfl ?_
    refine g_iload_n hC dJ6_buildFromSorted_2_1 rfl ?_
    refine g_icmp_ge hC 7 dJ6_buildFromSorted_2_2 (by decide) (fun hc => ?_) (fun hc => ?_)
    · rw [cmpz a z (by omega) (by omega)] at hc; omega
    · refine g_null hC dJ6_buildFromSorted_2_5 ?_
      refine g_aret hC hQ (by omega) (by omega) rfl dJ6_buildFromSorted_2_6 ?_
      have : z = a := by omega
      subst this
      exact ⟨none, tad, tps, tlo, thi, rfl, fun _ _ => rfl, fun _ _ => ⟨rfl, rfl, rfl⟩, TR.nil, fun j q1 q2 => by omega, Fr.rf _ _, hI⟩
  | succ D ih =>
    intro M a z lev rl tad tps tlo thi hS hkt hI haz hzn hD
    refine Ct.of (own := RJ6) (nm := "buildFromSorted") hB (by decide) rfl rfl rfl rfl (fun C hC hQ => ?_)
    refine g_iload_n hC dJ6_buildFromSorted_2_0 rfl ?_
    refine g_iload_n hC dJ6_buildFromSorted_2_1 rfl ?_
    refine g_icmp_ge hC 7 dJ6_buildFromSorted_2_2 (by decide) (fun hc => ?_) (fun hc => ?_)
    · rw [cmpz a z (by omega) (by omega)] at hc
      have haz' : a < z := by omega
      obtain ⟨m, hm⟩ : ∃ m, m = (a + z - 1) / 2 := ⟨_, rfl⟩
      have hma : a ≤ m := by omega
      have hmz : m < z := by omega
      have hmn : m < n := by omega
      have hp2 : 2 ^ (D + 1) = 2 * 2 ^ D := by rw [Nat.pow_succ]; omega
      refine g_iload_n hC dJ6_buildFromSorted_2_7 rfl ?_
      refine g_iload_n hC dJ6_buildFromSorted_2_8 rfl ?_
      refine g_iadd hC dJ6_buildFromSorted_2_9 ?_
      refine g_iconst (v := 1) hC dJ6_buildFromSorted_2_10 (by decide) ?_
      refine g_iushr hC dJ6_buildFromSorted_2_11 ?_
      refine g_istore hC dJ6_buildFromSorted_2_12 rfl rfl ?_
      try simp only [stL, clr]
      rw [mid_val haz' (by omega), ← hm]
      refine g_null hC dJ6_buildFromSorted_2_14 ?_
      refine g_astore hC dJ6_buildFromSorted_2_15 rfl rfl ?_
      try simp only [stL, clr]
      have rest : ∀ (M1 : Mem) (l : Option Nat) (ad1 ps1 lo1 hi1 : Nat → Nat), BT M M1 ρ ρi it t' n sad ky vl a m tad tps tlo thi ad1 ps1 lo1 hi1 l → Go C 45 [some (vr (some t)), some (vi lev), some (vi (nI a)), some (vi (nI z - 1)), some (vi rl), some (vr (some it)), some (vr none), some (vr none), some (vi (nI m)), some (vr l), none, none, none, none] [] M1 (m - a) (6 * (m - a)) := by
        intro M1 l ad1 ps1 lo1 hi1 hBT1
        exact bf_rest hB h1 h2 h3 hn ih hS hkt hma hmz hzn (by omega) C hC hQ hBT1
      refine g_iload_n hC dJ6_buildFromSorted_2_17 rfl ?_
      refine g_iload hC dJ6_buildFromSorted_2_18 rfl ?_
      refine g_icmp_ge hC 45 dJ6_buildFromSorted_2_20 (by decide) (fun hc2 => ?_) (fun hc2 => ?_)
      · have e0 : m = a := by
          have : ¬ a < m := fun q => hc2 (nI_lt q (by omega))
          omega
        have hr := rest M none tad tps tlo thi (by rw [e0]; exact ⟨fun _ _ => rfl, fun _ _ => ⟨rfl, rfl, rfl⟩, TR.nil, fun j q1 q2 => by omega, Fr.rf _ _, hI⟩)
        have e1 : m - a = 0 := by omega
        rw [e1] at hr
        exact hr
      · have ham : a < m := by
          rcases Nat.lt_or_ge a m with q | q
          · exact q
          · exact absurd (nI_nlt q (by omega)) (fun w => w hc2)
        refine g_aload_n hC dJ6_buildFromSorted_2_23 rfl ?_
        refine g_iload_n hC dJ6_buildFromSorted_2_24 rfl ?_
        refine g_iconst (v := 1) hC dJ6_buildFromSorted_2_25 (by decide) ?_
        refine g_iadd hC dJ6_buildFromSorted_2_26 ?_
        refine g_iload_n hC dJ6_buildFromSorted_2_27 rfl ?_
        refine g_iload hC dJ6_buildFromSorted_2_28 rfl ?_
        refine g_iconst (v := 1) hC dJ6_buildFromSorted_2_30 (by decide) ?_
        refine g_isub hC dJ6_buildFromSorted_2_31 ?_
        refine g_iload hC dJ6_buildFromSorted_2_32 rfl ?_
        refine g_aload hC dJ6_buildFromSorted_2_34 rfl ?_
        refine g_aload hC dJ6_buildFromSorted_2_36 rfl ?_
        refine g_aload hC dJ6_buildFromSorted_2_38 rfl ?_
        refine g_callV hC (by first | with_reducible rfl | with_reducible assumption | (simp only [mR_sI, mR_sL]; with_reducible assumption) | exact rfl | assumption) (Rk.o (ci := 8) (by first | with_reducible assumption | (simp only [mK_sI, mK_sR, mK_sL, mK_sO]; with_reducible assumption) | assumption | (simp only [mK_sI, mK_sR, mK_sL, mK_sO, mK_nw, mK_sK]; first | assumption | (simp only [*]; done))) rfl) (ih M a m (lev + 1) rl tad tps tlo thi hS hkt hI hma (by omega) (by omega)) rfl (by first | decide | omega) rfl rfl yk_J6_buildFromSorted_2 q735 q737 qs7 q59 q738 rfl dJ6_buildFromSorted_2_40 (by omega) (by omega) (fun v M1 hp => ?_)
        obtain ⟨l, ad1, ps1, lo1, hi1, rfl, hBT1⟩ := hp
        simp only [Option.toList_some, Option.toList_none, List.cons_append, List.nil_append, Nat.add_zero, Nat.zero_add]
        refine g_astore hC dJ6_buildFromSorted_2_43 rfl rfl ?_
        try simp only [stL, clr]
        exact rest M1 l ad1 ps1 lo1 hi1 hBT1
    · rw [cmpz a z (by omega) (by omega)] at hc
      refine g_null hC dJ6_buildFromSorted_2_5 ?_
      refine g_aret hC hQ (by omega) (by omega) rfl dJ6_buildFromSorted_2_6 ?_
      have : z = a := by omega
      subst this
      exact ⟨none, tad, tps, tlo, thi, rfl, fun _ _ => rfl, fun _ _ => ⟨rfl, rfl, rfl⟩, TR.nil, fun j q1 q2 => by omega, Fr.rf _ _, hI⟩
end Bfs2

