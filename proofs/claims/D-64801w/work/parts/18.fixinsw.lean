set_option maxRecDepth 100000
abbrev cJ6_fixAfterInsertion : ByteArray := prog_83_method_83_code
def yJ6_fixAfterInsertion : MethodName := ⟨RJ6, "fixAfterInsertion", "(Ljava/util/TreeMap$Entry;)V"⟩
def dkwJ6_fixAfterInsertion_11 : List UInt8 := [42, 180, 0, 101, 4, 181, 1, 34, 177]
abbrev dktJ6_fixAfterInsertion_11 : List UInt8 := dkwJ6_fixAfterInsertion_11 ++ []
def dkwJ6_fixAfterInsertion_10 : List UInt8 := [184, 1, 38, 184, 1, 38, 3, 184, 1, 51, 42, 43, 184, 1, 38, 184, 1, 38, 182, 1, 55, 167, 255, 6]
abbrev dktJ6_fixAfterInsertion_10 : List UInt8 := dkwJ6_fixAfterInsertion_10 ++ dktJ6_fixAfterInsertion_11
def dkwJ6_fixAfterInsertion_9 : List UInt8 := [166, 0, 13, 43, 184, 1, 38, 76, 42, 43, 182, 1, 58, 43, 184, 1, 38, 4, 184, 1, 51, 43]
abbrev dktJ6_fixAfterInsertion_9 : List UInt8 := dkwJ6_fixAfterInsertion_9 ++ dktJ6_fixAfterInsertion_10
def dkwJ6_fixAfterInsertion_8 : List UInt8 := [184, 1, 51, 43, 184, 1, 38, 184, 1, 38, 76, 167, 0, 54, 43, 43, 184, 1, 38, 184, 1, 41]
abbrev dktJ6_fixAfterInsertion_8 : List UInt8 := dkwJ6_fixAfterInsertion_8 ++ dktJ6_fixAfterInsertion_9
def dkwJ6_fixAfterInsertion_7 : List UInt8 := [154, 0, 38, 43, 184, 1, 38, 4, 184, 1, 51, 44, 4, 184, 1, 51, 43, 184, 1, 38, 184, 1, 38, 3]
abbrev dktJ6_fixAfterInsertion_7 : List UInt8 := dkwJ6_fixAfterInsertion_7 ++ dktJ6_fixAfterInsertion_8
def dkwJ6_fixAfterInsertion_6 : List UInt8 := [184, 1, 38, 182, 1, 58, 167, 255, 113, 43, 184, 1, 38, 184, 1, 38, 184, 1, 41, 77, 44, 184, 1, 47]
abbrev dktJ6_fixAfterInsertion_6 : List UInt8 := dkwJ6_fixAfterInsertion_6 ++ dktJ6_fixAfterInsertion_7
def dkwJ6_fixAfterInsertion_5 : List UInt8 := [43, 184, 1, 38, 4, 184, 1, 51, 43, 184, 1, 38, 184, 1, 38, 3, 184, 1, 51, 42, 43, 184, 1, 38]
abbrev dktJ6_fixAfterInsertion_5 : List UInt8 := dkwJ6_fixAfterInsertion_5 ++ dktJ6_fixAfterInsertion_6
def dkwJ6_fixAfterInsertion_4 : List UInt8 := [167, 0, 54, 43, 43, 184, 1, 38, 184, 1, 44, 166, 0, 13, 43, 184, 1, 38, 76, 42, 43, 182, 1, 55]
abbrev dktJ6_fixAfterInsertion_4 : List UInt8 := dkwJ6_fixAfterInsertion_4 ++ dktJ6_fixAfterInsertion_5
def dkwJ6_fixAfterInsertion_3 : List UInt8 := [184, 1, 51, 43, 184, 1, 38, 184, 1, 38, 3, 184, 1, 51, 43, 184, 1, 38, 184, 1, 38, 76]
abbrev dktJ6_fixAfterInsertion_3 : List UInt8 := dkwJ6_fixAfterInsertion_3 ++ dktJ6_fixAfterInsertion_4
def dkwJ6_fixAfterInsertion_2 : List UInt8 := [184, 1, 38, 184, 1, 44, 77, 44, 184, 1, 47, 154, 0, 38, 43, 184, 1, 38, 4, 184, 1, 51, 44, 4]
abbrev dktJ6_fixAfterInsertion_2 : List UInt8 := dkwJ6_fixAfterInsertion_2 ++ dktJ6_fixAfterInsertion_3
def dkwJ6_fixAfterInsertion_1 : List UInt8 := [154, 0, 234, 43, 184, 1, 38, 43, 184, 1, 38, 184, 1, 38, 184, 1, 41, 166, 0, 110, 43, 184, 1, 38]
abbrev dktJ6_fixAfterInsertion_1 : List UInt8 := dkwJ6_fixAfterInsertion_1 ++ dktJ6_fixAfterInsertion_2
def dkwJ6_fixAfterInsertion_0 : List UInt8 := [43, 3, 181, 1, 34, 43, 198, 0, 252, 43, 42, 180, 0, 101, 165, 0, 244, 43, 180, 0, 124, 180, 1, 34]
abbrev dktJ6_fixAfterInsertion_0 : List UInt8 := dkwJ6_fixAfterInsertion_0 ++ dktJ6_fixAfterInsertion_1
theorem dksJ6_fixAfterInsertion_0 : cJ6_fixAfterInsertion.data.toList.drop 0 = dktJ6_fixAfterInsertion_0 := by decide +kernel
theorem dksJ6_fixAfterInsertion_1 : cJ6_fixAfterInsertion.data.toList.drop 24 = dktJ6_fixAfterInsertion_1 := dk_seg dksJ6_fixAfterInsertion_0 24 rfl rfl
theorem dksJ6_fixAfterInsertion_2 : cJ6_fixAfterInsertion.data.toList.drop 48 = dktJ6_fixAfterInsertion_2 := dk_seg dksJ6_fixAfterInsertion_1 24 rfl rfl
theorem dksJ6_fixAfterInsertion_3 : cJ6_fixAfterInsertion.data.toList.drop 72 = dktJ6_fixAfterInsertion_3 := dk_seg dksJ6_fixAfterInsertion_2 24 rfl rfl
theorem dksJ6_fixAfterInsertion_4 : cJ6_fixAfterInsertion.data.toList.drop 94 = dktJ6_fixAfterInsertion_4 := dk_seg dksJ6_fixAfterInsertion_3 22 rfl rfl
theorem dksJ6_fixAfterInsertion_5 : cJ6_fixAfterInsertion.data.toList.drop 118 = dktJ6_fixAfterInsertion_5 := dk_seg dksJ6_fixAfterInsertion_4 24 rfl rfl
theorem dksJ6_fixAfterInsertion_6 : cJ6_fixAfterInsertion.data.toList.drop 142 = dktJ6_fixAfterInsertion_6 := dk_seg dksJ6_fixAfterInsertion_5 24 rfl rfl
theorem dksJ6_fixAfterInsertion_7 : cJ6_fixAfterInsertion.data.toList.drop 166 = dktJ6_fixAfterInsertion_7 := dk_seg dksJ6_fixAfterInsertion_6 24 rfl rfl
theorem dksJ6_fixAfterInsertion_8 : cJ6_fixAfterInsertion.data.toList.drop 190 = dktJ6_fixAfterInsertion_8 := dk_seg dksJ6_fixAfterInsertion_7 24 rfl rfl
theorem dksJ6_fixAfterInsertion_9 : cJ6_fixAfterInsertion.data.toList.drop 212 = dktJ6_fixAfterInsertion_9 := dk_seg dksJ6_fixAfterInsertion_8 22 rfl rfl
theorem dksJ6_fixAfterInsertion_10 : cJ6_fixAfterInsertion.data.toList.drop 234 = dktJ6_fixAfterInsertion_10 := dk_seg dksJ6_fixAfterInsertion_9 22 rfl rfl
theorem dksJ6_fixAfterInsertion_11 : cJ6_fixAfterInsertion.data.toList.drop 258 = dktJ6_fixAfterInsertion_11 := dk_seg dksJ6_fixAfterInsertion_10 24 rfl rfl
theorem dJ6_fixAfterInsertion_0 : decode cJ6_fixAfterInsertion 0 = .ok (.aload_n 1, 1) := dk_43 (dk_at dksJ6_fixAfterInsertion_0 0 rfl rfl)
theorem dJ6_fixAfterInsertion_1 : decode cJ6_fixAfterInsertion 1 = .ok (.iconst 0, 1) := dk_3 (dk_at dksJ6_fixAfterInsertion_0 1 rfl rfl)
theorem dJ6_fixAfterInsertion_2 : decode cJ6_fixAfterInsertion 2 = .ok (.putfield 290, 3) := dk_181 1 34 (dk_at dksJ6_fixAfterInsertion_0 2 rfl rfl)
theorem dJ6_fixAfterInsertion_5 : decode cJ6_fixAfterInsertion 5 = .ok (.aload_n 1, 1) := dk_43 (dk_at dksJ6_fixAfterInsertion_0 5 rfl rfl)
theorem dJ6_fixAfterInsertion_6 : decode cJ6_fixAfterInsertion 6 = .ok (.ifnull 252, 3) := dk_198 0 252 (dk_at dksJ6_fixAfterInsertion_0 6 rfl rfl)
theorem dJ6_fixAfterInsertion_9 : decode cJ6_fixAfterInsertion 9 = .ok (.aload_n 1, 1) := dk_43 (dk_at dksJ6_fixAfterInsertion_0 9 rfl rfl)
theorem dJ6_fixAfterInsertion_10 : decode cJ6_fixAfterInsertion 10 = .ok (.aload_n 0, 1) := dk_42 (dk_at dksJ6_fixAfterInsertion_0 10 rfl rfl)
theorem dJ6_fixAfterInsertion_11 : decode cJ6_fixAfterInsertion 11 = .ok (.getfield 101, 3) := dk_180 0 101 (dk_at dksJ6_fixAfterInsertion_0 11 rfl rfl)
theorem dJ6_fixAfterInsertion_14 : decode cJ6_fixAfterInsertion 14 = .ok (.if_acmp .eq 244, 3) := dk_165 0 244 (dk_at dksJ6_fixAfterInsertion_0 14 rfl rfl)
theorem dJ6_fixAfterInsertion_17 : decode cJ6_fixAfterInsertion 17 = .ok (.aload_n 1, 1) := dk_43 (dk_at dksJ6_fixAfterInsertion_0 17 rfl rfl)
theorem dJ6_fixAfterInsertion_18 : decode cJ6_fixAfterInsertion 18 = .ok (.getfield 124, 3) := dk_180 0 124 (dk_at dksJ6_fixAfterInsertion_0 18 rfl rfl)
theorem dJ6_fixAfterInsertion_21 : decode cJ6_fixAfterInsertion 21 = .ok (.getfield 290, 3) := dk_180 1 34 (dk_at dksJ6_fixAfterInsertion_0 21 rfl rfl)
theorem dJ6_fixAfterInsertion_24 : decode cJ6_fixAfterInsertion 24 = .ok (.ifCond .ne 234, 3) := dk_154 0 234 (dk_at dksJ6_fixAfterInsertion_1 0 rfl rfl)
theorem dJ6_fixAfterInsertion_27 : decode cJ6_fixAfterInsertion 27 = .ok (.aload_n 1, 1) := dk_43 (dk_at dksJ6_fixAfterInsertion_1 3 rfl rfl)
theorem dJ6_fixAfterInsertion_28 : decode cJ6_fixAfterInsertion 28 = .ok (.invokestatic 294, 3) := dk_184 1 38 (dk_at dksJ6_fixAfterInsertion_1 4 rfl rfl)
theorem dJ6_fixAfterInsertion_31 : decode cJ6_fixAfterInsertion 31 = .ok (.aload_n 1, 1) := dk_43 (dk_at dksJ6_fixAfterInsertion_1 7 rfl rfl)
theorem dJ6_fixAfterInsertion_32 : decode cJ6_fixAfterInsertion 32 = .ok (.invokestatic 294, 3) := dk_184 1 38 (dk_at dksJ6_fixAfterInsertion_1 8 rfl rfl)
theorem dJ6_fixAfterInsertion_35 : decode cJ6_fixAfterInsertion 35 = .ok (.invokestatic 294, 3) := dk_184 1 38 (dk_at dksJ6_fixAfterInsertion_1 11 rfl rfl)
theorem dJ6_fixAfterInsertion_38 : decode cJ6_fixAfterInsertion 38 = .ok (.invokestatic 297, 3) := dk_184 1 41 (dk_at dksJ6_fixAfterInsertion_1 14 rfl rfl)
theorem dJ6_fixAfterInsertion_41 : decode cJ6_fixAfterInsertion 41 = .ok (.if_acmp .ne 110, 3) := dk_166 0 110 (dk_at dksJ6_fixAfterInsertion_1 17 rfl rfl)
theorem dJ6_fixAfterInsertion_44 : decode cJ6_fixAfterInsertion 44 = .ok (.aload_n 1, 1) := dk_43 (dk_at dksJ6_fixAfterInsertion_1 20 rfl rfl)
theorem dJ6_fixAfterInsertion_45 : decode cJ6_fixAfterInsertion 45 = .ok (.invokestatic 294, 3) := dk_184 1 38 (dk_at dksJ6_fixAfterInsertion_1 21 rfl rfl)
theorem dJ6_fixAfterInsertion_48 : decode cJ6_fixAfterInsertion 48 = .ok (.invokestatic 294, 3) := dk_184 1 38 (dk_at dksJ6_fixAfterInsertion_2 0 rfl rfl)
theorem dJ6_fixAfterInsertion_51 : decode cJ6_fixAfterInsertion 51 = .ok (.invokestatic 300, 3) := dk_184 1 44 (dk_at dksJ6_fixAfterInsertion_2 3 rfl rfl)
theorem dJ6_fixAfterInsertion_54 : decode cJ6_fixAfterInsertion 54 = .ok (.astore_n 2, 1) := dk_77 (dk_at dksJ6_fixAfterInsertion_2 6 rfl rfl)
theorem dJ6_fixAfterInsertion_55 : decode cJ6_fixAfterInsertion 55 = .ok (.aload_n 2, 1) := dk_44 (dk_at dksJ6_fixAfterInsertion_2 7 rfl rfl)
theorem dJ6_fixAfterInsertion_56 : decode cJ6_fixAfterInsertion 56 = .ok (.invokestatic 303, 3) := dk_184 1 47 (dk_at dksJ6_fixAfterInsertion_2 8 rfl rfl)
theorem dJ6_fixAfterInsertion_59 : decode cJ6_fixAfterInsertion 59 = .ok (.ifCond .ne 38, 3) := dk_154 0 38 (dk_at dksJ6_fixAfterInsertion_2 11 rfl rfl)
theorem dJ6_fixAfterInsertion_62 : decode cJ6_fixAfterInsertion 62 = .ok (.aload_n 1, 1) := dk_43 (dk_at dksJ6_fixAfterInsertion_2 14 rfl rfl)
theorem dJ6_fixAfterInsertion_63 : decode cJ6_fixAfterInsertion 63 = .ok (.invokestatic 294, 3) := dk_184 1 38 (dk_at dksJ6_fixAfterInsertion_2 15 rfl rfl)
theorem dJ6_fixAfterInsertion_66 : decode cJ6_fixAfterInsertion 66 = .ok (.iconst 1, 1) := dk_4 (dk_at dksJ6_fixAfterInsertion_2 18 rfl rfl)
theorem dJ6_fixAfterInsertion_67 : decode cJ6_fixAfterInsertion 67 = .ok (.invokestatic 307, 3) := dk_184 1 51 (dk_at dksJ6_fixAfterInsertion_2 19 rfl rfl)
theorem dJ6_fixAfterInsertion_70 : decode cJ6_fixAfterInsertion 70 = .ok (.aload_n 2, 1) := dk_44 (dk_at dksJ6_fixAfterInsertion_2 22 rfl rfl)
theorem dJ6_fixAfterInsertion_71 : decode cJ6_fixAfterInsertion 71 = .ok (.iconst 1, 1) := dk_4 (dk_at dksJ6_fixAfterInsertion_2 23 rfl rfl)
theorem dJ6_fixAfterInsertion_72 : decode cJ6_fixAfterInsertion 72 = .ok (.invokestatic 307, 3) := dk_184 1 51 (dk_at dksJ6_fixAfterInsertion_3 0 rfl rfl)
theorem dJ6_fixAfterInsertion_75 : decode cJ6_fixAfterInsertion 75 = .ok (.aload_n 1, 1) := dk_43 (dk_at dksJ6_fixAfterInsertion_3 3 rfl rfl)
theorem dJ6_fixAfterInsertion_76 : decode cJ6_fixAfterInsertion 76 = .ok (.invokestatic 294, 3) := dk_184 1 38 (dk_at dksJ6_fixAfterInsertion_3 4 rfl rfl)
theorem dJ6_fixAfterInsertion_79 : decode cJ6_fixAfterInsertion 79 = .ok (.invokestatic 294, 3) := dk_184 1 38 (dk_at dksJ6_fixAfterInsertion_3 7 rfl rfl)
theorem dJ6_fixAfterInsertion_82 : decode cJ6_fixAfterInsertion 82 = .ok (.iconst 0, 1) := dk_3 (dk_at dksJ6_fixAfterInsertion_3 10 rfl rfl)
theorem dJ6_fixAfterInsertion_83 : decode cJ6_fixAfterInsertion 83 = .ok (.invokestatic 307, 3) := dk_184 1 51 (dk_at dksJ6_fixAfterInsertion_3 11 rfl rfl)
theorem dJ6_fixAfterInsertion_86 : decode cJ6_fixAfterInsertion 86 = .ok (.aload_n 1, 1) := dk_43 (dk_at dksJ6_fixAfterInsertion_3 14 rfl rfl)
theorem dJ6_fixAfterInsertion_87 : decode cJ6_fixAfterInsertion 87 = .ok (.invokestatic 294, 3) := dk_184 1 38 (dk_at dksJ6_fixAfterInsertion_3 15 rfl rfl)
theorem dJ6_fixAfterInsertion_90 : decode cJ6_fixAfterInsertion 90 = .ok (.invokestatic 294, 3) := dk_184 1 38 (dk_at dksJ6_fixAfterInsertion_3 18 rfl rfl)
theorem dJ6_fixAfterInsertion_93 : decode cJ6_fixAfterInsertion 93 = .ok (.astore_n 1, 1) := dk_76 (dk_at dksJ6_fixAfterInsertion_3 21 rfl rfl)
theorem dJ6_fixAfterInsertion_94 : decode cJ6_fixAfterInsertion 94 = .ok (.goto 54, 3) := dk_167 0 54 (dk_at dksJ6_fixAfterInsertion_4 0 rfl rfl)
theorem dJ6_fixAfterInsertion_97 : decode cJ6_fixAfterInsertion 97 = .ok (.aload_n 1, 1) := dk_43 (dk_at dksJ6_fixAfterInsertion_4 3 rfl rfl)
theorem dJ6_fixAfterInsertion_98 : decode cJ6_fixAfterInsertion 98 = .ok (.aload_n 1, 1) := dk_43 (dk_at dksJ6_fixAfterInsertion_4 4 rfl rfl)
theorem dJ6_fixAfterInsertion_99 : decode cJ6_fixAfterInsertion 99 = .ok (.invokestatic 294, 3) := dk_184 1 38 (dk_at dksJ6_fixAfterInsertion_4 5 rfl rfl)
theorem dJ6_fixAfterInsertion_102 : decode cJ6_fixAfterInsertion 102 = .ok (.invokestatic 300, 3) := dk_184 1 44 (dk_at dksJ6_fixAfterInsertion_4 8 rfl rfl)
theorem dJ6_fixAfterInsertion_105 : decode cJ6_fixAfterInsertion 105 = .ok (.if_acmp .ne 13, 3) := dk_166 0 13 (dk_at dksJ6_fixAfterInsertion_4 11 rfl rfl)
theorem dJ6_fixAfterInsertion_108 : decode cJ6_fixAfterInsertion 108 = .ok (.aload_n 1, 1) := dk_43 (dk_at dksJ6_fixAfterInsertion_4 14 rfl rfl)
theorem dJ6_fixAfterInsertion_109 : decode cJ6_fixAfterInsertion 109 = .ok (.invokestatic 294, 3) := dk_184 1 38 (dk_at dksJ6_fixAfterInsertion_4 15 rfl rfl)
theorem dJ6_fixAfterInsertion_112 : decode cJ6_fixAfterInsertion 112 = .ok (.astore_n 1, 1) := dk_76 (dk_at dksJ6_fixAfterInsertion_4 18 rfl rfl)
theorem dJ6_fixAfterInsertion_113 : decode cJ6_fixAfterInsertion 113 = .ok (.aload_n 0, 1) := dk_42 (dk_at dksJ6_fixAfterInsertion_4 19 rfl rfl)
theorem dJ6_fixAfterInsertion_114 : decode cJ6_fixAfterInsertion 114 = .ok (.aload_n 1, 1) := dk_43 (dk_at dksJ6_fixAfterInsertion_4 20 rfl rfl)
theorem dJ6_fixAfterInsertion_115 : decode cJ6_fixAfterInsertion 115 = .ok (.invokevirtual 311, 3) := dk_182 1 55 (dk_at dksJ6_fixAfterInsertion_4 21 rfl rfl)
theorem dJ6_fixAfterInsertion_118 : decode cJ6_fixAfterInsertion 118 = .ok (.aload_n 1, 1) := dk_43 (dk_at dksJ6_fixAfterInsertion_5 0 rfl rfl)
theorem dJ6_fixAfterInsertion_119 : decode cJ6_fixAfterInsertion 119 = .ok (.invokestatic 294, 3) := dk_184 1 38 (dk_at dksJ6_fixAfterInsertion_5 1 rfl rfl)
theorem dJ6_fixAfterInsertion_122 : decode cJ6_fixAfterInsertion 122 = .ok (.iconst 1, 1) := dk_4 (dk_at dksJ6_fixAfterInsertion_5 4 rfl rfl)
theorem dJ6_fixAfterInsertion_123 : decode cJ6_fixAfterInsertion 123 = .ok (.invokestatic 307, 3) := dk_184 1 51 (dk_at dksJ6_fixAfterInsertion_5 5 rfl rfl)
theorem dJ6_fixAfterInsertion_126 : decode cJ6_fixAfterInsertion 126 = .ok (.aload_n 1, 1) := dk_43 (dk_at dksJ6_fixAfterInsertion_5 8 rfl rfl)
theorem dJ6_fixAfterInsertion_127 : decode cJ6_fixAfterInsertion 127 = .ok (.invokestatic 294, 3) := dk_184 1 38 (dk_at dksJ6_fixAfterInsertion_5 9 rfl rfl)
theorem dJ6_fixAfterInsertion_130 : decode cJ6_fixAfterInsertion 130 = .ok (.invokestatic 294, 3) := dk_184 1 38 (dk_at dksJ6_fixAfterInsertion_5 12 rfl rfl)
theorem dJ6_fixAfterInsertion_133 : decode cJ6_fixAfterInsertion 133 = .ok (.iconst 0, 1) := dk_3 (dk_at dksJ6_fixAfterInsertion_5 15 rfl rfl)
theorem dJ6_fixAfterInsertion_134 : decode cJ6_fixAfterInsertion 134 = .ok (.invokestatic 307, 3) := dk_184 1 51 (dk_at dksJ6_fixAfterInsertion_5 16 rfl rfl)
theorem dJ6_fixAfterInsertion_137 : decode cJ6_fixAfterInsertion 137 = .ok (.aload_n 0, 1) := dk_42 (dk_at dksJ6_fixAfterInsertion_5 19 rfl rfl)
theorem dJ6_fixAfterInsertion_138 : decode cJ6_fixAfterInsertion 138 = .ok (.aload_n 1, 1) := dk_43 (dk_at dksJ6_fixAfterInsertion_5 20 rfl rfl)
theorem dJ6_fixAfterInsertion_139 : decode cJ6_fixAfterInsertion 139 = .ok (.invokestatic 294, 3) := dk_184 1 38 (dk_at dksJ6_fixAfterInsertion_5 21 rfl rfl)
theorem dJ6_fixAfterInsertion_142 : decode cJ6_fixAfterInsertion 142 = .ok (.invokestatic 294, 3) := dk_184 1 38 (dk_at dksJ6_fixAfterInsertion_6 0 rfl rfl)
theorem dJ6_fixAfterInsertion_145 : decode cJ6_fixAfterInsertion 145 = .ok (.invokevirtual 314, 3) := dk_182 1 58 (dk_at dksJ6_fixAfterInsertion_6 3 rfl rfl)
theorem dJ6_fixAfterInsertion_148 : decode cJ6_fixAfterInsertion 148 = .ok (.goto (-143), 3) := dk_167 255 113 (dk_at dksJ6_fixAfterInsertion_6 6 rfl rfl)
theorem dJ6_fixAfterInsertion_151 : decode cJ6_fixAfterInsertion 151 = .ok (.aload_n 1, 1) := dk_43 (dk_at dksJ6_fixAfterInsertion_6 9 rfl rfl)
theorem dJ6_fixAfterInsertion_152 : decode cJ6_fixAfterInsertion 152 = .ok (.invokestatic 294, 3) := dk_184 1 38 (dk_at dksJ6_fixAfterInsertion_6 10 rfl rfl)
theorem dJ6_fixAfterInsertion_155 : decode cJ6_fixAfterInsertion 155 = .ok (.invokestatic 294, 3) := dk_184 1 38 (dk_at dksJ6_fixAfterInsertion_6 13 rfl rfl)
theorem dJ6_fixAfterInsertion_158 : decode cJ6_fixAfterInsertion 158 = .ok (.invokestatic 297, 3) := dk_184 1 41 (dk_at dksJ6_fixAfterInsertion_6 16 rfl rfl)
theorem dJ6_fixAfterInsertion_161 : decode cJ6_fixAfterInsertion 161 = .ok (.astore_n 2, 1) := dk_77 (dk_at dksJ6_fixAfterInsertion_6 19 rfl rfl)
theorem dJ6_fixAfterInsertion_162 : decode cJ6_fixAfterInsertion 162 = .ok (.aload_n 2, 1) := dk_44 (dk_at dksJ6_fixAfterInsertion_6 20 rfl rfl)
theorem dJ6_fixAfterInsertion_163 : decode cJ6_fixAfterInsertion 163 = .ok (.invokestatic 303, 3) := dk_184 1 47 (dk_at dksJ6_fixAfterInsertion_6 21 rfl rfl)
theorem dJ6_fixAfterInsertion_166 : decode cJ6_fixAfterInsertion 166 = .ok (.ifCond .ne 38, 3) := dk_154 0 38 (dk_at dksJ6_fixAfterInsertion_7 0 rfl rfl)
theorem dJ6_fixAfterInsertion_169 : decode cJ6_fixAfterInsertion 169 = .ok (.aload_n 1, 1) := dk_43 (dk_at dksJ6_fixAfterInsertion_7 3 rfl rfl)
theorem dJ6_fixAfterInsertion_170 : decode cJ6_fixAfterInsertion 170 = .ok (.invokestatic 294, 3) := dk_184 1 38 (dk_at dksJ6_fixAfterInsertion_7 4 rfl rfl)
theorem dJ6_fixAfterInsertion_173 : decode cJ6_fixAfterInsertion 173 = .ok (.iconst 1, 1) := dk_4 (dk_at dksJ6_fixAfterInsertion_7 7 rfl rfl)
theorem dJ6_fixAfterInsertion_174 : decode cJ6_fixAfterInsertion 174 = .ok (.invokestatic 307, 3) := dk_184 1 51 (dk_at dksJ6_fixAfterInsertion_7 8 rfl rfl)
theorem dJ6_fixAfterInsertion_177 : decode cJ6_fixAfterInsertion 177 = .ok (.aload_n 2, 1) := dk_44 (dk_at dksJ6_fixAfterInsertion_7 11 rfl rfl)
theorem dJ6_fixAfterInsertion_178 : decode cJ6_fixAfterInsertion 178 = .ok (.iconst 1, 1) := dk_4 (dk_at dksJ6_fixAfterInsertion_7 12 rfl rfl)
theorem dJ6_fixAfterInsertion_179 : decode cJ6_fixAfterInsertion 179 = .ok (.invokestatic 307, 3) := dk_184 1 51 (dk_at dksJ6_fixAfterInsertion_7 13 rfl rfl)
theorem dJ6_fixAfterInsertion_182 : decode cJ6_fixAfterInsertion 182 = .ok (.aload_n 1, 1) := dk_43 (dk_at dksJ6_fixAfterInsertion_7 16 rfl rfl)
theorem dJ6_fixAfterInsertion_183 : decode cJ6_fixAfterInsertion 183 = .ok (.invokestatic 294, 3) := dk_184 1 38 (dk_at dksJ6_fixAfterInsertion_7 17 rfl rfl)
theorem dJ6_fixAfterInsertion_186 : decode cJ6_fixAfterInsertion 186 = .ok (.invokestatic 294, 3) := dk_184 1 38 (dk_at dksJ6_fixAfterInsertion_7 20 rfl rfl)
theorem dJ6_fixAfterInsertion_189 : decode cJ6_fixAfterInsertion 189 = .ok (.iconst 0, 1) := dk_3 (dk_at dksJ6_fixAfterInsertion_7 23 rfl rfl)
theorem dJ6_fixAfterInsertion_190 : decode cJ6_fixAfterInsertion 190 = .ok (.invokestatic 307, 3) := dk_184 1 51 (dk_at dksJ6_fixAfterInsertion_8 0 rfl rfl)
theorem dJ6_fixAfterInsertion_193 : decode cJ6_fixAfterInsertion 193 = .ok (.aload_n 1, 1) := dk_43 (dk_at dksJ6_fixAfterInsertion_8 3 rfl rfl)
theorem dJ6_fixAfterInsertion_194 : decode cJ6_fixAfterInsertion 194 = .ok (.invokestatic 294, 3) := dk_184 1 38 (dk_at dksJ6_fixAfterInsertion_8 4 rfl rfl)
theorem dJ6_fixAfterInsertion_197 : decode cJ6_fixAfterInsertion 197 = .ok (.invokestatic 294, 3) := dk_184 1 38 (dk_at dksJ6_fixAfterInsertion_8 7 rfl rfl)
theorem dJ6_fixAfterInsertion_200 : decode cJ6_fixAfterInsertion 200 = .ok (.astore_n 1, 1) := dk_76 (dk_at dksJ6_fixAfterInsertion_8 10 rfl rfl)
theorem dJ6_fixAfterInsertion_201 : decode cJ6_fixAfterInsertion 201 = .ok (.goto 54, 3) := dk_167 0 54 (dk_at dksJ6_fixAfterInsertion_8 11 rfl rfl)
theorem dJ6_fixAfterInsertion_204 : decode cJ6_fixAfterInsertion 204 = .ok (.aload_n 1, 1) := dk_43 (dk_at dksJ6_fixAfterInsertion_8 14 rfl rfl)
theorem dJ6_fixAfterInsertion_205 : decode cJ6_fixAfterInsertion 205 = .ok (.aload_n 1, 1) := dk_43 (dk_at dksJ6_fixAfterInsertion_8 15 rfl rfl)
theorem dJ6_fixAfterInsertion_206 : decode cJ6_fixAfterInsertion 206 = .ok (.invokestatic 294, 3) := dk_184 1 38 (dk_at dksJ6_fixAfterInsertion_8 16 rfl rfl)
theorem dJ6_fixAfterInsertion_209 : decode cJ6_fixAfterInsertion 209 = .ok (.invokestatic 297, 3) := dk_184 1 41 (dk_at dksJ6_fixAfterInsertion_8 19 rfl rfl)
theorem dJ6_fixAfterInsertion_212 : decode cJ6_fixAfterInsertion 212 = .ok (.if_acmp .ne 13, 3) := dk_166 0 13 (dk_at dksJ6_fixAfterInsertion_9 0 rfl rfl)
theorem dJ6_fixAfterInsertion_215 : decode cJ6_fixAfterInsertion 215 = .ok (.aload_n 1, 1) := dk_43 (dk_at dksJ6_fixAfterInsertion_9 3 rfl rfl)
theorem dJ6_fixAfterInsertion_216 : decode cJ6_fixAfterInsertion 216 = .ok (.invokestatic 294, 3) := dk_184 1 38 (dk_at dksJ6_fixAfterInsertion_9 4 rfl rfl)
theorem dJ6_fixAfterInsertion_219 : decode cJ6_fixAfterInsertion 219 = .ok (.astore_n 1, 1) := dk_76 (dk_at dksJ6_fixAfterInsertion_9 7 rfl rfl)
theorem dJ6_fixAfterInsertion_220 : decode cJ6_fixAfterInsertion 220 = .ok (.aload_n 0, 1) := dk_42 (dk_at dksJ6_fixAfterInsertion_9 8 rfl rfl)
theorem dJ6_fixAfterInsertion_221 : decode cJ6_fixAfterInsertion 221 = .ok (.aload_n 1, 1) := dk_43 (dk_at dksJ6_fixAfterInsertion_9 9 rfl rfl)
theorem dJ6_fixAfterInsertion_222 : decode cJ6_fixAfterInsertion 222 = .ok (.invokevirtual 314, 3) := dk_182 1 58 (dk_at dksJ6_fixAfterInsertion_9 10 rfl rfl)
theorem dJ6_fixAfterInsertion_225 : decode cJ6_fixAfterInsertion 225 = .ok (.aload_n 1, 1) := dk_43 (dk_at dksJ6_fixAfterInsertion_9 13 rfl rfl)
theorem dJ6_fixAfterInsertion_226 : decode cJ6_fixAfterInsertion 226 = .ok (.invokestatic 294, 3) := dk_184 1 38 (dk_at dksJ6_fixAfterInsertion_9 14 rfl rfl)
theorem dJ6_fixAfterInsertion_229 : decode cJ6_fixAfterInsertion 229 = .ok (.iconst 1, 1) := dk_4 (dk_at dksJ6_fixAfterInsertion_9 17 rfl rfl)
theorem dJ6_fixAfterInsertion_230 : decode cJ6_fixAfterInsertion 230 = .ok (.invokestatic 307, 3) := dk_184 1 51 (dk_at dksJ6_fixAfterInsertion_9 18 rfl rfl)
theorem dJ6_fixAfterInsertion_233 : decode cJ6_fixAfterInsertion 233 = .ok (.aload_n 1, 1) := dk_43 (dk_at dksJ6_fixAfterInsertion_9 21 rfl rfl)
theorem dJ6_fixAfterInsertion_234 : decode cJ6_fixAfterInsertion 234 = .ok (.invokestatic 294, 3) := dk_184 1 38 (dk_at dksJ6_fixAfterInsertion_10 0 rfl rfl)
theorem dJ6_fixAfterInsertion_237 : decode cJ6_fixAfterInsertion 237 = .ok (.invokestatic 294, 3) := dk_184 1 38 (dk_at dksJ6_fixAfterInsertion_10 3 rfl rfl)
theorem dJ6_fixAfterInsertion_240 : decode cJ6_fixAfterInsertion 240 = .ok (.iconst 0, 1) := dk_3 (dk_at dksJ6_fixAfterInsertion_10 6 rfl rfl)
theorem dJ6_fixAfterInsertion_241 : decode cJ6_fixAfterInsertion 241 = .ok (.invokestatic 307, 3) := dk_184 1 51 (dk_at dksJ6_fixAfterInsertion_10 7 rfl rfl)
theorem dJ6_fixAfterInsertion_244 : decode cJ6_fixAfterInsertion 244 = .ok (.aload_n 0, 1) := dk_42 (dk_at dksJ6_fixAfterInsertion_10 10 rfl rfl)
theorem dJ6_fixAfterInsertion_245 : decode cJ6_fixAfterInsertion 245 = .ok (.aload_n 1, 1) := dk_43 (dk_at dksJ6_fixAfterInsertion_10 11 rfl rfl)
theorem dJ6_fixAfterInsertion_246 : decode cJ6_fixAfterInsertion 246 = .ok (.invokestatic 294, 3) := dk_184 1 38 (dk_at dksJ6_fixAfterInsertion_10 12 rfl rfl)
theorem dJ6_fixAfterInsertion_249 : decode cJ6_fixAfterInsertion 249 = .ok (.invokestatic 294, 3) := dk_184 1 38 (dk_at dksJ6_fixAfterInsertion_10 15 rfl rfl)
theorem dJ6_fixAfterInsertion_252 : decode cJ6_fixAfterInsertion 252 = .ok (.invokevirtual 311, 3) := dk_182 1 55 (dk_at dksJ6_fixAfterInsertion_10 18 rfl rfl)
theorem dJ6_fixAfterInsertion_255 : decode cJ6_fixAfterInsertion 255 = .ok (.goto (-250), 3) := dk_167 255 6 (dk_at dksJ6_fixAfterInsertion_10 21 rfl rfl)
theorem dJ6_fixAfterInsertion_258 : decode cJ6_fixAfterInsertion 258 = .ok (.aload_n 0, 1) := dk_42 (dk_at dksJ6_fixAfterInsertion_11 0 rfl rfl)
theorem dJ6_fixAfterInsertion_259 : decode cJ6_fixAfterInsertion 259 = .ok (.getfield 101, 3) := dk_180 0 101 (dk_at dksJ6_fixAfterInsertion_11 1 rfl rfl)
theorem dJ6_fixAfterInsertion_262 : decode cJ6_fixAfterInsertion 262 = .ok (.iconst 1, 1) := dk_4 (dk_at dksJ6_fixAfterInsertion_11 4 rfl rfl)
theorem dJ6_fixAfterInsertion_263 : decode cJ6_fixAfterInsertion 263 = .ok (.putfield 290, 3) := dk_181 1 34 (dk_at dksJ6_fixAfterInsertion_11 5 rfl rfl)
theorem dJ6_fixAfterInsertion_266 : decode cJ6_fixAfterInsertion 266 = .ok (.return_, 1) := dk_177 (dk_at dksJ6_fixAfterInsertion_11 8 rfl rfl)
theorem yk_J6_fixAfterInsertion : yk yJ6_fixAfterInsertion 1 := by unfold yk; decide +kernel
abbrev KJ6_fixAfterInsertion (G : Gx) (d mc ms : Nat) (av : List Sv) (M : Mem) (post : Option Sv → Mem → Prop) : Prop := Ct G yJ6_fixAfterInsertion cJ6_fixAfterInsertion 3 ((Option.none : Option Jvm.ClassFile.FieldType)) d mc ms av M post
theorem q1861 : (Jvm.Cond.methodLink "java/util/TreeMap" (294 : Nat) ({ cls := "java/util/TreeMap", name := "parentOf", desc := "(Ljava/util/TreeMap$Entry;)Ljava/util/TreeMap$Entry;" } : Jvm.MethodName)) ∈ lw_all := lw_g (lw_at lw_m8 133 rfl) rfl
theorem q1862 : (Jvm.Cond.static ({ cls := "java/util/TreeMap", name := "parentOf", desc := "(Ljava/util/TreeMap$Entry;)Ljava/util/TreeMap$Entry;" } : Jvm.MethodName)) ∈ lw_all := lw_g (lw_at lw_m8 134 rfl) rfl
theorem q1863 : (Jvm.Cond.code ({ cls := "java/util/TreeMap", name := "parentOf", desc := "(Ljava/util/TreeMap$Entry;)Ljava/util/TreeMap$Entry;" } : Jvm.MethodName) prog_83_method_77_code (1 : Nat) (Option.some (Jvm.ClassFile.FieldType.object "java/util/TreeMap$Entry"))) ∈ lw_all := lw_g (lw_at lw_m8 135 rfl) rfl
theorem q1864 : (Jvm.Cond.methodLink "java/util/TreeMap" (297 : Nat) ({ cls := "java/util/TreeMap", name := "leftOf", desc := "(Ljava/util/TreeMap$Entry;)Ljava/util/TreeMap$Entry;" } : Jvm.MethodName)) ∈ lw_all := lw_g (lw_at lw_m8 136 rfl) rfl
theorem q1865 : (Jvm.Cond.static ({ cls := "java/util/TreeMap", name := "leftOf", desc := "(Ljava/util/TreeMap$Entry;)Ljava/util/TreeMap$Entry;" } : Jvm.MethodName)) ∈ lw_all := lw_g (lw_at lw_m8 137 rfl) rfl
theorem q1866 : (Jvm.Cond.code ({ cls := "java/util/TreeMap", name := "leftOf", desc := "(Ljava/util/TreeMap$Entry;)Ljava/util/TreeMap$Entry;" } : Jvm.MethodName) prog_83_method_79_code (1 : Nat) (Option.some (Jvm.ClassFile.FieldType.object "java/util/TreeMap$Entry"))) ∈ lw_all := lw_g (lw_at lw_m8 138 rfl) rfl
theorem q1867 : (Jvm.Cond.methodLink "java/util/TreeMap" (300 : Nat) ({ cls := "java/util/TreeMap", name := "rightOf", desc := "(Ljava/util/TreeMap$Entry;)Ljava/util/TreeMap$Entry;" } : Jvm.MethodName)) ∈ lw_all := lw_g (lw_at lw_m8 139 rfl) rfl
theorem q1868 : (Jvm.Cond.static ({ cls := "java/util/TreeMap", name := "rightOf", desc := "(Ljava/util/TreeMap$Entry;)Ljava/util/TreeMap$Entry;" } : Jvm.MethodName)) ∈ lw_all := lw_g (lw_at lw_m8 140 rfl) rfl
theorem q1869 : (Jvm.Cond.code ({ cls := "java/util/TreeMap", name := "rightOf", desc := "(Ljava/util/TreeMap$Entry;)Ljava/util/TreeMap$Entry;" } : Jvm.MethodName) prog_83_method_80_code (1 : Nat) (Option.some (Jvm.ClassFile.FieldType.object "java/util/TreeMap$Entry"))) ∈ lw_all := lw_g (lw_at lw_m8 141 rfl) rfl
theorem q1870 : (Jvm.Cond.methodLink "java/util/TreeMap" (303 : Nat) ({ cls := "java/util/TreeMap", name := "colorOf", desc := "(Ljava/util/TreeMap$Entry;)Z" } : Jvm.MethodName)) ∈ lw_all := lw_g (lw_at lw_m8 142 rfl) rfl
theorem q1871 : (Jvm.Cond.static ({ cls := "java/util/TreeMap", name := "colorOf", desc := "(Ljava/util/TreeMap$Entry;)Z" } : Jvm.MethodName)) ∈ lw_all := lw_g (lw_at lw_m8 143 rfl) rfl
theorem q1872 : (Jvm.Cond.code ({ cls := "java/util/TreeMap", name := "colorOf", desc := "(Ljava/util/TreeMap$Entry;)Z" } : Jvm.MethodName) prog_83_method_76_code (1 : Nat) (Option.some Jvm.ClassFile.FieldType.boolean)) ∈ lw_all := lw_g (lw_at lw_m8 144 rfl) rfl
theorem q1873 : (Jvm.Cond.methodLink "java/util/TreeMap" (307 : Nat) ({ cls := "java/util/TreeMap", name := "setColor", desc := "(Ljava/util/TreeMap$Entry;Z)V" } : Jvm.MethodName)) ∈ lw_all := lw_g (lw_at lw_m8 145 rfl) rfl
theorem q1874 : (Jvm.Cond.static ({ cls := "java/util/TreeMap", name := "setColor", desc := "(Ljava/util/TreeMap$Entry;Z)V" } : Jvm.MethodName)) ∈ lw_all := lw_g (lw_at lw_m8 146 rfl) rfl
theorem q1875 : (Jvm.Cond.code ({ cls := "java/util/TreeMap", name := "setColor", desc := "(Ljava/util/TreeMap$Entry;Z)V" } : Jvm.MethodName) prog_83_method_78_code (2 : Nat) (Option.none : Option Jvm.ClassFile.FieldType)) ∈ lw_all := lw_g (lw_at lw_m8 147 rfl) rfl
theorem q1876 : (Jvm.Cond.methodLink "java/util/TreeMap" (311 : Nat) ({ cls := "java/util/TreeMap", name := "rotateLeft", desc := "(Ljava/util/TreeMap$Entry;)V" } : Jvm.MethodName)) ∈ lw_all := lw_g (lw_at lw_m8 148 rfl) rfl
theorem q1878 : (Jvm.Cond.instanceMethod ({ cls := "java/util/TreeMap", name := "rotateLeft", desc := "(Ljava/util/TreeMap$Entry;)V" } : Jvm.MethodName)) ∈ lw_all := lw_g (lw_at lw_m8 150 rfl) rfl
theorem q1879 : (Jvm.Cond.code ({ cls := "java/util/TreeMap", name := "rotateLeft", desc := "(Ljava/util/TreeMap$Entry;)V" } : Jvm.MethodName) prog_83_method_81_code (3 : Nat) (Option.none : Option Jvm.ClassFile.FieldType)) ∈ lw_all := lw_g (lw_at lw_m8 151 rfl) rfl
theorem q1880 : (Jvm.Cond.methodLink "java/util/TreeMap" (314 : Nat) ({ cls := "java/util/TreeMap", name := "rotateRight", desc := "(Ljava/util/TreeMap$Entry;)V" } : Jvm.MethodName)) ∈ lw_all := lw_g (lw_at lw_m8 152 rfl) rfl
theorem q1882 : (Jvm.Cond.instanceMethod ({ cls := "java/util/TreeMap", name := "rotateRight", desc := "(Ljava/util/TreeMap$Entry;)V" } : Jvm.MethodName)) ∈ lw_all := lw_g (lw_at lw_m8 154 rfl) rfl
theorem q1883 : (Jvm.Cond.code ({ cls := "java/util/TreeMap", name := "rotateRight", desc := "(Ljava/util/TreeMap$Entry;)V" } : Jvm.MethodName) prog_83_method_82_code (3 : Nat) (Option.none : Option Jvm.ClassFile.FieldType)) ∈ lw_all := lw_g (lw_at lw_m8 155 rfl) rfl
/-! ===== TreeMap.fixAfterInsertion ===== -/
section FixIns
variable {G : Gx} {M0 : Mem} {ρ t n : Nat} {ad ps : Nat → Nat}
theorem fi_end (hB : Base G) (h0 : 0 < n) : ∀ C, Ok C G cJ6_fixAfterInsertion RJ6 "fixAfterInsertion" 2 0 0 → Rt C G none 0 0 (fun v M' => v = none ∧ ∃ lo' hi', Fx M0 M' ρ t n ad ps lo' hi') → ∀ (M : Mem) (lo hi : Nat → Nat) (a b : Option Sv), Fx M0 M ρ t n ad ps lo hi → Go C 258 [some (vr (some t)), a, b] [] M 0 0 := by
  intro C hC hQ M lo hi a b hF
  have hkt := hF.2.2.2.2.2.2.1
  obtain ⟨r, hr⟩ : ∃ r, mR M t 3 = some r := by
    cases e : mR M t 3 with
    | none => have := hF.1.1.2.2.2.2.2.2.2.2.1 e; omega
    | some r => exact ⟨r, rfl⟩
  have hrN := (hF.1.1.2.2.2.2.2.2.2.2.2 r hr).1
  have hkr := (hF.1.2 r hrN).1
  refine g_aload_n hC dJ6_fixAfterInsertion_258 rfl ?_
  refine g_getR hC (ci := 8) (by first | with_reducible rfl | with_reducible assumption | (simp only [mR_sI, mR_sL]; with_reducible assumption) | exact rfl | assumption) (by first | with_reducible assumption | (simp only [mK_sI, mK_sR, mK_sL, mK_sO]; with_reducible assumption) | assumption | (simp only [mK_sI, mK_sR, mK_sL, mK_sO, mK_nw, mK_sK]; first | assumption | (simp only [*]; done))) rfl 3 (by decide) q273 (Or.inl rfl) rfl dJ6_fixAfterInsertion_259 ?_
  refine g_iconst (v := 1) hC dJ6_fixAfterInsertion_262 (by decide) ?_
  refine g_putI hC (ci := 9) (by first | with_reducible rfl | with_reducible assumption | (simp only [mR_sI, mR_sL]; with_reducible assumption) | exact rfl | assumption) (by first | with_reducible assumption | (simp only [mK_sI, mK_sR, mK_sL, mK_sO]; with_reducible assumption) | assumption | (simp only [mK_sI, mK_sR, mK_sL, mK_sO, mK_nw, mK_sK]; first | assumption | (simp only [*]; done))) rfl 5 (by decide) q986 (Or.inl rfl) (Or.inl rfl) rfl (by first | rfl | assumption) (by first | rfl | assumption) dJ6_fixAfterInsertion_263 ?_
  refine g_vret hC hQ (by omega) (by omega) dJ6_fixAfterInsertion_266 ?_
  exact ⟨rfl, lo, hi, hF.col hrN b01.o⟩
/-- the parent is black: the end -/
theorem fi_exit (hB : Base G) (h0 : 0 < n) : ∀ C, Ok C G cJ6_fixAfterInsertion RJ6 "fixAfterInsertion" 2 0 0 → Rt C G none 0 0 (fun v M' => v = none ∧ ∃ lo' hi', Fx M0 M' ρ t n ad ps lo' hi') → ∀ (M : Mem) (lo hi : Nat → Nat) (x q : Nat) (b : Option Sv), Fx M0 M ρ t n ad ps lo hi → Nd n ad ps x → mR M x 4 = some q → mI M q 5 = 1 → Go C 5 [some (vr (some t)), some (vr (some x)), b] [] M 0 0 := by
  intro C hC hQ M lo hi x q b hF hx hq hcol
  have hkt := hF.2.2.2.2.2.2.1
  have hkx := (hF.1.2 x hx).1
  have hkq := (hF.1.2 q (hF.1.1.2.2.2.2.2.2.2.1 x q hx hq).1).1
  refine g_aload_n hC dJ6_fixAfterInsertion_5 rfl ?_
  refine g_ifnull hC 258 dJ6_fixAfterInsertion_6 (by decide) (fun hc => ?_) (fun y6 hc => ?_)
  · cases hc
  · refine g_aload_n hC dJ6_fixAfterInsertion_9 rfl ?_
    refine g_aload_n hC dJ6_fixAfterInsertion_10 rfl ?_
    refine g_getR hC (ci := 8) (by first | with_reducible rfl | with_reducible assumption | (simp only [mR_sI, mR_sL]; with_reducible assumption) | exact rfl | assumption) (by first | with_reducible assumption | (simp only [mK_sI, mK_sR, mK_sL, mK_sO]; with_reducible assumption) | assumption | (simp only [mK_sI, mK_sR, mK_sL, mK_sO, mK_nw, mK_sK]; first | assumption | (simp only [*]; done))) rfl 3 (by decide) q273 (Or.inl rfl) rfl dJ6_fixAfterInsertion_11 ?_
    refine g_acmp_eq hC 258 dJ6_fixAfterInsertion_14 (by decide) (fun hc2 => ?_) (fun hc2 => ?_)
    · exact fi_end hB h0 C hC hQ M lo hi _ _ hF
    · refine g_aload_n hC dJ6_fixAfterInsertion_17 rfl ?_
      refine g_getR hC (ci := 9) (by first | with_reducible rfl | with_reducible assumption | (simp only [mR_sI, mR_sL]; with_reducible assumption) | exact rfl | assumption) (by first | with_reducible assumption | (simp only [mK_sI, mK_sR, mK_sL, mK_sO]; with_reducible assumption) | assumption | (simp only [mK_sI, mK_sR, mK_sL, mK_sO, mK_nw, mK_sK]; first | assumption | (simp only [*]; done))) rfl 4 (by decide) q984 (Or.inl rfl) rfl dJ6_fixAfterInsertion_18 ?_
      refine g_getI hC (ci := 9) (by first | with_reducible rfl | with_reducible assumption | (simp only [mR_sI, mR_sL]; with_reducible assumption) | exact rfl | assumption) (by first | with_reducible assumption | (simp only [mK_sI, mK_sR, mK_sL, mK_sO]; with_reducible assumption) | assumption | (simp only [mK_sI, mK_sR, mK_sL, mK_sO, mK_nw, mK_sK]; first | assumption | (simp only [*]; done))) rfl 5 (by decide) q986 (Or.inl rfl) rfl dJ6_fixAfterInsertion_21 ?_
      rw [hcol]
      refine g_if_ne hC 258 dJ6_fixAfterInsertion_24 (by decide) (fun hc3 => ?_) (fun hc3 => ?_)
      · exact fi_end hB h0 C hC hQ M lo hi _ _ hF
      · exact absurd hc3 (by decide)
/-- x is an outer grandchild: the rotation at g ends it -/
theorem fi_outerA (hB : Base G) (h0 : 0 < n) : ∀ C, Ok C G cJ6_fixAfterInsertion RJ6 "fixAfterInsertion" 2 0 0 → Rt C G none 0 0 (fun v M' => v = none ∧ ∃ lo' hi', Fx M0 M' ρ t n ad ps lo' hi') → ∀ (M : Mem) (lo hi : Nat → Nat) (x p g : Nat) (b : Option Sv), Fx M0 M ρ t n ad ps lo hi → Nd n ad ps x → Nd n ad ps p → Nd n ad ps g → mR M x 4 = some p → mR M p 4 = some g → mR M g 2 = some p → mR M p 2 = some x → Go C 118 [some (vr (some t)), some (vr (some x)), b] [] M 0 0 := by
  intro C hC hQ M lo hi x p g b hF hx hpN hgN hp hg hgl hpl
  have hkt := hF.2.2.2.2.2.2.1
  have hkx := (hF.1.2 x hx).1
  have hkp := (hF.1.2 p hpN).1
  have hkg := (hF.1.2 g hgN).1
  refine g_aload_n hC dJ6_fixAfterInsertion_118 rfl ?_
  refine g_callS hC (ct_po hB hkx) rfl (by decide) rfl yk_J6_parentOf q1861 q1862 q59 q1863 rfl dJ6_fixAfterInsertion_119 (by omega) (by omega) (fun v M1 hp => ?_)
  obtain ⟨rfl, hM⟩ := hp
  cases hM.symm
  simp only [Option.toList_some, Option.toList_none, List.cons_append, List.nil_append, Nat.add_zero, Nat.zero_add]
  simp only [mR_sI, hp]
  refine g_iconst (v := 1) hC dJ6_fixAfterInsertion_122 (by decide) ?_
  refine g_callS hC (ct_sc hB hkp b01.o) rfl (by decide) rfl yk_J6_setColor q1873 q1874 q59 q1875 rfl dJ6_fixAfterInsertion_123 (by omega) (by omega) (fun v M1 hp => ?_)
  obtain ⟨rfl, hM⟩ := hp
  cases hM.symm
  simp only [Option.toList_some, Option.toList_none, List.cons_append, List.nil_append, Nat.add_zero, Nat.zero_add]
  refine g_aload_n hC dJ6_fixAfterInsertion_126 rfl ?_
  refine g_callS hC (ct_po hB hkx) rfl (by decide) rfl yk_J6_parentOf q1861 q1862 q59 q1863 rfl dJ6_fixAfterInsertion_127 (by omega) (by omega) (fun v M1 hp => ?_)
  obtain ⟨rfl, hM⟩ := hp
  cases hM.symm
  simp only [Option.toList_some, Option.toList_none, List.cons_append, List.nil_append, Nat.add_zero, Nat.zero_add]
  simp only [mR_sI, hp]
  refine g_callS hC (ct_po hB hkp) rfl (by decide) rfl yk_J6_parentOf q1861 q1862 q59 q1863 rfl dJ6_fixAfterInsertion_130 (by omega) (by omega) (fun v M1 hp => ?_)
  obtain ⟨rfl, hM⟩ := hp
  cases hM.symm
  simp only [Option.toList_some, Option.toList_none, List.cons_append, List.nil_append, Nat.add_zero, Nat.zero_add]
  simp only [mR_sI, hg]
  refine g_iconst (v := 0) hC dJ6_fixAfterInsertion_133 (by decide) ?_
  refine g_callS hC (ct_sc hB hkg b01.z) rfl (by decide) rfl yk_J6_setColor q1873 q1874 q59 q1875 rfl dJ6_fixAfterInsertion_134 (by omega) (by omega) (fun v M1 hp => ?_)
  obtain ⟨rfl, hM⟩ := hp
  cases hM.symm
  simp only [Option.toList_some, Option.toList_none, List.cons_append, List.nil_append, Nat.add_zero, Nat.zero_add]
  refine g_aload_n hC dJ6_fixAfterInsertion_137 rfl ?_
  refine g_aload_n hC dJ6_fixAfterInsertion_138 rfl ?_
  refine g_callS hC (ct_po hB hkx) rfl (by decide) rfl yk_J6_parentOf q1861 q1862 q59 q1863 rfl dJ6_fixAfterInsertion_139 (by omega) (by omega) (fun v M1 hp => ?_)
  obtain ⟨rfl, hM⟩ := hp
  cases hM.symm
  simp only [Option.toList_some, Option.toList_none, List.cons_append, List.nil_append, Nat.add_zero, Nat.zero_add]
  simp only [mR_sI, hp]
  refine g_callS hC (ct_po hB hkp) rfl (by decide) rfl yk_J6_parentOf q1861 q1862 q59 q1863 rfl dJ6_fixAfterInsertion_142 (by omega) (by omega) (fun v M1 hp => ?_)
  obtain ⟨rfl, hM⟩ := hp
  cases hM.symm
  simp only [Option.toList_some, Option.toList_none, List.cons_append, List.nil_append, Nat.add_zero, Nat.zero_add]
  simp only [mR_sI, hg]
  have hF2 := (hF.col hpN b01.o).col hgN b01.z
  refine g_callV hC (by first | with_reducible rfl | with_reducible assumption | (simp only [mR_sI, mR_sL]; with_reducible assumption) | exact rfl | assumption) (Rk.o (ci := 8) (by first | with_reducible assumption | (simp only [mK_sI, mK_sR, mK_sL, mK_sO]; with_reducible assumption) | assumption | (simp only [mK_sI, mK_sR, mK_sL, mK_sO, mK_nw, mK_sK]; first | assumption | (simp only [*]; done))) rfl) (ct_rotR hB hF2.2.2.2.2.2.2.1 hF2.1 hgN hgl) rfl (by decide) rfl rfl yk_J6_rotateRight q1880 q1882 qs16 q59 q1883 rfl dJ6_fixAfterInsertion_145 (by omega) (by omega) (fun v M1 hp => ?_)
  obtain ⟨rfl, hR⟩ := hp
  simp only [Option.toList_some, Option.toList_none, List.cons_append, List.nil_append, Nat.add_zero, Nat.zero_add]
  refine g_goto hC 5 dJ6_fixAfterInsertion_148 (by decide) ?_
  have hF3 := hF2.rr hgN hgl hR
  obtain ⟨h1, h2, h3, h4, h5, h6, h7, h8, h9, h10⟩ := hF.1.1
  obtain ⟨a1, a2, a3, a4, a5, a6, a7, a8, a9, a10, a11, a12, hS⟩ := hR
  have b1 := h2 x hx
  have b2 := h2 p hpN
  have b3 := h2 g hgN
  have c1 := h4 g p hgN hgl
  have c2 := h4 p x hpN hpl
  have x1 : x ≠ g := by intro e; subst e; omega
  have x2 : x ≠ p := by intro e; subst e; omega
  have x3 : p ≠ g := by intro e; subst e; omega
  have x4 : mR M p 3 ≠ some x := by intro e; have := h6 p x hpN e; omega
  refine fi_exit hB h0 C hC hQ M1 _ _ x p b hF3 hx ?_ ?_
  · rw [a6 x x1 x2 x4]; exact hp
  · rw [(hS.2.1 p 5).1]; simp [mI_sI, x3]
/-- the right half of it; g may be none there -/
theorem fi_outerB (hB : Base G) (h0 : 0 < n) : ∀ C, Ok C G cJ6_fixAfterInsertion RJ6 "fixAfterInsertion" 2 0 0 → Rt C G none 0 0 (fun v M' => v = none ∧ ∃ lo' hi', Fx M0 M' ρ t n ad ps lo' hi') → ∀ (M : Mem) (lo hi : Nat → Nat) (x p g : Nat) (b : Option Sv), Fx M0 M ρ t n ad ps lo hi → Nd n ad ps x → Nd n ad ps p → Nd n ad ps g → mR M x 4 = some p → mR M p 4 = some g → mR M g 3 = some p → mR M p 3 = some x → Go C 225 [some (vr (some t)), some (vr (some x)), b] [] M 0 0 := by
  intro C hC hQ M lo hi x p g b hF hx hpN hgN hp hg hgl hpl
  have hkt := hF.2.2.2.2.2.2.1
  have hkx := (hF.1.2 x hx).1
  have hkp := (hF.1.2 p hpN).1
  have hkg := (hF.1.2 g hgN).1
  refine g_aload_n hC dJ6_fixAfterInsertion_225 rfl ?_
  refine g_callS hC (ct_po hB hkx) rfl (by decide) rfl yk_J6_parentOf q1861 q1862 q59 q1863 rfl dJ6_fixAfterInsertion_226 (by omega) (by omega) (fun v M1 hp => ?_)
  obtain ⟨rfl, hM⟩ := hp
  cases hM.symm
  simp only [Option.toList_some, Option.toList_none, List.cons_append, List.nil_append, Nat.add_zero, Nat.zero_add]
  simp only [mR_sI, hp]
  refine g_iconst (v := 1) hC dJ6_fixAfterInsertion_229 (by decide) ?_
  refine g_callS hC (ct_sc hB hkp b01.o) rfl (by decide) rfl yk_J6_setColor q1873 q1874 q59 q1875 rfl dJ6_fixAfterInsertion_230 (by omega) (by omega) (fun v M1 hp => ?_)
  obtain ⟨rfl, hM⟩ := hp
  cases hM.symm
  simp only [Option.toList_some, Option.toList_none, List.cons_append, List.nil_append, Nat.add_zero, Nat.zero_add]
  refine g_aload_n hC dJ6_fixAfterInsertion_233 rfl ?_
  refine g_callS hC (ct_po hB hkx) rfl (by decide) rfl yk_J6_parentOf q1861 q1862 q59 q1863 rfl dJ6_fixAfterInsertion_234 (by omega) (by omega) (fun v M1 hp => ?_)
  obtain ⟨rfl, hM⟩ := hp
  cases hM.symm
  simp only [Option.toList_some, Option.toList_none, List.cons_append, List.nil_append, Nat.add_zero, Nat.zero_add]
  simp only [mR_sI, hp]
  refine g_callS hC (ct_po hB hkp) rfl (by decide) rfl yk_J6_parentOf q1861 q1862 q59 q1863 rfl dJ6_fixAfterInsertion_237 (by omega) (by omega) (fun v M1 hp => ?_)
  obtain ⟨rfl, hM⟩ := hp
  cases hM.symm
  simp only [Option.toList_some, Option.toList_none, List.cons_append, List.nil_append, Nat.add_zero, Nat.zero_add]
  simp only [mR_sI, hg]
  refine g_iconst (v := 0) hC dJ6_fixAfterInsertion_240 (by decide) ?_
  refine g_callS hC (ct_sc hB hkg b01.z) rfl (by decide) rfl yk_J6_setColor q1873 q1874 q59 q1875 rfl dJ6_fixAfterInsertion_241 (by omega) (by omega) (fun v M1 hp => ?_)
  obtain ⟨rfl, hM⟩ := hp
  cases hM.symm
  simp only [Option.toList_some, Option.toList_none, List.cons_append, List.nil_append, Nat.add_zero, Nat.zero_add]
  refine g_aload_n hC dJ6_fixAfterInsertion_244 rfl ?_
  refine g_aload_n hC dJ6_fixAfterInsertion_245 rfl ?_
  refine g_callS hC (ct_po hB hkx) rfl (by decide) rfl yk_J6_parentOf q1861 q1862 q59 q1863 rfl dJ6_fixAfterInsertion_246 (by omega) (by omega) (fun v M1 hp => ?_)
  obtain ⟨rfl, hM⟩ := hp
  cases hM.symm
  simp only [Option.toList_some, Option.toList_none, List.cons_append, List.nil_append, Nat.add_zero, Nat.zero_add]
  simp only [mR_sI, hp]
  refine g_callS hC (ct_po hB hkp) rfl (by decide) rfl yk_J6_parentOf q1861 q1862 q59 q1863 rfl dJ6_fixAfterInsertion_249 (by omega) (by omega) (fun v M1 hp => ?_)
  obtain ⟨rfl, hM⟩ := hp
  cases hM.symm
  simp only [Option.toList_some, Option.toList_none, List.cons_append, List.nil_append, Nat.add_zero, Nat.zero_add]
  simp only [mR_sI, hg]
  have hF2 := (hF.col hpN b01.o).col hgN b01.z
  refine g_callV hC (by first | with_reducible rfl | with_reducible assumption | (simp only [mR_sI, mR_sL]; with_reducible assumption) | exact rfl | assumption) (Rk.o (ci := 8) (by first | with_reducible assumption | (simp only [mK_sI, mK_sR, mK_sL, mK_sO]; with_reducible assumption) | assumption | (simp only [mK_sI, mK_sR, mK_sL, mK_sO, mK_nw, mK_sK]; first | assumption | (simp only [*]; done))) rfl) (ct_rotL hB hF2.2.2.2.2.2.2.1 hF2.1 hgN hgl) rfl (by decide) rfl rfl yk_J6_rotateLeft q1876 q1878 qs15 q59 q1879 rfl dJ6_fixAfterInsertion_252 (by omega) (by omega) (fun v M1 hp => ?_)
  obtain ⟨rfl, hR⟩ := hp
  simp only [Option.toList_some, Option.toList_none, List.cons_append, List.nil_append, Nat.add_zero, Nat.zero_add]
  refine g_goto hC 5 dJ6_fixAfterInsertion_255 (by decide) ?_
  have hF3 := hF2.rl hgN hgl hR
  obtain ⟨h1, h2, h3, h4, h5, h6, h7, h8, h9, h10⟩ := hF.1.1
  obtain ⟨a1, a2, a3, a4, a5, a6, a7, a8, a9, a10, a11, a12, hS⟩ := hR
  have b1 := h2 x hx
  have b2 := h2 p hpN
  have b3 := h2 g hgN
  have c1 := h6 g p hgN hgl
  have c2 := h6 p x hpN hpl
  have x1 : x ≠ g := by intro e; subst e; omega
  have x2 : x ≠ p := by intro e; subst e; omega
  have x3 : p ≠ g := by intro e; subst e; omega
  have x4 : mR M p 2 ≠ some x := by intro e; have := h4 p x hpN e; omega
  refine fi_exit hB h0 C hC hQ M1 _ _ x p b hF3 hx ?_ ?_
  · rw [a6 x x1 x2 x4]; exact hp
  · rw [(hS.2.1 p 5).1]; simp [mI_sI, x3]
theorem fi_outerC (hB : Base G) (h0 : 0 < n) : ∀ C, Ok C G cJ6_fixAfterInsertion RJ6 "fixAfterInsertion" 2 0 0 → Rt C G none 0 0 (fun v M' => v = none ∧ ∃ lo' hi', Fx M0 M' ρ t n ad ps lo' hi') → ∀ (M : Mem) (lo hi : Nat → Nat) (x p : Nat) (b : Option Sv), Fx M0 M ρ t n ad ps lo hi → Nd n ad ps x → Nd n ad ps p → mR M x 4 = some p → mR M p 4 = none → Go C 225 [some (vr (some t)), some (vr (some x)), b] [] M 0 0 := by
  intro C hC hQ M lo hi x p b hF hx hpN hp hg
  have hkt := hF.2.2.2.2.2.2.1
  have hkx := (hF.1.2 x hx).1
  have hkp := (hF.1.2 p hpN).1
  refine g_aload_n hC dJ6_fixAfterInsertion_225 rfl ?_
  refine g_callS hC (ct_po hB hkx) rfl (by decide) rfl yk_J6_parentOf q1861 q1862 q59 q1863 rfl dJ6_fixAfterInsertion_226 (by omega) (by omega) (fun v M1 hp => ?_)
  obtain ⟨rfl, hM⟩ := hp
  cases hM.symm
  simp only [Option.toList_some, Option.toList_none, List.cons_append, List.nil_append, Nat.add_zero, Nat.zero_add]
  simp only [mR_sI, hp]
  refine g_iconst (v := 1) hC dJ6_fixAfterInsertion_229 (by decide) ?_
  refine g_callS hC (ct_sc hB hkp b01.o) rfl (by decide) rfl yk_J6_setColor q1873 q1874 q59 q1875 rfl dJ6_fixAfterInsertion_230 (by omega) (by omega) (fun v M1 hp => ?_)
  obtain ⟨rfl, hM⟩ := hp
  cases hM.symm
  simp only [Option.toList_some, Option.toList_none, List.cons_append, List.nil_append, Nat.add_zero, Nat.zero_add]
  refine g_aload_n hC dJ6_fixAfterInsertion_233 rfl ?_
  refine g_callS hC (ct_po hB hkx) rfl (by decide) rfl yk_J6_parentOf q1861 q1862 q59 q1863 rfl dJ6_fixAfterInsertion_234 (by omega) (by omega) (fun v M1 hp => ?_)
  obtain ⟨rfl, hM⟩ := hp
  cases hM.symm
  simp only [Option.toList_some, Option.toList_none, List.cons_append, List.nil_append, Nat.add_zero, Nat.zero_add]
  simp only [mR_sI, hp]
  refine g_callS hC (ct_po hB hkp) rfl (by decide) rfl yk_J6_parentOf q1861 q1862 q59 q1863 rfl dJ6_fixAfterInsertion_237 (by omega) (by omega) (fun v M1 hp => ?_)
  obtain ⟨rfl, hM⟩ := hp
  cases hM.symm
  simp only [Option.toList_some, Option.toList_none, List.cons_append, List.nil_append, Nat.add_zero, Nat.zero_add]
  simp only [mR_sI, hg]
  refine g_iconst (v := 0) hC dJ6_fixAfterInsertion_240 (by decide) ?_
  refine g_callS hC (ct_sc0 hB) rfl (by decide) rfl yk_J6_setColor q1873 q1874 q59 q1875 rfl dJ6_fixAfterInsertion_241 (by omega) (by omega) (fun v M1 hp => ?_)
  obtain ⟨rfl, hM⟩ := hp
  cases hM.symm
  simp only [Option.toList_some, Option.toList_none, List.cons_append, List.nil_append, Nat.add_zero, Nat.zero_add]
  refine g_aload_n hC dJ6_fixAfterInsertion_244 rfl ?_
  refine g_aload_n hC dJ6_fixAfterInsertion_245 rfl ?_
  refine g_callS hC (ct_po hB hkx) rfl (by decide) rfl yk_J6_parentOf q1861 q1862 q59 q1863 rfl dJ6_fixAfterInsertion_246 (by omega) (by omega) (fun v M1 hp => ?_)
  obtain ⟨rfl, hM⟩ := hp
  cases hM.symm
  simp only [Option.toList_some, Option.toList_none, List.cons_append, List.nil_append, Nat.add_zero, Nat.zero_add]
  simp only [mR_sI, hp]
  refine g_callS hC (ct_po hB hkp) rfl (by decide) rfl yk_J6_parentOf q1861 q1862 q59 q1863 rfl dJ6_fixAfterInsertion_249 (by omega) (by omega) (fun v M1 hp => ?_)
  obtain ⟨rfl, hM⟩ := hp
  cases hM.symm
  simp only [Option.toList_some, Option.toList_none, List.cons_append, List.nil_append, Nat.add_zero, Nat.zero_add]
  simp only [mR_sI, hg]
  refine g_callV hC (by first | with_reducible rfl | with_reducible assumption | (simp only [mR_sI, mR_sL]; with_reducible assumption) | exact rfl | assumption) (Rk.o (ci := 8) (by first | with_reducible assumption | (simp only [mK_sI, mK_sR, mK_sL, mK_sO]; with_reducible assumption) | assumption | (simp only [mK_sI, mK_sR, mK_sL, mK_sO, mK_nw, mK_sK]; first | assumption | (simp only [*]; done))) rfl) (ct_rotL0 hB t) rfl (by decide) rfl rfl yk_J6_rotateLeft q1876 q1878 qs15 q59 q1879 rfl dJ6_fixAfterInsertion_252 (by omega) (by omega) (fun v M1 hp => ?_)
  obtain ⟨rfl, hM⟩ := hp
  cases hM.symm
  simp only [Option.toList_some, Option.toList_none, List.cons_append, List.nil_append, Nat.add_zero, Nat.zero_add]
  refine g_goto hC 5 dJ6_fixAfterInsertion_255 (by decide) ?_
  refine fi_exit hB h0 C hC hQ _ _ _ x p b (hF.col hpN b01.o) hx hp ?_
  simp [mI_sI]
theorem fi_loop (hB : Base G) (h0 : 0 < n) : ∀ C, Ok C G cJ6_fixAfterInsertion RJ6 "fixAfterInsertion" 2 0 0 → Rt C G none 0 0 (fun v M' => v = none ∧ ∃ lo' hi', Fx M0 M' ρ t n ad ps lo' hi') → ∀ (m : Nat) (M : Mem) (lo hi : Nat → Nat) (x : Nat) (b : Option Sv), Fx M0 M ρ t n ad ps lo hi → Nd n ad ps x → n < hi x - lo x + m → Go C 5 [some (vr (some t)), some (vr (some x)), b] [] M 0 0 := by
  intro C hC hQ m
  induction m with
  | zero =>
    intro M lo hi x b hF hx hm
    have := hF.1.1.2.1 x hx
    omega
  | succ m ih =>
    intro M lo hi x b hF hx hm
    have hkt := hF.2.2.2.2.2.2.1
    obtain ⟨h1, h2, h3, h4, h5, h6, h7, h8, h9, h10⟩ := hF.1.1
    have hk := fun y hy => (hF.1.2 y hy).1
    have hkx := hk x hx
    have hx2 := h2 x hx
    refine g_aload_n hC dJ6_fixAfterInsertion_5 rfl ?_
    refine g_ifnull hC 258 dJ6_fixAfterInsertion_6 (by decide) (fun hc => ?_) (fun y6 hc => ?_)
    · cases hc
    · refine g_aload_n hC dJ6_fixAfterInsertion_9 rfl ?_
      refine g_aload_n hC dJ6_fixAfterInsertion_10 rfl ?_
      refine g_getR hC (ci := 8) (by first | with_reducible rfl | with_reducible assumption | (simp only [mR_sI, mR_sL]; with_reducible assumption) | exact rfl | assumption) (by first | with_reducible assumption | (simp only [mK_sI, mK_sR, mK_sL, mK_sO]; with_reducible assumption) | assumption | (simp only [mK_sI, mK_sR, mK_sL, mK_sO, mK_nw, mK_sK]; first | assumption | (simp only [*]; done))) rfl 3 (by decide) q273 (Or.inl rfl) rfl dJ6_fixAfterInsertion_11 ?_
      refine g_acmp_eq hC 258 dJ6_fixAfterInsertion_14 (by decide) (fun hc2 => ?_) (fun hc2 => ?_)
      · exact fi_end hB h0 C hC hQ M lo hi _ _ hF
      · obtain ⟨p, hp⟩ : ∃ p, mR M x 4 = some p := by
          cases e : mR M x 4 with
          | none => exact absurd (h7 x hx e).symm hc2
          | some p => exact ⟨p, rfl⟩
        obtain ⟨hpN, hpc⟩ := h8 x p hx hp
        have hkp := hk p hpN
        have hp2 := h2 p hpN
        refine g_aload_n hC dJ6_fixAfterInsertion_17 rfl ?_
        refine g_getR hC (ci := 9) (by first | with_reducible rfl | with_reducible assumption | (simp only [mR_sI, mR_sL]; with_reducible assumption) | exact rfl | assumption) (by first | with_reducible assumption | (simp only [mK_sI, mK_sR, mK_sL, mK_sO]; with_reducible assumption) | assumption | (simp only [mK_sI, mK_sR, mK_sL, mK_sO, mK_nw, mK_sK]; first | assumption | (simp only [*]; done))) rfl 4 (by decide) q984 (Or.inl rfl) rfl dJ6_fixAfterInsertion_18 ?_
        refine g_getI hC (ci := 9) (by first | with_reducible rfl | with_reducible assumption | (simp only [mR_sI, mR_sL]; with_reducible assumption) | exact rfl | assumption) (by first | with_reducible assumption | (simp only [mK_sI, mK_sR, mK_sL, mK_sO]; with_reducible assumption) | assumption | (simp only [mK_sI, mK_sR, mK_sL, mK_sO, mK_nw, mK_sK]; first | assumption | (simp only [*]; done))) rfl 5 (by decide) q986 (Or.inl rfl) rfl dJ6_fixAfterInsertion_21 ?_
        refine g_if_ne hC 258 dJ6_fixAfterInsertion_24 (by decide) (fun hc3 => ?_) (fun hc3 => ?_)
        · exact fi_end hB h0 C hC hQ M lo hi _ _ hF
        · refine g_aload_n hC dJ6_fixAfterInsertion_27 rfl ?_
          refine g_callS hC (ct_po hB hkx) rfl (by decide) rfl yk_J6_parentOf q1861 q1862 q59 q1863 rfl dJ6_fixAfterInsertion_28 (by omega) (by omega) (fun v M1 hp => ?_)
          obtain ⟨rfl, hM⟩ := hp
          cases hM.symm
          simp only [Option.toList_some, Option.toList_none, List.cons_append, List.nil_append, Nat.add_zero, Nat.zero_add]
          simp only [mR_sI, hp]
          refine g_aload_n hC dJ6_fixAfterInsertion_31 rfl ?_
          refine g_callS hC (ct_po hB hkx) rfl (by decide) rfl yk_J6_parentOf q1861 q1862 q59 q1863 rfl dJ6_fixAfterInsertion_32 (by omega) (by omega) (fun v M1 hp => ?_)
          obtain ⟨rfl, hM⟩ := hp
          cases hM.symm
          simp only [Option.toList_some, Option.toList_none, List.cons_append, List.nil_append, Nat.add_zero, Nat.zero_add]
          simp only [mR_sI, hp]
          refine g_callS hC (ct_po hB hkp) rfl (by decide) rfl yk_J6_parentOf q1861 q1862 q59 q1863 rfl dJ6_fixAfterInsertion_35 (by omega) (by omega) (fun v M1 hp => ?_)
          obtain ⟨rfl, hM⟩ := hp
          cases hM.symm
          simp only [Option.toList_some, Option.toList_none, List.cons_append, List.nil_append, Nat.add_zero, Nat.zero_add]
          rcases hg : mR M p 4 with _ | g
          · refine g_callS hC (ct_lo0 hB) rfl (by decide) rfl yk_J6_leftOf q1864 q1865 q59 q1866 rfl dJ6_fixAfterInsertion_38 (by omega) (by omega) (fun v M1 hp => ?_)
            obtain ⟨rfl, hM⟩ := hp
            cases hM.symm
            simp only [Option.toList_some, Option.toList_none, List.cons_append, List.nil_append, Nat.add_zero, Nat.zero_add]
            refine g_acmp_ne hC 151 dJ6_fixAfterInsertion_41 (by decide) (fun hc4 => ?_) (fun hc4 => ?_)
            · refine g_aload_n hC dJ6_fixAfterInsertion_151 rfl ?_
              refine g_callS hC (ct_po hB hkx) rfl (by decide) rfl yk_J6_parentOf q1861 q1862 q59 q1863 rfl dJ6_fixAfterInsertion_152 (by omega) (by omega) (fun v M1 hp => ?_)
              obtain ⟨rfl, hM⟩ := hp
              cases hM.symm
              simp only [Option.toList_some, Option.toList_none, List.cons_append, List.nil_append, Nat.add_zero, Nat.zero_add]
              simp only [mR_sI, hp]
              refine g_callS hC (ct_po hB hkp) rfl (by decide) rfl yk_J6_parentOf q1861 q1862 q59 q1863 rfl dJ6_fixAfterInsertion_155 (by omega) (by omega) (fun v M1 hp => ?_)
              obtain ⟨rfl, hM⟩ := hp
              cases hM.symm
              simp only [Option.toList_some, Option.toList_none, List.cons_append, List.nil_append, Nat.add_zero, Nat.zero_add]
              simp only [mR_sI, hg]
              refine g_callS hC (ct_lo0 hB) rfl (by decide) rfl yk_J6_leftOf q1864 q1865 q59 q1866 rfl dJ6_fixAfterInsertion_158 (by omega) (by omega) (fun v M1 hp => ?_)
              obtain ⟨rfl, hM⟩ := hp
              cases hM.symm
              simp only [Option.toList_some, Option.toList_none, List.cons_append, List.nil_append, Nat.add_zero, Nat.zero_add]
              refine g_astore_n hC dJ6_fixAfterInsertion_161 rfl rfl ?_
              try simp only [stL, clr]
              refine g_aload_n hC dJ6_fixAfterInsertion_162 rfl ?_
              refine g_callS hC (ct_co hB none (fun a e => by cases e)) rfl (by decide) rfl yk_J6_colorOf q1870 q1871 q59 q1872 rfl dJ6_fixAfterInsertion_163 (by omega) (by omega) (fun v M1 hp => ?_)
              obtain ⟨rfl, hM⟩ := hp
              cases hM.symm
              simp only [Option.toList_some, Option.toList_none, List.cons_append, List.nil_append, Nat.add_zero, Nat.zero_add]
              refine g_if_ne hC 204 dJ6_fixAfterInsertion_166 (by decide) (fun hc5 => ?_) (fun hc5 => ?_)
              · refine g_aload_n hC dJ6_fixAfterInsertion_204 rfl ?_
                refine g_aload_n hC dJ6_fixAfterInsertion_205 rfl ?_
                refine g_callS hC (ct_po hB hkx) rfl (by decide) rfl yk_J6_parentOf q1861 q1862 q59 q1863 rfl dJ6_fixAfterInsertion_206 (by omega) (by omega) (fun v M1 hp => ?_)
                obtain ⟨rfl, hM⟩ := hp
                cases hM.symm
                simp only [Option.toList_some, Option.toList_none, List.cons_append, List.nil_append, Nat.add_zero, Nat.zero_add]
                simp only [mR_sI, hp]
                refine g_callS hC (ct_lo hB hkp) rfl (by decide) rfl yk_J6_leftOf q1864 q1865 q59 q1866 rfl dJ6_fixAfterInsertion_209 (by omega) (by omega) (fun v M1 hp => ?_)
                obtain ⟨rfl, hM⟩ := hp
                cases hM.symm
                simp only [Option.toList_some, Option.toList_none, List.cons_append, List.nil_append, Nat.add_zero, Nat.zero_add]
                refine g_acmp_ne hC 225 dJ6_fixAfterInsertion_212 (by decide) (fun hc6 => ?_) (fun hc6 => ?_)
                · exact fi_outerC hB h0 C hC hQ M lo hi x p _ hF hx hpN hp hg
                · refine g_aload_n hC dJ6_fixAfterInsertion_215 rfl ?_
                  refine g_callS hC (ct_po hB hkx) rfl (by decide) rfl yk_J6_parentOf q1861 q1862 q59 q1863 rfl dJ6_fixAfterInsertion_216 (by omega) (by omega) (fun v M1 hp => ?_)
                  obtain ⟨rfl, hM⟩ := hp
                  cases hM.symm
                  simp only [Option.toList_some, Option.toList_none, List.cons_append, List.nil_append, Nat.add_zero, Nat.zero_add]
                  simp only [mR_sI, hp]
                  refine g_astore_n hC dJ6_fixAfterInsertion_219 rfl rfl ?_
                  try simp only [stL, clr]
                  refine g_aload_n hC dJ6_fixAfterInsertion_220 rfl ?_
                  refine g_aload_n hC dJ6_fixAfterInsertion_221 rfl ?_
                  refine g_callV hC (by first | with_reducible rfl | with_reducible assumption | (simp only [mR_sI, mR_sL]; with_reducible assumption) | exact rfl | assumption) (Rk.o (ci := 8) (by first | with_reducible assumption | (simp only [mK_sI, mK_sR, mK_sL, mK_sO]; with_reducible assumption) | assumption | (simp only [mK_sI, mK_sR, mK_sL, mK_sO, mK_nw, mK_sK]; first | assumption | (simp only [*]; done))) rfl) (ct_rotR hB hkt hF.1 hpN hc6.symm) rfl (by decide) rfl rfl yk_J6_rotateRight q1880 q1882 qs16 q59 q1883 rfl dJ6_fixAfterInsertion_222 (by omega) (by omega) (fun v M1 hp => ?_)
                  obtain ⟨rfl, hR⟩ := hp
                  simp only [Option.toList_some, Option.toList_none, List.cons_append, List.nil_append, Nat.add_zero, Nat.zero_add]
                  exact fi_outerC hB h0 C hC hQ M1 _ _ p x _ (hF.rr hpN hc6.symm hR) hpN hx hR.2.2.1 (by rw [hR.2.2.2.1]; exact hg)
              · simp [cO] at hc5
            · cases hc4
          · obtain ⟨hgN, hgc⟩ := h8 p g hpN hg
            have hkg := hk g hgN
            have hg2 := h2 g hgN
            refine g_callS hC (ct_lo hB hkg) rfl (by decide) rfl yk_J6_leftOf q1864 q1865 q59 q1866 rfl dJ6_fixAfterInsertion_38 (by omega) (by omega) (fun v M1 hp => ?_)
            obtain ⟨rfl, hM⟩ := hp
            cases hM.symm
            simp only [Option.toList_some, Option.toList_none, List.cons_append, List.nil_append, Nat.add_zero, Nat.zero_add]
            refine g_acmp_ne hC 151 dJ6_fixAfterInsertion_41 (by decide) (fun hc4 => ?_) (fun hc4 => ?_)
            · have hgl : mR M g 3 = some p := by
                rcases hgc with e | e
                · exact absurd e.symm hc4
                · exact e
              refine g_aload_n hC dJ6_fixAfterInsertion_151 rfl ?_
              refine g_callS hC (ct_po hB hkx) rfl (by decide) rfl yk_J6_parentOf q1861 q1862 q59 q1863 rfl dJ6_fixAfterInsertion_152 (by omega) (by omega) (fun v M1 hp => ?_)
              obtain ⟨rfl, hM⟩ := hp
              cases hM.symm
              simp only [Option.toList_some, Option.toList_none, List.cons_append, List.nil_append, Nat.add_zero, Nat.zero_add]
              simp only [mR_sI, hp]
              refine g_callS hC (ct_po hB hkp) rfl (by decide) rfl yk_J6_parentOf q1861 q1862 q59 q1863 rfl dJ6_fixAfterInsertion_155 (by omega) (by omega) (fun v M1 hp => ?_)
              obtain ⟨rfl, hM⟩ := hp
              cases hM.symm
              simp only [Option.toList_some, Option.toList_none, List.cons_append, List.nil_append, Nat.add_zero, Nat.zero_add]
              simp only [mR_sI, hg]
              refine g_callS hC (ct_lo hB hkg) rfl (by decide) rfl yk_J6_leftOf q1864 q1865 q59 q1866 rfl dJ6_fixAfterInsertion_158 (by omega) (by omega) (fun v M1 hp => ?_)
              obtain ⟨rfl, hM⟩ := hp
              cases hM.symm
              simp only [Option.toList_some, Option.toList_none, List.cons_append, List.nil_append, Nat.add_zero, Nat.zero_add]
              refine g_astore_n hC dJ6_fixAfterInsertion_161 rfl rfl ?_
              try simp only [stL, clr]
              refine g_aload_n hC dJ6_fixAfterInsertion_162 rfl ?_
              refine g_callS hC (ct_co hB (mR M g 2) (fun a e => ⟨hk a (h4 g a hgN e).1, hF.2.1 a (h4 g a hgN e).1⟩)) rfl (by decide) rfl yk_J6_colorOf q1870 q1871 q59 q1872 rfl dJ6_fixAfterInsertion_163 (by omega) (by omega) (fun v M1 hp => ?_)
              obtain ⟨rfl, hM⟩ := hp
              cases hM.symm
              simp only [Option.toList_some, Option.toList_none, List.cons_append, List.nil_append, Nat.add_zero, Nat.zero_add]
              refine g_if_ne hC 204 dJ6_fixAfterInsertion_166 (by decide) (fun hc5 => ?_) (fun hc5 => ?_)
              · refine g_aload_n hC dJ6_fixAfterInsertion_204 rfl ?_
                refine g_aload_n hC dJ6_fixAfterInsertion_205 rfl ?_
                refine g_callS hC (ct_po hB hkx) rfl (by decide) rfl yk_J6_parentOf q1861 q1862 q59 q1863 rfl dJ6_fixAfterInsertion_206 (by omega) (by omega) (fun v M1 hp => ?_)
                obtain ⟨rfl, hM⟩ := hp
                cases hM.symm
                simp only [Option.toList_some, Option.toList_none, List.cons_append, List.nil_append, Nat.add_zero, Nat.zero_add]
                simp only [mR_sI, hp]
                refine g_callS hC (ct_lo hB hkp) rfl (by decide) rfl yk_J6_leftOf q1864 q1865 q59 q1866 rfl dJ6_fixAfterInsertion_209 (by omega) (by omega) (fun v M1 hp => ?_)
                obtain ⟨rfl, hM⟩ := hp
                cases hM.symm
                simp only [Option.toList_some, Option.toList_none, List.cons_append, List.nil_append, Nat.add_zero, Nat.zero_add]
                refine g_acmp_ne hC 225 dJ6_fixAfterInsertion_212 (by decide) (fun hc6 => ?_) (fun hc6 => ?_)
                · have hpl : mR M p 3 = some x := by
                    rcases hpc with e | e
                    · exact absurd e.symm hc6
                    · exact e
                  exact fi_outerB hB h0 C hC hQ M lo hi x p g _ hF hx hpN hgN hp hg hgl hpl
                · refine g_aload_n hC dJ6_fixAfterInsertion_215 rfl ?_
                  refine g_callS hC (ct_po hB hkx) rfl (by decide) rfl yk_J6_parentOf q1861 q1862 q59 q1863 rfl dJ6_fixAfterInsertion_216 (by omega) (by omega) (fun v M1 hp => ?_)
                  obtain ⟨rfl, hM⟩ := hp
                  cases hM.symm
                  simp only [Option.toList_some, Option.toList_none, List.cons_append, List.nil_append, Nat.add_zero, Nat.zero_add]
                  simp only [mR_sI, hp]
                  refine g_astore_n hC dJ6_fixAfterInsertion_219 rfl rfl ?_
                  try simp only [stL, clr]
                  refine g_aload_n hC dJ6_fixAfterInsertion_220 rfl ?_
                  refine g_aload_n hC dJ6_fixAfterInsertion_221 rfl ?_
                  refine g_callV hC (by first | with_reducible rfl | with_reducible assumption | (simp only [mR_sI, mR_sL]; with_reducible assumption) | exact rfl | assumption) (Rk.o (ci := 8) (by first | with_reducible assumption | (simp only [mK_sI, mK_sR, mK_sL, mK_sO]; with_reducible assumption) | assumption | (simp only [mK_sI, mK_sR, mK_sL, mK_sO, mK_nw, mK_sK]; first | assumption | (simp only [*]; done))) rfl) (ct_rotR hB hkt hF.1 hpN hc6.symm) rfl (by decide) rfl rfl yk_J6_rotateRight q1880 q1882 qs16 q59 q1883 rfl dJ6_fixAfterInsertion_222 (by omega) (by omega) (fun v M1 hp => ?_)
                  obtain ⟨rfl, hR⟩ := hp
                  simp only [Option.toList_some, Option.toList_none, List.cons_append, List.nil_append, Nat.add_zero, Nat.zero_add]
                  exact fi_outerB hB h0 C hC hQ M1 _ _ p x g _ (hF.rr hpN hc6.symm hR) hpN hx hgN hR.2.2.1 (by rw [hR.2.2.2.1]; exact hg) (hR.2.2.2.2.2.2.2.2.1 g hg hgl) hR.2.1
              · rcases hy : mR M g 2 with _ | y
                · rw [hy] at hc5; simp [cO] at hc5
                · obtain ⟨hyN, hyc, hy3, hy4⟩ := h4 g y hgN hy
                  have hky := hk y hyN
                  refine g_aload_n hC dJ6_fixAfterInsertion_169 rfl ?_
                  refine g_callS hC (ct_po hB hkx) rfl (by decide) rfl yk_J6_parentOf q1861 q1862 q59 q1863 rfl dJ6_fixAfterInsertion_170 (by omega) (by omega) (fun v M1 hp => ?_)
                  obtain ⟨rfl, hM⟩ := hp
                  cases hM.symm
                  simp only [Option.toList_some, Option.toList_none, List.cons_append, List.nil_append, Nat.add_zero, Nat.zero_add]
                  simp only [mR_sI, hp]
                  refine g_iconst (v := 1) hC dJ6_fixAfterInsertion_173 (by decide) ?_
                  refine g_callS hC (ct_sc hB hkp b01.o) rfl (by decide) rfl yk_J6_setColor q1873 q1874 q59 q1875 rfl dJ6_fixAfterInsertion_174 (by omega) (by omega) (fun v M1 hp => ?_)
                  obtain ⟨rfl, hM⟩ := hp
                  cases hM.symm
                  simp only [Option.toList_some, Option.toList_none, List.cons_append, List.nil_append, Nat.add_zero, Nat.zero_add]
                  refine g_aload_n hC dJ6_fixAfterInsertion_177 rfl ?_
                  refine g_iconst (v := 1) hC dJ6_fixAfterInsertion_178 (by decide) ?_
                  refine g_callS hC (ct_sc hB hky b01.o) rfl (by decide) rfl yk_J6_setColor q1873 q1874 q59 q1875 rfl dJ6_fixAfterInsertion_179 (by omega) (by omega) (fun v M1 hp => ?_)
                  obtain ⟨rfl, hM⟩ := hp
                  cases hM.symm
                  simp only [Option.toList_some, Option.toList_none, List.cons_append, List.nil_append, Nat.add_zero, Nat.zero_add]
                  refine g_aload_n hC dJ6_fixAfterInsertion_182 rfl ?_
                  refine g_callS hC (ct_po hB hkx) rfl (by decide) rfl yk_J6_parentOf q1861 q1862 q59 q1863 rfl dJ6_fixAfterInsertion_183 (by omega) (by omega) (fun v M1 hp => ?_)
                  obtain ⟨rfl, hM⟩ := hp
                  cases hM.symm
                  simp only [Option.toList_some, Option.toList_none, List.cons_append, List.nil_append, Nat.add_zero, Nat.zero_add]
                  simp only [mR_sI, hp]
                  refine g_callS hC (ct_po hB hkp) rfl (by decide) rfl yk_J6_parentOf q1861 q1862 q59 q1863 rfl dJ6_fixAfterInsertion_186 (by omega) (by omega) (fun v M1 hp => ?_)
                  obtain ⟨rfl, hM⟩ := hp
                  cases hM.symm
                  simp only [Option.toList_some, Option.toList_none, List.cons_append, List.nil_append, Nat.add_zero, Nat.zero_add]
                  simp only [mR_sI, hg]
                  refine g_iconst (v := 0) hC dJ6_fixAfterInsertion_189 (by decide) ?_
                  refine g_callS hC (ct_sc hB hkg b01.z) rfl (by decide) rfl yk_J6_setColor q1873 q1874 q59 q1875 rfl dJ6_fixAfterInsertion_190 (by omega) (by omega) (fun v M1 hp => ?_)
                  obtain ⟨rfl, hM⟩ := hp
                  cases hM.symm
                  simp only [Option.toList_some, Option.toList_none, List.cons_append, List.nil_append, Nat.add_zero, Nat.zero_add]
                  refine g_aload_n hC dJ6_fixAfterInsertion_193 rfl ?_
                  refine g_callS hC (ct_po hB hkx) rfl (by decide) rfl yk_J6_parentOf q1861 q1862 q59 q1863 rfl dJ6_fixAfterInsertion_194 (by omega) (by omega) (fun v M1 hp => ?_)
                  obtain ⟨rfl, hM⟩ := hp
                  cases hM.symm
                  simp only [Option.toList_some, Option.toList_none, List.cons_append, List.nil_append, Nat.add_zero, Nat.zero_add]
                  simp only [mR_sI, hp]
                  refine g_callS hC (ct_po hB hkp) rfl (by decide) rfl yk_J6_parentOf q1861 q1862 q59 q1863 rfl dJ6_fixAfterInsertion_197 (by omega) (by omega) (fun v M1 hp => ?_)
                  obtain ⟨rfl, hM⟩ := hp
                  cases hM.symm
                  simp only [Option.toList_some, Option.toList_none, List.cons_append, List.nil_append, Nat.add_zero, Nat.zero_add]
                  simp only [mR_sI, hg]
                  refine g_astore_n hC dJ6_fixAfterInsertion_200 rfl rfl ?_
                  try simp only [stL, clr]
                  refine g_goto hC 255 dJ6_fixAfterInsertion_201 (by decide) ?_
                  refine g_goto hC 5 dJ6_fixAfterInsertion_255 (by decide) ?_
                  have hh := h6 g p hgN hgl
                  have hh2 : hi x - lo x < hi p - lo p := by
                    rcases hpc with e | e
                    · have := h4 p x hpN e; omega
                    · have := h6 p x hpN e; omega
                  exact ih _ lo hi g _ (((hF.col hpN b01.o).col hyN b01.o).col hgN b01.z) hgN (by omega)
            · have hgl : mR M g 2 = some p := hc4.symm
              refine g_aload_n hC dJ6_fixAfterInsertion_44 rfl ?_
              refine g_callS hC (ct_po hB hkx) rfl (by decide) rfl yk_J6_parentOf q1861 q1862 q59 q1863 rfl dJ6_fixAfterInsertion_45 (by omega) (by omega) (fun v M1 hp => ?_)
              obtain ⟨rfl, hM⟩ := hp
              cases hM.symm
              simp only [Option.toList_some, Option.toList_none, List.cons_append, List.nil_append, Nat.add_zero, Nat.zero_add]
              simp only [mR_sI, hp]
              refine g_callS hC (ct_po hB hkp) rfl (by decide) rfl yk_J6_parentOf q1861 q1862 q59 q1863 rfl dJ6_fixAfterInsertion_48 (by omega) (by omega) (fun v M1 hp => ?_)
              obtain ⟨rfl, hM⟩ := hp
              cases hM.symm
              simp only [Option.toList_some, Option.toList_none, List.cons_append, List.nil_append, Nat.add_zero, Nat.zero_add]
              simp only [mR_sI, hg]
              refine g_callS hC (ct_ro hB hkg) rfl (by decide) rfl yk_J6_rightOf q1867 q1868 q59 q1869 rfl dJ6_fixAfterInsertion_51 (by omega) (by omega) (fun v M1 hp => ?_)
              obtain ⟨rfl, hM⟩ := hp
              cases hM.symm
              simp only [Option.toList_some, Option.toList_none, List.cons_append, List.nil_append, Nat.add_zero, Nat.zero_add]
              refine g_astore_n hC dJ6_fixAfterInsertion_54 rfl rfl ?_
              try simp only [stL, clr]
              refine g_aload_n hC dJ6_fixAfterInsertion_55 rfl ?_
              refine g_callS hC (ct_co hB (mR M g 3) (fun a e => ⟨hk a (h6 g a hgN e).1, hF.2.1 a (h6 g a hgN e).1⟩)) rfl (by decide) rfl yk_J6_colorOf q1870 q1871 q59 q1872 rfl dJ6_fixAfterInsertion_56 (by omega) (by omega) (fun v M1 hp => ?_)
              obtain ⟨rfl, hM⟩ := hp
              cases hM.symm
              simp only [Option.toList_some, Option.toList_none, List.cons_append, List.nil_append, Nat.add_zero, Nat.zero_add]
              refine g_if_ne hC 97 dJ6_fixAfterInsertion_59 (by decide) (fun hc5 => ?_) (fun hc5 => ?_)
              · refine g_aload_n hC dJ6_fixAfterInsertion_97 rfl ?_
                refine g_aload_n hC dJ6_fixAfterInsertion_98 rfl ?_
                refine g_callS hC (ct_po hB hkx) rfl (by decide) rfl yk_J6_parentOf q1861 q1862 q59 q1863 rfl dJ6_fixAfterInsertion_99 (by omega) (by omega) (fun v M1 hp => ?_)
                obtain ⟨rfl, hM⟩ := hp
                cases hM.symm
                simp only [Option.toList_some, Option.toList_none, List.cons_append, List.nil_append, Nat.add_zero, Nat.zero_add]
                simp only [mR_sI, hp]
                refine g_callS hC (ct_ro hB hkp) rfl (by decide) rfl yk_J6_rightOf q1867 q1868 q59 q1869 rfl dJ6_fixAfterInsertion_102 (by omega) (by omega) (fun v M1 hp => ?_)
                obtain ⟨rfl, hM⟩ := hp
                cases hM.symm
                simp only [Option.toList_some, Option.toList_none, List.cons_append, List.nil_append, Nat.add_zero, Nat.zero_add]
                refine g_acmp_ne hC 118 dJ6_fixAfterInsertion_105 (by decide) (fun hc6 => ?_) (fun hc6 => ?_)
                · have hpl : mR M p 2 = some x := by
                    rcases hpc with e | e
                    · exact e
                    · exact absurd e.symm hc6
                  exact fi_outerA hB h0 C hC hQ M lo hi x p g _ hF hx hpN hgN hp hg hgl hpl
                · refine g_aload_n hC dJ6_fixAfterInsertion_108 rfl ?_
                  refine g_callS hC (ct_po hB hkx) rfl (by decide) rfl yk_J6_parentOf q1861 q1862 q59 q1863 rfl dJ6_fixAfterInsertion_109 (by omega) (by omega) (fun v M1 hp => ?_)
                  obtain ⟨rfl, hM⟩ := hp
                  cases hM.symm
                  simp only [Option.toList_some, Option.toList_none, List.cons_append, List.nil_append, Nat.add_zero, Nat.zero_add]
                  simp only [mR_sI, hp]
                  refine g_astore_n hC dJ6_fixAfterInsertion_112 rfl rfl ?_
                  try simp only [stL, clr]
                  refine g_aload_n hC dJ6_fixAfterInsertion_113 rfl ?_
                  refine g_aload_n hC dJ6_fixAfterInsertion_114 rfl ?_
                  refine g_callV hC (by first | with_reducible rfl | with_reducible assumption | (simp only [mR_sI, mR_sL]; with_reducible assumption) | exact rfl | assumption) (Rk.o (ci := 8) (by first | with_reducible assumption | (simp only [mK_sI, mK_sR, mK_sL, mK_sO]; with_reducible assumption) | assumption | (simp only [mK_sI, mK_sR, mK_sL, mK_sO, mK_nw, mK_sK]; first | assumption | (simp only [*]; done))) rfl) (ct_rotL hB hkt hF.1 hpN hc6.symm) rfl (by decide) rfl rfl yk_J6_rotateLeft q1876 q1878 qs15 q59 q1879 rfl dJ6_fixAfterInsertion_115 (by omega) (by omega) (fun v M1 hp => ?_)
                  obtain ⟨rfl, hR⟩ := hp
                  simp only [Option.toList_some, Option.toList_none, List.cons_append, List.nil_append, Nat.add_zero, Nat.zero_add]
                  exact fi_outerA hB h0 C hC hQ M1 _ _ p x g _ (hF.rl hpN hc6.symm hR) hpN hx hgN hR.2.2.1 (by rw [hR.2.2.2.1]; exact hg) (hR.2.2.2.2.2.2.2.2.1 g hg hgl) hR.2.1
              · rcases hy : mR M g 3 with _ | y
                · rw [hy] at hc5; simp [cO] at hc5
                · obtain ⟨hyN, hyc, hy3, hy4⟩ := h6 g y hgN hy
                  have hky := hk y hyN
                  refine g_aload_n hC dJ6_fixAfterInsertion_62 rfl ?_
                  refine g_callS hC (ct_po hB hkx) rfl (by decide) rfl yk_J6_parentOf q1861 q1862 q59 q1863 rfl dJ6_fixAfterInsertion_63 (by omega) (by omega) (fun v M1 hp => ?_)
                  obtain ⟨rfl, hM⟩ := hp
                  cases hM.symm
                  simp only [Option.toList_some, Option.toList_none, List.cons_append, List.nil_append, Nat.add_zero, Nat.zero_add]
                  simp only [mR_sI, hp]
                  refine g_iconst (v := 1) hC dJ6_fixAfterInsertion_66 (by decide) ?_
                  refine g_callS hC (ct_sc hB hkp b01.o) rfl (by decide) rfl yk_J6_setColor q1873 q1874 q59 q1875 rfl dJ6_fixAfterInsertion_67 (by omega) (by omega) (fun v M1 hp => ?_)
                  obtain ⟨rfl, hM⟩ := hp
                  cases hM.symm
                  simp only [Option.toList_some, Option.toList_none, List.cons_append, List.nil_append, Nat.add_zero, Nat.zero_add]
                  refine g_aload_n hC dJ6_fixAfterInsertion_70 rfl ?_
                  refine g_iconst (v := 1) hC dJ6_fixAfterInsertion_71 (by decide) ?_
                  refine g_callS hC (ct_sc hB hky b01.o) rfl (by decide) rfl yk_J6_setColor q1873 q1874 q59 q1875 rfl dJ6_fixAfterInsertion_72 (by omega) (by omega) (fun v M1 hp => ?_)
                  obtain ⟨rfl, hM⟩ := hp
                  cases hM.symm
                  simp only [Option.toList_some, Option.toList_none, List.cons_append, List.nil_append, Nat.add_zero, Nat.zero_add]
                  refine g_aload_n hC dJ6_fixAfterInsertion_75 rfl ?_
                  refine g_callS hC (ct_po hB hkx) rfl (by decide) rfl yk_J6_parentOf q1861 q1862 q59 q1863 rfl dJ6_fixAfterInsertion_76 (by omega) (by omega) (fun v M1 hp => ?_)
                  obtain ⟨rfl, hM⟩ := hp
                  cases hM.symm
                  simp only [Option.toList_some, Option.toList_none, List.cons_append, List.nil_append, Nat.add_zero, Nat.zero_add]
                  simp only [mR_sI, hp]
                  refine g_callS hC (ct_po hB hkp) rfl (by decide) rfl yk_J6_parentOf q1861 q1862 q59 q1863 rfl dJ6_fixAfterInsertion_79 (by omega) (by omega) (fun v M1 hp => ?_)
                  obtain ⟨rfl, hM⟩ := hp
                  cases hM.symm
                  simp only [Option.toList_some, Option.toList_none, List.cons_append, List.nil_append, Nat.add_zero, Nat.zero_add]
                  simp only [mR_sI, hg]
                  refine g_iconst (v := 0) hC dJ6_fixAfterInsertion_82 (by decide) ?_
                  refine g_callS hC (ct_sc hB hkg b01.z) rfl (by decide) rfl yk_J6_setColor q1873 q1874 q59 q1875 rfl dJ6_fixAfterInsertion_83 (by omega) (by omega) (fun v M1 hp => ?_)
                  obtain ⟨rfl, hM⟩ := hp
                  cases hM.symm
                  simp only [Option.toList_some, Option.toList_none, List.cons_append, List.nil_append, Nat.add_zero, Nat.zero_add]
                  refine g_aload_n hC dJ6_fixAfterInsertion_86 rfl ?_
                  refine g_callS hC (ct_po hB hkx) rfl (by decide) rfl yk_J6_parentOf q1861 q1862 q59 q1863 rfl dJ6_fixAfterInsertion_87 (by omega) (by omega) (fun v M1 hp => ?_)
                  obtain ⟨rfl, hM⟩ := hp
                  cases hM.symm
                  simp only [Option.toList_some, Option.toList_none, List.cons_append, List.nil_append, Nat.add_zero, Nat.zero_add]
                  simp only [mR_sI, hp]
                  refine g_callS hC (ct_po hB hkp) rfl (by decide) rfl yk_J6_parentOf q1861 q1862 q59 q1863 rfl dJ6_fixAfterInsertion_90 (by omega) (by omega) (fun v M1 hp => ?_)
                  obtain ⟨rfl, hM⟩ := hp
                  cases hM.symm
                  simp only [Option.toList_some, Option.toList_none, List.cons_append, List.nil_append, Nat.add_zero, Nat.zero_add]
                  simp only [mR_sI, hg]
                  refine g_astore_n hC dJ6_fixAfterInsertion_93 rfl rfl ?_
                  try simp only [stL, clr]
                  refine g_goto hC 148 dJ6_fixAfterInsertion_94 (by decide) ?_
                  refine g_goto hC 5 dJ6_fixAfterInsertion_148 (by decide) ?_
                  have hh := h4 g p hgN hgl
                  have hh2 : hi x - lo x < hi p - lo p := by
                    rcases hpc with e | e
                    · have := h4 p x hpN e; omega
                    · have := h6 p x hpN e; omega
                  exact ih _ lo hi g _ (((hF.col hpN b01.o).col hyN b01.o).col hgN b01.z) hgN (by omega)
theorem ct_fixIns (hB : Base G) {M : Mem} {lo hi : Nat → Nat} {x : Nat} (hF : Fx M0 M ρ t n ad ps lo hi) (hx : Nd n ad ps x) : KJ6_fixAfterInsertion G 2 0 0 [vr (some t), vr (some x)] M (fun v M' => v = none ∧ ∃ lo' hi', Fx M0 M' ρ t n ad ps lo' hi') := by
  have hkx := (hF.1.2 x hx).1
  have hx2 := hF.1.1.2.1 x hx
  refine Ct.of (own := RJ6) (nm := "fixAfterInsertion") hB (by decide) rfl rfl rfl rfl (fun C hC hQ => ?_)
  refine g_aload_n hC dJ6_fixAfterInsertion_0 rfl ?_
  refine g_iconst (v := 0) hC dJ6_fixAfterInsertion_1 (by decide) ?_
  refine g_putI hC (ci := 9) (by first | with_reducible rfl | with_reducible assumption | (simp only [mR_sI, mR_sL]; with_reducible assumption) | exact rfl | assumption) (by first | with_reducible assumption | (simp only [mK_sI, mK_sR, mK_sL, mK_sO]; with_reducible assumption) | assumption | (simp only [mK_sI, mK_sR, mK_sL, mK_sO, mK_nw, mK_sK]; first | assumption | (simp only [*]; done))) rfl 5 (by decide) q986 (Or.inl rfl) (Or.inl rfl) rfl (by first | rfl | assumption) (by first | rfl | assumption) dJ6_fixAfterInsertion_2 ?_
  exact fi_loop hB (by have := hx.1; omega) C hC hQ (n + 1) _ lo hi x _ (hF.col hx b01.z) hx (by omega)
end FixIns

