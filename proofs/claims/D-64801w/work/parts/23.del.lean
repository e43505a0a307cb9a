set_option maxRecDepth 100000
abbrev cJ6_deleteEntry : ByteArray := prog_83_method_84_code
def yJ6_deleteEntry : MethodName := ⟨RJ6, "deleteEntry", "(Ljava/util/TreeMap$Entry;)V"⟩
def dkwJ6_deleteEntry_10 : List UInt8 := [180, 0, 124, 1, 181, 0, 114, 43, 1, 181, 0, 124, 177]
abbrev dktJ6_deleteEntry_10 : List UInt8 := dkwJ6_deleteEntry_10 ++ []
def dkwJ6_deleteEntry_9 : List UInt8 := [180, 0, 124, 1, 181, 0, 111, 167, 0, 22, 43, 43, 180, 0, 124, 180, 0, 114, 166, 0, 11, 43]
abbrev dktJ6_deleteEntry_9 : List UInt8 := dkwJ6_deleteEntry_9 ++ dktJ6_deleteEntry_10
def dkwJ6_deleteEntry_8 : List UInt8 := [182, 1, 61, 43, 180, 0, 124, 198, 0, 49, 43, 43, 180, 0, 124, 180, 0, 111, 166, 0, 14, 43]
abbrev dktJ6_deleteEntry_8 : List UInt8 := dkwJ6_deleteEntry_8 ++ dktJ6_deleteEntry_9
def dkwJ6_deleteEntry_7 : List UInt8 := [180, 0, 124, 199, 0, 11, 42, 1, 181, 0, 101, 167, 0, 69, 43, 180, 1, 34, 4, 160, 0, 8, 42, 43]
abbrev dktJ6_deleteEntry_7 : List UInt8 := dkwJ6_deleteEntry_7 ++ dktJ6_deleteEntry_8
def dkwJ6_deleteEntry_6 : List UInt8 := [181, 0, 114, 181, 0, 111, 43, 180, 1, 34, 4, 160, 0, 92, 42, 44, 182, 1, 61, 167, 0, 84, 43]
abbrev dktJ6_deleteEntry_6 : List UInt8 := dkwJ6_deleteEntry_6 ++ dktJ6_deleteEntry_7
def dkwJ6_deleteEntry_5 : List UInt8 := [181, 0, 111, 167, 0, 11, 43, 180, 0, 124, 44, 181, 0, 114, 43, 43, 43, 1, 90, 181, 0, 124, 90]
abbrev dktJ6_deleteEntry_5 : List UInt8 := dkwJ6_deleteEntry_5 ++ dktJ6_deleteEntry_6
def dkwJ6_deleteEntry_4 : List UInt8 := [44, 181, 0, 101, 167, 0, 33, 43, 43, 180, 0, 124, 180, 0, 111, 166, 0, 14, 43, 180, 0, 124, 44]
abbrev dktJ6_deleteEntry_4 : List UInt8 := dkwJ6_deleteEntry_4 ++ dktJ6_deleteEntry_5
def dkwJ6_deleteEntry_3 : List UInt8 := [180, 0, 114, 77, 44, 198, 0, 87, 44, 43, 180, 0, 124, 181, 0, 124, 43, 180, 0, 124, 199, 0, 11, 42]
abbrev dktJ6_deleteEntry_3 : List UInt8 := dkwJ6_deleteEntry_3 ++ dktJ6_deleteEntry_4
def dkwJ6_deleteEntry_2 : List UInt8 := [44, 180, 0, 58, 181, 0, 58, 44, 76, 43, 180, 0, 111, 198, 0, 10, 43, 180, 0, 111, 167, 0, 7, 43]
abbrev dktJ6_deleteEntry_2 : List UInt8 := dkwJ6_deleteEntry_2 ++ dktJ6_deleteEntry_3
def dkwJ6_deleteEntry_1 : List UInt8 := [198, 0, 33, 43, 180, 0, 114, 198, 0, 26, 43, 184, 0, 68, 77, 43, 44, 180, 0, 105, 181, 0, 105, 43]
abbrev dktJ6_deleteEntry_1 : List UInt8 := dkwJ6_deleteEntry_1 ++ dktJ6_deleteEntry_2
def dkwJ6_deleteEntry_0 : List UInt8 := [42, 89, 180, 0, 13, 4, 96, 181, 0, 13, 42, 89, 180, 0, 7, 4, 100, 181, 0, 7, 43, 180, 0, 111]
abbrev dktJ6_deleteEntry_0 : List UInt8 := dkwJ6_deleteEntry_0 ++ dktJ6_deleteEntry_1
theorem dksJ6_deleteEntry_0 : cJ6_deleteEntry.data.toList.drop 0 = dktJ6_deleteEntry_0 := by decide +kernel
theorem dksJ6_deleteEntry_1 : cJ6_deleteEntry.data.toList.drop 24 = dktJ6_deleteEntry_1 := dk_seg dksJ6_deleteEntry_0 24 rfl rfl
theorem dksJ6_deleteEntry_2 : cJ6_deleteEntry.data.toList.drop 48 = dktJ6_deleteEntry_2 := dk_seg dksJ6_deleteEntry_1 24 rfl rfl
theorem dksJ6_deleteEntry_3 : cJ6_deleteEntry.data.toList.drop 72 = dktJ6_deleteEntry_3 := dk_seg dksJ6_deleteEntry_2 24 rfl rfl
theorem dksJ6_deleteEntry_4 : cJ6_deleteEntry.data.toList.drop 96 = dktJ6_deleteEntry_4 := dk_seg dksJ6_deleteEntry_3 24 rfl rfl
theorem dksJ6_deleteEntry_5 : cJ6_deleteEntry.data.toList.drop 119 = dktJ6_deleteEntry_5 := dk_seg dksJ6_deleteEntry_4 23 rfl rfl
theorem dksJ6_deleteEntry_6 : cJ6_deleteEntry.data.toList.drop 142 = dktJ6_deleteEntry_6 := dk_seg dksJ6_deleteEntry_5 23 rfl rfl
theorem dksJ6_deleteEntry_7 : cJ6_deleteEntry.data.toList.drop 165 = dktJ6_deleteEntry_7 := dk_seg dksJ6_deleteEntry_6 23 rfl rfl
theorem dksJ6_deleteEntry_8 : cJ6_deleteEntry.data.toList.drop 189 = dktJ6_deleteEntry_8 := dk_seg dksJ6_deleteEntry_7 24 rfl rfl
theorem dksJ6_deleteEntry_9 : cJ6_deleteEntry.data.toList.drop 211 = dktJ6_deleteEntry_9 := dk_seg dksJ6_deleteEntry_8 22 rfl rfl
theorem dksJ6_deleteEntry_10 : cJ6_deleteEntry.data.toList.drop 233 = dktJ6_deleteEntry_10 := dk_seg dksJ6_deleteEntry_9 22 rfl rfl
theorem dJ6_deleteEntry_0 : decode cJ6_deleteEntry 0 = .ok (.aload_n 0, 1) := dk_42 (dk_at dksJ6_deleteEntry_0 0 rfl rfl)
theorem dJ6_deleteEntry_1 : decode cJ6_deleteEntry 1 = .ok (.dup, 1) := dk_89 (dk_at dksJ6_deleteEntry_0 1 rfl rfl)
theorem dJ6_deleteEntry_2 : decode cJ6_deleteEntry 2 = .ok (.getfield 13, 3) := dk_180 0 13 (dk_at dksJ6_deleteEntry_0 2 rfl rfl)
theorem dJ6_deleteEntry_5 : decode cJ6_deleteEntry 5 = .ok (.iconst 1, 1) := dk_4 (dk_at dksJ6_deleteEntry_0 5 rfl rfl)
theorem dJ6_deleteEntry_6 : decode cJ6_deleteEntry 6 = .ok (.iadd, 1) := dk_96 (dk_at dksJ6_deleteEntry_0 6 rfl rfl)
theorem dJ6_deleteEntry_7 : decode cJ6_deleteEntry 7 = .ok (.putfield 13, 3) := dk_181 0 13 (dk_at dksJ6_deleteEntry_0 7 rfl rfl)
theorem dJ6_deleteEntry_10 : decode cJ6_deleteEntry 10 = .ok (.aload_n 0, 1) := dk_42 (dk_at dksJ6_deleteEntry_0 10 rfl rfl)
theorem dJ6_deleteEntry_11 : decode cJ6_deleteEntry 11 = .ok (.dup, 1) := dk_89 (dk_at dksJ6_deleteEntry_0 11 rfl rfl)
theorem dJ6_deleteEntry_12 : decode cJ6_deleteEntry 12 = .ok (.getfield 7, 3) := dk_180 0 7 (dk_at dksJ6_deleteEntry_0 12 rfl rfl)
theorem dJ6_deleteEntry_15 : decode cJ6_deleteEntry 15 = .ok (.iconst 1, 1) := dk_4 (dk_at dksJ6_deleteEntry_0 15 rfl rfl)
theorem dJ6_deleteEntry_16 : decode cJ6_deleteEntry 16 = .ok (.isub, 1) := dk_100 (dk_at dksJ6_deleteEntry_0 16 rfl rfl)
theorem dJ6_deleteEntry_17 : decode cJ6_deleteEntry 17 = .ok (.putfield 7, 3) := dk_181 0 7 (dk_at dksJ6_deleteEntry_0 17 rfl rfl)
theorem dJ6_deleteEntry_20 : decode cJ6_deleteEntry 20 = .ok (.aload_n 1, 1) := dk_43 (dk_at dksJ6_deleteEntry_0 20 rfl rfl)
theorem dJ6_deleteEntry_21 : decode cJ6_deleteEntry 21 = .ok (.getfield 111, 3) := dk_180 0 111 (dk_at dksJ6_deleteEntry_0 21 rfl rfl)
theorem dJ6_deleteEntry_24 : decode cJ6_deleteEntry 24 = .ok (.ifnull 33, 3) := dk_198 0 33 (dk_at dksJ6_deleteEntry_1 0 rfl rfl)
theorem dJ6_deleteEntry_27 : decode cJ6_deleteEntry 27 = .ok (.aload_n 1, 1) := dk_43 (dk_at dksJ6_deleteEntry_1 3 rfl rfl)
theorem dJ6_deleteEntry_28 : decode cJ6_deleteEntry 28 = .ok (.getfield 114, 3) := dk_180 0 114 (dk_at dksJ6_deleteEntry_1 4 rfl rfl)
theorem dJ6_deleteEntry_31 : decode cJ6_deleteEntry 31 = .ok (.ifnull 26, 3) := dk_198 0 26 (dk_at dksJ6_deleteEntry_1 7 rfl rfl)
theorem dJ6_deleteEntry_34 : decode cJ6_deleteEntry 34 = .ok (.aload_n 1, 1) := dk_43 (dk_at dksJ6_deleteEntry_1 10 rfl rfl)
theorem dJ6_deleteEntry_35 : decode cJ6_deleteEntry 35 = .ok (.invokestatic 68, 3) := dk_184 0 68 (dk_at dksJ6_deleteEntry_1 11 rfl rfl)
theorem dJ6_deleteEntry_38 : decode cJ6_deleteEntry 38 = .ok (.astore_n 2, 1) := dk_77 (dk_at dksJ6_deleteEntry_1 14 rfl rfl)
theorem dJ6_deleteEntry_39 : decode cJ6_deleteEntry 39 = .ok (.aload_n 1, 1) := dk_43 (dk_at dksJ6_deleteEntry_1 15 rfl rfl)
theorem dJ6_deleteEntry_40 : decode cJ6_deleteEntry 40 = .ok (.aload_n 2, 1) := dk_44 (dk_at dksJ6_deleteEntry_1 16 rfl rfl)
theorem dJ6_deleteEntry_41 : decode cJ6_deleteEntry 41 = .ok (.getfield 105, 3) := dk_180 0 105 (dk_at dksJ6_deleteEntry_1 17 rfl rfl)
theorem dJ6_deleteEntry_44 : decode cJ6_deleteEntry 44 = .ok (.putfield 105, 3) := dk_181 0 105 (dk_at dksJ6_deleteEntry_1 20 rfl rfl)
theorem dJ6_deleteEntry_47 : decode cJ6_deleteEntry 47 = .ok (.aload_n 1, 1) := dk_43 (dk_at dksJ6_deleteEntry_1 23 rfl rfl)
theorem dJ6_deleteEntry_48 : decode cJ6_deleteEntry 48 = .ok (.aload_n 2, 1) := dk_44 (dk_at dksJ6_deleteEntry_2 0 rfl rfl)
theorem dJ6_deleteEntry_49 : decode cJ6_deleteEntry 49 = .ok (.getfield 58, 3) := dk_180 0 58 (dk_at dksJ6_deleteEntry_2 1 rfl rfl)
theorem dJ6_deleteEntry_52 : decode cJ6_deleteEntry 52 = .ok (.putfield 58, 3) := dk_181 0 58 (dk_at dksJ6_deleteEntry_2 4 rfl rfl)
theorem dJ6_deleteEntry_55 : decode cJ6_deleteEntry 55 = .ok (.aload_n 2, 1) := dk_44 (dk_at dksJ6_deleteEntry_2 7 rfl rfl)
theorem dJ6_deleteEntry_56 : decode cJ6_deleteEntry 56 = .ok (.astore_n 1, 1) := dk_76 (dk_at dksJ6_deleteEntry_2 8 rfl rfl)
theorem dJ6_deleteEntry_57 : decode cJ6_deleteEntry 57 = .ok (.aload_n 1, 1) := dk_43 (dk_at dksJ6_deleteEntry_2 9 rfl rfl)
theorem dJ6_deleteEntry_58 : decode cJ6_deleteEntry 58 = .ok (.getfield 111, 3) := dk_180 0 111 (dk_at dksJ6_deleteEntry_2 10 rfl rfl)
theorem dJ6_deleteEntry_61 : decode cJ6_deleteEntry 61 = .ok (.ifnull 10, 3) := dk_198 0 10 (dk_at dksJ6_deleteEntry_2 13 rfl rfl)
theorem dJ6_deleteEntry_64 : decode cJ6_deleteEntry 64 = .ok (.aload_n 1, 1) := dk_43 (dk_at dksJ6_deleteEntry_2 16 rfl rfl)
theorem dJ6_deleteEntry_65 : decode cJ6_deleteEntry 65 = .ok (.getfield 111, 3) := dk_180 0 111 (dk_at dksJ6_deleteEntry_2 17 rfl rfl)
theorem dJ6_deleteEntry_68 : decode cJ6_deleteEntry 68 = .ok (.goto 7, 3) := dk_167 0 7 (dk_at dksJ6_deleteEntry_2 20 rfl rfl)
theorem dJ6_deleteEntry_71 : decode cJ6_deleteEntry 71 = .ok (.aload_n 1, 1) := dk_43 (dk_at dksJ6_deleteEntry_2 23 rfl rfl)
theorem dJ6_deleteEntry_72 : decode cJ6_deleteEntry 72 = .ok (.getfield 114, 3) := dk_180 0 114 (dk_at dksJ6_deleteEntry_3 0 rfl rfl)
theorem dJ6_deleteEntry_75 : decode cJ6_deleteEntry 75 = .ok (.astore_n 2, 1) := dk_77 (dk_at dksJ6_deleteEntry_3 3 rfl rfl)
theorem dJ6_deleteEntry_76 : decode cJ6_deleteEntry 76 = .ok (.aload_n 2, 1) := dk_44 (dk_at dksJ6_deleteEntry_3 4 rfl rfl)
theorem dJ6_deleteEntry_77 : decode cJ6_deleteEntry 77 = .ok (.ifnull 87, 3) := dk_198 0 87 (dk_at dksJ6_deleteEntry_3 5 rfl rfl)
theorem dJ6_deleteEntry_80 : decode cJ6_deleteEntry 80 = .ok (.aload_n 2, 1) := dk_44 (dk_at dksJ6_deleteEntry_3 8 rfl rfl)
theorem dJ6_deleteEntry_81 : decode cJ6_deleteEntry 81 = .ok (.aload_n 1, 1) := dk_43 (dk_at dksJ6_deleteEntry_3 9 rfl rfl)
theorem dJ6_deleteEntry_82 : decode cJ6_deleteEntry 82 = .ok (.getfield 124, 3) := dk_180 0 124 (dk_at dksJ6_deleteEntry_3 10 rfl rfl)
theorem dJ6_deleteEntry_85 : decode cJ6_deleteEntry 85 = .ok (.putfield 124, 3) := dk_181 0 124 (dk_at dksJ6_deleteEntry_3 13 rfl rfl)
theorem dJ6_deleteEntry_88 : decode cJ6_deleteEntry 88 = .ok (.aload_n 1, 1) := dk_43 (dk_at dksJ6_deleteEntry_3 16 rfl rfl)
theorem dJ6_deleteEntry_89 : decode cJ6_deleteEntry 89 = .ok (.getfield 124, 3) := dk_180 0 124 (dk_at dksJ6_deleteEntry_3 17 rfl rfl)
theorem dJ6_deleteEntry_92 : decode cJ6_deleteEntry 92 = .ok (.ifnonnull 11, 3) := dk_199 0 11 (dk_at dksJ6_deleteEntry_3 20 rfl rfl)
theorem dJ6_deleteEntry_95 : decode cJ6_deleteEntry 95 = .ok (.aload_n 0, 1) := dk_42 (dk_at dksJ6_deleteEntry_3 23 rfl rfl)
theorem dJ6_deleteEntry_96 : decode cJ6_deleteEntry 96 = .ok (.aload_n 2, 1) := dk_44 (dk_at dksJ6_deleteEntry_4 0 rfl rfl)
theorem dJ6_deleteEntry_97 : decode cJ6_deleteEntry 97 = .ok (.putfield 101, 3) := dk_181 0 101 (dk_at dksJ6_deleteEntry_4 1 rfl rfl)
theorem dJ6_deleteEntry_100 : decode cJ6_deleteEntry 100 = .ok (.goto 33, 3) := dk_167 0 33 (dk_at dksJ6_deleteEntry_4 4 rfl rfl)
theorem dJ6_deleteEntry_103 : decode cJ6_deleteEntry 103 = .ok (.aload_n 1, 1) := dk_43 (dk_at dksJ6_deleteEntry_4 7 rfl rfl)
theorem dJ6_deleteEntry_104 : decode cJ6_deleteEntry 104 = .ok (.aload_n 1, 1) := dk_43 (dk_at dksJ6_deleteEntry_4 8 rfl rfl)
theorem dJ6_deleteEntry_105 : decode cJ6_deleteEntry 105 = .ok (.getfield 124, 3) := dk_180 0 124 (dk_at dksJ6_deleteEntry_4 9 rfl rfl)
theorem dJ6_deleteEntry_108 : decode cJ6_deleteEntry 108 = .ok (.getfield 111, 3) := dk_180 0 111 (dk_at dksJ6_deleteEntry_4 12 rfl rfl)
theorem dJ6_deleteEntry_111 : decode cJ6_deleteEntry 111 = .ok (.if_acmp .ne 14, 3) := dk_166 0 14 (dk_at dksJ6_deleteEntry_4 15 rfl rfl)
theorem dJ6_deleteEntry_114 : decode cJ6_deleteEntry 114 = .ok (.aload_n 1, 1) := dk_43 (dk_at dksJ6_deleteEntry_4 18 rfl rfl)
theorem dJ6_deleteEntry_115 : decode cJ6_deleteEntry 115 = .ok (.getfield 124, 3) := dk_180 0 124 (dk_at dksJ6_deleteEntry_4 19 rfl rfl)
theorem dJ6_deleteEntry_118 : decode cJ6_deleteEntry 118 = .ok (.aload_n 2, 1) := dk_44 (dk_at dksJ6_deleteEntry_4 22 rfl rfl)
theorem dJ6_deleteEntry_119 : decode cJ6_deleteEntry 119 = .ok (.putfield 111, 3) := dk_181 0 111 (dk_at dksJ6_deleteEntry_5 0 rfl rfl)
theorem dJ6_deleteEntry_122 : decode cJ6_deleteEntry 122 = .ok (.goto 11, 3) := dk_167 0 11 (dk_at dksJ6_deleteEntry_5 3 rfl rfl)
theorem dJ6_deleteEntry_125 : decode cJ6_deleteEntry 125 = .ok (.aload_n 1, 1) := dk_43 (dk_at dksJ6_deleteEntry_5 6 rfl rfl)
theorem dJ6_deleteEntry_126 : decode cJ6_deleteEntry 126 = .ok (.getfield 124, 3) := dk_180 0 124 (dk_at dksJ6_deleteEntry_5 7 rfl rfl)
theorem dJ6_deleteEntry_129 : decode cJ6_deleteEntry 129 = .ok (.aload_n 2, 1) := dk_44 (dk_at dksJ6_deleteEntry_5 10 rfl rfl)
theorem dJ6_deleteEntry_130 : decode cJ6_deleteEntry 130 = .ok (.putfield 114, 3) := dk_181 0 114 (dk_at dksJ6_deleteEntry_5 11 rfl rfl)
theorem dJ6_deleteEntry_133 : decode cJ6_deleteEntry 133 = .ok (.aload_n 1, 1) := dk_43 (dk_at dksJ6_deleteEntry_5 14 rfl rfl)
theorem dJ6_deleteEntry_134 : decode cJ6_deleteEntry 134 = .ok (.aload_n 1, 1) := dk_43 (dk_at dksJ6_deleteEntry_5 15 rfl rfl)
theorem dJ6_deleteEntry_135 : decode cJ6_deleteEntry 135 = .ok (.aload_n 1, 1) := dk_43 (dk_at dksJ6_deleteEntry_5 16 rfl rfl)
theorem dJ6_deleteEntry_136 : decode cJ6_deleteEntry 136 = .ok (.aconst_null, 1) := dk_1 (dk_at dksJ6_deleteEntry_5 17 rfl rfl)
theorem dJ6_deleteEntry_137 : decode cJ6_deleteEntry 137 = .ok (.dup_x1, 1) := dk_90 (dk_at dksJ6_deleteEntry_5 18 rfl rfl)
theorem dJ6_deleteEntry_138 : decode cJ6_deleteEntry 138 = .ok (.putfield 124, 3) := dk_181 0 124 (dk_at dksJ6_deleteEntry_5 19 rfl rfl)
theorem dJ6_deleteEntry_141 : decode cJ6_deleteEntry 141 = .ok (.dup_x1, 1) := dk_90 (dk_at dksJ6_deleteEntry_5 22 rfl rfl)
theorem dJ6_deleteEntry_142 : decode cJ6_deleteEntry 142 = .ok (.putfield 114, 3) := dk_181 0 114 (dk_at dksJ6_deleteEntry_6 0 rfl rfl)
theorem dJ6_deleteEntry_145 : decode cJ6_deleteEntry 145 = .ok (.putfield 111, 3) := dk_181 0 111 (dk_at dksJ6_deleteEntry_6 3 rfl rfl)
theorem dJ6_deleteEntry_148 : decode cJ6_deleteEntry 148 = .ok (.aload_n 1, 1) := dk_43 (dk_at dksJ6_deleteEntry_6 6 rfl rfl)
theorem dJ6_deleteEntry_149 : decode cJ6_deleteEntry 149 = .ok (.getfield 290, 3) := dk_180 1 34 (dk_at dksJ6_deleteEntry_6 7 rfl rfl)
theorem dJ6_deleteEntry_152 : decode cJ6_deleteEntry 152 = .ok (.iconst 1, 1) := dk_4 (dk_at dksJ6_deleteEntry_6 10 rfl rfl)
theorem dJ6_deleteEntry_153 : decode cJ6_deleteEntry 153 = .ok (.if_icmp .ne 92, 3) := dk_160 0 92 (dk_at dksJ6_deleteEntry_6 11 rfl rfl)
theorem dJ6_deleteEntry_156 : decode cJ6_deleteEntry 156 = .ok (.aload_n 0, 1) := dk_42 (dk_at dksJ6_deleteEntry_6 14 rfl rfl)
theorem dJ6_deleteEntry_157 : decode cJ6_deleteEntry 157 = .ok (.aload_n 2, 1) := dk_44 (dk_at dksJ6_deleteEntry_6 15 rfl rfl)
theorem dJ6_deleteEntry_158 : decode cJ6_deleteEntry 158 = .ok (.invokevirtual 317, 3) := dk_182 1 61 (dk_at dksJ6_deleteEntry_6 16 rfl rfl)
theorem dJ6_deleteEntry_161 : decode cJ6_deleteEntry 161 = .ok (.goto 84, 3) := dk_167 0 84 (dk_at dksJ6_deleteEntry_6 19 rfl rfl)
theorem dJ6_deleteEntry_164 : decode cJ6_deleteEntry 164 = .ok (.aload_n 1, 1) := dk_43 (dk_at dksJ6_deleteEntry_6 22 rfl rfl)
theorem dJ6_deleteEntry_165 : decode cJ6_deleteEntry 165 = .ok (.getfield 124, 3) := dk_180 0 124 (dk_at dksJ6_deleteEntry_7 0 rfl rfl)
theorem dJ6_deleteEntry_168 : decode cJ6_deleteEntry 168 = .ok (.ifnonnull 11, 3) := dk_199 0 11 (dk_at dksJ6_deleteEntry_7 3 rfl rfl)
theorem dJ6_deleteEntry_171 : decode cJ6_deleteEntry 171 = .ok (.aload_n 0, 1) := dk_42 (dk_at dksJ6_deleteEntry_7 6 rfl rfl)
theorem dJ6_deleteEntry_172 : decode cJ6_deleteEntry 172 = .ok (.aconst_null, 1) := dk_1 (dk_at dksJ6_deleteEntry_7 7 rfl rfl)
theorem dJ6_deleteEntry_173 : decode cJ6_deleteEntry 173 = .ok (.putfield 101, 3) := dk_181 0 101 (dk_at dksJ6_deleteEntry_7 8 rfl rfl)
theorem dJ6_deleteEntry_176 : decode cJ6_deleteEntry 176 = .ok (.goto 69, 3) := dk_167 0 69 (dk_at dksJ6_deleteEntry_7 11 rfl rfl)
theorem dJ6_deleteEntry_179 : decode cJ6_deleteEntry 179 = .ok (.aload_n 1, 1) := dk_43 (dk_at dksJ6_deleteEntry_7 14 rfl rfl)
theorem dJ6_deleteEntry_180 : decode cJ6_deleteEntry 180 = .ok (.getfield 290, 3) := dk_180 1 34 (dk_at dksJ6_deleteEntry_7 15 rfl rfl)
theorem dJ6_deleteEntry_183 : decode cJ6_deleteEntry 183 = .ok (.iconst 1, 1) := dk_4 (dk_at dksJ6_deleteEntry_7 18 rfl rfl)
theorem dJ6_deleteEntry_184 : decode cJ6_deleteEntry 184 = .ok (.if_icmp .ne 8, 3) := dk_160 0 8 (dk_at dksJ6_deleteEntry_7 19 rfl rfl)
theorem dJ6_deleteEntry_187 : decode cJ6_deleteEntry 187 = .ok (.aload_n 0, 1) := dk_42 (dk_at dksJ6_deleteEntry_7 22 rfl rfl)
theorem dJ6_deleteEntry_188 : decode cJ6_deleteEntry 188 = .ok (.aload_n 1, 1) := dk_43 (dk_at dksJ6_deleteEntry_7 23 rfl rfl)
theorem dJ6_deleteEntry_189 : decode cJ6_deleteEntry 189 = .ok (.invokevirtual 317, 3) := dk_182 1 61 (dk_at dksJ6_deleteEntry_8 0 rfl rfl)
theorem dJ6_deleteEntry_192 : decode cJ6_deleteEntry 192 = .ok (.aload_n 1, 1) := dk_43 (dk_at dksJ6_deleteEntry_8 3 rfl rfl)
theorem dJ6_deleteEntry_193 : decode cJ6_deleteEntry 193 = .ok (.getfield 124, 3) := dk_180 0 124 (dk_at dksJ6_deleteEntry_8 4 rfl rfl)
theorem dJ6_deleteEntry_196 : decode cJ6_deleteEntry 196 = .ok (.ifnull 49, 3) := dk_198 0 49 (dk_at dksJ6_deleteEntry_8 7 rfl rfl)
theorem dJ6_deleteEntry_199 : decode cJ6_deleteEntry 199 = .ok (.aload_n 1, 1) := dk_43 (dk_at dksJ6_deleteEntry_8 10 rfl rfl)
theorem dJ6_deleteEntry_200 : decode cJ6_deleteEntry 200 = .ok (.aload_n 1, 1) := dk_43 (dk_at dksJ6_deleteEntry_8 11 rfl rfl)
theorem dJ6_deleteEntry_201 : decode cJ6_deleteEntry 201 = .ok (.getfield 124, 3) := dk_180 0 124 (dk_at dksJ6_deleteEntry_8 12 rfl rfl)
theorem dJ6_deleteEntry_204 : decode cJ6_deleteEntry 204 = .ok (.getfield 111, 3) := dk_180 0 111 (dk_at dksJ6_deleteEntry_8 15 rfl rfl)
theorem dJ6_deleteEntry_207 : decode cJ6_deleteEntry 207 = .ok (.if_acmp .ne 14, 3) := dk_166 0 14 (dk_at dksJ6_deleteEntry_8 18 rfl rfl)
theorem dJ6_deleteEntry_210 : decode cJ6_deleteEntry 210 = .ok (.aload_n 1, 1) := dk_43 (dk_at dksJ6_deleteEntry_8 21 rfl rfl)
theorem dJ6_deleteEntry_211 : decode cJ6_deleteEntry 211 = .ok (.getfield 124, 3) := dk_180 0 124 (dk_at dksJ6_deleteEntry_9 0 rfl rfl)
theorem dJ6_deleteEntry_214 : decode cJ6_deleteEntry 214 = .ok (.aconst_null, 1) := dk_1 (dk_at dksJ6_deleteEntry_9 3 rfl rfl)
theorem dJ6_deleteEntry_215 : decode cJ6_deleteEntry 215 = .ok (.putfield 111, 3) := dk_181 0 111 (dk_at dksJ6_deleteEntry_9 4 rfl rfl)
theorem dJ6_deleteEntry_218 : decode cJ6_deleteEntry 218 = .ok (.goto 22, 3) := dk_167 0 22 (dk_at dksJ6_deleteEntry_9 7 rfl rfl)
theorem dJ6_deleteEntry_221 : decode cJ6_deleteEntry 221 = .ok (.aload_n 1, 1) := dk_43 (dk_at dksJ6_deleteEntry_9 10 rfl rfl)
theorem dJ6_deleteEntry_222 : decode cJ6_deleteEntry 222 = .ok (.aload_n 1, 1) := dk_43 (dk_at dksJ6_deleteEntry_9 11 rfl rfl)
theorem dJ6_deleteEntry_223 : decode cJ6_deleteEntry 223 = .ok (.getfield 124, 3) := dk_180 0 124 (dk_at dksJ6_deleteEntry_9 12 rfl rfl)
theorem dJ6_deleteEntry_226 : decode cJ6_deleteEntry 226 = .ok (.getfield 114, 3) := dk_180 0 114 (dk_at dksJ6_deleteEntry_9 15 rfl rfl)
theorem dJ6_deleteEntry_229 : decode cJ6_deleteEntry 229 = .ok (.if_acmp .ne 11, 3) := dk_166 0 11 (dk_at dksJ6_deleteEntry_9 18 rfl rfl)
theorem dJ6_deleteEntry_232 : decode cJ6_deleteEntry 232 = .ok (.aload_n 1, 1) := dk_43 (dk_at dksJ6_deleteEntry_9 21 rfl rfl)
theorem dJ6_deleteEntry_233 : decode cJ6_deleteEntry 233 = .ok (.getfield 124, 3) := dk_180 0 124 (dk_at dksJ6_deleteEntry_10 0 rfl rfl)
theorem dJ6_deleteEntry_236 : decode cJ6_deleteEntry 236 = .ok (.aconst_null, 1) := dk_1 (dk_at dksJ6_deleteEntry_10 3 rfl rfl)
theorem dJ6_deleteEntry_237 : decode cJ6_deleteEntry 237 = .ok (.putfield 114, 3) := dk_181 0 114 (dk_at dksJ6_deleteEntry_10 4 rfl rfl)
theorem dJ6_deleteEntry_240 : decode cJ6_deleteEntry 240 = .ok (.aload_n 1, 1) := dk_43 (dk_at dksJ6_deleteEntry_10 7 rfl rfl)
theorem dJ6_deleteEntry_241 : decode cJ6_deleteEntry 241 = .ok (.aconst_null, 1) := dk_1 (dk_at dksJ6_deleteEntry_10 8 rfl rfl)
theorem dJ6_deleteEntry_242 : decode cJ6_deleteEntry 242 = .ok (.putfield 124, 3) := dk_181 0 124 (dk_at dksJ6_deleteEntry_10 9 rfl rfl)
theorem dJ6_deleteEntry_245 : decode cJ6_deleteEntry 245 = .ok (.return_, 1) := dk_177 (dk_at dksJ6_deleteEntry_10 12 rfl rfl)
theorem yk_J6_deleteEntry : yk yJ6_deleteEntry 1 := by unfold yk; decide +kernel
abbrev KJ6_deleteEntry (G : Gx) (d mc ms : Nat) (av : List Sv) (M : Mem) (post : Option Sv → Mem → Prop) : Prop := Ct G yJ6_deleteEntry cJ6_deleteEntry 3 ((Option.none : Option Jvm.ClassFile.FieldType)) d mc ms av M post
theorem q2263 : (Jvm.Cond.methodLink "java/util/TreeMap" (317 : Nat) ({ cls := "java/util/TreeMap", name := "fixAfterDeletion", desc := "(Ljava/util/TreeMap$Entry;)V" } : Jvm.MethodName)) ∈ lw_all := lw_g (lw_at lw_m10 55 rfl) rfl
theorem q2265 : (Jvm.Cond.instanceMethod ({ cls := "java/util/TreeMap", name := "fixAfterDeletion", desc := "(Ljava/util/TreeMap$Entry;)V" } : Jvm.MethodName)) ∈ lw_all := lw_g (lw_at lw_m10 57 rfl) rfl
theorem q2266 : (Jvm.Cond.code ({ cls := "java/util/TreeMap", name := "fixAfterDeletion", desc := "(Ljava/util/TreeMap$Entry;)V" } : Jvm.MethodName) prog_83_method_85_code (3 : Nat) (Option.none : Option Jvm.ClassFile.FieldType)) ∈ lw_all := lw_g (lw_at lw_m10 58 rfl) rfl
/-! ===== TreeMap.deleteEntry, remove ===== -/
def delF {α : Type} (f : Nat → α) (i : Nat) : Nat → α := fun j => if j < i then f j else f (j + 1)
/-- the node p is out of the tree, its child ch in its place -/
def UL (M M' : Mem) (t p : Nat) (ch : Option Nat) : Prop :=
  (mR M p 4 = none → mR M' t 3 = ch) ∧ (mR M p 4 ≠ none → mR M' t 3 = mR M t 3) ∧
  (∀ q, mR M p 4 = some q → mR M q 2 = some p → mR M' q 2 = ch) ∧ (∀ q, mR M p 4 = some q → mR M q 2 ≠ some p → mR M' q 3 = ch) ∧
  (∀ x, x ≠ p → ¬ (mR M p 4 = some x ∧ mR M x 2 = some p) → mR M' x 2 = mR M x 2) ∧ (∀ x, x ≠ p → x ≠ t → ¬ (mR M p 4 = some x ∧ mR M x 2 ≠ some p) → mR M' x 3 = mR M x 3) ∧
  (∀ c, ch = some c → mR M' c 4 = mR M p 4) ∧ (∀ x, x ≠ p → ch ≠ some x → mR M' x 4 = mR M x 4) ∧ Sh t M M'
section Del
variable {G : Gx} {M M' M0 : Mem} {ρ t n : Nat} {ad ps lo hi : Nat → Nat} {ky : Nat → Int32} {vl : Nat → Nat}
theorem TMt.del {p : Nat} {ch : Option Nat} (hT : TMt M ρ t (n + 1) ad ps lo hi) (ht : mK M t = kTM) (hp : Nd (n + 1) ad ps p) (hch : (mR M p 2 = none ∧ mR M p 3 = ch) ∨ (mR M p 3 = none ∧ mR M p 2 = ch)) (h : UL M M' t p ch) : TMt M' ρ t n (deA ad (ps p)) (deP ps (ps p)) (deP lo (ps p)) (deP hi (ps p)) := by
  obtain ⟨a1, a2, a3, a4, a5, a6, a7, a8, hS⟩ := h
  have hnt : ∀ x, Nd (n + 1) ad ps x → x ≠ t := fun x hx => hT.ne ht hx
  have h0 := TT.del (L' := fun x => mR M' x 2) (R' := fun x => if x = t then mR M x 3 else mR M' x 3) (P' := fun x => mR M' x 4) (rt' := mR M' t 3) hT.1 hp hch a1 a2 a3
    (fun q h1 h2 => by show (if q = t then _ else _) = _; rw [if_neg (hnt q (hT.1.2.2.2.2.2.2.2.1 p q hp h1).1)]; exact a4 q h1 h2) a5
    (fun x h1 h2 => by
      show (if x = t then _ else _) = _
      by_cases e : x = t
      · rw [if_pos e]
      · rw [if_neg e]; exact a6 x h1 e h2) a7 a8
  have hN : ∀ y, Nd n (deA ad (ps p)) (deP ps (ps p)) y → Nd (n + 1) ad ps y := by
    intro y hy
    by_cases q : y = p
    · rw [q]; exact hp
    · exact (Nd.deO hT.1.1 hp q).mp hy
  have hnt' : ∀ x, Nd n (deA ad (ps p)) (deP ps (ps p)) x → x ≠ t := fun x hx => hnt x (hN x hx)
  obtain ⟨c1, c2, c3, c4, c5, c6, c7, c8, c9, c10⟩ := h0
  refine ⟨⟨c1, c2, c3, c4, fun x hx hn => c5 x hx ?_, fun x y hx hn => c6 x y hx ?_, c7, fun x y hx hn => ?_, c9, c10⟩, fun x hx => hT.kinds hS x (hN x hx)⟩
  · show (if x = t then _ else _) = _; rw [if_neg (hnt' x hx)]; exact hn
  · show (if x = t then _ else _) = _; rw [if_neg (hnt' x hx)]; exact hn
  · obtain ⟨d1, d2⟩ := c8 x y hx hn
    refine ⟨d1, ?_⟩
    have : (if y = t then mR M y 3 else mR M' y 3) = mR M' y 3 := if_neg (hnt' y d1)
    simpa [this] using d2
theorem UL.fr {p : Nat} {ch : Option Nat} (hT : TMt M ρ t n ad ps lo hi) (ho : mO M t = ρ) (hp : Nd n ad ps p) (hc : ∀ c, ch = some c → Nd n ad ps c) (hpp : ∀ x k, x = p → k = 2 ∨ k = 3 ∨ k = 4 → True) (h : UL M M' t p ch) : Fr (fun r => r = ρ) M M' := by
  obtain ⟨a1, a2, a3, a4, a5, a6, a7, a8, hS⟩ := h
  refine hS.fr (fun x k hk hP hx => ?_)
  have x1 : x ≠ p := by intro e; subst e; exact hP (hT.2 x hp).2
  have x3 : x ≠ t := by intro e; subst e; exact hP ho
  have x4 : mR M p 4 ≠ some x := by
    intro e
    exact hP (hT.2 x (hT.1.2.2.2.2.2.2.2.1 p x hp e).1).2
  have x5 : ch ≠ some x := fun e => hP (hT.2 x (hc x e)).2
  rcases hk with rfl | rfl | rfl
  · exact a5 x x1 (fun e => x4 e.1)
  · exact a6 x x1 x3 (fun e => x4 e.1)
  · exact a8 x x1 x5
/-- the map's end, after the node at the place d went: M0 is the memory that had all its nodes -/
def Gone (M0 M' : Mem) (ρ t n : Nat) (ad ps : Nat → Nat) (d : Nat) : Prop := ∃ lo' hi', TMt M' ρ t n (deA ad d) (deP ps d) lo' hi' ∧ (∀ x, Nd n (deA ad d) (deP ps d) x → b01 (mI M' x 5)) ∧ Fr (fun r => r = ρ) M0 M' ∧ (∀ x, Nd n (deA ad d) (deP ps d) x → mR M' x 0 = mR M0 x 0 ∧ mR M' x 1 = mR M0 x 1) ∧ (∀ k, k ≠ 3 → mR M' t k = mR M0 t k) ∧ (∀ k, mI M' t k = mI M0 t k) ∧ mK M' t = kTM ∧ mO M' t = ρ
/-- out of the tree: what mending keeps, for the tree without p -/
theorem Fx.ul {p : Nat} {ch : Option Nat} (hF : Fx M0 M ρ t (n + 1) ad ps lo hi) (hp : Nd (n + 1) ad ps p) (hch : (mR M p 2 = none ∧ mR M p 3 = ch) ∨ (mR M p 3 = none ∧ mR M p 2 = ch)) (h : UL M M' t p ch) : Fx M0 M' ρ t n (deA ad (ps p)) (deP ps (ps p)) (deP lo (ps p)) (deP hi (ps p)) := by
  obtain ⟨f1, f2, f3, f4, f5, f6, f7, f8⟩ := hF
  have hN : ∀ y, Nd n (deA ad (ps p)) (deP ps (ps p)) y → Nd (n + 1) ad ps y := by
    intro y hy
    by_cases q : y = p
    · rw [q]; exact hp
    · exact (Nd.deO f1.1.1 hp q).mp hy
  have hcN : ∀ c, ch = some c → Nd (n + 1) ad ps c := by
    intro c e
    rcases hch with ⟨_, b⟩ | ⟨_, b⟩
    · exact (f1.1.2.2.2.2.2.1 p c hp (b.trans e)).1
    · exact (f1.1.2.2.2.1 p c hp (b.trans e)).1
  have hFr := UL.fr f1 f8 hp hcN (fun _ _ _ _ => trivial) h
  have hT := f1.del f7 hp hch h
  obtain ⟨a1, a2, a3, a4, a5, a6, a7, a8, hS⟩ := h
  have hpt := f1.ne f7 hp
  refine ⟨hT, fun x hx => by rw [(hS.2.1 x 5).1]; exact f2 x (hN x hx), f3.tr hFr, fun x hx => ?_, fun k hk => ?_, fun k => by rw [(hS.2.1 t k).1]; exact f6 k, by rw [(hS.1 t).1]; exact f7, by rw [(hS.1 t).2.2]; exact f8⟩
  · rw [hS.2.2 x 0 (by omega), hS.2.2 x 1 (by omega)]; exact f4 x (hN x hx)
  · rw [← f5 k hk]
    by_cases e : k < 2 ∨ 4 < k
    · exact hS.2.2 t k e
    · have x4 : mR M p 4 ≠ some t := by
        intro e
        exact (f1.ne f7 (f1.1.2.2.2.2.2.2.2.1 p t hp e).1) rfl
      have x5 : ch ≠ some t := fun e => (f1.ne f7 (hcN t e)) rfl
      have : k = 2 ∨ k = 4 := by omega
      rcases this with rfl | rfl
      · exact a5 t hpt.symm (fun e => x4 e.1)
      · exact a8 t hpt.symm x5
theorem Fx.gone {d : Nat} (h : Fx M0 M' ρ t n (deA ad d) (deP ps d) lo hi) : Gone M0 M' ρ t n ad ps d := ⟨lo, hi, h⟩
/-- from pc 57 on: the node q, of at most one child, is taken out -/
theorem de_out (hB : Base G) : ∀ C, Ok C G cJ6_deleteEntry RJ6 "deleteEntry" 3 0 0 → ∀ (post : Option Sv → Mem → Prop), Rt C G none 0 0 post → ∀ (M : Mem) (lo hi : Nat → Nat) (q : Nat) (b : Option Sv), Fx M M ρ t (n + 1) ad ps lo hi → Nd (n + 1) ad ps q → (mR M q 2 = none ∨ mR M q 3 = none) → (∀ M', Gone M M' ρ t n ad ps (ps q) → post none M') → Go C 57 [some (vr (some t)), some (vr (some q)), b] [] M 0 0 := by
  intro C hC post hQ M lo hi q b hF hq hone hend
  have hkt := hF.2.2.2.2.2.2.1
  have hkq := (hF.1.2 q hq).1
  have hqt := hF.1.ne hkt hq
  obtain ⟨h1, h2, h3, h4, h5, h6, h7, h8, h9, h10⟩ := hF.1.1
  have hk := fun y hy => (hF.1.2 y hy).1
  have hnt : ∀ y, Nd (n + 1) ad ps y → y ≠ t := fun y hy => hF.1.ne hkt hy
  have aq := h2 q hq
  -- the parent
  have hpar : ∀ p, mR M q 4 = some p → Nd (n + 1) ad ps p ∧ p ≠ q ∧ p ≠ t ∧ mK M p = kEN ∧ (mR M p 2 = some q ∨ mR M p 3 = some q) ∧ (mR M p 2 = some q → mR M p 3 ≠ some q) := by
    intro p e
    obtain ⟨c1, c2⟩ := h8 q p hq e
    have := h2 p c1
    refine ⟨c1, ?_, hnt p c1, hk p c1, c2, fun z1 z2 => ?_⟩
    · intro z; subst z
      rcases c2 with c2 | c2
      · have := h4 p p hq c2; omega
      · have := h6 p p hq c2; omega
    · have := h4 p q c1 z1
      have := h6 p q c1 z2
      omega
  -- a child c is there
  have chld : ∀ c, ((mR M q 2 = none ∧ mR M q 3 = some c) ∨ (mR M q 3 = none ∧ mR M q 2 = some c)) → Nd (n + 1) ad ps c → c ≠ q → mR M q 4 ≠ some c → Go C 80 [some (vr (some t)), some (vr (some q)), some (vr (some c))] [] M 0 0 := by
    intro c hch hcN hcq hpc
    have hkc := hk c hcN
    have hct := hnt c hcN
    have fix : ∀ M4 : Mem, Fx M M4 ρ t n (deA ad (ps q)) (deP ps (ps q)) (deP lo (ps q)) (deP hi (ps q)) → mK M4 q = kEN → Go C 148 [some (vr (some t)), some (vr (some q)), some (vr (some c))] [] M4 0 0 := by
      intro M4 hF4 hkq4
      have hkt4 := hF4.2.2.2.2.2.2.1
      have hcN4 : Nd n (deA ad (ps q)) (deP ps (ps q)) c := (Nd.deO h1 hq hcq).mpr hcN
      refine g_aload_n hC dJ6_deleteEntry_148 rfl ?_
      refine g_getI hC (ci := 9) (by first | with_reducible rfl | with_reducible assumption | (simp only [mR_sI, mR_sL]; with_reducible assumption) | exact rfl | assumption) (by first | with_reducible assumption | (simp only [mK_sI, mK_sR, mK_sL, mK_sO]; with_reducible assumption) | assumption | (simp only [mK_sI, mK_sR, mK_sL, mK_sO, mK_nw, mK_sK]; first | assumption | (simp only [*]; done))) rfl 5 (by decide) q986 (Or.inl rfl) rfl dJ6_deleteEntry_149 ?_
      refine g_iconst (v := 1) hC dJ6_deleteEntry_152 (by decide) ?_
      refine g_icmp_ne hC 245 dJ6_deleteEntry_153 (by decide) (fun hc => ?_) (fun hc => ?_)
      · refine g_vret hC hQ (by omega) (by omega) dJ6_deleteEntry_245 ?_
        exact hend M4 hF4.gone
      · refine g_aload_n hC dJ6_deleteEntry_156 rfl ?_
        refine g_aload_n hC dJ6_deleteEntry_157 rfl ?_
        refine g_callV hC (by first | with_reducible rfl | with_reducible assumption | (simp only [mR_sI, mR_sL]; with_reducible assumption) | exact rfl | assumption) (Rk.o (ci := 8) (by first | with_reducible assumption | (simp only [mK_sI, mK_sR, mK_sL, mK_sO]; with_reducible assumption) | assumption | (simp only [mK_sI, mK_sR, mK_sL, mK_sO, mK_nw, mK_sK]; first | assumption | (simp only [*]; done))) rfl) (ct_fixDel hB hF4 hcN4) rfl (by decide) rfl rfl yk_J6_fixAfterDeletion q2263 q2265 qs28 q59 q2266 rfl dJ6_deleteEntry_158 (by omega) (by omega) (fun v M1 hp => ?_)
        obtain ⟨rfl, ⟨lo5, hi5, hF5⟩, -⟩ := hp
        simp only [Option.toList_some, Option.toList_none, List.cons_append, List.nil_append, Nat.add_zero, Nat.zero_add]
        refine g_goto hC 245 dJ6_deleteEntry_161 (by decide) ?_
        refine g_vret hC hQ (by omega) (by omega) dJ6_deleteEntry_245 ?_
        exact hend M1 hF5.gone
    have fin : ∀ M3 : Mem, mK M3 q = kEN → (∀ M4 : Mem, M4 = sR (sR (sR M3 q 4 none) q 3 none) q 2 none → UL M M4 t q (some c)) → Go C 133 [some (vr (some t)), some (vr (some q)), some (vr (some c))] [] M3 0 0 := by
      intro M3 hkq3 hU
      refine g_aload_n hC dJ6_deleteEntry_133 rfl ?_
      refine g_aload_n hC dJ6_deleteEntry_134 rfl ?_
      refine g_aload_n hC dJ6_deleteEntry_135 rfl ?_
      refine g_null hC dJ6_deleteEntry_136 ?_
      refine g_dup_x1 hC dJ6_deleteEntry_137 rfl rfl ?_
      refine g_putR hC (ci := 9) (by first | with_reducible rfl | with_reducible assumption | (simp only [mR_sI, mR_sL]; with_reducible assumption) | exact rfl | assumption) (by first | with_reducible assumption | (simp only [mK_sI, mK_sR, mK_sL, mK_sO]; with_reducible assumption) | assumption | (simp only [mK_sI, mK_sR, mK_sL, mK_sO, mK_nw, mK_sK]; first | assumption | (simp only [*]; done))) rfl 4 (by decide) q984 (Or.inl rfl) (Or.inl rfl) rfl dJ6_deleteEntry_138 ?_
      refine g_dup_x1 hC dJ6_deleteEntry_141 rfl rfl ?_
      refine g_putR hC (ci := 9) (by first | with_reducible rfl | with_reducible assumption | (simp only [mR_sI, mR_sL]; with_reducible assumption) | exact rfl | assumption) (by first | with_reducible assumption | (simp only [mK_sI, mK_sR, mK_sL, mK_sO]; with_reducible assumption) | assumption | (simp only [mK_sI, mK_sR, mK_sL, mK_sO, mK_nw, mK_sK]; first | assumption | (simp only [*]; done))) rfl 3 (by decide) q982 (Or.inl rfl) (Or.inl rfl) rfl dJ6_deleteEntry_142 ?_
      refine g_putR hC (ci := 9) (by first | with_reducible rfl | with_reducible assumption | (simp only [mR_sI, mR_sL]; with_reducible assumption) | exact rfl | assumption) (by first | with_reducible assumption | (simp only [mK_sI, mK_sR, mK_sL, mK_sO]; with_reducible assumption) | assumption | (simp only [mK_sI, mK_sR, mK_sL, mK_sO, mK_nw, mK_sK]; first | assumption | (simp only [*]; done))) rfl 2 (by decide) q980 (Or.inl rfl) (Or.inl rfl) rfl dJ6_deleteEntry_145 ?_
      exact fix _ (hF.ul hq hch (hU _ rfl)) hkq3
    have e3 : mR (sR M c 4 (mR M q 4)) q 4 = mR M q 4 := mR_sRa hcq.symm 4
    refine g_aload_n hC dJ6_deleteEntry_80 rfl ?_
    refine g_aload_n hC dJ6_deleteEntry_81 rfl ?_
    refine g_getR hC (ci := 9) (by first | with_reducible rfl | with_reducible assumption | (simp only [mR_sI, mR_sL]; with_reducible assumption) | exact rfl | assumption) (by first | with_reducible assumption | (simp only [mK_sI, mK_sR, mK_sL, mK_sO]; with_reducible assumption) | assumption | (simp only [mK_sI, mK_sR, mK_sL, mK_sO, mK_nw, mK_sK]; first | assumption | (simp only [*]; done))) rfl 4 (by decide) q984 (Or.inl rfl) rfl dJ6_deleteEntry_82 ?_
    refine g_putR hC (ci := 9) (by first | with_reducible rfl | with_reducible assumption | (simp only [mR_sI, mR_sL]; with_reducible assumption) | exact rfl | assumption) (by first | with_reducible assumption | (simp only [mK_sI, mK_sR, mK_sL, mK_sO]; with_reducible assumption) | assumption | (simp only [mK_sI, mK_sR, mK_sL, mK_sO, mK_nw, mK_sK]; first | assumption | (simp only [*]; done))) rfl 4 (by decide) q984 (Or.inl rfl) (Or.inl rfl) rfl dJ6_deleteEntry_85 ?_
    refine g_aload_n hC dJ6_deleteEntry_88 rfl ?_
    refine g_getR hC (ci := 9) (by first | with_reducible rfl | with_reducible assumption | (simp only [mR_sI, mR_sL]; with_reducible assumption) | exact rfl | assumption) (by first | with_reducible assumption | (simp only [mK_sI, mK_sR, mK_sL, mK_sO]; with_reducible assumption) | assumption | (simp only [mK_sI, mK_sR, mK_sL, mK_sO, mK_nw, mK_sK]; first | assumption | (simp only [*]; done))) rfl 4 (by decide) q984 (Or.inl rfl) rfl dJ6_deleteEntry_89 ?_
    rw [e3]
    refine g_ifnonnull hC 103 dJ6_deleteEntry_92 (by decide) (fun p hc => ?_) (fun hc => ?_)
    · obtain ⟨p1, p2, p3, p4, p5, p6⟩ := hpar p hc
      have hpc' : p ≠ c := by intro z; subst z; exact hpc hc
      refine g_aload_n hC dJ6_deleteEntry_103 rfl ?_
      refine g_aload_n hC dJ6_deleteEntry_104 rfl ?_
      refine g_getR hC (ci := 9) (by first | with_reducible rfl | with_reducible assumption | (simp only [mR_sI, mR_sL]; with_reducible assumption) | exact rfl | assumption) (by first | with_reducible assumption | (simp only [mK_sI, mK_sR, mK_sL, mK_sO]; with_reducible assumption) | assumption | (simp only [mK_sI, mK_sR, mK_sL, mK_sO, mK_nw, mK_sK]; first | assumption | (simp only [*]; done))) rfl 4 (by decide) q984 (Or.inl rfl) rfl dJ6_deleteEntry_105 ?_
      rw [e3]
      refine g_getR hC (ci := 9) (by first | with_reducible rfl | with_reducible assumption | (simp only [mR_sI, mR_sL]; with_reducible assumption) | exact rfl | assumption) (by first | with_reducible assumption | (simp only [mK_sI, mK_sR, mK_sL, mK_sO]; with_reducible assumption) | assumption | (simp only [mK_sI, mK_sR, mK_sL, mK_sO, mK_nw, mK_sK]; first | assumption | (simp only [*]; done))) rfl 2 (by decide) q980 (Or.inl rfl) rfl dJ6_deleteEntry_108 ?_
      have e4 : mR (sR M c 4 (mR M q 4)) p 2 = mR M p 2 := mR_sRk p (by decide)
      rw [e4]
      refine g_acmp_ne hC 125 dJ6_deleteEntry_111 (by decide) (fun hc2 => ?_) (fun hc2 => ?_)
      · refine g_aload_n hC dJ6_deleteEntry_125 rfl ?_
        refine g_getR hC (ci := 9) (by first | with_reducible rfl | with_reducible assumption | (simp only [mR_sI, mR_sL]; with_reducible assumption) | exact rfl | assumption) (by first | with_reducible assumption | (simp only [mK_sI, mK_sR, mK_sL, mK_sO]; with_reducible assumption) | assumption | (simp only [mK_sI, mK_sR, mK_sL, mK_sO, mK_nw, mK_sK]; first | assumption | (simp only [*]; done))) rfl 4 (by decide) q984 (Or.inl rfl) rfl dJ6_deleteEntry_126 ?_
        rw [e3]
        refine g_aload_n hC dJ6_deleteEntry_129 rfl ?_
        refine g_putR hC (ci := 9) (by first | with_reducible rfl | with_reducible assumption | (simp only [mR_sI, mR_sL]; with_reducible assumption) | exact rfl | assumption) (by first | with_reducible assumption | (simp only [mK_sI, mK_sR, mK_sL, mK_sO]; with_reducible assumption) | assumption | (simp only [mK_sI, mK_sR, mK_sL, mK_sO, mK_nw, mK_sK]; first | assumption | (simp only [*]; done))) rfl 3 (by decide) q982 (Or.inl rfl) (Or.inl rfl) rfl dJ6_deleteEntry_130 ?_
        refine fin _ hkq (fun M4 e => ?_)
        subst e
        unfold UL Sh
        simp only [mK_sR, mN_sR, mO_sR, mI_sR, mL_sR, mR_sR]
        refine ⟨?_, ?_, ?_, ?_, ?_, ?_, ?_, ?_, ?_, ?_, ?_⟩ <;> grind
      · refine g_aload_n hC dJ6_deleteEntry_114 rfl ?_
        refine g_getR hC (ci := 9) (by first | with_reducible rfl | with_reducible assumption | (simp only [mR_sI, mR_sL]; with_reducible assumption) | exact rfl | assumption) (by first | with_reducible assumption | (simp only [mK_sI, mK_sR, mK_sL, mK_sO]; with_reducible assumption) | assumption | (simp only [mK_sI, mK_sR, mK_sL, mK_sO, mK_nw, mK_sK]; first | assumption | (simp only [*]; done))) rfl 4 (by decide) q984 (Or.inl rfl) rfl dJ6_deleteEntry_115 ?_
        rw [e3]
        refine g_aload_n hC dJ6_deleteEntry_118 rfl ?_
        refine g_putR hC (ci := 9) (by first | with_reducible rfl | with_reducible assumption | (simp only [mR_sI, mR_sL]; with_reducible assumption) | exact rfl | assumption) (by first | with_reducible assumption | (simp only [mK_sI, mK_sR, mK_sL, mK_sO]; with_reducible assumption) | assumption | (simp only [mK_sI, mK_sR, mK_sL, mK_sO, mK_nw, mK_sK]; first | assumption | (simp only [*]; done))) rfl 2 (by decide) q980 (Or.inl rfl) (Or.inl rfl) rfl dJ6_deleteEntry_119 ?_
        refine g_goto hC 133 dJ6_deleteEntry_122 (by decide) ?_
        refine fin _ hkq (fun M4 e => ?_)
        subst e
        unfold UL Sh
        simp only [mK_sR, mN_sR, mO_sR, mI_sR, mL_sR, mR_sR]
        refine ⟨?_, ?_, ?_, ?_, ?_, ?_, ?_, ?_, ?_, ?_, ?_⟩ <;> grind
    · refine g_aload_n hC dJ6_deleteEntry_95 rfl ?_
      refine g_aload_n hC dJ6_deleteEntry_96 rfl ?_
      refine g_putR hC (ci := 8) (by first | with_reducible rfl | with_reducible assumption | (simp only [mR_sI, mR_sL]; with_reducible assumption) | exact rfl | assumption) (by first | with_reducible assumption | (simp only [mK_sI, mK_sR, mK_sL, mK_sO]; with_reducible assumption) | assumption | (simp only [mK_sI, mK_sR, mK_sL, mK_sO, mK_nw, mK_sK]; first | assumption | (simp only [*]; done))) rfl 3 (by decide) q273 (Or.inl rfl) (Or.inl rfl) rfl dJ6_deleteEntry_97 ?_
      refine g_goto hC 133 dJ6_deleteEntry_100 (by decide) ?_
      refine fin _ hkq (fun M4 e => ?_)
      subst e
      unfold UL Sh
      simp only [mK_sR, mN_sR, mO_sR, mI_sR, mL_sR, mR_sR]
      refine ⟨?_, ?_, ?_, ?_, ?_, ?_, ?_, ?_, ?_, ?_, ?_⟩ <;> grind
  -- no child is there
  have leaf : Leaf M q → Go C 164 [some (vr (some t)), some (vr (some q)), some (vr none)] [] M 0 0 := by
    intro hl
    have unl : ∀ (M1 : Mem) (lo1 hi1 : Nat → Nat), Fx M M1 ρ t (n + 1) ad ps lo1 hi1 → Leaf M1 q → mR M q 4 ≠ none → Go C 192 [some (vr (some t)), some (vr (some q)), some (vr none)] [] M1 0 0 := by
      intro M1 lo1 hi1 hF1 hl1 hpn
      have hkt1 := hF1.2.2.2.2.2.2.1
      have hkq1 := (hF1.1.2 q hq).1
      obtain ⟨g1, g2, g3, g4, g5, g6, g7, g8, g9, g10⟩ := hF1.1.1
      have gq := g2 q hq
      refine g_aload_n hC dJ6_deleteEntry_192 rfl ?_
      refine g_getR hC (ci := 9) (by first | with_reducible rfl | with_reducible assumption | (simp only [mR_sI, mR_sL]; with_reducible assumption) | exact rfl | assumption) (by first | with_reducible assumption | (simp only [mK_sI, mK_sR, mK_sL, mK_sO]; with_reducible assumption) | assumption | (simp only [mK_sI, mK_sR, mK_sL, mK_sO, mK_nw, mK_sK]; first | assumption | (simp only [*]; done))) rfl 4 (by decide) q984 (Or.inl rfl) rfl dJ6_deleteEntry_193 ?_
      refine g_ifnull hC 245 dJ6_deleteEntry_196 (by decide) (fun hc => ?_) (fun p hc => ?_)
      · -- q is the root: then it is alone
        have r1 := g10 q (g7 q hq hc)
        have r2 := g3 q hq hl1.1
        have r3 := g5 q hq hl1.2
        have hn0 : n = 0 := by omega
        exfalso
        subst hn0
        obtain ⟨p, e⟩ : ∃ p, mR M q 4 = some p := by
          cases e : mR M q 4 with
          | none => exact absurd e hpn
          | some p => exact ⟨p, rfl⟩
        obtain ⟨p1, p2, -⟩ := hpar p e
        exact p2 (Nd.inj p1 hq (by have := p1.1; have := hq.1; omega))
      · obtain ⟨c1, c2⟩ := g8 q p hq hc
        have gp := g2 p c1
        have hkp := (hF1.1.2 p c1).1
        have p2 : p ≠ q := by
          intro z; subst z
          rcases c2 with c2 | c2
          · have := g4 p p hq c2; omega
          · have := g6 p p hq c2; omega
        have p3 : p ≠ t := hF1.1.ne hkt1 c1
        have hq1t : q ≠ t := hqt
        have hl2 : mR M1 q 2 = none := hl1.1
        have hl3 : mR M1 q 3 = none := hl1.2
        have fin : ∀ M3 : Mem, mK M3 q = kEN → (∀ M4 : Mem, M4 = sR M3 q 4 none → UL M1 M4 t q none) → Go C 240 [some (vr (some t)), some (vr (some q)), some (vr none)] [] M3 0 0 := by
          intro M3 hkq3 hU
          refine g_aload_n hC dJ6_deleteEntry_240 rfl ?_
          refine g_null hC dJ6_deleteEntry_241 ?_
          refine g_putR hC (ci := 9) (by first | with_reducible rfl | with_reducible assumption | (simp only [mR_sI, mR_sL]; with_reducible assumption) | exact rfl | assumption) (by first | with_reducible assumption | (simp only [mK_sI, mK_sR, mK_sL, mK_sO]; with_reducible assumption) | assumption | (simp only [mK_sI, mK_sR, mK_sL, mK_sO, mK_nw, mK_sK]; first | assumption | (simp only [*]; done))) rfl 4 (by decide) q984 (Or.inl rfl) (Or.inl rfl) rfl dJ6_deleteEntry_242 ?_
          refine g_vret hC hQ (by omega) (by omega) dJ6_deleteEntry_245 ?_
          exact hend _ (hF1.ul hq (Or.inl hl1) (hU _ rfl)).gone
        refine g_aload_n hC dJ6_deleteEntry_199 rfl ?_
        refine g_aload_n hC dJ6_deleteEntry_200 rfl ?_
        refine g_getR hC (ci := 9) (by first | with_reducible rfl | with_reducible assumption | (simp only [mR_sI, mR_sL]; with_reducible assumption) | exact rfl | assumption) (by first | with_reducible assumption | (simp only [mK_sI, mK_sR, mK_sL, mK_sO]; with_reducible assumption) | assumption | (simp only [mK_sI, mK_sR, mK_sL, mK_sO, mK_nw, mK_sK]; first | assumption | (simp only [*]; done))) rfl 4 (by decide) q984 (Or.inl rfl) rfl dJ6_deleteEntry_201 ?_
        rw [hc]
        refine g_getR hC (ci := 9) (by first | with_reducible rfl | with_reducible assumption | (simp only [mR_sI, mR_sL]; with_reducible assumption) | exact rfl | assumption) (by first | with_reducible assumption | (simp only [mK_sI, mK_sR, mK_sL, mK_sO]; with_reducible assumption) | assumption | (simp only [mK_sI, mK_sR, mK_sL, mK_sO, mK_nw, mK_sK]; first | assumption | (simp only [*]; done))) rfl 2 (by decide) q980 (Or.inl rfl) rfl dJ6_deleteEntry_204 ?_
        refine g_acmp_ne hC 221 dJ6_deleteEntry_207 (by decide) (fun hc2 => ?_) (fun hc2 => ?_)
        · refine g_aload_n hC dJ6_deleteEntry_221 rfl ?_
          refine g_aload_n hC dJ6_deleteEntry_222 rfl ?_
          refine g_getR hC (ci := 9) (by first | with_reducible rfl | with_reducible assumption | (simp only [mR_sI, mR_sL]; with_reducible assumption) | exact rfl | assumption) (by first | with_reducible assumption | (simp only [mK_sI, mK_sR, mK_sL, mK_sO]; with_reducible assumption) | assumption | (simp only [mK_sI, mK_sR, mK_sL, mK_sO, mK_nw, mK_sK]; first | assumption | (simp only [*]; done))) rfl 4 (by decide) q984 (Or.inl rfl) rfl dJ6_deleteEntry_223 ?_
          rw [hc]
          refine g_getR hC (ci := 9) (by first | with_reducible rfl | with_reducible assumption | (simp only [mR_sI, mR_sL]; with_reducible assumption) | exact rfl | assumption) (by first | with_reducible assumption | (simp only [mK_sI, mK_sR, mK_sL, mK_sO]; with_reducible assumption) | assumption | (simp only [mK_sI, mK_sR, mK_sL, mK_sO, mK_nw, mK_sK]; first | assumption | (simp only [*]; done))) rfl 3 (by decide) q982 (Or.inl rfl) rfl dJ6_deleteEntry_226 ?_
          refine g_acmp_ne hC 240 dJ6_deleteEntry_229 (by decide) (fun hc3 => ?_) (fun hc3 => ?_)
          · exfalso
            rcases c2 with c2 | c2
            · exact hc2 c2.symm
            · exact hc3 c2.symm
          · refine g_aload_n hC dJ6_deleteEntry_232 rfl ?_
            refine g_getR hC (ci := 9) (by first | with_reducible rfl | with_reducible assumption | (simp only [mR_sI, mR_sL]; with_reducible assumption) | exact rfl | assumption) (by first | with_reducible assumption | (simp only [mK_sI, mK_sR, mK_sL, mK_sO]; with_reducible assumption) | assumption | (simp only [mK_sI, mK_sR, mK_sL, mK_sO, mK_nw, mK_sK]; first | assumption | (simp only [*]; done))) rfl 4 (by decide) q984 (Or.inl rfl) rfl dJ6_deleteEntry_233 ?_
            rw [hc]
            refine g_null hC dJ6_deleteEntry_236 ?_
            refine g_putR hC (ci := 9) (by first | with_reducible rfl | with_reducible assumption | (simp only [mR_sI, mR_sL]; with_reducible assumption) | exact rfl | assumption) (by first | with_reducible assumption | (simp only [mK_sI, mK_sR, mK_sL, mK_sO]; with_reducible assumption) | assumption | (simp only [mK_sI, mK_sR, mK_sL, mK_sO, mK_nw, mK_sK]; first | assumption | (simp only [*]; done))) rfl 3 (by decide) q982 (Or.inl rfl) (Or.inl rfl) rfl dJ6_deleteEntry_237 ?_
            refine fin _ hkq1 (fun M4 e => ?_)
            subst e
            unfold UL Sh
            simp only [mK_sR, mN_sR, mO_sR, mI_sR, mL_sR, mR_sR]
            refine ⟨?_, ?_, ?_, ?_, ?_, ?_, ?_, ?_, ?_, ?_, ?_⟩ <;> grind
        · refine g_aload_n hC dJ6_deleteEntry_210 rfl ?_
          refine g_getR hC (ci := 9) (by first | with_reducible rfl | with_reducible assumption | (simp only [mR_sI, mR_sL]; with_reducible assumption) | exact rfl | assumption) (by first | with_reducible assumption | (simp only [mK_sI, mK_sR, mK_sL, mK_sO]; with_reducible assumption) | assumption | (simp only [mK_sI, mK_sR, mK_sL, mK_sO, mK_nw, mK_sK]; first | assumption | (simp only [*]; done))) rfl 4 (by decide) q984 (Or.inl rfl) rfl dJ6_deleteEntry_211 ?_
          rw [hc]
          refine g_null hC dJ6_deleteEntry_214 ?_
          refine g_putR hC (ci := 9) (by first | with_reducible rfl | with_reducible assumption | (simp only [mR_sI, mR_sL]; with_reducible assumption) | exact rfl | assumption) (by first | with_reducible assumption | (simp only [mK_sI, mK_sR, mK_sL, mK_sO]; with_reducible assumption) | assumption | (simp only [mK_sI, mK_sR, mK_sL, mK_sO, mK_nw, mK_sK]; first | assumption | (simp only [*]; done))) rfl 2 (by decide) q980 (Or.inl rfl) (Or.inl rfl) rfl dJ6_deleteEntry_215 ?_
          refine g_goto hC 240 dJ6_deleteEntry_218 (by decide) ?_
          refine fin _ hkq1 (fun M4 e => ?_)
          subst e
          unfold UL Sh
          simp only [mK_sR, mN_sR, mO_sR, mI_sR, mL_sR, mR_sR]
          refine ⟨?_, ?_, ?_, ?_, ?_, ?_, ?_, ?_, ?_, ?_, ?_⟩ <;> grind
    refine g_aload_n hC dJ6_deleteEntry_164 rfl ?_
    refine g_getR hC (ci := 9) (by first | with_reducible rfl | with_reducible assumption | (simp only [mR_sI, mR_sL]; with_reducible assumption) | exact rfl | assumption) (by first | with_reducible assumption | (simp only [mK_sI, mK_sR, mK_sL, mK_sO]; with_reducible assumption) | assumption | (simp only [mK_sI, mK_sR, mK_sL, mK_sO, mK_nw, mK_sK]; first | assumption | (simp only [*]; done))) rfl 4 (by decide) q984 (Or.inl rfl) rfl dJ6_deleteEntry_165 ?_
    refine g_ifnonnull hC 179 dJ6_deleteEntry_168 (by decide) (fun p hc => ?_) (fun hc => ?_)
    · refine g_aload_n hC dJ6_deleteEntry_179 rfl ?_
      refine g_getI hC (ci := 9) (by first | with_reducible rfl | with_reducible assumption | (simp only [mR_sI, mR_sL]; with_reducible assumption) | exact rfl | assumption) (by first | with_reducible assumption | (simp only [mK_sI, mK_sR, mK_sL, mK_sO]; with_reducible assumption) | assumption | (simp only [mK_sI, mK_sR, mK_sL, mK_sO, mK_nw, mK_sK]; first | assumption | (simp only [*]; done))) rfl 5 (by decide) q986 (Or.inl rfl) rfl dJ6_deleteEntry_180 ?_
      refine g_iconst (v := 1) hC dJ6_deleteEntry_183 (by decide) ?_
      refine g_icmp_ne hC 192 dJ6_deleteEntry_184 (by decide) (fun hc2 => ?_) (fun hc2 => ?_)
      · exact unl M lo hi hF hl (by rw [hc]; simp)
      · refine g_aload_n hC dJ6_deleteEntry_187 rfl ?_
        refine g_aload_n hC dJ6_deleteEntry_188 rfl ?_
        refine g_callV hC (by first | with_reducible rfl | with_reducible assumption | (simp only [mR_sI, mR_sL]; with_reducible assumption) | exact rfl | assumption) (Rk.o (ci := 8) (by first | with_reducible assumption | (simp only [mK_sI, mK_sR, mK_sL, mK_sO]; with_reducible assumption) | assumption | (simp only [mK_sI, mK_sR, mK_sL, mK_sO, mK_nw, mK_sK]; first | assumption | (simp only [*]; done))) rfl) (ct_fixDel hB hF hq) rfl (by decide) rfl rfl yk_J6_fixAfterDeletion q2263 q2265 qs28 q59 q2266 rfl dJ6_deleteEntry_189 (by omega) (by omega) (fun v M1 hp => ?_)
        obtain ⟨rfl, ⟨lo5, hi5, hF5⟩, hl5⟩ := hp
        simp only [Option.toList_some, Option.toList_none, List.cons_append, List.nil_append, Nat.add_zero, Nat.zero_add]
        exact unl M1 lo5 hi5 hF5 (hl5 hl) (by rw [hc]; simp)
    · refine g_aload_n hC dJ6_deleteEntry_171 rfl ?_
      refine g_null hC dJ6_deleteEntry_172 ?_
      refine g_putR hC (ci := 8) (by first | with_reducible rfl | with_reducible assumption | (simp only [mR_sI, mR_sL]; with_reducible assumption) | exact rfl | assumption) (by first | with_reducible assumption | (simp only [mK_sI, mK_sR, mK_sL, mK_sO]; with_reducible assumption) | assumption | (simp only [mK_sI, mK_sR, mK_sL, mK_sO, mK_nw, mK_sK]; first | assumption | (simp only [*]; done))) rfl 3 (by decide) q273 (Or.inl rfl) (Or.inl rfl) rfl dJ6_deleteEntry_173 ?_
      refine g_goto hC 245 dJ6_deleteEntry_176 (by decide) ?_
      refine g_vret hC hQ (by omega) (by omega) dJ6_deleteEntry_245 ?_
      have hl2 : mR M q 2 = none := hl.1
      have hl3 : mR M q 3 = none := hl.2
      refine hend _ (hF.ul hq (Or.inl hl) ?_).gone
      unfold UL Sh
      simp only [mK_sR, mN_sR, mO_sR, mI_sR, mL_sR, mR_sR]
      refine ⟨?_, ?_, ?_, ?_, ?_, ?_, ?_, ?_, ?_, ?_, ?_⟩ <;> grind
  refine g_aload_n hC dJ6_deleteEntry_57 rfl ?_
  refine g_getR hC (ci := 9) (by first | with_reducible rfl | with_reducible assumption | (simp only [mR_sI, mR_sL]; with_reducible assumption) | exact rfl | assumption) (by first | with_reducible assumption | (simp only [mK_sI, mK_sR, mK_sL, mK_sO]; with_reducible assumption) | assumption | (simp only [mK_sI, mK_sR, mK_sL, mK_sO, mK_nw, mK_sK]; first | assumption | (simp only [*]; done))) rfl 2 (by decide) q980 (Or.inl rfl) rfl dJ6_deleteEntry_58 ?_
  refine g_ifnull hC 71 dJ6_deleteEntry_61 (by decide) (fun hc => ?_) (fun c hc => ?_)
  · refine g_aload_n hC dJ6_deleteEntry_71 rfl ?_
    refine g_getR hC (ci := 9) (by first | with_reducible rfl | with_reducible assumption | (simp only [mR_sI, mR_sL]; with_reducible assumption) | exact rfl | assumption) (by first | with_reducible assumption | (simp only [mK_sI, mK_sR, mK_sL, mK_sO]; with_reducible assumption) | assumption | (simp only [mK_sI, mK_sR, mK_sL, mK_sO, mK_nw, mK_sK]; first | assumption | (simp only [*]; done))) rfl 3 (by decide) q982 (Or.inl rfl) rfl dJ6_deleteEntry_72 ?_
    refine g_astore_n hC dJ6_deleteEntry_75 rfl rfl ?_
    try simp only [stL, clr]
    refine g_aload_n hC dJ6_deleteEntry_76 rfl ?_
    refine g_ifnull hC 164 dJ6_deleteEntry_77 (by decide) (fun hc2 => ?_) (fun c hc2 => ?_)
    · rw [hc2]
      exact leaf ⟨hc, hc2⟩
    · rw [hc2]
      obtain ⟨c1, c2, c3, c4⟩ := h6 q c hq hc2
      have := h2 c c1
      refine chld c (Or.inl ⟨hc, hc2⟩) c1 (by intro z; subst z; omega) ?_
      intro z
      rcases (h8 q c hq z).2 with w | w
      · have := h4 c q c1 w; omega
      · have := h6 c q c1 w; omega
  · have hc3 : mR M q 3 = none := by
      rcases hone with e | e
      · rw [e] at hc; cases hc
      · exact e
    refine g_aload_n hC dJ6_deleteEntry_64 rfl ?_
    refine g_getR hC (ci := 9) (by first | with_reducible rfl | with_reducible assumption | (simp only [mR_sI, mR_sL]; with_reducible assumption) | exact rfl | assumption) (by first | with_reducible assumption | (simp only [mK_sI, mK_sR, mK_sL, mK_sO]; with_reducible assumption) | assumption | (simp only [mK_sI, mK_sR, mK_sL, mK_sO, mK_nw, mK_sK]; first | assumption | (simp only [*]; done))) rfl 2 (by decide) q980 (Or.inl rfl) rfl dJ6_deleteEntry_65 ?_
    rw [hc]
    refine g_goto hC 75 dJ6_deleteEntry_68 (by decide) ?_
    refine g_astore_n hC dJ6_deleteEntry_75 rfl rfl ?_
    try simp only [stL, clr]
    refine g_aload_n hC dJ6_deleteEntry_76 rfl ?_
    refine g_ifnull hC 164 dJ6_deleteEntry_77 (by decide) (fun hc2 => ?_) (fun c' hc2 => ?_)
    · cases hc2
    · obtain ⟨c1, c2, c3, c4⟩ := h4 q c hq hc
      have := h2 c c1
      refine chld c (Or.inr ⟨hc3, hc⟩) c1 (by intro z; subst z; omega) ?_
      intro z
      rcases (h8 q c hq z).2 with w | w
      · have := h4 c q c1 w; omega
      · have := h6 c q c1 w; omega
end Del

