set_option maxRecDepth 100000
abbrev cJ6_fixAfterDeletion : ByteArray := prog_83_method_85_code
def yJ6_fixAfterDeletion : MethodName := ⟨RJ6, "fixAfterDeletion", "(Ljava/util/TreeMap$Entry;)V"⟩
def dkwJ6_fixAfterDeletion_14 : List UInt8 := [182, 1, 58, 42, 180, 0, 101, 76, 167, 254, 170, 43, 4, 184, 1, 51, 177]
abbrev dktJ6_fixAfterDeletion_14 : List UInt8 := dkwJ6_fixAfterDeletion_14 ++ []
def dkwJ6_fixAfterDeletion_13 : List UInt8 := [184, 1, 51, 43, 184, 1, 38, 4, 184, 1, 51, 44, 184, 1, 41, 4, 184, 1, 51, 42, 43, 184, 1, 38]
abbrev dktJ6_fixAfterDeletion_13 : List UInt8 := dkwJ6_fixAfterDeletion_13 ++ dktJ6_fixAfterDeletion_14
def dkwJ6_fixAfterDeletion_12 : List UInt8 := [184, 1, 51, 42, 44, 182, 1, 55, 43, 184, 1, 38, 184, 1, 41, 77, 44, 43, 184, 1, 38, 184, 1, 47]
abbrev dktJ6_fixAfterDeletion_12 : List UInt8 := dkwJ6_fixAfterDeletion_12 ++ dktJ6_fixAfterDeletion_13
def dkwJ6_fixAfterDeletion_11 : List UInt8 := [167, 0, 80, 44, 184, 1, 41, 184, 1, 47, 4, 160, 0, 29, 44, 184, 1, 44, 4, 184, 1, 51, 44, 3]
abbrev dktJ6_fixAfterDeletion_11 : List UInt8 := dkwJ6_fixAfterDeletion_11 ++ dktJ6_fixAfterDeletion_12
def dkwJ6_fixAfterDeletion_10 : List UInt8 := [160, 0, 27, 44, 184, 1, 41, 184, 1, 47, 4, 160, 0, 16, 44, 3, 184, 1, 51, 43, 184, 1, 38, 76]
abbrev dktJ6_fixAfterDeletion_10 : List UInt8 := dkwJ6_fixAfterDeletion_10 ++ dktJ6_fixAfterDeletion_11
def dkwJ6_fixAfterDeletion_9 : List UInt8 := [42, 43, 184, 1, 38, 182, 1, 58, 43, 184, 1, 38, 184, 1, 41, 77, 44, 184, 1, 44, 184, 1, 47, 4]
abbrev dktJ6_fixAfterDeletion_9 : List UInt8 := dkwJ6_fixAfterDeletion_9 ++ dktJ6_fixAfterDeletion_10
def dkwJ6_fixAfterDeletion_8 : List UInt8 := [184, 1, 41, 77, 44, 184, 1, 47, 154, 0, 32, 44, 4, 184, 1, 51, 43, 184, 1, 38, 3, 184, 1, 51]
abbrev dktJ6_fixAfterDeletion_8 : List UInt8 := dkwJ6_fixAfterDeletion_8 ++ dktJ6_fixAfterDeletion_9
def dkwJ6_fixAfterDeletion_7 : List UInt8 := [4, 184, 1, 51, 42, 43, 184, 1, 38, 182, 1, 55, 42, 180, 0, 101, 76, 167, 255, 73, 43, 184, 1, 38]
abbrev dktJ6_fixAfterDeletion_7 : List UInt8 := dkwJ6_fixAfterDeletion_7 ++ dktJ6_fixAfterDeletion_8
def dkwJ6_fixAfterDeletion_6 : List UInt8 := [77, 44, 43, 184, 1, 38, 184, 1, 47, 184, 1, 51, 43, 184, 1, 38, 4, 184, 1, 51, 44, 184, 1, 44]
abbrev dktJ6_fixAfterDeletion_6 : List UInt8 := dkwJ6_fixAfterDeletion_6 ++ dktJ6_fixAfterDeletion_7
def dkwJ6_fixAfterDeletion_5 : List UInt8 := [184, 1, 41, 4, 184, 1, 51, 44, 3, 184, 1, 51, 42, 44, 182, 1, 58, 43, 184, 1, 38, 184, 1, 44]
abbrev dktJ6_fixAfterDeletion_5 : List UInt8 := dkwJ6_fixAfterDeletion_5 ++ dktJ6_fixAfterDeletion_6
def dkwJ6_fixAfterDeletion_4 : List UInt8 := [184, 1, 51, 43, 184, 1, 38, 76, 167, 0, 80, 44, 184, 1, 44, 184, 1, 47, 4, 160, 0, 29, 44]
abbrev dktJ6_fixAfterDeletion_4 : List UInt8 := dkwJ6_fixAfterDeletion_4 ++ dktJ6_fixAfterDeletion_5
def dkwJ6_fixAfterDeletion_3 : List UInt8 := [184, 1, 41, 184, 1, 47, 4, 160, 0, 27, 44, 184, 1, 44, 184, 1, 47, 4, 160, 0, 16, 44, 3]
abbrev dktJ6_fixAfterDeletion_3 : List UInt8 := dkwJ6_fixAfterDeletion_3 ++ dktJ6_fixAfterDeletion_4
def dkwJ6_fixAfterDeletion_2 : List UInt8 := [184, 1, 38, 3, 184, 1, 51, 42, 43, 184, 1, 38, 182, 1, 55, 43, 184, 1, 38, 184, 1, 44, 77, 44]
abbrev dktJ6_fixAfterDeletion_2 : List UInt8 := dkwJ6_fixAfterDeletion_2 ++ dktJ6_fixAfterDeletion_3
def dkwJ6_fixAfterDeletion_1 : List UInt8 := [166, 0, 162, 43, 184, 1, 38, 184, 1, 44, 77, 44, 184, 1, 47, 154, 0, 32, 44, 4, 184, 1, 51, 43]
abbrev dktJ6_fixAfterDeletion_1 : List UInt8 := dkwJ6_fixAfterDeletion_1 ++ dktJ6_fixAfterDeletion_2
def dkwJ6_fixAfterDeletion_0 : List UInt8 := [43, 42, 180, 0, 101, 165, 1, 84, 43, 184, 1, 47, 4, 160, 1, 76, 43, 43, 184, 1, 38, 184, 1, 41]
abbrev dktJ6_fixAfterDeletion_0 : List UInt8 := dkwJ6_fixAfterDeletion_0 ++ dktJ6_fixAfterDeletion_1
theorem dksJ6_fixAfterDeletion_0 : cJ6_fixAfterDeletion.data.toList.drop 0 = dktJ6_fixAfterDeletion_0 := by decide +kernel
theorem dksJ6_fixAfterDeletion_1 : cJ6_fixAfterDeletion.data.toList.drop 24 = dktJ6_fixAfterDeletion_1 := dk_seg dksJ6_fixAfterDeletion_0 24 rfl rfl
theorem dksJ6_fixAfterDeletion_2 : cJ6_fixAfterDeletion.data.toList.drop 48 = dktJ6_fixAfterDeletion_2 := dk_seg dksJ6_fixAfterDeletion_1 24 rfl rfl
theorem dksJ6_fixAfterDeletion_3 : cJ6_fixAfterDeletion.data.toList.drop 72 = dktJ6_fixAfterDeletion_3 := dk_seg dksJ6_fixAfterDeletion_2 24 rfl rfl
theorem dksJ6_fixAfterDeletion_4 : cJ6_fixAfterDeletion.data.toList.drop 95 = dktJ6_fixAfterDeletion_4 := dk_seg dksJ6_fixAfterDeletion_3 23 rfl rfl
theorem dksJ6_fixAfterDeletion_5 : cJ6_fixAfterDeletion.data.toList.drop 118 = dktJ6_fixAfterDeletion_5 := dk_seg dksJ6_fixAfterDeletion_4 23 rfl rfl
theorem dksJ6_fixAfterDeletion_6 : cJ6_fixAfterDeletion.data.toList.drop 142 = dktJ6_fixAfterDeletion_6 := dk_seg dksJ6_fixAfterDeletion_5 24 rfl rfl
theorem dksJ6_fixAfterDeletion_7 : cJ6_fixAfterDeletion.data.toList.drop 166 = dktJ6_fixAfterDeletion_7 := dk_seg dksJ6_fixAfterDeletion_6 24 rfl rfl
theorem dksJ6_fixAfterDeletion_8 : cJ6_fixAfterDeletion.data.toList.drop 190 = dktJ6_fixAfterDeletion_8 := dk_seg dksJ6_fixAfterDeletion_7 24 rfl rfl
theorem dksJ6_fixAfterDeletion_9 : cJ6_fixAfterDeletion.data.toList.drop 214 = dktJ6_fixAfterDeletion_9 := dk_seg dksJ6_fixAfterDeletion_8 24 rfl rfl
theorem dksJ6_fixAfterDeletion_10 : cJ6_fixAfterDeletion.data.toList.drop 238 = dktJ6_fixAfterDeletion_10 := dk_seg dksJ6_fixAfterDeletion_9 24 rfl rfl
theorem dksJ6_fixAfterDeletion_11 : cJ6_fixAfterDeletion.data.toList.drop 262 = dktJ6_fixAfterDeletion_11 := dk_seg dksJ6_fixAfterDeletion_10 24 rfl rfl
theorem dksJ6_fixAfterDeletion_12 : cJ6_fixAfterDeletion.data.toList.drop 286 = dktJ6_fixAfterDeletion_12 := dk_seg dksJ6_fixAfterDeletion_11 24 rfl rfl
theorem dksJ6_fixAfterDeletion_13 : cJ6_fixAfterDeletion.data.toList.drop 310 = dktJ6_fixAfterDeletion_13 := dk_seg dksJ6_fixAfterDeletion_12 24 rfl rfl
theorem dksJ6_fixAfterDeletion_14 : cJ6_fixAfterDeletion.data.toList.drop 334 = dktJ6_fixAfterDeletion_14 := dk_seg dksJ6_fixAfterDeletion_13 24 rfl rfl
theorem dJ6_fixAfterDeletion_0 : decode cJ6_fixAfterDeletion 0 = .ok (.aload_n 1, 1) := dk_43 (dk_at dksJ6_fixAfterDeletion_0 0 rfl rfl)
theorem dJ6_fixAfterDeletion_1 : decode cJ6_fixAfterDeletion 1 = .ok (.aload_n 0, 1) := dk_42 (dk_at dksJ6_fixAfterDeletion_0 1 rfl rfl)
theorem dJ6_fixAfterDeletion_2 : decode cJ6_fixAfterDeletion 2 = .ok (.getfield 101, 3) := dk_180 0 101 (dk_at dksJ6_fixAfterDeletion_0 2 rfl rfl)
theorem dJ6_fixAfterDeletion_5 : decode cJ6_fixAfterDeletion 5 = .ok (.if_acmp .eq 340, 3) := dk_165 1 84 (dk_at dksJ6_fixAfterDeletion_0 5 rfl rfl)
theorem dJ6_fixAfterDeletion_8 : decode cJ6_fixAfterDeletion 8 = .ok (.aload_n 1, 1) := dk_43 (dk_at dksJ6_fixAfterDeletion_0 8 rfl rfl)
theorem dJ6_fixAfterDeletion_9 : decode cJ6_fixAfterDeletion 9 = .ok (.invokestatic 303, 3) := dk_184 1 47 (dk_at dksJ6_fixAfterDeletion_0 9 rfl rfl)
theorem dJ6_fixAfterDeletion_12 : decode cJ6_fixAfterDeletion 12 = .ok (.iconst 1, 1) := dk_4 (dk_at dksJ6_fixAfterDeletion_0 12 rfl rfl)
theorem dJ6_fixAfterDeletion_13 : decode cJ6_fixAfterDeletion 13 = .ok (.if_icmp .ne 332, 3) := dk_160 1 76 (dk_at dksJ6_fixAfterDeletion_0 13 rfl rfl)
theorem dJ6_fixAfterDeletion_16 : decode cJ6_fixAfterDeletion 16 = .ok (.aload_n 1, 1) := dk_43 (dk_at dksJ6_fixAfterDeletion_0 16 rfl rfl)
theorem dJ6_fixAfterDeletion_17 : decode cJ6_fixAfterDeletion 17 = .ok (.aload_n 1, 1) := dk_43 (dk_at dksJ6_fixAfterDeletion_0 17 rfl rfl)
theorem dJ6_fixAfterDeletion_18 : decode cJ6_fixAfterDeletion 18 = .ok (.invokestatic 294, 3) := dk_184 1 38 (dk_at dksJ6_fixAfterDeletion_0 18 rfl rfl)
theorem dJ6_fixAfterDeletion_21 : decode cJ6_fixAfterDeletion 21 = .ok (.invokestatic 297, 3) := dk_184 1 41 (dk_at dksJ6_fixAfterDeletion_0 21 rfl rfl)
theorem dJ6_fixAfterDeletion_24 : decode cJ6_fixAfterDeletion 24 = .ok (.if_acmp .ne 162, 3) := dk_166 0 162 (dk_at dksJ6_fixAfterDeletion_1 0 rfl rfl)
theorem dJ6_fixAfterDeletion_27 : decode cJ6_fixAfterDeletion 27 = .ok (.aload_n 1, 1) := dk_43 (dk_at dksJ6_fixAfterDeletion_1 3 rfl rfl)
theorem dJ6_fixAfterDeletion_28 : decode cJ6_fixAfterDeletion 28 = .ok (.invokestatic 294, 3) := dk_184 1 38 (dk_at dksJ6_fixAfterDeletion_1 4 rfl rfl)
theorem dJ6_fixAfterDeletion_31 : decode cJ6_fixAfterDeletion 31 = .ok (.invokestatic 300, 3) := dk_184 1 44 (dk_at dksJ6_fixAfterDeletion_1 7 rfl rfl)
theorem dJ6_fixAfterDeletion_34 : decode cJ6_fixAfterDeletion 34 = .ok (.astore_n 2, 1) := dk_77 (dk_at dksJ6_fixAfterDeletion_1 10 rfl rfl)
theorem dJ6_fixAfterDeletion_35 : decode cJ6_fixAfterDeletion 35 = .ok (.aload_n 2, 1) := dk_44 (dk_at dksJ6_fixAfterDeletion_1 11 rfl rfl)
theorem dJ6_fixAfterDeletion_36 : decode cJ6_fixAfterDeletion 36 = .ok (.invokestatic 303, 3) := dk_184 1 47 (dk_at dksJ6_fixAfterDeletion_1 12 rfl rfl)
theorem dJ6_fixAfterDeletion_39 : decode cJ6_fixAfterDeletion 39 = .ok (.ifCond .ne 32, 3) := dk_154 0 32 (dk_at dksJ6_fixAfterDeletion_1 15 rfl rfl)
theorem dJ6_fixAfterDeletion_42 : decode cJ6_fixAfterDeletion 42 = .ok (.aload_n 2, 1) := dk_44 (dk_at dksJ6_fixAfterDeletion_1 18 rfl rfl)
theorem dJ6_fixAfterDeletion_43 : decode cJ6_fixAfterDeletion 43 = .ok (.iconst 1, 1) := dk_4 (dk_at dksJ6_fixAfterDeletion_1 19 rfl rfl)
theorem dJ6_fixAfterDeletion_44 : decode cJ6_fixAfterDeletion 44 = .ok (.invokestatic 307, 3) := dk_184 1 51 (dk_at dksJ6_fixAfterDeletion_1 20 rfl rfl)
theorem dJ6_fixAfterDeletion_47 : decode cJ6_fixAfterDeletion 47 = .ok (.aload_n 1, 1) := dk_43 (dk_at dksJ6_fixAfterDeletion_1 23 rfl rfl)
theorem dJ6_fixAfterDeletion_48 : decode cJ6_fixAfterDeletion 48 = .ok (.invokestatic 294, 3) := dk_184 1 38 (dk_at dksJ6_fixAfterDeletion_2 0 rfl rfl)
theorem dJ6_fixAfterDeletion_51 : decode cJ6_fixAfterDeletion 51 = .ok (.iconst 0, 1) := dk_3 (dk_at dksJ6_fixAfterDeletion_2 3 rfl rfl)
theorem dJ6_fixAfterDeletion_52 : decode cJ6_fixAfterDeletion 52 = .ok (.invokestatic 307, 3) := dk_184 1 51 (dk_at dksJ6_fixAfterDeletion_2 4 rfl rfl)
theorem dJ6_fixAfterDeletion_55 : decode cJ6_fixAfterDeletion 55 = .ok (.aload_n 0, 1) := dk_42 (dk_at dksJ6_fixAfterDeletion_2 7 rfl rfl)
theorem dJ6_fixAfterDeletion_56 : decode cJ6_fixAfterDeletion 56 = .ok (.aload_n 1, 1) := dk_43 (dk_at dksJ6_fixAfterDeletion_2 8 rfl rfl)
theorem dJ6_fixAfterDeletion_57 : decode cJ6_fixAfterDeletion 57 = .ok (.invokestatic 294, 3) := dk_184 1 38 (dk_at dksJ6_fixAfterDeletion_2 9 rfl rfl)
theorem dJ6_fixAfterDeletion_60 : decode cJ6_fixAfterDeletion 60 = .ok (.invokevirtual 311, 3) := dk_182 1 55 (dk_at dksJ6_fixAfterDeletion_2 12 rfl rfl)
theorem dJ6_fixAfterDeletion_63 : decode cJ6_fixAfterDeletion 63 = .ok (.aload_n 1, 1) := dk_43 (dk_at dksJ6_fixAfterDeletion_2 15 rfl rfl)
theorem dJ6_fixAfterDeletion_64 : decode cJ6_fixAfterDeletion 64 = .ok (.invokestatic 294, 3) := dk_184 1 38 (dk_at dksJ6_fixAfterDeletion_2 16 rfl rfl)
theorem dJ6_fixAfterDeletion_67 : decode cJ6_fixAfterDeletion 67 = .ok (.invokestatic 300, 3) := dk_184 1 44 (dk_at dksJ6_fixAfterDeletion_2 19 rfl rfl)
theorem dJ6_fixAfterDeletion_70 : decode cJ6_fixAfterDeletion 70 = .ok (.astore_n 2, 1) := dk_77 (dk_at dksJ6_fixAfterDeletion_2 22 rfl rfl)
theorem dJ6_fixAfterDeletion_71 : decode cJ6_fixAfterDeletion 71 = .ok (.aload_n 2, 1) := dk_44 (dk_at dksJ6_fixAfterDeletion_2 23 rfl rfl)
theorem dJ6_fixAfterDeletion_72 : decode cJ6_fixAfterDeletion 72 = .ok (.invokestatic 297, 3) := dk_184 1 41 (dk_at dksJ6_fixAfterDeletion_3 0 rfl rfl)
theorem dJ6_fixAfterDeletion_75 : decode cJ6_fixAfterDeletion 75 = .ok (.invokestatic 303, 3) := dk_184 1 47 (dk_at dksJ6_fixAfterDeletion_3 3 rfl rfl)
theorem dJ6_fixAfterDeletion_78 : decode cJ6_fixAfterDeletion 78 = .ok (.iconst 1, 1) := dk_4 (dk_at dksJ6_fixAfterDeletion_3 6 rfl rfl)
theorem dJ6_fixAfterDeletion_79 : decode cJ6_fixAfterDeletion 79 = .ok (.if_icmp .ne 27, 3) := dk_160 0 27 (dk_at dksJ6_fixAfterDeletion_3 7 rfl rfl)
theorem dJ6_fixAfterDeletion_82 : decode cJ6_fixAfterDeletion 82 = .ok (.aload_n 2, 1) := dk_44 (dk_at dksJ6_fixAfterDeletion_3 10 rfl rfl)
theorem dJ6_fixAfterDeletion_83 : decode cJ6_fixAfterDeletion 83 = .ok (.invokestatic 300, 3) := dk_184 1 44 (dk_at dksJ6_fixAfterDeletion_3 11 rfl rfl)
theorem dJ6_fixAfterDeletion_86 : decode cJ6_fixAfterDeletion 86 = .ok (.invokestatic 303, 3) := dk_184 1 47 (dk_at dksJ6_fixAfterDeletion_3 14 rfl rfl)
theorem dJ6_fixAfterDeletion_89 : decode cJ6_fixAfterDeletion 89 = .ok (.iconst 1, 1) := dk_4 (dk_at dksJ6_fixAfterDeletion_3 17 rfl rfl)
theorem dJ6_fixAfterDeletion_90 : decode cJ6_fixAfterDeletion 90 = .ok (.if_icmp .ne 16, 3) := dk_160 0 16 (dk_at dksJ6_fixAfterDeletion_3 18 rfl rfl)
theorem dJ6_fixAfterDeletion_93 : decode cJ6_fixAfterDeletion 93 = .ok (.aload_n 2, 1) := dk_44 (dk_at dksJ6_fixAfterDeletion_3 21 rfl rfl)
theorem dJ6_fixAfterDeletion_94 : decode cJ6_fixAfterDeletion 94 = .ok (.iconst 0, 1) := dk_3 (dk_at dksJ6_fixAfterDeletion_3 22 rfl rfl)
theorem dJ6_fixAfterDeletion_95 : decode cJ6_fixAfterDeletion 95 = .ok (.invokestatic 307, 3) := dk_184 1 51 (dk_at dksJ6_fixAfterDeletion_4 0 rfl rfl)
theorem dJ6_fixAfterDeletion_98 : decode cJ6_fixAfterDeletion 98 = .ok (.aload_n 1, 1) := dk_43 (dk_at dksJ6_fixAfterDeletion_4 3 rfl rfl)
theorem dJ6_fixAfterDeletion_99 : decode cJ6_fixAfterDeletion 99 = .ok (.invokestatic 294, 3) := dk_184 1 38 (dk_at dksJ6_fixAfterDeletion_4 4 rfl rfl)
theorem dJ6_fixAfterDeletion_102 : decode cJ6_fixAfterDeletion 102 = .ok (.astore_n 1, 1) := dk_76 (dk_at dksJ6_fixAfterDeletion_4 7 rfl rfl)
theorem dJ6_fixAfterDeletion_103 : decode cJ6_fixAfterDeletion 103 = .ok (.goto 80, 3) := dk_167 0 80 (dk_at dksJ6_fixAfterDeletion_4 8 rfl rfl)
theorem dJ6_fixAfterDeletion_106 : decode cJ6_fixAfterDeletion 106 = .ok (.aload_n 2, 1) := dk_44 (dk_at dksJ6_fixAfterDeletion_4 11 rfl rfl)
theorem dJ6_fixAfterDeletion_107 : decode cJ6_fixAfterDeletion 107 = .ok (.invokestatic 300, 3) := dk_184 1 44 (dk_at dksJ6_fixAfterDeletion_4 12 rfl rfl)
theorem dJ6_fixAfterDeletion_110 : decode cJ6_fixAfterDeletion 110 = .ok (.invokestatic 303, 3) := dk_184 1 47 (dk_at dksJ6_fixAfterDeletion_4 15 rfl rfl)
theorem dJ6_fixAfterDeletion_113 : decode cJ6_fixAfterDeletion 113 = .ok (.iconst 1, 1) := dk_4 (dk_at dksJ6_fixAfterDeletion_4 18 rfl rfl)
theorem dJ6_fixAfterDeletion_114 : decode cJ6_fixAfterDeletion 114 = .ok (.if_icmp .ne 29, 3) := dk_160 0 29 (dk_at dksJ6_fixAfterDeletion_4 19 rfl rfl)
theorem dJ6_fixAfterDeletion_117 : decode cJ6_fixAfterDeletion 117 = .ok (.aload_n 2, 1) := dk_44 (dk_at dksJ6_fixAfterDeletion_4 22 rfl rfl)
theorem dJ6_fixAfterDeletion_118 : decode cJ6_fixAfterDeletion 118 = .ok (.invokestatic 297, 3) := dk_184 1 41 (dk_at dksJ6_fixAfterDeletion_5 0 rfl rfl)
theorem dJ6_fixAfterDeletion_121 : decode cJ6_fixAfterDeletion 121 = .ok (.iconst 1, 1) := dk_4 (dk_at dksJ6_fixAfterDeletion_5 3 rfl rfl)
theorem dJ6_fixAfterDeletion_122 : decode cJ6_fixAfterDeletion 122 = .ok (.invokestatic 307, 3) := dk_184 1 51 (dk_at dksJ6_fixAfterDeletion_5 4 rfl rfl)
theorem dJ6_fixAfterDeletion_125 : decode cJ6_fixAfterDeletion 125 = .ok (.aload_n 2, 1) := dk_44 (dk_at dksJ6_fixAfterDeletion_5 7 rfl rfl)
theorem dJ6_fixAfterDeletion_126 : decode cJ6_fixAfterDeletion 126 = .ok (.iconst 0, 1) := dk_3 (dk_at dksJ6_fixAfterDeletion_5 8 rfl rfl)
theorem dJ6_fixAfterDeletion_127 : decode cJ6_fixAfterDeletion 127 = .ok (.invokestatic 307, 3) := dk_184 1 51 (dk_at dksJ6_fixAfterDeletion_5 9 rfl rfl)
theorem dJ6_fixAfterDeletion_130 : decode cJ6_fixAfterDeletion 130 = .ok (.aload_n 0, 1) := dk_42 (dk_at dksJ6_fixAfterDeletion_5 12 rfl rfl)
theorem dJ6_fixAfterDeletion_131 : decode cJ6_fixAfterDeletion 131 = .ok (.aload_n 2, 1) := dk_44 (dk_at dksJ6_fixAfterDeletion_5 13 rfl rfl)
theorem dJ6_fixAfterDeletion_132 : decode cJ6_fixAfterDeletion 132 = .ok (.invokevirtual 314, 3) := dk_182 1 58 (dk_at dksJ6_fixAfterDeletion_5 14 rfl rfl)
theorem dJ6_fixAfterDeletion_135 : decode cJ6_fixAfterDeletion 135 = .ok (.aload_n 1, 1) := dk_43 (dk_at dksJ6_fixAfterDeletion_5 17 rfl rfl)
theorem dJ6_fixAfterDeletion_136 : decode cJ6_fixAfterDeletion 136 = .ok (.invokestatic 294, 3) := dk_184 1 38 (dk_at dksJ6_fixAfterDeletion_5 18 rfl rfl)
theorem dJ6_fixAfterDeletion_139 : decode cJ6_fixAfterDeletion 139 = .ok (.invokestatic 300, 3) := dk_184 1 44 (dk_at dksJ6_fixAfterDeletion_5 21 rfl rfl)
theorem dJ6_fixAfterDeletion_142 : decode cJ6_fixAfterDeletion 142 = .ok (.astore_n 2, 1) := dk_77 (dk_at dksJ6_fixAfterDeletion_6 0 rfl rfl)
theorem dJ6_fixAfterDeletion_143 : decode cJ6_fixAfterDeletion 143 = .ok (.aload_n 2, 1) := dk_44 (dk_at dksJ6_fixAfterDeletion_6 1 rfl rfl)
theorem dJ6_fixAfterDeletion_144 : decode cJ6_fixAfterDeletion 144 = .ok (.aload_n 1, 1) := dk_43 (dk_at dksJ6_fixAfterDeletion_6 2 rfl rfl)
theorem dJ6_fixAfterDeletion_145 : decode cJ6_fixAfterDeletion 145 = .ok (.invokestatic 294, 3) := dk_184 1 38 (dk_at dksJ6_fixAfterDeletion_6 3 rfl rfl)
theorem dJ6_fixAfterDeletion_148 : decode cJ6_fixAfterDeletion 148 = .ok (.invokestatic 303, 3) := dk_184 1 47 (dk_at dksJ6_fixAfterDeletion_6 6 rfl rfl)
theorem dJ6_fixAfterDeletion_151 : decode cJ6_fixAfterDeletion 151 = .ok (.invokestatic 307, 3) := dk_184 1 51 (dk_at dksJ6_fixAfterDeletion_6 9 rfl rfl)
theorem dJ6_fixAfterDeletion_154 : decode cJ6_fixAfterDeletion 154 = .ok (.aload_n 1, 1) := dk_43 (dk_at dksJ6_fixAfterDeletion_6 12 rfl rfl)
theorem dJ6_fixAfterDeletion_155 : decode cJ6_fixAfterDeletion 155 = .ok (.invokestatic 294, 3) := dk_184 1 38 (dk_at dksJ6_fixAfterDeletion_6 13 rfl rfl)
theorem dJ6_fixAfterDeletion_158 : decode cJ6_fixAfterDeletion 158 = .ok (.iconst 1, 1) := dk_4 (dk_at dksJ6_fixAfterDeletion_6 16 rfl rfl)
theorem dJ6_fixAfterDeletion_159 : decode cJ6_fixAfterDeletion 159 = .ok (.invokestatic 307, 3) := dk_184 1 51 (dk_at dksJ6_fixAfterDeletion_6 17 rfl rfl)
theorem dJ6_fixAfterDeletion_162 : decode cJ6_fixAfterDeletion 162 = .ok (.aload_n 2, 1) := dk_44 (dk_at dksJ6_fixAfterDeletion_6 20 rfl rfl)
theorem dJ6_fixAfterDeletion_163 : decode cJ6_fixAfterDeletion 163 = .ok (.invokestatic 300, 3) := dk_184 1 44 (dk_at dksJ6_fixAfterDeletion_6 21 rfl rfl)
theorem dJ6_fixAfterDeletion_166 : decode cJ6_fixAfterDeletion 166 = .ok (.iconst 1, 1) := dk_4 (dk_at dksJ6_fixAfterDeletion_7 0 rfl rfl)
theorem dJ6_fixAfterDeletion_167 : decode cJ6_fixAfterDeletion 167 = .ok (.invokestatic 307, 3) := dk_184 1 51 (dk_at dksJ6_fixAfterDeletion_7 1 rfl rfl)
theorem dJ6_fixAfterDeletion_170 : decode cJ6_fixAfterDeletion 170 = .ok (.aload_n 0, 1) := dk_42 (dk_at dksJ6_fixAfterDeletion_7 4 rfl rfl)
theorem dJ6_fixAfterDeletion_171 : decode cJ6_fixAfterDeletion 171 = .ok (.aload_n 1, 1) := dk_43 (dk_at dksJ6_fixAfterDeletion_7 5 rfl rfl)
theorem dJ6_fixAfterDeletion_172 : decode cJ6_fixAfterDeletion 172 = .ok (.invokestatic 294, 3) := dk_184 1 38 (dk_at dksJ6_fixAfterDeletion_7 6 rfl rfl)
theorem dJ6_fixAfterDeletion_175 : decode cJ6_fixAfterDeletion 175 = .ok (.invokevirtual 311, 3) := dk_182 1 55 (dk_at dksJ6_fixAfterDeletion_7 9 rfl rfl)
theorem dJ6_fixAfterDeletion_178 : decode cJ6_fixAfterDeletion 178 = .ok (.aload_n 0, 1) := dk_42 (dk_at dksJ6_fixAfterDeletion_7 12 rfl rfl)
theorem dJ6_fixAfterDeletion_179 : decode cJ6_fixAfterDeletion 179 = .ok (.getfield 101, 3) := dk_180 0 101 (dk_at dksJ6_fixAfterDeletion_7 13 rfl rfl)
theorem dJ6_fixAfterDeletion_182 : decode cJ6_fixAfterDeletion 182 = .ok (.astore_n 1, 1) := dk_76 (dk_at dksJ6_fixAfterDeletion_7 16 rfl rfl)
theorem dJ6_fixAfterDeletion_183 : decode cJ6_fixAfterDeletion 183 = .ok (.goto (-183), 3) := dk_167 255 73 (dk_at dksJ6_fixAfterDeletion_7 17 rfl rfl)
theorem dJ6_fixAfterDeletion_186 : decode cJ6_fixAfterDeletion 186 = .ok (.aload_n 1, 1) := dk_43 (dk_at dksJ6_fixAfterDeletion_7 20 rfl rfl)
theorem dJ6_fixAfterDeletion_187 : decode cJ6_fixAfterDeletion 187 = .ok (.invokestatic 294, 3) := dk_184 1 38 (dk_at dksJ6_fixAfterDeletion_7 21 rfl rfl)
theorem dJ6_fixAfterDeletion_190 : decode cJ6_fixAfterDeletion 190 = .ok (.invokestatic 297, 3) := dk_184 1 41 (dk_at dksJ6_fixAfterDeletion_8 0 rfl rfl)
theorem dJ6_fixAfterDeletion_193 : decode cJ6_fixAfterDeletion 193 = .ok (.astore_n 2, 1) := dk_77 (dk_at dksJ6_fixAfterDeletion_8 3 rfl rfl)
theorem dJ6_fixAfterDeletion_194 : decode cJ6_fixAfterDeletion 194 = .ok (.aload_n 2, 1) := dk_44 (dk_at dksJ6_fixAfterDeletion_8 4 rfl rfl)
theorem dJ6_fixAfterDeletion_195 : decode cJ6_fixAfterDeletion 195 = .ok (.invokestatic 303, 3) := dk_184 1 47 (dk_at dksJ6_fixAfterDeletion_8 5 rfl rfl)
theorem dJ6_fixAfterDeletion_198 : decode cJ6_fixAfterDeletion 198 = .ok (.ifCond .ne 32, 3) := dk_154 0 32 (dk_at dksJ6_fixAfterDeletion_8 8 rfl rfl)
theorem dJ6_fixAfterDeletion_201 : decode cJ6_fixAfterDeletion 201 = .ok (.aload_n 2, 1) := dk_44 (dk_at dksJ6_fixAfterDeletion_8 11 rfl rfl)
theorem dJ6_fixAfterDeletion_202 : decode cJ6_fixAfterDeletion 202 = .ok (.iconst 1, 1) := dk_4 (dk_at dksJ6_fixAfterDeletion_8 12 rfl rfl)
theorem dJ6_fixAfterDeletion_203 : decode cJ6_fixAfterDeletion 203 = .ok (.invokestatic 307, 3) := dk_184 1 51 (dk_at dksJ6_fixAfterDeletion_8 13 rfl rfl)
theorem dJ6_fixAfterDeletion_206 : decode cJ6_fixAfterDeletion 206 = .ok (.aload_n 1, 1) := dk_43 (dk_at dksJ6_fixAfterDeletion_8 16 rfl rfl)
theorem dJ6_fixAfterDeletion_207 : decode cJ6_fixAfterDeletion 207 = .ok (.invokestatic 294, 3) := dk_184 1 38 (dk_at dksJ6_fixAfterDeletion_8 17 rfl rfl)
theorem dJ6_fixAfterDeletion_210 : decode cJ6_fixAfterDeletion 210 = .ok (.iconst 0, 1) := dk_3 (dk_at dksJ6_fixAfterDeletion_8 20 rfl rfl)
theorem dJ6_fixAfterDeletion_211 : decode cJ6_fixAfterDeletion 211 = .ok (.invokestatic 307, 3) := dk_184 1 51 (dk_at dksJ6_fixAfterDeletion_8 21 rfl rfl)
theorem dJ6_fixAfterDeletion_214 : decode cJ6_fixAfterDeletion 214 = .ok (.aload_n 0, 1) := dk_42 (dk_at dksJ6_fixAfterDeletion_9 0 rfl rfl)
theorem dJ6_fixAfterDeletion_215 : decode cJ6_fixAfterDeletion 215 = .ok (.aload_n 1, 1) := dk_43 (dk_at dksJ6_fixAfterDeletion_9 1 rfl rfl)
theorem dJ6_fixAfterDeletion_216 : decode cJ6_fixAfterDeletion 216 = .ok (.invokestatic 294, 3) := dk_184 1 38 (dk_at dksJ6_fixAfterDeletion_9 2 rfl rfl)
theorem dJ6_fixAfterDeletion_219 : decode cJ6_fixAfterDeletion 219 = .ok (.invokevirtual 314, 3) := dk_182 1 58 (dk_at dksJ6_fixAfterDeletion_9 5 rfl rfl)
theorem dJ6_fixAfterDeletion_222 : decode cJ6_fixAfterDeletion 222 = .ok (.aload_n 1, 1) := dk_43 (dk_at dksJ6_fixAfterDeletion_9 8 rfl rfl)
theorem dJ6_fixAfterDeletion_223 : decode cJ6_fixAfterDeletion 223 = .ok (.invokestatic 294, 3) := dk_184 1 38 (dk_at dksJ6_fixAfterDeletion_9 9 rfl rfl)
theorem dJ6_fixAfterDeletion_226 : decode cJ6_fixAfterDeletion 226 = .ok (.invokestatic 297, 3) := dk_184 1 41 (dk_at dksJ6_fixAfterDeletion_9 12 rfl rfl)
theorem dJ6_fixAfterDeletion_229 : decode cJ6_fixAfterDeletion 229 = .ok (.astore_n 2, 1) := dk_77 (dk_at dksJ6_fixAfterDeletion_9 15 rfl rfl)
theorem dJ6_fixAfterDeletion_230 : decode cJ6_fixAfterDeletion 230 = .ok (.aload_n 2, 1) := dk_44 (dk_at dksJ6_fixAfterDeletion_9 16 rfl rfl)
theorem dJ6_fixAfterDeletion_231 : decode cJ6_fixAfterDeletion 231 = .ok (.invokestatic 300, 3) := dk_184 1 44 (dk_at dksJ6_fixAfterDeletion_9 17 rfl rfl)
theorem dJ6_fixAfterDeletion_234 : decode cJ6_fixAfterDeletion 234 = .ok (.invokestatic 303, 3) := dk_184 1 47 (dk_at dksJ6_fixAfterDeletion_9 20 rfl rfl)
theorem dJ6_fixAfterDeletion_237 : decode cJ6_fixAfterDeletion 237 = .ok (.iconst 1, 1) := dk_4 (dk_at dksJ6_fixAfterDeletion_9 23 rfl rfl)
theorem dJ6_fixAfterDeletion_238 : decode cJ6_fixAfterDeletion 238 = .ok (.if_icmp .ne 27, 3) := dk_160 0 27 (dk_at dksJ6_fixAfterDeletion_10 0 rfl rfl)
theorem dJ6_fixAfterDeletion_241 : decode cJ6_fixAfterDeletion 241 = .ok (.aload_n 2, 1) := dk_44 (dk_at dksJ6_fixAfterDeletion_10 3 rfl rfl)
theorem dJ6_fixAfterDeletion_242 : decode cJ6_fixAfterDeletion 242 = .ok (.invokestatic 297, 3) := dk_184 1 41 (dk_at dksJ6_fixAfterDeletion_10 4 rfl rfl)
theorem dJ6_fixAfterDeletion_245 : decode cJ6_fixAfterDeletion 245 = .ok (.invokestatic 303, 3) := dk_184 1 47 (dk_at dksJ6_fixAfterDeletion_10 7 rfl rfl)
theorem dJ6_fixAfterDeletion_248 : decode cJ6_fixAfterDeletion 248 = .ok (.iconst 1, 1) := dk_4 (dk_at dksJ6_fixAfterDeletion_10 10 rfl rfl)
theorem dJ6_fixAfterDeletion_249 : decode cJ6_fixAfterDeletion 249 = .ok (.if_icmp .ne 16, 3) := dk_160 0 16 (dk_at dksJ6_fixAfterDeletion_10 11 rfl rfl)
theorem dJ6_fixAfterDeletion_252 : decode cJ6_fixAfterDeletion 252 = .ok (.aload_n 2, 1) := dk_44 (dk_at dksJ6_fixAfterDeletion_10 14 rfl rfl)
theorem dJ6_fixAfterDeletion_253 : decode cJ6_fixAfterDeletion 253 = .ok (.iconst 0, 1) := dk_3 (dk_at dksJ6_fixAfterDeletion_10 15 rfl rfl)
theorem dJ6_fixAfterDeletion_254 : decode cJ6_fixAfterDeletion 254 = .ok (.invokestatic 307, 3) := dk_184 1 51 (dk_at dksJ6_fixAfterDeletion_10 16 rfl rfl)
theorem dJ6_fixAfterDeletion_257 : decode cJ6_fixAfterDeletion 257 = .ok (.aload_n 1, 1) := dk_43 (dk_at dksJ6_fixAfterDeletion_10 19 rfl rfl)
theorem dJ6_fixAfterDeletion_258 : decode cJ6_fixAfterDeletion 258 = .ok (.invokestatic 294, 3) := dk_184 1 38 (dk_at dksJ6_fixAfterDeletion_10 20 rfl rfl)
theorem dJ6_fixAfterDeletion_261 : decode cJ6_fixAfterDeletion 261 = .ok (.astore_n 1, 1) := dk_76 (dk_at dksJ6_fixAfterDeletion_10 23 rfl rfl)
theorem dJ6_fixAfterDeletion_262 : decode cJ6_fixAfterDeletion 262 = .ok (.goto 80, 3) := dk_167 0 80 (dk_at dksJ6_fixAfterDeletion_11 0 rfl rfl)
theorem dJ6_fixAfterDeletion_265 : decode cJ6_fixAfterDeletion 265 = .ok (.aload_n 2, 1) := dk_44 (dk_at dksJ6_fixAfterDeletion_11 3 rfl rfl)
theorem dJ6_fixAfterDeletion_266 : decode cJ6_fixAfterDeletion 266 = .ok (.invokestatic 297, 3) := dk_184 1 41 (dk_at dksJ6_fixAfterDeletion_11 4 rfl rfl)
theorem dJ6_fixAfterDeletion_269 : decode cJ6_fixAfterDeletion 269 = .ok (.invokestatic 303, 3) := dk_184 1 47 (dk_at dksJ6_fixAfterDeletion_11 7 rfl rfl)
theorem dJ6_fixAfterDeletion_272 : decode cJ6_fixAfterDeletion 272 = .ok (.iconst 1, 1) := dk_4 (dk_at dksJ6_fixAfterDeletion_11 10 rfl rfl)
theorem dJ6_fixAfterDeletion_273 : decode cJ6_fixAfterDeletion 273 = .ok (.if_icmp .ne 29, 3) := dk_160 0 29 (dk_at dksJ6_fixAfterDeletion_11 11 rfl rfl)
theorem dJ6_fixAfterDeletion_276 : decode cJ6_fixAfterDeletion 276 = .ok (.aload_n 2, 1) := dk_44 (dk_at dksJ6_fixAfterDeletion_11 14 rfl rfl)
theorem dJ6_fixAfterDeletion_277 : decode cJ6_fixAfterDeletion 277 = .ok (.invokestatic 300, 3) := dk_184 1 44 (dk_at dksJ6_fixAfterDeletion_11 15 rfl rfl)
theorem dJ6_fixAfterDeletion_280 : decode cJ6_fixAfterDeletion 280 = .ok (.iconst 1, 1) := dk_4 (dk_at dksJ6_fixAfterDeletion_11 18 rfl rfl)
theorem dJ6_fixAfterDeletion_281 : decode cJ6_fixAfterDeletion 281 = .ok (.invokestatic 307, 3) := dk_184 1 51 (dk_at dksJ6_fixAfterDeletion_11 19 rfl rfl)
theorem dJ6_fixAfterDeletion_284 : decode cJ6_fixAfterDeletion 284 = .ok (.aload_n 2, 1) := dk_44 (dk_at dksJ6_fixAfterDeletion_11 22 rfl rfl)
theorem dJ6_fixAfterDeletion_285 : decode cJ6_fixAfterDeletion 285 = .ok (.iconst 0, 1) := dk_3 (dk_at dksJ6_fixAfterDeletion_11 23 rfl rfl)
theorem dJ6_fixAfterDeletion_286 : decode cJ6_fixAfterDeletion 286 = .ok (.invokestatic 307, 3) := dk_184 1 51 (dk_at dksJ6_fixAfterDeletion_12 0 rfl rfl)
theorem dJ6_fixAfterDeletion_289 : decode cJ6_fixAfterDeletion 289 = .ok (.aload_n 0, 1) := dk_42 (dk_at dksJ6_fixAfterDeletion_12 3 rfl rfl)
theorem dJ6_fixAfterDeletion_290 : decode cJ6_fixAfterDeletion 290 = .ok (.aload_n 2, 1) := dk_44 (dk_at dksJ6_fixAfterDeletion_12 4 rfl rfl)
theorem dJ6_fixAfterDeletion_291 : decode cJ6_fixAfterDeletion 291 = .ok (.invokevirtual 311, 3) := dk_182 1 55 (dk_at dksJ6_fixAfterDeletion_12 5 rfl rfl)
theorem dJ6_fixAfterDeletion_294 : decode cJ6_fixAfterDeletion 294 = .ok (.aload_n 1, 1) := dk_43 (dk_at dksJ6_fixAfterDeletion_12 8 rfl rfl)
theorem dJ6_fixAfterDeletion_295 : decode cJ6_fixAfterDeletion 295 = .ok (.invokestatic 294, 3) := dk_184 1 38 (dk_at dksJ6_fixAfterDeletion_12 9 rfl rfl)
theorem dJ6_fixAfterDeletion_298 : decode cJ6_fixAfterDeletion 298 = .ok (.invokestatic 297, 3) := dk_184 1 41 (dk_at dksJ6_fixAfterDeletion_12 12 rfl rfl)
theorem dJ6_fixAfterDeletion_301 : decode cJ6_fixAfterDeletion 301 = .ok (.astore_n 2, 1) := dk_77 (dk_at dksJ6_fixAfterDeletion_12 15 rfl rfl)
theorem dJ6_fixAfterDeletion_302 : decode cJ6_fixAfterDeletion 302 = .ok (.aload_n 2, 1) := dk_44 (dk_at dksJ6_fixAfterDeletion_12 16 rfl rfl)
theorem dJ6_fixAfterDeletion_303 : decode cJ6_fixAfterDeletion 303 = .ok (.aload_n 1, 1) := dk_43 (dk_at dksJ6_fixAfterDeletion_12 17 rfl rfl)
theorem dJ6_fixAfterDeletion_304 : decode cJ6_fixAfterDeletion 304 = .ok (.invokestatic 294, 3) := dk_184 1 38 (dk_at dksJ6_fixAfterDeletion_12 18 rfl rfl)
theorem dJ6_fixAfterDeletion_307 : decode cJ6_fixAfterDeletion 307 = .ok (.invokestatic 303, 3) := dk_184 1 47 (dk_at dksJ6_fixAfterDeletion_12 21 rfl rfl)
theorem dJ6_fixAfterDeletion_310 : decode cJ6_fixAfterDeletion 310 = .ok (.invokestatic 307, 3) := dk_184 1 51 (dk_at dksJ6_fixAfterDeletion_13 0 rfl rfl)
theorem dJ6_fixAfterDeletion_313 : decode cJ6_fixAfterDeletion 313 = .ok (.aload_n 1, 1) := dk_43 (dk_at dksJ6_fixAfterDeletion_13 3 rfl rfl)
theorem dJ6_fixAfterDeletion_314 : decode cJ6_fixAfterDeletion 314 = .ok (.invokestatic 294, 3) := dk_184 1 38 (dk_at dksJ6_fixAfterDeletion_13 4 rfl rfl)
theorem dJ6_fixAfterDeletion_317 : decode cJ6_fixAfterDeletion 317 = .ok (.iconst 1, 1) := dk_4 (dk_at dksJ6_fixAfterDeletion_13 7 rfl rfl)
theorem dJ6_fixAfterDeletion_318 : decode cJ6_fixAfterDeletion 318 = .ok (.invokestatic 307, 3) := dk_184 1 51 (dk_at dksJ6_fixAfterDeletion_13 8 rfl rfl)
theorem dJ6_fixAfterDeletion_321 : decode cJ6_fixAfterDeletion 321 = .ok (.aload_n 2, 1) := dk_44 (dk_at dksJ6_fixAfterDeletion_13 11 rfl rfl)
theorem dJ6_fixAfterDeletion_322 : decode cJ6_fixAfterDeletion 322 = .ok (.invokestatic 297, 3) := dk_184 1 41 (dk_at dksJ6_fixAfterDeletion_13 12 rfl rfl)
theorem dJ6_fixAfterDeletion_325 : decode cJ6_fixAfterDeletion 325 = .ok (.iconst 1, 1) := dk_4 (dk_at dksJ6_fixAfterDeletion_13 15 rfl rfl)
theorem dJ6_fixAfterDeletion_326 : decode cJ6_fixAfterDeletion 326 = .ok (.invokestatic 307, 3) := dk_184 1 51 (dk_at dksJ6_fixAfterDeletion_13 16 rfl rfl)
theorem dJ6_fixAfterDeletion_329 : decode cJ6_fixAfterDeletion 329 = .ok (.aload_n 0, 1) := dk_42 (dk_at dksJ6_fixAfterDeletion_13 19 rfl rfl)
theorem dJ6_fixAfterDeletion_330 : decode cJ6_fixAfterDeletion 330 = .ok (.aload_n 1, 1) := dk_43 (dk_at dksJ6_fixAfterDeletion_13 20 rfl rfl)
theorem dJ6_fixAfterDeletion_331 : decode cJ6_fixAfterDeletion 331 = .ok (.invokestatic 294, 3) := dk_184 1 38 (dk_at dksJ6_fixAfterDeletion_13 21 rfl rfl)
theorem dJ6_fixAfterDeletion_334 : decode cJ6_fixAfterDeletion 334 = .ok (.invokevirtual 314, 3) := dk_182 1 58 (dk_at dksJ6_fixAfterDeletion_14 0 rfl rfl)
theorem dJ6_fixAfterDeletion_337 : decode cJ6_fixAfterDeletion 337 = .ok (.aload_n 0, 1) := dk_42 (dk_at dksJ6_fixAfterDeletion_14 3 rfl rfl)
theorem dJ6_fixAfterDeletion_338 : decode cJ6_fixAfterDeletion 338 = .ok (.getfield 101, 3) := dk_180 0 101 (dk_at dksJ6_fixAfterDeletion_14 4 rfl rfl)
theorem dJ6_fixAfterDeletion_341 : decode cJ6_fixAfterDeletion 341 = .ok (.astore_n 1, 1) := dk_76 (dk_at dksJ6_fixAfterDeletion_14 7 rfl rfl)
theorem dJ6_fixAfterDeletion_342 : decode cJ6_fixAfterDeletion 342 = .ok (.goto (-342), 3) := dk_167 254 170 (dk_at dksJ6_fixAfterDeletion_14 8 rfl rfl)
theorem dJ6_fixAfterDeletion_345 : decode cJ6_fixAfterDeletion 345 = .ok (.aload_n 1, 1) := dk_43 (dk_at dksJ6_fixAfterDeletion_14 11 rfl rfl)
theorem dJ6_fixAfterDeletion_346 : decode cJ6_fixAfterDeletion 346 = .ok (.iconst 1, 1) := dk_4 (dk_at dksJ6_fixAfterDeletion_14 12 rfl rfl)
theorem dJ6_fixAfterDeletion_347 : decode cJ6_fixAfterDeletion 347 = .ok (.invokestatic 307, 3) := dk_184 1 51 (dk_at dksJ6_fixAfterDeletion_14 13 rfl rfl)
theorem dJ6_fixAfterDeletion_350 : decode cJ6_fixAfterDeletion 350 = .ok (.return_, 1) := dk_177 (dk_at dksJ6_fixAfterDeletion_14 16 rfl rfl)
theorem yk_J6_fixAfterDeletion : yk yJ6_fixAfterDeletion 1 := by unfold yk; decide +kernel
abbrev KJ6_fixAfterDeletion (G : Gx) (d mc ms : Nat) (av : List Sv) (M : Mem) (post : Option Sv → Mem → Prop) : Prop := Ct G yJ6_fixAfterDeletion cJ6_fixAfterDeletion 3 ((Option.none : Option Jvm.ClassFile.FieldType)) d mc ms av M post
/-! ===== TreeMap.fixAfterDeletion ===== -/
def Leaf (M : Mem) (x : Nat) : Prop := mR M x 2 = none ∧ mR M x 3 = none
theorem kco {M : Mem} {a : Nat} (h1 : mK M a = kEN) (h2 : b01 (mI M a 5)) : ∀ c, some a = some c → mK M c = kEN ∧ b01 (mI M c 5) := fun c e => by cases e; exact ⟨h1, h2⟩
section FixDel
variable {G : Gx} {M0 : Mem} {ρ t n x0 : Nat} {ad ps : Nat → Nat} {lf : Prop}
theorem Leaf.rl {M M' : Mem} {lo hi : Nat → Nat} {p r x : Nat} (hF : Fx M0 M ρ t n ad ps lo hi) (hx : Nd n ad ps x) (hp : Nd n ad ps p) (hr : mR M p 3 = some r) (hR : RL M M' t p r) (hl : Leaf M x) (h1 : x ≠ r) : Leaf M' x := by
  have h2 : x ≠ p := by intro e; subst e; rw [hl.2] at hr; cases hr
  have h3 : x ≠ t := hF.1.ne hF.2.2.2.2.2.2.1 hx
  have h4 : mR M p 4 ≠ some x := by
    intro e
    rcases (hF.1.1.2.2.2.2.2.2.2.1 p x hp e).2 with c | c
    · have c : mR M x 2 = some p := c
      rw [hl.1] at c; cases c
    · have c : mR M x 3 = some p := c
      rw [hl.2] at c; cases c
  obtain ⟨a1, a2, a3, a4, a5, a6, a7, a8, a9, a10, a11, a12, hS⟩ := hR
  exact ⟨(a11 x h1 (fun e => h4 e.1)).trans hl.1, (a12 x h2 h3 (fun e => h4 e.1)).trans hl.2⟩
theorem Leaf.rr {M M' : Mem} {lo hi : Nat → Nat} {p r x : Nat} (hF : Fx M0 M ρ t n ad ps lo hi) (hx : Nd n ad ps x) (hp : Nd n ad ps p) (hr : mR M p 2 = some r) (hR : RR M M' t p r) (hl : Leaf M x) (h1 : x ≠ r) : Leaf M' x := by
  have h2 : x ≠ p := by intro e; subst e; rw [hl.1] at hr; cases hr
  have h3 : x ≠ t := hF.1.ne hF.2.2.2.2.2.2.1 hx
  have h4 : mR M p 4 ≠ some x := by
    intro e
    rcases (hF.1.1.2.2.2.2.2.2.2.1 p x hp e).2 with c | c
    · have c : mR M x 2 = some p := c
      rw [hl.1] at c; cases c
    · have c : mR M x 3 = some p := c
      rw [hl.2] at c; cases c
  obtain ⟨a1, a2, a3, a4, a5, a6, a7, a8, a9, a10, a11, a12, hS⟩ := hR
  exact ⟨(a12 x h2 (fun e => h4 e.1)).trans hl.1, (a11 x h1 h3 (fun e => h4 e.1)).trans hl.2⟩
theorem fd_end (hB : Base G) : ∀ C, Ok C G cJ6_fixAfterDeletion RJ6 "fixAfterDeletion" 2 0 0 → Rt C G none 0 0 (fun v M' => v = none ∧ (∃ lo' hi', Fx M0 M' ρ t n ad ps lo' hi') ∧ (lf → Leaf M' x0)) → ∀ (M : Mem) (lo hi : Nat → Nat) (x : Nat) (b : Option Sv), Fx M0 M ρ t n ad ps lo hi → Nd n ad ps x → (lf → Leaf M x0) → Go C 345 [some (vr (some t)), some (vr (some x)), b] [] M 0 0 := by
  intro C hC hQ M lo hi x b hF hx hl
  have hkx := (hF.1.2 x hx).1
  refine g_aload_n hC dJ6_fixAfterDeletion_345 rfl ?_
  refine g_iconst (v := 1) hC dJ6_fixAfterDeletion_346 (by decide) ?_
  refine g_callS hC (ct_sc hB hkx b01.o) rfl (by decide) rfl yk_J6_setColor q1873 q1874 q59 q1875 rfl dJ6_fixAfterDeletion_347 (by omega) (by omega) (fun v M1 hp => ?_)
  obtain ⟨rfl, hM⟩ := hp
  cases hM.symm
  simp only [Option.toList_some, Option.toList_none, List.cons_append, List.nil_append, Nat.add_zero, Nat.zero_add]
  refine g_vret hC hQ (by omega) (by omega) dJ6_fixAfterDeletion_350 ?_
  exact ⟨rfl, ⟨lo, hi, hF.col hx b01.o⟩, hl⟩
/-- x is red: the end -/
theorem fd_red (hB : Base G) : ∀ C, Ok C G cJ6_fixAfterDeletion RJ6 "fixAfterDeletion" 2 0 0 → Rt C G none 0 0 (fun v M' => v = none ∧ (∃ lo' hi', Fx M0 M' ρ t n ad ps lo' hi') ∧ (lf → Leaf M' x0)) → ∀ (M : Mem) (lo hi : Nat → Nat) (x : Nat) (b : Option Sv), Fx M0 M ρ t n ad ps lo hi → Nd n ad ps x → (lf → Leaf M x0) → mI M x 5 = 0 → Go C 0 [some (vr (some t)), some (vr (some x)), b] [] M 0 0 := by
  intro C hC hQ M lo hi x b hF hx hl hc0
  have hkt := hF.2.2.2.2.2.2.1
  have hkx := (hF.1.2 x hx).1
  refine g_aload_n hC dJ6_fixAfterDeletion_0 rfl ?_
  refine g_aload_n hC dJ6_fixAfterDeletion_1 rfl ?_
  refine g_getR hC (ci := 8) (by first | with_reducible rfl | with_reducible assumption | (simp only [mR_sI, mR_sL]; with_reducible assumption) | exact rfl | assumption) (by first | with_reducible assumption | (simp only [mK_sI, mK_sR, mK_sL, mK_sO]; with_reducible assumption) | assumption | (simp only [mK_sI, mK_sR, mK_sL, mK_sO, mK_nw, mK_sK]; first | assumption | (simp only [*]; done))) rfl 3 (by decide) q273 (Or.inl rfl) rfl dJ6_fixAfterDeletion_2 ?_
  refine g_acmp_eq hC 345 dJ6_fixAfterDeletion_5 (by decide) (fun hc => ?_) (fun hc => ?_)
  · exact fd_end hB C hC hQ M lo hi x b hF hx hl
  · refine g_aload_n hC dJ6_fixAfterDeletion_8 rfl ?_
    refine g_callS hC (ct_co hB (some x) (kco hkx (hF.2.1 x hx))) rfl (by decide) rfl yk_J6_colorOf q1870 q1871 q59 q1872 rfl dJ6_fixAfterDeletion_9 (by omega) (by omega) (fun v M1 hp => ?_)
    obtain ⟨rfl, hM⟩ := hp
    cases hM.symm
    simp only [Option.toList_some, Option.toList_none, List.cons_append, List.nil_append, Nat.add_zero, Nat.zero_add]
    refine g_iconst (v := 1) hC dJ6_fixAfterDeletion_12 (by decide) ?_
    refine g_icmp_ne hC 345 dJ6_fixAfterDeletion_13 (by decide) (fun hc2 => ?_) (fun hc2 => ?_)
    · exact fd_end hB C hC hQ M lo hi x b hF hx hl
    · rw [show cO M (some x) = mI M x 5 from rfl, hc0] at hc2; exact absurd hc2 (by decide)
/-- the last rotation, at p; then the root -/
theorem fd_tailL (hB : Base G) : ∀ C, Ok C G cJ6_fixAfterDeletion RJ6 "fixAfterDeletion" 2 0 0 → Rt C G none 0 0 (fun v M' => v = none ∧ (∃ lo' hi', Fx M0 M' ρ t n ad ps lo' hi') ∧ (lf → Leaf M' x0)) → ∀ (M : Mem) (lo hi : Nat → Nat) (x p s : Nat), Fx M0 M ρ t n ad ps lo hi → Nd n ad ps x → Nd n ad ps p → Nd n ad ps s → Nd n ad ps x0 → mR M x 4 = some p → mR M p 3 = some s → (lf → Leaf M x0 ∧ x0 ≠ s) → Go C 143 [some (vr (some t)), some (vr (some x)), some (vr (some s))] [] M 0 0 := by
  intro C hC hQ M lo hi x p s hF hx hpN hsN hx0 hp hs hl
  have hkt := hF.2.2.2.2.2.2.1
  have hkx := (hF.1.2 x hx).1
  have hkp := (hF.1.2 p hpN).1
  have hks := (hF.1.2 s hsN).1
  have h6 := hF.1.1.2.2.2.2.2.1
  have h4 := hF.1.1.2.2.2.1
  refine g_aload_n hC dJ6_fixAfterDeletion_143 rfl ?_
  refine g_aload_n hC dJ6_fixAfterDeletion_144 rfl ?_
  refine g_callS hC (ct_po hB hkx) rfl (by decide) rfl yk_J6_parentOf q1861 q1862 q59 q1863 rfl dJ6_fixAfterDeletion_145 (by omega) (by omega) (fun v M1 hp => ?_)
  obtain ⟨rfl, hM⟩ := hp
  cases hM.symm
  simp only [Option.toList_some, Option.toList_none, List.cons_append, List.nil_append, Nat.add_zero, Nat.zero_add]
  simp only [mR_sI, hp]
  refine g_callS hC (ct_co hB (some p) (kco hkp (hF.2.1 p hpN))) rfl (by decide) rfl yk_J6_colorOf q1870 q1871 q59 q1872 rfl dJ6_fixAfterDeletion_148 (by omega) (by omega) (fun v M1 hp => ?_)
  obtain ⟨rfl, hM⟩ := hp
  cases hM.symm
  simp only [Option.toList_some, Option.toList_none, List.cons_append, List.nil_append, Nat.add_zero, Nat.zero_add]
  have hb9 : b01 (cO M (some p)) := hF.2.1 p hpN
  generalize cO M (some p) = c9 at hb9 ⊢
  refine g_callS hC (ct_sc hB hks hb9) rfl (by decide) rfl yk_J6_setColor q1873 q1874 q59 q1875 rfl dJ6_fixAfterDeletion_151 (by omega) (by omega) (fun v M1 hp => ?_)
  obtain ⟨rfl, hM⟩ := hp
  cases hM.symm
  simp only [Option.toList_some, Option.toList_none, List.cons_append, List.nil_append, Nat.add_zero, Nat.zero_add]
  refine g_aload_n hC dJ6_fixAfterDeletion_154 rfl ?_
  refine g_callS hC (ct_po hB hkx) rfl (by decide) rfl yk_J6_parentOf q1861 q1862 q59 q1863 rfl dJ6_fixAfterDeletion_155 (by omega) (by omega) (fun v M1 hp => ?_)
  obtain ⟨rfl, hM⟩ := hp
  cases hM.symm
  simp only [Option.toList_some, Option.toList_none, List.cons_append, List.nil_append, Nat.add_zero, Nat.zero_add]
  simp only [mR_sI, hp]
  refine g_iconst (v := 1) hC dJ6_fixAfterDeletion_158 (by decide) ?_
  refine g_callS hC (ct_sc hB hkp b01.o) rfl (by decide) rfl yk_J6_setColor q1873 q1874 q59 q1875 rfl dJ6_fixAfterDeletion_159 (by omega) (by omega) (fun v M1 hp => ?_)
  obtain ⟨rfl, hM⟩ := hp
  cases hM.symm
  simp only [Option.toList_some, Option.toList_none, List.cons_append, List.nil_append, Nat.add_zero, Nat.zero_add]
  refine g_aload_n hC dJ6_fixAfterDeletion_162 rfl ?_
  refine g_callS hC (ct_ro hB hks) rfl (by decide) rfl yk_J6_rightOf q1867 q1868 q59 q1869 rfl dJ6_fixAfterDeletion_163 (by omega) (by omega) (fun v M1 hp => ?_)
  obtain ⟨rfl, hM⟩ := hp
  cases hM.symm
  simp only [Option.toList_some, Option.toList_none, List.cons_append, List.nil_append, Nat.add_zero, Nat.zero_add]
  refine g_iconst (v := 1) hC dJ6_fixAfterDeletion_166 (by decide) ?_
  have hF2 := (hF.col hsN hb9).col hpN b01.o
  have fin : ∀ M2 : Mem, Fx M0 M2 ρ t n ad ps lo hi → (∀ y j, mR M2 y j = mR M y j) → Go C 170 [some (vr (some t)), some (vr (some x)), some (vr (some s))] [] M2 0 0 := by
    intro M2 hF2 e2
    have hkt2 := hF2.2.2.2.2.2.2.1
    have hkx2 := (hF2.1.2 x hx).1
    have hs2 : mR M2 p 3 = some s := (e2 p 3).trans hs
    have hp2 : mR M2 x 4 = some p := (e2 x 4).trans hp
    refine g_aload_n hC dJ6_fixAfterDeletion_170 rfl ?_
    refine g_aload_n hC dJ6_fixAfterDeletion_171 rfl ?_
    refine g_callS hC (ct_po hB hkx2) rfl (by decide) rfl yk_J6_parentOf q1861 q1862 q59 q1863 rfl dJ6_fixAfterDeletion_172 (by omega) (by omega) (fun v M1 hp => ?_)
    obtain ⟨rfl, hM⟩ := hp
    cases hM.symm
    simp only [Option.toList_some, Option.toList_none, List.cons_append, List.nil_append, Nat.add_zero, Nat.zero_add]
    simp only [mR_sI, hp2]
    refine g_callV hC (by first | with_reducible rfl | with_reducible assumption | (simp only [mR_sI, mR_sL]; with_reducible assumption) | exact rfl | assumption) (Rk.o (ci := 8) (by first | with_reducible assumption | (simp only [mK_sI, mK_sR, mK_sL, mK_sO]; with_reducible assumption) | assumption | (simp only [mK_sI, mK_sR, mK_sL, mK_sO, mK_nw, mK_sK]; first | assumption | (simp only [*]; done))) rfl) (ct_rotL hB hkt2 hF2.1 hpN hs2) rfl (by decide) rfl rfl yk_J6_rotateLeft q1876 q1878 qs15 q59 q1879 rfl dJ6_fixAfterDeletion_175 (by omega) (by omega) (fun v M1 hp => ?_)
    obtain ⟨rfl, hR⟩ := hp
    simp only [Option.toList_some, Option.toList_none, List.cons_append, List.nil_append, Nat.add_zero, Nat.zero_add]
    have hF3 := hF2.rl hpN hs2 hR
    have hkt3 := hF3.2.2.2.2.2.2.1
    refine g_aload_n hC dJ6_fixAfterDeletion_178 rfl ?_
    refine g_getR hC (ci := 8) (by first | with_reducible rfl | with_reducible assumption | (simp only [mR_sI, mR_sL]; with_reducible assumption) | exact rfl | assumption) (by first | with_reducible assumption | (simp only [mK_sI, mK_sR, mK_sL, mK_sO]; with_reducible assumption) | assumption | (simp only [mK_sI, mK_sR, mK_sL, mK_sO, mK_nw, mK_sK]; first | assumption | (simp only [*]; done))) rfl 3 (by decide) q273 (Or.inl rfl) rfl dJ6_fixAfterDeletion_179 ?_
    obtain ⟨r, hr⟩ : ∃ r, mR M1 t 3 = some r := by
      cases e : mR M1 t 3 with
      | none => have := hF3.1.1.2.2.2.2.2.2.2.2.1 e; have := hx.1; omega
      | some r => exact ⟨r, rfl⟩
    have hrN := (hF3.1.1.2.2.2.2.2.2.2.2.2 r hr).1
    rw [hr]
    refine g_astore_n hC dJ6_fixAfterDeletion_182 rfl rfl ?_
    try simp only [stL, clr]
    refine g_goto hC 0 dJ6_fixAfterDeletion_183 (by decide) ?_
    refine g_aload_n hC dJ6_fixAfterDeletion_0 rfl ?_
    refine g_aload_n hC dJ6_fixAfterDeletion_1 rfl ?_
    refine g_getR hC (ci := 8) (by first | with_reducible rfl | with_reducible assumption | (simp only [mR_sI, mR_sL]; with_reducible assumption) | exact rfl | assumption) (by first | with_reducible assumption | (simp only [mK_sI, mK_sR, mK_sL, mK_sO]; with_reducible assumption) | assumption | (simp only [mK_sI, mK_sR, mK_sL, mK_sO, mK_nw, mK_sK]; first | assumption | (simp only [*]; done))) rfl 3 (by decide) q273 (Or.inl rfl) rfl dJ6_fixAfterDeletion_2 ?_
    rw [hr]
    refine g_acmp_eq hC 345 dJ6_fixAfterDeletion_5 (by decide) (fun hc => ?_) (fun hc => ?_)
    · refine fd_end hB C hC hQ M1 _ _ r _ hF3 hrN (fun q => ?_)
      obtain ⟨q1, q2⟩ := hl q
      exact Leaf.rl hF2 hx0 hpN hs2 hR ⟨(e2 x0 2).trans q1.1, (e2 x0 3).trans q1.2⟩ q2
    · exact absurd rfl hc
  rcases hy : mR M s 3 with _ | y
  · have e9 : mR (sI (sI M s 5 c9) p 5 1) s 3 = none := hy
    simp only [e9]
    refine g_callS hC (ct_sc0 hB) rfl (by decide) rfl yk_J6_setColor q1873 q1874 q59 q1875 rfl dJ6_fixAfterDeletion_167 (by omega) (by omega) (fun v M1 hp => ?_)
    obtain ⟨rfl, hM⟩ := hp
    cases hM.symm
    simp only [Option.toList_some, Option.toList_none, List.cons_append, List.nil_append, Nat.add_zero, Nat.zero_add]
    exact fin _ hF2 (fun _ _ => rfl)
  · have e9 : mR (sI (sI M s 5 c9) p 5 1) s 3 = some y := hy
    simp only [e9]
    have hyN := (h6 s y hsN hy).1
    have hky := (hF.1.2 y hyN).1
    refine g_callS hC (ct_sc hB hky b01.o) rfl (by decide) rfl yk_J6_setColor q1873 q1874 q59 q1875 rfl dJ6_fixAfterDeletion_167 (by omega) (by omega) (fun v M1 hp => ?_)
    obtain ⟨rfl, hM⟩ := hp
    cases hM.symm
    simp only [Option.toList_some, Option.toList_none, List.cons_append, List.nil_append, Nat.add_zero, Nat.zero_add]
    exact fin _ (hF2.col hyN b01.o) (fun _ _ => rfl)
/-- the sibling s has a red child -/
theorem fd_midL (hB : Base G) : ∀ C, Ok C G cJ6_fixAfterDeletion RJ6 "fixAfterDeletion" 2 0 0 → Rt C G none 0 0 (fun v M' => v = none ∧ (∃ lo' hi', Fx M0 M' ρ t n ad ps lo' hi') ∧ (lf → Leaf M' x0)) → ∀ (M : Mem) (lo hi : Nat → Nat) (x p s : Nat), Fx M0 M ρ t n ad ps lo hi → Nd n ad ps x → Nd n ad ps p → Nd n ad ps s → Nd n ad ps x0 → mR M x 4 = some p → mR M p 2 = some x → mR M p 3 = some s → (cO M (mR M s 3) = 1 → cO M (mR M s 2) ≠ 1) → (lf → Leaf M x0 ∧ lo x ≤ ps x0 ∧ ps x0 < hi x) → Go C 106 [some (vr (some t)), some (vr (some x)), some (vr (some s))] [] M 0 0 := by
  intro C hC hQ M lo hi x p s hF hx hpN hsN hx0 hp hpx hs hred hl
  have hkt := hF.2.2.2.2.2.2.1
  have hkx := (hF.1.2 x hx).1
  have hkp := (hF.1.2 p hpN).1
  have hks := (hF.1.2 s hsN).1
  obtain ⟨h1, h2, h3, h4, h5, h6, h7, h8, h9, h10⟩ := hF.1.1
  have a1 := h2 x hx
  have a2 := h2 p hpN
  have a3 := h2 s hsN
  have a4 := h4 p x hpN hpx
  have a5 := h6 p s hpN hs
  have hk := fun y hy => (hF.1.2 y hy).1
  refine g_aload_n hC dJ6_fixAfterDeletion_106 rfl ?_
  refine g_callS hC (ct_ro hB hks) rfl (by decide) rfl yk_J6_rightOf q1867 q1868 q59 q1869 rfl dJ6_fixAfterDeletion_107 (by omega) (by omega) (fun v M1 hp => ?_)
  obtain ⟨rfl, hM⟩ := hp
  cases hM.symm
  simp only [Option.toList_some, Option.toList_none, List.cons_append, List.nil_append, Nat.add_zero, Nat.zero_add]
  refine g_callS hC (ct_co hB (mR M s 3) (fun a e => ⟨hk a (h6 s a hsN e).1, hF.2.1 a (h6 s a hsN e).1⟩)) rfl (by decide) rfl yk_J6_colorOf q1870 q1871 q59 q1872 rfl dJ6_fixAfterDeletion_110 (by omega) (by omega) (fun v M1 hp => ?_)
  obtain ⟨rfl, hM⟩ := hp
  cases hM.symm
  simp only [Option.toList_some, Option.toList_none, List.cons_append, List.nil_append, Nat.add_zero, Nat.zero_add]
  refine g_iconst (v := 1) hC dJ6_fixAfterDeletion_113 (by decide) ?_
  refine g_icmp_ne hC 143 dJ6_fixAfterDeletion_114 (by decide) (fun hc => ?_) (fun hc => ?_)
  · exact fd_tailL hB C hC hQ M lo hi x p s hF hx hpN hsN hx0 hp hs (fun q => ⟨(hl q).1, by have := (hl q).2; intro e; subst e; omega⟩)
  · have hne := hred hc
    rcases hw : mR M s 2 with _ | w
    · rw [hw] at hne; exact absurd rfl hne
    · obtain ⟨hwN, hwP, hw3, hw4⟩ := h4 s w hsN hw
      have hkw := hk w hwN
      have a6 := h2 w hwN
      refine g_aload_n hC dJ6_fixAfterDeletion_117 rfl ?_
      refine g_callS hC (ct_lo hB hks) rfl (by decide) rfl yk_J6_leftOf q1864 q1865 q59 q1866 rfl dJ6_fixAfterDeletion_118 (by omega) (by omega) (fun v M1 hp => ?_)
      obtain ⟨rfl, hM⟩ := hp
      cases hM.symm
      simp only [Option.toList_some, Option.toList_none, List.cons_append, List.nil_append, Nat.add_zero, Nat.zero_add]
      simp only [mR_sI, hw]
      refine g_iconst (v := 1) hC dJ6_fixAfterDeletion_121 (by decide) ?_
      refine g_callS hC (ct_sc hB hkw b01.o) rfl (by decide) rfl yk_J6_setColor q1873 q1874 q59 q1875 rfl dJ6_fixAfterDeletion_122 (by omega) (by omega) (fun v M1 hp => ?_)
      obtain ⟨rfl, hM⟩ := hp
      cases hM.symm
      simp only [Option.toList_some, Option.toList_none, List.cons_append, List.nil_append, Nat.add_zero, Nat.zero_add]
      refine g_aload_n hC dJ6_fixAfterDeletion_125 rfl ?_
      refine g_iconst (v := 0) hC dJ6_fixAfterDeletion_126 (by decide) ?_
      refine g_callS hC (ct_sc hB hks b01.z) rfl (by decide) rfl yk_J6_setColor q1873 q1874 q59 q1875 rfl dJ6_fixAfterDeletion_127 (by omega) (by omega) (fun v M1 hp => ?_)
      obtain ⟨rfl, hM⟩ := hp
      cases hM.symm
      simp only [Option.toList_some, Option.toList_none, List.cons_append, List.nil_append, Nat.add_zero, Nat.zero_add]
      refine g_aload_n hC dJ6_fixAfterDeletion_130 rfl ?_
      refine g_aload_n hC dJ6_fixAfterDeletion_131 rfl ?_
      have hF2 := (hF.col hwN b01.o).col hsN b01.z
      have hkt2 := hF2.2.2.2.2.2.2.1
      have hw2 : mR (sI (sI M w 5 1) s 5 0) s 2 = some w := hw
      refine g_callV hC (by first | with_reducible rfl | with_reducible assumption | (simp only [mR_sI, mR_sL]; with_reducible assumption) | exact rfl | assumption) (Rk.o (ci := 8) (by first | with_reducible assumption | (simp only [mK_sI, mK_sR, mK_sL, mK_sO]; with_reducible assumption) | assumption | (simp only [mK_sI, mK_sR, mK_sL, mK_sO, mK_nw, mK_sK]; first | assumption | (simp only [*]; done))) rfl) (ct_rotR hB hkt2 hF2.1 hsN hw2) rfl (by decide) rfl rfl yk_J6_rotateRight q1880 q1882 qs16 q59 q1883 rfl dJ6_fixAfterDeletion_132 (by omega) (by omega) (fun v M1 hp => ?_)
      obtain ⟨rfl, hR⟩ := hp
      simp only [Option.toList_some, Option.toList_none, List.cons_append, List.nil_append, Nat.add_zero, Nat.zero_add]
      have hF3 := hF2.rr hsN hw2 hR
      have xs : x ≠ s := by intro e; subst e; omega
      have xw : x ≠ w := by intro e; subst e; omega
      have xr : mR M w 3 ≠ some x := by intro e; have := h6 w x hwN e; omega
      have hp3 : mR M1 x 4 = some p := by rw [hR.2.2.2.2.2.1 x xs xw xr]; exact hp
      have hs3 : mR M1 p 3 = some w := hR.2.2.2.2.2.2.2.2.1 p a5.2.1 hs
      have hkx3 := (hF3.1.2 x hx).1
      have hkp3 := (hF3.1.2 p hpN).1
      refine g_aload_n hC dJ6_fixAfterDeletion_135 rfl ?_
      refine g_callS hC (ct_po hB hkx3) rfl (by decide) rfl yk_J6_parentOf q1861 q1862 q59 q1863 rfl dJ6_fixAfterDeletion_136 (by omega) (by omega) (fun v M1 hp => ?_)
      obtain ⟨rfl, hM⟩ := hp
      cases hM.symm
      simp only [Option.toList_some, Option.toList_none, List.cons_append, List.nil_append, Nat.add_zero, Nat.zero_add]
      simp only [mR_sI, hp3]
      refine g_callS hC (ct_ro hB hkp3) rfl (by decide) rfl yk_J6_rightOf q1867 q1868 q59 q1869 rfl dJ6_fixAfterDeletion_139 (by omega) (by omega) (fun v M1 hp => ?_)
      obtain ⟨rfl, hM⟩ := hp
      cases hM.symm
      simp only [Option.toList_some, Option.toList_none, List.cons_append, List.nil_append, Nat.add_zero, Nat.zero_add]
      simp only [mR_sI, hs3]
      refine g_astore_n hC dJ6_fixAfterDeletion_142 rfl rfl ?_
      try simp only [stL, clr]
      refine fd_tailL hB C hC hQ M1 _ _ x p w hF3 hx hpN hwN hx0 hp3 hs3 (fun q => ?_)
      obtain ⟨q1, q2, q3⟩ := hl q
      have n1 : x0 ≠ w := by intro e; subst e; omega
      exact ⟨Leaf.rr hF2 hx0 hsN hw2 hR q1 n1, n1⟩
/-- the sibling is known: sib; its parent's colour stays where x goes up -/
theorem fd_joinL (hB : Base G) : ∀ C, Ok C G cJ6_fixAfterDeletion RJ6 "fixAfterDeletion" 2 0 0 → Rt C G none 0 0 (fun v M' => v = none ∧ (∃ lo' hi', Fx M0 M' ρ t n ad ps lo' hi') ∧ (lf → Leaf M' x0)) → ∀ (M : Mem) (lo hi : Nat → Nat) (x p : Nat) (sib : Option Nat), Fx M0 M ρ t n ad ps lo hi → Nd n ad ps x → Nd n ad ps p → Nd n ad ps x0 → mR M x 4 = some p → mR M p 2 = some x → mR M p 3 = sib → (lf → Leaf M x0 ∧ lo x ≤ ps x0 ∧ ps x0 < hi x) → (∀ (M' : Mem) (b : Option Sv), Fx M0 M' ρ t n ad ps lo hi → mI M' p 5 = mI M p 5 → (lf → Leaf M' x0) → Go C 0 [some (vr (some t)), some (vr (some p)), b] [] M' 0 0) → Go C 71 [some (vr (some t)), some (vr (some x)), some (vr sib)] [] M 0 0 := by
  intro C hC hQ M lo hi x p sib hF hx hpN hx0 hp hpx hs hl kont
  have hkt := hF.2.2.2.2.2.2.1
  have hkx := (hF.1.2 x hx).1
  have hkp := (hF.1.2 p hpN).1
  obtain ⟨h1, h2, h3, h4, h5, h6, h7, h8, h9, h10⟩ := hF.1.1
  have hk := fun y hy => (hF.1.2 y hy).1
  rcases sib with _ | s
  · refine g_aload_n hC dJ6_fixAfterDeletion_71 rfl ?_
    refine g_callS hC (ct_lo0 hB) rfl (by decide) rfl yk_J6_leftOf q1864 q1865 q59 q1866 rfl dJ6_fixAfterDeletion_72 (by omega) (by omega) (fun v M1 hp => ?_)
    obtain ⟨rfl, hM⟩ := hp
    cases hM.symm
    simp only [Option.toList_some, Option.toList_none, List.cons_append, List.nil_append, Nat.add_zero, Nat.zero_add]
    refine g_callS hC (ct_co hB none (fun a e => by cases e)) rfl (by decide) rfl yk_J6_colorOf q1870 q1871 q59 q1872 rfl dJ6_fixAfterDeletion_75 (by omega) (by omega) (fun v M1 hp => ?_)
    obtain ⟨rfl, hM⟩ := hp
    cases hM.symm
    simp only [Option.toList_some, Option.toList_none, List.cons_append, List.nil_append, Nat.add_zero, Nat.zero_add]
    refine g_iconst (v := 1) hC dJ6_fixAfterDeletion_78 (by decide) ?_
    refine g_icmp_ne hC 106 dJ6_fixAfterDeletion_79 (by decide) (fun hc => ?_) (fun hc => ?_)
    · exact absurd rfl hc
    · refine g_aload_n hC dJ6_fixAfterDeletion_82 rfl ?_
      refine g_callS hC (ct_ro0 hB) rfl (by decide) rfl yk_J6_rightOf q1867 q1868 q59 q1869 rfl dJ6_fixAfterDeletion_83 (by omega) (by omega) (fun v M1 hp => ?_)
      obtain ⟨rfl, hM⟩ := hp
      cases hM.symm
      simp only [Option.toList_some, Option.toList_none, List.cons_append, List.nil_append, Nat.add_zero, Nat.zero_add]
      refine g_callS hC (ct_co hB none (fun a e => by cases e)) rfl (by decide) rfl yk_J6_colorOf q1870 q1871 q59 q1872 rfl dJ6_fixAfterDeletion_86 (by omega) (by omega) (fun v M1 hp => ?_)
      obtain ⟨rfl, hM⟩ := hp
      cases hM.symm
      simp only [Option.toList_some, Option.toList_none, List.cons_append, List.nil_append, Nat.add_zero, Nat.zero_add]
      refine g_iconst (v := 1) hC dJ6_fixAfterDeletion_89 (by decide) ?_
      refine g_icmp_ne hC 106 dJ6_fixAfterDeletion_90 (by decide) (fun hc2 => ?_) (fun hc2 => ?_)
      · exact absurd rfl hc2
      · refine g_aload_n hC dJ6_fixAfterDeletion_93 rfl ?_
        refine g_iconst (v := 0) hC dJ6_fixAfterDeletion_94 (by decide) ?_
        refine g_callS hC (ct_sc0 hB) rfl (by decide) rfl yk_J6_setColor q1873 q1874 q59 q1875 rfl dJ6_fixAfterDeletion_95 (by omega) (by omega) (fun v M1 hp => ?_)
        obtain ⟨rfl, hM⟩ := hp
        cases hM.symm
        simp only [Option.toList_some, Option.toList_none, List.cons_append, List.nil_append, Nat.add_zero, Nat.zero_add]
        refine g_aload_n hC dJ6_fixAfterDeletion_98 rfl ?_
        refine g_callS hC (ct_po hB hkx) rfl (by decide) rfl yk_J6_parentOf q1861 q1862 q59 q1863 rfl dJ6_fixAfterDeletion_99 (by omega) (by omega) (fun v M1 hp => ?_)
        obtain ⟨rfl, hM⟩ := hp
        cases hM.symm
        simp only [Option.toList_some, Option.toList_none, List.cons_append, List.nil_append, Nat.add_zero, Nat.zero_add]
        simp only [mR_sI, hp]
        refine g_astore_n hC dJ6_fixAfterDeletion_102 rfl rfl ?_
        try simp only [stL, clr]
        refine g_goto hC 183 dJ6_fixAfterDeletion_103 (by decide) ?_
        refine g_goto hC 0 dJ6_fixAfterDeletion_183 (by decide) ?_
        exact kont M _ hF rfl (fun q => (hl q).1)
  · obtain ⟨hsN, hsP, hs3, hs4⟩ := h6 p s hpN hs
    have hks := hk s hsN
    have a2 := h2 p hpN
    have a3 := h2 s hsN
    have hsp : p ≠ s := by intro e; subst e; omega
    refine g_aload_n hC dJ6_fixAfterDeletion_71 rfl ?_
    refine g_callS hC (ct_lo hB hks) rfl (by decide) rfl yk_J6_leftOf q1864 q1865 q59 q1866 rfl dJ6_fixAfterDeletion_72 (by omega) (by omega) (fun v M1 hp => ?_)
    obtain ⟨rfl, hM⟩ := hp
    cases hM.symm
    simp only [Option.toList_some, Option.toList_none, List.cons_append, List.nil_append, Nat.add_zero, Nat.zero_add]
    refine g_callS hC (ct_co hB (mR M s 2) (fun a e => ⟨hk a (h4 s a hsN e).1, hF.2.1 a (h4 s a hsN e).1⟩)) rfl (by decide) rfl yk_J6_colorOf q1870 q1871 q59 q1872 rfl dJ6_fixAfterDeletion_75 (by omega) (by omega) (fun v M1 hp => ?_)
    obtain ⟨rfl, hM⟩ := hp
    cases hM.symm
    simp only [Option.toList_some, Option.toList_none, List.cons_append, List.nil_append, Nat.add_zero, Nat.zero_add]
    refine g_iconst (v := 1) hC dJ6_fixAfterDeletion_78 (by decide) ?_
    refine g_icmp_ne hC 106 dJ6_fixAfterDeletion_79 (by decide) (fun hc => ?_) (fun hc => ?_)
    · exact fd_midL hB C hC hQ M lo hi x p s hF hx hpN hsN hx0 hp hpx hs (fun _ => hc) hl
    · refine g_aload_n hC dJ6_fixAfterDeletion_82 rfl ?_
      refine g_callS hC (ct_ro hB hks) rfl (by decide) rfl yk_J6_rightOf q1867 q1868 q59 q1869 rfl dJ6_fixAfterDeletion_83 (by omega) (by omega) (fun v M1 hp => ?_)
      obtain ⟨rfl, hM⟩ := hp
      cases hM.symm
      simp only [Option.toList_some, Option.toList_none, List.cons_append, List.nil_append, Nat.add_zero, Nat.zero_add]
      refine g_callS hC (ct_co hB (mR M s 3) (fun a e => ⟨hk a (h6 s a hsN e).1, hF.2.1 a (h6 s a hsN e).1⟩)) rfl (by decide) rfl yk_J6_colorOf q1870 q1871 q59 q1872 rfl dJ6_fixAfterDeletion_86 (by omega) (by omega) (fun v M1 hp => ?_)
      obtain ⟨rfl, hM⟩ := hp
      cases hM.symm
      simp only [Option.toList_some, Option.toList_none, List.cons_append, List.nil_append, Nat.add_zero, Nat.zero_add]
      refine g_iconst (v := 1) hC dJ6_fixAfterDeletion_89 (by decide) ?_
      refine g_icmp_ne hC 106 dJ6_fixAfterDeletion_90 (by decide) (fun hc2 => ?_) (fun hc2 => ?_)
      · exact fd_midL hB C hC hQ M lo hi x p s hF hx hpN hsN hx0 hp hpx hs (fun q => absurd q hc2) hl
      · refine g_aload_n hC dJ6_fixAfterDeletion_93 rfl ?_
        refine g_iconst (v := 0) hC dJ6_fixAfterDeletion_94 (by decide) ?_
        refine g_callS hC (ct_sc hB hks b01.z) rfl (by decide) rfl yk_J6_setColor q1873 q1874 q59 q1875 rfl dJ6_fixAfterDeletion_95 (by omega) (by omega) (fun v M1 hp => ?_)
        obtain ⟨rfl, hM⟩ := hp
        cases hM.symm
        simp only [Option.toList_some, Option.toList_none, List.cons_append, List.nil_append, Nat.add_zero, Nat.zero_add]
        refine g_aload_n hC dJ6_fixAfterDeletion_98 rfl ?_
        refine g_callS hC (ct_po hB hkx) rfl (by decide) rfl yk_J6_parentOf q1861 q1862 q59 q1863 rfl dJ6_fixAfterDeletion_99 (by omega) (by omega) (fun v M1 hp => ?_)
        obtain ⟨rfl, hM⟩ := hp
        cases hM.symm
        simp only [Option.toList_some, Option.toList_none, List.cons_append, List.nil_append, Nat.add_zero, Nat.zero_add]
        simp only [mR_sI, hp]
        refine g_astore_n hC dJ6_fixAfterDeletion_102 rfl rfl ?_
        try simp only [stL, clr]
        refine g_goto hC 183 dJ6_fixAfterDeletion_103 (by decide) ?_
        refine g_goto hC 0 dJ6_fixAfterDeletion_183 (by decide) ?_
        refine kont _ _ (hF.col hsN b01.z) ?_ (fun q => (hl q).1)
        rw [mI_sI]; simp [hsp]
/-- x, of the black, is the child of p on this side -/
theorem fd_sideL (hB : Base G) : ∀ C, Ok C G cJ6_fixAfterDeletion RJ6 "fixAfterDeletion" 2 0 0 → Rt C G none 0 0 (fun v M' => v = none ∧ (∃ lo' hi', Fx M0 M' ρ t n ad ps lo' hi') ∧ (lf → Leaf M' x0)) → ∀ (M : Mem) (lo hi : Nat → Nat) (x p : Nat) (b : Option Sv), Fx M0 M ρ t n ad ps lo hi → Nd n ad ps x → Nd n ad ps p → Nd n ad ps x0 → mR M x 4 = some p → mR M p 2 = some x → (lf → Leaf M x0 ∧ lo x ≤ ps x0 ∧ ps x0 < hi x) → (∀ (M' : Mem) (b : Option Sv), Fx M0 M' ρ t n ad ps lo hi → (lf → Leaf M' x0) → Go C 0 [some (vr (some t)), some (vr (some p)), b] [] M' 0 0) → Go C 27 [some (vr (some t)), some (vr (some x)), b] [] M 0 0 := by
  intro C hC hQ M lo hi x p b hF hx hpN hx0 hp hpx hl kont
  have hkt := hF.2.2.2.2.2.2.1
  have hkx := (hF.1.2 x hx).1
  have hkp := (hF.1.2 p hpN).1
  obtain ⟨h1, h2, h3, h4, h5, h6, h7, h8, h9, h10⟩ := hF.1.1
  have hk := fun y hy => (hF.1.2 y hy).1
  refine g_aload_n hC dJ6_fixAfterDeletion_27 rfl ?_
  refine g_callS hC (ct_po hB hkx) rfl (by decide) rfl yk_J6_parentOf q1861 q1862 q59 q1863 rfl dJ6_fixAfterDeletion_28 (by omega) (by omega) (fun v M1 hp => ?_)
  obtain ⟨rfl, hM⟩ := hp
  cases hM.symm
  simp only [Option.toList_some, Option.toList_none, List.cons_append, List.nil_append, Nat.add_zero, Nat.zero_add]
  simp only [mR_sI, hp]
  refine g_callS hC (ct_ro hB hkp) rfl (by decide) rfl yk_J6_rightOf q1867 q1868 q59 q1869 rfl dJ6_fixAfterDeletion_31 (by omega) (by omega) (fun v M1 hp => ?_)
  obtain ⟨rfl, hM⟩ := hp
  cases hM.symm
  simp only [Option.toList_some, Option.toList_none, List.cons_append, List.nil_append, Nat.add_zero, Nat.zero_add]
  refine g_astore_n hC dJ6_fixAfterDeletion_34 rfl rfl ?_
  try simp only [stL, clr]
  refine g_aload_n hC dJ6_fixAfterDeletion_35 rfl ?_
  refine g_callS hC (ct_co hB (mR M p 3) (fun a e => ⟨hk a (h6 p a hpN e).1, hF.2.1 a (h6 p a hpN e).1⟩)) rfl (by decide) rfl yk_J6_colorOf q1870 q1871 q59 q1872 rfl dJ6_fixAfterDeletion_36 (by omega) (by omega) (fun v M1 hp => ?_)
  obtain ⟨rfl, hM⟩ := hp
  cases hM.symm
  simp only [Option.toList_some, Option.toList_none, List.cons_append, List.nil_append, Nat.add_zero, Nat.zero_add]
  refine g_if_ne hC 71 dJ6_fixAfterDeletion_39 (by decide) (fun hc => ?_) (fun hc => ?_)
  · exact fd_joinL hB C hC hQ M lo hi x p _ hF hx hpN hx0 hp hpx rfl hl (fun M' b' q1 _ q3 => kont M' b' q1 q3)
  · rcases hs : mR M p 3 with _ | s
    · rw [hs] at hc; simp [cO] at hc
    · obtain ⟨hsN, hsP, hs3, hs4⟩ := h6 p s hpN hs
      have hks := hk s hsN
      have a1 := h2 x hx
      have a2 := h2 p hpN
      have a3 := h2 s hsN
      have a4 := h4 p x hpN hpx
      have hsp : p ≠ s := by intro e; subst e; omega
      refine g_aload_n hC dJ6_fixAfterDeletion_42 rfl ?_
      refine g_iconst (v := 1) hC dJ6_fixAfterDeletion_43 (by decide) ?_
      refine g_callS hC (ct_sc hB hks b01.o) rfl (by decide) rfl yk_J6_setColor q1873 q1874 q59 q1875 rfl dJ6_fixAfterDeletion_44 (by omega) (by omega) (fun v M1 hp => ?_)
      obtain ⟨rfl, hM⟩ := hp
      cases hM.symm
      simp only [Option.toList_some, Option.toList_none, List.cons_append, List.nil_append, Nat.add_zero, Nat.zero_add]
      refine g_aload_n hC dJ6_fixAfterDeletion_47 rfl ?_
      refine g_callS hC (ct_po hB hkx) rfl (by decide) rfl yk_J6_parentOf q1861 q1862 q59 q1863 rfl dJ6_fixAfterDeletion_48 (by omega) (by omega) (fun v M1 hp => ?_)
      obtain ⟨rfl, hM⟩ := hp
      cases hM.symm
      simp only [Option.toList_some, Option.toList_none, List.cons_append, List.nil_append, Nat.add_zero, Nat.zero_add]
      simp only [mR_sI, hp]
      refine g_iconst (v := 0) hC dJ6_fixAfterDeletion_51 (by decide) ?_
      refine g_callS hC (ct_sc hB hkp b01.z) rfl (by decide) rfl yk_J6_setColor q1873 q1874 q59 q1875 rfl dJ6_fixAfterDeletion_52 (by omega) (by omega) (fun v M1 hp => ?_)
      obtain ⟨rfl, hM⟩ := hp
      cases hM.symm
      simp only [Option.toList_some, Option.toList_none, List.cons_append, List.nil_append, Nat.add_zero, Nat.zero_add]
      refine g_aload_n hC dJ6_fixAfterDeletion_55 rfl ?_
      refine g_aload_n hC dJ6_fixAfterDeletion_56 rfl ?_
      refine g_callS hC (ct_po hB hkx) rfl (by decide) rfl yk_J6_parentOf q1861 q1862 q59 q1863 rfl dJ6_fixAfterDeletion_57 (by omega) (by omega) (fun v M1 hp => ?_)
      obtain ⟨rfl, hM⟩ := hp
      cases hM.symm
      simp only [Option.toList_some, Option.toList_none, List.cons_append, List.nil_append, Nat.add_zero, Nat.zero_add]
      simp only [mR_sI, hp]
      have hF2 := (hF.col hsN b01.o).col hpN b01.z
      have hkt2 := hF2.2.2.2.2.2.2.1
      have hs2 : mR (sI (sI M s 5 1) p 5 0) p 3 = some s := hs
      refine g_callV hC (by first | with_reducible rfl | with_reducible assumption | (simp only [mR_sI, mR_sL]; with_reducible assumption) | exact rfl | assumption) (Rk.o (ci := 8) (by first | with_reducible assumption | (simp only [mK_sI, mK_sR, mK_sL, mK_sO]; with_reducible assumption) | assumption | (simp only [mK_sI, mK_sR, mK_sL, mK_sO, mK_nw, mK_sK]; first | assumption | (simp only [*]; done))) rfl) (ct_rotL hB hkt2 hF2.1 hpN hs2) rfl (by decide) rfl rfl yk_J6_rotateLeft q1876 q1878 qs15 q59 q1879 rfl dJ6_fixAfterDeletion_60 (by omega) (by omega) (fun v M1 hp => ?_)
      obtain ⟨rfl, hR⟩ := hp
      simp only [Option.toList_some, Option.toList_none, List.cons_append, List.nil_append, Nat.add_zero, Nat.zero_add]
      have hF3 := hF2.rl hpN hs2 hR
      have xp : x ≠ p := by intro e; subst e; omega
      have xs : x ≠ s := by intro e; subst e; omega
      have xl : mR M s 2 ≠ some x := by intro e; have := h4 s x hsN e; omega
      have hp3 : mR M1 x 4 = some p := by rw [hR.2.2.2.2.2.1 x xp xs xl]; exact hp
      have pp : ¬ (mR M p 4 = some p ∧ mR M p 2 = some p) := by
        rintro ⟨-, q⟩
        rw [hpx] at q; cases q; exact xp rfl
      have hpx3 : mR M1 p 2 = some x := by rw [hR.2.2.2.2.2.2.2.2.2.2.1 p hsp pp]; exact hpx
      have hkx3 := (hF3.1.2 x hx).1
      have hkp3 := (hF3.1.2 p hpN).1
      refine g_aload_n hC dJ6_fixAfterDeletion_63 rfl ?_
      refine g_callS hC (ct_po hB hkx3) rfl (by decide) rfl yk_J6_parentOf q1861 q1862 q59 q1863 rfl dJ6_fixAfterDeletion_64 (by omega) (by omega) (fun v M1 hp => ?_)
      obtain ⟨rfl, hM⟩ := hp
      cases hM.symm
      simp only [Option.toList_some, Option.toList_none, List.cons_append, List.nil_append, Nat.add_zero, Nat.zero_add]
      simp only [mR_sI, hp3]
      refine g_callS hC (ct_ro hB hkp3) rfl (by decide) rfl yk_J6_rightOf q1867 q1868 q59 q1869 rfl dJ6_fixAfterDeletion_67 (by omega) (by omega) (fun v M1 hp => ?_)
      obtain ⟨rfl, hM⟩ := hp
      cases hM.symm
      simp only [Option.toList_some, Option.toList_none, List.cons_append, List.nil_append, Nat.add_zero, Nat.zero_add]
      refine g_astore_n hC dJ6_fixAfterDeletion_70 rfl rfl ?_
      try simp only [stL, clr]
      refine fd_joinL hB C hC hQ M1 _ _ x p _ hF3 hx hpN hx0 hp3 hpx3 rfl (fun q => ?_) (fun M' b' q1 q2 q3 => ?_)
      · obtain ⟨q1, q2, q3⟩ := hl q
        have n1 : x0 ≠ s := by intro e; subst e; omega
        refine ⟨Leaf.rl hF2 hx0 hpN hs2 hR q1 n1, ?_, ?_⟩
        · simp only [xs, xp, if_false]; exact q2
        · simp only [xs, xp, if_false]; exact q3
      · refine fd_red hB C hC hQ M' _ _ p b' q1 hpN q3 ?_
        rw [q2, (hR.2.2.2.2.2.2.2.2.2.2.2.2.2.1 p 5).1]
        rw [mI_sI]; simp
/-- the last rotation, at p; then the root -/
theorem fd_tailR (hB : Base G) : ∀ C, Ok C G cJ6_fixAfterDeletion RJ6 "fixAfterDeletion" 2 0 0 → Rt C G none 0 0 (fun v M' => v = none ∧ (∃ lo' hi', Fx M0 M' ρ t n ad ps lo' hi') ∧ (lf → Leaf M' x0)) → ∀ (M : Mem) (lo hi : Nat → Nat) (x p s : Nat), Fx M0 M ρ t n ad ps lo hi → Nd n ad ps x → Nd n ad ps p → Nd n ad ps s → Nd n ad ps x0 → mR M x 4 = some p → mR M p 2 = some s → (lf → Leaf M x0 ∧ x0 ≠ s) → Go C 302 [some (vr (some t)), some (vr (some x)), some (vr (some s))] [] M 0 0 := by
  intro C hC hQ M lo hi x p s hF hx hpN hsN hx0 hp hs hl
  have hkt := hF.2.2.2.2.2.2.1
  have hkx := (hF.1.2 x hx).1
  have hkp := (hF.1.2 p hpN).1
  have hks := (hF.1.2 s hsN).1
  have h6 := hF.1.1.2.2.2.2.2.1
  have h4 := hF.1.1.2.2.2.1
  refine g_aload_n hC dJ6_fixAfterDeletion_302 rfl ?_
  refine g_aload_n hC dJ6_fixAfterDeletion_303 rfl ?_
  refine g_callS hC (ct_po hB hkx) rfl (by decide) rfl yk_J6_parentOf q1861 q1862 q59 q1863 rfl dJ6_fixAfterDeletion_304 (by omega) (by omega) (fun v M1 hp => ?_)
  obtain ⟨rfl, hM⟩ := hp
  cases hM.symm
  simp only [Option.toList_some, Option.toList_none, List.cons_append, List.nil_append, Nat.add_zero, Nat.zero_add]
  simp only [mR_sI, hp]
  refine g_callS hC (ct_co hB (some p) (kco hkp (hF.2.1 p hpN))) rfl (by decide) rfl yk_J6_colorOf q1870 q1871 q59 q1872 rfl dJ6_fixAfterDeletion_307 (by omega) (by omega) (fun v M1 hp => ?_)
  obtain ⟨rfl, hM⟩ := hp
  cases hM.symm
  simp only [Option.toList_some, Option.toList_none, List.cons_append, List.nil_append, Nat.add_zero, Nat.zero_add]
  have hb9 : b01 (cO M (some p)) := hF.2.1 p hpN
  generalize cO M (some p) = c9 at hb9 ⊢
  refine g_callS hC (ct_sc hB hks hb9) rfl (by decide) rfl yk_J6_setColor q1873 q1874 q59 q1875 rfl dJ6_fixAfterDeletion_310 (by omega) (by omega) (fun v M1 hp => ?_)
  obtain ⟨rfl, hM⟩ := hp
  cases hM.symm
  simp only [Option.toList_some, Option.toList_none, List.cons_append, List.nil_append, Nat.add_zero, Nat.zero_add]
  refine g_aload_n hC dJ6_fixAfterDeletion_313 rfl ?_
  refine g_callS hC (ct_po hB hkx) rfl (by decide) rfl yk_J6_parentOf q1861 q1862 q59 q1863 rfl dJ6_fixAfterDeletion_314 (by omega) (by omega) (fun v M1 hp => ?_)
  obtain ⟨rfl, hM⟩ := hp
  cases hM.symm
  simp only [Option.toList_some, Option.toList_none, List.cons_append, List.nil_append, Nat.add_zero, Nat.zero_add]
  simp only [mR_sI, hp]
  refine g_iconst (v := 1) hC dJ6_fixAfterDeletion_317 (by decide) ?_
  refine g_callS hC (ct_sc hB hkp b01.o) rfl (by decide) rfl yk_J6_setColor q1873 q1874 q59 q1875 rfl dJ6_fixAfterDeletion_318 (by omega) (by omega) (fun v M1 hp => ?_)
  obtain ⟨rfl, hM⟩ := hp
  cases hM.symm
  simp only [Option.toList_some, Option.toList_none, List.cons_append, List.nil_append, Nat.add_zero, Nat.zero_add]
  refine g_aload_n hC dJ6_fixAfterDeletion_321 rfl ?_
  refine g_callS hC (ct_lo hB hks) rfl (by decide) rfl yk_J6_leftOf q1864 q1865 q59 q1866 rfl dJ6_fixAfterDeletion_322 (by omega) (by omega) (fun v M1 hp => ?_)
  obtain ⟨rfl, hM⟩ := hp
  cases hM.symm
  simp only [Option.toList_some, Option.toList_none, List.cons_append, List.nil_append, Nat.add_zero, Nat.zero_add]
  refine g_iconst (v := 1) hC dJ6_fixAfterDeletion_325 (by decide) ?_
  have hF2 := (hF.col hsN hb9).col hpN b01.o
  have fin : ∀ M2 : Mem, Fx M0 M2 ρ t n ad ps lo hi → (∀ y j, mR M2 y j = mR M y j) → Go C 329 [some (vr (some t)), some (vr (some x)), some (vr (some s))] [] M2 0 0 := by
    intro M2 hF2 e2
    have hkt2 := hF2.2.2.2.2.2.2.1
    have hkx2 := (hF2.1.2 x hx).1
    have hs2 : mR M2 p 2 = some s := (e2 p 2).trans hs
    have hp2 : mR M2 x 4 = some p := (e2 x 4).trans hp
    refine g_aload_n hC dJ6_fixAfterDeletion_329 rfl ?_
    refine g_aload_n hC dJ6_fixAfterDeletion_330 rfl ?_
    refine g_callS hC (ct_po hB hkx2) rfl (by decide) rfl yk_J6_parentOf q1861 q1862 q59 q1863 rfl dJ6_fixAfterDeletion_331 (by omega) (by omega) (fun v M1 hp => ?_)
    obtain ⟨rfl, hM⟩ := hp
    cases hM.symm
    simp only [Option.toList_some, Option.toList_none, List.cons_append, List.nil_append, Nat.add_zero, Nat.zero_add]
    simp only [mR_sI, hp2]
    refine g_callV hC (by first | with_reducible rfl | with_reducible assumption | (simp only [mR_sI, mR_sL]; with_reducible assumption) | exact rfl | assumption) (Rk.o (ci := 8) (by first | with_reducible assumption | (simp only [mK_sI, mK_sR, mK_sL, mK_sO]; with_reducible assumption) | assumption | (simp only [mK_sI, mK_sR, mK_sL, mK_sO, mK_nw, mK_sK]; first | assumption | (simp only [*]; done))) rfl) (ct_rotR hB hkt2 hF2.1 hpN hs2) rfl (by decide) rfl rfl yk_J6_rotateRight q1880 q1882 qs16 q59 q1883 rfl dJ6_fixAfterDeletion_334 (by omega) (by omega) (fun v M1 hp => ?_)
    obtain ⟨rfl, hR⟩ := hp
    simp only [Option.toList_some, Option.toList_none, List.cons_append, List.nil_append, Nat.add_zero, Nat.zero_add]
    have hF3 := hF2.rr hpN hs2 hR
    have hkt3 := hF3.2.2.2.2.2.2.1
    refine g_aload_n hC dJ6_fixAfterDeletion_337 rfl ?_
    refine g_getR hC (ci := 8) (by first | with_reducible rfl | with_reducible assumption | (simp only [mR_sI, mR_sL]; with_reducible assumption) | exact rfl | assumption) (by first | with_reducible assumption | (simp only [mK_sI, mK_sR, mK_sL, mK_sO]; with_reducible assumption) | assumption | (simp only [mK_sI, mK_sR, mK_sL, mK_sO, mK_nw, mK_sK]; first | assumption | (simp only [*]; done))) rfl 3 (by decide) q273 (Or.inl rfl) rfl dJ6_fixAfterDeletion_338 ?_
    obtain ⟨r, hr⟩ : ∃ r, mR M1 t 3 = some r := by
      cases e : mR M1 t 3 with
      | none => have := hF3.1.1.2.2.2.2.2.2.2.2.1 e; have := hx.1; omega
      | some r => exact ⟨r, rfl⟩
    have hrN := (hF3.1.1.2.2.2.2.2.2.2.2.2 r hr).1
    rw [hr]
    refine g_astore_n hC dJ6_fixAfterDeletion_341 rfl rfl ?_
    try simp only [stL, clr]
    refine g_goto hC 0 dJ6_fixAfterDeletion_342 (by decide) ?_
    refine g_aload_n hC dJ6_fixAfterDeletion_0 rfl ?_
    refine g_aload_n hC dJ6_fixAfterDeletion_1 rfl ?_
    refine g_getR hC (ci := 8) (by first | with_reducible rfl | with_reducible assumption | (simp only [mR_sI, mR_sL]; with_reducible assumption) | exact rfl | assumption) (by first | with_reducible assumption | (simp only [mK_sI, mK_sR, mK_sL, mK_sO]; with_reducible assumption) | assumption | (simp only [mK_sI, mK_sR, mK_sL, mK_sO, mK_nw, mK_sK]; first | assumption | (simp only [*]; done))) rfl 3 (by decide) q273 (Or.inl rfl) rfl dJ6_fixAfterDeletion_2 ?_
    rw [hr]
    refine g_acmp_eq hC 345 dJ6_fixAfterDeletion_5 (by decide) (fun hc => ?_) (fun hc => ?_)
    · refine fd_end hB C hC hQ M1 _ _ r _ hF3 hrN (fun q => ?_)
      obtain ⟨q1, q2⟩ := hl q
      exact Leaf.rr hF2 hx0 hpN hs2 hR ⟨(e2 x0 2).trans q1.1, (e2 x0 3).trans q1.2⟩ q2
    · exact absurd rfl hc
  rcases hy : mR M s 2 with _ | y
  · have e9 : mR (sI (sI M s 5 c9) p 5 1) s 2 = none := hy
    simp only [e9]
    refine g_callS hC (ct_sc0 hB) rfl (by decide) rfl yk_J6_setColor q1873 q1874 q59 q1875 rfl dJ6_fixAfterDeletion_326 (by omega) (by omega) (fun v M1 hp => ?_)
    obtain ⟨rfl, hM⟩ := hp
    cases hM.symm
    simp only [Option.toList_some, Option.toList_none, List.cons_append, List.nil_append, Nat.add_zero, Nat.zero_add]
    exact fin _ hF2 (fun _ _ => rfl)
  · have e9 : mR (sI (sI M s 5 c9) p 5 1) s 2 = some y := hy
    simp only [e9]
    have hyN := (h4 s y hsN hy).1
    have hky := (hF.1.2 y hyN).1
    refine g_callS hC (ct_sc hB hky b01.o) rfl (by decide) rfl yk_J6_setColor q1873 q1874 q59 q1875 rfl dJ6_fixAfterDeletion_326 (by omega) (by omega) (fun v M1 hp => ?_)
    obtain ⟨rfl, hM⟩ := hp
    cases hM.symm
    simp only [Option.toList_some, Option.toList_none, List.cons_append, List.nil_append, Nat.add_zero, Nat.zero_add]
    exact fin _ (hF2.col hyN b01.o) (fun _ _ => rfl)
/-- the sibling s has a red child -/
theorem fd_midR (hB : Base G) : ∀ C, Ok C G cJ6_fixAfterDeletion RJ6 "fixAfterDeletion" 2 0 0 → Rt C G none 0 0 (fun v M' => v = none ∧ (∃ lo' hi', Fx M0 M' ρ t n ad ps lo' hi') ∧ (lf → Leaf M' x0)) → ∀ (M : Mem) (lo hi : Nat → Nat) (x p s : Nat), Fx M0 M ρ t n ad ps lo hi → Nd n ad ps x → Nd n ad ps p → Nd n ad ps s → Nd n ad ps x0 → mR M x 4 = some p → mR M p 3 = some x → mR M p 2 = some s → (cO M (mR M s 2) = 1 → cO M (mR M s 3) ≠ 1) → (lf → Leaf M x0 ∧ lo x ≤ ps x0 ∧ ps x0 < hi x) → Go C 265 [some (vr (some t)), some (vr (some x)), some (vr (some s))] [] M 0 0 := by
  intro C hC hQ M lo hi x p s hF hx hpN hsN hx0 hp hpx hs hred hl
  have hkt := hF.2.2.2.2.2.2.1
  have hkx := (hF.1.2 x hx).1
  have hkp := (hF.1.2 p hpN).1
  have hks := (hF.1.2 s hsN).1
  obtain ⟨h1, h2, h3, h4, h5, h6, h7, h8, h9, h10⟩ := hF.1.1
  have a1 := h2 x hx
  have a2 := h2 p hpN
  have a3 := h2 s hsN
  have a4 := h6 p x hpN hpx
  have a5 := h4 p s hpN hs
  have hk := fun y hy => (hF.1.2 y hy).1
  refine g_aload_n hC dJ6_fixAfterDeletion_265 rfl ?_
  refine g_callS hC (ct_lo hB hks) rfl (by decide) rfl yk_J6_leftOf q1864 q1865 q59 q1866 rfl dJ6_fixAfterDeletion_266 (by omega) (by omega) (fun v M1 hp => ?_)
  obtain ⟨rfl, hM⟩ := hp
  cases hM.symm
  simp only [Option.toList_some, Option.toList_none, List.cons_append, List.nil_append, Nat.add_zero, Nat.zero_add]
  refine g_callS hC (ct_co hB (mR M s 2) (fun a e => ⟨hk a (h4 s a hsN e).1, hF.2.1 a (h4 s a hsN e).1⟩)) rfl (by decide) rfl yk_J6_colorOf q1870 q1871 q59 q1872 rfl dJ6_fixAfterDeletion_269 (by omega) (by omega) (fun v M1 hp => ?_)
  obtain ⟨rfl, hM⟩ := hp
  cases hM.symm
  simp only [Option.toList_some, Option.toList_none, List.cons_append, List.nil_append, Nat.add_zero, Nat.zero_add]
  refine g_iconst (v := 1) hC dJ6_fixAfterDeletion_272 (by decide) ?_
  refine g_icmp_ne hC 302 dJ6_fixAfterDeletion_273 (by decide) (fun hc => ?_) (fun hc => ?_)
  · exact fd_tailR hB C hC hQ M lo hi x p s hF hx hpN hsN hx0 hp hs (fun q => ⟨(hl q).1, by have := (hl q).2; intro e; subst e; omega⟩)
  · have hne := hred hc
    rcases hw : mR M s 3 with _ | w
    · rw [hw] at hne; exact absurd rfl hne
    · obtain ⟨hwN, hwP, hw3, hw4⟩ := h6 s w hsN hw
      have hkw := hk w hwN
      have a6 := h2 w hwN
      refine g_aload_n hC dJ6_fixAfterDeletion_276 rfl ?_
      refine g_callS hC (ct_ro hB hks) rfl (by decide) rfl yk_J6_rightOf q1867 q1868 q59 q1869 rfl dJ6_fixAfterDeletion_277 (by omega) (by omega) (fun v M1 hp => ?_)
      obtain ⟨rfl, hM⟩ := hp
      cases hM.symm
      simp only [Option.toList_some, Option.toList_none, List.cons_append, List.nil_append, Nat.add_zero, Nat.zero_add]
      simp only [mR_sI, hw]
      refine g_iconst (v := 1) hC dJ6_fixAfterDeletion_280 (by decide) ?_
      refine g_callS hC (ct_sc hB hkw b01.o) rfl (by decide) rfl yk_J6_setColor q1873 q1874 q59 q1875 rfl dJ6_fixAfterDeletion_281 (by omega) (by omega) (fun v M1 hp => ?_)
      obtain ⟨rfl, hM⟩ := hp
      cases hM.symm
      simp only [Option.toList_some, Option.toList_none, List.cons_append, List.nil_append, Nat.add_zero, Nat.zero_add]
      refine g_aload_n hC dJ6_fixAfterDeletion_284 rfl ?_
      refine g_iconst (v := 0) hC dJ6_fixAfterDeletion_285 (by decide) ?_
      refine g_callS hC (ct_sc hB hks b01.z) rfl (by decide) rfl yk_J6_setColor q1873 q1874 q59 q1875 rfl dJ6_fixAfterDeletion_286 (by omega) (by omega) (fun v M1 hp => ?_)
      obtain ⟨rfl, hM⟩ := hp
      cases hM.symm
      simp only [Option.toList_some, Option.toList_none, List.cons_append, List.nil_append, Nat.add_zero, Nat.zero_add]
      refine g_aload_n hC dJ6_fixAfterDeletion_289 rfl ?_
      refine g_aload_n hC dJ6_fixAfterDeletion_290 rfl ?_
      have hF2 := (hF.col hwN b01.o).col hsN b01.z
      have hkt2 := hF2.2.2.2.2.2.2.1
      have hw2 : mR (sI (sI M w 5 1) s 5 0) s 3 = some w := hw
      refine g_callV hC (by first | with_reducible rfl | with_reducible assumption | (simp only [mR_sI, mR_sL]; with_reducible assumption) | exact rfl | assumption) (Rk.o (ci := 8) (by first | with_reducible assumption | (simp only [mK_sI, mK_sR, mK_sL, mK_sO]; with_reducible assumption) | assumption | (simp only [mK_sI, mK_sR, mK_sL, mK_sO, mK_nw, mK_sK]; first | assumption | (simp only [*]; done))) rfl) (ct_rotL hB hkt2 hF2.1 hsN hw2) rfl (by decide) rfl rfl yk_J6_rotateLeft q1876 q1878 qs15 q59 q1879 rfl dJ6_fixAfterDeletion_291 (by omega) (by omega) (fun v M1 hp => ?_)
      obtain ⟨rfl, hR⟩ := hp
      simp only [Option.toList_some, Option.toList_none, List.cons_append, List.nil_append, Nat.add_zero, Nat.zero_add]
      have hF3 := hF2.rl hsN hw2 hR
      have xs : x ≠ s := by intro e; subst e; omega
      have xw : x ≠ w := by intro e; subst e; omega
      have xr : mR M w 2 ≠ some x := by intro e; have := h4 w x hwN e; omega
      have hp3 : mR M1 x 4 = some p := by rw [hR.2.2.2.2.2.1 x xs xw xr]; exact hp
      have hs3 : mR M1 p 2 = some w := hR.2.2.2.2.2.2.2.2.1 p a5.2.1 hs
      have hkx3 := (hF3.1.2 x hx).1
      have hkp3 := (hF3.1.2 p hpN).1
      refine g_aload_n hC dJ6_fixAfterDeletion_294 rfl ?_
      refine g_callS hC (ct_po hB hkx3) rfl (by decide) rfl yk_J6_parentOf q1861 q1862 q59 q1863 rfl dJ6_fixAfterDeletion_295 (by omega) (by omega) (fun v M1 hp => ?_)
      obtain ⟨rfl, hM⟩ := hp
      cases hM.symm
      simp only [Option.toList_some, Option.toList_none, List.cons_append, List.nil_append, Nat.add_zero, Nat.zero_add]
      simp only [mR_sI, hp3]
      refine g_callS hC (ct_lo hB hkp3) rfl (by decide) rfl yk_J6_leftOf q1864 q1865 q59 q1866 rfl dJ6_fixAfterDeletion_298 (by omega) (by omega) (fun v M1 hp => ?_)
      obtain ⟨rfl, hM⟩ := hp
      cases hM.symm
      simp only [Option.toList_some, Option.toList_none, List.cons_append, List.nil_append, Nat.add_zero, Nat.zero_add]
      simp only [mR_sI, hs3]
      refine g_astore_n hC dJ6_fixAfterDeletion_301 rfl rfl ?_
      try simp only [stL, clr]
      refine fd_tailR hB C hC hQ M1 _ _ x p w hF3 hx hpN hwN hx0 hp3 hs3 (fun q => ?_)
      obtain ⟨q1, q2, q3⟩ := hl q
      have n1 : x0 ≠ w := by intro e; subst e; omega
      exact ⟨Leaf.rl hF2 hx0 hsN hw2 hR q1 n1, n1⟩
/-- the sibling is known: sib; its parent's colour stays where x goes up -/
theorem fd_joinR (hB : Base G) : ∀ C, Ok C G cJ6_fixAfterDeletion RJ6 "fixAfterDeletion" 2 0 0 → Rt C G none 0 0 (fun v M' => v = none ∧ (∃ lo' hi', Fx M0 M' ρ t n ad ps lo' hi') ∧ (lf → Leaf M' x0)) → ∀ (M : Mem) (lo hi : Nat → Nat) (x p : Nat) (sib : Option Nat), Fx M0 M ρ t n ad ps lo hi → Nd n ad ps x → Nd n ad ps p → Nd n ad ps x0 → mR M x 4 = some p → mR M p 3 = some x → mR M p 2 = sib → (lf → Leaf M x0 ∧ lo x ≤ ps x0 ∧ ps x0 < hi x) → (∀ (M' : Mem) (b : Option Sv), Fx M0 M' ρ t n ad ps lo hi → mI M' p 5 = mI M p 5 → (lf → Leaf M' x0) → Go C 0 [some (vr (some t)), some (vr (some p)), b] [] M' 0 0) → Go C 230 [some (vr (some t)), some (vr (some x)), some (vr sib)] [] M 0 0 := by
  intro C hC hQ M lo hi x p sib hF hx hpN hx0 hp hpx hs hl kont
  have hkt := hF.2.2.2.2.2.2.1
  have hkx := (hF.1.2 x hx).1
  have hkp := (hF.1.2 p hpN).1
  obtain ⟨h1, h2, h3, h4, h5, h6, h7, h8, h9, h10⟩ := hF.1.1
  have hk := fun y hy => (hF.1.2 y hy).1
  rcases sib with _ | s
  · refine g_aload_n hC dJ6_fixAfterDeletion_230 rfl ?_
    refine g_callS hC (ct_ro0 hB) rfl (by decide) rfl yk_J6_rightOf q1867 q1868 q59 q1869 rfl dJ6_fixAfterDeletion_231 (by omega) (by omega) (fun v M1 hp => ?_)
    obtain ⟨rfl, hM⟩ := hp
    cases hM.symm
    simp only [Option.toList_some, Option.toList_none, List.cons_append, List.nil_append, Nat.add_zero, Nat.zero_add]
    refine g_callS hC (ct_co hB none (fun a e => by cases e)) rfl (by decide) rfl yk_J6_colorOf q1870 q1871 q59 q1872 rfl dJ6_fixAfterDeletion_234 (by omega) (by omega) (fun v M1 hp => ?_)
    obtain ⟨rfl, hM⟩ := hp
    cases hM.symm
    simp only [Option.toList_some, Option.toList_none, List.cons_append, List.nil_append, Nat.add_zero, Nat.zero_add]
    refine g_iconst (v := 1) hC dJ6_fixAfterDeletion_237 (by decide) ?_
    refine g_icmp_ne hC 265 dJ6_fixAfterDeletion_238 (by decide) (fun hc => ?_) (fun hc => ?_)
    · exact absurd rfl hc
    · refine g_aload_n hC dJ6_fixAfterDeletion_241 rfl ?_
      refine g_callS hC (ct_lo0 hB) rfl (by decide) rfl yk_J6_leftOf q1864 q1865 q59 q1866 rfl dJ6_fixAfterDeletion_242 (by omega) (by omega) (fun v M1 hp => ?_)
      obtain ⟨rfl, hM⟩ := hp
      cases hM.symm
      simp only [Option.toList_some, Option.toList_none, List.cons_append, List.nil_append, Nat.add_zero, Nat.zero_add]
      refine g_callS hC (ct_co hB none (fun a e => by cases e)) rfl (by decide) rfl yk_J6_colorOf q1870 q1871 q59 q1872 rfl dJ6_fixAfterDeletion_245 (by omega) (by omega) (fun v M1 hp => ?_)
      obtain ⟨rfl, hM⟩ := hp
      cases hM.symm
      simp only [Option.toList_some, Option.toList_none, List.cons_append, List.nil_append, Nat.add_zero, Nat.zero_add]
      refine g_iconst (v := 1) hC dJ6_fixAfterDeletion_248 (by decide) ?_
      refine g_icmp_ne hC 265 dJ6_fixAfterDeletion_249 (by decide) (fun hc2 => ?_) (fun hc2 => ?_)
      · exact absurd rfl hc2
      · refine g_aload_n hC dJ6_fixAfterDeletion_252 rfl ?_
        refine g_iconst (v := 0) hC dJ6_fixAfterDeletion_253 (by decide) ?_
        refine g_callS hC (ct_sc0 hB) rfl (by decide) rfl yk_J6_setColor q1873 q1874 q59 q1875 rfl dJ6_fixAfterDeletion_254 (by omega) (by omega) (fun v M1 hp => ?_)
        obtain ⟨rfl, hM⟩ := hp
        cases hM.symm
        simp only [Option.toList_some, Option.toList_none, List.cons_append, List.nil_append, Nat.add_zero, Nat.zero_add]
        refine g_aload_n hC dJ6_fixAfterDeletion_257 rfl ?_
        refine g_callS hC (ct_po hB hkx) rfl (by decide) rfl yk_J6_parentOf q1861 q1862 q59 q1863 rfl dJ6_fixAfterDeletion_258 (by omega) (by omega) (fun v M1 hp => ?_)
        obtain ⟨rfl, hM⟩ := hp
        cases hM.symm
        simp only [Option.toList_some, Option.toList_none, List.cons_append, List.nil_append, Nat.add_zero, Nat.zero_add]
        simp only [mR_sI, hp]
        refine g_astore_n hC dJ6_fixAfterDeletion_261 rfl rfl ?_
        try simp only [stL, clr]
        refine g_goto hC 342 dJ6_fixAfterDeletion_262 (by decide) ?_
        refine g_goto hC 0 dJ6_fixAfterDeletion_342 (by decide) ?_
        exact kont M _ hF rfl (fun q => (hl q).1)
  · obtain ⟨hsN, hsP, hs3, hs4⟩ := h4 p s hpN hs
    have hks := hk s hsN
    have a2 := h2 p hpN
    have a3 := h2 s hsN
    have hsp : p ≠ s := by intro e; subst e; omega
    refine g_aload_n hC dJ6_fixAfterDeletion_230 rfl ?_
    refine g_callS hC (ct_ro hB hks) rfl (by decide) rfl yk_J6_rightOf q1867 q1868 q59 q1869 rfl dJ6_fixAfterDeletion_231 (by omega) (by omega) (fun v M1 hp => ?_)
    obtain ⟨rfl, hM⟩ := hp
    cases hM.symm
    simp only [Option.toList_some, Option.toList_none, List.cons_append, List.nil_append, Nat.add_zero, Nat.zero_add]
    refine g_callS hC (ct_co hB (mR M s 3) (fun a e => ⟨hk a (h6 s a hsN e).1, hF.2.1 a (h6 s a hsN e).1⟩)) rfl (by decide) rfl yk_J6_colorOf q1870 q1871 q59 q1872 rfl dJ6_fixAfterDeletion_234 (by omega) (by omega) (fun v M1 hp => ?_)
    obtain ⟨rfl, hM⟩ := hp
    cases hM.symm
    simp only [Option.toList_some, Option.toList_none, List.cons_append, List.nil_append, Nat.add_zero, Nat.zero_add]
    refine g_iconst (v := 1) hC dJ6_fixAfterDeletion_237 (by decide) ?_
    refine g_icmp_ne hC 265 dJ6_fixAfterDeletion_238 (by decide) (fun hc => ?_) (fun hc => ?_)
    · exact fd_midR hB C hC hQ M lo hi x p s hF hx hpN hsN hx0 hp hpx hs (fun _ => hc) hl
    · refine g_aload_n hC dJ6_fixAfterDeletion_241 rfl ?_
      refine g_callS hC (ct_lo hB hks) rfl (by decide) rfl yk_J6_leftOf q1864 q1865 q59 q1866 rfl dJ6_fixAfterDeletion_242 (by omega) (by omega) (fun v M1 hp => ?_)
      obtain ⟨rfl, hM⟩ := hp
      cases hM.symm
      simp only [Option.toList_some, Option.toList_none, List.cons_append, List.nil_append, Nat.add_zero, Nat.zero_add]
      refine g_callS hC (ct_co hB (mR M s 2) (fun a e => ⟨hk a (h4 s a hsN e).1, hF.2.1 a (h4 s a hsN e).1⟩)) rfl (by decide) rfl yk_J6_colorOf q1870 q1871 q59 q1872 rfl dJ6_fixAfterDeletion_245 (by omega) (by omega) (fun v M1 hp => ?_)
      obtain ⟨rfl, hM⟩ := hp
      cases hM.symm
      simp only [Option.toList_some, Option.toList_none, List.cons_append, List.nil_append, Nat.add_zero, Nat.zero_add]
      refine g_iconst (v := 1) hC dJ6_fixAfterDeletion_248 (by decide) ?_
      refine g_icmp_ne hC 265 dJ6_fixAfterDeletion_249 (by decide) (fun hc2 => ?_) (fun hc2 => ?_)
      · exact fd_midR hB C hC hQ M lo hi x p s hF hx hpN hsN hx0 hp hpx hs (fun q => absurd q hc2) hl
      · refine g_aload_n hC dJ6_fixAfterDeletion_252 rfl ?_
        refine g_iconst (v := 0) hC dJ6_fixAfterDeletion_253 (by decide) ?_
        refine g_callS hC (ct_sc hB hks b01.z) rfl (by decide) rfl yk_J6_setColor q1873 q1874 q59 q1875 rfl dJ6_fixAfterDeletion_254 (by omega) (by omega) (fun v M1 hp => ?_)
        obtain ⟨rfl, hM⟩ := hp
        cases hM.symm
        simp only [Option.toList_some, Option.toList_none, List.cons_append, List.nil_append, Nat.add_zero, Nat.zero_add]
        refine g_aload_n hC dJ6_fixAfterDeletion_257 rfl ?_
        refine g_callS hC (ct_po hB hkx) rfl (by decide) rfl yk_J6_parentOf q1861 q1862 q59 q1863 rfl dJ6_fixAfterDeletion_258 (by omega) (by omega) (fun v M1 hp => ?_)
        obtain ⟨rfl, hM⟩ := hp
        cases hM.symm
        simp only [Option.toList_some, Option.toList_none, List.cons_append, List.nil_append, Nat.add_zero, Nat.zero_add]
        simp only [mR_sI, hp]
        refine g_astore_n hC dJ6_fixAfterDeletion_261 rfl rfl ?_
        try simp only [stL, clr]
        refine g_goto hC 342 dJ6_fixAfterDeletion_262 (by decide) ?_
        refine g_goto hC 0 dJ6_fixAfterDeletion_342 (by decide) ?_
        refine kont _ _ (hF.col hsN b01.z) ?_ (fun q => (hl q).1)
        rw [mI_sI]; simp [hsp]
/-- x, of the black, is the child of p on this side -/
theorem fd_sideR (hB : Base G) : ∀ C, Ok C G cJ6_fixAfterDeletion RJ6 "fixAfterDeletion" 2 0 0 → Rt C G none 0 0 (fun v M' => v = none ∧ (∃ lo' hi', Fx M0 M' ρ t n ad ps lo' hi') ∧ (lf → Leaf M' x0)) → ∀ (M : Mem) (lo hi : Nat → Nat) (x p : Nat) (b : Option Sv), Fx M0 M ρ t n ad ps lo hi → Nd n ad ps x → Nd n ad ps p → Nd n ad ps x0 → mR M x 4 = some p → mR M p 3 = some x → (lf → Leaf M x0 ∧ lo x ≤ ps x0 ∧ ps x0 < hi x) → (∀ (M' : Mem) (b : Option Sv), Fx M0 M' ρ t n ad ps lo hi → (lf → Leaf M' x0) → Go C 0 [some (vr (some t)), some (vr (some p)), b] [] M' 0 0) → Go C 186 [some (vr (some t)), some (vr (some x)), b] [] M 0 0 := by
  intro C hC hQ M lo hi x p b hF hx hpN hx0 hp hpx hl kont
  have hkt := hF.2.2.2.2.2.2.1
  have hkx := (hF.1.2 x hx).1
  have hkp := (hF.1.2 p hpN).1
  obtain ⟨h1, h2, h3, h4, h5, h6, h7, h8, h9, h10⟩ := hF.1.1
  have hk := fun y hy => (hF.1.2 y hy).1
  refine g_aload_n hC dJ6_fixAfterDeletion_186 rfl ?_
  refine g_callS hC (ct_po hB hkx) rfl (by decide) rfl yk_J6_parentOf q1861 q1862 q59 q1863 rfl dJ6_fixAfterDeletion_187 (by omega) (by omega) (fun v M1 hp => ?_)
  obtain ⟨rfl, hM⟩ := hp
  cases hM.symm
  simp only [Option.toList_some, Option.toList_none, List.cons_append, List.nil_append, Nat.add_zero, Nat.zero_add]
  simp only [mR_sI, hp]
  refine g_callS hC (ct_lo hB hkp) rfl (by decide) rfl yk_J6_leftOf q1864 q1865 q59 q1866 rfl dJ6_fixAfterDeletion_190 (by omega) (by omega) (fun v M1 hp => ?_)
  obtain ⟨rfl, hM⟩ := hp
  cases hM.symm
  simp only [Option.toList_some, Option.toList_none, List.cons_append, List.nil_append, Nat.add_zero, Nat.zero_add]
  refine g_astore_n hC dJ6_fixAfterDeletion_193 rfl rfl ?_
  try simp only [stL, clr]
  refine g_aload_n hC dJ6_fixAfterDeletion_194 rfl ?_
  refine g_callS hC (ct_co hB (mR M p 2) (fun a e => ⟨hk a (h4 p a hpN e).1, hF.2.1 a (h4 p a hpN e).1⟩)) rfl (by decide) rfl yk_J6_colorOf q1870 q1871 q59 q1872 rfl dJ6_fixAfterDeletion_195 (by omega) (by omega) (fun v M1 hp => ?_)
  obtain ⟨rfl, hM⟩ := hp
  cases hM.symm
  simp only [Option.toList_some, Option.toList_none, List.cons_append, List.nil_append, Nat.add_zero, Nat.zero_add]
  refine g_if_ne hC 230 dJ6_fixAfterDeletion_198 (by decide) (fun hc => ?_) (fun hc => ?_)
  · exact fd_joinR hB C hC hQ M lo hi x p _ hF hx hpN hx0 hp hpx rfl hl (fun M' b' q1 _ q3 => kont M' b' q1 q3)
  · rcases hs : mR M p 2 with _ | s
    · rw [hs] at hc; simp [cO] at hc
    · obtain ⟨hsN, hsP, hs3, hs4⟩ := h4 p s hpN hs
      have hks := hk s hsN
      have a1 := h2 x hx
      have a2 := h2 p hpN
      have a3 := h2 s hsN
      have a4 := h6 p x hpN hpx
      have hsp : p ≠ s := by intro e; subst e; omega
      refine g_aload_n hC dJ6_fixAfterDeletion_201 rfl ?_
      refine g_iconst (v := 1) hC dJ6_fixAfterDeletion_202 (by decide) ?_
      refine g_callS hC (ct_sc hB hks b01.o) rfl (by decide) rfl yk_J6_setColor q1873 q1874 q59 q1875 rfl dJ6_fixAfterDeletion_203 (by omega) (by omega) (fun v M1 hp => ?_)
      obtain ⟨rfl, hM⟩ := hp
      cases hM.symm
      simp only [Option.toList_some, Option.toList_none, List.cons_append, List.nil_append, Nat.add_zero, Nat.zero_add]
      refine g_aload_n hC dJ6_fixAfterDeletion_206 rfl ?_
      refine g_callS hC (ct_po hB hkx) rfl (by decide) rfl yk_J6_parentOf q1861 q1862 q59 q1863 rfl dJ6_fixAfterDeletion_207 (by omega) (by omega) (fun v M1 hp => ?_)
      obtain ⟨rfl, hM⟩ := hp
      cases hM.symm
      simp only [Option.toList_some, Option.toList_none, List.cons_append, List.nil_append, Nat.add_zero, Nat.zero_add]
      simp only [mR_sI, hp]
      refine g_iconst (v := 0) hC dJ6_fixAfterDeletion_210 (by decide) ?_
      refine g_callS hC (ct_sc hB hkp b01.z) rfl (by decide) rfl yk_J6_setColor q1873 q1874 q59 q1875 rfl dJ6_fixAfterDeletion_211 (by omega) (by omega) (fun v M1 hp => ?_)
      obtain ⟨rfl, hM⟩ := hp
      cases hM.symm
      simp only [Option.toList_some, Option.toList_none, List.cons_append, List.nil_append, Nat.add_zero, Nat.zero_add]
      refine g_aload_n hC dJ6_fixAfterDeletion_214 rfl ?_
      refine g_aload_n hC dJ6_fixAfterDeletion_215 rfl ?_
      refine g_callS hC (ct_po hB hkx) rfl (by decide) rfl yk_J6_parentOf q1861 q1862 q59 q1863 rfl dJ6_fixAfterDeletion_216 (by omega) (by omega) (fun v M1 hp => ?_)
      obtain ⟨rfl, hM⟩ := hp
      cases hM.symm
      simp only [Option.toList_some, Option.toList_none, List.cons_append, List.nil_append, Nat.add_zero, Nat.zero_add]
      simp only [mR_sI, hp]
      have hF2 := (hF.col hsN b01.o).col hpN b01.z
      have hkt2 := hF2.2.2.2.2.2.2.1
      have hs2 : mR (sI (sI M s 5 1) p 5 0) p 2 = some s := hs
      refine g_callV hC (by first | with_reducible rfl | with_reducible assumption | (simp only [mR_sI, mR_sL]; with_reducible assumption) | exact rfl | assumption) (Rk.o (ci := 8) (by first | with_reducible assumption | (simp only [mK_sI, mK_sR, mK_sL, mK_sO]; with_reducible assumption) | assumption | (simp only [mK_sI, mK_sR, mK_sL, mK_sO, mK_nw, mK_sK]; first | assumption | (simp only [*]; done))) rfl) (ct_rotR hB hkt2 hF2.1 hpN hs2) rfl (by decide) rfl rfl yk_J6_rotateRight q1880 q1882 qs16 q59 q1883 rfl dJ6_fixAfterDeletion_219 (by omega) (by omega) (fun v M1 hp => ?_)
      obtain ⟨rfl, hR⟩ := hp
      simp only [Option.toList_some, Option.toList_none, List.cons_append, List.nil_append, Nat.add_zero, Nat.zero_add]
      have hF3 := hF2.rr hpN hs2 hR
      have xp : x ≠ p := by intro e; subst e; omega
      have xs : x ≠ s := by intro e; subst e; omega
      have xl : mR M s 3 ≠ some x := by intro e; have := h6 s x hsN e; omega
      have hp3 : mR M1 x 4 = some p := by rw [hR.2.2.2.2.2.1 x xp xs xl]; exact hp
      have pp : ¬ (mR M p 4 = some p ∧ mR M p 3 = some p) := by
        rintro ⟨-, q⟩
        rw [hpx] at q; cases q; exact xp rfl
      have hpx3 : mR M1 p 3 = some x := by rw [hR.2.2.2.2.2.2.2.2.2.2.1 p hsp (hF.1.ne hkt hpN) pp]; exact hpx
      have hkx3 := (hF3.1.2 x hx).1
      have hkp3 := (hF3.1.2 p hpN).1
      refine g_aload_n hC dJ6_fixAfterDeletion_222 rfl ?_
      refine g_callS hC (ct_po hB hkx3) rfl (by decide) rfl yk_J6_parentOf q1861 q1862 q59 q1863 rfl dJ6_fixAfterDeletion_223 (by omega) (by omega) (fun v M1 hp => ?_)
      obtain ⟨rfl, hM⟩ := hp
      cases hM.symm
      simp only [Option.toList_some, Option.toList_none, List.cons_append, List.nil_append, Nat.add_zero, Nat.zero_add]
      simp only [mR_sI, hp3]
      refine g_callS hC (ct_lo hB hkp3) rfl (by decide) rfl yk_J6_leftOf q1864 q1865 q59 q1866 rfl dJ6_fixAfterDeletion_226 (by omega) (by omega) (fun v M1 hp => ?_)
      obtain ⟨rfl, hM⟩ := hp
      cases hM.symm
      simp only [Option.toList_some, Option.toList_none, List.cons_append, List.nil_append, Nat.add_zero, Nat.zero_add]
      refine g_astore_n hC dJ6_fixAfterDeletion_229 rfl rfl ?_
      try simp only [stL, clr]
      refine fd_joinR hB C hC hQ M1 _ _ x p _ hF3 hx hpN hx0 hp3 hpx3 rfl (fun q => ?_) (fun M' b' q1 q2 q3 => ?_)
      · obtain ⟨q1, q2, q3⟩ := hl q
        have n1 : x0 ≠ s := by intro e; subst e; omega
        refine ⟨Leaf.rr hF2 hx0 hpN hs2 hR q1 n1, ?_, ?_⟩
        · simp only [xs, xp, if_false]; exact q2
        · simp only [xs, xp, if_false]; exact q3
      · refine fd_red hB C hC hQ M' _ _ p b' q1 hpN q3 ?_
        rw [q2, (hR.2.2.2.2.2.2.2.2.2.2.2.2.2.1 p 5).1]
        rw [mI_sI]; simp
theorem fd_loop (hB : Base G) (hx0 : Nd n ad ps x0) : ∀ C, Ok C G cJ6_fixAfterDeletion RJ6 "fixAfterDeletion" 2 0 0 → Rt C G none 0 0 (fun v M' => v = none ∧ (∃ lo' hi', Fx M0 M' ρ t n ad ps lo' hi') ∧ (lf → Leaf M' x0)) → ∀ (m : Nat) (M : Mem) (lo hi : Nat → Nat) (x : Nat) (b : Option Sv), Fx M0 M ρ t n ad ps lo hi → Nd n ad ps x → n < hi x - lo x + m → (lf → Leaf M x0 ∧ lo x ≤ ps x0 ∧ ps x0 < hi x) → Go C 0 [some (vr (some t)), some (vr (some x)), b] [] M 0 0 := by
  intro C hC hQ m
  induction m with
  | zero =>
    intro M lo hi x b hF hx hm
    have := hF.1.1.2.1 x hx
    omega
  | succ m ih =>
    intro M lo hi x b hF hx hm hl
    have hkt := hF.2.2.2.2.2.2.1
    obtain ⟨h1, h2, h3, h4, h5, h6, h7, h8, h9, h10⟩ := hF.1.1
    have hkx := (hF.1.2 x hx).1
    have a1 := h2 x hx
    refine g_aload_n hC dJ6_fixAfterDeletion_0 rfl ?_
    refine g_aload_n hC dJ6_fixAfterDeletion_1 rfl ?_
    refine g_getR hC (ci := 8) (by first | with_reducible rfl | with_reducible assumption | (simp only [mR_sI, mR_sL]; with_reducible assumption) | exact rfl | assumption) (by first | with_reducible assumption | (simp only [mK_sI, mK_sR, mK_sL, mK_sO]; with_reducible assumption) | assumption | (simp only [mK_sI, mK_sR, mK_sL, mK_sO, mK_nw, mK_sK]; first | assumption | (simp only [*]; done))) rfl 3 (by decide) q273 (Or.inl rfl) rfl dJ6_fixAfterDeletion_2 ?_
    refine g_acmp_eq hC 345 dJ6_fixAfterDeletion_5 (by decide) (fun hc => ?_) (fun hc => ?_)
    · exact fd_end hB C hC hQ M lo hi x b hF hx (fun q => (hl q).1)
    · refine g_aload_n hC dJ6_fixAfterDeletion_8 rfl ?_
      refine g_callS hC (ct_co hB (some x) (kco hkx (hF.2.1 x hx))) rfl (by decide) rfl yk_J6_colorOf q1870 q1871 q59 q1872 rfl dJ6_fixAfterDeletion_9 (by omega) (by omega) (fun v M1 hp => ?_)
      obtain ⟨rfl, hM⟩ := hp
      cases hM.symm
      simp only [Option.toList_some, Option.toList_none, List.cons_append, List.nil_append, Nat.add_zero, Nat.zero_add]
      refine g_iconst (v := 1) hC dJ6_fixAfterDeletion_12 (by decide) ?_
      refine g_icmp_ne hC 345 dJ6_fixAfterDeletion_13 (by decide) (fun hc2 => ?_) (fun hc2 => ?_)
      · exact fd_end hB C hC hQ M lo hi x b hF hx (fun q => (hl q).1)
      · obtain ⟨p, hp⟩ : ∃ p, mR M x 4 = some p := by
          cases e : mR M x 4 with
          | none => exact absurd (h7 x hx e).symm hc
          | some p => exact ⟨p, rfl⟩
        obtain ⟨hpN, hpc⟩ := h8 x p hx hp
        have hkp := (hF.1.2 p hpN).1
        have a2 := h2 p hpN
        refine g_aload_n hC dJ6_fixAfterDeletion_16 rfl ?_
        refine g_aload_n hC dJ6_fixAfterDeletion_17 rfl ?_
        refine g_callS hC (ct_po hB hkx) rfl (by decide) rfl yk_J6_parentOf q1861 q1862 q59 q1863 rfl dJ6_fixAfterDeletion_18 (by omega) (by omega) (fun v M1 hp => ?_)
        obtain ⟨rfl, hM⟩ := hp
        cases hM.symm
        simp only [Option.toList_some, Option.toList_none, List.cons_append, List.nil_append, Nat.add_zero, Nat.zero_add]
        simp only [mR_sI, hp]
        refine g_callS hC (ct_lo hB hkp) rfl (by decide) rfl yk_J6_leftOf q1864 q1865 q59 q1866 rfl dJ6_fixAfterDeletion_21 (by omega) (by omega) (fun v M1 hp => ?_)
        obtain ⟨rfl, hM⟩ := hp
        cases hM.symm
        simp only [Option.toList_some, Option.toList_none, List.cons_append, List.nil_append, Nat.add_zero, Nat.zero_add]
        refine g_acmp_ne hC 186 dJ6_fixAfterDeletion_24 (by decide) (fun hc3 => ?_) (fun hc3 => ?_)
        · have hpx : mR M p 3 = some x := by
            rcases hpc with e | e
            · exact absurd e.symm hc3
            · exact e
          have a3 := h6 p x hpN hpx
          refine fd_sideR hB C hC hQ M lo hi x p b hF hx hpN hx0 hp hpx hl (fun M' b' q1 q2 => ih M' lo hi p b' q1 hpN (by omega) (fun q => ⟨q2 q, ?_, ?_⟩))
          · have := (hl q).2; omega
          · have := (hl q).2; omega
        · have hpx : mR M p 2 = some x := hc3.symm
          have a3 := h4 p x hpN hpx
          refine fd_sideL hB C hC hQ M lo hi x p b hF hx hpN hx0 hp hpx hl (fun M' b' q1 q2 => ih M' lo hi p b' q1 hpN (by omega) (fun q => ⟨q2 q, ?_, ?_⟩))
          · have := (hl q).2; omega
          · have := (hl q).2; omega
end FixDel
/-- fixAfterDeletion: the tree stays one, over the same places; a leaf that it is called with stays a leaf -/
theorem ct_fixDel {G : Gx} (hB : Base G) {M0 M : Mem} {ρ t n x : Nat} {ad ps lo hi : Nat → Nat} (hF : Fx M0 M ρ t n ad ps lo hi) (hx : Nd n ad ps x) : KJ6_fixAfterDeletion G 2 0 0 [vr (some t), vr (some x)] M (fun v M' => v = none ∧ (∃ lo' hi', Fx M0 M' ρ t n ad ps lo' hi') ∧ (Leaf M x → Leaf M' x)) := by
  have hx2 := hF.1.1.2.1 x hx
  refine Ct.of (own := RJ6) (nm := "fixAfterDeletion") hB (by decide) rfl rfl rfl rfl (fun C hC hQ => ?_)
  exact fd_loop (lf := Leaf M x) hB hx C hC hQ (n + 1) M lo hi x _ hF hx (by omega) (fun q => ⟨q, hx2.1, hx2.2.1⟩)

