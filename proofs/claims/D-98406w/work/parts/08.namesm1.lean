set_option maxRecDepth 100000
abbrev cX10_readsLine : ByteArray := prog_36_method_45_code
def yX10_readsLine : MethodName := ⟨RX10, "readsLine", "()Z"⟩
def dkwX10_readsLine_7 : List UInt8 := [182, 1, 83, 172]
abbrev dktX10_readsLine_7 : List UInt8 := dkwX10_readsLine_7 ++ []
def dkwX10_readsLine_6 : List UInt8 := [160, 0, 13, 42, 28, 182, 1, 130, 154, 0, 5, 3, 172, 42, 180, 0, 105, 8, 92, 46, 4, 96, 79, 42]
abbrev dktX10_readsLine_6 : List UInt8 := dkwX10_readsLine_6 ++ dktX10_readsLine_7
def dkwX10_readsLine_5 : List UInt8 := [154, 0, 37, 167, 0, 32, 27, 4, 160, 0, 14, 42, 28, 182, 1, 127, 154, 0, 21, 167, 0, 16, 27, 5]
abbrev dktX10_readsLine_5 : List UInt8 := dkwX10_readsLine_5 ++ dktX10_readsLine_6
def dkwX10_readsLine_4 : List UInt8 := [180, 0, 105, 8, 46, 96, 61, 42, 180, 0, 108, 28, 27, 79, 27, 154, 0, 14, 42, 28, 182, 1, 124]
abbrev dktX10_readsLine_4 : List UInt8 := dkwX10_readsLine_4 ++ dktX10_readsLine_5
def dkwX10_readsLine_3 : List UInt8 := [180, 0, 105, 8, 46, 16, 30, 160, 0, 9, 42, 8, 182, 0, 239, 172, 42, 182, 0, 246, 17, 0, 150, 42]
abbrev dktX10_readsLine_3 : List UInt8 := dkwX10_readsLine_3 ++ dktX10_readsLine_4
def dkwX10_readsLine_2 : List UInt8 := [182, 0, 231, 153, 0, 7, 6, 167, 0, 4, 2, 60, 27, 156, 0, 9, 42, 4, 182, 0, 239, 172, 42]
abbrev dktX10_readsLine_2 : List UInt8 := dkwX10_readsLine_2 ++ dktX10_readsLine_3
def dkwX10_readsLine_1 : List UInt8 := [4, 167, 0, 32, 42, 20, 1, 32, 182, 0, 231, 153, 0, 7, 5, 167, 0, 18, 42, 20, 1, 34]
abbrev dktX10_readsLine_1 : List UInt8 := dkwX10_readsLine_1 ++ dktX10_readsLine_2
def dkwX10_readsLine_0 : List UInt8 := [42, 20, 1, 28, 182, 0, 231, 153, 0, 7, 3, 167, 0, 46, 42, 20, 1, 30, 182, 0, 231, 153, 0, 7]
abbrev dktX10_readsLine_0 : List UInt8 := dkwX10_readsLine_0 ++ dktX10_readsLine_1
theorem dksX10_readsLine_0 : cX10_readsLine.data.toList.drop 0 = dktX10_readsLine_0 := by decide +kernel
theorem dksX10_readsLine_1 : cX10_readsLine.data.toList.drop 24 = dktX10_readsLine_1 := dk_seg dksX10_readsLine_0 24 rfl rfl
theorem dksX10_readsLine_2 : cX10_readsLine.data.toList.drop 46 = dktX10_readsLine_2 := dk_seg dksX10_readsLine_1 22 rfl rfl
theorem dksX10_readsLine_3 : cX10_readsLine.data.toList.drop 69 = dktX10_readsLine_3 := dk_seg dksX10_readsLine_2 23 rfl rfl
theorem dksX10_readsLine_4 : cX10_readsLine.data.toList.drop 93 = dktX10_readsLine_4 := dk_seg dksX10_readsLine_3 24 rfl rfl
theorem dksX10_readsLine_5 : cX10_readsLine.data.toList.drop 116 = dktX10_readsLine_5 := dk_seg dksX10_readsLine_4 23 rfl rfl
theorem dksX10_readsLine_6 : cX10_readsLine.data.toList.drop 140 = dktX10_readsLine_6 := dk_seg dksX10_readsLine_5 24 rfl rfl
theorem dksX10_readsLine_7 : cX10_readsLine.data.toList.drop 164 = dktX10_readsLine_7 := dk_seg dksX10_readsLine_6 24 rfl rfl
theorem dX10_readsLine_0 : decode cX10_readsLine 0 = .ok (.aload_n 0, 1) := dk_42 (dk_at dksX10_readsLine_0 0 rfl rfl)
theorem dX10_readsLine_1 : decode cX10_readsLine 1 = .ok (.ldc2_w 284, 3) := dk_20 1 28 (dk_at dksX10_readsLine_0 1 rfl rfl)
theorem dX10_readsLine_4 : decode cX10_readsLine 4 = .ok (.invokevirtual 231, 3) := dk_182 0 231 (dk_at dksX10_readsLine_0 4 rfl rfl)
theorem dX10_readsLine_7 : decode cX10_readsLine 7 = .ok (.ifCond .eq 7, 3) := dk_153 0 7 (dk_at dksX10_readsLine_0 7 rfl rfl)
theorem dX10_readsLine_10 : decode cX10_readsLine 10 = .ok (.iconst 0, 1) := dk_3 (dk_at dksX10_readsLine_0 10 rfl rfl)
theorem dX10_readsLine_11 : decode cX10_readsLine 11 = .ok (.goto 46, 3) := dk_167 0 46 (dk_at dksX10_readsLine_0 11 rfl rfl)
theorem dX10_readsLine_14 : decode cX10_readsLine 14 = .ok (.aload_n 0, 1) := dk_42 (dk_at dksX10_readsLine_0 14 rfl rfl)
theorem dX10_readsLine_15 : decode cX10_readsLine 15 = .ok (.ldc2_w 286, 3) := dk_20 1 30 (dk_at dksX10_readsLine_0 15 rfl rfl)
theorem dX10_readsLine_18 : decode cX10_readsLine 18 = .ok (.invokevirtual 231, 3) := dk_182 0 231 (dk_at dksX10_readsLine_0 18 rfl rfl)
theorem dX10_readsLine_21 : decode cX10_readsLine 21 = .ok (.ifCond .eq 7, 3) := dk_153 0 7 (dk_at dksX10_readsLine_0 21 rfl rfl)
theorem dX10_readsLine_24 : decode cX10_readsLine 24 = .ok (.iconst 1, 1) := dk_4 (dk_at dksX10_readsLine_1 0 rfl rfl)
theorem dX10_readsLine_25 : decode cX10_readsLine 25 = .ok (.goto 32, 3) := dk_167 0 32 (dk_at dksX10_readsLine_1 1 rfl rfl)
theorem dX10_readsLine_28 : decode cX10_readsLine 28 = .ok (.aload_n 0, 1) := dk_42 (dk_at dksX10_readsLine_1 4 rfl rfl)
theorem dX10_readsLine_29 : decode cX10_readsLine 29 = .ok (.ldc2_w 288, 3) := dk_20 1 32 (dk_at dksX10_readsLine_1 5 rfl rfl)
theorem dX10_readsLine_32 : decode cX10_readsLine 32 = .ok (.invokevirtual 231, 3) := dk_182 0 231 (dk_at dksX10_readsLine_1 8 rfl rfl)
theorem dX10_readsLine_35 : decode cX10_readsLine 35 = .ok (.ifCond .eq 7, 3) := dk_153 0 7 (dk_at dksX10_readsLine_1 11 rfl rfl)
theorem dX10_readsLine_38 : decode cX10_readsLine 38 = .ok (.iconst 2, 1) := dk_5 (dk_at dksX10_readsLine_1 14 rfl rfl)
theorem dX10_readsLine_39 : decode cX10_readsLine 39 = .ok (.goto 18, 3) := dk_167 0 18 (dk_at dksX10_readsLine_1 15 rfl rfl)
theorem dX10_readsLine_42 : decode cX10_readsLine 42 = .ok (.aload_n 0, 1) := dk_42 (dk_at dksX10_readsLine_1 18 rfl rfl)
theorem dX10_readsLine_43 : decode cX10_readsLine 43 = .ok (.ldc2_w 290, 3) := dk_20 1 34 (dk_at dksX10_readsLine_1 19 rfl rfl)
theorem dX10_readsLine_46 : decode cX10_readsLine 46 = .ok (.invokevirtual 231, 3) := dk_182 0 231 (dk_at dksX10_readsLine_2 0 rfl rfl)
theorem dX10_readsLine_49 : decode cX10_readsLine 49 = .ok (.ifCond .eq 7, 3) := dk_153 0 7 (dk_at dksX10_readsLine_2 3 rfl rfl)
theorem dX10_readsLine_52 : decode cX10_readsLine 52 = .ok (.iconst 3, 1) := dk_6 (dk_at dksX10_readsLine_2 6 rfl rfl)
theorem dX10_readsLine_53 : decode cX10_readsLine 53 = .ok (.goto 4, 3) := dk_167 0 4 (dk_at dksX10_readsLine_2 7 rfl rfl)
theorem dX10_readsLine_56 : decode cX10_readsLine 56 = .ok (.iconst (-1), 1) := dk_2 (dk_at dksX10_readsLine_2 10 rfl rfl)
theorem dX10_readsLine_57 : decode cX10_readsLine 57 = .ok (.istore_n 1, 1) := dk_60 (dk_at dksX10_readsLine_2 11 rfl rfl)
theorem dX10_readsLine_58 : decode cX10_readsLine 58 = .ok (.iload_n 1, 1) := dk_27 (dk_at dksX10_readsLine_2 12 rfl rfl)
theorem dX10_readsLine_59 : decode cX10_readsLine 59 = .ok (.ifCond .ge 9, 3) := dk_156 0 9 (dk_at dksX10_readsLine_2 13 rfl rfl)
theorem dX10_readsLine_62 : decode cX10_readsLine 62 = .ok (.aload_n 0, 1) := dk_42 (dk_at dksX10_readsLine_2 16 rfl rfl)
theorem dX10_readsLine_63 : decode cX10_readsLine 63 = .ok (.iconst 1, 1) := dk_4 (dk_at dksX10_readsLine_2 17 rfl rfl)
theorem dX10_readsLine_64 : decode cX10_readsLine 64 = .ok (.invokevirtual 239, 3) := dk_182 0 239 (dk_at dksX10_readsLine_2 18 rfl rfl)
theorem dX10_readsLine_67 : decode cX10_readsLine 67 = .ok (.ireturn, 1) := dk_172 (dk_at dksX10_readsLine_2 21 rfl rfl)
theorem dX10_readsLine_68 : decode cX10_readsLine 68 = .ok (.aload_n 0, 1) := dk_42 (dk_at dksX10_readsLine_2 22 rfl rfl)
theorem dX10_readsLine_69 : decode cX10_readsLine 69 = .ok (.getfield 105, 3) := dk_180 0 105 (dk_at dksX10_readsLine_3 0 rfl rfl)
theorem dX10_readsLine_72 : decode cX10_readsLine 72 = .ok (.iconst 5, 1) := dk_8 (dk_at dksX10_readsLine_3 3 rfl rfl)
theorem dX10_readsLine_73 : decode cX10_readsLine 73 = .ok (.iaload, 1) := dk_46 (dk_at dksX10_readsLine_3 4 rfl rfl)
theorem dX10_readsLine_74 : decode cX10_readsLine 74 = .ok (.bipush 30, 2) := dk_16 30 (dk_at dksX10_readsLine_3 5 rfl rfl)
theorem dX10_readsLine_76 : decode cX10_readsLine 76 = .ok (.if_icmp .ne 9, 3) := dk_160 0 9 (dk_at dksX10_readsLine_3 7 rfl rfl)
theorem dX10_readsLine_79 : decode cX10_readsLine 79 = .ok (.aload_n 0, 1) := dk_42 (dk_at dksX10_readsLine_3 10 rfl rfl)
theorem dX10_readsLine_80 : decode cX10_readsLine 80 = .ok (.iconst 5, 1) := dk_8 (dk_at dksX10_readsLine_3 11 rfl rfl)
theorem dX10_readsLine_81 : decode cX10_readsLine 81 = .ok (.invokevirtual 239, 3) := dk_182 0 239 (dk_at dksX10_readsLine_3 12 rfl rfl)
theorem dX10_readsLine_84 : decode cX10_readsLine 84 = .ok (.ireturn, 1) := dk_172 (dk_at dksX10_readsLine_3 15 rfl rfl)
theorem dX10_readsLine_85 : decode cX10_readsLine 85 = .ok (.aload_n 0, 1) := dk_42 (dk_at dksX10_readsLine_3 16 rfl rfl)
theorem dX10_readsLine_86 : decode cX10_readsLine 86 = .ok (.invokevirtual 246, 3) := dk_182 0 246 (dk_at dksX10_readsLine_3 17 rfl rfl)
theorem dX10_readsLine_89 : decode cX10_readsLine 89 = .ok (.sipush 150, 3) := dk_17 0 150 (dk_at dksX10_readsLine_3 20 rfl rfl)
theorem dX10_readsLine_92 : decode cX10_readsLine 92 = .ok (.aload_n 0, 1) := dk_42 (dk_at dksX10_readsLine_3 23 rfl rfl)
theorem dX10_readsLine_93 : decode cX10_readsLine 93 = .ok (.getfield 105, 3) := dk_180 0 105 (dk_at dksX10_readsLine_4 0 rfl rfl)
theorem dX10_readsLine_96 : decode cX10_readsLine 96 = .ok (.iconst 5, 1) := dk_8 (dk_at dksX10_readsLine_4 3 rfl rfl)
theorem dX10_readsLine_97 : decode cX10_readsLine 97 = .ok (.iaload, 1) := dk_46 (dk_at dksX10_readsLine_4 4 rfl rfl)
theorem dX10_readsLine_98 : decode cX10_readsLine 98 = .ok (.iadd, 1) := dk_96 (dk_at dksX10_readsLine_4 5 rfl rfl)
theorem dX10_readsLine_99 : decode cX10_readsLine 99 = .ok (.istore_n 2, 1) := dk_61 (dk_at dksX10_readsLine_4 6 rfl rfl)
theorem dX10_readsLine_100 : decode cX10_readsLine 100 = .ok (.aload_n 0, 1) := dk_42 (dk_at dksX10_readsLine_4 7 rfl rfl)
theorem dX10_readsLine_101 : decode cX10_readsLine 101 = .ok (.getfield 108, 3) := dk_180 0 108 (dk_at dksX10_readsLine_4 8 rfl rfl)
theorem dX10_readsLine_104 : decode cX10_readsLine 104 = .ok (.iload_n 2, 1) := dk_28 (dk_at dksX10_readsLine_4 11 rfl rfl)
theorem dX10_readsLine_105 : decode cX10_readsLine 105 = .ok (.iload_n 1, 1) := dk_27 (dk_at dksX10_readsLine_4 12 rfl rfl)
theorem dX10_readsLine_106 : decode cX10_readsLine 106 = .ok (.iastore, 1) := dk_79 (dk_at dksX10_readsLine_4 13 rfl rfl)
theorem dX10_readsLine_107 : decode cX10_readsLine 107 = .ok (.iload_n 1, 1) := dk_27 (dk_at dksX10_readsLine_4 14 rfl rfl)
theorem dX10_readsLine_108 : decode cX10_readsLine 108 = .ok (.ifCond .ne 14, 3) := dk_154 0 14 (dk_at dksX10_readsLine_4 15 rfl rfl)
theorem dX10_readsLine_111 : decode cX10_readsLine 111 = .ok (.aload_n 0, 1) := dk_42 (dk_at dksX10_readsLine_4 18 rfl rfl)
theorem dX10_readsLine_112 : decode cX10_readsLine 112 = .ok (.iload_n 2, 1) := dk_28 (dk_at dksX10_readsLine_4 19 rfl rfl)
theorem dX10_readsLine_113 : decode cX10_readsLine 113 = .ok (.invokevirtual 380, 3) := dk_182 1 124 (dk_at dksX10_readsLine_4 20 rfl rfl)
theorem dX10_readsLine_116 : decode cX10_readsLine 116 = .ok (.ifCond .ne 37, 3) := dk_154 0 37 (dk_at dksX10_readsLine_5 0 rfl rfl)
theorem dX10_readsLine_119 : decode cX10_readsLine 119 = .ok (.goto 32, 3) := dk_167 0 32 (dk_at dksX10_readsLine_5 3 rfl rfl)
theorem dX10_readsLine_122 : decode cX10_readsLine 122 = .ok (.iload_n 1, 1) := dk_27 (dk_at dksX10_readsLine_5 6 rfl rfl)
theorem dX10_readsLine_123 : decode cX10_readsLine 123 = .ok (.iconst 1, 1) := dk_4 (dk_at dksX10_readsLine_5 7 rfl rfl)
theorem dX10_readsLine_124 : decode cX10_readsLine 124 = .ok (.if_icmp .ne 14, 3) := dk_160 0 14 (dk_at dksX10_readsLine_5 8 rfl rfl)
theorem dX10_readsLine_127 : decode cX10_readsLine 127 = .ok (.aload_n 0, 1) := dk_42 (dk_at dksX10_readsLine_5 11 rfl rfl)
theorem dX10_readsLine_128 : decode cX10_readsLine 128 = .ok (.iload_n 2, 1) := dk_28 (dk_at dksX10_readsLine_5 12 rfl rfl)
theorem dX10_readsLine_129 : decode cX10_readsLine 129 = .ok (.invokevirtual 383, 3) := dk_182 1 127 (dk_at dksX10_readsLine_5 13 rfl rfl)
theorem dX10_readsLine_132 : decode cX10_readsLine 132 = .ok (.ifCond .ne 21, 3) := dk_154 0 21 (dk_at dksX10_readsLine_5 16 rfl rfl)
theorem dX10_readsLine_135 : decode cX10_readsLine 135 = .ok (.goto 16, 3) := dk_167 0 16 (dk_at dksX10_readsLine_5 19 rfl rfl)
theorem dX10_readsLine_138 : decode cX10_readsLine 138 = .ok (.iload_n 1, 1) := dk_27 (dk_at dksX10_readsLine_5 22 rfl rfl)
theorem dX10_readsLine_139 : decode cX10_readsLine 139 = .ok (.iconst 2, 1) := dk_5 (dk_at dksX10_readsLine_5 23 rfl rfl)
theorem dX10_readsLine_140 : decode cX10_readsLine 140 = .ok (.if_icmp .ne 13, 3) := dk_160 0 13 (dk_at dksX10_readsLine_6 0 rfl rfl)
theorem dX10_readsLine_143 : decode cX10_readsLine 143 = .ok (.aload_n 0, 1) := dk_42 (dk_at dksX10_readsLine_6 3 rfl rfl)
theorem dX10_readsLine_144 : decode cX10_readsLine 144 = .ok (.iload_n 2, 1) := dk_28 (dk_at dksX10_readsLine_6 4 rfl rfl)
theorem dX10_readsLine_145 : decode cX10_readsLine 145 = .ok (.invokevirtual 386, 3) := dk_182 1 130 (dk_at dksX10_readsLine_6 5 rfl rfl)
theorem dX10_readsLine_148 : decode cX10_readsLine 148 = .ok (.ifCond .ne 5, 3) := dk_154 0 5 (dk_at dksX10_readsLine_6 8 rfl rfl)
theorem dX10_readsLine_151 : decode cX10_readsLine 151 = .ok (.iconst 0, 1) := dk_3 (dk_at dksX10_readsLine_6 11 rfl rfl)
theorem dX10_readsLine_152 : decode cX10_readsLine 152 = .ok (.ireturn, 1) := dk_172 (dk_at dksX10_readsLine_6 12 rfl rfl)
theorem dX10_readsLine_153 : decode cX10_readsLine 153 = .ok (.aload_n 0, 1) := dk_42 (dk_at dksX10_readsLine_6 13 rfl rfl)
theorem dX10_readsLine_154 : decode cX10_readsLine 154 = .ok (.getfield 105, 3) := dk_180 0 105 (dk_at dksX10_readsLine_6 14 rfl rfl)
theorem dX10_readsLine_157 : decode cX10_readsLine 157 = .ok (.iconst 5, 1) := dk_8 (dk_at dksX10_readsLine_6 17 rfl rfl)
theorem dX10_readsLine_158 : decode cX10_readsLine 158 = .ok (.dup2, 1) := dk_92 (dk_at dksX10_readsLine_6 18 rfl rfl)
theorem dX10_readsLine_159 : decode cX10_readsLine 159 = .ok (.iaload, 1) := dk_46 (dk_at dksX10_readsLine_6 19 rfl rfl)
theorem dX10_readsLine_160 : decode cX10_readsLine 160 = .ok (.iconst 1, 1) := dk_4 (dk_at dksX10_readsLine_6 20 rfl rfl)
theorem dX10_readsLine_161 : decode cX10_readsLine 161 = .ok (.iadd, 1) := dk_96 (dk_at dksX10_readsLine_6 21 rfl rfl)
theorem dX10_readsLine_162 : decode cX10_readsLine 162 = .ok (.iastore, 1) := dk_79 (dk_at dksX10_readsLine_6 22 rfl rfl)
theorem dX10_readsLine_163 : decode cX10_readsLine 163 = .ok (.aload_n 0, 1) := dk_42 (dk_at dksX10_readsLine_6 23 rfl rfl)
theorem dX10_readsLine_164 : decode cX10_readsLine 164 = .ok (.invokevirtual 339, 3) := dk_182 1 83 (dk_at dksX10_readsLine_7 0 rfl rfl)
theorem dX10_readsLine_167 : decode cX10_readsLine 167 = .ok (.ireturn, 1) := dk_172 (dk_at dksX10_readsLine_7 3 rfl rfl)
abbrev cX10_readsTelling : ByteArray := prog_36_method_42_code
def yX10_readsTelling : MethodName := ⟨RX10, "readsTelling", "(I)Z"⟩
def dkwX10_readsTelling_3 : List UInt8 := [182, 1, 89, 154, 0, 5, 3, 172, 42, 180, 0, 117, 27, 42, 180, 1, 56, 79, 42, 182, 0, 246, 4, 172]
abbrev dktX10_readsTelling_3 : List UInt8 := dkwX10_readsTelling_3 ++ []
def dkwX10_readsTelling_2 : List UInt8 := [27, 46, 42, 180, 0, 114, 27, 46, 160, 0, 9, 42, 6, 182, 0, 239, 172, 42, 182, 0, 246, 42, 3]
abbrev dktX10_readsTelling_2 : List UInt8 := dkwX10_readsTelling_2 ++ dktX10_readsTelling_3
def dkwX10_readsTelling_1 : List UInt8 := [42, 3, 182, 1, 86, 154, 0, 5, 3, 172, 42, 180, 0, 114, 27, 42, 180, 1, 56, 79, 42, 180, 0, 111]
abbrev dktX10_readsTelling_1 : List UInt8 := dkwX10_readsTelling_1 ++ dktX10_readsTelling_2
def dkwX10_readsTelling_0 : List UInt8 := [42, 3, 182, 1, 86, 154, 0, 5, 3, 172, 42, 180, 0, 111, 27, 42, 180, 1, 56, 79, 42, 182, 0, 246]
abbrev dktX10_readsTelling_0 : List UInt8 := dkwX10_readsTelling_0 ++ dktX10_readsTelling_1
theorem dksX10_readsTelling_0 : cX10_readsTelling.data.toList.drop 0 = dktX10_readsTelling_0 := by decide +kernel
theorem dksX10_readsTelling_1 : cX10_readsTelling.data.toList.drop 24 = dktX10_readsTelling_1 := dk_seg dksX10_readsTelling_0 24 rfl rfl
theorem dksX10_readsTelling_2 : cX10_readsTelling.data.toList.drop 48 = dktX10_readsTelling_2 := dk_seg dksX10_readsTelling_1 24 rfl rfl
theorem dksX10_readsTelling_3 : cX10_readsTelling.data.toList.drop 71 = dktX10_readsTelling_3 := dk_seg dksX10_readsTelling_2 23 rfl rfl
theorem dX10_readsTelling_0 : decode cX10_readsTelling 0 = .ok (.aload_n 0, 1) := dk_42 (dk_at dksX10_readsTelling_0 0 rfl rfl)
theorem dX10_readsTelling_1 : decode cX10_readsTelling 1 = .ok (.iconst 0, 1) := dk_3 (dk_at dksX10_readsTelling_0 1 rfl rfl)
theorem dX10_readsTelling_2 : decode cX10_readsTelling 2 = .ok (.invokevirtual 342, 3) := dk_182 1 86 (dk_at dksX10_readsTelling_0 2 rfl rfl)
theorem dX10_readsTelling_5 : decode cX10_readsTelling 5 = .ok (.ifCond .ne 5, 3) := dk_154 0 5 (dk_at dksX10_readsTelling_0 5 rfl rfl)
theorem dX10_readsTelling_8 : decode cX10_readsTelling 8 = .ok (.iconst 0, 1) := dk_3 (dk_at dksX10_readsTelling_0 8 rfl rfl)
theorem dX10_readsTelling_9 : decode cX10_readsTelling 9 = .ok (.ireturn, 1) := dk_172 (dk_at dksX10_readsTelling_0 9 rfl rfl)
theorem dX10_readsTelling_10 : decode cX10_readsTelling 10 = .ok (.aload_n 0, 1) := dk_42 (dk_at dksX10_readsTelling_0 10 rfl rfl)
theorem dX10_readsTelling_11 : decode cX10_readsTelling 11 = .ok (.getfield 111, 3) := dk_180 0 111 (dk_at dksX10_readsTelling_0 11 rfl rfl)
theorem dX10_readsTelling_14 : decode cX10_readsTelling 14 = .ok (.iload_n 1, 1) := dk_27 (dk_at dksX10_readsTelling_0 14 rfl rfl)
theorem dX10_readsTelling_15 : decode cX10_readsTelling 15 = .ok (.aload_n 0, 1) := dk_42 (dk_at dksX10_readsTelling_0 15 rfl rfl)
theorem dX10_readsTelling_16 : decode cX10_readsTelling 16 = .ok (.getfield 312, 3) := dk_180 1 56 (dk_at dksX10_readsTelling_0 16 rfl rfl)
theorem dX10_readsTelling_19 : decode cX10_readsTelling 19 = .ok (.iastore, 1) := dk_79 (dk_at dksX10_readsTelling_0 19 rfl rfl)
theorem dX10_readsTelling_20 : decode cX10_readsTelling 20 = .ok (.aload_n 0, 1) := dk_42 (dk_at dksX10_readsTelling_0 20 rfl rfl)
theorem dX10_readsTelling_21 : decode cX10_readsTelling 21 = .ok (.invokevirtual 246, 3) := dk_182 0 246 (dk_at dksX10_readsTelling_0 21 rfl rfl)
theorem dX10_readsTelling_24 : decode cX10_readsTelling 24 = .ok (.aload_n 0, 1) := dk_42 (dk_at dksX10_readsTelling_1 0 rfl rfl)
theorem dX10_readsTelling_25 : decode cX10_readsTelling 25 = .ok (.iconst 0, 1) := dk_3 (dk_at dksX10_readsTelling_1 1 rfl rfl)
theorem dX10_readsTelling_26 : decode cX10_readsTelling 26 = .ok (.invokevirtual 342, 3) := dk_182 1 86 (dk_at dksX10_readsTelling_1 2 rfl rfl)
theorem dX10_readsTelling_29 : decode cX10_readsTelling 29 = .ok (.ifCond .ne 5, 3) := dk_154 0 5 (dk_at dksX10_readsTelling_1 5 rfl rfl)
theorem dX10_readsTelling_32 : decode cX10_readsTelling 32 = .ok (.iconst 0, 1) := dk_3 (dk_at dksX10_readsTelling_1 8 rfl rfl)
theorem dX10_readsTelling_33 : decode cX10_readsTelling 33 = .ok (.ireturn, 1) := dk_172 (dk_at dksX10_readsTelling_1 9 rfl rfl)
theorem dX10_readsTelling_34 : decode cX10_readsTelling 34 = .ok (.aload_n 0, 1) := dk_42 (dk_at dksX10_readsTelling_1 10 rfl rfl)
theorem dX10_readsTelling_35 : decode cX10_readsTelling 35 = .ok (.getfield 114, 3) := dk_180 0 114 (dk_at dksX10_readsTelling_1 11 rfl rfl)
theorem dX10_readsTelling_38 : decode cX10_readsTelling 38 = .ok (.iload_n 1, 1) := dk_27 (dk_at dksX10_readsTelling_1 14 rfl rfl)
theorem dX10_readsTelling_39 : decode cX10_readsTelling 39 = .ok (.aload_n 0, 1) := dk_42 (dk_at dksX10_readsTelling_1 15 rfl rfl)
theorem dX10_readsTelling_40 : decode cX10_readsTelling 40 = .ok (.getfield 312, 3) := dk_180 1 56 (dk_at dksX10_readsTelling_1 16 rfl rfl)
theorem dX10_readsTelling_43 : decode cX10_readsTelling 43 = .ok (.iastore, 1) := dk_79 (dk_at dksX10_readsTelling_1 19 rfl rfl)
theorem dX10_readsTelling_44 : decode cX10_readsTelling 44 = .ok (.aload_n 0, 1) := dk_42 (dk_at dksX10_readsTelling_1 20 rfl rfl)
theorem dX10_readsTelling_45 : decode cX10_readsTelling 45 = .ok (.getfield 111, 3) := dk_180 0 111 (dk_at dksX10_readsTelling_1 21 rfl rfl)
theorem dX10_readsTelling_48 : decode cX10_readsTelling 48 = .ok (.iload_n 1, 1) := dk_27 (dk_at dksX10_readsTelling_2 0 rfl rfl)
theorem dX10_readsTelling_49 : decode cX10_readsTelling 49 = .ok (.iaload, 1) := dk_46 (dk_at dksX10_readsTelling_2 1 rfl rfl)
theorem dX10_readsTelling_50 : decode cX10_readsTelling 50 = .ok (.aload_n 0, 1) := dk_42 (dk_at dksX10_readsTelling_2 2 rfl rfl)
theorem dX10_readsTelling_51 : decode cX10_readsTelling 51 = .ok (.getfield 114, 3) := dk_180 0 114 (dk_at dksX10_readsTelling_2 3 rfl rfl)
theorem dX10_readsTelling_54 : decode cX10_readsTelling 54 = .ok (.iload_n 1, 1) := dk_27 (dk_at dksX10_readsTelling_2 6 rfl rfl)
theorem dX10_readsTelling_55 : decode cX10_readsTelling 55 = .ok (.iaload, 1) := dk_46 (dk_at dksX10_readsTelling_2 7 rfl rfl)
theorem dX10_readsTelling_56 : decode cX10_readsTelling 56 = .ok (.if_icmp .ne 9, 3) := dk_160 0 9 (dk_at dksX10_readsTelling_2 8 rfl rfl)
theorem dX10_readsTelling_59 : decode cX10_readsTelling 59 = .ok (.aload_n 0, 1) := dk_42 (dk_at dksX10_readsTelling_2 11 rfl rfl)
theorem dX10_readsTelling_60 : decode cX10_readsTelling 60 = .ok (.iconst 3, 1) := dk_6 (dk_at dksX10_readsTelling_2 12 rfl rfl)
theorem dX10_readsTelling_61 : decode cX10_readsTelling 61 = .ok (.invokevirtual 239, 3) := dk_182 0 239 (dk_at dksX10_readsTelling_2 13 rfl rfl)
theorem dX10_readsTelling_64 : decode cX10_readsTelling 64 = .ok (.ireturn, 1) := dk_172 (dk_at dksX10_readsTelling_2 16 rfl rfl)
theorem dX10_readsTelling_65 : decode cX10_readsTelling 65 = .ok (.aload_n 0, 1) := dk_42 (dk_at dksX10_readsTelling_2 17 rfl rfl)
theorem dX10_readsTelling_66 : decode cX10_readsTelling 66 = .ok (.invokevirtual 246, 3) := dk_182 0 246 (dk_at dksX10_readsTelling_2 18 rfl rfl)
theorem dX10_readsTelling_69 : decode cX10_readsTelling 69 = .ok (.aload_n 0, 1) := dk_42 (dk_at dksX10_readsTelling_2 21 rfl rfl)
theorem dX10_readsTelling_70 : decode cX10_readsTelling 70 = .ok (.iconst 0, 1) := dk_3 (dk_at dksX10_readsTelling_2 22 rfl rfl)
theorem dX10_readsTelling_71 : decode cX10_readsTelling 71 = .ok (.invokevirtual 345, 3) := dk_182 1 89 (dk_at dksX10_readsTelling_3 0 rfl rfl)
theorem dX10_readsTelling_74 : decode cX10_readsTelling 74 = .ok (.ifCond .ne 5, 3) := dk_154 0 5 (dk_at dksX10_readsTelling_3 3 rfl rfl)
theorem dX10_readsTelling_77 : decode cX10_readsTelling 77 = .ok (.iconst 0, 1) := dk_3 (dk_at dksX10_readsTelling_3 6 rfl rfl)
theorem dX10_readsTelling_78 : decode cX10_readsTelling 78 = .ok (.ireturn, 1) := dk_172 (dk_at dksX10_readsTelling_3 7 rfl rfl)
theorem dX10_readsTelling_79 : decode cX10_readsTelling 79 = .ok (.aload_n 0, 1) := dk_42 (dk_at dksX10_readsTelling_3 8 rfl rfl)
theorem dX10_readsTelling_80 : decode cX10_readsTelling 80 = .ok (.getfield 117, 3) := dk_180 0 117 (dk_at dksX10_readsTelling_3 9 rfl rfl)
theorem dX10_readsTelling_83 : decode cX10_readsTelling 83 = .ok (.iload_n 1, 1) := dk_27 (dk_at dksX10_readsTelling_3 12 rfl rfl)
theorem dX10_readsTelling_84 : decode cX10_readsTelling 84 = .ok (.aload_n 0, 1) := dk_42 (dk_at dksX10_readsTelling_3 13 rfl rfl)
theorem dX10_readsTelling_85 : decode cX10_readsTelling 85 = .ok (.getfield 312, 3) := dk_180 1 56 (dk_at dksX10_readsTelling_3 14 rfl rfl)
theorem dX10_readsTelling_88 : decode cX10_readsTelling 88 = .ok (.iastore, 1) := dk_79 (dk_at dksX10_readsTelling_3 17 rfl rfl)
theorem dX10_readsTelling_89 : decode cX10_readsTelling 89 = .ok (.aload_n 0, 1) := dk_42 (dk_at dksX10_readsTelling_3 18 rfl rfl)
theorem dX10_readsTelling_90 : decode cX10_readsTelling 90 = .ok (.invokevirtual 246, 3) := dk_182 0 246 (dk_at dksX10_readsTelling_3 19 rfl rfl)
theorem dX10_readsTelling_93 : decode cX10_readsTelling 93 = .ok (.iconst 1, 1) := dk_4 (dk_at dksX10_readsTelling_3 22 rfl rfl)
theorem dX10_readsTelling_94 : decode cX10_readsTelling 94 = .ok (.ireturn, 1) := dk_172 (dk_at dksX10_readsTelling_3 23 rfl rfl)
abbrev cX10_readsPayment : ByteArray := prog_36_method_43_code
def yX10_readsPayment : MethodName := ⟨RX10, "readsPayment", "(I)Z"⟩
def dkwX10_readsPayment_4 : List UInt8 := [120, 128, 79, 42, 182, 0, 246, 167, 255, 186, 4, 172]
abbrev dktX10_readsPayment_4 : List UInt8 := dkwX10_readsPayment_4 ++ []
def dkwX10_readsPayment_3 : List UInt8 := [4, 126, 4, 160, 0, 9, 42, 6, 182, 0, 239, 172, 42, 180, 0, 117, 27, 92, 46, 4, 42, 180, 1, 56]
abbrev dktX10_readsPayment_3 : List UInt8 := dkwX10_readsPayment_3 ++ dktX10_readsPayment_4
def dkwX10_readsPayment_2 : List UInt8 := [154, 0, 58, 42, 3, 182, 1, 89, 154, 0, 5, 3, 172, 42, 180, 0, 117, 27, 46, 42, 180, 1, 56, 122]
abbrev dktX10_readsPayment_2 : List UInt8 := dkwX10_readsPayment_2 ++ dktX10_readsPayment_3
def dkwX10_readsPayment_1 : List UInt8 := [27, 3, 79, 42, 182, 0, 246, 42, 180, 0, 117, 27, 46, 153, 0, 12, 42, 16, 59, 182, 0, 235]
abbrev dktX10_readsPayment_1 : List UInt8 := dkwX10_readsPayment_1 ++ dktX10_readsPayment_2
def dkwX10_readsPayment_0 : List UInt8 := [42, 3, 182, 1, 86, 154, 0, 5, 3, 172, 42, 180, 0, 111, 27, 42, 180, 1, 56, 79, 42, 180, 0, 117]
abbrev dktX10_readsPayment_0 : List UInt8 := dkwX10_readsPayment_0 ++ dktX10_readsPayment_1
theorem dksX10_readsPayment_0 : cX10_readsPayment.data.toList.drop 0 = dktX10_readsPayment_0 := by decide +kernel
theorem dksX10_readsPayment_1 : cX10_readsPayment.data.toList.drop 24 = dktX10_readsPayment_1 := dk_seg dksX10_readsPayment_0 24 rfl rfl
theorem dksX10_readsPayment_2 : cX10_readsPayment.data.toList.drop 46 = dktX10_readsPayment_2 := dk_seg dksX10_readsPayment_1 22 rfl rfl
theorem dksX10_readsPayment_3 : cX10_readsPayment.data.toList.drop 70 = dktX10_readsPayment_3 := dk_seg dksX10_readsPayment_2 24 rfl rfl
theorem dksX10_readsPayment_4 : cX10_readsPayment.data.toList.drop 94 = dktX10_readsPayment_4 := dk_seg dksX10_readsPayment_3 24 rfl rfl
theorem dX10_readsPayment_0 : decode cX10_readsPayment 0 = .ok (.aload_n 0, 1) := dk_42 (dk_at dksX10_readsPayment_0 0 rfl rfl)
theorem dX10_readsPayment_1 : decode cX10_readsPayment 1 = .ok (.iconst 0, 1) := dk_3 (dk_at dksX10_readsPayment_0 1 rfl rfl)
theorem dX10_readsPayment_2 : decode cX10_readsPayment 2 = .ok (.invokevirtual 342, 3) := dk_182 1 86 (dk_at dksX10_readsPayment_0 2 rfl rfl)
theorem dX10_readsPayment_5 : decode cX10_readsPayment 5 = .ok (.ifCond .ne 5, 3) := dk_154 0 5 (dk_at dksX10_readsPayment_0 5 rfl rfl)
theorem dX10_readsPayment_8 : decode cX10_readsPayment 8 = .ok (.iconst 0, 1) := dk_3 (dk_at dksX10_readsPayment_0 8 rfl rfl)
theorem dX10_readsPayment_9 : decode cX10_readsPayment 9 = .ok (.ireturn, 1) := dk_172 (dk_at dksX10_readsPayment_0 9 rfl rfl)
theorem dX10_readsPayment_10 : decode cX10_readsPayment 10 = .ok (.aload_n 0, 1) := dk_42 (dk_at dksX10_readsPayment_0 10 rfl rfl)
theorem dX10_readsPayment_11 : decode cX10_readsPayment 11 = .ok (.getfield 111, 3) := dk_180 0 111 (dk_at dksX10_readsPayment_0 11 rfl rfl)
theorem dX10_readsPayment_14 : decode cX10_readsPayment 14 = .ok (.iload_n 1, 1) := dk_27 (dk_at dksX10_readsPayment_0 14 rfl rfl)
theorem dX10_readsPayment_15 : decode cX10_readsPayment 15 = .ok (.aload_n 0, 1) := dk_42 (dk_at dksX10_readsPayment_0 15 rfl rfl)
theorem dX10_readsPayment_16 : decode cX10_readsPayment 16 = .ok (.getfield 312, 3) := dk_180 1 56 (dk_at dksX10_readsPayment_0 16 rfl rfl)
theorem dX10_readsPayment_19 : decode cX10_readsPayment 19 = .ok (.iastore, 1) := dk_79 (dk_at dksX10_readsPayment_0 19 rfl rfl)
theorem dX10_readsPayment_20 : decode cX10_readsPayment 20 = .ok (.aload_n 0, 1) := dk_42 (dk_at dksX10_readsPayment_0 20 rfl rfl)
theorem dX10_readsPayment_21 : decode cX10_readsPayment 21 = .ok (.getfield 117, 3) := dk_180 0 117 (dk_at dksX10_readsPayment_0 21 rfl rfl)
theorem dX10_readsPayment_24 : decode cX10_readsPayment 24 = .ok (.iload_n 1, 1) := dk_27 (dk_at dksX10_readsPayment_1 0 rfl rfl)
theorem dX10_readsPayment_25 : decode cX10_readsPayment 25 = .ok (.iconst 0, 1) := dk_3 (dk_at dksX10_readsPayment_1 1 rfl rfl)
theorem dX10_readsPayment_26 : decode cX10_readsPayment 26 = .ok (.iastore, 1) := dk_79 (dk_at dksX10_readsPayment_1 2 rfl rfl)
theorem dX10_readsPayment_27 : decode cX10_readsPayment 27 = .ok (.aload_n 0, 1) := dk_42 (dk_at dksX10_readsPayment_1 3 rfl rfl)
theorem dX10_readsPayment_28 : decode cX10_readsPayment 28 = .ok (.invokevirtual 246, 3) := dk_182 0 246 (dk_at dksX10_readsPayment_1 4 rfl rfl)
theorem dX10_readsPayment_31 : decode cX10_readsPayment 31 = .ok (.aload_n 0, 1) := dk_42 (dk_at dksX10_readsPayment_1 7 rfl rfl)
theorem dX10_readsPayment_32 : decode cX10_readsPayment 32 = .ok (.getfield 117, 3) := dk_180 0 117 (dk_at dksX10_readsPayment_1 8 rfl rfl)
theorem dX10_readsPayment_35 : decode cX10_readsPayment 35 = .ok (.iload_n 1, 1) := dk_27 (dk_at dksX10_readsPayment_1 11 rfl rfl)
theorem dX10_readsPayment_36 : decode cX10_readsPayment 36 = .ok (.iaload, 1) := dk_46 (dk_at dksX10_readsPayment_1 12 rfl rfl)
theorem dX10_readsPayment_37 : decode cX10_readsPayment 37 = .ok (.ifCond .eq 12, 3) := dk_153 0 12 (dk_at dksX10_readsPayment_1 13 rfl rfl)
theorem dX10_readsPayment_40 : decode cX10_readsPayment 40 = .ok (.aload_n 0, 1) := dk_42 (dk_at dksX10_readsPayment_1 16 rfl rfl)
theorem dX10_readsPayment_41 : decode cX10_readsPayment 41 = .ok (.bipush 59, 2) := dk_16 59 (dk_at dksX10_readsPayment_1 17 rfl rfl)
theorem dX10_readsPayment_43 : decode cX10_readsPayment 43 = .ok (.invokevirtual 235, 3) := dk_182 0 235 (dk_at dksX10_readsPayment_1 19 rfl rfl)
theorem dX10_readsPayment_46 : decode cX10_readsPayment 46 = .ok (.ifCond .ne 58, 3) := dk_154 0 58 (dk_at dksX10_readsPayment_2 0 rfl rfl)
theorem dX10_readsPayment_49 : decode cX10_readsPayment 49 = .ok (.aload_n 0, 1) := dk_42 (dk_at dksX10_readsPayment_2 3 rfl rfl)
theorem dX10_readsPayment_50 : decode cX10_readsPayment 50 = .ok (.iconst 0, 1) := dk_3 (dk_at dksX10_readsPayment_2 4 rfl rfl)
theorem dX10_readsPayment_51 : decode cX10_readsPayment 51 = .ok (.invokevirtual 345, 3) := dk_182 1 89 (dk_at dksX10_readsPayment_2 5 rfl rfl)
theorem dX10_readsPayment_54 : decode cX10_readsPayment 54 = .ok (.ifCond .ne 5, 3) := dk_154 0 5 (dk_at dksX10_readsPayment_2 8 rfl rfl)
theorem dX10_readsPayment_57 : decode cX10_readsPayment 57 = .ok (.iconst 0, 1) := dk_3 (dk_at dksX10_readsPayment_2 11 rfl rfl)
theorem dX10_readsPayment_58 : decode cX10_readsPayment 58 = .ok (.ireturn, 1) := dk_172 (dk_at dksX10_readsPayment_2 12 rfl rfl)
theorem dX10_readsPayment_59 : decode cX10_readsPayment 59 = .ok (.aload_n 0, 1) := dk_42 (dk_at dksX10_readsPayment_2 13 rfl rfl)
theorem dX10_readsPayment_60 : decode cX10_readsPayment 60 = .ok (.getfield 117, 3) := dk_180 0 117 (dk_at dksX10_readsPayment_2 14 rfl rfl)
theorem dX10_readsPayment_63 : decode cX10_readsPayment 63 = .ok (.iload_n 1, 1) := dk_27 (dk_at dksX10_readsPayment_2 17 rfl rfl)
theorem dX10_readsPayment_64 : decode cX10_readsPayment 64 = .ok (.iaload, 1) := dk_46 (dk_at dksX10_readsPayment_2 18 rfl rfl)
theorem dX10_readsPayment_65 : decode cX10_readsPayment 65 = .ok (.aload_n 0, 1) := dk_42 (dk_at dksX10_readsPayment_2 19 rfl rfl)
theorem dX10_readsPayment_66 : decode cX10_readsPayment 66 = .ok (.getfield 312, 3) := dk_180 1 56 (dk_at dksX10_readsPayment_2 20 rfl rfl)
theorem dX10_readsPayment_69 : decode cX10_readsPayment 69 = .ok (.ishr, 1) := dk_122 (dk_at dksX10_readsPayment_2 23 rfl rfl)
theorem dX10_readsPayment_70 : decode cX10_readsPayment 70 = .ok (.iconst 1, 1) := dk_4 (dk_at dksX10_readsPayment_3 0 rfl rfl)
theorem dX10_readsPayment_71 : decode cX10_readsPayment 71 = .ok (.iand, 1) := dk_126 (dk_at dksX10_readsPayment_3 1 rfl rfl)
theorem dX10_readsPayment_72 : decode cX10_readsPayment 72 = .ok (.iconst 1, 1) := dk_4 (dk_at dksX10_readsPayment_3 2 rfl rfl)
theorem dX10_readsPayment_73 : decode cX10_readsPayment 73 = .ok (.if_icmp .ne 9, 3) := dk_160 0 9 (dk_at dksX10_readsPayment_3 3 rfl rfl)
theorem dX10_readsPayment_76 : decode cX10_readsPayment 76 = .ok (.aload_n 0, 1) := dk_42 (dk_at dksX10_readsPayment_3 6 rfl rfl)
theorem dX10_readsPayment_77 : decode cX10_readsPayment 77 = .ok (.iconst 3, 1) := dk_6 (dk_at dksX10_readsPayment_3 7 rfl rfl)
theorem dX10_readsPayment_78 : decode cX10_readsPayment 78 = .ok (.invokevirtual 239, 3) := dk_182 0 239 (dk_at dksX10_readsPayment_3 8 rfl rfl)
theorem dX10_readsPayment_81 : decode cX10_readsPayment 81 = .ok (.ireturn, 1) := dk_172 (dk_at dksX10_readsPayment_3 11 rfl rfl)
theorem dX10_readsPayment_82 : decode cX10_readsPayment 82 = .ok (.aload_n 0, 1) := dk_42 (dk_at dksX10_readsPayment_3 12 rfl rfl)
theorem dX10_readsPayment_83 : decode cX10_readsPayment 83 = .ok (.getfield 117, 3) := dk_180 0 117 (dk_at dksX10_readsPayment_3 13 rfl rfl)
theorem dX10_readsPayment_86 : decode cX10_readsPayment 86 = .ok (.iload_n 1, 1) := dk_27 (dk_at dksX10_readsPayment_3 16 rfl rfl)
theorem dX10_readsPayment_87 : decode cX10_readsPayment 87 = .ok (.dup2, 1) := dk_92 (dk_at dksX10_readsPayment_3 17 rfl rfl)
theorem dX10_readsPayment_88 : decode cX10_readsPayment 88 = .ok (.iaload, 1) := dk_46 (dk_at dksX10_readsPayment_3 18 rfl rfl)
theorem dX10_readsPayment_89 : decode cX10_readsPayment 89 = .ok (.iconst 1, 1) := dk_4 (dk_at dksX10_readsPayment_3 19 rfl rfl)
theorem dX10_readsPayment_90 : decode cX10_readsPayment 90 = .ok (.aload_n 0, 1) := dk_42 (dk_at dksX10_readsPayment_3 20 rfl rfl)
theorem dX10_readsPayment_91 : decode cX10_readsPayment 91 = .ok (.getfield 312, 3) := dk_180 1 56 (dk_at dksX10_readsPayment_3 21 rfl rfl)
theorem dX10_readsPayment_94 : decode cX10_readsPayment 94 = .ok (.ishl, 1) := dk_120 (dk_at dksX10_readsPayment_4 0 rfl rfl)
theorem dX10_readsPayment_95 : decode cX10_readsPayment 95 = .ok (.ior, 1) := dk_128 (dk_at dksX10_readsPayment_4 1 rfl rfl)
theorem dX10_readsPayment_96 : decode cX10_readsPayment 96 = .ok (.iastore, 1) := dk_79 (dk_at dksX10_readsPayment_4 2 rfl rfl)
theorem dX10_readsPayment_97 : decode cX10_readsPayment 97 = .ok (.aload_n 0, 1) := dk_42 (dk_at dksX10_readsPayment_4 3 rfl rfl)
theorem dX10_readsPayment_98 : decode cX10_readsPayment 98 = .ok (.invokevirtual 246, 3) := dk_182 0 246 (dk_at dksX10_readsPayment_4 4 rfl rfl)
theorem dX10_readsPayment_101 : decode cX10_readsPayment 101 = .ok (.goto (-70), 3) := dk_167 255 186 (dk_at dksX10_readsPayment_4 7 rfl rfl)
theorem dX10_readsPayment_104 : decode cX10_readsPayment 104 = .ok (.iconst 1, 1) := dk_4 (dk_at dksX10_readsPayment_4 10 rfl rfl)
theorem dX10_readsPayment_105 : decode cX10_readsPayment 105 = .ok (.ireturn, 1) := dk_172 (dk_at dksX10_readsPayment_4 11 rfl rfl)
abbrev cX10_readsRise : ByteArray := prog_36_method_44_code
def yX10_readsRise : MethodName := ⟨RX10, "readsRise", "(I)Z"⟩
def dkwX10_readsRise_1 : List UInt8 := [4, 172]
abbrev dktX10_readsRise_1 : List UInt8 := dkwX10_readsRise_1 ++ []
def dkwX10_readsRise_0 : List UInt8 := [42, 3, 182, 1, 86, 154, 0, 5, 3, 172, 42, 180, 0, 111, 27, 42, 180, 1, 56, 79, 42, 182, 0, 246]
abbrev dktX10_readsRise_0 : List UInt8 := dkwX10_readsRise_0 ++ dktX10_readsRise_1
theorem dksX10_readsRise_0 : cX10_readsRise.data.toList.drop 0 = dktX10_readsRise_0 := by decide +kernel
theorem dksX10_readsRise_1 : cX10_readsRise.data.toList.drop 24 = dktX10_readsRise_1 := dk_seg dksX10_readsRise_0 24 rfl rfl
theorem dX10_readsRise_0 : decode cX10_readsRise 0 = .ok (.aload_n 0, 1) := dk_42 (dk_at dksX10_readsRise_0 0 rfl rfl)
theorem dX10_readsRise_1 : decode cX10_readsRise 1 = .ok (.iconst 0, 1) := dk_3 (dk_at dksX10_readsRise_0 1 rfl rfl)
theorem dX10_readsRise_2 : decode cX10_readsRise 2 = .ok (.invokevirtual 342, 3) := dk_182 1 86 (dk_at dksX10_readsRise_0 2 rfl rfl)
theorem dX10_readsRise_5 : decode cX10_readsRise 5 = .ok (.ifCond .ne 5, 3) := dk_154 0 5 (dk_at dksX10_readsRise_0 5 rfl rfl)
theorem dX10_readsRise_8 : decode cX10_readsRise 8 = .ok (.iconst 0, 1) := dk_3 (dk_at dksX10_readsRise_0 8 rfl rfl)
theorem dX10_readsRise_9 : decode cX10_readsRise 9 = .ok (.ireturn, 1) := dk_172 (dk_at dksX10_readsRise_0 9 rfl rfl)
theorem dX10_readsRise_10 : decode cX10_readsRise 10 = .ok (.aload_n 0, 1) := dk_42 (dk_at dksX10_readsRise_0 10 rfl rfl)
theorem dX10_readsRise_11 : decode cX10_readsRise 11 = .ok (.getfield 111, 3) := dk_180 0 111 (dk_at dksX10_readsRise_0 11 rfl rfl)
theorem dX10_readsRise_14 : decode cX10_readsRise 14 = .ok (.iload_n 1, 1) := dk_27 (dk_at dksX10_readsRise_0 14 rfl rfl)
theorem dX10_readsRise_15 : decode cX10_readsRise 15 = .ok (.aload_n 0, 1) := dk_42 (dk_at dksX10_readsRise_0 15 rfl rfl)
theorem dX10_readsRise_16 : decode cX10_readsRise 16 = .ok (.getfield 312, 3) := dk_180 1 56 (dk_at dksX10_readsRise_0 16 rfl rfl)
theorem dX10_readsRise_19 : decode cX10_readsRise 19 = .ok (.iastore, 1) := dk_79 (dk_at dksX10_readsRise_0 19 rfl rfl)
theorem dX10_readsRise_20 : decode cX10_readsRise 20 = .ok (.aload_n 0, 1) := dk_42 (dk_at dksX10_readsRise_0 20 rfl rfl)
theorem dX10_readsRise_21 : decode cX10_readsRise 21 = .ok (.invokevirtual 246, 3) := dk_182 0 246 (dk_at dksX10_readsRise_0 21 rfl rfl)
theorem dX10_readsRise_24 : decode cX10_readsRise 24 = .ok (.iconst 1, 1) := dk_4 (dk_at dksX10_readsRise_1 0 rfl rfl)
theorem dX10_readsRise_25 : decode cX10_readsRise 25 = .ok (.ireturn, 1) := dk_172 (dk_at dksX10_readsRise_1 1 rfl rfl)
abbrev cX10_laysLines : ByteArray := prog_36_method_46_code
def yX10_laysLines : MethodName := ⟨RX10, "laysLines", "(II)V"⟩
def dkwX10_laysLines_4 : List UInt8 := [42, 180, 0, 117, 16, 30, 27, 104, 29, 96, 46, 79, 132, 3, 1, 167, 255, 159, 177]
abbrev dktX10_laysLines_4 : List UInt8 := dkwX10_laysLines_4 ++ []
def dkwX10_laysLines_3 : List UInt8 := [29, 96, 42, 180, 0, 114, 16, 30, 27, 104, 29, 96, 46, 79, 42, 180, 0, 117, 16, 30, 28, 104, 29, 96]
abbrev dktX10_laysLines_3 : List UInt8 := dkwX10_laysLines_3 ++ dktX10_laysLines_4
def dkwX10_laysLines_2 : List UInt8 := [28, 104, 29, 96, 42, 180, 0, 111, 16, 30, 27, 104, 29, 96, 46, 79, 42, 180, 0, 114, 16, 30, 28, 104]
abbrev dktX10_laysLines_2 : List UInt8 := dkwX10_laysLines_2 ++ dktX10_laysLines_3
def dkwX10_laysLines_1 : List UInt8 := [16, 30, 28, 104, 29, 96, 42, 180, 0, 108, 16, 30, 27, 104, 29, 96, 46, 79, 42, 180, 0, 111, 16, 30]
abbrev dktX10_laysLines_1 : List UInt8 := dkwX10_laysLines_1 ++ dktX10_laysLines_2
def dkwX10_laysLines_0 : List UInt8 := [42, 180, 0, 105, 28, 42, 180, 0, 105, 27, 46, 79, 3, 62, 29, 16, 30, 162, 0, 97, 42, 180, 0, 108]
abbrev dktX10_laysLines_0 : List UInt8 := dkwX10_laysLines_0 ++ dktX10_laysLines_1
theorem dksX10_laysLines_0 : cX10_laysLines.data.toList.drop 0 = dktX10_laysLines_0 := by decide +kernel
theorem dksX10_laysLines_1 : cX10_laysLines.data.toList.drop 24 = dktX10_laysLines_1 := dk_seg dksX10_laysLines_0 24 rfl rfl
theorem dksX10_laysLines_2 : cX10_laysLines.data.toList.drop 48 = dktX10_laysLines_2 := dk_seg dksX10_laysLines_1 24 rfl rfl
theorem dksX10_laysLines_3 : cX10_laysLines.data.toList.drop 72 = dktX10_laysLines_3 := dk_seg dksX10_laysLines_2 24 rfl rfl
theorem dksX10_laysLines_4 : cX10_laysLines.data.toList.drop 96 = dktX10_laysLines_4 := dk_seg dksX10_laysLines_3 24 rfl rfl
theorem dX10_laysLines_0 : decode cX10_laysLines 0 = .ok (.aload_n 0, 1) := dk_42 (dk_at dksX10_laysLines_0 0 rfl rfl)
theorem dX10_laysLines_1 : decode cX10_laysLines 1 = .ok (.getfield 105, 3) := dk_180 0 105 (dk_at dksX10_laysLines_0 1 rfl rfl)
theorem dX10_laysLines_4 : decode cX10_laysLines 4 = .ok (.iload_n 2, 1) := dk_28 (dk_at dksX10_laysLines_0 4 rfl rfl)
theorem dX10_laysLines_5 : decode cX10_laysLines 5 = .ok (.aload_n 0, 1) := dk_42 (dk_at dksX10_laysLines_0 5 rfl rfl)
theorem dX10_laysLines_6 : decode cX10_laysLines 6 = .ok (.getfield 105, 3) := dk_180 0 105 (dk_at dksX10_laysLines_0 6 rfl rfl)
theorem dX10_laysLines_9 : decode cX10_laysLines 9 = .ok (.iload_n 1, 1) := dk_27 (dk_at dksX10_laysLines_0 9 rfl rfl)
theorem dX10_laysLines_10 : decode cX10_laysLines 10 = .ok (.iaload, 1) := dk_46 (dk_at dksX10_laysLines_0 10 rfl rfl)
theorem dX10_laysLines_11 : decode cX10_laysLines 11 = .ok (.iastore, 1) := dk_79 (dk_at dksX10_laysLines_0 11 rfl rfl)
theorem dX10_laysLines_12 : decode cX10_laysLines 12 = .ok (.iconst 0, 1) := dk_3 (dk_at dksX10_laysLines_0 12 rfl rfl)
theorem dX10_laysLines_13 : decode cX10_laysLines 13 = .ok (.istore_n 3, 1) := dk_62 (dk_at dksX10_laysLines_0 13 rfl rfl)
theorem dX10_laysLines_14 : decode cX10_laysLines 14 = .ok (.iload_n 3, 1) := dk_29 (dk_at dksX10_laysLines_0 14 rfl rfl)
theorem dX10_laysLines_15 : decode cX10_laysLines 15 = .ok (.bipush 30, 2) := dk_16 30 (dk_at dksX10_laysLines_0 15 rfl rfl)
theorem dX10_laysLines_17 : decode cX10_laysLines 17 = .ok (.if_icmp .ge 97, 3) := dk_162 0 97 (dk_at dksX10_laysLines_0 17 rfl rfl)
theorem dX10_laysLines_20 : decode cX10_laysLines 20 = .ok (.aload_n 0, 1) := dk_42 (dk_at dksX10_laysLines_0 20 rfl rfl)
theorem dX10_laysLines_21 : decode cX10_laysLines 21 = .ok (.getfield 108, 3) := dk_180 0 108 (dk_at dksX10_laysLines_0 21 rfl rfl)
theorem dX10_laysLines_24 : decode cX10_laysLines 24 = .ok (.bipush 30, 2) := dk_16 30 (dk_at dksX10_laysLines_1 0 rfl rfl)
theorem dX10_laysLines_26 : decode cX10_laysLines 26 = .ok (.iload_n 2, 1) := dk_28 (dk_at dksX10_laysLines_1 2 rfl rfl)
theorem dX10_laysLines_27 : decode cX10_laysLines 27 = .ok (.imul, 1) := dk_104 (dk_at dksX10_laysLines_1 3 rfl rfl)
theorem dX10_laysLines_28 : decode cX10_laysLines 28 = .ok (.iload_n 3, 1) := dk_29 (dk_at dksX10_laysLines_1 4 rfl rfl)
theorem dX10_laysLines_29 : decode cX10_laysLines 29 = .ok (.iadd, 1) := dk_96 (dk_at dksX10_laysLines_1 5 rfl rfl)
theorem dX10_laysLines_30 : decode cX10_laysLines 30 = .ok (.aload_n 0, 1) := dk_42 (dk_at dksX10_laysLines_1 6 rfl rfl)
theorem dX10_laysLines_31 : decode cX10_laysLines 31 = .ok (.getfield 108, 3) := dk_180 0 108 (dk_at dksX10_laysLines_1 7 rfl rfl)
theorem dX10_laysLines_34 : decode cX10_laysLines 34 = .ok (.bipush 30, 2) := dk_16 30 (dk_at dksX10_laysLines_1 10 rfl rfl)
theorem dX10_laysLines_36 : decode cX10_laysLines 36 = .ok (.iload_n 1, 1) := dk_27 (dk_at dksX10_laysLines_1 12 rfl rfl)
theorem dX10_laysLines_37 : decode cX10_laysLines 37 = .ok (.imul, 1) := dk_104 (dk_at dksX10_laysLines_1 13 rfl rfl)
theorem dX10_laysLines_38 : decode cX10_laysLines 38 = .ok (.iload_n 3, 1) := dk_29 (dk_at dksX10_laysLines_1 14 rfl rfl)
theorem dX10_laysLines_39 : decode cX10_laysLines 39 = .ok (.iadd, 1) := dk_96 (dk_at dksX10_laysLines_1 15 rfl rfl)
theorem dX10_laysLines_40 : decode cX10_laysLines 40 = .ok (.iaload, 1) := dk_46 (dk_at dksX10_laysLines_1 16 rfl rfl)
theorem dX10_laysLines_41 : decode cX10_laysLines 41 = .ok (.iastore, 1) := dk_79 (dk_at dksX10_laysLines_1 17 rfl rfl)
theorem dX10_laysLines_42 : decode cX10_laysLines 42 = .ok (.aload_n 0, 1) := dk_42 (dk_at dksX10_laysLines_1 18 rfl rfl)
theorem dX10_laysLines_43 : decode cX10_laysLines 43 = .ok (.getfield 111, 3) := dk_180 0 111 (dk_at dksX10_laysLines_1 19 rfl rfl)
theorem dX10_laysLines_46 : decode cX10_laysLines 46 = .ok (.bipush 30, 2) := dk_16 30 (dk_at dksX10_laysLines_1 22 rfl rfl)
theorem dX10_laysLines_48 : decode cX10_laysLines 48 = .ok (.iload_n 2, 1) := dk_28 (dk_at dksX10_laysLines_2 0 rfl rfl)
theorem dX10_laysLines_49 : decode cX10_laysLines 49 = .ok (.imul, 1) := dk_104 (dk_at dksX10_laysLines_2 1 rfl rfl)
theorem dX10_laysLines_50 : decode cX10_laysLines 50 = .ok (.iload_n 3, 1) := dk_29 (dk_at dksX10_laysLines_2 2 rfl rfl)
theorem dX10_laysLines_51 : decode cX10_laysLines 51 = .ok (.iadd, 1) := dk_96 (dk_at dksX10_laysLines_2 3 rfl rfl)
theorem dX10_laysLines_52 : decode cX10_laysLines 52 = .ok (.aload_n 0, 1) := dk_42 (dk_at dksX10_laysLines_2 4 rfl rfl)
theorem dX10_laysLines_53 : decode cX10_laysLines 53 = .ok (.getfield 111, 3) := dk_180 0 111 (dk_at dksX10_laysLines_2 5 rfl rfl)
theorem dX10_laysLines_56 : decode cX10_laysLines 56 = .ok (.bipush 30, 2) := dk_16 30 (dk_at dksX10_laysLines_2 8 rfl rfl)
theorem dX10_laysLines_58 : decode cX10_laysLines 58 = .ok (.iload_n 1, 1) := dk_27 (dk_at dksX10_laysLines_2 10 rfl rfl)
theorem dX10_laysLines_59 : decode cX10_laysLines 59 = .ok (.imul, 1) := dk_104 (dk_at dksX10_laysLines_2 11 rfl rfl)
theorem dX10_laysLines_60 : decode cX10_laysLines 60 = .ok (.iload_n 3, 1) := dk_29 (dk_at dksX10_laysLines_2 12 rfl rfl)
theorem dX10_laysLines_61 : decode cX10_laysLines 61 = .ok (.iadd, 1) := dk_96 (dk_at dksX10_laysLines_2 13 rfl rfl)
theorem dX10_laysLines_62 : decode cX10_laysLines 62 = .ok (.iaload, 1) := dk_46 (dk_at dksX10_laysLines_2 14 rfl rfl)
theorem dX10_laysLines_63 : decode cX10_laysLines 63 = .ok (.iastore, 1) := dk_79 (dk_at dksX10_laysLines_2 15 rfl rfl)
theorem dX10_laysLines_64 : decode cX10_laysLines 64 = .ok (.aload_n 0, 1) := dk_42 (dk_at dksX10_laysLines_2 16 rfl rfl)
theorem dX10_laysLines_65 : decode cX10_laysLines 65 = .ok (.getfield 114, 3) := dk_180 0 114 (dk_at dksX10_laysLines_2 17 rfl rfl)
theorem dX10_laysLines_68 : decode cX10_laysLines 68 = .ok (.bipush 30, 2) := dk_16 30 (dk_at dksX10_laysLines_2 20 rfl rfl)
theorem dX10_laysLines_70 : decode cX10_laysLines 70 = .ok (.iload_n 2, 1) := dk_28 (dk_at dksX10_laysLines_2 22 rfl rfl)
theorem dX10_laysLines_71 : decode cX10_laysLines 71 = .ok (.imul, 1) := dk_104 (dk_at dksX10_laysLines_2 23 rfl rfl)
theorem dX10_laysLines_72 : decode cX10_laysLines 72 = .ok (.iload_n 3, 1) := dk_29 (dk_at dksX10_laysLines_3 0 rfl rfl)
theorem dX10_laysLines_73 : decode cX10_laysLines 73 = .ok (.iadd, 1) := dk_96 (dk_at dksX10_laysLines_3 1 rfl rfl)
theorem dX10_laysLines_74 : decode cX10_laysLines 74 = .ok (.aload_n 0, 1) := dk_42 (dk_at dksX10_laysLines_3 2 rfl rfl)
theorem dX10_laysLines_75 : decode cX10_laysLines 75 = .ok (.getfield 114, 3) := dk_180 0 114 (dk_at dksX10_laysLines_3 3 rfl rfl)
theorem dX10_laysLines_78 : decode cX10_laysLines 78 = .ok (.bipush 30, 2) := dk_16 30 (dk_at dksX10_laysLines_3 6 rfl rfl)
theorem dX10_laysLines_80 : decode cX10_laysLines 80 = .ok (.iload_n 1, 1) := dk_27 (dk_at dksX10_laysLines_3 8 rfl rfl)
theorem dX10_laysLines_81 : decode cX10_laysLines 81 = .ok (.imul, 1) := dk_104 (dk_at dksX10_laysLines_3 9 rfl rfl)
theorem dX10_laysLines_82 : decode cX10_laysLines 82 = .ok (.iload_n 3, 1) := dk_29 (dk_at dksX10_laysLines_3 10 rfl rfl)
theorem dX10_laysLines_83 : decode cX10_laysLines 83 = .ok (.iadd, 1) := dk_96 (dk_at dksX10_laysLines_3 11 rfl rfl)
theorem dX10_laysLines_84 : decode cX10_laysLines 84 = .ok (.iaload, 1) := dk_46 (dk_at dksX10_laysLines_3 12 rfl rfl)
theorem dX10_laysLines_85 : decode cX10_laysLines 85 = .ok (.iastore, 1) := dk_79 (dk_at dksX10_laysLines_3 13 rfl rfl)
theorem dX10_laysLines_86 : decode cX10_laysLines 86 = .ok (.aload_n 0, 1) := dk_42 (dk_at dksX10_laysLines_3 14 rfl rfl)
theorem dX10_laysLines_87 : decode cX10_laysLines 87 = .ok (.getfield 117, 3) := dk_180 0 117 (dk_at dksX10_laysLines_3 15 rfl rfl)
theorem dX10_laysLines_90 : decode cX10_laysLines 90 = .ok (.bipush 30, 2) := dk_16 30 (dk_at dksX10_laysLines_3 18 rfl rfl)
theorem dX10_laysLines_92 : decode cX10_laysLines 92 = .ok (.iload_n 2, 1) := dk_28 (dk_at dksX10_laysLines_3 20 rfl rfl)
theorem dX10_laysLines_93 : decode cX10_laysLines 93 = .ok (.imul, 1) := dk_104 (dk_at dksX10_laysLines_3 21 rfl rfl)
theorem dX10_laysLines_94 : decode cX10_laysLines 94 = .ok (.iload_n 3, 1) := dk_29 (dk_at dksX10_laysLines_3 22 rfl rfl)
theorem dX10_laysLines_95 : decode cX10_laysLines 95 = .ok (.iadd, 1) := dk_96 (dk_at dksX10_laysLines_3 23 rfl rfl)
theorem dX10_laysLines_96 : decode cX10_laysLines 96 = .ok (.aload_n 0, 1) := dk_42 (dk_at dksX10_laysLines_4 0 rfl rfl)
theorem dX10_laysLines_97 : decode cX10_laysLines 97 = .ok (.getfield 117, 3) := dk_180 0 117 (dk_at dksX10_laysLines_4 1 rfl rfl)
theorem dX10_laysLines_100 : decode cX10_laysLines 100 = .ok (.bipush 30, 2) := dk_16 30 (dk_at dksX10_laysLines_4 4 rfl rfl)
theorem dX10_laysLines_102 : decode cX10_laysLines 102 = .ok (.iload_n 1, 1) := dk_27 (dk_at dksX10_laysLines_4 6 rfl rfl)
theorem dX10_laysLines_103 : decode cX10_laysLines 103 = .ok (.imul, 1) := dk_104 (dk_at dksX10_laysLines_4 7 rfl rfl)
theorem dX10_laysLines_104 : decode cX10_laysLines 104 = .ok (.iload_n 3, 1) := dk_29 (dk_at dksX10_laysLines_4 8 rfl rfl)
theorem dX10_laysLines_105 : decode cX10_laysLines 105 = .ok (.iadd, 1) := dk_96 (dk_at dksX10_laysLines_4 9 rfl rfl)
theorem dX10_laysLines_106 : decode cX10_laysLines 106 = .ok (.iaload, 1) := dk_46 (dk_at dksX10_laysLines_4 10 rfl rfl)
theorem dX10_laysLines_107 : decode cX10_laysLines 107 = .ok (.iastore, 1) := dk_79 (dk_at dksX10_laysLines_4 11 rfl rfl)
theorem dX10_laysLines_108 : decode cX10_laysLines 108 = .ok (.iinc 3 1, 3) := dk_132 3 1 (dk_at dksX10_laysLines_4 12 rfl rfl)
theorem dX10_laysLines_111 : decode cX10_laysLines 111 = .ok (.goto (-97), 3) := dk_167 255 159 (dk_at dksX10_laysLines_4 15 rfl rfl)
theorem dX10_laysLines_114 : decode cX10_laysLines 114 = .ok (.return_, 1) := dk_177 (dk_at dksX10_laysLines_4 18 rfl rfl)
abbrev cX10_person : ByteArray := prog_36_method_60_code
def yX10_person : MethodName := ⟨RX10, "person", "(II)I"⟩
def dkwX10_person_6 : List UInt8 := [167, 0, 8, 42, 27, 182, 1, 186, 172]
abbrev dktX10_person_6 : List UInt8 := dkwX10_person_6 ++ []
def dkwX10_person_5 : List UInt8 := [27, 122, 4, 126, 167, 0, 26, 28, 16, 6, 160, 0, 15, 42, 180, 0, 129, 16, 79, 27, 96, 46]
abbrev dktX10_person_5 : List UInt8 := dkwX10_person_5 ++ dktX10_person_6
def dkwX10_person_4 : List UInt8 := [182, 1, 174, 167, 0, 8, 42, 27, 182, 1, 183, 172, 28, 8, 160, 0, 17, 42, 180, 0, 129, 16, 78, 46]
abbrev dktX10_person_4 : List UInt8 := dkwX10_person_4 ++ dktX10_person_5
def dkwX10_person_3 : List UInt8 := [167, 0, 9, 42, 180, 0, 29, 27, 46, 172, 28, 8, 162, 0, 22, 28, 6, 160, 0, 11, 42, 27]
abbrev dktX10_person_3 : List UInt8 := dkwX10_person_3 ++ dktX10_person_4
def dkwX10_person_2 : List UInt8 := [180, 0, 23, 27, 46, 167, 0, 26, 28, 4, 160, 0, 15, 42, 180, 0, 129, 16, 70, 27, 96, 46]
abbrev dktX10_person_2 : List UInt8 := dkwX10_person_2 ++ dktX10_person_3
def dkwX10_person_1 : List UInt8 := [181, 0, 175, 42, 180, 0, 175, 4, 160, 0, 5, 3, 172, 28, 6, 162, 0, 40, 28, 154, 0, 12, 42]
abbrev dktX10_person_1 : List UInt8 := dkwX10_person_1 ++ dktX10_person_2
def dkwX10_person_0 : List UInt8 := [42, 42, 27, 182, 1, 180, 153, 0, 17, 28, 3, 16, 7, 184, 1, 52, 153, 0, 7, 3, 167, 0, 4, 4]
abbrev dktX10_person_0 : List UInt8 := dkwX10_person_0 ++ dktX10_person_1
theorem dksX10_person_0 : cX10_person.data.toList.drop 0 = dktX10_person_0 := by decide +kernel
theorem dksX10_person_1 : cX10_person.data.toList.drop 24 = dktX10_person_1 := dk_seg dksX10_person_0 24 rfl rfl
theorem dksX10_person_2 : cX10_person.data.toList.drop 47 = dktX10_person_2 := dk_seg dksX10_person_1 23 rfl rfl
theorem dksX10_person_3 : cX10_person.data.toList.drop 69 = dktX10_person_3 := dk_seg dksX10_person_2 22 rfl rfl
theorem dksX10_person_4 : cX10_person.data.toList.drop 91 = dktX10_person_4 := dk_seg dksX10_person_3 22 rfl rfl
theorem dksX10_person_5 : cX10_person.data.toList.drop 115 = dktX10_person_5 := dk_seg dksX10_person_4 24 rfl rfl
theorem dksX10_person_6 : cX10_person.data.toList.drop 137 = dktX10_person_6 := dk_seg dksX10_person_5 22 rfl rfl
theorem dX10_person_0 : decode cX10_person 0 = .ok (.aload_n 0, 1) := dk_42 (dk_at dksX10_person_0 0 rfl rfl)
theorem dX10_person_1 : decode cX10_person 1 = .ok (.aload_n 0, 1) := dk_42 (dk_at dksX10_person_0 1 rfl rfl)
theorem dX10_person_2 : decode cX10_person 2 = .ok (.iload_n 1, 1) := dk_27 (dk_at dksX10_person_0 2 rfl rfl)
theorem dX10_person_3 : decode cX10_person 3 = .ok (.invokevirtual 436, 3) := dk_182 1 180 (dk_at dksX10_person_0 3 rfl rfl)
theorem dX10_person_6 : decode cX10_person 6 = .ok (.ifCond .eq 17, 3) := dk_153 0 17 (dk_at dksX10_person_0 6 rfl rfl)
theorem dX10_person_9 : decode cX10_person 9 = .ok (.iload_n 2, 1) := dk_28 (dk_at dksX10_person_0 9 rfl rfl)
theorem dX10_person_10 : decode cX10_person 10 = .ok (.iconst 0, 1) := dk_3 (dk_at dksX10_person_0 10 rfl rfl)
theorem dX10_person_11 : decode cX10_person 11 = .ok (.bipush 7, 2) := dk_16 7 (dk_at dksX10_person_0 11 rfl rfl)
theorem dX10_person_13 : decode cX10_person 13 = .ok (.invokestatic 308, 3) := dk_184 1 52 (dk_at dksX10_person_0 13 rfl rfl)
theorem dX10_person_16 : decode cX10_person 16 = .ok (.ifCond .eq 7, 3) := dk_153 0 7 (dk_at dksX10_person_0 16 rfl rfl)
theorem dX10_person_19 : decode cX10_person 19 = .ok (.iconst 0, 1) := dk_3 (dk_at dksX10_person_0 19 rfl rfl)
theorem dX10_person_20 : decode cX10_person 20 = .ok (.goto 4, 3) := dk_167 0 4 (dk_at dksX10_person_0 20 rfl rfl)
theorem dX10_person_23 : decode cX10_person 23 = .ok (.iconst 1, 1) := dk_4 (dk_at dksX10_person_0 23 rfl rfl)
theorem dX10_person_24 : decode cX10_person 24 = .ok (.putfield 175, 3) := dk_181 0 175 (dk_at dksX10_person_1 0 rfl rfl)
theorem dX10_person_27 : decode cX10_person 27 = .ok (.aload_n 0, 1) := dk_42 (dk_at dksX10_person_1 3 rfl rfl)
theorem dX10_person_28 : decode cX10_person 28 = .ok (.getfield 175, 3) := dk_180 0 175 (dk_at dksX10_person_1 4 rfl rfl)
theorem dX10_person_31 : decode cX10_person 31 = .ok (.iconst 1, 1) := dk_4 (dk_at dksX10_person_1 7 rfl rfl)
theorem dX10_person_32 : decode cX10_person 32 = .ok (.if_icmp .ne 5, 3) := dk_160 0 5 (dk_at dksX10_person_1 8 rfl rfl)
theorem dX10_person_35 : decode cX10_person 35 = .ok (.iconst 0, 1) := dk_3 (dk_at dksX10_person_1 11 rfl rfl)
theorem dX10_person_36 : decode cX10_person 36 = .ok (.ireturn, 1) := dk_172 (dk_at dksX10_person_1 12 rfl rfl)
theorem dX10_person_37 : decode cX10_person 37 = .ok (.iload_n 2, 1) := dk_28 (dk_at dksX10_person_1 13 rfl rfl)
theorem dX10_person_38 : decode cX10_person 38 = .ok (.iconst 3, 1) := dk_6 (dk_at dksX10_person_1 14 rfl rfl)
theorem dX10_person_39 : decode cX10_person 39 = .ok (.if_icmp .ge 40, 3) := dk_162 0 40 (dk_at dksX10_person_1 15 rfl rfl)
theorem dX10_person_42 : decode cX10_person 42 = .ok (.iload_n 2, 1) := dk_28 (dk_at dksX10_person_1 18 rfl rfl)
theorem dX10_person_43 : decode cX10_person 43 = .ok (.ifCond .ne 12, 3) := dk_154 0 12 (dk_at dksX10_person_1 19 rfl rfl)
theorem dX10_person_46 : decode cX10_person 46 = .ok (.aload_n 0, 1) := dk_42 (dk_at dksX10_person_1 22 rfl rfl)
theorem dX10_person_47 : decode cX10_person 47 = .ok (.getfield 23, 3) := dk_180 0 23 (dk_at dksX10_person_2 0 rfl rfl)
theorem dX10_person_50 : decode cX10_person 50 = .ok (.iload_n 1, 1) := dk_27 (dk_at dksX10_person_2 3 rfl rfl)
theorem dX10_person_51 : decode cX10_person 51 = .ok (.iaload, 1) := dk_46 (dk_at dksX10_person_2 4 rfl rfl)
theorem dX10_person_52 : decode cX10_person 52 = .ok (.goto 26, 3) := dk_167 0 26 (dk_at dksX10_person_2 5 rfl rfl)
theorem dX10_person_55 : decode cX10_person 55 = .ok (.iload_n 2, 1) := dk_28 (dk_at dksX10_person_2 8 rfl rfl)
theorem dX10_person_56 : decode cX10_person 56 = .ok (.iconst 1, 1) := dk_4 (dk_at dksX10_person_2 9 rfl rfl)
theorem dX10_person_57 : decode cX10_person 57 = .ok (.if_icmp .ne 15, 3) := dk_160 0 15 (dk_at dksX10_person_2 10 rfl rfl)
theorem dX10_person_60 : decode cX10_person 60 = .ok (.aload_n 0, 1) := dk_42 (dk_at dksX10_person_2 13 rfl rfl)
theorem dX10_person_61 : decode cX10_person 61 = .ok (.getfield 129, 3) := dk_180 0 129 (dk_at dksX10_person_2 14 rfl rfl)
theorem dX10_person_64 : decode cX10_person 64 = .ok (.bipush 70, 2) := dk_16 70 (dk_at dksX10_person_2 17 rfl rfl)
theorem dX10_person_66 : decode cX10_person 66 = .ok (.iload_n 1, 1) := dk_27 (dk_at dksX10_person_2 19 rfl rfl)
theorem dX10_person_67 : decode cX10_person 67 = .ok (.iadd, 1) := dk_96 (dk_at dksX10_person_2 20 rfl rfl)
theorem dX10_person_68 : decode cX10_person 68 = .ok (.iaload, 1) := dk_46 (dk_at dksX10_person_2 21 rfl rfl)
theorem dX10_person_69 : decode cX10_person 69 = .ok (.goto 9, 3) := dk_167 0 9 (dk_at dksX10_person_3 0 rfl rfl)
theorem dX10_person_72 : decode cX10_person 72 = .ok (.aload_n 0, 1) := dk_42 (dk_at dksX10_person_3 3 rfl rfl)
theorem dX10_person_73 : decode cX10_person 73 = .ok (.getfield 29, 3) := dk_180 0 29 (dk_at dksX10_person_3 4 rfl rfl)
theorem dX10_person_76 : decode cX10_person 76 = .ok (.iload_n 1, 1) := dk_27 (dk_at dksX10_person_3 7 rfl rfl)
theorem dX10_person_77 : decode cX10_person 77 = .ok (.iaload, 1) := dk_46 (dk_at dksX10_person_3 8 rfl rfl)
theorem dX10_person_78 : decode cX10_person 78 = .ok (.ireturn, 1) := dk_172 (dk_at dksX10_person_3 9 rfl rfl)
theorem dX10_person_79 : decode cX10_person 79 = .ok (.iload_n 2, 1) := dk_28 (dk_at dksX10_person_3 10 rfl rfl)
theorem dX10_person_80 : decode cX10_person 80 = .ok (.iconst 5, 1) := dk_8 (dk_at dksX10_person_3 11 rfl rfl)
theorem dX10_person_81 : decode cX10_person 81 = .ok (.if_icmp .ge 22, 3) := dk_162 0 22 (dk_at dksX10_person_3 12 rfl rfl)
theorem dX10_person_84 : decode cX10_person 84 = .ok (.iload_n 2, 1) := dk_28 (dk_at dksX10_person_3 15 rfl rfl)
theorem dX10_person_85 : decode cX10_person 85 = .ok (.iconst 3, 1) := dk_6 (dk_at dksX10_person_3 16 rfl rfl)
theorem dX10_person_86 : decode cX10_person 86 = .ok (.if_icmp .ne 11, 3) := dk_160 0 11 (dk_at dksX10_person_3 17 rfl rfl)
theorem dX10_person_89 : decode cX10_person 89 = .ok (.aload_n 0, 1) := dk_42 (dk_at dksX10_person_3 20 rfl rfl)
theorem dX10_person_90 : decode cX10_person 90 = .ok (.iload_n 1, 1) := dk_27 (dk_at dksX10_person_3 21 rfl rfl)
theorem dX10_person_91 : decode cX10_person 91 = .ok (.invokevirtual 430, 3) := dk_182 1 174 (dk_at dksX10_person_4 0 rfl rfl)
theorem dX10_person_94 : decode cX10_person 94 = .ok (.goto 8, 3) := dk_167 0 8 (dk_at dksX10_person_4 3 rfl rfl)
theorem dX10_person_97 : decode cX10_person 97 = .ok (.aload_n 0, 1) := dk_42 (dk_at dksX10_person_4 6 rfl rfl)
theorem dX10_person_98 : decode cX10_person 98 = .ok (.iload_n 1, 1) := dk_27 (dk_at dksX10_person_4 7 rfl rfl)
theorem dX10_person_99 : decode cX10_person 99 = .ok (.invokevirtual 439, 3) := dk_182 1 183 (dk_at dksX10_person_4 8 rfl rfl)
theorem dX10_person_102 : decode cX10_person 102 = .ok (.ireturn, 1) := dk_172 (dk_at dksX10_person_4 11 rfl rfl)
theorem dX10_person_103 : decode cX10_person 103 = .ok (.iload_n 2, 1) := dk_28 (dk_at dksX10_person_4 12 rfl rfl)
theorem dX10_person_104 : decode cX10_person 104 = .ok (.iconst 5, 1) := dk_8 (dk_at dksX10_person_4 13 rfl rfl)
theorem dX10_person_105 : decode cX10_person 105 = .ok (.if_icmp .ne 17, 3) := dk_160 0 17 (dk_at dksX10_person_4 14 rfl rfl)
theorem dX10_person_108 : decode cX10_person 108 = .ok (.aload_n 0, 1) := dk_42 (dk_at dksX10_person_4 17 rfl rfl)
theorem dX10_person_109 : decode cX10_person 109 = .ok (.getfield 129, 3) := dk_180 0 129 (dk_at dksX10_person_4 18 rfl rfl)
theorem dX10_person_112 : decode cX10_person 112 = .ok (.bipush 78, 2) := dk_16 78 (dk_at dksX10_person_4 21 rfl rfl)
theorem dX10_person_114 : decode cX10_person 114 = .ok (.iaload, 1) := dk_46 (dk_at dksX10_person_4 23 rfl rfl)
theorem dX10_person_115 : decode cX10_person 115 = .ok (.iload_n 1, 1) := dk_27 (dk_at dksX10_person_5 0 rfl rfl)
theorem dX10_person_116 : decode cX10_person 116 = .ok (.ishr, 1) := dk_122 (dk_at dksX10_person_5 1 rfl rfl)
theorem dX10_person_117 : decode cX10_person 117 = .ok (.iconst 1, 1) := dk_4 (dk_at dksX10_person_5 2 rfl rfl)
theorem dX10_person_118 : decode cX10_person 118 = .ok (.iand, 1) := dk_126 (dk_at dksX10_person_5 3 rfl rfl)
theorem dX10_person_119 : decode cX10_person 119 = .ok (.goto 26, 3) := dk_167 0 26 (dk_at dksX10_person_5 4 rfl rfl)
theorem dX10_person_122 : decode cX10_person 122 = .ok (.iload_n 2, 1) := dk_28 (dk_at dksX10_person_5 7 rfl rfl)
theorem dX10_person_123 : decode cX10_person 123 = .ok (.bipush 6, 2) := dk_16 6 (dk_at dksX10_person_5 8 rfl rfl)
theorem dX10_person_125 : decode cX10_person 125 = .ok (.if_icmp .ne 15, 3) := dk_160 0 15 (dk_at dksX10_person_5 10 rfl rfl)
theorem dX10_person_128 : decode cX10_person 128 = .ok (.aload_n 0, 1) := dk_42 (dk_at dksX10_person_5 13 rfl rfl)
theorem dX10_person_129 : decode cX10_person 129 = .ok (.getfield 129, 3) := dk_180 0 129 (dk_at dksX10_person_5 14 rfl rfl)
theorem dX10_person_132 : decode cX10_person 132 = .ok (.bipush 79, 2) := dk_16 79 (dk_at dksX10_person_5 17 rfl rfl)
theorem dX10_person_134 : decode cX10_person 134 = .ok (.iload_n 1, 1) := dk_27 (dk_at dksX10_person_5 19 rfl rfl)
theorem dX10_person_135 : decode cX10_person 135 = .ok (.iadd, 1) := dk_96 (dk_at dksX10_person_5 20 rfl rfl)
theorem dX10_person_136 : decode cX10_person 136 = .ok (.iaload, 1) := dk_46 (dk_at dksX10_person_5 21 rfl rfl)
theorem dX10_person_137 : decode cX10_person 137 = .ok (.goto 8, 3) := dk_167 0 8 (dk_at dksX10_person_6 0 rfl rfl)
theorem dX10_person_140 : decode cX10_person 140 = .ok (.aload_n 0, 1) := dk_42 (dk_at dksX10_person_6 3 rfl rfl)
theorem dX10_person_141 : decode cX10_person 141 = .ok (.iload_n 1, 1) := dk_27 (dk_at dksX10_person_6 4 rfl rfl)
theorem dX10_person_142 : decode cX10_person 142 = .ok (.invokevirtual 442, 3) := dk_182 1 186 (dk_at dksX10_person_6 5 rfl rfl)
theorem dX10_person_145 : decode cX10_person 145 = .ok (.ireturn, 1) := dk_172 (dk_at dksX10_person_6 8 rfl rfl)
abbrev cX10_isPerson : ByteArray := prog_36_method_51_code
def yX10_isPerson : MethodName := ⟨RX10, "isPerson", "(I)Z"⟩
def dkwX10_isPerson_0 : List UInt8 := [27, 155, 0, 17, 27, 42, 180, 0, 13, 3, 46, 162, 0, 7, 4, 167, 0, 4, 3, 172]
abbrev dktX10_isPerson_0 : List UInt8 := dkwX10_isPerson_0 ++ []
theorem dksX10_isPerson_0 : cX10_isPerson.data.toList.drop 0 = dktX10_isPerson_0 := by decide +kernel
theorem dX10_isPerson_0 : decode cX10_isPerson 0 = .ok (.iload_n 1, 1) := dk_27 (dk_at dksX10_isPerson_0 0 rfl rfl)
theorem dX10_isPerson_1 : decode cX10_isPerson 1 = .ok (.ifCond .lt 17, 3) := dk_155 0 17 (dk_at dksX10_isPerson_0 1 rfl rfl)
theorem dX10_isPerson_4 : decode cX10_isPerson 4 = .ok (.iload_n 1, 1) := dk_27 (dk_at dksX10_isPerson_0 4 rfl rfl)
theorem dX10_isPerson_5 : decode cX10_isPerson 5 = .ok (.aload_n 0, 1) := dk_42 (dk_at dksX10_isPerson_0 5 rfl rfl)
theorem dX10_isPerson_6 : decode cX10_isPerson 6 = .ok (.getfield 13, 3) := dk_180 0 13 (dk_at dksX10_isPerson_0 6 rfl rfl)
theorem dX10_isPerson_9 : decode cX10_isPerson 9 = .ok (.iconst 0, 1) := dk_3 (dk_at dksX10_isPerson_0 9 rfl rfl)
theorem dX10_isPerson_10 : decode cX10_isPerson 10 = .ok (.iaload, 1) := dk_46 (dk_at dksX10_isPerson_0 10 rfl rfl)
theorem dX10_isPerson_11 : decode cX10_isPerson 11 = .ok (.if_icmp .ge 7, 3) := dk_162 0 7 (dk_at dksX10_isPerson_0 11 rfl rfl)
theorem dX10_isPerson_14 : decode cX10_isPerson 14 = .ok (.iconst 1, 1) := dk_4 (dk_at dksX10_isPerson_0 14 rfl rfl)
theorem dX10_isPerson_15 : decode cX10_isPerson 15 = .ok (.goto 4, 3) := dk_167 0 4 (dk_at dksX10_isPerson_0 15 rfl rfl)
theorem dX10_isPerson_18 : decode cX10_isPerson 18 = .ok (.iconst 0, 1) := dk_3 (dk_at dksX10_isPerson_0 18 rfl rfl)
theorem dX10_isPerson_19 : decode cX10_isPerson 19 = .ok (.ireturn, 1) := dk_172 (dk_at dksX10_isPerson_0 19 rfl rfl)
abbrev cX10_knownBy : ByteArray := prog_36_method_56_code
def yX10_knownBy : MethodName := ⟨RX10, "knownBy", "(I)I"⟩
def dkwX10_knownBy_1 : List UInt8 := [126, 29, 120, 128, 61, 132, 3, 1, 167, 255, 228, 28, 172]
abbrev dktX10_knownBy_1 : List UInt8 := dkwX10_knownBy_1 ++ []
def dkwX10_knownBy_0 : List UInt8 := [3, 61, 3, 62, 29, 42, 180, 0, 13, 4, 46, 162, 0, 24, 28, 42, 180, 0, 129, 29, 46, 27, 122, 4]
abbrev dktX10_knownBy_0 : List UInt8 := dkwX10_knownBy_0 ++ dktX10_knownBy_1
theorem dksX10_knownBy_0 : cX10_knownBy.data.toList.drop 0 = dktX10_knownBy_0 := by decide +kernel
theorem dksX10_knownBy_1 : cX10_knownBy.data.toList.drop 24 = dktX10_knownBy_1 := dk_seg dksX10_knownBy_0 24 rfl rfl
theorem dX10_knownBy_0 : decode cX10_knownBy 0 = .ok (.iconst 0, 1) := dk_3 (dk_at dksX10_knownBy_0 0 rfl rfl)
theorem dX10_knownBy_1 : decode cX10_knownBy 1 = .ok (.istore_n 2, 1) := dk_61 (dk_at dksX10_knownBy_0 1 rfl rfl)
theorem dX10_knownBy_2 : decode cX10_knownBy 2 = .ok (.iconst 0, 1) := dk_3 (dk_at dksX10_knownBy_0 2 rfl rfl)
theorem dX10_knownBy_3 : decode cX10_knownBy 3 = .ok (.istore_n 3, 1) := dk_62 (dk_at dksX10_knownBy_0 3 rfl rfl)
theorem dX10_knownBy_4 : decode cX10_knownBy 4 = .ok (.iload_n 3, 1) := dk_29 (dk_at dksX10_knownBy_0 4 rfl rfl)
theorem dX10_knownBy_5 : decode cX10_knownBy 5 = .ok (.aload_n 0, 1) := dk_42 (dk_at dksX10_knownBy_0 5 rfl rfl)
theorem dX10_knownBy_6 : decode cX10_knownBy 6 = .ok (.getfield 13, 3) := dk_180 0 13 (dk_at dksX10_knownBy_0 6 rfl rfl)
theorem dX10_knownBy_9 : decode cX10_knownBy 9 = .ok (.iconst 1, 1) := dk_4 (dk_at dksX10_knownBy_0 9 rfl rfl)
theorem dX10_knownBy_10 : decode cX10_knownBy 10 = .ok (.iaload, 1) := dk_46 (dk_at dksX10_knownBy_0 10 rfl rfl)
theorem dX10_knownBy_11 : decode cX10_knownBy 11 = .ok (.if_icmp .ge 24, 3) := dk_162 0 24 (dk_at dksX10_knownBy_0 11 rfl rfl)
theorem dX10_knownBy_14 : decode cX10_knownBy 14 = .ok (.iload_n 2, 1) := dk_28 (dk_at dksX10_knownBy_0 14 rfl rfl)
theorem dX10_knownBy_15 : decode cX10_knownBy 15 = .ok (.aload_n 0, 1) := dk_42 (dk_at dksX10_knownBy_0 15 rfl rfl)
theorem dX10_knownBy_16 : decode cX10_knownBy 16 = .ok (.getfield 129, 3) := dk_180 0 129 (dk_at dksX10_knownBy_0 16 rfl rfl)
theorem dX10_knownBy_19 : decode cX10_knownBy 19 = .ok (.iload_n 3, 1) := dk_29 (dk_at dksX10_knownBy_0 19 rfl rfl)
theorem dX10_knownBy_20 : decode cX10_knownBy 20 = .ok (.iaload, 1) := dk_46 (dk_at dksX10_knownBy_0 20 rfl rfl)
theorem dX10_knownBy_21 : decode cX10_knownBy 21 = .ok (.iload_n 1, 1) := dk_27 (dk_at dksX10_knownBy_0 21 rfl rfl)
theorem dX10_knownBy_22 : decode cX10_knownBy 22 = .ok (.ishr, 1) := dk_122 (dk_at dksX10_knownBy_0 22 rfl rfl)
theorem dX10_knownBy_23 : decode cX10_knownBy 23 = .ok (.iconst 1, 1) := dk_4 (dk_at dksX10_knownBy_0 23 rfl rfl)
theorem dX10_knownBy_24 : decode cX10_knownBy 24 = .ok (.iand, 1) := dk_126 (dk_at dksX10_knownBy_1 0 rfl rfl)
theorem dX10_knownBy_25 : decode cX10_knownBy 25 = .ok (.iload_n 3, 1) := dk_29 (dk_at dksX10_knownBy_1 1 rfl rfl)
theorem dX10_knownBy_26 : decode cX10_knownBy 26 = .ok (.ishl, 1) := dk_120 (dk_at dksX10_knownBy_1 2 rfl rfl)
theorem dX10_knownBy_27 : decode cX10_knownBy 27 = .ok (.ior, 1) := dk_128 (dk_at dksX10_knownBy_1 3 rfl rfl)
theorem dX10_knownBy_28 : decode cX10_knownBy 28 = .ok (.istore_n 2, 1) := dk_61 (dk_at dksX10_knownBy_1 4 rfl rfl)
theorem dX10_knownBy_29 : decode cX10_knownBy 29 = .ok (.iinc 3 1, 3) := dk_132 3 1 (dk_at dksX10_knownBy_1 5 rfl rfl)
theorem dX10_knownBy_32 : decode cX10_knownBy 32 = .ok (.goto (-28), 3) := dk_167 255 228 (dk_at dksX10_knownBy_1 8 rfl rfl)
theorem dX10_knownBy_35 : decode cX10_knownBy 35 = .ok (.iload_n 2, 1) := dk_28 (dk_at dksX10_knownBy_1 11 rfl rfl)
theorem dX10_knownBy_36 : decode cX10_knownBy 36 = .ok (.ireturn, 1) := dk_172 (dk_at dksX10_knownBy_1 12 rfl rfl)
abbrev cX10_purse : ByteArray := prog_36_method_58_code
def yX10_purse : MethodName := ⟨RX10, "purse", "(I)I"⟩
def dkwX10_purse_0 : List UInt8 := [42, 42, 27, 182, 1, 174, 182, 1, 177, 172]
abbrev dktX10_purse_0 : List UInt8 := dkwX10_purse_0 ++ []
theorem dksX10_purse_0 : cX10_purse.data.toList.drop 0 = dktX10_purse_0 := by decide +kernel
theorem dX10_purse_0 : decode cX10_purse 0 = .ok (.aload_n 0, 1) := dk_42 (dk_at dksX10_purse_0 0 rfl rfl)
theorem dX10_purse_1 : decode cX10_purse 1 = .ok (.aload_n 0, 1) := dk_42 (dk_at dksX10_purse_0 1 rfl rfl)
theorem dX10_purse_2 : decode cX10_purse 2 = .ok (.iload_n 1, 1) := dk_27 (dk_at dksX10_purse_0 2 rfl rfl)
theorem dX10_purse_3 : decode cX10_purse 3 = .ok (.invokevirtual 430, 3) := dk_182 1 174 (dk_at dksX10_purse_0 3 rfl rfl)
theorem dX10_purse_6 : decode cX10_purse 6 = .ok (.invokevirtual 433, 3) := dk_182 1 177 (dk_at dksX10_purse_0 6 rfl rfl)
theorem dX10_purse_9 : decode cX10_purse 9 = .ok (.ireturn, 1) := dk_172 (dk_at dksX10_purse_0 9 rfl rfl)
abbrev cX10_worthsOf : ByteArray := prog_36_method_57_code
def yX10_worthsOf : MethodName := ⟨RX10, "worthsOf", "(I)I"⟩
def dkwX10_worthsOf_1 : List UInt8 := [42, 29, 182, 1, 171, 167, 0, 4, 3, 96, 61, 132, 3, 1, 167, 255, 222, 28, 172]
abbrev dktX10_worthsOf_1 : List UInt8 := dkwX10_worthsOf_1 ++ []
def dkwX10_worthsOf_0 : List UInt8 := [3, 61, 3, 62, 29, 42, 180, 0, 13, 4, 46, 162, 0, 30, 28, 27, 29, 122, 4, 126, 4, 160, 0, 11]
abbrev dktX10_worthsOf_0 : List UInt8 := dkwX10_worthsOf_0 ++ dktX10_worthsOf_1
theorem dksX10_worthsOf_0 : cX10_worthsOf.data.toList.drop 0 = dktX10_worthsOf_0 := by decide +kernel
theorem dksX10_worthsOf_1 : cX10_worthsOf.data.toList.drop 24 = dktX10_worthsOf_1 := dk_seg dksX10_worthsOf_0 24 rfl rfl
theorem dX10_worthsOf_0 : decode cX10_worthsOf 0 = .ok (.iconst 0, 1) := dk_3 (dk_at dksX10_worthsOf_0 0 rfl rfl)
theorem dX10_worthsOf_1 : decode cX10_worthsOf 1 = .ok (.istore_n 2, 1) := dk_61 (dk_at dksX10_worthsOf_0 1 rfl rfl)
theorem dX10_worthsOf_2 : decode cX10_worthsOf 2 = .ok (.iconst 0, 1) := dk_3 (dk_at dksX10_worthsOf_0 2 rfl rfl)
theorem dX10_worthsOf_3 : decode cX10_worthsOf 3 = .ok (.istore_n 3, 1) := dk_62 (dk_at dksX10_worthsOf_0 3 rfl rfl)
theorem dX10_worthsOf_4 : decode cX10_worthsOf 4 = .ok (.iload_n 3, 1) := dk_29 (dk_at dksX10_worthsOf_0 4 rfl rfl)
theorem dX10_worthsOf_5 : decode cX10_worthsOf 5 = .ok (.aload_n 0, 1) := dk_42 (dk_at dksX10_worthsOf_0 5 rfl rfl)
theorem dX10_worthsOf_6 : decode cX10_worthsOf 6 = .ok (.getfield 13, 3) := dk_180 0 13 (dk_at dksX10_worthsOf_0 6 rfl rfl)
theorem dX10_worthsOf_9 : decode cX10_worthsOf 9 = .ok (.iconst 1, 1) := dk_4 (dk_at dksX10_worthsOf_0 9 rfl rfl)
theorem dX10_worthsOf_10 : decode cX10_worthsOf 10 = .ok (.iaload, 1) := dk_46 (dk_at dksX10_worthsOf_0 10 rfl rfl)
theorem dX10_worthsOf_11 : decode cX10_worthsOf 11 = .ok (.if_icmp .ge 30, 3) := dk_162 0 30 (dk_at dksX10_worthsOf_0 11 rfl rfl)
theorem dX10_worthsOf_14 : decode cX10_worthsOf 14 = .ok (.iload_n 2, 1) := dk_28 (dk_at dksX10_worthsOf_0 14 rfl rfl)
theorem dX10_worthsOf_15 : decode cX10_worthsOf 15 = .ok (.iload_n 1, 1) := dk_27 (dk_at dksX10_worthsOf_0 15 rfl rfl)
theorem dX10_worthsOf_16 : decode cX10_worthsOf 16 = .ok (.iload_n 3, 1) := dk_29 (dk_at dksX10_worthsOf_0 16 rfl rfl)
theorem dX10_worthsOf_17 : decode cX10_worthsOf 17 = .ok (.ishr, 1) := dk_122 (dk_at dksX10_worthsOf_0 17 rfl rfl)
theorem dX10_worthsOf_18 : decode cX10_worthsOf 18 = .ok (.iconst 1, 1) := dk_4 (dk_at dksX10_worthsOf_0 18 rfl rfl)
theorem dX10_worthsOf_19 : decode cX10_worthsOf 19 = .ok (.iand, 1) := dk_126 (dk_at dksX10_worthsOf_0 19 rfl rfl)
theorem dX10_worthsOf_20 : decode cX10_worthsOf 20 = .ok (.iconst 1, 1) := dk_4 (dk_at dksX10_worthsOf_0 20 rfl rfl)
theorem dX10_worthsOf_21 : decode cX10_worthsOf 21 = .ok (.if_icmp .ne 11, 3) := dk_160 0 11 (dk_at dksX10_worthsOf_0 21 rfl rfl)
theorem dX10_worthsOf_24 : decode cX10_worthsOf 24 = .ok (.aload_n 0, 1) := dk_42 (dk_at dksX10_worthsOf_1 0 rfl rfl)
theorem dX10_worthsOf_25 : decode cX10_worthsOf 25 = .ok (.iload_n 3, 1) := dk_29 (dk_at dksX10_worthsOf_1 1 rfl rfl)
theorem dX10_worthsOf_26 : decode cX10_worthsOf 26 = .ok (.invokevirtual 427, 3) := dk_182 1 171 (dk_at dksX10_worthsOf_1 2 rfl rfl)
theorem dX10_worthsOf_29 : decode cX10_worthsOf 29 = .ok (.goto 4, 3) := dk_167 0 4 (dk_at dksX10_worthsOf_1 5 rfl rfl)
theorem dX10_worthsOf_32 : decode cX10_worthsOf 32 = .ok (.iconst 0, 1) := dk_3 (dk_at dksX10_worthsOf_1 8 rfl rfl)
theorem dX10_worthsOf_33 : decode cX10_worthsOf 33 = .ok (.iadd, 1) := dk_96 (dk_at dksX10_worthsOf_1 9 rfl rfl)
theorem dX10_worthsOf_34 : decode cX10_worthsOf 34 = .ok (.istore_n 2, 1) := dk_61 (dk_at dksX10_worthsOf_1 10 rfl rfl)
theorem dX10_worthsOf_35 : decode cX10_worthsOf 35 = .ok (.iinc 3 1, 3) := dk_132 3 1 (dk_at dksX10_worthsOf_1 11 rfl rfl)
theorem dX10_worthsOf_38 : decode cX10_worthsOf 38 = .ok (.goto (-34), 3) := dk_167 255 222 (dk_at dksX10_worthsOf_1 14 rfl rfl)
theorem dX10_worthsOf_41 : decode cX10_worthsOf 41 = .ok (.iload_n 2, 1) := dk_28 (dk_at dksX10_worthsOf_1 17 rfl rfl)
theorem dX10_worthsOf_42 : decode cX10_worthsOf 42 = .ok (.ireturn, 1) := dk_172 (dk_at dksX10_worthsOf_1 18 rfl rfl)
abbrev cX10_worthOf : ByteArray := prog_36_method_55_code
def yX10_worthOf : MethodName := ⟨RX10, "worthOf", "(I)I"⟩
def dkwX10_worthOf_2 : List UInt8 := [182, 1, 171, 96, 172]
abbrev dktX10_worthOf_2 : List UInt8 := dkwX10_worthOf_2 ++ []
def dkwX10_worthOf_1 : List UInt8 := [46, 182, 1, 168, 42, 180, 0, 41, 27, 46, 156, 0, 7, 3, 167, 0, 13, 42, 42, 180, 0, 41, 27, 46]
abbrev dktX10_worthOf_1 : List UInt8 := dkwX10_worthOf_1 ++ dktX10_worthOf_2
def dkwX10_worthOf_0 : List UInt8 := [42, 180, 0, 129, 16, 76, 46, 27, 122, 4, 126, 4, 160, 0, 5, 3, 172, 42, 27, 42, 180, 0, 129, 27]
abbrev dktX10_worthOf_0 : List UInt8 := dkwX10_worthOf_0 ++ dktX10_worthOf_1
theorem dksX10_worthOf_0 : cX10_worthOf.data.toList.drop 0 = dktX10_worthOf_0 := by decide +kernel
theorem dksX10_worthOf_1 : cX10_worthOf.data.toList.drop 24 = dktX10_worthOf_1 := dk_seg dksX10_worthOf_0 24 rfl rfl
theorem dksX10_worthOf_2 : cX10_worthOf.data.toList.drop 48 = dktX10_worthOf_2 := dk_seg dksX10_worthOf_1 24 rfl rfl
theorem dX10_worthOf_0 : decode cX10_worthOf 0 = .ok (.aload_n 0, 1) := dk_42 (dk_at dksX10_worthOf_0 0 rfl rfl)
theorem dX10_worthOf_1 : decode cX10_worthOf 1 = .ok (.getfield 129, 3) := dk_180 0 129 (dk_at dksX10_worthOf_0 1 rfl rfl)
theorem dX10_worthOf_4 : decode cX10_worthOf 4 = .ok (.bipush 76, 2) := dk_16 76 (dk_at dksX10_worthOf_0 4 rfl rfl)
theorem dX10_worthOf_6 : decode cX10_worthOf 6 = .ok (.iaload, 1) := dk_46 (dk_at dksX10_worthOf_0 6 rfl rfl)
theorem dX10_worthOf_7 : decode cX10_worthOf 7 = .ok (.iload_n 1, 1) := dk_27 (dk_at dksX10_worthOf_0 7 rfl rfl)
theorem dX10_worthOf_8 : decode cX10_worthOf 8 = .ok (.ishr, 1) := dk_122 (dk_at dksX10_worthOf_0 8 rfl rfl)
theorem dX10_worthOf_9 : decode cX10_worthOf 9 = .ok (.iconst 1, 1) := dk_4 (dk_at dksX10_worthOf_0 9 rfl rfl)
theorem dX10_worthOf_10 : decode cX10_worthOf 10 = .ok (.iand, 1) := dk_126 (dk_at dksX10_worthOf_0 10 rfl rfl)
theorem dX10_worthOf_11 : decode cX10_worthOf 11 = .ok (.iconst 1, 1) := dk_4 (dk_at dksX10_worthOf_0 11 rfl rfl)
theorem dX10_worthOf_12 : decode cX10_worthOf 12 = .ok (.if_icmp .ne 5, 3) := dk_160 0 5 (dk_at dksX10_worthOf_0 12 rfl rfl)
theorem dX10_worthOf_15 : decode cX10_worthOf 15 = .ok (.iconst 0, 1) := dk_3 (dk_at dksX10_worthOf_0 15 rfl rfl)
theorem dX10_worthOf_16 : decode cX10_worthOf 16 = .ok (.ireturn, 1) := dk_172 (dk_at dksX10_worthOf_0 16 rfl rfl)
theorem dX10_worthOf_17 : decode cX10_worthOf 17 = .ok (.aload_n 0, 1) := dk_42 (dk_at dksX10_worthOf_0 17 rfl rfl)
theorem dX10_worthOf_18 : decode cX10_worthOf 18 = .ok (.iload_n 1, 1) := dk_27 (dk_at dksX10_worthOf_0 18 rfl rfl)
theorem dX10_worthOf_19 : decode cX10_worthOf 19 = .ok (.aload_n 0, 1) := dk_42 (dk_at dksX10_worthOf_0 19 rfl rfl)
theorem dX10_worthOf_20 : decode cX10_worthOf 20 = .ok (.getfield 129, 3) := dk_180 0 129 (dk_at dksX10_worthOf_0 20 rfl rfl)
theorem dX10_worthOf_23 : decode cX10_worthOf 23 = .ok (.iload_n 1, 1) := dk_27 (dk_at dksX10_worthOf_0 23 rfl rfl)
theorem dX10_worthOf_24 : decode cX10_worthOf 24 = .ok (.iaload, 1) := dk_46 (dk_at dksX10_worthOf_1 0 rfl rfl)
theorem dX10_worthOf_25 : decode cX10_worthOf 25 = .ok (.invokevirtual 424, 3) := dk_182 1 168 (dk_at dksX10_worthOf_1 1 rfl rfl)
theorem dX10_worthOf_28 : decode cX10_worthOf 28 = .ok (.aload_n 0, 1) := dk_42 (dk_at dksX10_worthOf_1 4 rfl rfl)
theorem dX10_worthOf_29 : decode cX10_worthOf 29 = .ok (.getfield 41, 3) := dk_180 0 41 (dk_at dksX10_worthOf_1 5 rfl rfl)
theorem dX10_worthOf_32 : decode cX10_worthOf 32 = .ok (.iload_n 1, 1) := dk_27 (dk_at dksX10_worthOf_1 8 rfl rfl)
theorem dX10_worthOf_33 : decode cX10_worthOf 33 = .ok (.iaload, 1) := dk_46 (dk_at dksX10_worthOf_1 9 rfl rfl)
theorem dX10_worthOf_34 : decode cX10_worthOf 34 = .ok (.ifCond .ge 7, 3) := dk_156 0 7 (dk_at dksX10_worthOf_1 10 rfl rfl)
theorem dX10_worthOf_37 : decode cX10_worthOf 37 = .ok (.iconst 0, 1) := dk_3 (dk_at dksX10_worthOf_1 13 rfl rfl)
theorem dX10_worthOf_38 : decode cX10_worthOf 38 = .ok (.goto 13, 3) := dk_167 0 13 (dk_at dksX10_worthOf_1 14 rfl rfl)
theorem dX10_worthOf_41 : decode cX10_worthOf 41 = .ok (.aload_n 0, 1) := dk_42 (dk_at dksX10_worthOf_1 17 rfl rfl)
theorem dX10_worthOf_42 : decode cX10_worthOf 42 = .ok (.aload_n 0, 1) := dk_42 (dk_at dksX10_worthOf_1 18 rfl rfl)
theorem dX10_worthOf_43 : decode cX10_worthOf 43 = .ok (.getfield 41, 3) := dk_180 0 41 (dk_at dksX10_worthOf_1 19 rfl rfl)
theorem dX10_worthOf_46 : decode cX10_worthOf 46 = .ok (.iload_n 1, 1) := dk_27 (dk_at dksX10_worthOf_1 22 rfl rfl)
theorem dX10_worthOf_47 : decode cX10_worthOf 47 = .ok (.iaload, 1) := dk_46 (dk_at dksX10_worthOf_1 23 rfl rfl)
theorem dX10_worthOf_48 : decode cX10_worthOf 48 = .ok (.invokevirtual 427, 3) := dk_182 1 171 (dk_at dksX10_worthOf_2 0 rfl rfl)
theorem dX10_worthOf_51 : decode cX10_worthOf 51 = .ok (.iadd, 1) := dk_96 (dk_at dksX10_worthOf_2 3 rfl rfl)
theorem dX10_worthOf_52 : decode cX10_worthOf 52 = .ok (.ireturn, 1) := dk_172 (dk_at dksX10_worthOf_2 4 rfl rfl)
abbrev cX10_baseOf : ByteArray := prog_36_method_54_code
def yX10_baseOf : MethodName := ⟨RX10, "baseOf", "(II)I"⟩
def dkwX10_baseOf_4 : List UInt8 := [42, 3, 182, 1, 161, 3, 17, 3, 231, 184, 1, 164, 172]
abbrev dktX10_baseOf_4 : List UInt8 := dkwX10_baseOf_4 ++ []
def dkwX10_baseOf_3 : List UInt8 := [16, 85, 46, 79, 42, 180, 0, 102, 7, 42, 180, 0, 129, 16, 70, 42, 180, 0, 35, 27, 46, 96, 46, 79]
abbrev dktX10_baseOf_3 : List UInt8 := dkwX10_baseOf_3 ++ dktX10_baseOf_4
def dkwX10_baseOf_2 : List UInt8 := [4, 42, 180, 0, 38, 27, 46, 79, 42, 180, 0, 102, 5, 29, 79, 42, 180, 0, 102, 6, 42, 180, 0, 129]
abbrev dktX10_baseOf_2 : List UInt8 := dkwX10_baseOf_2 ++ dktX10_baseOf_3
def dkwX10_baseOf_1 : List UInt8 := [164, 0, 7, 3, 167, 0, 15, 42, 180, 0, 38, 27, 46, 4, 29, 184, 1, 155, 108, 172, 42, 180, 0, 102]
abbrev dktX10_baseOf_1 : List UInt8 := dkwX10_baseOf_1 ++ dktX10_baseOf_2
def dkwX10_baseOf_0 : List UInt8 := [42, 28, 182, 1, 152, 62, 42, 180, 0, 62, 3, 46, 42, 180, 0, 59, 3, 46, 160, 0, 25, 29, 7]
abbrev dktX10_baseOf_0 : List UInt8 := dkwX10_baseOf_0 ++ dktX10_baseOf_1
theorem dksX10_baseOf_0 : cX10_baseOf.data.toList.drop 0 = dktX10_baseOf_0 := by decide +kernel
theorem dksX10_baseOf_1 : cX10_baseOf.data.toList.drop 23 = dktX10_baseOf_1 := dk_seg dksX10_baseOf_0 23 rfl rfl
theorem dksX10_baseOf_2 : cX10_baseOf.data.toList.drop 47 = dktX10_baseOf_2 := dk_seg dksX10_baseOf_1 24 rfl rfl
theorem dksX10_baseOf_3 : cX10_baseOf.data.toList.drop 71 = dktX10_baseOf_3 := dk_seg dksX10_baseOf_2 24 rfl rfl
theorem dksX10_baseOf_4 : cX10_baseOf.data.toList.drop 95 = dktX10_baseOf_4 := dk_seg dksX10_baseOf_3 24 rfl rfl
theorem dX10_baseOf_0 : decode cX10_baseOf 0 = .ok (.aload_n 0, 1) := dk_42 (dk_at dksX10_baseOf_0 0 rfl rfl)
theorem dX10_baseOf_1 : decode cX10_baseOf 1 = .ok (.iload_n 2, 1) := dk_28 (dk_at dksX10_baseOf_0 1 rfl rfl)
theorem dX10_baseOf_2 : decode cX10_baseOf 2 = .ok (.invokevirtual 408, 3) := dk_182 1 152 (dk_at dksX10_baseOf_0 2 rfl rfl)
theorem dX10_baseOf_5 : decode cX10_baseOf 5 = .ok (.istore_n 3, 1) := dk_62 (dk_at dksX10_baseOf_0 5 rfl rfl)
theorem dX10_baseOf_6 : decode cX10_baseOf 6 = .ok (.aload_n 0, 1) := dk_42 (dk_at dksX10_baseOf_0 6 rfl rfl)
theorem dX10_baseOf_7 : decode cX10_baseOf 7 = .ok (.getfield 62, 3) := dk_180 0 62 (dk_at dksX10_baseOf_0 7 rfl rfl)
theorem dX10_baseOf_10 : decode cX10_baseOf 10 = .ok (.iconst 0, 1) := dk_3 (dk_at dksX10_baseOf_0 10 rfl rfl)
theorem dX10_baseOf_11 : decode cX10_baseOf 11 = .ok (.iaload, 1) := dk_46 (dk_at dksX10_baseOf_0 11 rfl rfl)
theorem dX10_baseOf_12 : decode cX10_baseOf 12 = .ok (.aload_n 0, 1) := dk_42 (dk_at dksX10_baseOf_0 12 rfl rfl)
theorem dX10_baseOf_13 : decode cX10_baseOf 13 = .ok (.getfield 59, 3) := dk_180 0 59 (dk_at dksX10_baseOf_0 13 rfl rfl)
theorem dX10_baseOf_16 : decode cX10_baseOf 16 = .ok (.iconst 0, 1) := dk_3 (dk_at dksX10_baseOf_0 16 rfl rfl)
theorem dX10_baseOf_17 : decode cX10_baseOf 17 = .ok (.iaload, 1) := dk_46 (dk_at dksX10_baseOf_0 17 rfl rfl)
theorem dX10_baseOf_18 : decode cX10_baseOf 18 = .ok (.if_icmp .ne 25, 3) := dk_160 0 25 (dk_at dksX10_baseOf_0 18 rfl rfl)
theorem dX10_baseOf_21 : decode cX10_baseOf 21 = .ok (.iload_n 3, 1) := dk_29 (dk_at dksX10_baseOf_0 21 rfl rfl)
theorem dX10_baseOf_22 : decode cX10_baseOf 22 = .ok (.iconst 4, 1) := dk_7 (dk_at dksX10_baseOf_0 22 rfl rfl)
theorem dX10_baseOf_23 : decode cX10_baseOf 23 = .ok (.if_icmp .le 7, 3) := dk_164 0 7 (dk_at dksX10_baseOf_1 0 rfl rfl)
theorem dX10_baseOf_26 : decode cX10_baseOf 26 = .ok (.iconst 0, 1) := dk_3 (dk_at dksX10_baseOf_1 3 rfl rfl)
theorem dX10_baseOf_27 : decode cX10_baseOf 27 = .ok (.goto 15, 3) := dk_167 0 15 (dk_at dksX10_baseOf_1 4 rfl rfl)
theorem dX10_baseOf_30 : decode cX10_baseOf 30 = .ok (.aload_n 0, 1) := dk_42 (dk_at dksX10_baseOf_1 7 rfl rfl)
theorem dX10_baseOf_31 : decode cX10_baseOf 31 = .ok (.getfield 38, 3) := dk_180 0 38 (dk_at dksX10_baseOf_1 8 rfl rfl)
theorem dX10_baseOf_34 : decode cX10_baseOf 34 = .ok (.iload_n 1, 1) := dk_27 (dk_at dksX10_baseOf_1 11 rfl rfl)
theorem dX10_baseOf_35 : decode cX10_baseOf 35 = .ok (.iaload, 1) := dk_46 (dk_at dksX10_baseOf_1 12 rfl rfl)
theorem dX10_baseOf_36 : decode cX10_baseOf 36 = .ok (.iconst 1, 1) := dk_4 (dk_at dksX10_baseOf_1 13 rfl rfl)
theorem dX10_baseOf_37 : decode cX10_baseOf 37 = .ok (.iload_n 3, 1) := dk_29 (dk_at dksX10_baseOf_1 14 rfl rfl)
theorem dX10_baseOf_38 : decode cX10_baseOf 38 = .ok (.invokestatic 411, 3) := dk_184 1 155 (dk_at dksX10_baseOf_1 15 rfl rfl)
theorem dX10_baseOf_41 : decode cX10_baseOf 41 = .ok (.idiv, 1) := dk_108 (dk_at dksX10_baseOf_1 18 rfl rfl)
theorem dX10_baseOf_42 : decode cX10_baseOf 42 = .ok (.ireturn, 1) := dk_172 (dk_at dksX10_baseOf_1 19 rfl rfl)
theorem dX10_baseOf_43 : decode cX10_baseOf 43 = .ok (.aload_n 0, 1) := dk_42 (dk_at dksX10_baseOf_1 20 rfl rfl)
theorem dX10_baseOf_44 : decode cX10_baseOf 44 = .ok (.getfield 102, 3) := dk_180 0 102 (dk_at dksX10_baseOf_1 21 rfl rfl)
theorem dX10_baseOf_47 : decode cX10_baseOf 47 = .ok (.iconst 1, 1) := dk_4 (dk_at dksX10_baseOf_2 0 rfl rfl)
theorem dX10_baseOf_48 : decode cX10_baseOf 48 = .ok (.aload_n 0, 1) := dk_42 (dk_at dksX10_baseOf_2 1 rfl rfl)
theorem dX10_baseOf_49 : decode cX10_baseOf 49 = .ok (.getfield 38, 3) := dk_180 0 38 (dk_at dksX10_baseOf_2 2 rfl rfl)
theorem dX10_baseOf_52 : decode cX10_baseOf 52 = .ok (.iload_n 1, 1) := dk_27 (dk_at dksX10_baseOf_2 5 rfl rfl)
theorem dX10_baseOf_53 : decode cX10_baseOf 53 = .ok (.iaload, 1) := dk_46 (dk_at dksX10_baseOf_2 6 rfl rfl)
theorem dX10_baseOf_54 : decode cX10_baseOf 54 = .ok (.iastore, 1) := dk_79 (dk_at dksX10_baseOf_2 7 rfl rfl)
theorem dX10_baseOf_55 : decode cX10_baseOf 55 = .ok (.aload_n 0, 1) := dk_42 (dk_at dksX10_baseOf_2 8 rfl rfl)
theorem dX10_baseOf_56 : decode cX10_baseOf 56 = .ok (.getfield 102, 3) := dk_180 0 102 (dk_at dksX10_baseOf_2 9 rfl rfl)
theorem dX10_baseOf_59 : decode cX10_baseOf 59 = .ok (.iconst 2, 1) := dk_5 (dk_at dksX10_baseOf_2 12 rfl rfl)
theorem dX10_baseOf_60 : decode cX10_baseOf 60 = .ok (.iload_n 3, 1) := dk_29 (dk_at dksX10_baseOf_2 13 rfl rfl)
theorem dX10_baseOf_61 : decode cX10_baseOf 61 = .ok (.iastore, 1) := dk_79 (dk_at dksX10_baseOf_2 14 rfl rfl)
theorem dX10_baseOf_62 : decode cX10_baseOf 62 = .ok (.aload_n 0, 1) := dk_42 (dk_at dksX10_baseOf_2 15 rfl rfl)
theorem dX10_baseOf_63 : decode cX10_baseOf 63 = .ok (.getfield 102, 3) := dk_180 0 102 (dk_at dksX10_baseOf_2 16 rfl rfl)
theorem dX10_baseOf_66 : decode cX10_baseOf 66 = .ok (.iconst 3, 1) := dk_6 (dk_at dksX10_baseOf_2 19 rfl rfl)
theorem dX10_baseOf_67 : decode cX10_baseOf 67 = .ok (.aload_n 0, 1) := dk_42 (dk_at dksX10_baseOf_2 20 rfl rfl)
theorem dX10_baseOf_68 : decode cX10_baseOf 68 = .ok (.getfield 129, 3) := dk_180 0 129 (dk_at dksX10_baseOf_2 21 rfl rfl)
theorem dX10_baseOf_71 : decode cX10_baseOf 71 = .ok (.bipush 85, 2) := dk_16 85 (dk_at dksX10_baseOf_3 0 rfl rfl)
theorem dX10_baseOf_73 : decode cX10_baseOf 73 = .ok (.iaload, 1) := dk_46 (dk_at dksX10_baseOf_3 2 rfl rfl)
theorem dX10_baseOf_74 : decode cX10_baseOf 74 = .ok (.iastore, 1) := dk_79 (dk_at dksX10_baseOf_3 3 rfl rfl)
theorem dX10_baseOf_75 : decode cX10_baseOf 75 = .ok (.aload_n 0, 1) := dk_42 (dk_at dksX10_baseOf_3 4 rfl rfl)
theorem dX10_baseOf_76 : decode cX10_baseOf 76 = .ok (.getfield 102, 3) := dk_180 0 102 (dk_at dksX10_baseOf_3 5 rfl rfl)
theorem dX10_baseOf_79 : decode cX10_baseOf 79 = .ok (.iconst 4, 1) := dk_7 (dk_at dksX10_baseOf_3 8 rfl rfl)
theorem dX10_baseOf_80 : decode cX10_baseOf 80 = .ok (.aload_n 0, 1) := dk_42 (dk_at dksX10_baseOf_3 9 rfl rfl)
theorem dX10_baseOf_81 : decode cX10_baseOf 81 = .ok (.getfield 129, 3) := dk_180 0 129 (dk_at dksX10_baseOf_3 10 rfl rfl)
theorem dX10_baseOf_84 : decode cX10_baseOf 84 = .ok (.bipush 70, 2) := dk_16 70 (dk_at dksX10_baseOf_3 13 rfl rfl)
theorem dX10_baseOf_86 : decode cX10_baseOf 86 = .ok (.aload_n 0, 1) := dk_42 (dk_at dksX10_baseOf_3 15 rfl rfl)
theorem dX10_baseOf_87 : decode cX10_baseOf 87 = .ok (.getfield 35, 3) := dk_180 0 35 (dk_at dksX10_baseOf_3 16 rfl rfl)
theorem dX10_baseOf_90 : decode cX10_baseOf 90 = .ok (.iload_n 1, 1) := dk_27 (dk_at dksX10_baseOf_3 19 rfl rfl)
theorem dX10_baseOf_91 : decode cX10_baseOf 91 = .ok (.iaload, 1) := dk_46 (dk_at dksX10_baseOf_3 20 rfl rfl)
theorem dX10_baseOf_92 : decode cX10_baseOf 92 = .ok (.iadd, 1) := dk_96 (dk_at dksX10_baseOf_3 21 rfl rfl)
theorem dX10_baseOf_93 : decode cX10_baseOf 93 = .ok (.iaload, 1) := dk_46 (dk_at dksX10_baseOf_3 22 rfl rfl)
theorem dX10_baseOf_94 : decode cX10_baseOf 94 = .ok (.iastore, 1) := dk_79 (dk_at dksX10_baseOf_3 23 rfl rfl)
theorem dX10_baseOf_95 : decode cX10_baseOf 95 = .ok (.aload_n 0, 1) := dk_42 (dk_at dksX10_baseOf_4 0 rfl rfl)
theorem dX10_baseOf_96 : decode cX10_baseOf 96 = .ok (.iconst 0, 1) := dk_3 (dk_at dksX10_baseOf_4 1 rfl rfl)
theorem dX10_baseOf_97 : decode cX10_baseOf 97 = .ok (.invokevirtual 417, 3) := dk_182 1 161 (dk_at dksX10_baseOf_4 2 rfl rfl)
theorem dX10_baseOf_100 : decode cX10_baseOf 100 = .ok (.iconst 0, 1) := dk_3 (dk_at dksX10_baseOf_4 5 rfl rfl)
theorem dX10_baseOf_101 : decode cX10_baseOf 101 = .ok (.sipush 999, 3) := dk_17 3 231 (dk_at dksX10_baseOf_4 6 rfl rfl)
theorem dX10_baseOf_104 : decode cX10_baseOf 104 = .ok (.invokestatic 420, 3) := dk_184 1 164 (dk_at dksX10_baseOf_4 9 rfl rfl)
theorem dX10_baseOf_107 : decode cX10_baseOf 107 = .ok (.ireturn, 1) := dk_172 (dk_at dksX10_baseOf_4 12 rfl rfl)
abbrev cX10_knowersOf : ByteArray := prog_36_method_53_code
def yX10_knowersOf : MethodName := ⟨RX10, "knowersOf", "(I)I"⟩
def dkwX10_knowersOf_2 : List UInt8 := [172]
abbrev dktX10_knowersOf_2 : List UInt8 := dkwX10_knowersOf_2 ++ []
def dkwX10_knowersOf_1 : List UInt8 := [42, 180, 0, 23, 29, 46, 6, 159, 0, 7, 4, 167, 0, 4, 3, 96, 61, 132, 3, 1, 167, 255, 216, 28]
abbrev dktX10_knowersOf_1 : List UInt8 := dkwX10_knowersOf_1 ++ dktX10_knowersOf_2
def dkwX10_knowersOf_0 : List UInt8 := [3, 61, 3, 62, 29, 42, 180, 0, 13, 3, 46, 162, 0, 36, 28, 27, 29, 122, 4, 126, 4, 160, 0, 17]
abbrev dktX10_knowersOf_0 : List UInt8 := dkwX10_knowersOf_0 ++ dktX10_knowersOf_1
theorem dksX10_knowersOf_0 : cX10_knowersOf.data.toList.drop 0 = dktX10_knowersOf_0 := by decide +kernel
theorem dksX10_knowersOf_1 : cX10_knowersOf.data.toList.drop 24 = dktX10_knowersOf_1 := dk_seg dksX10_knowersOf_0 24 rfl rfl
theorem dksX10_knowersOf_2 : cX10_knowersOf.data.toList.drop 48 = dktX10_knowersOf_2 := dk_seg dksX10_knowersOf_1 24 rfl rfl
theorem dX10_knowersOf_0 : decode cX10_knowersOf 0 = .ok (.iconst 0, 1) := dk_3 (dk_at dksX10_knowersOf_0 0 rfl rfl)
theorem dX10_knowersOf_1 : decode cX10_knowersOf 1 = .ok (.istore_n 2, 1) := dk_61 (dk_at dksX10_knowersOf_0 1 rfl rfl)
theorem dX10_knowersOf_2 : decode cX10_knowersOf 2 = .ok (.iconst 0, 1) := dk_3 (dk_at dksX10_knowersOf_0 2 rfl rfl)
theorem dX10_knowersOf_3 : decode cX10_knowersOf 3 = .ok (.istore_n 3, 1) := dk_62 (dk_at dksX10_knowersOf_0 3 rfl rfl)
theorem dX10_knowersOf_4 : decode cX10_knowersOf 4 = .ok (.iload_n 3, 1) := dk_29 (dk_at dksX10_knowersOf_0 4 rfl rfl)
theorem dX10_knowersOf_5 : decode cX10_knowersOf 5 = .ok (.aload_n 0, 1) := dk_42 (dk_at dksX10_knowersOf_0 5 rfl rfl)
theorem dX10_knowersOf_6 : decode cX10_knowersOf 6 = .ok (.getfield 13, 3) := dk_180 0 13 (dk_at dksX10_knowersOf_0 6 rfl rfl)
theorem dX10_knowersOf_9 : decode cX10_knowersOf 9 = .ok (.iconst 0, 1) := dk_3 (dk_at dksX10_knowersOf_0 9 rfl rfl)
theorem dX10_knowersOf_10 : decode cX10_knowersOf 10 = .ok (.iaload, 1) := dk_46 (dk_at dksX10_knowersOf_0 10 rfl rfl)
theorem dX10_knowersOf_11 : decode cX10_knowersOf 11 = .ok (.if_icmp .ge 36, 3) := dk_162 0 36 (dk_at dksX10_knowersOf_0 11 rfl rfl)
theorem dX10_knowersOf_14 : decode cX10_knowersOf 14 = .ok (.iload_n 2, 1) := dk_28 (dk_at dksX10_knowersOf_0 14 rfl rfl)
theorem dX10_knowersOf_15 : decode cX10_knowersOf 15 = .ok (.iload_n 1, 1) := dk_27 (dk_at dksX10_knowersOf_0 15 rfl rfl)
theorem dX10_knowersOf_16 : decode cX10_knowersOf 16 = .ok (.iload_n 3, 1) := dk_29 (dk_at dksX10_knowersOf_0 16 rfl rfl)
theorem dX10_knowersOf_17 : decode cX10_knowersOf 17 = .ok (.ishr, 1) := dk_122 (dk_at dksX10_knowersOf_0 17 rfl rfl)
theorem dX10_knowersOf_18 : decode cX10_knowersOf 18 = .ok (.iconst 1, 1) := dk_4 (dk_at dksX10_knowersOf_0 18 rfl rfl)
theorem dX10_knowersOf_19 : decode cX10_knowersOf 19 = .ok (.iand, 1) := dk_126 (dk_at dksX10_knowersOf_0 19 rfl rfl)
theorem dX10_knowersOf_20 : decode cX10_knowersOf 20 = .ok (.iconst 1, 1) := dk_4 (dk_at dksX10_knowersOf_0 20 rfl rfl)
theorem dX10_knowersOf_21 : decode cX10_knowersOf 21 = .ok (.if_icmp .ne 17, 3) := dk_160 0 17 (dk_at dksX10_knowersOf_0 21 rfl rfl)
theorem dX10_knowersOf_24 : decode cX10_knowersOf 24 = .ok (.aload_n 0, 1) := dk_42 (dk_at dksX10_knowersOf_1 0 rfl rfl)
theorem dX10_knowersOf_25 : decode cX10_knowersOf 25 = .ok (.getfield 23, 3) := dk_180 0 23 (dk_at dksX10_knowersOf_1 1 rfl rfl)
theorem dX10_knowersOf_28 : decode cX10_knowersOf 28 = .ok (.iload_n 3, 1) := dk_29 (dk_at dksX10_knowersOf_1 4 rfl rfl)
theorem dX10_knowersOf_29 : decode cX10_knowersOf 29 = .ok (.iaload, 1) := dk_46 (dk_at dksX10_knowersOf_1 5 rfl rfl)
theorem dX10_knowersOf_30 : decode cX10_knowersOf 30 = .ok (.iconst 3, 1) := dk_6 (dk_at dksX10_knowersOf_1 6 rfl rfl)
theorem dX10_knowersOf_31 : decode cX10_knowersOf 31 = .ok (.if_icmp .eq 7, 3) := dk_159 0 7 (dk_at dksX10_knowersOf_1 7 rfl rfl)
theorem dX10_knowersOf_34 : decode cX10_knowersOf 34 = .ok (.iconst 1, 1) := dk_4 (dk_at dksX10_knowersOf_1 10 rfl rfl)
theorem dX10_knowersOf_35 : decode cX10_knowersOf 35 = .ok (.goto 4, 3) := dk_167 0 4 (dk_at dksX10_knowersOf_1 11 rfl rfl)
theorem dX10_knowersOf_38 : decode cX10_knowersOf 38 = .ok (.iconst 0, 1) := dk_3 (dk_at dksX10_knowersOf_1 14 rfl rfl)
theorem dX10_knowersOf_39 : decode cX10_knowersOf 39 = .ok (.iadd, 1) := dk_96 (dk_at dksX10_knowersOf_1 15 rfl rfl)
theorem dX10_knowersOf_40 : decode cX10_knowersOf 40 = .ok (.istore_n 2, 1) := dk_61 (dk_at dksX10_knowersOf_1 16 rfl rfl)
theorem dX10_knowersOf_41 : decode cX10_knowersOf 41 = .ok (.iinc 3 1, 3) := dk_132 3 1 (dk_at dksX10_knowersOf_1 17 rfl rfl)
theorem dX10_knowersOf_44 : decode cX10_knowersOf 44 = .ok (.goto (-40), 3) := dk_167 255 216 (dk_at dksX10_knowersOf_1 20 rfl rfl)
theorem dX10_knowersOf_47 : decode cX10_knowersOf 47 = .ok (.iload_n 2, 1) := dk_28 (dk_at dksX10_knowersOf_1 23 rfl rfl)
theorem dX10_knowersOf_48 : decode cX10_knowersOf 48 = .ok (.ireturn, 1) := dk_172 (dk_at dksX10_knowersOf_2 0 rfl rfl)
abbrev cX10_worked : ByteArray := prog_36_method_18_code
def yX10_worked : MethodName := ⟨RX10, "worked", "(I)I"⟩
def dkwX10_worked_14 : List UInt8 := [21, 5, 104, 79, 132, 3, 1, 167, 254, 194, 42, 3, 182, 1, 3, 42, 180, 0, 75, 3, 46, 172]
abbrev dktX10_worked_14 : List UInt8 := dkwX10_worked_14 ++ []
def dkwX10_worked_13 : List UInt8 := [180, 0, 93, 28, 42, 180, 0, 96, 28, 46, 154, 0, 8, 21, 5, 167, 0, 12, 42, 180, 0, 93, 28, 46]
abbrev dktX10_worked_13 : List UInt8 := dkwX10_worked_13 ++ dktX10_worked_14
def dkwX10_worked_12 : List UInt8 := [46, 4, 160, 0, 21, 21, 5, 154, 0, 7, 4, 167, 0, 4, 3, 54, 5, 132, 2, 255, 167, 255, 227, 42]
abbrev dktX10_worked_12 : List UInt8 := dkwX10_worked_12 ++ dktX10_worked_13
def dkwX10_worked_11 : List UInt8 := [28, 182, 1, 3, 42, 180, 0, 75, 28, 46, 54, 5, 132, 2, 255, 28, 158, 0, 31, 42, 180, 0, 99, 28]
abbrev dktX10_worked_11 : List UInt8 := dkwX10_worked_11 ++ dktX10_worked_12
def dkwX10_worked_10 : List UInt8 := [162, 0, 13, 42, 180, 0, 102, 21, 4, 46, 167, 0, 4, 3, 54, 5, 21, 4, 16, 29, 160, 0, 19, 42]
abbrev dktX10_worked_10 : List UInt8 := dkwX10_worked_10 ++ dktX10_worked_11
def dkwX10_worked_9 : List UInt8 := [167, 0, 122, 21, 4, 16, 100, 161, 0, 11, 21, 4, 16, 100, 100, 167, 0, 21, 21, 4, 16, 20]
abbrev dktX10_worked_9 : List UInt8 := dkwX10_worked_9 ++ dktX10_worked_10
def dkwX10_worked_8 : List UInt8 := [159, 0, 10, 21, 4, 16, 27, 160, 0, 19, 42, 28, 182, 1, 3, 42, 180, 0, 78, 28, 21, 4, 79]
abbrev dktX10_worked_8 : List UInt8 := dkwX10_worked_8 ++ dktX10_worked_9
def dkwX10_worked_7 : List UInt8 := [79, 42, 180, 0, 87, 28, 3, 79, 42, 180, 0, 90, 28, 16, 20, 79, 167, 0, 152, 21, 4, 16, 26]
abbrev dktX10_worked_7 : List UInt8 := dkwX10_worked_7 ++ dktX10_worked_8
def dkwX10_worked_6 : List UInt8 := [42, 28, 182, 0, 253, 42, 180, 0, 81, 28, 42, 180, 0, 87, 28, 46, 79, 42, 180, 0, 84, 28, 21, 4]
abbrev dktX10_worked_6 : List UInt8 := dkwX10_worked_6 ++ dktX10_worked_7
def dkwX10_worked_5 : List UInt8 := [180, 0, 96, 28, 21, 4, 79, 167, 0, 209, 21, 4, 16, 24, 159, 0, 10, 21, 4, 16, 25, 160, 0, 46]
abbrev dktX10_worked_5 : List UInt8 := dkwX10_worked_5 ++ dktX10_worked_6
def dkwX10_worked_4 : List UInt8 := [182, 0, 253, 42, 180, 0, 90, 28, 21, 4, 79, 167, 0, 227, 21, 4, 16, 22, 160, 0, 14, 42]
abbrev dktX10_worked_4 : List UInt8 := dkwX10_worked_4 ++ dktX10_worked_5
def dkwX10_worked_3 : List UInt8 := [182, 1, 0, 167, 1, 1, 21, 4, 16, 20, 159, 0, 10, 21, 4, 16, 21, 160, 0, 19, 42, 28]
abbrev dktX10_worked_3 : List UInt8 := dkwX10_worked_3 ++ dktX10_worked_4
def dkwX10_worked_2 : List UInt8 := [132, 2, 1, 42, 180, 0, 99, 28, 21, 4, 16, 30, 160, 0, 7, 4, 167, 0, 4, 3, 79, 42, 28]
abbrev dktX10_worked_2 : List UInt8 := dkwX10_worked_2 ++ dktX10_worked_3
def dkwX10_worked_1 : List UInt8 := [42, 180, 0, 65, 29, 46, 54, 4, 21, 4, 16, 28, 159, 0, 10, 21, 4, 16, 30, 160, 0, 32]
abbrev dktX10_worked_1 : List UInt8 := dkwX10_worked_1 ++ dktX10_worked_2
def dkwX10_worked_0 : List UInt8 := [3, 61, 42, 3, 182, 1, 0, 42, 180, 0, 59, 27, 46, 62, 29, 42, 180, 0, 62, 27, 46, 162, 1, 58]
abbrev dktX10_worked_0 : List UInt8 := dkwX10_worked_0 ++ dktX10_worked_1
theorem dksX10_worked_0 : cX10_worked.data.toList.drop 0 = dktX10_worked_0 := by decide +kernel
theorem dksX10_worked_1 : cX10_worked.data.toList.drop 24 = dktX10_worked_1 := dk_seg dksX10_worked_0 24 rfl rfl
theorem dksX10_worked_2 : cX10_worked.data.toList.drop 46 = dktX10_worked_2 := dk_seg dksX10_worked_1 22 rfl rfl
theorem dksX10_worked_3 : cX10_worked.data.toList.drop 69 = dktX10_worked_3 := dk_seg dksX10_worked_2 23 rfl rfl
theorem dksX10_worked_4 : cX10_worked.data.toList.drop 91 = dktX10_worked_4 := dk_seg dksX10_worked_3 22 rfl rfl
theorem dksX10_worked_5 : cX10_worked.data.toList.drop 113 = dktX10_worked_5 := dk_seg dksX10_worked_4 22 rfl rfl
theorem dksX10_worked_6 : cX10_worked.data.toList.drop 137 = dktX10_worked_6 := dk_seg dksX10_worked_5 24 rfl rfl
theorem dksX10_worked_7 : cX10_worked.data.toList.drop 161 = dktX10_worked_7 := dk_seg dksX10_worked_6 24 rfl rfl
theorem dksX10_worked_8 : cX10_worked.data.toList.drop 184 = dktX10_worked_8 := dk_seg dksX10_worked_7 23 rfl rfl
theorem dksX10_worked_9 : cX10_worked.data.toList.drop 207 = dktX10_worked_9 := dk_seg dksX10_worked_8 23 rfl rfl
theorem dksX10_worked_10 : cX10_worked.data.toList.drop 229 = dktX10_worked_10 := dk_seg dksX10_worked_9 22 rfl rfl
theorem dksX10_worked_11 : cX10_worked.data.toList.drop 253 = dktX10_worked_11 := dk_seg dksX10_worked_10 24 rfl rfl
theorem dksX10_worked_12 : cX10_worked.data.toList.drop 277 = dktX10_worked_12 := dk_seg dksX10_worked_11 24 rfl rfl
theorem dksX10_worked_13 : cX10_worked.data.toList.drop 301 = dktX10_worked_13 := dk_seg dksX10_worked_12 24 rfl rfl
theorem dksX10_worked_14 : cX10_worked.data.toList.drop 325 = dktX10_worked_14 := dk_seg dksX10_worked_13 24 rfl rfl
theorem dX10_worked_0 : decode cX10_worked 0 = .ok (.iconst 0, 1) := dk_3 (dk_at dksX10_worked_0 0 rfl rfl)
theorem dX10_worked_1 : decode cX10_worked 1 = .ok (.istore_n 2, 1) := dk_61 (dk_at dksX10_worked_0 1 rfl rfl)
theorem dX10_worked_2 : decode cX10_worked 2 = .ok (.aload_n 0, 1) := dk_42 (dk_at dksX10_worked_0 2 rfl rfl)
theorem dX10_worked_3 : decode cX10_worked 3 = .ok (.iconst 0, 1) := dk_3 (dk_at dksX10_worked_0 3 rfl rfl)
theorem dX10_worked_4 : decode cX10_worked 4 = .ok (.invokevirtual 256, 3) := dk_182 1 0 (dk_at dksX10_worked_0 4 rfl rfl)
theorem dX10_worked_7 : decode cX10_worked 7 = .ok (.aload_n 0, 1) := dk_42 (dk_at dksX10_worked_0 7 rfl rfl)
theorem dX10_worked_8 : decode cX10_worked 8 = .ok (.getfield 59, 3) := dk_180 0 59 (dk_at dksX10_worked_0 8 rfl rfl)
theorem dX10_worked_11 : decode cX10_worked 11 = .ok (.iload_n 1, 1) := dk_27 (dk_at dksX10_worked_0 11 rfl rfl)
theorem dX10_worked_12 : decode cX10_worked 12 = .ok (.iaload, 1) := dk_46 (dk_at dksX10_worked_0 12 rfl rfl)
theorem dX10_worked_13 : decode cX10_worked 13 = .ok (.istore_n 3, 1) := dk_62 (dk_at dksX10_worked_0 13 rfl rfl)
theorem dX10_worked_14 : decode cX10_worked 14 = .ok (.iload_n 3, 1) := dk_29 (dk_at dksX10_worked_0 14 rfl rfl)
theorem dX10_worked_15 : decode cX10_worked 15 = .ok (.aload_n 0, 1) := dk_42 (dk_at dksX10_worked_0 15 rfl rfl)
theorem dX10_worked_16 : decode cX10_worked 16 = .ok (.getfield 62, 3) := dk_180 0 62 (dk_at dksX10_worked_0 16 rfl rfl)
theorem dX10_worked_19 : decode cX10_worked 19 = .ok (.iload_n 1, 1) := dk_27 (dk_at dksX10_worked_0 19 rfl rfl)
theorem dX10_worked_20 : decode cX10_worked 20 = .ok (.iaload, 1) := dk_46 (dk_at dksX10_worked_0 20 rfl rfl)
theorem dX10_worked_21 : decode cX10_worked 21 = .ok (.if_icmp .ge 314, 3) := dk_162 1 58 (dk_at dksX10_worked_0 21 rfl rfl)
theorem dX10_worked_24 : decode cX10_worked 24 = .ok (.aload_n 0, 1) := dk_42 (dk_at dksX10_worked_1 0 rfl rfl)
theorem dX10_worked_25 : decode cX10_worked 25 = .ok (.getfield 65, 3) := dk_180 0 65 (dk_at dksX10_worked_1 1 rfl rfl)
theorem dX10_worked_28 : decode cX10_worked 28 = .ok (.iload_n 3, 1) := dk_29 (dk_at dksX10_worked_1 4 rfl rfl)
theorem dX10_worked_29 : decode cX10_worked 29 = .ok (.iaload, 1) := dk_46 (dk_at dksX10_worked_1 5 rfl rfl)
theorem dX10_worked_30 : decode cX10_worked 30 = .ok (.istore 4, 2) := dk_54 4 (dk_at dksX10_worked_1 6 rfl rfl)
theorem dX10_worked_32 : decode cX10_worked 32 = .ok (.iload 4, 2) := dk_21 4 (dk_at dksX10_worked_1 8 rfl rfl)
theorem dX10_worked_34 : decode cX10_worked 34 = .ok (.bipush 28, 2) := dk_16 28 (dk_at dksX10_worked_1 10 rfl rfl)
theorem dX10_worked_36 : decode cX10_worked 36 = .ok (.if_icmp .eq 10, 3) := dk_159 0 10 (dk_at dksX10_worked_1 12 rfl rfl)
theorem dX10_worked_39 : decode cX10_worked 39 = .ok (.iload 4, 2) := dk_21 4 (dk_at dksX10_worked_1 15 rfl rfl)
theorem dX10_worked_41 : decode cX10_worked 41 = .ok (.bipush 30, 2) := dk_16 30 (dk_at dksX10_worked_1 17 rfl rfl)
theorem dX10_worked_43 : decode cX10_worked 43 = .ok (.if_icmp .ne 32, 3) := dk_160 0 32 (dk_at dksX10_worked_1 19 rfl rfl)
theorem dX10_worked_46 : decode cX10_worked 46 = .ok (.iinc 2 1, 3) := dk_132 2 1 (dk_at dksX10_worked_2 0 rfl rfl)
theorem dX10_worked_49 : decode cX10_worked 49 = .ok (.aload_n 0, 1) := dk_42 (dk_at dksX10_worked_2 3 rfl rfl)
theorem dX10_worked_50 : decode cX10_worked 50 = .ok (.getfield 99, 3) := dk_180 0 99 (dk_at dksX10_worked_2 4 rfl rfl)
theorem dX10_worked_53 : decode cX10_worked 53 = .ok (.iload_n 2, 1) := dk_28 (dk_at dksX10_worked_2 7 rfl rfl)
theorem dX10_worked_54 : decode cX10_worked 54 = .ok (.iload 4, 2) := dk_21 4 (dk_at dksX10_worked_2 8 rfl rfl)
theorem dX10_worked_56 : decode cX10_worked 56 = .ok (.bipush 30, 2) := dk_16 30 (dk_at dksX10_worked_2 10 rfl rfl)
theorem dX10_worked_58 : decode cX10_worked 58 = .ok (.if_icmp .ne 7, 3) := dk_160 0 7 (dk_at dksX10_worked_2 12 rfl rfl)
theorem dX10_worked_61 : decode cX10_worked 61 = .ok (.iconst 1, 1) := dk_4 (dk_at dksX10_worked_2 15 rfl rfl)
theorem dX10_worked_62 : decode cX10_worked 62 = .ok (.goto 4, 3) := dk_167 0 4 (dk_at dksX10_worked_2 16 rfl rfl)
theorem dX10_worked_65 : decode cX10_worked 65 = .ok (.iconst 0, 1) := dk_3 (dk_at dksX10_worked_2 19 rfl rfl)
theorem dX10_worked_66 : decode cX10_worked 66 = .ok (.iastore, 1) := dk_79 (dk_at dksX10_worked_2 20 rfl rfl)
theorem dX10_worked_67 : decode cX10_worked 67 = .ok (.aload_n 0, 1) := dk_42 (dk_at dksX10_worked_2 21 rfl rfl)
theorem dX10_worked_68 : decode cX10_worked 68 = .ok (.iload_n 2, 1) := dk_28 (dk_at dksX10_worked_2 22 rfl rfl)
theorem dX10_worked_69 : decode cX10_worked 69 = .ok (.invokevirtual 256, 3) := dk_182 1 0 (dk_at dksX10_worked_3 0 rfl rfl)
theorem dX10_worked_72 : decode cX10_worked 72 = .ok (.goto 257, 3) := dk_167 1 1 (dk_at dksX10_worked_3 3 rfl rfl)
theorem dX10_worked_75 : decode cX10_worked 75 = .ok (.iload 4, 2) := dk_21 4 (dk_at dksX10_worked_3 6 rfl rfl)
theorem dX10_worked_77 : decode cX10_worked 77 = .ok (.bipush 20, 2) := dk_16 20 (dk_at dksX10_worked_3 8 rfl rfl)
theorem dX10_worked_79 : decode cX10_worked 79 = .ok (.if_icmp .eq 10, 3) := dk_159 0 10 (dk_at dksX10_worked_3 10 rfl rfl)
theorem dX10_worked_82 : decode cX10_worked 82 = .ok (.iload 4, 2) := dk_21 4 (dk_at dksX10_worked_3 13 rfl rfl)
theorem dX10_worked_84 : decode cX10_worked 84 = .ok (.bipush 21, 2) := dk_16 21 (dk_at dksX10_worked_3 15 rfl rfl)
theorem dX10_worked_86 : decode cX10_worked 86 = .ok (.if_icmp .ne 19, 3) := dk_160 0 19 (dk_at dksX10_worked_3 17 rfl rfl)
theorem dX10_worked_89 : decode cX10_worked 89 = .ok (.aload_n 0, 1) := dk_42 (dk_at dksX10_worked_3 20 rfl rfl)
theorem dX10_worked_90 : decode cX10_worked 90 = .ok (.iload_n 2, 1) := dk_28 (dk_at dksX10_worked_3 21 rfl rfl)
theorem dX10_worked_91 : decode cX10_worked 91 = .ok (.invokevirtual 253, 3) := dk_182 0 253 (dk_at dksX10_worked_4 0 rfl rfl)
theorem dX10_worked_94 : decode cX10_worked 94 = .ok (.aload_n 0, 1) := dk_42 (dk_at dksX10_worked_4 3 rfl rfl)
theorem dX10_worked_95 : decode cX10_worked 95 = .ok (.getfield 90, 3) := dk_180 0 90 (dk_at dksX10_worked_4 4 rfl rfl)
theorem dX10_worked_98 : decode cX10_worked 98 = .ok (.iload_n 2, 1) := dk_28 (dk_at dksX10_worked_4 7 rfl rfl)
theorem dX10_worked_99 : decode cX10_worked 99 = .ok (.iload 4, 2) := dk_21 4 (dk_at dksX10_worked_4 8 rfl rfl)
theorem dX10_worked_101 : decode cX10_worked 101 = .ok (.iastore, 1) := dk_79 (dk_at dksX10_worked_4 10 rfl rfl)
theorem dX10_worked_102 : decode cX10_worked 102 = .ok (.goto 227, 3) := dk_167 0 227 (dk_at dksX10_worked_4 11 rfl rfl)
theorem dX10_worked_105 : decode cX10_worked 105 = .ok (.iload 4, 2) := dk_21 4 (dk_at dksX10_worked_4 14 rfl rfl)
theorem dX10_worked_107 : decode cX10_worked 107 = .ok (.bipush 22, 2) := dk_16 22 (dk_at dksX10_worked_4 16 rfl rfl)
theorem dX10_worked_109 : decode cX10_worked 109 = .ok (.if_icmp .ne 14, 3) := dk_160 0 14 (dk_at dksX10_worked_4 18 rfl rfl)
theorem dX10_worked_112 : decode cX10_worked 112 = .ok (.aload_n 0, 1) := dk_42 (dk_at dksX10_worked_4 21 rfl rfl)
theorem dX10_worked_113 : decode cX10_worked 113 = .ok (.getfield 96, 3) := dk_180 0 96 (dk_at dksX10_worked_5 0 rfl rfl)
theorem dX10_worked_116 : decode cX10_worked 116 = .ok (.iload_n 2, 1) := dk_28 (dk_at dksX10_worked_5 3 rfl rfl)
theorem dX10_worked_117 : decode cX10_worked 117 = .ok (.iload 4, 2) := dk_21 4 (dk_at dksX10_worked_5 4 rfl rfl)
theorem dX10_worked_119 : decode cX10_worked 119 = .ok (.iastore, 1) := dk_79 (dk_at dksX10_worked_5 6 rfl rfl)
theorem dX10_worked_120 : decode cX10_worked 120 = .ok (.goto 209, 3) := dk_167 0 209 (dk_at dksX10_worked_5 7 rfl rfl)
theorem dX10_worked_123 : decode cX10_worked 123 = .ok (.iload 4, 2) := dk_21 4 (dk_at dksX10_worked_5 10 rfl rfl)
theorem dX10_worked_125 : decode cX10_worked 125 = .ok (.bipush 24, 2) := dk_16 24 (dk_at dksX10_worked_5 12 rfl rfl)
theorem dX10_worked_127 : decode cX10_worked 127 = .ok (.if_icmp .eq 10, 3) := dk_159 0 10 (dk_at dksX10_worked_5 14 rfl rfl)
theorem dX10_worked_130 : decode cX10_worked 130 = .ok (.iload 4, 2) := dk_21 4 (dk_at dksX10_worked_5 17 rfl rfl)
theorem dX10_worked_132 : decode cX10_worked 132 = .ok (.bipush 25, 2) := dk_16 25 (dk_at dksX10_worked_5 19 rfl rfl)
theorem dX10_worked_134 : decode cX10_worked 134 = .ok (.if_icmp .ne 46, 3) := dk_160 0 46 (dk_at dksX10_worked_5 21 rfl rfl)
theorem dX10_worked_137 : decode cX10_worked 137 = .ok (.aload_n 0, 1) := dk_42 (dk_at dksX10_worked_6 0 rfl rfl)
theorem dX10_worked_138 : decode cX10_worked 138 = .ok (.iload_n 2, 1) := dk_28 (dk_at dksX10_worked_6 1 rfl rfl)
theorem dX10_worked_139 : decode cX10_worked 139 = .ok (.invokevirtual 253, 3) := dk_182 0 253 (dk_at dksX10_worked_6 2 rfl rfl)
theorem dX10_worked_142 : decode cX10_worked 142 = .ok (.aload_n 0, 1) := dk_42 (dk_at dksX10_worked_6 5 rfl rfl)
theorem dX10_worked_143 : decode cX10_worked 143 = .ok (.getfield 81, 3) := dk_180 0 81 (dk_at dksX10_worked_6 6 rfl rfl)
theorem dX10_worked_146 : decode cX10_worked 146 = .ok (.iload_n 2, 1) := dk_28 (dk_at dksX10_worked_6 9 rfl rfl)
theorem dX10_worked_147 : decode cX10_worked 147 = .ok (.aload_n 0, 1) := dk_42 (dk_at dksX10_worked_6 10 rfl rfl)
theorem dX10_worked_148 : decode cX10_worked 148 = .ok (.getfield 87, 3) := dk_180 0 87 (dk_at dksX10_worked_6 11 rfl rfl)
theorem dX10_worked_151 : decode cX10_worked 151 = .ok (.iload_n 2, 1) := dk_28 (dk_at dksX10_worked_6 14 rfl rfl)
theorem dX10_worked_152 : decode cX10_worked 152 = .ok (.iaload, 1) := dk_46 (dk_at dksX10_worked_6 15 rfl rfl)
theorem dX10_worked_153 : decode cX10_worked 153 = .ok (.iastore, 1) := dk_79 (dk_at dksX10_worked_6 16 rfl rfl)
theorem dX10_worked_154 : decode cX10_worked 154 = .ok (.aload_n 0, 1) := dk_42 (dk_at dksX10_worked_6 17 rfl rfl)
theorem dX10_worked_155 : decode cX10_worked 155 = .ok (.getfield 84, 3) := dk_180 0 84 (dk_at dksX10_worked_6 18 rfl rfl)
theorem dX10_worked_158 : decode cX10_worked 158 = .ok (.iload_n 2, 1) := dk_28 (dk_at dksX10_worked_6 21 rfl rfl)
theorem dX10_worked_159 : decode cX10_worked 159 = .ok (.iload 4, 2) := dk_21 4 (dk_at dksX10_worked_6 22 rfl rfl)
theorem dX10_worked_161 : decode cX10_worked 161 = .ok (.iastore, 1) := dk_79 (dk_at dksX10_worked_7 0 rfl rfl)
theorem dX10_worked_162 : decode cX10_worked 162 = .ok (.aload_n 0, 1) := dk_42 (dk_at dksX10_worked_7 1 rfl rfl)
theorem dX10_worked_163 : decode cX10_worked 163 = .ok (.getfield 87, 3) := dk_180 0 87 (dk_at dksX10_worked_7 2 rfl rfl)
theorem dX10_worked_166 : decode cX10_worked 166 = .ok (.iload_n 2, 1) := dk_28 (dk_at dksX10_worked_7 5 rfl rfl)
theorem dX10_worked_167 : decode cX10_worked 167 = .ok (.iconst 0, 1) := dk_3 (dk_at dksX10_worked_7 6 rfl rfl)
theorem dX10_worked_168 : decode cX10_worked 168 = .ok (.iastore, 1) := dk_79 (dk_at dksX10_worked_7 7 rfl rfl)
theorem dX10_worked_169 : decode cX10_worked 169 = .ok (.aload_n 0, 1) := dk_42 (dk_at dksX10_worked_7 8 rfl rfl)
theorem dX10_worked_170 : decode cX10_worked 170 = .ok (.getfield 90, 3) := dk_180 0 90 (dk_at dksX10_worked_7 9 rfl rfl)
theorem dX10_worked_173 : decode cX10_worked 173 = .ok (.iload_n 2, 1) := dk_28 (dk_at dksX10_worked_7 12 rfl rfl)
theorem dX10_worked_174 : decode cX10_worked 174 = .ok (.bipush 20, 2) := dk_16 20 (dk_at dksX10_worked_7 13 rfl rfl)
theorem dX10_worked_176 : decode cX10_worked 176 = .ok (.iastore, 1) := dk_79 (dk_at dksX10_worked_7 15 rfl rfl)
theorem dX10_worked_177 : decode cX10_worked 177 = .ok (.goto 152, 3) := dk_167 0 152 (dk_at dksX10_worked_7 16 rfl rfl)
theorem dX10_worked_180 : decode cX10_worked 180 = .ok (.iload 4, 2) := dk_21 4 (dk_at dksX10_worked_7 19 rfl rfl)
theorem dX10_worked_182 : decode cX10_worked 182 = .ok (.bipush 26, 2) := dk_16 26 (dk_at dksX10_worked_7 21 rfl rfl)
theorem dX10_worked_184 : decode cX10_worked 184 = .ok (.if_icmp .eq 10, 3) := dk_159 0 10 (dk_at dksX10_worked_8 0 rfl rfl)
theorem dX10_worked_187 : decode cX10_worked 187 = .ok (.iload 4, 2) := dk_21 4 (dk_at dksX10_worked_8 3 rfl rfl)
theorem dX10_worked_189 : decode cX10_worked 189 = .ok (.bipush 27, 2) := dk_16 27 (dk_at dksX10_worked_8 5 rfl rfl)
theorem dX10_worked_191 : decode cX10_worked 191 = .ok (.if_icmp .ne 19, 3) := dk_160 0 19 (dk_at dksX10_worked_8 7 rfl rfl)
theorem dX10_worked_194 : decode cX10_worked 194 = .ok (.aload_n 0, 1) := dk_42 (dk_at dksX10_worked_8 10 rfl rfl)
theorem dX10_worked_195 : decode cX10_worked 195 = .ok (.iload_n 2, 1) := dk_28 (dk_at dksX10_worked_8 11 rfl rfl)
theorem dX10_worked_196 : decode cX10_worked 196 = .ok (.invokevirtual 259, 3) := dk_182 1 3 (dk_at dksX10_worked_8 12 rfl rfl)
theorem dX10_worked_199 : decode cX10_worked 199 = .ok (.aload_n 0, 1) := dk_42 (dk_at dksX10_worked_8 15 rfl rfl)
theorem dX10_worked_200 : decode cX10_worked 200 = .ok (.getfield 78, 3) := dk_180 0 78 (dk_at dksX10_worked_8 16 rfl rfl)
theorem dX10_worked_203 : decode cX10_worked 203 = .ok (.iload_n 2, 1) := dk_28 (dk_at dksX10_worked_8 19 rfl rfl)
theorem dX10_worked_204 : decode cX10_worked 204 = .ok (.iload 4, 2) := dk_21 4 (dk_at dksX10_worked_8 20 rfl rfl)
theorem dX10_worked_206 : decode cX10_worked 206 = .ok (.iastore, 1) := dk_79 (dk_at dksX10_worked_8 22 rfl rfl)
theorem dX10_worked_207 : decode cX10_worked 207 = .ok (.goto 122, 3) := dk_167 0 122 (dk_at dksX10_worked_9 0 rfl rfl)
theorem dX10_worked_210 : decode cX10_worked 210 = .ok (.iload 4, 2) := dk_21 4 (dk_at dksX10_worked_9 3 rfl rfl)
theorem dX10_worked_212 : decode cX10_worked 212 = .ok (.bipush 100, 2) := dk_16 100 (dk_at dksX10_worked_9 5 rfl rfl)
theorem dX10_worked_214 : decode cX10_worked 214 = .ok (.if_icmp .lt 11, 3) := dk_161 0 11 (dk_at dksX10_worked_9 7 rfl rfl)
theorem dX10_worked_217 : decode cX10_worked 217 = .ok (.iload 4, 2) := dk_21 4 (dk_at dksX10_worked_9 10 rfl rfl)
theorem dX10_worked_219 : decode cX10_worked 219 = .ok (.bipush 100, 2) := dk_16 100 (dk_at dksX10_worked_9 12 rfl rfl)
theorem dX10_worked_221 : decode cX10_worked 221 = .ok (.isub, 1) := dk_100 (dk_at dksX10_worked_9 14 rfl rfl)
theorem dX10_worked_222 : decode cX10_worked 222 = .ok (.goto 21, 3) := dk_167 0 21 (dk_at dksX10_worked_9 15 rfl rfl)
theorem dX10_worked_225 : decode cX10_worked 225 = .ok (.iload 4, 2) := dk_21 4 (dk_at dksX10_worked_9 18 rfl rfl)
theorem dX10_worked_227 : decode cX10_worked 227 = .ok (.bipush 20, 2) := dk_16 20 (dk_at dksX10_worked_9 20 rfl rfl)
theorem dX10_worked_229 : decode cX10_worked 229 = .ok (.if_icmp .ge 13, 3) := dk_162 0 13 (dk_at dksX10_worked_10 0 rfl rfl)
theorem dX10_worked_232 : decode cX10_worked 232 = .ok (.aload_n 0, 1) := dk_42 (dk_at dksX10_worked_10 3 rfl rfl)
theorem dX10_worked_233 : decode cX10_worked 233 = .ok (.getfield 102, 3) := dk_180 0 102 (dk_at dksX10_worked_10 4 rfl rfl)
theorem dX10_worked_236 : decode cX10_worked 236 = .ok (.iload 4, 2) := dk_21 4 (dk_at dksX10_worked_10 7 rfl rfl)
theorem dX10_worked_238 : decode cX10_worked 238 = .ok (.iaload, 1) := dk_46 (dk_at dksX10_worked_10 9 rfl rfl)
theorem dX10_worked_239 : decode cX10_worked 239 = .ok (.goto 4, 3) := dk_167 0 4 (dk_at dksX10_worked_10 10 rfl rfl)
theorem dX10_worked_242 : decode cX10_worked 242 = .ok (.iconst 0, 1) := dk_3 (dk_at dksX10_worked_10 13 rfl rfl)
theorem dX10_worked_243 : decode cX10_worked 243 = .ok (.istore 5, 2) := dk_54 5 (dk_at dksX10_worked_10 14 rfl rfl)
theorem dX10_worked_245 : decode cX10_worked 245 = .ok (.iload 4, 2) := dk_21 4 (dk_at dksX10_worked_10 16 rfl rfl)
theorem dX10_worked_247 : decode cX10_worked 247 = .ok (.bipush 29, 2) := dk_16 29 (dk_at dksX10_worked_10 18 rfl rfl)
theorem dX10_worked_249 : decode cX10_worked 249 = .ok (.if_icmp .ne 19, 3) := dk_160 0 19 (dk_at dksX10_worked_10 20 rfl rfl)
theorem dX10_worked_252 : decode cX10_worked 252 = .ok (.aload_n 0, 1) := dk_42 (dk_at dksX10_worked_10 23 rfl rfl)
theorem dX10_worked_253 : decode cX10_worked 253 = .ok (.iload_n 2, 1) := dk_28 (dk_at dksX10_worked_11 0 rfl rfl)
theorem dX10_worked_254 : decode cX10_worked 254 = .ok (.invokevirtual 259, 3) := dk_182 1 3 (dk_at dksX10_worked_11 1 rfl rfl)
theorem dX10_worked_257 : decode cX10_worked 257 = .ok (.aload_n 0, 1) := dk_42 (dk_at dksX10_worked_11 4 rfl rfl)
theorem dX10_worked_258 : decode cX10_worked 258 = .ok (.getfield 75, 3) := dk_180 0 75 (dk_at dksX10_worked_11 5 rfl rfl)
theorem dX10_worked_261 : decode cX10_worked 261 = .ok (.iload_n 2, 1) := dk_28 (dk_at dksX10_worked_11 8 rfl rfl)
theorem dX10_worked_262 : decode cX10_worked 262 = .ok (.iaload, 1) := dk_46 (dk_at dksX10_worked_11 9 rfl rfl)
theorem dX10_worked_263 : decode cX10_worked 263 = .ok (.istore 5, 2) := dk_54 5 (dk_at dksX10_worked_11 10 rfl rfl)
theorem dX10_worked_265 : decode cX10_worked 265 = .ok (.iinc 2 (-1), 3) := dk_132 2 255 (dk_at dksX10_worked_11 12 rfl rfl)
theorem dX10_worked_268 : decode cX10_worked 268 = .ok (.iload_n 2, 1) := dk_28 (dk_at dksX10_worked_11 15 rfl rfl)
theorem dX10_worked_269 : decode cX10_worked 269 = .ok (.ifCond .le 31, 3) := dk_158 0 31 (dk_at dksX10_worked_11 16 rfl rfl)
theorem dX10_worked_272 : decode cX10_worked 272 = .ok (.aload_n 0, 1) := dk_42 (dk_at dksX10_worked_11 19 rfl rfl)
theorem dX10_worked_273 : decode cX10_worked 273 = .ok (.getfield 99, 3) := dk_180 0 99 (dk_at dksX10_worked_11 20 rfl rfl)
theorem dX10_worked_276 : decode cX10_worked 276 = .ok (.iload_n 2, 1) := dk_28 (dk_at dksX10_worked_11 23 rfl rfl)
theorem dX10_worked_277 : decode cX10_worked 277 = .ok (.iaload, 1) := dk_46 (dk_at dksX10_worked_12 0 rfl rfl)
theorem dX10_worked_278 : decode cX10_worked 278 = .ok (.iconst 1, 1) := dk_4 (dk_at dksX10_worked_12 1 rfl rfl)
theorem dX10_worked_279 : decode cX10_worked 279 = .ok (.if_icmp .ne 21, 3) := dk_160 0 21 (dk_at dksX10_worked_12 2 rfl rfl)
theorem dX10_worked_282 : decode cX10_worked 282 = .ok (.iload 5, 2) := dk_21 5 (dk_at dksX10_worked_12 5 rfl rfl)
theorem dX10_worked_284 : decode cX10_worked 284 = .ok (.ifCond .ne 7, 3) := dk_154 0 7 (dk_at dksX10_worked_12 7 rfl rfl)
theorem dX10_worked_287 : decode cX10_worked 287 = .ok (.iconst 1, 1) := dk_4 (dk_at dksX10_worked_12 10 rfl rfl)
theorem dX10_worked_288 : decode cX10_worked 288 = .ok (.goto 4, 3) := dk_167 0 4 (dk_at dksX10_worked_12 11 rfl rfl)
theorem dX10_worked_291 : decode cX10_worked 291 = .ok (.iconst 0, 1) := dk_3 (dk_at dksX10_worked_12 14 rfl rfl)
theorem dX10_worked_292 : decode cX10_worked 292 = .ok (.istore 5, 2) := dk_54 5 (dk_at dksX10_worked_12 15 rfl rfl)
theorem dX10_worked_294 : decode cX10_worked 294 = .ok (.iinc 2 (-1), 3) := dk_132 2 255 (dk_at dksX10_worked_12 17 rfl rfl)
theorem dX10_worked_297 : decode cX10_worked 297 = .ok (.goto (-29), 3) := dk_167 255 227 (dk_at dksX10_worked_12 20 rfl rfl)
theorem dX10_worked_300 : decode cX10_worked 300 = .ok (.aload_n 0, 1) := dk_42 (dk_at dksX10_worked_12 23 rfl rfl)
theorem dX10_worked_301 : decode cX10_worked 301 = .ok (.getfield 93, 3) := dk_180 0 93 (dk_at dksX10_worked_13 0 rfl rfl)
theorem dX10_worked_304 : decode cX10_worked 304 = .ok (.iload_n 2, 1) := dk_28 (dk_at dksX10_worked_13 3 rfl rfl)
theorem dX10_worked_305 : decode cX10_worked 305 = .ok (.aload_n 0, 1) := dk_42 (dk_at dksX10_worked_13 4 rfl rfl)
theorem dX10_worked_306 : decode cX10_worked 306 = .ok (.getfield 96, 3) := dk_180 0 96 (dk_at dksX10_worked_13 5 rfl rfl)
theorem dX10_worked_309 : decode cX10_worked 309 = .ok (.iload_n 2, 1) := dk_28 (dk_at dksX10_worked_13 8 rfl rfl)
theorem dX10_worked_310 : decode cX10_worked 310 = .ok (.iaload, 1) := dk_46 (dk_at dksX10_worked_13 9 rfl rfl)
theorem dX10_worked_311 : decode cX10_worked 311 = .ok (.ifCond .ne 8, 3) := dk_154 0 8 (dk_at dksX10_worked_13 10 rfl rfl)
theorem dX10_worked_314 : decode cX10_worked 314 = .ok (.iload 5, 2) := dk_21 5 (dk_at dksX10_worked_13 13 rfl rfl)
theorem dX10_worked_316 : decode cX10_worked 316 = .ok (.goto 12, 3) := dk_167 0 12 (dk_at dksX10_worked_13 15 rfl rfl)
theorem dX10_worked_319 : decode cX10_worked 319 = .ok (.aload_n 0, 1) := dk_42 (dk_at dksX10_worked_13 18 rfl rfl)
theorem dX10_worked_320 : decode cX10_worked 320 = .ok (.getfield 93, 3) := dk_180 0 93 (dk_at dksX10_worked_13 19 rfl rfl)
theorem dX10_worked_323 : decode cX10_worked 323 = .ok (.iload_n 2, 1) := dk_28 (dk_at dksX10_worked_13 22 rfl rfl)
theorem dX10_worked_324 : decode cX10_worked 324 = .ok (.iaload, 1) := dk_46 (dk_at dksX10_worked_13 23 rfl rfl)
theorem dX10_worked_325 : decode cX10_worked 325 = .ok (.iload 5, 2) := dk_21 5 (dk_at dksX10_worked_14 0 rfl rfl)
theorem dX10_worked_327 : decode cX10_worked 327 = .ok (.imul, 1) := dk_104 (dk_at dksX10_worked_14 2 rfl rfl)
theorem dX10_worked_328 : decode cX10_worked 328 = .ok (.iastore, 1) := dk_79 (dk_at dksX10_worked_14 3 rfl rfl)
theorem dX10_worked_329 : decode cX10_worked 329 = .ok (.iinc 3 1, 3) := dk_132 3 1 (dk_at dksX10_worked_14 4 rfl rfl)
theorem dX10_worked_332 : decode cX10_worked 332 = .ok (.goto (-318), 3) := dk_167 254 194 (dk_at dksX10_worked_14 7 rfl rfl)
theorem dX10_worked_335 : decode cX10_worked 335 = .ok (.aload_n 0, 1) := dk_42 (dk_at dksX10_worked_14 10 rfl rfl)
theorem dX10_worked_336 : decode cX10_worked 336 = .ok (.iconst 0, 1) := dk_3 (dk_at dksX10_worked_14 11 rfl rfl)
theorem dX10_worked_337 : decode cX10_worked 337 = .ok (.invokevirtual 259, 3) := dk_182 1 3 (dk_at dksX10_worked_14 12 rfl rfl)
theorem dX10_worked_340 : decode cX10_worked 340 = .ok (.aload_n 0, 1) := dk_42 (dk_at dksX10_worked_14 15 rfl rfl)
theorem dX10_worked_341 : decode cX10_worked 341 = .ok (.getfield 75, 3) := dk_180 0 75 (dk_at dksX10_worked_14 16 rfl rfl)
theorem dX10_worked_344 : decode cX10_worked 344 = .ok (.iconst 0, 1) := dk_3 (dk_at dksX10_worked_14 19 rfl rfl)
theorem dX10_worked_345 : decode cX10_worked 345 = .ok (.iaload, 1) := dk_46 (dk_at dksX10_worked_14 20 rfl rfl)
theorem dX10_worked_346 : decode cX10_worked 346 = .ok (.ireturn, 1) := dk_172 (dk_at dksX10_worked_14 21 rfl rfl)
abbrev cX10_opens : ByteArray := prog_36_method_15_code
def yX10_opens : MethodName := ⟨RX10, "opens", "(I)V"⟩
def dkwX10_opens_1 : List UInt8 := [180, 0, 90, 27, 16, 20, 79, 42, 180, 0, 96, 27, 3, 79, 177]
abbrev dktX10_opens_1 : List UInt8 := dkwX10_opens_1 ++ []
def dkwX10_opens_0 : List UInt8 := [42, 180, 0, 78, 27, 3, 79, 42, 180, 0, 84, 27, 3, 79, 42, 180, 0, 87, 27, 3, 79, 42]
abbrev dktX10_opens_0 : List UInt8 := dkwX10_opens_0 ++ dktX10_opens_1
theorem dksX10_opens_0 : cX10_opens.data.toList.drop 0 = dktX10_opens_0 := by decide +kernel
theorem dksX10_opens_1 : cX10_opens.data.toList.drop 22 = dktX10_opens_1 := dk_seg dksX10_opens_0 22 rfl rfl
theorem dX10_opens_0 : decode cX10_opens 0 = .ok (.aload_n 0, 1) := dk_42 (dk_at dksX10_opens_0 0 rfl rfl)
theorem dX10_opens_1 : decode cX10_opens 1 = .ok (.getfield 78, 3) := dk_180 0 78 (dk_at dksX10_opens_0 1 rfl rfl)
theorem dX10_opens_4 : decode cX10_opens 4 = .ok (.iload_n 1, 1) := dk_27 (dk_at dksX10_opens_0 4 rfl rfl)
theorem dX10_opens_5 : decode cX10_opens 5 = .ok (.iconst 0, 1) := dk_3 (dk_at dksX10_opens_0 5 rfl rfl)
theorem dX10_opens_6 : decode cX10_opens 6 = .ok (.iastore, 1) := dk_79 (dk_at dksX10_opens_0 6 rfl rfl)
theorem dX10_opens_7 : decode cX10_opens 7 = .ok (.aload_n 0, 1) := dk_42 (dk_at dksX10_opens_0 7 rfl rfl)
theorem dX10_opens_8 : decode cX10_opens 8 = .ok (.getfield 84, 3) := dk_180 0 84 (dk_at dksX10_opens_0 8 rfl rfl)
theorem dX10_opens_11 : decode cX10_opens 11 = .ok (.iload_n 1, 1) := dk_27 (dk_at dksX10_opens_0 11 rfl rfl)
theorem dX10_opens_12 : decode cX10_opens 12 = .ok (.iconst 0, 1) := dk_3 (dk_at dksX10_opens_0 12 rfl rfl)
theorem dX10_opens_13 : decode cX10_opens 13 = .ok (.iastore, 1) := dk_79 (dk_at dksX10_opens_0 13 rfl rfl)
theorem dX10_opens_14 : decode cX10_opens 14 = .ok (.aload_n 0, 1) := dk_42 (dk_at dksX10_opens_0 14 rfl rfl)
theorem dX10_opens_15 : decode cX10_opens 15 = .ok (.getfield 87, 3) := dk_180 0 87 (dk_at dksX10_opens_0 15 rfl rfl)
theorem dX10_opens_18 : decode cX10_opens 18 = .ok (.iload_n 1, 1) := dk_27 (dk_at dksX10_opens_0 18 rfl rfl)
theorem dX10_opens_19 : decode cX10_opens 19 = .ok (.iconst 0, 1) := dk_3 (dk_at dksX10_opens_0 19 rfl rfl)
theorem dX10_opens_20 : decode cX10_opens 20 = .ok (.iastore, 1) := dk_79 (dk_at dksX10_opens_0 20 rfl rfl)
theorem dX10_opens_21 : decode cX10_opens 21 = .ok (.aload_n 0, 1) := dk_42 (dk_at dksX10_opens_0 21 rfl rfl)
theorem dX10_opens_22 : decode cX10_opens 22 = .ok (.getfield 90, 3) := dk_180 0 90 (dk_at dksX10_opens_1 0 rfl rfl)
theorem dX10_opens_25 : decode cX10_opens 25 = .ok (.iload_n 1, 1) := dk_27 (dk_at dksX10_opens_1 3 rfl rfl)
theorem dX10_opens_26 : decode cX10_opens 26 = .ok (.bipush 20, 2) := dk_16 20 (dk_at dksX10_opens_1 4 rfl rfl)
theorem dX10_opens_28 : decode cX10_opens 28 = .ok (.iastore, 1) := dk_79 (dk_at dksX10_opens_1 6 rfl rfl)
theorem dX10_opens_29 : decode cX10_opens 29 = .ok (.aload_n 0, 1) := dk_42 (dk_at dksX10_opens_1 7 rfl rfl)
theorem dX10_opens_30 : decode cX10_opens 30 = .ok (.getfield 96, 3) := dk_180 0 96 (dk_at dksX10_opens_1 8 rfl rfl)
theorem dX10_opens_33 : decode cX10_opens 33 = .ok (.iload_n 1, 1) := dk_27 (dk_at dksX10_opens_1 11 rfl rfl)
theorem dX10_opens_34 : decode cX10_opens 34 = .ok (.iconst 0, 1) := dk_3 (dk_at dksX10_opens_1 12 rfl rfl)
theorem dX10_opens_35 : decode cX10_opens 35 = .ok (.iastore, 1) := dk_79 (dk_at dksX10_opens_1 13 rfl rfl)
theorem dX10_opens_36 : decode cX10_opens 36 = .ok (.return_, 1) := dk_177 (dk_at dksX10_opens_1 14 rfl rfl)
abbrev cX10_sums : ByteArray := prog_36_method_16_code
def yX10_sums : MethodName := ⟨RX10, "sums", "(I)V"⟩
def dkwX10_sums_2 : List UInt8 := [180, 0, 96, 27, 3, 79, 177]
abbrev dktX10_sums_2 : List UInt8 := dkwX10_sums_2 ++ []
def dkwX10_sums_1 : List UInt8 := [180, 0, 93, 27, 46, 100, 167, 0, 16, 42, 180, 0, 87, 27, 46, 42, 180, 0, 93, 27, 46, 96, 79, 42]
abbrev dktX10_sums_1 : List UInt8 := dkwX10_sums_1 ++ dktX10_sums_2
def dkwX10_sums_0 : List UInt8 := [42, 180, 0, 87, 27, 42, 180, 0, 90, 27, 46, 16, 21, 160, 0, 19, 42, 180, 0, 87, 27, 46, 42]
abbrev dktX10_sums_0 : List UInt8 := dkwX10_sums_0 ++ dktX10_sums_1
theorem dksX10_sums_0 : cX10_sums.data.toList.drop 0 = dktX10_sums_0 := by decide +kernel
theorem dksX10_sums_1 : cX10_sums.data.toList.drop 23 = dktX10_sums_1 := dk_seg dksX10_sums_0 23 rfl rfl
theorem dksX10_sums_2 : cX10_sums.data.toList.drop 47 = dktX10_sums_2 := dk_seg dksX10_sums_1 24 rfl rfl
theorem dX10_sums_0 : decode cX10_sums 0 = .ok (.aload_n 0, 1) := dk_42 (dk_at dksX10_sums_0 0 rfl rfl)
theorem dX10_sums_1 : decode cX10_sums 1 = .ok (.getfield 87, 3) := dk_180 0 87 (dk_at dksX10_sums_0 1 rfl rfl)
theorem dX10_sums_4 : decode cX10_sums 4 = .ok (.iload_n 1, 1) := dk_27 (dk_at dksX10_sums_0 4 rfl rfl)
theorem dX10_sums_5 : decode cX10_sums 5 = .ok (.aload_n 0, 1) := dk_42 (dk_at dksX10_sums_0 5 rfl rfl)
theorem dX10_sums_6 : decode cX10_sums 6 = .ok (.getfield 90, 3) := dk_180 0 90 (dk_at dksX10_sums_0 6 rfl rfl)
theorem dX10_sums_9 : decode cX10_sums 9 = .ok (.iload_n 1, 1) := dk_27 (dk_at dksX10_sums_0 9 rfl rfl)
theorem dX10_sums_10 : decode cX10_sums 10 = .ok (.iaload, 1) := dk_46 (dk_at dksX10_sums_0 10 rfl rfl)
theorem dX10_sums_11 : decode cX10_sums 11 = .ok (.bipush 21, 2) := dk_16 21 (dk_at dksX10_sums_0 11 rfl rfl)
theorem dX10_sums_13 : decode cX10_sums 13 = .ok (.if_icmp .ne 19, 3) := dk_160 0 19 (dk_at dksX10_sums_0 13 rfl rfl)
theorem dX10_sums_16 : decode cX10_sums 16 = .ok (.aload_n 0, 1) := dk_42 (dk_at dksX10_sums_0 16 rfl rfl)
theorem dX10_sums_17 : decode cX10_sums 17 = .ok (.getfield 87, 3) := dk_180 0 87 (dk_at dksX10_sums_0 17 rfl rfl)
theorem dX10_sums_20 : decode cX10_sums 20 = .ok (.iload_n 1, 1) := dk_27 (dk_at dksX10_sums_0 20 rfl rfl)
theorem dX10_sums_21 : decode cX10_sums 21 = .ok (.iaload, 1) := dk_46 (dk_at dksX10_sums_0 21 rfl rfl)
theorem dX10_sums_22 : decode cX10_sums 22 = .ok (.aload_n 0, 1) := dk_42 (dk_at dksX10_sums_0 22 rfl rfl)
theorem dX10_sums_23 : decode cX10_sums 23 = .ok (.getfield 93, 3) := dk_180 0 93 (dk_at dksX10_sums_1 0 rfl rfl)
theorem dX10_sums_26 : decode cX10_sums 26 = .ok (.iload_n 1, 1) := dk_27 (dk_at dksX10_sums_1 3 rfl rfl)
theorem dX10_sums_27 : decode cX10_sums 27 = .ok (.iaload, 1) := dk_46 (dk_at dksX10_sums_1 4 rfl rfl)
theorem dX10_sums_28 : decode cX10_sums 28 = .ok (.isub, 1) := dk_100 (dk_at dksX10_sums_1 5 rfl rfl)
theorem dX10_sums_29 : decode cX10_sums 29 = .ok (.goto 16, 3) := dk_167 0 16 (dk_at dksX10_sums_1 6 rfl rfl)
theorem dX10_sums_32 : decode cX10_sums 32 = .ok (.aload_n 0, 1) := dk_42 (dk_at dksX10_sums_1 9 rfl rfl)
theorem dX10_sums_33 : decode cX10_sums 33 = .ok (.getfield 87, 3) := dk_180 0 87 (dk_at dksX10_sums_1 10 rfl rfl)
theorem dX10_sums_36 : decode cX10_sums 36 = .ok (.iload_n 1, 1) := dk_27 (dk_at dksX10_sums_1 13 rfl rfl)
theorem dX10_sums_37 : decode cX10_sums 37 = .ok (.iaload, 1) := dk_46 (dk_at dksX10_sums_1 14 rfl rfl)
theorem dX10_sums_38 : decode cX10_sums 38 = .ok (.aload_n 0, 1) := dk_42 (dk_at dksX10_sums_1 15 rfl rfl)
theorem dX10_sums_39 : decode cX10_sums 39 = .ok (.getfield 93, 3) := dk_180 0 93 (dk_at dksX10_sums_1 16 rfl rfl)
theorem dX10_sums_42 : decode cX10_sums 42 = .ok (.iload_n 1, 1) := dk_27 (dk_at dksX10_sums_1 19 rfl rfl)
theorem dX10_sums_43 : decode cX10_sums 43 = .ok (.iaload, 1) := dk_46 (dk_at dksX10_sums_1 20 rfl rfl)
theorem dX10_sums_44 : decode cX10_sums 44 = .ok (.iadd, 1) := dk_96 (dk_at dksX10_sums_1 21 rfl rfl)
theorem dX10_sums_45 : decode cX10_sums 45 = .ok (.iastore, 1) := dk_79 (dk_at dksX10_sums_1 22 rfl rfl)
theorem dX10_sums_46 : decode cX10_sums 46 = .ok (.aload_n 0, 1) := dk_42 (dk_at dksX10_sums_1 23 rfl rfl)
theorem dX10_sums_47 : decode cX10_sums 47 = .ok (.getfield 96, 3) := dk_180 0 96 (dk_at dksX10_sums_2 0 rfl rfl)
theorem dX10_sums_50 : decode cX10_sums 50 = .ok (.iload_n 1, 1) := dk_27 (dk_at dksX10_sums_2 3 rfl rfl)
theorem dX10_sums_51 : decode cX10_sums 51 = .ok (.iconst 0, 1) := dk_3 (dk_at dksX10_sums_2 4 rfl rfl)
theorem dX10_sums_52 : decode cX10_sums 52 = .ok (.iastore, 1) := dk_79 (dk_at dksX10_sums_2 5 rfl rfl)
theorem dX10_sums_53 : decode cX10_sums 53 = .ok (.return_, 1) := dk_177 (dk_at dksX10_sums_2 6 rfl rfl)
abbrev cX10_tests : ByteArray := prog_36_method_17_code
def yX10_tests : MethodName := ⟨RX10, "tests", "(I)V"⟩
def dkwX10_tests_7 : List UInt8 := [177]
abbrev dktX10_tests_7 : List UInt8 := dkwX10_tests_7 ++ []
def dkwX10_tests_6 : List UInt8 := [28, 79, 42, 180, 0, 84, 27, 3, 79, 42, 180, 0, 87, 27, 3, 79, 42, 180, 0, 90, 27, 16, 20, 79]
abbrev dktX10_tests_6 : List UInt8 := dkwX10_tests_6 ++ dktX10_tests_7
def dkwX10_tests_5 : List UInt8 := [42, 180, 0, 75, 27, 46, 154, 0, 7, 28, 153, 0, 7, 4, 167, 0, 4, 3, 61, 42, 180, 0, 75, 27]
abbrev dktX10_tests_5 : List UInt8 := dkwX10_tests_5 ++ dktX10_tests_6
def dkwX10_tests_4 : List UInt8 := [153, 0, 11, 28, 153, 0, 7, 4, 167, 0, 4, 3, 61, 42, 180, 0, 78, 27, 46, 16, 27, 160, 0, 22]
abbrev dktX10_tests_4 : List UInt8 := dkwX10_tests_4 ++ dktX10_tests_5
def dkwX10_tests_3 : List UInt8 := [167, 0, 4, 3, 61, 42, 180, 0, 78, 27, 46, 16, 26, 160, 0, 22, 42, 180, 0, 75, 27, 46]
abbrev dktX10_tests_3 : List UInt8 := dkwX10_tests_3 ++ dktX10_tests_4
def dkwX10_tests_2 : List UInt8 := [27, 46, 16, 25, 160, 0, 24, 42, 180, 0, 81, 27, 46, 42, 180, 0, 87, 27, 46, 160, 0, 7, 4]
abbrev dktX10_tests_2 : List UInt8 := dkwX10_tests_2 ++ dktX10_tests_3
def dkwX10_tests_1 : List UInt8 := [180, 0, 81, 27, 46, 42, 180, 0, 87, 27, 46, 162, 0, 7, 4, 167, 0, 4, 3, 61, 42, 180, 0, 84]
abbrev dktX10_tests_1 : List UInt8 := dkwX10_tests_1 ++ dktX10_tests_2
def dkwX10_tests_0 : List UInt8 := [42, 27, 182, 0, 253, 42, 180, 0, 87, 27, 46, 61, 42, 180, 0, 84, 27, 46, 16, 24, 160, 0, 24, 42]
abbrev dktX10_tests_0 : List UInt8 := dkwX10_tests_0 ++ dktX10_tests_1
theorem dksX10_tests_0 : cX10_tests.data.toList.drop 0 = dktX10_tests_0 := by decide +kernel
theorem dksX10_tests_1 : cX10_tests.data.toList.drop 24 = dktX10_tests_1 := dk_seg dksX10_tests_0 24 rfl rfl
theorem dksX10_tests_2 : cX10_tests.data.toList.drop 48 = dktX10_tests_2 := dk_seg dksX10_tests_1 24 rfl rfl
theorem dksX10_tests_3 : cX10_tests.data.toList.drop 71 = dktX10_tests_3 := dk_seg dksX10_tests_2 23 rfl rfl
theorem dksX10_tests_4 : cX10_tests.data.toList.drop 93 = dktX10_tests_4 := dk_seg dksX10_tests_3 22 rfl rfl
theorem dksX10_tests_5 : cX10_tests.data.toList.drop 117 = dktX10_tests_5 := dk_seg dksX10_tests_4 24 rfl rfl
theorem dksX10_tests_6 : cX10_tests.data.toList.drop 141 = dktX10_tests_6 := dk_seg dksX10_tests_5 24 rfl rfl
theorem dksX10_tests_7 : cX10_tests.data.toList.drop 165 = dktX10_tests_7 := dk_seg dksX10_tests_6 24 rfl rfl
theorem dX10_tests_0 : decode cX10_tests 0 = .ok (.aload_n 0, 1) := dk_42 (dk_at dksX10_tests_0 0 rfl rfl)
theorem dX10_tests_1 : decode cX10_tests 1 = .ok (.iload_n 1, 1) := dk_27 (dk_at dksX10_tests_0 1 rfl rfl)
theorem dX10_tests_2 : decode cX10_tests 2 = .ok (.invokevirtual 253, 3) := dk_182 0 253 (dk_at dksX10_tests_0 2 rfl rfl)
theorem dX10_tests_5 : decode cX10_tests 5 = .ok (.aload_n 0, 1) := dk_42 (dk_at dksX10_tests_0 5 rfl rfl)
theorem dX10_tests_6 : decode cX10_tests 6 = .ok (.getfield 87, 3) := dk_180 0 87 (dk_at dksX10_tests_0 6 rfl rfl)
theorem dX10_tests_9 : decode cX10_tests 9 = .ok (.iload_n 1, 1) := dk_27 (dk_at dksX10_tests_0 9 rfl rfl)
theorem dX10_tests_10 : decode cX10_tests 10 = .ok (.iaload, 1) := dk_46 (dk_at dksX10_tests_0 10 rfl rfl)
theorem dX10_tests_11 : decode cX10_tests 11 = .ok (.istore_n 2, 1) := dk_61 (dk_at dksX10_tests_0 11 rfl rfl)
theorem dX10_tests_12 : decode cX10_tests 12 = .ok (.aload_n 0, 1) := dk_42 (dk_at dksX10_tests_0 12 rfl rfl)
theorem dX10_tests_13 : decode cX10_tests 13 = .ok (.getfield 84, 3) := dk_180 0 84 (dk_at dksX10_tests_0 13 rfl rfl)
theorem dX10_tests_16 : decode cX10_tests 16 = .ok (.iload_n 1, 1) := dk_27 (dk_at dksX10_tests_0 16 rfl rfl)
theorem dX10_tests_17 : decode cX10_tests 17 = .ok (.iaload, 1) := dk_46 (dk_at dksX10_tests_0 17 rfl rfl)
theorem dX10_tests_18 : decode cX10_tests 18 = .ok (.bipush 24, 2) := dk_16 24 (dk_at dksX10_tests_0 18 rfl rfl)
theorem dX10_tests_20 : decode cX10_tests 20 = .ok (.if_icmp .ne 24, 3) := dk_160 0 24 (dk_at dksX10_tests_0 20 rfl rfl)
theorem dX10_tests_23 : decode cX10_tests 23 = .ok (.aload_n 0, 1) := dk_42 (dk_at dksX10_tests_0 23 rfl rfl)
theorem dX10_tests_24 : decode cX10_tests 24 = .ok (.getfield 81, 3) := dk_180 0 81 (dk_at dksX10_tests_1 0 rfl rfl)
theorem dX10_tests_27 : decode cX10_tests 27 = .ok (.iload_n 1, 1) := dk_27 (dk_at dksX10_tests_1 3 rfl rfl)
theorem dX10_tests_28 : decode cX10_tests 28 = .ok (.iaload, 1) := dk_46 (dk_at dksX10_tests_1 4 rfl rfl)
theorem dX10_tests_29 : decode cX10_tests 29 = .ok (.aload_n 0, 1) := dk_42 (dk_at dksX10_tests_1 5 rfl rfl)
theorem dX10_tests_30 : decode cX10_tests 30 = .ok (.getfield 87, 3) := dk_180 0 87 (dk_at dksX10_tests_1 6 rfl rfl)
theorem dX10_tests_33 : decode cX10_tests 33 = .ok (.iload_n 1, 1) := dk_27 (dk_at dksX10_tests_1 9 rfl rfl)
theorem dX10_tests_34 : decode cX10_tests 34 = .ok (.iaload, 1) := dk_46 (dk_at dksX10_tests_1 10 rfl rfl)
theorem dX10_tests_35 : decode cX10_tests 35 = .ok (.if_icmp .ge 7, 3) := dk_162 0 7 (dk_at dksX10_tests_1 11 rfl rfl)
theorem dX10_tests_38 : decode cX10_tests 38 = .ok (.iconst 1, 1) := dk_4 (dk_at dksX10_tests_1 14 rfl rfl)
theorem dX10_tests_39 : decode cX10_tests 39 = .ok (.goto 4, 3) := dk_167 0 4 (dk_at dksX10_tests_1 15 rfl rfl)
theorem dX10_tests_42 : decode cX10_tests 42 = .ok (.iconst 0, 1) := dk_3 (dk_at dksX10_tests_1 18 rfl rfl)
theorem dX10_tests_43 : decode cX10_tests 43 = .ok (.istore_n 2, 1) := dk_61 (dk_at dksX10_tests_1 19 rfl rfl)
theorem dX10_tests_44 : decode cX10_tests 44 = .ok (.aload_n 0, 1) := dk_42 (dk_at dksX10_tests_1 20 rfl rfl)
theorem dX10_tests_45 : decode cX10_tests 45 = .ok (.getfield 84, 3) := dk_180 0 84 (dk_at dksX10_tests_1 21 rfl rfl)
theorem dX10_tests_48 : decode cX10_tests 48 = .ok (.iload_n 1, 1) := dk_27 (dk_at dksX10_tests_2 0 rfl rfl)
theorem dX10_tests_49 : decode cX10_tests 49 = .ok (.iaload, 1) := dk_46 (dk_at dksX10_tests_2 1 rfl rfl)
theorem dX10_tests_50 : decode cX10_tests 50 = .ok (.bipush 25, 2) := dk_16 25 (dk_at dksX10_tests_2 2 rfl rfl)
theorem dX10_tests_52 : decode cX10_tests 52 = .ok (.if_icmp .ne 24, 3) := dk_160 0 24 (dk_at dksX10_tests_2 4 rfl rfl)
theorem dX10_tests_55 : decode cX10_tests 55 = .ok (.aload_n 0, 1) := dk_42 (dk_at dksX10_tests_2 7 rfl rfl)
theorem dX10_tests_56 : decode cX10_tests 56 = .ok (.getfield 81, 3) := dk_180 0 81 (dk_at dksX10_tests_2 8 rfl rfl)
theorem dX10_tests_59 : decode cX10_tests 59 = .ok (.iload_n 1, 1) := dk_27 (dk_at dksX10_tests_2 11 rfl rfl)
theorem dX10_tests_60 : decode cX10_tests 60 = .ok (.iaload, 1) := dk_46 (dk_at dksX10_tests_2 12 rfl rfl)
theorem dX10_tests_61 : decode cX10_tests 61 = .ok (.aload_n 0, 1) := dk_42 (dk_at dksX10_tests_2 13 rfl rfl)
theorem dX10_tests_62 : decode cX10_tests 62 = .ok (.getfield 87, 3) := dk_180 0 87 (dk_at dksX10_tests_2 14 rfl rfl)
theorem dX10_tests_65 : decode cX10_tests 65 = .ok (.iload_n 1, 1) := dk_27 (dk_at dksX10_tests_2 17 rfl rfl)
theorem dX10_tests_66 : decode cX10_tests 66 = .ok (.iaload, 1) := dk_46 (dk_at dksX10_tests_2 18 rfl rfl)
theorem dX10_tests_67 : decode cX10_tests 67 = .ok (.if_icmp .ne 7, 3) := dk_160 0 7 (dk_at dksX10_tests_2 19 rfl rfl)
theorem dX10_tests_70 : decode cX10_tests 70 = .ok (.iconst 1, 1) := dk_4 (dk_at dksX10_tests_2 22 rfl rfl)
theorem dX10_tests_71 : decode cX10_tests 71 = .ok (.goto 4, 3) := dk_167 0 4 (dk_at dksX10_tests_3 0 rfl rfl)
theorem dX10_tests_74 : decode cX10_tests 74 = .ok (.iconst 0, 1) := dk_3 (dk_at dksX10_tests_3 3 rfl rfl)
theorem dX10_tests_75 : decode cX10_tests 75 = .ok (.istore_n 2, 1) := dk_61 (dk_at dksX10_tests_3 4 rfl rfl)
theorem dX10_tests_76 : decode cX10_tests 76 = .ok (.aload_n 0, 1) := dk_42 (dk_at dksX10_tests_3 5 rfl rfl)
theorem dX10_tests_77 : decode cX10_tests 77 = .ok (.getfield 78, 3) := dk_180 0 78 (dk_at dksX10_tests_3 6 rfl rfl)
theorem dX10_tests_80 : decode cX10_tests 80 = .ok (.iload_n 1, 1) := dk_27 (dk_at dksX10_tests_3 9 rfl rfl)
theorem dX10_tests_81 : decode cX10_tests 81 = .ok (.iaload, 1) := dk_46 (dk_at dksX10_tests_3 10 rfl rfl)
theorem dX10_tests_82 : decode cX10_tests 82 = .ok (.bipush 26, 2) := dk_16 26 (dk_at dksX10_tests_3 11 rfl rfl)
theorem dX10_tests_84 : decode cX10_tests 84 = .ok (.if_icmp .ne 22, 3) := dk_160 0 22 (dk_at dksX10_tests_3 13 rfl rfl)
theorem dX10_tests_87 : decode cX10_tests 87 = .ok (.aload_n 0, 1) := dk_42 (dk_at dksX10_tests_3 16 rfl rfl)
theorem dX10_tests_88 : decode cX10_tests 88 = .ok (.getfield 75, 3) := dk_180 0 75 (dk_at dksX10_tests_3 17 rfl rfl)
theorem dX10_tests_91 : decode cX10_tests 91 = .ok (.iload_n 1, 1) := dk_27 (dk_at dksX10_tests_3 20 rfl rfl)
theorem dX10_tests_92 : decode cX10_tests 92 = .ok (.iaload, 1) := dk_46 (dk_at dksX10_tests_3 21 rfl rfl)
theorem dX10_tests_93 : decode cX10_tests 93 = .ok (.ifCond .eq 11, 3) := dk_153 0 11 (dk_at dksX10_tests_4 0 rfl rfl)
theorem dX10_tests_96 : decode cX10_tests 96 = .ok (.iload_n 2, 1) := dk_28 (dk_at dksX10_tests_4 3 rfl rfl)
theorem dX10_tests_97 : decode cX10_tests 97 = .ok (.ifCond .eq 7, 3) := dk_153 0 7 (dk_at dksX10_tests_4 4 rfl rfl)
theorem dX10_tests_100 : decode cX10_tests 100 = .ok (.iconst 1, 1) := dk_4 (dk_at dksX10_tests_4 7 rfl rfl)
theorem dX10_tests_101 : decode cX10_tests 101 = .ok (.goto 4, 3) := dk_167 0 4 (dk_at dksX10_tests_4 8 rfl rfl)
theorem dX10_tests_104 : decode cX10_tests 104 = .ok (.iconst 0, 1) := dk_3 (dk_at dksX10_tests_4 11 rfl rfl)
theorem dX10_tests_105 : decode cX10_tests 105 = .ok (.istore_n 2, 1) := dk_61 (dk_at dksX10_tests_4 12 rfl rfl)
theorem dX10_tests_106 : decode cX10_tests 106 = .ok (.aload_n 0, 1) := dk_42 (dk_at dksX10_tests_4 13 rfl rfl)
theorem dX10_tests_107 : decode cX10_tests 107 = .ok (.getfield 78, 3) := dk_180 0 78 (dk_at dksX10_tests_4 14 rfl rfl)
theorem dX10_tests_110 : decode cX10_tests 110 = .ok (.iload_n 1, 1) := dk_27 (dk_at dksX10_tests_4 17 rfl rfl)
theorem dX10_tests_111 : decode cX10_tests 111 = .ok (.iaload, 1) := dk_46 (dk_at dksX10_tests_4 18 rfl rfl)
theorem dX10_tests_112 : decode cX10_tests 112 = .ok (.bipush 27, 2) := dk_16 27 (dk_at dksX10_tests_4 19 rfl rfl)
theorem dX10_tests_114 : decode cX10_tests 114 = .ok (.if_icmp .ne 22, 3) := dk_160 0 22 (dk_at dksX10_tests_4 21 rfl rfl)
theorem dX10_tests_117 : decode cX10_tests 117 = .ok (.aload_n 0, 1) := dk_42 (dk_at dksX10_tests_5 0 rfl rfl)
theorem dX10_tests_118 : decode cX10_tests 118 = .ok (.getfield 75, 3) := dk_180 0 75 (dk_at dksX10_tests_5 1 rfl rfl)
theorem dX10_tests_121 : decode cX10_tests 121 = .ok (.iload_n 1, 1) := dk_27 (dk_at dksX10_tests_5 4 rfl rfl)
theorem dX10_tests_122 : decode cX10_tests 122 = .ok (.iaload, 1) := dk_46 (dk_at dksX10_tests_5 5 rfl rfl)
theorem dX10_tests_123 : decode cX10_tests 123 = .ok (.ifCond .ne 7, 3) := dk_154 0 7 (dk_at dksX10_tests_5 6 rfl rfl)
theorem dX10_tests_126 : decode cX10_tests 126 = .ok (.iload_n 2, 1) := dk_28 (dk_at dksX10_tests_5 9 rfl rfl)
theorem dX10_tests_127 : decode cX10_tests 127 = .ok (.ifCond .eq 7, 3) := dk_153 0 7 (dk_at dksX10_tests_5 10 rfl rfl)
theorem dX10_tests_130 : decode cX10_tests 130 = .ok (.iconst 1, 1) := dk_4 (dk_at dksX10_tests_5 13 rfl rfl)
theorem dX10_tests_131 : decode cX10_tests 131 = .ok (.goto 4, 3) := dk_167 0 4 (dk_at dksX10_tests_5 14 rfl rfl)
theorem dX10_tests_134 : decode cX10_tests 134 = .ok (.iconst 0, 1) := dk_3 (dk_at dksX10_tests_5 17 rfl rfl)
theorem dX10_tests_135 : decode cX10_tests 135 = .ok (.istore_n 2, 1) := dk_61 (dk_at dksX10_tests_5 18 rfl rfl)
theorem dX10_tests_136 : decode cX10_tests 136 = .ok (.aload_n 0, 1) := dk_42 (dk_at dksX10_tests_5 19 rfl rfl)
theorem dX10_tests_137 : decode cX10_tests 137 = .ok (.getfield 75, 3) := dk_180 0 75 (dk_at dksX10_tests_5 20 rfl rfl)
theorem dX10_tests_140 : decode cX10_tests 140 = .ok (.iload_n 1, 1) := dk_27 (dk_at dksX10_tests_5 23 rfl rfl)
theorem dX10_tests_141 : decode cX10_tests 141 = .ok (.iload_n 2, 1) := dk_28 (dk_at dksX10_tests_6 0 rfl rfl)
theorem dX10_tests_142 : decode cX10_tests 142 = .ok (.iastore, 1) := dk_79 (dk_at dksX10_tests_6 1 rfl rfl)
theorem dX10_tests_143 : decode cX10_tests 143 = .ok (.aload_n 0, 1) := dk_42 (dk_at dksX10_tests_6 2 rfl rfl)
theorem dX10_tests_144 : decode cX10_tests 144 = .ok (.getfield 84, 3) := dk_180 0 84 (dk_at dksX10_tests_6 3 rfl rfl)
theorem dX10_tests_147 : decode cX10_tests 147 = .ok (.iload_n 1, 1) := dk_27 (dk_at dksX10_tests_6 6 rfl rfl)
theorem dX10_tests_148 : decode cX10_tests 148 = .ok (.iconst 0, 1) := dk_3 (dk_at dksX10_tests_6 7 rfl rfl)
theorem dX10_tests_149 : decode cX10_tests 149 = .ok (.iastore, 1) := dk_79 (dk_at dksX10_tests_6 8 rfl rfl)
theorem dX10_tests_150 : decode cX10_tests 150 = .ok (.aload_n 0, 1) := dk_42 (dk_at dksX10_tests_6 9 rfl rfl)
theorem dX10_tests_151 : decode cX10_tests 151 = .ok (.getfield 87, 3) := dk_180 0 87 (dk_at dksX10_tests_6 10 rfl rfl)
theorem dX10_tests_154 : decode cX10_tests 154 = .ok (.iload_n 1, 1) := dk_27 (dk_at dksX10_tests_6 13 rfl rfl)
theorem dX10_tests_155 : decode cX10_tests 155 = .ok (.iconst 0, 1) := dk_3 (dk_at dksX10_tests_6 14 rfl rfl)
theorem dX10_tests_156 : decode cX10_tests 156 = .ok (.iastore, 1) := dk_79 (dk_at dksX10_tests_6 15 rfl rfl)
theorem dX10_tests_157 : decode cX10_tests 157 = .ok (.aload_n 0, 1) := dk_42 (dk_at dksX10_tests_6 16 rfl rfl)
theorem dX10_tests_158 : decode cX10_tests 158 = .ok (.getfield 90, 3) := dk_180 0 90 (dk_at dksX10_tests_6 17 rfl rfl)
theorem dX10_tests_161 : decode cX10_tests 161 = .ok (.iload_n 1, 1) := dk_27 (dk_at dksX10_tests_6 20 rfl rfl)
theorem dX10_tests_162 : decode cX10_tests 162 = .ok (.bipush 20, 2) := dk_16 20 (dk_at dksX10_tests_6 21 rfl rfl)
theorem dX10_tests_164 : decode cX10_tests 164 = .ok (.iastore, 1) := dk_79 (dk_at dksX10_tests_6 23 rfl rfl)
theorem dX10_tests_165 : decode cX10_tests 165 = .ok (.return_, 1) := dk_177 (dk_at dksX10_tests_7 0 rfl rfl)
abbrev cX10_between : ByteArray := prog_36_method_4_code
def yX10_between : MethodName := ⟨RX10, "between", "(III)I"⟩
def dkwX10_between_0 : List UInt8 := [26, 27, 162, 0, 7, 27, 167, 0, 13, 26, 28, 164, 0, 7, 28, 167, 0, 4, 26, 172]
abbrev dktX10_between_0 : List UInt8 := dkwX10_between_0 ++ []
theorem dksX10_between_0 : cX10_between.data.toList.drop 0 = dktX10_between_0 := by decide +kernel
theorem dX10_between_0 : decode cX10_between 0 = .ok (.iload_n 0, 1) := dk_26 (dk_at dksX10_between_0 0 rfl rfl)
theorem dX10_between_1 : decode cX10_between 1 = .ok (.iload_n 1, 1) := dk_27 (dk_at dksX10_between_0 1 rfl rfl)
theorem dX10_between_2 : decode cX10_between 2 = .ok (.if_icmp .ge 7, 3) := dk_162 0 7 (dk_at dksX10_between_0 2 rfl rfl)
theorem dX10_between_5 : decode cX10_between 5 = .ok (.iload_n 1, 1) := dk_27 (dk_at dksX10_between_0 5 rfl rfl)
theorem dX10_between_6 : decode cX10_between 6 = .ok (.goto 13, 3) := dk_167 0 13 (dk_at dksX10_between_0 6 rfl rfl)
theorem dX10_between_9 : decode cX10_between 9 = .ok (.iload_n 0, 1) := dk_26 (dk_at dksX10_between_0 9 rfl rfl)
theorem dX10_between_10 : decode cX10_between 10 = .ok (.iload_n 2, 1) := dk_28 (dk_at dksX10_between_0 10 rfl rfl)
theorem dX10_between_11 : decode cX10_between 11 = .ok (.if_icmp .le 7, 3) := dk_164 0 7 (dk_at dksX10_between_0 11 rfl rfl)
theorem dX10_between_14 : decode cX10_between 14 = .ok (.iload_n 2, 1) := dk_28 (dk_at dksX10_between_0 14 rfl rfl)
theorem dX10_between_15 : decode cX10_between 15 = .ok (.goto 4, 3) := dk_167 0 4 (dk_at dksX10_between_0 15 rfl rfl)
theorem dX10_between_18 : decode cX10_between 18 = .ok (.iload_n 0, 1) := dk_26 (dk_at dksX10_between_0 18 rfl rfl)
theorem dX10_between_19 : decode cX10_between 19 = .ok (.ireturn, 1) := dk_172 (dk_at dksX10_between_0 19 rfl rfl)
abbrev cX10_net : ByteArray := prog_36_method_59_code
def yX10_net : MethodName := ⟨RX10, "net", "(I)I"⟩
def dkwX10_net_2 : List UInt8 := [28, 172]
abbrev dktX10_net_2 : List UInt8 := dkwX10_net_2 ++ []
def dkwX10_net_1 : List UInt8 := [46, 42, 180, 0, 129, 16, 86, 16, 6, 27, 104, 96, 29, 96, 46, 100, 96, 61, 132, 3, 1, 167, 255, 215]
abbrev dktX10_net_1 : List UInt8 := dkwX10_net_1 ++ dktX10_net_2
def dkwX10_net_0 : List UInt8 := [3, 61, 3, 62, 29, 16, 6, 162, 0, 41, 28, 42, 180, 0, 129, 16, 86, 16, 6, 29, 104, 96, 27, 96]
abbrev dktX10_net_0 : List UInt8 := dkwX10_net_0 ++ dktX10_net_1
theorem dksX10_net_0 : cX10_net.data.toList.drop 0 = dktX10_net_0 := by decide +kernel
theorem dksX10_net_1 : cX10_net.data.toList.drop 24 = dktX10_net_1 := dk_seg dksX10_net_0 24 rfl rfl
theorem dksX10_net_2 : cX10_net.data.toList.drop 48 = dktX10_net_2 := dk_seg dksX10_net_1 24 rfl rfl
theorem dX10_net_0 : decode cX10_net 0 = .ok (.iconst 0, 1) := dk_3 (dk_at dksX10_net_0 0 rfl rfl)
theorem dX10_net_1 : decode cX10_net 1 = .ok (.istore_n 2, 1) := dk_61 (dk_at dksX10_net_0 1 rfl rfl)
theorem dX10_net_2 : decode cX10_net 2 = .ok (.iconst 0, 1) := dk_3 (dk_at dksX10_net_0 2 rfl rfl)
theorem dX10_net_3 : decode cX10_net 3 = .ok (.istore_n 3, 1) := dk_62 (dk_at dksX10_net_0 3 rfl rfl)
theorem dX10_net_4 : decode cX10_net 4 = .ok (.iload_n 3, 1) := dk_29 (dk_at dksX10_net_0 4 rfl rfl)
theorem dX10_net_5 : decode cX10_net 5 = .ok (.bipush 6, 2) := dk_16 6 (dk_at dksX10_net_0 5 rfl rfl)
theorem dX10_net_7 : decode cX10_net 7 = .ok (.if_icmp .ge 41, 3) := dk_162 0 41 (dk_at dksX10_net_0 7 rfl rfl)
theorem dX10_net_10 : decode cX10_net 10 = .ok (.iload_n 2, 1) := dk_28 (dk_at dksX10_net_0 10 rfl rfl)
theorem dX10_net_11 : decode cX10_net 11 = .ok (.aload_n 0, 1) := dk_42 (dk_at dksX10_net_0 11 rfl rfl)
theorem dX10_net_12 : decode cX10_net 12 = .ok (.getfield 129, 3) := dk_180 0 129 (dk_at dksX10_net_0 12 rfl rfl)
theorem dX10_net_15 : decode cX10_net 15 = .ok (.bipush 86, 2) := dk_16 86 (dk_at dksX10_net_0 15 rfl rfl)
theorem dX10_net_17 : decode cX10_net 17 = .ok (.bipush 6, 2) := dk_16 6 (dk_at dksX10_net_0 17 rfl rfl)
theorem dX10_net_19 : decode cX10_net 19 = .ok (.iload_n 3, 1) := dk_29 (dk_at dksX10_net_0 19 rfl rfl)
theorem dX10_net_20 : decode cX10_net 20 = .ok (.imul, 1) := dk_104 (dk_at dksX10_net_0 20 rfl rfl)
theorem dX10_net_21 : decode cX10_net 21 = .ok (.iadd, 1) := dk_96 (dk_at dksX10_net_0 21 rfl rfl)
theorem dX10_net_22 : decode cX10_net 22 = .ok (.iload_n 1, 1) := dk_27 (dk_at dksX10_net_0 22 rfl rfl)
theorem dX10_net_23 : decode cX10_net 23 = .ok (.iadd, 1) := dk_96 (dk_at dksX10_net_0 23 rfl rfl)
theorem dX10_net_24 : decode cX10_net 24 = .ok (.iaload, 1) := dk_46 (dk_at dksX10_net_1 0 rfl rfl)
theorem dX10_net_25 : decode cX10_net 25 = .ok (.aload_n 0, 1) := dk_42 (dk_at dksX10_net_1 1 rfl rfl)
theorem dX10_net_26 : decode cX10_net 26 = .ok (.getfield 129, 3) := dk_180 0 129 (dk_at dksX10_net_1 2 rfl rfl)
theorem dX10_net_29 : decode cX10_net 29 = .ok (.bipush 86, 2) := dk_16 86 (dk_at dksX10_net_1 5 rfl rfl)
theorem dX10_net_31 : decode cX10_net 31 = .ok (.bipush 6, 2) := dk_16 6 (dk_at dksX10_net_1 7 rfl rfl)
theorem dX10_net_33 : decode cX10_net 33 = .ok (.iload_n 1, 1) := dk_27 (dk_at dksX10_net_1 9 rfl rfl)
theorem dX10_net_34 : decode cX10_net 34 = .ok (.imul, 1) := dk_104 (dk_at dksX10_net_1 10 rfl rfl)
theorem dX10_net_35 : decode cX10_net 35 = .ok (.iadd, 1) := dk_96 (dk_at dksX10_net_1 11 rfl rfl)
theorem dX10_net_36 : decode cX10_net 36 = .ok (.iload_n 3, 1) := dk_29 (dk_at dksX10_net_1 12 rfl rfl)
theorem dX10_net_37 : decode cX10_net 37 = .ok (.iadd, 1) := dk_96 (dk_at dksX10_net_1 13 rfl rfl)
theorem dX10_net_38 : decode cX10_net 38 = .ok (.iaload, 1) := dk_46 (dk_at dksX10_net_1 14 rfl rfl)
theorem dX10_net_39 : decode cX10_net 39 = .ok (.isub, 1) := dk_100 (dk_at dksX10_net_1 15 rfl rfl)
theorem dX10_net_40 : decode cX10_net 40 = .ok (.iadd, 1) := dk_96 (dk_at dksX10_net_1 16 rfl rfl)
theorem dX10_net_41 : decode cX10_net 41 = .ok (.istore_n 2, 1) := dk_61 (dk_at dksX10_net_1 17 rfl rfl)
theorem dX10_net_42 : decode cX10_net 42 = .ok (.iinc 3 1, 3) := dk_132 3 1 (dk_at dksX10_net_1 18 rfl rfl)
theorem dX10_net_45 : decode cX10_net 45 = .ok (.goto (-41), 3) := dk_167 255 215 (dk_at dksX10_net_1 21 rfl rfl)
theorem dX10_net_48 : decode cX10_net 48 = .ok (.iload_n 2, 1) := dk_28 (dk_at dksX10_net_2 0 rfl rfl)
theorem dX10_net_49 : decode cX10_net 49 = .ok (.ireturn, 1) := dk_172 (dk_at dksX10_net_2 1 rfl rfl)
abbrev cX10_secret : ByteArray := prog_36_method_61_code
def yX10_secret : MethodName := ⟨RX10, "secret", "(II)I"⟩
def dkwX10_secret_6 : List UInt8 := [16, 7, 160, 0, 8, 16, 76, 167, 0, 5, 16, 77, 46, 27, 122, 4, 126, 172]
abbrev dktX10_secret_6 : List UInt8 := dkwX10_secret_6 ++ []
def dkwX10_secret_5 : List UInt8 := [182, 1, 171, 172, 28, 16, 9, 160, 0, 12, 42, 180, 0, 47, 27, 46, 167, 0, 25, 42, 180, 0, 129, 28]
abbrev dktX10_secret_5 : List UInt8 := dkwX10_secret_5 ++ dktX10_secret_6
def dkwX10_secret_4 : List UInt8 := [167, 0, 26, 28, 8, 160, 0, 16, 42, 42, 180, 0, 129, 27, 46, 182, 1, 152, 167, 0, 8, 42, 27]
abbrev dktX10_secret_4 : List UInt8 := dkwX10_secret_4 ++ dktX10_secret_5
def dkwX10_secret_3 : List UInt8 := [180, 0, 41, 27, 46, 172, 28, 16, 7, 162, 0, 41, 28, 7, 160, 0, 12, 42, 180, 0, 129, 27, 46]
abbrev dktX10_secret_3 : List UInt8 := dkwX10_secret_3 ++ dktX10_secret_4
def dkwX10_secret_2 : List UInt8 := [42, 180, 0, 35, 27, 46, 167, 0, 23, 28, 5, 160, 0, 12, 42, 180, 0, 38, 27, 46, 167, 0, 9, 42]
abbrev dktX10_secret_2 : List UInt8 := dkwX10_secret_2 ++ dktX10_secret_3
def dkwX10_secret_1 : List UInt8 := [172, 28, 7, 162, 0, 51, 28, 154, 0, 12, 42, 180, 0, 32, 27, 46, 167, 0, 37, 28, 4, 160, 0, 12]
abbrev dktX10_secret_1 : List UInt8 := dkwX10_secret_1 ++ dktX10_secret_2
def dkwX10_secret_0 : List UInt8 := [42, 3, 181, 0, 175, 42, 27, 182, 1, 189, 153, 0, 13, 28, 3, 16, 9, 184, 1, 52, 154, 0, 5, 2]
abbrev dktX10_secret_0 : List UInt8 := dkwX10_secret_0 ++ dktX10_secret_1
theorem dksX10_secret_0 : cX10_secret.data.toList.drop 0 = dktX10_secret_0 := by decide +kernel
theorem dksX10_secret_1 : cX10_secret.data.toList.drop 24 = dktX10_secret_1 := dk_seg dksX10_secret_0 24 rfl rfl
theorem dksX10_secret_2 : cX10_secret.data.toList.drop 48 = dktX10_secret_2 := dk_seg dksX10_secret_1 24 rfl rfl
theorem dksX10_secret_3 : cX10_secret.data.toList.drop 72 = dktX10_secret_3 := dk_seg dksX10_secret_2 24 rfl rfl
theorem dksX10_secret_4 : cX10_secret.data.toList.drop 95 = dktX10_secret_4 := dk_seg dksX10_secret_3 23 rfl rfl
theorem dksX10_secret_5 : cX10_secret.data.toList.drop 118 = dktX10_secret_5 := dk_seg dksX10_secret_4 23 rfl rfl
theorem dksX10_secret_6 : cX10_secret.data.toList.drop 142 = dktX10_secret_6 := dk_seg dksX10_secret_5 24 rfl rfl
theorem dX10_secret_0 : decode cX10_secret 0 = .ok (.aload_n 0, 1) := dk_42 (dk_at dksX10_secret_0 0 rfl rfl)
theorem dX10_secret_1 : decode cX10_secret 1 = .ok (.iconst 0, 1) := dk_3 (dk_at dksX10_secret_0 1 rfl rfl)
theorem dX10_secret_2 : decode cX10_secret 2 = .ok (.putfield 175, 3) := dk_181 0 175 (dk_at dksX10_secret_0 2 rfl rfl)
theorem dX10_secret_5 : decode cX10_secret 5 = .ok (.aload_n 0, 1) := dk_42 (dk_at dksX10_secret_0 5 rfl rfl)
theorem dX10_secret_6 : decode cX10_secret 6 = .ok (.iload_n 1, 1) := dk_27 (dk_at dksX10_secret_0 6 rfl rfl)
theorem dX10_secret_7 : decode cX10_secret 7 = .ok (.invokevirtual 445, 3) := dk_182 1 189 (dk_at dksX10_secret_0 7 rfl rfl)
theorem dX10_secret_10 : decode cX10_secret 10 = .ok (.ifCond .eq 13, 3) := dk_153 0 13 (dk_at dksX10_secret_0 10 rfl rfl)
theorem dX10_secret_13 : decode cX10_secret 13 = .ok (.iload_n 2, 1) := dk_28 (dk_at dksX10_secret_0 13 rfl rfl)
theorem dX10_secret_14 : decode cX10_secret 14 = .ok (.iconst 0, 1) := dk_3 (dk_at dksX10_secret_0 14 rfl rfl)
theorem dX10_secret_15 : decode cX10_secret 15 = .ok (.bipush 9, 2) := dk_16 9 (dk_at dksX10_secret_0 15 rfl rfl)
theorem dX10_secret_17 : decode cX10_secret 17 = .ok (.invokestatic 308, 3) := dk_184 1 52 (dk_at dksX10_secret_0 17 rfl rfl)
theorem dX10_secret_20 : decode cX10_secret 20 = .ok (.ifCond .ne 5, 3) := dk_154 0 5 (dk_at dksX10_secret_0 20 rfl rfl)
theorem dX10_secret_23 : decode cX10_secret 23 = .ok (.iconst (-1), 1) := dk_2 (dk_at dksX10_secret_0 23 rfl rfl)
theorem dX10_secret_24 : decode cX10_secret 24 = .ok (.ireturn, 1) := dk_172 (dk_at dksX10_secret_1 0 rfl rfl)
theorem dX10_secret_25 : decode cX10_secret 25 = .ok (.iload_n 2, 1) := dk_28 (dk_at dksX10_secret_1 1 rfl rfl)
theorem dX10_secret_26 : decode cX10_secret 26 = .ok (.iconst 4, 1) := dk_7 (dk_at dksX10_secret_1 2 rfl rfl)
theorem dX10_secret_27 : decode cX10_secret 27 = .ok (.if_icmp .ge 51, 3) := dk_162 0 51 (dk_at dksX10_secret_1 3 rfl rfl)
theorem dX10_secret_30 : decode cX10_secret 30 = .ok (.iload_n 2, 1) := dk_28 (dk_at dksX10_secret_1 6 rfl rfl)
theorem dX10_secret_31 : decode cX10_secret 31 = .ok (.ifCond .ne 12, 3) := dk_154 0 12 (dk_at dksX10_secret_1 7 rfl rfl)
theorem dX10_secret_34 : decode cX10_secret 34 = .ok (.aload_n 0, 1) := dk_42 (dk_at dksX10_secret_1 10 rfl rfl)
theorem dX10_secret_35 : decode cX10_secret 35 = .ok (.getfield 32, 3) := dk_180 0 32 (dk_at dksX10_secret_1 11 rfl rfl)
theorem dX10_secret_38 : decode cX10_secret 38 = .ok (.iload_n 1, 1) := dk_27 (dk_at dksX10_secret_1 14 rfl rfl)
theorem dX10_secret_39 : decode cX10_secret 39 = .ok (.iaload, 1) := dk_46 (dk_at dksX10_secret_1 15 rfl rfl)
theorem dX10_secret_40 : decode cX10_secret 40 = .ok (.goto 37, 3) := dk_167 0 37 (dk_at dksX10_secret_1 16 rfl rfl)
theorem dX10_secret_43 : decode cX10_secret 43 = .ok (.iload_n 2, 1) := dk_28 (dk_at dksX10_secret_1 19 rfl rfl)
theorem dX10_secret_44 : decode cX10_secret 44 = .ok (.iconst 1, 1) := dk_4 (dk_at dksX10_secret_1 20 rfl rfl)
theorem dX10_secret_45 : decode cX10_secret 45 = .ok (.if_icmp .ne 12, 3) := dk_160 0 12 (dk_at dksX10_secret_1 21 rfl rfl)
theorem dX10_secret_48 : decode cX10_secret 48 = .ok (.aload_n 0, 1) := dk_42 (dk_at dksX10_secret_2 0 rfl rfl)
theorem dX10_secret_49 : decode cX10_secret 49 = .ok (.getfield 35, 3) := dk_180 0 35 (dk_at dksX10_secret_2 1 rfl rfl)
theorem dX10_secret_52 : decode cX10_secret 52 = .ok (.iload_n 1, 1) := dk_27 (dk_at dksX10_secret_2 4 rfl rfl)
theorem dX10_secret_53 : decode cX10_secret 53 = .ok (.iaload, 1) := dk_46 (dk_at dksX10_secret_2 5 rfl rfl)
theorem dX10_secret_54 : decode cX10_secret 54 = .ok (.goto 23, 3) := dk_167 0 23 (dk_at dksX10_secret_2 6 rfl rfl)
theorem dX10_secret_57 : decode cX10_secret 57 = .ok (.iload_n 2, 1) := dk_28 (dk_at dksX10_secret_2 9 rfl rfl)
theorem dX10_secret_58 : decode cX10_secret 58 = .ok (.iconst 2, 1) := dk_5 (dk_at dksX10_secret_2 10 rfl rfl)
theorem dX10_secret_59 : decode cX10_secret 59 = .ok (.if_icmp .ne 12, 3) := dk_160 0 12 (dk_at dksX10_secret_2 11 rfl rfl)
theorem dX10_secret_62 : decode cX10_secret 62 = .ok (.aload_n 0, 1) := dk_42 (dk_at dksX10_secret_2 14 rfl rfl)
theorem dX10_secret_63 : decode cX10_secret 63 = .ok (.getfield 38, 3) := dk_180 0 38 (dk_at dksX10_secret_2 15 rfl rfl)
theorem dX10_secret_66 : decode cX10_secret 66 = .ok (.iload_n 1, 1) := dk_27 (dk_at dksX10_secret_2 18 rfl rfl)
theorem dX10_secret_67 : decode cX10_secret 67 = .ok (.iaload, 1) := dk_46 (dk_at dksX10_secret_2 19 rfl rfl)
theorem dX10_secret_68 : decode cX10_secret 68 = .ok (.goto 9, 3) := dk_167 0 9 (dk_at dksX10_secret_2 20 rfl rfl)
theorem dX10_secret_71 : decode cX10_secret 71 = .ok (.aload_n 0, 1) := dk_42 (dk_at dksX10_secret_2 23 rfl rfl)
theorem dX10_secret_72 : decode cX10_secret 72 = .ok (.getfield 41, 3) := dk_180 0 41 (dk_at dksX10_secret_3 0 rfl rfl)
theorem dX10_secret_75 : decode cX10_secret 75 = .ok (.iload_n 1, 1) := dk_27 (dk_at dksX10_secret_3 3 rfl rfl)
theorem dX10_secret_76 : decode cX10_secret 76 = .ok (.iaload, 1) := dk_46 (dk_at dksX10_secret_3 4 rfl rfl)
theorem dX10_secret_77 : decode cX10_secret 77 = .ok (.ireturn, 1) := dk_172 (dk_at dksX10_secret_3 5 rfl rfl)
theorem dX10_secret_78 : decode cX10_secret 78 = .ok (.iload_n 2, 1) := dk_28 (dk_at dksX10_secret_3 6 rfl rfl)
theorem dX10_secret_79 : decode cX10_secret 79 = .ok (.bipush 7, 2) := dk_16 7 (dk_at dksX10_secret_3 7 rfl rfl)
theorem dX10_secret_81 : decode cX10_secret 81 = .ok (.if_icmp .ge 41, 3) := dk_162 0 41 (dk_at dksX10_secret_3 9 rfl rfl)
theorem dX10_secret_84 : decode cX10_secret 84 = .ok (.iload_n 2, 1) := dk_28 (dk_at dksX10_secret_3 12 rfl rfl)
theorem dX10_secret_85 : decode cX10_secret 85 = .ok (.iconst 4, 1) := dk_7 (dk_at dksX10_secret_3 13 rfl rfl)
theorem dX10_secret_86 : decode cX10_secret 86 = .ok (.if_icmp .ne 12, 3) := dk_160 0 12 (dk_at dksX10_secret_3 14 rfl rfl)
theorem dX10_secret_89 : decode cX10_secret 89 = .ok (.aload_n 0, 1) := dk_42 (dk_at dksX10_secret_3 17 rfl rfl)
theorem dX10_secret_90 : decode cX10_secret 90 = .ok (.getfield 129, 3) := dk_180 0 129 (dk_at dksX10_secret_3 18 rfl rfl)
theorem dX10_secret_93 : decode cX10_secret 93 = .ok (.iload_n 1, 1) := dk_27 (dk_at dksX10_secret_3 21 rfl rfl)
theorem dX10_secret_94 : decode cX10_secret 94 = .ok (.iaload, 1) := dk_46 (dk_at dksX10_secret_3 22 rfl rfl)
theorem dX10_secret_95 : decode cX10_secret 95 = .ok (.goto 26, 3) := dk_167 0 26 (dk_at dksX10_secret_4 0 rfl rfl)
theorem dX10_secret_98 : decode cX10_secret 98 = .ok (.iload_n 2, 1) := dk_28 (dk_at dksX10_secret_4 3 rfl rfl)
theorem dX10_secret_99 : decode cX10_secret 99 = .ok (.iconst 5, 1) := dk_8 (dk_at dksX10_secret_4 4 rfl rfl)
theorem dX10_secret_100 : decode cX10_secret 100 = .ok (.if_icmp .ne 16, 3) := dk_160 0 16 (dk_at dksX10_secret_4 5 rfl rfl)
theorem dX10_secret_103 : decode cX10_secret 103 = .ok (.aload_n 0, 1) := dk_42 (dk_at dksX10_secret_4 8 rfl rfl)
theorem dX10_secret_104 : decode cX10_secret 104 = .ok (.aload_n 0, 1) := dk_42 (dk_at dksX10_secret_4 9 rfl rfl)
theorem dX10_secret_105 : decode cX10_secret 105 = .ok (.getfield 129, 3) := dk_180 0 129 (dk_at dksX10_secret_4 10 rfl rfl)
theorem dX10_secret_108 : decode cX10_secret 108 = .ok (.iload_n 1, 1) := dk_27 (dk_at dksX10_secret_4 13 rfl rfl)
theorem dX10_secret_109 : decode cX10_secret 109 = .ok (.iaload, 1) := dk_46 (dk_at dksX10_secret_4 14 rfl rfl)
theorem dX10_secret_110 : decode cX10_secret 110 = .ok (.invokevirtual 408, 3) := dk_182 1 152 (dk_at dksX10_secret_4 15 rfl rfl)
theorem dX10_secret_113 : decode cX10_secret 113 = .ok (.goto 8, 3) := dk_167 0 8 (dk_at dksX10_secret_4 18 rfl rfl)
theorem dX10_secret_116 : decode cX10_secret 116 = .ok (.aload_n 0, 1) := dk_42 (dk_at dksX10_secret_4 21 rfl rfl)
theorem dX10_secret_117 : decode cX10_secret 117 = .ok (.iload_n 1, 1) := dk_27 (dk_at dksX10_secret_4 22 rfl rfl)
theorem dX10_secret_118 : decode cX10_secret 118 = .ok (.invokevirtual 427, 3) := dk_182 1 171 (dk_at dksX10_secret_5 0 rfl rfl)
theorem dX10_secret_121 : decode cX10_secret 121 = .ok (.ireturn, 1) := dk_172 (dk_at dksX10_secret_5 3 rfl rfl)
theorem dX10_secret_122 : decode cX10_secret 122 = .ok (.iload_n 2, 1) := dk_28 (dk_at dksX10_secret_5 4 rfl rfl)
theorem dX10_secret_123 : decode cX10_secret 123 = .ok (.bipush 9, 2) := dk_16 9 (dk_at dksX10_secret_5 5 rfl rfl)
theorem dX10_secret_125 : decode cX10_secret 125 = .ok (.if_icmp .ne 12, 3) := dk_160 0 12 (dk_at dksX10_secret_5 7 rfl rfl)
theorem dX10_secret_128 : decode cX10_secret 128 = .ok (.aload_n 0, 1) := dk_42 (dk_at dksX10_secret_5 10 rfl rfl)
theorem dX10_secret_129 : decode cX10_secret 129 = .ok (.getfield 47, 3) := dk_180 0 47 (dk_at dksX10_secret_5 11 rfl rfl)
theorem dX10_secret_132 : decode cX10_secret 132 = .ok (.iload_n 1, 1) := dk_27 (dk_at dksX10_secret_5 14 rfl rfl)
theorem dX10_secret_133 : decode cX10_secret 133 = .ok (.iaload, 1) := dk_46 (dk_at dksX10_secret_5 15 rfl rfl)
theorem dX10_secret_134 : decode cX10_secret 134 = .ok (.goto 25, 3) := dk_167 0 25 (dk_at dksX10_secret_5 16 rfl rfl)
theorem dX10_secret_137 : decode cX10_secret 137 = .ok (.aload_n 0, 1) := dk_42 (dk_at dksX10_secret_5 19 rfl rfl)
theorem dX10_secret_138 : decode cX10_secret 138 = .ok (.getfield 129, 3) := dk_180 0 129 (dk_at dksX10_secret_5 20 rfl rfl)
theorem dX10_secret_141 : decode cX10_secret 141 = .ok (.iload_n 2, 1) := dk_28 (dk_at dksX10_secret_5 23 rfl rfl)
theorem dX10_secret_142 : decode cX10_secret 142 = .ok (.bipush 7, 2) := dk_16 7 (dk_at dksX10_secret_6 0 rfl rfl)
theorem dX10_secret_144 : decode cX10_secret 144 = .ok (.if_icmp .ne 8, 3) := dk_160 0 8 (dk_at dksX10_secret_6 2 rfl rfl)
theorem dX10_secret_147 : decode cX10_secret 147 = .ok (.bipush 76, 2) := dk_16 76 (dk_at dksX10_secret_6 5 rfl rfl)
theorem dX10_secret_149 : decode cX10_secret 149 = .ok (.goto 5, 3) := dk_167 0 5 (dk_at dksX10_secret_6 7 rfl rfl)
theorem dX10_secret_152 : decode cX10_secret 152 = .ok (.bipush 77, 2) := dk_16 77 (dk_at dksX10_secret_6 10 rfl rfl)
theorem dX10_secret_154 : decode cX10_secret 154 = .ok (.iaload, 1) := dk_46 (dk_at dksX10_secret_6 12 rfl rfl)
theorem dX10_secret_155 : decode cX10_secret 155 = .ok (.iload_n 1, 1) := dk_27 (dk_at dksX10_secret_6 13 rfl rfl)
theorem dX10_secret_156 : decode cX10_secret 156 = .ok (.ishr, 1) := dk_122 (dk_at dksX10_secret_6 14 rfl rfl)
theorem dX10_secret_157 : decode cX10_secret 157 = .ok (.iconst 1, 1) := dk_4 (dk_at dksX10_secret_6 15 rfl rfl)
theorem dX10_secret_158 : decode cX10_secret 158 = .ok (.iand, 1) := dk_126 (dk_at dksX10_secret_6 16 rfl rfl)
theorem dX10_secret_159 : decode cX10_secret 159 = .ok (.ireturn, 1) := dk_172 (dk_at dksX10_secret_6 17 rfl rfl)
abbrev cX10_isSecret : ByteArray := prog_36_method_52_code
def yX10_isSecret : MethodName := ⟨RX10, "isSecret", "(I)Z"⟩
def dkwX10_isSecret_0 : List UInt8 := [27, 155, 0, 17, 27, 42, 180, 0, 13, 4, 46, 162, 0, 7, 4, 167, 0, 4, 3, 172]
abbrev dktX10_isSecret_0 : List UInt8 := dkwX10_isSecret_0 ++ []
theorem dksX10_isSecret_0 : cX10_isSecret.data.toList.drop 0 = dktX10_isSecret_0 := by decide +kernel
theorem dX10_isSecret_0 : decode cX10_isSecret 0 = .ok (.iload_n 1, 1) := dk_27 (dk_at dksX10_isSecret_0 0 rfl rfl)
theorem dX10_isSecret_1 : decode cX10_isSecret 1 = .ok (.ifCond .lt 17, 3) := dk_155 0 17 (dk_at dksX10_isSecret_0 1 rfl rfl)
theorem dX10_isSecret_4 : decode cX10_isSecret 4 = .ok (.iload_n 1, 1) := dk_27 (dk_at dksX10_isSecret_0 4 rfl rfl)
theorem dX10_isSecret_5 : decode cX10_isSecret 5 = .ok (.aload_n 0, 1) := dk_42 (dk_at dksX10_isSecret_0 5 rfl rfl)
theorem dX10_isSecret_6 : decode cX10_isSecret 6 = .ok (.getfield 13, 3) := dk_180 0 13 (dk_at dksX10_isSecret_0 6 rfl rfl)
theorem dX10_isSecret_9 : decode cX10_isSecret 9 = .ok (.iconst 1, 1) := dk_4 (dk_at dksX10_isSecret_0 9 rfl rfl)
theorem dX10_isSecret_10 : decode cX10_isSecret 10 = .ok (.iaload, 1) := dk_46 (dk_at dksX10_isSecret_0 10 rfl rfl)
theorem dX10_isSecret_11 : decode cX10_isSecret 11 = .ok (.if_icmp .ge 7, 3) := dk_162 0 7 (dk_at dksX10_isSecret_0 11 rfl rfl)
theorem dX10_isSecret_14 : decode cX10_isSecret 14 = .ok (.iconst 1, 1) := dk_4 (dk_at dksX10_isSecret_0 14 rfl rfl)
theorem dX10_isSecret_15 : decode cX10_isSecret 15 = .ok (.goto 4, 3) := dk_167 0 4 (dk_at dksX10_isSecret_0 15 rfl rfl)
theorem dX10_isSecret_18 : decode cX10_isSecret 18 = .ok (.iconst 0, 1) := dk_3 (dk_at dksX10_isSecret_0 18 rfl rfl)
theorem dX10_isSecret_19 : decode cX10_isSecret 19 = .ok (.ireturn, 1) := dk_172 (dk_at dksX10_isSecret_0 19 rfl rfl)
abbrev cX10_aware : ByteArray := prog_36_method_63_code
def yX10_aware : MethodName := ⟨RX10, "aware", "(III)I"⟩
def dkwX10_aware_1 : List UInt8 := [180, 0, 129, 16, 10, 16, 10, 27, 104, 96, 29, 96, 46, 28, 122, 4, 126, 167, 0, 4, 2, 172]
abbrev dktX10_aware_1 : List UInt8 := dkwX10_aware_1 ++ []
def dkwX10_aware_0 : List UInt8 := [42, 3, 181, 0, 175, 42, 27, 28, 182, 1, 192, 153, 0, 32, 42, 29, 182, 1, 189, 153, 0, 24, 42]
abbrev dktX10_aware_0 : List UInt8 := dkwX10_aware_0 ++ dktX10_aware_1
theorem dksX10_aware_0 : cX10_aware.data.toList.drop 0 = dktX10_aware_0 := by decide +kernel
theorem dksX10_aware_1 : cX10_aware.data.toList.drop 23 = dktX10_aware_1 := dk_seg dksX10_aware_0 23 rfl rfl
theorem dX10_aware_0 : decode cX10_aware 0 = .ok (.aload_n 0, 1) := dk_42 (dk_at dksX10_aware_0 0 rfl rfl)
theorem dX10_aware_1 : decode cX10_aware 1 = .ok (.iconst 0, 1) := dk_3 (dk_at dksX10_aware_0 1 rfl rfl)
theorem dX10_aware_2 : decode cX10_aware 2 = .ok (.putfield 175, 3) := dk_181 0 175 (dk_at dksX10_aware_0 2 rfl rfl)
theorem dX10_aware_5 : decode cX10_aware 5 = .ok (.aload_n 0, 1) := dk_42 (dk_at dksX10_aware_0 5 rfl rfl)
theorem dX10_aware_6 : decode cX10_aware 6 = .ok (.iload_n 1, 1) := dk_27 (dk_at dksX10_aware_0 6 rfl rfl)
theorem dX10_aware_7 : decode cX10_aware 7 = .ok (.iload_n 2, 1) := dk_28 (dk_at dksX10_aware_0 7 rfl rfl)
theorem dX10_aware_8 : decode cX10_aware 8 = .ok (.invokevirtual 448, 3) := dk_182 1 192 (dk_at dksX10_aware_0 8 rfl rfl)
theorem dX10_aware_11 : decode cX10_aware 11 = .ok (.ifCond .eq 32, 3) := dk_153 0 32 (dk_at dksX10_aware_0 11 rfl rfl)
theorem dX10_aware_14 : decode cX10_aware 14 = .ok (.aload_n 0, 1) := dk_42 (dk_at dksX10_aware_0 14 rfl rfl)
theorem dX10_aware_15 : decode cX10_aware 15 = .ok (.iload_n 3, 1) := dk_29 (dk_at dksX10_aware_0 15 rfl rfl)
theorem dX10_aware_16 : decode cX10_aware 16 = .ok (.invokevirtual 445, 3) := dk_182 1 189 (dk_at dksX10_aware_0 16 rfl rfl)
theorem dX10_aware_19 : decode cX10_aware 19 = .ok (.ifCond .eq 24, 3) := dk_153 0 24 (dk_at dksX10_aware_0 19 rfl rfl)
theorem dX10_aware_22 : decode cX10_aware 22 = .ok (.aload_n 0, 1) := dk_42 (dk_at dksX10_aware_0 22 rfl rfl)
theorem dX10_aware_23 : decode cX10_aware 23 = .ok (.getfield 129, 3) := dk_180 0 129 (dk_at dksX10_aware_1 0 rfl rfl)
theorem dX10_aware_26 : decode cX10_aware 26 = .ok (.bipush 10, 2) := dk_16 10 (dk_at dksX10_aware_1 3 rfl rfl)
theorem dX10_aware_28 : decode cX10_aware 28 = .ok (.bipush 10, 2) := dk_16 10 (dk_at dksX10_aware_1 5 rfl rfl)
theorem dX10_aware_30 : decode cX10_aware 30 = .ok (.iload_n 1, 1) := dk_27 (dk_at dksX10_aware_1 7 rfl rfl)
theorem dX10_aware_31 : decode cX10_aware 31 = .ok (.imul, 1) := dk_104 (dk_at dksX10_aware_1 8 rfl rfl)
theorem dX10_aware_32 : decode cX10_aware 32 = .ok (.iadd, 1) := dk_96 (dk_at dksX10_aware_1 9 rfl rfl)
theorem dX10_aware_33 : decode cX10_aware 33 = .ok (.iload_n 3, 1) := dk_29 (dk_at dksX10_aware_1 10 rfl rfl)
theorem dX10_aware_34 : decode cX10_aware 34 = .ok (.iadd, 1) := dk_96 (dk_at dksX10_aware_1 11 rfl rfl)
theorem dX10_aware_35 : decode cX10_aware 35 = .ok (.iaload, 1) := dk_46 (dk_at dksX10_aware_1 12 rfl rfl)
theorem dX10_aware_36 : decode cX10_aware 36 = .ok (.iload_n 2, 1) := dk_28 (dk_at dksX10_aware_1 13 rfl rfl)
theorem dX10_aware_37 : decode cX10_aware 37 = .ok (.ishr, 1) := dk_122 (dk_at dksX10_aware_1 14 rfl rfl)
theorem dX10_aware_38 : decode cX10_aware 38 = .ok (.iconst 1, 1) := dk_4 (dk_at dksX10_aware_1 15 rfl rfl)
theorem dX10_aware_39 : decode cX10_aware 39 = .ok (.iand, 1) := dk_126 (dk_at dksX10_aware_1 16 rfl rfl)
theorem dX10_aware_40 : decode cX10_aware 40 = .ok (.goto 4, 3) := dk_167 0 4 (dk_at dksX10_aware_1 17 rfl rfl)
theorem dX10_aware_43 : decode cX10_aware 43 = .ok (.iconst (-1), 1) := dk_2 (dk_at dksX10_aware_1 20 rfl rfl)
theorem dX10_aware_44 : decode cX10_aware 44 = .ok (.ireturn, 1) := dk_172 (dk_at dksX10_aware_1 21 rfl rfl)
abbrev cX10_areTwo : ByteArray := prog_36_method_62_code
def yX10_areTwo : MethodName := ⟨RX10, "areTwo", "(II)Z"⟩
def dkwX10_areTwo_1 : List UInt8 := [167, 0, 4, 3, 172]
abbrev dktX10_areTwo_1 : List UInt8 := dkwX10_areTwo_1 ++ []
def dkwX10_areTwo_0 : List UInt8 := [42, 27, 182, 1, 180, 153, 0, 20, 42, 28, 182, 1, 180, 153, 0, 12, 27, 28, 159, 0, 7, 4]
abbrev dktX10_areTwo_0 : List UInt8 := dkwX10_areTwo_0 ++ dktX10_areTwo_1
theorem dksX10_areTwo_0 : cX10_areTwo.data.toList.drop 0 = dktX10_areTwo_0 := by decide +kernel
theorem dksX10_areTwo_1 : cX10_areTwo.data.toList.drop 22 = dktX10_areTwo_1 := dk_seg dksX10_areTwo_0 22 rfl rfl
theorem dX10_areTwo_0 : decode cX10_areTwo 0 = .ok (.aload_n 0, 1) := dk_42 (dk_at dksX10_areTwo_0 0 rfl rfl)
theorem dX10_areTwo_1 : decode cX10_areTwo 1 = .ok (.iload_n 1, 1) := dk_27 (dk_at dksX10_areTwo_0 1 rfl rfl)
theorem dX10_areTwo_2 : decode cX10_areTwo 2 = .ok (.invokevirtual 436, 3) := dk_182 1 180 (dk_at dksX10_areTwo_0 2 rfl rfl)
theorem dX10_areTwo_5 : decode cX10_areTwo 5 = .ok (.ifCond .eq 20, 3) := dk_153 0 20 (dk_at dksX10_areTwo_0 5 rfl rfl)
theorem dX10_areTwo_8 : decode cX10_areTwo 8 = .ok (.aload_n 0, 1) := dk_42 (dk_at dksX10_areTwo_0 8 rfl rfl)
theorem dX10_areTwo_9 : decode cX10_areTwo 9 = .ok (.iload_n 2, 1) := dk_28 (dk_at dksX10_areTwo_0 9 rfl rfl)
theorem dX10_areTwo_10 : decode cX10_areTwo 10 = .ok (.invokevirtual 436, 3) := dk_182 1 180 (dk_at dksX10_areTwo_0 10 rfl rfl)
theorem dX10_areTwo_13 : decode cX10_areTwo 13 = .ok (.ifCond .eq 12, 3) := dk_153 0 12 (dk_at dksX10_areTwo_0 13 rfl rfl)
theorem dX10_areTwo_16 : decode cX10_areTwo 16 = .ok (.iload_n 1, 1) := dk_27 (dk_at dksX10_areTwo_0 16 rfl rfl)
theorem dX10_areTwo_17 : decode cX10_areTwo 17 = .ok (.iload_n 2, 1) := dk_28 (dk_at dksX10_areTwo_0 17 rfl rfl)
theorem dX10_areTwo_18 : decode cX10_areTwo 18 = .ok (.if_icmp .eq 7, 3) := dk_159 0 7 (dk_at dksX10_areTwo_0 18 rfl rfl)
theorem dX10_areTwo_21 : decode cX10_areTwo 21 = .ok (.iconst 1, 1) := dk_4 (dk_at dksX10_areTwo_0 21 rfl rfl)
theorem dX10_areTwo_22 : decode cX10_areTwo 22 = .ok (.goto 4, 3) := dk_167 0 4 (dk_at dksX10_areTwo_1 0 rfl rfl)
theorem dX10_areTwo_25 : decode cX10_areTwo 25 = .ok (.iconst 0, 1) := dk_3 (dk_at dksX10_areTwo_1 3 rfl rfl)
theorem dX10_areTwo_26 : decode cX10_areTwo 26 = .ok (.ireturn, 1) := dk_172 (dk_at dksX10_areTwo_1 4 rfl rfl)
abbrev cX10_ear : ByteArray := prog_36_method_65_code
def yX10_ear : MethodName := ⟨RX10, "ear", "(II)I"⟩
def dkwX10_ear_2 : List UInt8 := [167, 255, 217, 2, 172]
abbrev dktX10_ear_2 : List UInt8 := dkwX10_ear_2 ++ []
def dkwX10_ear_1 : List UInt8 := [160, 0, 19, 42, 180, 0, 53, 29, 46, 28, 160, 0, 9, 42, 29, 182, 1, 198, 172, 132, 3, 1]
abbrev dktX10_ear_1 : List UInt8 := dkwX10_ear_1 ++ dktX10_ear_2
def dkwX10_ear_0 : List UInt8 := [42, 3, 181, 0, 175, 3, 62, 29, 42, 180, 0, 13, 5, 46, 162, 0, 35, 42, 180, 0, 50, 29, 46, 27]
abbrev dktX10_ear_0 : List UInt8 := dkwX10_ear_0 ++ dktX10_ear_1
theorem dksX10_ear_0 : cX10_ear.data.toList.drop 0 = dktX10_ear_0 := by decide +kernel
theorem dksX10_ear_1 : cX10_ear.data.toList.drop 24 = dktX10_ear_1 := dk_seg dksX10_ear_0 24 rfl rfl
theorem dksX10_ear_2 : cX10_ear.data.toList.drop 46 = dktX10_ear_2 := dk_seg dksX10_ear_1 22 rfl rfl
theorem dX10_ear_0 : decode cX10_ear 0 = .ok (.aload_n 0, 1) := dk_42 (dk_at dksX10_ear_0 0 rfl rfl)
theorem dX10_ear_1 : decode cX10_ear 1 = .ok (.iconst 0, 1) := dk_3 (dk_at dksX10_ear_0 1 rfl rfl)
theorem dX10_ear_2 : decode cX10_ear 2 = .ok (.putfield 175, 3) := dk_181 0 175 (dk_at dksX10_ear_0 2 rfl rfl)
theorem dX10_ear_5 : decode cX10_ear 5 = .ok (.iconst 0, 1) := dk_3 (dk_at dksX10_ear_0 5 rfl rfl)
theorem dX10_ear_6 : decode cX10_ear 6 = .ok (.istore_n 3, 1) := dk_62 (dk_at dksX10_ear_0 6 rfl rfl)
theorem dX10_ear_7 : decode cX10_ear 7 = .ok (.iload_n 3, 1) := dk_29 (dk_at dksX10_ear_0 7 rfl rfl)
theorem dX10_ear_8 : decode cX10_ear 8 = .ok (.aload_n 0, 1) := dk_42 (dk_at dksX10_ear_0 8 rfl rfl)
theorem dX10_ear_9 : decode cX10_ear 9 = .ok (.getfield 13, 3) := dk_180 0 13 (dk_at dksX10_ear_0 9 rfl rfl)
theorem dX10_ear_12 : decode cX10_ear 12 = .ok (.iconst 2, 1) := dk_5 (dk_at dksX10_ear_0 12 rfl rfl)
theorem dX10_ear_13 : decode cX10_ear 13 = .ok (.iaload, 1) := dk_46 (dk_at dksX10_ear_0 13 rfl rfl)
theorem dX10_ear_14 : decode cX10_ear 14 = .ok (.if_icmp .ge 35, 3) := dk_162 0 35 (dk_at dksX10_ear_0 14 rfl rfl)
theorem dX10_ear_17 : decode cX10_ear 17 = .ok (.aload_n 0, 1) := dk_42 (dk_at dksX10_ear_0 17 rfl rfl)
theorem dX10_ear_18 : decode cX10_ear 18 = .ok (.getfield 50, 3) := dk_180 0 50 (dk_at dksX10_ear_0 18 rfl rfl)
theorem dX10_ear_21 : decode cX10_ear 21 = .ok (.iload_n 3, 1) := dk_29 (dk_at dksX10_ear_0 21 rfl rfl)
theorem dX10_ear_22 : decode cX10_ear 22 = .ok (.iaload, 1) := dk_46 (dk_at dksX10_ear_0 22 rfl rfl)
theorem dX10_ear_23 : decode cX10_ear 23 = .ok (.iload_n 1, 1) := dk_27 (dk_at dksX10_ear_0 23 rfl rfl)
theorem dX10_ear_24 : decode cX10_ear 24 = .ok (.if_icmp .ne 19, 3) := dk_160 0 19 (dk_at dksX10_ear_1 0 rfl rfl)
theorem dX10_ear_27 : decode cX10_ear 27 = .ok (.aload_n 0, 1) := dk_42 (dk_at dksX10_ear_1 3 rfl rfl)
theorem dX10_ear_28 : decode cX10_ear 28 = .ok (.getfield 53, 3) := dk_180 0 53 (dk_at dksX10_ear_1 4 rfl rfl)
theorem dX10_ear_31 : decode cX10_ear 31 = .ok (.iload_n 3, 1) := dk_29 (dk_at dksX10_ear_1 7 rfl rfl)
theorem dX10_ear_32 : decode cX10_ear 32 = .ok (.iaload, 1) := dk_46 (dk_at dksX10_ear_1 8 rfl rfl)
theorem dX10_ear_33 : decode cX10_ear 33 = .ok (.iload_n 2, 1) := dk_28 (dk_at dksX10_ear_1 9 rfl rfl)
theorem dX10_ear_34 : decode cX10_ear 34 = .ok (.if_icmp .ne 9, 3) := dk_160 0 9 (dk_at dksX10_ear_1 10 rfl rfl)
theorem dX10_ear_37 : decode cX10_ear 37 = .ok (.aload_n 0, 1) := dk_42 (dk_at dksX10_ear_1 13 rfl rfl)
theorem dX10_ear_38 : decode cX10_ear 38 = .ok (.iload_n 3, 1) := dk_29 (dk_at dksX10_ear_1 14 rfl rfl)
theorem dX10_ear_39 : decode cX10_ear 39 = .ok (.invokevirtual 454, 3) := dk_182 1 198 (dk_at dksX10_ear_1 15 rfl rfl)
theorem dX10_ear_42 : decode cX10_ear 42 = .ok (.ireturn, 1) := dk_172 (dk_at dksX10_ear_1 18 rfl rfl)
theorem dX10_ear_43 : decode cX10_ear 43 = .ok (.iinc 3 1, 3) := dk_132 3 1 (dk_at dksX10_ear_1 19 rfl rfl)
theorem dX10_ear_46 : decode cX10_ear 46 = .ok (.goto (-39), 3) := dk_167 255 217 (dk_at dksX10_ear_2 0 rfl rfl)
theorem dX10_ear_49 : decode cX10_ear 49 = .ok (.iconst (-1), 1) := dk_2 (dk_at dksX10_ear_2 3 rfl rfl)
theorem dX10_ear_50 : decode cX10_ear 50 = .ok (.ireturn, 1) := dk_172 (dk_at dksX10_ear_2 4 rfl rfl)
abbrev cX10_chanceOf : ByteArray := prog_36_method_64_code
def yX10_chanceOf : MethodName := ⟨RX10, "chanceOf", "(I)I"⟩
def dkwX10_chanceOf_1 : List UInt8 := [167, 0, 4, 3, 96, 184, 1, 195, 172]
abbrev dktX10_chanceOf_1 : List UInt8 := dkwX10_chanceOf_1 ++ []
def dkwX10_chanceOf_0 : List UInt8 := [16, 10, 42, 180, 0, 56, 27, 46, 42, 180, 0, 23, 42, 180, 0, 50, 27, 46, 46, 4, 160, 0, 7, 4]
abbrev dktX10_chanceOf_0 : List UInt8 := dkwX10_chanceOf_0 ++ dktX10_chanceOf_1
theorem dksX10_chanceOf_0 : cX10_chanceOf.data.toList.drop 0 = dktX10_chanceOf_0 := by decide +kernel
theorem dksX10_chanceOf_1 : cX10_chanceOf.data.toList.drop 24 = dktX10_chanceOf_1 := dk_seg dksX10_chanceOf_0 24 rfl rfl
theorem dX10_chanceOf_0 : decode cX10_chanceOf 0 = .ok (.bipush 10, 2) := dk_16 10 (dk_at dksX10_chanceOf_0 0 rfl rfl)
theorem dX10_chanceOf_2 : decode cX10_chanceOf 2 = .ok (.aload_n 0, 1) := dk_42 (dk_at dksX10_chanceOf_0 2 rfl rfl)
theorem dX10_chanceOf_3 : decode cX10_chanceOf 3 = .ok (.getfield 56, 3) := dk_180 0 56 (dk_at dksX10_chanceOf_0 3 rfl rfl)
theorem dX10_chanceOf_6 : decode cX10_chanceOf 6 = .ok (.iload_n 1, 1) := dk_27 (dk_at dksX10_chanceOf_0 6 rfl rfl)
theorem dX10_chanceOf_7 : decode cX10_chanceOf 7 = .ok (.iaload, 1) := dk_46 (dk_at dksX10_chanceOf_0 7 rfl rfl)
theorem dX10_chanceOf_8 : decode cX10_chanceOf 8 = .ok (.aload_n 0, 1) := dk_42 (dk_at dksX10_chanceOf_0 8 rfl rfl)
theorem dX10_chanceOf_9 : decode cX10_chanceOf 9 = .ok (.getfield 23, 3) := dk_180 0 23 (dk_at dksX10_chanceOf_0 9 rfl rfl)
theorem dX10_chanceOf_12 : decode cX10_chanceOf 12 = .ok (.aload_n 0, 1) := dk_42 (dk_at dksX10_chanceOf_0 12 rfl rfl)
theorem dX10_chanceOf_13 : decode cX10_chanceOf 13 = .ok (.getfield 50, 3) := dk_180 0 50 (dk_at dksX10_chanceOf_0 13 rfl rfl)
theorem dX10_chanceOf_16 : decode cX10_chanceOf 16 = .ok (.iload_n 1, 1) := dk_27 (dk_at dksX10_chanceOf_0 16 rfl rfl)
theorem dX10_chanceOf_17 : decode cX10_chanceOf 17 = .ok (.iaload, 1) := dk_46 (dk_at dksX10_chanceOf_0 17 rfl rfl)
theorem dX10_chanceOf_18 : decode cX10_chanceOf 18 = .ok (.iaload, 1) := dk_46 (dk_at dksX10_chanceOf_0 18 rfl rfl)
theorem dX10_chanceOf_19 : decode cX10_chanceOf 19 = .ok (.iconst 1, 1) := dk_4 (dk_at dksX10_chanceOf_0 19 rfl rfl)
theorem dX10_chanceOf_20 : decode cX10_chanceOf 20 = .ok (.if_icmp .ne 7, 3) := dk_160 0 7 (dk_at dksX10_chanceOf_0 20 rfl rfl)
theorem dX10_chanceOf_23 : decode cX10_chanceOf 23 = .ok (.iconst 1, 1) := dk_4 (dk_at dksX10_chanceOf_0 23 rfl rfl)
theorem dX10_chanceOf_24 : decode cX10_chanceOf 24 = .ok (.goto 4, 3) := dk_167 0 4 (dk_at dksX10_chanceOf_1 0 rfl rfl)
theorem dX10_chanceOf_27 : decode cX10_chanceOf 27 = .ok (.iconst 0, 1) := dk_3 (dk_at dksX10_chanceOf_1 3 rfl rfl)
theorem dX10_chanceOf_28 : decode cX10_chanceOf 28 = .ok (.iadd, 1) := dk_96 (dk_at dksX10_chanceOf_1 4 rfl rfl)
theorem dX10_chanceOf_29 : decode cX10_chanceOf 29 = .ok (.invokestatic 451, 3) := dk_184 1 195 (dk_at dksX10_chanceOf_1 5 rfl rfl)
theorem dX10_chanceOf_32 : decode cX10_chanceOf 32 = .ok (.ireturn, 1) := dk_172 (dk_at dksX10_chanceOf_1 8 rfl rfl)
abbrev cX10_tell : ByteArray := prog_36_method_70_code
def yX10_tell : MethodName := ⟨RX10, "tell", "(III)I"⟩
def dkwX10_tell_2 : List UInt8 := [182, 1, 171, 172]
abbrev dktX10_tell_2 : List UInt8 := dkwX10_tell_2 ++ []
def dkwX10_tell_1 : List UInt8 := [28, 29, 182, 1, 208, 154, 0, 5, 2, 172, 42, 182, 1, 211, 42, 27, 28, 29, 182, 1, 214, 42, 29]
abbrev dktX10_tell_1 : List UInt8 := dkwX10_tell_1 ++ dktX10_tell_2
def dkwX10_tell_0 : List UInt8 := [42, 3, 181, 0, 175, 42, 27, 28, 182, 1, 192, 153, 0, 21, 42, 29, 182, 1, 189, 153, 0, 13, 42, 27]
abbrev dktX10_tell_0 : List UInt8 := dkwX10_tell_0 ++ dktX10_tell_1
theorem dksX10_tell_0 : cX10_tell.data.toList.drop 0 = dktX10_tell_0 := by decide +kernel
theorem dksX10_tell_1 : cX10_tell.data.toList.drop 24 = dktX10_tell_1 := dk_seg dksX10_tell_0 24 rfl rfl
theorem dksX10_tell_2 : cX10_tell.data.toList.drop 47 = dktX10_tell_2 := dk_seg dksX10_tell_1 23 rfl rfl
theorem dX10_tell_0 : decode cX10_tell 0 = .ok (.aload_n 0, 1) := dk_42 (dk_at dksX10_tell_0 0 rfl rfl)
theorem dX10_tell_1 : decode cX10_tell 1 = .ok (.iconst 0, 1) := dk_3 (dk_at dksX10_tell_0 1 rfl rfl)
theorem dX10_tell_2 : decode cX10_tell 2 = .ok (.putfield 175, 3) := dk_181 0 175 (dk_at dksX10_tell_0 2 rfl rfl)
theorem dX10_tell_5 : decode cX10_tell 5 = .ok (.aload_n 0, 1) := dk_42 (dk_at dksX10_tell_0 5 rfl rfl)
theorem dX10_tell_6 : decode cX10_tell 6 = .ok (.iload_n 1, 1) := dk_27 (dk_at dksX10_tell_0 6 rfl rfl)
theorem dX10_tell_7 : decode cX10_tell 7 = .ok (.iload_n 2, 1) := dk_28 (dk_at dksX10_tell_0 7 rfl rfl)
theorem dX10_tell_8 : decode cX10_tell 8 = .ok (.invokevirtual 448, 3) := dk_182 1 192 (dk_at dksX10_tell_0 8 rfl rfl)
theorem dX10_tell_11 : decode cX10_tell 11 = .ok (.ifCond .eq 21, 3) := dk_153 0 21 (dk_at dksX10_tell_0 11 rfl rfl)
theorem dX10_tell_14 : decode cX10_tell 14 = .ok (.aload_n 0, 1) := dk_42 (dk_at dksX10_tell_0 14 rfl rfl)
theorem dX10_tell_15 : decode cX10_tell 15 = .ok (.iload_n 3, 1) := dk_29 (dk_at dksX10_tell_0 15 rfl rfl)
theorem dX10_tell_16 : decode cX10_tell 16 = .ok (.invokevirtual 445, 3) := dk_182 1 189 (dk_at dksX10_tell_0 16 rfl rfl)
theorem dX10_tell_19 : decode cX10_tell 19 = .ok (.ifCond .eq 13, 3) := dk_153 0 13 (dk_at dksX10_tell_0 19 rfl rfl)
theorem dX10_tell_22 : decode cX10_tell 22 = .ok (.aload_n 0, 1) := dk_42 (dk_at dksX10_tell_0 22 rfl rfl)
theorem dX10_tell_23 : decode cX10_tell 23 = .ok (.iload_n 1, 1) := dk_27 (dk_at dksX10_tell_0 23 rfl rfl)
theorem dX10_tell_24 : decode cX10_tell 24 = .ok (.iload_n 2, 1) := dk_28 (dk_at dksX10_tell_1 0 rfl rfl)
theorem dX10_tell_25 : decode cX10_tell 25 = .ok (.iload_n 3, 1) := dk_29 (dk_at dksX10_tell_1 1 rfl rfl)
theorem dX10_tell_26 : decode cX10_tell 26 = .ok (.invokevirtual 464, 3) := dk_182 1 208 (dk_at dksX10_tell_1 2 rfl rfl)
theorem dX10_tell_29 : decode cX10_tell 29 = .ok (.ifCond .ne 5, 3) := dk_154 0 5 (dk_at dksX10_tell_1 5 rfl rfl)
theorem dX10_tell_32 : decode cX10_tell 32 = .ok (.iconst (-1), 1) := dk_2 (dk_at dksX10_tell_1 8 rfl rfl)
theorem dX10_tell_33 : decode cX10_tell 33 = .ok (.ireturn, 1) := dk_172 (dk_at dksX10_tell_1 9 rfl rfl)
theorem dX10_tell_34 : decode cX10_tell 34 = .ok (.aload_n 0, 1) := dk_42 (dk_at dksX10_tell_1 10 rfl rfl)
theorem dX10_tell_35 : decode cX10_tell 35 = .ok (.invokevirtual 467, 3) := dk_182 1 211 (dk_at dksX10_tell_1 11 rfl rfl)
theorem dX10_tell_38 : decode cX10_tell 38 = .ok (.aload_n 0, 1) := dk_42 (dk_at dksX10_tell_1 14 rfl rfl)
theorem dX10_tell_39 : decode cX10_tell 39 = .ok (.iload_n 1, 1) := dk_27 (dk_at dksX10_tell_1 15 rfl rfl)
theorem dX10_tell_40 : decode cX10_tell 40 = .ok (.iload_n 2, 1) := dk_28 (dk_at dksX10_tell_1 16 rfl rfl)
theorem dX10_tell_41 : decode cX10_tell 41 = .ok (.iload_n 3, 1) := dk_29 (dk_at dksX10_tell_1 17 rfl rfl)
theorem dX10_tell_42 : decode cX10_tell 42 = .ok (.invokevirtual 470, 3) := dk_182 1 214 (dk_at dksX10_tell_1 18 rfl rfl)
theorem dX10_tell_45 : decode cX10_tell 45 = .ok (.aload_n 0, 1) := dk_42 (dk_at dksX10_tell_1 21 rfl rfl)
theorem dX10_tell_46 : decode cX10_tell 46 = .ok (.iload_n 3, 1) := dk_29 (dk_at dksX10_tell_1 22 rfl rfl)
theorem dX10_tell_47 : decode cX10_tell 47 = .ok (.invokevirtual 427, 3) := dk_182 1 171 (dk_at dksX10_tell_2 0 rfl rfl)
theorem dX10_tell_50 : decode cX10_tell 50 = .ok (.ireturn, 1) := dk_172 (dk_at dksX10_tell_2 3 rfl rfl)
abbrev cX10_canTell : ByteArray := prog_36_method_68_code
def yX10_canTell : MethodName := ⟨RX10, "canTell", "(III)Z"⟩
def dkwX10_canTell_1 : List UInt8 := [180, 0, 129, 29, 46, 28, 122, 4, 126, 154, 0, 7, 4, 167, 0, 4, 3, 172]
abbrev dktX10_canTell_1 : List UInt8 := dkwX10_canTell_1 ++ []
def dkwX10_canTell_0 : List UInt8 := [42, 180, 0, 129, 29, 46, 27, 122, 4, 126, 4, 160, 0, 28, 42, 27, 182, 1, 205, 153, 0, 20, 42]
abbrev dktX10_canTell_0 : List UInt8 := dkwX10_canTell_0 ++ dktX10_canTell_1
theorem dksX10_canTell_0 : cX10_canTell.data.toList.drop 0 = dktX10_canTell_0 := by decide +kernel
theorem dksX10_canTell_1 : cX10_canTell.data.toList.drop 23 = dktX10_canTell_1 := dk_seg dksX10_canTell_0 23 rfl rfl
theorem dX10_canTell_0 : decode cX10_canTell 0 = .ok (.aload_n 0, 1) := dk_42 (dk_at dksX10_canTell_0 0 rfl rfl)
theorem dX10_canTell_1 : decode cX10_canTell 1 = .ok (.getfield 129, 3) := dk_180 0 129 (dk_at dksX10_canTell_0 1 rfl rfl)
theorem dX10_canTell_4 : decode cX10_canTell 4 = .ok (.iload_n 3, 1) := dk_29 (dk_at dksX10_canTell_0 4 rfl rfl)
theorem dX10_canTell_5 : decode cX10_canTell 5 = .ok (.iaload, 1) := dk_46 (dk_at dksX10_canTell_0 5 rfl rfl)
theorem dX10_canTell_6 : decode cX10_canTell 6 = .ok (.iload_n 1, 1) := dk_27 (dk_at dksX10_canTell_0 6 rfl rfl)
theorem dX10_canTell_7 : decode cX10_canTell 7 = .ok (.ishr, 1) := dk_122 (dk_at dksX10_canTell_0 7 rfl rfl)
theorem dX10_canTell_8 : decode cX10_canTell 8 = .ok (.iconst 1, 1) := dk_4 (dk_at dksX10_canTell_0 8 rfl rfl)
theorem dX10_canTell_9 : decode cX10_canTell 9 = .ok (.iand, 1) := dk_126 (dk_at dksX10_canTell_0 9 rfl rfl)
theorem dX10_canTell_10 : decode cX10_canTell 10 = .ok (.iconst 1, 1) := dk_4 (dk_at dksX10_canTell_0 10 rfl rfl)
theorem dX10_canTell_11 : decode cX10_canTell 11 = .ok (.if_icmp .ne 28, 3) := dk_160 0 28 (dk_at dksX10_canTell_0 11 rfl rfl)
theorem dX10_canTell_14 : decode cX10_canTell 14 = .ok (.aload_n 0, 1) := dk_42 (dk_at dksX10_canTell_0 14 rfl rfl)
theorem dX10_canTell_15 : decode cX10_canTell 15 = .ok (.iload_n 1, 1) := dk_27 (dk_at dksX10_canTell_0 15 rfl rfl)
theorem dX10_canTell_16 : decode cX10_canTell 16 = .ok (.invokevirtual 461, 3) := dk_182 1 205 (dk_at dksX10_canTell_0 16 rfl rfl)
theorem dX10_canTell_19 : decode cX10_canTell 19 = .ok (.ifCond .eq 20, 3) := dk_153 0 20 (dk_at dksX10_canTell_0 19 rfl rfl)
theorem dX10_canTell_22 : decode cX10_canTell 22 = .ok (.aload_n 0, 1) := dk_42 (dk_at dksX10_canTell_0 22 rfl rfl)
theorem dX10_canTell_23 : decode cX10_canTell 23 = .ok (.getfield 129, 3) := dk_180 0 129 (dk_at dksX10_canTell_1 0 rfl rfl)
theorem dX10_canTell_26 : decode cX10_canTell 26 = .ok (.iload_n 3, 1) := dk_29 (dk_at dksX10_canTell_1 3 rfl rfl)
theorem dX10_canTell_27 : decode cX10_canTell 27 = .ok (.iaload, 1) := dk_46 (dk_at dksX10_canTell_1 4 rfl rfl)
theorem dX10_canTell_28 : decode cX10_canTell 28 = .ok (.iload_n 2, 1) := dk_28 (dk_at dksX10_canTell_1 5 rfl rfl)
theorem dX10_canTell_29 : decode cX10_canTell 29 = .ok (.ishr, 1) := dk_122 (dk_at dksX10_canTell_1 6 rfl rfl)
theorem dX10_canTell_30 : decode cX10_canTell 30 = .ok (.iconst 1, 1) := dk_4 (dk_at dksX10_canTell_1 7 rfl rfl)
theorem dX10_canTell_31 : decode cX10_canTell 31 = .ok (.iand, 1) := dk_126 (dk_at dksX10_canTell_1 8 rfl rfl)
theorem dX10_canTell_32 : decode cX10_canTell 32 = .ok (.ifCond .ne 7, 3) := dk_154 0 7 (dk_at dksX10_canTell_1 9 rfl rfl)
theorem dX10_canTell_35 : decode cX10_canTell 35 = .ok (.iconst 1, 1) := dk_4 (dk_at dksX10_canTell_1 12 rfl rfl)
theorem dX10_canTell_36 : decode cX10_canTell 36 = .ok (.goto 4, 3) := dk_167 0 4 (dk_at dksX10_canTell_1 13 rfl rfl)
theorem dX10_canTell_39 : decode cX10_canTell 39 = .ok (.iconst 0, 1) := dk_3 (dk_at dksX10_canTell_1 16 rfl rfl)
theorem dX10_canTell_40 : decode cX10_canTell 40 = .ok (.ireturn, 1) := dk_172 (dk_at dksX10_canTell_1 17 rfl rfl)
abbrev cX10_speaks : ByteArray := prog_36_method_67_code
def yX10_speaks : MethodName := ⟨RX10, "speaks", "(I)Z"⟩
def dkwX10_speaks_1 : List UInt8 := [3, 172]
abbrev dktX10_speaks_1 : List UInt8 := dkwX10_speaks_1 ++ []
def dkwX10_speaks_0 : List UInt8 := [42, 180, 0, 23, 27, 46, 5, 159, 0, 17, 42, 180, 0, 23, 27, 46, 6, 159, 0, 7, 4, 167, 0, 4]
abbrev dktX10_speaks_0 : List UInt8 := dkwX10_speaks_0 ++ dktX10_speaks_1
theorem dksX10_speaks_0 : cX10_speaks.data.toList.drop 0 = dktX10_speaks_0 := by decide +kernel
theorem dksX10_speaks_1 : cX10_speaks.data.toList.drop 24 = dktX10_speaks_1 := dk_seg dksX10_speaks_0 24 rfl rfl
theorem dX10_speaks_0 : decode cX10_speaks 0 = .ok (.aload_n 0, 1) := dk_42 (dk_at dksX10_speaks_0 0 rfl rfl)
theorem dX10_speaks_1 : decode cX10_speaks 1 = .ok (.getfield 23, 3) := dk_180 0 23 (dk_at dksX10_speaks_0 1 rfl rfl)
theorem dX10_speaks_4 : decode cX10_speaks 4 = .ok (.iload_n 1, 1) := dk_27 (dk_at dksX10_speaks_0 4 rfl rfl)
theorem dX10_speaks_5 : decode cX10_speaks 5 = .ok (.iaload, 1) := dk_46 (dk_at dksX10_speaks_0 5 rfl rfl)
theorem dX10_speaks_6 : decode cX10_speaks 6 = .ok (.iconst 2, 1) := dk_5 (dk_at dksX10_speaks_0 6 rfl rfl)
theorem dX10_speaks_7 : decode cX10_speaks 7 = .ok (.if_icmp .eq 17, 3) := dk_159 0 17 (dk_at dksX10_speaks_0 7 rfl rfl)
theorem dX10_speaks_10 : decode cX10_speaks 10 = .ok (.aload_n 0, 1) := dk_42 (dk_at dksX10_speaks_0 10 rfl rfl)
theorem dX10_speaks_11 : decode cX10_speaks 11 = .ok (.getfield 23, 3) := dk_180 0 23 (dk_at dksX10_speaks_0 11 rfl rfl)
theorem dX10_speaks_14 : decode cX10_speaks 14 = .ok (.iload_n 1, 1) := dk_27 (dk_at dksX10_speaks_0 14 rfl rfl)
theorem dX10_speaks_15 : decode cX10_speaks 15 = .ok (.iaload, 1) := dk_46 (dk_at dksX10_speaks_0 15 rfl rfl)
theorem dX10_speaks_16 : decode cX10_speaks 16 = .ok (.iconst 3, 1) := dk_6 (dk_at dksX10_speaks_0 16 rfl rfl)
theorem dX10_speaks_17 : decode cX10_speaks 17 = .ok (.if_icmp .eq 7, 3) := dk_159 0 7 (dk_at dksX10_speaks_0 17 rfl rfl)
theorem dX10_speaks_20 : decode cX10_speaks 20 = .ok (.iconst 1, 1) := dk_4 (dk_at dksX10_speaks_0 20 rfl rfl)
theorem dX10_speaks_21 : decode cX10_speaks 21 = .ok (.goto 4, 3) := dk_167 0 4 (dk_at dksX10_speaks_0 21 rfl rfl)
theorem dX10_speaks_24 : decode cX10_speaks 24 = .ok (.iconst 0, 1) := dk_3 (dk_at dksX10_speaks_1 0 rfl rfl)
theorem dX10_speaks_25 : decode cX10_speaks 25 = .ok (.ireturn, 1) := dk_172 (dk_at dksX10_speaks_1 1 rfl rfl)
abbrev cX10_keeps : ByteArray := prog_36_method_66_code
def yX10_keeps : MethodName := ⟨RX10, "keeps", "()V"⟩
def dkwX10_keeps_3 : List UInt8 := [180, 1, 142, 4, 96, 181, 1, 142, 177]
abbrev dktX10_keeps_3 : List UInt8 := dkwX10_keeps_3 ++ []
def dkwX10_keeps_2 : List UInt8 := [181, 1, 142, 42, 180, 0, 129, 3, 42, 180, 0, 138, 16, 123, 42, 180, 1, 142, 104, 184, 1, 201, 42, 89]
abbrev dktX10_keeps_2 : List UInt8 := dkwX10_keeps_2 ++ dktX10_keeps_3
def dkwX10_keeps_1 : List UInt8 := [180, 0, 138, 27, 16, 123, 96, 46, 79, 132, 1, 1, 167, 255, 231, 42, 89, 180, 1, 142, 4, 100]
abbrev dktX10_keeps_1 : List UInt8 := dkwX10_keeps_1 ++ dktX10_keeps_2
def dkwX10_keeps_0 : List UInt8 := [42, 180, 1, 142, 16, 16, 160, 0, 43, 3, 60, 27, 17, 7, 53, 162, 0, 24, 42, 180, 0, 138, 27, 42]
abbrev dktX10_keeps_0 : List UInt8 := dkwX10_keeps_0 ++ dktX10_keeps_1
theorem dksX10_keeps_0 : cX10_keeps.data.toList.drop 0 = dktX10_keeps_0 := by decide +kernel
theorem dksX10_keeps_1 : cX10_keeps.data.toList.drop 24 = dktX10_keeps_1 := dk_seg dksX10_keeps_0 24 rfl rfl
theorem dksX10_keeps_2 : cX10_keeps.data.toList.drop 46 = dktX10_keeps_2 := dk_seg dksX10_keeps_1 22 rfl rfl
theorem dksX10_keeps_3 : cX10_keeps.data.toList.drop 70 = dktX10_keeps_3 := dk_seg dksX10_keeps_2 24 rfl rfl
theorem dX10_keeps_0 : decode cX10_keeps 0 = .ok (.aload_n 0, 1) := dk_42 (dk_at dksX10_keeps_0 0 rfl rfl)
theorem dX10_keeps_1 : decode cX10_keeps 1 = .ok (.getfield 398, 3) := dk_180 1 142 (dk_at dksX10_keeps_0 1 rfl rfl)
theorem dX10_keeps_4 : decode cX10_keeps 4 = .ok (.bipush 16, 2) := dk_16 16 (dk_at dksX10_keeps_0 4 rfl rfl)
theorem dX10_keeps_6 : decode cX10_keeps 6 = .ok (.if_icmp .ne 43, 3) := dk_160 0 43 (dk_at dksX10_keeps_0 6 rfl rfl)
theorem dX10_keeps_9 : decode cX10_keeps 9 = .ok (.iconst 0, 1) := dk_3 (dk_at dksX10_keeps_0 9 rfl rfl)
theorem dX10_keeps_10 : decode cX10_keeps 10 = .ok (.istore_n 1, 1) := dk_60 (dk_at dksX10_keeps_0 10 rfl rfl)
theorem dX10_keeps_11 : decode cX10_keeps 11 = .ok (.iload_n 1, 1) := dk_27 (dk_at dksX10_keeps_0 11 rfl rfl)
theorem dX10_keeps_12 : decode cX10_keeps 12 = .ok (.sipush 1845, 3) := dk_17 7 53 (dk_at dksX10_keeps_0 12 rfl rfl)
theorem dX10_keeps_15 : decode cX10_keeps 15 = .ok (.if_icmp .ge 24, 3) := dk_162 0 24 (dk_at dksX10_keeps_0 15 rfl rfl)
theorem dX10_keeps_18 : decode cX10_keeps 18 = .ok (.aload_n 0, 1) := dk_42 (dk_at dksX10_keeps_0 18 rfl rfl)
theorem dX10_keeps_19 : decode cX10_keeps 19 = .ok (.getfield 138, 3) := dk_180 0 138 (dk_at dksX10_keeps_0 19 rfl rfl)
theorem dX10_keeps_22 : decode cX10_keeps 22 = .ok (.iload_n 1, 1) := dk_27 (dk_at dksX10_keeps_0 22 rfl rfl)
theorem dX10_keeps_23 : decode cX10_keeps 23 = .ok (.aload_n 0, 1) := dk_42 (dk_at dksX10_keeps_0 23 rfl rfl)
theorem dX10_keeps_24 : decode cX10_keeps 24 = .ok (.getfield 138, 3) := dk_180 0 138 (dk_at dksX10_keeps_1 0 rfl rfl)
theorem dX10_keeps_27 : decode cX10_keeps 27 = .ok (.iload_n 1, 1) := dk_27 (dk_at dksX10_keeps_1 3 rfl rfl)
theorem dX10_keeps_28 : decode cX10_keeps 28 = .ok (.bipush 123, 2) := dk_16 123 (dk_at dksX10_keeps_1 4 rfl rfl)
theorem dX10_keeps_30 : decode cX10_keeps 30 = .ok (.iadd, 1) := dk_96 (dk_at dksX10_keeps_1 6 rfl rfl)
theorem dX10_keeps_31 : decode cX10_keeps 31 = .ok (.iaload, 1) := dk_46 (dk_at dksX10_keeps_1 7 rfl rfl)
theorem dX10_keeps_32 : decode cX10_keeps 32 = .ok (.iastore, 1) := dk_79 (dk_at dksX10_keeps_1 8 rfl rfl)
theorem dX10_keeps_33 : decode cX10_keeps 33 = .ok (.iinc 1 1, 3) := dk_132 1 1 (dk_at dksX10_keeps_1 9 rfl rfl)
theorem dX10_keeps_36 : decode cX10_keeps 36 = .ok (.goto (-25), 3) := dk_167 255 231 (dk_at dksX10_keeps_1 12 rfl rfl)
theorem dX10_keeps_39 : decode cX10_keeps 39 = .ok (.aload_n 0, 1) := dk_42 (dk_at dksX10_keeps_1 15 rfl rfl)
theorem dX10_keeps_40 : decode cX10_keeps 40 = .ok (.dup, 1) := dk_89 (dk_at dksX10_keeps_1 16 rfl rfl)
theorem dX10_keeps_41 : decode cX10_keeps 41 = .ok (.getfield 398, 3) := dk_180 1 142 (dk_at dksX10_keeps_1 17 rfl rfl)
theorem dX10_keeps_44 : decode cX10_keeps 44 = .ok (.iconst 1, 1) := dk_4 (dk_at dksX10_keeps_1 20 rfl rfl)
theorem dX10_keeps_45 : decode cX10_keeps 45 = .ok (.isub, 1) := dk_100 (dk_at dksX10_keeps_1 21 rfl rfl)
theorem dX10_keeps_46 : decode cX10_keeps 46 = .ok (.putfield 398, 3) := dk_181 1 142 (dk_at dksX10_keeps_2 0 rfl rfl)
theorem dX10_keeps_49 : decode cX10_keeps 49 = .ok (.aload_n 0, 1) := dk_42 (dk_at dksX10_keeps_2 3 rfl rfl)
theorem dX10_keeps_50 : decode cX10_keeps 50 = .ok (.getfield 129, 3) := dk_180 0 129 (dk_at dksX10_keeps_2 4 rfl rfl)
theorem dX10_keeps_53 : decode cX10_keeps 53 = .ok (.iconst 0, 1) := dk_3 (dk_at dksX10_keeps_2 7 rfl rfl)
theorem dX10_keeps_54 : decode cX10_keeps 54 = .ok (.aload_n 0, 1) := dk_42 (dk_at dksX10_keeps_2 8 rfl rfl)
theorem dX10_keeps_55 : decode cX10_keeps 55 = .ok (.getfield 138, 3) := dk_180 0 138 (dk_at dksX10_keeps_2 9 rfl rfl)
theorem dX10_keeps_58 : decode cX10_keeps 58 = .ok (.bipush 123, 2) := dk_16 123 (dk_at dksX10_keeps_2 12 rfl rfl)
theorem dX10_keeps_60 : decode cX10_keeps 60 = .ok (.aload_n 0, 1) := dk_42 (dk_at dksX10_keeps_2 14 rfl rfl)
theorem dX10_keeps_61 : decode cX10_keeps 61 = .ok (.getfield 398, 3) := dk_180 1 142 (dk_at dksX10_keeps_2 15 rfl rfl)
theorem dX10_keeps_64 : decode cX10_keeps 64 = .ok (.imul, 1) := dk_104 (dk_at dksX10_keeps_2 18 rfl rfl)
theorem dX10_keeps_65 : decode cX10_keeps 65 = .ok (.invokestatic 457, 3) := dk_184 1 201 (dk_at dksX10_keeps_2 19 rfl rfl)
theorem dX10_keeps_68 : decode cX10_keeps 68 = .ok (.aload_n 0, 1) := dk_42 (dk_at dksX10_keeps_2 22 rfl rfl)
theorem dX10_keeps_69 : decode cX10_keeps 69 = .ok (.dup, 1) := dk_89 (dk_at dksX10_keeps_2 23 rfl rfl)
theorem dX10_keeps_70 : decode cX10_keeps 70 = .ok (.getfield 398, 3) := dk_180 1 142 (dk_at dksX10_keeps_3 0 rfl rfl)
theorem dX10_keeps_73 : decode cX10_keeps 73 = .ok (.iconst 1, 1) := dk_4 (dk_at dksX10_keeps_3 3 rfl rfl)
theorem dX10_keeps_74 : decode cX10_keeps 74 = .ok (.iadd, 1) := dk_96 (dk_at dksX10_keeps_3 4 rfl rfl)
theorem dX10_keeps_75 : decode cX10_keeps 75 = .ok (.putfield 398, 3) := dk_181 1 142 (dk_at dksX10_keeps_3 5 rfl rfl)
theorem dX10_keeps_78 : decode cX10_keeps 78 = .ok (.return_, 1) := dk_177 (dk_at dksX10_keeps_3 8 rfl rfl)
abbrev cX10_copies : ByteArray := prog_36_method_41_code
def yX10_copies : MethodName := ⟨RX10, "copies", "([II[II)V"⟩
def dkwX10_copies_1 : List UInt8 := [132, 4, 1, 167, 255, 234, 177]
abbrev dktX10_copies_1 : List UInt8 := dkwX10_copies_1 ++ []
def dkwX10_copies_0 : List UInt8 := [3, 54, 4, 21, 4, 16, 123, 162, 0, 21, 44, 29, 21, 4, 96, 42, 27, 21, 4, 96, 46, 79]
abbrev dktX10_copies_0 : List UInt8 := dkwX10_copies_0 ++ dktX10_copies_1
theorem dksX10_copies_0 : cX10_copies.data.toList.drop 0 = dktX10_copies_0 := by decide +kernel
theorem dksX10_copies_1 : cX10_copies.data.toList.drop 22 = dktX10_copies_1 := dk_seg dksX10_copies_0 22 rfl rfl
theorem dX10_copies_0 : decode cX10_copies 0 = .ok (.iconst 0, 1) := dk_3 (dk_at dksX10_copies_0 0 rfl rfl)
theorem dX10_copies_1 : decode cX10_copies 1 = .ok (.istore 4, 2) := dk_54 4 (dk_at dksX10_copies_0 1 rfl rfl)
theorem dX10_copies_3 : decode cX10_copies 3 = .ok (.iload 4, 2) := dk_21 4 (dk_at dksX10_copies_0 3 rfl rfl)
theorem dX10_copies_5 : decode cX10_copies 5 = .ok (.bipush 123, 2) := dk_16 123 (dk_at dksX10_copies_0 5 rfl rfl)
theorem dX10_copies_7 : decode cX10_copies 7 = .ok (.if_icmp .ge 21, 3) := dk_162 0 21 (dk_at dksX10_copies_0 7 rfl rfl)
theorem dX10_copies_10 : decode cX10_copies 10 = .ok (.aload_n 2, 1) := dk_44 (dk_at dksX10_copies_0 10 rfl rfl)
theorem dX10_copies_11 : decode cX10_copies 11 = .ok (.iload_n 3, 1) := dk_29 (dk_at dksX10_copies_0 11 rfl rfl)
theorem dX10_copies_12 : decode cX10_copies 12 = .ok (.iload 4, 2) := dk_21 4 (dk_at dksX10_copies_0 12 rfl rfl)
theorem dX10_copies_14 : decode cX10_copies 14 = .ok (.iadd, 1) := dk_96 (dk_at dksX10_copies_0 14 rfl rfl)
theorem dX10_copies_15 : decode cX10_copies 15 = .ok (.aload_n 0, 1) := dk_42 (dk_at dksX10_copies_0 15 rfl rfl)
theorem dX10_copies_16 : decode cX10_copies 16 = .ok (.iload_n 1, 1) := dk_27 (dk_at dksX10_copies_0 16 rfl rfl)
theorem dX10_copies_17 : decode cX10_copies 17 = .ok (.iload 4, 2) := dk_21 4 (dk_at dksX10_copies_0 17 rfl rfl)
theorem dX10_copies_19 : decode cX10_copies 19 = .ok (.iadd, 1) := dk_96 (dk_at dksX10_copies_0 19 rfl rfl)
theorem dX10_copies_20 : decode cX10_copies 20 = .ok (.iaload, 1) := dk_46 (dk_at dksX10_copies_0 20 rfl rfl)
theorem dX10_copies_21 : decode cX10_copies 21 = .ok (.iastore, 1) := dk_79 (dk_at dksX10_copies_0 21 rfl rfl)
theorem dX10_copies_22 : decode cX10_copies 22 = .ok (.iinc 4 1, 3) := dk_132 4 1 (dk_at dksX10_copies_1 0 rfl rfl)
theorem dX10_copies_25 : decode cX10_copies 25 = .ok (.goto (-22), 3) := dk_167 255 234 (dk_at dksX10_copies_1 3 rfl rfl)
theorem dX10_copies_28 : decode cX10_copies 28 = .ok (.return_, 1) := dk_177 (dk_at dksX10_copies_1 6 rfl rfl)
abbrev cX10_tells : ByteArray := prog_36_method_69_code
def yX10_tells : MethodName := ⟨RX10, "tells", "(III)V"⟩
def dkwX10_tells_3 : List UInt8 := [42, 180, 0, 129, 16, 76, 92, 46, 4, 29, 120, 128, 79, 177]
abbrev dktX10_tells_3 : List UInt8 := dkwX10_tells_3 ++ []
def dkwX10_tells_2 : List UInt8 := [27, 120, 128, 79, 42, 180, 0, 32, 29, 46, 4, 160, 0, 26, 42, 180, 0, 35, 29, 46, 28, 160, 0, 16]
abbrev dktX10_tells_2 : List UInt8 := dkwX10_tells_2 ++ dktX10_tells_3
def dkwX10_tells_1 : List UInt8 := [96, 92, 46, 4, 28, 120, 128, 79, 42, 180, 0, 129, 16, 10, 16, 10, 28, 104, 96, 29, 96, 92, 46, 4]
abbrev dktX10_tells_1 : List UInt8 := dkwX10_tells_1 ++ dktX10_tells_2
def dkwX10_tells_0 : List UInt8 := [42, 180, 0, 129, 29, 92, 46, 4, 28, 120, 128, 79, 42, 180, 0, 129, 16, 10, 16, 10, 27, 104, 96, 29]
abbrev dktX10_tells_0 : List UInt8 := dkwX10_tells_0 ++ dktX10_tells_1
theorem dksX10_tells_0 : cX10_tells.data.toList.drop 0 = dktX10_tells_0 := by decide +kernel
theorem dksX10_tells_1 : cX10_tells.data.toList.drop 24 = dktX10_tells_1 := dk_seg dksX10_tells_0 24 rfl rfl
theorem dksX10_tells_2 : cX10_tells.data.toList.drop 48 = dktX10_tells_2 := dk_seg dksX10_tells_1 24 rfl rfl
theorem dksX10_tells_3 : cX10_tells.data.toList.drop 72 = dktX10_tells_3 := dk_seg dksX10_tells_2 24 rfl rfl
theorem dX10_tells_0 : decode cX10_tells 0 = .ok (.aload_n 0, 1) := dk_42 (dk_at dksX10_tells_0 0 rfl rfl)
theorem dX10_tells_1 : decode cX10_tells 1 = .ok (.getfield 129, 3) := dk_180 0 129 (dk_at dksX10_tells_0 1 rfl rfl)
theorem dX10_tells_4 : decode cX10_tells 4 = .ok (.iload_n 3, 1) := dk_29 (dk_at dksX10_tells_0 4 rfl rfl)
theorem dX10_tells_5 : decode cX10_tells 5 = .ok (.dup2, 1) := dk_92 (dk_at dksX10_tells_0 5 rfl rfl)
theorem dX10_tells_6 : decode cX10_tells 6 = .ok (.iaload, 1) := dk_46 (dk_at dksX10_tells_0 6 rfl rfl)
theorem dX10_tells_7 : decode cX10_tells 7 = .ok (.iconst 1, 1) := dk_4 (dk_at dksX10_tells_0 7 rfl rfl)
theorem dX10_tells_8 : decode cX10_tells 8 = .ok (.iload_n 2, 1) := dk_28 (dk_at dksX10_tells_0 8 rfl rfl)
theorem dX10_tells_9 : decode cX10_tells 9 = .ok (.ishl, 1) := dk_120 (dk_at dksX10_tells_0 9 rfl rfl)
theorem dX10_tells_10 : decode cX10_tells 10 = .ok (.ior, 1) := dk_128 (dk_at dksX10_tells_0 10 rfl rfl)
theorem dX10_tells_11 : decode cX10_tells 11 = .ok (.iastore, 1) := dk_79 (dk_at dksX10_tells_0 11 rfl rfl)
theorem dX10_tells_12 : decode cX10_tells 12 = .ok (.aload_n 0, 1) := dk_42 (dk_at dksX10_tells_0 12 rfl rfl)
theorem dX10_tells_13 : decode cX10_tells 13 = .ok (.getfield 129, 3) := dk_180 0 129 (dk_at dksX10_tells_0 13 rfl rfl)
theorem dX10_tells_16 : decode cX10_tells 16 = .ok (.bipush 10, 2) := dk_16 10 (dk_at dksX10_tells_0 16 rfl rfl)
theorem dX10_tells_18 : decode cX10_tells 18 = .ok (.bipush 10, 2) := dk_16 10 (dk_at dksX10_tells_0 18 rfl rfl)
theorem dX10_tells_20 : decode cX10_tells 20 = .ok (.iload_n 1, 1) := dk_27 (dk_at dksX10_tells_0 20 rfl rfl)
theorem dX10_tells_21 : decode cX10_tells 21 = .ok (.imul, 1) := dk_104 (dk_at dksX10_tells_0 21 rfl rfl)
theorem dX10_tells_22 : decode cX10_tells 22 = .ok (.iadd, 1) := dk_96 (dk_at dksX10_tells_0 22 rfl rfl)
theorem dX10_tells_23 : decode cX10_tells 23 = .ok (.iload_n 3, 1) := dk_29 (dk_at dksX10_tells_0 23 rfl rfl)
theorem dX10_tells_24 : decode cX10_tells 24 = .ok (.iadd, 1) := dk_96 (dk_at dksX10_tells_1 0 rfl rfl)
theorem dX10_tells_25 : decode cX10_tells 25 = .ok (.dup2, 1) := dk_92 (dk_at dksX10_tells_1 1 rfl rfl)
theorem dX10_tells_26 : decode cX10_tells 26 = .ok (.iaload, 1) := dk_46 (dk_at dksX10_tells_1 2 rfl rfl)
theorem dX10_tells_27 : decode cX10_tells 27 = .ok (.iconst 1, 1) := dk_4 (dk_at dksX10_tells_1 3 rfl rfl)
theorem dX10_tells_28 : decode cX10_tells 28 = .ok (.iload_n 2, 1) := dk_28 (dk_at dksX10_tells_1 4 rfl rfl)
theorem dX10_tells_29 : decode cX10_tells 29 = .ok (.ishl, 1) := dk_120 (dk_at dksX10_tells_1 5 rfl rfl)
theorem dX10_tells_30 : decode cX10_tells 30 = .ok (.ior, 1) := dk_128 (dk_at dksX10_tells_1 6 rfl rfl)
theorem dX10_tells_31 : decode cX10_tells 31 = .ok (.iastore, 1) := dk_79 (dk_at dksX10_tells_1 7 rfl rfl)
theorem dX10_tells_32 : decode cX10_tells 32 = .ok (.aload_n 0, 1) := dk_42 (dk_at dksX10_tells_1 8 rfl rfl)
theorem dX10_tells_33 : decode cX10_tells 33 = .ok (.getfield 129, 3) := dk_180 0 129 (dk_at dksX10_tells_1 9 rfl rfl)
theorem dX10_tells_36 : decode cX10_tells 36 = .ok (.bipush 10, 2) := dk_16 10 (dk_at dksX10_tells_1 12 rfl rfl)
theorem dX10_tells_38 : decode cX10_tells 38 = .ok (.bipush 10, 2) := dk_16 10 (dk_at dksX10_tells_1 14 rfl rfl)
theorem dX10_tells_40 : decode cX10_tells 40 = .ok (.iload_n 2, 1) := dk_28 (dk_at dksX10_tells_1 16 rfl rfl)
theorem dX10_tells_41 : decode cX10_tells 41 = .ok (.imul, 1) := dk_104 (dk_at dksX10_tells_1 17 rfl rfl)
theorem dX10_tells_42 : decode cX10_tells 42 = .ok (.iadd, 1) := dk_96 (dk_at dksX10_tells_1 18 rfl rfl)
theorem dX10_tells_43 : decode cX10_tells 43 = .ok (.iload_n 3, 1) := dk_29 (dk_at dksX10_tells_1 19 rfl rfl)
theorem dX10_tells_44 : decode cX10_tells 44 = .ok (.iadd, 1) := dk_96 (dk_at dksX10_tells_1 20 rfl rfl)
theorem dX10_tells_45 : decode cX10_tells 45 = .ok (.dup2, 1) := dk_92 (dk_at dksX10_tells_1 21 rfl rfl)
theorem dX10_tells_46 : decode cX10_tells 46 = .ok (.iaload, 1) := dk_46 (dk_at dksX10_tells_1 22 rfl rfl)
theorem dX10_tells_47 : decode cX10_tells 47 = .ok (.iconst 1, 1) := dk_4 (dk_at dksX10_tells_1 23 rfl rfl)
theorem dX10_tells_48 : decode cX10_tells 48 = .ok (.iload_n 1, 1) := dk_27 (dk_at dksX10_tells_2 0 rfl rfl)
theorem dX10_tells_49 : decode cX10_tells 49 = .ok (.ishl, 1) := dk_120 (dk_at dksX10_tells_2 1 rfl rfl)
theorem dX10_tells_50 : decode cX10_tells 50 = .ok (.ior, 1) := dk_128 (dk_at dksX10_tells_2 2 rfl rfl)
theorem dX10_tells_51 : decode cX10_tells 51 = .ok (.iastore, 1) := dk_79 (dk_at dksX10_tells_2 3 rfl rfl)
theorem dX10_tells_52 : decode cX10_tells 52 = .ok (.aload_n 0, 1) := dk_42 (dk_at dksX10_tells_2 4 rfl rfl)
theorem dX10_tells_53 : decode cX10_tells 53 = .ok (.getfield 32, 3) := dk_180 0 32 (dk_at dksX10_tells_2 5 rfl rfl)
theorem dX10_tells_56 : decode cX10_tells 56 = .ok (.iload_n 3, 1) := dk_29 (dk_at dksX10_tells_2 8 rfl rfl)
theorem dX10_tells_57 : decode cX10_tells 57 = .ok (.iaload, 1) := dk_46 (dk_at dksX10_tells_2 9 rfl rfl)
theorem dX10_tells_58 : decode cX10_tells 58 = .ok (.iconst 1, 1) := dk_4 (dk_at dksX10_tells_2 10 rfl rfl)
theorem dX10_tells_59 : decode cX10_tells 59 = .ok (.if_icmp .ne 26, 3) := dk_160 0 26 (dk_at dksX10_tells_2 11 rfl rfl)
theorem dX10_tells_62 : decode cX10_tells 62 = .ok (.aload_n 0, 1) := dk_42 (dk_at dksX10_tells_2 14 rfl rfl)
theorem dX10_tells_63 : decode cX10_tells 63 = .ok (.getfield 35, 3) := dk_180 0 35 (dk_at dksX10_tells_2 15 rfl rfl)
theorem dX10_tells_66 : decode cX10_tells 66 = .ok (.iload_n 3, 1) := dk_29 (dk_at dksX10_tells_2 18 rfl rfl)
theorem dX10_tells_67 : decode cX10_tells 67 = .ok (.iaload, 1) := dk_46 (dk_at dksX10_tells_2 19 rfl rfl)
theorem dX10_tells_68 : decode cX10_tells 68 = .ok (.iload_n 2, 1) := dk_28 (dk_at dksX10_tells_2 20 rfl rfl)
theorem dX10_tells_69 : decode cX10_tells 69 = .ok (.if_icmp .ne 16, 3) := dk_160 0 16 (dk_at dksX10_tells_2 21 rfl rfl)
theorem dX10_tells_72 : decode cX10_tells 72 = .ok (.aload_n 0, 1) := dk_42 (dk_at dksX10_tells_3 0 rfl rfl)
theorem dX10_tells_73 : decode cX10_tells 73 = .ok (.getfield 129, 3) := dk_180 0 129 (dk_at dksX10_tells_3 1 rfl rfl)
theorem dX10_tells_76 : decode cX10_tells 76 = .ok (.bipush 76, 2) := dk_16 76 (dk_at dksX10_tells_3 4 rfl rfl)
theorem dX10_tells_78 : decode cX10_tells 78 = .ok (.dup2, 1) := dk_92 (dk_at dksX10_tells_3 6 rfl rfl)
theorem dX10_tells_79 : decode cX10_tells 79 = .ok (.iaload, 1) := dk_46 (dk_at dksX10_tells_3 7 rfl rfl)
theorem dX10_tells_80 : decode cX10_tells 80 = .ok (.iconst 1, 1) := dk_4 (dk_at dksX10_tells_3 8 rfl rfl)
theorem dX10_tells_81 : decode cX10_tells 81 = .ok (.iload_n 3, 1) := dk_29 (dk_at dksX10_tells_3 9 rfl rfl)
theorem dX10_tells_82 : decode cX10_tells 82 = .ok (.ishl, 1) := dk_120 (dk_at dksX10_tells_3 10 rfl rfl)
theorem dX10_tells_83 : decode cX10_tells 83 = .ok (.ior, 1) := dk_128 (dk_at dksX10_tells_3 11 rfl rfl)
theorem dX10_tells_84 : decode cX10_tells 84 = .ok (.iastore, 1) := dk_79 (dk_at dksX10_tells_3 12 rfl rfl)
theorem dX10_tells_85 : decode cX10_tells 85 = .ok (.return_, 1) := dk_177 (dk_at dksX10_tells_3 13 rfl rfl)
abbrev cX10_pay : ByteArray := prog_36_method_73_code
def yX10_pay : MethodName := ⟨RX10, "pay", "(II)I"⟩
def dkwX10_pay_1 : List UInt8 := [42, 182, 1, 211, 42, 27, 28, 182, 1, 221, 42, 28, 182, 1, 177, 172]
abbrev dktX10_pay_1 : List UInt8 := dkwX10_pay_1 ++ []
def dkwX10_pay_0 : List UInt8 := [42, 3, 181, 0, 175, 42, 27, 182, 1, 180, 153, 0, 12, 42, 27, 28, 182, 1, 218, 154, 0, 5, 2, 172]
abbrev dktX10_pay_0 : List UInt8 := dkwX10_pay_0 ++ dktX10_pay_1
theorem dksX10_pay_0 : cX10_pay.data.toList.drop 0 = dktX10_pay_0 := by decide +kernel
theorem dksX10_pay_1 : cX10_pay.data.toList.drop 24 = dktX10_pay_1 := dk_seg dksX10_pay_0 24 rfl rfl
theorem dX10_pay_0 : decode cX10_pay 0 = .ok (.aload_n 0, 1) := dk_42 (dk_at dksX10_pay_0 0 rfl rfl)
theorem dX10_pay_1 : decode cX10_pay 1 = .ok (.iconst 0, 1) := dk_3 (dk_at dksX10_pay_0 1 rfl rfl)
theorem dX10_pay_2 : decode cX10_pay 2 = .ok (.putfield 175, 3) := dk_181 0 175 (dk_at dksX10_pay_0 2 rfl rfl)
theorem dX10_pay_5 : decode cX10_pay 5 = .ok (.aload_n 0, 1) := dk_42 (dk_at dksX10_pay_0 5 rfl rfl)
theorem dX10_pay_6 : decode cX10_pay 6 = .ok (.iload_n 1, 1) := dk_27 (dk_at dksX10_pay_0 6 rfl rfl)
theorem dX10_pay_7 : decode cX10_pay 7 = .ok (.invokevirtual 436, 3) := dk_182 1 180 (dk_at dksX10_pay_0 7 rfl rfl)
theorem dX10_pay_10 : decode cX10_pay 10 = .ok (.ifCond .eq 12, 3) := dk_153 0 12 (dk_at dksX10_pay_0 10 rfl rfl)
theorem dX10_pay_13 : decode cX10_pay 13 = .ok (.aload_n 0, 1) := dk_42 (dk_at dksX10_pay_0 13 rfl rfl)
theorem dX10_pay_14 : decode cX10_pay 14 = .ok (.iload_n 1, 1) := dk_27 (dk_at dksX10_pay_0 14 rfl rfl)
theorem dX10_pay_15 : decode cX10_pay 15 = .ok (.iload_n 2, 1) := dk_28 (dk_at dksX10_pay_0 15 rfl rfl)
theorem dX10_pay_16 : decode cX10_pay 16 = .ok (.invokevirtual 474, 3) := dk_182 1 218 (dk_at dksX10_pay_0 16 rfl rfl)
theorem dX10_pay_19 : decode cX10_pay 19 = .ok (.ifCond .ne 5, 3) := dk_154 0 5 (dk_at dksX10_pay_0 19 rfl rfl)
theorem dX10_pay_22 : decode cX10_pay 22 = .ok (.iconst (-1), 1) := dk_2 (dk_at dksX10_pay_0 22 rfl rfl)
theorem dX10_pay_23 : decode cX10_pay 23 = .ok (.ireturn, 1) := dk_172 (dk_at dksX10_pay_0 23 rfl rfl)
theorem dX10_pay_24 : decode cX10_pay 24 = .ok (.aload_n 0, 1) := dk_42 (dk_at dksX10_pay_1 0 rfl rfl)
theorem dX10_pay_25 : decode cX10_pay 25 = .ok (.invokevirtual 467, 3) := dk_182 1 211 (dk_at dksX10_pay_1 1 rfl rfl)
theorem dX10_pay_28 : decode cX10_pay 28 = .ok (.aload_n 0, 1) := dk_42 (dk_at dksX10_pay_1 4 rfl rfl)
theorem dX10_pay_29 : decode cX10_pay 29 = .ok (.iload_n 1, 1) := dk_27 (dk_at dksX10_pay_1 5 rfl rfl)
theorem dX10_pay_30 : decode cX10_pay 30 = .ok (.iload_n 2, 1) := dk_28 (dk_at dksX10_pay_1 6 rfl rfl)
theorem dX10_pay_31 : decode cX10_pay 31 = .ok (.invokevirtual 477, 3) := dk_182 1 221 (dk_at dksX10_pay_1 7 rfl rfl)
theorem dX10_pay_34 : decode cX10_pay 34 = .ok (.aload_n 0, 1) := dk_42 (dk_at dksX10_pay_1 10 rfl rfl)
theorem dX10_pay_35 : decode cX10_pay 35 = .ok (.iload_n 2, 1) := dk_28 (dk_at dksX10_pay_1 11 rfl rfl)
theorem dX10_pay_36 : decode cX10_pay 36 = .ok (.invokevirtual 433, 3) := dk_182 1 177 (dk_at dksX10_pay_1 12 rfl rfl)
theorem dX10_pay_39 : decode cX10_pay 39 = .ok (.ireturn, 1) := dk_172 (dk_at dksX10_pay_1 15 rfl rfl)
abbrev cX10_canPay : ByteArray := prog_36_method_71_code
def yX10_canPay : MethodName := ⟨RX10, "canPay", "(II)Z"⟩
def dkwX10_canPay_2 : List UInt8 := [180, 0, 29, 27, 46, 161, 0, 7, 4, 167, 0, 4, 3, 172]
abbrev dktX10_canPay_2 : List UInt8 := dkwX10_canPay_2 ++ []
def dkwX10_canPay_1 : List UInt8 := [42, 180, 0, 129, 16, 77, 46, 2, 130, 126, 2, 130, 126, 154, 0, 21, 42, 28, 182, 1, 177, 42]
abbrev dktX10_canPay_1 : List UInt8 := dkwX10_canPay_1 ++ dktX10_canPay_2
def dkwX10_canPay_0 : List UInt8 := [42, 180, 0, 129, 16, 78, 46, 27, 122, 4, 126, 154, 0, 47, 28, 158, 0, 43, 28, 42, 27, 182, 1, 174]
abbrev dktX10_canPay_0 : List UInt8 := dkwX10_canPay_0 ++ dktX10_canPay_1
theorem dksX10_canPay_0 : cX10_canPay.data.toList.drop 0 = dktX10_canPay_0 := by decide +kernel
theorem dksX10_canPay_1 : cX10_canPay.data.toList.drop 24 = dktX10_canPay_1 := dk_seg dksX10_canPay_0 24 rfl rfl
theorem dksX10_canPay_2 : cX10_canPay.data.toList.drop 46 = dktX10_canPay_2 := dk_seg dksX10_canPay_1 22 rfl rfl
theorem dX10_canPay_0 : decode cX10_canPay 0 = .ok (.aload_n 0, 1) := dk_42 (dk_at dksX10_canPay_0 0 rfl rfl)
theorem dX10_canPay_1 : decode cX10_canPay 1 = .ok (.getfield 129, 3) := dk_180 0 129 (dk_at dksX10_canPay_0 1 rfl rfl)
theorem dX10_canPay_4 : decode cX10_canPay 4 = .ok (.bipush 78, 2) := dk_16 78 (dk_at dksX10_canPay_0 4 rfl rfl)
theorem dX10_canPay_6 : decode cX10_canPay 6 = .ok (.iaload, 1) := dk_46 (dk_at dksX10_canPay_0 6 rfl rfl)
theorem dX10_canPay_7 : decode cX10_canPay 7 = .ok (.iload_n 1, 1) := dk_27 (dk_at dksX10_canPay_0 7 rfl rfl)
theorem dX10_canPay_8 : decode cX10_canPay 8 = .ok (.ishr, 1) := dk_122 (dk_at dksX10_canPay_0 8 rfl rfl)
theorem dX10_canPay_9 : decode cX10_canPay 9 = .ok (.iconst 1, 1) := dk_4 (dk_at dksX10_canPay_0 9 rfl rfl)
theorem dX10_canPay_10 : decode cX10_canPay 10 = .ok (.iand, 1) := dk_126 (dk_at dksX10_canPay_0 10 rfl rfl)
theorem dX10_canPay_11 : decode cX10_canPay 11 = .ok (.ifCond .ne 47, 3) := dk_154 0 47 (dk_at dksX10_canPay_0 11 rfl rfl)
theorem dX10_canPay_14 : decode cX10_canPay 14 = .ok (.iload_n 2, 1) := dk_28 (dk_at dksX10_canPay_0 14 rfl rfl)
theorem dX10_canPay_15 : decode cX10_canPay 15 = .ok (.ifCond .le 43, 3) := dk_158 0 43 (dk_at dksX10_canPay_0 15 rfl rfl)
theorem dX10_canPay_18 : decode cX10_canPay 18 = .ok (.iload_n 2, 1) := dk_28 (dk_at dksX10_canPay_0 18 rfl rfl)
theorem dX10_canPay_19 : decode cX10_canPay 19 = .ok (.aload_n 0, 1) := dk_42 (dk_at dksX10_canPay_0 19 rfl rfl)
theorem dX10_canPay_20 : decode cX10_canPay 20 = .ok (.iload_n 1, 1) := dk_27 (dk_at dksX10_canPay_0 20 rfl rfl)
theorem dX10_canPay_21 : decode cX10_canPay 21 = .ok (.invokevirtual 430, 3) := dk_182 1 174 (dk_at dksX10_canPay_0 21 rfl rfl)
theorem dX10_canPay_24 : decode cX10_canPay 24 = .ok (.aload_n 0, 1) := dk_42 (dk_at dksX10_canPay_1 0 rfl rfl)
theorem dX10_canPay_25 : decode cX10_canPay 25 = .ok (.getfield 129, 3) := dk_180 0 129 (dk_at dksX10_canPay_1 1 rfl rfl)
theorem dX10_canPay_28 : decode cX10_canPay 28 = .ok (.bipush 77, 2) := dk_16 77 (dk_at dksX10_canPay_1 4 rfl rfl)
theorem dX10_canPay_30 : decode cX10_canPay 30 = .ok (.iaload, 1) := dk_46 (dk_at dksX10_canPay_1 6 rfl rfl)
theorem dX10_canPay_31 : decode cX10_canPay 31 = .ok (.iconst (-1), 1) := dk_2 (dk_at dksX10_canPay_1 7 rfl rfl)
theorem dX10_canPay_32 : decode cX10_canPay 32 = .ok (.ixor, 1) := dk_130 (dk_at dksX10_canPay_1 8 rfl rfl)
theorem dX10_canPay_33 : decode cX10_canPay 33 = .ok (.iand, 1) := dk_126 (dk_at dksX10_canPay_1 9 rfl rfl)
theorem dX10_canPay_34 : decode cX10_canPay 34 = .ok (.iconst (-1), 1) := dk_2 (dk_at dksX10_canPay_1 10 rfl rfl)
theorem dX10_canPay_35 : decode cX10_canPay 35 = .ok (.ixor, 1) := dk_130 (dk_at dksX10_canPay_1 11 rfl rfl)
theorem dX10_canPay_36 : decode cX10_canPay 36 = .ok (.iand, 1) := dk_126 (dk_at dksX10_canPay_1 12 rfl rfl)
theorem dX10_canPay_37 : decode cX10_canPay 37 = .ok (.ifCond .ne 21, 3) := dk_154 0 21 (dk_at dksX10_canPay_1 13 rfl rfl)
theorem dX10_canPay_40 : decode cX10_canPay 40 = .ok (.aload_n 0, 1) := dk_42 (dk_at dksX10_canPay_1 16 rfl rfl)
theorem dX10_canPay_41 : decode cX10_canPay 41 = .ok (.iload_n 2, 1) := dk_28 (dk_at dksX10_canPay_1 17 rfl rfl)
theorem dX10_canPay_42 : decode cX10_canPay 42 = .ok (.invokevirtual 433, 3) := dk_182 1 177 (dk_at dksX10_canPay_1 18 rfl rfl)
theorem dX10_canPay_45 : decode cX10_canPay 45 = .ok (.aload_n 0, 1) := dk_42 (dk_at dksX10_canPay_1 21 rfl rfl)
theorem dX10_canPay_46 : decode cX10_canPay 46 = .ok (.getfield 29, 3) := dk_180 0 29 (dk_at dksX10_canPay_2 0 rfl rfl)
theorem dX10_canPay_49 : decode cX10_canPay 49 = .ok (.iload_n 1, 1) := dk_27 (dk_at dksX10_canPay_2 3 rfl rfl)
theorem dX10_canPay_50 : decode cX10_canPay 50 = .ok (.iaload, 1) := dk_46 (dk_at dksX10_canPay_2 4 rfl rfl)
theorem dX10_canPay_51 : decode cX10_canPay 51 = .ok (.if_icmp .lt 7, 3) := dk_161 0 7 (dk_at dksX10_canPay_2 5 rfl rfl)
theorem dX10_canPay_54 : decode cX10_canPay 54 = .ok (.iconst 1, 1) := dk_4 (dk_at dksX10_canPay_2 8 rfl rfl)
theorem dX10_canPay_55 : decode cX10_canPay 55 = .ok (.goto 4, 3) := dk_167 0 4 (dk_at dksX10_canPay_2 9 rfl rfl)
theorem dX10_canPay_58 : decode cX10_canPay 58 = .ok (.iconst 0, 1) := dk_3 (dk_at dksX10_canPay_2 12 rfl rfl)
theorem dX10_canPay_59 : decode cX10_canPay 59 = .ok (.ireturn, 1) := dk_172 (dk_at dksX10_canPay_2 13 rfl rfl)
abbrev cX10_pays : ByteArray := prog_36_method_72_code
def yX10_pays : MethodName := ⟨RX10, "pays", "(II)V"⟩
def dkwX10_pays_1 : List UInt8 := [177]
abbrev dktX10_pays_1 : List UInt8 := dkwX10_pays_1 ++ []
def dkwX10_pays_0 : List UInt8 := [42, 180, 0, 129, 16, 77, 92, 46, 28, 128, 79, 42, 180, 0, 129, 16, 78, 92, 46, 4, 27, 120, 128, 79]
abbrev dktX10_pays_0 : List UInt8 := dkwX10_pays_0 ++ dktX10_pays_1
theorem dksX10_pays_0 : cX10_pays.data.toList.drop 0 = dktX10_pays_0 := by decide +kernel
theorem dksX10_pays_1 : cX10_pays.data.toList.drop 24 = dktX10_pays_1 := dk_seg dksX10_pays_0 24 rfl rfl
theorem dX10_pays_0 : decode cX10_pays 0 = .ok (.aload_n 0, 1) := dk_42 (dk_at dksX10_pays_0 0 rfl rfl)
theorem dX10_pays_1 : decode cX10_pays 1 = .ok (.getfield 129, 3) := dk_180 0 129 (dk_at dksX10_pays_0 1 rfl rfl)
theorem dX10_pays_4 : decode cX10_pays 4 = .ok (.bipush 77, 2) := dk_16 77 (dk_at dksX10_pays_0 4 rfl rfl)
theorem dX10_pays_6 : decode cX10_pays 6 = .ok (.dup2, 1) := dk_92 (dk_at dksX10_pays_0 6 rfl rfl)
theorem dX10_pays_7 : decode cX10_pays 7 = .ok (.iaload, 1) := dk_46 (dk_at dksX10_pays_0 7 rfl rfl)
theorem dX10_pays_8 : decode cX10_pays 8 = .ok (.iload_n 2, 1) := dk_28 (dk_at dksX10_pays_0 8 rfl rfl)
theorem dX10_pays_9 : decode cX10_pays 9 = .ok (.ior, 1) := dk_128 (dk_at dksX10_pays_0 9 rfl rfl)
theorem dX10_pays_10 : decode cX10_pays 10 = .ok (.iastore, 1) := dk_79 (dk_at dksX10_pays_0 10 rfl rfl)
theorem dX10_pays_11 : decode cX10_pays 11 = .ok (.aload_n 0, 1) := dk_42 (dk_at dksX10_pays_0 11 rfl rfl)
theorem dX10_pays_12 : decode cX10_pays 12 = .ok (.getfield 129, 3) := dk_180 0 129 (dk_at dksX10_pays_0 12 rfl rfl)
theorem dX10_pays_15 : decode cX10_pays 15 = .ok (.bipush 78, 2) := dk_16 78 (dk_at dksX10_pays_0 15 rfl rfl)
theorem dX10_pays_17 : decode cX10_pays 17 = .ok (.dup2, 1) := dk_92 (dk_at dksX10_pays_0 17 rfl rfl)
theorem dX10_pays_18 : decode cX10_pays 18 = .ok (.iaload, 1) := dk_46 (dk_at dksX10_pays_0 18 rfl rfl)
theorem dX10_pays_19 : decode cX10_pays 19 = .ok (.iconst 1, 1) := dk_4 (dk_at dksX10_pays_0 19 rfl rfl)
theorem dX10_pays_20 : decode cX10_pays 20 = .ok (.iload_n 1, 1) := dk_27 (dk_at dksX10_pays_0 20 rfl rfl)
theorem dX10_pays_21 : decode cX10_pays 21 = .ok (.ishl, 1) := dk_120 (dk_at dksX10_pays_0 21 rfl rfl)
theorem dX10_pays_22 : decode cX10_pays 22 = .ok (.ior, 1) := dk_128 (dk_at dksX10_pays_0 22 rfl rfl)
theorem dX10_pays_23 : decode cX10_pays 23 = .ok (.iastore, 1) := dk_79 (dk_at dksX10_pays_0 23 rfl rfl)
theorem dX10_pays_24 : decode cX10_pays 24 = .ok (.return_, 1) := dk_177 (dk_at dksX10_pays_1 0 rfl rfl)
abbrev cX10_rise : ByteArray := prog_36_method_74_code
def yX10_rise : MethodName := ⟨RX10, "rise", "(I)I"⟩
def dkwX10_rise_2 : List UInt8 := [180, 0, 129, 16, 70, 27, 96, 46, 172]
abbrev dktX10_rise_2 : List UInt8 := dkwX10_rise_2 ++ []
def dkwX10_rise_1 : List UInt8 := [160, 0, 5, 2, 172, 42, 182, 1, 211, 42, 180, 0, 129, 16, 70, 27, 96, 92, 46, 4, 96, 79, 42]
abbrev dktX10_rise_1 : List UInt8 := dkwX10_rise_1 ++ dktX10_rise_2
def dkwX10_rise_0 : List UInt8 := [42, 3, 181, 0, 175, 42, 27, 182, 1, 180, 153, 0, 17, 42, 180, 0, 129, 16, 70, 27, 96, 46, 16, 9]
abbrev dktX10_rise_0 : List UInt8 := dkwX10_rise_0 ++ dktX10_rise_1
theorem dksX10_rise_0 : cX10_rise.data.toList.drop 0 = dktX10_rise_0 := by decide +kernel
theorem dksX10_rise_1 : cX10_rise.data.toList.drop 24 = dktX10_rise_1 := dk_seg dksX10_rise_0 24 rfl rfl
theorem dksX10_rise_2 : cX10_rise.data.toList.drop 47 = dktX10_rise_2 := dk_seg dksX10_rise_1 23 rfl rfl
theorem dX10_rise_0 : decode cX10_rise 0 = .ok (.aload_n 0, 1) := dk_42 (dk_at dksX10_rise_0 0 rfl rfl)
theorem dX10_rise_1 : decode cX10_rise 1 = .ok (.iconst 0, 1) := dk_3 (dk_at dksX10_rise_0 1 rfl rfl)
theorem dX10_rise_2 : decode cX10_rise 2 = .ok (.putfield 175, 3) := dk_181 0 175 (dk_at dksX10_rise_0 2 rfl rfl)
theorem dX10_rise_5 : decode cX10_rise 5 = .ok (.aload_n 0, 1) := dk_42 (dk_at dksX10_rise_0 5 rfl rfl)
theorem dX10_rise_6 : decode cX10_rise 6 = .ok (.iload_n 1, 1) := dk_27 (dk_at dksX10_rise_0 6 rfl rfl)
theorem dX10_rise_7 : decode cX10_rise 7 = .ok (.invokevirtual 436, 3) := dk_182 1 180 (dk_at dksX10_rise_0 7 rfl rfl)
theorem dX10_rise_10 : decode cX10_rise 10 = .ok (.ifCond .eq 17, 3) := dk_153 0 17 (dk_at dksX10_rise_0 10 rfl rfl)
theorem dX10_rise_13 : decode cX10_rise 13 = .ok (.aload_n 0, 1) := dk_42 (dk_at dksX10_rise_0 13 rfl rfl)
theorem dX10_rise_14 : decode cX10_rise 14 = .ok (.getfield 129, 3) := dk_180 0 129 (dk_at dksX10_rise_0 14 rfl rfl)
theorem dX10_rise_17 : decode cX10_rise 17 = .ok (.bipush 70, 2) := dk_16 70 (dk_at dksX10_rise_0 17 rfl rfl)
theorem dX10_rise_19 : decode cX10_rise 19 = .ok (.iload_n 1, 1) := dk_27 (dk_at dksX10_rise_0 19 rfl rfl)
theorem dX10_rise_20 : decode cX10_rise 20 = .ok (.iadd, 1) := dk_96 (dk_at dksX10_rise_0 20 rfl rfl)
theorem dX10_rise_21 : decode cX10_rise 21 = .ok (.iaload, 1) := dk_46 (dk_at dksX10_rise_0 21 rfl rfl)
theorem dX10_rise_22 : decode cX10_rise 22 = .ok (.bipush 9, 2) := dk_16 9 (dk_at dksX10_rise_0 22 rfl rfl)
theorem dX10_rise_24 : decode cX10_rise 24 = .ok (.if_icmp .ne 5, 3) := dk_160 0 5 (dk_at dksX10_rise_1 0 rfl rfl)
theorem dX10_rise_27 : decode cX10_rise 27 = .ok (.iconst (-1), 1) := dk_2 (dk_at dksX10_rise_1 3 rfl rfl)
theorem dX10_rise_28 : decode cX10_rise 28 = .ok (.ireturn, 1) := dk_172 (dk_at dksX10_rise_1 4 rfl rfl)
theorem dX10_rise_29 : decode cX10_rise 29 = .ok (.aload_n 0, 1) := dk_42 (dk_at dksX10_rise_1 5 rfl rfl)
theorem dX10_rise_30 : decode cX10_rise 30 = .ok (.invokevirtual 467, 3) := dk_182 1 211 (dk_at dksX10_rise_1 6 rfl rfl)
theorem dX10_rise_33 : decode cX10_rise 33 = .ok (.aload_n 0, 1) := dk_42 (dk_at dksX10_rise_1 9 rfl rfl)
theorem dX10_rise_34 : decode cX10_rise 34 = .ok (.getfield 129, 3) := dk_180 0 129 (dk_at dksX10_rise_1 10 rfl rfl)
theorem dX10_rise_37 : decode cX10_rise 37 = .ok (.bipush 70, 2) := dk_16 70 (dk_at dksX10_rise_1 13 rfl rfl)
theorem dX10_rise_39 : decode cX10_rise 39 = .ok (.iload_n 1, 1) := dk_27 (dk_at dksX10_rise_1 15 rfl rfl)
theorem dX10_rise_40 : decode cX10_rise 40 = .ok (.iadd, 1) := dk_96 (dk_at dksX10_rise_1 16 rfl rfl)
theorem dX10_rise_41 : decode cX10_rise 41 = .ok (.dup2, 1) := dk_92 (dk_at dksX10_rise_1 17 rfl rfl)
theorem dX10_rise_42 : decode cX10_rise 42 = .ok (.iaload, 1) := dk_46 (dk_at dksX10_rise_1 18 rfl rfl)
theorem dX10_rise_43 : decode cX10_rise 43 = .ok (.iconst 1, 1) := dk_4 (dk_at dksX10_rise_1 19 rfl rfl)
theorem dX10_rise_44 : decode cX10_rise 44 = .ok (.iadd, 1) := dk_96 (dk_at dksX10_rise_1 20 rfl rfl)
theorem dX10_rise_45 : decode cX10_rise 45 = .ok (.iastore, 1) := dk_79 (dk_at dksX10_rise_1 21 rfl rfl)
theorem dX10_rise_46 : decode cX10_rise 46 = .ok (.aload_n 0, 1) := dk_42 (dk_at dksX10_rise_1 22 rfl rfl)
theorem dX10_rise_47 : decode cX10_rise 47 = .ok (.getfield 129, 3) := dk_180 0 129 (dk_at dksX10_rise_2 0 rfl rfl)
theorem dX10_rise_50 : decode cX10_rise 50 = .ok (.bipush 70, 2) := dk_16 70 (dk_at dksX10_rise_2 3 rfl rfl)
theorem dX10_rise_52 : decode cX10_rise 52 = .ok (.iload_n 1, 1) := dk_27 (dk_at dksX10_rise_2 5 rfl rfl)
theorem dX10_rise_53 : decode cX10_rise 53 = .ok (.iadd, 1) := dk_96 (dk_at dksX10_rise_2 6 rfl rfl)
theorem dX10_rise_54 : decode cX10_rise 54 = .ok (.iaload, 1) := dk_46 (dk_at dksX10_rise_2 7 rfl rfl)
theorem dX10_rise_55 : decode cX10_rise 55 = .ok (.ireturn, 1) := dk_172 (dk_at dksX10_rise_2 8 rfl rfl)
abbrev cX10_quarter : ByteArray := prog_36_method_76_code
def yX10_quarter : MethodName := ⟨RX10, "quarter", "()I"⟩
def dkwX10_quarter_0 : List UInt8 := [42, 3, 181, 0, 175, 42, 182, 1, 211, 42, 182, 1, 224, 172]
abbrev dktX10_quarter_0 : List UInt8 := dkwX10_quarter_0 ++ []
theorem dksX10_quarter_0 : cX10_quarter.data.toList.drop 0 = dktX10_quarter_0 := by decide +kernel
theorem dX10_quarter_0 : decode cX10_quarter 0 = .ok (.aload_n 0, 1) := dk_42 (dk_at dksX10_quarter_0 0 rfl rfl)
theorem dX10_quarter_1 : decode cX10_quarter 1 = .ok (.iconst 0, 1) := dk_3 (dk_at dksX10_quarter_0 1 rfl rfl)
theorem dX10_quarter_2 : decode cX10_quarter 2 = .ok (.putfield 175, 3) := dk_181 0 175 (dk_at dksX10_quarter_0 2 rfl rfl)
theorem dX10_quarter_5 : decode cX10_quarter 5 = .ok (.aload_n 0, 1) := dk_42 (dk_at dksX10_quarter_0 5 rfl rfl)
theorem dX10_quarter_6 : decode cX10_quarter 6 = .ok (.invokevirtual 467, 3) := dk_182 1 211 (dk_at dksX10_quarter_0 6 rfl rfl)
theorem dX10_quarter_9 : decode cX10_quarter 9 = .ok (.aload_n 0, 1) := dk_42 (dk_at dksX10_quarter_0 9 rfl rfl)
theorem dX10_quarter_10 : decode cX10_quarter 10 = .ok (.invokevirtual 480, 3) := dk_182 1 224 (dk_at dksX10_quarter_0 10 rfl rfl)
theorem dX10_quarter_13 : decode cX10_quarter 13 = .ok (.ireturn, 1) := dk_172 (dk_at dksX10_quarter_0 13 rfl rfl)
abbrev cX10_passes : ByteArray := prog_36_method_75_code
def yX10_passes : MethodName := ⟨RX10, "passes", "()I"⟩
def dkwX10_passes_3 : List UInt8 := [3, 79, 42, 180, 0, 129, 16, 78, 3, 79, 42, 180, 0, 129, 16, 85, 92, 46, 4, 96, 79, 27, 172]
abbrev dktX10_passes_3 : List UInt8 := dkwX10_passes_3 ++ []
def dkwX10_passes_2 : List UInt8 := [96, 92, 46, 4, 96, 79, 27, 4, 28, 120, 128, 60, 132, 2, 1, 167, 255, 197, 42, 180, 0, 129, 16, 77]
abbrev dktX10_passes_2 : List UInt8 := dkwX10_passes_2 ++ dktX10_passes_3
def dkwX10_passes_1 : List UInt8 := [180, 0, 129, 16, 78, 46, 28, 122, 4, 126, 4, 160, 0, 6, 167, 0, 22, 42, 180, 0, 129, 16, 79, 28]
abbrev dktX10_passes_1 : List UInt8 := dkwX10_passes_1 ++ dktX10_passes_2
def dkwX10_passes_0 : List UInt8 := [3, 60, 3, 61, 28, 42, 180, 0, 13, 3, 46, 162, 0, 55, 42, 180, 0, 29, 28, 46, 153, 0, 40, 42]
abbrev dktX10_passes_0 : List UInt8 := dkwX10_passes_0 ++ dktX10_passes_1
theorem dksX10_passes_0 : cX10_passes.data.toList.drop 0 = dktX10_passes_0 := by decide +kernel
theorem dksX10_passes_1 : cX10_passes.data.toList.drop 24 = dktX10_passes_1 := dk_seg dksX10_passes_0 24 rfl rfl
theorem dksX10_passes_2 : cX10_passes.data.toList.drop 48 = dktX10_passes_2 := dk_seg dksX10_passes_1 24 rfl rfl
theorem dksX10_passes_3 : cX10_passes.data.toList.drop 72 = dktX10_passes_3 := dk_seg dksX10_passes_2 24 rfl rfl
theorem dX10_passes_0 : decode cX10_passes 0 = .ok (.iconst 0, 1) := dk_3 (dk_at dksX10_passes_0 0 rfl rfl)
theorem dX10_passes_1 : decode cX10_passes 1 = .ok (.istore_n 1, 1) := dk_60 (dk_at dksX10_passes_0 1 rfl rfl)
theorem dX10_passes_2 : decode cX10_passes 2 = .ok (.iconst 0, 1) := dk_3 (dk_at dksX10_passes_0 2 rfl rfl)
theorem dX10_passes_3 : decode cX10_passes 3 = .ok (.istore_n 2, 1) := dk_61 (dk_at dksX10_passes_0 3 rfl rfl)
theorem dX10_passes_4 : decode cX10_passes 4 = .ok (.iload_n 2, 1) := dk_28 (dk_at dksX10_passes_0 4 rfl rfl)
theorem dX10_passes_5 : decode cX10_passes 5 = .ok (.aload_n 0, 1) := dk_42 (dk_at dksX10_passes_0 5 rfl rfl)
theorem dX10_passes_6 : decode cX10_passes 6 = .ok (.getfield 13, 3) := dk_180 0 13 (dk_at dksX10_passes_0 6 rfl rfl)
theorem dX10_passes_9 : decode cX10_passes 9 = .ok (.iconst 0, 1) := dk_3 (dk_at dksX10_passes_0 9 rfl rfl)
theorem dX10_passes_10 : decode cX10_passes 10 = .ok (.iaload, 1) := dk_46 (dk_at dksX10_passes_0 10 rfl rfl)
theorem dX10_passes_11 : decode cX10_passes 11 = .ok (.if_icmp .ge 55, 3) := dk_162 0 55 (dk_at dksX10_passes_0 11 rfl rfl)
theorem dX10_passes_14 : decode cX10_passes 14 = .ok (.aload_n 0, 1) := dk_42 (dk_at dksX10_passes_0 14 rfl rfl)
theorem dX10_passes_15 : decode cX10_passes 15 = .ok (.getfield 29, 3) := dk_180 0 29 (dk_at dksX10_passes_0 15 rfl rfl)
theorem dX10_passes_18 : decode cX10_passes 18 = .ok (.iload_n 2, 1) := dk_28 (dk_at dksX10_passes_0 18 rfl rfl)
theorem dX10_passes_19 : decode cX10_passes 19 = .ok (.iaload, 1) := dk_46 (dk_at dksX10_passes_0 19 rfl rfl)
theorem dX10_passes_20 : decode cX10_passes 20 = .ok (.ifCond .eq 40, 3) := dk_153 0 40 (dk_at dksX10_passes_0 20 rfl rfl)
theorem dX10_passes_23 : decode cX10_passes 23 = .ok (.aload_n 0, 1) := dk_42 (dk_at dksX10_passes_0 23 rfl rfl)
theorem dX10_passes_24 : decode cX10_passes 24 = .ok (.getfield 129, 3) := dk_180 0 129 (dk_at dksX10_passes_1 0 rfl rfl)
theorem dX10_passes_27 : decode cX10_passes 27 = .ok (.bipush 78, 2) := dk_16 78 (dk_at dksX10_passes_1 3 rfl rfl)
theorem dX10_passes_29 : decode cX10_passes 29 = .ok (.iaload, 1) := dk_46 (dk_at dksX10_passes_1 5 rfl rfl)
theorem dX10_passes_30 : decode cX10_passes 30 = .ok (.iload_n 2, 1) := dk_28 (dk_at dksX10_passes_1 6 rfl rfl)
theorem dX10_passes_31 : decode cX10_passes 31 = .ok (.ishr, 1) := dk_122 (dk_at dksX10_passes_1 7 rfl rfl)
theorem dX10_passes_32 : decode cX10_passes 32 = .ok (.iconst 1, 1) := dk_4 (dk_at dksX10_passes_1 8 rfl rfl)
theorem dX10_passes_33 : decode cX10_passes 33 = .ok (.iand, 1) := dk_126 (dk_at dksX10_passes_1 9 rfl rfl)
theorem dX10_passes_34 : decode cX10_passes 34 = .ok (.iconst 1, 1) := dk_4 (dk_at dksX10_passes_1 10 rfl rfl)
theorem dX10_passes_35 : decode cX10_passes 35 = .ok (.if_icmp .ne 6, 3) := dk_160 0 6 (dk_at dksX10_passes_1 11 rfl rfl)
theorem dX10_passes_38 : decode cX10_passes 38 = .ok (.goto 22, 3) := dk_167 0 22 (dk_at dksX10_passes_1 14 rfl rfl)
theorem dX10_passes_41 : decode cX10_passes 41 = .ok (.aload_n 0, 1) := dk_42 (dk_at dksX10_passes_1 17 rfl rfl)
theorem dX10_passes_42 : decode cX10_passes 42 = .ok (.getfield 129, 3) := dk_180 0 129 (dk_at dksX10_passes_1 18 rfl rfl)
theorem dX10_passes_45 : decode cX10_passes 45 = .ok (.bipush 79, 2) := dk_16 79 (dk_at dksX10_passes_1 21 rfl rfl)
theorem dX10_passes_47 : decode cX10_passes 47 = .ok (.iload_n 2, 1) := dk_28 (dk_at dksX10_passes_1 23 rfl rfl)
theorem dX10_passes_48 : decode cX10_passes 48 = .ok (.iadd, 1) := dk_96 (dk_at dksX10_passes_2 0 rfl rfl)
theorem dX10_passes_49 : decode cX10_passes 49 = .ok (.dup2, 1) := dk_92 (dk_at dksX10_passes_2 1 rfl rfl)
theorem dX10_passes_50 : decode cX10_passes 50 = .ok (.iaload, 1) := dk_46 (dk_at dksX10_passes_2 2 rfl rfl)
theorem dX10_passes_51 : decode cX10_passes 51 = .ok (.iconst 1, 1) := dk_4 (dk_at dksX10_passes_2 3 rfl rfl)
theorem dX10_passes_52 : decode cX10_passes 52 = .ok (.iadd, 1) := dk_96 (dk_at dksX10_passes_2 4 rfl rfl)
theorem dX10_passes_53 : decode cX10_passes 53 = .ok (.iastore, 1) := dk_79 (dk_at dksX10_passes_2 5 rfl rfl)
theorem dX10_passes_54 : decode cX10_passes 54 = .ok (.iload_n 1, 1) := dk_27 (dk_at dksX10_passes_2 6 rfl rfl)
theorem dX10_passes_55 : decode cX10_passes 55 = .ok (.iconst 1, 1) := dk_4 (dk_at dksX10_passes_2 7 rfl rfl)
theorem dX10_passes_56 : decode cX10_passes 56 = .ok (.iload_n 2, 1) := dk_28 (dk_at dksX10_passes_2 8 rfl rfl)
theorem dX10_passes_57 : decode cX10_passes 57 = .ok (.ishl, 1) := dk_120 (dk_at dksX10_passes_2 9 rfl rfl)
theorem dX10_passes_58 : decode cX10_passes 58 = .ok (.ior, 1) := dk_128 (dk_at dksX10_passes_2 10 rfl rfl)
theorem dX10_passes_59 : decode cX10_passes 59 = .ok (.istore_n 1, 1) := dk_60 (dk_at dksX10_passes_2 11 rfl rfl)
theorem dX10_passes_60 : decode cX10_passes 60 = .ok (.iinc 2 1, 3) := dk_132 2 1 (dk_at dksX10_passes_2 12 rfl rfl)
theorem dX10_passes_63 : decode cX10_passes 63 = .ok (.goto (-59), 3) := dk_167 255 197 (dk_at dksX10_passes_2 15 rfl rfl)
theorem dX10_passes_66 : decode cX10_passes 66 = .ok (.aload_n 0, 1) := dk_42 (dk_at dksX10_passes_2 18 rfl rfl)
theorem dX10_passes_67 : decode cX10_passes 67 = .ok (.getfield 129, 3) := dk_180 0 129 (dk_at dksX10_passes_2 19 rfl rfl)
theorem dX10_passes_70 : decode cX10_passes 70 = .ok (.bipush 77, 2) := dk_16 77 (dk_at dksX10_passes_2 22 rfl rfl)
theorem dX10_passes_72 : decode cX10_passes 72 = .ok (.iconst 0, 1) := dk_3 (dk_at dksX10_passes_3 0 rfl rfl)
theorem dX10_passes_73 : decode cX10_passes 73 = .ok (.iastore, 1) := dk_79 (dk_at dksX10_passes_3 1 rfl rfl)
theorem dX10_passes_74 : decode cX10_passes 74 = .ok (.aload_n 0, 1) := dk_42 (dk_at dksX10_passes_3 2 rfl rfl)
theorem dX10_passes_75 : decode cX10_passes 75 = .ok (.getfield 129, 3) := dk_180 0 129 (dk_at dksX10_passes_3 3 rfl rfl)
theorem dX10_passes_78 : decode cX10_passes 78 = .ok (.bipush 78, 2) := dk_16 78 (dk_at dksX10_passes_3 6 rfl rfl)
theorem dX10_passes_80 : decode cX10_passes 80 = .ok (.iconst 0, 1) := dk_3 (dk_at dksX10_passes_3 8 rfl rfl)
theorem dX10_passes_81 : decode cX10_passes 81 = .ok (.iastore, 1) := dk_79 (dk_at dksX10_passes_3 9 rfl rfl)
theorem dX10_passes_82 : decode cX10_passes 82 = .ok (.aload_n 0, 1) := dk_42 (dk_at dksX10_passes_3 10 rfl rfl)
theorem dX10_passes_83 : decode cX10_passes 83 = .ok (.getfield 129, 3) := dk_180 0 129 (dk_at dksX10_passes_3 11 rfl rfl)
theorem dX10_passes_86 : decode cX10_passes 86 = .ok (.bipush 85, 2) := dk_16 85 (dk_at dksX10_passes_3 14 rfl rfl)
theorem dX10_passes_88 : decode cX10_passes 88 = .ok (.dup2, 1) := dk_92 (dk_at dksX10_passes_3 16 rfl rfl)
theorem dX10_passes_89 : decode cX10_passes 89 = .ok (.iaload, 1) := dk_46 (dk_at dksX10_passes_3 17 rfl rfl)
theorem dX10_passes_90 : decode cX10_passes 90 = .ok (.iconst 1, 1) := dk_4 (dk_at dksX10_passes_3 18 rfl rfl)
theorem dX10_passes_91 : decode cX10_passes 91 = .ok (.iadd, 1) := dk_96 (dk_at dksX10_passes_3 19 rfl rfl)
theorem dX10_passes_92 : decode cX10_passes 92 = .ok (.iastore, 1) := dk_79 (dk_at dksX10_passes_3 20 rfl rfl)
theorem dX10_passes_93 : decode cX10_passes 93 = .ok (.iload_n 1, 1) := dk_27 (dk_at dksX10_passes_3 21 rfl rfl)
theorem dX10_passes_94 : decode cX10_passes 94 = .ok (.ireturn, 1) := dk_172 (dk_at dksX10_passes_3 22 rfl rfl)
abbrev cX10_lend : ByteArray := prog_36_method_77_code
def yX10_lend : MethodName := ⟨RX10, "lend", "(III)I"⟩
def dkwX10_lend_4 : List UInt8 := [16, 122, 92, 46, 4, 96, 79, 21, 4, 172]
abbrev dktX10_lend_4 : List UInt8 := dkwX10_lend_4 ++ []
def dkwX10_lend_3 : List UInt8 := [42, 180, 0, 129, 16, 86, 16, 6, 28, 104, 96, 27, 96, 92, 46, 21, 4, 96, 79, 42, 180, 0, 129]
abbrev dktX10_lend_3 : List UInt8 := dkwX10_lend_3 ++ dktX10_lend_4
def dkwX10_lend_2 : List UInt8 := [180, 0, 129, 16, 122, 46, 16, 12, 160, 0, 5, 2, 172, 42, 182, 1, 211, 42, 29, 182, 1, 171, 54, 4]
abbrev dktX10_lend_2 : List UInt8 := dkwX10_lend_2 ++ dktX10_lend_3
def dkwX10_lend_1 : List UInt8 := [180, 0, 35, 29, 46, 28, 160, 0, 28, 42, 180, 0, 129, 29, 46, 27, 122, 4, 126, 153, 0, 15, 42]
abbrev dktX10_lend_1 : List UInt8 := dkwX10_lend_1 ++ dktX10_lend_2
def dkwX10_lend_0 : List UInt8 := [42, 3, 181, 0, 175, 42, 27, 28, 182, 1, 192, 153, 0, 46, 42, 29, 182, 1, 189, 153, 0, 38, 42]
abbrev dktX10_lend_0 : List UInt8 := dkwX10_lend_0 ++ dktX10_lend_1
theorem dksX10_lend_0 : cX10_lend.data.toList.drop 0 = dktX10_lend_0 := by decide +kernel
theorem dksX10_lend_1 : cX10_lend.data.toList.drop 23 = dktX10_lend_1 := dk_seg dksX10_lend_0 23 rfl rfl
theorem dksX10_lend_2 : cX10_lend.data.toList.drop 46 = dktX10_lend_2 := dk_seg dksX10_lend_1 23 rfl rfl
theorem dksX10_lend_3 : cX10_lend.data.toList.drop 70 = dktX10_lend_3 := dk_seg dksX10_lend_2 24 rfl rfl
theorem dksX10_lend_4 : cX10_lend.data.toList.drop 93 = dktX10_lend_4 := dk_seg dksX10_lend_3 23 rfl rfl
theorem dX10_lend_0 : decode cX10_lend 0 = .ok (.aload_n 0, 1) := dk_42 (dk_at dksX10_lend_0 0 rfl rfl)
theorem dX10_lend_1 : decode cX10_lend 1 = .ok (.iconst 0, 1) := dk_3 (dk_at dksX10_lend_0 1 rfl rfl)
theorem dX10_lend_2 : decode cX10_lend 2 = .ok (.putfield 175, 3) := dk_181 0 175 (dk_at dksX10_lend_0 2 rfl rfl)
theorem dX10_lend_5 : decode cX10_lend 5 = .ok (.aload_n 0, 1) := dk_42 (dk_at dksX10_lend_0 5 rfl rfl)
theorem dX10_lend_6 : decode cX10_lend 6 = .ok (.iload_n 1, 1) := dk_27 (dk_at dksX10_lend_0 6 rfl rfl)
theorem dX10_lend_7 : decode cX10_lend 7 = .ok (.iload_n 2, 1) := dk_28 (dk_at dksX10_lend_0 7 rfl rfl)
theorem dX10_lend_8 : decode cX10_lend 8 = .ok (.invokevirtual 448, 3) := dk_182 1 192 (dk_at dksX10_lend_0 8 rfl rfl)
theorem dX10_lend_11 : decode cX10_lend 11 = .ok (.ifCond .eq 46, 3) := dk_153 0 46 (dk_at dksX10_lend_0 11 rfl rfl)
theorem dX10_lend_14 : decode cX10_lend 14 = .ok (.aload_n 0, 1) := dk_42 (dk_at dksX10_lend_0 14 rfl rfl)
theorem dX10_lend_15 : decode cX10_lend 15 = .ok (.iload_n 3, 1) := dk_29 (dk_at dksX10_lend_0 15 rfl rfl)
theorem dX10_lend_16 : decode cX10_lend 16 = .ok (.invokevirtual 445, 3) := dk_182 1 189 (dk_at dksX10_lend_0 16 rfl rfl)
theorem dX10_lend_19 : decode cX10_lend 19 = .ok (.ifCond .eq 38, 3) := dk_153 0 38 (dk_at dksX10_lend_0 19 rfl rfl)
theorem dX10_lend_22 : decode cX10_lend 22 = .ok (.aload_n 0, 1) := dk_42 (dk_at dksX10_lend_0 22 rfl rfl)
theorem dX10_lend_23 : decode cX10_lend 23 = .ok (.getfield 35, 3) := dk_180 0 35 (dk_at dksX10_lend_1 0 rfl rfl)
theorem dX10_lend_26 : decode cX10_lend 26 = .ok (.iload_n 3, 1) := dk_29 (dk_at dksX10_lend_1 3 rfl rfl)
theorem dX10_lend_27 : decode cX10_lend 27 = .ok (.iaload, 1) := dk_46 (dk_at dksX10_lend_1 4 rfl rfl)
theorem dX10_lend_28 : decode cX10_lend 28 = .ok (.iload_n 2, 1) := dk_28 (dk_at dksX10_lend_1 5 rfl rfl)
theorem dX10_lend_29 : decode cX10_lend 29 = .ok (.if_icmp .ne 28, 3) := dk_160 0 28 (dk_at dksX10_lend_1 6 rfl rfl)
theorem dX10_lend_32 : decode cX10_lend 32 = .ok (.aload_n 0, 1) := dk_42 (dk_at dksX10_lend_1 9 rfl rfl)
theorem dX10_lend_33 : decode cX10_lend 33 = .ok (.getfield 129, 3) := dk_180 0 129 (dk_at dksX10_lend_1 10 rfl rfl)
theorem dX10_lend_36 : decode cX10_lend 36 = .ok (.iload_n 3, 1) := dk_29 (dk_at dksX10_lend_1 13 rfl rfl)
theorem dX10_lend_37 : decode cX10_lend 37 = .ok (.iaload, 1) := dk_46 (dk_at dksX10_lend_1 14 rfl rfl)
theorem dX10_lend_38 : decode cX10_lend 38 = .ok (.iload_n 1, 1) := dk_27 (dk_at dksX10_lend_1 15 rfl rfl)
theorem dX10_lend_39 : decode cX10_lend 39 = .ok (.ishr, 1) := dk_122 (dk_at dksX10_lend_1 16 rfl rfl)
theorem dX10_lend_40 : decode cX10_lend 40 = .ok (.iconst 1, 1) := dk_4 (dk_at dksX10_lend_1 17 rfl rfl)
theorem dX10_lend_41 : decode cX10_lend 41 = .ok (.iand, 1) := dk_126 (dk_at dksX10_lend_1 18 rfl rfl)
theorem dX10_lend_42 : decode cX10_lend 42 = .ok (.ifCond .eq 15, 3) := dk_153 0 15 (dk_at dksX10_lend_1 19 rfl rfl)
theorem dX10_lend_45 : decode cX10_lend 45 = .ok (.aload_n 0, 1) := dk_42 (dk_at dksX10_lend_1 22 rfl rfl)
theorem dX10_lend_46 : decode cX10_lend 46 = .ok (.getfield 129, 3) := dk_180 0 129 (dk_at dksX10_lend_2 0 rfl rfl)
theorem dX10_lend_49 : decode cX10_lend 49 = .ok (.bipush 122, 2) := dk_16 122 (dk_at dksX10_lend_2 3 rfl rfl)
theorem dX10_lend_51 : decode cX10_lend 51 = .ok (.iaload, 1) := dk_46 (dk_at dksX10_lend_2 5 rfl rfl)
theorem dX10_lend_52 : decode cX10_lend 52 = .ok (.bipush 12, 2) := dk_16 12 (dk_at dksX10_lend_2 6 rfl rfl)
theorem dX10_lend_54 : decode cX10_lend 54 = .ok (.if_icmp .ne 5, 3) := dk_160 0 5 (dk_at dksX10_lend_2 8 rfl rfl)
theorem dX10_lend_57 : decode cX10_lend 57 = .ok (.iconst (-1), 1) := dk_2 (dk_at dksX10_lend_2 11 rfl rfl)
theorem dX10_lend_58 : decode cX10_lend 58 = .ok (.ireturn, 1) := dk_172 (dk_at dksX10_lend_2 12 rfl rfl)
theorem dX10_lend_59 : decode cX10_lend 59 = .ok (.aload_n 0, 1) := dk_42 (dk_at dksX10_lend_2 13 rfl rfl)
theorem dX10_lend_60 : decode cX10_lend 60 = .ok (.invokevirtual 467, 3) := dk_182 1 211 (dk_at dksX10_lend_2 14 rfl rfl)
theorem dX10_lend_63 : decode cX10_lend 63 = .ok (.aload_n 0, 1) := dk_42 (dk_at dksX10_lend_2 17 rfl rfl)
theorem dX10_lend_64 : decode cX10_lend 64 = .ok (.iload_n 3, 1) := dk_29 (dk_at dksX10_lend_2 18 rfl rfl)
theorem dX10_lend_65 : decode cX10_lend 65 = .ok (.invokevirtual 427, 3) := dk_182 1 171 (dk_at dksX10_lend_2 19 rfl rfl)
theorem dX10_lend_68 : decode cX10_lend 68 = .ok (.istore 4, 2) := dk_54 4 (dk_at dksX10_lend_2 22 rfl rfl)
theorem dX10_lend_70 : decode cX10_lend 70 = .ok (.aload_n 0, 1) := dk_42 (dk_at dksX10_lend_3 0 rfl rfl)
theorem dX10_lend_71 : decode cX10_lend 71 = .ok (.getfield 129, 3) := dk_180 0 129 (dk_at dksX10_lend_3 1 rfl rfl)
theorem dX10_lend_74 : decode cX10_lend 74 = .ok (.bipush 86, 2) := dk_16 86 (dk_at dksX10_lend_3 4 rfl rfl)
theorem dX10_lend_76 : decode cX10_lend 76 = .ok (.bipush 6, 2) := dk_16 6 (dk_at dksX10_lend_3 6 rfl rfl)
theorem dX10_lend_78 : decode cX10_lend 78 = .ok (.iload_n 2, 1) := dk_28 (dk_at dksX10_lend_3 8 rfl rfl)
theorem dX10_lend_79 : decode cX10_lend 79 = .ok (.imul, 1) := dk_104 (dk_at dksX10_lend_3 9 rfl rfl)
theorem dX10_lend_80 : decode cX10_lend 80 = .ok (.iadd, 1) := dk_96 (dk_at dksX10_lend_3 10 rfl rfl)
theorem dX10_lend_81 : decode cX10_lend 81 = .ok (.iload_n 1, 1) := dk_27 (dk_at dksX10_lend_3 11 rfl rfl)
theorem dX10_lend_82 : decode cX10_lend 82 = .ok (.iadd, 1) := dk_96 (dk_at dksX10_lend_3 12 rfl rfl)
theorem dX10_lend_83 : decode cX10_lend 83 = .ok (.dup2, 1) := dk_92 (dk_at dksX10_lend_3 13 rfl rfl)
theorem dX10_lend_84 : decode cX10_lend 84 = .ok (.iaload, 1) := dk_46 (dk_at dksX10_lend_3 14 rfl rfl)
theorem dX10_lend_85 : decode cX10_lend 85 = .ok (.iload 4, 2) := dk_21 4 (dk_at dksX10_lend_3 15 rfl rfl)
theorem dX10_lend_87 : decode cX10_lend 87 = .ok (.iadd, 1) := dk_96 (dk_at dksX10_lend_3 17 rfl rfl)
theorem dX10_lend_88 : decode cX10_lend 88 = .ok (.iastore, 1) := dk_79 (dk_at dksX10_lend_3 18 rfl rfl)
theorem dX10_lend_89 : decode cX10_lend 89 = .ok (.aload_n 0, 1) := dk_42 (dk_at dksX10_lend_3 19 rfl rfl)
theorem dX10_lend_90 : decode cX10_lend 90 = .ok (.getfield 129, 3) := dk_180 0 129 (dk_at dksX10_lend_3 20 rfl rfl)
theorem dX10_lend_93 : decode cX10_lend 93 = .ok (.bipush 122, 2) := dk_16 122 (dk_at dksX10_lend_4 0 rfl rfl)
theorem dX10_lend_95 : decode cX10_lend 95 = .ok (.dup2, 1) := dk_92 (dk_at dksX10_lend_4 2 rfl rfl)
theorem dX10_lend_96 : decode cX10_lend 96 = .ok (.iaload, 1) := dk_46 (dk_at dksX10_lend_4 3 rfl rfl)
theorem dX10_lend_97 : decode cX10_lend 97 = .ok (.iconst 1, 1) := dk_4 (dk_at dksX10_lend_4 4 rfl rfl)
theorem dX10_lend_98 : decode cX10_lend 98 = .ok (.iadd, 1) := dk_96 (dk_at dksX10_lend_4 5 rfl rfl)
theorem dX10_lend_99 : decode cX10_lend 99 = .ok (.iastore, 1) := dk_79 (dk_at dksX10_lend_4 6 rfl rfl)
theorem dX10_lend_100 : decode cX10_lend 100 = .ok (.iload 4, 2) := dk_21 4 (dk_at dksX10_lend_4 7 rfl rfl)
theorem dX10_lend_102 : decode cX10_lend 102 = .ok (.ireturn, 1) := dk_172 (dk_at dksX10_lend_4 9 rfl rfl)
abbrev cX10_undo : ByteArray := prog_36_method_78_code
def yX10_undo : MethodName := ⟨RX10, "undo", "()Z"⟩
def dkwX10_undo_1 : List UInt8 := [42, 180, 0, 138, 16, 123, 42, 180, 1, 142, 104, 42, 180, 0, 129, 3, 184, 1, 201, 4, 172]
abbrev dktX10_undo_1 : List UInt8 := dkwX10_undo_1 ++ []
def dkwX10_undo_0 : List UInt8 := [42, 3, 181, 0, 175, 42, 180, 1, 142, 154, 0, 5, 3, 172, 42, 89, 180, 1, 142, 4, 100, 181, 1, 142]
abbrev dktX10_undo_0 : List UInt8 := dkwX10_undo_0 ++ dktX10_undo_1
theorem dksX10_undo_0 : cX10_undo.data.toList.drop 0 = dktX10_undo_0 := by decide +kernel
theorem dksX10_undo_1 : cX10_undo.data.toList.drop 24 = dktX10_undo_1 := dk_seg dksX10_undo_0 24 rfl rfl
theorem dX10_undo_0 : decode cX10_undo 0 = .ok (.aload_n 0, 1) := dk_42 (dk_at dksX10_undo_0 0 rfl rfl)
theorem dX10_undo_1 : decode cX10_undo 1 = .ok (.iconst 0, 1) := dk_3 (dk_at dksX10_undo_0 1 rfl rfl)
theorem dX10_undo_2 : decode cX10_undo 2 = .ok (.putfield 175, 3) := dk_181 0 175 (dk_at dksX10_undo_0 2 rfl rfl)
theorem dX10_undo_5 : decode cX10_undo 5 = .ok (.aload_n 0, 1) := dk_42 (dk_at dksX10_undo_0 5 rfl rfl)
theorem dX10_undo_6 : decode cX10_undo 6 = .ok (.getfield 398, 3) := dk_180 1 142 (dk_at dksX10_undo_0 6 rfl rfl)
theorem dX10_undo_9 : decode cX10_undo 9 = .ok (.ifCond .ne 5, 3) := dk_154 0 5 (dk_at dksX10_undo_0 9 rfl rfl)
theorem dX10_undo_12 : decode cX10_undo 12 = .ok (.iconst 0, 1) := dk_3 (dk_at dksX10_undo_0 12 rfl rfl)
theorem dX10_undo_13 : decode cX10_undo 13 = .ok (.ireturn, 1) := dk_172 (dk_at dksX10_undo_0 13 rfl rfl)
theorem dX10_undo_14 : decode cX10_undo 14 = .ok (.aload_n 0, 1) := dk_42 (dk_at dksX10_undo_0 14 rfl rfl)
theorem dX10_undo_15 : decode cX10_undo 15 = .ok (.dup, 1) := dk_89 (dk_at dksX10_undo_0 15 rfl rfl)
theorem dX10_undo_16 : decode cX10_undo 16 = .ok (.getfield 398, 3) := dk_180 1 142 (dk_at dksX10_undo_0 16 rfl rfl)
theorem dX10_undo_19 : decode cX10_undo 19 = .ok (.iconst 1, 1) := dk_4 (dk_at dksX10_undo_0 19 rfl rfl)
theorem dX10_undo_20 : decode cX10_undo 20 = .ok (.isub, 1) := dk_100 (dk_at dksX10_undo_0 20 rfl rfl)
theorem dX10_undo_21 : decode cX10_undo 21 = .ok (.putfield 398, 3) := dk_181 1 142 (dk_at dksX10_undo_0 21 rfl rfl)
theorem dX10_undo_24 : decode cX10_undo 24 = .ok (.aload_n 0, 1) := dk_42 (dk_at dksX10_undo_1 0 rfl rfl)
theorem dX10_undo_25 : decode cX10_undo 25 = .ok (.getfield 138, 3) := dk_180 0 138 (dk_at dksX10_undo_1 1 rfl rfl)
theorem dX10_undo_28 : decode cX10_undo 28 = .ok (.bipush 123, 2) := dk_16 123 (dk_at dksX10_undo_1 4 rfl rfl)
theorem dX10_undo_30 : decode cX10_undo 30 = .ok (.aload_n 0, 1) := dk_42 (dk_at dksX10_undo_1 6 rfl rfl)
theorem dX10_undo_31 : decode cX10_undo 31 = .ok (.getfield 398, 3) := dk_180 1 142 (dk_at dksX10_undo_1 7 rfl rfl)
theorem dX10_undo_34 : decode cX10_undo 34 = .ok (.imul, 1) := dk_104 (dk_at dksX10_undo_1 10 rfl rfl)
theorem dX10_undo_35 : decode cX10_undo 35 = .ok (.aload_n 0, 1) := dk_42 (dk_at dksX10_undo_1 11 rfl rfl)
theorem dX10_undo_36 : decode cX10_undo 36 = .ok (.getfield 129, 3) := dk_180 0 129 (dk_at dksX10_undo_1 12 rfl rfl)
theorem dX10_undo_39 : decode cX10_undo 39 = .ok (.iconst 0, 1) := dk_3 (dk_at dksX10_undo_1 15 rfl rfl)
theorem dX10_undo_40 : decode cX10_undo 40 = .ok (.invokestatic 457, 3) := dk_184 1 201 (dk_at dksX10_undo_1 16 rfl rfl)
theorem dX10_undo_43 : decode cX10_undo 43 = .ok (.iconst 1, 1) := dk_4 (dk_at dksX10_undo_1 19 rfl rfl)
theorem dX10_undo_44 : decode cX10_undo 44 = .ok (.ireturn, 1) := dk_172 (dk_at dksX10_undo_1 20 rfl rfl)
abbrev cX10_judged : ByteArray := prog_36_method_82_code
def yX10_judged : MethodName := ⟨RX10, "judged", "(I)I"⟩
def dkwX10_judged_4 : List UInt8 := [182, 1, 177, 62, 42, 180, 0, 132, 3, 42, 180, 0, 129, 3, 184, 1, 201, 29, 172]
abbrev dktX10_judged_4 : List UInt8 := dkwX10_judged_4 ++ []
def dkwX10_judged_3 : List UInt8 := [154, 0, 7, 28, 167, 0, 23, 27, 4, 160, 0, 10, 42, 182, 1, 230, 167, 0, 11, 42, 42, 182, 1, 233]
abbrev dktX10_judged_3 : List UInt8 := dkwX10_judged_3 ++ dktX10_judged_4
def dkwX10_judged_2 : List UInt8 := [162, 0, 23, 42, 29, 182, 1, 227, 154, 0, 9, 28, 156, 0, 5, 29, 61, 132, 3, 1, 167, 255, 229, 27]
abbrev dktX10_judged_2 : List UInt8 := dkwX10_judged_2 ++ dktX10_judged_3
def dkwX10_judged_1 : List UInt8 := [180, 0, 132, 3, 184, 1, 201, 42, 182, 1, 139, 2, 61, 3, 62, 29, 42, 180, 0, 105, 3, 46]
abbrev dktX10_judged_1 : List UInt8 := dkwX10_judged_1 ++ dktX10_judged_2
def dkwX10_judged_0 : List UInt8 := [42, 3, 181, 0, 175, 27, 3, 5, 184, 1, 52, 154, 0, 6, 16, 254, 172, 42, 180, 0, 129, 3, 42]
abbrev dktX10_judged_0 : List UInt8 := dkwX10_judged_0 ++ dktX10_judged_1
theorem dksX10_judged_0 : cX10_judged.data.toList.drop 0 = dktX10_judged_0 := by decide +kernel
theorem dksX10_judged_1 : cX10_judged.data.toList.drop 23 = dktX10_judged_1 := dk_seg dksX10_judged_0 23 rfl rfl
theorem dksX10_judged_2 : cX10_judged.data.toList.drop 45 = dktX10_judged_2 := dk_seg dksX10_judged_1 22 rfl rfl
theorem dksX10_judged_3 : cX10_judged.data.toList.drop 69 = dktX10_judged_3 := dk_seg dksX10_judged_2 24 rfl rfl
theorem dksX10_judged_4 : cX10_judged.data.toList.drop 93 = dktX10_judged_4 := dk_seg dksX10_judged_3 24 rfl rfl
theorem dX10_judged_0 : decode cX10_judged 0 = .ok (.aload_n 0, 1) := dk_42 (dk_at dksX10_judged_0 0 rfl rfl)
theorem dX10_judged_1 : decode cX10_judged 1 = .ok (.iconst 0, 1) := dk_3 (dk_at dksX10_judged_0 1 rfl rfl)
theorem dX10_judged_2 : decode cX10_judged 2 = .ok (.putfield 175, 3) := dk_181 0 175 (dk_at dksX10_judged_0 2 rfl rfl)
theorem dX10_judged_5 : decode cX10_judged 5 = .ok (.iload_n 1, 1) := dk_27 (dk_at dksX10_judged_0 5 rfl rfl)
theorem dX10_judged_6 : decode cX10_judged 6 = .ok (.iconst 0, 1) := dk_3 (dk_at dksX10_judged_0 6 rfl rfl)
theorem dX10_judged_7 : decode cX10_judged 7 = .ok (.iconst 2, 1) := dk_5 (dk_at dksX10_judged_0 7 rfl rfl)
theorem dX10_judged_8 : decode cX10_judged 8 = .ok (.invokestatic 308, 3) := dk_184 1 52 (dk_at dksX10_judged_0 8 rfl rfl)
theorem dX10_judged_11 : decode cX10_judged 11 = .ok (.ifCond .ne 6, 3) := dk_154 0 6 (dk_at dksX10_judged_0 11 rfl rfl)
theorem dX10_judged_14 : decode cX10_judged 14 = .ok (.bipush (-2), 2) := dk_16 254 (dk_at dksX10_judged_0 14 rfl rfl)
theorem dX10_judged_16 : decode cX10_judged 16 = .ok (.ireturn, 1) := dk_172 (dk_at dksX10_judged_0 16 rfl rfl)
theorem dX10_judged_17 : decode cX10_judged 17 = .ok (.aload_n 0, 1) := dk_42 (dk_at dksX10_judged_0 17 rfl rfl)
theorem dX10_judged_18 : decode cX10_judged 18 = .ok (.getfield 129, 3) := dk_180 0 129 (dk_at dksX10_judged_0 18 rfl rfl)
theorem dX10_judged_21 : decode cX10_judged 21 = .ok (.iconst 0, 1) := dk_3 (dk_at dksX10_judged_0 21 rfl rfl)
theorem dX10_judged_22 : decode cX10_judged 22 = .ok (.aload_n 0, 1) := dk_42 (dk_at dksX10_judged_0 22 rfl rfl)
theorem dX10_judged_23 : decode cX10_judged 23 = .ok (.getfield 132, 3) := dk_180 0 132 (dk_at dksX10_judged_1 0 rfl rfl)
theorem dX10_judged_26 : decode cX10_judged 26 = .ok (.iconst 0, 1) := dk_3 (dk_at dksX10_judged_1 3 rfl rfl)
theorem dX10_judged_27 : decode cX10_judged 27 = .ok (.invokestatic 457, 3) := dk_184 1 201 (dk_at dksX10_judged_1 4 rfl rfl)
theorem dX10_judged_30 : decode cX10_judged 30 = .ok (.aload_n 0, 1) := dk_42 (dk_at dksX10_judged_1 7 rfl rfl)
theorem dX10_judged_31 : decode cX10_judged 31 = .ok (.invokevirtual 395, 3) := dk_182 1 139 (dk_at dksX10_judged_1 8 rfl rfl)
theorem dX10_judged_34 : decode cX10_judged 34 = .ok (.iconst (-1), 1) := dk_2 (dk_at dksX10_judged_1 11 rfl rfl)
theorem dX10_judged_35 : decode cX10_judged 35 = .ok (.istore_n 2, 1) := dk_61 (dk_at dksX10_judged_1 12 rfl rfl)
theorem dX10_judged_36 : decode cX10_judged 36 = .ok (.iconst 0, 1) := dk_3 (dk_at dksX10_judged_1 13 rfl rfl)
theorem dX10_judged_37 : decode cX10_judged 37 = .ok (.istore_n 3, 1) := dk_62 (dk_at dksX10_judged_1 14 rfl rfl)
theorem dX10_judged_38 : decode cX10_judged 38 = .ok (.iload_n 3, 1) := dk_29 (dk_at dksX10_judged_1 15 rfl rfl)
theorem dX10_judged_39 : decode cX10_judged 39 = .ok (.aload_n 0, 1) := dk_42 (dk_at dksX10_judged_1 16 rfl rfl)
theorem dX10_judged_40 : decode cX10_judged 40 = .ok (.getfield 105, 3) := dk_180 0 105 (dk_at dksX10_judged_1 17 rfl rfl)
theorem dX10_judged_43 : decode cX10_judged 43 = .ok (.iconst 0, 1) := dk_3 (dk_at dksX10_judged_1 20 rfl rfl)
theorem dX10_judged_44 : decode cX10_judged 44 = .ok (.iaload, 1) := dk_46 (dk_at dksX10_judged_1 21 rfl rfl)
theorem dX10_judged_45 : decode cX10_judged 45 = .ok (.if_icmp .ge 23, 3) := dk_162 0 23 (dk_at dksX10_judged_2 0 rfl rfl)
theorem dX10_judged_48 : decode cX10_judged 48 = .ok (.aload_n 0, 1) := dk_42 (dk_at dksX10_judged_2 3 rfl rfl)
theorem dX10_judged_49 : decode cX10_judged 49 = .ok (.iload_n 3, 1) := dk_29 (dk_at dksX10_judged_2 4 rfl rfl)
theorem dX10_judged_50 : decode cX10_judged 50 = .ok (.invokevirtual 483, 3) := dk_182 1 227 (dk_at dksX10_judged_2 5 rfl rfl)
theorem dX10_judged_53 : decode cX10_judged 53 = .ok (.ifCond .ne 9, 3) := dk_154 0 9 (dk_at dksX10_judged_2 8 rfl rfl)
theorem dX10_judged_56 : decode cX10_judged 56 = .ok (.iload_n 2, 1) := dk_28 (dk_at dksX10_judged_2 11 rfl rfl)
theorem dX10_judged_57 : decode cX10_judged 57 = .ok (.ifCond .ge 5, 3) := dk_156 0 5 (dk_at dksX10_judged_2 12 rfl rfl)
theorem dX10_judged_60 : decode cX10_judged 60 = .ok (.iload_n 3, 1) := dk_29 (dk_at dksX10_judged_2 15 rfl rfl)
theorem dX10_judged_61 : decode cX10_judged 61 = .ok (.istore_n 2, 1) := dk_61 (dk_at dksX10_judged_2 16 rfl rfl)
theorem dX10_judged_62 : decode cX10_judged 62 = .ok (.iinc 3 1, 3) := dk_132 3 1 (dk_at dksX10_judged_2 17 rfl rfl)
theorem dX10_judged_65 : decode cX10_judged 65 = .ok (.goto (-27), 3) := dk_167 255 229 (dk_at dksX10_judged_2 20 rfl rfl)
theorem dX10_judged_68 : decode cX10_judged 68 = .ok (.iload_n 1, 1) := dk_27 (dk_at dksX10_judged_2 23 rfl rfl)
theorem dX10_judged_69 : decode cX10_judged 69 = .ok (.ifCond .ne 7, 3) := dk_154 0 7 (dk_at dksX10_judged_3 0 rfl rfl)
theorem dX10_judged_72 : decode cX10_judged 72 = .ok (.iload_n 2, 1) := dk_28 (dk_at dksX10_judged_3 3 rfl rfl)
theorem dX10_judged_73 : decode cX10_judged 73 = .ok (.goto 23, 3) := dk_167 0 23 (dk_at dksX10_judged_3 4 rfl rfl)
theorem dX10_judged_76 : decode cX10_judged 76 = .ok (.iload_n 1, 1) := dk_27 (dk_at dksX10_judged_3 7 rfl rfl)
theorem dX10_judged_77 : decode cX10_judged 77 = .ok (.iconst 1, 1) := dk_4 (dk_at dksX10_judged_3 8 rfl rfl)
theorem dX10_judged_78 : decode cX10_judged 78 = .ok (.if_icmp .ne 10, 3) := dk_160 0 10 (dk_at dksX10_judged_3 9 rfl rfl)
theorem dX10_judged_81 : decode cX10_judged 81 = .ok (.aload_n 0, 1) := dk_42 (dk_at dksX10_judged_3 12 rfl rfl)
theorem dX10_judged_82 : decode cX10_judged 82 = .ok (.invokevirtual 486, 3) := dk_182 1 230 (dk_at dksX10_judged_3 13 rfl rfl)
theorem dX10_judged_85 : decode cX10_judged 85 = .ok (.goto 11, 3) := dk_167 0 11 (dk_at dksX10_judged_3 16 rfl rfl)
theorem dX10_judged_88 : decode cX10_judged 88 = .ok (.aload_n 0, 1) := dk_42 (dk_at dksX10_judged_3 19 rfl rfl)
theorem dX10_judged_89 : decode cX10_judged 89 = .ok (.aload_n 0, 1) := dk_42 (dk_at dksX10_judged_3 20 rfl rfl)
theorem dX10_judged_90 : decode cX10_judged 90 = .ok (.invokevirtual 489, 3) := dk_182 1 233 (dk_at dksX10_judged_3 21 rfl rfl)
theorem dX10_judged_93 : decode cX10_judged 93 = .ok (.invokevirtual 433, 3) := dk_182 1 177 (dk_at dksX10_judged_4 0 rfl rfl)
theorem dX10_judged_96 : decode cX10_judged 96 = .ok (.istore_n 3, 1) := dk_62 (dk_at dksX10_judged_4 3 rfl rfl)
theorem dX10_judged_97 : decode cX10_judged 97 = .ok (.aload_n 0, 1) := dk_42 (dk_at dksX10_judged_4 4 rfl rfl)
theorem dX10_judged_98 : decode cX10_judged 98 = .ok (.getfield 132, 3) := dk_180 0 132 (dk_at dksX10_judged_4 5 rfl rfl)
theorem dX10_judged_101 : decode cX10_judged 101 = .ok (.iconst 0, 1) := dk_3 (dk_at dksX10_judged_4 8 rfl rfl)
theorem dX10_judged_102 : decode cX10_judged 102 = .ok (.aload_n 0, 1) := dk_42 (dk_at dksX10_judged_4 9 rfl rfl)
theorem dX10_judged_103 : decode cX10_judged 103 = .ok (.getfield 129, 3) := dk_180 0 129 (dk_at dksX10_judged_4 10 rfl rfl)
theorem dX10_judged_106 : decode cX10_judged 106 = .ok (.iconst 0, 1) := dk_3 (dk_at dksX10_judged_4 13 rfl rfl)
theorem dX10_judged_107 : decode cX10_judged 107 = .ok (.invokestatic 457, 3) := dk_184 1 201 (dk_at dksX10_judged_4 14 rfl rfl)
theorem dX10_judged_110 : decode cX10_judged 110 = .ok (.iload_n 3, 1) := dk_29 (dk_at dksX10_judged_4 17 rfl rfl)
theorem dX10_judged_111 : decode cX10_judged 111 = .ok (.ireturn, 1) := dk_172 (dk_at dksX10_judged_4 18 rfl rfl)
abbrev cX10_goes : ByteArray := prog_36_method_79_code
def yX10_goes : MethodName := ⟨RX10, "goes", "(I)Z"⟩
def dkwX10_goes_6 : List UInt8 := [180, 0, 129, 16, 70, 29, 96, 92, 46, 4, 96, 79, 167, 0, 8, 42, 182, 1, 224, 87, 4, 172]
abbrev dktX10_goes_6 : List UInt8 := dkwX10_goes_6 ++ []
def dkwX10_goes_5 : List UInt8 := [160, 0, 17, 42, 29, 42, 180, 0, 117, 27, 46, 182, 1, 221, 167, 0, 29, 28, 5, 160, 0, 19, 42]
abbrev dktX10_goes_5 : List UInt8 := dkwX10_goes_5 ++ dktX10_goes_6
def dkwX10_goes_4 : List UInt8 := [42, 29, 42, 180, 0, 114, 27, 46, 42, 180, 0, 117, 27, 46, 182, 1, 214, 167, 0, 48, 28, 4]
abbrev dktX10_goes_4 : List UInt8 := dkwX10_goes_4 ++ dktX10_goes_5
def dkwX10_goes_3 : List UInt8 := [46, 16, 9, 162, 0, 7, 4, 167, 0, 4, 3, 54, 4, 21, 4, 154, 0, 5, 3, 172, 28, 154, 0, 23]
abbrev dktX10_goes_3 : List UInt8 := dkwX10_goes_3 ++ dktX10_goes_4
def dkwX10_goes_2 : List UInt8 := [180, 0, 117, 27, 46, 182, 1, 218, 167, 0, 27, 28, 6, 159, 0, 17, 42, 180, 0, 129, 16, 70, 29, 96]
abbrev dktX10_goes_2 : List UInt8 := dkwX10_goes_2 ++ dktX10_goes_3
def dkwX10_goes_1 : List UInt8 := [27, 46, 42, 180, 0, 117, 27, 46, 182, 1, 208, 167, 0, 46, 28, 4, 160, 0, 17, 42, 29, 42]
abbrev dktX10_goes_1 : List UInt8 := dkwX10_goes_1 ++ dktX10_goes_2
def dkwX10_goes_0 : List UInt8 := [42, 180, 0, 108, 27, 46, 61, 42, 180, 0, 111, 27, 46, 62, 28, 154, 0, 23, 42, 29, 42, 180, 0, 114]
abbrev dktX10_goes_0 : List UInt8 := dkwX10_goes_0 ++ dktX10_goes_1
theorem dksX10_goes_0 : cX10_goes.data.toList.drop 0 = dktX10_goes_0 := by decide +kernel
theorem dksX10_goes_1 : cX10_goes.data.toList.drop 24 = dktX10_goes_1 := dk_seg dksX10_goes_0 24 rfl rfl
theorem dksX10_goes_2 : cX10_goes.data.toList.drop 46 = dktX10_goes_2 := dk_seg dksX10_goes_1 22 rfl rfl
theorem dksX10_goes_3 : cX10_goes.data.toList.drop 70 = dktX10_goes_3 := dk_seg dksX10_goes_2 24 rfl rfl
theorem dksX10_goes_4 : cX10_goes.data.toList.drop 94 = dktX10_goes_4 := dk_seg dksX10_goes_3 24 rfl rfl
theorem dksX10_goes_5 : cX10_goes.data.toList.drop 116 = dktX10_goes_5 := dk_seg dksX10_goes_4 22 rfl rfl
theorem dksX10_goes_6 : cX10_goes.data.toList.drop 139 = dktX10_goes_6 := dk_seg dksX10_goes_5 23 rfl rfl
theorem dX10_goes_0 : decode cX10_goes 0 = .ok (.aload_n 0, 1) := dk_42 (dk_at dksX10_goes_0 0 rfl rfl)
theorem dX10_goes_1 : decode cX10_goes 1 = .ok (.getfield 108, 3) := dk_180 0 108 (dk_at dksX10_goes_0 1 rfl rfl)
theorem dX10_goes_4 : decode cX10_goes 4 = .ok (.iload_n 1, 1) := dk_27 (dk_at dksX10_goes_0 4 rfl rfl)
theorem dX10_goes_5 : decode cX10_goes 5 = .ok (.iaload, 1) := dk_46 (dk_at dksX10_goes_0 5 rfl rfl)
theorem dX10_goes_6 : decode cX10_goes 6 = .ok (.istore_n 2, 1) := dk_61 (dk_at dksX10_goes_0 6 rfl rfl)
theorem dX10_goes_7 : decode cX10_goes 7 = .ok (.aload_n 0, 1) := dk_42 (dk_at dksX10_goes_0 7 rfl rfl)
theorem dX10_goes_8 : decode cX10_goes 8 = .ok (.getfield 111, 3) := dk_180 0 111 (dk_at dksX10_goes_0 8 rfl rfl)
theorem dX10_goes_11 : decode cX10_goes 11 = .ok (.iload_n 1, 1) := dk_27 (dk_at dksX10_goes_0 11 rfl rfl)
theorem dX10_goes_12 : decode cX10_goes 12 = .ok (.iaload, 1) := dk_46 (dk_at dksX10_goes_0 12 rfl rfl)
theorem dX10_goes_13 : decode cX10_goes 13 = .ok (.istore_n 3, 1) := dk_62 (dk_at dksX10_goes_0 13 rfl rfl)
theorem dX10_goes_14 : decode cX10_goes 14 = .ok (.iload_n 2, 1) := dk_28 (dk_at dksX10_goes_0 14 rfl rfl)
theorem dX10_goes_15 : decode cX10_goes 15 = .ok (.ifCond .ne 23, 3) := dk_154 0 23 (dk_at dksX10_goes_0 15 rfl rfl)
theorem dX10_goes_18 : decode cX10_goes 18 = .ok (.aload_n 0, 1) := dk_42 (dk_at dksX10_goes_0 18 rfl rfl)
theorem dX10_goes_19 : decode cX10_goes 19 = .ok (.iload_n 3, 1) := dk_29 (dk_at dksX10_goes_0 19 rfl rfl)
theorem dX10_goes_20 : decode cX10_goes 20 = .ok (.aload_n 0, 1) := dk_42 (dk_at dksX10_goes_0 20 rfl rfl)
theorem dX10_goes_21 : decode cX10_goes 21 = .ok (.getfield 114, 3) := dk_180 0 114 (dk_at dksX10_goes_0 21 rfl rfl)
theorem dX10_goes_24 : decode cX10_goes 24 = .ok (.iload_n 1, 1) := dk_27 (dk_at dksX10_goes_1 0 rfl rfl)
theorem dX10_goes_25 : decode cX10_goes 25 = .ok (.iaload, 1) := dk_46 (dk_at dksX10_goes_1 1 rfl rfl)
theorem dX10_goes_26 : decode cX10_goes 26 = .ok (.aload_n 0, 1) := dk_42 (dk_at dksX10_goes_1 2 rfl rfl)
theorem dX10_goes_27 : decode cX10_goes 27 = .ok (.getfield 117, 3) := dk_180 0 117 (dk_at dksX10_goes_1 3 rfl rfl)
theorem dX10_goes_30 : decode cX10_goes 30 = .ok (.iload_n 1, 1) := dk_27 (dk_at dksX10_goes_1 6 rfl rfl)
theorem dX10_goes_31 : decode cX10_goes 31 = .ok (.iaload, 1) := dk_46 (dk_at dksX10_goes_1 7 rfl rfl)
theorem dX10_goes_32 : decode cX10_goes 32 = .ok (.invokevirtual 464, 3) := dk_182 1 208 (dk_at dksX10_goes_1 8 rfl rfl)
theorem dX10_goes_35 : decode cX10_goes 35 = .ok (.goto 46, 3) := dk_167 0 46 (dk_at dksX10_goes_1 11 rfl rfl)
theorem dX10_goes_38 : decode cX10_goes 38 = .ok (.iload_n 2, 1) := dk_28 (dk_at dksX10_goes_1 14 rfl rfl)
theorem dX10_goes_39 : decode cX10_goes 39 = .ok (.iconst 1, 1) := dk_4 (dk_at dksX10_goes_1 15 rfl rfl)
theorem dX10_goes_40 : decode cX10_goes 40 = .ok (.if_icmp .ne 17, 3) := dk_160 0 17 (dk_at dksX10_goes_1 16 rfl rfl)
theorem dX10_goes_43 : decode cX10_goes 43 = .ok (.aload_n 0, 1) := dk_42 (dk_at dksX10_goes_1 19 rfl rfl)
theorem dX10_goes_44 : decode cX10_goes 44 = .ok (.iload_n 3, 1) := dk_29 (dk_at dksX10_goes_1 20 rfl rfl)
theorem dX10_goes_45 : decode cX10_goes 45 = .ok (.aload_n 0, 1) := dk_42 (dk_at dksX10_goes_1 21 rfl rfl)
theorem dX10_goes_46 : decode cX10_goes 46 = .ok (.getfield 117, 3) := dk_180 0 117 (dk_at dksX10_goes_2 0 rfl rfl)
theorem dX10_goes_49 : decode cX10_goes 49 = .ok (.iload_n 1, 1) := dk_27 (dk_at dksX10_goes_2 3 rfl rfl)
theorem dX10_goes_50 : decode cX10_goes 50 = .ok (.iaload, 1) := dk_46 (dk_at dksX10_goes_2 4 rfl rfl)
theorem dX10_goes_51 : decode cX10_goes 51 = .ok (.invokevirtual 474, 3) := dk_182 1 218 (dk_at dksX10_goes_2 5 rfl rfl)
theorem dX10_goes_54 : decode cX10_goes 54 = .ok (.goto 27, 3) := dk_167 0 27 (dk_at dksX10_goes_2 8 rfl rfl)
theorem dX10_goes_57 : decode cX10_goes 57 = .ok (.iload_n 2, 1) := dk_28 (dk_at dksX10_goes_2 11 rfl rfl)
theorem dX10_goes_58 : decode cX10_goes 58 = .ok (.iconst 3, 1) := dk_6 (dk_at dksX10_goes_2 12 rfl rfl)
theorem dX10_goes_59 : decode cX10_goes 59 = .ok (.if_icmp .eq 17, 3) := dk_159 0 17 (dk_at dksX10_goes_2 13 rfl rfl)
theorem dX10_goes_62 : decode cX10_goes 62 = .ok (.aload_n 0, 1) := dk_42 (dk_at dksX10_goes_2 16 rfl rfl)
theorem dX10_goes_63 : decode cX10_goes 63 = .ok (.getfield 129, 3) := dk_180 0 129 (dk_at dksX10_goes_2 17 rfl rfl)
theorem dX10_goes_66 : decode cX10_goes 66 = .ok (.bipush 70, 2) := dk_16 70 (dk_at dksX10_goes_2 20 rfl rfl)
theorem dX10_goes_68 : decode cX10_goes 68 = .ok (.iload_n 3, 1) := dk_29 (dk_at dksX10_goes_2 22 rfl rfl)
theorem dX10_goes_69 : decode cX10_goes 69 = .ok (.iadd, 1) := dk_96 (dk_at dksX10_goes_2 23 rfl rfl)
theorem dX10_goes_70 : decode cX10_goes 70 = .ok (.iaload, 1) := dk_46 (dk_at dksX10_goes_3 0 rfl rfl)
theorem dX10_goes_71 : decode cX10_goes 71 = .ok (.bipush 9, 2) := dk_16 9 (dk_at dksX10_goes_3 1 rfl rfl)
theorem dX10_goes_73 : decode cX10_goes 73 = .ok (.if_icmp .ge 7, 3) := dk_162 0 7 (dk_at dksX10_goes_3 3 rfl rfl)
theorem dX10_goes_76 : decode cX10_goes 76 = .ok (.iconst 1, 1) := dk_4 (dk_at dksX10_goes_3 6 rfl rfl)
theorem dX10_goes_77 : decode cX10_goes 77 = .ok (.goto 4, 3) := dk_167 0 4 (dk_at dksX10_goes_3 7 rfl rfl)
theorem dX10_goes_80 : decode cX10_goes 80 = .ok (.iconst 0, 1) := dk_3 (dk_at dksX10_goes_3 10 rfl rfl)
theorem dX10_goes_81 : decode cX10_goes 81 = .ok (.istore 4, 2) := dk_54 4 (dk_at dksX10_goes_3 11 rfl rfl)
theorem dX10_goes_83 : decode cX10_goes 83 = .ok (.iload 4, 2) := dk_21 4 (dk_at dksX10_goes_3 13 rfl rfl)
theorem dX10_goes_85 : decode cX10_goes 85 = .ok (.ifCond .ne 5, 3) := dk_154 0 5 (dk_at dksX10_goes_3 15 rfl rfl)
theorem dX10_goes_88 : decode cX10_goes 88 = .ok (.iconst 0, 1) := dk_3 (dk_at dksX10_goes_3 18 rfl rfl)
theorem dX10_goes_89 : decode cX10_goes 89 = .ok (.ireturn, 1) := dk_172 (dk_at dksX10_goes_3 19 rfl rfl)
theorem dX10_goes_90 : decode cX10_goes 90 = .ok (.iload_n 2, 1) := dk_28 (dk_at dksX10_goes_3 20 rfl rfl)
theorem dX10_goes_91 : decode cX10_goes 91 = .ok (.ifCond .ne 23, 3) := dk_154 0 23 (dk_at dksX10_goes_3 21 rfl rfl)
theorem dX10_goes_94 : decode cX10_goes 94 = .ok (.aload_n 0, 1) := dk_42 (dk_at dksX10_goes_4 0 rfl rfl)
theorem dX10_goes_95 : decode cX10_goes 95 = .ok (.iload_n 3, 1) := dk_29 (dk_at dksX10_goes_4 1 rfl rfl)
theorem dX10_goes_96 : decode cX10_goes 96 = .ok (.aload_n 0, 1) := dk_42 (dk_at dksX10_goes_4 2 rfl rfl)
theorem dX10_goes_97 : decode cX10_goes 97 = .ok (.getfield 114, 3) := dk_180 0 114 (dk_at dksX10_goes_4 3 rfl rfl)
theorem dX10_goes_100 : decode cX10_goes 100 = .ok (.iload_n 1, 1) := dk_27 (dk_at dksX10_goes_4 6 rfl rfl)
theorem dX10_goes_101 : decode cX10_goes 101 = .ok (.iaload, 1) := dk_46 (dk_at dksX10_goes_4 7 rfl rfl)
theorem dX10_goes_102 : decode cX10_goes 102 = .ok (.aload_n 0, 1) := dk_42 (dk_at dksX10_goes_4 8 rfl rfl)
theorem dX10_goes_103 : decode cX10_goes 103 = .ok (.getfield 117, 3) := dk_180 0 117 (dk_at dksX10_goes_4 9 rfl rfl)
theorem dX10_goes_106 : decode cX10_goes 106 = .ok (.iload_n 1, 1) := dk_27 (dk_at dksX10_goes_4 12 rfl rfl)
theorem dX10_goes_107 : decode cX10_goes 107 = .ok (.iaload, 1) := dk_46 (dk_at dksX10_goes_4 13 rfl rfl)
theorem dX10_goes_108 : decode cX10_goes 108 = .ok (.invokevirtual 470, 3) := dk_182 1 214 (dk_at dksX10_goes_4 14 rfl rfl)
theorem dX10_goes_111 : decode cX10_goes 111 = .ok (.goto 48, 3) := dk_167 0 48 (dk_at dksX10_goes_4 17 rfl rfl)
theorem dX10_goes_114 : decode cX10_goes 114 = .ok (.iload_n 2, 1) := dk_28 (dk_at dksX10_goes_4 20 rfl rfl)
theorem dX10_goes_115 : decode cX10_goes 115 = .ok (.iconst 1, 1) := dk_4 (dk_at dksX10_goes_4 21 rfl rfl)
theorem dX10_goes_116 : decode cX10_goes 116 = .ok (.if_icmp .ne 17, 3) := dk_160 0 17 (dk_at dksX10_goes_5 0 rfl rfl)
theorem dX10_goes_119 : decode cX10_goes 119 = .ok (.aload_n 0, 1) := dk_42 (dk_at dksX10_goes_5 3 rfl rfl)
theorem dX10_goes_120 : decode cX10_goes 120 = .ok (.iload_n 3, 1) := dk_29 (dk_at dksX10_goes_5 4 rfl rfl)
theorem dX10_goes_121 : decode cX10_goes 121 = .ok (.aload_n 0, 1) := dk_42 (dk_at dksX10_goes_5 5 rfl rfl)
theorem dX10_goes_122 : decode cX10_goes 122 = .ok (.getfield 117, 3) := dk_180 0 117 (dk_at dksX10_goes_5 6 rfl rfl)
theorem dX10_goes_125 : decode cX10_goes 125 = .ok (.iload_n 1, 1) := dk_27 (dk_at dksX10_goes_5 9 rfl rfl)
theorem dX10_goes_126 : decode cX10_goes 126 = .ok (.iaload, 1) := dk_46 (dk_at dksX10_goes_5 10 rfl rfl)
theorem dX10_goes_127 : decode cX10_goes 127 = .ok (.invokevirtual 477, 3) := dk_182 1 221 (dk_at dksX10_goes_5 11 rfl rfl)
theorem dX10_goes_130 : decode cX10_goes 130 = .ok (.goto 29, 3) := dk_167 0 29 (dk_at dksX10_goes_5 14 rfl rfl)
theorem dX10_goes_133 : decode cX10_goes 133 = .ok (.iload_n 2, 1) := dk_28 (dk_at dksX10_goes_5 17 rfl rfl)
theorem dX10_goes_134 : decode cX10_goes 134 = .ok (.iconst 2, 1) := dk_5 (dk_at dksX10_goes_5 18 rfl rfl)
theorem dX10_goes_135 : decode cX10_goes 135 = .ok (.if_icmp .ne 19, 3) := dk_160 0 19 (dk_at dksX10_goes_5 19 rfl rfl)
theorem dX10_goes_138 : decode cX10_goes 138 = .ok (.aload_n 0, 1) := dk_42 (dk_at dksX10_goes_5 22 rfl rfl)
theorem dX10_goes_139 : decode cX10_goes 139 = .ok (.getfield 129, 3) := dk_180 0 129 (dk_at dksX10_goes_6 0 rfl rfl)
theorem dX10_goes_142 : decode cX10_goes 142 = .ok (.bipush 70, 2) := dk_16 70 (dk_at dksX10_goes_6 3 rfl rfl)
theorem dX10_goes_144 : decode cX10_goes 144 = .ok (.iload_n 3, 1) := dk_29 (dk_at dksX10_goes_6 5 rfl rfl)
theorem dX10_goes_145 : decode cX10_goes 145 = .ok (.iadd, 1) := dk_96 (dk_at dksX10_goes_6 6 rfl rfl)
theorem dX10_goes_146 : decode cX10_goes 146 = .ok (.dup2, 1) := dk_92 (dk_at dksX10_goes_6 7 rfl rfl)
theorem dX10_goes_147 : decode cX10_goes 147 = .ok (.iaload, 1) := dk_46 (dk_at dksX10_goes_6 8 rfl rfl)
theorem dX10_goes_148 : decode cX10_goes 148 = .ok (.iconst 1, 1) := dk_4 (dk_at dksX10_goes_6 9 rfl rfl)
theorem dX10_goes_149 : decode cX10_goes 149 = .ok (.iadd, 1) := dk_96 (dk_at dksX10_goes_6 10 rfl rfl)
theorem dX10_goes_150 : decode cX10_goes 150 = .ok (.iastore, 1) := dk_79 (dk_at dksX10_goes_6 11 rfl rfl)
theorem dX10_goes_151 : decode cX10_goes 151 = .ok (.goto 8, 3) := dk_167 0 8 (dk_at dksX10_goes_6 12 rfl rfl)
theorem dX10_goes_154 : decode cX10_goes 154 = .ok (.aload_n 0, 1) := dk_42 (dk_at dksX10_goes_6 15 rfl rfl)
theorem dX10_goes_155 : decode cX10_goes 155 = .ok (.invokevirtual 480, 3) := dk_182 1 224 (dk_at dksX10_goes_6 16 rfl rfl)
theorem dX10_goes_158 : decode cX10_goes 158 = .ok (.pop, 1) := dk_87 (dk_at dksX10_goes_6 19 rfl rfl)
theorem dX10_goes_159 : decode cX10_goes 159 = .ok (.iconst 1, 1) := dk_4 (dk_at dksX10_goes_6 20 rfl rfl)
theorem dX10_goes_160 : decode cX10_goes 160 = .ok (.ireturn, 1) := dk_172 (dk_at dksX10_goes_6 21 rfl rfl)
abbrev cX10_finesOfAll : ByteArray := prog_36_method_80_code
def yX10_finesOfAll : MethodName := ⟨RX10, "finesOfAll", "()I"⟩
def dkwX10_finesOfAll_1 : List UInt8 := [132, 2, 1, 167, 255, 235, 27, 172]
abbrev dktX10_finesOfAll_1 : List UInt8 := dkwX10_finesOfAll_1 ++ []
def dkwX10_finesOfAll_0 : List UInt8 := [3, 60, 3, 61, 28, 16, 6, 162, 0, 21, 27, 42, 180, 0, 129, 16, 79, 28, 96, 46, 96, 60]
abbrev dktX10_finesOfAll_0 : List UInt8 := dkwX10_finesOfAll_0 ++ dktX10_finesOfAll_1
theorem dksX10_finesOfAll_0 : cX10_finesOfAll.data.toList.drop 0 = dktX10_finesOfAll_0 := by decide +kernel
theorem dksX10_finesOfAll_1 : cX10_finesOfAll.data.toList.drop 22 = dktX10_finesOfAll_1 := dk_seg dksX10_finesOfAll_0 22 rfl rfl
theorem dX10_finesOfAll_0 : decode cX10_finesOfAll 0 = .ok (.iconst 0, 1) := dk_3 (dk_at dksX10_finesOfAll_0 0 rfl rfl)
theorem dX10_finesOfAll_1 : decode cX10_finesOfAll 1 = .ok (.istore_n 1, 1) := dk_60 (dk_at dksX10_finesOfAll_0 1 rfl rfl)
theorem dX10_finesOfAll_2 : decode cX10_finesOfAll 2 = .ok (.iconst 0, 1) := dk_3 (dk_at dksX10_finesOfAll_0 2 rfl rfl)
theorem dX10_finesOfAll_3 : decode cX10_finesOfAll 3 = .ok (.istore_n 2, 1) := dk_61 (dk_at dksX10_finesOfAll_0 3 rfl rfl)
theorem dX10_finesOfAll_4 : decode cX10_finesOfAll 4 = .ok (.iload_n 2, 1) := dk_28 (dk_at dksX10_finesOfAll_0 4 rfl rfl)
theorem dX10_finesOfAll_5 : decode cX10_finesOfAll 5 = .ok (.bipush 6, 2) := dk_16 6 (dk_at dksX10_finesOfAll_0 5 rfl rfl)
theorem dX10_finesOfAll_7 : decode cX10_finesOfAll 7 = .ok (.if_icmp .ge 21, 3) := dk_162 0 21 (dk_at dksX10_finesOfAll_0 7 rfl rfl)
theorem dX10_finesOfAll_10 : decode cX10_finesOfAll 10 = .ok (.iload_n 1, 1) := dk_27 (dk_at dksX10_finesOfAll_0 10 rfl rfl)
theorem dX10_finesOfAll_11 : decode cX10_finesOfAll 11 = .ok (.aload_n 0, 1) := dk_42 (dk_at dksX10_finesOfAll_0 11 rfl rfl)
theorem dX10_finesOfAll_12 : decode cX10_finesOfAll 12 = .ok (.getfield 129, 3) := dk_180 0 129 (dk_at dksX10_finesOfAll_0 12 rfl rfl)
theorem dX10_finesOfAll_15 : decode cX10_finesOfAll 15 = .ok (.bipush 79, 2) := dk_16 79 (dk_at dksX10_finesOfAll_0 15 rfl rfl)
theorem dX10_finesOfAll_17 : decode cX10_finesOfAll 17 = .ok (.iload_n 2, 1) := dk_28 (dk_at dksX10_finesOfAll_0 17 rfl rfl)
theorem dX10_finesOfAll_18 : decode cX10_finesOfAll 18 = .ok (.iadd, 1) := dk_96 (dk_at dksX10_finesOfAll_0 18 rfl rfl)
theorem dX10_finesOfAll_19 : decode cX10_finesOfAll 19 = .ok (.iaload, 1) := dk_46 (dk_at dksX10_finesOfAll_0 19 rfl rfl)
theorem dX10_finesOfAll_20 : decode cX10_finesOfAll 20 = .ok (.iadd, 1) := dk_96 (dk_at dksX10_finesOfAll_0 20 rfl rfl)
theorem dX10_finesOfAll_21 : decode cX10_finesOfAll 21 = .ok (.istore_n 1, 1) := dk_60 (dk_at dksX10_finesOfAll_0 21 rfl rfl)
theorem dX10_finesOfAll_22 : decode cX10_finesOfAll 22 = .ok (.iinc 2 1, 3) := dk_132 2 1 (dk_at dksX10_finesOfAll_1 0 rfl rfl)
theorem dX10_finesOfAll_25 : decode cX10_finesOfAll 25 = .ok (.goto (-21), 3) := dk_167 255 235 (dk_at dksX10_finesOfAll_1 3 rfl rfl)
theorem dX10_finesOfAll_28 : decode cX10_finesOfAll 28 = .ok (.iload_n 1, 1) := dk_27 (dk_at dksX10_finesOfAll_1 6 rfl rfl)
theorem dX10_finesOfAll_29 : decode cX10_finesOfAll 29 = .ok (.ireturn, 1) := dk_172 (dk_at dksX10_finesOfAll_1 7 rfl rfl)
abbrev cX10_allSecrets : ByteArray := prog_36_method_81_code
def yX10_allSecrets : MethodName := ⟨RX10, "allSecrets", "()I"⟩
def dkwX10_allSecrets_0 : List UInt8 := [4, 42, 180, 0, 13, 4, 46, 120, 4, 100, 172]
abbrev dktX10_allSecrets_0 : List UInt8 := dkwX10_allSecrets_0 ++ []
theorem dksX10_allSecrets_0 : cX10_allSecrets.data.toList.drop 0 = dktX10_allSecrets_0 := by decide +kernel
theorem dX10_allSecrets_0 : decode cX10_allSecrets 0 = .ok (.iconst 1, 1) := dk_4 (dk_at dksX10_allSecrets_0 0 rfl rfl)
theorem dX10_allSecrets_1 : decode cX10_allSecrets 1 = .ok (.aload_n 0, 1) := dk_42 (dk_at dksX10_allSecrets_0 1 rfl rfl)
theorem dX10_allSecrets_2 : decode cX10_allSecrets 2 = .ok (.getfield 13, 3) := dk_180 0 13 (dk_at dksX10_allSecrets_0 2 rfl rfl)
theorem dX10_allSecrets_5 : decode cX10_allSecrets 5 = .ok (.iconst 1, 1) := dk_4 (dk_at dksX10_allSecrets_0 5 rfl rfl)
theorem dX10_allSecrets_6 : decode cX10_allSecrets 6 = .ok (.iaload, 1) := dk_46 (dk_at dksX10_allSecrets_0 6 rfl rfl)
theorem dX10_allSecrets_7 : decode cX10_allSecrets 7 = .ok (.ishl, 1) := dk_120 (dk_at dksX10_allSecrets_0 7 rfl rfl)
theorem dX10_allSecrets_8 : decode cX10_allSecrets 8 = .ok (.iconst 1, 1) := dk_4 (dk_at dksX10_allSecrets_0 8 rfl rfl)
theorem dX10_allSecrets_9 : decode cX10_allSecrets 9 = .ok (.isub, 1) := dk_100 (dk_at dksX10_allSecrets_0 9 rfl rfl)
theorem dX10_allSecrets_10 : decode cX10_allSecrets 10 = .ok (.ireturn, 1) := dk_172 (dk_at dksX10_allSecrets_0 10 rfl rfl)
abbrev cX10_least : ByteArray := prog_36_method_84_code
def yX10_least : MethodName := ⟨RX10, "least", "(I)I"⟩
def dkwX10_least_0 : List UInt8 := [42, 3, 181, 0, 175, 42, 27, 182, 1, 180, 153, 0, 11, 42, 27, 182, 1, 239, 167, 0, 4, 2, 172]
abbrev dktX10_least_0 : List UInt8 := dkwX10_least_0 ++ []
theorem dksX10_least_0 : cX10_least.data.toList.drop 0 = dktX10_least_0 := by decide +kernel
theorem dX10_least_0 : decode cX10_least 0 = .ok (.aload_n 0, 1) := dk_42 (dk_at dksX10_least_0 0 rfl rfl)
theorem dX10_least_1 : decode cX10_least 1 = .ok (.iconst 0, 1) := dk_3 (dk_at dksX10_least_0 1 rfl rfl)
theorem dX10_least_2 : decode cX10_least 2 = .ok (.putfield 175, 3) := dk_181 0 175 (dk_at dksX10_least_0 2 rfl rfl)
theorem dX10_least_5 : decode cX10_least 5 = .ok (.aload_n 0, 1) := dk_42 (dk_at dksX10_least_0 5 rfl rfl)
theorem dX10_least_6 : decode cX10_least 6 = .ok (.iload_n 1, 1) := dk_27 (dk_at dksX10_least_0 6 rfl rfl)
theorem dX10_least_7 : decode cX10_least 7 = .ok (.invokevirtual 436, 3) := dk_182 1 180 (dk_at dksX10_least_0 7 rfl rfl)
theorem dX10_least_10 : decode cX10_least 10 = .ok (.ifCond .eq 11, 3) := dk_153 0 11 (dk_at dksX10_least_0 10 rfl rfl)
theorem dX10_least_13 : decode cX10_least 13 = .ok (.aload_n 0, 1) := dk_42 (dk_at dksX10_least_0 13 rfl rfl)
theorem dX10_least_14 : decode cX10_least 14 = .ok (.iload_n 1, 1) := dk_27 (dk_at dksX10_least_0 14 rfl rfl)
theorem dX10_least_15 : decode cX10_least 15 = .ok (.invokevirtual 495, 3) := dk_182 1 239 (dk_at dksX10_least_0 15 rfl rfl)
theorem dX10_least_18 : decode cX10_least 18 = .ok (.goto 4, 3) := dk_167 0 4 (dk_at dksX10_least_0 18 rfl rfl)
theorem dX10_least_21 : decode cX10_least 21 = .ok (.iconst (-1), 1) := dk_2 (dk_at dksX10_least_0 21 rfl rfl)
theorem dX10_least_22 : decode cX10_least 22 = .ok (.ireturn, 1) := dk_172 (dk_at dksX10_least_0 22 rfl rfl)
abbrev cX10_leastOf : ByteArray := prog_36_method_83_code
def yX10_leastOf : MethodName := ⟨RX10, "leastOf", "(I)I"⟩
def dkwX10_leastOf_3 : List UInt8 := [21, 5, 29, 161, 0, 6, 167, 0, 9, 21, 4, 61, 21, 5, 62, 132, 4, 1, 167, 255, 176, 28, 172]
abbrev dktX10_leastOf_3 : List UInt8 := dkwX10_leastOf_3 ++ []
def dkwX10_leastOf_2 : List UInt8 := [21, 4, 182, 1, 177, 54, 5, 28, 155, 0, 24, 21, 4, 184, 1, 236, 28, 184, 1, 236, 160, 0, 12]
abbrev dktX10_leastOf_2 : List UInt8 := dkwX10_leastOf_2 ++ dktX10_leastOf_3
def dkwX10_leastOf_1 : List UInt8 := [184, 1, 236, 28, 184, 1, 236, 163, 0, 55, 42, 27, 21, 4, 182, 1, 218, 154, 0, 6, 167, 0, 42, 42]
abbrev dktX10_leastOf_1 : List UInt8 := dkwX10_leastOf_1 ++ dktX10_leastOf_2
def dkwX10_leastOf_0 : List UInt8 := [2, 61, 3, 62, 4, 54, 4, 21, 4, 42, 182, 1, 233, 163, 0, 77, 28, 155, 0, 15, 21, 4]
abbrev dktX10_leastOf_0 : List UInt8 := dkwX10_leastOf_0 ++ dktX10_leastOf_1
theorem dksX10_leastOf_0 : cX10_leastOf.data.toList.drop 0 = dktX10_leastOf_0 := by decide +kernel
theorem dksX10_leastOf_1 : cX10_leastOf.data.toList.drop 22 = dktX10_leastOf_1 := dk_seg dksX10_leastOf_0 22 rfl rfl
theorem dksX10_leastOf_2 : cX10_leastOf.data.toList.drop 46 = dktX10_leastOf_2 := dk_seg dksX10_leastOf_1 24 rfl rfl
theorem dksX10_leastOf_3 : cX10_leastOf.data.toList.drop 69 = dktX10_leastOf_3 := dk_seg dksX10_leastOf_2 23 rfl rfl
theorem dX10_leastOf_0 : decode cX10_leastOf 0 = .ok (.iconst (-1), 1) := dk_2 (dk_at dksX10_leastOf_0 0 rfl rfl)
theorem dX10_leastOf_1 : decode cX10_leastOf 1 = .ok (.istore_n 2, 1) := dk_61 (dk_at dksX10_leastOf_0 1 rfl rfl)
theorem dX10_leastOf_2 : decode cX10_leastOf 2 = .ok (.iconst 0, 1) := dk_3 (dk_at dksX10_leastOf_0 2 rfl rfl)
theorem dX10_leastOf_3 : decode cX10_leastOf 3 = .ok (.istore_n 3, 1) := dk_62 (dk_at dksX10_leastOf_0 3 rfl rfl)
theorem dX10_leastOf_4 : decode cX10_leastOf 4 = .ok (.iconst 1, 1) := dk_4 (dk_at dksX10_leastOf_0 4 rfl rfl)
theorem dX10_leastOf_5 : decode cX10_leastOf 5 = .ok (.istore 4, 2) := dk_54 4 (dk_at dksX10_leastOf_0 5 rfl rfl)
theorem dX10_leastOf_7 : decode cX10_leastOf 7 = .ok (.iload 4, 2) := dk_21 4 (dk_at dksX10_leastOf_0 7 rfl rfl)
theorem dX10_leastOf_9 : decode cX10_leastOf 9 = .ok (.aload_n 0, 1) := dk_42 (dk_at dksX10_leastOf_0 9 rfl rfl)
theorem dX10_leastOf_10 : decode cX10_leastOf 10 = .ok (.invokevirtual 489, 3) := dk_182 1 233 (dk_at dksX10_leastOf_0 10 rfl rfl)
theorem dX10_leastOf_13 : decode cX10_leastOf 13 = .ok (.if_icmp .gt 77, 3) := dk_163 0 77 (dk_at dksX10_leastOf_0 13 rfl rfl)
theorem dX10_leastOf_16 : decode cX10_leastOf 16 = .ok (.iload_n 2, 1) := dk_28 (dk_at dksX10_leastOf_0 16 rfl rfl)
theorem dX10_leastOf_17 : decode cX10_leastOf 17 = .ok (.ifCond .lt 15, 3) := dk_155 0 15 (dk_at dksX10_leastOf_0 17 rfl rfl)
theorem dX10_leastOf_20 : decode cX10_leastOf 20 = .ok (.iload 4, 2) := dk_21 4 (dk_at dksX10_leastOf_0 20 rfl rfl)
theorem dX10_leastOf_22 : decode cX10_leastOf 22 = .ok (.invokestatic 492, 3) := dk_184 1 236 (dk_at dksX10_leastOf_1 0 rfl rfl)
theorem dX10_leastOf_25 : decode cX10_leastOf 25 = .ok (.iload_n 2, 1) := dk_28 (dk_at dksX10_leastOf_1 3 rfl rfl)
theorem dX10_leastOf_26 : decode cX10_leastOf 26 = .ok (.invokestatic 492, 3) := dk_184 1 236 (dk_at dksX10_leastOf_1 4 rfl rfl)
theorem dX10_leastOf_29 : decode cX10_leastOf 29 = .ok (.if_icmp .gt 55, 3) := dk_163 0 55 (dk_at dksX10_leastOf_1 7 rfl rfl)
theorem dX10_leastOf_32 : decode cX10_leastOf 32 = .ok (.aload_n 0, 1) := dk_42 (dk_at dksX10_leastOf_1 10 rfl rfl)
theorem dX10_leastOf_33 : decode cX10_leastOf 33 = .ok (.iload_n 1, 1) := dk_27 (dk_at dksX10_leastOf_1 11 rfl rfl)
theorem dX10_leastOf_34 : decode cX10_leastOf 34 = .ok (.iload 4, 2) := dk_21 4 (dk_at dksX10_leastOf_1 12 rfl rfl)
theorem dX10_leastOf_36 : decode cX10_leastOf 36 = .ok (.invokevirtual 474, 3) := dk_182 1 218 (dk_at dksX10_leastOf_1 14 rfl rfl)
theorem dX10_leastOf_39 : decode cX10_leastOf 39 = .ok (.ifCond .ne 6, 3) := dk_154 0 6 (dk_at dksX10_leastOf_1 17 rfl rfl)
theorem dX10_leastOf_42 : decode cX10_leastOf 42 = .ok (.goto 42, 3) := dk_167 0 42 (dk_at dksX10_leastOf_1 20 rfl rfl)
theorem dX10_leastOf_45 : decode cX10_leastOf 45 = .ok (.aload_n 0, 1) := dk_42 (dk_at dksX10_leastOf_1 23 rfl rfl)
theorem dX10_leastOf_46 : decode cX10_leastOf 46 = .ok (.iload 4, 2) := dk_21 4 (dk_at dksX10_leastOf_2 0 rfl rfl)
theorem dX10_leastOf_48 : decode cX10_leastOf 48 = .ok (.invokevirtual 433, 3) := dk_182 1 177 (dk_at dksX10_leastOf_2 2 rfl rfl)
theorem dX10_leastOf_51 : decode cX10_leastOf 51 = .ok (.istore 5, 2) := dk_54 5 (dk_at dksX10_leastOf_2 5 rfl rfl)
theorem dX10_leastOf_53 : decode cX10_leastOf 53 = .ok (.iload_n 2, 1) := dk_28 (dk_at dksX10_leastOf_2 7 rfl rfl)
theorem dX10_leastOf_54 : decode cX10_leastOf 54 = .ok (.ifCond .lt 24, 3) := dk_155 0 24 (dk_at dksX10_leastOf_2 8 rfl rfl)
theorem dX10_leastOf_57 : decode cX10_leastOf 57 = .ok (.iload 4, 2) := dk_21 4 (dk_at dksX10_leastOf_2 11 rfl rfl)
theorem dX10_leastOf_59 : decode cX10_leastOf 59 = .ok (.invokestatic 492, 3) := dk_184 1 236 (dk_at dksX10_leastOf_2 13 rfl rfl)
theorem dX10_leastOf_62 : decode cX10_leastOf 62 = .ok (.iload_n 2, 1) := dk_28 (dk_at dksX10_leastOf_2 16 rfl rfl)
theorem dX10_leastOf_63 : decode cX10_leastOf 63 = .ok (.invokestatic 492, 3) := dk_184 1 236 (dk_at dksX10_leastOf_2 17 rfl rfl)
theorem dX10_leastOf_66 : decode cX10_leastOf 66 = .ok (.if_icmp .ne 12, 3) := dk_160 0 12 (dk_at dksX10_leastOf_2 20 rfl rfl)
theorem dX10_leastOf_69 : decode cX10_leastOf 69 = .ok (.iload 5, 2) := dk_21 5 (dk_at dksX10_leastOf_3 0 rfl rfl)
theorem dX10_leastOf_71 : decode cX10_leastOf 71 = .ok (.iload_n 3, 1) := dk_29 (dk_at dksX10_leastOf_3 2 rfl rfl)
theorem dX10_leastOf_72 : decode cX10_leastOf 72 = .ok (.if_icmp .lt 6, 3) := dk_161 0 6 (dk_at dksX10_leastOf_3 3 rfl rfl)
theorem dX10_leastOf_75 : decode cX10_leastOf 75 = .ok (.goto 9, 3) := dk_167 0 9 (dk_at dksX10_leastOf_3 6 rfl rfl)
theorem dX10_leastOf_78 : decode cX10_leastOf 78 = .ok (.iload 4, 2) := dk_21 4 (dk_at dksX10_leastOf_3 9 rfl rfl)
theorem dX10_leastOf_80 : decode cX10_leastOf 80 = .ok (.istore_n 2, 1) := dk_61 (dk_at dksX10_leastOf_3 11 rfl rfl)
theorem dX10_leastOf_81 : decode cX10_leastOf 81 = .ok (.iload 5, 2) := dk_21 5 (dk_at dksX10_leastOf_3 12 rfl rfl)
theorem dX10_leastOf_83 : decode cX10_leastOf 83 = .ok (.istore_n 3, 1) := dk_62 (dk_at dksX10_leastOf_3 14 rfl rfl)
theorem dX10_leastOf_84 : decode cX10_leastOf 84 = .ok (.iinc 4 1, 3) := dk_132 4 1 (dk_at dksX10_leastOf_3 15 rfl rfl)
theorem dX10_leastOf_87 : decode cX10_leastOf 87 = .ok (.goto (-80), 3) := dk_167 255 176 (dk_at dksX10_leastOf_3 18 rfl rfl)
theorem dX10_leastOf_90 : decode cX10_leastOf 90 = .ok (.iload_n 2, 1) := dk_28 (dk_at dksX10_leastOf_3 21 rfl rfl)
theorem dX10_leastOf_91 : decode cX10_leastOf 91 = .ok (.ireturn, 1) := dk_172 (dk_at dksX10_leastOf_3 22 rfl rfl)
abbrev cX10_bits : ByteArray := prog_36_method_5_code
def yX10_bits : MethodName := ⟨RX10, "bits", "(I)I"⟩
def dkwX10_bits_1 : List UInt8 := [27, 172]
abbrev dktX10_bits_1 : List UInt8 := dkwX10_bits_1 ++ []
def dkwX10_bits_0 : List UInt8 := [3, 60, 3, 61, 28, 16, 10, 162, 0, 17, 27, 26, 28, 122, 4, 126, 96, 60, 132, 2, 1, 167, 255, 239]
abbrev dktX10_bits_0 : List UInt8 := dkwX10_bits_0 ++ dktX10_bits_1
theorem dksX10_bits_0 : cX10_bits.data.toList.drop 0 = dktX10_bits_0 := by decide +kernel
theorem dksX10_bits_1 : cX10_bits.data.toList.drop 24 = dktX10_bits_1 := dk_seg dksX10_bits_0 24 rfl rfl
theorem dX10_bits_0 : decode cX10_bits 0 = .ok (.iconst 0, 1) := dk_3 (dk_at dksX10_bits_0 0 rfl rfl)
theorem dX10_bits_1 : decode cX10_bits 1 = .ok (.istore_n 1, 1) := dk_60 (dk_at dksX10_bits_0 1 rfl rfl)
theorem dX10_bits_2 : decode cX10_bits 2 = .ok (.iconst 0, 1) := dk_3 (dk_at dksX10_bits_0 2 rfl rfl)
theorem dX10_bits_3 : decode cX10_bits 3 = .ok (.istore_n 2, 1) := dk_61 (dk_at dksX10_bits_0 3 rfl rfl)
theorem dX10_bits_4 : decode cX10_bits 4 = .ok (.iload_n 2, 1) := dk_28 (dk_at dksX10_bits_0 4 rfl rfl)
theorem dX10_bits_5 : decode cX10_bits 5 = .ok (.bipush 10, 2) := dk_16 10 (dk_at dksX10_bits_0 5 rfl rfl)
theorem dX10_bits_7 : decode cX10_bits 7 = .ok (.if_icmp .ge 17, 3) := dk_162 0 17 (dk_at dksX10_bits_0 7 rfl rfl)
theorem dX10_bits_10 : decode cX10_bits 10 = .ok (.iload_n 1, 1) := dk_27 (dk_at dksX10_bits_0 10 rfl rfl)
theorem dX10_bits_11 : decode cX10_bits 11 = .ok (.iload_n 0, 1) := dk_26 (dk_at dksX10_bits_0 11 rfl rfl)
theorem dX10_bits_12 : decode cX10_bits 12 = .ok (.iload_n 2, 1) := dk_28 (dk_at dksX10_bits_0 12 rfl rfl)
theorem dX10_bits_13 : decode cX10_bits 13 = .ok (.ishr, 1) := dk_122 (dk_at dksX10_bits_0 13 rfl rfl)
theorem dX10_bits_14 : decode cX10_bits 14 = .ok (.iconst 1, 1) := dk_4 (dk_at dksX10_bits_0 14 rfl rfl)
theorem dX10_bits_15 : decode cX10_bits 15 = .ok (.iand, 1) := dk_126 (dk_at dksX10_bits_0 15 rfl rfl)
theorem dX10_bits_16 : decode cX10_bits 16 = .ok (.iadd, 1) := dk_96 (dk_at dksX10_bits_0 16 rfl rfl)
theorem dX10_bits_17 : decode cX10_bits 17 = .ok (.istore_n 1, 1) := dk_60 (dk_at dksX10_bits_0 17 rfl rfl)
theorem dX10_bits_18 : decode cX10_bits 18 = .ok (.iinc 2 1, 3) := dk_132 2 1 (dk_at dksX10_bits_0 18 rfl rfl)
theorem dX10_bits_21 : decode cX10_bits 21 = .ok (.goto (-17), 3) := dk_167 255 239 (dk_at dksX10_bits_0 21 rfl rfl)
theorem dX10_bits_24 : decode cX10_bits 24 = .ok (.iload_n 1, 1) := dk_27 (dk_at dksX10_bits_1 0 rfl rfl)
theorem dX10_bits_25 : decode cX10_bits 25 = .ok (.ireturn, 1) := dk_172 (dk_at dksX10_bits_1 1 rfl rfl)
abbrev cX10_payers : ByteArray := prog_36_method_86_code
def yX10_payers : MethodName := ⟨RX10, "payers", "()I"⟩
def dkwX10_payers_8 : List UInt8 := [184, 1, 236, 164, 0, 5, 29, 61, 132, 3, 1, 167, 255, 155, 28, 172]
abbrev dktX10_payers_8 : List UInt8 := dkwX10_payers_8 ++ []
def dkwX10_payers_7 : List UInt8 := [180, 0, 145, 17, 4, 0, 29, 104, 42, 182, 1, 233, 96, 51, 153, 0, 16, 29, 184, 1, 236, 28]
abbrev dktX10_payers_7 : List UInt8 := dkwX10_payers_7 ++ dktX10_payers_8
def dkwX10_payers_6 : List UInt8 := [29, 21, 4, 182, 1, 242, 153, 0, 7, 4, 167, 0, 4, 3, 84, 132, 4, 1, 167, 255, 212, 42]
abbrev dktX10_payers_6 : List UInt8 := dkwX10_payers_6 ++ dktX10_payers_7
def dkwX10_payers_5 : List UInt8 := [42, 182, 1, 233, 163, 0, 41, 42, 180, 0, 145, 17, 4, 0, 29, 104, 21, 4, 96, 29, 153, 0, 13, 42]
abbrev dktX10_payers_5 : List UInt8 := dkwX10_payers_5 ++ dktX10_payers_6
def dkwX10_payers_4 : List UInt8 := [3, 62, 29, 16, 64, 162, 0, 101, 29, 27, 2, 130, 126, 153, 0, 6, 167, 0, 84, 3, 54, 4, 21, 4]
abbrev dktX10_payers_4 : List UInt8 := dkwX10_payers_4 ++ dktX10_payers_5
def dkwX10_payers_3 : List UInt8 := [104, 29, 96, 42, 28, 29, 182, 1, 218, 84, 132, 3, 1, 167, 255, 227, 132, 2, 1, 167, 255, 176, 3, 61]
abbrev dktX10_payers_3 : List UInt8 := dkwX10_payers_3 ++ dktX10_payers_4
def dkwX10_payers_2 : List UInt8 := [167, 0, 4, 3, 128, 60, 3, 62, 29, 42, 182, 1, 233, 163, 0, 27, 42, 180, 0, 148, 17, 4, 0, 28]
abbrev dktX10_payers_2 : List UInt8 := dkwX10_payers_2 ++ dktX10_payers_3
def dkwX10_payers_1 : List UInt8 := [28, 46, 158, 0, 23, 42, 180, 0, 129, 16, 78, 46, 28, 122, 4, 126, 154, 0, 9, 4, 28, 120]
abbrev dktX10_payers_1 : List UInt8 := dkwX10_payers_1 ++ dktX10_payers_2
def dkwX10_payers_0 : List UInt8 := [42, 3, 181, 0, 175, 3, 60, 3, 61, 28, 42, 180, 0, 13, 3, 46, 162, 0, 76, 27, 42, 180, 0, 29]
abbrev dktX10_payers_0 : List UInt8 := dkwX10_payers_0 ++ dktX10_payers_1
theorem dksX10_payers_0 : cX10_payers.data.toList.drop 0 = dktX10_payers_0 := by decide +kernel
theorem dksX10_payers_1 : cX10_payers.data.toList.drop 24 = dktX10_payers_1 := dk_seg dksX10_payers_0 24 rfl rfl
theorem dksX10_payers_2 : cX10_payers.data.toList.drop 46 = dktX10_payers_2 := dk_seg dksX10_payers_1 22 rfl rfl
theorem dksX10_payers_3 : cX10_payers.data.toList.drop 70 = dktX10_payers_3 := dk_seg dksX10_payers_2 24 rfl rfl
theorem dksX10_payers_4 : cX10_payers.data.toList.drop 94 = dktX10_payers_4 := dk_seg dksX10_payers_3 24 rfl rfl
theorem dksX10_payers_5 : cX10_payers.data.toList.drop 118 = dktX10_payers_5 := dk_seg dksX10_payers_4 24 rfl rfl
theorem dksX10_payers_6 : cX10_payers.data.toList.drop 142 = dktX10_payers_6 := dk_seg dksX10_payers_5 24 rfl rfl
theorem dksX10_payers_7 : cX10_payers.data.toList.drop 164 = dktX10_payers_7 := dk_seg dksX10_payers_6 22 rfl rfl
theorem dksX10_payers_8 : cX10_payers.data.toList.drop 186 = dktX10_payers_8 := dk_seg dksX10_payers_7 22 rfl rfl
theorem dX10_payers_0 : decode cX10_payers 0 = .ok (.aload_n 0, 1) := dk_42 (dk_at dksX10_payers_0 0 rfl rfl)
theorem dX10_payers_1 : decode cX10_payers 1 = .ok (.iconst 0, 1) := dk_3 (dk_at dksX10_payers_0 1 rfl rfl)
theorem dX10_payers_2 : decode cX10_payers 2 = .ok (.putfield 175, 3) := dk_181 0 175 (dk_at dksX10_payers_0 2 rfl rfl)
theorem dX10_payers_5 : decode cX10_payers 5 = .ok (.iconst 0, 1) := dk_3 (dk_at dksX10_payers_0 5 rfl rfl)
theorem dX10_payers_6 : decode cX10_payers 6 = .ok (.istore_n 1, 1) := dk_60 (dk_at dksX10_payers_0 6 rfl rfl)
theorem dX10_payers_7 : decode cX10_payers 7 = .ok (.iconst 0, 1) := dk_3 (dk_at dksX10_payers_0 7 rfl rfl)
theorem dX10_payers_8 : decode cX10_payers 8 = .ok (.istore_n 2, 1) := dk_61 (dk_at dksX10_payers_0 8 rfl rfl)
theorem dX10_payers_9 : decode cX10_payers 9 = .ok (.iload_n 2, 1) := dk_28 (dk_at dksX10_payers_0 9 rfl rfl)
theorem dX10_payers_10 : decode cX10_payers 10 = .ok (.aload_n 0, 1) := dk_42 (dk_at dksX10_payers_0 10 rfl rfl)
theorem dX10_payers_11 : decode cX10_payers 11 = .ok (.getfield 13, 3) := dk_180 0 13 (dk_at dksX10_payers_0 11 rfl rfl)
theorem dX10_payers_14 : decode cX10_payers 14 = .ok (.iconst 0, 1) := dk_3 (dk_at dksX10_payers_0 14 rfl rfl)
theorem dX10_payers_15 : decode cX10_payers 15 = .ok (.iaload, 1) := dk_46 (dk_at dksX10_payers_0 15 rfl rfl)
theorem dX10_payers_16 : decode cX10_payers 16 = .ok (.if_icmp .ge 76, 3) := dk_162 0 76 (dk_at dksX10_payers_0 16 rfl rfl)
theorem dX10_payers_19 : decode cX10_payers 19 = .ok (.iload_n 1, 1) := dk_27 (dk_at dksX10_payers_0 19 rfl rfl)
theorem dX10_payers_20 : decode cX10_payers 20 = .ok (.aload_n 0, 1) := dk_42 (dk_at dksX10_payers_0 20 rfl rfl)
theorem dX10_payers_21 : decode cX10_payers 21 = .ok (.getfield 29, 3) := dk_180 0 29 (dk_at dksX10_payers_0 21 rfl rfl)
theorem dX10_payers_24 : decode cX10_payers 24 = .ok (.iload_n 2, 1) := dk_28 (dk_at dksX10_payers_1 0 rfl rfl)
theorem dX10_payers_25 : decode cX10_payers 25 = .ok (.iaload, 1) := dk_46 (dk_at dksX10_payers_1 1 rfl rfl)
theorem dX10_payers_26 : decode cX10_payers 26 = .ok (.ifCond .le 23, 3) := dk_158 0 23 (dk_at dksX10_payers_1 2 rfl rfl)
theorem dX10_payers_29 : decode cX10_payers 29 = .ok (.aload_n 0, 1) := dk_42 (dk_at dksX10_payers_1 5 rfl rfl)
theorem dX10_payers_30 : decode cX10_payers 30 = .ok (.getfield 129, 3) := dk_180 0 129 (dk_at dksX10_payers_1 6 rfl rfl)
theorem dX10_payers_33 : decode cX10_payers 33 = .ok (.bipush 78, 2) := dk_16 78 (dk_at dksX10_payers_1 9 rfl rfl)
theorem dX10_payers_35 : decode cX10_payers 35 = .ok (.iaload, 1) := dk_46 (dk_at dksX10_payers_1 11 rfl rfl)
theorem dX10_payers_36 : decode cX10_payers 36 = .ok (.iload_n 2, 1) := dk_28 (dk_at dksX10_payers_1 12 rfl rfl)
theorem dX10_payers_37 : decode cX10_payers 37 = .ok (.ishr, 1) := dk_122 (dk_at dksX10_payers_1 13 rfl rfl)
theorem dX10_payers_38 : decode cX10_payers 38 = .ok (.iconst 1, 1) := dk_4 (dk_at dksX10_payers_1 14 rfl rfl)
theorem dX10_payers_39 : decode cX10_payers 39 = .ok (.iand, 1) := dk_126 (dk_at dksX10_payers_1 15 rfl rfl)
theorem dX10_payers_40 : decode cX10_payers 40 = .ok (.ifCond .ne 9, 3) := dk_154 0 9 (dk_at dksX10_payers_1 16 rfl rfl)
theorem dX10_payers_43 : decode cX10_payers 43 = .ok (.iconst 1, 1) := dk_4 (dk_at dksX10_payers_1 19 rfl rfl)
theorem dX10_payers_44 : decode cX10_payers 44 = .ok (.iload_n 2, 1) := dk_28 (dk_at dksX10_payers_1 20 rfl rfl)
theorem dX10_payers_45 : decode cX10_payers 45 = .ok (.ishl, 1) := dk_120 (dk_at dksX10_payers_1 21 rfl rfl)
theorem dX10_payers_46 : decode cX10_payers 46 = .ok (.goto 4, 3) := dk_167 0 4 (dk_at dksX10_payers_2 0 rfl rfl)
theorem dX10_payers_49 : decode cX10_payers 49 = .ok (.iconst 0, 1) := dk_3 (dk_at dksX10_payers_2 3 rfl rfl)
theorem dX10_payers_50 : decode cX10_payers 50 = .ok (.ior, 1) := dk_128 (dk_at dksX10_payers_2 4 rfl rfl)
theorem dX10_payers_51 : decode cX10_payers 51 = .ok (.istore_n 1, 1) := dk_60 (dk_at dksX10_payers_2 5 rfl rfl)
theorem dX10_payers_52 : decode cX10_payers 52 = .ok (.iconst 0, 1) := dk_3 (dk_at dksX10_payers_2 6 rfl rfl)
theorem dX10_payers_53 : decode cX10_payers 53 = .ok (.istore_n 3, 1) := dk_62 (dk_at dksX10_payers_2 7 rfl rfl)
theorem dX10_payers_54 : decode cX10_payers 54 = .ok (.iload_n 3, 1) := dk_29 (dk_at dksX10_payers_2 8 rfl rfl)
theorem dX10_payers_55 : decode cX10_payers 55 = .ok (.aload_n 0, 1) := dk_42 (dk_at dksX10_payers_2 9 rfl rfl)
theorem dX10_payers_56 : decode cX10_payers 56 = .ok (.invokevirtual 489, 3) := dk_182 1 233 (dk_at dksX10_payers_2 10 rfl rfl)
theorem dX10_payers_59 : decode cX10_payers 59 = .ok (.if_icmp .gt 27, 3) := dk_163 0 27 (dk_at dksX10_payers_2 13 rfl rfl)
theorem dX10_payers_62 : decode cX10_payers 62 = .ok (.aload_n 0, 1) := dk_42 (dk_at dksX10_payers_2 16 rfl rfl)
theorem dX10_payers_63 : decode cX10_payers 63 = .ok (.getfield 148, 3) := dk_180 0 148 (dk_at dksX10_payers_2 17 rfl rfl)
theorem dX10_payers_66 : decode cX10_payers 66 = .ok (.sipush 1024, 3) := dk_17 4 0 (dk_at dksX10_payers_2 20 rfl rfl)
theorem dX10_payers_69 : decode cX10_payers 69 = .ok (.iload_n 2, 1) := dk_28 (dk_at dksX10_payers_2 23 rfl rfl)
theorem dX10_payers_70 : decode cX10_payers 70 = .ok (.imul, 1) := dk_104 (dk_at dksX10_payers_3 0 rfl rfl)
theorem dX10_payers_71 : decode cX10_payers 71 = .ok (.iload_n 3, 1) := dk_29 (dk_at dksX10_payers_3 1 rfl rfl)
theorem dX10_payers_72 : decode cX10_payers 72 = .ok (.iadd, 1) := dk_96 (dk_at dksX10_payers_3 2 rfl rfl)
theorem dX10_payers_73 : decode cX10_payers 73 = .ok (.aload_n 0, 1) := dk_42 (dk_at dksX10_payers_3 3 rfl rfl)
theorem dX10_payers_74 : decode cX10_payers 74 = .ok (.iload_n 2, 1) := dk_28 (dk_at dksX10_payers_3 4 rfl rfl)
theorem dX10_payers_75 : decode cX10_payers 75 = .ok (.iload_n 3, 1) := dk_29 (dk_at dksX10_payers_3 5 rfl rfl)
theorem dX10_payers_76 : decode cX10_payers 76 = .ok (.invokevirtual 474, 3) := dk_182 1 218 (dk_at dksX10_payers_3 6 rfl rfl)
theorem dX10_payers_79 : decode cX10_payers 79 = .ok (.bastore, 1) := dk_84 (dk_at dksX10_payers_3 9 rfl rfl)
theorem dX10_payers_80 : decode cX10_payers 80 = .ok (.iinc 3 1, 3) := dk_132 3 1 (dk_at dksX10_payers_3 10 rfl rfl)
theorem dX10_payers_83 : decode cX10_payers 83 = .ok (.goto (-29), 3) := dk_167 255 227 (dk_at dksX10_payers_3 13 rfl rfl)
theorem dX10_payers_86 : decode cX10_payers 86 = .ok (.iinc 2 1, 3) := dk_132 2 1 (dk_at dksX10_payers_3 16 rfl rfl)
theorem dX10_payers_89 : decode cX10_payers 89 = .ok (.goto (-80), 3) := dk_167 255 176 (dk_at dksX10_payers_3 19 rfl rfl)
theorem dX10_payers_92 : decode cX10_payers 92 = .ok (.iconst 0, 1) := dk_3 (dk_at dksX10_payers_3 22 rfl rfl)
theorem dX10_payers_93 : decode cX10_payers 93 = .ok (.istore_n 2, 1) := dk_61 (dk_at dksX10_payers_3 23 rfl rfl)
theorem dX10_payers_94 : decode cX10_payers 94 = .ok (.iconst 0, 1) := dk_3 (dk_at dksX10_payers_4 0 rfl rfl)
theorem dX10_payers_95 : decode cX10_payers 95 = .ok (.istore_n 3, 1) := dk_62 (dk_at dksX10_payers_4 1 rfl rfl)
theorem dX10_payers_96 : decode cX10_payers 96 = .ok (.iload_n 3, 1) := dk_29 (dk_at dksX10_payers_4 2 rfl rfl)
theorem dX10_payers_97 : decode cX10_payers 97 = .ok (.bipush 64, 2) := dk_16 64 (dk_at dksX10_payers_4 3 rfl rfl)
theorem dX10_payers_99 : decode cX10_payers 99 = .ok (.if_icmp .ge 101, 3) := dk_162 0 101 (dk_at dksX10_payers_4 5 rfl rfl)
theorem dX10_payers_102 : decode cX10_payers 102 = .ok (.iload_n 3, 1) := dk_29 (dk_at dksX10_payers_4 8 rfl rfl)
theorem dX10_payers_103 : decode cX10_payers 103 = .ok (.iload_n 1, 1) := dk_27 (dk_at dksX10_payers_4 9 rfl rfl)
theorem dX10_payers_104 : decode cX10_payers 104 = .ok (.iconst (-1), 1) := dk_2 (dk_at dksX10_payers_4 10 rfl rfl)
theorem dX10_payers_105 : decode cX10_payers 105 = .ok (.ixor, 1) := dk_130 (dk_at dksX10_payers_4 11 rfl rfl)
theorem dX10_payers_106 : decode cX10_payers 106 = .ok (.iand, 1) := dk_126 (dk_at dksX10_payers_4 12 rfl rfl)
theorem dX10_payers_107 : decode cX10_payers 107 = .ok (.ifCond .eq 6, 3) := dk_153 0 6 (dk_at dksX10_payers_4 13 rfl rfl)
theorem dX10_payers_110 : decode cX10_payers 110 = .ok (.goto 84, 3) := dk_167 0 84 (dk_at dksX10_payers_4 16 rfl rfl)
theorem dX10_payers_113 : decode cX10_payers 113 = .ok (.iconst 0, 1) := dk_3 (dk_at dksX10_payers_4 19 rfl rfl)
theorem dX10_payers_114 : decode cX10_payers 114 = .ok (.istore 4, 2) := dk_54 4 (dk_at dksX10_payers_4 20 rfl rfl)
theorem dX10_payers_116 : decode cX10_payers 116 = .ok (.iload 4, 2) := dk_21 4 (dk_at dksX10_payers_4 22 rfl rfl)
theorem dX10_payers_118 : decode cX10_payers 118 = .ok (.aload_n 0, 1) := dk_42 (dk_at dksX10_payers_5 0 rfl rfl)
theorem dX10_payers_119 : decode cX10_payers 119 = .ok (.invokevirtual 489, 3) := dk_182 1 233 (dk_at dksX10_payers_5 1 rfl rfl)
theorem dX10_payers_122 : decode cX10_payers 122 = .ok (.if_icmp .gt 41, 3) := dk_163 0 41 (dk_at dksX10_payers_5 4 rfl rfl)
theorem dX10_payers_125 : decode cX10_payers 125 = .ok (.aload_n 0, 1) := dk_42 (dk_at dksX10_payers_5 7 rfl rfl)
theorem dX10_payers_126 : decode cX10_payers 126 = .ok (.getfield 145, 3) := dk_180 0 145 (dk_at dksX10_payers_5 8 rfl rfl)
theorem dX10_payers_129 : decode cX10_payers 129 = .ok (.sipush 1024, 3) := dk_17 4 0 (dk_at dksX10_payers_5 11 rfl rfl)
theorem dX10_payers_132 : decode cX10_payers 132 = .ok (.iload_n 3, 1) := dk_29 (dk_at dksX10_payers_5 14 rfl rfl)
theorem dX10_payers_133 : decode cX10_payers 133 = .ok (.imul, 1) := dk_104 (dk_at dksX10_payers_5 15 rfl rfl)
theorem dX10_payers_134 : decode cX10_payers 134 = .ok (.iload 4, 2) := dk_21 4 (dk_at dksX10_payers_5 16 rfl rfl)
theorem dX10_payers_136 : decode cX10_payers 136 = .ok (.iadd, 1) := dk_96 (dk_at dksX10_payers_5 18 rfl rfl)
theorem dX10_payers_137 : decode cX10_payers 137 = .ok (.iload_n 3, 1) := dk_29 (dk_at dksX10_payers_5 19 rfl rfl)
theorem dX10_payers_138 : decode cX10_payers 138 = .ok (.ifCond .eq 13, 3) := dk_153 0 13 (dk_at dksX10_payers_5 20 rfl rfl)
theorem dX10_payers_141 : decode cX10_payers 141 = .ok (.aload_n 0, 1) := dk_42 (dk_at dksX10_payers_5 23 rfl rfl)
theorem dX10_payers_142 : decode cX10_payers 142 = .ok (.iload_n 3, 1) := dk_29 (dk_at dksX10_payers_6 0 rfl rfl)
theorem dX10_payers_143 : decode cX10_payers 143 = .ok (.iload 4, 2) := dk_21 4 (dk_at dksX10_payers_6 1 rfl rfl)
theorem dX10_payers_145 : decode cX10_payers 145 = .ok (.invokevirtual 498, 3) := dk_182 1 242 (dk_at dksX10_payers_6 3 rfl rfl)
theorem dX10_payers_148 : decode cX10_payers 148 = .ok (.ifCond .eq 7, 3) := dk_153 0 7 (dk_at dksX10_payers_6 6 rfl rfl)
theorem dX10_payers_151 : decode cX10_payers 151 = .ok (.iconst 1, 1) := dk_4 (dk_at dksX10_payers_6 9 rfl rfl)
theorem dX10_payers_152 : decode cX10_payers 152 = .ok (.goto 4, 3) := dk_167 0 4 (dk_at dksX10_payers_6 10 rfl rfl)
theorem dX10_payers_155 : decode cX10_payers 155 = .ok (.iconst 0, 1) := dk_3 (dk_at dksX10_payers_6 13 rfl rfl)
theorem dX10_payers_156 : decode cX10_payers 156 = .ok (.bastore, 1) := dk_84 (dk_at dksX10_payers_6 14 rfl rfl)
theorem dX10_payers_157 : decode cX10_payers 157 = .ok (.iinc 4 1, 3) := dk_132 4 1 (dk_at dksX10_payers_6 15 rfl rfl)
theorem dX10_payers_160 : decode cX10_payers 160 = .ok (.goto (-44), 3) := dk_167 255 212 (dk_at dksX10_payers_6 18 rfl rfl)
theorem dX10_payers_163 : decode cX10_payers 163 = .ok (.aload_n 0, 1) := dk_42 (dk_at dksX10_payers_6 21 rfl rfl)
theorem dX10_payers_164 : decode cX10_payers 164 = .ok (.getfield 145, 3) := dk_180 0 145 (dk_at dksX10_payers_7 0 rfl rfl)
theorem dX10_payers_167 : decode cX10_payers 167 = .ok (.sipush 1024, 3) := dk_17 4 0 (dk_at dksX10_payers_7 3 rfl rfl)
theorem dX10_payers_170 : decode cX10_payers 170 = .ok (.iload_n 3, 1) := dk_29 (dk_at dksX10_payers_7 6 rfl rfl)
theorem dX10_payers_171 : decode cX10_payers 171 = .ok (.imul, 1) := dk_104 (dk_at dksX10_payers_7 7 rfl rfl)
theorem dX10_payers_172 : decode cX10_payers 172 = .ok (.aload_n 0, 1) := dk_42 (dk_at dksX10_payers_7 8 rfl rfl)
theorem dX10_payers_173 : decode cX10_payers 173 = .ok (.invokevirtual 489, 3) := dk_182 1 233 (dk_at dksX10_payers_7 9 rfl rfl)
theorem dX10_payers_176 : decode cX10_payers 176 = .ok (.iadd, 1) := dk_96 (dk_at dksX10_payers_7 12 rfl rfl)
theorem dX10_payers_177 : decode cX10_payers 177 = .ok (.baload, 1) := dk_51 (dk_at dksX10_payers_7 13 rfl rfl)
theorem dX10_payers_178 : decode cX10_payers 178 = .ok (.ifCond .eq 16, 3) := dk_153 0 16 (dk_at dksX10_payers_7 14 rfl rfl)
theorem dX10_payers_181 : decode cX10_payers 181 = .ok (.iload_n 3, 1) := dk_29 (dk_at dksX10_payers_7 17 rfl rfl)
theorem dX10_payers_182 : decode cX10_payers 182 = .ok (.invokestatic 492, 3) := dk_184 1 236 (dk_at dksX10_payers_7 18 rfl rfl)
theorem dX10_payers_185 : decode cX10_payers 185 = .ok (.iload_n 2, 1) := dk_28 (dk_at dksX10_payers_7 21 rfl rfl)
theorem dX10_payers_186 : decode cX10_payers 186 = .ok (.invokestatic 492, 3) := dk_184 1 236 (dk_at dksX10_payers_8 0 rfl rfl)
theorem dX10_payers_189 : decode cX10_payers 189 = .ok (.if_icmp .le 5, 3) := dk_164 0 5 (dk_at dksX10_payers_8 3 rfl rfl)
theorem dX10_payers_192 : decode cX10_payers 192 = .ok (.iload_n 3, 1) := dk_29 (dk_at dksX10_payers_8 6 rfl rfl)
theorem dX10_payers_193 : decode cX10_payers 193 = .ok (.istore_n 2, 1) := dk_61 (dk_at dksX10_payers_8 7 rfl rfl)
theorem dX10_payers_194 : decode cX10_payers 194 = .ok (.iinc 3 1, 3) := dk_132 3 1 (dk_at dksX10_payers_8 8 rfl rfl)
theorem dX10_payers_197 : decode cX10_payers 197 = .ok (.goto (-101), 3) := dk_167 255 155 (dk_at dksX10_payers_8 11 rfl rfl)
theorem dX10_payers_200 : decode cX10_payers 200 = .ok (.iload_n 2, 1) := dk_28 (dk_at dksX10_payers_8 14 rfl rfl)
theorem dX10_payers_201 : decode cX10_payers 201 = .ok (.ireturn, 1) := dk_172 (dk_at dksX10_payers_8 15 rfl rfl)
