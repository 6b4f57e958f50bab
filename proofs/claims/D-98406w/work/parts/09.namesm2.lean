set_option maxRecDepth 100000
abbrev cX10_payTogether : ByteArray := prog_36_method_85_code
def yX10_payTogether : MethodName := ⟨RX10, "payTogether", "(II)Z"⟩
def dkwX10_payTogether_3 : List UInt8 := [28, 126, 54, 4, 167, 255, 199, 3, 172]
abbrev dktX10_payTogether_3 : List UInt8 := dkwX10_payTogether_3 ++ []
def dkwX10_payTogether_2 : List UInt8 := [4, 29, 120, 2, 130, 126, 104, 28, 21, 4, 2, 130, 126, 96, 51, 153, 0, 5, 4, 172, 21, 4, 4, 100]
abbrev dktX10_payTogether_2 : List UInt8 := dkwX10_payTogether_2 ++ dktX10_payTogether_3
def dkwX10_payTogether_1 : List UInt8 := [42, 180, 0, 148, 17, 4, 0, 29, 104, 21, 4, 96, 51, 153, 0, 31, 42, 180, 0, 145, 17, 4, 0, 27]
abbrev dktX10_payTogether_1 : List UInt8 := dkwX10_payTogether_1 ++ dktX10_payTogether_2
def dkwX10_payTogether_0 : List UInt8 := [3, 62, 27, 29, 122, 4, 126, 154, 0, 9, 132, 3, 1, 167, 255, 245, 28, 54, 4, 21, 4, 158, 0, 58]
abbrev dktX10_payTogether_0 : List UInt8 := dkwX10_payTogether_0 ++ dktX10_payTogether_1
theorem dksX10_payTogether_0 : cX10_payTogether.data.toList.drop 0 = dktX10_payTogether_0 := by decide +kernel
theorem dksX10_payTogether_1 : cX10_payTogether.data.toList.drop 24 = dktX10_payTogether_1 := dk_seg dksX10_payTogether_0 24 rfl rfl
theorem dksX10_payTogether_2 : cX10_payTogether.data.toList.drop 48 = dktX10_payTogether_2 := dk_seg dksX10_payTogether_1 24 rfl rfl
theorem dksX10_payTogether_3 : cX10_payTogether.data.toList.drop 72 = dktX10_payTogether_3 := dk_seg dksX10_payTogether_2 24 rfl rfl
theorem dX10_payTogether_0 : decode cX10_payTogether 0 = .ok (.iconst 0, 1) := dk_3 (dk_at dksX10_payTogether_0 0 rfl rfl)
theorem dX10_payTogether_1 : decode cX10_payTogether 1 = .ok (.istore_n 3, 1) := dk_62 (dk_at dksX10_payTogether_0 1 rfl rfl)
theorem dX10_payTogether_2 : decode cX10_payTogether 2 = .ok (.iload_n 1, 1) := dk_27 (dk_at dksX10_payTogether_0 2 rfl rfl)
theorem dX10_payTogether_3 : decode cX10_payTogether 3 = .ok (.iload_n 3, 1) := dk_29 (dk_at dksX10_payTogether_0 3 rfl rfl)
theorem dX10_payTogether_4 : decode cX10_payTogether 4 = .ok (.ishr, 1) := dk_122 (dk_at dksX10_payTogether_0 4 rfl rfl)
theorem dX10_payTogether_5 : decode cX10_payTogether 5 = .ok (.iconst 1, 1) := dk_4 (dk_at dksX10_payTogether_0 5 rfl rfl)
theorem dX10_payTogether_6 : decode cX10_payTogether 6 = .ok (.iand, 1) := dk_126 (dk_at dksX10_payTogether_0 6 rfl rfl)
theorem dX10_payTogether_7 : decode cX10_payTogether 7 = .ok (.ifCond .ne 9, 3) := dk_154 0 9 (dk_at dksX10_payTogether_0 7 rfl rfl)
theorem dX10_payTogether_10 : decode cX10_payTogether 10 = .ok (.iinc 3 1, 3) := dk_132 3 1 (dk_at dksX10_payTogether_0 10 rfl rfl)
theorem dX10_payTogether_13 : decode cX10_payTogether 13 = .ok (.goto (-11), 3) := dk_167 255 245 (dk_at dksX10_payTogether_0 13 rfl rfl)
theorem dX10_payTogether_16 : decode cX10_payTogether 16 = .ok (.iload_n 2, 1) := dk_28 (dk_at dksX10_payTogether_0 16 rfl rfl)
theorem dX10_payTogether_17 : decode cX10_payTogether 17 = .ok (.istore 4, 2) := dk_54 4 (dk_at dksX10_payTogether_0 17 rfl rfl)
theorem dX10_payTogether_19 : decode cX10_payTogether 19 = .ok (.iload 4, 2) := dk_21 4 (dk_at dksX10_payTogether_0 19 rfl rfl)
theorem dX10_payTogether_21 : decode cX10_payTogether 21 = .ok (.ifCond .le 58, 3) := dk_158 0 58 (dk_at dksX10_payTogether_0 21 rfl rfl)
theorem dX10_payTogether_24 : decode cX10_payTogether 24 = .ok (.aload_n 0, 1) := dk_42 (dk_at dksX10_payTogether_1 0 rfl rfl)
theorem dX10_payTogether_25 : decode cX10_payTogether 25 = .ok (.getfield 148, 3) := dk_180 0 148 (dk_at dksX10_payTogether_1 1 rfl rfl)
theorem dX10_payTogether_28 : decode cX10_payTogether 28 = .ok (.sipush 1024, 3) := dk_17 4 0 (dk_at dksX10_payTogether_1 4 rfl rfl)
theorem dX10_payTogether_31 : decode cX10_payTogether 31 = .ok (.iload_n 3, 1) := dk_29 (dk_at dksX10_payTogether_1 7 rfl rfl)
theorem dX10_payTogether_32 : decode cX10_payTogether 32 = .ok (.imul, 1) := dk_104 (dk_at dksX10_payTogether_1 8 rfl rfl)
theorem dX10_payTogether_33 : decode cX10_payTogether 33 = .ok (.iload 4, 2) := dk_21 4 (dk_at dksX10_payTogether_1 9 rfl rfl)
theorem dX10_payTogether_35 : decode cX10_payTogether 35 = .ok (.iadd, 1) := dk_96 (dk_at dksX10_payTogether_1 11 rfl rfl)
theorem dX10_payTogether_36 : decode cX10_payTogether 36 = .ok (.baload, 1) := dk_51 (dk_at dksX10_payTogether_1 12 rfl rfl)
theorem dX10_payTogether_37 : decode cX10_payTogether 37 = .ok (.ifCond .eq 31, 3) := dk_153 0 31 (dk_at dksX10_payTogether_1 13 rfl rfl)
theorem dX10_payTogether_40 : decode cX10_payTogether 40 = .ok (.aload_n 0, 1) := dk_42 (dk_at dksX10_payTogether_1 16 rfl rfl)
theorem dX10_payTogether_41 : decode cX10_payTogether 41 = .ok (.getfield 145, 3) := dk_180 0 145 (dk_at dksX10_payTogether_1 17 rfl rfl)
theorem dX10_payTogether_44 : decode cX10_payTogether 44 = .ok (.sipush 1024, 3) := dk_17 4 0 (dk_at dksX10_payTogether_1 20 rfl rfl)
theorem dX10_payTogether_47 : decode cX10_payTogether 47 = .ok (.iload_n 1, 1) := dk_27 (dk_at dksX10_payTogether_1 23 rfl rfl)
theorem dX10_payTogether_48 : decode cX10_payTogether 48 = .ok (.iconst 1, 1) := dk_4 (dk_at dksX10_payTogether_2 0 rfl rfl)
theorem dX10_payTogether_49 : decode cX10_payTogether 49 = .ok (.iload_n 3, 1) := dk_29 (dk_at dksX10_payTogether_2 1 rfl rfl)
theorem dX10_payTogether_50 : decode cX10_payTogether 50 = .ok (.ishl, 1) := dk_120 (dk_at dksX10_payTogether_2 2 rfl rfl)
theorem dX10_payTogether_51 : decode cX10_payTogether 51 = .ok (.iconst (-1), 1) := dk_2 (dk_at dksX10_payTogether_2 3 rfl rfl)
theorem dX10_payTogether_52 : decode cX10_payTogether 52 = .ok (.ixor, 1) := dk_130 (dk_at dksX10_payTogether_2 4 rfl rfl)
theorem dX10_payTogether_53 : decode cX10_payTogether 53 = .ok (.iand, 1) := dk_126 (dk_at dksX10_payTogether_2 5 rfl rfl)
theorem dX10_payTogether_54 : decode cX10_payTogether 54 = .ok (.imul, 1) := dk_104 (dk_at dksX10_payTogether_2 6 rfl rfl)
theorem dX10_payTogether_55 : decode cX10_payTogether 55 = .ok (.iload_n 2, 1) := dk_28 (dk_at dksX10_payTogether_2 7 rfl rfl)
theorem dX10_payTogether_56 : decode cX10_payTogether 56 = .ok (.iload 4, 2) := dk_21 4 (dk_at dksX10_payTogether_2 8 rfl rfl)
theorem dX10_payTogether_58 : decode cX10_payTogether 58 = .ok (.iconst (-1), 1) := dk_2 (dk_at dksX10_payTogether_2 10 rfl rfl)
theorem dX10_payTogether_59 : decode cX10_payTogether 59 = .ok (.ixor, 1) := dk_130 (dk_at dksX10_payTogether_2 11 rfl rfl)
theorem dX10_payTogether_60 : decode cX10_payTogether 60 = .ok (.iand, 1) := dk_126 (dk_at dksX10_payTogether_2 12 rfl rfl)
theorem dX10_payTogether_61 : decode cX10_payTogether 61 = .ok (.iadd, 1) := dk_96 (dk_at dksX10_payTogether_2 13 rfl rfl)
theorem dX10_payTogether_62 : decode cX10_payTogether 62 = .ok (.baload, 1) := dk_51 (dk_at dksX10_payTogether_2 14 rfl rfl)
theorem dX10_payTogether_63 : decode cX10_payTogether 63 = .ok (.ifCond .eq 5, 3) := dk_153 0 5 (dk_at dksX10_payTogether_2 15 rfl rfl)
theorem dX10_payTogether_66 : decode cX10_payTogether 66 = .ok (.iconst 1, 1) := dk_4 (dk_at dksX10_payTogether_2 18 rfl rfl)
theorem dX10_payTogether_67 : decode cX10_payTogether 67 = .ok (.ireturn, 1) := dk_172 (dk_at dksX10_payTogether_2 19 rfl rfl)
theorem dX10_payTogether_68 : decode cX10_payTogether 68 = .ok (.iload 4, 2) := dk_21 4 (dk_at dksX10_payTogether_2 20 rfl rfl)
theorem dX10_payTogether_70 : decode cX10_payTogether 70 = .ok (.iconst 1, 1) := dk_4 (dk_at dksX10_payTogether_2 22 rfl rfl)
theorem dX10_payTogether_71 : decode cX10_payTogether 71 = .ok (.isub, 1) := dk_100 (dk_at dksX10_payTogether_2 23 rfl rfl)
theorem dX10_payTogether_72 : decode cX10_payTogether 72 = .ok (.iload_n 2, 1) := dk_28 (dk_at dksX10_payTogether_3 0 rfl rfl)
theorem dX10_payTogether_73 : decode cX10_payTogether 73 = .ok (.iand, 1) := dk_126 (dk_at dksX10_payTogether_3 1 rfl rfl)
theorem dX10_payTogether_74 : decode cX10_payTogether 74 = .ok (.istore 4, 2) := dk_54 4 (dk_at dksX10_payTogether_3 2 rfl rfl)
theorem dX10_payTogether_76 : decode cX10_payTogether 76 = .ok (.goto (-57), 3) := dk_167 255 199 (dk_at dksX10_payTogether_3 4 rfl rfl)
theorem dX10_payTogether_79 : decode cX10_payTogether 79 = .ok (.iconst 0, 1) := dk_3 (dk_at dksX10_payTogether_3 7 rfl rfl)
theorem dX10_payTogether_80 : decode cX10_payTogether 80 = .ok (.ireturn, 1) := dk_172 (dk_at dksX10_payTogether_3 8 rfl rfl)
abbrev cX10_plot : ByteArray := prog_36_method_88_code
def yX10_plot : MethodName := ⟨RX10, "plot", "(IIII)I"⟩
def dkwX10_plot_4 : List UInt8 := [46, 172]
abbrev dktX10_plot_4 : List UInt8 := dkwX10_plot_4 ++ []
def dkwX10_plot_3 : List UInt8 := [167, 0, 25, 21, 4, 4, 160, 0, 10, 42, 180, 1, 245, 167, 0, 12, 42, 180, 0, 154, 21, 4, 5, 100]
abbrev dktX10_plot_3 : List UInt8 := dkwX10_plot_3 ++ dktX10_plot_4
def dkwX10_plot_2 : List UInt8 := [42, 2, 181, 1, 245, 42, 27, 28, 3, 29, 182, 1, 251, 21, 4, 154, 0, 10, 42, 180, 1, 248]
abbrev dktX10_plot_2 : List UInt8 := dkwX10_plot_2 ++ dktX10_plot_3
def dkwX10_plot_1 : List UInt8 := [184, 1, 52, 153, 0, 7, 3, 167, 0, 4, 4, 181, 0, 175, 42, 180, 0, 175, 4, 160, 0, 5, 3, 172]
abbrev dktX10_plot_1 : List UInt8 := dkwX10_plot_1 ++ dktX10_plot_2
def dkwX10_plot_0 : List UInt8 := [42, 42, 27, 28, 182, 1, 192, 153, 0, 26, 29, 3, 5, 184, 1, 52, 153, 0, 17, 21, 4, 3, 6]
abbrev dktX10_plot_0 : List UInt8 := dkwX10_plot_0 ++ dktX10_plot_1
theorem dksX10_plot_0 : cX10_plot.data.toList.drop 0 = dktX10_plot_0 := by decide +kernel
theorem dksX10_plot_1 : cX10_plot.data.toList.drop 23 = dktX10_plot_1 := dk_seg dksX10_plot_0 23 rfl rfl
theorem dksX10_plot_2 : cX10_plot.data.toList.drop 47 = dktX10_plot_2 := dk_seg dksX10_plot_1 24 rfl rfl
theorem dksX10_plot_3 : cX10_plot.data.toList.drop 69 = dktX10_plot_3 := dk_seg dksX10_plot_2 22 rfl rfl
theorem dksX10_plot_4 : cX10_plot.data.toList.drop 93 = dktX10_plot_4 := dk_seg dksX10_plot_3 24 rfl rfl
theorem dX10_plot_0 : decode cX10_plot 0 = .ok (.aload_n 0, 1) := dk_42 (dk_at dksX10_plot_0 0 rfl rfl)
theorem dX10_plot_1 : decode cX10_plot 1 = .ok (.aload_n 0, 1) := dk_42 (dk_at dksX10_plot_0 1 rfl rfl)
theorem dX10_plot_2 : decode cX10_plot 2 = .ok (.iload_n 1, 1) := dk_27 (dk_at dksX10_plot_0 2 rfl rfl)
theorem dX10_plot_3 : decode cX10_plot 3 = .ok (.iload_n 2, 1) := dk_28 (dk_at dksX10_plot_0 3 rfl rfl)
theorem dX10_plot_4 : decode cX10_plot 4 = .ok (.invokevirtual 448, 3) := dk_182 1 192 (dk_at dksX10_plot_0 4 rfl rfl)
theorem dX10_plot_7 : decode cX10_plot 7 = .ok (.ifCond .eq 26, 3) := dk_153 0 26 (dk_at dksX10_plot_0 7 rfl rfl)
theorem dX10_plot_10 : decode cX10_plot 10 = .ok (.iload_n 3, 1) := dk_29 (dk_at dksX10_plot_0 10 rfl rfl)
theorem dX10_plot_11 : decode cX10_plot 11 = .ok (.iconst 0, 1) := dk_3 (dk_at dksX10_plot_0 11 rfl rfl)
theorem dX10_plot_12 : decode cX10_plot 12 = .ok (.iconst 2, 1) := dk_5 (dk_at dksX10_plot_0 12 rfl rfl)
theorem dX10_plot_13 : decode cX10_plot 13 = .ok (.invokestatic 308, 3) := dk_184 1 52 (dk_at dksX10_plot_0 13 rfl rfl)
theorem dX10_plot_16 : decode cX10_plot 16 = .ok (.ifCond .eq 17, 3) := dk_153 0 17 (dk_at dksX10_plot_0 16 rfl rfl)
theorem dX10_plot_19 : decode cX10_plot 19 = .ok (.iload 4, 2) := dk_21 4 (dk_at dksX10_plot_0 19 rfl rfl)
theorem dX10_plot_21 : decode cX10_plot 21 = .ok (.iconst 0, 1) := dk_3 (dk_at dksX10_plot_0 21 rfl rfl)
theorem dX10_plot_22 : decode cX10_plot 22 = .ok (.iconst 3, 1) := dk_6 (dk_at dksX10_plot_0 22 rfl rfl)
theorem dX10_plot_23 : decode cX10_plot 23 = .ok (.invokestatic 308, 3) := dk_184 1 52 (dk_at dksX10_plot_1 0 rfl rfl)
theorem dX10_plot_26 : decode cX10_plot 26 = .ok (.ifCond .eq 7, 3) := dk_153 0 7 (dk_at dksX10_plot_1 3 rfl rfl)
theorem dX10_plot_29 : decode cX10_plot 29 = .ok (.iconst 0, 1) := dk_3 (dk_at dksX10_plot_1 6 rfl rfl)
theorem dX10_plot_30 : decode cX10_plot 30 = .ok (.goto 4, 3) := dk_167 0 4 (dk_at dksX10_plot_1 7 rfl rfl)
theorem dX10_plot_33 : decode cX10_plot 33 = .ok (.iconst 1, 1) := dk_4 (dk_at dksX10_plot_1 10 rfl rfl)
theorem dX10_plot_34 : decode cX10_plot 34 = .ok (.putfield 175, 3) := dk_181 0 175 (dk_at dksX10_plot_1 11 rfl rfl)
theorem dX10_plot_37 : decode cX10_plot 37 = .ok (.aload_n 0, 1) := dk_42 (dk_at dksX10_plot_1 14 rfl rfl)
theorem dX10_plot_38 : decode cX10_plot 38 = .ok (.getfield 175, 3) := dk_180 0 175 (dk_at dksX10_plot_1 15 rfl rfl)
theorem dX10_plot_41 : decode cX10_plot 41 = .ok (.iconst 1, 1) := dk_4 (dk_at dksX10_plot_1 18 rfl rfl)
theorem dX10_plot_42 : decode cX10_plot 42 = .ok (.if_icmp .ne 5, 3) := dk_160 0 5 (dk_at dksX10_plot_1 19 rfl rfl)
theorem dX10_plot_45 : decode cX10_plot 45 = .ok (.iconst 0, 1) := dk_3 (dk_at dksX10_plot_1 22 rfl rfl)
theorem dX10_plot_46 : decode cX10_plot 46 = .ok (.ireturn, 1) := dk_172 (dk_at dksX10_plot_1 23 rfl rfl)
theorem dX10_plot_47 : decode cX10_plot 47 = .ok (.aload_n 0, 1) := dk_42 (dk_at dksX10_plot_2 0 rfl rfl)
theorem dX10_plot_48 : decode cX10_plot 48 = .ok (.iconst (-1), 1) := dk_2 (dk_at dksX10_plot_2 1 rfl rfl)
theorem dX10_plot_49 : decode cX10_plot 49 = .ok (.putfield 501, 3) := dk_181 1 245 (dk_at dksX10_plot_2 2 rfl rfl)
theorem dX10_plot_52 : decode cX10_plot 52 = .ok (.aload_n 0, 1) := dk_42 (dk_at dksX10_plot_2 5 rfl rfl)
theorem dX10_plot_53 : decode cX10_plot 53 = .ok (.iload_n 1, 1) := dk_27 (dk_at dksX10_plot_2 6 rfl rfl)
theorem dX10_plot_54 : decode cX10_plot 54 = .ok (.iload_n 2, 1) := dk_28 (dk_at dksX10_plot_2 7 rfl rfl)
theorem dX10_plot_55 : decode cX10_plot 55 = .ok (.iconst 0, 1) := dk_3 (dk_at dksX10_plot_2 8 rfl rfl)
theorem dX10_plot_56 : decode cX10_plot 56 = .ok (.iload_n 3, 1) := dk_29 (dk_at dksX10_plot_2 9 rfl rfl)
theorem dX10_plot_57 : decode cX10_plot 57 = .ok (.invokevirtual 507, 3) := dk_182 1 251 (dk_at dksX10_plot_2 10 rfl rfl)
theorem dX10_plot_60 : decode cX10_plot 60 = .ok (.iload 4, 2) := dk_21 4 (dk_at dksX10_plot_2 13 rfl rfl)
theorem dX10_plot_62 : decode cX10_plot 62 = .ok (.ifCond .ne 10, 3) := dk_154 0 10 (dk_at dksX10_plot_2 15 rfl rfl)
theorem dX10_plot_65 : decode cX10_plot 65 = .ok (.aload_n 0, 1) := dk_42 (dk_at dksX10_plot_2 18 rfl rfl)
theorem dX10_plot_66 : decode cX10_plot 66 = .ok (.getfield 504, 3) := dk_180 1 248 (dk_at dksX10_plot_2 19 rfl rfl)
theorem dX10_plot_69 : decode cX10_plot 69 = .ok (.goto 25, 3) := dk_167 0 25 (dk_at dksX10_plot_3 0 rfl rfl)
theorem dX10_plot_72 : decode cX10_plot 72 = .ok (.iload 4, 2) := dk_21 4 (dk_at dksX10_plot_3 3 rfl rfl)
theorem dX10_plot_74 : decode cX10_plot 74 = .ok (.iconst 1, 1) := dk_4 (dk_at dksX10_plot_3 5 rfl rfl)
theorem dX10_plot_75 : decode cX10_plot 75 = .ok (.if_icmp .ne 10, 3) := dk_160 0 10 (dk_at dksX10_plot_3 6 rfl rfl)
theorem dX10_plot_78 : decode cX10_plot 78 = .ok (.aload_n 0, 1) := dk_42 (dk_at dksX10_plot_3 9 rfl rfl)
theorem dX10_plot_79 : decode cX10_plot 79 = .ok (.getfield 501, 3) := dk_180 1 245 (dk_at dksX10_plot_3 10 rfl rfl)
theorem dX10_plot_82 : decode cX10_plot 82 = .ok (.goto 12, 3) := dk_167 0 12 (dk_at dksX10_plot_3 13 rfl rfl)
theorem dX10_plot_85 : decode cX10_plot 85 = .ok (.aload_n 0, 1) := dk_42 (dk_at dksX10_plot_3 16 rfl rfl)
theorem dX10_plot_86 : decode cX10_plot 86 = .ok (.getfield 154, 3) := dk_180 0 154 (dk_at dksX10_plot_3 17 rfl rfl)
theorem dX10_plot_89 : decode cX10_plot 89 = .ok (.iload 4, 2) := dk_21 4 (dk_at dksX10_plot_3 20 rfl rfl)
theorem dX10_plot_91 : decode cX10_plot 91 = .ok (.iconst 2, 1) := dk_5 (dk_at dksX10_plot_3 22 rfl rfl)
theorem dX10_plot_92 : decode cX10_plot 92 = .ok (.isub, 1) := dk_100 (dk_at dksX10_plot_3 23 rfl rfl)
theorem dX10_plot_93 : decode cX10_plot 93 = .ok (.iaload, 1) := dk_46 (dk_at dksX10_plot_4 0 rfl rfl)
theorem dX10_plot_94 : decode cX10_plot 94 = .ok (.ireturn, 1) := dk_172 (dk_at dksX10_plot_4 1 rfl rfl)
abbrev cX10_plots : ByteArray := prog_36_method_87_code
def yX10_plots : MethodName := ⟨RX10, "plots", "(IIII)V"⟩
def dkwX10_plots_12 : List UInt8 := [21, 6, 120, 2, 130, 126, 79, 132, 7, 1, 167, 255, 83, 132, 6, 1, 167, 255, 63, 177]
abbrev dktX10_plots_12 : List UInt8 := dkwX10_plots_12 ++ []
def dkwX10_plots_11 : List UInt8 := [16, 10, 16, 10, 21, 6, 104, 96, 21, 7, 96, 21, 10, 79, 42, 180, 0, 129, 21, 7, 92, 46, 4]
abbrev dktX10_plots_11 : List UInt8 := dkwX10_plots_11 ++ dktX10_plots_12
def dkwX10_plots_10 : List UInt8 := [21, 8, 79, 42, 180, 0, 129, 16, 10, 16, 10, 27, 104, 96, 21, 7, 96, 21, 9, 79, 42, 180, 0, 129]
abbrev dktX10_plots_10 : List UInt8 := dkwX10_plots_10 ++ dktX10_plots_11
def dkwX10_plots_9 : List UInt8 := [21, 6, 21, 7, 182, 1, 214, 42, 27, 28, 29, 4, 96, 21, 4, 182, 1, 251, 42, 180, 0, 129, 16, 76]
abbrev dktX10_plots_9 : List UInt8 := dkwX10_plots_9 ++ dktX10_plots_10
def dkwX10_plots_8 : List UInt8 := [96, 21, 7, 96, 46, 54, 10, 42, 180, 0, 151, 29, 16, 10, 21, 6, 104, 21, 7, 96, 79, 42, 27]
abbrev dktX10_plots_8 : List UInt8 := dkwX10_plots_8 ++ dktX10_plots_9
def dkwX10_plots_7 : List UInt8 := [16, 10, 16, 10, 27, 104, 96, 21, 7, 96, 46, 54, 9, 42, 180, 0, 129, 16, 10, 16, 10, 21, 6, 104]
abbrev dktX10_plots_7 : List UInt8 := dkwX10_plots_7 ++ dktX10_plots_8
def dkwX10_plots_6 : List UInt8 := [21, 7, 182, 1, 208, 154, 0, 6, 167, 0, 141, 42, 180, 0, 129, 16, 76, 46, 54, 8, 42, 180, 0, 129]
abbrev dktX10_plots_6 : List UInt8 := dkwX10_plots_6 ++ dktX10_plots_7
def dkwX10_plots_5 : List UInt8 := [3, 54, 7, 21, 7, 42, 180, 0, 13, 4, 46, 162, 0, 168, 21, 6, 27, 159, 0, 156, 42, 27, 21, 6]
abbrev dktX10_plots_5 : List UInt8 := dkwX10_plots_5 ++ dktX10_plots_6
def dkwX10_plots_4 : List UInt8 := [167, 255, 223, 29, 21, 4, 160, 0, 4, 177, 3, 54, 6, 21, 6, 42, 180, 0, 13, 3, 46, 162, 0, 188]
abbrev dktX10_plots_4 : List UInt8 := dkwX10_plots_4 ++ dktX10_plots_5
def dkwX10_plots_3 : List UInt8 := [21, 6, 21, 6, 29, 162, 0, 13, 42, 180, 0, 151, 21, 6, 46, 167, 0, 4, 2, 79, 132, 6, 1]
abbrev dktX10_plots_3 : List UInt8 := dkwX10_plots_3 ++ dktX10_plots_4
def dkwX10_plots_2 : List UInt8 := [21, 5, 181, 1, 248, 42, 29, 181, 1, 245, 3, 54, 6, 21, 6, 5, 162, 0, 33, 42, 180, 0, 154]
abbrev dktX10_plots_2 : List UInt8 := dkwX10_plots_2 ++ dktX10_plots_3
def dkwX10_plots_1 : List UInt8 := [180, 1, 248, 163, 0, 20, 21, 5, 42, 180, 1, 248, 160, 0, 61, 29, 42, 180, 1, 245, 162, 0, 53, 42]
abbrev dktX10_plots_1 : List UInt8 := dkwX10_plots_1 ++ dktX10_plots_2
def dkwX10_plots_0 : List UInt8 := [42, 27, 182, 1, 183, 42, 28, 182, 1, 183, 100, 54, 5, 42, 180, 1, 245, 155, 0, 29, 21, 5, 42]
abbrev dktX10_plots_0 : List UInt8 := dkwX10_plots_0 ++ dktX10_plots_1
theorem dksX10_plots_0 : cX10_plots.data.toList.drop 0 = dktX10_plots_0 := by decide +kernel
theorem dksX10_plots_1 : cX10_plots.data.toList.drop 23 = dktX10_plots_1 := dk_seg dksX10_plots_0 23 rfl rfl
theorem dksX10_plots_2 : cX10_plots.data.toList.drop 47 = dktX10_plots_2 := dk_seg dksX10_plots_1 24 rfl rfl
theorem dksX10_plots_3 : cX10_plots.data.toList.drop 70 = dktX10_plots_3 := dk_seg dksX10_plots_2 23 rfl rfl
theorem dksX10_plots_4 : cX10_plots.data.toList.drop 93 = dktX10_plots_4 := dk_seg dksX10_plots_3 23 rfl rfl
theorem dksX10_plots_5 : cX10_plots.data.toList.drop 117 = dktX10_plots_5 := dk_seg dksX10_plots_4 24 rfl rfl
theorem dksX10_plots_6 : cX10_plots.data.toList.drop 141 = dktX10_plots_6 := dk_seg dksX10_plots_5 24 rfl rfl
theorem dksX10_plots_7 : cX10_plots.data.toList.drop 165 = dktX10_plots_7 := dk_seg dksX10_plots_6 24 rfl rfl
theorem dksX10_plots_8 : cX10_plots.data.toList.drop 189 = dktX10_plots_8 := dk_seg dksX10_plots_7 24 rfl rfl
theorem dksX10_plots_9 : cX10_plots.data.toList.drop 212 = dktX10_plots_9 := dk_seg dksX10_plots_8 23 rfl rfl
theorem dksX10_plots_10 : cX10_plots.data.toList.drop 236 = dktX10_plots_10 := dk_seg dksX10_plots_9 24 rfl rfl
theorem dksX10_plots_11 : cX10_plots.data.toList.drop 260 = dktX10_plots_11 := dk_seg dksX10_plots_10 24 rfl rfl
theorem dksX10_plots_12 : cX10_plots.data.toList.drop 283 = dktX10_plots_12 := dk_seg dksX10_plots_11 23 rfl rfl
theorem dX10_plots_0 : decode cX10_plots 0 = .ok (.aload_n 0, 1) := dk_42 (dk_at dksX10_plots_0 0 rfl rfl)
theorem dX10_plots_1 : decode cX10_plots 1 = .ok (.iload_n 1, 1) := dk_27 (dk_at dksX10_plots_0 1 rfl rfl)
theorem dX10_plots_2 : decode cX10_plots 2 = .ok (.invokevirtual 439, 3) := dk_182 1 183 (dk_at dksX10_plots_0 2 rfl rfl)
theorem dX10_plots_5 : decode cX10_plots 5 = .ok (.aload_n 0, 1) := dk_42 (dk_at dksX10_plots_0 5 rfl rfl)
theorem dX10_plots_6 : decode cX10_plots 6 = .ok (.iload_n 2, 1) := dk_28 (dk_at dksX10_plots_0 6 rfl rfl)
theorem dX10_plots_7 : decode cX10_plots 7 = .ok (.invokevirtual 439, 3) := dk_182 1 183 (dk_at dksX10_plots_0 7 rfl rfl)
theorem dX10_plots_10 : decode cX10_plots 10 = .ok (.isub, 1) := dk_100 (dk_at dksX10_plots_0 10 rfl rfl)
theorem dX10_plots_11 : decode cX10_plots 11 = .ok (.istore 5, 2) := dk_54 5 (dk_at dksX10_plots_0 11 rfl rfl)
theorem dX10_plots_13 : decode cX10_plots 13 = .ok (.aload_n 0, 1) := dk_42 (dk_at dksX10_plots_0 13 rfl rfl)
theorem dX10_plots_14 : decode cX10_plots 14 = .ok (.getfield 501, 3) := dk_180 1 245 (dk_at dksX10_plots_0 14 rfl rfl)
theorem dX10_plots_17 : decode cX10_plots 17 = .ok (.ifCond .lt 29, 3) := dk_155 0 29 (dk_at dksX10_plots_0 17 rfl rfl)
theorem dX10_plots_20 : decode cX10_plots 20 = .ok (.iload 5, 2) := dk_21 5 (dk_at dksX10_plots_0 20 rfl rfl)
theorem dX10_plots_22 : decode cX10_plots 22 = .ok (.aload_n 0, 1) := dk_42 (dk_at dksX10_plots_0 22 rfl rfl)
theorem dX10_plots_23 : decode cX10_plots 23 = .ok (.getfield 504, 3) := dk_180 1 248 (dk_at dksX10_plots_1 0 rfl rfl)
theorem dX10_plots_26 : decode cX10_plots 26 = .ok (.if_icmp .gt 20, 3) := dk_163 0 20 (dk_at dksX10_plots_1 3 rfl rfl)
theorem dX10_plots_29 : decode cX10_plots 29 = .ok (.iload 5, 2) := dk_21 5 (dk_at dksX10_plots_1 6 rfl rfl)
theorem dX10_plots_31 : decode cX10_plots 31 = .ok (.aload_n 0, 1) := dk_42 (dk_at dksX10_plots_1 8 rfl rfl)
theorem dX10_plots_32 : decode cX10_plots 32 = .ok (.getfield 504, 3) := dk_180 1 248 (dk_at dksX10_plots_1 9 rfl rfl)
theorem dX10_plots_35 : decode cX10_plots 35 = .ok (.if_icmp .ne 61, 3) := dk_160 0 61 (dk_at dksX10_plots_1 12 rfl rfl)
theorem dX10_plots_38 : decode cX10_plots 38 = .ok (.iload_n 3, 1) := dk_29 (dk_at dksX10_plots_1 15 rfl rfl)
theorem dX10_plots_39 : decode cX10_plots 39 = .ok (.aload_n 0, 1) := dk_42 (dk_at dksX10_plots_1 16 rfl rfl)
theorem dX10_plots_40 : decode cX10_plots 40 = .ok (.getfield 501, 3) := dk_180 1 245 (dk_at dksX10_plots_1 17 rfl rfl)
theorem dX10_plots_43 : decode cX10_plots 43 = .ok (.if_icmp .ge 53, 3) := dk_162 0 53 (dk_at dksX10_plots_1 20 rfl rfl)
theorem dX10_plots_46 : decode cX10_plots 46 = .ok (.aload_n 0, 1) := dk_42 (dk_at dksX10_plots_1 23 rfl rfl)
theorem dX10_plots_47 : decode cX10_plots 47 = .ok (.iload 5, 2) := dk_21 5 (dk_at dksX10_plots_2 0 rfl rfl)
theorem dX10_plots_49 : decode cX10_plots 49 = .ok (.putfield 504, 3) := dk_181 1 248 (dk_at dksX10_plots_2 2 rfl rfl)
theorem dX10_plots_52 : decode cX10_plots 52 = .ok (.aload_n 0, 1) := dk_42 (dk_at dksX10_plots_2 5 rfl rfl)
theorem dX10_plots_53 : decode cX10_plots 53 = .ok (.iload_n 3, 1) := dk_29 (dk_at dksX10_plots_2 6 rfl rfl)
theorem dX10_plots_54 : decode cX10_plots 54 = .ok (.putfield 501, 3) := dk_181 1 245 (dk_at dksX10_plots_2 7 rfl rfl)
theorem dX10_plots_57 : decode cX10_plots 57 = .ok (.iconst 0, 1) := dk_3 (dk_at dksX10_plots_2 10 rfl rfl)
theorem dX10_plots_58 : decode cX10_plots 58 = .ok (.istore 6, 2) := dk_54 6 (dk_at dksX10_plots_2 11 rfl rfl)
theorem dX10_plots_60 : decode cX10_plots 60 = .ok (.iload 6, 2) := dk_21 6 (dk_at dksX10_plots_2 13 rfl rfl)
theorem dX10_plots_62 : decode cX10_plots 62 = .ok (.iconst 2, 1) := dk_5 (dk_at dksX10_plots_2 15 rfl rfl)
theorem dX10_plots_63 : decode cX10_plots 63 = .ok (.if_icmp .ge 33, 3) := dk_162 0 33 (dk_at dksX10_plots_2 16 rfl rfl)
theorem dX10_plots_66 : decode cX10_plots 66 = .ok (.aload_n 0, 1) := dk_42 (dk_at dksX10_plots_2 19 rfl rfl)
theorem dX10_plots_67 : decode cX10_plots 67 = .ok (.getfield 154, 3) := dk_180 0 154 (dk_at dksX10_plots_2 20 rfl rfl)
theorem dX10_plots_70 : decode cX10_plots 70 = .ok (.iload 6, 2) := dk_21 6 (dk_at dksX10_plots_3 0 rfl rfl)
theorem dX10_plots_72 : decode cX10_plots 72 = .ok (.iload 6, 2) := dk_21 6 (dk_at dksX10_plots_3 2 rfl rfl)
theorem dX10_plots_74 : decode cX10_plots 74 = .ok (.iload_n 3, 1) := dk_29 (dk_at dksX10_plots_3 4 rfl rfl)
theorem dX10_plots_75 : decode cX10_plots 75 = .ok (.if_icmp .ge 13, 3) := dk_162 0 13 (dk_at dksX10_plots_3 5 rfl rfl)
theorem dX10_plots_78 : decode cX10_plots 78 = .ok (.aload_n 0, 1) := dk_42 (dk_at dksX10_plots_3 8 rfl rfl)
theorem dX10_plots_79 : decode cX10_plots 79 = .ok (.getfield 151, 3) := dk_180 0 151 (dk_at dksX10_plots_3 9 rfl rfl)
theorem dX10_plots_82 : decode cX10_plots 82 = .ok (.iload 6, 2) := dk_21 6 (dk_at dksX10_plots_3 12 rfl rfl)
theorem dX10_plots_84 : decode cX10_plots 84 = .ok (.iaload, 1) := dk_46 (dk_at dksX10_plots_3 14 rfl rfl)
theorem dX10_plots_85 : decode cX10_plots 85 = .ok (.goto 4, 3) := dk_167 0 4 (dk_at dksX10_plots_3 15 rfl rfl)
theorem dX10_plots_88 : decode cX10_plots 88 = .ok (.iconst (-1), 1) := dk_2 (dk_at dksX10_plots_3 18 rfl rfl)
theorem dX10_plots_89 : decode cX10_plots 89 = .ok (.iastore, 1) := dk_79 (dk_at dksX10_plots_3 19 rfl rfl)
theorem dX10_plots_90 : decode cX10_plots 90 = .ok (.iinc 6 1, 3) := dk_132 6 1 (dk_at dksX10_plots_3 20 rfl rfl)
theorem dX10_plots_93 : decode cX10_plots 93 = .ok (.goto (-33), 3) := dk_167 255 223 (dk_at dksX10_plots_4 0 rfl rfl)
theorem dX10_plots_96 : decode cX10_plots 96 = .ok (.iload_n 3, 1) := dk_29 (dk_at dksX10_plots_4 3 rfl rfl)
theorem dX10_plots_97 : decode cX10_plots 97 = .ok (.iload 4, 2) := dk_21 4 (dk_at dksX10_plots_4 4 rfl rfl)
theorem dX10_plots_99 : decode cX10_plots 99 = .ok (.if_icmp .ne 4, 3) := dk_160 0 4 (dk_at dksX10_plots_4 6 rfl rfl)
theorem dX10_plots_102 : decode cX10_plots 102 = .ok (.return_, 1) := dk_177 (dk_at dksX10_plots_4 9 rfl rfl)
theorem dX10_plots_103 : decode cX10_plots 103 = .ok (.iconst 0, 1) := dk_3 (dk_at dksX10_plots_4 10 rfl rfl)
theorem dX10_plots_104 : decode cX10_plots 104 = .ok (.istore 6, 2) := dk_54 6 (dk_at dksX10_plots_4 11 rfl rfl)
theorem dX10_plots_106 : decode cX10_plots 106 = .ok (.iload 6, 2) := dk_21 6 (dk_at dksX10_plots_4 13 rfl rfl)
theorem dX10_plots_108 : decode cX10_plots 108 = .ok (.aload_n 0, 1) := dk_42 (dk_at dksX10_plots_4 15 rfl rfl)
theorem dX10_plots_109 : decode cX10_plots 109 = .ok (.getfield 13, 3) := dk_180 0 13 (dk_at dksX10_plots_4 16 rfl rfl)
theorem dX10_plots_112 : decode cX10_plots 112 = .ok (.iconst 0, 1) := dk_3 (dk_at dksX10_plots_4 19 rfl rfl)
theorem dX10_plots_113 : decode cX10_plots 113 = .ok (.iaload, 1) := dk_46 (dk_at dksX10_plots_4 20 rfl rfl)
theorem dX10_plots_114 : decode cX10_plots 114 = .ok (.if_icmp .ge 188, 3) := dk_162 0 188 (dk_at dksX10_plots_4 21 rfl rfl)
theorem dX10_plots_117 : decode cX10_plots 117 = .ok (.iconst 0, 1) := dk_3 (dk_at dksX10_plots_5 0 rfl rfl)
theorem dX10_plots_118 : decode cX10_plots 118 = .ok (.istore 7, 2) := dk_54 7 (dk_at dksX10_plots_5 1 rfl rfl)
theorem dX10_plots_120 : decode cX10_plots 120 = .ok (.iload 7, 2) := dk_21 7 (dk_at dksX10_plots_5 3 rfl rfl)
theorem dX10_plots_122 : decode cX10_plots 122 = .ok (.aload_n 0, 1) := dk_42 (dk_at dksX10_plots_5 5 rfl rfl)
theorem dX10_plots_123 : decode cX10_plots 123 = .ok (.getfield 13, 3) := dk_180 0 13 (dk_at dksX10_plots_5 6 rfl rfl)
theorem dX10_plots_126 : decode cX10_plots 126 = .ok (.iconst 1, 1) := dk_4 (dk_at dksX10_plots_5 9 rfl rfl)
theorem dX10_plots_127 : decode cX10_plots 127 = .ok (.iaload, 1) := dk_46 (dk_at dksX10_plots_5 10 rfl rfl)
theorem dX10_plots_128 : decode cX10_plots 128 = .ok (.if_icmp .ge 168, 3) := dk_162 0 168 (dk_at dksX10_plots_5 11 rfl rfl)
theorem dX10_plots_131 : decode cX10_plots 131 = .ok (.iload 6, 2) := dk_21 6 (dk_at dksX10_plots_5 14 rfl rfl)
theorem dX10_plots_133 : decode cX10_plots 133 = .ok (.iload_n 1, 1) := dk_27 (dk_at dksX10_plots_5 16 rfl rfl)
theorem dX10_plots_134 : decode cX10_plots 134 = .ok (.if_icmp .eq 156, 3) := dk_159 0 156 (dk_at dksX10_plots_5 17 rfl rfl)
theorem dX10_plots_137 : decode cX10_plots 137 = .ok (.aload_n 0, 1) := dk_42 (dk_at dksX10_plots_5 20 rfl rfl)
theorem dX10_plots_138 : decode cX10_plots 138 = .ok (.iload_n 1, 1) := dk_27 (dk_at dksX10_plots_5 21 rfl rfl)
theorem dX10_plots_139 : decode cX10_plots 139 = .ok (.iload 6, 2) := dk_21 6 (dk_at dksX10_plots_5 22 rfl rfl)
theorem dX10_plots_141 : decode cX10_plots 141 = .ok (.iload 7, 2) := dk_21 7 (dk_at dksX10_plots_6 0 rfl rfl)
theorem dX10_plots_143 : decode cX10_plots 143 = .ok (.invokevirtual 464, 3) := dk_182 1 208 (dk_at dksX10_plots_6 2 rfl rfl)
theorem dX10_plots_146 : decode cX10_plots 146 = .ok (.ifCond .ne 6, 3) := dk_154 0 6 (dk_at dksX10_plots_6 5 rfl rfl)
theorem dX10_plots_149 : decode cX10_plots 149 = .ok (.goto 141, 3) := dk_167 0 141 (dk_at dksX10_plots_6 8 rfl rfl)
theorem dX10_plots_152 : decode cX10_plots 152 = .ok (.aload_n 0, 1) := dk_42 (dk_at dksX10_plots_6 11 rfl rfl)
theorem dX10_plots_153 : decode cX10_plots 153 = .ok (.getfield 129, 3) := dk_180 0 129 (dk_at dksX10_plots_6 12 rfl rfl)
theorem dX10_plots_156 : decode cX10_plots 156 = .ok (.bipush 76, 2) := dk_16 76 (dk_at dksX10_plots_6 15 rfl rfl)
theorem dX10_plots_158 : decode cX10_plots 158 = .ok (.iaload, 1) := dk_46 (dk_at dksX10_plots_6 17 rfl rfl)
theorem dX10_plots_159 : decode cX10_plots 159 = .ok (.istore 8, 2) := dk_54 8 (dk_at dksX10_plots_6 18 rfl rfl)
theorem dX10_plots_161 : decode cX10_plots 161 = .ok (.aload_n 0, 1) := dk_42 (dk_at dksX10_plots_6 20 rfl rfl)
theorem dX10_plots_162 : decode cX10_plots 162 = .ok (.getfield 129, 3) := dk_180 0 129 (dk_at dksX10_plots_6 21 rfl rfl)
theorem dX10_plots_165 : decode cX10_plots 165 = .ok (.bipush 10, 2) := dk_16 10 (dk_at dksX10_plots_7 0 rfl rfl)
theorem dX10_plots_167 : decode cX10_plots 167 = .ok (.bipush 10, 2) := dk_16 10 (dk_at dksX10_plots_7 2 rfl rfl)
theorem dX10_plots_169 : decode cX10_plots 169 = .ok (.iload_n 1, 1) := dk_27 (dk_at dksX10_plots_7 4 rfl rfl)
theorem dX10_plots_170 : decode cX10_plots 170 = .ok (.imul, 1) := dk_104 (dk_at dksX10_plots_7 5 rfl rfl)
theorem dX10_plots_171 : decode cX10_plots 171 = .ok (.iadd, 1) := dk_96 (dk_at dksX10_plots_7 6 rfl rfl)
theorem dX10_plots_172 : decode cX10_plots 172 = .ok (.iload 7, 2) := dk_21 7 (dk_at dksX10_plots_7 7 rfl rfl)
theorem dX10_plots_174 : decode cX10_plots 174 = .ok (.iadd, 1) := dk_96 (dk_at dksX10_plots_7 9 rfl rfl)
theorem dX10_plots_175 : decode cX10_plots 175 = .ok (.iaload, 1) := dk_46 (dk_at dksX10_plots_7 10 rfl rfl)
theorem dX10_plots_176 : decode cX10_plots 176 = .ok (.istore 9, 2) := dk_54 9 (dk_at dksX10_plots_7 11 rfl rfl)
theorem dX10_plots_178 : decode cX10_plots 178 = .ok (.aload_n 0, 1) := dk_42 (dk_at dksX10_plots_7 13 rfl rfl)
theorem dX10_plots_179 : decode cX10_plots 179 = .ok (.getfield 129, 3) := dk_180 0 129 (dk_at dksX10_plots_7 14 rfl rfl)
theorem dX10_plots_182 : decode cX10_plots 182 = .ok (.bipush 10, 2) := dk_16 10 (dk_at dksX10_plots_7 17 rfl rfl)
theorem dX10_plots_184 : decode cX10_plots 184 = .ok (.bipush 10, 2) := dk_16 10 (dk_at dksX10_plots_7 19 rfl rfl)
theorem dX10_plots_186 : decode cX10_plots 186 = .ok (.iload 6, 2) := dk_21 6 (dk_at dksX10_plots_7 21 rfl rfl)
theorem dX10_plots_188 : decode cX10_plots 188 = .ok (.imul, 1) := dk_104 (dk_at dksX10_plots_7 23 rfl rfl)
theorem dX10_plots_189 : decode cX10_plots 189 = .ok (.iadd, 1) := dk_96 (dk_at dksX10_plots_8 0 rfl rfl)
theorem dX10_plots_190 : decode cX10_plots 190 = .ok (.iload 7, 2) := dk_21 7 (dk_at dksX10_plots_8 1 rfl rfl)
theorem dX10_plots_192 : decode cX10_plots 192 = .ok (.iadd, 1) := dk_96 (dk_at dksX10_plots_8 3 rfl rfl)
theorem dX10_plots_193 : decode cX10_plots 193 = .ok (.iaload, 1) := dk_46 (dk_at dksX10_plots_8 4 rfl rfl)
theorem dX10_plots_194 : decode cX10_plots 194 = .ok (.istore 10, 2) := dk_54 10 (dk_at dksX10_plots_8 5 rfl rfl)
theorem dX10_plots_196 : decode cX10_plots 196 = .ok (.aload_n 0, 1) := dk_42 (dk_at dksX10_plots_8 7 rfl rfl)
theorem dX10_plots_197 : decode cX10_plots 197 = .ok (.getfield 151, 3) := dk_180 0 151 (dk_at dksX10_plots_8 8 rfl rfl)
theorem dX10_plots_200 : decode cX10_plots 200 = .ok (.iload_n 3, 1) := dk_29 (dk_at dksX10_plots_8 11 rfl rfl)
theorem dX10_plots_201 : decode cX10_plots 201 = .ok (.bipush 10, 2) := dk_16 10 (dk_at dksX10_plots_8 12 rfl rfl)
theorem dX10_plots_203 : decode cX10_plots 203 = .ok (.iload 6, 2) := dk_21 6 (dk_at dksX10_plots_8 14 rfl rfl)
theorem dX10_plots_205 : decode cX10_plots 205 = .ok (.imul, 1) := dk_104 (dk_at dksX10_plots_8 16 rfl rfl)
theorem dX10_plots_206 : decode cX10_plots 206 = .ok (.iload 7, 2) := dk_21 7 (dk_at dksX10_plots_8 17 rfl rfl)
theorem dX10_plots_208 : decode cX10_plots 208 = .ok (.iadd, 1) := dk_96 (dk_at dksX10_plots_8 19 rfl rfl)
theorem dX10_plots_209 : decode cX10_plots 209 = .ok (.iastore, 1) := dk_79 (dk_at dksX10_plots_8 20 rfl rfl)
theorem dX10_plots_210 : decode cX10_plots 210 = .ok (.aload_n 0, 1) := dk_42 (dk_at dksX10_plots_8 21 rfl rfl)
theorem dX10_plots_211 : decode cX10_plots 211 = .ok (.iload_n 1, 1) := dk_27 (dk_at dksX10_plots_8 22 rfl rfl)
theorem dX10_plots_212 : decode cX10_plots 212 = .ok (.iload 6, 2) := dk_21 6 (dk_at dksX10_plots_9 0 rfl rfl)
theorem dX10_plots_214 : decode cX10_plots 214 = .ok (.iload 7, 2) := dk_21 7 (dk_at dksX10_plots_9 2 rfl rfl)
theorem dX10_plots_216 : decode cX10_plots 216 = .ok (.invokevirtual 470, 3) := dk_182 1 214 (dk_at dksX10_plots_9 4 rfl rfl)
theorem dX10_plots_219 : decode cX10_plots 219 = .ok (.aload_n 0, 1) := dk_42 (dk_at dksX10_plots_9 7 rfl rfl)
theorem dX10_plots_220 : decode cX10_plots 220 = .ok (.iload_n 1, 1) := dk_27 (dk_at dksX10_plots_9 8 rfl rfl)
theorem dX10_plots_221 : decode cX10_plots 221 = .ok (.iload_n 2, 1) := dk_28 (dk_at dksX10_plots_9 9 rfl rfl)
theorem dX10_plots_222 : decode cX10_plots 222 = .ok (.iload_n 3, 1) := dk_29 (dk_at dksX10_plots_9 10 rfl rfl)
theorem dX10_plots_223 : decode cX10_plots 223 = .ok (.iconst 1, 1) := dk_4 (dk_at dksX10_plots_9 11 rfl rfl)
theorem dX10_plots_224 : decode cX10_plots 224 = .ok (.iadd, 1) := dk_96 (dk_at dksX10_plots_9 12 rfl rfl)
theorem dX10_plots_225 : decode cX10_plots 225 = .ok (.iload 4, 2) := dk_21 4 (dk_at dksX10_plots_9 13 rfl rfl)
theorem dX10_plots_227 : decode cX10_plots 227 = .ok (.invokevirtual 507, 3) := dk_182 1 251 (dk_at dksX10_plots_9 15 rfl rfl)
theorem dX10_plots_230 : decode cX10_plots 230 = .ok (.aload_n 0, 1) := dk_42 (dk_at dksX10_plots_9 18 rfl rfl)
theorem dX10_plots_231 : decode cX10_plots 231 = .ok (.getfield 129, 3) := dk_180 0 129 (dk_at dksX10_plots_9 19 rfl rfl)
theorem dX10_plots_234 : decode cX10_plots 234 = .ok (.bipush 76, 2) := dk_16 76 (dk_at dksX10_plots_9 22 rfl rfl)
theorem dX10_plots_236 : decode cX10_plots 236 = .ok (.iload 8, 2) := dk_21 8 (dk_at dksX10_plots_10 0 rfl rfl)
theorem dX10_plots_238 : decode cX10_plots 238 = .ok (.iastore, 1) := dk_79 (dk_at dksX10_plots_10 2 rfl rfl)
theorem dX10_plots_239 : decode cX10_plots 239 = .ok (.aload_n 0, 1) := dk_42 (dk_at dksX10_plots_10 3 rfl rfl)
theorem dX10_plots_240 : decode cX10_plots 240 = .ok (.getfield 129, 3) := dk_180 0 129 (dk_at dksX10_plots_10 4 rfl rfl)
theorem dX10_plots_243 : decode cX10_plots 243 = .ok (.bipush 10, 2) := dk_16 10 (dk_at dksX10_plots_10 7 rfl rfl)
theorem dX10_plots_245 : decode cX10_plots 245 = .ok (.bipush 10, 2) := dk_16 10 (dk_at dksX10_plots_10 9 rfl rfl)
theorem dX10_plots_247 : decode cX10_plots 247 = .ok (.iload_n 1, 1) := dk_27 (dk_at dksX10_plots_10 11 rfl rfl)
theorem dX10_plots_248 : decode cX10_plots 248 = .ok (.imul, 1) := dk_104 (dk_at dksX10_plots_10 12 rfl rfl)
theorem dX10_plots_249 : decode cX10_plots 249 = .ok (.iadd, 1) := dk_96 (dk_at dksX10_plots_10 13 rfl rfl)
theorem dX10_plots_250 : decode cX10_plots 250 = .ok (.iload 7, 2) := dk_21 7 (dk_at dksX10_plots_10 14 rfl rfl)
theorem dX10_plots_252 : decode cX10_plots 252 = .ok (.iadd, 1) := dk_96 (dk_at dksX10_plots_10 16 rfl rfl)
theorem dX10_plots_253 : decode cX10_plots 253 = .ok (.iload 9, 2) := dk_21 9 (dk_at dksX10_plots_10 17 rfl rfl)
theorem dX10_plots_255 : decode cX10_plots 255 = .ok (.iastore, 1) := dk_79 (dk_at dksX10_plots_10 19 rfl rfl)
theorem dX10_plots_256 : decode cX10_plots 256 = .ok (.aload_n 0, 1) := dk_42 (dk_at dksX10_plots_10 20 rfl rfl)
theorem dX10_plots_257 : decode cX10_plots 257 = .ok (.getfield 129, 3) := dk_180 0 129 (dk_at dksX10_plots_10 21 rfl rfl)
theorem dX10_plots_260 : decode cX10_plots 260 = .ok (.bipush 10, 2) := dk_16 10 (dk_at dksX10_plots_11 0 rfl rfl)
theorem dX10_plots_262 : decode cX10_plots 262 = .ok (.bipush 10, 2) := dk_16 10 (dk_at dksX10_plots_11 2 rfl rfl)
theorem dX10_plots_264 : decode cX10_plots 264 = .ok (.iload 6, 2) := dk_21 6 (dk_at dksX10_plots_11 4 rfl rfl)
theorem dX10_plots_266 : decode cX10_plots 266 = .ok (.imul, 1) := dk_104 (dk_at dksX10_plots_11 6 rfl rfl)
theorem dX10_plots_267 : decode cX10_plots 267 = .ok (.iadd, 1) := dk_96 (dk_at dksX10_plots_11 7 rfl rfl)
theorem dX10_plots_268 : decode cX10_plots 268 = .ok (.iload 7, 2) := dk_21 7 (dk_at dksX10_plots_11 8 rfl rfl)
theorem dX10_plots_270 : decode cX10_plots 270 = .ok (.iadd, 1) := dk_96 (dk_at dksX10_plots_11 10 rfl rfl)
theorem dX10_plots_271 : decode cX10_plots 271 = .ok (.iload 10, 2) := dk_21 10 (dk_at dksX10_plots_11 11 rfl rfl)
theorem dX10_plots_273 : decode cX10_plots 273 = .ok (.iastore, 1) := dk_79 (dk_at dksX10_plots_11 13 rfl rfl)
theorem dX10_plots_274 : decode cX10_plots 274 = .ok (.aload_n 0, 1) := dk_42 (dk_at dksX10_plots_11 14 rfl rfl)
theorem dX10_plots_275 : decode cX10_plots 275 = .ok (.getfield 129, 3) := dk_180 0 129 (dk_at dksX10_plots_11 15 rfl rfl)
theorem dX10_plots_278 : decode cX10_plots 278 = .ok (.iload 7, 2) := dk_21 7 (dk_at dksX10_plots_11 18 rfl rfl)
theorem dX10_plots_280 : decode cX10_plots 280 = .ok (.dup2, 1) := dk_92 (dk_at dksX10_plots_11 20 rfl rfl)
theorem dX10_plots_281 : decode cX10_plots 281 = .ok (.iaload, 1) := dk_46 (dk_at dksX10_plots_11 21 rfl rfl)
theorem dX10_plots_282 : decode cX10_plots 282 = .ok (.iconst 1, 1) := dk_4 (dk_at dksX10_plots_11 22 rfl rfl)
theorem dX10_plots_283 : decode cX10_plots 283 = .ok (.iload 6, 2) := dk_21 6 (dk_at dksX10_plots_12 0 rfl rfl)
theorem dX10_plots_285 : decode cX10_plots 285 = .ok (.ishl, 1) := dk_120 (dk_at dksX10_plots_12 2 rfl rfl)
theorem dX10_plots_286 : decode cX10_plots 286 = .ok (.iconst (-1), 1) := dk_2 (dk_at dksX10_plots_12 3 rfl rfl)
theorem dX10_plots_287 : decode cX10_plots 287 = .ok (.ixor, 1) := dk_130 (dk_at dksX10_plots_12 4 rfl rfl)
theorem dX10_plots_288 : decode cX10_plots 288 = .ok (.iand, 1) := dk_126 (dk_at dksX10_plots_12 5 rfl rfl)
theorem dX10_plots_289 : decode cX10_plots 289 = .ok (.iastore, 1) := dk_79 (dk_at dksX10_plots_12 6 rfl rfl)
theorem dX10_plots_290 : decode cX10_plots 290 = .ok (.iinc 7 1, 3) := dk_132 7 1 (dk_at dksX10_plots_12 7 rfl rfl)
theorem dX10_plots_293 : decode cX10_plots 293 = .ok (.goto (-173), 3) := dk_167 255 83 (dk_at dksX10_plots_12 10 rfl rfl)
theorem dX10_plots_296 : decode cX10_plots 296 = .ok (.iinc 6 1, 3) := dk_132 6 1 (dk_at dksX10_plots_12 13 rfl rfl)
theorem dX10_plots_299 : decode cX10_plots 299 = .ok (.goto (-193), 3) := dk_167 255 63 (dk_at dksX10_plots_12 16 rfl rfl)
theorem dX10_plots_302 : decode cX10_plots 302 = .ok (.return_, 1) := dk_177 (dk_at dksX10_plots_12 19 rfl rfl)
abbrev cX10_see : ByteArray := prog_36_method_89_code
def yX10_see : MethodName := ⟨RX10, "see", "(IZ)Z"⟩
def dkwX10_see_2 : List UInt8 := [28, 84, 42, 180, 0, 120, 3, 92, 46, 4, 96, 79, 4, 172]
abbrev dktX10_see_2 : List UInt8 := dkwX10_see_2 ++ []
def dkwX10_see_1 : List UInt8 := [3, 172, 42, 180, 0, 123, 42, 180, 0, 120, 3, 46, 27, 79, 42, 180, 0, 126, 42, 180, 0, 120, 3, 46]
abbrev dktX10_see_1 : List UInt8 := dkwX10_see_1 ++ dktX10_see_2
def dkwX10_see_0 : List UInt8 := [42, 3, 181, 0, 175, 42, 27, 182, 1, 189, 153, 0, 14, 42, 180, 0, 120, 3, 46, 16, 10, 160, 0, 5]
abbrev dktX10_see_0 : List UInt8 := dkwX10_see_0 ++ dktX10_see_1
theorem dksX10_see_0 : cX10_see.data.toList.drop 0 = dktX10_see_0 := by decide +kernel
theorem dksX10_see_1 : cX10_see.data.toList.drop 24 = dktX10_see_1 := dk_seg dksX10_see_0 24 rfl rfl
theorem dksX10_see_2 : cX10_see.data.toList.drop 48 = dktX10_see_2 := dk_seg dksX10_see_1 24 rfl rfl
theorem dX10_see_0 : decode cX10_see 0 = .ok (.aload_n 0, 1) := dk_42 (dk_at dksX10_see_0 0 rfl rfl)
theorem dX10_see_1 : decode cX10_see 1 = .ok (.iconst 0, 1) := dk_3 (dk_at dksX10_see_0 1 rfl rfl)
theorem dX10_see_2 : decode cX10_see 2 = .ok (.putfield 175, 3) := dk_181 0 175 (dk_at dksX10_see_0 2 rfl rfl)
theorem dX10_see_5 : decode cX10_see 5 = .ok (.aload_n 0, 1) := dk_42 (dk_at dksX10_see_0 5 rfl rfl)
theorem dX10_see_6 : decode cX10_see 6 = .ok (.iload_n 1, 1) := dk_27 (dk_at dksX10_see_0 6 rfl rfl)
theorem dX10_see_7 : decode cX10_see 7 = .ok (.invokevirtual 445, 3) := dk_182 1 189 (dk_at dksX10_see_0 7 rfl rfl)
theorem dX10_see_10 : decode cX10_see 10 = .ok (.ifCond .eq 14, 3) := dk_153 0 14 (dk_at dksX10_see_0 10 rfl rfl)
theorem dX10_see_13 : decode cX10_see 13 = .ok (.aload_n 0, 1) := dk_42 (dk_at dksX10_see_0 13 rfl rfl)
theorem dX10_see_14 : decode cX10_see 14 = .ok (.getfield 120, 3) := dk_180 0 120 (dk_at dksX10_see_0 14 rfl rfl)
theorem dX10_see_17 : decode cX10_see 17 = .ok (.iconst 0, 1) := dk_3 (dk_at dksX10_see_0 17 rfl rfl)
theorem dX10_see_18 : decode cX10_see 18 = .ok (.iaload, 1) := dk_46 (dk_at dksX10_see_0 18 rfl rfl)
theorem dX10_see_19 : decode cX10_see 19 = .ok (.bipush 10, 2) := dk_16 10 (dk_at dksX10_see_0 19 rfl rfl)
theorem dX10_see_21 : decode cX10_see 21 = .ok (.if_icmp .ne 5, 3) := dk_160 0 5 (dk_at dksX10_see_0 21 rfl rfl)
theorem dX10_see_24 : decode cX10_see 24 = .ok (.iconst 0, 1) := dk_3 (dk_at dksX10_see_1 0 rfl rfl)
theorem dX10_see_25 : decode cX10_see 25 = .ok (.ireturn, 1) := dk_172 (dk_at dksX10_see_1 1 rfl rfl)
theorem dX10_see_26 : decode cX10_see 26 = .ok (.aload_n 0, 1) := dk_42 (dk_at dksX10_see_1 2 rfl rfl)
theorem dX10_see_27 : decode cX10_see 27 = .ok (.getfield 123, 3) := dk_180 0 123 (dk_at dksX10_see_1 3 rfl rfl)
theorem dX10_see_30 : decode cX10_see 30 = .ok (.aload_n 0, 1) := dk_42 (dk_at dksX10_see_1 6 rfl rfl)
theorem dX10_see_31 : decode cX10_see 31 = .ok (.getfield 120, 3) := dk_180 0 120 (dk_at dksX10_see_1 7 rfl rfl)
theorem dX10_see_34 : decode cX10_see 34 = .ok (.iconst 0, 1) := dk_3 (dk_at dksX10_see_1 10 rfl rfl)
theorem dX10_see_35 : decode cX10_see 35 = .ok (.iaload, 1) := dk_46 (dk_at dksX10_see_1 11 rfl rfl)
theorem dX10_see_36 : decode cX10_see 36 = .ok (.iload_n 1, 1) := dk_27 (dk_at dksX10_see_1 12 rfl rfl)
theorem dX10_see_37 : decode cX10_see 37 = .ok (.iastore, 1) := dk_79 (dk_at dksX10_see_1 13 rfl rfl)
theorem dX10_see_38 : decode cX10_see 38 = .ok (.aload_n 0, 1) := dk_42 (dk_at dksX10_see_1 14 rfl rfl)
theorem dX10_see_39 : decode cX10_see 39 = .ok (.getfield 126, 3) := dk_180 0 126 (dk_at dksX10_see_1 15 rfl rfl)
theorem dX10_see_42 : decode cX10_see 42 = .ok (.aload_n 0, 1) := dk_42 (dk_at dksX10_see_1 18 rfl rfl)
theorem dX10_see_43 : decode cX10_see 43 = .ok (.getfield 120, 3) := dk_180 0 120 (dk_at dksX10_see_1 19 rfl rfl)
theorem dX10_see_46 : decode cX10_see 46 = .ok (.iconst 0, 1) := dk_3 (dk_at dksX10_see_1 22 rfl rfl)
theorem dX10_see_47 : decode cX10_see 47 = .ok (.iaload, 1) := dk_46 (dk_at dksX10_see_1 23 rfl rfl)
theorem dX10_see_48 : decode cX10_see 48 = .ok (.iload_n 2, 1) := dk_28 (dk_at dksX10_see_2 0 rfl rfl)
theorem dX10_see_49 : decode cX10_see 49 = .ok (.bastore, 1) := dk_84 (dk_at dksX10_see_2 1 rfl rfl)
theorem dX10_see_50 : decode cX10_see 50 = .ok (.aload_n 0, 1) := dk_42 (dk_at dksX10_see_2 2 rfl rfl)
theorem dX10_see_51 : decode cX10_see 51 = .ok (.getfield 120, 3) := dk_180 0 120 (dk_at dksX10_see_2 3 rfl rfl)
theorem dX10_see_54 : decode cX10_see 54 = .ok (.iconst 0, 1) := dk_3 (dk_at dksX10_see_2 6 rfl rfl)
theorem dX10_see_55 : decode cX10_see 55 = .ok (.dup2, 1) := dk_92 (dk_at dksX10_see_2 7 rfl rfl)
theorem dX10_see_56 : decode cX10_see 56 = .ok (.iaload, 1) := dk_46 (dk_at dksX10_see_2 8 rfl rfl)
theorem dX10_see_57 : decode cX10_see 57 = .ok (.iconst 1, 1) := dk_4 (dk_at dksX10_see_2 9 rfl rfl)
theorem dX10_see_58 : decode cX10_see 58 = .ok (.iadd, 1) := dk_96 (dk_at dksX10_see_2 10 rfl rfl)
theorem dX10_see_59 : decode cX10_see 59 = .ok (.iastore, 1) := dk_79 (dk_at dksX10_see_2 11 rfl rfl)
theorem dX10_see_60 : decode cX10_see 60 = .ok (.iconst 1, 1) := dk_4 (dk_at dksX10_see_2 12 rfl rfl)
theorem dX10_see_61 : decode cX10_see 61 = .ok (.ireturn, 1) := dk_172 (dk_at dksX10_see_2 13 rfl rfl)
abbrev cX10_leaks : ByteArray := prog_36_method_91_code
def yX10_leaks : MethodName := ⟨RX10, "leaks", "(I)I"⟩
def dkwX10_leaks_5 : List UInt8 := [160, 0, 7, 29, 167, 0, 15, 27, 5, 160, 0, 8, 21, 4, 167, 0, 5, 21, 5, 172]
abbrev dktX10_leaks_5 : List UInt8 := dkwX10_leaks_5 ++ []
def dkwX10_leaks_4 : List UInt8 := [132, 6, 1, 167, 255, 191, 27, 154, 0, 7, 28, 167, 0, 32, 28, 154, 0, 7, 2, 167, 0, 24, 27, 4]
abbrev dktX10_leaks_4 : List UInt8 := dkwX10_leaks_4 ++ dktX10_leaks_5
def dkwX10_leaks_3 : List UInt8 := [21, 5, 155, 0, 16, 21, 6, 184, 1, 236, 21, 5, 184, 1, 236, 162, 0, 7, 21, 6, 54, 5]
abbrev dktX10_leaks_3 : List UInt8 := dkwX10_leaks_3 ++ dktX10_leaks_4
def dkwX10_leaks_2 : List UInt8 := [182, 1, 255, 154, 0, 6, 167, 0, 40, 132, 2, 1, 29, 21, 6, 126, 62, 21, 4, 21, 6, 128, 54, 4]
abbrev dktX10_leaks_2 : List UInt8 := dkwX10_leaks_2 ++ dktX10_leaks_3
def dkwX10_leaks_1 : List UInt8 := [2, 54, 5, 3, 54, 6, 21, 6, 4, 42, 180, 0, 13, 3, 46, 120, 162, 0, 58, 42, 21, 6]
abbrev dktX10_leaks_1 : List UInt8 := dkwX10_leaks_1 ++ dktX10_leaks_2
def dkwX10_leaks_0 : List UInt8 := [42, 3, 181, 0, 175, 27, 3, 6, 184, 1, 52, 154, 0, 5, 2, 172, 3, 61, 16, 63, 62, 3, 54, 4]
abbrev dktX10_leaks_0 : List UInt8 := dkwX10_leaks_0 ++ dktX10_leaks_1
theorem dksX10_leaks_0 : cX10_leaks.data.toList.drop 0 = dktX10_leaks_0 := by decide +kernel
theorem dksX10_leaks_1 : cX10_leaks.data.toList.drop 24 = dktX10_leaks_1 := dk_seg dksX10_leaks_0 24 rfl rfl
theorem dksX10_leaks_2 : cX10_leaks.data.toList.drop 46 = dktX10_leaks_2 := dk_seg dksX10_leaks_1 22 rfl rfl
theorem dksX10_leaks_3 : cX10_leaks.data.toList.drop 70 = dktX10_leaks_3 := dk_seg dksX10_leaks_2 24 rfl rfl
theorem dksX10_leaks_4 : cX10_leaks.data.toList.drop 92 = dktX10_leaks_4 := dk_seg dksX10_leaks_3 22 rfl rfl
theorem dksX10_leaks_5 : cX10_leaks.data.toList.drop 116 = dktX10_leaks_5 := dk_seg dksX10_leaks_4 24 rfl rfl
theorem dX10_leaks_0 : decode cX10_leaks 0 = .ok (.aload_n 0, 1) := dk_42 (dk_at dksX10_leaks_0 0 rfl rfl)
theorem dX10_leaks_1 : decode cX10_leaks 1 = .ok (.iconst 0, 1) := dk_3 (dk_at dksX10_leaks_0 1 rfl rfl)
theorem dX10_leaks_2 : decode cX10_leaks 2 = .ok (.putfield 175, 3) := dk_181 0 175 (dk_at dksX10_leaks_0 2 rfl rfl)
theorem dX10_leaks_5 : decode cX10_leaks 5 = .ok (.iload_n 1, 1) := dk_27 (dk_at dksX10_leaks_0 5 rfl rfl)
theorem dX10_leaks_6 : decode cX10_leaks 6 = .ok (.iconst 0, 1) := dk_3 (dk_at dksX10_leaks_0 6 rfl rfl)
theorem dX10_leaks_7 : decode cX10_leaks 7 = .ok (.iconst 3, 1) := dk_6 (dk_at dksX10_leaks_0 7 rfl rfl)
theorem dX10_leaks_8 : decode cX10_leaks 8 = .ok (.invokestatic 308, 3) := dk_184 1 52 (dk_at dksX10_leaks_0 8 rfl rfl)
theorem dX10_leaks_11 : decode cX10_leaks 11 = .ok (.ifCond .ne 5, 3) := dk_154 0 5 (dk_at dksX10_leaks_0 11 rfl rfl)
theorem dX10_leaks_14 : decode cX10_leaks 14 = .ok (.iconst (-1), 1) := dk_2 (dk_at dksX10_leaks_0 14 rfl rfl)
theorem dX10_leaks_15 : decode cX10_leaks 15 = .ok (.ireturn, 1) := dk_172 (dk_at dksX10_leaks_0 15 rfl rfl)
theorem dX10_leaks_16 : decode cX10_leaks 16 = .ok (.iconst 0, 1) := dk_3 (dk_at dksX10_leaks_0 16 rfl rfl)
theorem dX10_leaks_17 : decode cX10_leaks 17 = .ok (.istore_n 2, 1) := dk_61 (dk_at dksX10_leaks_0 17 rfl rfl)
theorem dX10_leaks_18 : decode cX10_leaks 18 = .ok (.bipush 63, 2) := dk_16 63 (dk_at dksX10_leaks_0 18 rfl rfl)
theorem dX10_leaks_20 : decode cX10_leaks 20 = .ok (.istore_n 3, 1) := dk_62 (dk_at dksX10_leaks_0 20 rfl rfl)
theorem dX10_leaks_21 : decode cX10_leaks 21 = .ok (.iconst 0, 1) := dk_3 (dk_at dksX10_leaks_0 21 rfl rfl)
theorem dX10_leaks_22 : decode cX10_leaks 22 = .ok (.istore 4, 2) := dk_54 4 (dk_at dksX10_leaks_0 22 rfl rfl)
theorem dX10_leaks_24 : decode cX10_leaks 24 = .ok (.iconst (-1), 1) := dk_2 (dk_at dksX10_leaks_1 0 rfl rfl)
theorem dX10_leaks_25 : decode cX10_leaks 25 = .ok (.istore 5, 2) := dk_54 5 (dk_at dksX10_leaks_1 1 rfl rfl)
theorem dX10_leaks_27 : decode cX10_leaks 27 = .ok (.iconst 0, 1) := dk_3 (dk_at dksX10_leaks_1 3 rfl rfl)
theorem dX10_leaks_28 : decode cX10_leaks 28 = .ok (.istore 6, 2) := dk_54 6 (dk_at dksX10_leaks_1 4 rfl rfl)
theorem dX10_leaks_30 : decode cX10_leaks 30 = .ok (.iload 6, 2) := dk_21 6 (dk_at dksX10_leaks_1 6 rfl rfl)
theorem dX10_leaks_32 : decode cX10_leaks 32 = .ok (.iconst 1, 1) := dk_4 (dk_at dksX10_leaks_1 8 rfl rfl)
theorem dX10_leaks_33 : decode cX10_leaks 33 = .ok (.aload_n 0, 1) := dk_42 (dk_at dksX10_leaks_1 9 rfl rfl)
theorem dX10_leaks_34 : decode cX10_leaks 34 = .ok (.getfield 13, 3) := dk_180 0 13 (dk_at dksX10_leaks_1 10 rfl rfl)
theorem dX10_leaks_37 : decode cX10_leaks 37 = .ok (.iconst 0, 1) := dk_3 (dk_at dksX10_leaks_1 13 rfl rfl)
theorem dX10_leaks_38 : decode cX10_leaks 38 = .ok (.iaload, 1) := dk_46 (dk_at dksX10_leaks_1 14 rfl rfl)
theorem dX10_leaks_39 : decode cX10_leaks 39 = .ok (.ishl, 1) := dk_120 (dk_at dksX10_leaks_1 15 rfl rfl)
theorem dX10_leaks_40 : decode cX10_leaks 40 = .ok (.if_icmp .ge 58, 3) := dk_162 0 58 (dk_at dksX10_leaks_1 16 rfl rfl)
theorem dX10_leaks_43 : decode cX10_leaks 43 = .ok (.aload_n 0, 1) := dk_42 (dk_at dksX10_leaks_1 19 rfl rfl)
theorem dX10_leaks_44 : decode cX10_leaks 44 = .ok (.iload 6, 2) := dk_21 6 (dk_at dksX10_leaks_1 20 rfl rfl)
theorem dX10_leaks_46 : decode cX10_leaks 46 = .ok (.invokevirtual 511, 3) := dk_182 1 255 (dk_at dksX10_leaks_2 0 rfl rfl)
theorem dX10_leaks_49 : decode cX10_leaks 49 = .ok (.ifCond .ne 6, 3) := dk_154 0 6 (dk_at dksX10_leaks_2 3 rfl rfl)
theorem dX10_leaks_52 : decode cX10_leaks 52 = .ok (.goto 40, 3) := dk_167 0 40 (dk_at dksX10_leaks_2 6 rfl rfl)
theorem dX10_leaks_55 : decode cX10_leaks 55 = .ok (.iinc 2 1, 3) := dk_132 2 1 (dk_at dksX10_leaks_2 9 rfl rfl)
theorem dX10_leaks_58 : decode cX10_leaks 58 = .ok (.iload_n 3, 1) := dk_29 (dk_at dksX10_leaks_2 12 rfl rfl)
theorem dX10_leaks_59 : decode cX10_leaks 59 = .ok (.iload 6, 2) := dk_21 6 (dk_at dksX10_leaks_2 13 rfl rfl)
theorem dX10_leaks_61 : decode cX10_leaks 61 = .ok (.iand, 1) := dk_126 (dk_at dksX10_leaks_2 15 rfl rfl)
theorem dX10_leaks_62 : decode cX10_leaks 62 = .ok (.istore_n 3, 1) := dk_62 (dk_at dksX10_leaks_2 16 rfl rfl)
theorem dX10_leaks_63 : decode cX10_leaks 63 = .ok (.iload 4, 2) := dk_21 4 (dk_at dksX10_leaks_2 17 rfl rfl)
theorem dX10_leaks_65 : decode cX10_leaks 65 = .ok (.iload 6, 2) := dk_21 6 (dk_at dksX10_leaks_2 19 rfl rfl)
theorem dX10_leaks_67 : decode cX10_leaks 67 = .ok (.ior, 1) := dk_128 (dk_at dksX10_leaks_2 21 rfl rfl)
theorem dX10_leaks_68 : decode cX10_leaks 68 = .ok (.istore 4, 2) := dk_54 4 (dk_at dksX10_leaks_2 22 rfl rfl)
theorem dX10_leaks_70 : decode cX10_leaks 70 = .ok (.iload 5, 2) := dk_21 5 (dk_at dksX10_leaks_3 0 rfl rfl)
theorem dX10_leaks_72 : decode cX10_leaks 72 = .ok (.ifCond .lt 16, 3) := dk_155 0 16 (dk_at dksX10_leaks_3 2 rfl rfl)
theorem dX10_leaks_75 : decode cX10_leaks 75 = .ok (.iload 6, 2) := dk_21 6 (dk_at dksX10_leaks_3 5 rfl rfl)
theorem dX10_leaks_77 : decode cX10_leaks 77 = .ok (.invokestatic 492, 3) := dk_184 1 236 (dk_at dksX10_leaks_3 7 rfl rfl)
theorem dX10_leaks_80 : decode cX10_leaks 80 = .ok (.iload 5, 2) := dk_21 5 (dk_at dksX10_leaks_3 10 rfl rfl)
theorem dX10_leaks_82 : decode cX10_leaks 82 = .ok (.invokestatic 492, 3) := dk_184 1 236 (dk_at dksX10_leaks_3 12 rfl rfl)
theorem dX10_leaks_85 : decode cX10_leaks 85 = .ok (.if_icmp .ge 7, 3) := dk_162 0 7 (dk_at dksX10_leaks_3 15 rfl rfl)
theorem dX10_leaks_88 : decode cX10_leaks 88 = .ok (.iload 6, 2) := dk_21 6 (dk_at dksX10_leaks_3 18 rfl rfl)
theorem dX10_leaks_90 : decode cX10_leaks 90 = .ok (.istore 5, 2) := dk_54 5 (dk_at dksX10_leaks_3 20 rfl rfl)
theorem dX10_leaks_92 : decode cX10_leaks 92 = .ok (.iinc 6 1, 3) := dk_132 6 1 (dk_at dksX10_leaks_4 0 rfl rfl)
theorem dX10_leaks_95 : decode cX10_leaks 95 = .ok (.goto (-65), 3) := dk_167 255 191 (dk_at dksX10_leaks_4 3 rfl rfl)
theorem dX10_leaks_98 : decode cX10_leaks 98 = .ok (.iload_n 1, 1) := dk_27 (dk_at dksX10_leaks_4 6 rfl rfl)
theorem dX10_leaks_99 : decode cX10_leaks 99 = .ok (.ifCond .ne 7, 3) := dk_154 0 7 (dk_at dksX10_leaks_4 7 rfl rfl)
theorem dX10_leaks_102 : decode cX10_leaks 102 = .ok (.iload_n 2, 1) := dk_28 (dk_at dksX10_leaks_4 10 rfl rfl)
theorem dX10_leaks_103 : decode cX10_leaks 103 = .ok (.goto 32, 3) := dk_167 0 32 (dk_at dksX10_leaks_4 11 rfl rfl)
theorem dX10_leaks_106 : decode cX10_leaks 106 = .ok (.iload_n 2, 1) := dk_28 (dk_at dksX10_leaks_4 14 rfl rfl)
theorem dX10_leaks_107 : decode cX10_leaks 107 = .ok (.ifCond .ne 7, 3) := dk_154 0 7 (dk_at dksX10_leaks_4 15 rfl rfl)
theorem dX10_leaks_110 : decode cX10_leaks 110 = .ok (.iconst (-1), 1) := dk_2 (dk_at dksX10_leaks_4 18 rfl rfl)
theorem dX10_leaks_111 : decode cX10_leaks 111 = .ok (.goto 24, 3) := dk_167 0 24 (dk_at dksX10_leaks_4 19 rfl rfl)
theorem dX10_leaks_114 : decode cX10_leaks 114 = .ok (.iload_n 1, 1) := dk_27 (dk_at dksX10_leaks_4 22 rfl rfl)
theorem dX10_leaks_115 : decode cX10_leaks 115 = .ok (.iconst 1, 1) := dk_4 (dk_at dksX10_leaks_4 23 rfl rfl)
theorem dX10_leaks_116 : decode cX10_leaks 116 = .ok (.if_icmp .ne 7, 3) := dk_160 0 7 (dk_at dksX10_leaks_5 0 rfl rfl)
theorem dX10_leaks_119 : decode cX10_leaks 119 = .ok (.iload_n 3, 1) := dk_29 (dk_at dksX10_leaks_5 3 rfl rfl)
theorem dX10_leaks_120 : decode cX10_leaks 120 = .ok (.goto 15, 3) := dk_167 0 15 (dk_at dksX10_leaks_5 4 rfl rfl)
theorem dX10_leaks_123 : decode cX10_leaks 123 = .ok (.iload_n 1, 1) := dk_27 (dk_at dksX10_leaks_5 7 rfl rfl)
theorem dX10_leaks_124 : decode cX10_leaks 124 = .ok (.iconst 2, 1) := dk_5 (dk_at dksX10_leaks_5 8 rfl rfl)
theorem dX10_leaks_125 : decode cX10_leaks 125 = .ok (.if_icmp .ne 8, 3) := dk_160 0 8 (dk_at dksX10_leaks_5 9 rfl rfl)
theorem dX10_leaks_128 : decode cX10_leaks 128 = .ok (.iload 4, 2) := dk_21 4 (dk_at dksX10_leaks_5 12 rfl rfl)
theorem dX10_leaks_130 : decode cX10_leaks 130 = .ok (.goto 5, 3) := dk_167 0 5 (dk_at dksX10_leaks_5 14 rfl rfl)
theorem dX10_leaks_133 : decode cX10_leaks 133 = .ok (.iload 5, 2) := dk_21 5 (dk_at dksX10_leaks_5 17 rfl rfl)
theorem dX10_leaks_135 : decode cX10_leaks 135 = .ok (.ireturn, 1) := dk_172 (dk_at dksX10_leaks_5 19 rfl rfl)
abbrev cX10_isAsSeen : ByteArray := prog_36_method_90_code
def yX10_isAsSeen : MethodName := ⟨RX10, "isAsSeen", "(I)Z"⟩
def dkwX10_isAsSeen_2 : List UInt8 := [167, 255, 211, 4, 172]
abbrev dktX10_isAsSeen_2 : List UInt8 := dkwX10_isAsSeen_2 ++ []
def dkwX10_isAsSeen_1 : List UInt8 := [126, 153, 0, 7, 4, 167, 0, 4, 3, 42, 180, 0, 126, 28, 51, 159, 0, 5, 3, 172, 132, 2, 1]
abbrev dktX10_isAsSeen_1 : List UInt8 := dkwX10_isAsSeen_1 ++ dktX10_isAsSeen_2
def dkwX10_isAsSeen_0 : List UInt8 := [3, 61, 28, 42, 180, 0, 120, 3, 46, 162, 0, 41, 42, 180, 0, 129, 42, 180, 0, 123, 28, 46, 46, 27]
abbrev dktX10_isAsSeen_0 : List UInt8 := dkwX10_isAsSeen_0 ++ dktX10_isAsSeen_1
theorem dksX10_isAsSeen_0 : cX10_isAsSeen.data.toList.drop 0 = dktX10_isAsSeen_0 := by decide +kernel
theorem dksX10_isAsSeen_1 : cX10_isAsSeen.data.toList.drop 24 = dktX10_isAsSeen_1 := dk_seg dksX10_isAsSeen_0 24 rfl rfl
theorem dksX10_isAsSeen_2 : cX10_isAsSeen.data.toList.drop 47 = dktX10_isAsSeen_2 := dk_seg dksX10_isAsSeen_1 23 rfl rfl
theorem dX10_isAsSeen_0 : decode cX10_isAsSeen 0 = .ok (.iconst 0, 1) := dk_3 (dk_at dksX10_isAsSeen_0 0 rfl rfl)
theorem dX10_isAsSeen_1 : decode cX10_isAsSeen 1 = .ok (.istore_n 2, 1) := dk_61 (dk_at dksX10_isAsSeen_0 1 rfl rfl)
theorem dX10_isAsSeen_2 : decode cX10_isAsSeen 2 = .ok (.iload_n 2, 1) := dk_28 (dk_at dksX10_isAsSeen_0 2 rfl rfl)
theorem dX10_isAsSeen_3 : decode cX10_isAsSeen 3 = .ok (.aload_n 0, 1) := dk_42 (dk_at dksX10_isAsSeen_0 3 rfl rfl)
theorem dX10_isAsSeen_4 : decode cX10_isAsSeen 4 = .ok (.getfield 120, 3) := dk_180 0 120 (dk_at dksX10_isAsSeen_0 4 rfl rfl)
theorem dX10_isAsSeen_7 : decode cX10_isAsSeen 7 = .ok (.iconst 0, 1) := dk_3 (dk_at dksX10_isAsSeen_0 7 rfl rfl)
theorem dX10_isAsSeen_8 : decode cX10_isAsSeen 8 = .ok (.iaload, 1) := dk_46 (dk_at dksX10_isAsSeen_0 8 rfl rfl)
theorem dX10_isAsSeen_9 : decode cX10_isAsSeen 9 = .ok (.if_icmp .ge 41, 3) := dk_162 0 41 (dk_at dksX10_isAsSeen_0 9 rfl rfl)
theorem dX10_isAsSeen_12 : decode cX10_isAsSeen 12 = .ok (.aload_n 0, 1) := dk_42 (dk_at dksX10_isAsSeen_0 12 rfl rfl)
theorem dX10_isAsSeen_13 : decode cX10_isAsSeen 13 = .ok (.getfield 129, 3) := dk_180 0 129 (dk_at dksX10_isAsSeen_0 13 rfl rfl)
theorem dX10_isAsSeen_16 : decode cX10_isAsSeen 16 = .ok (.aload_n 0, 1) := dk_42 (dk_at dksX10_isAsSeen_0 16 rfl rfl)
theorem dX10_isAsSeen_17 : decode cX10_isAsSeen 17 = .ok (.getfield 123, 3) := dk_180 0 123 (dk_at dksX10_isAsSeen_0 17 rfl rfl)
theorem dX10_isAsSeen_20 : decode cX10_isAsSeen 20 = .ok (.iload_n 2, 1) := dk_28 (dk_at dksX10_isAsSeen_0 20 rfl rfl)
theorem dX10_isAsSeen_21 : decode cX10_isAsSeen 21 = .ok (.iaload, 1) := dk_46 (dk_at dksX10_isAsSeen_0 21 rfl rfl)
theorem dX10_isAsSeen_22 : decode cX10_isAsSeen 22 = .ok (.iaload, 1) := dk_46 (dk_at dksX10_isAsSeen_0 22 rfl rfl)
theorem dX10_isAsSeen_23 : decode cX10_isAsSeen 23 = .ok (.iload_n 1, 1) := dk_27 (dk_at dksX10_isAsSeen_0 23 rfl rfl)
theorem dX10_isAsSeen_24 : decode cX10_isAsSeen 24 = .ok (.iand, 1) := dk_126 (dk_at dksX10_isAsSeen_1 0 rfl rfl)
theorem dX10_isAsSeen_25 : decode cX10_isAsSeen 25 = .ok (.ifCond .eq 7, 3) := dk_153 0 7 (dk_at dksX10_isAsSeen_1 1 rfl rfl)
theorem dX10_isAsSeen_28 : decode cX10_isAsSeen 28 = .ok (.iconst 1, 1) := dk_4 (dk_at dksX10_isAsSeen_1 4 rfl rfl)
theorem dX10_isAsSeen_29 : decode cX10_isAsSeen 29 = .ok (.goto 4, 3) := dk_167 0 4 (dk_at dksX10_isAsSeen_1 5 rfl rfl)
theorem dX10_isAsSeen_32 : decode cX10_isAsSeen 32 = .ok (.iconst 0, 1) := dk_3 (dk_at dksX10_isAsSeen_1 8 rfl rfl)
theorem dX10_isAsSeen_33 : decode cX10_isAsSeen 33 = .ok (.aload_n 0, 1) := dk_42 (dk_at dksX10_isAsSeen_1 9 rfl rfl)
theorem dX10_isAsSeen_34 : decode cX10_isAsSeen 34 = .ok (.getfield 126, 3) := dk_180 0 126 (dk_at dksX10_isAsSeen_1 10 rfl rfl)
theorem dX10_isAsSeen_37 : decode cX10_isAsSeen 37 = .ok (.iload_n 2, 1) := dk_28 (dk_at dksX10_isAsSeen_1 13 rfl rfl)
theorem dX10_isAsSeen_38 : decode cX10_isAsSeen 38 = .ok (.baload, 1) := dk_51 (dk_at dksX10_isAsSeen_1 14 rfl rfl)
theorem dX10_isAsSeen_39 : decode cX10_isAsSeen 39 = .ok (.if_icmp .eq 5, 3) := dk_159 0 5 (dk_at dksX10_isAsSeen_1 15 rfl rfl)
theorem dX10_isAsSeen_42 : decode cX10_isAsSeen 42 = .ok (.iconst 0, 1) := dk_3 (dk_at dksX10_isAsSeen_1 18 rfl rfl)
theorem dX10_isAsSeen_43 : decode cX10_isAsSeen 43 = .ok (.ireturn, 1) := dk_172 (dk_at dksX10_isAsSeen_1 19 rfl rfl)
theorem dX10_isAsSeen_44 : decode cX10_isAsSeen 44 = .ok (.iinc 2 1, 3) := dk_132 2 1 (dk_at dksX10_isAsSeen_1 20 rfl rfl)
theorem dX10_isAsSeen_47 : decode cX10_isAsSeen 47 = .ok (.goto (-45), 3) := dk_167 255 211 (dk_at dksX10_isAsSeen_2 0 rfl rfl)
theorem dX10_isAsSeen_50 : decode cX10_isAsSeen 50 = .ok (.iconst 1, 1) := dk_4 (dk_at dksX10_isAsSeen_2 3 rfl rfl)
theorem dX10_isAsSeen_51 : decode cX10_isAsSeen 51 = .ok (.ireturn, 1) := dk_172 (dk_at dksX10_isAsSeen_2 4 rfl rfl)
abbrev cX10_lies : ByteArray := prog_36_method_93_code
def yX10_lies : MethodName := ⟨RX10, "lies", "(I)I"⟩
def dkwX10_lies_6 : List UInt8 := [21, 4, 172]
abbrev dktX10_lies_6 : List UInt8 := dkwX10_lies_6 ++ []
def dkwX10_lies_5 : List UInt8 := [184, 1, 236, 167, 0, 23, 27, 4, 160, 0, 7, 28, 167, 0, 14, 27, 5, 160, 0, 7, 29, 167, 0, 5]
abbrev dktX10_lies_5 : List UInt8 := dkwX10_lies_5 ++ dktX10_lies_6
def dkwX10_lies_4 : List UInt8 := [54, 4, 132, 3, 1, 21, 4, 21, 5, 126, 54, 4, 132, 5, 1, 167, 255, 172, 27, 154, 0, 10, 28]
abbrev dktX10_lies_4 : List UInt8 := dkwX10_lies_4 ++ dktX10_lies_5
def dkwX10_lies_3 : List UInt8 := [155, 0, 15, 21, 5, 184, 1, 236, 28, 184, 1, 236, 162, 0, 14, 21, 5, 61, 3, 62, 42, 182, 1, 233]
abbrev dktX10_lies_3 : List UInt8 := dkwX10_lies_3 ++ dktX10_lies_4
def dkwX10_lies_2 : List UInt8 := [163, 0, 59, 42, 42, 182, 1, 233, 21, 5, 2, 130, 126, 182, 2, 2, 153, 0, 6, 167, 0, 40, 28]
abbrev dktX10_lies_2 : List UInt8 := dkwX10_lies_2 ++ dktX10_lies_3
def dkwX10_lies_1 : List UInt8 := [54, 5, 21, 5, 42, 182, 1, 233, 163, 0, 81, 28, 155, 0, 15, 21, 5, 184, 1, 236, 28, 184, 1, 236]
abbrev dktX10_lies_1 : List UInt8 := dkwX10_lies_1 ++ dktX10_lies_2
def dkwX10_lies_0 : List UInt8 := [42, 3, 181, 0, 175, 27, 3, 6, 184, 1, 52, 154, 0, 5, 2, 172, 2, 61, 3, 62, 3, 54, 4, 3]
abbrev dktX10_lies_0 : List UInt8 := dkwX10_lies_0 ++ dktX10_lies_1
theorem dksX10_lies_0 : cX10_lies.data.toList.drop 0 = dktX10_lies_0 := by decide +kernel
theorem dksX10_lies_1 : cX10_lies.data.toList.drop 24 = dktX10_lies_1 := dk_seg dksX10_lies_0 24 rfl rfl
theorem dksX10_lies_2 : cX10_lies.data.toList.drop 48 = dktX10_lies_2 := dk_seg dksX10_lies_1 24 rfl rfl
theorem dksX10_lies_3 : cX10_lies.data.toList.drop 71 = dktX10_lies_3 := dk_seg dksX10_lies_2 23 rfl rfl
theorem dksX10_lies_4 : cX10_lies.data.toList.drop 95 = dktX10_lies_4 := dk_seg dksX10_lies_3 24 rfl rfl
theorem dksX10_lies_5 : cX10_lies.data.toList.drop 118 = dktX10_lies_5 := dk_seg dksX10_lies_4 23 rfl rfl
theorem dksX10_lies_6 : cX10_lies.data.toList.drop 142 = dktX10_lies_6 := dk_seg dksX10_lies_5 24 rfl rfl
theorem dX10_lies_0 : decode cX10_lies 0 = .ok (.aload_n 0, 1) := dk_42 (dk_at dksX10_lies_0 0 rfl rfl)
theorem dX10_lies_1 : decode cX10_lies 1 = .ok (.iconst 0, 1) := dk_3 (dk_at dksX10_lies_0 1 rfl rfl)
theorem dX10_lies_2 : decode cX10_lies 2 = .ok (.putfield 175, 3) := dk_181 0 175 (dk_at dksX10_lies_0 2 rfl rfl)
theorem dX10_lies_5 : decode cX10_lies 5 = .ok (.iload_n 1, 1) := dk_27 (dk_at dksX10_lies_0 5 rfl rfl)
theorem dX10_lies_6 : decode cX10_lies 6 = .ok (.iconst 0, 1) := dk_3 (dk_at dksX10_lies_0 6 rfl rfl)
theorem dX10_lies_7 : decode cX10_lies 7 = .ok (.iconst 3, 1) := dk_6 (dk_at dksX10_lies_0 7 rfl rfl)
theorem dX10_lies_8 : decode cX10_lies 8 = .ok (.invokestatic 308, 3) := dk_184 1 52 (dk_at dksX10_lies_0 8 rfl rfl)
theorem dX10_lies_11 : decode cX10_lies 11 = .ok (.ifCond .ne 5, 3) := dk_154 0 5 (dk_at dksX10_lies_0 11 rfl rfl)
theorem dX10_lies_14 : decode cX10_lies 14 = .ok (.iconst (-1), 1) := dk_2 (dk_at dksX10_lies_0 14 rfl rfl)
theorem dX10_lies_15 : decode cX10_lies 15 = .ok (.ireturn, 1) := dk_172 (dk_at dksX10_lies_0 15 rfl rfl)
theorem dX10_lies_16 : decode cX10_lies 16 = .ok (.iconst (-1), 1) := dk_2 (dk_at dksX10_lies_0 16 rfl rfl)
theorem dX10_lies_17 : decode cX10_lies 17 = .ok (.istore_n 2, 1) := dk_61 (dk_at dksX10_lies_0 17 rfl rfl)
theorem dX10_lies_18 : decode cX10_lies 18 = .ok (.iconst 0, 1) := dk_3 (dk_at dksX10_lies_0 18 rfl rfl)
theorem dX10_lies_19 : decode cX10_lies 19 = .ok (.istore_n 3, 1) := dk_62 (dk_at dksX10_lies_0 19 rfl rfl)
theorem dX10_lies_20 : decode cX10_lies 20 = .ok (.iconst 0, 1) := dk_3 (dk_at dksX10_lies_0 20 rfl rfl)
theorem dX10_lies_21 : decode cX10_lies 21 = .ok (.istore 4, 2) := dk_54 4 (dk_at dksX10_lies_0 21 rfl rfl)
theorem dX10_lies_23 : decode cX10_lies 23 = .ok (.iconst 0, 1) := dk_3 (dk_at dksX10_lies_0 23 rfl rfl)
theorem dX10_lies_24 : decode cX10_lies 24 = .ok (.istore 5, 2) := dk_54 5 (dk_at dksX10_lies_1 0 rfl rfl)
theorem dX10_lies_26 : decode cX10_lies 26 = .ok (.iload 5, 2) := dk_21 5 (dk_at dksX10_lies_1 2 rfl rfl)
theorem dX10_lies_28 : decode cX10_lies 28 = .ok (.aload_n 0, 1) := dk_42 (dk_at dksX10_lies_1 4 rfl rfl)
theorem dX10_lies_29 : decode cX10_lies 29 = .ok (.invokevirtual 489, 3) := dk_182 1 233 (dk_at dksX10_lies_1 5 rfl rfl)
theorem dX10_lies_32 : decode cX10_lies 32 = .ok (.if_icmp .gt 81, 3) := dk_163 0 81 (dk_at dksX10_lies_1 8 rfl rfl)
theorem dX10_lies_35 : decode cX10_lies 35 = .ok (.iload_n 2, 1) := dk_28 (dk_at dksX10_lies_1 11 rfl rfl)
theorem dX10_lies_36 : decode cX10_lies 36 = .ok (.ifCond .lt 15, 3) := dk_155 0 15 (dk_at dksX10_lies_1 12 rfl rfl)
theorem dX10_lies_39 : decode cX10_lies 39 = .ok (.iload 5, 2) := dk_21 5 (dk_at dksX10_lies_1 15 rfl rfl)
theorem dX10_lies_41 : decode cX10_lies 41 = .ok (.invokestatic 492, 3) := dk_184 1 236 (dk_at dksX10_lies_1 17 rfl rfl)
theorem dX10_lies_44 : decode cX10_lies 44 = .ok (.iload_n 2, 1) := dk_28 (dk_at dksX10_lies_1 20 rfl rfl)
theorem dX10_lies_45 : decode cX10_lies 45 = .ok (.invokestatic 492, 3) := dk_184 1 236 (dk_at dksX10_lies_1 21 rfl rfl)
theorem dX10_lies_48 : decode cX10_lies 48 = .ok (.if_icmp .gt 59, 3) := dk_163 0 59 (dk_at dksX10_lies_2 0 rfl rfl)
theorem dX10_lies_51 : decode cX10_lies 51 = .ok (.aload_n 0, 1) := dk_42 (dk_at dksX10_lies_2 3 rfl rfl)
theorem dX10_lies_52 : decode cX10_lies 52 = .ok (.aload_n 0, 1) := dk_42 (dk_at dksX10_lies_2 4 rfl rfl)
theorem dX10_lies_53 : decode cX10_lies 53 = .ok (.invokevirtual 489, 3) := dk_182 1 233 (dk_at dksX10_lies_2 5 rfl rfl)
theorem dX10_lies_56 : decode cX10_lies 56 = .ok (.iload 5, 2) := dk_21 5 (dk_at dksX10_lies_2 8 rfl rfl)
theorem dX10_lies_58 : decode cX10_lies 58 = .ok (.iconst (-1), 1) := dk_2 (dk_at dksX10_lies_2 10 rfl rfl)
theorem dX10_lies_59 : decode cX10_lies 59 = .ok (.ixor, 1) := dk_130 (dk_at dksX10_lies_2 11 rfl rfl)
theorem dX10_lies_60 : decode cX10_lies 60 = .ok (.iand, 1) := dk_126 (dk_at dksX10_lies_2 12 rfl rfl)
theorem dX10_lies_61 : decode cX10_lies 61 = .ok (.invokevirtual 514, 3) := dk_182 2 2 (dk_at dksX10_lies_2 13 rfl rfl)
theorem dX10_lies_64 : decode cX10_lies 64 = .ok (.ifCond .eq 6, 3) := dk_153 0 6 (dk_at dksX10_lies_2 16 rfl rfl)
theorem dX10_lies_67 : decode cX10_lies 67 = .ok (.goto 40, 3) := dk_167 0 40 (dk_at dksX10_lies_2 19 rfl rfl)
theorem dX10_lies_70 : decode cX10_lies 70 = .ok (.iload_n 2, 1) := dk_28 (dk_at dksX10_lies_2 22 rfl rfl)
theorem dX10_lies_71 : decode cX10_lies 71 = .ok (.ifCond .lt 15, 3) := dk_155 0 15 (dk_at dksX10_lies_3 0 rfl rfl)
theorem dX10_lies_74 : decode cX10_lies 74 = .ok (.iload 5, 2) := dk_21 5 (dk_at dksX10_lies_3 3 rfl rfl)
theorem dX10_lies_76 : decode cX10_lies 76 = .ok (.invokestatic 492, 3) := dk_184 1 236 (dk_at dksX10_lies_3 5 rfl rfl)
theorem dX10_lies_79 : decode cX10_lies 79 = .ok (.iload_n 2, 1) := dk_28 (dk_at dksX10_lies_3 8 rfl rfl)
theorem dX10_lies_80 : decode cX10_lies 80 = .ok (.invokestatic 492, 3) := dk_184 1 236 (dk_at dksX10_lies_3 9 rfl rfl)
theorem dX10_lies_83 : decode cX10_lies 83 = .ok (.if_icmp .ge 14, 3) := dk_162 0 14 (dk_at dksX10_lies_3 12 rfl rfl)
theorem dX10_lies_86 : decode cX10_lies 86 = .ok (.iload 5, 2) := dk_21 5 (dk_at dksX10_lies_3 15 rfl rfl)
theorem dX10_lies_88 : decode cX10_lies 88 = .ok (.istore_n 2, 1) := dk_61 (dk_at dksX10_lies_3 17 rfl rfl)
theorem dX10_lies_89 : decode cX10_lies 89 = .ok (.iconst 0, 1) := dk_3 (dk_at dksX10_lies_3 18 rfl rfl)
theorem dX10_lies_90 : decode cX10_lies 90 = .ok (.istore_n 3, 1) := dk_62 (dk_at dksX10_lies_3 19 rfl rfl)
theorem dX10_lies_91 : decode cX10_lies 91 = .ok (.aload_n 0, 1) := dk_42 (dk_at dksX10_lies_3 20 rfl rfl)
theorem dX10_lies_92 : decode cX10_lies 92 = .ok (.invokevirtual 489, 3) := dk_182 1 233 (dk_at dksX10_lies_3 21 rfl rfl)
theorem dX10_lies_95 : decode cX10_lies 95 = .ok (.istore 4, 2) := dk_54 4 (dk_at dksX10_lies_4 0 rfl rfl)
theorem dX10_lies_97 : decode cX10_lies 97 = .ok (.iinc 3 1, 3) := dk_132 3 1 (dk_at dksX10_lies_4 2 rfl rfl)
theorem dX10_lies_100 : decode cX10_lies 100 = .ok (.iload 4, 2) := dk_21 4 (dk_at dksX10_lies_4 5 rfl rfl)
theorem dX10_lies_102 : decode cX10_lies 102 = .ok (.iload 5, 2) := dk_21 5 (dk_at dksX10_lies_4 7 rfl rfl)
theorem dX10_lies_104 : decode cX10_lies 104 = .ok (.iand, 1) := dk_126 (dk_at dksX10_lies_4 9 rfl rfl)
theorem dX10_lies_105 : decode cX10_lies 105 = .ok (.istore 4, 2) := dk_54 4 (dk_at dksX10_lies_4 10 rfl rfl)
theorem dX10_lies_107 : decode cX10_lies 107 = .ok (.iinc 5 1, 3) := dk_132 5 1 (dk_at dksX10_lies_4 12 rfl rfl)
theorem dX10_lies_110 : decode cX10_lies 110 = .ok (.goto (-84), 3) := dk_167 255 172 (dk_at dksX10_lies_4 15 rfl rfl)
theorem dX10_lies_113 : decode cX10_lies 113 = .ok (.iload_n 1, 1) := dk_27 (dk_at dksX10_lies_4 18 rfl rfl)
theorem dX10_lies_114 : decode cX10_lies 114 = .ok (.ifCond .ne 10, 3) := dk_154 0 10 (dk_at dksX10_lies_4 19 rfl rfl)
theorem dX10_lies_117 : decode cX10_lies 117 = .ok (.iload_n 2, 1) := dk_28 (dk_at dksX10_lies_4 22 rfl rfl)
theorem dX10_lies_118 : decode cX10_lies 118 = .ok (.invokestatic 492, 3) := dk_184 1 236 (dk_at dksX10_lies_5 0 rfl rfl)
theorem dX10_lies_121 : decode cX10_lies 121 = .ok (.goto 23, 3) := dk_167 0 23 (dk_at dksX10_lies_5 3 rfl rfl)
theorem dX10_lies_124 : decode cX10_lies 124 = .ok (.iload_n 1, 1) := dk_27 (dk_at dksX10_lies_5 6 rfl rfl)
theorem dX10_lies_125 : decode cX10_lies 125 = .ok (.iconst 1, 1) := dk_4 (dk_at dksX10_lies_5 7 rfl rfl)
theorem dX10_lies_126 : decode cX10_lies 126 = .ok (.if_icmp .ne 7, 3) := dk_160 0 7 (dk_at dksX10_lies_5 8 rfl rfl)
theorem dX10_lies_129 : decode cX10_lies 129 = .ok (.iload_n 2, 1) := dk_28 (dk_at dksX10_lies_5 11 rfl rfl)
theorem dX10_lies_130 : decode cX10_lies 130 = .ok (.goto 14, 3) := dk_167 0 14 (dk_at dksX10_lies_5 12 rfl rfl)
theorem dX10_lies_133 : decode cX10_lies 133 = .ok (.iload_n 1, 1) := dk_27 (dk_at dksX10_lies_5 15 rfl rfl)
theorem dX10_lies_134 : decode cX10_lies 134 = .ok (.iconst 2, 1) := dk_5 (dk_at dksX10_lies_5 16 rfl rfl)
theorem dX10_lies_135 : decode cX10_lies 135 = .ok (.if_icmp .ne 7, 3) := dk_160 0 7 (dk_at dksX10_lies_5 17 rfl rfl)
theorem dX10_lies_138 : decode cX10_lies 138 = .ok (.iload_n 3, 1) := dk_29 (dk_at dksX10_lies_5 20 rfl rfl)
theorem dX10_lies_139 : decode cX10_lies 139 = .ok (.goto 5, 3) := dk_167 0 5 (dk_at dksX10_lies_5 21 rfl rfl)
theorem dX10_lies_142 : decode cX10_lies 142 = .ok (.iload 4, 2) := dk_21 4 (dk_at dksX10_lies_6 0 rfl rfl)
theorem dX10_lies_144 : decode cX10_lies 144 = .ok (.ireturn, 1) := dk_172 (dk_at dksX10_lies_6 2 rfl rfl)
abbrev cX10_isClashing : ByteArray := prog_36_method_92_code
def yX10_isClashing : MethodName := ⟨RX10, "isClashing", "(I)Z"⟩
def dkwX10_isClashing_1 : List UInt8 := [180, 0, 47, 28, 46, 27, 126, 153, 0, 5, 4, 172, 132, 2, 1, 167, 255, 221, 3, 172]
abbrev dktX10_isClashing_1 : List UInt8 := dkwX10_isClashing_1 ++ []
def dkwX10_isClashing_0 : List UInt8 := [3, 61, 28, 42, 180, 0, 13, 4, 46, 162, 0, 31, 27, 28, 122, 4, 126, 4, 160, 0, 16, 42]
abbrev dktX10_isClashing_0 : List UInt8 := dkwX10_isClashing_0 ++ dktX10_isClashing_1
theorem dksX10_isClashing_0 : cX10_isClashing.data.toList.drop 0 = dktX10_isClashing_0 := by decide +kernel
theorem dksX10_isClashing_1 : cX10_isClashing.data.toList.drop 22 = dktX10_isClashing_1 := dk_seg dksX10_isClashing_0 22 rfl rfl
theorem dX10_isClashing_0 : decode cX10_isClashing 0 = .ok (.iconst 0, 1) := dk_3 (dk_at dksX10_isClashing_0 0 rfl rfl)
theorem dX10_isClashing_1 : decode cX10_isClashing 1 = .ok (.istore_n 2, 1) := dk_61 (dk_at dksX10_isClashing_0 1 rfl rfl)
theorem dX10_isClashing_2 : decode cX10_isClashing 2 = .ok (.iload_n 2, 1) := dk_28 (dk_at dksX10_isClashing_0 2 rfl rfl)
theorem dX10_isClashing_3 : decode cX10_isClashing 3 = .ok (.aload_n 0, 1) := dk_42 (dk_at dksX10_isClashing_0 3 rfl rfl)
theorem dX10_isClashing_4 : decode cX10_isClashing 4 = .ok (.getfield 13, 3) := dk_180 0 13 (dk_at dksX10_isClashing_0 4 rfl rfl)
theorem dX10_isClashing_7 : decode cX10_isClashing 7 = .ok (.iconst 1, 1) := dk_4 (dk_at dksX10_isClashing_0 7 rfl rfl)
theorem dX10_isClashing_8 : decode cX10_isClashing 8 = .ok (.iaload, 1) := dk_46 (dk_at dksX10_isClashing_0 8 rfl rfl)
theorem dX10_isClashing_9 : decode cX10_isClashing 9 = .ok (.if_icmp .ge 31, 3) := dk_162 0 31 (dk_at dksX10_isClashing_0 9 rfl rfl)
theorem dX10_isClashing_12 : decode cX10_isClashing 12 = .ok (.iload_n 1, 1) := dk_27 (dk_at dksX10_isClashing_0 12 rfl rfl)
theorem dX10_isClashing_13 : decode cX10_isClashing 13 = .ok (.iload_n 2, 1) := dk_28 (dk_at dksX10_isClashing_0 13 rfl rfl)
theorem dX10_isClashing_14 : decode cX10_isClashing 14 = .ok (.ishr, 1) := dk_122 (dk_at dksX10_isClashing_0 14 rfl rfl)
theorem dX10_isClashing_15 : decode cX10_isClashing 15 = .ok (.iconst 1, 1) := dk_4 (dk_at dksX10_isClashing_0 15 rfl rfl)
theorem dX10_isClashing_16 : decode cX10_isClashing 16 = .ok (.iand, 1) := dk_126 (dk_at dksX10_isClashing_0 16 rfl rfl)
theorem dX10_isClashing_17 : decode cX10_isClashing 17 = .ok (.iconst 1, 1) := dk_4 (dk_at dksX10_isClashing_0 17 rfl rfl)
theorem dX10_isClashing_18 : decode cX10_isClashing 18 = .ok (.if_icmp .ne 16, 3) := dk_160 0 16 (dk_at dksX10_isClashing_0 18 rfl rfl)
theorem dX10_isClashing_21 : decode cX10_isClashing 21 = .ok (.aload_n 0, 1) := dk_42 (dk_at dksX10_isClashing_0 21 rfl rfl)
theorem dX10_isClashing_22 : decode cX10_isClashing 22 = .ok (.getfield 47, 3) := dk_180 0 47 (dk_at dksX10_isClashing_1 0 rfl rfl)
theorem dX10_isClashing_25 : decode cX10_isClashing 25 = .ok (.iload_n 2, 1) := dk_28 (dk_at dksX10_isClashing_1 3 rfl rfl)
theorem dX10_isClashing_26 : decode cX10_isClashing 26 = .ok (.iaload, 1) := dk_46 (dk_at dksX10_isClashing_1 4 rfl rfl)
theorem dX10_isClashing_27 : decode cX10_isClashing 27 = .ok (.iload_n 1, 1) := dk_27 (dk_at dksX10_isClashing_1 5 rfl rfl)
theorem dX10_isClashing_28 : decode cX10_isClashing 28 = .ok (.iand, 1) := dk_126 (dk_at dksX10_isClashing_1 6 rfl rfl)
theorem dX10_isClashing_29 : decode cX10_isClashing 29 = .ok (.ifCond .eq 5, 3) := dk_153 0 5 (dk_at dksX10_isClashing_1 7 rfl rfl)
theorem dX10_isClashing_32 : decode cX10_isClashing 32 = .ok (.iconst 1, 1) := dk_4 (dk_at dksX10_isClashing_1 10 rfl rfl)
theorem dX10_isClashing_33 : decode cX10_isClashing 33 = .ok (.ireturn, 1) := dk_172 (dk_at dksX10_isClashing_1 11 rfl rfl)
theorem dX10_isClashing_34 : decode cX10_isClashing 34 = .ok (.iinc 2 1, 3) := dk_132 2 1 (dk_at dksX10_isClashing_1 12 rfl rfl)
theorem dX10_isClashing_37 : decode cX10_isClashing 37 = .ok (.goto (-35), 3) := dk_167 255 221 (dk_at dksX10_isClashing_1 15 rfl rfl)
theorem dX10_isClashing_40 : decode cX10_isClashing 40 = .ok (.iconst 0, 1) := dk_3 (dk_at dksX10_isClashing_1 18 rfl rfl)
theorem dX10_isClashing_41 : decode cX10_isClashing 41 = .ok (.ireturn, 1) := dk_172 (dk_at dksX10_isClashing_1 19 rfl rfl)
abbrev cX10_mean : ByteArray := prog_36_method_97_code
def yX10_mean : MethodName := ⟨RX10, "mean", "(II)I"⟩
def dkwX10_mean_3 : List UInt8 := [97, 66, 132, 5, 1, 167, 255, 216, 33, 20, 2, 17, 109, 136, 172]
abbrev dktX10_mean_3 : List UInt8 := dkwX10_mean_3 ++ []
def dkwX10_mean_2 : List UInt8 := [21, 5, 46, 158, 0, 23, 33, 42, 180, 0, 157, 21, 5, 46, 133, 42, 27, 21, 5, 182, 1, 168, 133, 105]
abbrev dktX10_mean_2 : List UInt8 := dkwX10_mean_2 ++ dktX10_mean_3
def dkwX10_mean_1 : List UInt8 := [172, 42, 27, 28, 182, 2, 14, 9, 66, 3, 54, 5, 21, 5, 16, 64, 162, 0, 39, 42, 180, 0, 157]
abbrev dktX10_mean_1 : List UInt8 := dkwX10_mean_1 ++ dktX10_mean_2
def dkwX10_mean_0 : List UInt8 := [42, 3, 181, 0, 175, 42, 27, 182, 1, 189, 153, 0, 13, 28, 3, 16, 30, 184, 1, 52, 154, 0, 5, 2]
abbrev dktX10_mean_0 : List UInt8 := dkwX10_mean_0 ++ dktX10_mean_1
theorem dksX10_mean_0 : cX10_mean.data.toList.drop 0 = dktX10_mean_0 := by decide +kernel
theorem dksX10_mean_1 : cX10_mean.data.toList.drop 24 = dktX10_mean_1 := dk_seg dksX10_mean_0 24 rfl rfl
theorem dksX10_mean_2 : cX10_mean.data.toList.drop 47 = dktX10_mean_2 := dk_seg dksX10_mean_1 23 rfl rfl
theorem dksX10_mean_3 : cX10_mean.data.toList.drop 71 = dktX10_mean_3 := dk_seg dksX10_mean_2 24 rfl rfl
theorem dX10_mean_0 : decode cX10_mean 0 = .ok (.aload_n 0, 1) := dk_42 (dk_at dksX10_mean_0 0 rfl rfl)
theorem dX10_mean_1 : decode cX10_mean 1 = .ok (.iconst 0, 1) := dk_3 (dk_at dksX10_mean_0 1 rfl rfl)
theorem dX10_mean_2 : decode cX10_mean 2 = .ok (.putfield 175, 3) := dk_181 0 175 (dk_at dksX10_mean_0 2 rfl rfl)
theorem dX10_mean_5 : decode cX10_mean 5 = .ok (.aload_n 0, 1) := dk_42 (dk_at dksX10_mean_0 5 rfl rfl)
theorem dX10_mean_6 : decode cX10_mean 6 = .ok (.iload_n 1, 1) := dk_27 (dk_at dksX10_mean_0 6 rfl rfl)
theorem dX10_mean_7 : decode cX10_mean 7 = .ok (.invokevirtual 445, 3) := dk_182 1 189 (dk_at dksX10_mean_0 7 rfl rfl)
theorem dX10_mean_10 : decode cX10_mean 10 = .ok (.ifCond .eq 13, 3) := dk_153 0 13 (dk_at dksX10_mean_0 10 rfl rfl)
theorem dX10_mean_13 : decode cX10_mean 13 = .ok (.iload_n 2, 1) := dk_28 (dk_at dksX10_mean_0 13 rfl rfl)
theorem dX10_mean_14 : decode cX10_mean 14 = .ok (.iconst 0, 1) := dk_3 (dk_at dksX10_mean_0 14 rfl rfl)
theorem dX10_mean_15 : decode cX10_mean 15 = .ok (.bipush 30, 2) := dk_16 30 (dk_at dksX10_mean_0 15 rfl rfl)
theorem dX10_mean_17 : decode cX10_mean 17 = .ok (.invokestatic 308, 3) := dk_184 1 52 (dk_at dksX10_mean_0 17 rfl rfl)
theorem dX10_mean_20 : decode cX10_mean 20 = .ok (.ifCond .ne 5, 3) := dk_154 0 5 (dk_at dksX10_mean_0 20 rfl rfl)
theorem dX10_mean_23 : decode cX10_mean 23 = .ok (.iconst (-1), 1) := dk_2 (dk_at dksX10_mean_0 23 rfl rfl)
theorem dX10_mean_24 : decode cX10_mean 24 = .ok (.ireturn, 1) := dk_172 (dk_at dksX10_mean_1 0 rfl rfl)
theorem dX10_mean_25 : decode cX10_mean 25 = .ok (.aload_n 0, 1) := dk_42 (dk_at dksX10_mean_1 1 rfl rfl)
theorem dX10_mean_26 : decode cX10_mean 26 = .ok (.iload_n 1, 1) := dk_27 (dk_at dksX10_mean_1 2 rfl rfl)
theorem dX10_mean_27 : decode cX10_mean 27 = .ok (.iload_n 2, 1) := dk_28 (dk_at dksX10_mean_1 3 rfl rfl)
theorem dX10_mean_28 : decode cX10_mean 28 = .ok (.invokevirtual 526, 3) := dk_182 2 14 (dk_at dksX10_mean_1 4 rfl rfl)
theorem dX10_mean_31 : decode cX10_mean 31 = .ok (.lconst 0, 1) := dk_9 (dk_at dksX10_mean_1 7 rfl rfl)
theorem dX10_mean_32 : decode cX10_mean 32 = .ok (.lstore_n 3, 1) := dk_66 (dk_at dksX10_mean_1 8 rfl rfl)
theorem dX10_mean_33 : decode cX10_mean 33 = .ok (.iconst 0, 1) := dk_3 (dk_at dksX10_mean_1 9 rfl rfl)
theorem dX10_mean_34 : decode cX10_mean 34 = .ok (.istore 5, 2) := dk_54 5 (dk_at dksX10_mean_1 10 rfl rfl)
theorem dX10_mean_36 : decode cX10_mean 36 = .ok (.iload 5, 2) := dk_21 5 (dk_at dksX10_mean_1 12 rfl rfl)
theorem dX10_mean_38 : decode cX10_mean 38 = .ok (.bipush 64, 2) := dk_16 64 (dk_at dksX10_mean_1 14 rfl rfl)
theorem dX10_mean_40 : decode cX10_mean 40 = .ok (.if_icmp .ge 39, 3) := dk_162 0 39 (dk_at dksX10_mean_1 16 rfl rfl)
theorem dX10_mean_43 : decode cX10_mean 43 = .ok (.aload_n 0, 1) := dk_42 (dk_at dksX10_mean_1 19 rfl rfl)
theorem dX10_mean_44 : decode cX10_mean 44 = .ok (.getfield 157, 3) := dk_180 0 157 (dk_at dksX10_mean_1 20 rfl rfl)
theorem dX10_mean_47 : decode cX10_mean 47 = .ok (.iload 5, 2) := dk_21 5 (dk_at dksX10_mean_2 0 rfl rfl)
theorem dX10_mean_49 : decode cX10_mean 49 = .ok (.iaload, 1) := dk_46 (dk_at dksX10_mean_2 2 rfl rfl)
theorem dX10_mean_50 : decode cX10_mean 50 = .ok (.ifCond .le 23, 3) := dk_158 0 23 (dk_at dksX10_mean_2 3 rfl rfl)
theorem dX10_mean_53 : decode cX10_mean 53 = .ok (.lload_n 3, 1) := dk_33 (dk_at dksX10_mean_2 6 rfl rfl)
theorem dX10_mean_54 : decode cX10_mean 54 = .ok (.aload_n 0, 1) := dk_42 (dk_at dksX10_mean_2 7 rfl rfl)
theorem dX10_mean_55 : decode cX10_mean 55 = .ok (.getfield 157, 3) := dk_180 0 157 (dk_at dksX10_mean_2 8 rfl rfl)
theorem dX10_mean_58 : decode cX10_mean 58 = .ok (.iload 5, 2) := dk_21 5 (dk_at dksX10_mean_2 11 rfl rfl)
theorem dX10_mean_60 : decode cX10_mean 60 = .ok (.iaload, 1) := dk_46 (dk_at dksX10_mean_2 13 rfl rfl)
theorem dX10_mean_61 : decode cX10_mean 61 = .ok (.i2l, 1) := dk_133 (dk_at dksX10_mean_2 14 rfl rfl)
theorem dX10_mean_62 : decode cX10_mean 62 = .ok (.aload_n 0, 1) := dk_42 (dk_at dksX10_mean_2 15 rfl rfl)
theorem dX10_mean_63 : decode cX10_mean 63 = .ok (.iload_n 1, 1) := dk_27 (dk_at dksX10_mean_2 16 rfl rfl)
theorem dX10_mean_64 : decode cX10_mean 64 = .ok (.iload 5, 2) := dk_21 5 (dk_at dksX10_mean_2 17 rfl rfl)
theorem dX10_mean_66 : decode cX10_mean 66 = .ok (.invokevirtual 424, 3) := dk_182 1 168 (dk_at dksX10_mean_2 19 rfl rfl)
theorem dX10_mean_69 : decode cX10_mean 69 = .ok (.i2l, 1) := dk_133 (dk_at dksX10_mean_2 22 rfl rfl)
theorem dX10_mean_70 : decode cX10_mean 70 = .ok (.lmul, 1) := dk_105 (dk_at dksX10_mean_2 23 rfl rfl)
theorem dX10_mean_71 : decode cX10_mean 71 = .ok (.ladd, 1) := dk_97 (dk_at dksX10_mean_3 0 rfl rfl)
theorem dX10_mean_72 : decode cX10_mean 72 = .ok (.lstore_n 3, 1) := dk_66 (dk_at dksX10_mean_3 1 rfl rfl)
theorem dX10_mean_73 : decode cX10_mean 73 = .ok (.iinc 5 1, 3) := dk_132 5 1 (dk_at dksX10_mean_3 2 rfl rfl)
theorem dX10_mean_76 : decode cX10_mean 76 = .ok (.goto (-40), 3) := dk_167 255 216 (dk_at dksX10_mean_3 5 rfl rfl)
theorem dX10_mean_79 : decode cX10_mean 79 = .ok (.lload_n 3, 1) := dk_33 (dk_at dksX10_mean_3 8 rfl rfl)
theorem dX10_mean_80 : decode cX10_mean 80 = .ok (.ldc2_w 529, 3) := dk_20 2 17 (dk_at dksX10_mean_3 9 rfl rfl)
theorem dX10_mean_83 : decode cX10_mean 83 = .ok (.ldiv, 1) := dk_109 (dk_at dksX10_mean_3 12 rfl rfl)
theorem dX10_mean_84 : decode cX10_mean 84 = .ok (.l2i, 1) := dk_136 (dk_at dksX10_mean_3 13 rfl rfl)
theorem dX10_mean_85 : decode cX10_mean 85 = .ok (.ireturn, 1) := dk_172 (dk_at dksX10_mean_3 14 rfl rfl)
abbrev cX10_nights : ByteArray := prog_36_method_96_code
def yX10_nights : MethodName := ⟨RX10, "nights", "(II)V"⟩
def dkwX10_nights_2 : List UInt8 := [132, 3, 1, 167, 255, 244, 177]
abbrev dktX10_nights_2 : List UInt8 := dkwX10_nights_2 ++ []
def dkwX10_nights_1 : List UInt8 := [180, 0, 157, 42, 180, 0, 129, 27, 46, 19, 2, 5, 79, 3, 62, 29, 28, 162, 0, 13, 42, 182, 2, 11]
abbrev dktX10_nights_1 : List UInt8 := dkwX10_nights_1 ++ dktX10_nights_2
def dkwX10_nights_0 : List UInt8 := [3, 62, 29, 16, 64, 162, 0, 16, 42, 180, 0, 157, 29, 3, 79, 132, 3, 1, 167, 255, 240, 42]
abbrev dktX10_nights_0 : List UInt8 := dkwX10_nights_0 ++ dktX10_nights_1
theorem dksX10_nights_0 : cX10_nights.data.toList.drop 0 = dktX10_nights_0 := by decide +kernel
theorem dksX10_nights_1 : cX10_nights.data.toList.drop 22 = dktX10_nights_1 := dk_seg dksX10_nights_0 22 rfl rfl
theorem dksX10_nights_2 : cX10_nights.data.toList.drop 46 = dktX10_nights_2 := dk_seg dksX10_nights_1 24 rfl rfl
theorem dX10_nights_0 : decode cX10_nights 0 = .ok (.iconst 0, 1) := dk_3 (dk_at dksX10_nights_0 0 rfl rfl)
theorem dX10_nights_1 : decode cX10_nights 1 = .ok (.istore_n 3, 1) := dk_62 (dk_at dksX10_nights_0 1 rfl rfl)
theorem dX10_nights_2 : decode cX10_nights 2 = .ok (.iload_n 3, 1) := dk_29 (dk_at dksX10_nights_0 2 rfl rfl)
theorem dX10_nights_3 : decode cX10_nights 3 = .ok (.bipush 64, 2) := dk_16 64 (dk_at dksX10_nights_0 3 rfl rfl)
theorem dX10_nights_5 : decode cX10_nights 5 = .ok (.if_icmp .ge 16, 3) := dk_162 0 16 (dk_at dksX10_nights_0 5 rfl rfl)
theorem dX10_nights_8 : decode cX10_nights 8 = .ok (.aload_n 0, 1) := dk_42 (dk_at dksX10_nights_0 8 rfl rfl)
theorem dX10_nights_9 : decode cX10_nights 9 = .ok (.getfield 157, 3) := dk_180 0 157 (dk_at dksX10_nights_0 9 rfl rfl)
theorem dX10_nights_12 : decode cX10_nights 12 = .ok (.iload_n 3, 1) := dk_29 (dk_at dksX10_nights_0 12 rfl rfl)
theorem dX10_nights_13 : decode cX10_nights 13 = .ok (.iconst 0, 1) := dk_3 (dk_at dksX10_nights_0 13 rfl rfl)
theorem dX10_nights_14 : decode cX10_nights 14 = .ok (.iastore, 1) := dk_79 (dk_at dksX10_nights_0 14 rfl rfl)
theorem dX10_nights_15 : decode cX10_nights 15 = .ok (.iinc 3 1, 3) := dk_132 3 1 (dk_at dksX10_nights_0 15 rfl rfl)
theorem dX10_nights_18 : decode cX10_nights 18 = .ok (.goto (-16), 3) := dk_167 255 240 (dk_at dksX10_nights_0 18 rfl rfl)
theorem dX10_nights_21 : decode cX10_nights 21 = .ok (.aload_n 0, 1) := dk_42 (dk_at dksX10_nights_0 21 rfl rfl)
theorem dX10_nights_22 : decode cX10_nights 22 = .ok (.getfield 157, 3) := dk_180 0 157 (dk_at dksX10_nights_1 0 rfl rfl)
theorem dX10_nights_25 : decode cX10_nights 25 = .ok (.aload_n 0, 1) := dk_42 (dk_at dksX10_nights_1 3 rfl rfl)
theorem dX10_nights_26 : decode cX10_nights 26 = .ok (.getfield 129, 3) := dk_180 0 129 (dk_at dksX10_nights_1 4 rfl rfl)
theorem dX10_nights_29 : decode cX10_nights 29 = .ok (.iload_n 1, 1) := dk_27 (dk_at dksX10_nights_1 7 rfl rfl)
theorem dX10_nights_30 : decode cX10_nights 30 = .ok (.iaload, 1) := dk_46 (dk_at dksX10_nights_1 8 rfl rfl)
theorem dX10_nights_31 : decode cX10_nights 31 = .ok (.ldc_w 517, 3) := dk_19 2 5 (dk_at dksX10_nights_1 9 rfl rfl)
theorem dX10_nights_34 : decode cX10_nights 34 = .ok (.iastore, 1) := dk_79 (dk_at dksX10_nights_1 12 rfl rfl)
theorem dX10_nights_35 : decode cX10_nights 35 = .ok (.iconst 0, 1) := dk_3 (dk_at dksX10_nights_1 13 rfl rfl)
theorem dX10_nights_36 : decode cX10_nights 36 = .ok (.istore_n 3, 1) := dk_62 (dk_at dksX10_nights_1 14 rfl rfl)
theorem dX10_nights_37 : decode cX10_nights 37 = .ok (.iload_n 3, 1) := dk_29 (dk_at dksX10_nights_1 15 rfl rfl)
theorem dX10_nights_38 : decode cX10_nights 38 = .ok (.iload_n 2, 1) := dk_28 (dk_at dksX10_nights_1 16 rfl rfl)
theorem dX10_nights_39 : decode cX10_nights 39 = .ok (.if_icmp .ge 13, 3) := dk_162 0 13 (dk_at dksX10_nights_1 17 rfl rfl)
theorem dX10_nights_42 : decode cX10_nights 42 = .ok (.aload_n 0, 1) := dk_42 (dk_at dksX10_nights_1 20 rfl rfl)
theorem dX10_nights_43 : decode cX10_nights 43 = .ok (.invokevirtual 523, 3) := dk_182 2 11 (dk_at dksX10_nights_1 21 rfl rfl)
theorem dX10_nights_46 : decode cX10_nights 46 = .ok (.iinc 3 1, 3) := dk_132 3 1 (dk_at dksX10_nights_2 0 rfl rfl)
theorem dX10_nights_49 : decode cX10_nights 49 = .ok (.goto (-12), 3) := dk_167 255 244 (dk_at dksX10_nights_2 3 rfl rfl)
theorem dX10_nights_52 : decode cX10_nights 52 = .ok (.return_, 1) := dk_177 (dk_at dksX10_nights_2 6 rfl rfl)
abbrev cX10_night : ByteArray := prog_36_method_95_code
def yX10_night : MethodName := ⟨RX10, "night", "()V"⟩
def dkwX10_night_8 : List UInt8 := [16, 64, 162, 0, 21, 42, 180, 0, 157, 28, 42, 180, 0, 160, 28, 46, 79, 132, 2, 1, 167, 255, 235, 177]
abbrev dktX10_night_8 : List UInt8 := dkwX10_night_8 ++ []
def dkwX10_night_7 : List UInt8 := [105, 20, 2, 9, 109, 136, 96, 79, 132, 3, 1, 167, 255, 138, 132, 2, 1, 167, 255, 108, 3, 61, 28]
abbrev dktX10_night_7 : List UInt8 := dkwX10_night_7 ++ dktX10_night_8
def dkwX10_night_6 : List UInt8 := [55, 4, 132, 6, 1, 167, 255, 192, 42, 180, 0, 160, 29, 92, 46, 22, 4, 42, 180, 0, 157, 28, 46, 133]
abbrev dktX10_night_6 : List UInt8 := dkwX10_night_6 ++ dktX10_night_7
def dkwX10_night_5 : List UInt8 := [21, 6, 46, 167, 0, 14, 19, 2, 5, 42, 180, 0, 163, 21, 6, 46, 100, 133, 105, 20, 2, 9, 109]
abbrev dktX10_night_5 : List UInt8 := dkwX10_night_5 ++ dktX10_night_6
def dkwX10_night_4 : List UInt8 := [21, 6, 122, 4, 126, 154, 0, 44, 22, 4, 29, 21, 6, 122, 4, 126, 4, 160, 0, 13, 42, 180, 0, 163]
abbrev dktX10_night_4 : List UInt8 := dkwX10_night_4 ++ dktX10_night_5
def dkwX10_night_3 : List UInt8 := [167, 0, 102, 20, 2, 9, 55, 4, 3, 54, 6, 21, 6, 42, 180, 0, 13, 3, 46, 162, 0, 59, 28]
abbrev dktX10_night_3 : List UInt8 := dkwX10_night_3 ++ dktX10_night_4
def dkwX10_night_2 : List UInt8 := [167, 0, 131, 42, 28, 182, 2, 6, 28, 62, 29, 27, 163, 0, 119, 28, 29, 2, 130, 126, 153, 0, 6]
abbrev dktX10_night_2 : List UInt8 := dkwX10_night_2 ++ dktX10_night_3
def dkwX10_night_1 : List UInt8 := [3, 79, 132, 2, 1, 167, 255, 240, 3, 61, 28, 27, 163, 0, 149, 42, 180, 0, 157, 28, 46, 154, 0, 6]
abbrev dktX10_night_1 : List UInt8 := dkwX10_night_1 ++ dktX10_night_2
def dkwX10_night_0 : List UInt8 := [4, 42, 180, 0, 13, 3, 46, 120, 4, 100, 60, 3, 61, 28, 16, 64, 162, 0, 16, 42, 180, 0, 160, 28]
abbrev dktX10_night_0 : List UInt8 := dkwX10_night_0 ++ dktX10_night_1
theorem dksX10_night_0 : cX10_night.data.toList.drop 0 = dktX10_night_0 := by decide +kernel
theorem dksX10_night_1 : cX10_night.data.toList.drop 24 = dktX10_night_1 := dk_seg dksX10_night_0 24 rfl rfl
theorem dksX10_night_2 : cX10_night.data.toList.drop 48 = dktX10_night_2 := dk_seg dksX10_night_1 24 rfl rfl
theorem dksX10_night_3 : cX10_night.data.toList.drop 71 = dktX10_night_3 := dk_seg dksX10_night_2 23 rfl rfl
theorem dksX10_night_4 : cX10_night.data.toList.drop 94 = dktX10_night_4 := dk_seg dksX10_night_3 23 rfl rfl
theorem dksX10_night_5 : cX10_night.data.toList.drop 118 = dktX10_night_5 := dk_seg dksX10_night_4 24 rfl rfl
theorem dksX10_night_6 : cX10_night.data.toList.drop 141 = dktX10_night_6 := dk_seg dksX10_night_5 23 rfl rfl
theorem dksX10_night_7 : cX10_night.data.toList.drop 165 = dktX10_night_7 := dk_seg dksX10_night_6 24 rfl rfl
theorem dksX10_night_8 : cX10_night.data.toList.drop 188 = dktX10_night_8 := dk_seg dksX10_night_7 23 rfl rfl
theorem dX10_night_0 : decode cX10_night 0 = .ok (.iconst 1, 1) := dk_4 (dk_at dksX10_night_0 0 rfl rfl)
theorem dX10_night_1 : decode cX10_night 1 = .ok (.aload_n 0, 1) := dk_42 (dk_at dksX10_night_0 1 rfl rfl)
theorem dX10_night_2 : decode cX10_night 2 = .ok (.getfield 13, 3) := dk_180 0 13 (dk_at dksX10_night_0 2 rfl rfl)
theorem dX10_night_5 : decode cX10_night 5 = .ok (.iconst 0, 1) := dk_3 (dk_at dksX10_night_0 5 rfl rfl)
theorem dX10_night_6 : decode cX10_night 6 = .ok (.iaload, 1) := dk_46 (dk_at dksX10_night_0 6 rfl rfl)
theorem dX10_night_7 : decode cX10_night 7 = .ok (.ishl, 1) := dk_120 (dk_at dksX10_night_0 7 rfl rfl)
theorem dX10_night_8 : decode cX10_night 8 = .ok (.iconst 1, 1) := dk_4 (dk_at dksX10_night_0 8 rfl rfl)
theorem dX10_night_9 : decode cX10_night 9 = .ok (.isub, 1) := dk_100 (dk_at dksX10_night_0 9 rfl rfl)
theorem dX10_night_10 : decode cX10_night 10 = .ok (.istore_n 1, 1) := dk_60 (dk_at dksX10_night_0 10 rfl rfl)
theorem dX10_night_11 : decode cX10_night 11 = .ok (.iconst 0, 1) := dk_3 (dk_at dksX10_night_0 11 rfl rfl)
theorem dX10_night_12 : decode cX10_night 12 = .ok (.istore_n 2, 1) := dk_61 (dk_at dksX10_night_0 12 rfl rfl)
theorem dX10_night_13 : decode cX10_night 13 = .ok (.iload_n 2, 1) := dk_28 (dk_at dksX10_night_0 13 rfl rfl)
theorem dX10_night_14 : decode cX10_night 14 = .ok (.bipush 64, 2) := dk_16 64 (dk_at dksX10_night_0 14 rfl rfl)
theorem dX10_night_16 : decode cX10_night 16 = .ok (.if_icmp .ge 16, 3) := dk_162 0 16 (dk_at dksX10_night_0 16 rfl rfl)
theorem dX10_night_19 : decode cX10_night 19 = .ok (.aload_n 0, 1) := dk_42 (dk_at dksX10_night_0 19 rfl rfl)
theorem dX10_night_20 : decode cX10_night 20 = .ok (.getfield 160, 3) := dk_180 0 160 (dk_at dksX10_night_0 20 rfl rfl)
theorem dX10_night_23 : decode cX10_night 23 = .ok (.iload_n 2, 1) := dk_28 (dk_at dksX10_night_0 23 rfl rfl)
theorem dX10_night_24 : decode cX10_night 24 = .ok (.iconst 0, 1) := dk_3 (dk_at dksX10_night_1 0 rfl rfl)
theorem dX10_night_25 : decode cX10_night 25 = .ok (.iastore, 1) := dk_79 (dk_at dksX10_night_1 1 rfl rfl)
theorem dX10_night_26 : decode cX10_night 26 = .ok (.iinc 2 1, 3) := dk_132 2 1 (dk_at dksX10_night_1 2 rfl rfl)
theorem dX10_night_29 : decode cX10_night 29 = .ok (.goto (-16), 3) := dk_167 255 240 (dk_at dksX10_night_1 5 rfl rfl)
theorem dX10_night_32 : decode cX10_night 32 = .ok (.iconst 0, 1) := dk_3 (dk_at dksX10_night_1 8 rfl rfl)
theorem dX10_night_33 : decode cX10_night 33 = .ok (.istore_n 2, 1) := dk_61 (dk_at dksX10_night_1 9 rfl rfl)
theorem dX10_night_34 : decode cX10_night 34 = .ok (.iload_n 2, 1) := dk_28 (dk_at dksX10_night_1 10 rfl rfl)
theorem dX10_night_35 : decode cX10_night 35 = .ok (.iload_n 1, 1) := dk_27 (dk_at dksX10_night_1 11 rfl rfl)
theorem dX10_night_36 : decode cX10_night 36 = .ok (.if_icmp .gt 149, 3) := dk_163 0 149 (dk_at dksX10_night_1 12 rfl rfl)
theorem dX10_night_39 : decode cX10_night 39 = .ok (.aload_n 0, 1) := dk_42 (dk_at dksX10_night_1 15 rfl rfl)
theorem dX10_night_40 : decode cX10_night 40 = .ok (.getfield 157, 3) := dk_180 0 157 (dk_at dksX10_night_1 16 rfl rfl)
theorem dX10_night_43 : decode cX10_night 43 = .ok (.iload_n 2, 1) := dk_28 (dk_at dksX10_night_1 19 rfl rfl)
theorem dX10_night_44 : decode cX10_night 44 = .ok (.iaload, 1) := dk_46 (dk_at dksX10_night_1 20 rfl rfl)
theorem dX10_night_45 : decode cX10_night 45 = .ok (.ifCond .ne 6, 3) := dk_154 0 6 (dk_at dksX10_night_1 21 rfl rfl)
theorem dX10_night_48 : decode cX10_night 48 = .ok (.goto 131, 3) := dk_167 0 131 (dk_at dksX10_night_2 0 rfl rfl)
theorem dX10_night_51 : decode cX10_night 51 = .ok (.aload_n 0, 1) := dk_42 (dk_at dksX10_night_2 3 rfl rfl)
theorem dX10_night_52 : decode cX10_night 52 = .ok (.iload_n 2, 1) := dk_28 (dk_at dksX10_night_2 4 rfl rfl)
theorem dX10_night_53 : decode cX10_night 53 = .ok (.invokevirtual 518, 3) := dk_182 2 6 (dk_at dksX10_night_2 5 rfl rfl)
theorem dX10_night_56 : decode cX10_night 56 = .ok (.iload_n 2, 1) := dk_28 (dk_at dksX10_night_2 8 rfl rfl)
theorem dX10_night_57 : decode cX10_night 57 = .ok (.istore_n 3, 1) := dk_62 (dk_at dksX10_night_2 9 rfl rfl)
theorem dX10_night_58 : decode cX10_night 58 = .ok (.iload_n 3, 1) := dk_29 (dk_at dksX10_night_2 10 rfl rfl)
theorem dX10_night_59 : decode cX10_night 59 = .ok (.iload_n 1, 1) := dk_27 (dk_at dksX10_night_2 11 rfl rfl)
theorem dX10_night_60 : decode cX10_night 60 = .ok (.if_icmp .gt 119, 3) := dk_163 0 119 (dk_at dksX10_night_2 12 rfl rfl)
theorem dX10_night_63 : decode cX10_night 63 = .ok (.iload_n 2, 1) := dk_28 (dk_at dksX10_night_2 15 rfl rfl)
theorem dX10_night_64 : decode cX10_night 64 = .ok (.iload_n 3, 1) := dk_29 (dk_at dksX10_night_2 16 rfl rfl)
theorem dX10_night_65 : decode cX10_night 65 = .ok (.iconst (-1), 1) := dk_2 (dk_at dksX10_night_2 17 rfl rfl)
theorem dX10_night_66 : decode cX10_night 66 = .ok (.ixor, 1) := dk_130 (dk_at dksX10_night_2 18 rfl rfl)
theorem dX10_night_67 : decode cX10_night 67 = .ok (.iand, 1) := dk_126 (dk_at dksX10_night_2 19 rfl rfl)
theorem dX10_night_68 : decode cX10_night 68 = .ok (.ifCond .eq 6, 3) := dk_153 0 6 (dk_at dksX10_night_2 20 rfl rfl)
theorem dX10_night_71 : decode cX10_night 71 = .ok (.goto 102, 3) := dk_167 0 102 (dk_at dksX10_night_3 0 rfl rfl)
theorem dX10_night_74 : decode cX10_night 74 = .ok (.ldc2_w 521, 3) := dk_20 2 9 (dk_at dksX10_night_3 3 rfl rfl)
theorem dX10_night_77 : decode cX10_night 77 = .ok (.lstore 4, 2) := dk_55 4 (dk_at dksX10_night_3 6 rfl rfl)
theorem dX10_night_79 : decode cX10_night 79 = .ok (.iconst 0, 1) := dk_3 (dk_at dksX10_night_3 8 rfl rfl)
theorem dX10_night_80 : decode cX10_night 80 = .ok (.istore 6, 2) := dk_54 6 (dk_at dksX10_night_3 9 rfl rfl)
theorem dX10_night_82 : decode cX10_night 82 = .ok (.iload 6, 2) := dk_21 6 (dk_at dksX10_night_3 11 rfl rfl)
theorem dX10_night_84 : decode cX10_night 84 = .ok (.aload_n 0, 1) := dk_42 (dk_at dksX10_night_3 13 rfl rfl)
theorem dX10_night_85 : decode cX10_night 85 = .ok (.getfield 13, 3) := dk_180 0 13 (dk_at dksX10_night_3 14 rfl rfl)
theorem dX10_night_88 : decode cX10_night 88 = .ok (.iconst 0, 1) := dk_3 (dk_at dksX10_night_3 17 rfl rfl)
theorem dX10_night_89 : decode cX10_night 89 = .ok (.iaload, 1) := dk_46 (dk_at dksX10_night_3 18 rfl rfl)
theorem dX10_night_90 : decode cX10_night 90 = .ok (.if_icmp .ge 59, 3) := dk_162 0 59 (dk_at dksX10_night_3 19 rfl rfl)
theorem dX10_night_93 : decode cX10_night 93 = .ok (.iload_n 2, 1) := dk_28 (dk_at dksX10_night_3 22 rfl rfl)
theorem dX10_night_94 : decode cX10_night 94 = .ok (.iload 6, 2) := dk_21 6 (dk_at dksX10_night_4 0 rfl rfl)
theorem dX10_night_96 : decode cX10_night 96 = .ok (.ishr, 1) := dk_122 (dk_at dksX10_night_4 2 rfl rfl)
theorem dX10_night_97 : decode cX10_night 97 = .ok (.iconst 1, 1) := dk_4 (dk_at dksX10_night_4 3 rfl rfl)
theorem dX10_night_98 : decode cX10_night 98 = .ok (.iand, 1) := dk_126 (dk_at dksX10_night_4 4 rfl rfl)
theorem dX10_night_99 : decode cX10_night 99 = .ok (.ifCond .ne 44, 3) := dk_154 0 44 (dk_at dksX10_night_4 5 rfl rfl)
theorem dX10_night_102 : decode cX10_night 102 = .ok (.lload 4, 2) := dk_22 4 (dk_at dksX10_night_4 8 rfl rfl)
theorem dX10_night_104 : decode cX10_night 104 = .ok (.iload_n 3, 1) := dk_29 (dk_at dksX10_night_4 10 rfl rfl)
theorem dX10_night_105 : decode cX10_night 105 = .ok (.iload 6, 2) := dk_21 6 (dk_at dksX10_night_4 11 rfl rfl)
theorem dX10_night_107 : decode cX10_night 107 = .ok (.ishr, 1) := dk_122 (dk_at dksX10_night_4 13 rfl rfl)
theorem dX10_night_108 : decode cX10_night 108 = .ok (.iconst 1, 1) := dk_4 (dk_at dksX10_night_4 14 rfl rfl)
theorem dX10_night_109 : decode cX10_night 109 = .ok (.iand, 1) := dk_126 (dk_at dksX10_night_4 15 rfl rfl)
theorem dX10_night_110 : decode cX10_night 110 = .ok (.iconst 1, 1) := dk_4 (dk_at dksX10_night_4 16 rfl rfl)
theorem dX10_night_111 : decode cX10_night 111 = .ok (.if_icmp .ne 13, 3) := dk_160 0 13 (dk_at dksX10_night_4 17 rfl rfl)
theorem dX10_night_114 : decode cX10_night 114 = .ok (.aload_n 0, 1) := dk_42 (dk_at dksX10_night_4 20 rfl rfl)
theorem dX10_night_115 : decode cX10_night 115 = .ok (.getfield 163, 3) := dk_180 0 163 (dk_at dksX10_night_4 21 rfl rfl)
theorem dX10_night_118 : decode cX10_night 118 = .ok (.iload 6, 2) := dk_21 6 (dk_at dksX10_night_5 0 rfl rfl)
theorem dX10_night_120 : decode cX10_night 120 = .ok (.iaload, 1) := dk_46 (dk_at dksX10_night_5 2 rfl rfl)
theorem dX10_night_121 : decode cX10_night 121 = .ok (.goto 14, 3) := dk_167 0 14 (dk_at dksX10_night_5 3 rfl rfl)
theorem dX10_night_124 : decode cX10_night 124 = .ok (.ldc_w 517, 3) := dk_19 2 5 (dk_at dksX10_night_5 6 rfl rfl)
theorem dX10_night_127 : decode cX10_night 127 = .ok (.aload_n 0, 1) := dk_42 (dk_at dksX10_night_5 9 rfl rfl)
theorem dX10_night_128 : decode cX10_night 128 = .ok (.getfield 163, 3) := dk_180 0 163 (dk_at dksX10_night_5 10 rfl rfl)
theorem dX10_night_131 : decode cX10_night 131 = .ok (.iload 6, 2) := dk_21 6 (dk_at dksX10_night_5 13 rfl rfl)
theorem dX10_night_133 : decode cX10_night 133 = .ok (.iaload, 1) := dk_46 (dk_at dksX10_night_5 15 rfl rfl)
theorem dX10_night_134 : decode cX10_night 134 = .ok (.isub, 1) := dk_100 (dk_at dksX10_night_5 16 rfl rfl)
theorem dX10_night_135 : decode cX10_night 135 = .ok (.i2l, 1) := dk_133 (dk_at dksX10_night_5 17 rfl rfl)
theorem dX10_night_136 : decode cX10_night 136 = .ok (.lmul, 1) := dk_105 (dk_at dksX10_night_5 18 rfl rfl)
theorem dX10_night_137 : decode cX10_night 137 = .ok (.ldc2_w 521, 3) := dk_20 2 9 (dk_at dksX10_night_5 19 rfl rfl)
theorem dX10_night_140 : decode cX10_night 140 = .ok (.ldiv, 1) := dk_109 (dk_at dksX10_night_5 22 rfl rfl)
theorem dX10_night_141 : decode cX10_night 141 = .ok (.lstore 4, 2) := dk_55 4 (dk_at dksX10_night_6 0 rfl rfl)
theorem dX10_night_143 : decode cX10_night 143 = .ok (.iinc 6 1, 3) := dk_132 6 1 (dk_at dksX10_night_6 2 rfl rfl)
theorem dX10_night_146 : decode cX10_night 146 = .ok (.goto (-64), 3) := dk_167 255 192 (dk_at dksX10_night_6 5 rfl rfl)
theorem dX10_night_149 : decode cX10_night 149 = .ok (.aload_n 0, 1) := dk_42 (dk_at dksX10_night_6 8 rfl rfl)
theorem dX10_night_150 : decode cX10_night 150 = .ok (.getfield 160, 3) := dk_180 0 160 (dk_at dksX10_night_6 9 rfl rfl)
theorem dX10_night_153 : decode cX10_night 153 = .ok (.iload_n 3, 1) := dk_29 (dk_at dksX10_night_6 12 rfl rfl)
theorem dX10_night_154 : decode cX10_night 154 = .ok (.dup2, 1) := dk_92 (dk_at dksX10_night_6 13 rfl rfl)
theorem dX10_night_155 : decode cX10_night 155 = .ok (.iaload, 1) := dk_46 (dk_at dksX10_night_6 14 rfl rfl)
theorem dX10_night_156 : decode cX10_night 156 = .ok (.lload 4, 2) := dk_22 4 (dk_at dksX10_night_6 15 rfl rfl)
theorem dX10_night_158 : decode cX10_night 158 = .ok (.aload_n 0, 1) := dk_42 (dk_at dksX10_night_6 17 rfl rfl)
theorem dX10_night_159 : decode cX10_night 159 = .ok (.getfield 157, 3) := dk_180 0 157 (dk_at dksX10_night_6 18 rfl rfl)
theorem dX10_night_162 : decode cX10_night 162 = .ok (.iload_n 2, 1) := dk_28 (dk_at dksX10_night_6 21 rfl rfl)
theorem dX10_night_163 : decode cX10_night 163 = .ok (.iaload, 1) := dk_46 (dk_at dksX10_night_6 22 rfl rfl)
theorem dX10_night_164 : decode cX10_night 164 = .ok (.i2l, 1) := dk_133 (dk_at dksX10_night_6 23 rfl rfl)
theorem dX10_night_165 : decode cX10_night 165 = .ok (.lmul, 1) := dk_105 (dk_at dksX10_night_7 0 rfl rfl)
theorem dX10_night_166 : decode cX10_night 166 = .ok (.ldc2_w 521, 3) := dk_20 2 9 (dk_at dksX10_night_7 1 rfl rfl)
theorem dX10_night_169 : decode cX10_night 169 = .ok (.ldiv, 1) := dk_109 (dk_at dksX10_night_7 4 rfl rfl)
theorem dX10_night_170 : decode cX10_night 170 = .ok (.l2i, 1) := dk_136 (dk_at dksX10_night_7 5 rfl rfl)
theorem dX10_night_171 : decode cX10_night 171 = .ok (.iadd, 1) := dk_96 (dk_at dksX10_night_7 6 rfl rfl)
theorem dX10_night_172 : decode cX10_night 172 = .ok (.iastore, 1) := dk_79 (dk_at dksX10_night_7 7 rfl rfl)
theorem dX10_night_173 : decode cX10_night 173 = .ok (.iinc 3 1, 3) := dk_132 3 1 (dk_at dksX10_night_7 8 rfl rfl)
theorem dX10_night_176 : decode cX10_night 176 = .ok (.goto (-118), 3) := dk_167 255 138 (dk_at dksX10_night_7 11 rfl rfl)
theorem dX10_night_179 : decode cX10_night 179 = .ok (.iinc 2 1, 3) := dk_132 2 1 (dk_at dksX10_night_7 14 rfl rfl)
theorem dX10_night_182 : decode cX10_night 182 = .ok (.goto (-148), 3) := dk_167 255 108 (dk_at dksX10_night_7 17 rfl rfl)
theorem dX10_night_185 : decode cX10_night 185 = .ok (.iconst 0, 1) := dk_3 (dk_at dksX10_night_7 20 rfl rfl)
theorem dX10_night_186 : decode cX10_night 186 = .ok (.istore_n 2, 1) := dk_61 (dk_at dksX10_night_7 21 rfl rfl)
theorem dX10_night_187 : decode cX10_night 187 = .ok (.iload_n 2, 1) := dk_28 (dk_at dksX10_night_7 22 rfl rfl)
theorem dX10_night_188 : decode cX10_night 188 = .ok (.bipush 64, 2) := dk_16 64 (dk_at dksX10_night_8 0 rfl rfl)
theorem dX10_night_190 : decode cX10_night 190 = .ok (.if_icmp .ge 21, 3) := dk_162 0 21 (dk_at dksX10_night_8 2 rfl rfl)
theorem dX10_night_193 : decode cX10_night 193 = .ok (.aload_n 0, 1) := dk_42 (dk_at dksX10_night_8 5 rfl rfl)
theorem dX10_night_194 : decode cX10_night 194 = .ok (.getfield 157, 3) := dk_180 0 157 (dk_at dksX10_night_8 6 rfl rfl)
theorem dX10_night_197 : decode cX10_night 197 = .ok (.iload_n 2, 1) := dk_28 (dk_at dksX10_night_8 9 rfl rfl)
theorem dX10_night_198 : decode cX10_night 198 = .ok (.aload_n 0, 1) := dk_42 (dk_at dksX10_night_8 10 rfl rfl)
theorem dX10_night_199 : decode cX10_night 199 = .ok (.getfield 160, 3) := dk_180 0 160 (dk_at dksX10_night_8 11 rfl rfl)
theorem dX10_night_202 : decode cX10_night 202 = .ok (.iload_n 2, 1) := dk_28 (dk_at dksX10_night_8 14 rfl rfl)
theorem dX10_night_203 : decode cX10_night 203 = .ok (.iaload, 1) := dk_46 (dk_at dksX10_night_8 15 rfl rfl)
theorem dX10_night_204 : decode cX10_night 204 = .ok (.iastore, 1) := dk_79 (dk_at dksX10_night_8 16 rfl rfl)
theorem dX10_night_205 : decode cX10_night 205 = .ok (.iinc 2 1, 3) := dk_132 2 1 (dk_at dksX10_night_8 17 rfl rfl)
theorem dX10_night_208 : decode cX10_night 208 = .ok (.goto (-21), 3) := dk_167 255 235 (dk_at dksX10_night_8 20 rfl rfl)
theorem dX10_night_211 : decode cX10_night 211 = .ok (.return_, 1) := dk_177 (dk_at dksX10_night_8 23 rfl rfl)
abbrev cX10_laysHears : ByteArray := prog_36_method_94_code
def yX10_laysHears : MethodName := ⟨RX10, "laysHears", "(I)V"⟩
def dkwX10_laysHears_5 : List UInt8 := [180, 0, 163, 28, 19, 2, 5, 29, 100, 79, 132, 2, 1, 167, 255, 129, 177]
abbrev dktX10_laysHears_5 : List UInt8 := dkwX10_laysHears_5 ++ []
def dkwX10_laysHears_4 : List UInt8 := [21, 5, 182, 1, 198, 100, 104, 16, 10, 108, 62, 132, 5, 1, 167, 255, 204, 132, 4, 1, 167, 255, 163, 42]
abbrev dktX10_laysHears_4 : List UInt8 := dkwX10_laysHears_4 ++ dktX10_laysHears_5
def dkwX10_laysHears_3 : List UInt8 := [21, 5, 46, 21, 4, 160, 0, 29, 42, 180, 0, 53, 21, 5, 46, 28, 160, 0, 18, 29, 16, 10, 42]
abbrev dktX10_laysHears_3 : List UInt8 := dkwX10_laysHears_3 ++ dktX10_laysHears_4
def dkwX10_laysHears_2 : List UInt8 := [154, 0, 6, 167, 0, 61, 3, 54, 5, 21, 5, 42, 180, 0, 13, 5, 46, 162, 0, 47, 42, 180, 0, 50]
abbrev dktX10_laysHears_2 : List UInt8 := dkwX10_laysHears_2 ++ dktX10_laysHears_3
def dkwX10_laysHears_1 : List UInt8 := [180, 0, 13, 3, 46, 162, 0, 88, 27, 21, 4, 122, 4, 126, 153, 0, 73, 42, 21, 4, 182, 1, 205]
abbrev dktX10_laysHears_1 : List UInt8 := dkwX10_laysHears_1 ++ dktX10_laysHears_2
def dkwX10_laysHears_0 : List UInt8 := [3, 61, 28, 42, 180, 0, 13, 3, 46, 162, 0, 123, 19, 2, 5, 62, 3, 54, 4, 21, 4, 42]
abbrev dktX10_laysHears_0 : List UInt8 := dkwX10_laysHears_0 ++ dktX10_laysHears_1
theorem dksX10_laysHears_0 : cX10_laysHears.data.toList.drop 0 = dktX10_laysHears_0 := by decide +kernel
theorem dksX10_laysHears_1 : cX10_laysHears.data.toList.drop 22 = dktX10_laysHears_1 := dk_seg dksX10_laysHears_0 22 rfl rfl
theorem dksX10_laysHears_2 : cX10_laysHears.data.toList.drop 45 = dktX10_laysHears_2 := dk_seg dksX10_laysHears_1 23 rfl rfl
theorem dksX10_laysHears_3 : cX10_laysHears.data.toList.drop 69 = dktX10_laysHears_3 := dk_seg dksX10_laysHears_2 24 rfl rfl
theorem dksX10_laysHears_4 : cX10_laysHears.data.toList.drop 92 = dktX10_laysHears_4 := dk_seg dksX10_laysHears_3 23 rfl rfl
theorem dksX10_laysHears_5 : cX10_laysHears.data.toList.drop 116 = dktX10_laysHears_5 := dk_seg dksX10_laysHears_4 24 rfl rfl
theorem dX10_laysHears_0 : decode cX10_laysHears 0 = .ok (.iconst 0, 1) := dk_3 (dk_at dksX10_laysHears_0 0 rfl rfl)
theorem dX10_laysHears_1 : decode cX10_laysHears 1 = .ok (.istore_n 2, 1) := dk_61 (dk_at dksX10_laysHears_0 1 rfl rfl)
theorem dX10_laysHears_2 : decode cX10_laysHears 2 = .ok (.iload_n 2, 1) := dk_28 (dk_at dksX10_laysHears_0 2 rfl rfl)
theorem dX10_laysHears_3 : decode cX10_laysHears 3 = .ok (.aload_n 0, 1) := dk_42 (dk_at dksX10_laysHears_0 3 rfl rfl)
theorem dX10_laysHears_4 : decode cX10_laysHears 4 = .ok (.getfield 13, 3) := dk_180 0 13 (dk_at dksX10_laysHears_0 4 rfl rfl)
theorem dX10_laysHears_7 : decode cX10_laysHears 7 = .ok (.iconst 0, 1) := dk_3 (dk_at dksX10_laysHears_0 7 rfl rfl)
theorem dX10_laysHears_8 : decode cX10_laysHears 8 = .ok (.iaload, 1) := dk_46 (dk_at dksX10_laysHears_0 8 rfl rfl)
theorem dX10_laysHears_9 : decode cX10_laysHears 9 = .ok (.if_icmp .ge 123, 3) := dk_162 0 123 (dk_at dksX10_laysHears_0 9 rfl rfl)
theorem dX10_laysHears_12 : decode cX10_laysHears 12 = .ok (.ldc_w 517, 3) := dk_19 2 5 (dk_at dksX10_laysHears_0 12 rfl rfl)
theorem dX10_laysHears_15 : decode cX10_laysHears 15 = .ok (.istore_n 3, 1) := dk_62 (dk_at dksX10_laysHears_0 15 rfl rfl)
theorem dX10_laysHears_16 : decode cX10_laysHears 16 = .ok (.iconst 0, 1) := dk_3 (dk_at dksX10_laysHears_0 16 rfl rfl)
theorem dX10_laysHears_17 : decode cX10_laysHears 17 = .ok (.istore 4, 2) := dk_54 4 (dk_at dksX10_laysHears_0 17 rfl rfl)
theorem dX10_laysHears_19 : decode cX10_laysHears 19 = .ok (.iload 4, 2) := dk_21 4 (dk_at dksX10_laysHears_0 19 rfl rfl)
theorem dX10_laysHears_21 : decode cX10_laysHears 21 = .ok (.aload_n 0, 1) := dk_42 (dk_at dksX10_laysHears_0 21 rfl rfl)
theorem dX10_laysHears_22 : decode cX10_laysHears 22 = .ok (.getfield 13, 3) := dk_180 0 13 (dk_at dksX10_laysHears_1 0 rfl rfl)
theorem dX10_laysHears_25 : decode cX10_laysHears 25 = .ok (.iconst 0, 1) := dk_3 (dk_at dksX10_laysHears_1 3 rfl rfl)
theorem dX10_laysHears_26 : decode cX10_laysHears 26 = .ok (.iaload, 1) := dk_46 (dk_at dksX10_laysHears_1 4 rfl rfl)
theorem dX10_laysHears_27 : decode cX10_laysHears 27 = .ok (.if_icmp .ge 88, 3) := dk_162 0 88 (dk_at dksX10_laysHears_1 5 rfl rfl)
theorem dX10_laysHears_30 : decode cX10_laysHears 30 = .ok (.iload_n 1, 1) := dk_27 (dk_at dksX10_laysHears_1 8 rfl rfl)
theorem dX10_laysHears_31 : decode cX10_laysHears 31 = .ok (.iload 4, 2) := dk_21 4 (dk_at dksX10_laysHears_1 9 rfl rfl)
theorem dX10_laysHears_33 : decode cX10_laysHears 33 = .ok (.ishr, 1) := dk_122 (dk_at dksX10_laysHears_1 11 rfl rfl)
theorem dX10_laysHears_34 : decode cX10_laysHears 34 = .ok (.iconst 1, 1) := dk_4 (dk_at dksX10_laysHears_1 12 rfl rfl)
theorem dX10_laysHears_35 : decode cX10_laysHears 35 = .ok (.iand, 1) := dk_126 (dk_at dksX10_laysHears_1 13 rfl rfl)
theorem dX10_laysHears_36 : decode cX10_laysHears 36 = .ok (.ifCond .eq 73, 3) := dk_153 0 73 (dk_at dksX10_laysHears_1 14 rfl rfl)
theorem dX10_laysHears_39 : decode cX10_laysHears 39 = .ok (.aload_n 0, 1) := dk_42 (dk_at dksX10_laysHears_1 17 rfl rfl)
theorem dX10_laysHears_40 : decode cX10_laysHears 40 = .ok (.iload 4, 2) := dk_21 4 (dk_at dksX10_laysHears_1 18 rfl rfl)
theorem dX10_laysHears_42 : decode cX10_laysHears 42 = .ok (.invokevirtual 461, 3) := dk_182 1 205 (dk_at dksX10_laysHears_1 20 rfl rfl)
theorem dX10_laysHears_45 : decode cX10_laysHears 45 = .ok (.ifCond .ne 6, 3) := dk_154 0 6 (dk_at dksX10_laysHears_2 0 rfl rfl)
theorem dX10_laysHears_48 : decode cX10_laysHears 48 = .ok (.goto 61, 3) := dk_167 0 61 (dk_at dksX10_laysHears_2 3 rfl rfl)
theorem dX10_laysHears_51 : decode cX10_laysHears 51 = .ok (.iconst 0, 1) := dk_3 (dk_at dksX10_laysHears_2 6 rfl rfl)
theorem dX10_laysHears_52 : decode cX10_laysHears 52 = .ok (.istore 5, 2) := dk_54 5 (dk_at dksX10_laysHears_2 7 rfl rfl)
theorem dX10_laysHears_54 : decode cX10_laysHears 54 = .ok (.iload 5, 2) := dk_21 5 (dk_at dksX10_laysHears_2 9 rfl rfl)
theorem dX10_laysHears_56 : decode cX10_laysHears 56 = .ok (.aload_n 0, 1) := dk_42 (dk_at dksX10_laysHears_2 11 rfl rfl)
theorem dX10_laysHears_57 : decode cX10_laysHears 57 = .ok (.getfield 13, 3) := dk_180 0 13 (dk_at dksX10_laysHears_2 12 rfl rfl)
theorem dX10_laysHears_60 : decode cX10_laysHears 60 = .ok (.iconst 2, 1) := dk_5 (dk_at dksX10_laysHears_2 15 rfl rfl)
theorem dX10_laysHears_61 : decode cX10_laysHears 61 = .ok (.iaload, 1) := dk_46 (dk_at dksX10_laysHears_2 16 rfl rfl)
theorem dX10_laysHears_62 : decode cX10_laysHears 62 = .ok (.if_icmp .ge 47, 3) := dk_162 0 47 (dk_at dksX10_laysHears_2 17 rfl rfl)
theorem dX10_laysHears_65 : decode cX10_laysHears 65 = .ok (.aload_n 0, 1) := dk_42 (dk_at dksX10_laysHears_2 20 rfl rfl)
theorem dX10_laysHears_66 : decode cX10_laysHears 66 = .ok (.getfield 50, 3) := dk_180 0 50 (dk_at dksX10_laysHears_2 21 rfl rfl)
theorem dX10_laysHears_69 : decode cX10_laysHears 69 = .ok (.iload 5, 2) := dk_21 5 (dk_at dksX10_laysHears_3 0 rfl rfl)
theorem dX10_laysHears_71 : decode cX10_laysHears 71 = .ok (.iaload, 1) := dk_46 (dk_at dksX10_laysHears_3 2 rfl rfl)
theorem dX10_laysHears_72 : decode cX10_laysHears 72 = .ok (.iload 4, 2) := dk_21 4 (dk_at dksX10_laysHears_3 3 rfl rfl)
theorem dX10_laysHears_74 : decode cX10_laysHears 74 = .ok (.if_icmp .ne 29, 3) := dk_160 0 29 (dk_at dksX10_laysHears_3 5 rfl rfl)
theorem dX10_laysHears_77 : decode cX10_laysHears 77 = .ok (.aload_n 0, 1) := dk_42 (dk_at dksX10_laysHears_3 8 rfl rfl)
theorem dX10_laysHears_78 : decode cX10_laysHears 78 = .ok (.getfield 53, 3) := dk_180 0 53 (dk_at dksX10_laysHears_3 9 rfl rfl)
theorem dX10_laysHears_81 : decode cX10_laysHears 81 = .ok (.iload 5, 2) := dk_21 5 (dk_at dksX10_laysHears_3 12 rfl rfl)
theorem dX10_laysHears_83 : decode cX10_laysHears 83 = .ok (.iaload, 1) := dk_46 (dk_at dksX10_laysHears_3 14 rfl rfl)
theorem dX10_laysHears_84 : decode cX10_laysHears 84 = .ok (.iload_n 2, 1) := dk_28 (dk_at dksX10_laysHears_3 15 rfl rfl)
theorem dX10_laysHears_85 : decode cX10_laysHears 85 = .ok (.if_icmp .ne 18, 3) := dk_160 0 18 (dk_at dksX10_laysHears_3 16 rfl rfl)
theorem dX10_laysHears_88 : decode cX10_laysHears 88 = .ok (.iload_n 3, 1) := dk_29 (dk_at dksX10_laysHears_3 19 rfl rfl)
theorem dX10_laysHears_89 : decode cX10_laysHears 89 = .ok (.bipush 10, 2) := dk_16 10 (dk_at dksX10_laysHears_3 20 rfl rfl)
theorem dX10_laysHears_91 : decode cX10_laysHears 91 = .ok (.aload_n 0, 1) := dk_42 (dk_at dksX10_laysHears_3 22 rfl rfl)
theorem dX10_laysHears_92 : decode cX10_laysHears 92 = .ok (.iload 5, 2) := dk_21 5 (dk_at dksX10_laysHears_4 0 rfl rfl)
theorem dX10_laysHears_94 : decode cX10_laysHears 94 = .ok (.invokevirtual 454, 3) := dk_182 1 198 (dk_at dksX10_laysHears_4 2 rfl rfl)
theorem dX10_laysHears_97 : decode cX10_laysHears 97 = .ok (.isub, 1) := dk_100 (dk_at dksX10_laysHears_4 5 rfl rfl)
theorem dX10_laysHears_98 : decode cX10_laysHears 98 = .ok (.imul, 1) := dk_104 (dk_at dksX10_laysHears_4 6 rfl rfl)
theorem dX10_laysHears_99 : decode cX10_laysHears 99 = .ok (.bipush 10, 2) := dk_16 10 (dk_at dksX10_laysHears_4 7 rfl rfl)
theorem dX10_laysHears_101 : decode cX10_laysHears 101 = .ok (.idiv, 1) := dk_108 (dk_at dksX10_laysHears_4 9 rfl rfl)
theorem dX10_laysHears_102 : decode cX10_laysHears 102 = .ok (.istore_n 3, 1) := dk_62 (dk_at dksX10_laysHears_4 10 rfl rfl)
theorem dX10_laysHears_103 : decode cX10_laysHears 103 = .ok (.iinc 5 1, 3) := dk_132 5 1 (dk_at dksX10_laysHears_4 11 rfl rfl)
theorem dX10_laysHears_106 : decode cX10_laysHears 106 = .ok (.goto (-52), 3) := dk_167 255 204 (dk_at dksX10_laysHears_4 14 rfl rfl)
theorem dX10_laysHears_109 : decode cX10_laysHears 109 = .ok (.iinc 4 1, 3) := dk_132 4 1 (dk_at dksX10_laysHears_4 17 rfl rfl)
theorem dX10_laysHears_112 : decode cX10_laysHears 112 = .ok (.goto (-93), 3) := dk_167 255 163 (dk_at dksX10_laysHears_4 20 rfl rfl)
theorem dX10_laysHears_115 : decode cX10_laysHears 115 = .ok (.aload_n 0, 1) := dk_42 (dk_at dksX10_laysHears_4 23 rfl rfl)
theorem dX10_laysHears_116 : decode cX10_laysHears 116 = .ok (.getfield 163, 3) := dk_180 0 163 (dk_at dksX10_laysHears_5 0 rfl rfl)
theorem dX10_laysHears_119 : decode cX10_laysHears 119 = .ok (.iload_n 2, 1) := dk_28 (dk_at dksX10_laysHears_5 3 rfl rfl)
theorem dX10_laysHears_120 : decode cX10_laysHears 120 = .ok (.ldc_w 517, 3) := dk_19 2 5 (dk_at dksX10_laysHears_5 4 rfl rfl)
theorem dX10_laysHears_123 : decode cX10_laysHears 123 = .ok (.iload_n 3, 1) := dk_29 (dk_at dksX10_laysHears_5 7 rfl rfl)
theorem dX10_laysHears_124 : decode cX10_laysHears 124 = .ok (.isub, 1) := dk_100 (dk_at dksX10_laysHears_5 8 rfl rfl)
theorem dX10_laysHears_125 : decode cX10_laysHears 125 = .ok (.iastore, 1) := dk_79 (dk_at dksX10_laysHears_5 9 rfl rfl)
theorem dX10_laysHears_126 : decode cX10_laysHears 126 = .ok (.iinc 2 1, 3) := dk_132 2 1 (dk_at dksX10_laysHears_5 10 rfl rfl)
theorem dX10_laysHears_129 : decode cX10_laysHears 129 = .ok (.goto (-127), 3) := dk_167 255 129 (dk_at dksX10_laysHears_5 13 rfl rfl)
theorem dX10_laysHears_132 : decode cX10_laysHears 132 = .ok (.return_, 1) := dk_177 (dk_at dksX10_laysHears_5 16 rfl rfl)
abbrev cX10_holds : ByteArray := prog_36_method_98_code
def yX10_holds : MethodName := ⟨RX10, "holds", "(II)I"⟩
def dkwX10_holds_4 : List UInt8 := [167, 255, 213, 21, 4, 172]
abbrev dktX10_holds_4 : List UInt8 := dkwX10_holds_4 ++ []
def dkwX10_holds_3 : List UInt8 := [182, 1, 168, 29, 161, 0, 15, 21, 4, 42, 180, 0, 157, 21, 5, 46, 96, 54, 4, 132, 5, 1]
abbrev dktX10_holds_3 : List UInt8 := dkwX10_holds_3 ++ dktX10_holds_4
def dkwX10_holds_2 : List UInt8 := [54, 5, 21, 5, 16, 64, 162, 0, 42, 42, 180, 0, 157, 21, 5, 46, 158, 0, 26, 42, 27, 21, 5]
abbrev dktX10_holds_2 : List UInt8 := dkwX10_holds_2 ++ dktX10_holds_3
def dkwX10_holds_1 : List UInt8 := [172, 42, 27, 28, 182, 2, 14, 42, 27, 42, 180, 0, 129, 27, 46, 182, 1, 168, 62, 3, 54, 4, 3]
abbrev dktX10_holds_1 : List UInt8 := dkwX10_holds_1 ++ dktX10_holds_2
def dkwX10_holds_0 : List UInt8 := [42, 3, 181, 0, 175, 42, 27, 182, 1, 189, 153, 0, 13, 28, 3, 16, 30, 184, 1, 52, 154, 0, 5, 2]
abbrev dktX10_holds_0 : List UInt8 := dkwX10_holds_0 ++ dktX10_holds_1
theorem dksX10_holds_0 : cX10_holds.data.toList.drop 0 = dktX10_holds_0 := by decide +kernel
theorem dksX10_holds_1 : cX10_holds.data.toList.drop 24 = dktX10_holds_1 := dk_seg dksX10_holds_0 24 rfl rfl
theorem dksX10_holds_2 : cX10_holds.data.toList.drop 47 = dktX10_holds_2 := dk_seg dksX10_holds_1 23 rfl rfl
theorem dksX10_holds_3 : cX10_holds.data.toList.drop 70 = dktX10_holds_3 := dk_seg dksX10_holds_2 23 rfl rfl
theorem dksX10_holds_4 : cX10_holds.data.toList.drop 92 = dktX10_holds_4 := dk_seg dksX10_holds_3 22 rfl rfl
theorem dX10_holds_0 : decode cX10_holds 0 = .ok (.aload_n 0, 1) := dk_42 (dk_at dksX10_holds_0 0 rfl rfl)
theorem dX10_holds_1 : decode cX10_holds 1 = .ok (.iconst 0, 1) := dk_3 (dk_at dksX10_holds_0 1 rfl rfl)
theorem dX10_holds_2 : decode cX10_holds 2 = .ok (.putfield 175, 3) := dk_181 0 175 (dk_at dksX10_holds_0 2 rfl rfl)
theorem dX10_holds_5 : decode cX10_holds 5 = .ok (.aload_n 0, 1) := dk_42 (dk_at dksX10_holds_0 5 rfl rfl)
theorem dX10_holds_6 : decode cX10_holds 6 = .ok (.iload_n 1, 1) := dk_27 (dk_at dksX10_holds_0 6 rfl rfl)
theorem dX10_holds_7 : decode cX10_holds 7 = .ok (.invokevirtual 445, 3) := dk_182 1 189 (dk_at dksX10_holds_0 7 rfl rfl)
theorem dX10_holds_10 : decode cX10_holds 10 = .ok (.ifCond .eq 13, 3) := dk_153 0 13 (dk_at dksX10_holds_0 10 rfl rfl)
theorem dX10_holds_13 : decode cX10_holds 13 = .ok (.iload_n 2, 1) := dk_28 (dk_at dksX10_holds_0 13 rfl rfl)
theorem dX10_holds_14 : decode cX10_holds 14 = .ok (.iconst 0, 1) := dk_3 (dk_at dksX10_holds_0 14 rfl rfl)
theorem dX10_holds_15 : decode cX10_holds 15 = .ok (.bipush 30, 2) := dk_16 30 (dk_at dksX10_holds_0 15 rfl rfl)
theorem dX10_holds_17 : decode cX10_holds 17 = .ok (.invokestatic 308, 3) := dk_184 1 52 (dk_at dksX10_holds_0 17 rfl rfl)
theorem dX10_holds_20 : decode cX10_holds 20 = .ok (.ifCond .ne 5, 3) := dk_154 0 5 (dk_at dksX10_holds_0 20 rfl rfl)
theorem dX10_holds_23 : decode cX10_holds 23 = .ok (.iconst (-1), 1) := dk_2 (dk_at dksX10_holds_0 23 rfl rfl)
theorem dX10_holds_24 : decode cX10_holds 24 = .ok (.ireturn, 1) := dk_172 (dk_at dksX10_holds_1 0 rfl rfl)
theorem dX10_holds_25 : decode cX10_holds 25 = .ok (.aload_n 0, 1) := dk_42 (dk_at dksX10_holds_1 1 rfl rfl)
theorem dX10_holds_26 : decode cX10_holds 26 = .ok (.iload_n 1, 1) := dk_27 (dk_at dksX10_holds_1 2 rfl rfl)
theorem dX10_holds_27 : decode cX10_holds 27 = .ok (.iload_n 2, 1) := dk_28 (dk_at dksX10_holds_1 3 rfl rfl)
theorem dX10_holds_28 : decode cX10_holds 28 = .ok (.invokevirtual 526, 3) := dk_182 2 14 (dk_at dksX10_holds_1 4 rfl rfl)
theorem dX10_holds_31 : decode cX10_holds 31 = .ok (.aload_n 0, 1) := dk_42 (dk_at dksX10_holds_1 7 rfl rfl)
theorem dX10_holds_32 : decode cX10_holds 32 = .ok (.iload_n 1, 1) := dk_27 (dk_at dksX10_holds_1 8 rfl rfl)
theorem dX10_holds_33 : decode cX10_holds 33 = .ok (.aload_n 0, 1) := dk_42 (dk_at dksX10_holds_1 9 rfl rfl)
theorem dX10_holds_34 : decode cX10_holds 34 = .ok (.getfield 129, 3) := dk_180 0 129 (dk_at dksX10_holds_1 10 rfl rfl)
theorem dX10_holds_37 : decode cX10_holds 37 = .ok (.iload_n 1, 1) := dk_27 (dk_at dksX10_holds_1 13 rfl rfl)
theorem dX10_holds_38 : decode cX10_holds 38 = .ok (.iaload, 1) := dk_46 (dk_at dksX10_holds_1 14 rfl rfl)
theorem dX10_holds_39 : decode cX10_holds 39 = .ok (.invokevirtual 424, 3) := dk_182 1 168 (dk_at dksX10_holds_1 15 rfl rfl)
theorem dX10_holds_42 : decode cX10_holds 42 = .ok (.istore_n 3, 1) := dk_62 (dk_at dksX10_holds_1 18 rfl rfl)
theorem dX10_holds_43 : decode cX10_holds 43 = .ok (.iconst 0, 1) := dk_3 (dk_at dksX10_holds_1 19 rfl rfl)
theorem dX10_holds_44 : decode cX10_holds 44 = .ok (.istore 4, 2) := dk_54 4 (dk_at dksX10_holds_1 20 rfl rfl)
theorem dX10_holds_46 : decode cX10_holds 46 = .ok (.iconst 0, 1) := dk_3 (dk_at dksX10_holds_1 22 rfl rfl)
theorem dX10_holds_47 : decode cX10_holds 47 = .ok (.istore 5, 2) := dk_54 5 (dk_at dksX10_holds_2 0 rfl rfl)
theorem dX10_holds_49 : decode cX10_holds 49 = .ok (.iload 5, 2) := dk_21 5 (dk_at dksX10_holds_2 2 rfl rfl)
theorem dX10_holds_51 : decode cX10_holds 51 = .ok (.bipush 64, 2) := dk_16 64 (dk_at dksX10_holds_2 4 rfl rfl)
theorem dX10_holds_53 : decode cX10_holds 53 = .ok (.if_icmp .ge 42, 3) := dk_162 0 42 (dk_at dksX10_holds_2 6 rfl rfl)
theorem dX10_holds_56 : decode cX10_holds 56 = .ok (.aload_n 0, 1) := dk_42 (dk_at dksX10_holds_2 9 rfl rfl)
theorem dX10_holds_57 : decode cX10_holds 57 = .ok (.getfield 157, 3) := dk_180 0 157 (dk_at dksX10_holds_2 10 rfl rfl)
theorem dX10_holds_60 : decode cX10_holds 60 = .ok (.iload 5, 2) := dk_21 5 (dk_at dksX10_holds_2 13 rfl rfl)
theorem dX10_holds_62 : decode cX10_holds 62 = .ok (.iaload, 1) := dk_46 (dk_at dksX10_holds_2 15 rfl rfl)
theorem dX10_holds_63 : decode cX10_holds 63 = .ok (.ifCond .le 26, 3) := dk_158 0 26 (dk_at dksX10_holds_2 16 rfl rfl)
theorem dX10_holds_66 : decode cX10_holds 66 = .ok (.aload_n 0, 1) := dk_42 (dk_at dksX10_holds_2 19 rfl rfl)
theorem dX10_holds_67 : decode cX10_holds 67 = .ok (.iload_n 1, 1) := dk_27 (dk_at dksX10_holds_2 20 rfl rfl)
theorem dX10_holds_68 : decode cX10_holds 68 = .ok (.iload 5, 2) := dk_21 5 (dk_at dksX10_holds_2 21 rfl rfl)
theorem dX10_holds_70 : decode cX10_holds 70 = .ok (.invokevirtual 424, 3) := dk_182 1 168 (dk_at dksX10_holds_3 0 rfl rfl)
theorem dX10_holds_73 : decode cX10_holds 73 = .ok (.iload_n 3, 1) := dk_29 (dk_at dksX10_holds_3 3 rfl rfl)
theorem dX10_holds_74 : decode cX10_holds 74 = .ok (.if_icmp .lt 15, 3) := dk_161 0 15 (dk_at dksX10_holds_3 4 rfl rfl)
theorem dX10_holds_77 : decode cX10_holds 77 = .ok (.iload 4, 2) := dk_21 4 (dk_at dksX10_holds_3 7 rfl rfl)
theorem dX10_holds_79 : decode cX10_holds 79 = .ok (.aload_n 0, 1) := dk_42 (dk_at dksX10_holds_3 9 rfl rfl)
theorem dX10_holds_80 : decode cX10_holds 80 = .ok (.getfield 157, 3) := dk_180 0 157 (dk_at dksX10_holds_3 10 rfl rfl)
theorem dX10_holds_83 : decode cX10_holds 83 = .ok (.iload 5, 2) := dk_21 5 (dk_at dksX10_holds_3 13 rfl rfl)
theorem dX10_holds_85 : decode cX10_holds 85 = .ok (.iaload, 1) := dk_46 (dk_at dksX10_holds_3 15 rfl rfl)
theorem dX10_holds_86 : decode cX10_holds 86 = .ok (.iadd, 1) := dk_96 (dk_at dksX10_holds_3 16 rfl rfl)
theorem dX10_holds_87 : decode cX10_holds 87 = .ok (.istore 4, 2) := dk_54 4 (dk_at dksX10_holds_3 17 rfl rfl)
theorem dX10_holds_89 : decode cX10_holds 89 = .ok (.iinc 5 1, 3) := dk_132 5 1 (dk_at dksX10_holds_3 19 rfl rfl)
theorem dX10_holds_92 : decode cX10_holds 92 = .ok (.goto (-43), 3) := dk_167 255 213 (dk_at dksX10_holds_4 0 rfl rfl)
theorem dX10_holds_95 : decode cX10_holds 95 = .ok (.iload 4, 2) := dk_21 4 (dk_at dksX10_holds_4 3 rfl rfl)
theorem dX10_holds_97 : decode cX10_holds 97 = .ok (.ireturn, 1) := dk_172 (dk_at dksX10_holds_4 5 rfl rfl)
abbrev cX10_settle : ByteArray := prog_36_method_99_code
def yX10_settle : MethodName := ⟨RX10, "settle", "()I"⟩
def dkwX10_settle_7 : List UInt8 := [184, 1, 236, 42, 180, 0, 166, 27, 46, 100, 172]
abbrev dktX10_settle_7 : List UInt8 := dkwX10_settle_7 ++ []
def dkwX10_settle_6 : List UInt8 := [130, 126, 46, 96, 184, 1, 155, 79, 29, 4, 100, 28, 126, 62, 167, 255, 170, 132, 2, 1, 167, 255, 140, 27]
abbrev dktX10_settle_6 : List UInt8 := dkwX10_settle_6 ++ dktX10_settle_7
def dkwX10_settle_5 : List UInt8 := [21, 4, 154, 0, 30, 42, 180, 0, 166, 28, 42, 180, 0, 166, 28, 46, 4, 42, 180, 0, 166, 28, 29, 2]
abbrev dktX10_settle_5 : List UInt8 := dkwX10_settle_5 ++ dktX10_settle_6
def dkwX10_settle_4 : List UInt8 := [4, 160, 0, 12, 42, 21, 5, 182, 1, 186, 167, 0, 4, 3, 96, 54, 4, 132, 5, 1, 167, 255, 221]
abbrev dktX10_settle_4 : List UInt8 := dkwX10_settle_4 ++ dktX10_settle_5
def dkwX10_settle_3 : List UInt8 := [158, 0, 88, 3, 54, 4, 3, 54, 5, 21, 5, 16, 6, 162, 0, 34, 21, 4, 29, 21, 5, 122, 4, 126]
abbrev dktX10_settle_3 : List UInt8 := dkwX10_settle_3 ++ dktX10_settle_4
def dkwX10_settle_2 : List UInt8 := [16, 64, 162, 0, 116, 42, 180, 0, 166, 28, 28, 154, 0, 7, 3, 167, 0, 5, 16, 156, 79, 28, 62, 29]
abbrev dktX10_settle_2 : List UInt8 := dkwX10_settle_2 ++ dktX10_settle_3
def dkwX10_settle_1 : List UInt8 := [182, 1, 186, 153, 0, 9, 4, 28, 120, 167, 0, 4, 3, 128, 60, 132, 2, 1, 167, 255, 225, 3, 61, 28]
abbrev dktX10_settle_1 : List UInt8 := dkwX10_settle_1 ++ dktX10_settle_2
def dkwX10_settle_0 : List UInt8 := [42, 3, 181, 0, 175, 3, 60, 3, 61, 28, 42, 180, 0, 13, 3, 46, 162, 0, 27, 27, 42, 28]
abbrev dktX10_settle_0 : List UInt8 := dkwX10_settle_0 ++ dktX10_settle_1
theorem dksX10_settle_0 : cX10_settle.data.toList.drop 0 = dktX10_settle_0 := by decide +kernel
theorem dksX10_settle_1 : cX10_settle.data.toList.drop 22 = dktX10_settle_1 := dk_seg dksX10_settle_0 22 rfl rfl
theorem dksX10_settle_2 : cX10_settle.data.toList.drop 46 = dktX10_settle_2 := dk_seg dksX10_settle_1 24 rfl rfl
theorem dksX10_settle_3 : cX10_settle.data.toList.drop 70 = dktX10_settle_3 := dk_seg dksX10_settle_2 24 rfl rfl
theorem dksX10_settle_4 : cX10_settle.data.toList.drop 94 = dktX10_settle_4 := dk_seg dksX10_settle_3 24 rfl rfl
theorem dksX10_settle_5 : cX10_settle.data.toList.drop 117 = dktX10_settle_5 := dk_seg dksX10_settle_4 23 rfl rfl
theorem dksX10_settle_6 : cX10_settle.data.toList.drop 141 = dktX10_settle_6 := dk_seg dksX10_settle_5 24 rfl rfl
theorem dksX10_settle_7 : cX10_settle.data.toList.drop 165 = dktX10_settle_7 := dk_seg dksX10_settle_6 24 rfl rfl
theorem dX10_settle_0 : decode cX10_settle 0 = .ok (.aload_n 0, 1) := dk_42 (dk_at dksX10_settle_0 0 rfl rfl)
theorem dX10_settle_1 : decode cX10_settle 1 = .ok (.iconst 0, 1) := dk_3 (dk_at dksX10_settle_0 1 rfl rfl)
theorem dX10_settle_2 : decode cX10_settle 2 = .ok (.putfield 175, 3) := dk_181 0 175 (dk_at dksX10_settle_0 2 rfl rfl)
theorem dX10_settle_5 : decode cX10_settle 5 = .ok (.iconst 0, 1) := dk_3 (dk_at dksX10_settle_0 5 rfl rfl)
theorem dX10_settle_6 : decode cX10_settle 6 = .ok (.istore_n 1, 1) := dk_60 (dk_at dksX10_settle_0 6 rfl rfl)
theorem dX10_settle_7 : decode cX10_settle 7 = .ok (.iconst 0, 1) := dk_3 (dk_at dksX10_settle_0 7 rfl rfl)
theorem dX10_settle_8 : decode cX10_settle 8 = .ok (.istore_n 2, 1) := dk_61 (dk_at dksX10_settle_0 8 rfl rfl)
theorem dX10_settle_9 : decode cX10_settle 9 = .ok (.iload_n 2, 1) := dk_28 (dk_at dksX10_settle_0 9 rfl rfl)
theorem dX10_settle_10 : decode cX10_settle 10 = .ok (.aload_n 0, 1) := dk_42 (dk_at dksX10_settle_0 10 rfl rfl)
theorem dX10_settle_11 : decode cX10_settle 11 = .ok (.getfield 13, 3) := dk_180 0 13 (dk_at dksX10_settle_0 11 rfl rfl)
theorem dX10_settle_14 : decode cX10_settle 14 = .ok (.iconst 0, 1) := dk_3 (dk_at dksX10_settle_0 14 rfl rfl)
theorem dX10_settle_15 : decode cX10_settle 15 = .ok (.iaload, 1) := dk_46 (dk_at dksX10_settle_0 15 rfl rfl)
theorem dX10_settle_16 : decode cX10_settle 16 = .ok (.if_icmp .ge 27, 3) := dk_162 0 27 (dk_at dksX10_settle_0 16 rfl rfl)
theorem dX10_settle_19 : decode cX10_settle 19 = .ok (.iload_n 1, 1) := dk_27 (dk_at dksX10_settle_0 19 rfl rfl)
theorem dX10_settle_20 : decode cX10_settle 20 = .ok (.aload_n 0, 1) := dk_42 (dk_at dksX10_settle_0 20 rfl rfl)
theorem dX10_settle_21 : decode cX10_settle 21 = .ok (.iload_n 2, 1) := dk_28 (dk_at dksX10_settle_0 21 rfl rfl)
theorem dX10_settle_22 : decode cX10_settle 22 = .ok (.invokevirtual 442, 3) := dk_182 1 186 (dk_at dksX10_settle_1 0 rfl rfl)
theorem dX10_settle_25 : decode cX10_settle 25 = .ok (.ifCond .eq 9, 3) := dk_153 0 9 (dk_at dksX10_settle_1 3 rfl rfl)
theorem dX10_settle_28 : decode cX10_settle 28 = .ok (.iconst 1, 1) := dk_4 (dk_at dksX10_settle_1 6 rfl rfl)
theorem dX10_settle_29 : decode cX10_settle 29 = .ok (.iload_n 2, 1) := dk_28 (dk_at dksX10_settle_1 7 rfl rfl)
theorem dX10_settle_30 : decode cX10_settle 30 = .ok (.ishl, 1) := dk_120 (dk_at dksX10_settle_1 8 rfl rfl)
theorem dX10_settle_31 : decode cX10_settle 31 = .ok (.goto 4, 3) := dk_167 0 4 (dk_at dksX10_settle_1 9 rfl rfl)
theorem dX10_settle_34 : decode cX10_settle 34 = .ok (.iconst 0, 1) := dk_3 (dk_at dksX10_settle_1 12 rfl rfl)
theorem dX10_settle_35 : decode cX10_settle 35 = .ok (.ior, 1) := dk_128 (dk_at dksX10_settle_1 13 rfl rfl)
theorem dX10_settle_36 : decode cX10_settle 36 = .ok (.istore_n 1, 1) := dk_60 (dk_at dksX10_settle_1 14 rfl rfl)
theorem dX10_settle_37 : decode cX10_settle 37 = .ok (.iinc 2 1, 3) := dk_132 2 1 (dk_at dksX10_settle_1 15 rfl rfl)
theorem dX10_settle_40 : decode cX10_settle 40 = .ok (.goto (-31), 3) := dk_167 255 225 (dk_at dksX10_settle_1 18 rfl rfl)
theorem dX10_settle_43 : decode cX10_settle 43 = .ok (.iconst 0, 1) := dk_3 (dk_at dksX10_settle_1 21 rfl rfl)
theorem dX10_settle_44 : decode cX10_settle 44 = .ok (.istore_n 2, 1) := dk_61 (dk_at dksX10_settle_1 22 rfl rfl)
theorem dX10_settle_45 : decode cX10_settle 45 = .ok (.iload_n 2, 1) := dk_28 (dk_at dksX10_settle_1 23 rfl rfl)
theorem dX10_settle_46 : decode cX10_settle 46 = .ok (.bipush 64, 2) := dk_16 64 (dk_at dksX10_settle_2 0 rfl rfl)
theorem dX10_settle_48 : decode cX10_settle 48 = .ok (.if_icmp .ge 116, 3) := dk_162 0 116 (dk_at dksX10_settle_2 2 rfl rfl)
theorem dX10_settle_51 : decode cX10_settle 51 = .ok (.aload_n 0, 1) := dk_42 (dk_at dksX10_settle_2 5 rfl rfl)
theorem dX10_settle_52 : decode cX10_settle 52 = .ok (.getfield 166, 3) := dk_180 0 166 (dk_at dksX10_settle_2 6 rfl rfl)
theorem dX10_settle_55 : decode cX10_settle 55 = .ok (.iload_n 2, 1) := dk_28 (dk_at dksX10_settle_2 9 rfl rfl)
theorem dX10_settle_56 : decode cX10_settle 56 = .ok (.iload_n 2, 1) := dk_28 (dk_at dksX10_settle_2 10 rfl rfl)
theorem dX10_settle_57 : decode cX10_settle 57 = .ok (.ifCond .ne 7, 3) := dk_154 0 7 (dk_at dksX10_settle_2 11 rfl rfl)
theorem dX10_settle_60 : decode cX10_settle 60 = .ok (.iconst 0, 1) := dk_3 (dk_at dksX10_settle_2 14 rfl rfl)
theorem dX10_settle_61 : decode cX10_settle 61 = .ok (.goto 5, 3) := dk_167 0 5 (dk_at dksX10_settle_2 15 rfl rfl)
theorem dX10_settle_64 : decode cX10_settle 64 = .ok (.bipush (-100), 2) := dk_16 156 (dk_at dksX10_settle_2 18 rfl rfl)
theorem dX10_settle_66 : decode cX10_settle 66 = .ok (.iastore, 1) := dk_79 (dk_at dksX10_settle_2 20 rfl rfl)
theorem dX10_settle_67 : decode cX10_settle 67 = .ok (.iload_n 2, 1) := dk_28 (dk_at dksX10_settle_2 21 rfl rfl)
theorem dX10_settle_68 : decode cX10_settle 68 = .ok (.istore_n 3, 1) := dk_62 (dk_at dksX10_settle_2 22 rfl rfl)
theorem dX10_settle_69 : decode cX10_settle 69 = .ok (.iload_n 3, 1) := dk_29 (dk_at dksX10_settle_2 23 rfl rfl)
theorem dX10_settle_70 : decode cX10_settle 70 = .ok (.ifCond .le 88, 3) := dk_158 0 88 (dk_at dksX10_settle_3 0 rfl rfl)
theorem dX10_settle_73 : decode cX10_settle 73 = .ok (.iconst 0, 1) := dk_3 (dk_at dksX10_settle_3 3 rfl rfl)
theorem dX10_settle_74 : decode cX10_settle 74 = .ok (.istore 4, 2) := dk_54 4 (dk_at dksX10_settle_3 4 rfl rfl)
theorem dX10_settle_76 : decode cX10_settle 76 = .ok (.iconst 0, 1) := dk_3 (dk_at dksX10_settle_3 6 rfl rfl)
theorem dX10_settle_77 : decode cX10_settle 77 = .ok (.istore 5, 2) := dk_54 5 (dk_at dksX10_settle_3 7 rfl rfl)
theorem dX10_settle_79 : decode cX10_settle 79 = .ok (.iload 5, 2) := dk_21 5 (dk_at dksX10_settle_3 9 rfl rfl)
theorem dX10_settle_81 : decode cX10_settle 81 = .ok (.bipush 6, 2) := dk_16 6 (dk_at dksX10_settle_3 11 rfl rfl)
theorem dX10_settle_83 : decode cX10_settle 83 = .ok (.if_icmp .ge 34, 3) := dk_162 0 34 (dk_at dksX10_settle_3 13 rfl rfl)
theorem dX10_settle_86 : decode cX10_settle 86 = .ok (.iload 4, 2) := dk_21 4 (dk_at dksX10_settle_3 16 rfl rfl)
theorem dX10_settle_88 : decode cX10_settle 88 = .ok (.iload_n 3, 1) := dk_29 (dk_at dksX10_settle_3 18 rfl rfl)
theorem dX10_settle_89 : decode cX10_settle 89 = .ok (.iload 5, 2) := dk_21 5 (dk_at dksX10_settle_3 19 rfl rfl)
theorem dX10_settle_91 : decode cX10_settle 91 = .ok (.ishr, 1) := dk_122 (dk_at dksX10_settle_3 21 rfl rfl)
theorem dX10_settle_92 : decode cX10_settle 92 = .ok (.iconst 1, 1) := dk_4 (dk_at dksX10_settle_3 22 rfl rfl)
theorem dX10_settle_93 : decode cX10_settle 93 = .ok (.iand, 1) := dk_126 (dk_at dksX10_settle_3 23 rfl rfl)
theorem dX10_settle_94 : decode cX10_settle 94 = .ok (.iconst 1, 1) := dk_4 (dk_at dksX10_settle_4 0 rfl rfl)
theorem dX10_settle_95 : decode cX10_settle 95 = .ok (.if_icmp .ne 12, 3) := dk_160 0 12 (dk_at dksX10_settle_4 1 rfl rfl)
theorem dX10_settle_98 : decode cX10_settle 98 = .ok (.aload_n 0, 1) := dk_42 (dk_at dksX10_settle_4 4 rfl rfl)
theorem dX10_settle_99 : decode cX10_settle 99 = .ok (.iload 5, 2) := dk_21 5 (dk_at dksX10_settle_4 5 rfl rfl)
theorem dX10_settle_101 : decode cX10_settle 101 = .ok (.invokevirtual 442, 3) := dk_182 1 186 (dk_at dksX10_settle_4 7 rfl rfl)
theorem dX10_settle_104 : decode cX10_settle 104 = .ok (.goto 4, 3) := dk_167 0 4 (dk_at dksX10_settle_4 10 rfl rfl)
theorem dX10_settle_107 : decode cX10_settle 107 = .ok (.iconst 0, 1) := dk_3 (dk_at dksX10_settle_4 13 rfl rfl)
theorem dX10_settle_108 : decode cX10_settle 108 = .ok (.iadd, 1) := dk_96 (dk_at dksX10_settle_4 14 rfl rfl)
theorem dX10_settle_109 : decode cX10_settle 109 = .ok (.istore 4, 2) := dk_54 4 (dk_at dksX10_settle_4 15 rfl rfl)
theorem dX10_settle_111 : decode cX10_settle 111 = .ok (.iinc 5 1, 3) := dk_132 5 1 (dk_at dksX10_settle_4 17 rfl rfl)
theorem dX10_settle_114 : decode cX10_settle 114 = .ok (.goto (-35), 3) := dk_167 255 221 (dk_at dksX10_settle_4 20 rfl rfl)
theorem dX10_settle_117 : decode cX10_settle 117 = .ok (.iload 4, 2) := dk_21 4 (dk_at dksX10_settle_5 0 rfl rfl)
theorem dX10_settle_119 : decode cX10_settle 119 = .ok (.ifCond .ne 30, 3) := dk_154 0 30 (dk_at dksX10_settle_5 2 rfl rfl)
theorem dX10_settle_122 : decode cX10_settle 122 = .ok (.aload_n 0, 1) := dk_42 (dk_at dksX10_settle_5 5 rfl rfl)
theorem dX10_settle_123 : decode cX10_settle 123 = .ok (.getfield 166, 3) := dk_180 0 166 (dk_at dksX10_settle_5 6 rfl rfl)
theorem dX10_settle_126 : decode cX10_settle 126 = .ok (.iload_n 2, 1) := dk_28 (dk_at dksX10_settle_5 9 rfl rfl)
theorem dX10_settle_127 : decode cX10_settle 127 = .ok (.aload_n 0, 1) := dk_42 (dk_at dksX10_settle_5 10 rfl rfl)
theorem dX10_settle_128 : decode cX10_settle 128 = .ok (.getfield 166, 3) := dk_180 0 166 (dk_at dksX10_settle_5 11 rfl rfl)
theorem dX10_settle_131 : decode cX10_settle 131 = .ok (.iload_n 2, 1) := dk_28 (dk_at dksX10_settle_5 14 rfl rfl)
theorem dX10_settle_132 : decode cX10_settle 132 = .ok (.iaload, 1) := dk_46 (dk_at dksX10_settle_5 15 rfl rfl)
theorem dX10_settle_133 : decode cX10_settle 133 = .ok (.iconst 1, 1) := dk_4 (dk_at dksX10_settle_5 16 rfl rfl)
theorem dX10_settle_134 : decode cX10_settle 134 = .ok (.aload_n 0, 1) := dk_42 (dk_at dksX10_settle_5 17 rfl rfl)
theorem dX10_settle_135 : decode cX10_settle 135 = .ok (.getfield 166, 3) := dk_180 0 166 (dk_at dksX10_settle_5 18 rfl rfl)
theorem dX10_settle_138 : decode cX10_settle 138 = .ok (.iload_n 2, 1) := dk_28 (dk_at dksX10_settle_5 21 rfl rfl)
theorem dX10_settle_139 : decode cX10_settle 139 = .ok (.iload_n 3, 1) := dk_29 (dk_at dksX10_settle_5 22 rfl rfl)
theorem dX10_settle_140 : decode cX10_settle 140 = .ok (.iconst (-1), 1) := dk_2 (dk_at dksX10_settle_5 23 rfl rfl)
theorem dX10_settle_141 : decode cX10_settle 141 = .ok (.ixor, 1) := dk_130 (dk_at dksX10_settle_6 0 rfl rfl)
theorem dX10_settle_142 : decode cX10_settle 142 = .ok (.iand, 1) := dk_126 (dk_at dksX10_settle_6 1 rfl rfl)
theorem dX10_settle_143 : decode cX10_settle 143 = .ok (.iaload, 1) := dk_46 (dk_at dksX10_settle_6 2 rfl rfl)
theorem dX10_settle_144 : decode cX10_settle 144 = .ok (.iadd, 1) := dk_96 (dk_at dksX10_settle_6 3 rfl rfl)
theorem dX10_settle_145 : decode cX10_settle 145 = .ok (.invokestatic 411, 3) := dk_184 1 155 (dk_at dksX10_settle_6 4 rfl rfl)
theorem dX10_settle_148 : decode cX10_settle 148 = .ok (.iastore, 1) := dk_79 (dk_at dksX10_settle_6 7 rfl rfl)
theorem dX10_settle_149 : decode cX10_settle 149 = .ok (.iload_n 3, 1) := dk_29 (dk_at dksX10_settle_6 8 rfl rfl)
theorem dX10_settle_150 : decode cX10_settle 150 = .ok (.iconst 1, 1) := dk_4 (dk_at dksX10_settle_6 9 rfl rfl)
theorem dX10_settle_151 : decode cX10_settle 151 = .ok (.isub, 1) := dk_100 (dk_at dksX10_settle_6 10 rfl rfl)
theorem dX10_settle_152 : decode cX10_settle 152 = .ok (.iload_n 2, 1) := dk_28 (dk_at dksX10_settle_6 11 rfl rfl)
theorem dX10_settle_153 : decode cX10_settle 153 = .ok (.iand, 1) := dk_126 (dk_at dksX10_settle_6 12 rfl rfl)
theorem dX10_settle_154 : decode cX10_settle 154 = .ok (.istore_n 3, 1) := dk_62 (dk_at dksX10_settle_6 13 rfl rfl)
theorem dX10_settle_155 : decode cX10_settle 155 = .ok (.goto (-86), 3) := dk_167 255 170 (dk_at dksX10_settle_6 14 rfl rfl)
theorem dX10_settle_158 : decode cX10_settle 158 = .ok (.iinc 2 1, 3) := dk_132 2 1 (dk_at dksX10_settle_6 17 rfl rfl)
theorem dX10_settle_161 : decode cX10_settle 161 = .ok (.goto (-116), 3) := dk_167 255 140 (dk_at dksX10_settle_6 20 rfl rfl)
theorem dX10_settle_164 : decode cX10_settle 164 = .ok (.iload_n 1, 1) := dk_27 (dk_at dksX10_settle_6 23 rfl rfl)
theorem dX10_settle_165 : decode cX10_settle 165 = .ok (.invokestatic 492, 3) := dk_184 1 236 (dk_at dksX10_settle_7 0 rfl rfl)
theorem dX10_settle_168 : decode cX10_settle 168 = .ok (.aload_n 0, 1) := dk_42 (dk_at dksX10_settle_7 3 rfl rfl)
theorem dX10_settle_169 : decode cX10_settle 169 = .ok (.getfield 166, 3) := dk_180 0 166 (dk_at dksX10_settle_7 4 rfl rfl)
theorem dX10_settle_172 : decode cX10_settle 172 = .ok (.iload_n 1, 1) := dk_27 (dk_at dksX10_settle_7 7 rfl rfl)
theorem dX10_settle_173 : decode cX10_settle 173 = .ok (.iaload, 1) := dk_46 (dk_at dksX10_settle_7 8 rfl rfl)
theorem dX10_settle_174 : decode cX10_settle 174 = .ok (.isub, 1) := dk_100 (dk_at dksX10_settle_7 9 rfl rfl)
theorem dX10_settle_175 : decode cX10_settle 175 = .ok (.ireturn, 1) := dk_172 (dk_at dksX10_settle_7 10 rfl rfl)
abbrev cX10_rests : ByteArray := prog_36_method_103_code
def yX10_rests : MethodName := ⟨RX10, "rests", "(II)I"⟩
def dkwX10_rests_9 : List UInt8 := [132, 4, 1, 132, 5, 1, 167, 255, 147, 28, 2, 160, 0, 8, 21, 4, 167, 0, 4, 2, 172]
abbrev dktX10_rests_9 : List UInt8 := dkwX10_rests_9 ++ []
def dkwX10_rests_8 : List UInt8 := [21, 7, 153, 0, 25, 42, 182, 2, 28, 154, 0, 6, 167, 0, 15, 21, 4, 28, 160, 0, 6, 21, 5, 172]
abbrev dktX10_rests_8 : List UInt8 := dkwX10_rests_8 ++ dktX10_rests_9
def dkwX10_rests_7 : List UInt8 := [153, 0, 7, 4, 167, 0, 4, 3, 54, 7, 21, 6, 16, 11, 108, 54, 6, 132, 8, 255, 167, 255, 201]
abbrev dktX10_rests_7 : List UInt8 := dkwX10_rests_7 ++ dktX10_rests_8
def dkwX10_rests_6 : List UInt8 := [16, 11, 112, 79, 21, 7, 153, 0, 23, 42, 21, 8, 42, 180, 0, 172, 21, 8, 46, 182, 2, 25]
abbrev dktX10_rests_6 : List UInt8 := dkwX10_rests_6 ++ dktX10_rests_7
def dkwX10_rests_5 : List UInt8 := [54, 7, 42, 180, 2, 19, 4, 100, 54, 8, 21, 8, 155, 0, 56, 42, 180, 0, 172, 21, 8, 21, 6]
abbrev dktX10_rests_5 : List UInt8 := dkwX10_rests_5 ++ dktX10_rests_6
def dkwX10_rests_4 : List UInt8 := [62, 132, 4, 1, 167, 255, 208, 3, 54, 4, 3, 54, 5, 21, 5, 29, 162, 0, 109, 21, 5, 54, 6, 4]
abbrev dktX10_rests_4 : List UInt8 := dkwX10_rests_4 ++ dktX10_rests_5
def dkwX10_rests_3 : List UInt8 := [180, 0, 169, 42, 180, 2, 19, 21, 4, 79, 42, 89, 180, 2, 19, 4, 96, 181, 2, 19, 29, 16, 11, 104]
abbrev dktX10_rests_3 : List UInt8 := dkwX10_rests_3 ++ dktX10_rests_4
def dkwX10_rests_2 : List UInt8 := [3, 54, 4, 21, 4, 16, 6, 162, 0, 47, 27, 21, 4, 122, 4, 126, 154, 0, 6, 167, 0, 29, 42]
abbrev dktX10_rests_2 : List UInt8 := dkwX10_rests_2 ++ dktX10_rests_3
def dkwX10_rests_1 : List UInt8 := [161, 0, 15, 27, 184, 1, 236, 5, 6, 184, 1, 52, 154, 0, 5, 2, 172, 42, 3, 181, 2, 19, 4, 62]
abbrev dktX10_rests_1 : List UInt8 := dkwX10_rests_1 ++ dktX10_rests_2
def dkwX10_rests_0 : List UInt8 := [42, 3, 181, 0, 175, 27, 155, 0, 32, 27, 4, 42, 180, 0, 13, 3, 46, 120, 162, 0, 20, 28, 2]
abbrev dktX10_rests_0 : List UInt8 := dkwX10_rests_0 ++ dktX10_rests_1
theorem dksX10_rests_0 : cX10_rests.data.toList.drop 0 = dktX10_rests_0 := by decide +kernel
theorem dksX10_rests_1 : cX10_rests.data.toList.drop 23 = dktX10_rests_1 := dk_seg dksX10_rests_0 23 rfl rfl
theorem dksX10_rests_2 : cX10_rests.data.toList.drop 47 = dktX10_rests_2 := dk_seg dksX10_rests_1 24 rfl rfl
theorem dksX10_rests_3 : cX10_rests.data.toList.drop 70 = dktX10_rests_3 := dk_seg dksX10_rests_2 23 rfl rfl
theorem dksX10_rests_4 : cX10_rests.data.toList.drop 94 = dktX10_rests_4 := dk_seg dksX10_rests_3 24 rfl rfl
theorem dksX10_rests_5 : cX10_rests.data.toList.drop 118 = dktX10_rests_5 := dk_seg dksX10_rests_4 24 rfl rfl
theorem dksX10_rests_6 : cX10_rests.data.toList.drop 141 = dktX10_rests_6 := dk_seg dksX10_rests_5 23 rfl rfl
theorem dksX10_rests_7 : cX10_rests.data.toList.drop 163 = dktX10_rests_7 := dk_seg dksX10_rests_6 22 rfl rfl
theorem dksX10_rests_8 : cX10_rests.data.toList.drop 186 = dktX10_rests_8 := dk_seg dksX10_rests_7 23 rfl rfl
theorem dksX10_rests_9 : cX10_rests.data.toList.drop 210 = dktX10_rests_9 := dk_seg dksX10_rests_8 24 rfl rfl
theorem dX10_rests_0 : decode cX10_rests 0 = .ok (.aload_n 0, 1) := dk_42 (dk_at dksX10_rests_0 0 rfl rfl)
theorem dX10_rests_1 : decode cX10_rests 1 = .ok (.iconst 0, 1) := dk_3 (dk_at dksX10_rests_0 1 rfl rfl)
theorem dX10_rests_2 : decode cX10_rests 2 = .ok (.putfield 175, 3) := dk_181 0 175 (dk_at dksX10_rests_0 2 rfl rfl)
theorem dX10_rests_5 : decode cX10_rests 5 = .ok (.iload_n 1, 1) := dk_27 (dk_at dksX10_rests_0 5 rfl rfl)
theorem dX10_rests_6 : decode cX10_rests 6 = .ok (.ifCond .lt 32, 3) := dk_155 0 32 (dk_at dksX10_rests_0 6 rfl rfl)
theorem dX10_rests_9 : decode cX10_rests 9 = .ok (.iload_n 1, 1) := dk_27 (dk_at dksX10_rests_0 9 rfl rfl)
theorem dX10_rests_10 : decode cX10_rests 10 = .ok (.iconst 1, 1) := dk_4 (dk_at dksX10_rests_0 10 rfl rfl)
theorem dX10_rests_11 : decode cX10_rests 11 = .ok (.aload_n 0, 1) := dk_42 (dk_at dksX10_rests_0 11 rfl rfl)
theorem dX10_rests_12 : decode cX10_rests 12 = .ok (.getfield 13, 3) := dk_180 0 13 (dk_at dksX10_rests_0 12 rfl rfl)
theorem dX10_rests_15 : decode cX10_rests 15 = .ok (.iconst 0, 1) := dk_3 (dk_at dksX10_rests_0 15 rfl rfl)
theorem dX10_rests_16 : decode cX10_rests 16 = .ok (.iaload, 1) := dk_46 (dk_at dksX10_rests_0 16 rfl rfl)
theorem dX10_rests_17 : decode cX10_rests 17 = .ok (.ishl, 1) := dk_120 (dk_at dksX10_rests_0 17 rfl rfl)
theorem dX10_rests_18 : decode cX10_rests 18 = .ok (.if_icmp .ge 20, 3) := dk_162 0 20 (dk_at dksX10_rests_0 18 rfl rfl)
theorem dX10_rests_21 : decode cX10_rests 21 = .ok (.iload_n 2, 1) := dk_28 (dk_at dksX10_rests_0 21 rfl rfl)
theorem dX10_rests_22 : decode cX10_rests 22 = .ok (.iconst (-1), 1) := dk_2 (dk_at dksX10_rests_0 22 rfl rfl)
theorem dX10_rests_23 : decode cX10_rests 23 = .ok (.if_icmp .lt 15, 3) := dk_161 0 15 (dk_at dksX10_rests_1 0 rfl rfl)
theorem dX10_rests_26 : decode cX10_rests 26 = .ok (.iload_n 1, 1) := dk_27 (dk_at dksX10_rests_1 3 rfl rfl)
theorem dX10_rests_27 : decode cX10_rests 27 = .ok (.invokestatic 492, 3) := dk_184 1 236 (dk_at dksX10_rests_1 4 rfl rfl)
theorem dX10_rests_30 : decode cX10_rests 30 = .ok (.iconst 2, 1) := dk_5 (dk_at dksX10_rests_1 7 rfl rfl)
theorem dX10_rests_31 : decode cX10_rests 31 = .ok (.iconst 3, 1) := dk_6 (dk_at dksX10_rests_1 8 rfl rfl)
theorem dX10_rests_32 : decode cX10_rests 32 = .ok (.invokestatic 308, 3) := dk_184 1 52 (dk_at dksX10_rests_1 9 rfl rfl)
theorem dX10_rests_35 : decode cX10_rests 35 = .ok (.ifCond .ne 5, 3) := dk_154 0 5 (dk_at dksX10_rests_1 12 rfl rfl)
theorem dX10_rests_38 : decode cX10_rests 38 = .ok (.iconst (-1), 1) := dk_2 (dk_at dksX10_rests_1 15 rfl rfl)
theorem dX10_rests_39 : decode cX10_rests 39 = .ok (.ireturn, 1) := dk_172 (dk_at dksX10_rests_1 16 rfl rfl)
theorem dX10_rests_40 : decode cX10_rests 40 = .ok (.aload_n 0, 1) := dk_42 (dk_at dksX10_rests_1 17 rfl rfl)
theorem dX10_rests_41 : decode cX10_rests 41 = .ok (.iconst 0, 1) := dk_3 (dk_at dksX10_rests_1 18 rfl rfl)
theorem dX10_rests_42 : decode cX10_rests 42 = .ok (.putfield 531, 3) := dk_181 2 19 (dk_at dksX10_rests_1 19 rfl rfl)
theorem dX10_rests_45 : decode cX10_rests 45 = .ok (.iconst 1, 1) := dk_4 (dk_at dksX10_rests_1 22 rfl rfl)
theorem dX10_rests_46 : decode cX10_rests 46 = .ok (.istore_n 3, 1) := dk_62 (dk_at dksX10_rests_1 23 rfl rfl)
theorem dX10_rests_47 : decode cX10_rests 47 = .ok (.iconst 0, 1) := dk_3 (dk_at dksX10_rests_2 0 rfl rfl)
theorem dX10_rests_48 : decode cX10_rests 48 = .ok (.istore 4, 2) := dk_54 4 (dk_at dksX10_rests_2 1 rfl rfl)
theorem dX10_rests_50 : decode cX10_rests 50 = .ok (.iload 4, 2) := dk_21 4 (dk_at dksX10_rests_2 3 rfl rfl)
theorem dX10_rests_52 : decode cX10_rests 52 = .ok (.bipush 6, 2) := dk_16 6 (dk_at dksX10_rests_2 5 rfl rfl)
theorem dX10_rests_54 : decode cX10_rests 54 = .ok (.if_icmp .ge 47, 3) := dk_162 0 47 (dk_at dksX10_rests_2 7 rfl rfl)
theorem dX10_rests_57 : decode cX10_rests 57 = .ok (.iload_n 1, 1) := dk_27 (dk_at dksX10_rests_2 10 rfl rfl)
theorem dX10_rests_58 : decode cX10_rests 58 = .ok (.iload 4, 2) := dk_21 4 (dk_at dksX10_rests_2 11 rfl rfl)
theorem dX10_rests_60 : decode cX10_rests 60 = .ok (.ishr, 1) := dk_122 (dk_at dksX10_rests_2 13 rfl rfl)
theorem dX10_rests_61 : decode cX10_rests 61 = .ok (.iconst 1, 1) := dk_4 (dk_at dksX10_rests_2 14 rfl rfl)
theorem dX10_rests_62 : decode cX10_rests 62 = .ok (.iand, 1) := dk_126 (dk_at dksX10_rests_2 15 rfl rfl)
theorem dX10_rests_63 : decode cX10_rests 63 = .ok (.ifCond .ne 6, 3) := dk_154 0 6 (dk_at dksX10_rests_2 16 rfl rfl)
theorem dX10_rests_66 : decode cX10_rests 66 = .ok (.goto 29, 3) := dk_167 0 29 (dk_at dksX10_rests_2 19 rfl rfl)
theorem dX10_rests_69 : decode cX10_rests 69 = .ok (.aload_n 0, 1) := dk_42 (dk_at dksX10_rests_2 22 rfl rfl)
theorem dX10_rests_70 : decode cX10_rests 70 = .ok (.getfield 169, 3) := dk_180 0 169 (dk_at dksX10_rests_3 0 rfl rfl)
theorem dX10_rests_73 : decode cX10_rests 73 = .ok (.aload_n 0, 1) := dk_42 (dk_at dksX10_rests_3 3 rfl rfl)
theorem dX10_rests_74 : decode cX10_rests 74 = .ok (.getfield 531, 3) := dk_180 2 19 (dk_at dksX10_rests_3 4 rfl rfl)
theorem dX10_rests_77 : decode cX10_rests 77 = .ok (.iload 4, 2) := dk_21 4 (dk_at dksX10_rests_3 7 rfl rfl)
theorem dX10_rests_79 : decode cX10_rests 79 = .ok (.iastore, 1) := dk_79 (dk_at dksX10_rests_3 9 rfl rfl)
theorem dX10_rests_80 : decode cX10_rests 80 = .ok (.aload_n 0, 1) := dk_42 (dk_at dksX10_rests_3 10 rfl rfl)
theorem dX10_rests_81 : decode cX10_rests 81 = .ok (.dup, 1) := dk_89 (dk_at dksX10_rests_3 11 rfl rfl)
theorem dX10_rests_82 : decode cX10_rests 82 = .ok (.getfield 531, 3) := dk_180 2 19 (dk_at dksX10_rests_3 12 rfl rfl)
theorem dX10_rests_85 : decode cX10_rests 85 = .ok (.iconst 1, 1) := dk_4 (dk_at dksX10_rests_3 15 rfl rfl)
theorem dX10_rests_86 : decode cX10_rests 86 = .ok (.iadd, 1) := dk_96 (dk_at dksX10_rests_3 16 rfl rfl)
theorem dX10_rests_87 : decode cX10_rests 87 = .ok (.putfield 531, 3) := dk_181 2 19 (dk_at dksX10_rests_3 17 rfl rfl)
theorem dX10_rests_90 : decode cX10_rests 90 = .ok (.iload_n 3, 1) := dk_29 (dk_at dksX10_rests_3 20 rfl rfl)
theorem dX10_rests_91 : decode cX10_rests 91 = .ok (.bipush 11, 2) := dk_16 11 (dk_at dksX10_rests_3 21 rfl rfl)
theorem dX10_rests_93 : decode cX10_rests 93 = .ok (.imul, 1) := dk_104 (dk_at dksX10_rests_3 23 rfl rfl)
theorem dX10_rests_94 : decode cX10_rests 94 = .ok (.istore_n 3, 1) := dk_62 (dk_at dksX10_rests_4 0 rfl rfl)
theorem dX10_rests_95 : decode cX10_rests 95 = .ok (.iinc 4 1, 3) := dk_132 4 1 (dk_at dksX10_rests_4 1 rfl rfl)
theorem dX10_rests_98 : decode cX10_rests 98 = .ok (.goto (-48), 3) := dk_167 255 208 (dk_at dksX10_rests_4 4 rfl rfl)
theorem dX10_rests_101 : decode cX10_rests 101 = .ok (.iconst 0, 1) := dk_3 (dk_at dksX10_rests_4 7 rfl rfl)
theorem dX10_rests_102 : decode cX10_rests 102 = .ok (.istore 4, 2) := dk_54 4 (dk_at dksX10_rests_4 8 rfl rfl)
theorem dX10_rests_104 : decode cX10_rests 104 = .ok (.iconst 0, 1) := dk_3 (dk_at dksX10_rests_4 10 rfl rfl)
theorem dX10_rests_105 : decode cX10_rests 105 = .ok (.istore 5, 2) := dk_54 5 (dk_at dksX10_rests_4 11 rfl rfl)
theorem dX10_rests_107 : decode cX10_rests 107 = .ok (.iload 5, 2) := dk_21 5 (dk_at dksX10_rests_4 13 rfl rfl)
theorem dX10_rests_109 : decode cX10_rests 109 = .ok (.iload_n 3, 1) := dk_29 (dk_at dksX10_rests_4 15 rfl rfl)
theorem dX10_rests_110 : decode cX10_rests 110 = .ok (.if_icmp .ge 109, 3) := dk_162 0 109 (dk_at dksX10_rests_4 16 rfl rfl)
theorem dX10_rests_113 : decode cX10_rests 113 = .ok (.iload 5, 2) := dk_21 5 (dk_at dksX10_rests_4 19 rfl rfl)
theorem dX10_rests_115 : decode cX10_rests 115 = .ok (.istore 6, 2) := dk_54 6 (dk_at dksX10_rests_4 21 rfl rfl)
theorem dX10_rests_117 : decode cX10_rests 117 = .ok (.iconst 1, 1) := dk_4 (dk_at dksX10_rests_4 23 rfl rfl)
theorem dX10_rests_118 : decode cX10_rests 118 = .ok (.istore 7, 2) := dk_54 7 (dk_at dksX10_rests_5 0 rfl rfl)
theorem dX10_rests_120 : decode cX10_rests 120 = .ok (.aload_n 0, 1) := dk_42 (dk_at dksX10_rests_5 2 rfl rfl)
theorem dX10_rests_121 : decode cX10_rests 121 = .ok (.getfield 531, 3) := dk_180 2 19 (dk_at dksX10_rests_5 3 rfl rfl)
theorem dX10_rests_124 : decode cX10_rests 124 = .ok (.iconst 1, 1) := dk_4 (dk_at dksX10_rests_5 6 rfl rfl)
theorem dX10_rests_125 : decode cX10_rests 125 = .ok (.isub, 1) := dk_100 (dk_at dksX10_rests_5 7 rfl rfl)
theorem dX10_rests_126 : decode cX10_rests 126 = .ok (.istore 8, 2) := dk_54 8 (dk_at dksX10_rests_5 8 rfl rfl)
theorem dX10_rests_128 : decode cX10_rests 128 = .ok (.iload 8, 2) := dk_21 8 (dk_at dksX10_rests_5 10 rfl rfl)
theorem dX10_rests_130 : decode cX10_rests 130 = .ok (.ifCond .lt 56, 3) := dk_155 0 56 (dk_at dksX10_rests_5 12 rfl rfl)
theorem dX10_rests_133 : decode cX10_rests 133 = .ok (.aload_n 0, 1) := dk_42 (dk_at dksX10_rests_5 15 rfl rfl)
theorem dX10_rests_134 : decode cX10_rests 134 = .ok (.getfield 172, 3) := dk_180 0 172 (dk_at dksX10_rests_5 16 rfl rfl)
theorem dX10_rests_137 : decode cX10_rests 137 = .ok (.iload 8, 2) := dk_21 8 (dk_at dksX10_rests_5 19 rfl rfl)
theorem dX10_rests_139 : decode cX10_rests 139 = .ok (.iload 6, 2) := dk_21 6 (dk_at dksX10_rests_5 21 rfl rfl)
theorem dX10_rests_141 : decode cX10_rests 141 = .ok (.bipush 11, 2) := dk_16 11 (dk_at dksX10_rests_6 0 rfl rfl)
theorem dX10_rests_143 : decode cX10_rests 143 = .ok (.irem, 1) := dk_112 (dk_at dksX10_rests_6 2 rfl rfl)
theorem dX10_rests_144 : decode cX10_rests 144 = .ok (.iastore, 1) := dk_79 (dk_at dksX10_rests_6 3 rfl rfl)
theorem dX10_rests_145 : decode cX10_rests 145 = .ok (.iload 7, 2) := dk_21 7 (dk_at dksX10_rests_6 4 rfl rfl)
theorem dX10_rests_147 : decode cX10_rests 147 = .ok (.ifCond .eq 23, 3) := dk_153 0 23 (dk_at dksX10_rests_6 6 rfl rfl)
theorem dX10_rests_150 : decode cX10_rests 150 = .ok (.aload_n 0, 1) := dk_42 (dk_at dksX10_rests_6 9 rfl rfl)
theorem dX10_rests_151 : decode cX10_rests 151 = .ok (.iload 8, 2) := dk_21 8 (dk_at dksX10_rests_6 10 rfl rfl)
theorem dX10_rests_153 : decode cX10_rests 153 = .ok (.aload_n 0, 1) := dk_42 (dk_at dksX10_rests_6 12 rfl rfl)
theorem dX10_rests_154 : decode cX10_rests 154 = .ok (.getfield 172, 3) := dk_180 0 172 (dk_at dksX10_rests_6 13 rfl rfl)
theorem dX10_rests_157 : decode cX10_rests 157 = .ok (.iload 8, 2) := dk_21 8 (dk_at dksX10_rests_6 16 rfl rfl)
theorem dX10_rests_159 : decode cX10_rests 159 = .ok (.iaload, 1) := dk_46 (dk_at dksX10_rests_6 18 rfl rfl)
theorem dX10_rests_160 : decode cX10_rests 160 = .ok (.invokevirtual 537, 3) := dk_182 2 25 (dk_at dksX10_rests_6 19 rfl rfl)
theorem dX10_rests_163 : decode cX10_rests 163 = .ok (.ifCond .eq 7, 3) := dk_153 0 7 (dk_at dksX10_rests_7 0 rfl rfl)
theorem dX10_rests_166 : decode cX10_rests 166 = .ok (.iconst 1, 1) := dk_4 (dk_at dksX10_rests_7 3 rfl rfl)
theorem dX10_rests_167 : decode cX10_rests 167 = .ok (.goto 4, 3) := dk_167 0 4 (dk_at dksX10_rests_7 4 rfl rfl)
theorem dX10_rests_170 : decode cX10_rests 170 = .ok (.iconst 0, 1) := dk_3 (dk_at dksX10_rests_7 7 rfl rfl)
theorem dX10_rests_171 : decode cX10_rests 171 = .ok (.istore 7, 2) := dk_54 7 (dk_at dksX10_rests_7 8 rfl rfl)
theorem dX10_rests_173 : decode cX10_rests 173 = .ok (.iload 6, 2) := dk_21 6 (dk_at dksX10_rests_7 10 rfl rfl)
theorem dX10_rests_175 : decode cX10_rests 175 = .ok (.bipush 11, 2) := dk_16 11 (dk_at dksX10_rests_7 12 rfl rfl)
theorem dX10_rests_177 : decode cX10_rests 177 = .ok (.idiv, 1) := dk_108 (dk_at dksX10_rests_7 14 rfl rfl)
theorem dX10_rests_178 : decode cX10_rests 178 = .ok (.istore 6, 2) := dk_54 6 (dk_at dksX10_rests_7 15 rfl rfl)
theorem dX10_rests_180 : decode cX10_rests 180 = .ok (.iinc 8 (-1), 3) := dk_132 8 255 (dk_at dksX10_rests_7 17 rfl rfl)
theorem dX10_rests_183 : decode cX10_rests 183 = .ok (.goto (-55), 3) := dk_167 255 201 (dk_at dksX10_rests_7 20 rfl rfl)
theorem dX10_rests_186 : decode cX10_rests 186 = .ok (.iload 7, 2) := dk_21 7 (dk_at dksX10_rests_8 0 rfl rfl)
theorem dX10_rests_188 : decode cX10_rests 188 = .ok (.ifCond .eq 25, 3) := dk_153 0 25 (dk_at dksX10_rests_8 2 rfl rfl)
theorem dX10_rests_191 : decode cX10_rests 191 = .ok (.aload_n 0, 1) := dk_42 (dk_at dksX10_rests_8 5 rfl rfl)
theorem dX10_rests_192 : decode cX10_rests 192 = .ok (.invokevirtual 540, 3) := dk_182 2 28 (dk_at dksX10_rests_8 6 rfl rfl)
theorem dX10_rests_195 : decode cX10_rests 195 = .ok (.ifCond .ne 6, 3) := dk_154 0 6 (dk_at dksX10_rests_8 9 rfl rfl)
theorem dX10_rests_198 : decode cX10_rests 198 = .ok (.goto 15, 3) := dk_167 0 15 (dk_at dksX10_rests_8 12 rfl rfl)
theorem dX10_rests_201 : decode cX10_rests 201 = .ok (.iload 4, 2) := dk_21 4 (dk_at dksX10_rests_8 15 rfl rfl)
theorem dX10_rests_203 : decode cX10_rests 203 = .ok (.iload_n 2, 1) := dk_28 (dk_at dksX10_rests_8 17 rfl rfl)
theorem dX10_rests_204 : decode cX10_rests 204 = .ok (.if_icmp .ne 6, 3) := dk_160 0 6 (dk_at dksX10_rests_8 18 rfl rfl)
theorem dX10_rests_207 : decode cX10_rests 207 = .ok (.iload 5, 2) := dk_21 5 (dk_at dksX10_rests_8 21 rfl rfl)
theorem dX10_rests_209 : decode cX10_rests 209 = .ok (.ireturn, 1) := dk_172 (dk_at dksX10_rests_8 23 rfl rfl)
theorem dX10_rests_210 : decode cX10_rests 210 = .ok (.iinc 4 1, 3) := dk_132 4 1 (dk_at dksX10_rests_9 0 rfl rfl)
theorem dX10_rests_213 : decode cX10_rests 213 = .ok (.iinc 5 1, 3) := dk_132 5 1 (dk_at dksX10_rests_9 3 rfl rfl)
theorem dX10_rests_216 : decode cX10_rests 216 = .ok (.goto (-109), 3) := dk_167 255 147 (dk_at dksX10_rests_9 6 rfl rfl)
theorem dX10_rests_219 : decode cX10_rests 219 = .ok (.iload_n 2, 1) := dk_28 (dk_at dksX10_rests_9 9 rfl rfl)
theorem dX10_rests_220 : decode cX10_rests 220 = .ok (.iconst (-1), 1) := dk_2 (dk_at dksX10_rests_9 10 rfl rfl)
theorem dX10_rests_221 : decode cX10_rests 221 = .ok (.if_icmp .ne 8, 3) := dk_160 0 8 (dk_at dksX10_rests_9 11 rfl rfl)
theorem dX10_rests_224 : decode cX10_rests 224 = .ok (.iload 4, 2) := dk_21 4 (dk_at dksX10_rests_9 14 rfl rfl)
theorem dX10_rests_226 : decode cX10_rests 226 = .ok (.goto 4, 3) := dk_167 0 4 (dk_at dksX10_rests_9 16 rfl rfl)
theorem dX10_rests_229 : decode cX10_rests 229 = .ok (.iconst (-1), 1) := dk_2 (dk_at dksX10_rests_9 19 rfl rfl)
theorem dX10_rests_230 : decode cX10_rests 230 = .ok (.ireturn, 1) := dk_172 (dk_at dksX10_rests_9 20 rfl rfl)
abbrev cX10_may : ByteArray := prog_36_method_101_code
def yX10_may : MethodName := ⟨RX10, "may", "(II)Z"⟩
def dkwX10_may_1 : List UInt8 := [180, 0, 169, 27, 46, 122, 4, 126, 4, 160, 0, 7, 4, 167, 0, 4, 3, 172]
abbrev dktX10_may_1 : List UInt8 := dkwX10_may_1 ++ []
def dkwX10_may_0 : List UInt8 := [28, 153, 0, 34, 28, 42, 180, 0, 13, 4, 46, 163, 0, 28, 42, 180, 0, 129, 28, 4, 100, 46, 42]
abbrev dktX10_may_0 : List UInt8 := dkwX10_may_0 ++ dktX10_may_1
theorem dksX10_may_0 : cX10_may.data.toList.drop 0 = dktX10_may_0 := by decide +kernel
theorem dksX10_may_1 : cX10_may.data.toList.drop 23 = dktX10_may_1 := dk_seg dksX10_may_0 23 rfl rfl
theorem dX10_may_0 : decode cX10_may 0 = .ok (.iload_n 2, 1) := dk_28 (dk_at dksX10_may_0 0 rfl rfl)
theorem dX10_may_1 : decode cX10_may 1 = .ok (.ifCond .eq 34, 3) := dk_153 0 34 (dk_at dksX10_may_0 1 rfl rfl)
theorem dX10_may_4 : decode cX10_may 4 = .ok (.iload_n 2, 1) := dk_28 (dk_at dksX10_may_0 4 rfl rfl)
theorem dX10_may_5 : decode cX10_may 5 = .ok (.aload_n 0, 1) := dk_42 (dk_at dksX10_may_0 5 rfl rfl)
theorem dX10_may_6 : decode cX10_may 6 = .ok (.getfield 13, 3) := dk_180 0 13 (dk_at dksX10_may_0 6 rfl rfl)
theorem dX10_may_9 : decode cX10_may 9 = .ok (.iconst 1, 1) := dk_4 (dk_at dksX10_may_0 9 rfl rfl)
theorem dX10_may_10 : decode cX10_may 10 = .ok (.iaload, 1) := dk_46 (dk_at dksX10_may_0 10 rfl rfl)
theorem dX10_may_11 : decode cX10_may 11 = .ok (.if_icmp .gt 28, 3) := dk_163 0 28 (dk_at dksX10_may_0 11 rfl rfl)
theorem dX10_may_14 : decode cX10_may 14 = .ok (.aload_n 0, 1) := dk_42 (dk_at dksX10_may_0 14 rfl rfl)
theorem dX10_may_15 : decode cX10_may 15 = .ok (.getfield 129, 3) := dk_180 0 129 (dk_at dksX10_may_0 15 rfl rfl)
theorem dX10_may_18 : decode cX10_may 18 = .ok (.iload_n 2, 1) := dk_28 (dk_at dksX10_may_0 18 rfl rfl)
theorem dX10_may_19 : decode cX10_may 19 = .ok (.iconst 1, 1) := dk_4 (dk_at dksX10_may_0 19 rfl rfl)
theorem dX10_may_20 : decode cX10_may 20 = .ok (.isub, 1) := dk_100 (dk_at dksX10_may_0 20 rfl rfl)
theorem dX10_may_21 : decode cX10_may 21 = .ok (.iaload, 1) := dk_46 (dk_at dksX10_may_0 21 rfl rfl)
theorem dX10_may_22 : decode cX10_may 22 = .ok (.aload_n 0, 1) := dk_42 (dk_at dksX10_may_0 22 rfl rfl)
theorem dX10_may_23 : decode cX10_may 23 = .ok (.getfield 169, 3) := dk_180 0 169 (dk_at dksX10_may_1 0 rfl rfl)
theorem dX10_may_26 : decode cX10_may 26 = .ok (.iload_n 1, 1) := dk_27 (dk_at dksX10_may_1 3 rfl rfl)
theorem dX10_may_27 : decode cX10_may 27 = .ok (.iaload, 1) := dk_46 (dk_at dksX10_may_1 4 rfl rfl)
theorem dX10_may_28 : decode cX10_may 28 = .ok (.ishr, 1) := dk_122 (dk_at dksX10_may_1 5 rfl rfl)
theorem dX10_may_29 : decode cX10_may 29 = .ok (.iconst 1, 1) := dk_4 (dk_at dksX10_may_1 6 rfl rfl)
theorem dX10_may_30 : decode cX10_may 30 = .ok (.iand, 1) := dk_126 (dk_at dksX10_may_1 7 rfl rfl)
theorem dX10_may_31 : decode cX10_may 31 = .ok (.iconst 1, 1) := dk_4 (dk_at dksX10_may_1 8 rfl rfl)
theorem dX10_may_32 : decode cX10_may 32 = .ok (.if_icmp .ne 7, 3) := dk_160 0 7 (dk_at dksX10_may_1 9 rfl rfl)
theorem dX10_may_35 : decode cX10_may 35 = .ok (.iconst 1, 1) := dk_4 (dk_at dksX10_may_1 12 rfl rfl)
theorem dX10_may_36 : decode cX10_may 36 = .ok (.goto 4, 3) := dk_167 0 4 (dk_at dksX10_may_1 13 rfl rfl)
theorem dX10_may_39 : decode cX10_may 39 = .ok (.iconst 0, 1) := dk_3 (dk_at dksX10_may_1 16 rfl rfl)
theorem dX10_may_40 : decode cX10_may 40 = .ok (.ireturn, 1) := dk_172 (dk_at dksX10_may_1 17 rfl rfl)
abbrev cX10_isRest : ByteArray := prog_36_method_102_code
def yX10_isRest : MethodName := ⟨RX10, "isRest", "()Z"⟩
def dkwX10_isRest_4 : List UInt8 := [21, 4, 153, 0, 5, 3, 172, 132, 1, 1, 167, 255, 153, 4, 172]
abbrev dktX10_isRest_4 : List UInt8 := dkwX10_isRest_4 ++ []
def dkwX10_isRest_3 : List UInt8 := [29, 164, 0, 7, 4, 167, 0, 4, 3, 54, 4, 132, 5, 1, 167, 255, 200, 42, 180, 0, 172, 27, 28, 79]
abbrev dktX10_isRest_3 : List UInt8 := dkwX10_isRest_3 ++ dktX10_isRest_4
def dkwX10_isRest_2 : List UInt8 := [154, 0, 6, 167, 0, 32, 42, 180, 0, 172, 27, 21, 5, 79, 21, 4, 154, 0, 12, 42, 27, 182, 2, 22]
abbrev dktX10_isRest_2 : List UInt8 := dkwX10_isRest_2 ++ dktX10_isRest_3
def dkwX10_isRest_1 : List UInt8 := [54, 4, 3, 54, 5, 21, 5, 42, 180, 0, 13, 4, 46, 163, 0, 51, 42, 27, 21, 5, 182, 2, 25]
abbrev dktX10_isRest_1 : List UInt8 := dkwX10_isRest_1 ++ dktX10_isRest_2
def dkwX10_isRest_0 : List UInt8 := [3, 60, 27, 42, 180, 2, 19, 162, 0, 101, 42, 180, 0, 172, 27, 46, 61, 42, 27, 182, 2, 22, 62, 3]
abbrev dktX10_isRest_0 : List UInt8 := dkwX10_isRest_0 ++ dktX10_isRest_1
theorem dksX10_isRest_0 : cX10_isRest.data.toList.drop 0 = dktX10_isRest_0 := by decide +kernel
theorem dksX10_isRest_1 : cX10_isRest.data.toList.drop 24 = dktX10_isRest_1 := dk_seg dksX10_isRest_0 24 rfl rfl
theorem dksX10_isRest_2 : cX10_isRest.data.toList.drop 47 = dktX10_isRest_2 := dk_seg dksX10_isRest_1 23 rfl rfl
theorem dksX10_isRest_3 : cX10_isRest.data.toList.drop 71 = dktX10_isRest_3 := dk_seg dksX10_isRest_2 24 rfl rfl
theorem dksX10_isRest_4 : cX10_isRest.data.toList.drop 95 = dktX10_isRest_4 := dk_seg dksX10_isRest_3 24 rfl rfl
theorem dX10_isRest_0 : decode cX10_isRest 0 = .ok (.iconst 0, 1) := dk_3 (dk_at dksX10_isRest_0 0 rfl rfl)
theorem dX10_isRest_1 : decode cX10_isRest 1 = .ok (.istore_n 1, 1) := dk_60 (dk_at dksX10_isRest_0 1 rfl rfl)
theorem dX10_isRest_2 : decode cX10_isRest 2 = .ok (.iload_n 1, 1) := dk_27 (dk_at dksX10_isRest_0 2 rfl rfl)
theorem dX10_isRest_3 : decode cX10_isRest 3 = .ok (.aload_n 0, 1) := dk_42 (dk_at dksX10_isRest_0 3 rfl rfl)
theorem dX10_isRest_4 : decode cX10_isRest 4 = .ok (.getfield 531, 3) := dk_180 2 19 (dk_at dksX10_isRest_0 4 rfl rfl)
theorem dX10_isRest_7 : decode cX10_isRest 7 = .ok (.if_icmp .ge 101, 3) := dk_162 0 101 (dk_at dksX10_isRest_0 7 rfl rfl)
theorem dX10_isRest_10 : decode cX10_isRest 10 = .ok (.aload_n 0, 1) := dk_42 (dk_at dksX10_isRest_0 10 rfl rfl)
theorem dX10_isRest_11 : decode cX10_isRest 11 = .ok (.getfield 172, 3) := dk_180 0 172 (dk_at dksX10_isRest_0 11 rfl rfl)
theorem dX10_isRest_14 : decode cX10_isRest 14 = .ok (.iload_n 1, 1) := dk_27 (dk_at dksX10_isRest_0 14 rfl rfl)
theorem dX10_isRest_15 : decode cX10_isRest 15 = .ok (.iaload, 1) := dk_46 (dk_at dksX10_isRest_0 15 rfl rfl)
theorem dX10_isRest_16 : decode cX10_isRest 16 = .ok (.istore_n 2, 1) := dk_61 (dk_at dksX10_isRest_0 16 rfl rfl)
theorem dX10_isRest_17 : decode cX10_isRest 17 = .ok (.aload_n 0, 1) := dk_42 (dk_at dksX10_isRest_0 17 rfl rfl)
theorem dX10_isRest_18 : decode cX10_isRest 18 = .ok (.iload_n 1, 1) := dk_27 (dk_at dksX10_isRest_0 18 rfl rfl)
theorem dX10_isRest_19 : decode cX10_isRest 19 = .ok (.invokevirtual 534, 3) := dk_182 2 22 (dk_at dksX10_isRest_0 19 rfl rfl)
theorem dX10_isRest_22 : decode cX10_isRest 22 = .ok (.istore_n 3, 1) := dk_62 (dk_at dksX10_isRest_0 22 rfl rfl)
theorem dX10_isRest_23 : decode cX10_isRest 23 = .ok (.iconst 0, 1) := dk_3 (dk_at dksX10_isRest_0 23 rfl rfl)
theorem dX10_isRest_24 : decode cX10_isRest 24 = .ok (.istore 4, 2) := dk_54 4 (dk_at dksX10_isRest_1 0 rfl rfl)
theorem dX10_isRest_26 : decode cX10_isRest 26 = .ok (.iconst 0, 1) := dk_3 (dk_at dksX10_isRest_1 2 rfl rfl)
theorem dX10_isRest_27 : decode cX10_isRest 27 = .ok (.istore 5, 2) := dk_54 5 (dk_at dksX10_isRest_1 3 rfl rfl)
theorem dX10_isRest_29 : decode cX10_isRest 29 = .ok (.iload 5, 2) := dk_21 5 (dk_at dksX10_isRest_1 5 rfl rfl)
theorem dX10_isRest_31 : decode cX10_isRest 31 = .ok (.aload_n 0, 1) := dk_42 (dk_at dksX10_isRest_1 7 rfl rfl)
theorem dX10_isRest_32 : decode cX10_isRest 32 = .ok (.getfield 13, 3) := dk_180 0 13 (dk_at dksX10_isRest_1 8 rfl rfl)
theorem dX10_isRest_35 : decode cX10_isRest 35 = .ok (.iconst 1, 1) := dk_4 (dk_at dksX10_isRest_1 11 rfl rfl)
theorem dX10_isRest_36 : decode cX10_isRest 36 = .ok (.iaload, 1) := dk_46 (dk_at dksX10_isRest_1 12 rfl rfl)
theorem dX10_isRest_37 : decode cX10_isRest 37 = .ok (.if_icmp .gt 51, 3) := dk_163 0 51 (dk_at dksX10_isRest_1 13 rfl rfl)
theorem dX10_isRest_40 : decode cX10_isRest 40 = .ok (.aload_n 0, 1) := dk_42 (dk_at dksX10_isRest_1 16 rfl rfl)
theorem dX10_isRest_41 : decode cX10_isRest 41 = .ok (.iload_n 1, 1) := dk_27 (dk_at dksX10_isRest_1 17 rfl rfl)
theorem dX10_isRest_42 : decode cX10_isRest 42 = .ok (.iload 5, 2) := dk_21 5 (dk_at dksX10_isRest_1 18 rfl rfl)
theorem dX10_isRest_44 : decode cX10_isRest 44 = .ok (.invokevirtual 537, 3) := dk_182 2 25 (dk_at dksX10_isRest_1 20 rfl rfl)
theorem dX10_isRest_47 : decode cX10_isRest 47 = .ok (.ifCond .ne 6, 3) := dk_154 0 6 (dk_at dksX10_isRest_2 0 rfl rfl)
theorem dX10_isRest_50 : decode cX10_isRest 50 = .ok (.goto 32, 3) := dk_167 0 32 (dk_at dksX10_isRest_2 3 rfl rfl)
theorem dX10_isRest_53 : decode cX10_isRest 53 = .ok (.aload_n 0, 1) := dk_42 (dk_at dksX10_isRest_2 6 rfl rfl)
theorem dX10_isRest_54 : decode cX10_isRest 54 = .ok (.getfield 172, 3) := dk_180 0 172 (dk_at dksX10_isRest_2 7 rfl rfl)
theorem dX10_isRest_57 : decode cX10_isRest 57 = .ok (.iload_n 1, 1) := dk_27 (dk_at dksX10_isRest_2 10 rfl rfl)
theorem dX10_isRest_58 : decode cX10_isRest 58 = .ok (.iload 5, 2) := dk_21 5 (dk_at dksX10_isRest_2 11 rfl rfl)
theorem dX10_isRest_60 : decode cX10_isRest 60 = .ok (.iastore, 1) := dk_79 (dk_at dksX10_isRest_2 13 rfl rfl)
theorem dX10_isRest_61 : decode cX10_isRest 61 = .ok (.iload 4, 2) := dk_21 4 (dk_at dksX10_isRest_2 14 rfl rfl)
theorem dX10_isRest_63 : decode cX10_isRest 63 = .ok (.ifCond .ne 12, 3) := dk_154 0 12 (dk_at dksX10_isRest_2 16 rfl rfl)
theorem dX10_isRest_66 : decode cX10_isRest 66 = .ok (.aload_n 0, 1) := dk_42 (dk_at dksX10_isRest_2 19 rfl rfl)
theorem dX10_isRest_67 : decode cX10_isRest 67 = .ok (.iload_n 1, 1) := dk_27 (dk_at dksX10_isRest_2 20 rfl rfl)
theorem dX10_isRest_68 : decode cX10_isRest 68 = .ok (.invokevirtual 534, 3) := dk_182 2 22 (dk_at dksX10_isRest_2 21 rfl rfl)
theorem dX10_isRest_71 : decode cX10_isRest 71 = .ok (.iload_n 3, 1) := dk_29 (dk_at dksX10_isRest_3 0 rfl rfl)
theorem dX10_isRest_72 : decode cX10_isRest 72 = .ok (.if_icmp .le 7, 3) := dk_164 0 7 (dk_at dksX10_isRest_3 1 rfl rfl)
theorem dX10_isRest_75 : decode cX10_isRest 75 = .ok (.iconst 1, 1) := dk_4 (dk_at dksX10_isRest_3 4 rfl rfl)
theorem dX10_isRest_76 : decode cX10_isRest 76 = .ok (.goto 4, 3) := dk_167 0 4 (dk_at dksX10_isRest_3 5 rfl rfl)
theorem dX10_isRest_79 : decode cX10_isRest 79 = .ok (.iconst 0, 1) := dk_3 (dk_at dksX10_isRest_3 8 rfl rfl)
theorem dX10_isRest_80 : decode cX10_isRest 80 = .ok (.istore 4, 2) := dk_54 4 (dk_at dksX10_isRest_3 9 rfl rfl)
theorem dX10_isRest_82 : decode cX10_isRest 82 = .ok (.iinc 5 1, 3) := dk_132 5 1 (dk_at dksX10_isRest_3 11 rfl rfl)
theorem dX10_isRest_85 : decode cX10_isRest 85 = .ok (.goto (-56), 3) := dk_167 255 200 (dk_at dksX10_isRest_3 14 rfl rfl)
theorem dX10_isRest_88 : decode cX10_isRest 88 = .ok (.aload_n 0, 1) := dk_42 (dk_at dksX10_isRest_3 17 rfl rfl)
theorem dX10_isRest_89 : decode cX10_isRest 89 = .ok (.getfield 172, 3) := dk_180 0 172 (dk_at dksX10_isRest_3 18 rfl rfl)
theorem dX10_isRest_92 : decode cX10_isRest 92 = .ok (.iload_n 1, 1) := dk_27 (dk_at dksX10_isRest_3 21 rfl rfl)
theorem dX10_isRest_93 : decode cX10_isRest 93 = .ok (.iload_n 2, 1) := dk_28 (dk_at dksX10_isRest_3 22 rfl rfl)
theorem dX10_isRest_94 : decode cX10_isRest 94 = .ok (.iastore, 1) := dk_79 (dk_at dksX10_isRest_3 23 rfl rfl)
theorem dX10_isRest_95 : decode cX10_isRest 95 = .ok (.iload 4, 2) := dk_21 4 (dk_at dksX10_isRest_4 0 rfl rfl)
theorem dX10_isRest_97 : decode cX10_isRest 97 = .ok (.ifCond .eq 5, 3) := dk_153 0 5 (dk_at dksX10_isRest_4 2 rfl rfl)
theorem dX10_isRest_100 : decode cX10_isRest 100 = .ok (.iconst 0, 1) := dk_3 (dk_at dksX10_isRest_4 5 rfl rfl)
theorem dX10_isRest_101 : decode cX10_isRest 101 = .ok (.ireturn, 1) := dk_172 (dk_at dksX10_isRest_4 6 rfl rfl)
theorem dX10_isRest_102 : decode cX10_isRest 102 = .ok (.iinc 1 1, 3) := dk_132 1 1 (dk_at dksX10_isRest_4 7 rfl rfl)
theorem dX10_isRest_105 : decode cX10_isRest 105 = .ok (.goto (-103), 3) := dk_167 255 153 (dk_at dksX10_isRest_4 10 rfl rfl)
theorem dX10_isRest_108 : decode cX10_isRest 108 = .ok (.iconst 1, 1) := dk_4 (dk_at dksX10_isRest_4 13 rfl rfl)
theorem dX10_isRest_109 : decode cX10_isRest 109 = .ok (.ireturn, 1) := dk_172 (dk_at dksX10_isRest_4 14 rfl rfl)
abbrev cX10_hasBy : ByteArray := prog_36_method_100_code
def yX10_hasBy : MethodName := ⟨RX10, "hasBy", "(I)I"⟩
def dkwX10_hasBy_2 : List UInt8 := [132, 3, 1, 167, 255, 222, 42, 42, 180, 0, 172, 27, 46, 4, 100, 182, 1, 171, 28, 108, 4, 100, 172]
abbrev dktX10_hasBy_2 : List UInt8 := dkwX10_hasBy_2 ++ []
def dkwX10_hasBy_1 : List UInt8 := [42, 180, 0, 172, 29, 46, 42, 180, 0, 172, 27, 46, 160, 0, 7, 4, 167, 0, 4, 3, 96, 61]
abbrev dktX10_hasBy_1 : List UInt8 := dkwX10_hasBy_1 ++ dktX10_hasBy_2
def dkwX10_hasBy_0 : List UInt8 := [42, 180, 0, 172, 27, 46, 154, 0, 5, 3, 172, 3, 61, 3, 62, 29, 42, 180, 2, 19, 162, 0, 32, 28]
abbrev dktX10_hasBy_0 : List UInt8 := dkwX10_hasBy_0 ++ dktX10_hasBy_1
theorem dksX10_hasBy_0 : cX10_hasBy.data.toList.drop 0 = dktX10_hasBy_0 := by decide +kernel
theorem dksX10_hasBy_1 : cX10_hasBy.data.toList.drop 24 = dktX10_hasBy_1 := dk_seg dksX10_hasBy_0 24 rfl rfl
theorem dksX10_hasBy_2 : cX10_hasBy.data.toList.drop 46 = dktX10_hasBy_2 := dk_seg dksX10_hasBy_1 22 rfl rfl
theorem dX10_hasBy_0 : decode cX10_hasBy 0 = .ok (.aload_n 0, 1) := dk_42 (dk_at dksX10_hasBy_0 0 rfl rfl)
theorem dX10_hasBy_1 : decode cX10_hasBy 1 = .ok (.getfield 172, 3) := dk_180 0 172 (dk_at dksX10_hasBy_0 1 rfl rfl)
theorem dX10_hasBy_4 : decode cX10_hasBy 4 = .ok (.iload_n 1, 1) := dk_27 (dk_at dksX10_hasBy_0 4 rfl rfl)
theorem dX10_hasBy_5 : decode cX10_hasBy 5 = .ok (.iaload, 1) := dk_46 (dk_at dksX10_hasBy_0 5 rfl rfl)
theorem dX10_hasBy_6 : decode cX10_hasBy 6 = .ok (.ifCond .ne 5, 3) := dk_154 0 5 (dk_at dksX10_hasBy_0 6 rfl rfl)
theorem dX10_hasBy_9 : decode cX10_hasBy 9 = .ok (.iconst 0, 1) := dk_3 (dk_at dksX10_hasBy_0 9 rfl rfl)
theorem dX10_hasBy_10 : decode cX10_hasBy 10 = .ok (.ireturn, 1) := dk_172 (dk_at dksX10_hasBy_0 10 rfl rfl)
theorem dX10_hasBy_11 : decode cX10_hasBy 11 = .ok (.iconst 0, 1) := dk_3 (dk_at dksX10_hasBy_0 11 rfl rfl)
theorem dX10_hasBy_12 : decode cX10_hasBy 12 = .ok (.istore_n 2, 1) := dk_61 (dk_at dksX10_hasBy_0 12 rfl rfl)
theorem dX10_hasBy_13 : decode cX10_hasBy 13 = .ok (.iconst 0, 1) := dk_3 (dk_at dksX10_hasBy_0 13 rfl rfl)
theorem dX10_hasBy_14 : decode cX10_hasBy 14 = .ok (.istore_n 3, 1) := dk_62 (dk_at dksX10_hasBy_0 14 rfl rfl)
theorem dX10_hasBy_15 : decode cX10_hasBy 15 = .ok (.iload_n 3, 1) := dk_29 (dk_at dksX10_hasBy_0 15 rfl rfl)
theorem dX10_hasBy_16 : decode cX10_hasBy 16 = .ok (.aload_n 0, 1) := dk_42 (dk_at dksX10_hasBy_0 16 rfl rfl)
theorem dX10_hasBy_17 : decode cX10_hasBy 17 = .ok (.getfield 531, 3) := dk_180 2 19 (dk_at dksX10_hasBy_0 17 rfl rfl)
theorem dX10_hasBy_20 : decode cX10_hasBy 20 = .ok (.if_icmp .ge 32, 3) := dk_162 0 32 (dk_at dksX10_hasBy_0 20 rfl rfl)
theorem dX10_hasBy_23 : decode cX10_hasBy 23 = .ok (.iload_n 2, 1) := dk_28 (dk_at dksX10_hasBy_0 23 rfl rfl)
theorem dX10_hasBy_24 : decode cX10_hasBy 24 = .ok (.aload_n 0, 1) := dk_42 (dk_at dksX10_hasBy_1 0 rfl rfl)
theorem dX10_hasBy_25 : decode cX10_hasBy 25 = .ok (.getfield 172, 3) := dk_180 0 172 (dk_at dksX10_hasBy_1 1 rfl rfl)
theorem dX10_hasBy_28 : decode cX10_hasBy 28 = .ok (.iload_n 3, 1) := dk_29 (dk_at dksX10_hasBy_1 4 rfl rfl)
theorem dX10_hasBy_29 : decode cX10_hasBy 29 = .ok (.iaload, 1) := dk_46 (dk_at dksX10_hasBy_1 5 rfl rfl)
theorem dX10_hasBy_30 : decode cX10_hasBy 30 = .ok (.aload_n 0, 1) := dk_42 (dk_at dksX10_hasBy_1 6 rfl rfl)
theorem dX10_hasBy_31 : decode cX10_hasBy 31 = .ok (.getfield 172, 3) := dk_180 0 172 (dk_at dksX10_hasBy_1 7 rfl rfl)
theorem dX10_hasBy_34 : decode cX10_hasBy 34 = .ok (.iload_n 1, 1) := dk_27 (dk_at dksX10_hasBy_1 10 rfl rfl)
theorem dX10_hasBy_35 : decode cX10_hasBy 35 = .ok (.iaload, 1) := dk_46 (dk_at dksX10_hasBy_1 11 rfl rfl)
theorem dX10_hasBy_36 : decode cX10_hasBy 36 = .ok (.if_icmp .ne 7, 3) := dk_160 0 7 (dk_at dksX10_hasBy_1 12 rfl rfl)
theorem dX10_hasBy_39 : decode cX10_hasBy 39 = .ok (.iconst 1, 1) := dk_4 (dk_at dksX10_hasBy_1 15 rfl rfl)
theorem dX10_hasBy_40 : decode cX10_hasBy 40 = .ok (.goto 4, 3) := dk_167 0 4 (dk_at dksX10_hasBy_1 16 rfl rfl)
theorem dX10_hasBy_43 : decode cX10_hasBy 43 = .ok (.iconst 0, 1) := dk_3 (dk_at dksX10_hasBy_1 19 rfl rfl)
theorem dX10_hasBy_44 : decode cX10_hasBy 44 = .ok (.iadd, 1) := dk_96 (dk_at dksX10_hasBy_1 20 rfl rfl)
theorem dX10_hasBy_45 : decode cX10_hasBy 45 = .ok (.istore_n 2, 1) := dk_61 (dk_at dksX10_hasBy_1 21 rfl rfl)
theorem dX10_hasBy_46 : decode cX10_hasBy 46 = .ok (.iinc 3 1, 3) := dk_132 3 1 (dk_at dksX10_hasBy_2 0 rfl rfl)
theorem dX10_hasBy_49 : decode cX10_hasBy 49 = .ok (.goto (-34), 3) := dk_167 255 222 (dk_at dksX10_hasBy_2 3 rfl rfl)
theorem dX10_hasBy_52 : decode cX10_hasBy 52 = .ok (.aload_n 0, 1) := dk_42 (dk_at dksX10_hasBy_2 6 rfl rfl)
theorem dX10_hasBy_53 : decode cX10_hasBy 53 = .ok (.aload_n 0, 1) := dk_42 (dk_at dksX10_hasBy_2 7 rfl rfl)
theorem dX10_hasBy_54 : decode cX10_hasBy 54 = .ok (.getfield 172, 3) := dk_180 0 172 (dk_at dksX10_hasBy_2 8 rfl rfl)
theorem dX10_hasBy_57 : decode cX10_hasBy 57 = .ok (.iload_n 1, 1) := dk_27 (dk_at dksX10_hasBy_2 11 rfl rfl)
theorem dX10_hasBy_58 : decode cX10_hasBy 58 = .ok (.iaload, 1) := dk_46 (dk_at dksX10_hasBy_2 12 rfl rfl)
theorem dX10_hasBy_59 : decode cX10_hasBy 59 = .ok (.iconst 1, 1) := dk_4 (dk_at dksX10_hasBy_2 13 rfl rfl)
theorem dX10_hasBy_60 : decode cX10_hasBy 60 = .ok (.isub, 1) := dk_100 (dk_at dksX10_hasBy_2 14 rfl rfl)
theorem dX10_hasBy_61 : decode cX10_hasBy 61 = .ok (.invokevirtual 427, 3) := dk_182 1 171 (dk_at dksX10_hasBy_2 15 rfl rfl)
theorem dX10_hasBy_64 : decode cX10_hasBy 64 = .ok (.iload_n 2, 1) := dk_28 (dk_at dksX10_hasBy_2 18 rfl rfl)
theorem dX10_hasBy_65 : decode cX10_hasBy 65 = .ok (.idiv, 1) := dk_108 (dk_at dksX10_hasBy_2 19 rfl rfl)
theorem dX10_hasBy_66 : decode cX10_hasBy 66 = .ok (.iconst 1, 1) := dk_4 (dk_at dksX10_hasBy_2 20 rfl rfl)
theorem dX10_hasBy_67 : decode cX10_hasBy 67 = .ok (.isub, 1) := dk_100 (dk_at dksX10_hasBy_2 21 rfl rfl)
theorem dX10_hasBy_68 : decode cX10_hasBy 68 = .ok (.ireturn, 1) := dk_172 (dk_at dksX10_hasBy_2 22 rfl rfl)
abbrev cX10_years : ByteArray := prog_36_method_106_code
def yX10_years : MethodName := ⟨RX10, "years", "(III)I"⟩
def dkwX10_years_9 : List UInt8 := [172]
abbrev dktX10_years_9 : List UInt8 := dkwX10_years_9 ++ []
def dkwX10_years_8 : List UInt8 := [182, 1, 233, 182, 1, 177, 54, 6, 42, 180, 0, 132, 16, 123, 42, 180, 0, 129, 3, 184, 1, 201, 21, 6]
abbrev dktX10_years_8 : List UInt8 := dkwX10_years_8 ++ dktX10_years_9
def dkwX10_years_7 : List UInt8 := [21, 5, 167, 0, 26, 29, 4, 160, 0, 13, 42, 182, 1, 230, 21, 4, 100, 167, 0, 11, 42, 42]
abbrev dktX10_years_7 : List UInt8 := dkwX10_years_7 ++ dktX10_years_8
def dkwX10_years_6 : List UInt8 := [182, 1, 221, 132, 7, 1, 167, 255, 207, 42, 182, 1, 224, 87, 132, 6, 1, 167, 255, 167, 29, 154, 0, 8]
abbrev dktX10_years_6 : List UInt8 := dkwX10_years_6 ++ dktX10_years_7
def dkwX10_years_5 : List UInt8 := [42, 21, 7, 182, 1, 239, 167, 0, 4, 2, 54, 8, 21, 8, 158, 0, 11, 42, 21, 7, 21, 8]
abbrev dktX10_years_5 : List UInt8 := dkwX10_years_5 ++ dktX10_years_6
def dkwX10_years_4 : List UInt8 := [3, 54, 7, 21, 7, 42, 180, 0, 13, 3, 46, 162, 0, 44, 42, 180, 0, 29, 21, 7, 46, 158, 0, 12]
abbrev dktX10_years_4 : List UInt8 := dkwX10_years_4 ++ dktX10_years_5
def dkwX10_years_3 : List UInt8 := [28, 163, 0, 89, 21, 5, 42, 182, 2, 45, 96, 54, 5, 21, 6, 16, 10, 112, 158, 0, 6, 167, 0, 63]
abbrev dktX10_years_3 : List UInt8 := dkwX10_years_3 ++ dktX10_years_4
def dkwX10_years_2 : List UInt8 := [3, 42, 180, 0, 132, 16, 123, 184, 1, 201, 42, 182, 1, 230, 54, 4, 3, 54, 5, 4, 54, 6, 21, 6]
abbrev dktX10_years_2 : List UInt8 := dkwX10_years_2 ++ dktX10_years_3
def dkwX10_years_1 : List UInt8 := [153, 0, 12, 29, 3, 5, 184, 1, 52, 154, 0, 5, 2, 172, 42, 27, 133, 181, 2, 31, 42, 180, 0, 129]
abbrev dktX10_years_1 : List UInt8 := dkwX10_years_1 ++ dktX10_years_2
def dkwX10_years_0 : List UInt8 := [42, 3, 181, 0, 175, 27, 3, 17, 39, 15, 184, 1, 52, 153, 0, 22, 28, 4, 16, 100, 184, 1, 52]
abbrev dktX10_years_0 : List UInt8 := dkwX10_years_0 ++ dktX10_years_1
theorem dksX10_years_0 : cX10_years.data.toList.drop 0 = dktX10_years_0 := by decide +kernel
theorem dksX10_years_1 : cX10_years.data.toList.drop 23 = dktX10_years_1 := dk_seg dksX10_years_0 23 rfl rfl
theorem dksX10_years_2 : cX10_years.data.toList.drop 47 = dktX10_years_2 := dk_seg dksX10_years_1 24 rfl rfl
theorem dksX10_years_3 : cX10_years.data.toList.drop 71 = dktX10_years_3 := dk_seg dksX10_years_2 24 rfl rfl
theorem dksX10_years_4 : cX10_years.data.toList.drop 95 = dktX10_years_4 := dk_seg dksX10_years_3 24 rfl rfl
theorem dksX10_years_5 : cX10_years.data.toList.drop 119 = dktX10_years_5 := dk_seg dksX10_years_4 24 rfl rfl
theorem dksX10_years_6 : cX10_years.data.toList.drop 141 = dktX10_years_6 := dk_seg dksX10_years_5 22 rfl rfl
theorem dksX10_years_7 : cX10_years.data.toList.drop 165 = dktX10_years_7 := dk_seg dksX10_years_6 24 rfl rfl
theorem dksX10_years_8 : cX10_years.data.toList.drop 187 = dktX10_years_8 := dk_seg dksX10_years_7 22 rfl rfl
theorem dksX10_years_9 : cX10_years.data.toList.drop 211 = dktX10_years_9 := dk_seg dksX10_years_8 24 rfl rfl
theorem dX10_years_0 : decode cX10_years 0 = .ok (.aload_n 0, 1) := dk_42 (dk_at dksX10_years_0 0 rfl rfl)
theorem dX10_years_1 : decode cX10_years 1 = .ok (.iconst 0, 1) := dk_3 (dk_at dksX10_years_0 1 rfl rfl)
theorem dX10_years_2 : decode cX10_years 2 = .ok (.putfield 175, 3) := dk_181 0 175 (dk_at dksX10_years_0 2 rfl rfl)
theorem dX10_years_5 : decode cX10_years 5 = .ok (.iload_n 1, 1) := dk_27 (dk_at dksX10_years_0 5 rfl rfl)
theorem dX10_years_6 : decode cX10_years 6 = .ok (.iconst 0, 1) := dk_3 (dk_at dksX10_years_0 6 rfl rfl)
theorem dX10_years_7 : decode cX10_years 7 = .ok (.sipush 9999, 3) := dk_17 39 15 (dk_at dksX10_years_0 7 rfl rfl)
theorem dX10_years_10 : decode cX10_years 10 = .ok (.invokestatic 308, 3) := dk_184 1 52 (dk_at dksX10_years_0 10 rfl rfl)
theorem dX10_years_13 : decode cX10_years 13 = .ok (.ifCond .eq 22, 3) := dk_153 0 22 (dk_at dksX10_years_0 13 rfl rfl)
theorem dX10_years_16 : decode cX10_years 16 = .ok (.iload_n 2, 1) := dk_28 (dk_at dksX10_years_0 16 rfl rfl)
theorem dX10_years_17 : decode cX10_years 17 = .ok (.iconst 1, 1) := dk_4 (dk_at dksX10_years_0 17 rfl rfl)
theorem dX10_years_18 : decode cX10_years 18 = .ok (.bipush 100, 2) := dk_16 100 (dk_at dksX10_years_0 18 rfl rfl)
theorem dX10_years_20 : decode cX10_years 20 = .ok (.invokestatic 308, 3) := dk_184 1 52 (dk_at dksX10_years_0 20 rfl rfl)
theorem dX10_years_23 : decode cX10_years 23 = .ok (.ifCond .eq 12, 3) := dk_153 0 12 (dk_at dksX10_years_1 0 rfl rfl)
theorem dX10_years_26 : decode cX10_years 26 = .ok (.iload_n 3, 1) := dk_29 (dk_at dksX10_years_1 3 rfl rfl)
theorem dX10_years_27 : decode cX10_years 27 = .ok (.iconst 0, 1) := dk_3 (dk_at dksX10_years_1 4 rfl rfl)
theorem dX10_years_28 : decode cX10_years 28 = .ok (.iconst 2, 1) := dk_5 (dk_at dksX10_years_1 5 rfl rfl)
theorem dX10_years_29 : decode cX10_years 29 = .ok (.invokestatic 308, 3) := dk_184 1 52 (dk_at dksX10_years_1 6 rfl rfl)
theorem dX10_years_32 : decode cX10_years 32 = .ok (.ifCond .ne 5, 3) := dk_154 0 5 (dk_at dksX10_years_1 9 rfl rfl)
theorem dX10_years_35 : decode cX10_years 35 = .ok (.iconst (-1), 1) := dk_2 (dk_at dksX10_years_1 12 rfl rfl)
theorem dX10_years_36 : decode cX10_years 36 = .ok (.ireturn, 1) := dk_172 (dk_at dksX10_years_1 13 rfl rfl)
theorem dX10_years_37 : decode cX10_years 37 = .ok (.aload_n 0, 1) := dk_42 (dk_at dksX10_years_1 14 rfl rfl)
theorem dX10_years_38 : decode cX10_years 38 = .ok (.iload_n 1, 1) := dk_27 (dk_at dksX10_years_1 15 rfl rfl)
theorem dX10_years_39 : decode cX10_years 39 = .ok (.i2l, 1) := dk_133 (dk_at dksX10_years_1 16 rfl rfl)
theorem dX10_years_40 : decode cX10_years 40 = .ok (.putfield 543, 3) := dk_181 2 31 (dk_at dksX10_years_1 17 rfl rfl)
theorem dX10_years_43 : decode cX10_years 43 = .ok (.aload_n 0, 1) := dk_42 (dk_at dksX10_years_1 20 rfl rfl)
theorem dX10_years_44 : decode cX10_years 44 = .ok (.getfield 129, 3) := dk_180 0 129 (dk_at dksX10_years_1 21 rfl rfl)
theorem dX10_years_47 : decode cX10_years 47 = .ok (.iconst 0, 1) := dk_3 (dk_at dksX10_years_2 0 rfl rfl)
theorem dX10_years_48 : decode cX10_years 48 = .ok (.aload_n 0, 1) := dk_42 (dk_at dksX10_years_2 1 rfl rfl)
theorem dX10_years_49 : decode cX10_years 49 = .ok (.getfield 132, 3) := dk_180 0 132 (dk_at dksX10_years_2 2 rfl rfl)
theorem dX10_years_52 : decode cX10_years 52 = .ok (.bipush 123, 2) := dk_16 123 (dk_at dksX10_years_2 5 rfl rfl)
theorem dX10_years_54 : decode cX10_years 54 = .ok (.invokestatic 457, 3) := dk_184 1 201 (dk_at dksX10_years_2 7 rfl rfl)
theorem dX10_years_57 : decode cX10_years 57 = .ok (.aload_n 0, 1) := dk_42 (dk_at dksX10_years_2 10 rfl rfl)
theorem dX10_years_58 : decode cX10_years 58 = .ok (.invokevirtual 486, 3) := dk_182 1 230 (dk_at dksX10_years_2 11 rfl rfl)
theorem dX10_years_61 : decode cX10_years 61 = .ok (.istore 4, 2) := dk_54 4 (dk_at dksX10_years_2 14 rfl rfl)
theorem dX10_years_63 : decode cX10_years 63 = .ok (.iconst 0, 1) := dk_3 (dk_at dksX10_years_2 16 rfl rfl)
theorem dX10_years_64 : decode cX10_years 64 = .ok (.istore 5, 2) := dk_54 5 (dk_at dksX10_years_2 17 rfl rfl)
theorem dX10_years_66 : decode cX10_years 66 = .ok (.iconst 1, 1) := dk_4 (dk_at dksX10_years_2 19 rfl rfl)
theorem dX10_years_67 : decode cX10_years 67 = .ok (.istore 6, 2) := dk_54 6 (dk_at dksX10_years_2 20 rfl rfl)
theorem dX10_years_69 : decode cX10_years 69 = .ok (.iload 6, 2) := dk_21 6 (dk_at dksX10_years_2 22 rfl rfl)
theorem dX10_years_71 : decode cX10_years 71 = .ok (.iload_n 2, 1) := dk_28 (dk_at dksX10_years_3 0 rfl rfl)
theorem dX10_years_72 : decode cX10_years 72 = .ok (.if_icmp .gt 89, 3) := dk_163 0 89 (dk_at dksX10_years_3 1 rfl rfl)
theorem dX10_years_75 : decode cX10_years 75 = .ok (.iload 5, 2) := dk_21 5 (dk_at dksX10_years_3 4 rfl rfl)
theorem dX10_years_77 : decode cX10_years 77 = .ok (.aload_n 0, 1) := dk_42 (dk_at dksX10_years_3 6 rfl rfl)
theorem dX10_years_78 : decode cX10_years 78 = .ok (.invokevirtual 557, 3) := dk_182 2 45 (dk_at dksX10_years_3 7 rfl rfl)
theorem dX10_years_81 : decode cX10_years 81 = .ok (.iadd, 1) := dk_96 (dk_at dksX10_years_3 10 rfl rfl)
theorem dX10_years_82 : decode cX10_years 82 = .ok (.istore 5, 2) := dk_54 5 (dk_at dksX10_years_3 11 rfl rfl)
theorem dX10_years_84 : decode cX10_years 84 = .ok (.iload 6, 2) := dk_21 6 (dk_at dksX10_years_3 13 rfl rfl)
theorem dX10_years_86 : decode cX10_years 86 = .ok (.bipush 10, 2) := dk_16 10 (dk_at dksX10_years_3 15 rfl rfl)
theorem dX10_years_88 : decode cX10_years 88 = .ok (.irem, 1) := dk_112 (dk_at dksX10_years_3 17 rfl rfl)
theorem dX10_years_89 : decode cX10_years 89 = .ok (.ifCond .le 6, 3) := dk_158 0 6 (dk_at dksX10_years_3 18 rfl rfl)
theorem dX10_years_92 : decode cX10_years 92 = .ok (.goto 63, 3) := dk_167 0 63 (dk_at dksX10_years_3 21 rfl rfl)
theorem dX10_years_95 : decode cX10_years 95 = .ok (.iconst 0, 1) := dk_3 (dk_at dksX10_years_4 0 rfl rfl)
theorem dX10_years_96 : decode cX10_years 96 = .ok (.istore 7, 2) := dk_54 7 (dk_at dksX10_years_4 1 rfl rfl)
theorem dX10_years_98 : decode cX10_years 98 = .ok (.iload 7, 2) := dk_21 7 (dk_at dksX10_years_4 3 rfl rfl)
theorem dX10_years_100 : decode cX10_years 100 = .ok (.aload_n 0, 1) := dk_42 (dk_at dksX10_years_4 5 rfl rfl)
theorem dX10_years_101 : decode cX10_years 101 = .ok (.getfield 13, 3) := dk_180 0 13 (dk_at dksX10_years_4 6 rfl rfl)
theorem dX10_years_104 : decode cX10_years 104 = .ok (.iconst 0, 1) := dk_3 (dk_at dksX10_years_4 9 rfl rfl)
theorem dX10_years_105 : decode cX10_years 105 = .ok (.iaload, 1) := dk_46 (dk_at dksX10_years_4 10 rfl rfl)
theorem dX10_years_106 : decode cX10_years 106 = .ok (.if_icmp .ge 44, 3) := dk_162 0 44 (dk_at dksX10_years_4 11 rfl rfl)
theorem dX10_years_109 : decode cX10_years 109 = .ok (.aload_n 0, 1) := dk_42 (dk_at dksX10_years_4 14 rfl rfl)
theorem dX10_years_110 : decode cX10_years 110 = .ok (.getfield 29, 3) := dk_180 0 29 (dk_at dksX10_years_4 15 rfl rfl)
theorem dX10_years_113 : decode cX10_years 113 = .ok (.iload 7, 2) := dk_21 7 (dk_at dksX10_years_4 18 rfl rfl)
theorem dX10_years_115 : decode cX10_years 115 = .ok (.iaload, 1) := dk_46 (dk_at dksX10_years_4 20 rfl rfl)
theorem dX10_years_116 : decode cX10_years 116 = .ok (.ifCond .le 12, 3) := dk_158 0 12 (dk_at dksX10_years_4 21 rfl rfl)
theorem dX10_years_119 : decode cX10_years 119 = .ok (.aload_n 0, 1) := dk_42 (dk_at dksX10_years_5 0 rfl rfl)
theorem dX10_years_120 : decode cX10_years 120 = .ok (.iload 7, 2) := dk_21 7 (dk_at dksX10_years_5 1 rfl rfl)
theorem dX10_years_122 : decode cX10_years 122 = .ok (.invokevirtual 495, 3) := dk_182 1 239 (dk_at dksX10_years_5 3 rfl rfl)
theorem dX10_years_125 : decode cX10_years 125 = .ok (.goto 4, 3) := dk_167 0 4 (dk_at dksX10_years_5 6 rfl rfl)
theorem dX10_years_128 : decode cX10_years 128 = .ok (.iconst (-1), 1) := dk_2 (dk_at dksX10_years_5 9 rfl rfl)
theorem dX10_years_129 : decode cX10_years 129 = .ok (.istore 8, 2) := dk_54 8 (dk_at dksX10_years_5 10 rfl rfl)
theorem dX10_years_131 : decode cX10_years 131 = .ok (.iload 8, 2) := dk_21 8 (dk_at dksX10_years_5 12 rfl rfl)
theorem dX10_years_133 : decode cX10_years 133 = .ok (.ifCond .le 11, 3) := dk_158 0 11 (dk_at dksX10_years_5 14 rfl rfl)
theorem dX10_years_136 : decode cX10_years 136 = .ok (.aload_n 0, 1) := dk_42 (dk_at dksX10_years_5 17 rfl rfl)
theorem dX10_years_137 : decode cX10_years 137 = .ok (.iload 7, 2) := dk_21 7 (dk_at dksX10_years_5 18 rfl rfl)
theorem dX10_years_139 : decode cX10_years 139 = .ok (.iload 8, 2) := dk_21 8 (dk_at dksX10_years_5 20 rfl rfl)
theorem dX10_years_141 : decode cX10_years 141 = .ok (.invokevirtual 477, 3) := dk_182 1 221 (dk_at dksX10_years_6 0 rfl rfl)
theorem dX10_years_144 : decode cX10_years 144 = .ok (.iinc 7 1, 3) := dk_132 7 1 (dk_at dksX10_years_6 3 rfl rfl)
theorem dX10_years_147 : decode cX10_years 147 = .ok (.goto (-49), 3) := dk_167 255 207 (dk_at dksX10_years_6 6 rfl rfl)
theorem dX10_years_150 : decode cX10_years 150 = .ok (.aload_n 0, 1) := dk_42 (dk_at dksX10_years_6 9 rfl rfl)
theorem dX10_years_151 : decode cX10_years 151 = .ok (.invokevirtual 480, 3) := dk_182 1 224 (dk_at dksX10_years_6 10 rfl rfl)
theorem dX10_years_154 : decode cX10_years 154 = .ok (.pop, 1) := dk_87 (dk_at dksX10_years_6 13 rfl rfl)
theorem dX10_years_155 : decode cX10_years 155 = .ok (.iinc 6 1, 3) := dk_132 6 1 (dk_at dksX10_years_6 14 rfl rfl)
theorem dX10_years_158 : decode cX10_years 158 = .ok (.goto (-89), 3) := dk_167 255 167 (dk_at dksX10_years_6 17 rfl rfl)
theorem dX10_years_161 : decode cX10_years 161 = .ok (.iload_n 3, 1) := dk_29 (dk_at dksX10_years_6 20 rfl rfl)
theorem dX10_years_162 : decode cX10_years 162 = .ok (.ifCond .ne 8, 3) := dk_154 0 8 (dk_at dksX10_years_6 21 rfl rfl)
theorem dX10_years_165 : decode cX10_years 165 = .ok (.iload 5, 2) := dk_21 5 (dk_at dksX10_years_7 0 rfl rfl)
theorem dX10_years_167 : decode cX10_years 167 = .ok (.goto 26, 3) := dk_167 0 26 (dk_at dksX10_years_7 2 rfl rfl)
theorem dX10_years_170 : decode cX10_years 170 = .ok (.iload_n 3, 1) := dk_29 (dk_at dksX10_years_7 5 rfl rfl)
theorem dX10_years_171 : decode cX10_years 171 = .ok (.iconst 1, 1) := dk_4 (dk_at dksX10_years_7 6 rfl rfl)
theorem dX10_years_172 : decode cX10_years 172 = .ok (.if_icmp .ne 13, 3) := dk_160 0 13 (dk_at dksX10_years_7 7 rfl rfl)
theorem dX10_years_175 : decode cX10_years 175 = .ok (.aload_n 0, 1) := dk_42 (dk_at dksX10_years_7 10 rfl rfl)
theorem dX10_years_176 : decode cX10_years 176 = .ok (.invokevirtual 486, 3) := dk_182 1 230 (dk_at dksX10_years_7 11 rfl rfl)
theorem dX10_years_179 : decode cX10_years 179 = .ok (.iload 4, 2) := dk_21 4 (dk_at dksX10_years_7 14 rfl rfl)
theorem dX10_years_181 : decode cX10_years 181 = .ok (.isub, 1) := dk_100 (dk_at dksX10_years_7 16 rfl rfl)
theorem dX10_years_182 : decode cX10_years 182 = .ok (.goto 11, 3) := dk_167 0 11 (dk_at dksX10_years_7 17 rfl rfl)
theorem dX10_years_185 : decode cX10_years 185 = .ok (.aload_n 0, 1) := dk_42 (dk_at dksX10_years_7 20 rfl rfl)
theorem dX10_years_186 : decode cX10_years 186 = .ok (.aload_n 0, 1) := dk_42 (dk_at dksX10_years_7 21 rfl rfl)
theorem dX10_years_187 : decode cX10_years 187 = .ok (.invokevirtual 489, 3) := dk_182 1 233 (dk_at dksX10_years_8 0 rfl rfl)
theorem dX10_years_190 : decode cX10_years 190 = .ok (.invokevirtual 433, 3) := dk_182 1 177 (dk_at dksX10_years_8 3 rfl rfl)
theorem dX10_years_193 : decode cX10_years 193 = .ok (.istore 6, 2) := dk_54 6 (dk_at dksX10_years_8 6 rfl rfl)
theorem dX10_years_195 : decode cX10_years 195 = .ok (.aload_n 0, 1) := dk_42 (dk_at dksX10_years_8 8 rfl rfl)
theorem dX10_years_196 : decode cX10_years 196 = .ok (.getfield 132, 3) := dk_180 0 132 (dk_at dksX10_years_8 9 rfl rfl)
theorem dX10_years_199 : decode cX10_years 199 = .ok (.bipush 123, 2) := dk_16 123 (dk_at dksX10_years_8 12 rfl rfl)
theorem dX10_years_201 : decode cX10_years 201 = .ok (.aload_n 0, 1) := dk_42 (dk_at dksX10_years_8 14 rfl rfl)
theorem dX10_years_202 : decode cX10_years 202 = .ok (.getfield 129, 3) := dk_180 0 129 (dk_at dksX10_years_8 15 rfl rfl)
theorem dX10_years_205 : decode cX10_years 205 = .ok (.iconst 0, 1) := dk_3 (dk_at dksX10_years_8 18 rfl rfl)
theorem dX10_years_206 : decode cX10_years 206 = .ok (.invokestatic 457, 3) := dk_184 1 201 (dk_at dksX10_years_8 19 rfl rfl)
theorem dX10_years_209 : decode cX10_years 209 = .ok (.iload 6, 2) := dk_21 6 (dk_at dksX10_years_8 22 rfl rfl)
theorem dX10_years_211 : decode cX10_years 211 = .ok (.ireturn, 1) := dk_172 (dk_at dksX10_years_9 0 rfl rfl)
abbrev cX10_whispers : ByteArray := prog_36_method_105_code
def yX10_whispers : MethodName := ⟨RX10, "whispers", "()I"⟩
def dkwX10_whispers_4 : List UInt8 := [132, 1, 1, 132, 2, 1, 167, 255, 163, 27, 172]
abbrev dktX10_whispers_4 : List UInt8 := dkwX10_whispers_4 ++ []
def dkwX10_whispers_3 : List UInt8 := [154, 0, 6, 167, 0, 23, 42, 42, 180, 0, 50, 28, 46, 42, 180, 0, 53, 28, 46, 29, 182, 1, 214]
abbrev dktX10_whispers_3 : List UInt8 := dkwX10_whispers_3 ++ dktX10_whispers_4
def dkwX10_whispers_2 : List UInt8 := [46, 182, 2, 42, 62, 42, 42, 180, 0, 50, 28, 46, 42, 180, 0, 53, 28, 46, 29, 182, 1, 208]
abbrev dktX10_whispers_2 : List UInt8 := dkwX10_whispers_2 ++ dktX10_whispers_3
def dkwX10_whispers_1 : List UInt8 := [182, 1, 198, 162, 0, 69, 42, 180, 0, 13, 4, 46, 154, 0, 6, 167, 0, 57, 42, 42, 180, 0, 13, 4]
abbrev dktX10_whispers_1 : List UInt8 := dkwX10_whispers_1 ++ dktX10_whispers_2
def dkwX10_whispers_0 : List UInt8 := [3, 60, 3, 61, 28, 42, 180, 0, 13, 5, 46, 162, 0, 89, 42, 16, 10, 182, 2, 42, 42, 28]
abbrev dktX10_whispers_0 : List UInt8 := dkwX10_whispers_0 ++ dktX10_whispers_1
theorem dksX10_whispers_0 : cX10_whispers.data.toList.drop 0 = dktX10_whispers_0 := by decide +kernel
theorem dksX10_whispers_1 : cX10_whispers.data.toList.drop 22 = dktX10_whispers_1 := dk_seg dksX10_whispers_0 22 rfl rfl
theorem dksX10_whispers_2 : cX10_whispers.data.toList.drop 46 = dktX10_whispers_2 := dk_seg dksX10_whispers_1 24 rfl rfl
theorem dksX10_whispers_3 : cX10_whispers.data.toList.drop 68 = dktX10_whispers_3 := dk_seg dksX10_whispers_2 22 rfl rfl
theorem dksX10_whispers_4 : cX10_whispers.data.toList.drop 91 = dktX10_whispers_4 := dk_seg dksX10_whispers_3 23 rfl rfl
theorem dX10_whispers_0 : decode cX10_whispers 0 = .ok (.iconst 0, 1) := dk_3 (dk_at dksX10_whispers_0 0 rfl rfl)
theorem dX10_whispers_1 : decode cX10_whispers 1 = .ok (.istore_n 1, 1) := dk_60 (dk_at dksX10_whispers_0 1 rfl rfl)
theorem dX10_whispers_2 : decode cX10_whispers 2 = .ok (.iconst 0, 1) := dk_3 (dk_at dksX10_whispers_0 2 rfl rfl)
theorem dX10_whispers_3 : decode cX10_whispers 3 = .ok (.istore_n 2, 1) := dk_61 (dk_at dksX10_whispers_0 3 rfl rfl)
theorem dX10_whispers_4 : decode cX10_whispers 4 = .ok (.iload_n 2, 1) := dk_28 (dk_at dksX10_whispers_0 4 rfl rfl)
theorem dX10_whispers_5 : decode cX10_whispers 5 = .ok (.aload_n 0, 1) := dk_42 (dk_at dksX10_whispers_0 5 rfl rfl)
theorem dX10_whispers_6 : decode cX10_whispers 6 = .ok (.getfield 13, 3) := dk_180 0 13 (dk_at dksX10_whispers_0 6 rfl rfl)
theorem dX10_whispers_9 : decode cX10_whispers 9 = .ok (.iconst 2, 1) := dk_5 (dk_at dksX10_whispers_0 9 rfl rfl)
theorem dX10_whispers_10 : decode cX10_whispers 10 = .ok (.iaload, 1) := dk_46 (dk_at dksX10_whispers_0 10 rfl rfl)
theorem dX10_whispers_11 : decode cX10_whispers 11 = .ok (.if_icmp .ge 89, 3) := dk_162 0 89 (dk_at dksX10_whispers_0 11 rfl rfl)
theorem dX10_whispers_14 : decode cX10_whispers 14 = .ok (.aload_n 0, 1) := dk_42 (dk_at dksX10_whispers_0 14 rfl rfl)
theorem dX10_whispers_15 : decode cX10_whispers 15 = .ok (.bipush 10, 2) := dk_16 10 (dk_at dksX10_whispers_0 15 rfl rfl)
theorem dX10_whispers_17 : decode cX10_whispers 17 = .ok (.invokevirtual 554, 3) := dk_182 2 42 (dk_at dksX10_whispers_0 17 rfl rfl)
theorem dX10_whispers_20 : decode cX10_whispers 20 = .ok (.aload_n 0, 1) := dk_42 (dk_at dksX10_whispers_0 20 rfl rfl)
theorem dX10_whispers_21 : decode cX10_whispers 21 = .ok (.iload_n 2, 1) := dk_28 (dk_at dksX10_whispers_0 21 rfl rfl)
theorem dX10_whispers_22 : decode cX10_whispers 22 = .ok (.invokevirtual 454, 3) := dk_182 1 198 (dk_at dksX10_whispers_1 0 rfl rfl)
theorem dX10_whispers_25 : decode cX10_whispers 25 = .ok (.if_icmp .ge 69, 3) := dk_162 0 69 (dk_at dksX10_whispers_1 3 rfl rfl)
theorem dX10_whispers_28 : decode cX10_whispers 28 = .ok (.aload_n 0, 1) := dk_42 (dk_at dksX10_whispers_1 6 rfl rfl)
theorem dX10_whispers_29 : decode cX10_whispers 29 = .ok (.getfield 13, 3) := dk_180 0 13 (dk_at dksX10_whispers_1 7 rfl rfl)
theorem dX10_whispers_32 : decode cX10_whispers 32 = .ok (.iconst 1, 1) := dk_4 (dk_at dksX10_whispers_1 10 rfl rfl)
theorem dX10_whispers_33 : decode cX10_whispers 33 = .ok (.iaload, 1) := dk_46 (dk_at dksX10_whispers_1 11 rfl rfl)
theorem dX10_whispers_34 : decode cX10_whispers 34 = .ok (.ifCond .ne 6, 3) := dk_154 0 6 (dk_at dksX10_whispers_1 12 rfl rfl)
theorem dX10_whispers_37 : decode cX10_whispers 37 = .ok (.goto 57, 3) := dk_167 0 57 (dk_at dksX10_whispers_1 15 rfl rfl)
theorem dX10_whispers_40 : decode cX10_whispers 40 = .ok (.aload_n 0, 1) := dk_42 (dk_at dksX10_whispers_1 18 rfl rfl)
theorem dX10_whispers_41 : decode cX10_whispers 41 = .ok (.aload_n 0, 1) := dk_42 (dk_at dksX10_whispers_1 19 rfl rfl)
theorem dX10_whispers_42 : decode cX10_whispers 42 = .ok (.getfield 13, 3) := dk_180 0 13 (dk_at dksX10_whispers_1 20 rfl rfl)
theorem dX10_whispers_45 : decode cX10_whispers 45 = .ok (.iconst 1, 1) := dk_4 (dk_at dksX10_whispers_1 23 rfl rfl)
theorem dX10_whispers_46 : decode cX10_whispers 46 = .ok (.iaload, 1) := dk_46 (dk_at dksX10_whispers_2 0 rfl rfl)
theorem dX10_whispers_47 : decode cX10_whispers 47 = .ok (.invokevirtual 554, 3) := dk_182 2 42 (dk_at dksX10_whispers_2 1 rfl rfl)
theorem dX10_whispers_50 : decode cX10_whispers 50 = .ok (.istore_n 3, 1) := dk_62 (dk_at dksX10_whispers_2 4 rfl rfl)
theorem dX10_whispers_51 : decode cX10_whispers 51 = .ok (.aload_n 0, 1) := dk_42 (dk_at dksX10_whispers_2 5 rfl rfl)
theorem dX10_whispers_52 : decode cX10_whispers 52 = .ok (.aload_n 0, 1) := dk_42 (dk_at dksX10_whispers_2 6 rfl rfl)
theorem dX10_whispers_53 : decode cX10_whispers 53 = .ok (.getfield 50, 3) := dk_180 0 50 (dk_at dksX10_whispers_2 7 rfl rfl)
theorem dX10_whispers_56 : decode cX10_whispers 56 = .ok (.iload_n 2, 1) := dk_28 (dk_at dksX10_whispers_2 10 rfl rfl)
theorem dX10_whispers_57 : decode cX10_whispers 57 = .ok (.iaload, 1) := dk_46 (dk_at dksX10_whispers_2 11 rfl rfl)
theorem dX10_whispers_58 : decode cX10_whispers 58 = .ok (.aload_n 0, 1) := dk_42 (dk_at dksX10_whispers_2 12 rfl rfl)
theorem dX10_whispers_59 : decode cX10_whispers 59 = .ok (.getfield 53, 3) := dk_180 0 53 (dk_at dksX10_whispers_2 13 rfl rfl)
theorem dX10_whispers_62 : decode cX10_whispers 62 = .ok (.iload_n 2, 1) := dk_28 (dk_at dksX10_whispers_2 16 rfl rfl)
theorem dX10_whispers_63 : decode cX10_whispers 63 = .ok (.iaload, 1) := dk_46 (dk_at dksX10_whispers_2 17 rfl rfl)
theorem dX10_whispers_64 : decode cX10_whispers 64 = .ok (.iload_n 3, 1) := dk_29 (dk_at dksX10_whispers_2 18 rfl rfl)
theorem dX10_whispers_65 : decode cX10_whispers 65 = .ok (.invokevirtual 464, 3) := dk_182 1 208 (dk_at dksX10_whispers_2 19 rfl rfl)
theorem dX10_whispers_68 : decode cX10_whispers 68 = .ok (.ifCond .ne 6, 3) := dk_154 0 6 (dk_at dksX10_whispers_3 0 rfl rfl)
theorem dX10_whispers_71 : decode cX10_whispers 71 = .ok (.goto 23, 3) := dk_167 0 23 (dk_at dksX10_whispers_3 3 rfl rfl)
theorem dX10_whispers_74 : decode cX10_whispers 74 = .ok (.aload_n 0, 1) := dk_42 (dk_at dksX10_whispers_3 6 rfl rfl)
theorem dX10_whispers_75 : decode cX10_whispers 75 = .ok (.aload_n 0, 1) := dk_42 (dk_at dksX10_whispers_3 7 rfl rfl)
theorem dX10_whispers_76 : decode cX10_whispers 76 = .ok (.getfield 50, 3) := dk_180 0 50 (dk_at dksX10_whispers_3 8 rfl rfl)
theorem dX10_whispers_79 : decode cX10_whispers 79 = .ok (.iload_n 2, 1) := dk_28 (dk_at dksX10_whispers_3 11 rfl rfl)
theorem dX10_whispers_80 : decode cX10_whispers 80 = .ok (.iaload, 1) := dk_46 (dk_at dksX10_whispers_3 12 rfl rfl)
theorem dX10_whispers_81 : decode cX10_whispers 81 = .ok (.aload_n 0, 1) := dk_42 (dk_at dksX10_whispers_3 13 rfl rfl)
theorem dX10_whispers_82 : decode cX10_whispers 82 = .ok (.getfield 53, 3) := dk_180 0 53 (dk_at dksX10_whispers_3 14 rfl rfl)
theorem dX10_whispers_85 : decode cX10_whispers 85 = .ok (.iload_n 2, 1) := dk_28 (dk_at dksX10_whispers_3 17 rfl rfl)
theorem dX10_whispers_86 : decode cX10_whispers 86 = .ok (.iaload, 1) := dk_46 (dk_at dksX10_whispers_3 18 rfl rfl)
theorem dX10_whispers_87 : decode cX10_whispers 87 = .ok (.iload_n 3, 1) := dk_29 (dk_at dksX10_whispers_3 19 rfl rfl)
theorem dX10_whispers_88 : decode cX10_whispers 88 = .ok (.invokevirtual 470, 3) := dk_182 1 214 (dk_at dksX10_whispers_3 20 rfl rfl)
theorem dX10_whispers_91 : decode cX10_whispers 91 = .ok (.iinc 1 1, 3) := dk_132 1 1 (dk_at dksX10_whispers_4 0 rfl rfl)
theorem dX10_whispers_94 : decode cX10_whispers 94 = .ok (.iinc 2 1, 3) := dk_132 2 1 (dk_at dksX10_whispers_4 3 rfl rfl)
theorem dX10_whispers_97 : decode cX10_whispers 97 = .ok (.goto (-93), 3) := dk_167 255 163 (dk_at dksX10_whispers_4 6 rfl rfl)
theorem dX10_whispers_100 : decode cX10_whispers 100 = .ok (.iload_n 1, 1) := dk_27 (dk_at dksX10_whispers_4 9 rfl rfl)
theorem dX10_whispers_101 : decode cX10_whispers 101 = .ok (.ireturn, 1) := dk_172 (dk_at dksX10_whispers_4 10 rfl rfl)
abbrev cX10_draws : ByteArray := prog_36_method_104_code
def yX10_draws : MethodName := ⟨RX10, "draws", "(I)I"⟩
def dkwX10_draws_1 : List UInt8 := [20, 2, 40, 109, 27, 133, 113, 136, 172]
abbrev dktX10_draws_1 : List UInt8 := dkwX10_draws_1 ++ []
def dkwX10_draws_0 : List UInt8 := [42, 42, 180, 2, 31, 20, 2, 34, 105, 20, 2, 36, 97, 20, 2, 38, 113, 181, 2, 31, 42, 180, 2, 31]
abbrev dktX10_draws_0 : List UInt8 := dkwX10_draws_0 ++ dktX10_draws_1
theorem dksX10_draws_0 : cX10_draws.data.toList.drop 0 = dktX10_draws_0 := by decide +kernel
theorem dksX10_draws_1 : cX10_draws.data.toList.drop 24 = dktX10_draws_1 := dk_seg dksX10_draws_0 24 rfl rfl
theorem dX10_draws_0 : decode cX10_draws 0 = .ok (.aload_n 0, 1) := dk_42 (dk_at dksX10_draws_0 0 rfl rfl)
theorem dX10_draws_1 : decode cX10_draws 1 = .ok (.aload_n 0, 1) := dk_42 (dk_at dksX10_draws_0 1 rfl rfl)
theorem dX10_draws_2 : decode cX10_draws 2 = .ok (.getfield 543, 3) := dk_180 2 31 (dk_at dksX10_draws_0 2 rfl rfl)
theorem dX10_draws_5 : decode cX10_draws 5 = .ok (.ldc2_w 546, 3) := dk_20 2 34 (dk_at dksX10_draws_0 5 rfl rfl)
theorem dX10_draws_8 : decode cX10_draws 8 = .ok (.lmul, 1) := dk_105 (dk_at dksX10_draws_0 8 rfl rfl)
theorem dX10_draws_9 : decode cX10_draws 9 = .ok (.ldc2_w 548, 3) := dk_20 2 36 (dk_at dksX10_draws_0 9 rfl rfl)
theorem dX10_draws_12 : decode cX10_draws 12 = .ok (.ladd, 1) := dk_97 (dk_at dksX10_draws_0 12 rfl rfl)
theorem dX10_draws_13 : decode cX10_draws 13 = .ok (.ldc2_w 550, 3) := dk_20 2 38 (dk_at dksX10_draws_0 13 rfl rfl)
theorem dX10_draws_16 : decode cX10_draws 16 = .ok (.lrem, 1) := dk_113 (dk_at dksX10_draws_0 16 rfl rfl)
theorem dX10_draws_17 : decode cX10_draws 17 = .ok (.putfield 543, 3) := dk_181 2 31 (dk_at dksX10_draws_0 17 rfl rfl)
theorem dX10_draws_20 : decode cX10_draws 20 = .ok (.aload_n 0, 1) := dk_42 (dk_at dksX10_draws_0 20 rfl rfl)
theorem dX10_draws_21 : decode cX10_draws 21 = .ok (.getfield 543, 3) := dk_180 2 31 (dk_at dksX10_draws_0 21 rfl rfl)
theorem dX10_draws_24 : decode cX10_draws 24 = .ok (.ldc2_w 552, 3) := dk_20 2 40 (dk_at dksX10_draws_1 0 rfl rfl)
theorem dX10_draws_27 : decode cX10_draws 27 = .ok (.ldiv, 1) := dk_109 (dk_at dksX10_draws_1 3 rfl rfl)
theorem dX10_draws_28 : decode cX10_draws 28 = .ok (.iload_n 1, 1) := dk_27 (dk_at dksX10_draws_1 4 rfl rfl)
theorem dX10_draws_29 : decode cX10_draws 29 = .ok (.i2l, 1) := dk_133 (dk_at dksX10_draws_1 5 rfl rfl)
theorem dX10_draws_30 : decode cX10_draws 30 = .ok (.lrem, 1) := dk_113 (dk_at dksX10_draws_1 6 rfl rfl)
theorem dX10_draws_31 : decode cX10_draws 31 = .ok (.l2i, 1) := dk_136 (dk_at dksX10_draws_1 7 rfl rfl)
theorem dX10_draws_32 : decode cX10_draws 32 = .ok (.ireturn, 1) := dk_172 (dk_at dksX10_draws_1 8 rfl rfl)
abbrev cX10_mark : ByteArray := prog_36_method_107_code
def yX10_mark : MethodName := ⟨RX10, "mark", "(IZ)Z"⟩
def dkwX10_mark_5 : List UInt8 := [172]
abbrev dktX10_mark_5 : List UInt8 := dkwX10_mark_5 ++ []
def dkwX10_mark_4 : List UInt8 := [3, 181, 1, 142, 167, 0, 19, 42, 180, 0, 129, 3, 42, 180, 0, 135, 16, 123, 27, 104, 184, 1, 201, 4]
abbrev dktX10_mark_4 : List UInt8 := dkwX10_mark_4 ++ dktX10_mark_5
def dkwX10_mark_3 : List UInt8 := [182, 2, 48, 28, 153, 0, 27, 42, 180, 0, 135, 16, 123, 27, 104, 42, 180, 0, 129, 3, 184, 1, 201, 42]
abbrev dktX10_mark_3 : List UInt8 := dkwX10_mark_3 ++ dktX10_mark_4
def dkwX10_mark_2 : List UInt8 := [28, 153, 0, 7, 3, 167, 0, 6, 4, 27, 96, 54, 4, 42, 29, 21, 4, 182, 1, 148, 42, 29, 21, 4]
abbrev dktX10_mark_2 : List UInt8 := dkwX10_mark_2 ++ dktX10_mark_3
def dkwX10_mark_1 : List UInt8 := [154, 0, 5, 3, 172, 42, 180, 0, 141, 27, 4, 84, 28, 153, 0, 9, 4, 27, 96, 167, 0, 4, 3, 62]
abbrev dktX10_mark_1 : List UInt8 := dkwX10_mark_1 ++ dktX10_mark_2
def dkwX10_mark_0 : List UInt8 := [42, 3, 181, 0, 175, 27, 3, 6, 184, 1, 52, 153, 0, 16, 28, 153, 0, 14, 42, 180, 0, 141, 27, 51]
abbrev dktX10_mark_0 : List UInt8 := dkwX10_mark_0 ++ dktX10_mark_1
theorem dksX10_mark_0 : cX10_mark.data.toList.drop 0 = dktX10_mark_0 := by decide +kernel
theorem dksX10_mark_1 : cX10_mark.data.toList.drop 24 = dktX10_mark_1 := dk_seg dksX10_mark_0 24 rfl rfl
theorem dksX10_mark_2 : cX10_mark.data.toList.drop 48 = dktX10_mark_2 := dk_seg dksX10_mark_1 24 rfl rfl
theorem dksX10_mark_3 : cX10_mark.data.toList.drop 72 = dktX10_mark_3 := dk_seg dksX10_mark_2 24 rfl rfl
theorem dksX10_mark_4 : cX10_mark.data.toList.drop 96 = dktX10_mark_4 := dk_seg dksX10_mark_3 24 rfl rfl
theorem dksX10_mark_5 : cX10_mark.data.toList.drop 120 = dktX10_mark_5 := dk_seg dksX10_mark_4 24 rfl rfl
theorem dX10_mark_0 : decode cX10_mark 0 = .ok (.aload_n 0, 1) := dk_42 (dk_at dksX10_mark_0 0 rfl rfl)
theorem dX10_mark_1 : decode cX10_mark 1 = .ok (.iconst 0, 1) := dk_3 (dk_at dksX10_mark_0 1 rfl rfl)
theorem dX10_mark_2 : decode cX10_mark 2 = .ok (.putfield 175, 3) := dk_181 0 175 (dk_at dksX10_mark_0 2 rfl rfl)
theorem dX10_mark_5 : decode cX10_mark 5 = .ok (.iload_n 1, 1) := dk_27 (dk_at dksX10_mark_0 5 rfl rfl)
theorem dX10_mark_6 : decode cX10_mark 6 = .ok (.iconst 0, 1) := dk_3 (dk_at dksX10_mark_0 6 rfl rfl)
theorem dX10_mark_7 : decode cX10_mark 7 = .ok (.iconst 3, 1) := dk_6 (dk_at dksX10_mark_0 7 rfl rfl)
theorem dX10_mark_8 : decode cX10_mark 8 = .ok (.invokestatic 308, 3) := dk_184 1 52 (dk_at dksX10_mark_0 8 rfl rfl)
theorem dX10_mark_11 : decode cX10_mark 11 = .ok (.ifCond .eq 16, 3) := dk_153 0 16 (dk_at dksX10_mark_0 11 rfl rfl)
theorem dX10_mark_14 : decode cX10_mark 14 = .ok (.iload_n 2, 1) := dk_28 (dk_at dksX10_mark_0 14 rfl rfl)
theorem dX10_mark_15 : decode cX10_mark 15 = .ok (.ifCond .eq 14, 3) := dk_153 0 14 (dk_at dksX10_mark_0 15 rfl rfl)
theorem dX10_mark_18 : decode cX10_mark 18 = .ok (.aload_n 0, 1) := dk_42 (dk_at dksX10_mark_0 18 rfl rfl)
theorem dX10_mark_19 : decode cX10_mark 19 = .ok (.getfield 141, 3) := dk_180 0 141 (dk_at dksX10_mark_0 19 rfl rfl)
theorem dX10_mark_22 : decode cX10_mark 22 = .ok (.iload_n 1, 1) := dk_27 (dk_at dksX10_mark_0 22 rfl rfl)
theorem dX10_mark_23 : decode cX10_mark 23 = .ok (.baload, 1) := dk_51 (dk_at dksX10_mark_0 23 rfl rfl)
theorem dX10_mark_24 : decode cX10_mark 24 = .ok (.ifCond .ne 5, 3) := dk_154 0 5 (dk_at dksX10_mark_1 0 rfl rfl)
theorem dX10_mark_27 : decode cX10_mark 27 = .ok (.iconst 0, 1) := dk_3 (dk_at dksX10_mark_1 3 rfl rfl)
theorem dX10_mark_28 : decode cX10_mark 28 = .ok (.ireturn, 1) := dk_172 (dk_at dksX10_mark_1 4 rfl rfl)
theorem dX10_mark_29 : decode cX10_mark 29 = .ok (.aload_n 0, 1) := dk_42 (dk_at dksX10_mark_1 5 rfl rfl)
theorem dX10_mark_30 : decode cX10_mark 30 = .ok (.getfield 141, 3) := dk_180 0 141 (dk_at dksX10_mark_1 6 rfl rfl)
theorem dX10_mark_33 : decode cX10_mark 33 = .ok (.iload_n 1, 1) := dk_27 (dk_at dksX10_mark_1 9 rfl rfl)
theorem dX10_mark_34 : decode cX10_mark 34 = .ok (.iconst 1, 1) := dk_4 (dk_at dksX10_mark_1 10 rfl rfl)
theorem dX10_mark_35 : decode cX10_mark 35 = .ok (.bastore, 1) := dk_84 (dk_at dksX10_mark_1 11 rfl rfl)
theorem dX10_mark_36 : decode cX10_mark 36 = .ok (.iload_n 2, 1) := dk_28 (dk_at dksX10_mark_1 12 rfl rfl)
theorem dX10_mark_37 : decode cX10_mark 37 = .ok (.ifCond .eq 9, 3) := dk_153 0 9 (dk_at dksX10_mark_1 13 rfl rfl)
theorem dX10_mark_40 : decode cX10_mark 40 = .ok (.iconst 1, 1) := dk_4 (dk_at dksX10_mark_1 16 rfl rfl)
theorem dX10_mark_41 : decode cX10_mark 41 = .ok (.iload_n 1, 1) := dk_27 (dk_at dksX10_mark_1 17 rfl rfl)
theorem dX10_mark_42 : decode cX10_mark 42 = .ok (.iadd, 1) := dk_96 (dk_at dksX10_mark_1 18 rfl rfl)
theorem dX10_mark_43 : decode cX10_mark 43 = .ok (.goto 4, 3) := dk_167 0 4 (dk_at dksX10_mark_1 19 rfl rfl)
theorem dX10_mark_46 : decode cX10_mark 46 = .ok (.iconst 0, 1) := dk_3 (dk_at dksX10_mark_1 22 rfl rfl)
theorem dX10_mark_47 : decode cX10_mark 47 = .ok (.istore_n 3, 1) := dk_62 (dk_at dksX10_mark_1 23 rfl rfl)
theorem dX10_mark_48 : decode cX10_mark 48 = .ok (.iload_n 2, 1) := dk_28 (dk_at dksX10_mark_2 0 rfl rfl)
theorem dX10_mark_49 : decode cX10_mark 49 = .ok (.ifCond .eq 7, 3) := dk_153 0 7 (dk_at dksX10_mark_2 1 rfl rfl)
theorem dX10_mark_52 : decode cX10_mark 52 = .ok (.iconst 0, 1) := dk_3 (dk_at dksX10_mark_2 4 rfl rfl)
theorem dX10_mark_53 : decode cX10_mark 53 = .ok (.goto 6, 3) := dk_167 0 6 (dk_at dksX10_mark_2 5 rfl rfl)
theorem dX10_mark_56 : decode cX10_mark 56 = .ok (.iconst 1, 1) := dk_4 (dk_at dksX10_mark_2 8 rfl rfl)
theorem dX10_mark_57 : decode cX10_mark 57 = .ok (.iload_n 1, 1) := dk_27 (dk_at dksX10_mark_2 9 rfl rfl)
theorem dX10_mark_58 : decode cX10_mark 58 = .ok (.iadd, 1) := dk_96 (dk_at dksX10_mark_2 10 rfl rfl)
theorem dX10_mark_59 : decode cX10_mark 59 = .ok (.istore 4, 2) := dk_54 4 (dk_at dksX10_mark_2 11 rfl rfl)
theorem dX10_mark_61 : decode cX10_mark 61 = .ok (.aload_n 0, 1) := dk_42 (dk_at dksX10_mark_2 13 rfl rfl)
theorem dX10_mark_62 : decode cX10_mark 62 = .ok (.iload_n 3, 1) := dk_29 (dk_at dksX10_mark_2 14 rfl rfl)
theorem dX10_mark_63 : decode cX10_mark 63 = .ok (.iload 4, 2) := dk_21 4 (dk_at dksX10_mark_2 15 rfl rfl)
theorem dX10_mark_65 : decode cX10_mark 65 = .ok (.invokevirtual 404, 3) := dk_182 1 148 (dk_at dksX10_mark_2 17 rfl rfl)
theorem dX10_mark_68 : decode cX10_mark 68 = .ok (.aload_n 0, 1) := dk_42 (dk_at dksX10_mark_2 20 rfl rfl)
theorem dX10_mark_69 : decode cX10_mark 69 = .ok (.iload_n 3, 1) := dk_29 (dk_at dksX10_mark_2 21 rfl rfl)
theorem dX10_mark_70 : decode cX10_mark 70 = .ok (.iload 4, 2) := dk_21 4 (dk_at dksX10_mark_2 22 rfl rfl)
theorem dX10_mark_72 : decode cX10_mark 72 = .ok (.invokevirtual 560, 3) := dk_182 2 48 (dk_at dksX10_mark_3 0 rfl rfl)
theorem dX10_mark_75 : decode cX10_mark 75 = .ok (.iload_n 2, 1) := dk_28 (dk_at dksX10_mark_3 3 rfl rfl)
theorem dX10_mark_76 : decode cX10_mark 76 = .ok (.ifCond .eq 27, 3) := dk_153 0 27 (dk_at dksX10_mark_3 4 rfl rfl)
theorem dX10_mark_79 : decode cX10_mark 79 = .ok (.aload_n 0, 1) := dk_42 (dk_at dksX10_mark_3 7 rfl rfl)
theorem dX10_mark_80 : decode cX10_mark 80 = .ok (.getfield 135, 3) := dk_180 0 135 (dk_at dksX10_mark_3 8 rfl rfl)
theorem dX10_mark_83 : decode cX10_mark 83 = .ok (.bipush 123, 2) := dk_16 123 (dk_at dksX10_mark_3 11 rfl rfl)
theorem dX10_mark_85 : decode cX10_mark 85 = .ok (.iload_n 1, 1) := dk_27 (dk_at dksX10_mark_3 13 rfl rfl)
theorem dX10_mark_86 : decode cX10_mark 86 = .ok (.imul, 1) := dk_104 (dk_at dksX10_mark_3 14 rfl rfl)
theorem dX10_mark_87 : decode cX10_mark 87 = .ok (.aload_n 0, 1) := dk_42 (dk_at dksX10_mark_3 15 rfl rfl)
theorem dX10_mark_88 : decode cX10_mark 88 = .ok (.getfield 129, 3) := dk_180 0 129 (dk_at dksX10_mark_3 16 rfl rfl)
theorem dX10_mark_91 : decode cX10_mark 91 = .ok (.iconst 0, 1) := dk_3 (dk_at dksX10_mark_3 19 rfl rfl)
theorem dX10_mark_92 : decode cX10_mark 92 = .ok (.invokestatic 457, 3) := dk_184 1 201 (dk_at dksX10_mark_3 20 rfl rfl)
theorem dX10_mark_95 : decode cX10_mark 95 = .ok (.aload_n 0, 1) := dk_42 (dk_at dksX10_mark_3 23 rfl rfl)
theorem dX10_mark_96 : decode cX10_mark 96 = .ok (.iconst 0, 1) := dk_3 (dk_at dksX10_mark_4 0 rfl rfl)
theorem dX10_mark_97 : decode cX10_mark 97 = .ok (.putfield 398, 3) := dk_181 1 142 (dk_at dksX10_mark_4 1 rfl rfl)
theorem dX10_mark_100 : decode cX10_mark 100 = .ok (.goto 19, 3) := dk_167 0 19 (dk_at dksX10_mark_4 4 rfl rfl)
theorem dX10_mark_103 : decode cX10_mark 103 = .ok (.aload_n 0, 1) := dk_42 (dk_at dksX10_mark_4 7 rfl rfl)
theorem dX10_mark_104 : decode cX10_mark 104 = .ok (.getfield 129, 3) := dk_180 0 129 (dk_at dksX10_mark_4 8 rfl rfl)
theorem dX10_mark_107 : decode cX10_mark 107 = .ok (.iconst 0, 1) := dk_3 (dk_at dksX10_mark_4 11 rfl rfl)
theorem dX10_mark_108 : decode cX10_mark 108 = .ok (.aload_n 0, 1) := dk_42 (dk_at dksX10_mark_4 12 rfl rfl)
theorem dX10_mark_109 : decode cX10_mark 109 = .ok (.getfield 135, 3) := dk_180 0 135 (dk_at dksX10_mark_4 13 rfl rfl)
theorem dX10_mark_112 : decode cX10_mark 112 = .ok (.bipush 123, 2) := dk_16 123 (dk_at dksX10_mark_4 16 rfl rfl)
theorem dX10_mark_114 : decode cX10_mark 114 = .ok (.iload_n 1, 1) := dk_27 (dk_at dksX10_mark_4 18 rfl rfl)
theorem dX10_mark_115 : decode cX10_mark 115 = .ok (.imul, 1) := dk_104 (dk_at dksX10_mark_4 19 rfl rfl)
theorem dX10_mark_116 : decode cX10_mark 116 = .ok (.invokestatic 457, 3) := dk_184 1 201 (dk_at dksX10_mark_4 20 rfl rfl)
theorem dX10_mark_119 : decode cX10_mark 119 = .ok (.iconst 1, 1) := dk_4 (dk_at dksX10_mark_4 23 rfl rfl)
theorem dX10_mark_120 : decode cX10_mark 120 = .ok (.ireturn, 1) := dk_172 (dk_at dksX10_mark_5 0 rfl rfl)
abbrev cX10_laysSeen : ByteArray := prog_36_method_47_code
def yX10_laysSeen : MethodName := ⟨RX10, "laysSeen", "(II)V"⟩
def dkwX10_laysSeen_2 : List UInt8 := [28, 104, 29, 96, 42, 180, 0, 126, 16, 10, 27, 104, 29, 96, 51, 84, 132, 3, 1, 167, 255, 203, 177]
abbrev dktX10_laysSeen_2 : List UInt8 := dkwX10_laysSeen_2 ++ []
def dkwX10_laysSeen_1 : List UInt8 := [16, 10, 28, 104, 29, 96, 42, 180, 0, 123, 16, 10, 27, 104, 29, 96, 46, 79, 42, 180, 0, 126, 16, 10]
abbrev dktX10_laysSeen_1 : List UInt8 := dkwX10_laysSeen_1 ++ dktX10_laysSeen_2
def dkwX10_laysSeen_0 : List UInt8 := [42, 180, 0, 120, 28, 42, 180, 0, 120, 27, 46, 79, 3, 62, 29, 16, 10, 162, 0, 53, 42, 180, 0, 123]
abbrev dktX10_laysSeen_0 : List UInt8 := dkwX10_laysSeen_0 ++ dktX10_laysSeen_1
theorem dksX10_laysSeen_0 : cX10_laysSeen.data.toList.drop 0 = dktX10_laysSeen_0 := by decide +kernel
theorem dksX10_laysSeen_1 : cX10_laysSeen.data.toList.drop 24 = dktX10_laysSeen_1 := dk_seg dksX10_laysSeen_0 24 rfl rfl
theorem dksX10_laysSeen_2 : cX10_laysSeen.data.toList.drop 48 = dktX10_laysSeen_2 := dk_seg dksX10_laysSeen_1 24 rfl rfl
theorem dX10_laysSeen_0 : decode cX10_laysSeen 0 = .ok (.aload_n 0, 1) := dk_42 (dk_at dksX10_laysSeen_0 0 rfl rfl)
theorem dX10_laysSeen_1 : decode cX10_laysSeen 1 = .ok (.getfield 120, 3) := dk_180 0 120 (dk_at dksX10_laysSeen_0 1 rfl rfl)
theorem dX10_laysSeen_4 : decode cX10_laysSeen 4 = .ok (.iload_n 2, 1) := dk_28 (dk_at dksX10_laysSeen_0 4 rfl rfl)
theorem dX10_laysSeen_5 : decode cX10_laysSeen 5 = .ok (.aload_n 0, 1) := dk_42 (dk_at dksX10_laysSeen_0 5 rfl rfl)
theorem dX10_laysSeen_6 : decode cX10_laysSeen 6 = .ok (.getfield 120, 3) := dk_180 0 120 (dk_at dksX10_laysSeen_0 6 rfl rfl)
theorem dX10_laysSeen_9 : decode cX10_laysSeen 9 = .ok (.iload_n 1, 1) := dk_27 (dk_at dksX10_laysSeen_0 9 rfl rfl)
theorem dX10_laysSeen_10 : decode cX10_laysSeen 10 = .ok (.iaload, 1) := dk_46 (dk_at dksX10_laysSeen_0 10 rfl rfl)
theorem dX10_laysSeen_11 : decode cX10_laysSeen 11 = .ok (.iastore, 1) := dk_79 (dk_at dksX10_laysSeen_0 11 rfl rfl)
theorem dX10_laysSeen_12 : decode cX10_laysSeen 12 = .ok (.iconst 0, 1) := dk_3 (dk_at dksX10_laysSeen_0 12 rfl rfl)
theorem dX10_laysSeen_13 : decode cX10_laysSeen 13 = .ok (.istore_n 3, 1) := dk_62 (dk_at dksX10_laysSeen_0 13 rfl rfl)
theorem dX10_laysSeen_14 : decode cX10_laysSeen 14 = .ok (.iload_n 3, 1) := dk_29 (dk_at dksX10_laysSeen_0 14 rfl rfl)
theorem dX10_laysSeen_15 : decode cX10_laysSeen 15 = .ok (.bipush 10, 2) := dk_16 10 (dk_at dksX10_laysSeen_0 15 rfl rfl)
theorem dX10_laysSeen_17 : decode cX10_laysSeen 17 = .ok (.if_icmp .ge 53, 3) := dk_162 0 53 (dk_at dksX10_laysSeen_0 17 rfl rfl)
theorem dX10_laysSeen_20 : decode cX10_laysSeen 20 = .ok (.aload_n 0, 1) := dk_42 (dk_at dksX10_laysSeen_0 20 rfl rfl)
theorem dX10_laysSeen_21 : decode cX10_laysSeen 21 = .ok (.getfield 123, 3) := dk_180 0 123 (dk_at dksX10_laysSeen_0 21 rfl rfl)
theorem dX10_laysSeen_24 : decode cX10_laysSeen 24 = .ok (.bipush 10, 2) := dk_16 10 (dk_at dksX10_laysSeen_1 0 rfl rfl)
theorem dX10_laysSeen_26 : decode cX10_laysSeen 26 = .ok (.iload_n 2, 1) := dk_28 (dk_at dksX10_laysSeen_1 2 rfl rfl)
theorem dX10_laysSeen_27 : decode cX10_laysSeen 27 = .ok (.imul, 1) := dk_104 (dk_at dksX10_laysSeen_1 3 rfl rfl)
theorem dX10_laysSeen_28 : decode cX10_laysSeen 28 = .ok (.iload_n 3, 1) := dk_29 (dk_at dksX10_laysSeen_1 4 rfl rfl)
theorem dX10_laysSeen_29 : decode cX10_laysSeen 29 = .ok (.iadd, 1) := dk_96 (dk_at dksX10_laysSeen_1 5 rfl rfl)
theorem dX10_laysSeen_30 : decode cX10_laysSeen 30 = .ok (.aload_n 0, 1) := dk_42 (dk_at dksX10_laysSeen_1 6 rfl rfl)
theorem dX10_laysSeen_31 : decode cX10_laysSeen 31 = .ok (.getfield 123, 3) := dk_180 0 123 (dk_at dksX10_laysSeen_1 7 rfl rfl)
theorem dX10_laysSeen_34 : decode cX10_laysSeen 34 = .ok (.bipush 10, 2) := dk_16 10 (dk_at dksX10_laysSeen_1 10 rfl rfl)
theorem dX10_laysSeen_36 : decode cX10_laysSeen 36 = .ok (.iload_n 1, 1) := dk_27 (dk_at dksX10_laysSeen_1 12 rfl rfl)
theorem dX10_laysSeen_37 : decode cX10_laysSeen 37 = .ok (.imul, 1) := dk_104 (dk_at dksX10_laysSeen_1 13 rfl rfl)
theorem dX10_laysSeen_38 : decode cX10_laysSeen 38 = .ok (.iload_n 3, 1) := dk_29 (dk_at dksX10_laysSeen_1 14 rfl rfl)
theorem dX10_laysSeen_39 : decode cX10_laysSeen 39 = .ok (.iadd, 1) := dk_96 (dk_at dksX10_laysSeen_1 15 rfl rfl)
theorem dX10_laysSeen_40 : decode cX10_laysSeen 40 = .ok (.iaload, 1) := dk_46 (dk_at dksX10_laysSeen_1 16 rfl rfl)
theorem dX10_laysSeen_41 : decode cX10_laysSeen 41 = .ok (.iastore, 1) := dk_79 (dk_at dksX10_laysSeen_1 17 rfl rfl)
theorem dX10_laysSeen_42 : decode cX10_laysSeen 42 = .ok (.aload_n 0, 1) := dk_42 (dk_at dksX10_laysSeen_1 18 rfl rfl)
theorem dX10_laysSeen_43 : decode cX10_laysSeen 43 = .ok (.getfield 126, 3) := dk_180 0 126 (dk_at dksX10_laysSeen_1 19 rfl rfl)
theorem dX10_laysSeen_46 : decode cX10_laysSeen 46 = .ok (.bipush 10, 2) := dk_16 10 (dk_at dksX10_laysSeen_1 22 rfl rfl)
theorem dX10_laysSeen_48 : decode cX10_laysSeen 48 = .ok (.iload_n 2, 1) := dk_28 (dk_at dksX10_laysSeen_2 0 rfl rfl)
theorem dX10_laysSeen_49 : decode cX10_laysSeen 49 = .ok (.imul, 1) := dk_104 (dk_at dksX10_laysSeen_2 1 rfl rfl)
theorem dX10_laysSeen_50 : decode cX10_laysSeen 50 = .ok (.iload_n 3, 1) := dk_29 (dk_at dksX10_laysSeen_2 2 rfl rfl)
theorem dX10_laysSeen_51 : decode cX10_laysSeen 51 = .ok (.iadd, 1) := dk_96 (dk_at dksX10_laysSeen_2 3 rfl rfl)
theorem dX10_laysSeen_52 : decode cX10_laysSeen 52 = .ok (.aload_n 0, 1) := dk_42 (dk_at dksX10_laysSeen_2 4 rfl rfl)
theorem dX10_laysSeen_53 : decode cX10_laysSeen 53 = .ok (.getfield 126, 3) := dk_180 0 126 (dk_at dksX10_laysSeen_2 5 rfl rfl)
theorem dX10_laysSeen_56 : decode cX10_laysSeen 56 = .ok (.bipush 10, 2) := dk_16 10 (dk_at dksX10_laysSeen_2 8 rfl rfl)
theorem dX10_laysSeen_58 : decode cX10_laysSeen 58 = .ok (.iload_n 1, 1) := dk_27 (dk_at dksX10_laysSeen_2 10 rfl rfl)
theorem dX10_laysSeen_59 : decode cX10_laysSeen 59 = .ok (.imul, 1) := dk_104 (dk_at dksX10_laysSeen_2 11 rfl rfl)
theorem dX10_laysSeen_60 : decode cX10_laysSeen 60 = .ok (.iload_n 3, 1) := dk_29 (dk_at dksX10_laysSeen_2 12 rfl rfl)
theorem dX10_laysSeen_61 : decode cX10_laysSeen 61 = .ok (.iadd, 1) := dk_96 (dk_at dksX10_laysSeen_2 13 rfl rfl)
theorem dX10_laysSeen_62 : decode cX10_laysSeen 62 = .ok (.baload, 1) := dk_51 (dk_at dksX10_laysSeen_2 14 rfl rfl)
theorem dX10_laysSeen_63 : decode cX10_laysSeen 63 = .ok (.bastore, 1) := dk_84 (dk_at dksX10_laysSeen_2 15 rfl rfl)
theorem dX10_laysSeen_64 : decode cX10_laysSeen 64 = .ok (.iinc 3 1, 3) := dk_132 3 1 (dk_at dksX10_laysSeen_2 16 rfl rfl)
theorem dX10_laysSeen_67 : decode cX10_laysSeen 67 = .ok (.goto (-53), 3) := dk_167 255 203 (dk_at dksX10_laysSeen_2 19 rfl rfl)
theorem dX10_laysSeen_70 : decode cX10_laysSeen 70 = .ok (.return_, 1) := dk_177 (dk_at dksX10_laysSeen_2 22 rfl rfl)
abbrev cX10_count : ByteArray := prog_36_method_108_code
def yX10_count : MethodName := ⟨RX10, "count", "(I)I"⟩
def dkwX10_count_5 : List UInt8 := [180, 0, 181, 172]
abbrev dktX10_count_5 : List UInt8 := dkwX10_count_5 ++ []
def dkwX10_count_4 : List UInt8 := [180, 0, 129, 16, 122, 46, 167, 0, 20, 27, 16, 9, 160, 0, 10, 42, 180, 1, 142, 167, 0, 7, 42]
abbrev dktX10_count_4 : List UInt8 := dkwX10_count_4 ++ dktX10_count_5
def dkwX10_count_3 : List UInt8 := [46, 172, 27, 16, 7, 160, 0, 12, 42, 180, 0, 120, 3, 46, 167, 0, 36, 27, 16, 8, 160, 0, 13, 42]
abbrev dktX10_count_3 : List UInt8 := dkwX10_count_3 ++ dktX10_count_4
def dkwX10_count_2 : List UInt8 := [167, 0, 25, 27, 8, 160, 0, 14, 42, 42, 182, 1, 233, 182, 1, 177, 167, 0, 9, 42, 180, 0, 105, 3]
abbrev dktX10_count_2 : List UInt8 := dkwX10_count_2 ++ dktX10_count_3
def dkwX10_count_1 : List UInt8 := [180, 0, 13, 27, 46, 172, 27, 16, 7, 162, 0, 41, 27, 7, 160, 0, 13, 42, 180, 0, 129, 16, 85, 46]
abbrev dktX10_count_1 : List UInt8 := dkwX10_count_1 ++ dktX10_count_2
def dkwX10_count_0 : List UInt8 := [42, 3, 181, 0, 175, 27, 3, 16, 10, 184, 1, 52, 154, 0, 5, 2, 172, 27, 7, 162, 0, 10, 42]
abbrev dktX10_count_0 : List UInt8 := dkwX10_count_0 ++ dktX10_count_1
theorem dksX10_count_0 : cX10_count.data.toList.drop 0 = dktX10_count_0 := by decide +kernel
theorem dksX10_count_1 : cX10_count.data.toList.drop 23 = dktX10_count_1 := dk_seg dksX10_count_0 23 rfl rfl
theorem dksX10_count_2 : cX10_count.data.toList.drop 47 = dktX10_count_2 := dk_seg dksX10_count_1 24 rfl rfl
theorem dksX10_count_3 : cX10_count.data.toList.drop 71 = dktX10_count_3 := dk_seg dksX10_count_2 24 rfl rfl
theorem dksX10_count_4 : cX10_count.data.toList.drop 95 = dktX10_count_4 := dk_seg dksX10_count_3 24 rfl rfl
theorem dksX10_count_5 : cX10_count.data.toList.drop 118 = dktX10_count_5 := dk_seg dksX10_count_4 23 rfl rfl
theorem dX10_count_0 : decode cX10_count 0 = .ok (.aload_n 0, 1) := dk_42 (dk_at dksX10_count_0 0 rfl rfl)
theorem dX10_count_1 : decode cX10_count 1 = .ok (.iconst 0, 1) := dk_3 (dk_at dksX10_count_0 1 rfl rfl)
theorem dX10_count_2 : decode cX10_count 2 = .ok (.putfield 175, 3) := dk_181 0 175 (dk_at dksX10_count_0 2 rfl rfl)
theorem dX10_count_5 : decode cX10_count 5 = .ok (.iload_n 1, 1) := dk_27 (dk_at dksX10_count_0 5 rfl rfl)
theorem dX10_count_6 : decode cX10_count 6 = .ok (.iconst 0, 1) := dk_3 (dk_at dksX10_count_0 6 rfl rfl)
theorem dX10_count_7 : decode cX10_count 7 = .ok (.bipush 10, 2) := dk_16 10 (dk_at dksX10_count_0 7 rfl rfl)
theorem dX10_count_9 : decode cX10_count 9 = .ok (.invokestatic 308, 3) := dk_184 1 52 (dk_at dksX10_count_0 9 rfl rfl)
theorem dX10_count_12 : decode cX10_count 12 = .ok (.ifCond .ne 5, 3) := dk_154 0 5 (dk_at dksX10_count_0 12 rfl rfl)
theorem dX10_count_15 : decode cX10_count 15 = .ok (.iconst (-1), 1) := dk_2 (dk_at dksX10_count_0 15 rfl rfl)
theorem dX10_count_16 : decode cX10_count 16 = .ok (.ireturn, 1) := dk_172 (dk_at dksX10_count_0 16 rfl rfl)
theorem dX10_count_17 : decode cX10_count 17 = .ok (.iload_n 1, 1) := dk_27 (dk_at dksX10_count_0 17 rfl rfl)
theorem dX10_count_18 : decode cX10_count 18 = .ok (.iconst 4, 1) := dk_7 (dk_at dksX10_count_0 18 rfl rfl)
theorem dX10_count_19 : decode cX10_count 19 = .ok (.if_icmp .ge 10, 3) := dk_162 0 10 (dk_at dksX10_count_0 19 rfl rfl)
theorem dX10_count_22 : decode cX10_count 22 = .ok (.aload_n 0, 1) := dk_42 (dk_at dksX10_count_0 22 rfl rfl)
theorem dX10_count_23 : decode cX10_count 23 = .ok (.getfield 13, 3) := dk_180 0 13 (dk_at dksX10_count_1 0 rfl rfl)
theorem dX10_count_26 : decode cX10_count 26 = .ok (.iload_n 1, 1) := dk_27 (dk_at dksX10_count_1 3 rfl rfl)
theorem dX10_count_27 : decode cX10_count 27 = .ok (.iaload, 1) := dk_46 (dk_at dksX10_count_1 4 rfl rfl)
theorem dX10_count_28 : decode cX10_count 28 = .ok (.ireturn, 1) := dk_172 (dk_at dksX10_count_1 5 rfl rfl)
theorem dX10_count_29 : decode cX10_count 29 = .ok (.iload_n 1, 1) := dk_27 (dk_at dksX10_count_1 6 rfl rfl)
theorem dX10_count_30 : decode cX10_count 30 = .ok (.bipush 7, 2) := dk_16 7 (dk_at dksX10_count_1 7 rfl rfl)
theorem dX10_count_32 : decode cX10_count 32 = .ok (.if_icmp .ge 41, 3) := dk_162 0 41 (dk_at dksX10_count_1 9 rfl rfl)
theorem dX10_count_35 : decode cX10_count 35 = .ok (.iload_n 1, 1) := dk_27 (dk_at dksX10_count_1 12 rfl rfl)
theorem dX10_count_36 : decode cX10_count 36 = .ok (.iconst 4, 1) := dk_7 (dk_at dksX10_count_1 13 rfl rfl)
theorem dX10_count_37 : decode cX10_count 37 = .ok (.if_icmp .ne 13, 3) := dk_160 0 13 (dk_at dksX10_count_1 14 rfl rfl)
theorem dX10_count_40 : decode cX10_count 40 = .ok (.aload_n 0, 1) := dk_42 (dk_at dksX10_count_1 17 rfl rfl)
theorem dX10_count_41 : decode cX10_count 41 = .ok (.getfield 129, 3) := dk_180 0 129 (dk_at dksX10_count_1 18 rfl rfl)
theorem dX10_count_44 : decode cX10_count 44 = .ok (.bipush 85, 2) := dk_16 85 (dk_at dksX10_count_1 21 rfl rfl)
theorem dX10_count_46 : decode cX10_count 46 = .ok (.iaload, 1) := dk_46 (dk_at dksX10_count_1 23 rfl rfl)
theorem dX10_count_47 : decode cX10_count 47 = .ok (.goto 25, 3) := dk_167 0 25 (dk_at dksX10_count_2 0 rfl rfl)
theorem dX10_count_50 : decode cX10_count 50 = .ok (.iload_n 1, 1) := dk_27 (dk_at dksX10_count_2 3 rfl rfl)
theorem dX10_count_51 : decode cX10_count 51 = .ok (.iconst 5, 1) := dk_8 (dk_at dksX10_count_2 4 rfl rfl)
theorem dX10_count_52 : decode cX10_count 52 = .ok (.if_icmp .ne 14, 3) := dk_160 0 14 (dk_at dksX10_count_2 5 rfl rfl)
theorem dX10_count_55 : decode cX10_count 55 = .ok (.aload_n 0, 1) := dk_42 (dk_at dksX10_count_2 8 rfl rfl)
theorem dX10_count_56 : decode cX10_count 56 = .ok (.aload_n 0, 1) := dk_42 (dk_at dksX10_count_2 9 rfl rfl)
theorem dX10_count_57 : decode cX10_count 57 = .ok (.invokevirtual 489, 3) := dk_182 1 233 (dk_at dksX10_count_2 10 rfl rfl)
theorem dX10_count_60 : decode cX10_count 60 = .ok (.invokevirtual 433, 3) := dk_182 1 177 (dk_at dksX10_count_2 13 rfl rfl)
theorem dX10_count_63 : decode cX10_count 63 = .ok (.goto 9, 3) := dk_167 0 9 (dk_at dksX10_count_2 16 rfl rfl)
theorem dX10_count_66 : decode cX10_count 66 = .ok (.aload_n 0, 1) := dk_42 (dk_at dksX10_count_2 19 rfl rfl)
theorem dX10_count_67 : decode cX10_count 67 = .ok (.getfield 105, 3) := dk_180 0 105 (dk_at dksX10_count_2 20 rfl rfl)
theorem dX10_count_70 : decode cX10_count 70 = .ok (.iconst 0, 1) := dk_3 (dk_at dksX10_count_2 23 rfl rfl)
theorem dX10_count_71 : decode cX10_count 71 = .ok (.iaload, 1) := dk_46 (dk_at dksX10_count_3 0 rfl rfl)
theorem dX10_count_72 : decode cX10_count 72 = .ok (.ireturn, 1) := dk_172 (dk_at dksX10_count_3 1 rfl rfl)
theorem dX10_count_73 : decode cX10_count 73 = .ok (.iload_n 1, 1) := dk_27 (dk_at dksX10_count_3 2 rfl rfl)
theorem dX10_count_74 : decode cX10_count 74 = .ok (.bipush 7, 2) := dk_16 7 (dk_at dksX10_count_3 3 rfl rfl)
theorem dX10_count_76 : decode cX10_count 76 = .ok (.if_icmp .ne 12, 3) := dk_160 0 12 (dk_at dksX10_count_3 5 rfl rfl)
theorem dX10_count_79 : decode cX10_count 79 = .ok (.aload_n 0, 1) := dk_42 (dk_at dksX10_count_3 8 rfl rfl)
theorem dX10_count_80 : decode cX10_count 80 = .ok (.getfield 120, 3) := dk_180 0 120 (dk_at dksX10_count_3 9 rfl rfl)
theorem dX10_count_83 : decode cX10_count 83 = .ok (.iconst 0, 1) := dk_3 (dk_at dksX10_count_3 12 rfl rfl)
theorem dX10_count_84 : decode cX10_count 84 = .ok (.iaload, 1) := dk_46 (dk_at dksX10_count_3 13 rfl rfl)
theorem dX10_count_85 : decode cX10_count 85 = .ok (.goto 36, 3) := dk_167 0 36 (dk_at dksX10_count_3 14 rfl rfl)
theorem dX10_count_88 : decode cX10_count 88 = .ok (.iload_n 1, 1) := dk_27 (dk_at dksX10_count_3 17 rfl rfl)
theorem dX10_count_89 : decode cX10_count 89 = .ok (.bipush 8, 2) := dk_16 8 (dk_at dksX10_count_3 18 rfl rfl)
theorem dX10_count_91 : decode cX10_count 91 = .ok (.if_icmp .ne 13, 3) := dk_160 0 13 (dk_at dksX10_count_3 20 rfl rfl)
theorem dX10_count_94 : decode cX10_count 94 = .ok (.aload_n 0, 1) := dk_42 (dk_at dksX10_count_3 23 rfl rfl)
theorem dX10_count_95 : decode cX10_count 95 = .ok (.getfield 129, 3) := dk_180 0 129 (dk_at dksX10_count_4 0 rfl rfl)
theorem dX10_count_98 : decode cX10_count 98 = .ok (.bipush 122, 2) := dk_16 122 (dk_at dksX10_count_4 3 rfl rfl)
theorem dX10_count_100 : decode cX10_count 100 = .ok (.iaload, 1) := dk_46 (dk_at dksX10_count_4 5 rfl rfl)
theorem dX10_count_101 : decode cX10_count 101 = .ok (.goto 20, 3) := dk_167 0 20 (dk_at dksX10_count_4 6 rfl rfl)
theorem dX10_count_104 : decode cX10_count 104 = .ok (.iload_n 1, 1) := dk_27 (dk_at dksX10_count_4 9 rfl rfl)
theorem dX10_count_105 : decode cX10_count 105 = .ok (.bipush 9, 2) := dk_16 9 (dk_at dksX10_count_4 10 rfl rfl)
theorem dX10_count_107 : decode cX10_count 107 = .ok (.if_icmp .ne 10, 3) := dk_160 0 10 (dk_at dksX10_count_4 12 rfl rfl)
theorem dX10_count_110 : decode cX10_count 110 = .ok (.aload_n 0, 1) := dk_42 (dk_at dksX10_count_4 15 rfl rfl)
theorem dX10_count_111 : decode cX10_count 111 = .ok (.getfield 398, 3) := dk_180 1 142 (dk_at dksX10_count_4 16 rfl rfl)
theorem dX10_count_114 : decode cX10_count 114 = .ok (.goto 7, 3) := dk_167 0 7 (dk_at dksX10_count_4 19 rfl rfl)
theorem dX10_count_117 : decode cX10_count 117 = .ok (.aload_n 0, 1) := dk_42 (dk_at dksX10_count_4 22 rfl rfl)
theorem dX10_count_118 : decode cX10_count 118 = .ok (.getfield 181, 3) := dk_180 0 181 (dk_at dksX10_count_5 0 rfl rfl)
theorem dX10_count_121 : decode cX10_count 121 = .ok (.ireturn, 1) := dk_172 (dk_at dksX10_count_5 3 rfl rfl)
theorem q143 : (Jvm.Cond.initialized "PaidSecretsModel") ∈ lw_all := lw_g (lw_at lw_m1 15 rfl) rfl
theorem q906 : (Jvm.Cond.selects "PaidSecretsModel" ({ cls := "java/lang/Object", name := "getClass", desc := "()Ljava/lang/Class;" } : Jvm.MethodName) ({ cls := "java/lang/Object", name := "getClass", desc := "()Ljava/lang/Class;" } : Jvm.MethodName)) ∈ lw_all := lw_g (lw_at lw_m4 58 rfl) rfl
theorem q1837 : (Jvm.Cond.instantiable "PaidSecretsModel" (70 : Nat)) ∈ lw_all := lw_g (lw_at lw_m8 29 rfl) rfl
theorem q1839 : (Jvm.Cond.instanceMethod ({ cls := "PaidSecretsModel", name := "<init>", desc := "()V" } : Jvm.MethodName)) ∈ lw_all := lw_g (lw_at lw_m8 31 rfl) rfl
theorem q1840 : (Jvm.Cond.code ({ cls := "PaidSecretsModel", name := "<init>", desc := "()V" } : Jvm.MethodName) prog_36_method_1_code (1 : Nat) (Option.none : Option Jvm.ClassFile.FieldType)) ∈ lw_all := lw_g (lw_at lw_m8 32 rfl) rfl
theorem q1841 : (Jvm.Cond.methodLink "PaidSecretsModel" (1 : Nat) ({ cls := "java/lang/Object", name := "<init>", desc := "()V" } : Jvm.MethodName)) ∈ lw_all := lw_g (lw_at lw_m8 33 rfl) rfl
theorem q1842 : (Jvm.Cond.constant "PaidSecretsModel" (144 : Nat) (65536 : Int32)) ∈ lw_all := lw_g (lw_at lw_m8 34 rfl) rfl
theorem q1843 : (Jvm.Cond.fieldLink "PaidSecretsModel" (175 : Nat) "PaidSecretsModel" "thrown" "I") ∈ lw_all := lw_g (lw_at lw_m8 35 rfl) rfl
theorem q1844 : (Jvm.Cond.fieldLink "PaidSecretsModel" (181 : Nat) "PaidSecretsModel" "taped" "I") ∈ lw_all := lw_g (lw_at lw_m8 36 rfl) rfl
theorem q1845 : (Jvm.Cond.fieldLink "PaidSecretsModel" (7 : Nat) "PaidSecretsModel" "tape" "[I") ∈ lw_all := lw_g (lw_at lw_m8 37 rfl) rfl
theorem q1846 : (Jvm.Cond.fieldLink "PaidSecretsModel" (184 : Nat) "PaidSecretsModel" "size" "I") ∈ lw_all := lw_g (lw_at lw_m8 38 rfl) rfl
theorem q1847 : (Jvm.Cond.fieldLink "PaidSecretsModel" (187 : Nat) "PaidSecretsModel" "place" "I") ∈ lw_all := lw_g (lw_at lw_m8 39 rfl) rfl
theorem q1848 : (Jvm.Cond.fieldLink "PaidSecretsModel" (190 : Nat) "PaidSecretsModel" "begin" "I") ∈ lw_all := lw_g (lw_at lw_m8 40 rfl) rfl
theorem q1849 : (Jvm.Cond.fieldLink "PaidSecretsModel" (200 : Nat) "PaidSecretsModel" "token" "I") ∈ lw_all := lw_g (lw_at lw_m8 41 rfl) rfl
theorem q1850 : (Jvm.Cond.fieldLink "PaidSecretsModel" (193 : Nat) "PaidSecretsModel" "word" "J") ∈ lw_all := lw_g (lw_at lw_m8 42 rfl) rfl
theorem q1851 : (Jvm.Cond.fieldLink "PaidSecretsModel" (197 : Nat) "PaidSecretsModel" "told" "I") ∈ lw_all := lw_g (lw_at lw_m8 43 rfl) rfl
theorem q1852 : (Jvm.Cond.fieldLink "PaidSecretsModel" (211 : Nat) "PaidSecretsModel" "wrong" "I") ∈ lw_all := lw_g (lw_at lw_m8 44 rfl) rfl
theorem q1853 : (Jvm.Cond.fieldLink "PaidSecretsModel" (13 : Nat) "PaidSecretsModel" "town" "[I") ∈ lw_all := lw_g (lw_at lw_m8 45 rfl) rfl
theorem q1854 : (Jvm.Cond.fieldLink "PaidSecretsModel" (16 : Nat) "PaidSecretsModel" "personName" "[J") ∈ lw_all := lw_g (lw_at lw_m8 46 rfl) rfl
theorem q1855 : (Jvm.Cond.fieldLink "PaidSecretsModel" (20 : Nat) "PaidSecretsModel" "secretName" "[J") ∈ lw_all := lw_g (lw_at lw_m8 47 rfl) rfl
theorem q1856 : (Jvm.Cond.fieldLink "PaidSecretsModel" (23 : Nat) "PaidSecretsModel" "kind" "[I") ∈ lw_all := lw_g (lw_at lw_m8 48 rfl) rfl
theorem q1857 : (Jvm.Cond.fieldLink "PaidSecretsModel" (26 : Nat) "PaidSecretsModel" "rankTold" "[I") ∈ lw_all := lw_g (lw_at lw_m8 49 rfl) rfl
theorem q1858 : (Jvm.Cond.fieldLink "PaidSecretsModel" (29 : Nat) "PaidSecretsModel" "tax" "[I") ∈ lw_all := lw_g (lw_at lw_m8 50 rfl) rfl
theorem q1859 : (Jvm.Cond.fieldLink "PaidSecretsModel" (32 : Nat) "PaidSecretsModel" "truth" "[I") ∈ lw_all := lw_g (lw_at lw_m8 51 rfl) rfl
theorem q1860 : (Jvm.Cond.fieldLink "PaidSecretsModel" (35 : Nat) "PaidSecretsModel" "whose" "[I") ∈ lw_all := lw_g (lw_at lw_m8 52 rfl) rfl
theorem q1861 : (Jvm.Cond.fieldLink "PaidSecretsModel" (38 : Nat) "PaidSecretsModel" "costs" "[I") ∈ lw_all := lw_g (lw_at lw_m8 53 rfl) rfl
theorem q1862 : (Jvm.Cond.fieldLink "PaidSecretsModel" (41 : Nat) "PaidSecretsModel" "onSecret" "[I") ∈ lw_all := lw_g (lw_at lw_m8 54 rfl) rfl
theorem q1863 : (Jvm.Cond.fieldLink "PaidSecretsModel" (44 : Nat) "PaidSecretsModel" "knowTold" "[I") ∈ lw_all := lw_g (lw_at lw_m8 55 rfl) rfl
theorem q1864 : (Jvm.Cond.fieldLink "PaidSecretsModel" (47 : Nat) "PaidSecretsModel" "clashes" "[I") ∈ lw_all := lw_g (lw_at lw_m8 56 rfl) rfl
theorem q1865 : (Jvm.Cond.fieldLink "PaidSecretsModel" (50 : Nat) "PaidSecretsModel" "earFrom" "[I") ∈ lw_all := lw_g (lw_at lw_m8 57 rfl) rfl
theorem q1866 : (Jvm.Cond.fieldLink "PaidSecretsModel" (53 : Nat) "PaidSecretsModel" "earTo" "[I") ∈ lw_all := lw_g (lw_at lw_m8 58 rfl) rfl
theorem q1867 : (Jvm.Cond.fieldLink "PaidSecretsModel" (56 : Nat) "PaidSecretsModel" "earChance" "[I") ∈ lw_all := lw_g (lw_at lw_m8 59 rfl) rfl
theorem q1868 : (Jvm.Cond.fieldLink "PaidSecretsModel" (59 : Nat) "PaidSecretsModel" "lineFrom" "[I") ∈ lw_all := lw_g (lw_at lw_m8 60 rfl) rfl
theorem q1869 : (Jvm.Cond.fieldLink "PaidSecretsModel" (62 : Nat) "PaidSecretsModel" "lineTo" "[I") ∈ lw_all := lw_g (lw_at lw_m8 61 rfl) rfl
theorem q1870 : (Jvm.Cond.fieldLink "PaidSecretsModel" (65 : Nat) "PaidSecretsModel" "codes" "[I") ∈ lw_all := lw_g (lw_at lw_m8 62 rfl) rfl
theorem q1871 : (Jvm.Cond.fieldLink "PaidSecretsModel" (214 : Nat) "PaidSecretsModel" "code" "I") ∈ lw_all := lw_g (lw_at lw_m8 63 rfl) rfl
theorem q1872 : (Jvm.Cond.fieldLink "PaidSecretsModel" (68 : Nat) "PaidSecretsModel" "opened" "[I") ∈ lw_all := lw_g (lw_at lw_m8 64 rfl) rfl
theorem q1873 : (Jvm.Cond.fieldLink "PaidSecretsModel" (71 : Nat) "PaidSecretsModel" "compared" "[Z") ∈ lw_all := lw_g (lw_at lw_m8 65 rfl) rfl
theorem q1874 : (Jvm.Cond.fieldLink "PaidSecretsModel" (75 : Nat) "PaidSecretsModel" "kept" "[I") ∈ lw_all := lw_g (lw_at lw_m8 66 rfl) rfl
theorem q1875 : (Jvm.Cond.fieldLink "PaidSecretsModel" (78 : Nat) "PaidSecretsModel" "keptBy" "[I") ∈ lw_all := lw_g (lw_at lw_m8 67 rfl) rfl
theorem q1876 : (Jvm.Cond.fieldLink "PaidSecretsModel" (81 : Nat) "PaidSecretsModel" "ahead" "[I") ∈ lw_all := lw_g (lw_at lw_m8 68 rfl) rfl
theorem q1877 : (Jvm.Cond.fieldLink "PaidSecretsModel" (84 : Nat) "PaidSecretsModel" "against" "[I") ∈ lw_all := lw_g (lw_at lw_m8 69 rfl) rfl
theorem q1878 : (Jvm.Cond.fieldLink "PaidSecretsModel" (87 : Nat) "PaidSecretsModel" "sum" "[I") ∈ lw_all := lw_g (lw_at lw_m8 70 rfl) rfl
theorem q1879 : (Jvm.Cond.fieldLink "PaidSecretsModel" (90 : Nat) "PaidSecretsModel" "sumBy" "[I") ∈ lw_all := lw_g (lw_at lw_m8 71 rfl) rfl
theorem q1880 : (Jvm.Cond.fieldLink "PaidSecretsModel" (93 : Nat) "PaidSecretsModel" "term" "[I") ∈ lw_all := lw_g (lw_at lw_m8 72 rfl) rfl
theorem q1881 : (Jvm.Cond.fieldLink "PaidSecretsModel" (96 : Nat) "PaidSecretsModel" "termBy" "[I") ∈ lw_all := lw_g (lw_at lw_m8 73 rfl) rfl
theorem q1882 : (Jvm.Cond.fieldLink "PaidSecretsModel" (99 : Nat) "PaidSecretsModel" "byNot" "[I") ∈ lw_all := lw_g (lw_at lw_m8 74 rfl) rfl
theorem q1883 : (Jvm.Cond.fieldLink "PaidSecretsModel" (102 : Nat) "PaidSecretsModel" "valueOf" "[I") ∈ lw_all := lw_g (lw_at lw_m8 75 rfl) rfl
theorem q1884 : (Jvm.Cond.fieldLink "PaidSecretsModel" (312 : Nat) "PaidSecretsModel" "given" "I") ∈ lw_all := lw_g (lw_at lw_m8 76 rfl) rfl
theorem q1885 : (Jvm.Cond.fieldLink "PaidSecretsModel" (105 : Nat) "PaidSecretsModel" "lines" "[I") ∈ lw_all := lw_g (lw_at lw_m8 77 rfl) rfl
theorem q1886 : (Jvm.Cond.fieldLink "PaidSecretsModel" (108 : Nat) "PaidSecretsModel" "lineWhat" "[I") ∈ lw_all := lw_g (lw_at lw_m8 78 rfl) rfl
theorem q1887 : (Jvm.Cond.fieldLink "PaidSecretsModel" (111 : Nat) "PaidSecretsModel" "lineA" "[I") ∈ lw_all := lw_g (lw_at lw_m8 79 rfl) rfl
theorem q1888 : (Jvm.Cond.fieldLink "PaidSecretsModel" (114 : Nat) "PaidSecretsModel" "lineB" "[I") ∈ lw_all := lw_g (lw_at lw_m8 80 rfl) rfl
theorem q1889 : (Jvm.Cond.fieldLink "PaidSecretsModel" (117 : Nat) "PaidSecretsModel" "lineC" "[I") ∈ lw_all := lw_g (lw_at lw_m8 81 rfl) rfl
theorem q1890 : (Jvm.Cond.fieldLink "PaidSecretsModel" (120 : Nat) "PaidSecretsModel" "seens" "[I") ∈ lw_all := lw_g (lw_at lw_m8 82 rfl) rfl
theorem q1891 : (Jvm.Cond.fieldLink "PaidSecretsModel" (123 : Nat) "PaidSecretsModel" "seen" "[I") ∈ lw_all := lw_g (lw_at lw_m8 83 rfl) rfl
theorem q1892 : (Jvm.Cond.fieldLink "PaidSecretsModel" (126 : Nat) "PaidSecretsModel" "seenFell" "[Z") ∈ lw_all := lw_g (lw_at lw_m8 84 rfl) rfl
theorem q1893 : (Jvm.Cond.fieldLink "PaidSecretsModel" (129 : Nat) "PaidSecretsModel" "s" "[I") ∈ lw_all := lw_g (lw_at lw_m8 85 rfl) rfl
theorem q1894 : (Jvm.Cond.fieldLink "PaidSecretsModel" (132 : Nat) "PaidSecretsModel" "aside" "[I") ∈ lw_all := lw_g (lw_at lw_m8 86 rfl) rfl
theorem q1895 : (Jvm.Cond.fieldLink "PaidSecretsModel" (135 : Nat) "PaidSecretsModel" "marked" "[I") ∈ lw_all := lw_g (lw_at lw_m8 87 rfl) rfl
theorem q1896 : (Jvm.Cond.fieldLink "PaidSecretsModel" (138 : Nat) "PaidSecretsModel" "undone" "[I") ∈ lw_all := lw_g (lw_at lw_m8 88 rfl) rfl
theorem q1897 : (Jvm.Cond.fieldLink "PaidSecretsModel" (141 : Nat) "PaidSecretsModel" "isLaid" "[Z") ∈ lw_all := lw_g (lw_at lw_m8 89 rfl) rfl
theorem q1898 : (Jvm.Cond.fieldLink "PaidSecretsModel" (398 : Nat) "PaidSecretsModel" "done" "I") ∈ lw_all := lw_g (lw_at lw_m8 90 rfl) rfl
theorem q1899 : (Jvm.Cond.fieldLink "PaidSecretsModel" (145 : Nat) "PaidSecretsModel" "together" "[Z") ∈ lw_all := lw_g (lw_at lw_m8 91 rfl) rfl
theorem q1900 : (Jvm.Cond.fieldLink "PaidSecretsModel" (148 : Nat) "PaidSecretsModel" "isEnough" "[Z") ∈ lw_all := lw_g (lw_at lw_m8 92 rfl) rfl
theorem q1901 : (Jvm.Cond.fieldLink "PaidSecretsModel" (151 : Nat) "PaidSecretsModel" "telling" "[I") ∈ lw_all := lw_g (lw_at lw_m8 93 rfl) rfl
theorem q1902 : (Jvm.Cond.fieldLink "PaidSecretsModel" (154 : Nat) "PaidSecretsModel" "bestTelling" "[I") ∈ lw_all := lw_g (lw_at lw_m8 94 rfl) rfl
theorem q1903 : (Jvm.Cond.fieldLink "PaidSecretsModel" (504 : Nat) "PaidSecretsModel" "bestGap" "I") ∈ lw_all := lw_g (lw_at lw_m8 95 rfl) rfl
theorem q1904 : (Jvm.Cond.fieldLink "PaidSecretsModel" (501 : Nat) "PaidSecretsModel" "bestMany" "I") ∈ lw_all := lw_g (lw_at lw_m8 96 rfl) rfl
theorem q1905 : (Jvm.Cond.fieldLink "PaidSecretsModel" (157 : Nat) "PaidSecretsModel" "odds" "[I") ∈ lw_all := lw_g (lw_at lw_m8 97 rfl) rfl
theorem q1906 : (Jvm.Cond.fieldLink "PaidSecretsModel" (160 : Nat) "PaidSecretsModel" "oddsThen" "[I") ∈ lw_all := lw_g (lw_at lw_m8 98 rfl) rfl
theorem q1907 : (Jvm.Cond.fieldLink "PaidSecretsModel" (163 : Nat) "PaidSecretsModel" "hears" "[I") ∈ lw_all := lw_g (lw_at lw_m8 99 rfl) rfl
theorem q1908 : (Jvm.Cond.fieldLink "PaidSecretsModel" (166 : Nat) "PaidSecretsModel" "groups" "[I") ∈ lw_all := lw_g (lw_at lw_m8 100 rfl) rfl
theorem q1909 : (Jvm.Cond.fieldLink "PaidSecretsModel" (169 : Nat) "PaidSecretsModel" "guest" "[I") ∈ lw_all := lw_g (lw_at lw_m8 101 rfl) rfl
theorem q1910 : (Jvm.Cond.fieldLink "PaidSecretsModel" (172 : Nat) "PaidSecretsModel" "chosen" "[I") ∈ lw_all := lw_g (lw_at lw_m8 102 rfl) rfl
theorem q1911 : (Jvm.Cond.fieldLink "PaidSecretsModel" (531 : Nat) "PaidSecretsModel" "guests" "I") ∈ lw_all := lw_g (lw_at lw_m8 103 rfl) rfl
theorem q1912 : (Jvm.Cond.fieldLink "PaidSecretsModel" (543 : Nat) "PaidSecretsModel" "g" "J") ∈ lw_all := lw_g (lw_at lw_m8 104 rfl) rfl
theorem q1913 : (Jvm.Cond.lays "PaidSecretsModel" "PaidSecretsModel" "thrown" "I") ∈ lw_all := lw_g (lw_at lw_m8 105 rfl) rfl
theorem q1914 : (Jvm.Cond.soleField "PaidSecretsModel" "thrown") ∈ lw_all := lw_g (lw_at lw_m8 106 rfl) rfl
theorem q1915 : (Jvm.Cond.lays "PaidSecretsModel" "PaidSecretsModel" "taped" "I") ∈ lw_all := lw_g (lw_at lw_m8 107 rfl) rfl
theorem q1916 : (Jvm.Cond.soleField "PaidSecretsModel" "taped") ∈ lw_all := lw_g (lw_at lw_m8 108 rfl) rfl
theorem q1917 : (Jvm.Cond.laysFinal "PaidSecretsModel" "PaidSecretsModel" "tape" "[I") ∈ lw_all := lw_g (lw_at lw_m8 109 rfl) rfl
theorem q1918 : (Jvm.Cond.soleField "PaidSecretsModel" "tape") ∈ lw_all := lw_g (lw_at lw_m8 110 rfl) rfl
theorem q1919 : (Jvm.Cond.lays "PaidSecretsModel" "PaidSecretsModel" "size" "I") ∈ lw_all := lw_g (lw_at lw_m8 111 rfl) rfl
theorem q1920 : (Jvm.Cond.soleField "PaidSecretsModel" "size") ∈ lw_all := lw_g (lw_at lw_m8 112 rfl) rfl
theorem q1921 : (Jvm.Cond.lays "PaidSecretsModel" "PaidSecretsModel" "place" "I") ∈ lw_all := lw_g (lw_at lw_m8 113 rfl) rfl
theorem q1922 : (Jvm.Cond.soleField "PaidSecretsModel" "place") ∈ lw_all := lw_g (lw_at lw_m8 114 rfl) rfl
theorem q1923 : (Jvm.Cond.lays "PaidSecretsModel" "PaidSecretsModel" "begin" "I") ∈ lw_all := lw_g (lw_at lw_m8 115 rfl) rfl
theorem q1924 : (Jvm.Cond.soleField "PaidSecretsModel" "begin") ∈ lw_all := lw_g (lw_at lw_m8 116 rfl) rfl
theorem q1925 : (Jvm.Cond.lays "PaidSecretsModel" "PaidSecretsModel" "token" "I") ∈ lw_all := lw_g (lw_at lw_m8 117 rfl) rfl
theorem q1926 : (Jvm.Cond.soleField "PaidSecretsModel" "token") ∈ lw_all := lw_g (lw_at lw_m8 118 rfl) rfl
theorem q1927 : (Jvm.Cond.lays "PaidSecretsModel" "PaidSecretsModel" "word" "J") ∈ lw_all := lw_g (lw_at lw_m8 119 rfl) rfl
theorem q1928 : (Jvm.Cond.soleField "PaidSecretsModel" "word") ∈ lw_all := lw_g (lw_at lw_m8 120 rfl) rfl
theorem q1929 : (Jvm.Cond.lays "PaidSecretsModel" "PaidSecretsModel" "told" "I") ∈ lw_all := lw_g (lw_at lw_m8 121 rfl) rfl
theorem q1930 : (Jvm.Cond.soleField "PaidSecretsModel" "told") ∈ lw_all := lw_g (lw_at lw_m8 122 rfl) rfl
theorem q1931 : (Jvm.Cond.lays "PaidSecretsModel" "PaidSecretsModel" "wrong" "I") ∈ lw_all := lw_g (lw_at lw_m8 123 rfl) rfl
theorem q1932 : (Jvm.Cond.soleField "PaidSecretsModel" "wrong") ∈ lw_all := lw_g (lw_at lw_m8 124 rfl) rfl
theorem q1933 : (Jvm.Cond.laysFinal "PaidSecretsModel" "PaidSecretsModel" "town" "[I") ∈ lw_all := lw_g (lw_at lw_m8 125 rfl) rfl
theorem q1934 : (Jvm.Cond.soleField "PaidSecretsModel" "town") ∈ lw_all := lw_g (lw_at lw_m8 126 rfl) rfl
theorem q1935 : (Jvm.Cond.laysFinal "PaidSecretsModel" "PaidSecretsModel" "personName" "[J") ∈ lw_all := lw_g (lw_at lw_m8 127 rfl) rfl
theorem q1936 : (Jvm.Cond.soleField "PaidSecretsModel" "personName") ∈ lw_all := lw_g (lw_at lw_m8 128 rfl) rfl
theorem q1937 : (Jvm.Cond.laysFinal "PaidSecretsModel" "PaidSecretsModel" "secretName" "[J") ∈ lw_all := lw_g (lw_at lw_m8 129 rfl) rfl
theorem q1938 : (Jvm.Cond.soleField "PaidSecretsModel" "secretName") ∈ lw_all := lw_g (lw_at lw_m8 130 rfl) rfl
theorem q1939 : (Jvm.Cond.laysFinal "PaidSecretsModel" "PaidSecretsModel" "kind" "[I") ∈ lw_all := lw_g (lw_at lw_m8 131 rfl) rfl
theorem q1940 : (Jvm.Cond.soleField "PaidSecretsModel" "kind") ∈ lw_all := lw_g (lw_at lw_m8 132 rfl) rfl
theorem q1941 : (Jvm.Cond.laysFinal "PaidSecretsModel" "PaidSecretsModel" "rankTold" "[I") ∈ lw_all := lw_g (lw_at lw_m8 133 rfl) rfl
theorem q1942 : (Jvm.Cond.soleField "PaidSecretsModel" "rankTold") ∈ lw_all := lw_g (lw_at lw_m8 134 rfl) rfl
theorem q1943 : (Jvm.Cond.laysFinal "PaidSecretsModel" "PaidSecretsModel" "tax" "[I") ∈ lw_all := lw_g (lw_at lw_m8 135 rfl) rfl
theorem q1944 : (Jvm.Cond.soleField "PaidSecretsModel" "tax") ∈ lw_all := lw_g (lw_at lw_m8 136 rfl) rfl
theorem q1945 : (Jvm.Cond.laysFinal "PaidSecretsModel" "PaidSecretsModel" "truth" "[I") ∈ lw_all := lw_g (lw_at lw_m8 137 rfl) rfl
theorem q1946 : (Jvm.Cond.soleField "PaidSecretsModel" "truth") ∈ lw_all := lw_g (lw_at lw_m8 138 rfl) rfl
theorem q1947 : (Jvm.Cond.laysFinal "PaidSecretsModel" "PaidSecretsModel" "whose" "[I") ∈ lw_all := lw_g (lw_at lw_m8 139 rfl) rfl
theorem q1948 : (Jvm.Cond.soleField "PaidSecretsModel" "whose") ∈ lw_all := lw_g (lw_at lw_m8 140 rfl) rfl
theorem q1949 : (Jvm.Cond.laysFinal "PaidSecretsModel" "PaidSecretsModel" "costs" "[I") ∈ lw_all := lw_g (lw_at lw_m8 141 rfl) rfl
theorem q1950 : (Jvm.Cond.soleField "PaidSecretsModel" "costs") ∈ lw_all := lw_g (lw_at lw_m8 142 rfl) rfl
theorem q1951 : (Jvm.Cond.laysFinal "PaidSecretsModel" "PaidSecretsModel" "onSecret" "[I") ∈ lw_all := lw_g (lw_at lw_m8 143 rfl) rfl
theorem q1952 : (Jvm.Cond.soleField "PaidSecretsModel" "onSecret") ∈ lw_all := lw_g (lw_at lw_m8 144 rfl) rfl
theorem q1953 : (Jvm.Cond.laysFinal "PaidSecretsModel" "PaidSecretsModel" "knowTold" "[I") ∈ lw_all := lw_g (lw_at lw_m8 145 rfl) rfl
theorem q1954 : (Jvm.Cond.soleField "PaidSecretsModel" "knowTold") ∈ lw_all := lw_g (lw_at lw_m8 146 rfl) rfl
theorem q1955 : (Jvm.Cond.laysFinal "PaidSecretsModel" "PaidSecretsModel" "clashes" "[I") ∈ lw_all := lw_g (lw_at lw_m8 147 rfl) rfl
theorem q1956 : (Jvm.Cond.soleField "PaidSecretsModel" "clashes") ∈ lw_all := lw_g (lw_at lw_m8 148 rfl) rfl
theorem q1957 : (Jvm.Cond.laysFinal "PaidSecretsModel" "PaidSecretsModel" "earFrom" "[I") ∈ lw_all := lw_g (lw_at lw_m8 149 rfl) rfl
theorem q1958 : (Jvm.Cond.soleField "PaidSecretsModel" "earFrom") ∈ lw_all := lw_g (lw_at lw_m8 150 rfl) rfl
theorem q1959 : (Jvm.Cond.laysFinal "PaidSecretsModel" "PaidSecretsModel" "earTo" "[I") ∈ lw_all := lw_g (lw_at lw_m8 151 rfl) rfl
theorem q1960 : (Jvm.Cond.soleField "PaidSecretsModel" "earTo") ∈ lw_all := lw_g (lw_at lw_m8 152 rfl) rfl
theorem q1961 : (Jvm.Cond.laysFinal "PaidSecretsModel" "PaidSecretsModel" "earChance" "[I") ∈ lw_all := lw_g (lw_at lw_m8 153 rfl) rfl
theorem q1962 : (Jvm.Cond.soleField "PaidSecretsModel" "earChance") ∈ lw_all := lw_g (lw_at lw_m8 154 rfl) rfl
theorem q1963 : (Jvm.Cond.laysFinal "PaidSecretsModel" "PaidSecretsModel" "lineFrom" "[I") ∈ lw_all := lw_g (lw_at lw_m8 155 rfl) rfl
theorem q1964 : (Jvm.Cond.soleField "PaidSecretsModel" "lineFrom") ∈ lw_all := lw_g (lw_at lw_m8 156 rfl) rfl
theorem q1965 : (Jvm.Cond.laysFinal "PaidSecretsModel" "PaidSecretsModel" "lineTo" "[I") ∈ lw_all := lw_g (lw_at lw_m8 157 rfl) rfl
theorem q1966 : (Jvm.Cond.soleField "PaidSecretsModel" "lineTo") ∈ lw_all := lw_g (lw_at lw_m8 158 rfl) rfl
theorem q1967 : (Jvm.Cond.laysFinal "PaidSecretsModel" "PaidSecretsModel" "codes" "[I") ∈ lw_all := lw_g (lw_at lw_m8 159 rfl) rfl
theorem q1968 : (Jvm.Cond.soleField "PaidSecretsModel" "codes") ∈ lw_all := lw_g (lw_at lw_m8 160 rfl) rfl
theorem q1969 : (Jvm.Cond.lays "PaidSecretsModel" "PaidSecretsModel" "code" "I") ∈ lw_all := lw_g (lw_at lw_m8 161 rfl) rfl
theorem q1970 : (Jvm.Cond.soleField "PaidSecretsModel" "code") ∈ lw_all := lw_g (lw_at lw_m8 162 rfl) rfl
theorem q1971 : (Jvm.Cond.laysFinal "PaidSecretsModel" "PaidSecretsModel" "opened" "[I") ∈ lw_all := lw_g (lw_at lw_m8 163 rfl) rfl
theorem q1972 : (Jvm.Cond.soleField "PaidSecretsModel" "opened") ∈ lw_all := lw_g (lw_at lw_m8 164 rfl) rfl
theorem q1973 : (Jvm.Cond.laysFinal "PaidSecretsModel" "PaidSecretsModel" "compared" "[Z") ∈ lw_all := lw_g (lw_at lw_m8 165 rfl) rfl
theorem q1974 : (Jvm.Cond.soleField "PaidSecretsModel" "compared") ∈ lw_all := lw_g (lw_at lw_m8 166 rfl) rfl
theorem q1975 : (Jvm.Cond.laysFinal "PaidSecretsModel" "PaidSecretsModel" "kept" "[I") ∈ lw_all := lw_g (lw_at lw_m8 167 rfl) rfl
theorem q1976 : (Jvm.Cond.soleField "PaidSecretsModel" "kept") ∈ lw_all := lw_g (lw_at lw_m8 168 rfl) rfl
theorem q1977 : (Jvm.Cond.laysFinal "PaidSecretsModel" "PaidSecretsModel" "keptBy" "[I") ∈ lw_all := lw_g (lw_at lw_m8 169 rfl) rfl
theorem q1978 : (Jvm.Cond.soleField "PaidSecretsModel" "keptBy") ∈ lw_all := lw_g (lw_at lw_m8 170 rfl) rfl
theorem q1979 : (Jvm.Cond.laysFinal "PaidSecretsModel" "PaidSecretsModel" "ahead" "[I") ∈ lw_all := lw_g (lw_at lw_m8 171 rfl) rfl
theorem q1980 : (Jvm.Cond.soleField "PaidSecretsModel" "ahead") ∈ lw_all := lw_g (lw_at lw_m8 172 rfl) rfl
theorem q1981 : (Jvm.Cond.laysFinal "PaidSecretsModel" "PaidSecretsModel" "against" "[I") ∈ lw_all := lw_g (lw_at lw_m8 173 rfl) rfl
theorem q1982 : (Jvm.Cond.soleField "PaidSecretsModel" "against") ∈ lw_all := lw_g (lw_at lw_m8 174 rfl) rfl
theorem q1983 : (Jvm.Cond.laysFinal "PaidSecretsModel" "PaidSecretsModel" "sum" "[I") ∈ lw_all := lw_g (lw_at lw_m8 175 rfl) rfl
theorem q1984 : (Jvm.Cond.soleField "PaidSecretsModel" "sum") ∈ lw_all := lw_g (lw_at lw_m8 176 rfl) rfl
theorem q1985 : (Jvm.Cond.laysFinal "PaidSecretsModel" "PaidSecretsModel" "sumBy" "[I") ∈ lw_all := lw_g (lw_at lw_m8 177 rfl) rfl
theorem q1986 : (Jvm.Cond.soleField "PaidSecretsModel" "sumBy") ∈ lw_all := lw_g (lw_at lw_m8 178 rfl) rfl
theorem q1987 : (Jvm.Cond.laysFinal "PaidSecretsModel" "PaidSecretsModel" "term" "[I") ∈ lw_all := lw_g (lw_at lw_m8 179 rfl) rfl
theorem q1988 : (Jvm.Cond.soleField "PaidSecretsModel" "term") ∈ lw_all := lw_g (lw_at lw_m8 180 rfl) rfl
theorem q1989 : (Jvm.Cond.laysFinal "PaidSecretsModel" "PaidSecretsModel" "termBy" "[I") ∈ lw_all := lw_g (lw_at lw_m8 181 rfl) rfl
theorem q1990 : (Jvm.Cond.soleField "PaidSecretsModel" "termBy") ∈ lw_all := lw_g (lw_at lw_m8 182 rfl) rfl
theorem q1991 : (Jvm.Cond.laysFinal "PaidSecretsModel" "PaidSecretsModel" "byNot" "[I") ∈ lw_all := lw_g (lw_at lw_m8 183 rfl) rfl
theorem q1992 : (Jvm.Cond.soleField "PaidSecretsModel" "byNot") ∈ lw_all := lw_g (lw_at lw_m8 184 rfl) rfl
theorem q1993 : (Jvm.Cond.laysFinal "PaidSecretsModel" "PaidSecretsModel" "valueOf" "[I") ∈ lw_all := lw_g (lw_at lw_m8 185 rfl) rfl
theorem q1994 : (Jvm.Cond.soleField "PaidSecretsModel" "valueOf") ∈ lw_all := lw_g (lw_at lw_m8 186 rfl) rfl
theorem q1995 : (Jvm.Cond.lays "PaidSecretsModel" "PaidSecretsModel" "given" "I") ∈ lw_all := lw_g (lw_at lw_m8 187 rfl) rfl
theorem q1996 : (Jvm.Cond.soleField "PaidSecretsModel" "given") ∈ lw_all := lw_g (lw_at lw_m8 188 rfl) rfl
theorem q1997 : (Jvm.Cond.laysFinal "PaidSecretsModel" "PaidSecretsModel" "lines" "[I") ∈ lw_all := lw_g (lw_at lw_m8 189 rfl) rfl
theorem q1998 : (Jvm.Cond.soleField "PaidSecretsModel" "lines") ∈ lw_all := lw_g (lw_at lw_m8 190 rfl) rfl
theorem q1999 : (Jvm.Cond.laysFinal "PaidSecretsModel" "PaidSecretsModel" "lineWhat" "[I") ∈ lw_all := lw_g (lw_at lw_m8 191 rfl) rfl
theorem q2000 : (Jvm.Cond.soleField "PaidSecretsModel" "lineWhat") ∈ lw_all := lw_g (lw_at lw_m8 192 rfl) rfl
theorem q2001 : (Jvm.Cond.laysFinal "PaidSecretsModel" "PaidSecretsModel" "lineA" "[I") ∈ lw_all := lw_g (lw_at lw_m8 193 rfl) rfl
theorem q2002 : (Jvm.Cond.soleField "PaidSecretsModel" "lineA") ∈ lw_all := lw_g (lw_at lw_m8 194 rfl) rfl
theorem q2003 : (Jvm.Cond.laysFinal "PaidSecretsModel" "PaidSecretsModel" "lineB" "[I") ∈ lw_all := lw_g (lw_at lw_m8 195 rfl) rfl
theorem q2004 : (Jvm.Cond.soleField "PaidSecretsModel" "lineB") ∈ lw_all := lw_g (lw_at lw_m8 196 rfl) rfl
theorem q2005 : (Jvm.Cond.laysFinal "PaidSecretsModel" "PaidSecretsModel" "lineC" "[I") ∈ lw_all := lw_g (lw_at lw_m8 197 rfl) rfl
theorem q2006 : (Jvm.Cond.soleField "PaidSecretsModel" "lineC") ∈ lw_all := lw_g (lw_at lw_m8 198 rfl) rfl
theorem q2007 : (Jvm.Cond.laysFinal "PaidSecretsModel" "PaidSecretsModel" "seens" "[I") ∈ lw_all := lw_g (lw_at lw_m8 199 rfl) rfl
theorem q2008 : (Jvm.Cond.soleField "PaidSecretsModel" "seens") ∈ lw_all := lw_g (lw_at lw_m8 200 rfl) rfl
theorem q2009 : (Jvm.Cond.laysFinal "PaidSecretsModel" "PaidSecretsModel" "seen" "[I") ∈ lw_all := lw_g (lw_at lw_m8 201 rfl) rfl
theorem q2010 : (Jvm.Cond.soleField "PaidSecretsModel" "seen") ∈ lw_all := lw_g (lw_at lw_m8 202 rfl) rfl
theorem q2011 : (Jvm.Cond.laysFinal "PaidSecretsModel" "PaidSecretsModel" "seenFell" "[Z") ∈ lw_all := lw_g (lw_at lw_m8 203 rfl) rfl
theorem q2012 : (Jvm.Cond.soleField "PaidSecretsModel" "seenFell") ∈ lw_all := lw_g (lw_at lw_m8 204 rfl) rfl
theorem q2013 : (Jvm.Cond.laysFinal "PaidSecretsModel" "PaidSecretsModel" "s" "[I") ∈ lw_all := lw_g (lw_at lw_m8 205 rfl) rfl
theorem q2014 : (Jvm.Cond.soleField "PaidSecretsModel" "s") ∈ lw_all := lw_g (lw_at lw_m8 206 rfl) rfl
theorem q2015 : (Jvm.Cond.laysFinal "PaidSecretsModel" "PaidSecretsModel" "aside" "[I") ∈ lw_all := lw_g (lw_at lw_m8 207 rfl) rfl
theorem q2016 : (Jvm.Cond.soleField "PaidSecretsModel" "aside") ∈ lw_all := lw_g (lw_at lw_m8 208 rfl) rfl
theorem q2017 : (Jvm.Cond.laysFinal "PaidSecretsModel" "PaidSecretsModel" "marked" "[I") ∈ lw_all := lw_g (lw_at lw_m8 209 rfl) rfl
theorem q2018 : (Jvm.Cond.soleField "PaidSecretsModel" "marked") ∈ lw_all := lw_g (lw_at lw_m8 210 rfl) rfl
theorem q2019 : (Jvm.Cond.laysFinal "PaidSecretsModel" "PaidSecretsModel" "undone" "[I") ∈ lw_all := lw_g (lw_at lw_m8 211 rfl) rfl
theorem q2020 : (Jvm.Cond.soleField "PaidSecretsModel" "undone") ∈ lw_all := lw_g (lw_at lw_m8 212 rfl) rfl
theorem q2021 : (Jvm.Cond.laysFinal "PaidSecretsModel" "PaidSecretsModel" "isLaid" "[Z") ∈ lw_all := lw_g (lw_at lw_m8 213 rfl) rfl
theorem q2022 : (Jvm.Cond.soleField "PaidSecretsModel" "isLaid") ∈ lw_all := lw_g (lw_at lw_m8 214 rfl) rfl
theorem q2023 : (Jvm.Cond.lays "PaidSecretsModel" "PaidSecretsModel" "done" "I") ∈ lw_all := lw_g (lw_at lw_m8 215 rfl) rfl
theorem q2024 : (Jvm.Cond.soleField "PaidSecretsModel" "done") ∈ lw_all := lw_g (lw_at lw_m8 216 rfl) rfl
theorem q2025 : (Jvm.Cond.laysFinal "PaidSecretsModel" "PaidSecretsModel" "together" "[Z") ∈ lw_all := lw_g (lw_at lw_m8 217 rfl) rfl
theorem q2026 : (Jvm.Cond.soleField "PaidSecretsModel" "together") ∈ lw_all := lw_g (lw_at lw_m8 218 rfl) rfl
theorem q2027 : (Jvm.Cond.laysFinal "PaidSecretsModel" "PaidSecretsModel" "isEnough" "[Z") ∈ lw_all := lw_g (lw_at lw_m8 219 rfl) rfl
theorem q2028 : (Jvm.Cond.soleField "PaidSecretsModel" "isEnough") ∈ lw_all := lw_g (lw_at lw_m8 220 rfl) rfl
theorem q2029 : (Jvm.Cond.laysFinal "PaidSecretsModel" "PaidSecretsModel" "telling" "[I") ∈ lw_all := lw_g (lw_at lw_m8 221 rfl) rfl
theorem q2030 : (Jvm.Cond.soleField "PaidSecretsModel" "telling") ∈ lw_all := lw_g (lw_at lw_m8 222 rfl) rfl
theorem q2031 : (Jvm.Cond.laysFinal "PaidSecretsModel" "PaidSecretsModel" "bestTelling" "[I") ∈ lw_all := lw_g (lw_at lw_m8 223 rfl) rfl
theorem q2032 : (Jvm.Cond.soleField "PaidSecretsModel" "bestTelling") ∈ lw_all := lw_g (lw_at lw_m8 224 rfl) rfl
theorem q2033 : (Jvm.Cond.lays "PaidSecretsModel" "PaidSecretsModel" "bestGap" "I") ∈ lw_all := lw_g (lw_at lw_m8 225 rfl) rfl
theorem q2034 : (Jvm.Cond.soleField "PaidSecretsModel" "bestGap") ∈ lw_all := lw_g (lw_at lw_m8 226 rfl) rfl
theorem q2035 : (Jvm.Cond.lays "PaidSecretsModel" "PaidSecretsModel" "bestMany" "I") ∈ lw_all := lw_g (lw_at lw_m8 227 rfl) rfl
theorem q2036 : (Jvm.Cond.soleField "PaidSecretsModel" "bestMany") ∈ lw_all := lw_g (lw_at lw_m8 228 rfl) rfl
theorem q2037 : (Jvm.Cond.laysFinal "PaidSecretsModel" "PaidSecretsModel" "odds" "[I") ∈ lw_all := lw_g (lw_at lw_m8 229 rfl) rfl
theorem q2038 : (Jvm.Cond.soleField "PaidSecretsModel" "odds") ∈ lw_all := lw_g (lw_at lw_m8 230 rfl) rfl
theorem q2039 : (Jvm.Cond.laysFinal "PaidSecretsModel" "PaidSecretsModel" "oddsThen" "[I") ∈ lw_all := lw_g (lw_at lw_m8 231 rfl) rfl
theorem q2040 : (Jvm.Cond.soleField "PaidSecretsModel" "oddsThen") ∈ lw_all := lw_g (lw_at lw_m8 232 rfl) rfl
theorem q2041 : (Jvm.Cond.laysFinal "PaidSecretsModel" "PaidSecretsModel" "hears" "[I") ∈ lw_all := lw_g (lw_at lw_m8 233 rfl) rfl
theorem q2042 : (Jvm.Cond.soleField "PaidSecretsModel" "hears") ∈ lw_all := lw_g (lw_at lw_m8 234 rfl) rfl
theorem q2043 : (Jvm.Cond.laysFinal "PaidSecretsModel" "PaidSecretsModel" "groups" "[I") ∈ lw_all := lw_g (lw_at lw_m8 235 rfl) rfl
theorem q2044 : (Jvm.Cond.soleField "PaidSecretsModel" "groups") ∈ lw_all := lw_g (lw_at lw_m8 236 rfl) rfl
theorem q2045 : (Jvm.Cond.laysFinal "PaidSecretsModel" "PaidSecretsModel" "guest" "[I") ∈ lw_all := lw_g (lw_at lw_m8 237 rfl) rfl
theorem q2046 : (Jvm.Cond.soleField "PaidSecretsModel" "guest") ∈ lw_all := lw_g (lw_at lw_m8 238 rfl) rfl
theorem q2047 : (Jvm.Cond.laysFinal "PaidSecretsModel" "PaidSecretsModel" "chosen" "[I") ∈ lw_all := lw_g (lw_at lw_m8 239 rfl) rfl
theorem q2048 : (Jvm.Cond.soleField "PaidSecretsModel" "chosen") ∈ lw_all := lw_g (lw_at lw_m9 0 rfl) rfl
theorem q2049 : (Jvm.Cond.lays "PaidSecretsModel" "PaidSecretsModel" "guests" "I") ∈ lw_all := lw_g (lw_at lw_m9 1 rfl) rfl
theorem q2050 : (Jvm.Cond.soleField "PaidSecretsModel" "guests") ∈ lw_all := lw_g (lw_at lw_m9 2 rfl) rfl
theorem q2051 : (Jvm.Cond.lays "PaidSecretsModel" "PaidSecretsModel" "g" "J") ∈ lw_all := lw_g (lw_at lw_m9 3 rfl) rfl
theorem q2052 : (Jvm.Cond.soleField "PaidSecretsModel" "g") ∈ lw_all := lw_g (lw_at lw_m9 4 rfl) rfl
theorem q2053 : (Jvm.Cond.superclass "PaidSecretsModel" "java/lang/Object") ∈ lw_all := lw_g (lw_at lw_m9 5 rfl) rfl
theorem q2055 : (Jvm.Cond.instanceMethod ({ cls := "PaidSecretsModel", name := "thrown", desc := "()I" } : Jvm.MethodName)) ∈ lw_all := lw_g (lw_at lw_m9 7 rfl) rfl
theorem q2056 : (Jvm.Cond.selects "PaidSecretsModel" ({ cls := "PaidSecretsModel", name := "thrown", desc := "()I" } : Jvm.MethodName) ({ cls := "PaidSecretsModel", name := "thrown", desc := "()I" } : Jvm.MethodName)) ∈ lw_all := lw_g (lw_at lw_m9 8 rfl) rfl
theorem q2057 : (Jvm.Cond.code ({ cls := "PaidSecretsModel", name := "thrown", desc := "()I" } : Jvm.MethodName) prog_36_method_2_code (1 : Nat) (Option.some Jvm.ClassFile.FieldType.int)) ∈ lw_all := lw_g (lw_at lw_m9 9 rfl) rfl
theorem q2059 : (Jvm.Cond.instanceMethod ({ cls := "PaidSecretsModel", name := "feed", desc := "(JJJ)I" } : Jvm.MethodName)) ∈ lw_all := lw_g (lw_at lw_m9 11 rfl) rfl
theorem q2060 : (Jvm.Cond.selects "PaidSecretsModel" ({ cls := "PaidSecretsModel", name := "feed", desc := "(JJJ)I" } : Jvm.MethodName) ({ cls := "PaidSecretsModel", name := "feed", desc := "(JJJ)I" } : Jvm.MethodName)) ∈ lw_all := lw_g (lw_at lw_m9 12 rfl) rfl
theorem q2061 : (Jvm.Cond.code ({ cls := "PaidSecretsModel", name := "feed", desc := "(JJJ)I" } : Jvm.MethodName) prog_36_method_6_code (11 : Nat) (Option.some Jvm.ClassFile.FieldType.int)) ∈ lw_all := lw_g (lw_at lw_m9 13 rfl) rfl
theorem q2062 : (Jvm.Cond.constantLong "PaidSecretsModel" (179 : Nat) (255 : Int64)) ∈ lw_all := lw_g (lw_at lw_m9 14 rfl) rfl
theorem q2064 : (Jvm.Cond.instanceMethod ({ cls := "PaidSecretsModel", name := "town", desc := "()I" } : Jvm.MethodName)) ∈ lw_all := lw_g (lw_at lw_m9 16 rfl) rfl
theorem q2065 : (Jvm.Cond.selects "PaidSecretsModel" ({ cls := "PaidSecretsModel", name := "town", desc := "()I" } : Jvm.MethodName) ({ cls := "PaidSecretsModel", name := "town", desc := "()I" } : Jvm.MethodName)) ∈ lw_all := lw_g (lw_at lw_m9 17 rfl) rfl
theorem q2066 : (Jvm.Cond.code ({ cls := "PaidSecretsModel", name := "town", desc := "()I" } : Jvm.MethodName) prog_36_method_49_code (2 : Nat) (Option.some Jvm.ClassFile.FieldType.int)) ∈ lw_all := lw_g (lw_at lw_m9 18 rfl) rfl
theorem q2067 : (Jvm.Cond.methodLink "PaidSecretsModel" (389 : Nat) ({ cls := "PaidSecretsModel", name := "readsAll", desc := "()Z" } : Jvm.MethodName)) ∈ lw_all := lw_g (lw_at lw_m9 19 rfl) rfl
theorem q2068 : (Jvm.Cond.privateMethod ({ cls := "PaidSecretsModel", name := "readsAll", desc := "()Z" } : Jvm.MethodName)) ∈ lw_tbl := lw_at lw_m9 20 rfl
theorem q2069 : (Jvm.Cond.instanceMethod ({ cls := "PaidSecretsModel", name := "readsAll", desc := "()Z" } : Jvm.MethodName)) ∈ lw_all := lw_g (lw_at lw_m9 21 rfl) rfl
theorem q2070 : (Jvm.Cond.code ({ cls := "PaidSecretsModel", name := "readsAll", desc := "()Z" } : Jvm.MethodName) prog_36_method_37_code (2 : Nat) (Option.some Jvm.ClassFile.FieldType.boolean)) ∈ lw_all := lw_g (lw_at lw_m9 22 rfl) rfl
theorem q2071 : (Jvm.Cond.methodLink "PaidSecretsModel" (354 : Nat) ({ cls := "PaidSecretsModel", name := "starts", desc := "()V" } : Jvm.MethodName)) ∈ lw_all := lw_g (lw_at lw_m9 23 rfl) rfl
theorem q2072 : (Jvm.Cond.privateMethod ({ cls := "PaidSecretsModel", name := "starts", desc := "()V" } : Jvm.MethodName)) ∈ lw_tbl := lw_at lw_m9 24 rfl
theorem q2073 : (Jvm.Cond.instanceMethod ({ cls := "PaidSecretsModel", name := "starts", desc := "()V" } : Jvm.MethodName)) ∈ lw_all := lw_g (lw_at lw_m9 25 rfl) rfl
theorem q2074 : (Jvm.Cond.code ({ cls := "PaidSecretsModel", name := "starts", desc := "()V" } : Jvm.MethodName) prog_36_method_36_code (1 : Nat) (Option.none : Option Jvm.ClassFile.FieldType)) ∈ lw_all := lw_g (lw_at lw_m9 26 rfl) rfl
theorem q2075 : (Jvm.Cond.methodLink "PaidSecretsModel" (246 : Nat) ({ cls := "PaidSecretsModel", name := "nextToken", desc := "()V" } : Jvm.MethodName)) ∈ lw_all := lw_g (lw_at lw_m9 27 rfl) rfl
theorem q2076 : (Jvm.Cond.privateMethod ({ cls := "PaidSecretsModel", name := "nextToken", desc := "()V" } : Jvm.MethodName)) ∈ lw_tbl := lw_at lw_m9 28 rfl
theorem q2077 : (Jvm.Cond.instanceMethod ({ cls := "PaidSecretsModel", name := "nextToken", desc := "()V" } : Jvm.MethodName)) ∈ lw_all := lw_g (lw_at lw_m9 29 rfl) rfl
theorem q2078 : (Jvm.Cond.code ({ cls := "PaidSecretsModel", name := "nextToken", desc := "()V" } : Jvm.MethodName) prog_36_method_8_code (2 : Nat) (Option.none : Option Jvm.ClassFile.FieldType)) ∈ lw_all := lw_g (lw_at lw_m9 30 rfl) rfl
theorem q2079 : (Jvm.Cond.methodLink "PaidSecretsModel" (203 : Nat) ({ cls := "PaidSecretsModel", name := "signAt", desc := "(I)I" } : Jvm.MethodName)) ∈ lw_all := lw_g (lw_at lw_m9 31 rfl) rfl
theorem q2080 : (Jvm.Cond.privateMethod ({ cls := "PaidSecretsModel", name := "signAt", desc := "(I)I" } : Jvm.MethodName)) ∈ lw_tbl := lw_at lw_m9 32 rfl
theorem q2081 : (Jvm.Cond.instanceMethod ({ cls := "PaidSecretsModel", name := "signAt", desc := "(I)I" } : Jvm.MethodName)) ∈ lw_all := lw_g (lw_at lw_m9 33 rfl) rfl
theorem q2082 : (Jvm.Cond.code ({ cls := "PaidSecretsModel", name := "signAt", desc := "(I)I" } : Jvm.MethodName) prog_36_method_7_code (2 : Nat) (Option.some Jvm.ClassFile.FieldType.int)) ∈ lw_all := lw_g (lw_at lw_m9 34 rfl) rfl
theorem q2083 : (Jvm.Cond.constantLong "PaidSecretsModel" (207 : Nat) (27 : Int64)) ∈ lw_all := lw_g (lw_at lw_m9 35 rfl) rfl
theorem q2084 : (Jvm.Cond.constantLong "PaidSecretsModel" (209 : Nat) (96 : Int64)) ∈ lw_all := lw_g (lw_at lw_m9 36 rfl) rfl
theorem q2085 : (Jvm.Cond.constantLong "PaidSecretsModel" (262 : Nat) (232608281 : Int64)) ∈ lw_all := lw_g (lw_at lw_m9 37 rfl) rfl
theorem q2086 : (Jvm.Cond.methodLink "PaidSecretsModel" (231 : Nat) ({ cls := "PaidSecretsModel", name := "isWord", desc := "(J)Z" } : Jvm.MethodName)) ∈ lw_all := lw_g (lw_at lw_m9 38 rfl) rfl
theorem q2087 : (Jvm.Cond.privateMethod ({ cls := "PaidSecretsModel", name := "isWord", desc := "(J)Z" } : Jvm.MethodName)) ∈ lw_tbl := lw_at lw_m9 39 rfl
theorem q2088 : (Jvm.Cond.instanceMethod ({ cls := "PaidSecretsModel", name := "isWord", desc := "(J)Z" } : Jvm.MethodName)) ∈ lw_all := lw_g (lw_at lw_m9 40 rfl) rfl
theorem q2089 : (Jvm.Cond.code ({ cls := "PaidSecretsModel", name := "isWord", desc := "(J)Z" } : Jvm.MethodName) prog_36_method_9_code (3 : Nat) (Option.some Jvm.ClassFile.FieldType.boolean)) ∈ lw_all := lw_g (lw_at lw_m9 41 rfl) rfl
theorem q2090 : (Jvm.Cond.methodLink "PaidSecretsModel" (357 : Nat) ({ cls := "PaidSecretsModel", name := "readsPerson", desc := "()Z" } : Jvm.MethodName)) ∈ lw_all := lw_g (lw_at lw_m9 42 rfl) rfl
theorem q2091 : (Jvm.Cond.privateMethod ({ cls := "PaidSecretsModel", name := "readsPerson", desc := "()Z" } : Jvm.MethodName)) ∈ lw_tbl := lw_at lw_m9 43 rfl
theorem q2092 : (Jvm.Cond.instanceMethod ({ cls := "PaidSecretsModel", name := "readsPerson", desc := "()Z" } : Jvm.MethodName)) ∈ lw_all := lw_g (lw_at lw_m9 44 rfl) rfl
theorem q2093 : (Jvm.Cond.code ({ cls := "PaidSecretsModel", name := "readsPerson", desc := "()Z" } : Jvm.MethodName) prog_36_method_30_code (4 : Nat) (Option.some Jvm.ClassFile.FieldType.boolean)) ∈ lw_all := lw_g (lw_at lw_m9 45 rfl) rfl
theorem q2094 : (Jvm.Cond.methodLink "PaidSecretsModel" (239 : Nat) ({ cls := "PaidSecretsModel", name := "fails", desc := "(I)Z" } : Jvm.MethodName)) ∈ lw_all := lw_g (lw_at lw_m9 46 rfl) rfl
theorem q2095 : (Jvm.Cond.privateMethod ({ cls := "PaidSecretsModel", name := "fails", desc := "(I)Z" } : Jvm.MethodName)) ∈ lw_tbl := lw_at lw_m9 47 rfl
theorem q2096 : (Jvm.Cond.instanceMethod ({ cls := "PaidSecretsModel", name := "fails", desc := "(I)Z" } : Jvm.MethodName)) ∈ lw_all := lw_g (lw_at lw_m9 48 rfl) rfl
theorem q2097 : (Jvm.Cond.code ({ cls := "PaidSecretsModel", name := "fails", desc := "(I)Z" } : Jvm.MethodName) prog_36_method_11_code (2 : Nat) (Option.some Jvm.ClassFile.FieldType.boolean)) ∈ lw_all := lw_g (lw_at lw_m9 49 rfl) rfl
theorem q2098 : (Jvm.Cond.methodLink "PaidSecretsModel" (332 : Nat) ({ cls := "PaidSecretsModel", name := "isNew", desc := "()Z" } : Jvm.MethodName)) ∈ lw_all := lw_g (lw_at lw_m9 50 rfl) rfl
theorem q2099 : (Jvm.Cond.privateMethod ({ cls := "PaidSecretsModel", name := "isNew", desc := "()Z" } : Jvm.MethodName)) ∈ lw_tbl := lw_at lw_m9 51 rfl
theorem q2100 : (Jvm.Cond.instanceMethod ({ cls := "PaidSecretsModel", name := "isNew", desc := "()Z" } : Jvm.MethodName)) ∈ lw_all := lw_g (lw_at lw_m9 52 rfl) rfl
theorem q2101 : (Jvm.Cond.code ({ cls := "PaidSecretsModel", name := "isNew", desc := "()Z" } : Jvm.MethodName) prog_36_method_27_code (1 : Nat) (Option.some Jvm.ClassFile.FieldType.boolean)) ∈ lw_all := lw_g (lw_at lw_m9 53 rfl) rfl
theorem q2102 : (Jvm.Cond.methodLink "PaidSecretsModel" (322 : Nat) ({ cls := "PaidSecretsModel", name := "isKept", desc := "()Z" } : Jvm.MethodName)) ∈ lw_all := lw_g (lw_at lw_m9 54 rfl) rfl
theorem q2103 : (Jvm.Cond.privateMethod ({ cls := "PaidSecretsModel", name := "isKept", desc := "()Z" } : Jvm.MethodName)) ∈ lw_tbl := lw_at lw_m9 55 rfl
theorem q2104 : (Jvm.Cond.instanceMethod ({ cls := "PaidSecretsModel", name := "isKept", desc := "()Z" } : Jvm.MethodName)) ∈ lw_all := lw_g (lw_at lw_m9 56 rfl) rfl
theorem q2105 : (Jvm.Cond.code ({ cls := "PaidSecretsModel", name := "isKept", desc := "()Z" } : Jvm.MethodName) prog_36_method_19_code (1 : Nat) (Option.some Jvm.ClassFile.FieldType.boolean)) ∈ lw_all := lw_g (lw_at lw_m9 57 rfl) rfl
theorem q2106 : (Jvm.Cond.constantLong "PaidSecretsModel" (264 : Nat) (355412 : Int64)) ∈ lw_all := lw_g (lw_at lw_m9 58 rfl) rfl
theorem q2107 : (Jvm.Cond.constantLong "PaidSecretsModel" (266 : Nat) (14631 : Int64)) ∈ lw_all := lw_g (lw_at lw_m9 59 rfl) rfl
theorem q2108 : (Jvm.Cond.constantLong "PaidSecretsModel" (268 : Nat) (275358764 : Int64)) ∈ lw_all := lw_g (lw_at lw_m9 60 rfl) rfl
theorem q2109 : (Jvm.Cond.constantLong "PaidSecretsModel" (270 : Nat) (411 : Int64)) ∈ lw_all := lw_g (lw_at lw_m9 61 rfl) rfl
theorem q2110 : (Jvm.Cond.constantLong "PaidSecretsModel" (272 : Nat) (1903978 : Int64)) ∈ lw_all := lw_g (lw_at lw_m9 62 rfl) rfl
theorem q2111 : (Jvm.Cond.constantLong "PaidSecretsModel" (274 : Nat) (419 : Int64)) ∈ lw_all := lw_g (lw_at lw_m9 63 rfl) rfl
theorem q2112 : (Jvm.Cond.constantLong "PaidSecretsModel" (276 : Nat) (79 : Int64)) ∈ lw_all := lw_g (lw_at lw_m9 64 rfl) rfl
theorem q2113 : (Jvm.Cond.constantLong "PaidSecretsModel" (278 : Nat) (3690 : Int64)) ∈ lw_all := lw_g (lw_at lw_m9 65 rfl) rfl
theorem q2114 : (Jvm.Cond.constantLong "PaidSecretsModel" (280 : Nat) (1831769 : Int64)) ∈ lw_all := lw_g (lw_at lw_m9 66 rfl) rfl
theorem q2115 : (Jvm.Cond.constantLong "PaidSecretsModel" (282 : Nat) (12532058 : Int64)) ∈ lw_all := lw_g (lw_at lw_m9 67 rfl) rfl
theorem q2116 : (Jvm.Cond.constantLong "PaidSecretsModel" (284 : Nat) (397641 : Int64)) ∈ lw_all := lw_g (lw_at lw_m9 68 rfl) rfl
theorem q2117 : (Jvm.Cond.constantLong "PaidSecretsModel" (286 : Nat) (11716 : Int64)) ∈ lw_all := lw_g (lw_at lw_m9 69 rfl) rfl
theorem q2118 : (Jvm.Cond.constantLong "PaidSecretsModel" (288 : Nat) (361373 : Int64)) ∈ lw_all := lw_g (lw_at lw_m9 70 rfl) rfl
theorem q2119 : (Jvm.Cond.constantLong "PaidSecretsModel" (290 : Nat) (6888375828 : Int64)) ∈ lw_all := lw_g (lw_at lw_m9 71 rfl) rfl
theorem q2120 : (Jvm.Cond.constantLong "PaidSecretsModel" (292 : Nat) (8740238 : Int64)) ∈ lw_all := lw_g (lw_at lw_m9 72 rfl) rfl
theorem q2121 : (Jvm.Cond.constantLong "PaidSecretsModel" (294 : Nat) (108802051 : Int64)) ∈ lw_all := lw_g (lw_at lw_m9 73 rfl) rfl
theorem q2122 : (Jvm.Cond.constantLong "PaidSecretsModel" (296 : Nat) (82410 : Int64)) ∈ lw_all := lw_g (lw_at lw_m9 74 rfl) rfl
theorem q2123 : (Jvm.Cond.constantLong "PaidSecretsModel" (298 : Nat) (239329775 : Int64)) ∈ lw_all := lw_g (lw_at lw_m9 75 rfl) rfl
theorem q2124 : (Jvm.Cond.constantLong "PaidSecretsModel" (300 : Nat) (407354 : Int64)) ∈ lw_all := lw_g (lw_at lw_m9 76 rfl) rfl
theorem q2125 : (Jvm.Cond.constantLong "PaidSecretsModel" (302 : Nat) (3217595 : Int64)) ∈ lw_all := lw_g (lw_at lw_m9 77 rfl) rfl
theorem q2126 : (Jvm.Cond.constantLong "PaidSecretsModel" (229 : Nat) (10631 : Int64)) ∈ lw_all := lw_g (lw_at lw_m9 78 rfl) rfl
theorem q2127 : (Jvm.Cond.constantLong "PaidSecretsModel" (249 : Nat) (1111 : Int64)) ∈ lw_all := lw_g (lw_at lw_m9 79 rfl) rfl
theorem q2128 : (Jvm.Cond.constantLong "PaidSecretsModel" (251 : Nat) (423 : Int64)) ∈ lw_all := lw_g (lw_at lw_m9 80 rfl) rfl
theorem q2129 : (Jvm.Cond.methodLink "PaidSecretsModel" (326 : Nat) ({ cls := "PaidSecretsModel", name := "personNamed", desc := "(I)I" } : Jvm.MethodName)) ∈ lw_all := lw_g (lw_at lw_m9 81 rfl) rfl
theorem q2130 : (Jvm.Cond.privateMethod ({ cls := "PaidSecretsModel", name := "personNamed", desc := "(I)I" } : Jvm.MethodName)) ∈ lw_tbl := lw_at lw_m9 82 rfl
theorem q2131 : (Jvm.Cond.instanceMethod ({ cls := "PaidSecretsModel", name := "personNamed", desc := "(I)I" } : Jvm.MethodName)) ∈ lw_all := lw_g (lw_at lw_m9 83 rfl) rfl
theorem q2132 : (Jvm.Cond.code ({ cls := "PaidSecretsModel", name := "personNamed", desc := "(I)I" } : Jvm.MethodName) prog_36_method_21_code (2 : Nat) (Option.some Jvm.ClassFile.FieldType.int)) ∈ lw_all := lw_g (lw_at lw_m9 84 rfl) rfl
theorem q2133 : (Jvm.Cond.methodLink "PaidSecretsModel" (304 : Nat) ({ cls := "PaidSecretsModel", name := "named", desc := "([JIIJ)I" } : Jvm.MethodName)) ∈ lw_all := lw_g (lw_at lw_m9 85 rfl) rfl
theorem q2134 : (Jvm.Cond.static ({ cls := "PaidSecretsModel", name := "named", desc := "([JIIJ)I" } : Jvm.MethodName)) ∈ lw_all := lw_g (lw_at lw_m9 86 rfl) rfl
theorem q2135 : (Jvm.Cond.code ({ cls := "PaidSecretsModel", name := "named", desc := "([JIIJ)I" } : Jvm.MethodName) prog_36_method_20_code (6 : Nat) (Option.some Jvm.ClassFile.FieldType.int)) ∈ lw_all := lw_g (lw_at lw_m9 87 rfl) rfl
theorem q2136 : (Jvm.Cond.methodLink "PaidSecretsModel" (329 : Nat) ({ cls := "PaidSecretsModel", name := "secretNamed", desc := "(I)I" } : Jvm.MethodName)) ∈ lw_all := lw_g (lw_at lw_m9 88 rfl) rfl
theorem q2137 : (Jvm.Cond.privateMethod ({ cls := "PaidSecretsModel", name := "secretNamed", desc := "(I)I" } : Jvm.MethodName)) ∈ lw_tbl := lw_at lw_m9 89 rfl
theorem q2138 : (Jvm.Cond.instanceMethod ({ cls := "PaidSecretsModel", name := "secretNamed", desc := "(I)I" } : Jvm.MethodName)) ∈ lw_all := lw_g (lw_at lw_m9 90 rfl) rfl
theorem q2139 : (Jvm.Cond.code ({ cls := "PaidSecretsModel", name := "secretNamed", desc := "(I)I" } : Jvm.MethodName) prog_36_method_22_code (2 : Nat) (Option.some Jvm.ClassFile.FieldType.int)) ∈ lw_all := lw_g (lw_at lw_m9 91 rfl) rfl
theorem q2140 : (Jvm.Cond.methodLink "PaidSecretsModel" (335 : Nat) ({ cls := "PaidSecretsModel", name := "needsBoth", desc := "(JII)Z" } : Jvm.MethodName)) ∈ lw_all := lw_g (lw_at lw_m9 92 rfl) rfl
theorem q2141 : (Jvm.Cond.privateMethod ({ cls := "PaidSecretsModel", name := "needsBoth", desc := "(JII)Z" } : Jvm.MethodName)) ∈ lw_tbl := lw_at lw_m9 93 rfl
theorem q2142 : (Jvm.Cond.instanceMethod ({ cls := "PaidSecretsModel", name := "needsBoth", desc := "(JII)Z" } : Jvm.MethodName)) ∈ lw_all := lw_g (lw_at lw_m9 94 rfl) rfl
theorem q2143 : (Jvm.Cond.code ({ cls := "PaidSecretsModel", name := "needsBoth", desc := "(JII)Z" } : Jvm.MethodName) prog_36_method_25_code (5 : Nat) (Option.some Jvm.ClassFile.FieldType.boolean)) ∈ lw_all := lw_g (lw_at lw_m9 95 rfl) rfl
theorem q2144 : (Jvm.Cond.methodLink "PaidSecretsModel" (315 : Nat) ({ cls := "PaidSecretsModel", name := "needsWord", desc := "(J)Z" } : Jvm.MethodName)) ∈ lw_all := lw_g (lw_at lw_m9 96 rfl) rfl
theorem q2145 : (Jvm.Cond.privateMethod ({ cls := "PaidSecretsModel", name := "needsWord", desc := "(J)Z" } : Jvm.MethodName)) ∈ lw_tbl := lw_at lw_m9 97 rfl
theorem q2146 : (Jvm.Cond.instanceMethod ({ cls := "PaidSecretsModel", name := "needsWord", desc := "(J)Z" } : Jvm.MethodName)) ∈ lw_all := lw_g (lw_at lw_m9 98 rfl) rfl
theorem q2147 : (Jvm.Cond.code ({ cls := "PaidSecretsModel", name := "needsWord", desc := "(J)Z" } : Jvm.MethodName) prog_36_method_24_code (3 : Nat) (Option.some Jvm.ClassFile.FieldType.boolean)) ∈ lw_all := lw_g (lw_at lw_m9 99 rfl) rfl
theorem q2148 : (Jvm.Cond.methodLink "PaidSecretsModel" (318 : Nat) ({ cls := "PaidSecretsModel", name := "needsNumber", desc := "(II)Z" } : Jvm.MethodName)) ∈ lw_all := lw_g (lw_at lw_m9 100 rfl) rfl
theorem q2149 : (Jvm.Cond.privateMethod ({ cls := "PaidSecretsModel", name := "needsNumber", desc := "(II)Z" } : Jvm.MethodName)) ∈ lw_tbl := lw_at lw_m9 101 rfl
theorem q2150 : (Jvm.Cond.instanceMethod ({ cls := "PaidSecretsModel", name := "needsNumber", desc := "(II)Z" } : Jvm.MethodName)) ∈ lw_all := lw_g (lw_at lw_m9 102 rfl) rfl
theorem q2151 : (Jvm.Cond.code ({ cls := "PaidSecretsModel", name := "needsNumber", desc := "(II)Z" } : Jvm.MethodName) prog_36_method_23_code (3 : Nat) (Option.some Jvm.ClassFile.FieldType.boolean)) ∈ lw_all := lw_g (lw_at lw_m9 103 rfl) rfl
theorem q2152 : (Jvm.Cond.methodLink "PaidSecretsModel" (308 : Nat) ({ cls := "PaidSecretsModel", name := "within", desc := "(III)Z" } : Jvm.MethodName)) ∈ lw_all := lw_g (lw_at lw_m9 104 rfl) rfl
theorem q2153 : (Jvm.Cond.static ({ cls := "PaidSecretsModel", name := "within", desc := "(III)Z" } : Jvm.MethodName)) ∈ lw_all := lw_g (lw_at lw_m9 105 rfl) rfl
theorem q2154 : (Jvm.Cond.code ({ cls := "PaidSecretsModel", name := "within", desc := "(III)Z" } : Jvm.MethodName) prog_36_method_3_code (3 : Nat) (Option.some Jvm.ClassFile.FieldType.boolean)) ∈ lw_all := lw_g (lw_at lw_m9 106 rfl) rfl
theorem q2155 : (Jvm.Cond.methodLink "PaidSecretsModel" (339 : Nat) ({ cls := "PaidSecretsModel", name := "closes", desc := "()Z" } : Jvm.MethodName)) ∈ lw_all := lw_g (lw_at lw_m9 107 rfl) rfl
theorem q2156 : (Jvm.Cond.privateMethod ({ cls := "PaidSecretsModel", name := "closes", desc := "()Z" } : Jvm.MethodName)) ∈ lw_tbl := lw_at lw_m9 108 rfl
theorem q2157 : (Jvm.Cond.instanceMethod ({ cls := "PaidSecretsModel", name := "closes", desc := "()Z" } : Jvm.MethodName)) ∈ lw_all := lw_g (lw_at lw_m9 109 rfl) rfl
theorem q2158 : (Jvm.Cond.code ({ cls := "PaidSecretsModel", name := "closes", desc := "()Z" } : Jvm.MethodName) prog_36_method_26_code (1 : Nat) (Option.some Jvm.ClassFile.FieldType.boolean)) ∈ lw_all := lw_g (lw_at lw_m9 110 rfl) rfl
theorem q2159 : (Jvm.Cond.methodLink "PaidSecretsModel" (235 : Nat) ({ cls := "PaidSecretsModel", name := "isSign", desc := "(I)Z" } : Jvm.MethodName)) ∈ lw_all := lw_g (lw_at lw_m9 111 rfl) rfl
theorem q2160 : (Jvm.Cond.privateMethod ({ cls := "PaidSecretsModel", name := "isSign", desc := "(I)Z" } : Jvm.MethodName)) ∈ lw_tbl := lw_at lw_m9 112 rfl
theorem q2161 : (Jvm.Cond.instanceMethod ({ cls := "PaidSecretsModel", name := "isSign", desc := "(I)Z" } : Jvm.MethodName)) ∈ lw_all := lw_g (lw_at lw_m9 113 rfl) rfl
theorem q2162 : (Jvm.Cond.code ({ cls := "PaidSecretsModel", name := "isSign", desc := "(I)Z" } : Jvm.MethodName) prog_36_method_10_code (2 : Nat) (Option.some Jvm.ClassFile.FieldType.boolean)) ∈ lw_all := lw_g (lw_at lw_m9 114 rfl) rfl
theorem q2163 : (Jvm.Cond.methodLink "PaidSecretsModel" (360 : Nat) ({ cls := "PaidSecretsModel", name := "readsSecret", desc := "()Z" } : Jvm.MethodName)) ∈ lw_all := lw_g (lw_at lw_m9 115 rfl) rfl
theorem q2164 : (Jvm.Cond.privateMethod ({ cls := "PaidSecretsModel", name := "readsSecret", desc := "()Z" } : Jvm.MethodName)) ∈ lw_tbl := lw_at lw_m9 116 rfl
theorem q2165 : (Jvm.Cond.instanceMethod ({ cls := "PaidSecretsModel", name := "readsSecret", desc := "()Z" } : Jvm.MethodName)) ∈ lw_all := lw_g (lw_at lw_m9 117 rfl) rfl
theorem q2166 : (Jvm.Cond.code ({ cls := "PaidSecretsModel", name := "readsSecret", desc := "()Z" } : Jvm.MethodName) prog_36_method_32_code (4 : Nat) (Option.some Jvm.ClassFile.FieldType.boolean)) ∈ lw_all := lw_g (lw_at lw_m9 118 rfl) rfl
theorem q2167 : (Jvm.Cond.methodLink "PaidSecretsModel" (342 : Nat) ({ cls := "PaidSecretsModel", name := "needsPerson", desc := "(I)Z" } : Jvm.MethodName)) ∈ lw_all := lw_g (lw_at lw_m9 119 rfl) rfl
theorem q2168 : (Jvm.Cond.privateMethod ({ cls := "PaidSecretsModel", name := "needsPerson", desc := "(I)Z" } : Jvm.MethodName)) ∈ lw_tbl := lw_at lw_m9 120 rfl
theorem q2169 : (Jvm.Cond.instanceMethod ({ cls := "PaidSecretsModel", name := "needsPerson", desc := "(I)Z" } : Jvm.MethodName)) ∈ lw_all := lw_g (lw_at lw_m9 121 rfl) rfl
theorem q2170 : (Jvm.Cond.code ({ cls := "PaidSecretsModel", name := "needsPerson", desc := "(I)Z" } : Jvm.MethodName) prog_36_method_28_code (2 : Nat) (Option.some Jvm.ClassFile.FieldType.boolean)) ∈ lw_all := lw_g (lw_at lw_m9 122 rfl) rfl
theorem q2171 : (Jvm.Cond.methodLink "PaidSecretsModel" (345 : Nat) ({ cls := "PaidSecretsModel", name := "needsSecret", desc := "(I)Z" } : Jvm.MethodName)) ∈ lw_all := lw_g (lw_at lw_m9 123 rfl) rfl
theorem q2172 : (Jvm.Cond.privateMethod ({ cls := "PaidSecretsModel", name := "needsSecret", desc := "(I)Z" } : Jvm.MethodName)) ∈ lw_tbl := lw_at lw_m9 124 rfl
theorem q2173 : (Jvm.Cond.instanceMethod ({ cls := "PaidSecretsModel", name := "needsSecret", desc := "(I)Z" } : Jvm.MethodName)) ∈ lw_all := lw_g (lw_at lw_m9 125 rfl) rfl
theorem q2174 : (Jvm.Cond.code ({ cls := "PaidSecretsModel", name := "needsSecret", desc := "(I)Z" } : Jvm.MethodName) prog_36_method_29_code (2 : Nat) (Option.some Jvm.ClassFile.FieldType.boolean)) ∈ lw_all := lw_g (lw_at lw_m9 126 rfl) rfl
theorem q2175 : (Jvm.Cond.methodLink "PaidSecretsModel" (348 : Nat) ({ cls := "PaidSecretsModel", name := "readsKnowers", desc := "(I)Z" } : Jvm.MethodName)) ∈ lw_all := lw_g (lw_at lw_m9 127 rfl) rfl
theorem q2176 : (Jvm.Cond.privateMethod ({ cls := "PaidSecretsModel", name := "readsKnowers", desc := "(I)Z" } : Jvm.MethodName)) ∈ lw_tbl := lw_at lw_m9 128 rfl
theorem q2177 : (Jvm.Cond.instanceMethod ({ cls := "PaidSecretsModel", name := "readsKnowers", desc := "(I)Z" } : Jvm.MethodName)) ∈ lw_all := lw_g (lw_at lw_m9 129 rfl) rfl
theorem q2178 : (Jvm.Cond.code ({ cls := "PaidSecretsModel", name := "readsKnowers", desc := "(I)Z" } : Jvm.MethodName) prog_36_method_31_code (2 : Nat) (Option.some Jvm.ClassFile.FieldType.boolean)) ∈ lw_all := lw_g (lw_at lw_m9 130 rfl) rfl
theorem q2179 : (Jvm.Cond.methodLink "PaidSecretsModel" (363 : Nat) ({ cls := "PaidSecretsModel", name := "readsEar", desc := "()Z" } : Jvm.MethodName)) ∈ lw_all := lw_g (lw_at lw_m9 131 rfl) rfl
theorem q2180 : (Jvm.Cond.privateMethod ({ cls := "PaidSecretsModel", name := "readsEar", desc := "()Z" } : Jvm.MethodName)) ∈ lw_tbl := lw_at lw_m9 132 rfl
theorem q2181 : (Jvm.Cond.instanceMethod ({ cls := "PaidSecretsModel", name := "readsEar", desc := "()Z" } : Jvm.MethodName)) ∈ lw_all := lw_g (lw_at lw_m9 133 rfl) rfl
theorem q2182 : (Jvm.Cond.code ({ cls := "PaidSecretsModel", name := "readsEar", desc := "()Z" } : Jvm.MethodName) prog_36_method_33_code (5 : Nat) (Option.some Jvm.ClassFile.FieldType.boolean)) ∈ lw_all := lw_g (lw_at lw_m9 134 rfl) rfl
theorem q2183 : (Jvm.Cond.methodLink "PaidSecretsModel" (366 : Nat) ({ cls := "PaidSecretsModel", name := "readsClash", desc := "()Z" } : Jvm.MethodName)) ∈ lw_all := lw_g (lw_at lw_m9 135 rfl) rfl
theorem q2184 : (Jvm.Cond.privateMethod ({ cls := "PaidSecretsModel", name := "readsClash", desc := "()Z" } : Jvm.MethodName)) ∈ lw_tbl := lw_at lw_m9 136 rfl
theorem q2185 : (Jvm.Cond.instanceMethod ({ cls := "PaidSecretsModel", name := "readsClash", desc := "()Z" } : Jvm.MethodName)) ∈ lw_all := lw_g (lw_at lw_m9 137 rfl) rfl
theorem q2186 : (Jvm.Cond.code ({ cls := "PaidSecretsModel", name := "readsClash", desc := "()Z" } : Jvm.MethodName) prog_36_method_34_code (3 : Nat) (Option.some Jvm.ClassFile.FieldType.boolean)) ∈ lw_all := lw_g (lw_at lw_m9 138 rfl) rfl
theorem q2187 : (Jvm.Cond.methodLink "PaidSecretsModel" (369 : Nat) ({ cls := "PaidSecretsModel", name := "readsWorth", desc := "()Z" } : Jvm.MethodName)) ∈ lw_all := lw_g (lw_at lw_m9 139 rfl) rfl
theorem q2188 : (Jvm.Cond.privateMethod ({ cls := "PaidSecretsModel", name := "readsWorth", desc := "()Z" } : Jvm.MethodName)) ∈ lw_tbl := lw_at lw_m9 140 rfl
theorem q2189 : (Jvm.Cond.instanceMethod ({ cls := "PaidSecretsModel", name := "readsWorth", desc := "()Z" } : Jvm.MethodName)) ∈ lw_all := lw_g (lw_at lw_m9 141 rfl) rfl
theorem q2190 : (Jvm.Cond.code ({ cls := "PaidSecretsModel", name := "readsWorth", desc := "()Z" } : Jvm.MethodName) prog_36_method_35_code (1 : Nat) (Option.some Jvm.ClassFile.FieldType.boolean)) ∈ lw_all := lw_g (lw_at lw_m9 142 rfl) rfl
theorem q2191 : (Jvm.Cond.methodLink "PaidSecretsModel" (351 : Nat) ({ cls := "PaidSecretsModel", name := "reads", desc := "()Z" } : Jvm.MethodName)) ∈ lw_all := lw_g (lw_at lw_m9 143 rfl) rfl
theorem q2192 : (Jvm.Cond.privateMethod ({ cls := "PaidSecretsModel", name := "reads", desc := "()Z" } : Jvm.MethodName)) ∈ lw_tbl := lw_at lw_m9 144 rfl
theorem q2193 : (Jvm.Cond.instanceMethod ({ cls := "PaidSecretsModel", name := "reads", desc := "()Z" } : Jvm.MethodName)) ∈ lw_all := lw_g (lw_at lw_m9 145 rfl) rfl
theorem q2194 : (Jvm.Cond.code ({ cls := "PaidSecretsModel", name := "reads", desc := "()Z" } : Jvm.MethodName) prog_36_method_14_code (6 : Nat) (Option.some Jvm.ClassFile.FieldType.boolean)) ∈ lw_all := lw_g (lw_at lw_m9 146 rfl) rfl
theorem q2195 : (Jvm.Cond.methodLink "PaidSecretsModel" (225 : Nat) ({ cls := "PaidSecretsModel", name := "fact", desc := "()I" } : Jvm.MethodName)) ∈ lw_all := lw_g (lw_at lw_m9 147 rfl) rfl
theorem q2196 : (Jvm.Cond.privateMethod ({ cls := "PaidSecretsModel", name := "fact", desc := "()I" } : Jvm.MethodName)) ∈ lw_tbl := lw_at lw_m9 148 rfl
theorem q2197 : (Jvm.Cond.instanceMethod ({ cls := "PaidSecretsModel", name := "fact", desc := "()I" } : Jvm.MethodName)) ∈ lw_all := lw_g (lw_at lw_m9 149 rfl) rfl
theorem q2198 : (Jvm.Cond.code ({ cls := "PaidSecretsModel", name := "fact", desc := "()I" } : Jvm.MethodName) prog_36_method_13_code (1 : Nat) (Option.some Jvm.ClassFile.FieldType.int)) ∈ lw_all := lw_g (lw_at lw_m9 150 rfl) rfl
theorem q2199 : (Jvm.Cond.constantLong "PaidSecretsModel" (217 : Nat) (70517 : Int64)) ∈ lw_all := lw_g (lw_at lw_m9 151 rfl) rfl
theorem q2200 : (Jvm.Cond.constantLong "PaidSecretsModel" (219 : Nat) (4470938551 : Int64)) ∈ lw_all := lw_g (lw_at lw_m9 152 rfl) rfl
theorem q2201 : (Jvm.Cond.constantLong "PaidSecretsModel" (221 : Nat) (923 : Int64)) ∈ lw_all := lw_g (lw_at lw_m9 153 rfl) rfl
theorem q2202 : (Jvm.Cond.constantLong "PaidSecretsModel" (223 : Nat) (164222 : Int64)) ∈ lw_all := lw_g (lw_at lw_m9 154 rfl) rfl
theorem q2203 : (Jvm.Cond.methodLink "PaidSecretsModel" (242 : Nat) ({ cls := "PaidSecretsModel", name := "puts", desc := "(I)V" } : Jvm.MethodName)) ∈ lw_all := lw_g (lw_at lw_m9 155 rfl) rfl
theorem q2204 : (Jvm.Cond.privateMethod ({ cls := "PaidSecretsModel", name := "puts", desc := "(I)V" } : Jvm.MethodName)) ∈ lw_tbl := lw_at lw_m9 156 rfl
theorem q2205 : (Jvm.Cond.instanceMethod ({ cls := "PaidSecretsModel", name := "puts", desc := "(I)V" } : Jvm.MethodName)) ∈ lw_all := lw_g (lw_at lw_m9 157 rfl) rfl
theorem q2206 : (Jvm.Cond.code ({ cls := "PaidSecretsModel", name := "puts", desc := "(I)V" } : Jvm.MethodName) prog_36_method_12_code (2 : Nat) (Option.none : Option Jvm.ClassFile.FieldType)) ∈ lw_all := lw_g (lw_at lw_m9 158 rfl) rfl
theorem q2207 : (Jvm.Cond.methodLink "PaidSecretsModel" (392 : Nat) ({ cls := "PaidSecretsModel", name := "lays", desc := "()V" } : Jvm.MethodName)) ∈ lw_all := lw_g (lw_at lw_m9 159 rfl) rfl
theorem q2208 : (Jvm.Cond.privateMethod ({ cls := "PaidSecretsModel", name := "lays", desc := "()V" } : Jvm.MethodName)) ∈ lw_tbl := lw_at lw_m9 160 rfl
theorem q2209 : (Jvm.Cond.instanceMethod ({ cls := "PaidSecretsModel", name := "lays", desc := "()V" } : Jvm.MethodName)) ∈ lw_all := lw_g (lw_at lw_m9 161 rfl) rfl
theorem q2210 : (Jvm.Cond.code ({ cls := "PaidSecretsModel", name := "lays", desc := "()V" } : Jvm.MethodName) prog_36_method_40_code (1 : Nat) (Option.none : Option Jvm.ClassFile.FieldType)) ∈ lw_all := lw_g (lw_at lw_m9 162 rfl) rfl
theorem q2211 : (Jvm.Cond.methodLink "PaidSecretsModel" (372 : Nat) ({ cls := "PaidSecretsModel", name := "moves", desc := "([II)V" } : Jvm.MethodName)) ∈ lw_all := lw_g (lw_at lw_m9 163 rfl) rfl
theorem q2212 : (Jvm.Cond.static ({ cls := "PaidSecretsModel", name := "moves", desc := "([II)V" } : Jvm.MethodName)) ∈ lw_all := lw_g (lw_at lw_m9 164 rfl) rfl
theorem q2213 : (Jvm.Cond.code ({ cls := "PaidSecretsModel", name := "moves", desc := "([II)V" } : Jvm.MethodName) prog_36_method_38_code (3 : Nat) (Option.none : Option Jvm.ClassFile.FieldType)) ∈ lw_all := lw_g (lw_at lw_m9 165 rfl) rfl
theorem q2214 : (Jvm.Cond.methodLink "PaidSecretsModel" (376 : Nat) ({ cls := "PaidSecretsModel", name := "movesNames", desc := "([JI)V" } : Jvm.MethodName)) ∈ lw_all := lw_g (lw_at lw_m9 166 rfl) rfl
theorem q2215 : (Jvm.Cond.static ({ cls := "PaidSecretsModel", name := "movesNames", desc := "([JI)V" } : Jvm.MethodName)) ∈ lw_all := lw_g (lw_at lw_m9 167 rfl) rfl
theorem q2216 : (Jvm.Cond.code ({ cls := "PaidSecretsModel", name := "movesNames", desc := "([JI)V" } : Jvm.MethodName) prog_36_method_39_code (3 : Nat) (Option.none : Option Jvm.ClassFile.FieldType)) ∈ lw_all := lw_g (lw_at lw_m9 168 rfl) rfl
theorem q2217 : (Jvm.Cond.methodLink "PaidSecretsModel" (395 : Nat) ({ cls := "PaidSecretsModel", name := "fresh", desc := "()V" } : Jvm.MethodName)) ∈ lw_all := lw_g (lw_at lw_m9 169 rfl) rfl
theorem q2218 : (Jvm.Cond.privateMethod ({ cls := "PaidSecretsModel", name := "fresh", desc := "()V" } : Jvm.MethodName)) ∈ lw_tbl := lw_at lw_m9 170 rfl
theorem q2219 : (Jvm.Cond.instanceMethod ({ cls := "PaidSecretsModel", name := "fresh", desc := "()V" } : Jvm.MethodName)) ∈ lw_all := lw_g (lw_at lw_m9 171 rfl) rfl
theorem q2220 : (Jvm.Cond.code ({ cls := "PaidSecretsModel", name := "fresh", desc := "()V" } : Jvm.MethodName) prog_36_method_48_code (2 : Nat) (Option.none : Option Jvm.ClassFile.FieldType)) ∈ lw_all := lw_g (lw_at lw_m9 172 rfl) rfl
theorem q2222 : (Jvm.Cond.instanceMethod ({ cls := "PaidSecretsModel", name := "gossip", desc := "()I" } : Jvm.MethodName)) ∈ lw_all := lw_g (lw_at lw_m9 174 rfl) rfl
theorem q2223 : (Jvm.Cond.selects "PaidSecretsModel" ({ cls := "PaidSecretsModel", name := "gossip", desc := "()I" } : Jvm.MethodName) ({ cls := "PaidSecretsModel", name := "gossip", desc := "()I" } : Jvm.MethodName)) ∈ lw_all := lw_g (lw_at lw_m9 175 rfl) rfl
theorem q2224 : (Jvm.Cond.code ({ cls := "PaidSecretsModel", name := "gossip", desc := "()I" } : Jvm.MethodName) prog_36_method_50_code (1 : Nat) (Option.some Jvm.ClassFile.FieldType.int)) ∈ lw_all := lw_g (lw_at lw_m9 176 rfl) rfl
theorem q2225 : (Jvm.Cond.methodLink "PaidSecretsModel" (401 : Nat) ({ cls := "PaidSecretsModel", name := "readsLine", desc := "()Z" } : Jvm.MethodName)) ∈ lw_all := lw_g (lw_at lw_m9 177 rfl) rfl
theorem q2226 : (Jvm.Cond.privateMethod ({ cls := "PaidSecretsModel", name := "readsLine", desc := "()Z" } : Jvm.MethodName)) ∈ lw_tbl := lw_at lw_m9 178 rfl
theorem q2227 : (Jvm.Cond.instanceMethod ({ cls := "PaidSecretsModel", name := "readsLine", desc := "()Z" } : Jvm.MethodName)) ∈ lw_all := lw_g (lw_at lw_m9 179 rfl) rfl
theorem q2228 : (Jvm.Cond.code ({ cls := "PaidSecretsModel", name := "readsLine", desc := "()Z" } : Jvm.MethodName) prog_36_method_45_code (3 : Nat) (Option.some Jvm.ClassFile.FieldType.boolean)) ∈ lw_all := lw_g (lw_at lw_m9 180 rfl) rfl
theorem q2229 : (Jvm.Cond.methodLink "PaidSecretsModel" (380 : Nat) ({ cls := "PaidSecretsModel", name := "readsTelling", desc := "(I)Z" } : Jvm.MethodName)) ∈ lw_all := lw_g (lw_at lw_m9 181 rfl) rfl
theorem q2230 : (Jvm.Cond.privateMethod ({ cls := "PaidSecretsModel", name := "readsTelling", desc := "(I)Z" } : Jvm.MethodName)) ∈ lw_tbl := lw_at lw_m9 182 rfl
theorem q2231 : (Jvm.Cond.instanceMethod ({ cls := "PaidSecretsModel", name := "readsTelling", desc := "(I)Z" } : Jvm.MethodName)) ∈ lw_all := lw_g (lw_at lw_m9 183 rfl) rfl
theorem q2232 : (Jvm.Cond.code ({ cls := "PaidSecretsModel", name := "readsTelling", desc := "(I)Z" } : Jvm.MethodName) prog_36_method_42_code (2 : Nat) (Option.some Jvm.ClassFile.FieldType.boolean)) ∈ lw_all := lw_g (lw_at lw_m9 184 rfl) rfl
theorem q2233 : (Jvm.Cond.methodLink "PaidSecretsModel" (383 : Nat) ({ cls := "PaidSecretsModel", name := "readsPayment", desc := "(I)Z" } : Jvm.MethodName)) ∈ lw_all := lw_g (lw_at lw_m9 185 rfl) rfl
theorem q2234 : (Jvm.Cond.privateMethod ({ cls := "PaidSecretsModel", name := "readsPayment", desc := "(I)Z" } : Jvm.MethodName)) ∈ lw_tbl := lw_at lw_m9 186 rfl
theorem q2235 : (Jvm.Cond.instanceMethod ({ cls := "PaidSecretsModel", name := "readsPayment", desc := "(I)Z" } : Jvm.MethodName)) ∈ lw_all := lw_g (lw_at lw_m9 187 rfl) rfl
theorem q2236 : (Jvm.Cond.code ({ cls := "PaidSecretsModel", name := "readsPayment", desc := "(I)Z" } : Jvm.MethodName) prog_36_method_43_code (2 : Nat) (Option.some Jvm.ClassFile.FieldType.boolean)) ∈ lw_all := lw_g (lw_at lw_m9 188 rfl) rfl
theorem q2237 : (Jvm.Cond.methodLink "PaidSecretsModel" (386 : Nat) ({ cls := "PaidSecretsModel", name := "readsRise", desc := "(I)Z" } : Jvm.MethodName)) ∈ lw_all := lw_g (lw_at lw_m9 189 rfl) rfl
theorem q2238 : (Jvm.Cond.privateMethod ({ cls := "PaidSecretsModel", name := "readsRise", desc := "(I)Z" } : Jvm.MethodName)) ∈ lw_tbl := lw_at lw_m9 190 rfl
theorem q2239 : (Jvm.Cond.instanceMethod ({ cls := "PaidSecretsModel", name := "readsRise", desc := "(I)Z" } : Jvm.MethodName)) ∈ lw_all := lw_g (lw_at lw_m9 191 rfl) rfl
theorem q2240 : (Jvm.Cond.code ({ cls := "PaidSecretsModel", name := "readsRise", desc := "(I)Z" } : Jvm.MethodName) prog_36_method_44_code (2 : Nat) (Option.some Jvm.ClassFile.FieldType.boolean)) ∈ lw_all := lw_g (lw_at lw_m9 192 rfl) rfl
theorem q2241 : (Jvm.Cond.methodLink "PaidSecretsModel" (404 : Nat) ({ cls := "PaidSecretsModel", name := "laysLines", desc := "(II)V" } : Jvm.MethodName)) ∈ lw_all := lw_g (lw_at lw_m9 193 rfl) rfl
theorem q2242 : (Jvm.Cond.privateMethod ({ cls := "PaidSecretsModel", name := "laysLines", desc := "(II)V" } : Jvm.MethodName)) ∈ lw_tbl := lw_at lw_m9 194 rfl
theorem q2243 : (Jvm.Cond.instanceMethod ({ cls := "PaidSecretsModel", name := "laysLines", desc := "(II)V" } : Jvm.MethodName)) ∈ lw_all := lw_g (lw_at lw_m9 195 rfl) rfl
theorem q2244 : (Jvm.Cond.code ({ cls := "PaidSecretsModel", name := "laysLines", desc := "(II)V" } : Jvm.MethodName) prog_36_method_46_code (4 : Nat) (Option.none : Option Jvm.ClassFile.FieldType)) ∈ lw_all := lw_g (lw_at lw_m9 196 rfl) rfl
theorem q2246 : (Jvm.Cond.instanceMethod ({ cls := "PaidSecretsModel", name := "person", desc := "(II)I" } : Jvm.MethodName)) ∈ lw_all := lw_g (lw_at lw_m9 198 rfl) rfl
theorem q2247 : (Jvm.Cond.selects "PaidSecretsModel" ({ cls := "PaidSecretsModel", name := "person", desc := "(II)I" } : Jvm.MethodName) ({ cls := "PaidSecretsModel", name := "person", desc := "(II)I" } : Jvm.MethodName)) ∈ lw_all := lw_g (lw_at lw_m9 199 rfl) rfl
theorem q2248 : (Jvm.Cond.code ({ cls := "PaidSecretsModel", name := "person", desc := "(II)I" } : Jvm.MethodName) prog_36_method_60_code (3 : Nat) (Option.some Jvm.ClassFile.FieldType.int)) ∈ lw_all := lw_g (lw_at lw_m9 200 rfl) rfl
theorem q2249 : (Jvm.Cond.methodLink "PaidSecretsModel" (436 : Nat) ({ cls := "PaidSecretsModel", name := "isPerson", desc := "(I)Z" } : Jvm.MethodName)) ∈ lw_all := lw_g (lw_at lw_m9 201 rfl) rfl
theorem q2250 : (Jvm.Cond.privateMethod ({ cls := "PaidSecretsModel", name := "isPerson", desc := "(I)Z" } : Jvm.MethodName)) ∈ lw_tbl := lw_at lw_m9 202 rfl
theorem q2251 : (Jvm.Cond.instanceMethod ({ cls := "PaidSecretsModel", name := "isPerson", desc := "(I)Z" } : Jvm.MethodName)) ∈ lw_all := lw_g (lw_at lw_m9 203 rfl) rfl
theorem q2252 : (Jvm.Cond.code ({ cls := "PaidSecretsModel", name := "isPerson", desc := "(I)Z" } : Jvm.MethodName) prog_36_method_51_code (2 : Nat) (Option.some Jvm.ClassFile.FieldType.boolean)) ∈ lw_all := lw_g (lw_at lw_m9 204 rfl) rfl
theorem q2253 : (Jvm.Cond.methodLink "PaidSecretsModel" (430 : Nat) ({ cls := "PaidSecretsModel", name := "knownBy", desc := "(I)I" } : Jvm.MethodName)) ∈ lw_all := lw_g (lw_at lw_m9 205 rfl) rfl
theorem q2254 : (Jvm.Cond.privateMethod ({ cls := "PaidSecretsModel", name := "knownBy", desc := "(I)I" } : Jvm.MethodName)) ∈ lw_tbl := lw_at lw_m9 206 rfl
theorem q2255 : (Jvm.Cond.instanceMethod ({ cls := "PaidSecretsModel", name := "knownBy", desc := "(I)I" } : Jvm.MethodName)) ∈ lw_all := lw_g (lw_at lw_m9 207 rfl) rfl
theorem q2256 : (Jvm.Cond.code ({ cls := "PaidSecretsModel", name := "knownBy", desc := "(I)I" } : Jvm.MethodName) prog_36_method_56_code (4 : Nat) (Option.some Jvm.ClassFile.FieldType.int)) ∈ lw_all := lw_g (lw_at lw_m9 208 rfl) rfl
theorem q2257 : (Jvm.Cond.methodLink "PaidSecretsModel" (439 : Nat) ({ cls := "PaidSecretsModel", name := "purse", desc := "(I)I" } : Jvm.MethodName)) ∈ lw_all := lw_g (lw_at lw_m9 209 rfl) rfl
theorem q2258 : (Jvm.Cond.privateMethod ({ cls := "PaidSecretsModel", name := "purse", desc := "(I)I" } : Jvm.MethodName)) ∈ lw_tbl := lw_at lw_m9 210 rfl
theorem q2259 : (Jvm.Cond.instanceMethod ({ cls := "PaidSecretsModel", name := "purse", desc := "(I)I" } : Jvm.MethodName)) ∈ lw_all := lw_g (lw_at lw_m9 211 rfl) rfl
theorem q2260 : (Jvm.Cond.code ({ cls := "PaidSecretsModel", name := "purse", desc := "(I)I" } : Jvm.MethodName) prog_36_method_58_code (2 : Nat) (Option.some Jvm.ClassFile.FieldType.int)) ∈ lw_all := lw_g (lw_at lw_m9 212 rfl) rfl
theorem q2261 : (Jvm.Cond.methodLink "PaidSecretsModel" (433 : Nat) ({ cls := "PaidSecretsModel", name := "worthsOf", desc := "(I)I" } : Jvm.MethodName)) ∈ lw_all := lw_g (lw_at lw_m9 213 rfl) rfl
theorem q2262 : (Jvm.Cond.privateMethod ({ cls := "PaidSecretsModel", name := "worthsOf", desc := "(I)I" } : Jvm.MethodName)) ∈ lw_tbl := lw_at lw_m9 214 rfl
theorem q2263 : (Jvm.Cond.instanceMethod ({ cls := "PaidSecretsModel", name := "worthsOf", desc := "(I)I" } : Jvm.MethodName)) ∈ lw_all := lw_g (lw_at lw_m9 215 rfl) rfl
theorem q2264 : (Jvm.Cond.code ({ cls := "PaidSecretsModel", name := "worthsOf", desc := "(I)I" } : Jvm.MethodName) prog_36_method_57_code (4 : Nat) (Option.some Jvm.ClassFile.FieldType.int)) ∈ lw_all := lw_g (lw_at lw_m9 216 rfl) rfl
theorem q2265 : (Jvm.Cond.methodLink "PaidSecretsModel" (427 : Nat) ({ cls := "PaidSecretsModel", name := "worthOf", desc := "(I)I" } : Jvm.MethodName)) ∈ lw_all := lw_g (lw_at lw_m9 217 rfl) rfl
theorem q2266 : (Jvm.Cond.privateMethod ({ cls := "PaidSecretsModel", name := "worthOf", desc := "(I)I" } : Jvm.MethodName)) ∈ lw_tbl := lw_at lw_m9 218 rfl
theorem q2267 : (Jvm.Cond.instanceMethod ({ cls := "PaidSecretsModel", name := "worthOf", desc := "(I)I" } : Jvm.MethodName)) ∈ lw_all := lw_g (lw_at lw_m9 219 rfl) rfl
theorem q2268 : (Jvm.Cond.code ({ cls := "PaidSecretsModel", name := "worthOf", desc := "(I)I" } : Jvm.MethodName) prog_36_method_55_code (2 : Nat) (Option.some Jvm.ClassFile.FieldType.int)) ∈ lw_all := lw_g (lw_at lw_m9 220 rfl) rfl
theorem q2269 : (Jvm.Cond.methodLink "PaidSecretsModel" (424 : Nat) ({ cls := "PaidSecretsModel", name := "baseOf", desc := "(II)I" } : Jvm.MethodName)) ∈ lw_all := lw_g (lw_at lw_m9 221 rfl) rfl
theorem q2270 : (Jvm.Cond.privateMethod ({ cls := "PaidSecretsModel", name := "baseOf", desc := "(II)I" } : Jvm.MethodName)) ∈ lw_tbl := lw_at lw_m9 222 rfl
theorem q2271 : (Jvm.Cond.instanceMethod ({ cls := "PaidSecretsModel", name := "baseOf", desc := "(II)I" } : Jvm.MethodName)) ∈ lw_all := lw_g (lw_at lw_m9 223 rfl) rfl
theorem q2272 : (Jvm.Cond.code ({ cls := "PaidSecretsModel", name := "baseOf", desc := "(II)I" } : Jvm.MethodName) prog_36_method_54_code (4 : Nat) (Option.some Jvm.ClassFile.FieldType.int)) ∈ lw_all := lw_g (lw_at lw_m9 224 rfl) rfl
theorem q2273 : (Jvm.Cond.methodLink "PaidSecretsModel" (408 : Nat) ({ cls := "PaidSecretsModel", name := "knowersOf", desc := "(I)I" } : Jvm.MethodName)) ∈ lw_all := lw_g (lw_at lw_m9 225 rfl) rfl
theorem q2274 : (Jvm.Cond.privateMethod ({ cls := "PaidSecretsModel", name := "knowersOf", desc := "(I)I" } : Jvm.MethodName)) ∈ lw_tbl := lw_at lw_m9 226 rfl
theorem q2275 : (Jvm.Cond.instanceMethod ({ cls := "PaidSecretsModel", name := "knowersOf", desc := "(I)I" } : Jvm.MethodName)) ∈ lw_all := lw_g (lw_at lw_m9 227 rfl) rfl
theorem q2276 : (Jvm.Cond.code ({ cls := "PaidSecretsModel", name := "knowersOf", desc := "(I)I" } : Jvm.MethodName) prog_36_method_53_code (4 : Nat) (Option.some Jvm.ClassFile.FieldType.int)) ∈ lw_all := lw_g (lw_at lw_m9 228 rfl) rfl
theorem q2277 : (Jvm.Cond.methodLink "PaidSecretsModel" (411 : Nat) ({ cls := "java/lang/Math", name := "max", desc := "(II)I" } : Jvm.MethodName)) ∈ lw_all := lw_g (lw_at lw_m9 229 rfl) rfl
theorem q2278 : (Jvm.Cond.methodLink "PaidSecretsModel" (417 : Nat) ({ cls := "PaidSecretsModel", name := "worked", desc := "(I)I" } : Jvm.MethodName)) ∈ lw_all := lw_g (lw_at lw_m9 230 rfl) rfl
theorem q2279 : (Jvm.Cond.privateMethod ({ cls := "PaidSecretsModel", name := "worked", desc := "(I)I" } : Jvm.MethodName)) ∈ lw_tbl := lw_at lw_m9 231 rfl
theorem q2280 : (Jvm.Cond.instanceMethod ({ cls := "PaidSecretsModel", name := "worked", desc := "(I)I" } : Jvm.MethodName)) ∈ lw_all := lw_g (lw_at lw_m9 232 rfl) rfl
theorem q2281 : (Jvm.Cond.code ({ cls := "PaidSecretsModel", name := "worked", desc := "(I)I" } : Jvm.MethodName) prog_36_method_18_code (6 : Nat) (Option.some Jvm.ClassFile.FieldType.int)) ∈ lw_all := lw_g (lw_at lw_m9 233 rfl) rfl
theorem q2282 : (Jvm.Cond.methodLink "PaidSecretsModel" (256 : Nat) ({ cls := "PaidSecretsModel", name := "opens", desc := "(I)V" } : Jvm.MethodName)) ∈ lw_all := lw_g (lw_at lw_m9 234 rfl) rfl
theorem q2283 : (Jvm.Cond.privateMethod ({ cls := "PaidSecretsModel", name := "opens", desc := "(I)V" } : Jvm.MethodName)) ∈ lw_tbl := lw_at lw_m9 235 rfl
theorem q2284 : (Jvm.Cond.instanceMethod ({ cls := "PaidSecretsModel", name := "opens", desc := "(I)V" } : Jvm.MethodName)) ∈ lw_all := lw_g (lw_at lw_m9 236 rfl) rfl
theorem q2285 : (Jvm.Cond.code ({ cls := "PaidSecretsModel", name := "opens", desc := "(I)V" } : Jvm.MethodName) prog_36_method_15_code (2 : Nat) (Option.none : Option Jvm.ClassFile.FieldType)) ∈ lw_all := lw_g (lw_at lw_m9 237 rfl) rfl
theorem q2286 : (Jvm.Cond.methodLink "PaidSecretsModel" (253 : Nat) ({ cls := "PaidSecretsModel", name := "sums", desc := "(I)V" } : Jvm.MethodName)) ∈ lw_all := lw_g (lw_at lw_m9 238 rfl) rfl
theorem q2287 : (Jvm.Cond.privateMethod ({ cls := "PaidSecretsModel", name := "sums", desc := "(I)V" } : Jvm.MethodName)) ∈ lw_tbl := lw_at lw_m9 239 rfl
theorem q2288 : (Jvm.Cond.instanceMethod ({ cls := "PaidSecretsModel", name := "sums", desc := "(I)V" } : Jvm.MethodName)) ∈ lw_all := lw_g (lw_at lw_m10 0 rfl) rfl
theorem q2289 : (Jvm.Cond.code ({ cls := "PaidSecretsModel", name := "sums", desc := "(I)V" } : Jvm.MethodName) prog_36_method_16_code (2 : Nat) (Option.none : Option Jvm.ClassFile.FieldType)) ∈ lw_all := lw_g (lw_at lw_m10 1 rfl) rfl
theorem q2290 : (Jvm.Cond.methodLink "PaidSecretsModel" (259 : Nat) ({ cls := "PaidSecretsModel", name := "tests", desc := "(I)V" } : Jvm.MethodName)) ∈ lw_all := lw_g (lw_at lw_m10 2 rfl) rfl
theorem q2291 : (Jvm.Cond.privateMethod ({ cls := "PaidSecretsModel", name := "tests", desc := "(I)V" } : Jvm.MethodName)) ∈ lw_tbl := lw_at lw_m10 3 rfl
theorem q2292 : (Jvm.Cond.instanceMethod ({ cls := "PaidSecretsModel", name := "tests", desc := "(I)V" } : Jvm.MethodName)) ∈ lw_all := lw_g (lw_at lw_m10 4 rfl) rfl
theorem q2293 : (Jvm.Cond.code ({ cls := "PaidSecretsModel", name := "tests", desc := "(I)V" } : Jvm.MethodName) prog_36_method_17_code (3 : Nat) (Option.none : Option Jvm.ClassFile.FieldType)) ∈ lw_all := lw_g (lw_at lw_m10 5 rfl) rfl
theorem q2294 : (Jvm.Cond.methodLink "PaidSecretsModel" (420 : Nat) ({ cls := "PaidSecretsModel", name := "between", desc := "(III)I" } : Jvm.MethodName)) ∈ lw_all := lw_g (lw_at lw_m10 6 rfl) rfl
theorem q2295 : (Jvm.Cond.static ({ cls := "PaidSecretsModel", name := "between", desc := "(III)I" } : Jvm.MethodName)) ∈ lw_all := lw_g (lw_at lw_m10 7 rfl) rfl
theorem q2296 : (Jvm.Cond.code ({ cls := "PaidSecretsModel", name := "between", desc := "(III)I" } : Jvm.MethodName) prog_36_method_4_code (3 : Nat) (Option.some Jvm.ClassFile.FieldType.int)) ∈ lw_all := lw_g (lw_at lw_m10 8 rfl) rfl
theorem q2297 : (Jvm.Cond.methodLink "PaidSecretsModel" (442 : Nat) ({ cls := "PaidSecretsModel", name := "net", desc := "(I)I" } : Jvm.MethodName)) ∈ lw_all := lw_g (lw_at lw_m10 9 rfl) rfl
theorem q2298 : (Jvm.Cond.privateMethod ({ cls := "PaidSecretsModel", name := "net", desc := "(I)I" } : Jvm.MethodName)) ∈ lw_tbl := lw_at lw_m10 10 rfl
theorem q2299 : (Jvm.Cond.instanceMethod ({ cls := "PaidSecretsModel", name := "net", desc := "(I)I" } : Jvm.MethodName)) ∈ lw_all := lw_g (lw_at lw_m10 11 rfl) rfl
theorem q2300 : (Jvm.Cond.code ({ cls := "PaidSecretsModel", name := "net", desc := "(I)I" } : Jvm.MethodName) prog_36_method_59_code (4 : Nat) (Option.some Jvm.ClassFile.FieldType.int)) ∈ lw_all := lw_g (lw_at lw_m10 12 rfl) rfl
theorem q2302 : (Jvm.Cond.instanceMethod ({ cls := "PaidSecretsModel", name := "secret", desc := "(II)I" } : Jvm.MethodName)) ∈ lw_all := lw_g (lw_at lw_m10 14 rfl) rfl
theorem q2303 : (Jvm.Cond.selects "PaidSecretsModel" ({ cls := "PaidSecretsModel", name := "secret", desc := "(II)I" } : Jvm.MethodName) ({ cls := "PaidSecretsModel", name := "secret", desc := "(II)I" } : Jvm.MethodName)) ∈ lw_all := lw_g (lw_at lw_m10 15 rfl) rfl
theorem q2304 : (Jvm.Cond.code ({ cls := "PaidSecretsModel", name := "secret", desc := "(II)I" } : Jvm.MethodName) prog_36_method_61_code (3 : Nat) (Option.some Jvm.ClassFile.FieldType.int)) ∈ lw_all := lw_g (lw_at lw_m10 16 rfl) rfl
theorem q2305 : (Jvm.Cond.methodLink "PaidSecretsModel" (445 : Nat) ({ cls := "PaidSecretsModel", name := "isSecret", desc := "(I)Z" } : Jvm.MethodName)) ∈ lw_all := lw_g (lw_at lw_m10 17 rfl) rfl
theorem q2306 : (Jvm.Cond.privateMethod ({ cls := "PaidSecretsModel", name := "isSecret", desc := "(I)Z" } : Jvm.MethodName)) ∈ lw_tbl := lw_at lw_m10 18 rfl
theorem q2307 : (Jvm.Cond.instanceMethod ({ cls := "PaidSecretsModel", name := "isSecret", desc := "(I)Z" } : Jvm.MethodName)) ∈ lw_all := lw_g (lw_at lw_m10 19 rfl) rfl
theorem q2308 : (Jvm.Cond.code ({ cls := "PaidSecretsModel", name := "isSecret", desc := "(I)Z" } : Jvm.MethodName) prog_36_method_52_code (2 : Nat) (Option.some Jvm.ClassFile.FieldType.boolean)) ∈ lw_all := lw_g (lw_at lw_m10 20 rfl) rfl
theorem q2310 : (Jvm.Cond.instanceMethod ({ cls := "PaidSecretsModel", name := "aware", desc := "(III)I" } : Jvm.MethodName)) ∈ lw_all := lw_g (lw_at lw_m10 22 rfl) rfl
theorem q2311 : (Jvm.Cond.selects "PaidSecretsModel" ({ cls := "PaidSecretsModel", name := "aware", desc := "(III)I" } : Jvm.MethodName) ({ cls := "PaidSecretsModel", name := "aware", desc := "(III)I" } : Jvm.MethodName)) ∈ lw_all := lw_g (lw_at lw_m10 23 rfl) rfl
theorem q2312 : (Jvm.Cond.code ({ cls := "PaidSecretsModel", name := "aware", desc := "(III)I" } : Jvm.MethodName) prog_36_method_63_code (4 : Nat) (Option.some Jvm.ClassFile.FieldType.int)) ∈ lw_all := lw_g (lw_at lw_m10 24 rfl) rfl
theorem q2313 : (Jvm.Cond.methodLink "PaidSecretsModel" (448 : Nat) ({ cls := "PaidSecretsModel", name := "areTwo", desc := "(II)Z" } : Jvm.MethodName)) ∈ lw_all := lw_g (lw_at lw_m10 25 rfl) rfl
theorem q2314 : (Jvm.Cond.privateMethod ({ cls := "PaidSecretsModel", name := "areTwo", desc := "(II)Z" } : Jvm.MethodName)) ∈ lw_tbl := lw_at lw_m10 26 rfl
theorem q2315 : (Jvm.Cond.instanceMethod ({ cls := "PaidSecretsModel", name := "areTwo", desc := "(II)Z" } : Jvm.MethodName)) ∈ lw_all := lw_g (lw_at lw_m10 27 rfl) rfl
theorem q2316 : (Jvm.Cond.code ({ cls := "PaidSecretsModel", name := "areTwo", desc := "(II)Z" } : Jvm.MethodName) prog_36_method_62_code (3 : Nat) (Option.some Jvm.ClassFile.FieldType.boolean)) ∈ lw_all := lw_g (lw_at lw_m10 28 rfl) rfl
theorem q2318 : (Jvm.Cond.instanceMethod ({ cls := "PaidSecretsModel", name := "ear", desc := "(II)I" } : Jvm.MethodName)) ∈ lw_all := lw_g (lw_at lw_m10 30 rfl) rfl
theorem q2319 : (Jvm.Cond.selects "PaidSecretsModel" ({ cls := "PaidSecretsModel", name := "ear", desc := "(II)I" } : Jvm.MethodName) ({ cls := "PaidSecretsModel", name := "ear", desc := "(II)I" } : Jvm.MethodName)) ∈ lw_all := lw_g (lw_at lw_m10 31 rfl) rfl
theorem q2320 : (Jvm.Cond.code ({ cls := "PaidSecretsModel", name := "ear", desc := "(II)I" } : Jvm.MethodName) prog_36_method_65_code (4 : Nat) (Option.some Jvm.ClassFile.FieldType.int)) ∈ lw_all := lw_g (lw_at lw_m10 32 rfl) rfl
theorem q2321 : (Jvm.Cond.methodLink "PaidSecretsModel" (454 : Nat) ({ cls := "PaidSecretsModel", name := "chanceOf", desc := "(I)I" } : Jvm.MethodName)) ∈ lw_all := lw_g (lw_at lw_m10 33 rfl) rfl
theorem q2322 : (Jvm.Cond.privateMethod ({ cls := "PaidSecretsModel", name := "chanceOf", desc := "(I)I" } : Jvm.MethodName)) ∈ lw_tbl := lw_at lw_m10 34 rfl
theorem q2323 : (Jvm.Cond.instanceMethod ({ cls := "PaidSecretsModel", name := "chanceOf", desc := "(I)I" } : Jvm.MethodName)) ∈ lw_all := lw_g (lw_at lw_m10 35 rfl) rfl
theorem q2324 : (Jvm.Cond.code ({ cls := "PaidSecretsModel", name := "chanceOf", desc := "(I)I" } : Jvm.MethodName) prog_36_method_64_code (2 : Nat) (Option.some Jvm.ClassFile.FieldType.int)) ∈ lw_all := lw_g (lw_at lw_m10 36 rfl) rfl
theorem q2325 : (Jvm.Cond.methodLink "PaidSecretsModel" (451 : Nat) ({ cls := "java/lang/Math", name := "min", desc := "(II)I" } : Jvm.MethodName)) ∈ lw_all := lw_g (lw_at lw_m10 37 rfl) rfl
theorem q2327 : (Jvm.Cond.instanceMethod ({ cls := "PaidSecretsModel", name := "tell", desc := "(III)I" } : Jvm.MethodName)) ∈ lw_all := lw_g (lw_at lw_m10 39 rfl) rfl
theorem q2328 : (Jvm.Cond.selects "PaidSecretsModel" ({ cls := "PaidSecretsModel", name := "tell", desc := "(III)I" } : Jvm.MethodName) ({ cls := "PaidSecretsModel", name := "tell", desc := "(III)I" } : Jvm.MethodName)) ∈ lw_all := lw_g (lw_at lw_m10 40 rfl) rfl
theorem q2329 : (Jvm.Cond.code ({ cls := "PaidSecretsModel", name := "tell", desc := "(III)I" } : Jvm.MethodName) prog_36_method_70_code (4 : Nat) (Option.some Jvm.ClassFile.FieldType.int)) ∈ lw_all := lw_g (lw_at lw_m10 41 rfl) rfl
theorem q2330 : (Jvm.Cond.methodLink "PaidSecretsModel" (464 : Nat) ({ cls := "PaidSecretsModel", name := "canTell", desc := "(III)Z" } : Jvm.MethodName)) ∈ lw_all := lw_g (lw_at lw_m10 42 rfl) rfl
theorem q2331 : (Jvm.Cond.privateMethod ({ cls := "PaidSecretsModel", name := "canTell", desc := "(III)Z" } : Jvm.MethodName)) ∈ lw_tbl := lw_at lw_m10 43 rfl
theorem q2332 : (Jvm.Cond.instanceMethod ({ cls := "PaidSecretsModel", name := "canTell", desc := "(III)Z" } : Jvm.MethodName)) ∈ lw_all := lw_g (lw_at lw_m10 44 rfl) rfl
theorem q2333 : (Jvm.Cond.code ({ cls := "PaidSecretsModel", name := "canTell", desc := "(III)Z" } : Jvm.MethodName) prog_36_method_68_code (4 : Nat) (Option.some Jvm.ClassFile.FieldType.boolean)) ∈ lw_all := lw_g (lw_at lw_m10 45 rfl) rfl
theorem q2334 : (Jvm.Cond.methodLink "PaidSecretsModel" (461 : Nat) ({ cls := "PaidSecretsModel", name := "speaks", desc := "(I)Z" } : Jvm.MethodName)) ∈ lw_all := lw_g (lw_at lw_m10 46 rfl) rfl
theorem q2335 : (Jvm.Cond.privateMethod ({ cls := "PaidSecretsModel", name := "speaks", desc := "(I)Z" } : Jvm.MethodName)) ∈ lw_tbl := lw_at lw_m10 47 rfl
theorem q2336 : (Jvm.Cond.instanceMethod ({ cls := "PaidSecretsModel", name := "speaks", desc := "(I)Z" } : Jvm.MethodName)) ∈ lw_all := lw_g (lw_at lw_m10 48 rfl) rfl
theorem q2337 : (Jvm.Cond.code ({ cls := "PaidSecretsModel", name := "speaks", desc := "(I)Z" } : Jvm.MethodName) prog_36_method_67_code (2 : Nat) (Option.some Jvm.ClassFile.FieldType.boolean)) ∈ lw_all := lw_g (lw_at lw_m10 49 rfl) rfl
theorem q2338 : (Jvm.Cond.methodLink "PaidSecretsModel" (467 : Nat) ({ cls := "PaidSecretsModel", name := "keeps", desc := "()V" } : Jvm.MethodName)) ∈ lw_all := lw_g (lw_at lw_m10 50 rfl) rfl
theorem q2339 : (Jvm.Cond.privateMethod ({ cls := "PaidSecretsModel", name := "keeps", desc := "()V" } : Jvm.MethodName)) ∈ lw_tbl := lw_at lw_m10 51 rfl
theorem q2340 : (Jvm.Cond.instanceMethod ({ cls := "PaidSecretsModel", name := "keeps", desc := "()V" } : Jvm.MethodName)) ∈ lw_all := lw_g (lw_at lw_m10 52 rfl) rfl
theorem q2341 : (Jvm.Cond.code ({ cls := "PaidSecretsModel", name := "keeps", desc := "()V" } : Jvm.MethodName) prog_36_method_66_code (2 : Nat) (Option.none : Option Jvm.ClassFile.FieldType)) ∈ lw_all := lw_g (lw_at lw_m10 53 rfl) rfl
theorem q2342 : (Jvm.Cond.methodLink "PaidSecretsModel" (457 : Nat) ({ cls := "PaidSecretsModel", name := "copies", desc := "([II[II)V" } : Jvm.MethodName)) ∈ lw_all := lw_g (lw_at lw_m10 54 rfl) rfl
theorem q2343 : (Jvm.Cond.static ({ cls := "PaidSecretsModel", name := "copies", desc := "([II[II)V" } : Jvm.MethodName)) ∈ lw_all := lw_g (lw_at lw_m10 55 rfl) rfl
theorem q2344 : (Jvm.Cond.code ({ cls := "PaidSecretsModel", name := "copies", desc := "([II[II)V" } : Jvm.MethodName) prog_36_method_41_code (5 : Nat) (Option.none : Option Jvm.ClassFile.FieldType)) ∈ lw_all := lw_g (lw_at lw_m10 56 rfl) rfl
theorem q2345 : (Jvm.Cond.methodLink "PaidSecretsModel" (470 : Nat) ({ cls := "PaidSecretsModel", name := "tells", desc := "(III)V" } : Jvm.MethodName)) ∈ lw_all := lw_g (lw_at lw_m10 57 rfl) rfl
theorem q2346 : (Jvm.Cond.privateMethod ({ cls := "PaidSecretsModel", name := "tells", desc := "(III)V" } : Jvm.MethodName)) ∈ lw_tbl := lw_at lw_m10 58 rfl
theorem q2347 : (Jvm.Cond.instanceMethod ({ cls := "PaidSecretsModel", name := "tells", desc := "(III)V" } : Jvm.MethodName)) ∈ lw_all := lw_g (lw_at lw_m10 59 rfl) rfl
theorem q2348 : (Jvm.Cond.code ({ cls := "PaidSecretsModel", name := "tells", desc := "(III)V" } : Jvm.MethodName) prog_36_method_69_code (4 : Nat) (Option.none : Option Jvm.ClassFile.FieldType)) ∈ lw_all := lw_g (lw_at lw_m10 60 rfl) rfl
theorem q2350 : (Jvm.Cond.instanceMethod ({ cls := "PaidSecretsModel", name := "pay", desc := "(II)I" } : Jvm.MethodName)) ∈ lw_all := lw_g (lw_at lw_m10 62 rfl) rfl
theorem q2351 : (Jvm.Cond.selects "PaidSecretsModel" ({ cls := "PaidSecretsModel", name := "pay", desc := "(II)I" } : Jvm.MethodName) ({ cls := "PaidSecretsModel", name := "pay", desc := "(II)I" } : Jvm.MethodName)) ∈ lw_all := lw_g (lw_at lw_m10 63 rfl) rfl
theorem q2352 : (Jvm.Cond.code ({ cls := "PaidSecretsModel", name := "pay", desc := "(II)I" } : Jvm.MethodName) prog_36_method_73_code (3 : Nat) (Option.some Jvm.ClassFile.FieldType.int)) ∈ lw_all := lw_g (lw_at lw_m10 64 rfl) rfl
theorem q2353 : (Jvm.Cond.methodLink "PaidSecretsModel" (474 : Nat) ({ cls := "PaidSecretsModel", name := "canPay", desc := "(II)Z" } : Jvm.MethodName)) ∈ lw_all := lw_g (lw_at lw_m10 65 rfl) rfl
theorem q2354 : (Jvm.Cond.privateMethod ({ cls := "PaidSecretsModel", name := "canPay", desc := "(II)Z" } : Jvm.MethodName)) ∈ lw_tbl := lw_at lw_m10 66 rfl
theorem q2355 : (Jvm.Cond.instanceMethod ({ cls := "PaidSecretsModel", name := "canPay", desc := "(II)Z" } : Jvm.MethodName)) ∈ lw_all := lw_g (lw_at lw_m10 67 rfl) rfl
theorem q2356 : (Jvm.Cond.code ({ cls := "PaidSecretsModel", name := "canPay", desc := "(II)Z" } : Jvm.MethodName) prog_36_method_71_code (3 : Nat) (Option.some Jvm.ClassFile.FieldType.boolean)) ∈ lw_all := lw_g (lw_at lw_m10 68 rfl) rfl
theorem q2357 : (Jvm.Cond.methodLink "PaidSecretsModel" (477 : Nat) ({ cls := "PaidSecretsModel", name := "pays", desc := "(II)V" } : Jvm.MethodName)) ∈ lw_all := lw_g (lw_at lw_m10 69 rfl) rfl
theorem q2358 : (Jvm.Cond.privateMethod ({ cls := "PaidSecretsModel", name := "pays", desc := "(II)V" } : Jvm.MethodName)) ∈ lw_tbl := lw_at lw_m10 70 rfl
theorem q2359 : (Jvm.Cond.instanceMethod ({ cls := "PaidSecretsModel", name := "pays", desc := "(II)V" } : Jvm.MethodName)) ∈ lw_all := lw_g (lw_at lw_m10 71 rfl) rfl
theorem q2360 : (Jvm.Cond.code ({ cls := "PaidSecretsModel", name := "pays", desc := "(II)V" } : Jvm.MethodName) prog_36_method_72_code (3 : Nat) (Option.none : Option Jvm.ClassFile.FieldType)) ∈ lw_all := lw_g (lw_at lw_m10 72 rfl) rfl
theorem q2362 : (Jvm.Cond.instanceMethod ({ cls := "PaidSecretsModel", name := "rise", desc := "(I)I" } : Jvm.MethodName)) ∈ lw_all := lw_g (lw_at lw_m10 74 rfl) rfl
theorem q2363 : (Jvm.Cond.selects "PaidSecretsModel" ({ cls := "PaidSecretsModel", name := "rise", desc := "(I)I" } : Jvm.MethodName) ({ cls := "PaidSecretsModel", name := "rise", desc := "(I)I" } : Jvm.MethodName)) ∈ lw_all := lw_g (lw_at lw_m10 75 rfl) rfl
theorem q2364 : (Jvm.Cond.code ({ cls := "PaidSecretsModel", name := "rise", desc := "(I)I" } : Jvm.MethodName) prog_36_method_74_code (2 : Nat) (Option.some Jvm.ClassFile.FieldType.int)) ∈ lw_all := lw_g (lw_at lw_m10 76 rfl) rfl
theorem q2366 : (Jvm.Cond.instanceMethod ({ cls := "PaidSecretsModel", name := "quarter", desc := "()I" } : Jvm.MethodName)) ∈ lw_all := lw_g (lw_at lw_m10 78 rfl) rfl
theorem q2367 : (Jvm.Cond.selects "PaidSecretsModel" ({ cls := "PaidSecretsModel", name := "quarter", desc := "()I" } : Jvm.MethodName) ({ cls := "PaidSecretsModel", name := "quarter", desc := "()I" } : Jvm.MethodName)) ∈ lw_all := lw_g (lw_at lw_m10 79 rfl) rfl
theorem q2368 : (Jvm.Cond.code ({ cls := "PaidSecretsModel", name := "quarter", desc := "()I" } : Jvm.MethodName) prog_36_method_76_code (1 : Nat) (Option.some Jvm.ClassFile.FieldType.int)) ∈ lw_all := lw_g (lw_at lw_m10 80 rfl) rfl
theorem q2369 : (Jvm.Cond.methodLink "PaidSecretsModel" (480 : Nat) ({ cls := "PaidSecretsModel", name := "passes", desc := "()I" } : Jvm.MethodName)) ∈ lw_all := lw_g (lw_at lw_m10 81 rfl) rfl
theorem q2370 : (Jvm.Cond.privateMethod ({ cls := "PaidSecretsModel", name := "passes", desc := "()I" } : Jvm.MethodName)) ∈ lw_tbl := lw_at lw_m10 82 rfl
theorem q2371 : (Jvm.Cond.instanceMethod ({ cls := "PaidSecretsModel", name := "passes", desc := "()I" } : Jvm.MethodName)) ∈ lw_all := lw_g (lw_at lw_m10 83 rfl) rfl
theorem q2372 : (Jvm.Cond.code ({ cls := "PaidSecretsModel", name := "passes", desc := "()I" } : Jvm.MethodName) prog_36_method_75_code (3 : Nat) (Option.some Jvm.ClassFile.FieldType.int)) ∈ lw_all := lw_g (lw_at lw_m10 84 rfl) rfl
theorem q2374 : (Jvm.Cond.instanceMethod ({ cls := "PaidSecretsModel", name := "lend", desc := "(III)I" } : Jvm.MethodName)) ∈ lw_all := lw_g (lw_at lw_m10 86 rfl) rfl
theorem q2375 : (Jvm.Cond.selects "PaidSecretsModel" ({ cls := "PaidSecretsModel", name := "lend", desc := "(III)I" } : Jvm.MethodName) ({ cls := "PaidSecretsModel", name := "lend", desc := "(III)I" } : Jvm.MethodName)) ∈ lw_all := lw_g (lw_at lw_m10 87 rfl) rfl
theorem q2376 : (Jvm.Cond.code ({ cls := "PaidSecretsModel", name := "lend", desc := "(III)I" } : Jvm.MethodName) prog_36_method_77_code (5 : Nat) (Option.some Jvm.ClassFile.FieldType.int)) ∈ lw_all := lw_g (lw_at lw_m10 88 rfl) rfl
theorem q2378 : (Jvm.Cond.instanceMethod ({ cls := "PaidSecretsModel", name := "undo", desc := "()Z" } : Jvm.MethodName)) ∈ lw_all := lw_g (lw_at lw_m10 90 rfl) rfl
theorem q2379 : (Jvm.Cond.selects "PaidSecretsModel" ({ cls := "PaidSecretsModel", name := "undo", desc := "()Z" } : Jvm.MethodName) ({ cls := "PaidSecretsModel", name := "undo", desc := "()Z" } : Jvm.MethodName)) ∈ lw_all := lw_g (lw_at lw_m10 91 rfl) rfl
theorem q2380 : (Jvm.Cond.code ({ cls := "PaidSecretsModel", name := "undo", desc := "()Z" } : Jvm.MethodName) prog_36_method_78_code (1 : Nat) (Option.some Jvm.ClassFile.FieldType.boolean)) ∈ lw_all := lw_g (lw_at lw_m10 92 rfl) rfl
theorem q2382 : (Jvm.Cond.instanceMethod ({ cls := "PaidSecretsModel", name := "judged", desc := "(I)I" } : Jvm.MethodName)) ∈ lw_all := lw_g (lw_at lw_m10 94 rfl) rfl
theorem q2383 : (Jvm.Cond.selects "PaidSecretsModel" ({ cls := "PaidSecretsModel", name := "judged", desc := "(I)I" } : Jvm.MethodName) ({ cls := "PaidSecretsModel", name := "judged", desc := "(I)I" } : Jvm.MethodName)) ∈ lw_all := lw_g (lw_at lw_m10 95 rfl) rfl
theorem q2384 : (Jvm.Cond.code ({ cls := "PaidSecretsModel", name := "judged", desc := "(I)I" } : Jvm.MethodName) prog_36_method_82_code (4 : Nat) (Option.some Jvm.ClassFile.FieldType.int)) ∈ lw_all := lw_g (lw_at lw_m10 96 rfl) rfl
theorem q2385 : (Jvm.Cond.methodLink "PaidSecretsModel" (483 : Nat) ({ cls := "PaidSecretsModel", name := "goes", desc := "(I)Z" } : Jvm.MethodName)) ∈ lw_all := lw_g (lw_at lw_m10 97 rfl) rfl
theorem q2386 : (Jvm.Cond.privateMethod ({ cls := "PaidSecretsModel", name := "goes", desc := "(I)Z" } : Jvm.MethodName)) ∈ lw_tbl := lw_at lw_m10 98 rfl
theorem q2387 : (Jvm.Cond.instanceMethod ({ cls := "PaidSecretsModel", name := "goes", desc := "(I)Z" } : Jvm.MethodName)) ∈ lw_all := lw_g (lw_at lw_m10 99 rfl) rfl
theorem q2388 : (Jvm.Cond.code ({ cls := "PaidSecretsModel", name := "goes", desc := "(I)Z" } : Jvm.MethodName) prog_36_method_79_code (5 : Nat) (Option.some Jvm.ClassFile.FieldType.boolean)) ∈ lw_all := lw_g (lw_at lw_m10 100 rfl) rfl
theorem q2389 : (Jvm.Cond.methodLink "PaidSecretsModel" (486 : Nat) ({ cls := "PaidSecretsModel", name := "finesOfAll", desc := "()I" } : Jvm.MethodName)) ∈ lw_all := lw_g (lw_at lw_m10 101 rfl) rfl
theorem q2390 : (Jvm.Cond.privateMethod ({ cls := "PaidSecretsModel", name := "finesOfAll", desc := "()I" } : Jvm.MethodName)) ∈ lw_tbl := lw_at lw_m10 102 rfl
theorem q2391 : (Jvm.Cond.instanceMethod ({ cls := "PaidSecretsModel", name := "finesOfAll", desc := "()I" } : Jvm.MethodName)) ∈ lw_all := lw_g (lw_at lw_m10 103 rfl) rfl
theorem q2392 : (Jvm.Cond.code ({ cls := "PaidSecretsModel", name := "finesOfAll", desc := "()I" } : Jvm.MethodName) prog_36_method_80_code (3 : Nat) (Option.some Jvm.ClassFile.FieldType.int)) ∈ lw_all := lw_g (lw_at lw_m10 104 rfl) rfl
theorem q2393 : (Jvm.Cond.methodLink "PaidSecretsModel" (489 : Nat) ({ cls := "PaidSecretsModel", name := "allSecrets", desc := "()I" } : Jvm.MethodName)) ∈ lw_all := lw_g (lw_at lw_m10 105 rfl) rfl
theorem q2394 : (Jvm.Cond.privateMethod ({ cls := "PaidSecretsModel", name := "allSecrets", desc := "()I" } : Jvm.MethodName)) ∈ lw_tbl := lw_at lw_m10 106 rfl
theorem q2395 : (Jvm.Cond.instanceMethod ({ cls := "PaidSecretsModel", name := "allSecrets", desc := "()I" } : Jvm.MethodName)) ∈ lw_all := lw_g (lw_at lw_m10 107 rfl) rfl
theorem q2396 : (Jvm.Cond.code ({ cls := "PaidSecretsModel", name := "allSecrets", desc := "()I" } : Jvm.MethodName) prog_36_method_81_code (1 : Nat) (Option.some Jvm.ClassFile.FieldType.int)) ∈ lw_all := lw_g (lw_at lw_m10 108 rfl) rfl
theorem q2398 : (Jvm.Cond.instanceMethod ({ cls := "PaidSecretsModel", name := "least", desc := "(I)I" } : Jvm.MethodName)) ∈ lw_all := lw_g (lw_at lw_m10 110 rfl) rfl
theorem q2399 : (Jvm.Cond.selects "PaidSecretsModel" ({ cls := "PaidSecretsModel", name := "least", desc := "(I)I" } : Jvm.MethodName) ({ cls := "PaidSecretsModel", name := "least", desc := "(I)I" } : Jvm.MethodName)) ∈ lw_all := lw_g (lw_at lw_m10 111 rfl) rfl
theorem q2400 : (Jvm.Cond.code ({ cls := "PaidSecretsModel", name := "least", desc := "(I)I" } : Jvm.MethodName) prog_36_method_84_code (2 : Nat) (Option.some Jvm.ClassFile.FieldType.int)) ∈ lw_all := lw_g (lw_at lw_m10 112 rfl) rfl
theorem q2401 : (Jvm.Cond.methodLink "PaidSecretsModel" (495 : Nat) ({ cls := "PaidSecretsModel", name := "leastOf", desc := "(I)I" } : Jvm.MethodName)) ∈ lw_all := lw_g (lw_at lw_m10 113 rfl) rfl
theorem q2402 : (Jvm.Cond.privateMethod ({ cls := "PaidSecretsModel", name := "leastOf", desc := "(I)I" } : Jvm.MethodName)) ∈ lw_tbl := lw_at lw_m10 114 rfl
theorem q2403 : (Jvm.Cond.instanceMethod ({ cls := "PaidSecretsModel", name := "leastOf", desc := "(I)I" } : Jvm.MethodName)) ∈ lw_all := lw_g (lw_at lw_m10 115 rfl) rfl
theorem q2404 : (Jvm.Cond.code ({ cls := "PaidSecretsModel", name := "leastOf", desc := "(I)I" } : Jvm.MethodName) prog_36_method_83_code (6 : Nat) (Option.some Jvm.ClassFile.FieldType.int)) ∈ lw_all := lw_g (lw_at lw_m10 116 rfl) rfl
theorem q2405 : (Jvm.Cond.methodLink "PaidSecretsModel" (492 : Nat) ({ cls := "PaidSecretsModel", name := "bits", desc := "(I)I" } : Jvm.MethodName)) ∈ lw_all := lw_g (lw_at lw_m10 117 rfl) rfl
theorem q2406 : (Jvm.Cond.static ({ cls := "PaidSecretsModel", name := "bits", desc := "(I)I" } : Jvm.MethodName)) ∈ lw_all := lw_g (lw_at lw_m10 118 rfl) rfl
theorem q2407 : (Jvm.Cond.code ({ cls := "PaidSecretsModel", name := "bits", desc := "(I)I" } : Jvm.MethodName) prog_36_method_5_code (3 : Nat) (Option.some Jvm.ClassFile.FieldType.int)) ∈ lw_all := lw_g (lw_at lw_m10 119 rfl) rfl
theorem q2409 : (Jvm.Cond.instanceMethod ({ cls := "PaidSecretsModel", name := "payers", desc := "()I" } : Jvm.MethodName)) ∈ lw_all := lw_g (lw_at lw_m10 121 rfl) rfl
theorem q2410 : (Jvm.Cond.selects "PaidSecretsModel" ({ cls := "PaidSecretsModel", name := "payers", desc := "()I" } : Jvm.MethodName) ({ cls := "PaidSecretsModel", name := "payers", desc := "()I" } : Jvm.MethodName)) ∈ lw_all := lw_g (lw_at lw_m10 122 rfl) rfl
theorem q2411 : (Jvm.Cond.code ({ cls := "PaidSecretsModel", name := "payers", desc := "()I" } : Jvm.MethodName) prog_36_method_86_code (5 : Nat) (Option.some Jvm.ClassFile.FieldType.int)) ∈ lw_all := lw_g (lw_at lw_m10 123 rfl) rfl
theorem q2412 : (Jvm.Cond.methodLink "PaidSecretsModel" (498 : Nat) ({ cls := "PaidSecretsModel", name := "payTogether", desc := "(II)Z" } : Jvm.MethodName)) ∈ lw_all := lw_g (lw_at lw_m10 124 rfl) rfl
theorem q2413 : (Jvm.Cond.privateMethod ({ cls := "PaidSecretsModel", name := "payTogether", desc := "(II)Z" } : Jvm.MethodName)) ∈ lw_tbl := lw_at lw_m10 125 rfl
theorem q2414 : (Jvm.Cond.instanceMethod ({ cls := "PaidSecretsModel", name := "payTogether", desc := "(II)Z" } : Jvm.MethodName)) ∈ lw_all := lw_g (lw_at lw_m10 126 rfl) rfl
theorem q2415 : (Jvm.Cond.code ({ cls := "PaidSecretsModel", name := "payTogether", desc := "(II)Z" } : Jvm.MethodName) prog_36_method_85_code (5 : Nat) (Option.some Jvm.ClassFile.FieldType.boolean)) ∈ lw_all := lw_g (lw_at lw_m10 127 rfl) rfl
theorem q2417 : (Jvm.Cond.instanceMethod ({ cls := "PaidSecretsModel", name := "plot", desc := "(IIII)I" } : Jvm.MethodName)) ∈ lw_all := lw_g (lw_at lw_m10 129 rfl) rfl
theorem q2418 : (Jvm.Cond.selects "PaidSecretsModel" ({ cls := "PaidSecretsModel", name := "plot", desc := "(IIII)I" } : Jvm.MethodName) ({ cls := "PaidSecretsModel", name := "plot", desc := "(IIII)I" } : Jvm.MethodName)) ∈ lw_all := lw_g (lw_at lw_m10 130 rfl) rfl
theorem q2419 : (Jvm.Cond.code ({ cls := "PaidSecretsModel", name := "plot", desc := "(IIII)I" } : Jvm.MethodName) prog_36_method_88_code (5 : Nat) (Option.some Jvm.ClassFile.FieldType.int)) ∈ lw_all := lw_g (lw_at lw_m10 131 rfl) rfl
theorem q2420 : (Jvm.Cond.methodLink "PaidSecretsModel" (507 : Nat) ({ cls := "PaidSecretsModel", name := "plots", desc := "(IIII)V" } : Jvm.MethodName)) ∈ lw_all := lw_g (lw_at lw_m10 132 rfl) rfl
theorem q2421 : (Jvm.Cond.privateMethod ({ cls := "PaidSecretsModel", name := "plots", desc := "(IIII)V" } : Jvm.MethodName)) ∈ lw_tbl := lw_at lw_m10 133 rfl
theorem q2422 : (Jvm.Cond.instanceMethod ({ cls := "PaidSecretsModel", name := "plots", desc := "(IIII)V" } : Jvm.MethodName)) ∈ lw_all := lw_g (lw_at lw_m10 134 rfl) rfl
theorem q2423 : (Jvm.Cond.code ({ cls := "PaidSecretsModel", name := "plots", desc := "(IIII)V" } : Jvm.MethodName) prog_36_method_87_code (11 : Nat) (Option.none : Option Jvm.ClassFile.FieldType)) ∈ lw_all := lw_g (lw_at lw_m10 135 rfl) rfl
theorem q2425 : (Jvm.Cond.instanceMethod ({ cls := "PaidSecretsModel", name := "see", desc := "(IZ)Z" } : Jvm.MethodName)) ∈ lw_all := lw_g (lw_at lw_m10 137 rfl) rfl
theorem q2426 : (Jvm.Cond.selects "PaidSecretsModel" ({ cls := "PaidSecretsModel", name := "see", desc := "(IZ)Z" } : Jvm.MethodName) ({ cls := "PaidSecretsModel", name := "see", desc := "(IZ)Z" } : Jvm.MethodName)) ∈ lw_all := lw_g (lw_at lw_m10 138 rfl) rfl
theorem q2427 : (Jvm.Cond.code ({ cls := "PaidSecretsModel", name := "see", desc := "(IZ)Z" } : Jvm.MethodName) prog_36_method_89_code (3 : Nat) (Option.some Jvm.ClassFile.FieldType.boolean)) ∈ lw_all := lw_g (lw_at lw_m10 139 rfl) rfl
theorem q2429 : (Jvm.Cond.instanceMethod ({ cls := "PaidSecretsModel", name := "leaks", desc := "(I)I" } : Jvm.MethodName)) ∈ lw_all := lw_g (lw_at lw_m10 141 rfl) rfl
theorem q2430 : (Jvm.Cond.selects "PaidSecretsModel" ({ cls := "PaidSecretsModel", name := "leaks", desc := "(I)I" } : Jvm.MethodName) ({ cls := "PaidSecretsModel", name := "leaks", desc := "(I)I" } : Jvm.MethodName)) ∈ lw_all := lw_g (lw_at lw_m10 142 rfl) rfl
theorem q2431 : (Jvm.Cond.code ({ cls := "PaidSecretsModel", name := "leaks", desc := "(I)I" } : Jvm.MethodName) prog_36_method_91_code (7 : Nat) (Option.some Jvm.ClassFile.FieldType.int)) ∈ lw_all := lw_g (lw_at lw_m10 143 rfl) rfl
theorem q2432 : (Jvm.Cond.methodLink "PaidSecretsModel" (511 : Nat) ({ cls := "PaidSecretsModel", name := "isAsSeen", desc := "(I)Z" } : Jvm.MethodName)) ∈ lw_all := lw_g (lw_at lw_m10 144 rfl) rfl
theorem q2433 : (Jvm.Cond.privateMethod ({ cls := "PaidSecretsModel", name := "isAsSeen", desc := "(I)Z" } : Jvm.MethodName)) ∈ lw_tbl := lw_at lw_m10 145 rfl
theorem q2434 : (Jvm.Cond.instanceMethod ({ cls := "PaidSecretsModel", name := "isAsSeen", desc := "(I)Z" } : Jvm.MethodName)) ∈ lw_all := lw_g (lw_at lw_m10 146 rfl) rfl
theorem q2435 : (Jvm.Cond.code ({ cls := "PaidSecretsModel", name := "isAsSeen", desc := "(I)Z" } : Jvm.MethodName) prog_36_method_90_code (3 : Nat) (Option.some Jvm.ClassFile.FieldType.boolean)) ∈ lw_all := lw_g (lw_at lw_m10 147 rfl) rfl
theorem q2437 : (Jvm.Cond.instanceMethod ({ cls := "PaidSecretsModel", name := "lies", desc := "(I)I" } : Jvm.MethodName)) ∈ lw_all := lw_g (lw_at lw_m10 149 rfl) rfl
theorem q2438 : (Jvm.Cond.selects "PaidSecretsModel" ({ cls := "PaidSecretsModel", name := "lies", desc := "(I)I" } : Jvm.MethodName) ({ cls := "PaidSecretsModel", name := "lies", desc := "(I)I" } : Jvm.MethodName)) ∈ lw_all := lw_g (lw_at lw_m10 150 rfl) rfl
theorem q2439 : (Jvm.Cond.code ({ cls := "PaidSecretsModel", name := "lies", desc := "(I)I" } : Jvm.MethodName) prog_36_method_93_code (6 : Nat) (Option.some Jvm.ClassFile.FieldType.int)) ∈ lw_all := lw_g (lw_at lw_m10 151 rfl) rfl
theorem q2440 : (Jvm.Cond.methodLink "PaidSecretsModel" (514 : Nat) ({ cls := "PaidSecretsModel", name := "isClashing", desc := "(I)Z" } : Jvm.MethodName)) ∈ lw_all := lw_g (lw_at lw_m10 152 rfl) rfl
theorem q2441 : (Jvm.Cond.privateMethod ({ cls := "PaidSecretsModel", name := "isClashing", desc := "(I)Z" } : Jvm.MethodName)) ∈ lw_tbl := lw_at lw_m10 153 rfl
theorem q2442 : (Jvm.Cond.instanceMethod ({ cls := "PaidSecretsModel", name := "isClashing", desc := "(I)Z" } : Jvm.MethodName)) ∈ lw_all := lw_g (lw_at lw_m10 154 rfl) rfl
theorem q2443 : (Jvm.Cond.code ({ cls := "PaidSecretsModel", name := "isClashing", desc := "(I)Z" } : Jvm.MethodName) prog_36_method_92_code (3 : Nat) (Option.some Jvm.ClassFile.FieldType.boolean)) ∈ lw_all := lw_g (lw_at lw_m10 155 rfl) rfl
theorem q2445 : (Jvm.Cond.instanceMethod ({ cls := "PaidSecretsModel", name := "mean", desc := "(II)I" } : Jvm.MethodName)) ∈ lw_all := lw_g (lw_at lw_m10 157 rfl) rfl
theorem q2446 : (Jvm.Cond.selects "PaidSecretsModel" ({ cls := "PaidSecretsModel", name := "mean", desc := "(II)I" } : Jvm.MethodName) ({ cls := "PaidSecretsModel", name := "mean", desc := "(II)I" } : Jvm.MethodName)) ∈ lw_all := lw_g (lw_at lw_m10 158 rfl) rfl
theorem q2447 : (Jvm.Cond.code ({ cls := "PaidSecretsModel", name := "mean", desc := "(II)I" } : Jvm.MethodName) prog_36_method_97_code (6 : Nat) (Option.some Jvm.ClassFile.FieldType.int)) ∈ lw_all := lw_g (lw_at lw_m10 159 rfl) rfl
theorem q2448 : (Jvm.Cond.methodLink "PaidSecretsModel" (526 : Nat) ({ cls := "PaidSecretsModel", name := "nights", desc := "(II)V" } : Jvm.MethodName)) ∈ lw_all := lw_g (lw_at lw_m10 160 rfl) rfl
theorem q2449 : (Jvm.Cond.privateMethod ({ cls := "PaidSecretsModel", name := "nights", desc := "(II)V" } : Jvm.MethodName)) ∈ lw_tbl := lw_at lw_m10 161 rfl
theorem q2450 : (Jvm.Cond.instanceMethod ({ cls := "PaidSecretsModel", name := "nights", desc := "(II)V" } : Jvm.MethodName)) ∈ lw_all := lw_g (lw_at lw_m10 162 rfl) rfl
theorem q2451 : (Jvm.Cond.code ({ cls := "PaidSecretsModel", name := "nights", desc := "(II)V" } : Jvm.MethodName) prog_36_method_96_code (4 : Nat) (Option.none : Option Jvm.ClassFile.FieldType)) ∈ lw_all := lw_g (lw_at lw_m10 163 rfl) rfl
theorem q2452 : (Jvm.Cond.constant "PaidSecretsModel" (517 : Nat) (1000000 : Int32)) ∈ lw_all := lw_g (lw_at lw_m10 164 rfl) rfl
theorem q2453 : (Jvm.Cond.methodLink "PaidSecretsModel" (523 : Nat) ({ cls := "PaidSecretsModel", name := "night", desc := "()V" } : Jvm.MethodName)) ∈ lw_all := lw_g (lw_at lw_m10 165 rfl) rfl
theorem q2454 : (Jvm.Cond.privateMethod ({ cls := "PaidSecretsModel", name := "night", desc := "()V" } : Jvm.MethodName)) ∈ lw_tbl := lw_at lw_m10 166 rfl
theorem q2455 : (Jvm.Cond.instanceMethod ({ cls := "PaidSecretsModel", name := "night", desc := "()V" } : Jvm.MethodName)) ∈ lw_all := lw_g (lw_at lw_m10 167 rfl) rfl
theorem q2456 : (Jvm.Cond.code ({ cls := "PaidSecretsModel", name := "night", desc := "()V" } : Jvm.MethodName) prog_36_method_95_code (7 : Nat) (Option.none : Option Jvm.ClassFile.FieldType)) ∈ lw_all := lw_g (lw_at lw_m10 168 rfl) rfl
theorem q2457 : (Jvm.Cond.methodLink "PaidSecretsModel" (518 : Nat) ({ cls := "PaidSecretsModel", name := "laysHears", desc := "(I)V" } : Jvm.MethodName)) ∈ lw_all := lw_g (lw_at lw_m10 169 rfl) rfl
theorem q2458 : (Jvm.Cond.privateMethod ({ cls := "PaidSecretsModel", name := "laysHears", desc := "(I)V" } : Jvm.MethodName)) ∈ lw_tbl := lw_at lw_m10 170 rfl
theorem q2459 : (Jvm.Cond.instanceMethod ({ cls := "PaidSecretsModel", name := "laysHears", desc := "(I)V" } : Jvm.MethodName)) ∈ lw_all := lw_g (lw_at lw_m10 171 rfl) rfl
theorem q2460 : (Jvm.Cond.code ({ cls := "PaidSecretsModel", name := "laysHears", desc := "(I)V" } : Jvm.MethodName) prog_36_method_94_code (6 : Nat) (Option.none : Option Jvm.ClassFile.FieldType)) ∈ lw_all := lw_g (lw_at lw_m10 172 rfl) rfl
theorem q2461 : (Jvm.Cond.constantLong "PaidSecretsModel" (521 : Nat) (1000000 : Int64)) ∈ lw_all := lw_g (lw_at lw_m10 173 rfl) rfl
theorem q2462 : (Jvm.Cond.constantLong "PaidSecretsModel" (529 : Nat) (1000 : Int64)) ∈ lw_all := lw_g (lw_at lw_m10 174 rfl) rfl
theorem q2464 : (Jvm.Cond.instanceMethod ({ cls := "PaidSecretsModel", name := "holds", desc := "(II)I" } : Jvm.MethodName)) ∈ lw_all := lw_g (lw_at lw_m10 176 rfl) rfl
theorem q2465 : (Jvm.Cond.selects "PaidSecretsModel" ({ cls := "PaidSecretsModel", name := "holds", desc := "(II)I" } : Jvm.MethodName) ({ cls := "PaidSecretsModel", name := "holds", desc := "(II)I" } : Jvm.MethodName)) ∈ lw_all := lw_g (lw_at lw_m10 177 rfl) rfl
theorem q2466 : (Jvm.Cond.code ({ cls := "PaidSecretsModel", name := "holds", desc := "(II)I" } : Jvm.MethodName) prog_36_method_98_code (6 : Nat) (Option.some Jvm.ClassFile.FieldType.int)) ∈ lw_all := lw_g (lw_at lw_m10 178 rfl) rfl
theorem q2468 : (Jvm.Cond.instanceMethod ({ cls := "PaidSecretsModel", name := "settle", desc := "()I" } : Jvm.MethodName)) ∈ lw_all := lw_g (lw_at lw_m10 180 rfl) rfl
theorem q2469 : (Jvm.Cond.selects "PaidSecretsModel" ({ cls := "PaidSecretsModel", name := "settle", desc := "()I" } : Jvm.MethodName) ({ cls := "PaidSecretsModel", name := "settle", desc := "()I" } : Jvm.MethodName)) ∈ lw_all := lw_g (lw_at lw_m10 181 rfl) rfl
theorem q2470 : (Jvm.Cond.code ({ cls := "PaidSecretsModel", name := "settle", desc := "()I" } : Jvm.MethodName) prog_36_method_99_code (6 : Nat) (Option.some Jvm.ClassFile.FieldType.int)) ∈ lw_all := lw_g (lw_at lw_m10 182 rfl) rfl
theorem q2472 : (Jvm.Cond.instanceMethod ({ cls := "PaidSecretsModel", name := "rests", desc := "(II)I" } : Jvm.MethodName)) ∈ lw_all := lw_g (lw_at lw_m10 184 rfl) rfl
theorem q2473 : (Jvm.Cond.selects "PaidSecretsModel" ({ cls := "PaidSecretsModel", name := "rests", desc := "(II)I" } : Jvm.MethodName) ({ cls := "PaidSecretsModel", name := "rests", desc := "(II)I" } : Jvm.MethodName)) ∈ lw_all := lw_g (lw_at lw_m10 185 rfl) rfl
theorem q2474 : (Jvm.Cond.code ({ cls := "PaidSecretsModel", name := "rests", desc := "(II)I" } : Jvm.MethodName) prog_36_method_103_code (9 : Nat) (Option.some Jvm.ClassFile.FieldType.int)) ∈ lw_all := lw_g (lw_at lw_m10 186 rfl) rfl
theorem q2475 : (Jvm.Cond.methodLink "PaidSecretsModel" (537 : Nat) ({ cls := "PaidSecretsModel", name := "may", desc := "(II)Z" } : Jvm.MethodName)) ∈ lw_all := lw_g (lw_at lw_m10 187 rfl) rfl
theorem q2476 : (Jvm.Cond.privateMethod ({ cls := "PaidSecretsModel", name := "may", desc := "(II)Z" } : Jvm.MethodName)) ∈ lw_tbl := lw_at lw_m10 188 rfl
theorem q2477 : (Jvm.Cond.instanceMethod ({ cls := "PaidSecretsModel", name := "may", desc := "(II)Z" } : Jvm.MethodName)) ∈ lw_all := lw_g (lw_at lw_m10 189 rfl) rfl
theorem q2478 : (Jvm.Cond.code ({ cls := "PaidSecretsModel", name := "may", desc := "(II)Z" } : Jvm.MethodName) prog_36_method_101_code (3 : Nat) (Option.some Jvm.ClassFile.FieldType.boolean)) ∈ lw_all := lw_g (lw_at lw_m10 190 rfl) rfl
theorem q2479 : (Jvm.Cond.methodLink "PaidSecretsModel" (540 : Nat) ({ cls := "PaidSecretsModel", name := "isRest", desc := "()Z" } : Jvm.MethodName)) ∈ lw_all := lw_g (lw_at lw_m10 191 rfl) rfl
theorem q2480 : (Jvm.Cond.privateMethod ({ cls := "PaidSecretsModel", name := "isRest", desc := "()Z" } : Jvm.MethodName)) ∈ lw_tbl := lw_at lw_m10 192 rfl
theorem q2481 : (Jvm.Cond.instanceMethod ({ cls := "PaidSecretsModel", name := "isRest", desc := "()Z" } : Jvm.MethodName)) ∈ lw_all := lw_g (lw_at lw_m10 193 rfl) rfl
theorem q2482 : (Jvm.Cond.code ({ cls := "PaidSecretsModel", name := "isRest", desc := "()Z" } : Jvm.MethodName) prog_36_method_102_code (6 : Nat) (Option.some Jvm.ClassFile.FieldType.boolean)) ∈ lw_all := lw_g (lw_at lw_m10 194 rfl) rfl
theorem q2483 : (Jvm.Cond.methodLink "PaidSecretsModel" (534 : Nat) ({ cls := "PaidSecretsModel", name := "hasBy", desc := "(I)I" } : Jvm.MethodName)) ∈ lw_all := lw_g (lw_at lw_m10 195 rfl) rfl
theorem q2484 : (Jvm.Cond.privateMethod ({ cls := "PaidSecretsModel", name := "hasBy", desc := "(I)I" } : Jvm.MethodName)) ∈ lw_tbl := lw_at lw_m10 196 rfl
theorem q2485 : (Jvm.Cond.instanceMethod ({ cls := "PaidSecretsModel", name := "hasBy", desc := "(I)I" } : Jvm.MethodName)) ∈ lw_all := lw_g (lw_at lw_m10 197 rfl) rfl
theorem q2486 : (Jvm.Cond.code ({ cls := "PaidSecretsModel", name := "hasBy", desc := "(I)I" } : Jvm.MethodName) prog_36_method_100_code (4 : Nat) (Option.some Jvm.ClassFile.FieldType.int)) ∈ lw_all := lw_g (lw_at lw_m10 198 rfl) rfl
theorem q2488 : (Jvm.Cond.instanceMethod ({ cls := "PaidSecretsModel", name := "years", desc := "(III)I" } : Jvm.MethodName)) ∈ lw_all := lw_g (lw_at lw_m10 200 rfl) rfl
theorem q2489 : (Jvm.Cond.selects "PaidSecretsModel" ({ cls := "PaidSecretsModel", name := "years", desc := "(III)I" } : Jvm.MethodName) ({ cls := "PaidSecretsModel", name := "years", desc := "(III)I" } : Jvm.MethodName)) ∈ lw_all := lw_g (lw_at lw_m10 201 rfl) rfl
theorem q2490 : (Jvm.Cond.code ({ cls := "PaidSecretsModel", name := "years", desc := "(III)I" } : Jvm.MethodName) prog_36_method_106_code (9 : Nat) (Option.some Jvm.ClassFile.FieldType.int)) ∈ lw_all := lw_g (lw_at lw_m10 202 rfl) rfl
theorem q2491 : (Jvm.Cond.methodLink "PaidSecretsModel" (557 : Nat) ({ cls := "PaidSecretsModel", name := "whispers", desc := "()I" } : Jvm.MethodName)) ∈ lw_all := lw_g (lw_at lw_m10 203 rfl) rfl
theorem q2492 : (Jvm.Cond.privateMethod ({ cls := "PaidSecretsModel", name := "whispers", desc := "()I" } : Jvm.MethodName)) ∈ lw_tbl := lw_at lw_m10 204 rfl
theorem q2493 : (Jvm.Cond.instanceMethod ({ cls := "PaidSecretsModel", name := "whispers", desc := "()I" } : Jvm.MethodName)) ∈ lw_all := lw_g (lw_at lw_m10 205 rfl) rfl
theorem q2494 : (Jvm.Cond.code ({ cls := "PaidSecretsModel", name := "whispers", desc := "()I" } : Jvm.MethodName) prog_36_method_105_code (4 : Nat) (Option.some Jvm.ClassFile.FieldType.int)) ∈ lw_all := lw_g (lw_at lw_m10 206 rfl) rfl
theorem q2495 : (Jvm.Cond.methodLink "PaidSecretsModel" (554 : Nat) ({ cls := "PaidSecretsModel", name := "draws", desc := "(I)I" } : Jvm.MethodName)) ∈ lw_all := lw_g (lw_at lw_m10 207 rfl) rfl
theorem q2496 : (Jvm.Cond.privateMethod ({ cls := "PaidSecretsModel", name := "draws", desc := "(I)I" } : Jvm.MethodName)) ∈ lw_tbl := lw_at lw_m10 208 rfl
theorem q2497 : (Jvm.Cond.instanceMethod ({ cls := "PaidSecretsModel", name := "draws", desc := "(I)I" } : Jvm.MethodName)) ∈ lw_all := lw_g (lw_at lw_m10 209 rfl) rfl
theorem q2498 : (Jvm.Cond.code ({ cls := "PaidSecretsModel", name := "draws", desc := "(I)I" } : Jvm.MethodName) prog_36_method_104_code (2 : Nat) (Option.some Jvm.ClassFile.FieldType.int)) ∈ lw_all := lw_g (lw_at lw_m10 210 rfl) rfl
theorem q2499 : (Jvm.Cond.constantLong "PaidSecretsModel" (546 : Nat) (1103515245 : Int64)) ∈ lw_all := lw_g (lw_at lw_m10 211 rfl) rfl
theorem q2500 : (Jvm.Cond.constantLong "PaidSecretsModel" (548 : Nat) (12345 : Int64)) ∈ lw_all := lw_g (lw_at lw_m10 212 rfl) rfl
theorem q2501 : (Jvm.Cond.constantLong "PaidSecretsModel" (550 : Nat) (2147483648 : Int64)) ∈ lw_all := lw_g (lw_at lw_m10 213 rfl) rfl
theorem q2502 : (Jvm.Cond.constantLong "PaidSecretsModel" (552 : Nat) (65536 : Int64)) ∈ lw_all := lw_g (lw_at lw_m10 214 rfl) rfl
theorem q2504 : (Jvm.Cond.instanceMethod ({ cls := "PaidSecretsModel", name := "mark", desc := "(IZ)Z" } : Jvm.MethodName)) ∈ lw_all := lw_g (lw_at lw_m10 216 rfl) rfl
theorem q2505 : (Jvm.Cond.selects "PaidSecretsModel" ({ cls := "PaidSecretsModel", name := "mark", desc := "(IZ)Z" } : Jvm.MethodName) ({ cls := "PaidSecretsModel", name := "mark", desc := "(IZ)Z" } : Jvm.MethodName)) ∈ lw_all := lw_g (lw_at lw_m10 217 rfl) rfl
theorem q2506 : (Jvm.Cond.code ({ cls := "PaidSecretsModel", name := "mark", desc := "(IZ)Z" } : Jvm.MethodName) prog_36_method_107_code (5 : Nat) (Option.some Jvm.ClassFile.FieldType.boolean)) ∈ lw_all := lw_g (lw_at lw_m10 218 rfl) rfl
theorem q2507 : (Jvm.Cond.methodLink "PaidSecretsModel" (560 : Nat) ({ cls := "PaidSecretsModel", name := "laysSeen", desc := "(II)V" } : Jvm.MethodName)) ∈ lw_all := lw_g (lw_at lw_m10 219 rfl) rfl
theorem q2508 : (Jvm.Cond.privateMethod ({ cls := "PaidSecretsModel", name := "laysSeen", desc := "(II)V" } : Jvm.MethodName)) ∈ lw_tbl := lw_at lw_m10 220 rfl
theorem q2509 : (Jvm.Cond.instanceMethod ({ cls := "PaidSecretsModel", name := "laysSeen", desc := "(II)V" } : Jvm.MethodName)) ∈ lw_all := lw_g (lw_at lw_m10 221 rfl) rfl
theorem q2510 : (Jvm.Cond.code ({ cls := "PaidSecretsModel", name := "laysSeen", desc := "(II)V" } : Jvm.MethodName) prog_36_method_47_code (4 : Nat) (Option.none : Option Jvm.ClassFile.FieldType)) ∈ lw_all := lw_g (lw_at lw_m10 222 rfl) rfl
theorem q2512 : (Jvm.Cond.instanceMethod ({ cls := "PaidSecretsModel", name := "count", desc := "(I)I" } : Jvm.MethodName)) ∈ lw_all := lw_g (lw_at lw_m10 224 rfl) rfl
theorem q2513 : (Jvm.Cond.selects "PaidSecretsModel" ({ cls := "PaidSecretsModel", name := "count", desc := "(I)I" } : Jvm.MethodName) ({ cls := "PaidSecretsModel", name := "count", desc := "(I)I" } : Jvm.MethodName)) ∈ lw_all := lw_g (lw_at lw_m10 225 rfl) rfl
theorem q2514 : (Jvm.Cond.code ({ cls := "PaidSecretsModel", name := "count", desc := "(I)I" } : Jvm.MethodName) prog_36_method_108_code (2 : Nat) (Option.some Jvm.ClassFile.FieldType.int)) ∈ lw_all := lw_g (lw_at lw_m10 226 rfl) rfl
theorem q2543 : (Jvm.Cond.castable "PaidSecretsModel" "java/lang/Object") ∈ lw_tbl := lw_at lw_m11 15 rfl
theorem in_X10 : ∀ w ∈ wsX100, w ∈ lw_all := lw_in wsX100 [1913, 1915, 1917, 1919, 1921, 1923, 1925, 1927, 1929, 1931, 1933, 1935, 1937, 1939, 1941, 1943, 1945, 1947, 1949, 1951, 1953, 1955, 1957, 1959, 1961, 1963, 1965, 1967, 1969, 1971, 1973, 1975, 1977, 1979, 1981, 1983, 1985, 1987, 1989, 1991, 1993, 1995, 1997, 1999, 2001, 2003, 2005, 2007, 2009, 2011, 2013, 2015, 2017, 2019, 2021, 2023, 2025, 2027, 2029, 2031, 2033, 2035, 2037, 2039, 2041, 2043, 2045, 2047, 2049, 2051] (by decide +kernel) (by decide +kernel)

