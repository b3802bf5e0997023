set_option maxRecDepth 100000
abbrev cX4_verdict : ByteArray := prog_17_method_26_code
def yX4_verdict : MethodName := ⟨RX4, "verdict", "(IJ)I"⟩
theorem dX4_verdict_0 : decode cX4_verdict 0 = .ok (.iload_n 1, 1) := by decide +kernel
theorem dX4_verdict_1 : decode cX4_verdict 1 = .ok (.i2l, 1) := by decide +kernel
theorem dX4_verdict_2 : decode cX4_verdict 2 = .ok (.lconst 1, 1) := by decide +kernel
theorem dX4_verdict_3 : decode cX4_verdict 3 = .ok (.ldc2_w 93, 3) := by decide +kernel
theorem dX4_verdict_6 : decode cX4_verdict 6 = .ok (.invokestatic 68, 3) := by decide +kernel
theorem dX4_verdict_9 : decode cX4_verdict 9 = .ok (.ifCond .eq 14, 3) := by decide +kernel
theorem dX4_verdict_12 : decode cX4_verdict 12 = .ok (.lload_n 2, 1) := by decide +kernel
theorem dX4_verdict_13 : decode cX4_verdict 13 = .ok (.lconst 0, 1) := by decide +kernel
theorem dX4_verdict_14 : decode cX4_verdict 14 = .ok (.ldc2_w 97, 3) := by decide +kernel
theorem dX4_verdict_17 : decode cX4_verdict 17 = .ok (.invokestatic 68, 3) := by decide +kernel
theorem dX4_verdict_20 : decode cX4_verdict 20 = .ok (.ifCond .ne 9, 3) := by decide +kernel
theorem dX4_verdict_23 : decode cX4_verdict 23 = .ok (.aload_n 0, 1) := by decide +kernel
theorem dX4_verdict_24 : decode cX4_verdict 24 = .ok (.iconst 1, 1) := by decide +kernel
theorem dX4_verdict_25 : decode cX4_verdict 25 = .ok (.invokevirtual 99, 3) := by decide +kernel
theorem dX4_verdict_28 : decode cX4_verdict 28 = .ok (.ireturn, 1) := by decide +kernel
theorem dX4_verdict_29 : decode cX4_verdict 29 = .ok (.aload_n 0, 1) := by decide +kernel
theorem dX4_verdict_30 : decode cX4_verdict 30 = .ok (.iconst 0, 1) := by decide +kernel
theorem dX4_verdict_31 : decode cX4_verdict 31 = .ok (.putfield 61, 3) := by decide +kernel
theorem dX4_verdict_34 : decode cX4_verdict 34 = .ok (.aload_n 0, 1) := by decide +kernel
theorem dX4_verdict_35 : decode cX4_verdict 35 = .ok (.iload_n 1, 1) := by decide +kernel
theorem dX4_verdict_36 : decode cX4_verdict 36 = .ok (.invokevirtual 149, 3) := by decide +kernel
theorem dX4_verdict_39 : decode cX4_verdict 39 = .ok (.istore 4, 2) := by decide +kernel
theorem dX4_verdict_41 : decode cX4_verdict 41 = .ok (.iload 4, 2) := by decide +kernel
theorem dX4_verdict_43 : decode cX4_verdict 43 = .ok (.ifCond .ge 5, 3) := by decide +kernel
theorem dX4_verdict_46 : decode cX4_verdict 46 = .ok (.iconst 3, 1) := by decide +kernel
theorem dX4_verdict_47 : decode cX4_verdict 47 = .ok (.ireturn, 1) := by decide +kernel
theorem dX4_verdict_48 : decode cX4_verdict 48 = .ok (.aload_n 0, 1) := by decide +kernel
theorem dX4_verdict_49 : decode cX4_verdict 49 = .ok (.getfield 106, 3) := by decide +kernel
theorem dX4_verdict_52 : decode cX4_verdict 52 = .ok (.ifCond .eq 19, 3) := by decide +kernel
theorem dX4_verdict_55 : decode cX4_verdict 55 = .ok (.aload_n 0, 1) := by decide +kernel
theorem dX4_verdict_56 : decode cX4_verdict 56 = .ok (.getfield 106, 3) := by decide +kernel
theorem dX4_verdict_59 : decode cX4_verdict 59 = .ok (.aload_n 0, 1) := by decide +kernel
theorem dX4_verdict_60 : decode cX4_verdict 60 = .ok (.getfield 111, 3) := by decide +kernel
theorem dX4_verdict_63 : decode cX4_verdict 63 = .ok (.iconst (-1), 1) := by decide +kernel
theorem dX4_verdict_64 : decode cX4_verdict 64 = .ok (.ixor, 1) := by decide +kernel
theorem dX4_verdict_65 : decode cX4_verdict 65 = .ok (.iand, 1) := by decide +kernel
theorem dX4_verdict_66 : decode cX4_verdict 66 = .ok (.ifCond .ne 5, 3) := by decide +kernel
theorem dX4_verdict_69 : decode cX4_verdict 69 = .ok (.iconst 2, 1) := by decide +kernel
theorem dX4_verdict_70 : decode cX4_verdict 70 = .ok (.ireturn, 1) := by decide +kernel
theorem dX4_verdict_71 : decode cX4_verdict 71 = .ok (.aload_n 0, 1) := by decide +kernel
theorem dX4_verdict_72 : decode cX4_verdict 72 = .ok (.iload 4, 2) := by decide +kernel
theorem dX4_verdict_74 : decode cX4_verdict 74 = .ok (.iload_n 1, 1) := by decide +kernel
theorem dX4_verdict_75 : decode cX4_verdict 75 = .ok (.lload_n 2, 1) := by decide +kernel
theorem dX4_verdict_76 : decode cX4_verdict 76 = .ok (.invokevirtual 152, 3) := by decide +kernel
theorem dX4_verdict_79 : decode cX4_verdict 79 = .ok (.ifCond .eq 7, 3) := by decide +kernel
theorem dX4_verdict_82 : decode cX4_verdict 82 = .ok (.iconst 1, 1) := by decide +kernel
theorem dX4_verdict_83 : decode cX4_verdict 83 = .ok (.goto 4, 3) := by decide +kernel
theorem dX4_verdict_86 : decode cX4_verdict 86 = .ok (.iconst 0, 1) := by decide +kernel
theorem dX4_verdict_87 : decode cX4_verdict 87 = .ok (.ireturn, 1) := by decide +kernel
abbrev cX4_rowOf : ByteArray := prog_17_method_11_code
def yX4_rowOf : MethodName := ⟨RX4, "rowOf", "(I)I"⟩
theorem dX4_rowOf_0 : decode cX4_rowOf 0 = .ok (.iconst (-1), 1) := by decide +kernel
theorem dX4_rowOf_1 : decode cX4_rowOf 1 = .ok (.istore_n 2, 1) := by decide +kernel
theorem dX4_rowOf_2 : decode cX4_rowOf 2 = .ok (.iconst 1, 1) := by decide +kernel
theorem dX4_rowOf_3 : decode cX4_rowOf 3 = .ok (.istore_n 3, 1) := by decide +kernel
theorem dX4_rowOf_4 : decode cX4_rowOf 4 = .ok (.iconst 0, 1) := by decide +kernel
theorem dX4_rowOf_5 : decode cX4_rowOf 5 = .ok (.istore 4, 2) := by decide +kernel
theorem dX4_rowOf_7 : decode cX4_rowOf 7 = .ok (.iload 4, 2) := by decide +kernel
theorem dX4_rowOf_9 : decode cX4_rowOf 9 = .ok (.aload_n 0, 1) := by decide +kernel
theorem dX4_rowOf_10 : decode cX4_rowOf 10 = .ok (.getfield 86, 3) := by decide +kernel
theorem dX4_rowOf_13 : decode cX4_rowOf 13 = .ok (.if_icmp .ge 44, 3) := by decide +kernel
theorem dX4_rowOf_16 : decode cX4_rowOf 16 = .ok (.aload_n 0, 1) := by decide +kernel
theorem dX4_rowOf_17 : decode cX4_rowOf 17 = .ok (.iload 4, 2) := by decide +kernel
theorem dX4_rowOf_19 : decode cX4_rowOf 19 = .ok (.iload_n 1, 1) := by decide +kernel
theorem dX4_rowOf_20 : decode cX4_rowOf 20 = .ok (.invokevirtual 90, 3) := by decide +kernel
theorem dX4_rowOf_23 : decode cX4_rowOf 23 = .ok (.istore 5, 2) := by decide +kernel
theorem dX4_rowOf_25 : decode cX4_rowOf 25 = .ok (.iload 5, 2) := by decide +kernel
theorem dX4_rowOf_27 : decode cX4_rowOf 27 = .ok (.iload_n 3, 1) := by decide +kernel
theorem dX4_rowOf_28 : decode cX4_rowOf 28 = .ok (.if_icmp .lt 8, 3) := by decide +kernel
theorem dX4_rowOf_31 : decode cX4_rowOf 31 = .ok (.iload 4, 2) := by decide +kernel
theorem dX4_rowOf_33 : decode cX4_rowOf 33 = .ok (.goto 4, 3) := by decide +kernel
theorem dX4_rowOf_36 : decode cX4_rowOf 36 = .ok (.iload_n 2, 1) := by decide +kernel
theorem dX4_rowOf_37 : decode cX4_rowOf 37 = .ok (.istore_n 2, 1) := by decide +kernel
theorem dX4_rowOf_38 : decode cX4_rowOf 38 = .ok (.iload 5, 2) := by decide +kernel
theorem dX4_rowOf_40 : decode cX4_rowOf 40 = .ok (.iload_n 3, 1) := by decide +kernel
theorem dX4_rowOf_41 : decode cX4_rowOf 41 = .ok (.if_icmp .lt 8, 3) := by decide +kernel
theorem dX4_rowOf_44 : decode cX4_rowOf 44 = .ok (.iload 5, 2) := by decide +kernel
theorem dX4_rowOf_46 : decode cX4_rowOf 46 = .ok (.goto 4, 3) := by decide +kernel
theorem dX4_rowOf_49 : decode cX4_rowOf 49 = .ok (.iload_n 3, 1) := by decide +kernel
theorem dX4_rowOf_50 : decode cX4_rowOf 50 = .ok (.istore_n 3, 1) := by decide +kernel
theorem dX4_rowOf_51 : decode cX4_rowOf 51 = .ok (.iinc 4 1, 3) := by decide +kernel
theorem dX4_rowOf_54 : decode cX4_rowOf 54 = .ok (.goto (-47), 3) := by decide +kernel
theorem dX4_rowOf_57 : decode cX4_rowOf 57 = .ok (.iload_n 2, 1) := by decide +kernel
theorem dX4_rowOf_58 : decode cX4_rowOf 58 = .ok (.ireturn, 1) := by decide +kernel
abbrev cX4_begin : ByteArray := prog_17_method_10_code
def yX4_begin : MethodName := ⟨RX4, "begin", "(II)I"⟩
theorem dX4_begin_0 : decode cX4_begin 0 = .ok (.iconst 0, 1) := by decide +kernel
theorem dX4_begin_1 : decode cX4_begin 1 = .ok (.istore_n 3, 1) := by decide +kernel
theorem dX4_begin_2 : decode cX4_begin 2 = .ok (.ldc 89, 2) := by decide +kernel
theorem dX4_begin_4 : decode cX4_begin 4 = .ok (.istore 4, 2) := by decide +kernel
theorem dX4_begin_6 : decode cX4_begin 6 = .ok (.iconst 1, 1) := by decide +kernel
theorem dX4_begin_7 : decode cX4_begin 7 = .ok (.istore 5, 2) := by decide +kernel
theorem dX4_begin_9 : decode cX4_begin 9 = .ok (.aload_n 0, 1) := by decide +kernel
theorem dX4_begin_10 : decode cX4_begin 10 = .ok (.getfield 16, 3) := by decide +kernel
theorem dX4_begin_13 : decode cX4_begin 13 = .ok (.iload_n 1, 1) := by decide +kernel
theorem dX4_begin_14 : decode cX4_begin 14 = .ok (.iaload, 1) := by decide +kernel
theorem dX4_begin_15 : decode cX4_begin 15 = .ok (.istore 6, 2) := by decide +kernel
theorem dX4_begin_17 : decode cX4_begin 17 = .ok (.aload_n 0, 1) := by decide +kernel
theorem dX4_begin_18 : decode cX4_begin 18 = .ok (.getfield 13, 3) := by decide +kernel
theorem dX4_begin_21 : decode cX4_begin 21 = .ok (.iload 6, 2) := by decide +kernel
theorem dX4_begin_23 : decode cX4_begin 23 = .ok (.iaload, 1) := by decide +kernel
theorem dX4_begin_24 : decode cX4_begin 24 = .ok (.bipush 58, 2) := by decide +kernel
theorem dX4_begin_26 : decode cX4_begin 26 = .ok (.if_icmp .eq 51, 3) := by decide +kernel
theorem dX4_begin_29 : decode cX4_begin 29 = .ok (.iload 5, 2) := by decide +kernel
theorem dX4_begin_31 : decode cX4_begin 31 = .ok (.ifCond .eq 27, 3) := by decide +kernel
theorem dX4_begin_34 : decode cX4_begin 34 = .ok (.aload_n 0, 1) := by decide +kernel
theorem dX4_begin_35 : decode cX4_begin 35 = .ok (.getfield 13, 3) := by decide +kernel
theorem dX4_begin_38 : decode cX4_begin 38 = .ok (.iload 6, 2) := by decide +kernel
theorem dX4_begin_40 : decode cX4_begin 40 = .ok (.iaload, 1) := by decide +kernel
theorem dX4_begin_41 : decode cX4_begin 41 = .ok (.bipush 48, 2) := by decide +kernel
theorem dX4_begin_43 : decode cX4_begin 43 = .ok (.isub, 1) := by decide +kernel
theorem dX4_begin_44 : decode cX4_begin 44 = .ok (.iload_n 2, 1) := by decide +kernel
theorem dX4_begin_45 : decode cX4_begin 45 = .ok (.iload 4, 2) := by decide +kernel
theorem dX4_begin_47 : decode cX4_begin 47 = .ok (.idiv, 1) := by decide +kernel
theorem dX4_begin_48 : decode cX4_begin 48 = .ok (.bipush 10, 2) := by decide +kernel
theorem dX4_begin_50 : decode cX4_begin 50 = .ok (.irem, 1) := by decide +kernel
theorem dX4_begin_51 : decode cX4_begin 51 = .ok (.if_icmp .ne 7, 3) := by decide +kernel
theorem dX4_begin_54 : decode cX4_begin 54 = .ok (.iconst 1, 1) := by decide +kernel
theorem dX4_begin_55 : decode cX4_begin 55 = .ok (.goto 4, 3) := by decide +kernel
theorem dX4_begin_58 : decode cX4_begin 58 = .ok (.iconst 0, 1) := by decide +kernel
theorem dX4_begin_59 : decode cX4_begin 59 = .ok (.istore 5, 2) := by decide +kernel
theorem dX4_begin_61 : decode cX4_begin 61 = .ok (.iload 4, 2) := by decide +kernel
theorem dX4_begin_63 : decode cX4_begin 63 = .ok (.bipush 10, 2) := by decide +kernel
theorem dX4_begin_65 : decode cX4_begin 65 = .ok (.idiv, 1) := by decide +kernel
theorem dX4_begin_66 : decode cX4_begin 66 = .ok (.istore 4, 2) := by decide +kernel
theorem dX4_begin_68 : decode cX4_begin 68 = .ok (.iinc 3 1, 3) := by decide +kernel
theorem dX4_begin_71 : decode cX4_begin 71 = .ok (.iinc 6 1, 3) := by decide +kernel
theorem dX4_begin_74 : decode cX4_begin 74 = .ok (.goto (-57), 3) := by decide +kernel
theorem dX4_begin_77 : decode cX4_begin 77 = .ok (.iload 5, 2) := by decide +kernel
theorem dX4_begin_79 : decode cX4_begin 79 = .ok (.ifCond .eq 7, 3) := by decide +kernel
theorem dX4_begin_82 : decode cX4_begin 82 = .ok (.iload_n 3, 1) := by decide +kernel
theorem dX4_begin_83 : decode cX4_begin 83 = .ok (.goto 4, 3) := by decide +kernel
theorem dX4_begin_86 : decode cX4_begin 86 = .ok (.iconst 0, 1) := by decide +kernel
theorem dX4_begin_87 : decode cX4_begin 87 = .ok (.ireturn, 1) := by decide +kernel
abbrev cX4_ruled : ByteArray := prog_17_method_25_code
def yX4_ruled : MethodName := ⟨RX4, "ruled", "(IIJ)Z"⟩
theorem dX4_ruled_0 : decode cX4_ruled 0 = .ok (.iconst 0, 1) := by decide +kernel
theorem dX4_ruled_1 : decode cX4_ruled 1 = .ok (.istore 5, 2) := by decide +kernel
theorem dX4_ruled_3 : decode cX4_ruled 3 = .ok (.aload_n 0, 1) := by decide +kernel
theorem dX4_ruled_4 : decode cX4_ruled 4 = .ok (.getfield 52, 3) := by decide +kernel
theorem dX4_ruled_7 : decode cX4_ruled 7 = .ok (.iconst 0, 1) := by decide +kernel
theorem dX4_ruled_8 : decode cX4_ruled 8 = .ok (.iconst 1, 1) := by decide +kernel
theorem dX4_ruled_9 : decode cX4_ruled 9 = .ok (.bastore, 1) := by decide +kernel
theorem dX4_ruled_10 : decode cX4_ruled 10 = .ok (.aload_n 0, 1) := by decide +kernel
theorem dX4_ruled_11 : decode cX4_ruled 11 = .ok (.getfield 55, 3) := by decide +kernel
theorem dX4_ruled_14 : decode cX4_ruled 14 = .ok (.iconst 0, 1) := by decide +kernel
theorem dX4_ruled_15 : decode cX4_ruled 15 = .ok (.iconst 0, 1) := by decide +kernel
theorem dX4_ruled_16 : decode cX4_ruled 16 = .ok (.bastore, 1) := by decide +kernel
theorem dX4_ruled_17 : decode cX4_ruled 17 = .ok (.aload_n 0, 1) := by decide +kernel
theorem dX4_ruled_18 : decode cX4_ruled 18 = .ok (.getfield 58, 3) := by decide +kernel
theorem dX4_ruled_21 : decode cX4_ruled 21 = .ok (.iconst 0, 1) := by decide +kernel
theorem dX4_ruled_22 : decode cX4_ruled 22 = .ok (.iconst 1, 1) := by decide +kernel
theorem dX4_ruled_23 : decode cX4_ruled 23 = .ok (.bastore, 1) := by decide +kernel
theorem dX4_ruled_24 : decode cX4_ruled 24 = .ok (.aload_n 0, 1) := by decide +kernel
theorem dX4_ruled_25 : decode cX4_ruled 25 = .ok (.iconst 0, 1) := by decide +kernel
theorem dX4_ruled_26 : decode cX4_ruled 26 = .ok (.putfield 142, 3) := by decide +kernel
theorem dX4_ruled_29 : decode cX4_ruled 29 = .ok (.aload_n 0, 1) := by decide +kernel
theorem dX4_ruled_30 : decode cX4_ruled 30 = .ok (.getfield 16, 3) := by decide +kernel
theorem dX4_ruled_33 : decode cX4_ruled 33 = .ok (.iload_n 1, 1) := by decide +kernel
theorem dX4_ruled_34 : decode cX4_ruled 34 = .ok (.iaload, 1) := by decide +kernel
theorem dX4_ruled_35 : decode cX4_ruled 35 = .ok (.istore 6, 2) := by decide +kernel
theorem dX4_ruled_37 : decode cX4_ruled 37 = .ok (.aload_n 0, 1) := by decide +kernel
theorem dX4_ruled_38 : decode cX4_ruled 38 = .ok (.getfield 13, 3) := by decide +kernel
theorem dX4_ruled_41 : decode cX4_ruled 41 = .ok (.iload 6, 2) := by decide +kernel
theorem dX4_ruled_43 : decode cX4_ruled 43 = .ok (.iaload, 1) := by decide +kernel
theorem dX4_ruled_44 : decode cX4_ruled 44 = .ok (.bipush 58, 2) := by decide +kernel
theorem dX4_ruled_46 : decode cX4_ruled 46 = .ok (.if_icmp .eq 9, 3) := by decide +kernel
theorem dX4_ruled_49 : decode cX4_ruled 49 = .ok (.iinc 6 1, 3) := by decide +kernel
theorem dX4_ruled_52 : decode cX4_ruled 52 = .ok (.goto (-15), 3) := by decide +kernel
theorem dX4_ruled_55 : decode cX4_ruled 55 = .ok (.iload 6, 2) := by decide +kernel
theorem dX4_ruled_57 : decode cX4_ruled 57 = .ok (.iconst 1, 1) := by decide +kernel
theorem dX4_ruled_58 : decode cX4_ruled 58 = .ok (.iadd, 1) := by decide +kernel
theorem dX4_ruled_59 : decode cX4_ruled 59 = .ok (.istore 7, 2) := by decide +kernel
theorem dX4_ruled_61 : decode cX4_ruled 61 = .ok (.aload_n 0, 1) := by decide +kernel
theorem dX4_ruled_62 : decode cX4_ruled 62 = .ok (.getfield 13, 3) := by decide +kernel
theorem dX4_ruled_65 : decode cX4_ruled 65 = .ok (.iload 7, 2) := by decide +kernel
theorem dX4_ruled_67 : decode cX4_ruled 67 = .ok (.iaload, 1) := by decide +kernel
theorem dX4_ruled_68 : decode cX4_ruled 68 = .ok (.bipush 59, 2) := by decide +kernel
theorem dX4_ruled_70 : decode cX4_ruled 70 = .ok (.if_icmp .eq 295, 3) := by decide +kernel
theorem dX4_ruled_73 : decode cX4_ruled 73 = .ok (.aload_n 0, 1) := by decide +kernel
theorem dX4_ruled_74 : decode cX4_ruled 74 = .ok (.getfield 13, 3) := by decide +kernel
theorem dX4_ruled_77 : decode cX4_ruled 77 = .ok (.iload 7, 2) := by decide +kernel
theorem dX4_ruled_79 : decode cX4_ruled 79 = .ok (.iaload, 1) := by decide +kernel
theorem dX4_ruled_80 : decode cX4_ruled 80 = .ok (.istore 8, 2) := by decide +kernel
theorem dX4_ruled_82 : decode cX4_ruled 82 = .ok (.aload_n 0, 1) := by decide +kernel
theorem dX4_ruled_83 : decode cX4_ruled 83 = .ok (.getfield 52, 3) := by decide +kernel
theorem dX4_ruled_86 : decode cX4_ruled 86 = .ok (.iload 5, 2) := by decide +kernel
theorem dX4_ruled_88 : decode cX4_ruled 88 = .ok (.baload, 1) := by decide +kernel
theorem dX4_ruled_89 : decode cX4_ruled 89 = .ok (.ifCond .eq 27, 3) := by decide +kernel
theorem dX4_ruled_92 : decode cX4_ruled 92 = .ok (.aload_n 0, 1) := by decide +kernel
theorem dX4_ruled_93 : decode cX4_ruled 93 = .ok (.getfield 55, 3) := by decide +kernel
theorem dX4_ruled_96 : decode cX4_ruled 96 = .ok (.iload 5, 2) := by decide +kernel
theorem dX4_ruled_98 : decode cX4_ruled 98 = .ok (.baload, 1) := by decide +kernel
theorem dX4_ruled_99 : decode cX4_ruled 99 = .ok (.ifCond .ne 17, 3) := by decide +kernel
theorem dX4_ruled_102 : decode cX4_ruled 102 = .ok (.aload_n 0, 1) := by decide +kernel
theorem dX4_ruled_103 : decode cX4_ruled 103 = .ok (.getfield 58, 3) := by decide +kernel
theorem dX4_ruled_106 : decode cX4_ruled 106 = .ok (.iload 5, 2) := by decide +kernel
theorem dX4_ruled_108 : decode cX4_ruled 108 = .ok (.baload, 1) := by decide +kernel
theorem dX4_ruled_109 : decode cX4_ruled 109 = .ok (.ifCond .eq 7, 3) := by decide +kernel
theorem dX4_ruled_112 : decode cX4_ruled 112 = .ok (.iconst 1, 1) := by decide +kernel
theorem dX4_ruled_113 : decode cX4_ruled 113 = .ok (.goto 4, 3) := by decide +kernel
theorem dX4_ruled_116 : decode cX4_ruled 116 = .ok (.iconst 0, 1) := by decide +kernel
theorem dX4_ruled_117 : decode cX4_ruled 117 = .ok (.istore 9, 2) := by decide +kernel
theorem dX4_ruled_119 : decode cX4_ruled 119 = .ok (.iload 8, 2) := by decide +kernel
theorem dX4_ruled_121 : decode cX4_ruled 121 = .ok (.bipush 40, 2) := by decide +kernel
theorem dX4_ruled_123 : decode cX4_ruled 123 = .ok (.if_icmp .ne 34, 3) := by decide +kernel
theorem dX4_ruled_126 : decode cX4_ruled 126 = .ok (.iinc 5 1, 3) := by decide +kernel
theorem dX4_ruled_129 : decode cX4_ruled 129 = .ok (.aload_n 0, 1) := by decide +kernel
theorem dX4_ruled_130 : decode cX4_ruled 130 = .ok (.getfield 52, 3) := by decide +kernel
theorem dX4_ruled_133 : decode cX4_ruled 133 = .ok (.iload 5, 2) := by decide +kernel
theorem dX4_ruled_135 : decode cX4_ruled 135 = .ok (.iload 9, 2) := by decide +kernel
theorem dX4_ruled_137 : decode cX4_ruled 137 = .ok (.bastore, 1) := by decide +kernel
theorem dX4_ruled_138 : decode cX4_ruled 138 = .ok (.aload_n 0, 1) := by decide +kernel
theorem dX4_ruled_139 : decode cX4_ruled 139 = .ok (.getfield 55, 3) := by decide +kernel
theorem dX4_ruled_142 : decode cX4_ruled 142 = .ok (.iload 5, 2) := by decide +kernel
theorem dX4_ruled_144 : decode cX4_ruled 144 = .ok (.iconst 0, 1) := by decide +kernel
theorem dX4_ruled_145 : decode cX4_ruled 145 = .ok (.bastore, 1) := by decide +kernel
theorem dX4_ruled_146 : decode cX4_ruled 146 = .ok (.aload_n 0, 1) := by decide +kernel
theorem dX4_ruled_147 : decode cX4_ruled 147 = .ok (.getfield 58, 3) := by decide +kernel
theorem dX4_ruled_150 : decode cX4_ruled 150 = .ok (.iload 5, 2) := by decide +kernel
theorem dX4_ruled_152 : decode cX4_ruled 152 = .ok (.iconst 1, 1) := by decide +kernel
theorem dX4_ruled_153 : decode cX4_ruled 153 = .ok (.bastore, 1) := by decide +kernel
theorem dX4_ruled_154 : decode cX4_ruled 154 = .ok (.goto 205, 3) := by decide +kernel
theorem dX4_ruled_157 : decode cX4_ruled 157 = .ok (.iload 8, 2) := by decide +kernel
theorem dX4_ruled_159 : decode cX4_ruled 159 = .ok (.bipush 41, 2) := by decide +kernel
theorem dX4_ruled_161 : decode cX4_ruled 161 = .ok (.if_icmp .ne 67, 3) := by decide +kernel
theorem dX4_ruled_164 : decode cX4_ruled 164 = .ok (.iinc 5 (-1), 3) := by decide +kernel
theorem dX4_ruled_167 : decode cX4_ruled 167 = .ok (.aload_n 0, 1) := by decide +kernel
theorem dX4_ruled_168 : decode cX4_ruled 168 = .ok (.getfield 58, 3) := by decide +kernel
theorem dX4_ruled_171 : decode cX4_ruled 171 = .ok (.iload 5, 2) := by decide +kernel
theorem dX4_ruled_173 : decode cX4_ruled 173 = .ok (.aload_n 0, 1) := by decide +kernel
theorem dX4_ruled_174 : decode cX4_ruled 174 = .ok (.getfield 52, 3) := by decide +kernel
theorem dX4_ruled_177 : decode cX4_ruled 177 = .ok (.iload 5, 2) := by decide +kernel
theorem dX4_ruled_179 : decode cX4_ruled 179 = .ok (.iconst 1, 1) := by decide +kernel
theorem dX4_ruled_180 : decode cX4_ruled 180 = .ok (.iadd, 1) := by decide +kernel
theorem dX4_ruled_181 : decode cX4_ruled 181 = .ok (.baload, 1) := by decide +kernel
theorem dX4_ruled_182 : decode cX4_ruled 182 = .ok (.ifCond .eq 35, 3) := by decide +kernel
theorem dX4_ruled_185 : decode cX4_ruled 185 = .ok (.aload_n 0, 1) := by decide +kernel
theorem dX4_ruled_186 : decode cX4_ruled 186 = .ok (.getfield 55, 3) := by decide +kernel
theorem dX4_ruled_189 : decode cX4_ruled 189 = .ok (.iload 5, 2) := by decide +kernel
theorem dX4_ruled_191 : decode cX4_ruled 191 = .ok (.iconst 1, 1) := by decide +kernel
theorem dX4_ruled_192 : decode cX4_ruled 192 = .ok (.iadd, 1) := by decide +kernel
theorem dX4_ruled_193 : decode cX4_ruled 193 = .ok (.baload, 1) := by decide +kernel
theorem dX4_ruled_194 : decode cX4_ruled 194 = .ok (.ifCond .ne 15, 3) := by decide +kernel
theorem dX4_ruled_197 : decode cX4_ruled 197 = .ok (.aload_n 0, 1) := by decide +kernel
theorem dX4_ruled_198 : decode cX4_ruled 198 = .ok (.getfield 58, 3) := by decide +kernel
theorem dX4_ruled_201 : decode cX4_ruled 201 = .ok (.iload 5, 2) := by decide +kernel
theorem dX4_ruled_203 : decode cX4_ruled 203 = .ok (.iconst 1, 1) := by decide +kernel
theorem dX4_ruled_204 : decode cX4_ruled 204 = .ok (.iadd, 1) := by decide +kernel
theorem dX4_ruled_205 : decode cX4_ruled 205 = .ok (.baload, 1) := by decide +kernel
theorem dX4_ruled_206 : decode cX4_ruled 206 = .ok (.ifCond .eq 7, 3) := by decide +kernel
theorem dX4_ruled_209 : decode cX4_ruled 209 = .ok (.iconst 1, 1) := by decide +kernel
theorem dX4_ruled_210 : decode cX4_ruled 210 = .ok (.goto 14, 3) := by decide +kernel
theorem dX4_ruled_213 : decode cX4_ruled 213 = .ok (.iconst 0, 1) := by decide +kernel
theorem dX4_ruled_214 : decode cX4_ruled 214 = .ok (.goto 10, 3) := by decide +kernel
theorem dX4_ruled_217 : decode cX4_ruled 217 = .ok (.aload_n 0, 1) := by decide +kernel
theorem dX4_ruled_218 : decode cX4_ruled 218 = .ok (.getfield 58, 3) := by decide +kernel
theorem dX4_ruled_221 : decode cX4_ruled 221 = .ok (.iload 5, 2) := by decide +kernel
theorem dX4_ruled_223 : decode cX4_ruled 223 = .ok (.baload, 1) := by decide +kernel
theorem dX4_ruled_224 : decode cX4_ruled 224 = .ok (.bastore, 1) := by decide +kernel
theorem dX4_ruled_225 : decode cX4_ruled 225 = .ok (.goto 134, 3) := by decide +kernel
theorem dX4_ruled_228 : decode cX4_ruled 228 = .ok (.iload 8, 2) := by decide +kernel
theorem dX4_ruled_230 : decode cX4_ruled 230 = .ok (.bipush 124, 2) := by decide +kernel
theorem dX4_ruled_232 : decode cX4_ruled 232 = .ok (.if_icmp .ne 46, 3) := by decide +kernel
theorem dX4_ruled_235 : decode cX4_ruled 235 = .ok (.aload_n 0, 1) := by decide +kernel
theorem dX4_ruled_236 : decode cX4_ruled 236 = .ok (.getfield 55, 3) := by decide +kernel
theorem dX4_ruled_239 : decode cX4_ruled 239 = .ok (.iload 5, 2) := by decide +kernel
theorem dX4_ruled_241 : decode cX4_ruled 241 = .ok (.aload_n 0, 1) := by decide +kernel
theorem dX4_ruled_242 : decode cX4_ruled 242 = .ok (.getfield 55, 3) := by decide +kernel
theorem dX4_ruled_245 : decode cX4_ruled 245 = .ok (.iload 5, 2) := by decide +kernel
theorem dX4_ruled_247 : decode cX4_ruled 247 = .ok (.baload, 1) := by decide +kernel
theorem dX4_ruled_248 : decode cX4_ruled 248 = .ok (.ifCond .ne 13, 3) := by decide +kernel
theorem dX4_ruled_251 : decode cX4_ruled 251 = .ok (.aload_n 0, 1) := by decide +kernel
theorem dX4_ruled_252 : decode cX4_ruled 252 = .ok (.getfield 58, 3) := by decide +kernel
theorem dX4_ruled_255 : decode cX4_ruled 255 = .ok (.iload 5, 2) := by decide +kernel
theorem dX4_ruled_257 : decode cX4_ruled 257 = .ok (.baload, 1) := by decide +kernel
theorem dX4_ruled_258 : decode cX4_ruled 258 = .ok (.ifCond .eq 7, 3) := by decide +kernel
theorem dX4_ruled_261 : decode cX4_ruled 261 = .ok (.iconst 1, 1) := by decide +kernel
theorem dX4_ruled_262 : decode cX4_ruled 262 = .ok (.goto 4, 3) := by decide +kernel
theorem dX4_ruled_265 : decode cX4_ruled 265 = .ok (.iconst 0, 1) := by decide +kernel
theorem dX4_ruled_266 : decode cX4_ruled 266 = .ok (.bastore, 1) := by decide +kernel
theorem dX4_ruled_267 : decode cX4_ruled 267 = .ok (.aload_n 0, 1) := by decide +kernel
theorem dX4_ruled_268 : decode cX4_ruled 268 = .ok (.getfield 58, 3) := by decide +kernel
theorem dX4_ruled_271 : decode cX4_ruled 271 = .ok (.iload 5, 2) := by decide +kernel
theorem dX4_ruled_273 : decode cX4_ruled 273 = .ok (.iconst 1, 1) := by decide +kernel
theorem dX4_ruled_274 : decode cX4_ruled 274 = .ok (.bastore, 1) := by decide +kernel
theorem dX4_ruled_275 : decode cX4_ruled 275 = .ok (.goto 84, 3) := by decide +kernel
theorem dX4_ruled_278 : decode cX4_ruled 278 = .ok (.iload 9, 2) := by decide +kernel
theorem dX4_ruled_280 : decode cX4_ruled 280 = .ok (.ifCond .eq 79, 3) := by decide +kernel
theorem dX4_ruled_283 : decode cX4_ruled 283 = .ok (.iload 8, 2) := by decide +kernel
theorem dX4_ruled_285 : decode cX4_ruled 285 = .ok (.bipush 38, 2) := by decide +kernel
theorem dX4_ruled_287 : decode cX4_ruled 287 = .ok (.if_icmp .eq 72, 3) := by decide +kernel
theorem dX4_ruled_290 : decode cX4_ruled 290 = .ok (.iload 8, 2) := by decide +kernel
theorem dX4_ruled_292 : decode cX4_ruled 292 = .ok (.invokestatic 75, 3) := by decide +kernel
theorem dX4_ruled_295 : decode cX4_ruled 295 = .ok (.ifCond .ne 64, 3) := by decide +kernel
theorem dX4_ruled_298 : decode cX4_ruled 298 = .ok (.aload_n 0, 1) := by decide +kernel
theorem dX4_ruled_299 : decode cX4_ruled 299 = .ok (.getfield 58, 3) := by decide +kernel
theorem dX4_ruled_302 : decode cX4_ruled 302 = .ok (.iload 5, 2) := by decide +kernel
theorem dX4_ruled_304 : decode cX4_ruled 304 = .ok (.aload_n 0, 1) := by decide +kernel
theorem dX4_ruled_305 : decode cX4_ruled 305 = .ok (.iload 7, 2) := by decide +kernel
theorem dX4_ruled_307 : decode cX4_ruled 307 = .ok (.iload_n 2, 1) := by decide +kernel
theorem dX4_ruled_308 : decode cX4_ruled 308 = .ok (.lload_n 3, 1) := by decide +kernel
theorem dX4_ruled_309 : decode cX4_ruled 309 = .ok (.invokevirtual 145, 3) := by decide +kernel
theorem dX4_ruled_312 : decode cX4_ruled 312 = .ok (.bastore, 1) := by decide +kernel
theorem dX4_ruled_313 : decode cX4_ruled 313 = .ok (.aload_n 0, 1) := by decide +kernel
theorem dX4_ruled_314 : decode cX4_ruled 314 = .ok (.getfield 49, 3) := by decide +kernel
theorem dX4_ruled_317 : decode cX4_ruled 317 = .ok (.aload_n 0, 1) := by decide +kernel
theorem dX4_ruled_318 : decode cX4_ruled 318 = .ok (.getfield 142, 3) := by decide +kernel
theorem dX4_ruled_321 : decode cX4_ruled 321 = .ok (.iconst 2, 1) := by decide +kernel
theorem dX4_ruled_322 : decode cX4_ruled 322 = .ok (.iload 7, 2) := by decide +kernel
theorem dX4_ruled_324 : decode cX4_ruled 324 = .ok (.aload_n 0, 1) := by decide +kernel
theorem dX4_ruled_325 : decode cX4_ruled 325 = .ok (.getfield 16, 3) := by decide +kernel
theorem dX4_ruled_328 : decode cX4_ruled 328 = .ok (.iload_n 1, 1) := by decide +kernel
theorem dX4_ruled_329 : decode cX4_ruled 329 = .ok (.iaload, 1) := by decide +kernel
theorem dX4_ruled_330 : decode cX4_ruled 330 = .ok (.isub, 1) := by decide +kernel
theorem dX4_ruled_331 : decode cX4_ruled 331 = .ok (.imul, 1) := by decide +kernel
theorem dX4_ruled_332 : decode cX4_ruled 332 = .ok (.aload_n 0, 1) := by decide +kernel
theorem dX4_ruled_333 : decode cX4_ruled 333 = .ok (.getfield 58, 3) := by decide +kernel
theorem dX4_ruled_336 : decode cX4_ruled 336 = .ok (.iload 5, 2) := by decide +kernel
theorem dX4_ruled_338 : decode cX4_ruled 338 = .ok (.baload, 1) := by decide +kernel
theorem dX4_ruled_339 : decode cX4_ruled 339 = .ok (.ifCond .eq 7, 3) := by decide +kernel
theorem dX4_ruled_342 : decode cX4_ruled 342 = .ok (.iconst 1, 1) := by decide +kernel
theorem dX4_ruled_343 : decode cX4_ruled 343 = .ok (.goto 4, 3) := by decide +kernel
theorem dX4_ruled_346 : decode cX4_ruled 346 = .ok (.iconst 0, 1) := by decide +kernel
theorem dX4_ruled_347 : decode cX4_ruled 347 = .ok (.iadd, 1) := by decide +kernel
theorem dX4_ruled_348 : decode cX4_ruled 348 = .ok (.iastore, 1) := by decide +kernel
theorem dX4_ruled_349 : decode cX4_ruled 349 = .ok (.aload_n 0, 1) := by decide +kernel
theorem dX4_ruled_350 : decode cX4_ruled 350 = .ok (.dup, 1) := by decide +kernel
theorem dX4_ruled_351 : decode cX4_ruled 351 = .ok (.getfield 142, 3) := by decide +kernel
theorem dX4_ruled_354 : decode cX4_ruled 354 = .ok (.iconst 1, 1) := by decide +kernel
theorem dX4_ruled_355 : decode cX4_ruled 355 = .ok (.iadd, 1) := by decide +kernel
theorem dX4_ruled_356 : decode cX4_ruled 356 = .ok (.putfield 142, 3) := by decide +kernel
theorem dX4_ruled_359 : decode cX4_ruled 359 = .ok (.iinc 7 1, 3) := by decide +kernel
theorem dX4_ruled_362 : decode cX4_ruled 362 = .ok (.goto (-301), 3) := by decide +kernel
theorem dX4_ruled_365 : decode cX4_ruled 365 = .ok (.aload_n 0, 1) := by decide +kernel
theorem dX4_ruled_366 : decode cX4_ruled 366 = .ok (.getfield 55, 3) := by decide +kernel
theorem dX4_ruled_369 : decode cX4_ruled 369 = .ok (.iconst 0, 1) := by decide +kernel
theorem dX4_ruled_370 : decode cX4_ruled 370 = .ok (.baload, 1) := by decide +kernel
theorem dX4_ruled_371 : decode cX4_ruled 371 = .ok (.ifCond .ne 12, 3) := by decide +kernel
theorem dX4_ruled_374 : decode cX4_ruled 374 = .ok (.aload_n 0, 1) := by decide +kernel
theorem dX4_ruled_375 : decode cX4_ruled 375 = .ok (.getfield 58, 3) := by decide +kernel
theorem dX4_ruled_378 : decode cX4_ruled 378 = .ok (.iconst 0, 1) := by decide +kernel
theorem dX4_ruled_379 : decode cX4_ruled 379 = .ok (.baload, 1) := by decide +kernel
theorem dX4_ruled_380 : decode cX4_ruled 380 = .ok (.ifCond .eq 7, 3) := by decide +kernel
theorem dX4_ruled_383 : decode cX4_ruled 383 = .ok (.iconst 1, 1) := by decide +kernel
theorem dX4_ruled_384 : decode cX4_ruled 384 = .ok (.goto 4, 3) := by decide +kernel
theorem dX4_ruled_387 : decode cX4_ruled 387 = .ok (.iconst 0, 1) := by decide +kernel
theorem dX4_ruled_388 : decode cX4_ruled 388 = .ok (.ireturn, 1) := by decide +kernel
abbrev cX4_holds : ByteArray := prog_17_method_24_code
def yX4_holds : MethodName := ⟨RX4, "holds", "(IIJ)Z"⟩
theorem dX4_holds_0 : decode cX4_holds 0 = .ok (.aload_n 0, 1) := by decide +kernel
theorem dX4_holds_1 : decode cX4_holds 1 = .ok (.getfield 13, 3) := by decide +kernel
theorem dX4_holds_4 : decode cX4_holds 4 = .ok (.iload_n 1, 1) := by decide +kernel
theorem dX4_holds_5 : decode cX4_holds 5 = .ok (.iaload, 1) := by decide +kernel
theorem dX4_holds_6 : decode cX4_holds 6 = .ok (.lookupswitch 122 #[(67, 63), (72, 73), (83, 82), (86, 90), (87, 50)], 50) := by decide +kernel
theorem dX4_holds_56 : decode cX4_holds 56 = .ok (.aload_n 0, 1) := by decide +kernel
theorem dX4_holds_57 : decode cX4_holds 57 = .ok (.getfield 103, 3) := by decide +kernel
theorem dX4_holds_60 : decode cX4_holds 60 = .ok (.ifCond .ne 7, 3) := by decide +kernel
theorem dX4_holds_63 : decode cX4_holds 63 = .ok (.iconst 1, 1) := by decide +kernel
theorem dX4_holds_64 : decode cX4_holds 64 = .ok (.goto 4, 3) := by decide +kernel
theorem dX4_holds_67 : decode cX4_holds 67 = .ok (.iconst 0, 1) := by decide +kernel
theorem dX4_holds_68 : decode cX4_holds 68 = .ok (.ireturn, 1) := by decide +kernel
theorem dX4_holds_69 : decode cX4_holds 69 = .ok (.aload_n 0, 1) := by decide +kernel
theorem dX4_holds_70 : decode cX4_holds 70 = .ok (.iload_n 2, 1) := by decide +kernel
theorem dX4_holds_71 : decode cX4_holds 71 = .ok (.lload_n 3, 1) := by decide +kernel
theorem dX4_holds_72 : decode cX4_holds 72 = .ok (.sipush 10000, 3) := by decide +kernel
theorem dX4_holds_75 : decode cX4_holds 75 = .ok (.invokevirtual 129, 3) := by decide +kernel
theorem dX4_holds_78 : decode cX4_holds 78 = .ok (.ireturn, 1) := by decide +kernel
theorem dX4_holds_79 : decode cX4_holds 79 = .ok (.aload_n 0, 1) := by decide +kernel
theorem dX4_holds_80 : decode cX4_holds 80 = .ok (.iload_n 2, 1) := by decide +kernel
theorem dX4_holds_81 : decode cX4_holds 81 = .ok (.lload_n 3, 1) := by decide +kernel
theorem dX4_holds_82 : decode cX4_holds 82 = .ok (.bipush 100, 2) := by decide +kernel
theorem dX4_holds_84 : decode cX4_holds 84 = .ok (.invokevirtual 129, 3) := by decide +kernel
theorem dX4_holds_87 : decode cX4_holds 87 = .ok (.ireturn, 1) := by decide +kernel
theorem dX4_holds_88 : decode cX4_holds 88 = .ok (.aload_n 0, 1) := by decide +kernel
theorem dX4_holds_89 : decode cX4_holds 89 = .ok (.iload_n 2, 1) := by decide +kernel
theorem dX4_holds_90 : decode cX4_holds 90 = .ok (.lload_n 3, 1) := by decide +kernel
theorem dX4_holds_91 : decode cX4_holds 91 = .ok (.iconst 1, 1) := by decide +kernel
theorem dX4_holds_92 : decode cX4_holds 92 = .ok (.invokevirtual 129, 3) := by decide +kernel
theorem dX4_holds_95 : decode cX4_holds 95 = .ok (.ireturn, 1) := by decide +kernel
theorem dX4_holds_96 : decode cX4_holds 96 = .ok (.lload_n 3, 1) := by decide +kernel
theorem dX4_holds_97 : decode cX4_holds 97 = .ok (.lconst 0, 1) := by decide +kernel
theorem dX4_holds_98 : decode cX4_holds 98 = .ok (.lcmp, 1) := by decide +kernel
theorem dX4_holds_99 : decode cX4_holds 99 = .ok (.ifCond .le 27, 3) := by decide +kernel
theorem dX4_holds_102 : decode cX4_holds 102 = .ok (.ldc2_w 133, 3) := by decide +kernel
theorem dX4_holds_105 : decode cX4_holds 105 = .ok (.aload_n 0, 1) := by decide +kernel
theorem dX4_holds_106 : decode cX4_holds 106 = .ok (.invokevirtual 135, 3) := by decide +kernel
theorem dX4_holds_109 : decode cX4_holds 109 = .ok (.lmul, 1) := by decide +kernel
theorem dX4_holds_110 : decode cX4_holds 110 = .ok (.aload_n 0, 1) := by decide +kernel
theorem dX4_holds_111 : decode cX4_holds 111 = .ok (.iload_n 1, 1) := by decide +kernel
theorem dX4_holds_112 : decode cX4_holds 112 = .ok (.invokevirtual 139, 3) := by decide +kernel
theorem dX4_holds_115 : decode cX4_holds 115 = .ok (.i2l, 1) := by decide +kernel
theorem dX4_holds_116 : decode cX4_holds 116 = .ok (.lload_n 3, 1) := by decide +kernel
theorem dX4_holds_117 : decode cX4_holds 117 = .ok (.lmul, 1) := by decide +kernel
theorem dX4_holds_118 : decode cX4_holds 118 = .ok (.lcmp, 1) := by decide +kernel
theorem dX4_holds_119 : decode cX4_holds 119 = .ok (.ifCond .gt 7, 3) := by decide +kernel
theorem dX4_holds_122 : decode cX4_holds 122 = .ok (.iconst 1, 1) := by decide +kernel
theorem dX4_holds_123 : decode cX4_holds 123 = .ok (.goto 4, 3) := by decide +kernel
theorem dX4_holds_126 : decode cX4_holds 126 = .ok (.iconst 0, 1) := by decide +kernel
theorem dX4_holds_127 : decode cX4_holds 127 = .ok (.ireturn, 1) := by decide +kernel
theorem dX4_holds_128 : decode cX4_holds 128 = .ok (.aload_n 0, 1) := by decide +kernel
theorem dX4_holds_129 : decode cX4_holds 129 = .ok (.getfield 106, 3) := by decide +kernel
theorem dX4_holds_132 : decode cX4_holds 132 = .ok (.aload_n 0, 1) := by decide +kernel
theorem dX4_holds_133 : decode cX4_holds 133 = .ok (.iload_n 1, 1) := by decide +kernel
theorem dX4_holds_134 : decode cX4_holds 134 = .ok (.invokevirtual 139, 3) := by decide +kernel
theorem dX4_holds_137 : decode cX4_holds 137 = .ok (.ishr, 1) := by decide +kernel
theorem dX4_holds_138 : decode cX4_holds 138 = .ok (.iconst 1, 1) := by decide +kernel
theorem dX4_holds_139 : decode cX4_holds 139 = .ok (.iand, 1) := by decide +kernel
theorem dX4_holds_140 : decode cX4_holds 140 = .ok (.iconst 1, 1) := by decide +kernel
theorem dX4_holds_141 : decode cX4_holds 141 = .ok (.if_icmp .ne 7, 3) := by decide +kernel
theorem dX4_holds_144 : decode cX4_holds 144 = .ok (.iconst 1, 1) := by decide +kernel
theorem dX4_holds_145 : decode cX4_holds 145 = .ok (.goto 4, 3) := by decide +kernel
theorem dX4_holds_148 : decode cX4_holds 148 = .ok (.iconst 0, 1) := by decide +kernel
theorem dX4_holds_149 : decode cX4_holds 149 = .ok (.ireturn, 1) := by decide +kernel
abbrev cX4_isOther : ByteArray := prog_17_method_22_code
def yX4_isOther : MethodName := ⟨RX4, "isOther", "(IJI)Z"⟩
theorem dX4_isOther_0 : decode cX4_isOther 0 = .ok (.lconst 0, 1) := by decide +kernel
theorem dX4_isOther_1 : decode cX4_isOther 1 = .ok (.lstore 5, 2) := by decide +kernel
theorem dX4_isOther_3 : decode cX4_isOther 3 = .ok (.iconst 0, 1) := by decide +kernel
theorem dX4_isOther_4 : decode cX4_isOther 4 = .ok (.istore 7, 2) := by decide +kernel
theorem dX4_isOther_6 : decode cX4_isOther 6 = .ok (.iconst 0, 1) := by decide +kernel
theorem dX4_isOther_7 : decode cX4_isOther 7 = .ok (.istore 8, 2) := by decide +kernel
theorem dX4_isOther_9 : decode cX4_isOther 9 = .ok (.iload 8, 2) := by decide +kernel
theorem dX4_isOther_11 : decode cX4_isOther 11 = .ok (.aload_n 0, 1) := by decide +kernel
theorem dX4_isOther_12 : decode cX4_isOther 12 = .ok (.getfield 103, 3) := by decide +kernel
theorem dX4_isOther_15 : decode cX4_isOther 15 = .ok (.if_icmp .ge 85, 3) := by decide +kernel
theorem dX4_isOther_18 : decode cX4_isOther 18 = .ok (.aload_n 0, 1) := by decide +kernel
theorem dX4_isOther_19 : decode cX4_isOther 19 = .ok (.aload_n 0, 1) := by decide +kernel
theorem dX4_isOther_20 : decode cX4_isOther 20 = .ok (.getfield 25, 3) := by decide +kernel
theorem dX4_isOther_23 : decode cX4_isOther 23 = .ok (.iload 8, 2) := by decide +kernel
theorem dX4_isOther_25 : decode cX4_isOther 25 = .ok (.iaload, 1) := by decide +kernel
theorem dX4_isOther_26 : decode cX4_isOther 26 = .ok (.invokevirtual 126, 3) := by decide +kernel
theorem dX4_isOther_29 : decode cX4_isOther 29 = .ok (.ifCond .ne 24, 3) := by decide +kernel
theorem dX4_isOther_32 : decode cX4_isOther 32 = .ok (.aload_n 0, 1) := by decide +kernel
theorem dX4_isOther_33 : decode cX4_isOther 33 = .ok (.getfield 22, 3) := by decide +kernel
theorem dX4_isOther_36 : decode cX4_isOther 36 = .ok (.iload 8, 2) := by decide +kernel
theorem dX4_isOther_38 : decode cX4_isOther 38 = .ok (.iaload, 1) := by decide +kernel
theorem dX4_isOther_39 : decode cX4_isOther 39 = .ok (.iload 4, 2) := by decide +kernel
theorem dX4_isOther_41 : decode cX4_isOther 41 = .ok (.idiv, 1) := by decide +kernel
theorem dX4_isOther_42 : decode cX4_isOther 42 = .ok (.iload_n 1, 1) := by decide +kernel
theorem dX4_isOther_43 : decode cX4_isOther 43 = .ok (.iload 4, 2) := by decide +kernel
theorem dX4_isOther_45 : decode cX4_isOther 45 = .ok (.idiv, 1) := by decide +kernel
theorem dX4_isOther_46 : decode cX4_isOther 46 = .ok (.if_icmp .ne 7, 3) := by decide +kernel
theorem dX4_isOther_49 : decode cX4_isOther 49 = .ok (.iconst 1, 1) := by decide +kernel
theorem dX4_isOther_50 : decode cX4_isOther 50 = .ok (.goto 4, 3) := by decide +kernel
theorem dX4_isOther_53 : decode cX4_isOther 53 = .ok (.iconst 0, 1) := by decide +kernel
theorem dX4_isOther_54 : decode cX4_isOther 54 = .ok (.istore 9, 2) := by decide +kernel
theorem dX4_isOther_56 : decode cX4_isOther 56 = .ok (.lload 5, 2) := by decide +kernel
theorem dX4_isOther_58 : decode cX4_isOther 58 = .ok (.iload 9, 2) := by decide +kernel
theorem dX4_isOther_60 : decode cX4_isOther 60 = .ok (.ifCond .eq 13, 3) := by decide +kernel
theorem dX4_isOther_63 : decode cX4_isOther 63 = .ok (.aload_n 0, 1) := by decide +kernel
theorem dX4_isOther_64 : decode cX4_isOther 64 = .ok (.getfield 28, 3) := by decide +kernel
theorem dX4_isOther_67 : decode cX4_isOther 67 = .ok (.iload 8, 2) := by decide +kernel
theorem dX4_isOther_69 : decode cX4_isOther 69 = .ok (.laload, 1) := by decide +kernel
theorem dX4_isOther_70 : decode cX4_isOther 70 = .ok (.goto 4, 3) := by decide +kernel
theorem dX4_isOther_73 : decode cX4_isOther 73 = .ok (.lconst 0, 1) := by decide +kernel
theorem dX4_isOther_74 : decode cX4_isOther 74 = .ok (.ladd, 1) := by decide +kernel
theorem dX4_isOther_75 : decode cX4_isOther 75 = .ok (.lstore 5, 2) := by decide +kernel
theorem dX4_isOther_77 : decode cX4_isOther 77 = .ok (.iload 7, 2) := by decide +kernel
theorem dX4_isOther_79 : decode cX4_isOther 79 = .ok (.ifCond .ne 8, 3) := by decide +kernel
theorem dX4_isOther_82 : decode cX4_isOther 82 = .ok (.iload 9, 2) := by decide +kernel
theorem dX4_isOther_84 : decode cX4_isOther 84 = .ok (.ifCond .eq 7, 3) := by decide +kernel
theorem dX4_isOther_87 : decode cX4_isOther 87 = .ok (.iconst 1, 1) := by decide +kernel
theorem dX4_isOther_88 : decode cX4_isOther 88 = .ok (.goto 4, 3) := by decide +kernel
theorem dX4_isOther_91 : decode cX4_isOther 91 = .ok (.iconst 0, 1) := by decide +kernel
theorem dX4_isOther_92 : decode cX4_isOther 92 = .ok (.istore 7, 2) := by decide +kernel
theorem dX4_isOther_94 : decode cX4_isOther 94 = .ok (.iinc 8 1, 3) := by decide +kernel
theorem dX4_isOther_97 : decode cX4_isOther 97 = .ok (.goto (-88), 3) := by decide +kernel
theorem dX4_isOther_100 : decode cX4_isOther 100 = .ok (.iload 7, 2) := by decide +kernel
theorem dX4_isOther_102 : decode cX4_isOther 102 = .ok (.ifCond .eq 22, 3) := by decide +kernel
theorem dX4_isOther_105 : decode cX4_isOther 105 = .ok (.lload 5, 2) := by decide +kernel
theorem dX4_isOther_107 : decode cX4_isOther 107 = .ok (.aload_n 0, 1) := by decide +kernel
theorem dX4_isOther_108 : decode cX4_isOther 108 = .ok (.getfield 36, 3) := by decide +kernel
theorem dX4_isOther_111 : decode cX4_isOther 111 = .ok (.i2l, 1) := by decide +kernel
theorem dX4_isOther_112 : decode cX4_isOther 112 = .ok (.lmul, 1) := by decide +kernel
theorem dX4_isOther_113 : decode cX4_isOther 113 = .ok (.lload_n 2, 1) := by decide +kernel
theorem dX4_isOther_114 : decode cX4_isOther 114 = .ok (.aload_n 0, 1) := by decide +kernel
theorem dX4_isOther_115 : decode cX4_isOther 115 = .ok (.getfield 123, 3) := by decide +kernel
theorem dX4_isOther_118 : decode cX4_isOther 118 = .ok (.i2l, 1) := by decide +kernel
theorem dX4_isOther_119 : decode cX4_isOther 119 = .ok (.lmul, 1) := by decide +kernel
theorem dX4_isOther_120 : decode cX4_isOther 120 = .ok (.lcmp, 1) := by decide +kernel
theorem dX4_isOther_121 : decode cX4_isOther 121 = .ok (.ifCond .gt 7, 3) := by decide +kernel
theorem dX4_isOther_124 : decode cX4_isOther 124 = .ok (.iconst 1, 1) := by decide +kernel
theorem dX4_isOther_125 : decode cX4_isOther 125 = .ok (.goto 4, 3) := by decide +kernel
theorem dX4_isOther_128 : decode cX4_isOther 128 = .ok (.iconst 0, 1) := by decide +kernel
theorem dX4_isOther_129 : decode cX4_isOther 129 = .ok (.ireturn, 1) := by decide +kernel
abbrev cX4_foreign : ByteArray := prog_17_method_21_code
def yX4_foreign : MethodName := ⟨RX4, "foreign", "()J"⟩
theorem dX4_foreign_0 : decode cX4_foreign 0 = .ok (.lconst 0, 1) := by decide +kernel
theorem dX4_foreign_1 : decode cX4_foreign 1 = .ok (.lstore_n 1, 1) := by decide +kernel
theorem dX4_foreign_2 : decode cX4_foreign 2 = .ok (.iconst 0, 1) := by decide +kernel
theorem dX4_foreign_3 : decode cX4_foreign 3 = .ok (.istore_n 3, 1) := by decide +kernel
theorem dX4_foreign_4 : decode cX4_foreign 4 = .ok (.iload_n 3, 1) := by decide +kernel
theorem dX4_foreign_5 : decode cX4_foreign 5 = .ok (.aload_n 0, 1) := by decide +kernel
theorem dX4_foreign_6 : decode cX4_foreign 6 = .ok (.getfield 103, 3) := by decide +kernel
theorem dX4_foreign_9 : decode cX4_foreign 9 = .ok (.if_icmp .ge 35, 3) := by decide +kernel
theorem dX4_foreign_12 : decode cX4_foreign 12 = .ok (.lload_n 1, 1) := by decide +kernel
theorem dX4_foreign_13 : decode cX4_foreign 13 = .ok (.aload_n 0, 1) := by decide +kernel
theorem dX4_foreign_14 : decode cX4_foreign 14 = .ok (.aload_n 0, 1) := by decide +kernel
theorem dX4_foreign_15 : decode cX4_foreign 15 = .ok (.getfield 25, 3) := by decide +kernel
theorem dX4_foreign_18 : decode cX4_foreign 18 = .ok (.iload_n 3, 1) := by decide +kernel
theorem dX4_foreign_19 : decode cX4_foreign 19 = .ok (.iaload, 1) := by decide +kernel
theorem dX4_foreign_20 : decode cX4_foreign 20 = .ok (.invokevirtual 126, 3) := by decide +kernel
theorem dX4_foreign_23 : decode cX4_foreign 23 = .ok (.ifCond .eq 7, 3) := by decide +kernel
theorem dX4_foreign_26 : decode cX4_foreign 26 = .ok (.lconst 0, 1) := by decide +kernel
theorem dX4_foreign_27 : decode cX4_foreign 27 = .ok (.goto 9, 3) := by decide +kernel
theorem dX4_foreign_30 : decode cX4_foreign 30 = .ok (.aload_n 0, 1) := by decide +kernel
theorem dX4_foreign_31 : decode cX4_foreign 31 = .ok (.getfield 28, 3) := by decide +kernel
theorem dX4_foreign_34 : decode cX4_foreign 34 = .ok (.iload_n 3, 1) := by decide +kernel
theorem dX4_foreign_35 : decode cX4_foreign 35 = .ok (.laload, 1) := by decide +kernel
theorem dX4_foreign_36 : decode cX4_foreign 36 = .ok (.ladd, 1) := by decide +kernel
theorem dX4_foreign_37 : decode cX4_foreign 37 = .ok (.lstore_n 1, 1) := by decide +kernel
theorem dX4_foreign_38 : decode cX4_foreign 38 = .ok (.iinc 3 1, 3) := by decide +kernel
theorem dX4_foreign_41 : decode cX4_foreign 41 = .ok (.goto (-37), 3) := by decide +kernel
theorem dX4_foreign_44 : decode cX4_foreign 44 = .ok (.lload_n 1, 1) := by decide +kernel
theorem dX4_foreign_45 : decode cX4_foreign 45 = .ok (.lreturn, 1) := by decide +kernel
abbrev cX4_numberAt : ByteArray := prog_17_method_23_code
def yX4_numberAt : MethodName := ⟨RX4, "numberAt", "(I)I"⟩
theorem dX4_numberAt_0 : decode cX4_numberAt 0 = .ok (.iconst 0, 1) := by decide +kernel
theorem dX4_numberAt_1 : decode cX4_numberAt 1 = .ok (.istore_n 2, 1) := by decide +kernel
theorem dX4_numberAt_2 : decode cX4_numberAt 2 = .ok (.iload_n 1, 1) := by decide +kernel
theorem dX4_numberAt_3 : decode cX4_numberAt 3 = .ok (.iconst 1, 1) := by decide +kernel
theorem dX4_numberAt_4 : decode cX4_numberAt 4 = .ok (.iadd, 1) := by decide +kernel
theorem dX4_numberAt_5 : decode cX4_numberAt 5 = .ok (.istore_n 3, 1) := by decide +kernel
theorem dX4_numberAt_6 : decode cX4_numberAt 6 = .ok (.aload_n 0, 1) := by decide +kernel
theorem dX4_numberAt_7 : decode cX4_numberAt 7 = .ok (.getfield 13, 3) := by decide +kernel
theorem dX4_numberAt_10 : decode cX4_numberAt 10 = .ok (.iload_n 3, 1) := by decide +kernel
theorem dX4_numberAt_11 : decode cX4_numberAt 11 = .ok (.iaload, 1) := by decide +kernel
theorem dX4_numberAt_12 : decode cX4_numberAt 12 = .ok (.invokestatic 75, 3) := by decide +kernel
theorem dX4_numberAt_15 : decode cX4_numberAt 15 = .ok (.ifCond .eq 24, 3) := by decide +kernel
theorem dX4_numberAt_18 : decode cX4_numberAt 18 = .ok (.bipush 10, 2) := by decide +kernel
theorem dX4_numberAt_20 : decode cX4_numberAt 20 = .ok (.iload_n 2, 1) := by decide +kernel
theorem dX4_numberAt_21 : decode cX4_numberAt 21 = .ok (.imul, 1) := by decide +kernel
theorem dX4_numberAt_22 : decode cX4_numberAt 22 = .ok (.aload_n 0, 1) := by decide +kernel
theorem dX4_numberAt_23 : decode cX4_numberAt 23 = .ok (.getfield 13, 3) := by decide +kernel
theorem dX4_numberAt_26 : decode cX4_numberAt 26 = .ok (.iload_n 3, 1) := by decide +kernel
theorem dX4_numberAt_27 : decode cX4_numberAt 27 = .ok (.iaload, 1) := by decide +kernel
theorem dX4_numberAt_28 : decode cX4_numberAt 28 = .ok (.iadd, 1) := by decide +kernel
theorem dX4_numberAt_29 : decode cX4_numberAt 29 = .ok (.bipush 48, 2) := by decide +kernel
theorem dX4_numberAt_31 : decode cX4_numberAt 31 = .ok (.isub, 1) := by decide +kernel
theorem dX4_numberAt_32 : decode cX4_numberAt 32 = .ok (.istore_n 2, 1) := by decide +kernel
theorem dX4_numberAt_33 : decode cX4_numberAt 33 = .ok (.iinc 3 1, 3) := by decide +kernel
theorem dX4_numberAt_36 : decode cX4_numberAt 36 = .ok (.goto (-30), 3) := by decide +kernel
theorem dX4_numberAt_39 : decode cX4_numberAt 39 = .ok (.iload_n 2, 1) := by decide +kernel
theorem dX4_numberAt_40 : decode cX4_numberAt 40 = .ok (.ireturn, 1) := by decide +kernel
abbrev cX4_why : ByteArray := prog_17_method_27_code
def yX4_why : MethodName := ⟨RX4, "why", "(I)I"⟩
theorem dX4_why_0 : decode cX4_why 0 = .ok (.aload_n 0, 1) := by decide +kernel
theorem dX4_why_1 : decode cX4_why 1 = .ok (.iconst 0, 1) := by decide +kernel
theorem dX4_why_2 : decode cX4_why 2 = .ok (.putfield 61, 3) := by decide +kernel
theorem dX4_why_5 : decode cX4_why 5 = .ok (.iload_n 1, 1) := by decide +kernel
theorem dX4_why_6 : decode cX4_why 6 = .ok (.ifCond .lt 20, 3) := by decide +kernel
theorem dX4_why_9 : decode cX4_why 9 = .ok (.iload_n 1, 1) := by decide +kernel
theorem dX4_why_10 : decode cX4_why 10 = .ok (.aload_n 0, 1) := by decide +kernel
theorem dX4_why_11 : decode cX4_why 11 = .ok (.getfield 142, 3) := by decide +kernel
theorem dX4_why_14 : decode cX4_why 14 = .ok (.if_icmp .ge 12, 3) := by decide +kernel
theorem dX4_why_17 : decode cX4_why 17 = .ok (.aload_n 0, 1) := by decide +kernel
theorem dX4_why_18 : decode cX4_why 18 = .ok (.getfield 49, 3) := by decide +kernel
theorem dX4_why_21 : decode cX4_why 21 = .ok (.iload_n 1, 1) := by decide +kernel
theorem dX4_why_22 : decode cX4_why 22 = .ok (.iaload, 1) := by decide +kernel
theorem dX4_why_23 : decode cX4_why 23 = .ok (.goto 4, 3) := by decide +kernel
theorem dX4_why_26 : decode cX4_why 26 = .ok (.iconst (-1), 1) := by decide +kernel
theorem dX4_why_27 : decode cX4_why 27 = .ok (.ireturn, 1) := by decide +kernel
abbrev cX4_share : ByteArray := prog_17_method_28_code
def yX4_share : MethodName := ⟨RX4, "share", "(JI)J"⟩
theorem dX4_share_0 : decode cX4_share 0 = .ok (.lload_n 1, 1) := by decide +kernel
theorem dX4_share_1 : decode cX4_share 1 = .ok (.lconst 0, 1) := by decide +kernel
theorem dX4_share_2 : decode cX4_share 2 = .ok (.ldc2_w 97, 3) := by decide +kernel
theorem dX4_share_5 : decode cX4_share 5 = .ok (.invokestatic 68, 3) := by decide +kernel
theorem dX4_share_8 : decode cX4_share 8 = .ok (.ifCond .eq 13, 3) := by decide +kernel
theorem dX4_share_11 : decode cX4_share 11 = .ok (.iload_n 3, 1) := by decide +kernel
theorem dX4_share_12 : decode cX4_share 12 = .ok (.i2l, 1) := by decide +kernel
theorem dX4_share_13 : decode cX4_share 13 = .ok (.lconst 0, 1) := by decide +kernel
theorem dX4_share_14 : decode cX4_share 14 = .ok (.lconst 1, 1) := by decide +kernel
theorem dX4_share_15 : decode cX4_share 15 = .ok (.invokestatic 68, 3) := by decide +kernel
theorem dX4_share_18 : decode cX4_share 18 = .ok (.ifCond .ne 10, 3) := by decide +kernel
theorem dX4_share_21 : decode cX4_share 21 = .ok (.aload_n 0, 1) := by decide +kernel
theorem dX4_share_22 : decode cX4_share 22 = .ok (.iconst 1, 1) := by decide +kernel
theorem dX4_share_23 : decode cX4_share 23 = .ok (.invokevirtual 99, 3) := by decide +kernel
theorem dX4_share_26 : decode cX4_share 26 = .ok (.i2l, 1) := by decide +kernel
theorem dX4_share_27 : decode cX4_share 27 = .ok (.lreturn, 1) := by decide +kernel
theorem dX4_share_28 : decode cX4_share 28 = .ok (.lload_n 1, 1) := by decide +kernel
theorem dX4_share_29 : decode cX4_share 29 = .ok (.lconst 0, 1) := by decide +kernel
theorem dX4_share_30 : decode cX4_share 30 = .ok (.lcmp, 1) := by decide +kernel
theorem dX4_share_31 : decode cX4_share 31 = .ok (.ifCond .ne 10, 3) := by decide +kernel
theorem dX4_share_34 : decode cX4_share 34 = .ok (.aload_n 0, 1) := by decide +kernel
theorem dX4_share_35 : decode cX4_share 35 = .ok (.iconst 2, 1) := by decide +kernel
theorem dX4_share_36 : decode cX4_share 36 = .ok (.invokevirtual 99, 3) := by decide +kernel
theorem dX4_share_39 : decode cX4_share 39 = .ok (.i2l, 1) := by decide +kernel
theorem dX4_share_40 : decode cX4_share 40 = .ok (.lreturn, 1) := by decide +kernel
theorem dX4_share_41 : decode cX4_share 41 = .ok (.aload_n 0, 1) := by decide +kernel
theorem dX4_share_42 : decode cX4_share 42 = .ok (.iconst 0, 1) := by decide +kernel
theorem dX4_share_43 : decode cX4_share 43 = .ok (.putfield 61, 3) := by decide +kernel
theorem dX4_share_46 : decode cX4_share 46 = .ok (.aload_n 0, 1) := by decide +kernel
theorem dX4_share_47 : decode cX4_share 47 = .ok (.invokevirtual 135, 3) := by decide +kernel
theorem dX4_share_50 : decode cX4_share 50 = .ok (.lstore 4, 2) := by decide +kernel
theorem dX4_share_52 : decode cX4_share 52 = .ok (.lload 4, 2) := by decide +kernel
theorem dX4_share_54 : decode cX4_share 54 = .ok (.lstore 6, 2) := by decide +kernel
theorem dX4_share_56 : decode cX4_share 56 = .ok (.lload_n 1, 1) := by decide +kernel
theorem dX4_share_57 : decode cX4_share 57 = .ok (.lstore 8, 2) := by decide +kernel
theorem dX4_share_59 : decode cX4_share 59 = .ok (.lload 8, 2) := by decide +kernel
theorem dX4_share_61 : decode cX4_share 61 = .ok (.lconst 0, 1) := by decide +kernel
theorem dX4_share_62 : decode cX4_share 62 = .ok (.lcmp, 1) := by decide +kernel
theorem dX4_share_63 : decode cX4_share 63 = .ok (.ifCond .le 21, 3) := by decide +kernel
theorem dX4_share_66 : decode cX4_share 66 = .ok (.lload 6, 2) := by decide +kernel
theorem dX4_share_68 : decode cX4_share 68 = .ok (.lload 8, 2) := by decide +kernel
theorem dX4_share_70 : decode cX4_share 70 = .ok (.lrem, 1) := by decide +kernel
theorem dX4_share_71 : decode cX4_share 71 = .ok (.lstore 10, 2) := by decide +kernel
theorem dX4_share_73 : decode cX4_share 73 = .ok (.lload 8, 2) := by decide +kernel
theorem dX4_share_75 : decode cX4_share 75 = .ok (.lstore 6, 2) := by decide +kernel
theorem dX4_share_77 : decode cX4_share 77 = .ok (.lload 10, 2) := by decide +kernel
theorem dX4_share_79 : decode cX4_share 79 = .ok (.lstore 8, 2) := by decide +kernel
theorem dX4_share_81 : decode cX4_share 81 = .ok (.goto (-22), 3) := by decide +kernel
theorem dX4_share_84 : decode cX4_share 84 = .ok (.iload_n 3, 1) := by decide +kernel
theorem dX4_share_85 : decode cX4_share 85 = .ok (.ifCond .ne 11, 3) := by decide +kernel
theorem dX4_share_88 : decode cX4_share 88 = .ok (.lload 4, 2) := by decide +kernel
theorem dX4_share_90 : decode cX4_share 90 = .ok (.lload 6, 2) := by decide +kernel
theorem dX4_share_92 : decode cX4_share 92 = .ok (.ldiv, 1) := by decide +kernel
theorem dX4_share_93 : decode cX4_share 93 = .ok (.goto 7, 3) := by decide +kernel
theorem dX4_share_96 : decode cX4_share 96 = .ok (.lload_n 1, 1) := by decide +kernel
theorem dX4_share_97 : decode cX4_share 97 = .ok (.lload 6, 2) := by decide +kernel
theorem dX4_share_99 : decode cX4_share 99 = .ok (.ldiv, 1) := by decide +kernel
theorem dX4_share_100 : decode cX4_share 100 = .ok (.lreturn, 1) := by decide +kernel
abbrev cX4_proof : ByteArray := prog_17_method_30_code
def yX4_proof : MethodName := ⟨RX4, "proof", "(III)I"⟩
theorem dX4_proof_0 : decode cX4_proof 0 = .ok (.iload_n 1, 1) := by decide +kernel
theorem dX4_proof_1 : decode cX4_proof 1 = .ok (.i2l, 1) := by decide +kernel
theorem dX4_proof_2 : decode cX4_proof 2 = .ok (.lconst 0, 1) := by decide +kernel
theorem dX4_proof_3 : decode cX4_proof 3 = .ok (.lconst 1, 1) := by decide +kernel
theorem dX4_proof_4 : decode cX4_proof 4 = .ok (.invokestatic 68, 3) := by decide +kernel
theorem dX4_proof_7 : decode cX4_proof 7 = .ok (.ifCond .eq 22, 3) := by decide +kernel
theorem dX4_proof_10 : decode cX4_proof 10 = .ok (.iload_n 2, 1) := by decide +kernel
theorem dX4_proof_11 : decode cX4_proof 11 = .ok (.invokestatic 157, 3) := by decide +kernel
theorem dX4_proof_14 : decode cX4_proof 14 = .ok (.ifCond .eq 15, 3) := by decide +kernel
theorem dX4_proof_17 : decode cX4_proof 17 = .ok (.iload_n 3, 1) := by decide +kernel
theorem dX4_proof_18 : decode cX4_proof 18 = .ok (.invokestatic 157, 3) := by decide +kernel
theorem dX4_proof_21 : decode cX4_proof 21 = .ok (.ifCond .eq 8, 3) := by decide +kernel
theorem dX4_proof_24 : decode cX4_proof 24 = .ok (.iload_n 2, 1) := by decide +kernel
theorem dX4_proof_25 : decode cX4_proof 25 = .ok (.iload_n 3, 1) := by decide +kernel
theorem dX4_proof_26 : decode cX4_proof 26 = .ok (.if_icmp .le 9, 3) := by decide +kernel
theorem dX4_proof_29 : decode cX4_proof 29 = .ok (.aload_n 0, 1) := by decide +kernel
theorem dX4_proof_30 : decode cX4_proof 30 = .ok (.iconst 1, 1) := by decide +kernel
theorem dX4_proof_31 : decode cX4_proof 31 = .ok (.invokevirtual 99, 3) := by decide +kernel
theorem dX4_proof_34 : decode cX4_proof 34 = .ok (.ireturn, 1) := by decide +kernel
theorem dX4_proof_35 : decode cX4_proof 35 = .ok (.aload_n 0, 1) := by decide +kernel
theorem dX4_proof_36 : decode cX4_proof 36 = .ok (.getfield 160, 3) := by decide +kernel
theorem dX4_proof_39 : decode cX4_proof 39 = .ok (.bipush 20, 2) := by decide +kernel
theorem dX4_proof_41 : decode cX4_proof 41 = .ok (.if_icmp .ne 9, 3) := by decide +kernel
theorem dX4_proof_44 : decode cX4_proof 44 = .ok (.aload_n 0, 1) := by decide +kernel
theorem dX4_proof_45 : decode cX4_proof 45 = .ok (.iconst 2, 1) := by decide +kernel
theorem dX4_proof_46 : decode cX4_proof 46 = .ok (.invokevirtual 99, 3) := by decide +kernel
theorem dX4_proof_49 : decode cX4_proof 49 = .ok (.ireturn, 1) := by decide +kernel
theorem dX4_proof_50 : decode cX4_proof 50 = .ok (.aload_n 0, 1) := by decide +kernel
theorem dX4_proof_51 : decode cX4_proof 51 = .ok (.iconst 0, 1) := by decide +kernel
theorem dX4_proof_52 : decode cX4_proof 52 = .ok (.putfield 61, 3) := by decide +kernel
theorem dX4_proof_55 : decode cX4_proof 55 = .ok (.aload_n 0, 1) := by decide +kernel
theorem dX4_proof_56 : decode cX4_proof 56 = .ok (.getfield 40, 3) := by decide +kernel
theorem dX4_proof_59 : decode cX4_proof 59 = .ok (.aload_n 0, 1) := by decide +kernel
theorem dX4_proof_60 : decode cX4_proof 60 = .ok (.getfield 160, 3) := by decide +kernel
theorem dX4_proof_63 : decode cX4_proof 63 = .ok (.iload_n 1, 1) := by decide +kernel
theorem dX4_proof_64 : decode cX4_proof 64 = .ok (.iastore, 1) := by decide +kernel
theorem dX4_proof_65 : decode cX4_proof 65 = .ok (.aload_n 0, 1) := by decide +kernel
theorem dX4_proof_66 : decode cX4_proof 66 = .ok (.getfield 43, 3) := by decide +kernel
theorem dX4_proof_69 : decode cX4_proof 69 = .ok (.aload_n 0, 1) := by decide +kernel
theorem dX4_proof_70 : decode cX4_proof 70 = .ok (.getfield 160, 3) := by decide +kernel
theorem dX4_proof_73 : decode cX4_proof 73 = .ok (.iload_n 2, 1) := by decide +kernel
theorem dX4_proof_74 : decode cX4_proof 74 = .ok (.iastore, 1) := by decide +kernel
theorem dX4_proof_75 : decode cX4_proof 75 = .ok (.aload_n 0, 1) := by decide +kernel
theorem dX4_proof_76 : decode cX4_proof 76 = .ok (.getfield 46, 3) := by decide +kernel
theorem dX4_proof_79 : decode cX4_proof 79 = .ok (.aload_n 0, 1) := by decide +kernel
theorem dX4_proof_80 : decode cX4_proof 80 = .ok (.getfield 160, 3) := by decide +kernel
theorem dX4_proof_83 : decode cX4_proof 83 = .ok (.iload_n 3, 1) := by decide +kernel
theorem dX4_proof_84 : decode cX4_proof 84 = .ok (.iastore, 1) := by decide +kernel
theorem dX4_proof_85 : decode cX4_proof 85 = .ok (.aload_n 0, 1) := by decide +kernel
theorem dX4_proof_86 : decode cX4_proof 86 = .ok (.dup, 1) := by decide +kernel
theorem dX4_proof_87 : decode cX4_proof 87 = .ok (.getfield 160, 3) := by decide +kernel
theorem dX4_proof_90 : decode cX4_proof 90 = .ok (.iconst 1, 1) := by decide +kernel
theorem dX4_proof_91 : decode cX4_proof 91 = .ok (.iadd, 1) := by decide +kernel
theorem dX4_proof_92 : decode cX4_proof 92 = .ok (.putfield 160, 3) := by decide +kernel
theorem dX4_proof_95 : decode cX4_proof 95 = .ok (.aload_n 0, 1) := by decide +kernel
theorem dX4_proof_96 : decode cX4_proof 96 = .ok (.getfield 160, 3) := by decide +kernel
theorem dX4_proof_99 : decode cX4_proof 99 = .ok (.iconst 1, 1) := by decide +kernel
theorem dX4_proof_100 : decode cX4_proof 100 = .ok (.isub, 1) := by decide +kernel
theorem dX4_proof_101 : decode cX4_proof 101 = .ok (.ireturn, 1) := by decide +kernel
abbrev cX4_isDay : ByteArray := prog_17_method_29_code
def yX4_isDay : MethodName := ⟨RX4, "isDay", "(I)Z"⟩
theorem dX4_isDay_0 : decode cX4_isDay 0 = .ok (.iload_n 0, 1) := by decide +kernel
theorem dX4_isDay_1 : decode cX4_isDay 1 = .ok (.i2l, 1) := by decide +kernel
theorem dX4_isDay_2 : decode cX4_isDay 2 = .ok (.lconst 0, 1) := by decide +kernel
theorem dX4_isDay_3 : decode cX4_isDay 3 = .ok (.ldc2_w 155, 3) := by decide +kernel
theorem dX4_isDay_6 : decode cX4_isDay 6 = .ok (.invokestatic 68, 3) := by decide +kernel
theorem dX4_isDay_9 : decode cX4_isDay 9 = .ok (.ireturn, 1) := by decide +kernel
abbrev cX4_good : ByteArray := prog_17_method_31_code
def yX4_good : MethodName := ⟨RX4, "good", "(IJI)Z"⟩
theorem dX4_good_0 : decode cX4_good 0 = .ok (.aload_n 0, 1) := by decide +kernel
theorem dX4_good_1 : decode cX4_good 1 = .ok (.iload_n 1, 1) := by decide +kernel
theorem dX4_good_2 : decode cX4_good 2 = .ok (.ifCond .lt 34, 3) := by decide +kernel
theorem dX4_good_5 : decode cX4_good 5 = .ok (.iload_n 1, 1) := by decide +kernel
theorem dX4_good_6 : decode cX4_good 6 = .ok (.aload_n 0, 1) := by decide +kernel
theorem dX4_good_7 : decode cX4_good 7 = .ok (.getfield 160, 3) := by decide +kernel
theorem dX4_good_10 : decode cX4_good 10 = .ok (.if_icmp .ge 26, 3) := by decide +kernel
theorem dX4_good_13 : decode cX4_good 13 = .ok (.lload_n 2, 1) := by decide +kernel
theorem dX4_good_14 : decode cX4_good 14 = .ok (.lconst 0, 1) := by decide +kernel
theorem dX4_good_15 : decode cX4_good 15 = .ok (.ldc2_w 97, 3) := by decide +kernel
theorem dX4_good_18 : decode cX4_good 18 = .ok (.invokestatic 68, 3) := by decide +kernel
theorem dX4_good_21 : decode cX4_good 21 = .ok (.ifCond .eq 15, 3) := by decide +kernel
theorem dX4_good_24 : decode cX4_good 24 = .ok (.iload 4, 2) := by decide +kernel
theorem dX4_good_26 : decode cX4_good 26 = .ok (.invokestatic 157, 3) := by decide +kernel
theorem dX4_good_29 : decode cX4_good 29 = .ok (.ifCond .eq 7, 3) := by decide +kernel
theorem dX4_good_32 : decode cX4_good 32 = .ok (.iconst 0, 1) := by decide +kernel
theorem dX4_good_33 : decode cX4_good 33 = .ok (.goto 4, 3) := by decide +kernel
theorem dX4_good_36 : decode cX4_good 36 = .ok (.iconst 1, 1) := by decide +kernel
theorem dX4_good_37 : decode cX4_good 37 = .ok (.putfield 61, 3) := by decide +kernel
theorem dX4_good_40 : decode cX4_good 40 = .ok (.aload_n 0, 1) := by decide +kernel
theorem dX4_good_41 : decode cX4_good 41 = .ok (.getfield 61, 3) := by decide +kernel
theorem dX4_good_44 : decode cX4_good 44 = .ok (.ifCond .ne 47, 3) := by decide +kernel
theorem dX4_good_47 : decode cX4_good 47 = .ok (.aload_n 0, 1) := by decide +kernel
theorem dX4_good_48 : decode cX4_good 48 = .ok (.getfield 40, 3) := by decide +kernel
theorem dX4_good_51 : decode cX4_good 51 = .ok (.iload_n 1, 1) := by decide +kernel
theorem dX4_good_52 : decode cX4_good 52 = .ok (.iaload, 1) := by decide +kernel
theorem dX4_good_53 : decode cX4_good 53 = .ok (.iconst 1, 1) := by decide +kernel
theorem dX4_good_54 : decode cX4_good 54 = .ok (.if_icmp .eq 11, 3) := by decide +kernel
theorem dX4_good_57 : decode cX4_good 57 = .ok (.lload_n 2, 1) := by decide +kernel
theorem dX4_good_58 : decode cX4_good 58 = .ok (.ldc2_w 163, 3) := by decide +kernel
theorem dX4_good_61 : decode cX4_good 61 = .ok (.lcmp, 1) := by decide +kernel
theorem dX4_good_62 : decode cX4_good 62 = .ok (.ifCond .gt 29, 3) := by decide +kernel
theorem dX4_good_65 : decode cX4_good 65 = .ok (.iload 4, 2) := by decide +kernel
theorem dX4_good_67 : decode cX4_good 67 = .ok (.aload_n 0, 1) := by decide +kernel
theorem dX4_good_68 : decode cX4_good 68 = .ok (.getfield 43, 3) := by decide +kernel
theorem dX4_good_71 : decode cX4_good 71 = .ok (.iload_n 1, 1) := by decide +kernel
theorem dX4_good_72 : decode cX4_good 72 = .ok (.iaload, 1) := by decide +kernel
theorem dX4_good_73 : decode cX4_good 73 = .ok (.if_icmp .lt 18, 3) := by decide +kernel
theorem dX4_good_76 : decode cX4_good 76 = .ok (.iload 4, 2) := by decide +kernel
theorem dX4_good_78 : decode cX4_good 78 = .ok (.aload_n 0, 1) := by decide +kernel
theorem dX4_good_79 : decode cX4_good 79 = .ok (.getfield 46, 3) := by decide +kernel
theorem dX4_good_82 : decode cX4_good 82 = .ok (.iload_n 1, 1) := by decide +kernel
theorem dX4_good_83 : decode cX4_good 83 = .ok (.iaload, 1) := by decide +kernel
theorem dX4_good_84 : decode cX4_good 84 = .ok (.if_icmp .gt 7, 3) := by decide +kernel
theorem dX4_good_87 : decode cX4_good 87 = .ok (.iconst 1, 1) := by decide +kernel
theorem dX4_good_88 : decode cX4_good 88 = .ok (.goto 4, 3) := by decide +kernel
theorem dX4_good_91 : decode cX4_good 91 = .ok (.iconst 0, 1) := by decide +kernel
theorem dX4_good_92 : decode cX4_good 92 = .ok (.ireturn, 1) := by decide +kernel
abbrev cX4_count : ByteArray := prog_17_method_32_code
def yX4_count : MethodName := ⟨RX4, "count", "(I)I"⟩
theorem dX4_count_0 : decode cX4_count 0 = .ok (.aload_n 0, 1) := by decide +kernel
theorem dX4_count_1 : decode cX4_count 1 = .ok (.iconst 0, 1) := by decide +kernel
theorem dX4_count_2 : decode cX4_count 2 = .ok (.putfield 61, 3) := by decide +kernel
theorem dX4_count_5 : decode cX4_count 5 = .ok (.iconst 0, 1) := by decide +kernel
theorem dX4_count_6 : decode cX4_count 6 = .ok (.istore_n 2, 1) := by decide +kernel
theorem dX4_count_7 : decode cX4_count 7 = .ok (.iconst 0, 1) := by decide +kernel
theorem dX4_count_8 : decode cX4_count 8 = .ok (.istore_n 3, 1) := by decide +kernel
theorem dX4_count_9 : decode cX4_count 9 = .ok (.iload_n 3, 1) := by decide +kernel
theorem dX4_count_10 : decode cX4_count 10 = .ok (.aload_n 0, 1) := by decide +kernel
theorem dX4_count_11 : decode cX4_count 11 = .ok (.getfield 103, 3) := by decide +kernel
theorem dX4_count_14 : decode cX4_count 14 = .ok (.if_icmp .ge 30, 3) := by decide +kernel
theorem dX4_count_17 : decode cX4_count 17 = .ok (.iload_n 2, 1) := by decide +kernel
theorem dX4_count_18 : decode cX4_count 18 = .ok (.aload_n 0, 1) := by decide +kernel
theorem dX4_count_19 : decode cX4_count 19 = .ok (.aload_n 0, 1) := by decide +kernel
theorem dX4_count_20 : decode cX4_count 20 = .ok (.getfield 25, 3) := by decide +kernel
theorem dX4_count_23 : decode cX4_count 23 = .ok (.iload_n 3, 1) := by decide +kernel
theorem dX4_count_24 : decode cX4_count 24 = .ok (.iaload, 1) := by decide +kernel
theorem dX4_count_25 : decode cX4_count 25 = .ok (.invokevirtual 126, 3) := by decide +kernel
theorem dX4_count_28 : decode cX4_count 28 = .ok (.ifCond .eq 7, 3) := by decide +kernel
theorem dX4_count_31 : decode cX4_count 31 = .ok (.iconst 0, 1) := by decide +kernel
theorem dX4_count_32 : decode cX4_count 32 = .ok (.goto 4, 3) := by decide +kernel
theorem dX4_count_35 : decode cX4_count 35 = .ok (.iconst 1, 1) := by decide +kernel
theorem dX4_count_36 : decode cX4_count 36 = .ok (.iadd, 1) := by decide +kernel
theorem dX4_count_37 : decode cX4_count 37 = .ok (.istore_n 2, 1) := by decide +kernel
theorem dX4_count_38 : decode cX4_count 38 = .ok (.iinc 3 1, 3) := by decide +kernel
theorem dX4_count_41 : decode cX4_count 41 = .ok (.goto (-32), 3) := by decide +kernel
theorem dX4_count_44 : decode cX4_count 44 = .ok (.iload_n 1, 1) := by decide +kernel
theorem dX4_count_45 : decode cX4_count 45 = .ok (.tableswitch 84 0 7 #[47, 52, 57, 62, 64, 69, 74, 79], 47) := by decide +kernel
theorem dX4_count_92 : decode cX4_count 92 = .ok (.aload_n 0, 1) := by decide +kernel
theorem dX4_count_93 : decode cX4_count 93 = .ok (.getfield 72, 3) := by decide +kernel
theorem dX4_count_96 : decode cX4_count 96 = .ok (.ireturn, 1) := by decide +kernel
theorem dX4_count_97 : decode cX4_count 97 = .ok (.aload_n 0, 1) := by decide +kernel
theorem dX4_count_98 : decode cX4_count 98 = .ok (.getfield 86, 3) := by decide +kernel
theorem dX4_count_101 : decode cX4_count 101 = .ok (.ireturn, 1) := by decide +kernel
theorem dX4_count_102 : decode cX4_count 102 = .ok (.aload_n 0, 1) := by decide +kernel
theorem dX4_count_103 : decode cX4_count 103 = .ok (.getfield 103, 3) := by decide +kernel
theorem dX4_count_106 : decode cX4_count 106 = .ok (.ireturn, 1) := by decide +kernel
theorem dX4_count_107 : decode cX4_count 107 = .ok (.iload_n 2, 1) := by decide +kernel
theorem dX4_count_108 : decode cX4_count 108 = .ok (.ireturn, 1) := by decide +kernel
theorem dX4_count_109 : decode cX4_count 109 = .ok (.aload_n 0, 1) := by decide +kernel
theorem dX4_count_110 : decode cX4_count 110 = .ok (.getfield 106, 3) := by decide +kernel
theorem dX4_count_113 : decode cX4_count 113 = .ok (.ireturn, 1) := by decide +kernel
theorem dX4_count_114 : decode cX4_count 114 = .ok (.aload_n 0, 1) := by decide +kernel
theorem dX4_count_115 : decode cX4_count 115 = .ok (.getfield 114, 3) := by decide +kernel
theorem dX4_count_118 : decode cX4_count 118 = .ok (.ireturn, 1) := by decide +kernel
theorem dX4_count_119 : decode cX4_count 119 = .ok (.aload_n 0, 1) := by decide +kernel
theorem dX4_count_120 : decode cX4_count 120 = .ok (.getfield 160, 3) := by decide +kernel
theorem dX4_count_123 : decode cX4_count 123 = .ok (.ireturn, 1) := by decide +kernel
theorem dX4_count_124 : decode cX4_count 124 = .ok (.aload_n 0, 1) := by decide +kernel
theorem dX4_count_125 : decode cX4_count 125 = .ok (.getfield 142, 3) := by decide +kernel
theorem dX4_count_128 : decode cX4_count 128 = .ok (.ireturn, 1) := by decide +kernel
theorem dX4_count_129 : decode cX4_count 129 = .ok (.iconst (-1), 1) := by decide +kernel
theorem dX4_count_130 : decode cX4_count 130 = .ok (.ireturn, 1) := by decide +kernel
theorem q30 : (Jvm.Cond.initialized "OriginRulesModel") ∈ lw_all := lw_g (lw_at lw_m1 7 rfl) rfl
theorem q429 : (Jvm.Cond.selects "OriginRulesModel" ({ cls := "java/lang/Object", name := "getClass", desc := "()Ljava/lang/Class;" } : Jvm.MethodName) ({ cls := "java/lang/Object", name := "getClass", desc := "()Ljava/lang/Class;" } : Jvm.MethodName)) ∈ lw_all := lw_g (lw_at lw_m2 166 rfl) rfl
theorem q802 : (Jvm.Cond.instantiable "OriginRulesModel" (27 : Nat)) ∈ lw_all := lw_g (lw_at lw_m4 59 rfl) rfl
theorem q804 : (Jvm.Cond.instanceMethod ({ cls := "OriginRulesModel", name := "<init>", desc := "()V" } : Jvm.MethodName)) ∈ lw_all := lw_g (lw_at lw_m4 61 rfl) rfl
theorem q805 : (Jvm.Cond.code ({ cls := "OriginRulesModel", name := "<init>", desc := "()V" } : Jvm.MethodName) prog_17_method_1_code (1 : Nat) (Option.none : Option Jvm.ClassFile.FieldType)) ∈ lw_all := lw_g (lw_at lw_m4 62 rfl) rfl
theorem q806 : (Jvm.Cond.methodLink "OriginRulesModel" (1 : Nat) ({ cls := "java/lang/Object", name := "<init>", desc := "()V" } : Jvm.MethodName)) ∈ lw_all := lw_g (lw_at lw_m4 63 rfl) rfl
theorem q807 : (Jvm.Cond.fieldLink "OriginRulesModel" (61 : Nat) "OriginRulesModel" "thrown" "I") ∈ lw_all := lw_g (lw_at lw_m4 64 rfl) rfl
theorem q808 : (Jvm.Cond.fieldLink "OriginRulesModel" (7 : Nat) "OriginRulesModel" "text" "[I") ∈ lw_all := lw_g (lw_at lw_m4 65 rfl) rfl
theorem q809 : (Jvm.Cond.fieldLink "OriginRulesModel" (72 : Nat) "OriginRulesModel" "signs" "I") ∈ lw_all := lw_g (lw_at lw_m4 66 rfl) rfl
theorem q810 : (Jvm.Cond.fieldLink "OriginRulesModel" (13 : Nat) "OriginRulesModel" "read" "[I") ∈ lw_all := lw_g (lw_at lw_m4 67 rfl) rfl
theorem q811 : (Jvm.Cond.fieldLink "OriginRulesModel" (16 : Nat) "OriginRulesModel" "begins" "[I") ∈ lw_all := lw_g (lw_at lw_m4 68 rfl) rfl
theorem q812 : (Jvm.Cond.fieldLink "OriginRulesModel" (86 : Nat) "OriginRulesModel" "rows" "I") ∈ lw_all := lw_g (lw_at lw_m4 69 rfl) rfl
theorem q813 : (Jvm.Cond.fieldLink "OriginRulesModel" (19 : Nat) "OriginRulesModel" "tried" "[I") ∈ lw_all := lw_g (lw_at lw_m4 70 rfl) rfl
theorem q814 : (Jvm.Cond.fieldLink "OriginRulesModel" (103 : Nat) "OriginRulesModel" "parts" "I") ∈ lw_all := lw_g (lw_at lw_m4 71 rfl) rfl
theorem q815 : (Jvm.Cond.fieldLink "OriginRulesModel" (22 : Nat) "OriginRulesModel" "partCode" "[I") ∈ lw_all := lw_g (lw_at lw_m4 72 rfl) rfl
theorem q816 : (Jvm.Cond.fieldLink "OriginRulesModel" (25 : Nat) "OriginRulesModel" "partLand" "[I") ∈ lw_all := lw_g (lw_at lw_m4 73 rfl) rfl
theorem q817 : (Jvm.Cond.fieldLink "OriginRulesModel" (28 : Nat) "OriginRulesModel" "partCents" "[J") ∈ lw_all := lw_g (lw_at lw_m4 74 rfl) rfl
theorem q818 : (Jvm.Cond.fieldLink "OriginRulesModel" (106 : Nat) "OriginRulesModel" "done" "I") ∈ lw_all := lw_g (lw_at lw_m4 75 rfl) rfl
theorem q819 : (Jvm.Cond.fieldLink "OriginRulesModel" (111 : Nat) "OriginRulesModel" "barred" "I") ∈ lw_all := lw_g (lw_at lw_m4 76 rfl) rfl
theorem q820 : (Jvm.Cond.fieldLink "OriginRulesModel" (32 : Nat) "OriginRulesModel" "joined" "[Z") ∈ lw_all := lw_g (lw_at lw_m4 77 rfl) rfl
theorem q821 : (Jvm.Cond.fieldLink "OriginRulesModel" (114 : Nat) "OriginRulesModel" "pairs" "I") ∈ lw_all := lw_g (lw_at lw_m4 78 rfl) rfl
theorem q822 : (Jvm.Cond.fieldLink "OriginRulesModel" (117 : Nat) "OriginRulesModel" "full" "Z") ∈ lw_all := lw_g (lw_at lw_m4 79 rfl) rfl
theorem q823 : (Jvm.Cond.fieldLink "OriginRulesModel" (123 : Nat) "OriginRulesModel" "up" "I") ∈ lw_all := lw_g (lw_at lw_m4 80 rfl) rfl
theorem q824 : (Jvm.Cond.fieldLink "OriginRulesModel" (36 : Nat) "OriginRulesModel" "down" "I") ∈ lw_all := lw_g (lw_at lw_m4 81 rfl) rfl
theorem q825 : (Jvm.Cond.fieldLink "OriginRulesModel" (160 : Nat) "OriginRulesModel" "proofs" "I") ∈ lw_all := lw_g (lw_at lw_m4 82 rfl) rfl
theorem q826 : (Jvm.Cond.fieldLink "OriginRulesModel" (40 : Nat) "OriginRulesModel" "proofKind" "[I") ∈ lw_all := lw_g (lw_at lw_m4 83 rfl) rfl
theorem q827 : (Jvm.Cond.fieldLink "OriginRulesModel" (43 : Nat) "OriginRulesModel" "proofFrom" "[I") ∈ lw_all := lw_g (lw_at lw_m4 84 rfl) rfl
theorem q828 : (Jvm.Cond.fieldLink "OriginRulesModel" (46 : Nat) "OriginRulesModel" "proofTo" "[I") ∈ lw_all := lw_g (lw_at lw_m4 85 rfl) rfl
theorem q829 : (Jvm.Cond.fieldLink "OriginRulesModel" (142 : Nat) "OriginRulesModel" "asked" "I") ∈ lw_all := lw_g (lw_at lw_m4 86 rfl) rfl
theorem q830 : (Jvm.Cond.fieldLink "OriginRulesModel" (49 : Nat) "OriginRulesModel" "told" "[I") ∈ lw_all := lw_g (lw_at lw_m4 87 rfl) rfl
theorem q831 : (Jvm.Cond.fieldLink "OriginRulesModel" (52 : Nat) "OriginRulesModel" "live" "[Z") ∈ lw_all := lw_g (lw_at lw_m4 88 rfl) rfl
theorem q832 : (Jvm.Cond.fieldLink "OriginRulesModel" (55 : Nat) "OriginRulesModel" "any" "[Z") ∈ lw_all := lw_g (lw_at lw_m4 89 rfl) rfl
theorem q833 : (Jvm.Cond.fieldLink "OriginRulesModel" (58 : Nat) "OriginRulesModel" "all" "[Z") ∈ lw_all := lw_g (lw_at lw_m4 90 rfl) rfl
theorem q834 : (Jvm.Cond.lays "OriginRulesModel" "OriginRulesModel" "thrown" "I") ∈ lw_all := lw_g (lw_at lw_m4 91 rfl) rfl
theorem q835 : (Jvm.Cond.soleField "OriginRulesModel" "thrown") ∈ lw_all := lw_g (lw_at lw_m4 92 rfl) rfl
theorem q836 : (Jvm.Cond.laysFinal "OriginRulesModel" "OriginRulesModel" "text" "[I") ∈ lw_all := lw_g (lw_at lw_m4 93 rfl) rfl
theorem q837 : (Jvm.Cond.soleField "OriginRulesModel" "text") ∈ lw_all := lw_g (lw_at lw_m4 94 rfl) rfl
theorem q838 : (Jvm.Cond.lays "OriginRulesModel" "OriginRulesModel" "signs" "I") ∈ lw_all := lw_g (lw_at lw_m4 95 rfl) rfl
theorem q839 : (Jvm.Cond.soleField "OriginRulesModel" "signs") ∈ lw_all := lw_g (lw_at lw_m4 96 rfl) rfl
theorem q840 : (Jvm.Cond.laysFinal "OriginRulesModel" "OriginRulesModel" "read" "[I") ∈ lw_all := lw_g (lw_at lw_m4 97 rfl) rfl
theorem q841 : (Jvm.Cond.soleField "OriginRulesModel" "read") ∈ lw_all := lw_g (lw_at lw_m4 98 rfl) rfl
theorem q842 : (Jvm.Cond.laysFinal "OriginRulesModel" "OriginRulesModel" "begins" "[I") ∈ lw_all := lw_g (lw_at lw_m4 99 rfl) rfl
theorem q843 : (Jvm.Cond.soleField "OriginRulesModel" "begins") ∈ lw_all := lw_g (lw_at lw_m4 100 rfl) rfl
theorem q844 : (Jvm.Cond.lays "OriginRulesModel" "OriginRulesModel" "rows" "I") ∈ lw_all := lw_g (lw_at lw_m4 101 rfl) rfl
theorem q845 : (Jvm.Cond.soleField "OriginRulesModel" "rows") ∈ lw_all := lw_g (lw_at lw_m4 102 rfl) rfl
theorem q846 : (Jvm.Cond.laysFinal "OriginRulesModel" "OriginRulesModel" "tried" "[I") ∈ lw_all := lw_g (lw_at lw_m4 103 rfl) rfl
theorem q847 : (Jvm.Cond.soleField "OriginRulesModel" "tried") ∈ lw_all := lw_g (lw_at lw_m4 104 rfl) rfl
theorem q848 : (Jvm.Cond.lays "OriginRulesModel" "OriginRulesModel" "parts" "I") ∈ lw_all := lw_g (lw_at lw_m4 105 rfl) rfl
theorem q849 : (Jvm.Cond.soleField "OriginRulesModel" "parts") ∈ lw_all := lw_g (lw_at lw_m4 106 rfl) rfl
theorem q850 : (Jvm.Cond.laysFinal "OriginRulesModel" "OriginRulesModel" "partCode" "[I") ∈ lw_all := lw_g (lw_at lw_m4 107 rfl) rfl
theorem q851 : (Jvm.Cond.soleField "OriginRulesModel" "partCode") ∈ lw_all := lw_g (lw_at lw_m4 108 rfl) rfl
theorem q852 : (Jvm.Cond.laysFinal "OriginRulesModel" "OriginRulesModel" "partLand" "[I") ∈ lw_all := lw_g (lw_at lw_m4 109 rfl) rfl
theorem q853 : (Jvm.Cond.soleField "OriginRulesModel" "partLand") ∈ lw_all := lw_g (lw_at lw_m4 110 rfl) rfl
theorem q854 : (Jvm.Cond.laysFinal "OriginRulesModel" "OriginRulesModel" "partCents" "[J") ∈ lw_all := lw_g (lw_at lw_m4 111 rfl) rfl
theorem q855 : (Jvm.Cond.soleField "OriginRulesModel" "partCents") ∈ lw_all := lw_g (lw_at lw_m4 112 rfl) rfl
theorem q856 : (Jvm.Cond.lays "OriginRulesModel" "OriginRulesModel" "done" "I") ∈ lw_all := lw_g (lw_at lw_m4 113 rfl) rfl
theorem q857 : (Jvm.Cond.soleField "OriginRulesModel" "done") ∈ lw_all := lw_g (lw_at lw_m4 114 rfl) rfl
theorem q858 : (Jvm.Cond.lays "OriginRulesModel" "OriginRulesModel" "barred" "I") ∈ lw_all := lw_g (lw_at lw_m4 115 rfl) rfl
theorem q859 : (Jvm.Cond.soleField "OriginRulesModel" "barred") ∈ lw_all := lw_g (lw_at lw_m4 116 rfl) rfl
theorem q860 : (Jvm.Cond.laysFinal "OriginRulesModel" "OriginRulesModel" "joined" "[Z") ∈ lw_all := lw_g (lw_at lw_m4 117 rfl) rfl
theorem q861 : (Jvm.Cond.soleField "OriginRulesModel" "joined") ∈ lw_all := lw_g (lw_at lw_m4 118 rfl) rfl
theorem q862 : (Jvm.Cond.lays "OriginRulesModel" "OriginRulesModel" "pairs" "I") ∈ lw_all := lw_g (lw_at lw_m4 119 rfl) rfl
theorem q863 : (Jvm.Cond.soleField "OriginRulesModel" "pairs") ∈ lw_all := lw_g (lw_at lw_m4 120 rfl) rfl
theorem q864 : (Jvm.Cond.lays "OriginRulesModel" "OriginRulesModel" "full" "Z") ∈ lw_all := lw_g (lw_at lw_m4 121 rfl) rfl
theorem q865 : (Jvm.Cond.soleField "OriginRulesModel" "full") ∈ lw_all := lw_g (lw_at lw_m4 122 rfl) rfl
theorem q866 : (Jvm.Cond.lays "OriginRulesModel" "OriginRulesModel" "up" "I") ∈ lw_all := lw_g (lw_at lw_m4 123 rfl) rfl
theorem q867 : (Jvm.Cond.soleField "OriginRulesModel" "up") ∈ lw_all := lw_g (lw_at lw_m4 124 rfl) rfl
theorem q868 : (Jvm.Cond.lays "OriginRulesModel" "OriginRulesModel" "down" "I") ∈ lw_all := lw_g (lw_at lw_m4 125 rfl) rfl
theorem q869 : (Jvm.Cond.soleField "OriginRulesModel" "down") ∈ lw_all := lw_g (lw_at lw_m4 126 rfl) rfl
theorem q870 : (Jvm.Cond.lays "OriginRulesModel" "OriginRulesModel" "proofs" "I") ∈ lw_all := lw_g (lw_at lw_m4 127 rfl) rfl
theorem q871 : (Jvm.Cond.soleField "OriginRulesModel" "proofs") ∈ lw_all := lw_g (lw_at lw_m4 128 rfl) rfl
theorem q872 : (Jvm.Cond.laysFinal "OriginRulesModel" "OriginRulesModel" "proofKind" "[I") ∈ lw_all := lw_g (lw_at lw_m4 129 rfl) rfl
theorem q873 : (Jvm.Cond.soleField "OriginRulesModel" "proofKind") ∈ lw_all := lw_g (lw_at lw_m4 130 rfl) rfl
theorem q874 : (Jvm.Cond.laysFinal "OriginRulesModel" "OriginRulesModel" "proofFrom" "[I") ∈ lw_all := lw_g (lw_at lw_m4 131 rfl) rfl
theorem q875 : (Jvm.Cond.soleField "OriginRulesModel" "proofFrom") ∈ lw_all := lw_g (lw_at lw_m4 132 rfl) rfl
theorem q876 : (Jvm.Cond.laysFinal "OriginRulesModel" "OriginRulesModel" "proofTo" "[I") ∈ lw_all := lw_g (lw_at lw_m4 133 rfl) rfl
theorem q877 : (Jvm.Cond.soleField "OriginRulesModel" "proofTo") ∈ lw_all := lw_g (lw_at lw_m4 134 rfl) rfl
theorem q878 : (Jvm.Cond.lays "OriginRulesModel" "OriginRulesModel" "asked" "I") ∈ lw_all := lw_g (lw_at lw_m4 135 rfl) rfl
theorem q879 : (Jvm.Cond.soleField "OriginRulesModel" "asked") ∈ lw_all := lw_g (lw_at lw_m4 136 rfl) rfl
theorem q880 : (Jvm.Cond.laysFinal "OriginRulesModel" "OriginRulesModel" "told" "[I") ∈ lw_all := lw_g (lw_at lw_m4 137 rfl) rfl
theorem q881 : (Jvm.Cond.soleField "OriginRulesModel" "told") ∈ lw_all := lw_g (lw_at lw_m4 138 rfl) rfl
theorem q882 : (Jvm.Cond.laysFinal "OriginRulesModel" "OriginRulesModel" "live" "[Z") ∈ lw_all := lw_g (lw_at lw_m4 139 rfl) rfl
theorem q883 : (Jvm.Cond.soleField "OriginRulesModel" "live") ∈ lw_all := lw_g (lw_at lw_m4 140 rfl) rfl
theorem q884 : (Jvm.Cond.laysFinal "OriginRulesModel" "OriginRulesModel" "any" "[Z") ∈ lw_all := lw_g (lw_at lw_m4 141 rfl) rfl
theorem q885 : (Jvm.Cond.soleField "OriginRulesModel" "any") ∈ lw_all := lw_g (lw_at lw_m4 142 rfl) rfl
theorem q886 : (Jvm.Cond.laysFinal "OriginRulesModel" "OriginRulesModel" "all" "[Z") ∈ lw_all := lw_g (lw_at lw_m4 143 rfl) rfl
theorem q887 : (Jvm.Cond.soleField "OriginRulesModel" "all") ∈ lw_all := lw_g (lw_at lw_m4 144 rfl) rfl
theorem q888 : (Jvm.Cond.superclass "OriginRulesModel" "java/lang/Object") ∈ lw_all := lw_g (lw_at lw_m4 145 rfl) rfl
theorem q891 : (Jvm.Cond.instanceMethod ({ cls := "OriginRulesModel", name := "thrown", desc := "()I" } : Jvm.MethodName)) ∈ lw_all := lw_g (lw_at lw_m4 148 rfl) rfl
theorem q892 : (Jvm.Cond.selects "OriginRulesModel" ({ cls := "OriginRulesModel", name := "thrown", desc := "()I" } : Jvm.MethodName) ({ cls := "OriginRulesModel", name := "thrown", desc := "()I" } : Jvm.MethodName)) ∈ lw_all := lw_g (lw_at lw_m4 149 rfl) rfl
theorem q893 : (Jvm.Cond.code ({ cls := "OriginRulesModel", name := "thrown", desc := "()I" } : Jvm.MethodName) prog_17_method_2_code (1 : Nat) (Option.some Jvm.ClassFile.FieldType.int)) ∈ lw_all := lw_g (lw_at lw_m4 150 rfl) rfl
theorem q895 : (Jvm.Cond.instanceMethod ({ cls := "OriginRulesModel", name := "sign", desc := "(I)Z" } : Jvm.MethodName)) ∈ lw_all := lw_g (lw_at lw_m4 152 rfl) rfl
theorem q896 : (Jvm.Cond.selects "OriginRulesModel" ({ cls := "OriginRulesModel", name := "sign", desc := "(I)Z" } : Jvm.MethodName) ({ cls := "OriginRulesModel", name := "sign", desc := "(I)Z" } : Jvm.MethodName)) ∈ lw_all := lw_g (lw_at lw_m4 153 rfl) rfl
theorem q897 : (Jvm.Cond.code ({ cls := "OriginRulesModel", name := "sign", desc := "(I)Z" } : Jvm.MethodName) prog_17_method_6_code (2 : Nat) (Option.some Jvm.ClassFile.FieldType.boolean)) ∈ lw_all := lw_g (lw_at lw_m4 154 rfl) rfl
theorem q898 : (Jvm.Cond.constantLong "OriginRulesModel" (64 : Nat) (33 : Int64)) ∈ lw_all := lw_g (lw_at lw_m4 155 rfl) rfl
theorem q899 : (Jvm.Cond.constantLong "OriginRulesModel" (66 : Nat) (126 : Int64)) ∈ lw_all := lw_g (lw_at lw_m4 156 rfl) rfl
theorem q900 : (Jvm.Cond.methodLink "OriginRulesModel" (68 : Nat) ({ cls := "OriginRulesModel", name := "in", desc := "(JJJ)Z" } : Jvm.MethodName)) ∈ lw_all := lw_g (lw_at lw_m4 157 rfl) rfl
theorem q901 : (Jvm.Cond.static ({ cls := "OriginRulesModel", name := "in", desc := "(JJJ)Z" } : Jvm.MethodName)) ∈ lw_all := lw_g (lw_at lw_m4 158 rfl) rfl
theorem q902 : (Jvm.Cond.code ({ cls := "OriginRulesModel", name := "in", desc := "(JJJ)Z" } : Jvm.MethodName) prog_17_method_4_code (6 : Nat) (Option.some Jvm.ClassFile.FieldType.boolean)) ∈ lw_all := lw_g (lw_at lw_m4 159 rfl) rfl
theorem q904 : (Jvm.Cond.instanceMethod ({ cls := "OriginRulesModel", name := "read", desc := "()I" } : Jvm.MethodName)) ∈ lw_all := lw_g (lw_at lw_m4 161 rfl) rfl
theorem q905 : (Jvm.Cond.selects "OriginRulesModel" ({ cls := "OriginRulesModel", name := "read", desc := "()I" } : Jvm.MethodName) ({ cls := "OriginRulesModel", name := "read", desc := "()I" } : Jvm.MethodName)) ∈ lw_all := lw_g (lw_at lw_m4 162 rfl) rfl
theorem q906 : (Jvm.Cond.code ({ cls := "OriginRulesModel", name := "read", desc := "()I" } : Jvm.MethodName) prog_17_method_9_code (12 : Nat) (Option.some Jvm.ClassFile.FieldType.int)) ∈ lw_all := lw_g (lw_at lw_m4 163 rfl) rfl
theorem q907 : (Jvm.Cond.methodLink "OriginRulesModel" (75 : Nat) ({ cls := "OriginRulesModel", name := "isDigit", desc := "(I)Z" } : Jvm.MethodName)) ∈ lw_all := lw_g (lw_at lw_m4 164 rfl) rfl
theorem q908 : (Jvm.Cond.static ({ cls := "OriginRulesModel", name := "isDigit", desc := "(I)Z" } : Jvm.MethodName)) ∈ lw_all := lw_g (lw_at lw_m4 165 rfl) rfl
theorem q909 : (Jvm.Cond.code ({ cls := "OriginRulesModel", name := "isDigit", desc := "(I)Z" } : Jvm.MethodName) prog_17_method_5_code (1 : Nat) (Option.some Jvm.ClassFile.FieldType.boolean)) ∈ lw_all := lw_g (lw_at lw_m4 166 rfl) rfl
theorem q910 : (Jvm.Cond.methodLink "OriginRulesModel" (79 : Nat) ({ cls := "OriginRulesModel", name := "ahead", desc := "(II)I" } : Jvm.MethodName)) ∈ lw_all := lw_g (lw_at lw_m4 167 rfl) rfl
theorem q911 : (Jvm.Cond.static ({ cls := "OriginRulesModel", name := "ahead", desc := "(II)I" } : Jvm.MethodName)) ∈ lw_all := lw_g (lw_at lw_m4 168 rfl) rfl
theorem q912 : (Jvm.Cond.code ({ cls := "OriginRulesModel", name := "ahead", desc := "(II)I" } : Jvm.MethodName) prog_17_method_8_code (2 : Nat) (Option.some Jvm.ClassFile.FieldType.int)) ∈ lw_all := lw_g (lw_at lw_m4 169 rfl) rfl
theorem q913 : (Jvm.Cond.methodLink "OriginRulesModel" (83 : Nat) ({ cls := "OriginRulesModel", name := "behind", desc := "(II)I" } : Jvm.MethodName)) ∈ lw_all := lw_g (lw_at lw_m4 170 rfl) rfl
theorem q914 : (Jvm.Cond.static ({ cls := "OriginRulesModel", name := "behind", desc := "(II)I" } : Jvm.MethodName)) ∈ lw_all := lw_g (lw_at lw_m4 171 rfl) rfl
theorem q915 : (Jvm.Cond.code ({ cls := "OriginRulesModel", name := "behind", desc := "(II)I" } : Jvm.MethodName) prog_17_method_7_code (2 : Nat) (Option.some Jvm.ClassFile.FieldType.int)) ∈ lw_all := lw_g (lw_at lw_m4 172 rfl) rfl
theorem q917 : (Jvm.Cond.instanceMethod ({ cls := "OriginRulesModel", name := "part", desc := "(IIJ)I" } : Jvm.MethodName)) ∈ lw_all := lw_g (lw_at lw_m4 174 rfl) rfl
theorem q918 : (Jvm.Cond.selects "OriginRulesModel" ({ cls := "OriginRulesModel", name := "part", desc := "(IIJ)I" } : Jvm.MethodName) ({ cls := "OriginRulesModel", name := "part", desc := "(IIJ)I" } : Jvm.MethodName)) ∈ lw_all := lw_g (lw_at lw_m4 175 rfl) rfl
theorem q919 : (Jvm.Cond.code ({ cls := "OriginRulesModel", name := "part", desc := "(IIJ)I" } : Jvm.MethodName) prog_17_method_12_code (5 : Nat) (Option.some Jvm.ClassFile.FieldType.int)) ∈ lw_all := lw_g (lw_at lw_m4 176 rfl) rfl
theorem q920 : (Jvm.Cond.constantLong "OriginRulesModel" (93 : Nat) (999999 : Int64)) ∈ lw_all := lw_g (lw_at lw_m4 177 rfl) rfl
theorem q921 : (Jvm.Cond.constantLong "OriginRulesModel" (95 : Nat) (9 : Int64)) ∈ lw_all := lw_g (lw_at lw_m4 178 rfl) rfl
theorem q922 : (Jvm.Cond.constantLong "OriginRulesModel" (97 : Nat) (1000000000 : Int64)) ∈ lw_all := lw_g (lw_at lw_m4 179 rfl) rfl
theorem q923 : (Jvm.Cond.methodLink "OriginRulesModel" (99 : Nat) ({ cls := "OriginRulesModel", name := "refuse", desc := "(I)I" } : Jvm.MethodName)) ∈ lw_all := lw_g (lw_at lw_m4 180 rfl) rfl
theorem q924 : (Jvm.Cond.privateMethod ({ cls := "OriginRulesModel", name := "refuse", desc := "(I)I" } : Jvm.MethodName)) ∈ lw_tbl := lw_at lw_m4 181 rfl
theorem q925 : (Jvm.Cond.instanceMethod ({ cls := "OriginRulesModel", name := "refuse", desc := "(I)I" } : Jvm.MethodName)) ∈ lw_all := lw_g (lw_at lw_m4 182 rfl) rfl
theorem q926 : (Jvm.Cond.code ({ cls := "OriginRulesModel", name := "refuse", desc := "(I)I" } : Jvm.MethodName) prog_17_method_3_code (2 : Nat) (Option.some Jvm.ClassFile.FieldType.int)) ∈ lw_all := lw_g (lw_at lw_m4 183 rfl) rfl
theorem q928 : (Jvm.Cond.instanceMethod ({ cls := "OriginRulesModel", name := "clear", desc := "()I" } : Jvm.MethodName)) ∈ lw_all := lw_g (lw_at lw_m4 185 rfl) rfl
theorem q929 : (Jvm.Cond.selects "OriginRulesModel" ({ cls := "OriginRulesModel", name := "clear", desc := "()I" } : Jvm.MethodName) ({ cls := "OriginRulesModel", name := "clear", desc := "()I" } : Jvm.MethodName)) ∈ lw_all := lw_g (lw_at lw_m4 186 rfl) rfl
theorem q930 : (Jvm.Cond.code ({ cls := "OriginRulesModel", name := "clear", desc := "()I" } : Jvm.MethodName) prog_17_method_13_code (2 : Nat) (Option.some Jvm.ClassFile.FieldType.int)) ∈ lw_all := lw_g (lw_at lw_m4 187 rfl) rfl
theorem q932 : (Jvm.Cond.instanceMethod ({ cls := "OriginRulesModel", name := "process", desc := "(I)Z" } : Jvm.MethodName)) ∈ lw_all := lw_g (lw_at lw_m4 189 rfl) rfl
theorem q933 : (Jvm.Cond.selects "OriginRulesModel" ({ cls := "OriginRulesModel", name := "process", desc := "(I)Z" } : Jvm.MethodName) ({ cls := "OriginRulesModel", name := "process", desc := "(I)Z" } : Jvm.MethodName)) ∈ lw_all := lw_g (lw_at lw_m4 190 rfl) rfl
theorem q934 : (Jvm.Cond.code ({ cls := "OriginRulesModel", name := "process", desc := "(I)Z" } : Jvm.MethodName) prog_17_method_14_code (2 : Nat) (Option.some Jvm.ClassFile.FieldType.boolean)) ∈ lw_all := lw_g (lw_at lw_m4 191 rfl) rfl
theorem q935 : (Jvm.Cond.constantLong "OriginRulesModel" (109 : Nat) (15 : Int64)) ∈ lw_all := lw_g (lw_at lw_m4 192 rfl) rfl
theorem q937 : (Jvm.Cond.instanceMethod ({ cls := "OriginRulesModel", name := "bar", desc := "(IZ)Z" } : Jvm.MethodName)) ∈ lw_all := lw_g (lw_at lw_m4 194 rfl) rfl
theorem q938 : (Jvm.Cond.selects "OriginRulesModel" ({ cls := "OriginRulesModel", name := "bar", desc := "(IZ)Z" } : Jvm.MethodName) ({ cls := "OriginRulesModel", name := "bar", desc := "(IZ)Z" } : Jvm.MethodName)) ∈ lw_all := lw_g (lw_at lw_m4 195 rfl) rfl
theorem q939 : (Jvm.Cond.code ({ cls := "OriginRulesModel", name := "bar", desc := "(IZ)Z" } : Jvm.MethodName) prog_17_method_15_code (3 : Nat) (Option.some Jvm.ClassFile.FieldType.boolean)) ∈ lw_all := lw_g (lw_at lw_m4 196 rfl) rfl
theorem q941 : (Jvm.Cond.instanceMethod ({ cls := "OriginRulesModel", name := "join", desc := "(II)I" } : Jvm.MethodName)) ∈ lw_all := lw_g (lw_at lw_m4 198 rfl) rfl
theorem q942 : (Jvm.Cond.selects "OriginRulesModel" ({ cls := "OriginRulesModel", name := "join", desc := "(II)I" } : Jvm.MethodName) ({ cls := "OriginRulesModel", name := "join", desc := "(II)I" } : Jvm.MethodName)) ∈ lw_all := lw_g (lw_at lw_m4 199 rfl) rfl
theorem q943 : (Jvm.Cond.code ({ cls := "OriginRulesModel", name := "join", desc := "(II)I" } : Jvm.MethodName) prog_17_method_16_code (3 : Nat) (Option.some Jvm.ClassFile.FieldType.int)) ∈ lw_all := lw_g (lw_at lw_m4 200 rfl) rfl
theorem q945 : (Jvm.Cond.instanceMethod ({ cls := "OriginRulesModel", name := "full", desc := "(Z)Z" } : Jvm.MethodName)) ∈ lw_all := lw_g (lw_at lw_m4 202 rfl) rfl
theorem q946 : (Jvm.Cond.selects "OriginRulesModel" ({ cls := "OriginRulesModel", name := "full", desc := "(Z)Z" } : Jvm.MethodName) ({ cls := "OriginRulesModel", name := "full", desc := "(Z)Z" } : Jvm.MethodName)) ∈ lw_all := lw_g (lw_at lw_m4 203 rfl) rfl
theorem q947 : (Jvm.Cond.code ({ cls := "OriginRulesModel", name := "full", desc := "(Z)Z" } : Jvm.MethodName) prog_17_method_17_code (3 : Nat) (Option.some Jvm.ClassFile.FieldType.boolean)) ∈ lw_all := lw_g (lw_at lw_m4 204 rfl) rfl
theorem q949 : (Jvm.Cond.instanceMethod ({ cls := "OriginRulesModel", name := "tolerance", desc := "(II)Z" } : Jvm.MethodName)) ∈ lw_all := lw_g (lw_at lw_m4 206 rfl) rfl
theorem q950 : (Jvm.Cond.selects "OriginRulesModel" ({ cls := "OriginRulesModel", name := "tolerance", desc := "(II)Z" } : Jvm.MethodName) ({ cls := "OriginRulesModel", name := "tolerance", desc := "(II)Z" } : Jvm.MethodName)) ∈ lw_all := lw_g (lw_at lw_m4 207 rfl) rfl
theorem q951 : (Jvm.Cond.code ({ cls := "OriginRulesModel", name := "tolerance", desc := "(II)Z" } : Jvm.MethodName) prog_17_method_18_code (3 : Nat) (Option.some Jvm.ClassFile.FieldType.boolean)) ∈ lw_all := lw_g (lw_at lw_m4 208 rfl) rfl
theorem q952 : (Jvm.Cond.constantLong "OriginRulesModel" (121 : Nat) (1000 : Int64)) ∈ lw_all := lw_g (lw_at lw_m4 209 rfl) rfl
theorem q954 : (Jvm.Cond.instanceMethod ({ cls := "OriginRulesModel", name := "own", desc := "(I)Z" } : Jvm.MethodName)) ∈ lw_all := lw_g (lw_at lw_m4 211 rfl) rfl
theorem q955 : (Jvm.Cond.selects "OriginRulesModel" ({ cls := "OriginRulesModel", name := "own", desc := "(I)Z" } : Jvm.MethodName) ({ cls := "OriginRulesModel", name := "own", desc := "(I)Z" } : Jvm.MethodName)) ∈ lw_all := lw_g (lw_at lw_m4 212 rfl) rfl
theorem q956 : (Jvm.Cond.code ({ cls := "OriginRulesModel", name := "own", desc := "(I)Z" } : Jvm.MethodName) prog_17_method_20_code (2 : Nat) (Option.some Jvm.ClassFile.FieldType.boolean)) ∈ lw_all := lw_g (lw_at lw_m4 213 rfl) rfl
theorem q957 : (Jvm.Cond.methodLink "OriginRulesModel" (126 : Nat) ({ cls := "OriginRulesModel", name := "isOwn", desc := "(I)Z" } : Jvm.MethodName)) ∈ lw_all := lw_g (lw_at lw_m4 214 rfl) rfl
theorem q958 : (Jvm.Cond.privateMethod ({ cls := "OriginRulesModel", name := "isOwn", desc := "(I)Z" } : Jvm.MethodName)) ∈ lw_tbl := lw_at lw_m4 215 rfl
theorem q959 : (Jvm.Cond.instanceMethod ({ cls := "OriginRulesModel", name := "isOwn", desc := "(I)Z" } : Jvm.MethodName)) ∈ lw_all := lw_g (lw_at lw_m4 216 rfl) rfl
theorem q960 : (Jvm.Cond.code ({ cls := "OriginRulesModel", name := "isOwn", desc := "(I)Z" } : Jvm.MethodName) prog_17_method_19_code (6 : Nat) (Option.some Jvm.ClassFile.FieldType.boolean)) ∈ lw_all := lw_g (lw_at lw_m4 217 rfl) rfl
theorem q962 : (Jvm.Cond.instanceMethod ({ cls := "OriginRulesModel", name := "verdict", desc := "(IJ)I" } : Jvm.MethodName)) ∈ lw_all := lw_g (lw_at lw_m4 219 rfl) rfl
theorem q963 : (Jvm.Cond.selects "OriginRulesModel" ({ cls := "OriginRulesModel", name := "verdict", desc := "(IJ)I" } : Jvm.MethodName) ({ cls := "OriginRulesModel", name := "verdict", desc := "(IJ)I" } : Jvm.MethodName)) ∈ lw_all := lw_g (lw_at lw_m4 220 rfl) rfl
theorem q964 : (Jvm.Cond.code ({ cls := "OriginRulesModel", name := "verdict", desc := "(IJ)I" } : Jvm.MethodName) prog_17_method_26_code (5 : Nat) (Option.some Jvm.ClassFile.FieldType.int)) ∈ lw_all := lw_g (lw_at lw_m4 221 rfl) rfl
theorem q965 : (Jvm.Cond.methodLink "OriginRulesModel" (149 : Nat) ({ cls := "OriginRulesModel", name := "rowOf", desc := "(I)I" } : Jvm.MethodName)) ∈ lw_all := lw_g (lw_at lw_m4 222 rfl) rfl
theorem q966 : (Jvm.Cond.privateMethod ({ cls := "OriginRulesModel", name := "rowOf", desc := "(I)I" } : Jvm.MethodName)) ∈ lw_tbl := lw_at lw_m4 223 rfl
theorem q967 : (Jvm.Cond.instanceMethod ({ cls := "OriginRulesModel", name := "rowOf", desc := "(I)I" } : Jvm.MethodName)) ∈ lw_all := lw_g (lw_at lw_m4 224 rfl) rfl
theorem q968 : (Jvm.Cond.code ({ cls := "OriginRulesModel", name := "rowOf", desc := "(I)I" } : Jvm.MethodName) prog_17_method_11_code (6 : Nat) (Option.some Jvm.ClassFile.FieldType.int)) ∈ lw_all := lw_g (lw_at lw_m4 225 rfl) rfl
theorem q969 : (Jvm.Cond.methodLink "OriginRulesModel" (90 : Nat) ({ cls := "OriginRulesModel", name := "begin", desc := "(II)I" } : Jvm.MethodName)) ∈ lw_all := lw_g (lw_at lw_m4 226 rfl) rfl
theorem q970 : (Jvm.Cond.privateMethod ({ cls := "OriginRulesModel", name := "begin", desc := "(II)I" } : Jvm.MethodName)) ∈ lw_tbl := lw_at lw_m4 227 rfl
theorem q971 : (Jvm.Cond.instanceMethod ({ cls := "OriginRulesModel", name := "begin", desc := "(II)I" } : Jvm.MethodName)) ∈ lw_all := lw_g (lw_at lw_m4 228 rfl) rfl
theorem q972 : (Jvm.Cond.code ({ cls := "OriginRulesModel", name := "begin", desc := "(II)I" } : Jvm.MethodName) prog_17_method_10_code (7 : Nat) (Option.some Jvm.ClassFile.FieldType.int)) ∈ lw_all := lw_g (lw_at lw_m4 229 rfl) rfl
theorem q973 : (Jvm.Cond.constant "OriginRulesModel" (89 : Nat) (100000 : Int32)) ∈ lw_all := lw_g (lw_at lw_m4 230 rfl) rfl
theorem q974 : (Jvm.Cond.methodLink "OriginRulesModel" (152 : Nat) ({ cls := "OriginRulesModel", name := "ruled", desc := "(IIJ)Z" } : Jvm.MethodName)) ∈ lw_all := lw_g (lw_at lw_m4 231 rfl) rfl
theorem q975 : (Jvm.Cond.privateMethod ({ cls := "OriginRulesModel", name := "ruled", desc := "(IIJ)Z" } : Jvm.MethodName)) ∈ lw_tbl := lw_at lw_m4 232 rfl
theorem q976 : (Jvm.Cond.instanceMethod ({ cls := "OriginRulesModel", name := "ruled", desc := "(IIJ)Z" } : Jvm.MethodName)) ∈ lw_all := lw_g (lw_at lw_m4 233 rfl) rfl
theorem q977 : (Jvm.Cond.code ({ cls := "OriginRulesModel", name := "ruled", desc := "(IIJ)Z" } : Jvm.MethodName) prog_17_method_25_code (10 : Nat) (Option.some Jvm.ClassFile.FieldType.boolean)) ∈ lw_all := lw_g (lw_at lw_m4 234 rfl) rfl
theorem q978 : (Jvm.Cond.methodLink "OriginRulesModel" (145 : Nat) ({ cls := "OriginRulesModel", name := "holds", desc := "(IIJ)Z" } : Jvm.MethodName)) ∈ lw_all := lw_g (lw_at lw_m4 235 rfl) rfl
theorem q979 : (Jvm.Cond.privateMethod ({ cls := "OriginRulesModel", name := "holds", desc := "(IIJ)Z" } : Jvm.MethodName)) ∈ lw_tbl := lw_at lw_m4 236 rfl
theorem q980 : (Jvm.Cond.instanceMethod ({ cls := "OriginRulesModel", name := "holds", desc := "(IIJ)Z" } : Jvm.MethodName)) ∈ lw_all := lw_g (lw_at lw_m4 237 rfl) rfl
theorem q981 : (Jvm.Cond.code ({ cls := "OriginRulesModel", name := "holds", desc := "(IIJ)Z" } : Jvm.MethodName) prog_17_method_24_code (5 : Nat) (Option.some Jvm.ClassFile.FieldType.boolean)) ∈ lw_all := lw_g (lw_at lw_m4 238 rfl) rfl
theorem q982 : (Jvm.Cond.methodLink "OriginRulesModel" (129 : Nat) ({ cls := "OriginRulesModel", name := "isOther", desc := "(IJI)Z" } : Jvm.MethodName)) ∈ lw_all := lw_g (lw_at lw_m4 239 rfl) rfl
theorem q983 : (Jvm.Cond.privateMethod ({ cls := "OriginRulesModel", name := "isOther", desc := "(IJI)Z" } : Jvm.MethodName)) ∈ lw_tbl := lw_at lw_m5 0 rfl
theorem q984 : (Jvm.Cond.instanceMethod ({ cls := "OriginRulesModel", name := "isOther", desc := "(IJI)Z" } : Jvm.MethodName)) ∈ lw_all := lw_g (lw_at lw_m5 1 rfl) rfl
theorem q985 : (Jvm.Cond.code ({ cls := "OriginRulesModel", name := "isOther", desc := "(IJI)Z" } : Jvm.MethodName) prog_17_method_22_code (10 : Nat) (Option.some Jvm.ClassFile.FieldType.boolean)) ∈ lw_all := lw_g (lw_at lw_m5 2 rfl) rfl
theorem q986 : (Jvm.Cond.constantLong "OriginRulesModel" (133 : Nat) (100 : Int64)) ∈ lw_all := lw_g (lw_at lw_m5 3 rfl) rfl
theorem q987 : (Jvm.Cond.methodLink "OriginRulesModel" (135 : Nat) ({ cls := "OriginRulesModel", name := "foreign", desc := "()J" } : Jvm.MethodName)) ∈ lw_all := lw_g (lw_at lw_m5 4 rfl) rfl
theorem q988 : (Jvm.Cond.privateMethod ({ cls := "OriginRulesModel", name := "foreign", desc := "()J" } : Jvm.MethodName)) ∈ lw_tbl := lw_at lw_m5 5 rfl
theorem q989 : (Jvm.Cond.instanceMethod ({ cls := "OriginRulesModel", name := "foreign", desc := "()J" } : Jvm.MethodName)) ∈ lw_all := lw_g (lw_at lw_m5 6 rfl) rfl
theorem q990 : (Jvm.Cond.code ({ cls := "OriginRulesModel", name := "foreign", desc := "()J" } : Jvm.MethodName) prog_17_method_21_code (4 : Nat) (Option.some Jvm.ClassFile.FieldType.long)) ∈ lw_all := lw_g (lw_at lw_m5 7 rfl) rfl
theorem q991 : (Jvm.Cond.methodLink "OriginRulesModel" (139 : Nat) ({ cls := "OriginRulesModel", name := "numberAt", desc := "(I)I" } : Jvm.MethodName)) ∈ lw_all := lw_g (lw_at lw_m5 8 rfl) rfl
theorem q992 : (Jvm.Cond.privateMethod ({ cls := "OriginRulesModel", name := "numberAt", desc := "(I)I" } : Jvm.MethodName)) ∈ lw_tbl := lw_at lw_m5 9 rfl
theorem q993 : (Jvm.Cond.instanceMethod ({ cls := "OriginRulesModel", name := "numberAt", desc := "(I)I" } : Jvm.MethodName)) ∈ lw_all := lw_g (lw_at lw_m5 10 rfl) rfl
theorem q994 : (Jvm.Cond.code ({ cls := "OriginRulesModel", name := "numberAt", desc := "(I)I" } : Jvm.MethodName) prog_17_method_23_code (4 : Nat) (Option.some Jvm.ClassFile.FieldType.int)) ∈ lw_all := lw_g (lw_at lw_m5 11 rfl) rfl
theorem q996 : (Jvm.Cond.instanceMethod ({ cls := "OriginRulesModel", name := "why", desc := "(I)I" } : Jvm.MethodName)) ∈ lw_all := lw_g (lw_at lw_m5 13 rfl) rfl
theorem q997 : (Jvm.Cond.selects "OriginRulesModel" ({ cls := "OriginRulesModel", name := "why", desc := "(I)I" } : Jvm.MethodName) ({ cls := "OriginRulesModel", name := "why", desc := "(I)I" } : Jvm.MethodName)) ∈ lw_all := lw_g (lw_at lw_m5 14 rfl) rfl
theorem q998 : (Jvm.Cond.code ({ cls := "OriginRulesModel", name := "why", desc := "(I)I" } : Jvm.MethodName) prog_17_method_27_code (2 : Nat) (Option.some Jvm.ClassFile.FieldType.int)) ∈ lw_all := lw_g (lw_at lw_m5 15 rfl) rfl
theorem q1000 : (Jvm.Cond.instanceMethod ({ cls := "OriginRulesModel", name := "share", desc := "(JI)J" } : Jvm.MethodName)) ∈ lw_all := lw_g (lw_at lw_m5 17 rfl) rfl
theorem q1001 : (Jvm.Cond.selects "OriginRulesModel" ({ cls := "OriginRulesModel", name := "share", desc := "(JI)J" } : Jvm.MethodName) ({ cls := "OriginRulesModel", name := "share", desc := "(JI)J" } : Jvm.MethodName)) ∈ lw_all := lw_g (lw_at lw_m5 18 rfl) rfl
theorem q1002 : (Jvm.Cond.code ({ cls := "OriginRulesModel", name := "share", desc := "(JI)J" } : Jvm.MethodName) prog_17_method_28_code (12 : Nat) (Option.some Jvm.ClassFile.FieldType.long)) ∈ lw_all := lw_g (lw_at lw_m5 19 rfl) rfl
theorem q1004 : (Jvm.Cond.instanceMethod ({ cls := "OriginRulesModel", name := "proof", desc := "(III)I" } : Jvm.MethodName)) ∈ lw_all := lw_g (lw_at lw_m5 21 rfl) rfl
theorem q1005 : (Jvm.Cond.selects "OriginRulesModel" ({ cls := "OriginRulesModel", name := "proof", desc := "(III)I" } : Jvm.MethodName) ({ cls := "OriginRulesModel", name := "proof", desc := "(III)I" } : Jvm.MethodName)) ∈ lw_all := lw_g (lw_at lw_m5 22 rfl) rfl
theorem q1006 : (Jvm.Cond.code ({ cls := "OriginRulesModel", name := "proof", desc := "(III)I" } : Jvm.MethodName) prog_17_method_30_code (4 : Nat) (Option.some Jvm.ClassFile.FieldType.int)) ∈ lw_all := lw_g (lw_at lw_m5 23 rfl) rfl
theorem q1007 : (Jvm.Cond.methodLink "OriginRulesModel" (157 : Nat) ({ cls := "OriginRulesModel", name := "isDay", desc := "(I)Z" } : Jvm.MethodName)) ∈ lw_all := lw_g (lw_at lw_m5 24 rfl) rfl
theorem q1008 : (Jvm.Cond.static ({ cls := "OriginRulesModel", name := "isDay", desc := "(I)Z" } : Jvm.MethodName)) ∈ lw_all := lw_g (lw_at lw_m5 25 rfl) rfl
theorem q1009 : (Jvm.Cond.code ({ cls := "OriginRulesModel", name := "isDay", desc := "(I)Z" } : Jvm.MethodName) prog_17_method_29_code (1 : Nat) (Option.some Jvm.ClassFile.FieldType.boolean)) ∈ lw_all := lw_g (lw_at lw_m5 26 rfl) rfl
theorem q1010 : (Jvm.Cond.constantLong "OriginRulesModel" (155 : Nat) (100000 : Int64)) ∈ lw_all := lw_g (lw_at lw_m5 27 rfl) rfl
theorem q1012 : (Jvm.Cond.instanceMethod ({ cls := "OriginRulesModel", name := "good", desc := "(IJI)Z" } : Jvm.MethodName)) ∈ lw_all := lw_g (lw_at lw_m5 29 rfl) rfl
theorem q1013 : (Jvm.Cond.selects "OriginRulesModel" ({ cls := "OriginRulesModel", name := "good", desc := "(IJI)Z" } : Jvm.MethodName) ({ cls := "OriginRulesModel", name := "good", desc := "(IJI)Z" } : Jvm.MethodName)) ∈ lw_all := lw_g (lw_at lw_m5 30 rfl) rfl
theorem q1014 : (Jvm.Cond.code ({ cls := "OriginRulesModel", name := "good", desc := "(IJI)Z" } : Jvm.MethodName) prog_17_method_31_code (5 : Nat) (Option.some Jvm.ClassFile.FieldType.boolean)) ∈ lw_all := lw_g (lw_at lw_m5 31 rfl) rfl
theorem q1015 : (Jvm.Cond.constantLong "OriginRulesModel" (163 : Nat) (1000000 : Int64)) ∈ lw_all := lw_g (lw_at lw_m5 32 rfl) rfl
theorem q1017 : (Jvm.Cond.instanceMethod ({ cls := "OriginRulesModel", name := "count", desc := "(I)I" } : Jvm.MethodName)) ∈ lw_all := lw_g (lw_at lw_m5 34 rfl) rfl
theorem q1018 : (Jvm.Cond.selects "OriginRulesModel" ({ cls := "OriginRulesModel", name := "count", desc := "(I)I" } : Jvm.MethodName) ({ cls := "OriginRulesModel", name := "count", desc := "(I)I" } : Jvm.MethodName)) ∈ lw_all := lw_g (lw_at lw_m5 35 rfl) rfl
theorem q1019 : (Jvm.Cond.code ({ cls := "OriginRulesModel", name := "count", desc := "(I)I" } : Jvm.MethodName) prog_17_method_32_code (4 : Nat) (Option.some Jvm.ClassFile.FieldType.int)) ∈ lw_all := lw_g (lw_at lw_m5 36 rfl) rfl
theorem q1029 : (Jvm.Cond.castable "OriginRulesModel" "java/lang/Object") ∈ lw_tbl := lw_at lw_m5 46 rfl
theorem in_X4 : ∀ w ∈ wsX40, w ∈ lw_all := lw_in wsX40 [834, 836, 838, 840, 842, 844, 846, 848, 850, 852, 854, 856, 858, 860, 862, 864, 866, 868, 870, 872, 874, 876, 878, 880, 882, 884, 886] (by decide +kernel) (by decide +kernel)

