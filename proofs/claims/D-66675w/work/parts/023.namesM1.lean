/-! OriginRulesModel -/
set_option maxRecDepth 100000
def RX4 : String := "OriginRulesModel"
def TX4 : u_T := fun k => match k with
  | 0 => ("OriginRulesModel", "thrown", "I", false)
  | 1 => ("OriginRulesModel", "text", "[I", true)
  | 2 => ("OriginRulesModel", "signs", "I", false)
  | 3 => ("OriginRulesModel", "read", "[I", true)
  | 4 => ("OriginRulesModel", "begins", "[I", true)
  | 5 => ("OriginRulesModel", "rows", "I", false)
  | 6 => ("OriginRulesModel", "tried", "[I", true)
  | 7 => ("OriginRulesModel", "parts", "I", false)
  | 8 => ("OriginRulesModel", "partCode", "[I", true)
  | 9 => ("OriginRulesModel", "partLand", "[I", true)
  | 10 => ("OriginRulesModel", "partCents", "[J", true)
  | 11 => ("OriginRulesModel", "done", "I", false)
  | 12 => ("OriginRulesModel", "barred", "I", false)
  | 13 => ("OriginRulesModel", "joined", "[Z", true)
  | 14 => ("OriginRulesModel", "pairs", "I", false)
  | 15 => ("OriginRulesModel", "full", "Z", false)
  | 16 => ("OriginRulesModel", "up", "I", false)
  | 17 => ("OriginRulesModel", "down", "I", false)
  | 18 => ("OriginRulesModel", "proofs", "I", false)
  | 19 => ("OriginRulesModel", "proofKind", "[I", true)
  | 20 => ("OriginRulesModel", "proofFrom", "[I", true)
  | 21 => ("OriginRulesModel", "proofTo", "[I", true)
  | 22 => ("OriginRulesModel", "asked", "I", false)
  | 23 => ("OriginRulesModel", "told", "[I", true)
  | 24 => ("OriginRulesModel", "live", "[Z", true)
  | 25 => ("OriginRulesModel", "any", "[Z", true)
  | _ => ("OriginRulesModel", "all", "[Z", true)
def tyX4 : Nat → FieldType := fun k => match k with
  | 0 => .int
  | 1 => .array .int
  | 2 => .int
  | 3 => .array .int
  | 4 => .array .int
  | 5 => .int
  | 6 => .array .int
  | 7 => .int
  | 8 => .array .int
  | 9 => .array .int
  | 10 => .array .long
  | 11 => .int
  | 12 => .int
  | 13 => .array .boolean
  | 14 => .int
  | 15 => .boolean
  | 16 => .int
  | 17 => .int
  | 18 => .int
  | 19 => .array .int
  | 20 => .array .int
  | 21 => .array .int
  | 22 => .int
  | 23 => .array .int
  | 24 => .array .boolean
  | 25 => .array .boolean
  | _ => .array .boolean
abbrev wsX40 : List Cond := u_ws RX4 TX4 27
set_option maxRecDepth 100000 in
theorem nmX4 : ∀ a, a < 27 → ∀ b, b < 27 → a ≠ b → (TX4 a).2.1 ≠ (TX4 b).2.1 := by decide +kernel
set_option maxRecDepth 100000 in
theorem tyX4_ok : ∀ k, k < 27 → parseFieldDescriptor (TX4 k).2.2.1 = some (tyX4 k) := by decide +kernel
abbrev cX4_init : ByteArray := prog_17_method_1_code
def yX4_init : MethodName := ⟨RX4, "<init>", "()V"⟩
theorem dX4_init_0 : decode cX4_init 0 = .ok (.aload_n 0, 1) := by decide +kernel
theorem dX4_init_1 : decode cX4_init 1 = .ok (.invokespecial 1, 3) := by decide +kernel
theorem dX4_init_4 : decode cX4_init 4 = .ok (.aload_n 0, 1) := by decide +kernel
theorem dX4_init_5 : decode cX4_init 5 = .ok (.sipush 300, 3) := by decide +kernel
theorem dX4_init_8 : decode cX4_init 8 = .ok (.newarray .int, 2) := by decide +kernel
theorem dX4_init_10 : decode cX4_init 10 = .ok (.putfield 7, 3) := by decide +kernel
theorem dX4_init_13 : decode cX4_init 13 = .ok (.aload_n 0, 1) := by decide +kernel
theorem dX4_init_14 : decode cX4_init 14 = .ok (.sipush 300, 3) := by decide +kernel
theorem dX4_init_17 : decode cX4_init 17 = .ok (.newarray .int, 2) := by decide +kernel
theorem dX4_init_19 : decode cX4_init 19 = .ok (.putfield 13, 3) := by decide +kernel
theorem dX4_init_22 : decode cX4_init 22 = .ok (.aload_n 0, 1) := by decide +kernel
theorem dX4_init_23 : decode cX4_init 23 = .ok (.bipush 21, 2) := by decide +kernel
theorem dX4_init_25 : decode cX4_init 25 = .ok (.newarray .int, 2) := by decide +kernel
theorem dX4_init_27 : decode cX4_init 27 = .ok (.putfield 16, 3) := by decide +kernel
theorem dX4_init_30 : decode cX4_init 30 = .ok (.aload_n 0, 1) := by decide +kernel
theorem dX4_init_31 : decode cX4_init 31 = .ok (.bipush 21, 2) := by decide +kernel
theorem dX4_init_33 : decode cX4_init 33 = .ok (.newarray .int, 2) := by decide +kernel
theorem dX4_init_35 : decode cX4_init 35 = .ok (.putfield 19, 3) := by decide +kernel
theorem dX4_init_38 : decode cX4_init 38 = .ok (.aload_n 0, 1) := by decide +kernel
theorem dX4_init_39 : decode cX4_init 39 = .ok (.bipush 12, 2) := by decide +kernel
theorem dX4_init_41 : decode cX4_init 41 = .ok (.newarray .int, 2) := by decide +kernel
theorem dX4_init_43 : decode cX4_init 43 = .ok (.putfield 22, 3) := by decide +kernel
theorem dX4_init_46 : decode cX4_init 46 = .ok (.aload_n 0, 1) := by decide +kernel
theorem dX4_init_47 : decode cX4_init 47 = .ok (.bipush 12, 2) := by decide +kernel
theorem dX4_init_49 : decode cX4_init 49 = .ok (.newarray .int, 2) := by decide +kernel
theorem dX4_init_51 : decode cX4_init 51 = .ok (.putfield 25, 3) := by decide +kernel
theorem dX4_init_54 : decode cX4_init 54 = .ok (.aload_n 0, 1) := by decide +kernel
theorem dX4_init_55 : decode cX4_init 55 = .ok (.bipush 12, 2) := by decide +kernel
theorem dX4_init_57 : decode cX4_init 57 = .ok (.newarray .long, 2) := by decide +kernel
theorem dX4_init_59 : decode cX4_init 59 = .ok (.putfield 28, 3) := by decide +kernel
theorem dX4_init_62 : decode cX4_init 62 = .ok (.aload_n 0, 1) := by decide +kernel
theorem dX4_init_63 : decode cX4_init 63 = .ok (.bipush 100, 2) := by decide +kernel
theorem dX4_init_65 : decode cX4_init 65 = .ok (.newarray .boolean, 2) := by decide +kernel
theorem dX4_init_67 : decode cX4_init 67 = .ok (.putfield 32, 3) := by decide +kernel
theorem dX4_init_70 : decode cX4_init 70 = .ok (.aload_n 0, 1) := by decide +kernel
theorem dX4_init_71 : decode cX4_init 71 = .ok (.iconst 1, 1) := by decide +kernel
theorem dX4_init_72 : decode cX4_init 72 = .ok (.putfield 36, 3) := by decide +kernel
theorem dX4_init_75 : decode cX4_init 75 = .ok (.aload_n 0, 1) := by decide +kernel
theorem dX4_init_76 : decode cX4_init 76 = .ok (.bipush 20, 2) := by decide +kernel
theorem dX4_init_78 : decode cX4_init 78 = .ok (.newarray .int, 2) := by decide +kernel
theorem dX4_init_80 : decode cX4_init 80 = .ok (.putfield 40, 3) := by decide +kernel
theorem dX4_init_83 : decode cX4_init 83 = .ok (.aload_n 0, 1) := by decide +kernel
theorem dX4_init_84 : decode cX4_init 84 = .ok (.bipush 20, 2) := by decide +kernel
theorem dX4_init_86 : decode cX4_init 86 = .ok (.newarray .int, 2) := by decide +kernel
theorem dX4_init_88 : decode cX4_init 88 = .ok (.putfield 43, 3) := by decide +kernel
theorem dX4_init_91 : decode cX4_init 91 = .ok (.aload_n 0, 1) := by decide +kernel
theorem dX4_init_92 : decode cX4_init 92 = .ok (.bipush 20, 2) := by decide +kernel
theorem dX4_init_94 : decode cX4_init 94 = .ok (.newarray .int, 2) := by decide +kernel
theorem dX4_init_96 : decode cX4_init 96 = .ok (.putfield 46, 3) := by decide +kernel
theorem dX4_init_99 : decode cX4_init 99 = .ok (.aload_n 0, 1) := by decide +kernel
theorem dX4_init_100 : decode cX4_init 100 = .ok (.sipush 300, 3) := by decide +kernel
theorem dX4_init_103 : decode cX4_init 103 = .ok (.newarray .int, 2) := by decide +kernel
theorem dX4_init_105 : decode cX4_init 105 = .ok (.putfield 49, 3) := by decide +kernel
theorem dX4_init_108 : decode cX4_init 108 = .ok (.aload_n 0, 1) := by decide +kernel
theorem dX4_init_109 : decode cX4_init 109 = .ok (.bipush 9, 2) := by decide +kernel
theorem dX4_init_111 : decode cX4_init 111 = .ok (.newarray .boolean, 2) := by decide +kernel
theorem dX4_init_113 : decode cX4_init 113 = .ok (.putfield 52, 3) := by decide +kernel
theorem dX4_init_116 : decode cX4_init 116 = .ok (.aload_n 0, 1) := by decide +kernel
theorem dX4_init_117 : decode cX4_init 117 = .ok (.bipush 9, 2) := by decide +kernel
theorem dX4_init_119 : decode cX4_init 119 = .ok (.newarray .boolean, 2) := by decide +kernel
theorem dX4_init_121 : decode cX4_init 121 = .ok (.putfield 55, 3) := by decide +kernel
theorem dX4_init_124 : decode cX4_init 124 = .ok (.aload_n 0, 1) := by decide +kernel
theorem dX4_init_125 : decode cX4_init 125 = .ok (.bipush 9, 2) := by decide +kernel
theorem dX4_init_127 : decode cX4_init 127 = .ok (.newarray .boolean, 2) := by decide +kernel
theorem dX4_init_129 : decode cX4_init 129 = .ok (.putfield 58, 3) := by decide +kernel
theorem dX4_init_132 : decode cX4_init 132 = .ok (.return_, 1) := by decide +kernel
abbrev cX4_thrown : ByteArray := prog_17_method_2_code
def yX4_thrown : MethodName := ⟨RX4, "thrown", "()I"⟩
theorem dX4_thrown_0 : decode cX4_thrown 0 = .ok (.aload_n 0, 1) := by decide +kernel
theorem dX4_thrown_1 : decode cX4_thrown 1 = .ok (.getfield 61, 3) := by decide +kernel
theorem dX4_thrown_4 : decode cX4_thrown 4 = .ok (.ireturn, 1) := by decide +kernel
abbrev cX4_sign : ByteArray := prog_17_method_6_code
def yX4_sign : MethodName := ⟨RX4, "sign", "(I)Z"⟩
theorem dX4_sign_0 : decode cX4_sign 0 = .ok (.aload_n 0, 1) := by decide +kernel
theorem dX4_sign_1 : decode cX4_sign 1 = .ok (.iconst 0, 1) := by decide +kernel
theorem dX4_sign_2 : decode cX4_sign 2 = .ok (.putfield 61, 3) := by decide +kernel
theorem dX4_sign_5 : decode cX4_sign 5 = .ok (.iload_n 1, 1) := by decide +kernel
theorem dX4_sign_6 : decode cX4_sign 6 = .ok (.i2l, 1) := by decide +kernel
theorem dX4_sign_7 : decode cX4_sign 7 = .ok (.ldc2_w 64, 3) := by decide +kernel
theorem dX4_sign_10 : decode cX4_sign 10 = .ok (.ldc2_w 66, 3) := by decide +kernel
theorem dX4_sign_13 : decode cX4_sign 13 = .ok (.invokestatic 68, 3) := by decide +kernel
theorem dX4_sign_16 : decode cX4_sign 16 = .ok (.ifCond .eq 13, 3) := by decide +kernel
theorem dX4_sign_19 : decode cX4_sign 19 = .ok (.aload_n 0, 1) := by decide +kernel
theorem dX4_sign_20 : decode cX4_sign 20 = .ok (.getfield 72, 3) := by decide +kernel
theorem dX4_sign_23 : decode cX4_sign 23 = .ok (.sipush 300, 3) := by decide +kernel
theorem dX4_sign_26 : decode cX4_sign 26 = .ok (.if_icmp .ne 5, 3) := by decide +kernel
theorem dX4_sign_29 : decode cX4_sign 29 = .ok (.iconst 0, 1) := by decide +kernel
theorem dX4_sign_30 : decode cX4_sign 30 = .ok (.ireturn, 1) := by decide +kernel
theorem dX4_sign_31 : decode cX4_sign 31 = .ok (.aload_n 0, 1) := by decide +kernel
theorem dX4_sign_32 : decode cX4_sign 32 = .ok (.getfield 7, 3) := by decide +kernel
theorem dX4_sign_35 : decode cX4_sign 35 = .ok (.aload_n 0, 1) := by decide +kernel
theorem dX4_sign_36 : decode cX4_sign 36 = .ok (.getfield 72, 3) := by decide +kernel
theorem dX4_sign_39 : decode cX4_sign 39 = .ok (.iload_n 1, 1) := by decide +kernel
theorem dX4_sign_40 : decode cX4_sign 40 = .ok (.iastore, 1) := by decide +kernel
theorem dX4_sign_41 : decode cX4_sign 41 = .ok (.aload_n 0, 1) := by decide +kernel
theorem dX4_sign_42 : decode cX4_sign 42 = .ok (.dup, 1) := by decide +kernel
theorem dX4_sign_43 : decode cX4_sign 43 = .ok (.getfield 72, 3) := by decide +kernel
theorem dX4_sign_46 : decode cX4_sign 46 = .ok (.iconst 1, 1) := by decide +kernel
theorem dX4_sign_47 : decode cX4_sign 47 = .ok (.iadd, 1) := by decide +kernel
theorem dX4_sign_48 : decode cX4_sign 48 = .ok (.putfield 72, 3) := by decide +kernel
theorem dX4_sign_51 : decode cX4_sign 51 = .ok (.iconst 1, 1) := by decide +kernel
theorem dX4_sign_52 : decode cX4_sign 52 = .ok (.ireturn, 1) := by decide +kernel
abbrev cX4_in : ByteArray := prog_17_method_4_code
def yX4_in : MethodName := ⟨RX4, "in", "(JJJ)Z"⟩
theorem dX4_in_0 : decode cX4_in 0 = .ok (.lload_n 0, 1) := by decide +kernel
theorem dX4_in_1 : decode cX4_in 1 = .ok (.lload_n 2, 1) := by decide +kernel
theorem dX4_in_2 : decode cX4_in 2 = .ok (.lcmp, 1) := by decide +kernel
theorem dX4_in_3 : decode cX4_in 3 = .ok (.ifCond .lt 14, 3) := by decide +kernel
theorem dX4_in_6 : decode cX4_in 6 = .ok (.lload_n 0, 1) := by decide +kernel
theorem dX4_in_7 : decode cX4_in 7 = .ok (.lload 4, 2) := by decide +kernel
theorem dX4_in_9 : decode cX4_in 9 = .ok (.lcmp, 1) := by decide +kernel
theorem dX4_in_10 : decode cX4_in 10 = .ok (.ifCond .gt 7, 3) := by decide +kernel
theorem dX4_in_13 : decode cX4_in 13 = .ok (.iconst 1, 1) := by decide +kernel
theorem dX4_in_14 : decode cX4_in 14 = .ok (.goto 4, 3) := by decide +kernel
theorem dX4_in_17 : decode cX4_in 17 = .ok (.iconst 0, 1) := by decide +kernel
theorem dX4_in_18 : decode cX4_in 18 = .ok (.ireturn, 1) := by decide +kernel
abbrev cX4_read : ByteArray := prog_17_method_9_code
def yX4_read : MethodName := ⟨RX4, "read", "()I"⟩
theorem dX4_read_0 : decode cX4_read 0 = .ok (.aload_n 0, 1) := by decide +kernel
theorem dX4_read_1 : decode cX4_read 1 = .ok (.iconst 0, 1) := by decide +kernel
theorem dX4_read_2 : decode cX4_read 2 = .ok (.putfield 61, 3) := by decide +kernel
theorem dX4_read_5 : decode cX4_read 5 = .ok (.iconst 0, 1) := by decide +kernel
theorem dX4_read_6 : decode cX4_read 6 = .ok (.istore_n 1, 1) := by decide +kernel
theorem dX4_read_7 : decode cX4_read 7 = .ok (.iconst 0, 1) := by decide +kernel
theorem dX4_read_8 : decode cX4_read 8 = .ok (.istore_n 2, 1) := by decide +kernel
theorem dX4_read_9 : decode cX4_read 9 = .ok (.iconst 0, 1) := by decide +kernel
theorem dX4_read_10 : decode cX4_read 10 = .ok (.istore_n 3, 1) := by decide +kernel
theorem dX4_read_11 : decode cX4_read 11 = .ok (.iconst 0, 1) := by decide +kernel
theorem dX4_read_12 : decode cX4_read 12 = .ok (.istore 4, 2) := by decide +kernel
theorem dX4_read_14 : decode cX4_read 14 = .ok (.iconst 0, 1) := by decide +kernel
theorem dX4_read_15 : decode cX4_read 15 = .ok (.istore 5, 2) := by decide +kernel
theorem dX4_read_17 : decode cX4_read 17 = .ok (.iconst (-1), 1) := by decide +kernel
theorem dX4_read_18 : decode cX4_read 18 = .ok (.istore 6, 2) := by decide +kernel
theorem dX4_read_20 : decode cX4_read 20 = .ok (.iconst 0, 1) := by decide +kernel
theorem dX4_read_21 : decode cX4_read 21 = .ok (.istore 7, 2) := by decide +kernel
theorem dX4_read_23 : decode cX4_read 23 = .ok (.iload 7, 2) := by decide +kernel
theorem dX4_read_25 : decode cX4_read 25 = .ok (.aload_n 0, 1) := by decide +kernel
theorem dX4_read_26 : decode cX4_read 26 = .ok (.getfield 72, 3) := by decide +kernel
theorem dX4_read_29 : decode cX4_read 29 = .ok (.if_icmp .ge 296, 3) := by decide +kernel
theorem dX4_read_32 : decode cX4_read 32 = .ok (.iload 6, 2) := by decide +kernel
theorem dX4_read_34 : decode cX4_read 34 = .ok (.ifCond .ge 291, 3) := by decide +kernel
theorem dX4_read_37 : decode cX4_read 37 = .ok (.aload_n 0, 1) := by decide +kernel
theorem dX4_read_38 : decode cX4_read 38 = .ok (.getfield 7, 3) := by decide +kernel
theorem dX4_read_41 : decode cX4_read 41 = .ok (.iload 7, 2) := by decide +kernel
theorem dX4_read_43 : decode cX4_read 43 = .ok (.iaload, 1) := by decide +kernel
theorem dX4_read_44 : decode cX4_read 44 = .ok (.istore 8, 2) := by decide +kernel
theorem dX4_read_46 : decode cX4_read 46 = .ok (.iload 8, 2) := by decide +kernel
theorem dX4_read_48 : decode cX4_read 48 = .ok (.invokestatic 75, 3) := by decide +kernel
theorem dX4_read_51 : decode cX4_read 51 = .ok (.istore 9, 2) := by decide +kernel
theorem dX4_read_53 : decode cX4_read 53 = .ok (.iconst (-1), 1) := by decide +kernel
theorem dX4_read_54 : decode cX4_read 54 = .ok (.istore 10, 2) := by decide +kernel
theorem dX4_read_56 : decode cX4_read 56 = .ok (.iload_n 1, 1) := by decide +kernel
theorem dX4_read_57 : decode cX4_read 57 = .ok (.ifCond .ne 7, 3) := by decide +kernel
theorem dX4_read_60 : decode cX4_read 60 = .ok (.iconst 1, 1) := by decide +kernel
theorem dX4_read_61 : decode cX4_read 61 = .ok (.goto 4, 3) := by decide +kernel
theorem dX4_read_64 : decode cX4_read 64 = .ok (.iconst 0, 1) := by decide +kernel
theorem dX4_read_65 : decode cX4_read 65 = .ok (.istore 11, 2) := by decide +kernel
theorem dX4_read_67 : decode cX4_read 67 = .ok (.iload 11, 2) := by decide +kernel
theorem dX4_read_69 : decode cX4_read 69 = .ok (.ifCond .eq 36, 3) := by decide +kernel
theorem dX4_read_72 : decode cX4_read 72 = .ok (.aload_n 0, 1) := by decide +kernel
theorem dX4_read_73 : decode cX4_read 73 = .ok (.getfield 19, 3) := by decide +kernel
theorem dX4_read_76 : decode cX4_read 76 = .ok (.iload 5, 2) := by decide +kernel
theorem dX4_read_78 : decode cX4_read 78 = .ok (.iload 7, 2) := by decide +kernel
theorem dX4_read_80 : decode cX4_read 80 = .ok (.iastore, 1) := by decide +kernel
theorem dX4_read_81 : decode cX4_read 81 = .ok (.iload 9, 2) := by decide +kernel
theorem dX4_read_83 : decode cX4_read 83 = .ok (.ifCond .eq 14, 3) := by decide +kernel
theorem dX4_read_86 : decode cX4_read 86 = .ok (.iload 5, 2) := by decide +kernel
theorem dX4_read_88 : decode cX4_read 88 = .ok (.bipush 20, 2) := by decide +kernel
theorem dX4_read_90 : decode cX4_read 90 = .ok (.if_icmp .ge 7, 3) := by decide +kernel
theorem dX4_read_93 : decode cX4_read 93 = .ok (.iconst 1, 1) := by decide +kernel
theorem dX4_read_94 : decode cX4_read 94 = .ok (.goto 4, 3) := by decide +kernel
theorem dX4_read_97 : decode cX4_read 97 = .ok (.iconst (-1), 1) := by decide +kernel
theorem dX4_read_98 : decode cX4_read 98 = .ok (.istore 10, 2) := by decide +kernel
theorem dX4_read_100 : decode cX4_read 100 = .ok (.iconst 1, 1) := by decide +kernel
theorem dX4_read_101 : decode cX4_read 101 = .ok (.istore_n 3, 1) := by decide +kernel
theorem dX4_read_102 : decode cX4_read 102 = .ok (.goto 150, 3) := by decide +kernel
theorem dX4_read_105 : decode cX4_read 105 = .ok (.iload_n 1, 1) := by decide +kernel
theorem dX4_read_106 : decode cX4_read 106 = .ok (.iconst 1, 1) := by decide +kernel
theorem dX4_read_107 : decode cX4_read 107 = .ok (.if_icmp .ne 38, 3) := by decide +kernel
theorem dX4_read_110 : decode cX4_read 110 = .ok (.iload 9, 2) := by decide +kernel
theorem dX4_read_112 : decode cX4_read 112 = .ok (.ifCond .eq 13, 3) := by decide +kernel
theorem dX4_read_115 : decode cX4_read 115 = .ok (.iload_n 3, 1) := by decide +kernel
theorem dX4_read_116 : decode cX4_read 116 = .ok (.bipush 6, 2) := by decide +kernel
theorem dX4_read_118 : decode cX4_read 118 = .ok (.if_icmp .ge 7, 3) := by decide +kernel
theorem dX4_read_121 : decode cX4_read 121 = .ok (.iconst 1, 1) := by decide +kernel
theorem dX4_read_122 : decode cX4_read 122 = .ok (.goto 15, 3) := by decide +kernel
theorem dX4_read_125 : decode cX4_read 125 = .ok (.iload 8, 2) := by decide +kernel
theorem dX4_read_127 : decode cX4_read 127 = .ok (.bipush 58, 2) := by decide +kernel
theorem dX4_read_129 : decode cX4_read 129 = .ok (.if_icmp .ne 7, 3) := by decide +kernel
theorem dX4_read_132 : decode cX4_read 132 = .ok (.iconst 2, 1) := by decide +kernel
theorem dX4_read_133 : decode cX4_read 133 = .ok (.goto 4, 3) := by decide +kernel
theorem dX4_read_136 : decode cX4_read 136 = .ok (.iconst (-1), 1) := by decide +kernel
theorem dX4_read_137 : decode cX4_read 137 = .ok (.istore 10, 2) := by decide +kernel
theorem dX4_read_139 : decode cX4_read 139 = .ok (.iinc 3 1, 3) := by decide +kernel
theorem dX4_read_142 : decode cX4_read 142 = .ok (.goto 110, 3) := by decide +kernel
theorem dX4_read_145 : decode cX4_read 145 = .ok (.iload_n 1, 1) := by decide +kernel
theorem dX4_read_146 : decode cX4_read 146 = .ok (.iconst 2, 1) := by decide +kernel
theorem dX4_read_147 : decode cX4_read 147 = .ok (.if_icmp .ne 19, 3) := by decide +kernel
theorem dX4_read_150 : decode cX4_read 150 = .ok (.iload 8, 2) := by decide +kernel
theorem dX4_read_152 : decode cX4_read 152 = .ok (.iload_n 2, 1) := by decide +kernel
theorem dX4_read_153 : decode cX4_read 153 = .ok (.invokestatic 79, 3) := by decide +kernel
theorem dX4_read_156 : decode cX4_read 156 = .ok (.istore 10, 2) := by decide +kernel
theorem dX4_read_158 : decode cX4_read 158 = .ok (.iconst 0, 1) := by decide +kernel
theorem dX4_read_159 : decode cX4_read 159 = .ok (.istore_n 3, 1) := by decide +kernel
theorem dX4_read_160 : decode cX4_read 160 = .ok (.iconst 0, 1) := by decide +kernel
theorem dX4_read_161 : decode cX4_read 161 = .ok (.istore 4, 2) := by decide +kernel
theorem dX4_read_163 : decode cX4_read 163 = .ok (.goto 89, 3) := by decide +kernel
theorem dX4_read_166 : decode cX4_read 166 = .ok (.iload_n 1, 1) := by decide +kernel
theorem dX4_read_167 : decode cX4_read 167 = .ok (.iconst 3, 1) := by decide +kernel
theorem dX4_read_168 : decode cX4_read 168 = .ok (.if_icmp .ne 14, 3) := by decide +kernel
theorem dX4_read_171 : decode cX4_read 171 = .ok (.iload 8, 2) := by decide +kernel
theorem dX4_read_173 : decode cX4_read 173 = .ok (.iload_n 2, 1) := by decide +kernel
theorem dX4_read_174 : decode cX4_read 174 = .ok (.invokestatic 83, 3) := by decide +kernel
theorem dX4_read_177 : decode cX4_read 177 = .ok (.istore 10, 2) := by decide +kernel
theorem dX4_read_179 : decode cX4_read 179 = .ok (.goto 73, 3) := by decide +kernel
theorem dX4_read_182 : decode cX4_read 182 = .ok (.iload 9, 2) := by decide +kernel
theorem dX4_read_184 : decode cX4_read 184 = .ok (.ifCond .eq 39, 3) := by decide +kernel
theorem dX4_read_187 : decode cX4_read 187 = .ok (.iload_n 3, 1) := by decide +kernel
theorem dX4_read_188 : decode cX4_read 188 = .ok (.iload_n 1, 1) := by decide +kernel
theorem dX4_read_189 : decode cX4_read 189 = .ok (.iconst 4, 1) := by decide +kernel
theorem dX4_read_190 : decode cX4_read 190 = .ok (.if_icmp .ne 7, 3) := by decide +kernel
theorem dX4_read_193 : decode cX4_read 193 = .ok (.iconst 3, 1) := by decide +kernel
theorem dX4_read_194 : decode cX4_read 194 = .ok (.goto 4, 3) := by decide +kernel
theorem dX4_read_197 : decode cX4_read 197 = .ok (.iconst 2, 1) := by decide +kernel
theorem dX4_read_198 : decode cX4_read 198 = .ok (.if_icmp .ge 25, 3) := by decide +kernel
theorem dX4_read_201 : decode cX4_read 201 = .ok (.iload_n 1, 1) := by decide +kernel
theorem dX4_read_202 : decode cX4_read 202 = .ok (.istore 10, 2) := by decide +kernel
theorem dX4_read_204 : decode cX4_read 204 = .ok (.iinc 3 1, 3) := by decide +kernel
theorem dX4_read_207 : decode cX4_read 207 = .ok (.bipush 10, 2) := by decide +kernel
theorem dX4_read_209 : decode cX4_read 209 = .ok (.iload 4, 2) := by decide +kernel
theorem dX4_read_211 : decode cX4_read 211 = .ok (.imul, 1) := by decide +kernel
theorem dX4_read_212 : decode cX4_read 212 = .ok (.iload 8, 2) := by decide +kernel
theorem dX4_read_214 : decode cX4_read 214 = .ok (.iadd, 1) := by decide +kernel
theorem dX4_read_215 : decode cX4_read 215 = .ok (.bipush 48, 2) := by decide +kernel
theorem dX4_read_217 : decode cX4_read 217 = .ok (.isub, 1) := by decide +kernel
theorem dX4_read_218 : decode cX4_read 218 = .ok (.istore 4, 2) := by decide +kernel
theorem dX4_read_220 : decode cX4_read 220 = .ok (.goto 32, 3) := by decide +kernel
theorem dX4_read_223 : decode cX4_read 223 = .ok (.iload_n 3, 1) := by decide +kernel
theorem dX4_read_224 : decode cX4_read 224 = .ok (.ifCond .le 28, 3) := by decide +kernel
theorem dX4_read_227 : decode cX4_read 227 = .ok (.iload 4, 2) := by decide +kernel
theorem dX4_read_229 : decode cX4_read 229 = .ok (.iload_n 1, 1) := by decide +kernel
theorem dX4_read_230 : decode cX4_read 230 = .ok (.iconst 4, 1) := by decide +kernel
theorem dX4_read_231 : decode cX4_read 231 = .ok (.if_icmp .ne 8, 3) := by decide +kernel
theorem dX4_read_234 : decode cX4_read 234 = .ok (.bipush 100, 2) := by decide +kernel
theorem dX4_read_236 : decode cX4_read 236 = .ok (.goto 5, 3) := by decide +kernel
theorem dX4_read_239 : decode cX4_read 239 = .ok (.bipush 15, 2) := by decide +kernel
theorem dX4_read_241 : decode cX4_read 241 = .ok (.if_icmp .gt 11, 3) := by decide +kernel
theorem dX4_read_244 : decode cX4_read 244 = .ok (.iload 8, 2) := by decide +kernel
theorem dX4_read_246 : decode cX4_read 246 = .ok (.iload_n 2, 1) := by decide +kernel
theorem dX4_read_247 : decode cX4_read 247 = .ok (.invokestatic 83, 3) := by decide +kernel
theorem dX4_read_250 : decode cX4_read 250 = .ok (.istore 10, 2) := by decide +kernel
theorem dX4_read_252 : decode cX4_read 252 = .ok (.iload 10, 2) := by decide +kernel
theorem dX4_read_254 : decode cX4_read 254 = .ok (.ifCond .ge 8, 3) := by decide +kernel
theorem dX4_read_257 : decode cX4_read 257 = .ok (.iload 7, 2) := by decide +kernel
theorem dX4_read_259 : decode cX4_read 259 = .ok (.goto 5, 3) := by decide +kernel
theorem dX4_read_262 : decode cX4_read 262 = .ok (.iload 6, 2) := by decide +kernel
theorem dX4_read_264 : decode cX4_read 264 = .ok (.istore 6, 2) := by decide +kernel
theorem dX4_read_266 : decode cX4_read 266 = .ok (.iload_n 2, 1) := by decide +kernel
theorem dX4_read_267 : decode cX4_read 267 = .ok (.iload 8, 2) := by decide +kernel
theorem dX4_read_269 : decode cX4_read 269 = .ok (.bipush 40, 2) := by decide +kernel
theorem dX4_read_271 : decode cX4_read 271 = .ok (.if_icmp .ne 7, 3) := by decide +kernel
theorem dX4_read_274 : decode cX4_read 274 = .ok (.iconst 1, 1) := by decide +kernel
theorem dX4_read_275 : decode cX4_read 275 = .ok (.goto 15, 3) := by decide +kernel
theorem dX4_read_278 : decode cX4_read 278 = .ok (.iload 8, 2) := by decide +kernel
theorem dX4_read_280 : decode cX4_read 280 = .ok (.bipush 41, 2) := by decide +kernel
theorem dX4_read_282 : decode cX4_read 282 = .ok (.if_icmp .ne 7, 3) := by decide +kernel
theorem dX4_read_285 : decode cX4_read 285 = .ok (.iconst (-1), 1) := by decide +kernel
theorem dX4_read_286 : decode cX4_read 286 = .ok (.goto 4, 3) := by decide +kernel
theorem dX4_read_289 : decode cX4_read 289 = .ok (.iconst 0, 1) := by decide +kernel
theorem dX4_read_290 : decode cX4_read 290 = .ok (.iadd, 1) := by decide +kernel
theorem dX4_read_291 : decode cX4_read 291 = .ok (.istore_n 2, 1) := by decide +kernel
theorem dX4_read_292 : decode cX4_read 292 = .ok (.iload 5, 2) := by decide +kernel
theorem dX4_read_294 : decode cX4_read 294 = .ok (.iload 10, 2) := by decide +kernel
theorem dX4_read_296 : decode cX4_read 296 = .ok (.ifCond .ne 7, 3) := by decide +kernel
theorem dX4_read_299 : decode cX4_read 299 = .ok (.iconst 1, 1) := by decide +kernel
theorem dX4_read_300 : decode cX4_read 300 = .ok (.goto 4, 3) := by decide +kernel
theorem dX4_read_303 : decode cX4_read 303 = .ok (.iconst 0, 1) := by decide +kernel
theorem dX4_read_304 : decode cX4_read 304 = .ok (.iadd, 1) := by decide +kernel
theorem dX4_read_305 : decode cX4_read 305 = .ok (.istore 5, 2) := by decide +kernel
theorem dX4_read_307 : decode cX4_read 307 = .ok (.iload 10, 2) := by decide +kernel
theorem dX4_read_309 : decode cX4_read 309 = .ok (.ifCond .ge 7, 3) := by decide +kernel
theorem dX4_read_312 : decode cX4_read 312 = .ok (.iload_n 1, 1) := by decide +kernel
theorem dX4_read_313 : decode cX4_read 313 = .ok (.goto 5, 3) := by decide +kernel
theorem dX4_read_316 : decode cX4_read 316 = .ok (.iload 10, 2) := by decide +kernel
theorem dX4_read_318 : decode cX4_read 318 = .ok (.istore_n 1, 1) := by decide +kernel
theorem dX4_read_319 : decode cX4_read 319 = .ok (.iinc 7 1, 3) := by decide +kernel
theorem dX4_read_322 : decode cX4_read 322 = .ok (.goto (-299), 3) := by decide +kernel
theorem dX4_read_325 : decode cX4_read 325 = .ok (.iload 6, 2) := by decide +kernel
theorem dX4_read_327 : decode cX4_read 327 = .ok (.ifCond .ge 19, 3) := by decide +kernel
theorem dX4_read_330 : decode cX4_read 330 = .ok (.iload_n 1, 1) := by decide +kernel
theorem dX4_read_331 : decode cX4_read 331 = .ok (.ifCond .ne 8, 3) := by decide +kernel
theorem dX4_read_334 : decode cX4_read 334 = .ok (.iload 5, 2) := by decide +kernel
theorem dX4_read_336 : decode cX4_read 336 = .ok (.ifCond .ne 10, 3) := by decide +kernel
theorem dX4_read_339 : decode cX4_read 339 = .ok (.aload_n 0, 1) := by decide +kernel
theorem dX4_read_340 : decode cX4_read 340 = .ok (.getfield 72, 3) := by decide +kernel
theorem dX4_read_343 : decode cX4_read 343 = .ok (.goto 5, 3) := by decide +kernel
theorem dX4_read_346 : decode cX4_read 346 = .ok (.iload 6, 2) := by decide +kernel
theorem dX4_read_348 : decode cX4_read 348 = .ok (.istore 6, 2) := by decide +kernel
theorem dX4_read_350 : decode cX4_read 350 = .ok (.iload 6, 2) := by decide +kernel
theorem dX4_read_352 : decode cX4_read 352 = .ok (.ifCond .ge 82, 3) := by decide +kernel
theorem dX4_read_355 : decode cX4_read 355 = .ok (.aload_n 0, 1) := by decide +kernel
theorem dX4_read_356 : decode cX4_read 356 = .ok (.iload 5, 2) := by decide +kernel
theorem dX4_read_358 : decode cX4_read 358 = .ok (.putfield 86, 3) := by decide +kernel
theorem dX4_read_361 : decode cX4_read 361 = .ok (.iconst 0, 1) := by decide +kernel
theorem dX4_read_362 : decode cX4_read 362 = .ok (.istore 7, 2) := by decide +kernel
theorem dX4_read_364 : decode cX4_read 364 = .ok (.iload 7, 2) := by decide +kernel
theorem dX4_read_366 : decode cX4_read 366 = .ok (.aload_n 0, 1) := by decide +kernel
theorem dX4_read_367 : decode cX4_read 367 = .ok (.getfield 72, 3) := by decide +kernel
theorem dX4_read_370 : decode cX4_read 370 = .ok (.if_icmp .ge 23, 3) := by decide +kernel
theorem dX4_read_373 : decode cX4_read 373 = .ok (.aload_n 0, 1) := by decide +kernel
theorem dX4_read_374 : decode cX4_read 374 = .ok (.getfield 13, 3) := by decide +kernel
theorem dX4_read_377 : decode cX4_read 377 = .ok (.iload 7, 2) := by decide +kernel
theorem dX4_read_379 : decode cX4_read 379 = .ok (.aload_n 0, 1) := by decide +kernel
theorem dX4_read_380 : decode cX4_read 380 = .ok (.getfield 7, 3) := by decide +kernel
theorem dX4_read_383 : decode cX4_read 383 = .ok (.iload 7, 2) := by decide +kernel
theorem dX4_read_385 : decode cX4_read 385 = .ok (.iaload, 1) := by decide +kernel
theorem dX4_read_386 : decode cX4_read 386 = .ok (.iastore, 1) := by decide +kernel
theorem dX4_read_387 : decode cX4_read 387 = .ok (.iinc 7 1, 3) := by decide +kernel
theorem dX4_read_390 : decode cX4_read 390 = .ok (.goto (-26), 3) := by decide +kernel
theorem dX4_read_393 : decode cX4_read 393 = .ok (.aload_n 0, 1) := by decide +kernel
theorem dX4_read_394 : decode cX4_read 394 = .ok (.getfield 19, 3) := by decide +kernel
theorem dX4_read_397 : decode cX4_read 397 = .ok (.iload 5, 2) := by decide +kernel
theorem dX4_read_399 : decode cX4_read 399 = .ok (.aload_n 0, 1) := by decide +kernel
theorem dX4_read_400 : decode cX4_read 400 = .ok (.getfield 72, 3) := by decide +kernel
theorem dX4_read_403 : decode cX4_read 403 = .ok (.iastore, 1) := by decide +kernel
theorem dX4_read_404 : decode cX4_read 404 = .ok (.iconst 0, 1) := by decide +kernel
theorem dX4_read_405 : decode cX4_read 405 = .ok (.istore 7, 2) := by decide +kernel
theorem dX4_read_407 : decode cX4_read 407 = .ok (.iload 7, 2) := by decide +kernel
theorem dX4_read_409 : decode cX4_read 409 = .ok (.iload 5, 2) := by decide +kernel
theorem dX4_read_411 : decode cX4_read 411 = .ok (.if_icmp .gt 23, 3) := by decide +kernel
theorem dX4_read_414 : decode cX4_read 414 = .ok (.aload_n 0, 1) := by decide +kernel
theorem dX4_read_415 : decode cX4_read 415 = .ok (.getfield 16, 3) := by decide +kernel
theorem dX4_read_418 : decode cX4_read 418 = .ok (.iload 7, 2) := by decide +kernel
theorem dX4_read_420 : decode cX4_read 420 = .ok (.aload_n 0, 1) := by decide +kernel
theorem dX4_read_421 : decode cX4_read 421 = .ok (.getfield 19, 3) := by decide +kernel
theorem dX4_read_424 : decode cX4_read 424 = .ok (.iload 7, 2) := by decide +kernel
theorem dX4_read_426 : decode cX4_read 426 = .ok (.iaload, 1) := by decide +kernel
theorem dX4_read_427 : decode cX4_read 427 = .ok (.iastore, 1) := by decide +kernel
theorem dX4_read_428 : decode cX4_read 428 = .ok (.iinc 7 1, 3) := by decide +kernel
theorem dX4_read_431 : decode cX4_read 431 = .ok (.goto (-24), 3) := by decide +kernel
theorem dX4_read_434 : decode cX4_read 434 = .ok (.aload_n 0, 1) := by decide +kernel
theorem dX4_read_435 : decode cX4_read 435 = .ok (.iconst 0, 1) := by decide +kernel
theorem dX4_read_436 : decode cX4_read 436 = .ok (.putfield 72, 3) := by decide +kernel
theorem dX4_read_439 : decode cX4_read 439 = .ok (.iload 6, 2) := by decide +kernel
theorem dX4_read_441 : decode cX4_read 441 = .ok (.ifCond .ge 8, 3) := by decide +kernel
theorem dX4_read_444 : decode cX4_read 444 = .ok (.iload 5, 2) := by decide +kernel
theorem dX4_read_446 : decode cX4_read 446 = .ok (.goto 7, 3) := by decide +kernel
theorem dX4_read_449 : decode cX4_read 449 = .ok (.iconst (-1), 1) := by decide +kernel
theorem dX4_read_450 : decode cX4_read 450 = .ok (.iload 6, 2) := by decide +kernel
theorem dX4_read_452 : decode cX4_read 452 = .ok (.isub, 1) := by decide +kernel
theorem dX4_read_453 : decode cX4_read 453 = .ok (.ireturn, 1) := by decide +kernel
abbrev cX4_isDigit : ByteArray := prog_17_method_5_code
def yX4_isDigit : MethodName := ⟨RX4, "isDigit", "(I)Z"⟩
theorem dX4_isDigit_0 : decode cX4_isDigit 0 = .ok (.iload_n 0, 1) := by decide +kernel
theorem dX4_isDigit_1 : decode cX4_isDigit 1 = .ok (.bipush 48, 2) := by decide +kernel
theorem dX4_isDigit_3 : decode cX4_isDigit 3 = .ok (.if_icmp .lt 13, 3) := by decide +kernel
theorem dX4_isDigit_6 : decode cX4_isDigit 6 = .ok (.iload_n 0, 1) := by decide +kernel
theorem dX4_isDigit_7 : decode cX4_isDigit 7 = .ok (.bipush 57, 2) := by decide +kernel
theorem dX4_isDigit_9 : decode cX4_isDigit 9 = .ok (.if_icmp .gt 7, 3) := by decide +kernel
theorem dX4_isDigit_12 : decode cX4_isDigit 12 = .ok (.iconst 1, 1) := by decide +kernel
theorem dX4_isDigit_13 : decode cX4_isDigit 13 = .ok (.goto 4, 3) := by decide +kernel
theorem dX4_isDigit_16 : decode cX4_isDigit 16 = .ok (.iconst 0, 1) := by decide +kernel
theorem dX4_isDigit_17 : decode cX4_isDigit 17 = .ok (.ireturn, 1) := by decide +kernel
abbrev cX4_ahead : ByteArray := prog_17_method_8_code
def yX4_ahead : MethodName := ⟨RX4, "ahead", "(II)I"⟩
theorem dX4_ahead_0 : decode cX4_ahead 0 = .ok (.iload_n 0, 1) := by decide +kernel
theorem dX4_ahead_1 : decode cX4_ahead 1 = .ok (.bipush 87, 2) := by decide +kernel
theorem dX4_ahead_3 : decode cX4_ahead 3 = .ok (.if_icmp .eq 21, 3) := by decide +kernel
theorem dX4_ahead_6 : decode cX4_ahead 6 = .ok (.iload_n 0, 1) := by decide +kernel
theorem dX4_ahead_7 : decode cX4_ahead 7 = .ok (.bipush 67, 2) := by decide +kernel
theorem dX4_ahead_9 : decode cX4_ahead 9 = .ok (.if_icmp .eq 15, 3) := by decide +kernel
theorem dX4_ahead_12 : decode cX4_ahead 12 = .ok (.iload_n 0, 1) := by decide +kernel
theorem dX4_ahead_13 : decode cX4_ahead 13 = .ok (.bipush 72, 2) := by decide +kernel
theorem dX4_ahead_15 : decode cX4_ahead 15 = .ok (.if_icmp .eq 9, 3) := by decide +kernel
theorem dX4_ahead_18 : decode cX4_ahead 18 = .ok (.iload_n 0, 1) := by decide +kernel
theorem dX4_ahead_19 : decode cX4_ahead 19 = .ok (.bipush 83, 2) := by decide +kernel
theorem dX4_ahead_21 : decode cX4_ahead 21 = .ok (.if_icmp .ne 5, 3) := by decide +kernel
theorem dX4_ahead_24 : decode cX4_ahead 24 = .ok (.iconst 3, 1) := by decide +kernel
theorem dX4_ahead_25 : decode cX4_ahead 25 = .ok (.ireturn, 1) := by decide +kernel
theorem dX4_ahead_26 : decode cX4_ahead 26 = .ok (.iload_n 0, 1) := by decide +kernel
theorem dX4_ahead_27 : decode cX4_ahead 27 = .ok (.bipush 86, 2) := by decide +kernel
theorem dX4_ahead_29 : decode cX4_ahead 29 = .ok (.if_icmp .ne 7, 3) := by decide +kernel
theorem dX4_ahead_32 : decode cX4_ahead 32 = .ok (.iconst 4, 1) := by decide +kernel
theorem dX4_ahead_33 : decode cX4_ahead 33 = .ok (.goto 30, 3) := by decide +kernel
theorem dX4_ahead_36 : decode cX4_ahead 36 = .ok (.iload_n 0, 1) := by decide +kernel
theorem dX4_ahead_37 : decode cX4_ahead 37 = .ok (.bipush 80, 2) := by decide +kernel
theorem dX4_ahead_39 : decode cX4_ahead 39 = .ok (.if_icmp .ne 7, 3) := by decide +kernel
theorem dX4_ahead_42 : decode cX4_ahead 42 = .ok (.iconst 5, 1) := by decide +kernel
theorem dX4_ahead_43 : decode cX4_ahead 43 = .ok (.goto 20, 3) := by decide +kernel
theorem dX4_ahead_46 : decode cX4_ahead 46 = .ok (.iload_n 0, 1) := by decide +kernel
theorem dX4_ahead_47 : decode cX4_ahead 47 = .ok (.bipush 40, 2) := by decide +kernel
theorem dX4_ahead_49 : decode cX4_ahead 49 = .ok (.if_icmp .ne 13, 3) := by decide +kernel
theorem dX4_ahead_52 : decode cX4_ahead 52 = .ok (.iload_n 1, 1) := by decide +kernel
theorem dX4_ahead_53 : decode cX4_ahead 53 = .ok (.bipush 8, 2) := by decide +kernel
theorem dX4_ahead_55 : decode cX4_ahead 55 = .ok (.if_icmp .ge 7, 3) := by decide +kernel
theorem dX4_ahead_58 : decode cX4_ahead 58 = .ok (.iconst 2, 1) := by decide +kernel
theorem dX4_ahead_59 : decode cX4_ahead 59 = .ok (.goto 4, 3) := by decide +kernel
theorem dX4_ahead_62 : decode cX4_ahead 62 = .ok (.iconst (-1), 1) := by decide +kernel
theorem dX4_ahead_63 : decode cX4_ahead 63 = .ok (.ireturn, 1) := by decide +kernel
abbrev cX4_behind : ByteArray := prog_17_method_7_code
def yX4_behind : MethodName := ⟨RX4, "behind", "(II)I"⟩
theorem dX4_behind_0 : decode cX4_behind 0 = .ok (.iload_n 0, 1) := by decide +kernel
theorem dX4_behind_1 : decode cX4_behind 1 = .ok (.bipush 38, 2) := by decide +kernel
theorem dX4_behind_3 : decode cX4_behind 3 = .ok (.if_icmp .eq 9, 3) := by decide +kernel
theorem dX4_behind_6 : decode cX4_behind 6 = .ok (.iload_n 0, 1) := by decide +kernel
theorem dX4_behind_7 : decode cX4_behind 7 = .ok (.bipush 124, 2) := by decide +kernel
theorem dX4_behind_9 : decode cX4_behind 9 = .ok (.if_icmp .ne 7, 3) := by decide +kernel
theorem dX4_behind_12 : decode cX4_behind 12 = .ok (.iconst 2, 1) := by decide +kernel
theorem dX4_behind_13 : decode cX4_behind 13 = .ok (.goto 32, 3) := by decide +kernel
theorem dX4_behind_16 : decode cX4_behind 16 = .ok (.iload_n 0, 1) := by decide +kernel
theorem dX4_behind_17 : decode cX4_behind 17 = .ok (.bipush 41, 2) := by decide +kernel
theorem dX4_behind_19 : decode cX4_behind 19 = .ok (.if_icmp .ne 11, 3) := by decide +kernel
theorem dX4_behind_22 : decode cX4_behind 22 = .ok (.iload_n 1, 1) := by decide +kernel
theorem dX4_behind_23 : decode cX4_behind 23 = .ok (.ifCond .le 7, 3) := by decide +kernel
theorem dX4_behind_26 : decode cX4_behind 26 = .ok (.iconst 3, 1) := by decide +kernel
theorem dX4_behind_27 : decode cX4_behind 27 = .ok (.goto 18, 3) := by decide +kernel
theorem dX4_behind_30 : decode cX4_behind 30 = .ok (.iload_n 0, 1) := by decide +kernel
theorem dX4_behind_31 : decode cX4_behind 31 = .ok (.bipush 59, 2) := by decide +kernel
theorem dX4_behind_33 : decode cX4_behind 33 = .ok (.if_icmp .ne 11, 3) := by decide +kernel
theorem dX4_behind_36 : decode cX4_behind 36 = .ok (.iload_n 1, 1) := by decide +kernel
theorem dX4_behind_37 : decode cX4_behind 37 = .ok (.ifCond .ne 7, 3) := by decide +kernel
theorem dX4_behind_40 : decode cX4_behind 40 = .ok (.iconst 0, 1) := by decide +kernel
theorem dX4_behind_41 : decode cX4_behind 41 = .ok (.goto 4, 3) := by decide +kernel
theorem dX4_behind_44 : decode cX4_behind 44 = .ok (.iconst (-1), 1) := by decide +kernel
theorem dX4_behind_45 : decode cX4_behind 45 = .ok (.ireturn, 1) := by decide +kernel
abbrev cX4_part : ByteArray := prog_17_method_12_code
def yX4_part : MethodName := ⟨RX4, "part", "(IIJ)I"⟩
theorem dX4_part_0 : decode cX4_part 0 = .ok (.iload_n 1, 1) := by decide +kernel
theorem dX4_part_1 : decode cX4_part 1 = .ok (.i2l, 1) := by decide +kernel
theorem dX4_part_2 : decode cX4_part 2 = .ok (.lconst 1, 1) := by decide +kernel
theorem dX4_part_3 : decode cX4_part 3 = .ok (.ldc2_w 93, 3) := by decide +kernel
theorem dX4_part_6 : decode cX4_part 6 = .ok (.invokestatic 68, 3) := by decide +kernel
theorem dX4_part_9 : decode cX4_part 9 = .ok (.ifCond .eq 26, 3) := by decide +kernel
theorem dX4_part_12 : decode cX4_part 12 = .ok (.iload_n 2, 1) := by decide +kernel
theorem dX4_part_13 : decode cX4_part 13 = .ok (.i2l, 1) := by decide +kernel
theorem dX4_part_14 : decode cX4_part 14 = .ok (.lconst 0, 1) := by decide +kernel
theorem dX4_part_15 : decode cX4_part 15 = .ok (.ldc2_w 95, 3) := by decide +kernel
theorem dX4_part_18 : decode cX4_part 18 = .ok (.invokestatic 68, 3) := by decide +kernel
theorem dX4_part_21 : decode cX4_part 21 = .ok (.ifCond .eq 14, 3) := by decide +kernel
theorem dX4_part_24 : decode cX4_part 24 = .ok (.lload_n 3, 1) := by decide +kernel
theorem dX4_part_25 : decode cX4_part 25 = .ok (.lconst 0, 1) := by decide +kernel
theorem dX4_part_26 : decode cX4_part 26 = .ok (.ldc2_w 97, 3) := by decide +kernel
theorem dX4_part_29 : decode cX4_part 29 = .ok (.invokestatic 68, 3) := by decide +kernel
theorem dX4_part_32 : decode cX4_part 32 = .ok (.ifCond .ne 9, 3) := by decide +kernel
theorem dX4_part_35 : decode cX4_part 35 = .ok (.aload_n 0, 1) := by decide +kernel
theorem dX4_part_36 : decode cX4_part 36 = .ok (.iconst 1, 1) := by decide +kernel
theorem dX4_part_37 : decode cX4_part 37 = .ok (.invokevirtual 99, 3) := by decide +kernel
theorem dX4_part_40 : decode cX4_part 40 = .ok (.ireturn, 1) := by decide +kernel
theorem dX4_part_41 : decode cX4_part 41 = .ok (.aload_n 0, 1) := by decide +kernel
theorem dX4_part_42 : decode cX4_part 42 = .ok (.getfield 103, 3) := by decide +kernel
theorem dX4_part_45 : decode cX4_part 45 = .ok (.bipush 12, 2) := by decide +kernel
theorem dX4_part_47 : decode cX4_part 47 = .ok (.if_icmp .ne 9, 3) := by decide +kernel
theorem dX4_part_50 : decode cX4_part 50 = .ok (.aload_n 0, 1) := by decide +kernel
theorem dX4_part_51 : decode cX4_part 51 = .ok (.iconst 2, 1) := by decide +kernel
theorem dX4_part_52 : decode cX4_part 52 = .ok (.invokevirtual 99, 3) := by decide +kernel
theorem dX4_part_55 : decode cX4_part 55 = .ok (.ireturn, 1) := by decide +kernel
theorem dX4_part_56 : decode cX4_part 56 = .ok (.aload_n 0, 1) := by decide +kernel
theorem dX4_part_57 : decode cX4_part 57 = .ok (.iconst 0, 1) := by decide +kernel
theorem dX4_part_58 : decode cX4_part 58 = .ok (.putfield 61, 3) := by decide +kernel
theorem dX4_part_61 : decode cX4_part 61 = .ok (.aload_n 0, 1) := by decide +kernel
theorem dX4_part_62 : decode cX4_part 62 = .ok (.getfield 22, 3) := by decide +kernel
theorem dX4_part_65 : decode cX4_part 65 = .ok (.aload_n 0, 1) := by decide +kernel
theorem dX4_part_66 : decode cX4_part 66 = .ok (.getfield 103, 3) := by decide +kernel
theorem dX4_part_69 : decode cX4_part 69 = .ok (.iload_n 1, 1) := by decide +kernel
theorem dX4_part_70 : decode cX4_part 70 = .ok (.iastore, 1) := by decide +kernel
theorem dX4_part_71 : decode cX4_part 71 = .ok (.aload_n 0, 1) := by decide +kernel
theorem dX4_part_72 : decode cX4_part 72 = .ok (.getfield 25, 3) := by decide +kernel
theorem dX4_part_75 : decode cX4_part 75 = .ok (.aload_n 0, 1) := by decide +kernel
theorem dX4_part_76 : decode cX4_part 76 = .ok (.getfield 103, 3) := by decide +kernel
theorem dX4_part_79 : decode cX4_part 79 = .ok (.iload_n 2, 1) := by decide +kernel
theorem dX4_part_80 : decode cX4_part 80 = .ok (.iastore, 1) := by decide +kernel
theorem dX4_part_81 : decode cX4_part 81 = .ok (.aload_n 0, 1) := by decide +kernel
theorem dX4_part_82 : decode cX4_part 82 = .ok (.getfield 28, 3) := by decide +kernel
theorem dX4_part_85 : decode cX4_part 85 = .ok (.aload_n 0, 1) := by decide +kernel
theorem dX4_part_86 : decode cX4_part 86 = .ok (.getfield 103, 3) := by decide +kernel
theorem dX4_part_89 : decode cX4_part 89 = .ok (.lload_n 3, 1) := by decide +kernel
theorem dX4_part_90 : decode cX4_part 90 = .ok (.lastore, 1) := by decide +kernel
theorem dX4_part_91 : decode cX4_part 91 = .ok (.aload_n 0, 1) := by decide +kernel
theorem dX4_part_92 : decode cX4_part 92 = .ok (.dup, 1) := by decide +kernel
theorem dX4_part_93 : decode cX4_part 93 = .ok (.getfield 103, 3) := by decide +kernel
theorem dX4_part_96 : decode cX4_part 96 = .ok (.iconst 1, 1) := by decide +kernel
theorem dX4_part_97 : decode cX4_part 97 = .ok (.iadd, 1) := by decide +kernel
theorem dX4_part_98 : decode cX4_part 98 = .ok (.putfield 103, 3) := by decide +kernel
theorem dX4_part_101 : decode cX4_part 101 = .ok (.aload_n 0, 1) := by decide +kernel
theorem dX4_part_102 : decode cX4_part 102 = .ok (.getfield 103, 3) := by decide +kernel
theorem dX4_part_105 : decode cX4_part 105 = .ok (.ireturn, 1) := by decide +kernel
abbrev cX4_refuse : ByteArray := prog_17_method_3_code
def yX4_refuse : MethodName := ⟨RX4, "refuse", "(I)I"⟩
theorem dX4_refuse_0 : decode cX4_refuse 0 = .ok (.aload_n 0, 1) := by decide +kernel
theorem dX4_refuse_1 : decode cX4_refuse 1 = .ok (.iload_n 1, 1) := by decide +kernel
theorem dX4_refuse_2 : decode cX4_refuse 2 = .ok (.putfield 61, 3) := by decide +kernel
theorem dX4_refuse_5 : decode cX4_refuse 5 = .ok (.iconst 0, 1) := by decide +kernel
theorem dX4_refuse_6 : decode cX4_refuse 6 = .ok (.ireturn, 1) := by decide +kernel
abbrev cX4_clear : ByteArray := prog_17_method_13_code
def yX4_clear : MethodName := ⟨RX4, "clear", "()I"⟩
theorem dX4_clear_0 : decode cX4_clear 0 = .ok (.aload_n 0, 1) := by decide +kernel
theorem dX4_clear_1 : decode cX4_clear 1 = .ok (.iconst 0, 1) := by decide +kernel
theorem dX4_clear_2 : decode cX4_clear 2 = .ok (.putfield 61, 3) := by decide +kernel
theorem dX4_clear_5 : decode cX4_clear 5 = .ok (.aload_n 0, 1) := by decide +kernel
theorem dX4_clear_6 : decode cX4_clear 6 = .ok (.getfield 103, 3) := by decide +kernel
theorem dX4_clear_9 : decode cX4_clear 9 = .ok (.istore_n 1, 1) := by decide +kernel
theorem dX4_clear_10 : decode cX4_clear 10 = .ok (.aload_n 0, 1) := by decide +kernel
theorem dX4_clear_11 : decode cX4_clear 11 = .ok (.iconst 0, 1) := by decide +kernel
theorem dX4_clear_12 : decode cX4_clear 12 = .ok (.putfield 103, 3) := by decide +kernel
theorem dX4_clear_15 : decode cX4_clear 15 = .ok (.aload_n 0, 1) := by decide +kernel
theorem dX4_clear_16 : decode cX4_clear 16 = .ok (.iconst 0, 1) := by decide +kernel
theorem dX4_clear_17 : decode cX4_clear 17 = .ok (.putfield 106, 3) := by decide +kernel
theorem dX4_clear_20 : decode cX4_clear 20 = .ok (.iload_n 1, 1) := by decide +kernel
theorem dX4_clear_21 : decode cX4_clear 21 = .ok (.ireturn, 1) := by decide +kernel
abbrev cX4_process : ByteArray := prog_17_method_14_code
def yX4_process : MethodName := ⟨RX4, "process", "(I)Z"⟩
theorem dX4_process_0 : decode cX4_process 0 = .ok (.aload_n 0, 1) := by decide +kernel
theorem dX4_process_1 : decode cX4_process 1 = .ok (.iconst 0, 1) := by decide +kernel
theorem dX4_process_2 : decode cX4_process 2 = .ok (.putfield 61, 3) := by decide +kernel
theorem dX4_process_5 : decode cX4_process 5 = .ok (.iload_n 1, 1) := by decide +kernel
theorem dX4_process_6 : decode cX4_process 6 = .ok (.i2l, 1) := by decide +kernel
theorem dX4_process_7 : decode cX4_process 7 = .ok (.lconst 0, 1) := by decide +kernel
theorem dX4_process_8 : decode cX4_process 8 = .ok (.ldc2_w 109, 3) := by decide +kernel
theorem dX4_process_11 : decode cX4_process 11 = .ok (.invokestatic 68, 3) := by decide +kernel
theorem dX4_process_14 : decode cX4_process 14 = .ok (.ifCond .eq 15, 3) := by decide +kernel
theorem dX4_process_17 : decode cX4_process 17 = .ok (.aload_n 0, 1) := by decide +kernel
theorem dX4_process_18 : decode cX4_process 18 = .ok (.getfield 106, 3) := by decide +kernel
theorem dX4_process_21 : decode cX4_process 21 = .ok (.iload_n 1, 1) := by decide +kernel
theorem dX4_process_22 : decode cX4_process 22 = .ok (.ishr, 1) := by decide +kernel
theorem dX4_process_23 : decode cX4_process 23 = .ok (.iconst 1, 1) := by decide +kernel
theorem dX4_process_24 : decode cX4_process 24 = .ok (.iand, 1) := by decide +kernel
theorem dX4_process_25 : decode cX4_process 25 = .ok (.iconst 1, 1) := by decide +kernel
theorem dX4_process_26 : decode cX4_process 26 = .ok (.if_icmp .ne 5, 3) := by decide +kernel
theorem dX4_process_29 : decode cX4_process 29 = .ok (.iconst 0, 1) := by decide +kernel
theorem dX4_process_30 : decode cX4_process 30 = .ok (.ireturn, 1) := by decide +kernel
theorem dX4_process_31 : decode cX4_process 31 = .ok (.aload_n 0, 1) := by decide +kernel
theorem dX4_process_32 : decode cX4_process 32 = .ok (.dup, 1) := by decide +kernel
theorem dX4_process_33 : decode cX4_process 33 = .ok (.getfield 106, 3) := by decide +kernel
theorem dX4_process_36 : decode cX4_process 36 = .ok (.iconst 1, 1) := by decide +kernel
theorem dX4_process_37 : decode cX4_process 37 = .ok (.iload_n 1, 1) := by decide +kernel
theorem dX4_process_38 : decode cX4_process 38 = .ok (.ishl, 1) := by decide +kernel
theorem dX4_process_39 : decode cX4_process 39 = .ok (.ior, 1) := by decide +kernel
theorem dX4_process_40 : decode cX4_process 40 = .ok (.putfield 106, 3) := by decide +kernel
theorem dX4_process_43 : decode cX4_process 43 = .ok (.iconst 1, 1) := by decide +kernel
theorem dX4_process_44 : decode cX4_process 44 = .ok (.ireturn, 1) := by decide +kernel
abbrev cX4_bar : ByteArray := prog_17_method_15_code
def yX4_bar : MethodName := ⟨RX4, "bar", "(IZ)Z"⟩
theorem dX4_bar_0 : decode cX4_bar 0 = .ok (.aload_n 0, 1) := by decide +kernel
theorem dX4_bar_1 : decode cX4_bar 1 = .ok (.iconst 0, 1) := by decide +kernel
theorem dX4_bar_2 : decode cX4_bar 2 = .ok (.putfield 61, 3) := by decide +kernel
theorem dX4_bar_5 : decode cX4_bar 5 = .ok (.iload_n 1, 1) := by decide +kernel
theorem dX4_bar_6 : decode cX4_bar 6 = .ok (.i2l, 1) := by decide +kernel
theorem dX4_bar_7 : decode cX4_bar 7 = .ok (.lconst 0, 1) := by decide +kernel
theorem dX4_bar_8 : decode cX4_bar 8 = .ok (.ldc2_w 109, 3) := by decide +kernel
theorem dX4_bar_11 : decode cX4_bar 11 = .ok (.invokestatic 68, 3) := by decide +kernel
theorem dX4_bar_14 : decode cX4_bar 14 = .ok (.ifCond .eq 24, 3) := by decide +kernel
theorem dX4_bar_17 : decode cX4_bar 17 = .ok (.aload_n 0, 1) := by decide +kernel
theorem dX4_bar_18 : decode cX4_bar 18 = .ok (.getfield 111, 3) := by decide +kernel
theorem dX4_bar_21 : decode cX4_bar 21 = .ok (.iload_n 1, 1) := by decide +kernel
theorem dX4_bar_22 : decode cX4_bar 22 = .ok (.ishr, 1) := by decide +kernel
theorem dX4_bar_23 : decode cX4_bar 23 = .ok (.iconst 1, 1) := by decide +kernel
theorem dX4_bar_24 : decode cX4_bar 24 = .ok (.iand, 1) := by decide +kernel
theorem dX4_bar_25 : decode cX4_bar 25 = .ok (.iconst 1, 1) := by decide +kernel
theorem dX4_bar_26 : decode cX4_bar 26 = .ok (.if_icmp .ne 7, 3) := by decide +kernel
theorem dX4_bar_29 : decode cX4_bar 29 = .ok (.iconst 1, 1) := by decide +kernel
theorem dX4_bar_30 : decode cX4_bar 30 = .ok (.goto 4, 3) := by decide +kernel
theorem dX4_bar_33 : decode cX4_bar 33 = .ok (.iconst 0, 1) := by decide +kernel
theorem dX4_bar_34 : decode cX4_bar 34 = .ok (.iload_n 2, 1) := by decide +kernel
theorem dX4_bar_35 : decode cX4_bar 35 = .ok (.if_icmp .ne 5, 3) := by decide +kernel
theorem dX4_bar_38 : decode cX4_bar 38 = .ok (.iconst 0, 1) := by decide +kernel
theorem dX4_bar_39 : decode cX4_bar 39 = .ok (.ireturn, 1) := by decide +kernel
theorem dX4_bar_40 : decode cX4_bar 40 = .ok (.aload_n 0, 1) := by decide +kernel
theorem dX4_bar_41 : decode cX4_bar 41 = .ok (.dup, 1) := by decide +kernel
theorem dX4_bar_42 : decode cX4_bar 42 = .ok (.getfield 111, 3) := by decide +kernel
theorem dX4_bar_45 : decode cX4_bar 45 = .ok (.iconst 1, 1) := by decide +kernel
theorem dX4_bar_46 : decode cX4_bar 46 = .ok (.iload_n 1, 1) := by decide +kernel
theorem dX4_bar_47 : decode cX4_bar 47 = .ok (.ishl, 1) := by decide +kernel
theorem dX4_bar_48 : decode cX4_bar 48 = .ok (.ixor, 1) := by decide +kernel
theorem dX4_bar_49 : decode cX4_bar 49 = .ok (.putfield 111, 3) := by decide +kernel
theorem dX4_bar_52 : decode cX4_bar 52 = .ok (.iconst 1, 1) := by decide +kernel
theorem dX4_bar_53 : decode cX4_bar 53 = .ok (.ireturn, 1) := by decide +kernel
abbrev cX4_join : ByteArray := prog_17_method_16_code
def yX4_join : MethodName := ⟨RX4, "join", "(II)I"⟩
theorem dX4_join_0 : decode cX4_join 0 = .ok (.iload_n 1, 1) := by decide +kernel
theorem dX4_join_1 : decode cX4_join 1 = .ok (.i2l, 1) := by decide +kernel
theorem dX4_join_2 : decode cX4_join 2 = .ok (.lconst 0, 1) := by decide +kernel
theorem dX4_join_3 : decode cX4_join 3 = .ok (.ldc2_w 95, 3) := by decide +kernel
theorem dX4_join_6 : decode cX4_join 6 = .ok (.invokestatic 68, 3) := by decide +kernel
theorem dX4_join_9 : decode cX4_join 9 = .ok (.ifCond .eq 20, 3) := by decide +kernel
theorem dX4_join_12 : decode cX4_join 12 = .ok (.iload_n 2, 1) := by decide +kernel
theorem dX4_join_13 : decode cX4_join 13 = .ok (.i2l, 1) := by decide +kernel
theorem dX4_join_14 : decode cX4_join 14 = .ok (.lconst 0, 1) := by decide +kernel
theorem dX4_join_15 : decode cX4_join 15 = .ok (.ldc2_w 95, 3) := by decide +kernel
theorem dX4_join_18 : decode cX4_join 18 = .ok (.invokestatic 68, 3) := by decide +kernel
theorem dX4_join_21 : decode cX4_join 21 = .ok (.ifCond .eq 8, 3) := by decide +kernel
theorem dX4_join_24 : decode cX4_join 24 = .ok (.iload_n 1, 1) := by decide +kernel
theorem dX4_join_25 : decode cX4_join 25 = .ok (.iload_n 2, 1) := by decide +kernel
theorem dX4_join_26 : decode cX4_join 26 = .ok (.if_icmp .ne 9, 3) := by decide +kernel
theorem dX4_join_29 : decode cX4_join 29 = .ok (.aload_n 0, 1) := by decide +kernel
theorem dX4_join_30 : decode cX4_join 30 = .ok (.iconst 1, 1) := by decide +kernel
theorem dX4_join_31 : decode cX4_join 31 = .ok (.invokevirtual 99, 3) := by decide +kernel
theorem dX4_join_34 : decode cX4_join 34 = .ok (.ireturn, 1) := by decide +kernel
theorem dX4_join_35 : decode cX4_join 35 = .ok (.aload_n 0, 1) := by decide +kernel
theorem dX4_join_36 : decode cX4_join 36 = .ok (.iconst 0, 1) := by decide +kernel
theorem dX4_join_37 : decode cX4_join 37 = .ok (.putfield 61, 3) := by decide +kernel
theorem dX4_join_40 : decode cX4_join 40 = .ok (.aload_n 0, 1) := by decide +kernel
theorem dX4_join_41 : decode cX4_join 41 = .ok (.getfield 32, 3) := by decide +kernel
theorem dX4_join_44 : decode cX4_join 44 = .ok (.bipush 10, 2) := by decide +kernel
theorem dX4_join_46 : decode cX4_join 46 = .ok (.iload_n 1, 1) := by decide +kernel
theorem dX4_join_47 : decode cX4_join 47 = .ok (.imul, 1) := by decide +kernel
theorem dX4_join_48 : decode cX4_join 48 = .ok (.iload_n 2, 1) := by decide +kernel
theorem dX4_join_49 : decode cX4_join 49 = .ok (.iadd, 1) := by decide +kernel
theorem dX4_join_50 : decode cX4_join 50 = .ok (.baload, 1) := by decide +kernel
theorem dX4_join_51 : decode cX4_join 51 = .ok (.ifCond .eq 5, 3) := by decide +kernel
theorem dX4_join_54 : decode cX4_join 54 = .ok (.iconst 0, 1) := by decide +kernel
theorem dX4_join_55 : decode cX4_join 55 = .ok (.ireturn, 1) := by decide +kernel
theorem dX4_join_56 : decode cX4_join 56 = .ok (.aload_n 0, 1) := by decide +kernel
theorem dX4_join_57 : decode cX4_join 57 = .ok (.getfield 32, 3) := by decide +kernel
theorem dX4_join_60 : decode cX4_join 60 = .ok (.bipush 10, 2) := by decide +kernel
theorem dX4_join_62 : decode cX4_join 62 = .ok (.iload_n 1, 1) := by decide +kernel
theorem dX4_join_63 : decode cX4_join 63 = .ok (.imul, 1) := by decide +kernel
theorem dX4_join_64 : decode cX4_join 64 = .ok (.iload_n 2, 1) := by decide +kernel
theorem dX4_join_65 : decode cX4_join 65 = .ok (.iadd, 1) := by decide +kernel
theorem dX4_join_66 : decode cX4_join 66 = .ok (.iconst 1, 1) := by decide +kernel
theorem dX4_join_67 : decode cX4_join 67 = .ok (.bastore, 1) := by decide +kernel
theorem dX4_join_68 : decode cX4_join 68 = .ok (.aload_n 0, 1) := by decide +kernel
theorem dX4_join_69 : decode cX4_join 69 = .ok (.getfield 32, 3) := by decide +kernel
theorem dX4_join_72 : decode cX4_join 72 = .ok (.bipush 10, 2) := by decide +kernel
theorem dX4_join_74 : decode cX4_join 74 = .ok (.iload_n 2, 1) := by decide +kernel
theorem dX4_join_75 : decode cX4_join 75 = .ok (.imul, 1) := by decide +kernel
theorem dX4_join_76 : decode cX4_join 76 = .ok (.iload_n 1, 1) := by decide +kernel
theorem dX4_join_77 : decode cX4_join 77 = .ok (.iadd, 1) := by decide +kernel
theorem dX4_join_78 : decode cX4_join 78 = .ok (.iconst 1, 1) := by decide +kernel
theorem dX4_join_79 : decode cX4_join 79 = .ok (.bastore, 1) := by decide +kernel
theorem dX4_join_80 : decode cX4_join 80 = .ok (.aload_n 0, 1) := by decide +kernel
theorem dX4_join_81 : decode cX4_join 81 = .ok (.dup, 1) := by decide +kernel
theorem dX4_join_82 : decode cX4_join 82 = .ok (.getfield 114, 3) := by decide +kernel
theorem dX4_join_85 : decode cX4_join 85 = .ok (.iconst 1, 1) := by decide +kernel
theorem dX4_join_86 : decode cX4_join 86 = .ok (.iadd, 1) := by decide +kernel
theorem dX4_join_87 : decode cX4_join 87 = .ok (.putfield 114, 3) := by decide +kernel
theorem dX4_join_90 : decode cX4_join 90 = .ok (.iconst 1, 1) := by decide +kernel
theorem dX4_join_91 : decode cX4_join 91 = .ok (.ireturn, 1) := by decide +kernel
abbrev cX4_full : ByteArray := prog_17_method_17_code
def yX4_full : MethodName := ⟨RX4, "full", "(Z)Z"⟩
theorem dX4_full_0 : decode cX4_full 0 = .ok (.aload_n 0, 1) := by decide +kernel
theorem dX4_full_1 : decode cX4_full 1 = .ok (.iconst 0, 1) := by decide +kernel
theorem dX4_full_2 : decode cX4_full 2 = .ok (.putfield 61, 3) := by decide +kernel
theorem dX4_full_5 : decode cX4_full 5 = .ok (.aload_n 0, 1) := by decide +kernel
theorem dX4_full_6 : decode cX4_full 6 = .ok (.getfield 117, 3) := by decide +kernel
theorem dX4_full_9 : decode cX4_full 9 = .ok (.iload_n 1, 1) := by decide +kernel
theorem dX4_full_10 : decode cX4_full 10 = .ok (.if_icmp .eq 7, 3) := by decide +kernel
theorem dX4_full_13 : decode cX4_full 13 = .ok (.iconst 1, 1) := by decide +kernel
theorem dX4_full_14 : decode cX4_full 14 = .ok (.goto 4, 3) := by decide +kernel
theorem dX4_full_17 : decode cX4_full 17 = .ok (.iconst 0, 1) := by decide +kernel
theorem dX4_full_18 : decode cX4_full 18 = .ok (.istore_n 2, 1) := by decide +kernel
theorem dX4_full_19 : decode cX4_full 19 = .ok (.aload_n 0, 1) := by decide +kernel
theorem dX4_full_20 : decode cX4_full 20 = .ok (.iload_n 1, 1) := by decide +kernel
theorem dX4_full_21 : decode cX4_full 21 = .ok (.putfield 117, 3) := by decide +kernel
theorem dX4_full_24 : decode cX4_full 24 = .ok (.iload_n 2, 1) := by decide +kernel
theorem dX4_full_25 : decode cX4_full 25 = .ok (.ireturn, 1) := by decide +kernel
abbrev cX4_tolerance : ByteArray := prog_17_method_18_code
def yX4_tolerance : MethodName := ⟨RX4, "tolerance", "(II)Z"⟩
theorem dX4_tolerance_0 : decode cX4_tolerance 0 = .ok (.aload_n 0, 1) := by decide +kernel
theorem dX4_tolerance_1 : decode cX4_tolerance 1 = .ok (.iconst 0, 1) := by decide +kernel
theorem dX4_tolerance_2 : decode cX4_tolerance 2 = .ok (.putfield 61, 3) := by decide +kernel
theorem dX4_tolerance_5 : decode cX4_tolerance 5 = .ok (.iload_n 2, 1) := by decide +kernel
theorem dX4_tolerance_6 : decode cX4_tolerance 6 = .ok (.i2l, 1) := by decide +kernel
theorem dX4_tolerance_7 : decode cX4_tolerance 7 = .ok (.lconst 1, 1) := by decide +kernel
theorem dX4_tolerance_8 : decode cX4_tolerance 8 = .ok (.ldc2_w 121, 3) := by decide +kernel
theorem dX4_tolerance_11 : decode cX4_tolerance 11 = .ok (.invokestatic 68, 3) := by decide +kernel
theorem dX4_tolerance_14 : decode cX4_tolerance 14 = .ok (.ifCond .eq 14, 3) := by decide +kernel
theorem dX4_tolerance_17 : decode cX4_tolerance 17 = .ok (.iload_n 1, 1) := by decide +kernel
theorem dX4_tolerance_18 : decode cX4_tolerance 18 = .ok (.i2l, 1) := by decide +kernel
theorem dX4_tolerance_19 : decode cX4_tolerance 19 = .ok (.lconst 0, 1) := by decide +kernel
theorem dX4_tolerance_20 : decode cX4_tolerance 20 = .ok (.iload_n 2, 1) := by decide +kernel
theorem dX4_tolerance_21 : decode cX4_tolerance 21 = .ok (.i2l, 1) := by decide +kernel
theorem dX4_tolerance_22 : decode cX4_tolerance 22 = .ok (.invokestatic 68, 3) := by decide +kernel
theorem dX4_tolerance_25 : decode cX4_tolerance 25 = .ok (.ifCond .ne 5, 3) := by decide +kernel
theorem dX4_tolerance_28 : decode cX4_tolerance 28 = .ok (.iconst 0, 1) := by decide +kernel
theorem dX4_tolerance_29 : decode cX4_tolerance 29 = .ok (.ireturn, 1) := by decide +kernel
theorem dX4_tolerance_30 : decode cX4_tolerance 30 = .ok (.aload_n 0, 1) := by decide +kernel
theorem dX4_tolerance_31 : decode cX4_tolerance 31 = .ok (.iload_n 1, 1) := by decide +kernel
theorem dX4_tolerance_32 : decode cX4_tolerance 32 = .ok (.putfield 123, 3) := by decide +kernel
theorem dX4_tolerance_35 : decode cX4_tolerance 35 = .ok (.aload_n 0, 1) := by decide +kernel
theorem dX4_tolerance_36 : decode cX4_tolerance 36 = .ok (.iload_n 2, 1) := by decide +kernel
theorem dX4_tolerance_37 : decode cX4_tolerance 37 = .ok (.putfield 36, 3) := by decide +kernel
theorem dX4_tolerance_40 : decode cX4_tolerance 40 = .ok (.iconst 1, 1) := by decide +kernel
theorem dX4_tolerance_41 : decode cX4_tolerance 41 = .ok (.ireturn, 1) := by decide +kernel
abbrev cX4_own : ByteArray := prog_17_method_20_code
def yX4_own : MethodName := ⟨RX4, "own", "(I)Z"⟩
theorem dX4_own_0 : decode cX4_own 0 = .ok (.aload_n 0, 1) := by decide +kernel
theorem dX4_own_1 : decode cX4_own 1 = .ok (.iload_n 1, 1) := by decide +kernel
theorem dX4_own_2 : decode cX4_own 2 = .ok (.i2l, 1) := by decide +kernel
theorem dX4_own_3 : decode cX4_own 3 = .ok (.lconst 0, 1) := by decide +kernel
theorem dX4_own_4 : decode cX4_own 4 = .ok (.ldc2_w 95, 3) := by decide +kernel
theorem dX4_own_7 : decode cX4_own 7 = .ok (.invokestatic 68, 3) := by decide +kernel
theorem dX4_own_10 : decode cX4_own 10 = .ok (.ifCond .eq 7, 3) := by decide +kernel
theorem dX4_own_13 : decode cX4_own 13 = .ok (.iconst 0, 1) := by decide +kernel
theorem dX4_own_14 : decode cX4_own 14 = .ok (.goto 4, 3) := by decide +kernel
theorem dX4_own_17 : decode cX4_own 17 = .ok (.iconst 1, 1) := by decide +kernel
theorem dX4_own_18 : decode cX4_own 18 = .ok (.putfield 61, 3) := by decide +kernel
theorem dX4_own_21 : decode cX4_own 21 = .ok (.aload_n 0, 1) := by decide +kernel
theorem dX4_own_22 : decode cX4_own 22 = .ok (.getfield 61, 3) := by decide +kernel
theorem dX4_own_25 : decode cX4_own 25 = .ok (.ifCond .ne 15, 3) := by decide +kernel
theorem dX4_own_28 : decode cX4_own 28 = .ok (.aload_n 0, 1) := by decide +kernel
theorem dX4_own_29 : decode cX4_own 29 = .ok (.iload_n 1, 1) := by decide +kernel
theorem dX4_own_30 : decode cX4_own 30 = .ok (.invokevirtual 126, 3) := by decide +kernel
theorem dX4_own_33 : decode cX4_own 33 = .ok (.ifCond .eq 7, 3) := by decide +kernel
theorem dX4_own_36 : decode cX4_own 36 = .ok (.iconst 1, 1) := by decide +kernel
theorem dX4_own_37 : decode cX4_own 37 = .ok (.goto 4, 3) := by decide +kernel
theorem dX4_own_40 : decode cX4_own 40 = .ok (.iconst 0, 1) := by decide +kernel
theorem dX4_own_41 : decode cX4_own 41 = .ok (.ireturn, 1) := by decide +kernel
abbrev cX4_isOwn : ByteArray := prog_17_method_19_code
def yX4_isOwn : MethodName := ⟨RX4, "isOwn", "(I)Z"⟩
theorem dX4_isOwn_0 : decode cX4_isOwn 0 = .ok (.iconst 1, 1) := by decide +kernel
theorem dX4_isOwn_1 : decode cX4_isOwn 1 = .ok (.istore_n 2, 1) := by decide +kernel
theorem dX4_isOwn_2 : decode cX4_isOwn 2 = .ok (.iconst 0, 1) := by decide +kernel
theorem dX4_isOwn_3 : decode cX4_isOwn 3 = .ok (.istore_n 3, 1) := by decide +kernel
theorem dX4_isOwn_4 : decode cX4_isOwn 4 = .ok (.iload_n 3, 1) := by decide +kernel
theorem dX4_isOwn_5 : decode cX4_isOwn 5 = .ok (.aload_n 0, 1) := by decide +kernel
theorem dX4_isOwn_6 : decode cX4_isOwn 6 = .ok (.getfield 117, 3) := by decide +kernel
theorem dX4_isOwn_9 : decode cX4_isOwn 9 = .ok (.ifCond .eq 8, 3) := by decide +kernel
theorem dX4_isOwn_12 : decode cX4_isOwn 12 = .ok (.bipush 10, 2) := by decide +kernel
theorem dX4_isOwn_14 : decode cX4_isOwn 14 = .ok (.goto 4, 3) := by decide +kernel
theorem dX4_isOwn_17 : decode cX4_isOwn 17 = .ok (.iconst 1, 1) := by decide +kernel
theorem dX4_isOwn_18 : decode cX4_isOwn 18 = .ok (.if_icmp .ge 66, 3) := by decide +kernel
theorem dX4_isOwn_21 : decode cX4_isOwn 21 = .ok (.iload_n 2, 1) := by decide +kernel
theorem dX4_isOwn_22 : decode cX4_isOwn 22 = .ok (.istore 4, 2) := by decide +kernel
theorem dX4_isOwn_24 : decode cX4_isOwn 24 = .ok (.iconst 0, 1) := by decide +kernel
theorem dX4_isOwn_25 : decode cX4_isOwn 25 = .ok (.istore 5, 2) := by decide +kernel
theorem dX4_isOwn_27 : decode cX4_isOwn 27 = .ok (.iload 5, 2) := by decide +kernel
theorem dX4_isOwn_29 : decode cX4_isOwn 29 = .ok (.bipush 100, 2) := by decide +kernel
theorem dX4_isOwn_31 : decode cX4_isOwn 31 = .ok (.if_icmp .ge 47, 3) := by decide +kernel
theorem dX4_isOwn_34 : decode cX4_isOwn 34 = .ok (.iload_n 2, 1) := by decide +kernel
theorem dX4_isOwn_35 : decode cX4_isOwn 35 = .ok (.aload_n 0, 1) := by decide +kernel
theorem dX4_isOwn_36 : decode cX4_isOwn 36 = .ok (.getfield 32, 3) := by decide +kernel
theorem dX4_isOwn_39 : decode cX4_isOwn 39 = .ok (.iload 5, 2) := by decide +kernel
theorem dX4_isOwn_41 : decode cX4_isOwn 41 = .ok (.baload, 1) := by decide +kernel
theorem dX4_isOwn_42 : decode cX4_isOwn 42 = .ok (.ifCond .eq 27, 3) := by decide +kernel
theorem dX4_isOwn_45 : decode cX4_isOwn 45 = .ok (.iload 4, 2) := by decide +kernel
theorem dX4_isOwn_47 : decode cX4_isOwn 47 = .ok (.iload 5, 2) := by decide +kernel
theorem dX4_isOwn_49 : decode cX4_isOwn 49 = .ok (.bipush 10, 2) := by decide +kernel
theorem dX4_isOwn_51 : decode cX4_isOwn 51 = .ok (.idiv, 1) := by decide +kernel
theorem dX4_isOwn_52 : decode cX4_isOwn 52 = .ok (.ishr, 1) := by decide +kernel
theorem dX4_isOwn_53 : decode cX4_isOwn 53 = .ok (.iconst 1, 1) := by decide +kernel
theorem dX4_isOwn_54 : decode cX4_isOwn 54 = .ok (.iand, 1) := by decide +kernel
theorem dX4_isOwn_55 : decode cX4_isOwn 55 = .ok (.iconst 1, 1) := by decide +kernel
theorem dX4_isOwn_56 : decode cX4_isOwn 56 = .ok (.if_icmp .ne 13, 3) := by decide +kernel
theorem dX4_isOwn_59 : decode cX4_isOwn 59 = .ok (.iconst 1, 1) := by decide +kernel
theorem dX4_isOwn_60 : decode cX4_isOwn 60 = .ok (.iload 5, 2) := by decide +kernel
theorem dX4_isOwn_62 : decode cX4_isOwn 62 = .ok (.bipush 10, 2) := by decide +kernel
theorem dX4_isOwn_64 : decode cX4_isOwn 64 = .ok (.irem, 1) := by decide +kernel
theorem dX4_isOwn_65 : decode cX4_isOwn 65 = .ok (.ishl, 1) := by decide +kernel
theorem dX4_isOwn_66 : decode cX4_isOwn 66 = .ok (.goto 4, 3) := by decide +kernel
theorem dX4_isOwn_69 : decode cX4_isOwn 69 = .ok (.iconst 0, 1) := by decide +kernel
theorem dX4_isOwn_70 : decode cX4_isOwn 70 = .ok (.ior, 1) := by decide +kernel
theorem dX4_isOwn_71 : decode cX4_isOwn 71 = .ok (.istore_n 2, 1) := by decide +kernel
theorem dX4_isOwn_72 : decode cX4_isOwn 72 = .ok (.iinc 5 1, 3) := by decide +kernel
theorem dX4_isOwn_75 : decode cX4_isOwn 75 = .ok (.goto (-48), 3) := by decide +kernel
theorem dX4_isOwn_78 : decode cX4_isOwn 78 = .ok (.iinc 3 1, 3) := by decide +kernel
theorem dX4_isOwn_81 : decode cX4_isOwn 81 = .ok (.goto (-77), 3) := by decide +kernel
theorem dX4_isOwn_84 : decode cX4_isOwn 84 = .ok (.iload_n 2, 1) := by decide +kernel
theorem dX4_isOwn_85 : decode cX4_isOwn 85 = .ok (.iload_n 1, 1) := by decide +kernel
theorem dX4_isOwn_86 : decode cX4_isOwn 86 = .ok (.ishr, 1) := by decide +kernel
theorem dX4_isOwn_87 : decode cX4_isOwn 87 = .ok (.iconst 1, 1) := by decide +kernel
theorem dX4_isOwn_88 : decode cX4_isOwn 88 = .ok (.iand, 1) := by decide +kernel
theorem dX4_isOwn_89 : decode cX4_isOwn 89 = .ok (.iconst 1, 1) := by decide +kernel
theorem dX4_isOwn_90 : decode cX4_isOwn 90 = .ok (.if_icmp .ne 7, 3) := by decide +kernel
theorem dX4_isOwn_93 : decode cX4_isOwn 93 = .ok (.iconst 1, 1) := by decide +kernel
theorem dX4_isOwn_94 : decode cX4_isOwn 94 = .ok (.goto 4, 3) := by decide +kernel
theorem dX4_isOwn_97 : decode cX4_isOwn 97 = .ok (.iconst 0, 1) := by decide +kernel
theorem dX4_isOwn_98 : decode cX4_isOwn 98 = .ok (.ireturn, 1) := by decide +kernel
