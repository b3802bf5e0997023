/-! OriginRules$Reader -/
set_option maxRecDepth 100000
def RX2 : String := "OriginRules$Reader"
def TX2 : u_T := fun k => match k with
  | 0 => ("OriginRules$Reader", "text", "[C", true)
  | 1 => ("OriginRules$Reader", "size", "I", false)
  | 2 => ("OriginRules$Reader", "at", "I", false)
  | 3 => ("OriginRules$Reader", "begin", "I", false)
  | _ => ("OriginRules$Reader", "depth", "I", false)
def tyX2 : Nat → FieldType := fun k => match k with
  | 0 => .array .char
  | 1 => .int
  | 2 => .int
  | 3 => .int
  | _ => .int
abbrev wsX20 : List Cond := u_ws RX2 TX2 5
theorem nmX2 : ∀ a, a < 5 → ∀ b, b < 5 → a ≠ b → (TX2 a).2.1 ≠ (TX2 b).2.1 := by decide +kernel
theorem tyX2_ok : ∀ k, k < 5 → parseFieldDescriptor (TX2 k).2.2.1 = some (tyX2 k) := by decide +kernel
abbrev cX2_init : ByteArray := prog_11_method_1_code
def yX2_init : MethodName := ⟨RX2, "<init>", "()V"⟩
theorem dX2_init_0 : decode cX2_init 0 = .ok (.aload_n 0, 1) := by decide +kernel
theorem dX2_init_1 : decode cX2_init 1 = .ok (.invokespecial 3, 3) := by decide +kernel
theorem dX2_init_4 : decode cX2_init 4 = .ok (.aload_n 0, 1) := by decide +kernel
theorem dX2_init_5 : decode cX2_init 5 = .ok (.sipush 300, 3) := by decide +kernel
theorem dX2_init_8 : decode cX2_init 8 = .ok (.newarray .char, 2) := by decide +kernel
theorem dX2_init_10 : decode cX2_init 10 = .ok (.putfield 9, 3) := by decide +kernel
theorem dX2_init_13 : decode cX2_init 13 = .ok (.return_, 1) := by decide +kernel
abbrev cX2_rows : ByteArray := prog_11_method_12_code
def yX2_rows : MethodName := ⟨RX2, "rows", "()Ljava/util/ArrayList;"⟩
theorem dX2_rows_0 : decode cX2_rows 0 = .ok (.new 93, 3) := by decide +kernel
theorem dX2_rows_3 : decode cX2_rows 3 = .ok (.dup, 1) := by decide +kernel
theorem dX2_rows_4 : decode cX2_rows 4 = .ok (.invokespecial 110, 3) := by decide +kernel
theorem dX2_rows_7 : decode cX2_rows 7 = .ok (.astore_n 1, 1) := by decide +kernel
theorem dX2_rows_8 : decode cX2_rows 8 = .ok (.aload_n 0, 1) := by decide +kernel
theorem dX2_rows_9 : decode cX2_rows 9 = .ok (.iconst 0, 1) := by decide +kernel
theorem dX2_rows_10 : decode cX2_rows 10 = .ok (.putfield 15, 3) := by decide +kernel
theorem dX2_rows_13 : decode cX2_rows 13 = .ok (.aload_n 1, 1) := by decide +kernel
theorem dX2_rows_14 : decode cX2_rows 14 = .ok (.aload_n 0, 1) := by decide +kernel
theorem dX2_rows_15 : decode cX2_rows 15 = .ok (.invokevirtual 111, 3) := by decide +kernel
theorem dX2_rows_18 : decode cX2_rows 18 = .ok (.invokevirtual 92, 3) := by decide +kernel
theorem dX2_rows_21 : decode cX2_rows 21 = .ok (.pop, 1) := by decide +kernel
theorem dX2_rows_22 : decode cX2_rows 22 = .ok (.aload_n 0, 1) := by decide +kernel
theorem dX2_rows_23 : decode cX2_rows 23 = .ok (.getfield 15, 3) := by decide +kernel
theorem dX2_rows_26 : decode cX2_rows 26 = .ok (.aload_n 0, 1) := by decide +kernel
theorem dX2_rows_27 : decode cX2_rows 27 = .ok (.getfield 19, 3) := by decide +kernel
theorem dX2_rows_30 : decode cX2_rows 30 = .ok (.if_icmp .ge 33, 3) := by decide +kernel
theorem dX2_rows_33 : decode cX2_rows 33 = .ok (.aload_n 0, 1) := by decide +kernel
theorem dX2_rows_34 : decode cX2_rows 34 = .ok (.aload_n 1, 1) := by decide +kernel
theorem dX2_rows_35 : decode cX2_rows 35 = .ok (.invokevirtual 115, 3) := by decide +kernel
theorem dX2_rows_38 : decode cX2_rows 38 = .ok (.bipush 20, 2) := by decide +kernel
theorem dX2_rows_40 : decode cX2_rows 40 = .ok (.if_icmp .ge 7, 3) := by decide +kernel
theorem dX2_rows_43 : decode cX2_rows 43 = .ok (.iconst 1, 1) := by decide +kernel
theorem dX2_rows_44 : decode cX2_rows 44 = .ok (.goto 4, 3) := by decide +kernel
theorem dX2_rows_47 : decode cX2_rows 47 = .ok (.iconst 0, 1) := by decide +kernel
theorem dX2_rows_48 : decode cX2_rows 48 = .ok (.invokevirtual 37, 3) := by decide +kernel
theorem dX2_rows_51 : decode cX2_rows 51 = .ok (.aload_n 1, 1) := by decide +kernel
theorem dX2_rows_52 : decode cX2_rows 52 = .ok (.aload_n 0, 1) := by decide +kernel
theorem dX2_rows_53 : decode cX2_rows 53 = .ok (.invokevirtual 111, 3) := by decide +kernel
theorem dX2_rows_56 : decode cX2_rows 56 = .ok (.invokevirtual 92, 3) := by decide +kernel
theorem dX2_rows_59 : decode cX2_rows 59 = .ok (.pop, 1) := by decide +kernel
theorem dX2_rows_60 : decode cX2_rows 60 = .ok (.goto (-38), 3) := by decide +kernel
theorem dX2_rows_63 : decode cX2_rows 63 = .ok (.aload_n 1, 1) := by decide +kernel
theorem dX2_rows_64 : decode cX2_rows 64 = .ok (.areturn, 1) := by decide +kernel
abbrev cX2_row : ByteArray := prog_11_method_11_code
def yX2_row : MethodName := ⟨RX2, "row", "()LOriginRules$Row;"⟩
theorem dX2_row_0 : decode cX2_row 0 = .ok (.aload_n 0, 1) := by decide +kernel
theorem dX2_row_1 : decode cX2_row 1 = .ok (.aload_n 0, 1) := by decide +kernel
theorem dX2_row_2 : decode cX2_row 2 = .ok (.getfield 15, 3) := by decide +kernel
theorem dX2_row_5 : decode cX2_row 5 = .ok (.putfield 49, 3) := by decide +kernel
theorem dX2_row_8 : decode cX2_row 8 = .ok (.aload_n 0, 1) := by decide +kernel
theorem dX2_row_9 : decode cX2_row 9 = .ok (.iconst 0, 1) := by decide +kernel
theorem dX2_row_10 : decode cX2_row 10 = .ok (.putfield 52, 3) := by decide +kernel
theorem dX2_row_13 : decode cX2_row 13 = .ok (.aload_n 0, 1) := by decide +kernel
theorem dX2_row_14 : decode cX2_row 14 = .ok (.bipush 6, 2) := by decide +kernel
theorem dX2_row_16 : decode cX2_row 16 = .ok (.invokevirtual 45, 3) := by decide +kernel
theorem dX2_row_19 : decode cX2_row 19 = .ok (.istore_n 1, 1) := by decide +kernel
theorem dX2_row_20 : decode cX2_row 20 = .ok (.aload_n 0, 1) := by decide +kernel
theorem dX2_row_21 : decode cX2_row 21 = .ok (.getfield 15, 3) := by decide +kernel
theorem dX2_row_24 : decode cX2_row 24 = .ok (.aload_n 0, 1) := by decide +kernel
theorem dX2_row_25 : decode cX2_row 25 = .ok (.getfield 49, 3) := by decide +kernel
theorem dX2_row_28 : decode cX2_row 28 = .ok (.isub, 1) := by decide +kernel
theorem dX2_row_29 : decode cX2_row 29 = .ok (.istore_n 2, 1) := by decide +kernel
theorem dX2_row_30 : decode cX2_row 30 = .ok (.aload_n 0, 1) := by decide +kernel
theorem dX2_row_31 : decode cX2_row 31 = .ok (.bipush 58, 2) := by decide +kernel
theorem dX2_row_33 : decode cX2_row 33 = .ok (.invokevirtual 79, 3) := by decide +kernel
theorem dX2_row_36 : decode cX2_row 36 = .ok (.aload_n 0, 1) := by decide +kernel
theorem dX2_row_37 : decode cX2_row 37 = .ok (.invokestatic 75, 3) := by decide +kernel
theorem dX2_row_40 : decode cX2_row 40 = .ok (.astore_n 3, 1) := by decide +kernel
theorem dX2_row_41 : decode cX2_row 41 = .ok (.aload_n 0, 1) := by decide +kernel
theorem dX2_row_42 : decode cX2_row 42 = .ok (.bipush 59, 2) := by decide +kernel
theorem dX2_row_44 : decode cX2_row 44 = .ok (.invokevirtual 79, 3) := by decide +kernel
theorem dX2_row_47 : decode cX2_row 47 = .ok (.new 105, 3) := by decide +kernel
theorem dX2_row_50 : decode cX2_row 50 = .ok (.dup, 1) := by decide +kernel
theorem dX2_row_51 : decode cX2_row 51 = .ok (.iload_n 1, 1) := by decide +kernel
theorem dX2_row_52 : decode cX2_row 52 = .ok (.iload_n 2, 1) := by decide +kernel
theorem dX2_row_53 : decode cX2_row 53 = .ok (.aload_n 3, 1) := by decide +kernel
theorem dX2_row_54 : decode cX2_row 54 = .ok (.invokespecial 107, 3) := by decide +kernel
theorem dX2_row_57 : decode cX2_row 57 = .ok (.areturn, 1) := by decide +kernel
abbrev cX2_number : ByteArray := prog_11_method_6_code
def yX2_number : MethodName := ⟨RX2, "number", "(I)I"⟩
theorem dX2_number_0 : decode cX2_number 0 = .ok (.iconst 0, 1) := by decide +kernel
theorem dX2_number_1 : decode cX2_number 1 = .ok (.istore_n 2, 1) := by decide +kernel
theorem dX2_number_2 : decode cX2_number 2 = .ok (.aload_n 0, 1) := by decide +kernel
theorem dX2_number_3 : decode cX2_number 3 = .ok (.aload_n 0, 1) := by decide +kernel
theorem dX2_number_4 : decode cX2_number 4 = .ok (.invokevirtual 41, 3) := by decide +kernel
theorem dX2_number_7 : decode cX2_number 7 = .ok (.invokevirtual 37, 3) := by decide +kernel
theorem dX2_number_10 : decode cX2_number 10 = .ok (.iconst 0, 1) := by decide +kernel
theorem dX2_number_11 : decode cX2_number 11 = .ok (.istore_n 3, 1) := by decide +kernel
theorem dX2_number_12 : decode cX2_number 12 = .ok (.iload_n 3, 1) := by decide +kernel
theorem dX2_number_13 : decode cX2_number 13 = .ok (.iload_n 1, 1) := by decide +kernel
theorem dX2_number_14 : decode cX2_number 14 = .ok (.if_icmp .ge 44, 3) := by decide +kernel
theorem dX2_number_17 : decode cX2_number 17 = .ok (.aload_n 0, 1) := by decide +kernel
theorem dX2_number_18 : decode cX2_number 18 = .ok (.invokevirtual 41, 3) := by decide +kernel
theorem dX2_number_21 : decode cX2_number 21 = .ok (.ifCond .eq 37, 3) := by decide +kernel
theorem dX2_number_24 : decode cX2_number 24 = .ok (.bipush 10, 2) := by decide +kernel
theorem dX2_number_26 : decode cX2_number 26 = .ok (.iload_n 2, 1) := by decide +kernel
theorem dX2_number_27 : decode cX2_number 27 = .ok (.imul, 1) := by decide +kernel
theorem dX2_number_28 : decode cX2_number 28 = .ok (.aload_n 0, 1) := by decide +kernel
theorem dX2_number_29 : decode cX2_number 29 = .ok (.getfield 9, 3) := by decide +kernel
theorem dX2_number_32 : decode cX2_number 32 = .ok (.aload_n 0, 1) := by decide +kernel
theorem dX2_number_33 : decode cX2_number 33 = .ok (.getfield 15, 3) := by decide +kernel
theorem dX2_number_36 : decode cX2_number 36 = .ok (.caload, 1) := by decide +kernel
theorem dX2_number_37 : decode cX2_number 37 = .ok (.iadd, 1) := by decide +kernel
theorem dX2_number_38 : decode cX2_number 38 = .ok (.bipush 48, 2) := by decide +kernel
theorem dX2_number_40 : decode cX2_number 40 = .ok (.isub, 1) := by decide +kernel
theorem dX2_number_41 : decode cX2_number 41 = .ok (.istore_n 2, 1) := by decide +kernel
theorem dX2_number_42 : decode cX2_number 42 = .ok (.aload_n 0, 1) := by decide +kernel
theorem dX2_number_43 : decode cX2_number 43 = .ok (.dup, 1) := by decide +kernel
theorem dX2_number_44 : decode cX2_number 44 = .ok (.getfield 15, 3) := by decide +kernel
theorem dX2_number_47 : decode cX2_number 47 = .ok (.iconst 1, 1) := by decide +kernel
theorem dX2_number_48 : decode cX2_number 48 = .ok (.iadd, 1) := by decide +kernel
theorem dX2_number_49 : decode cX2_number 49 = .ok (.putfield 15, 3) := by decide +kernel
theorem dX2_number_52 : decode cX2_number 52 = .ok (.iinc 3 1, 3) := by decide +kernel
theorem dX2_number_55 : decode cX2_number 55 = .ok (.goto (-43), 3) := by decide +kernel
theorem dX2_number_58 : decode cX2_number 58 = .ok (.aload_n 0, 1) := by decide +kernel
theorem dX2_number_59 : decode cX2_number 59 = .ok (.aload_n 0, 1) := by decide +kernel
theorem dX2_number_60 : decode cX2_number 60 = .ok (.invokevirtual 41, 3) := by decide +kernel
theorem dX2_number_63 : decode cX2_number 63 = .ok (.ifCond .ne 7, 3) := by decide +kernel
theorem dX2_number_66 : decode cX2_number 66 = .ok (.iconst 1, 1) := by decide +kernel
theorem dX2_number_67 : decode cX2_number 67 = .ok (.goto 4, 3) := by decide +kernel
theorem dX2_number_70 : decode cX2_number 70 = .ok (.iconst 0, 1) := by decide +kernel
theorem dX2_number_71 : decode cX2_number 71 = .ok (.invokevirtual 37, 3) := by decide +kernel
theorem dX2_number_74 : decode cX2_number 74 = .ok (.iload_n 2, 1) := by decide +kernel
theorem dX2_number_75 : decode cX2_number 75 = .ok (.ireturn, 1) := by decide +kernel
abbrev cX2_isDigit : ByteArray := prog_11_method_4_code
def yX2_isDigit : MethodName := ⟨RX2, "isDigit", "()Z"⟩
theorem dX2_isDigit_0 : decode cX2_isDigit 0 = .ok (.aload_n 0, 1) := by decide +kernel
theorem dX2_isDigit_1 : decode cX2_isDigit 1 = .ok (.invokevirtual 25, 3) := by decide +kernel
theorem dX2_isDigit_4 : decode cX2_isDigit 4 = .ok (.i2l, 1) := by decide +kernel
theorem dX2_isDigit_5 : decode cX2_isDigit 5 = .ok (.ldc2_w 29, 3) := by decide +kernel
theorem dX2_isDigit_8 : decode cX2_isDigit 8 = .ok (.ldc2_w 31, 3) := by decide +kernel
theorem dX2_isDigit_11 : decode cX2_isDigit 11 = .ok (.invokestatic 33, 3) := by decide +kernel
theorem dX2_isDigit_14 : decode cX2_isDigit 14 = .ok (.ireturn, 1) := by decide +kernel
abbrev cX2_look : ByteArray := prog_11_method_2_code
def yX2_look : MethodName := ⟨RX2, "look", "()I"⟩
theorem dX2_look_0 : decode cX2_look 0 = .ok (.aload_n 0, 1) := by decide +kernel
theorem dX2_look_1 : decode cX2_look 1 = .ok (.getfield 15, 3) := by decide +kernel
theorem dX2_look_4 : decode cX2_look 4 = .ok (.aload_n 0, 1) := by decide +kernel
theorem dX2_look_5 : decode cX2_look 5 = .ok (.getfield 19, 3) := by decide +kernel
theorem dX2_look_8 : decode cX2_look 8 = .ok (.if_icmp .ge 15, 3) := by decide +kernel
theorem dX2_look_11 : decode cX2_look 11 = .ok (.aload_n 0, 1) := by decide +kernel
theorem dX2_look_12 : decode cX2_look 12 = .ok (.getfield 9, 3) := by decide +kernel
theorem dX2_look_15 : decode cX2_look 15 = .ok (.aload_n 0, 1) := by decide +kernel
theorem dX2_look_16 : decode cX2_look 16 = .ok (.getfield 15, 3) := by decide +kernel
theorem dX2_look_19 : decode cX2_look 19 = .ok (.caload, 1) := by decide +kernel
theorem dX2_look_20 : decode cX2_look 20 = .ok (.goto 4, 3) := by decide +kernel
theorem dX2_look_23 : decode cX2_look 23 = .ok (.iconst (-1), 1) := by decide +kernel
theorem dX2_look_24 : decode cX2_look 24 = .ok (.ireturn, 1) := by decide +kernel
abbrev cX2_need : ByteArray := prog_11_method_3_code
def yX2_need : MethodName := ⟨RX2, "need", "(Z)V"⟩
theorem dX2_need_0 : decode cX2_need 0 = .ok (.iload_n 1, 1) := by decide +kernel
theorem dX2_need_1 : decode cX2_need 1 = .ok (.ifCond .ne 11, 3) := by decide +kernel
theorem dX2_need_4 : decode cX2_need 4 = .ok (.new 22, 3) := by decide +kernel
theorem dX2_need_7 : decode cX2_need 7 = .ok (.dup, 1) := by decide +kernel
theorem dX2_need_8 : decode cX2_need 8 = .ok (.invokespecial 24, 3) := by decide +kernel
theorem dX2_need_11 : decode cX2_need 11 = .ok (.athrow, 1) := by decide +kernel
theorem dX2_need_12 : decode cX2_need 12 = .ok (.return_, 1) := by decide +kernel
abbrev cX2_take : ByteArray := prog_11_method_5_code
def yX2_take : MethodName := ⟨RX2, "take", "(I)V"⟩
theorem dX2_take_0 : decode cX2_take 0 = .ok (.aload_n 0, 1) := by decide +kernel
theorem dX2_take_1 : decode cX2_take 1 = .ok (.aload_n 0, 1) := by decide +kernel
theorem dX2_take_2 : decode cX2_take 2 = .ok (.invokevirtual 25, 3) := by decide +kernel
theorem dX2_take_5 : decode cX2_take 5 = .ok (.iload_n 1, 1) := by decide +kernel
theorem dX2_take_6 : decode cX2_take 6 = .ok (.if_icmp .ne 7, 3) := by decide +kernel
theorem dX2_take_9 : decode cX2_take 9 = .ok (.iconst 1, 1) := by decide +kernel
theorem dX2_take_10 : decode cX2_take 10 = .ok (.goto 4, 3) := by decide +kernel
theorem dX2_take_13 : decode cX2_take 13 = .ok (.iconst 0, 1) := by decide +kernel
theorem dX2_take_14 : decode cX2_take 14 = .ok (.invokevirtual 37, 3) := by decide +kernel
theorem dX2_take_17 : decode cX2_take 17 = .ok (.aload_n 0, 1) := by decide +kernel
theorem dX2_take_18 : decode cX2_take 18 = .ok (.dup, 1) := by decide +kernel
theorem dX2_take_19 : decode cX2_take 19 = .ok (.getfield 15, 3) := by decide +kernel
theorem dX2_take_22 : decode cX2_take 22 = .ok (.iconst 1, 1) := by decide +kernel
theorem dX2_take_23 : decode cX2_take 23 = .ok (.iadd, 1) := by decide +kernel
theorem dX2_take_24 : decode cX2_take 24 = .ok (.putfield 15, 3) := by decide +kernel
theorem dX2_take_27 : decode cX2_take 27 = .ok (.return_, 1) := by decide +kernel
abbrev cX2_rule : ByteArray := prog_11_method_10_code
def yX2_rule : MethodName := ⟨RX2, "rule", "(LOriginRules$Reader;)LOriginRules$Node;"⟩
theorem dX2_rule_0 : decode cX2_rule 0 = .ok (.new 98, 3) := by decide +kernel
theorem dX2_rule_3 : decode cX2_rule 3 = .ok (.dup, 1) := by decide +kernel
theorem dX2_rule_4 : decode cX2_rule 4 = .ok (.invokespecial 100, 3) := by decide +kernel
theorem dX2_rule_7 : decode cX2_rule 7 = .ok (.astore_n 1, 1) := by decide +kernel
theorem dX2_rule_8 : decode cX2_rule 8 = .ok (.aload_n 1, 1) := by decide +kernel
theorem dX2_rule_9 : decode cX2_rule 9 = .ok (.getfield 101, 3) := by decide +kernel
theorem dX2_rule_12 : decode cX2_rule 12 = .ok (.aload_n 0, 1) := by decide +kernel
theorem dX2_rule_13 : decode cX2_rule 13 = .ok (.invokestatic 102, 3) := by decide +kernel
theorem dX2_rule_16 : decode cX2_rule 16 = .ok (.invokevirtual 92, 3) := by decide +kernel
theorem dX2_rule_19 : decode cX2_rule 19 = .ok (.pop, 1) := by decide +kernel
theorem dX2_rule_20 : decode cX2_rule 20 = .ok (.aload_n 0, 1) := by decide +kernel
theorem dX2_rule_21 : decode cX2_rule 21 = .ok (.invokevirtual 25, 3) := by decide +kernel
theorem dX2_rule_24 : decode cX2_rule 24 = .ok (.bipush 124, 2) := by decide +kernel
theorem dX2_rule_26 : decode cX2_rule 26 = .ok (.if_icmp .ne 28, 3) := by decide +kernel
theorem dX2_rule_29 : decode cX2_rule 29 = .ok (.aload_n 0, 1) := by decide +kernel
theorem dX2_rule_30 : decode cX2_rule 30 = .ok (.dup, 1) := by decide +kernel
theorem dX2_rule_31 : decode cX2_rule 31 = .ok (.getfield 15, 3) := by decide +kernel
theorem dX2_rule_34 : decode cX2_rule 34 = .ok (.iconst 1, 1) := by decide +kernel
theorem dX2_rule_35 : decode cX2_rule 35 = .ok (.iadd, 1) := by decide +kernel
theorem dX2_rule_36 : decode cX2_rule 36 = .ok (.putfield 15, 3) := by decide +kernel
theorem dX2_rule_39 : decode cX2_rule 39 = .ok (.aload_n 1, 1) := by decide +kernel
theorem dX2_rule_40 : decode cX2_rule 40 = .ok (.getfield 101, 3) := by decide +kernel
theorem dX2_rule_43 : decode cX2_rule 43 = .ok (.aload_n 0, 1) := by decide +kernel
theorem dX2_rule_44 : decode cX2_rule 44 = .ok (.invokestatic 102, 3) := by decide +kernel
theorem dX2_rule_47 : decode cX2_rule 47 = .ok (.invokevirtual 92, 3) := by decide +kernel
theorem dX2_rule_50 : decode cX2_rule 50 = .ok (.pop, 1) := by decide +kernel
theorem dX2_rule_51 : decode cX2_rule 51 = .ok (.goto (-31), 3) := by decide +kernel
theorem dX2_rule_54 : decode cX2_rule 54 = .ok (.aload_n 1, 1) := by decide +kernel
theorem dX2_rule_55 : decode cX2_rule 55 = .ok (.areturn, 1) := by decide +kernel
abbrev cX2_term : ByteArray := prog_11_method_9_code
def yX2_term : MethodName := ⟨RX2, "term", "(LOriginRules$Reader;)LOriginRules$Node;"⟩
theorem dX2_term_0 : decode cX2_term 0 = .ok (.new 82, 3) := by decide +kernel
theorem dX2_term_3 : decode cX2_term 3 = .ok (.dup, 1) := by decide +kernel
theorem dX2_term_4 : decode cX2_term 4 = .ok (.invokespecial 84, 3) := by decide +kernel
theorem dX2_term_7 : decode cX2_term 7 = .ok (.astore_n 1, 1) := by decide +kernel
theorem dX2_term_8 : decode cX2_term 8 = .ok (.aload_n 1, 1) := by decide +kernel
theorem dX2_term_9 : decode cX2_term 9 = .ok (.getfield 85, 3) := by decide +kernel
theorem dX2_term_12 : decode cX2_term 12 = .ok (.aload_n 0, 1) := by decide +kernel
theorem dX2_term_13 : decode cX2_term 13 = .ok (.invokestatic 89, 3) := by decide +kernel
theorem dX2_term_16 : decode cX2_term 16 = .ok (.invokevirtual 92, 3) := by decide +kernel
theorem dX2_term_19 : decode cX2_term 19 = .ok (.pop, 1) := by decide +kernel
theorem dX2_term_20 : decode cX2_term 20 = .ok (.aload_n 0, 1) := by decide +kernel
theorem dX2_term_21 : decode cX2_term 21 = .ok (.invokevirtual 25, 3) := by decide +kernel
theorem dX2_term_24 : decode cX2_term 24 = .ok (.bipush 38, 2) := by decide +kernel
theorem dX2_term_26 : decode cX2_term 26 = .ok (.if_icmp .ne 28, 3) := by decide +kernel
theorem dX2_term_29 : decode cX2_term 29 = .ok (.aload_n 0, 1) := by decide +kernel
theorem dX2_term_30 : decode cX2_term 30 = .ok (.dup, 1) := by decide +kernel
theorem dX2_term_31 : decode cX2_term 31 = .ok (.getfield 15, 3) := by decide +kernel
theorem dX2_term_34 : decode cX2_term 34 = .ok (.iconst 1, 1) := by decide +kernel
theorem dX2_term_35 : decode cX2_term 35 = .ok (.iadd, 1) := by decide +kernel
theorem dX2_term_36 : decode cX2_term 36 = .ok (.putfield 15, 3) := by decide +kernel
theorem dX2_term_39 : decode cX2_term 39 = .ok (.aload_n 1, 1) := by decide +kernel
theorem dX2_term_40 : decode cX2_term 40 = .ok (.getfield 85, 3) := by decide +kernel
theorem dX2_term_43 : decode cX2_term 43 = .ok (.aload_n 0, 1) := by decide +kernel
theorem dX2_term_44 : decode cX2_term 44 = .ok (.invokestatic 89, 3) := by decide +kernel
theorem dX2_term_47 : decode cX2_term 47 = .ok (.invokevirtual 92, 3) := by decide +kernel
theorem dX2_term_50 : decode cX2_term 50 = .ok (.pop, 1) := by decide +kernel
theorem dX2_term_51 : decode cX2_term 51 = .ok (.goto (-31), 3) := by decide +kernel
theorem dX2_term_54 : decode cX2_term 54 = .ok (.aload_n 1, 1) := by decide +kernel
theorem dX2_term_55 : decode cX2_term 55 = .ok (.areturn, 1) := by decide +kernel
abbrev cX2_factor : ByteArray := prog_11_method_8_code
def yX2_factor : MethodName := ⟨RX2, "factor", "(LOriginRules$Reader;)LOriginRules$Node;"⟩
theorem dX2_factor_0 : decode cX2_factor 0 = .ok (.aload_n 0, 1) := by decide +kernel
theorem dX2_factor_1 : decode cX2_factor 1 = .ok (.getfield 15, 3) := by decide +kernel
theorem dX2_factor_4 : decode cX2_factor 4 = .ok (.aload_n 0, 1) := by decide +kernel
theorem dX2_factor_5 : decode cX2_factor 5 = .ok (.getfield 49, 3) := by decide +kernel
theorem dX2_factor_8 : decode cX2_factor 8 = .ok (.isub, 1) := by decide +kernel
theorem dX2_factor_9 : decode cX2_factor 9 = .ok (.istore_n 1, 1) := by decide +kernel
theorem dX2_factor_10 : decode cX2_factor 10 = .ok (.aload_n 0, 1) := by decide +kernel
theorem dX2_factor_11 : decode cX2_factor 11 = .ok (.invokevirtual 25, 3) := by decide +kernel
theorem dX2_factor_14 : decode cX2_factor 14 = .ok (.istore_n 2, 1) := by decide +kernel
theorem dX2_factor_15 : decode cX2_factor 15 = .ok (.aload_n 0, 1) := by decide +kernel
theorem dX2_factor_16 : decode cX2_factor 16 = .ok (.iload_n 2, 1) := by decide +kernel
theorem dX2_factor_17 : decode cX2_factor 17 = .ok (.bipush 87, 2) := by decide +kernel
theorem dX2_factor_19 : decode cX2_factor 19 = .ok (.if_icmp .eq 48, 3) := by decide +kernel
theorem dX2_factor_22 : decode cX2_factor 22 = .ok (.iload_n 2, 1) := by decide +kernel
theorem dX2_factor_23 : decode cX2_factor 23 = .ok (.bipush 67, 2) := by decide +kernel
theorem dX2_factor_25 : decode cX2_factor 25 = .ok (.if_icmp .eq 42, 3) := by decide +kernel
theorem dX2_factor_28 : decode cX2_factor 28 = .ok (.iload_n 2, 1) := by decide +kernel
theorem dX2_factor_29 : decode cX2_factor 29 = .ok (.bipush 72, 2) := by decide +kernel
theorem dX2_factor_31 : decode cX2_factor 31 = .ok (.if_icmp .eq 36, 3) := by decide +kernel
theorem dX2_factor_34 : decode cX2_factor 34 = .ok (.iload_n 2, 1) := by decide +kernel
theorem dX2_factor_35 : decode cX2_factor 35 = .ok (.bipush 83, 2) := by decide +kernel
theorem dX2_factor_37 : decode cX2_factor 37 = .ok (.if_icmp .eq 30, 3) := by decide +kernel
theorem dX2_factor_40 : decode cX2_factor 40 = .ok (.iload_n 2, 1) := by decide +kernel
theorem dX2_factor_41 : decode cX2_factor 41 = .ok (.bipush 86, 2) := by decide +kernel
theorem dX2_factor_43 : decode cX2_factor 43 = .ok (.if_icmp .eq 24, 3) := by decide +kernel
theorem dX2_factor_46 : decode cX2_factor 46 = .ok (.iload_n 2, 1) := by decide +kernel
theorem dX2_factor_47 : decode cX2_factor 47 = .ok (.bipush 80, 2) := by decide +kernel
theorem dX2_factor_49 : decode cX2_factor 49 = .ok (.if_icmp .eq 18, 3) := by decide +kernel
theorem dX2_factor_52 : decode cX2_factor 52 = .ok (.iload_n 2, 1) := by decide +kernel
theorem dX2_factor_53 : decode cX2_factor 53 = .ok (.bipush 40, 2) := by decide +kernel
theorem dX2_factor_55 : decode cX2_factor 55 = .ok (.if_icmp .ne 16, 3) := by decide +kernel
theorem dX2_factor_58 : decode cX2_factor 58 = .ok (.aload_n 0, 1) := by decide +kernel
theorem dX2_factor_59 : decode cX2_factor 59 = .ok (.getfield 52, 3) := by decide +kernel
theorem dX2_factor_62 : decode cX2_factor 62 = .ok (.bipush 8, 2) := by decide +kernel
theorem dX2_factor_64 : decode cX2_factor 64 = .ok (.if_icmp .ge 7, 3) := by decide +kernel
theorem dX2_factor_67 : decode cX2_factor 67 = .ok (.iconst 1, 1) := by decide +kernel
theorem dX2_factor_68 : decode cX2_factor 68 = .ok (.goto 4, 3) := by decide +kernel
theorem dX2_factor_71 : decode cX2_factor 71 = .ok (.iconst 0, 1) := by decide +kernel
theorem dX2_factor_72 : decode cX2_factor 72 = .ok (.invokevirtual 37, 3) := by decide +kernel
theorem dX2_factor_75 : decode cX2_factor 75 = .ok (.aload_n 0, 1) := by decide +kernel
theorem dX2_factor_76 : decode cX2_factor 76 = .ok (.dup, 1) := by decide +kernel
theorem dX2_factor_77 : decode cX2_factor 77 = .ok (.getfield 15, 3) := by decide +kernel
theorem dX2_factor_80 : decode cX2_factor 80 = .ok (.iconst 1, 1) := by decide +kernel
theorem dX2_factor_81 : decode cX2_factor 81 = .ok (.iadd, 1) := by decide +kernel
theorem dX2_factor_82 : decode cX2_factor 82 = .ok (.putfield 15, 3) := by decide +kernel
theorem dX2_factor_85 : decode cX2_factor 85 = .ok (.iload_n 2, 1) := by decide +kernel
theorem dX2_factor_86 : decode cX2_factor 86 = .ok (.lookupswitch 132 #[(67, 67), (72, 79), (80, 116), (83, 90), (86, 100), (87, 58)], 58) := by decide +kernel
theorem dX2_factor_144 : decode cX2_factor 144 = .ok (.new 55, 3) := by decide +kernel
theorem dX2_factor_147 : decode cX2_factor 147 = .ok (.dup, 1) := by decide +kernel
theorem dX2_factor_148 : decode cX2_factor 148 = .ok (.iload_n 1, 1) := by decide +kernel
theorem dX2_factor_149 : decode cX2_factor 149 = .ok (.invokespecial 57, 3) := by decide +kernel
theorem dX2_factor_152 : decode cX2_factor 152 = .ok (.areturn, 1) := by decide +kernel
theorem dX2_factor_153 : decode cX2_factor 153 = .ok (.new 60, 3) := by decide +kernel
theorem dX2_factor_156 : decode cX2_factor 156 = .ok (.dup, 1) := by decide +kernel
theorem dX2_factor_157 : decode cX2_factor 157 = .ok (.iload_n 1, 1) := by decide +kernel
theorem dX2_factor_158 : decode cX2_factor 158 = .ok (.sipush 10000, 3) := by decide +kernel
theorem dX2_factor_161 : decode cX2_factor 161 = .ok (.invokespecial 62, 3) := by decide +kernel
theorem dX2_factor_164 : decode cX2_factor 164 = .ok (.areturn, 1) := by decide +kernel
theorem dX2_factor_165 : decode cX2_factor 165 = .ok (.new 60, 3) := by decide +kernel
theorem dX2_factor_168 : decode cX2_factor 168 = .ok (.dup, 1) := by decide +kernel
theorem dX2_factor_169 : decode cX2_factor 169 = .ok (.iload_n 1, 1) := by decide +kernel
theorem dX2_factor_170 : decode cX2_factor 170 = .ok (.bipush 100, 2) := by decide +kernel
theorem dX2_factor_172 : decode cX2_factor 172 = .ok (.invokespecial 62, 3) := by decide +kernel
theorem dX2_factor_175 : decode cX2_factor 175 = .ok (.areturn, 1) := by decide +kernel
theorem dX2_factor_176 : decode cX2_factor 176 = .ok (.new 60, 3) := by decide +kernel
theorem dX2_factor_179 : decode cX2_factor 179 = .ok (.dup, 1) := by decide +kernel
theorem dX2_factor_180 : decode cX2_factor 180 = .ok (.iload_n 1, 1) := by decide +kernel
theorem dX2_factor_181 : decode cX2_factor 181 = .ok (.iconst 1, 1) := by decide +kernel
theorem dX2_factor_182 : decode cX2_factor 182 = .ok (.invokespecial 62, 3) := by decide +kernel
theorem dX2_factor_185 : decode cX2_factor 185 = .ok (.areturn, 1) := by decide +kernel
theorem dX2_factor_186 : decode cX2_factor 186 = .ok (.new 65, 3) := by decide +kernel
theorem dX2_factor_189 : decode cX2_factor 189 = .ok (.dup, 1) := by decide +kernel
theorem dX2_factor_190 : decode cX2_factor 190 = .ok (.iload_n 1, 1) := by decide +kernel
theorem dX2_factor_191 : decode cX2_factor 191 = .ok (.aload_n 0, 1) := by decide +kernel
theorem dX2_factor_192 : decode cX2_factor 192 = .ok (.iconst 3, 1) := by decide +kernel
theorem dX2_factor_193 : decode cX2_factor 193 = .ok (.bipush 100, 2) := by decide +kernel
theorem dX2_factor_195 : decode cX2_factor 195 = .ok (.invokevirtual 67, 3) := by decide +kernel
theorem dX2_factor_198 : decode cX2_factor 198 = .ok (.invokespecial 71, 3) := by decide +kernel
theorem dX2_factor_201 : decode cX2_factor 201 = .ok (.areturn, 1) := by decide +kernel
theorem dX2_factor_202 : decode cX2_factor 202 = .ok (.new 72, 3) := by decide +kernel
theorem dX2_factor_205 : decode cX2_factor 205 = .ok (.dup, 1) := by decide +kernel
theorem dX2_factor_206 : decode cX2_factor 206 = .ok (.iload_n 1, 1) := by decide +kernel
theorem dX2_factor_207 : decode cX2_factor 207 = .ok (.aload_n 0, 1) := by decide +kernel
theorem dX2_factor_208 : decode cX2_factor 208 = .ok (.iconst 2, 1) := by decide +kernel
theorem dX2_factor_209 : decode cX2_factor 209 = .ok (.bipush 15, 2) := by decide +kernel
theorem dX2_factor_211 : decode cX2_factor 211 = .ok (.invokevirtual 67, 3) := by decide +kernel
theorem dX2_factor_214 : decode cX2_factor 214 = .ok (.invokespecial 74, 3) := by decide +kernel
theorem dX2_factor_217 : decode cX2_factor 217 = .ok (.areturn, 1) := by decide +kernel
theorem dX2_factor_218 : decode cX2_factor 218 = .ok (.aload_n 0, 1) := by decide +kernel
theorem dX2_factor_219 : decode cX2_factor 219 = .ok (.dup, 1) := by decide +kernel
theorem dX2_factor_220 : decode cX2_factor 220 = .ok (.getfield 52, 3) := by decide +kernel
theorem dX2_factor_223 : decode cX2_factor 223 = .ok (.iconst 1, 1) := by decide +kernel
theorem dX2_factor_224 : decode cX2_factor 224 = .ok (.iadd, 1) := by decide +kernel
theorem dX2_factor_225 : decode cX2_factor 225 = .ok (.putfield 52, 3) := by decide +kernel
theorem dX2_factor_228 : decode cX2_factor 228 = .ok (.aload_n 0, 1) := by decide +kernel
theorem dX2_factor_229 : decode cX2_factor 229 = .ok (.invokestatic 75, 3) := by decide +kernel
theorem dX2_factor_232 : decode cX2_factor 232 = .ok (.astore_n 3, 1) := by decide +kernel
theorem dX2_factor_233 : decode cX2_factor 233 = .ok (.aload_n 0, 1) := by decide +kernel
theorem dX2_factor_234 : decode cX2_factor 234 = .ok (.bipush 41, 2) := by decide +kernel
theorem dX2_factor_236 : decode cX2_factor 236 = .ok (.invokevirtual 79, 3) := by decide +kernel
theorem dX2_factor_239 : decode cX2_factor 239 = .ok (.aload_n 0, 1) := by decide +kernel
theorem dX2_factor_240 : decode cX2_factor 240 = .ok (.dup, 1) := by decide +kernel
theorem dX2_factor_241 : decode cX2_factor 241 = .ok (.getfield 52, 3) := by decide +kernel
theorem dX2_factor_244 : decode cX2_factor 244 = .ok (.iconst 1, 1) := by decide +kernel
theorem dX2_factor_245 : decode cX2_factor 245 = .ok (.isub, 1) := by decide +kernel
theorem dX2_factor_246 : decode cX2_factor 246 = .ok (.putfield 52, 3) := by decide +kernel
theorem dX2_factor_249 : decode cX2_factor 249 = .ok (.aload_n 3, 1) := by decide +kernel
theorem dX2_factor_250 : decode cX2_factor 250 = .ok (.areturn, 1) := by decide +kernel
abbrev cX2_numberUpTo : ByteArray := prog_11_method_7_code
def yX2_numberUpTo : MethodName := ⟨RX2, "numberUpTo", "(II)I"⟩
theorem dX2_numberUpTo_0 : decode cX2_numberUpTo 0 = .ok (.aload_n 0, 1) := by decide +kernel
theorem dX2_numberUpTo_1 : decode cX2_numberUpTo 1 = .ok (.iload_n 1, 1) := by decide +kernel
theorem dX2_numberUpTo_2 : decode cX2_numberUpTo 2 = .ok (.invokevirtual 45, 3) := by decide +kernel
theorem dX2_numberUpTo_5 : decode cX2_numberUpTo 5 = .ok (.istore_n 3, 1) := by decide +kernel
theorem dX2_numberUpTo_6 : decode cX2_numberUpTo 6 = .ok (.aload_n 0, 1) := by decide +kernel
theorem dX2_numberUpTo_7 : decode cX2_numberUpTo 7 = .ok (.iload_n 3, 1) := by decide +kernel
theorem dX2_numberUpTo_8 : decode cX2_numberUpTo 8 = .ok (.iload_n 2, 1) := by decide +kernel
theorem dX2_numberUpTo_9 : decode cX2_numberUpTo 9 = .ok (.if_icmp .gt 7, 3) := by decide +kernel
theorem dX2_numberUpTo_12 : decode cX2_numberUpTo 12 = .ok (.iconst 1, 1) := by decide +kernel
theorem dX2_numberUpTo_13 : decode cX2_numberUpTo 13 = .ok (.goto 4, 3) := by decide +kernel
theorem dX2_numberUpTo_16 : decode cX2_numberUpTo 16 = .ok (.iconst 0, 1) := by decide +kernel
theorem dX2_numberUpTo_17 : decode cX2_numberUpTo 17 = .ok (.invokevirtual 37, 3) := by decide +kernel
theorem dX2_numberUpTo_20 : decode cX2_numberUpTo 20 = .ok (.iload_n 3, 1) := by decide +kernel
theorem dX2_numberUpTo_21 : decode cX2_numberUpTo 21 = .ok (.ireturn, 1) := by decide +kernel
theorem q25 : (Jvm.Cond.initialized "OriginRules$Reader") ∈ lw_all := lw_g (lw_at lw_m1 2 rfl) rfl
theorem q64 : (Jvm.Cond.instantiable "OriginRules$Reader" (5 : Nat)) ∈ lw_all := lw_g (lw_at lw_m1 41 rfl) rfl
theorem q66 : (Jvm.Cond.instanceMethod ({ cls := "OriginRules$Reader", name := "<init>", desc := "()V" } : Jvm.MethodName)) ∈ lw_all := lw_g (lw_at lw_m1 43 rfl) rfl
theorem q67 : (Jvm.Cond.code ({ cls := "OriginRules$Reader", name := "<init>", desc := "()V" } : Jvm.MethodName) prog_11_method_1_code (1 : Nat) (Option.none : Option Jvm.ClassFile.FieldType)) ∈ lw_all := lw_g (lw_at lw_m1 44 rfl) rfl
theorem q68 : (Jvm.Cond.methodLink "OriginRules$Reader" (3 : Nat) ({ cls := "java/lang/Object", name := "<init>", desc := "()V" } : Jvm.MethodName)) ∈ lw_all := lw_g (lw_at lw_m1 45 rfl) rfl
theorem q69 : (Jvm.Cond.fieldLink "OriginRules$Reader" (9 : Nat) "OriginRules$Reader" "text" "[C") ∈ lw_all := lw_g (lw_at lw_m1 46 rfl) rfl
theorem q71 : (Jvm.Cond.fieldLink "OriginRules$Reader" (19 : Nat) "OriginRules$Reader" "size" "I") ∈ lw_all := lw_g (lw_at lw_m1 48 rfl) rfl
theorem q73 : (Jvm.Cond.fieldLink "OriginRules$Reader" (15 : Nat) "OriginRules$Reader" "at" "I") ∈ lw_all := lw_g (lw_at lw_m1 50 rfl) rfl
theorem q75 : (Jvm.Cond.fieldLink "OriginRules$Reader" (49 : Nat) "OriginRules$Reader" "begin" "I") ∈ lw_all := lw_g (lw_at lw_m1 52 rfl) rfl
theorem q76 : (Jvm.Cond.fieldLink "OriginRules$Reader" (52 : Nat) "OriginRules$Reader" "depth" "I") ∈ lw_all := lw_g (lw_at lw_m1 53 rfl) rfl
theorem q77 : (Jvm.Cond.laysFinal "OriginRules$Reader" "OriginRules$Reader" "text" "[C") ∈ lw_all := lw_g (lw_at lw_m1 54 rfl) rfl
theorem q78 : (Jvm.Cond.soleField "OriginRules$Reader" "text") ∈ lw_all := lw_g (lw_at lw_m1 55 rfl) rfl
theorem q79 : (Jvm.Cond.lays "OriginRules$Reader" "OriginRules$Reader" "size" "I") ∈ lw_all := lw_g (lw_at lw_m1 56 rfl) rfl
theorem q80 : (Jvm.Cond.soleField "OriginRules$Reader" "size") ∈ lw_all := lw_g (lw_at lw_m1 57 rfl) rfl
theorem q81 : (Jvm.Cond.lays "OriginRules$Reader" "OriginRules$Reader" "at" "I") ∈ lw_all := lw_g (lw_at lw_m1 58 rfl) rfl
theorem q82 : (Jvm.Cond.soleField "OriginRules$Reader" "at") ∈ lw_all := lw_g (lw_at lw_m1 59 rfl) rfl
theorem q83 : (Jvm.Cond.lays "OriginRules$Reader" "OriginRules$Reader" "begin" "I") ∈ lw_all := lw_g (lw_at lw_m1 60 rfl) rfl
theorem q84 : (Jvm.Cond.soleField "OriginRules$Reader" "begin") ∈ lw_all := lw_g (lw_at lw_m1 61 rfl) rfl
theorem q85 : (Jvm.Cond.lays "OriginRules$Reader" "OriginRules$Reader" "depth" "I") ∈ lw_all := lw_g (lw_at lw_m1 62 rfl) rfl
theorem q86 : (Jvm.Cond.soleField "OriginRules$Reader" "depth") ∈ lw_all := lw_g (lw_at lw_m1 63 rfl) rfl
theorem q87 : (Jvm.Cond.superclass "OriginRules$Reader" "java/lang/Object") ∈ lw_all := lw_g (lw_at lw_m1 64 rfl) rfl
theorem q202 : (Jvm.Cond.instanceMethod ({ cls := "OriginRules$Reader", name := "rows", desc := "()Ljava/util/ArrayList;" } : Jvm.MethodName)) ∈ lw_all := lw_g (lw_at lw_m1 179 rfl) rfl
theorem q203 : (Jvm.Cond.selects "OriginRules$Reader" ({ cls := "OriginRules$Reader", name := "rows", desc := "()Ljava/util/ArrayList;" } : Jvm.MethodName) ({ cls := "OriginRules$Reader", name := "rows", desc := "()Ljava/util/ArrayList;" } : Jvm.MethodName)) ∈ lw_all := lw_g (lw_at lw_m1 180 rfl) rfl
theorem q204 : (Jvm.Cond.code ({ cls := "OriginRules$Reader", name := "rows", desc := "()Ljava/util/ArrayList;" } : Jvm.MethodName) prog_11_method_12_code (2 : Nat) (Option.some (Jvm.ClassFile.FieldType.object "java/util/ArrayList"))) ∈ lw_all := lw_g (lw_at lw_m1 181 rfl) rfl
theorem q205 : (Jvm.Cond.classLink "OriginRules$Reader" (93 : Nat) "java/util/ArrayList") ∈ lw_all := lw_g (lw_at lw_m1 182 rfl) rfl
theorem q206 : (Jvm.Cond.methodLink "OriginRules$Reader" (110 : Nat) ({ cls := "java/util/ArrayList", name := "<init>", desc := "()V" } : Jvm.MethodName)) ∈ lw_all := lw_g (lw_at lw_m1 183 rfl) rfl
theorem q207 : (Jvm.Cond.methodLink "OriginRules$Reader" (111 : Nat) ({ cls := "OriginRules$Reader", name := "row", desc := "()LOriginRules$Row;" } : Jvm.MethodName)) ∈ lw_all := lw_g (lw_at lw_m1 184 rfl) rfl
theorem q208 : (Jvm.Cond.privateMethod ({ cls := "OriginRules$Reader", name := "row", desc := "()LOriginRules$Row;" } : Jvm.MethodName)) ∈ lw_tbl := lw_at lw_m1 185 rfl
theorem q209 : (Jvm.Cond.instanceMethod ({ cls := "OriginRules$Reader", name := "row", desc := "()LOriginRules$Row;" } : Jvm.MethodName)) ∈ lw_all := lw_g (lw_at lw_m1 186 rfl) rfl
theorem q210 : (Jvm.Cond.code ({ cls := "OriginRules$Reader", name := "row", desc := "()LOriginRules$Row;" } : Jvm.MethodName) prog_11_method_11_code (4 : Nat) (Option.some (Jvm.ClassFile.FieldType.object "OriginRules$Row"))) ∈ lw_all := lw_g (lw_at lw_m1 187 rfl) rfl
theorem q211 : (Jvm.Cond.methodLink "OriginRules$Reader" (45 : Nat) ({ cls := "OriginRules$Reader", name := "number", desc := "(I)I" } : Jvm.MethodName)) ∈ lw_all := lw_g (lw_at lw_m1 188 rfl) rfl
theorem q212 : (Jvm.Cond.privateMethod ({ cls := "OriginRules$Reader", name := "number", desc := "(I)I" } : Jvm.MethodName)) ∈ lw_tbl := lw_at lw_m1 189 rfl
theorem q213 : (Jvm.Cond.instanceMethod ({ cls := "OriginRules$Reader", name := "number", desc := "(I)I" } : Jvm.MethodName)) ∈ lw_all := lw_g (lw_at lw_m1 190 rfl) rfl
theorem q214 : (Jvm.Cond.code ({ cls := "OriginRules$Reader", name := "number", desc := "(I)I" } : Jvm.MethodName) prog_11_method_6_code (4 : Nat) (Option.some Jvm.ClassFile.FieldType.int)) ∈ lw_all := lw_g (lw_at lw_m1 191 rfl) rfl
theorem q215 : (Jvm.Cond.methodLink "OriginRules$Reader" (41 : Nat) ({ cls := "OriginRules$Reader", name := "isDigit", desc := "()Z" } : Jvm.MethodName)) ∈ lw_all := lw_g (lw_at lw_m1 192 rfl) rfl
theorem q216 : (Jvm.Cond.privateMethod ({ cls := "OriginRules$Reader", name := "isDigit", desc := "()Z" } : Jvm.MethodName)) ∈ lw_tbl := lw_at lw_m1 193 rfl
theorem q217 : (Jvm.Cond.instanceMethod ({ cls := "OriginRules$Reader", name := "isDigit", desc := "()Z" } : Jvm.MethodName)) ∈ lw_all := lw_g (lw_at lw_m1 194 rfl) rfl
theorem q218 : (Jvm.Cond.code ({ cls := "OriginRules$Reader", name := "isDigit", desc := "()Z" } : Jvm.MethodName) prog_11_method_4_code (1 : Nat) (Option.some Jvm.ClassFile.FieldType.boolean)) ∈ lw_all := lw_g (lw_at lw_m1 195 rfl) rfl
theorem q219 : (Jvm.Cond.methodLink "OriginRules$Reader" (25 : Nat) ({ cls := "OriginRules$Reader", name := "look", desc := "()I" } : Jvm.MethodName)) ∈ lw_all := lw_g (lw_at lw_m1 196 rfl) rfl
theorem q220 : (Jvm.Cond.privateMethod ({ cls := "OriginRules$Reader", name := "look", desc := "()I" } : Jvm.MethodName)) ∈ lw_tbl := lw_at lw_m1 197 rfl
theorem q221 : (Jvm.Cond.instanceMethod ({ cls := "OriginRules$Reader", name := "look", desc := "()I" } : Jvm.MethodName)) ∈ lw_all := lw_g (lw_at lw_m1 198 rfl) rfl
theorem q222 : (Jvm.Cond.code ({ cls := "OriginRules$Reader", name := "look", desc := "()I" } : Jvm.MethodName) prog_11_method_2_code (1 : Nat) (Option.some Jvm.ClassFile.FieldType.int)) ∈ lw_all := lw_g (lw_at lw_m1 199 rfl) rfl
theorem q223 : (Jvm.Cond.constantLong "OriginRules$Reader" (29 : Nat) (48 : Int64)) ∈ lw_all := lw_g (lw_at lw_m1 200 rfl) rfl
theorem q224 : (Jvm.Cond.constantLong "OriginRules$Reader" (31 : Nat) (57 : Int64)) ∈ lw_all := lw_g (lw_at lw_m1 201 rfl) rfl
theorem q225 : (Jvm.Cond.methodLinkNest "OriginRules$Reader" (33 : Nat) ({ cls := "OriginRules", name := "in", desc := "(JJJ)Z" } : Jvm.MethodName) "OriginRules") ∈ lw_tbl := lw_at lw_m1 202 rfl
theorem q226 : (Jvm.Cond.methodLink "OriginRules$Reader" (37 : Nat) ({ cls := "OriginRules$Reader", name := "need", desc := "(Z)V" } : Jvm.MethodName)) ∈ lw_all := lw_g (lw_at lw_m1 203 rfl) rfl
theorem q227 : (Jvm.Cond.privateMethod ({ cls := "OriginRules$Reader", name := "need", desc := "(Z)V" } : Jvm.MethodName)) ∈ lw_tbl := lw_at lw_m1 204 rfl
theorem q228 : (Jvm.Cond.instanceMethod ({ cls := "OriginRules$Reader", name := "need", desc := "(Z)V" } : Jvm.MethodName)) ∈ lw_all := lw_g (lw_at lw_m1 205 rfl) rfl
theorem q229 : (Jvm.Cond.code ({ cls := "OriginRules$Reader", name := "need", desc := "(Z)V" } : Jvm.MethodName) prog_11_method_3_code (2 : Nat) (Option.none : Option Jvm.ClassFile.FieldType)) ∈ lw_all := lw_g (lw_at lw_m1 206 rfl) rfl
theorem q230 : (Jvm.Cond.classLink "OriginRules$Reader" (22 : Nat) "OriginRules$Wrong") ∈ lw_all := lw_g (lw_at lw_m1 207 rfl) rfl
theorem q272 : (Jvm.Cond.methodLinkNest "OriginRules$Reader" (24 : Nat) ({ cls := "OriginRules$Wrong", name := "<init>", desc := "()V" } : Jvm.MethodName) "OriginRules") ∈ lw_tbl := lw_at lw_m2 9 rfl
theorem q295 : (Jvm.Cond.methodLink "OriginRules$Reader" (79 : Nat) ({ cls := "OriginRules$Reader", name := "take", desc := "(I)V" } : Jvm.MethodName)) ∈ lw_all := lw_g (lw_at lw_m2 32 rfl) rfl
theorem q296 : (Jvm.Cond.privateMethod ({ cls := "OriginRules$Reader", name := "take", desc := "(I)V" } : Jvm.MethodName)) ∈ lw_tbl := lw_at lw_m2 33 rfl
theorem q297 : (Jvm.Cond.instanceMethod ({ cls := "OriginRules$Reader", name := "take", desc := "(I)V" } : Jvm.MethodName)) ∈ lw_all := lw_g (lw_at lw_m2 34 rfl) rfl
theorem q298 : (Jvm.Cond.code ({ cls := "OriginRules$Reader", name := "take", desc := "(I)V" } : Jvm.MethodName) prog_11_method_5_code (2 : Nat) (Option.none : Option Jvm.ClassFile.FieldType)) ∈ lw_all := lw_g (lw_at lw_m2 35 rfl) rfl
theorem q299 : (Jvm.Cond.methodLink "OriginRules$Reader" (75 : Nat) ({ cls := "OriginRules$Reader", name := "rule", desc := "(LOriginRules$Reader;)LOriginRules$Node;" } : Jvm.MethodName)) ∈ lw_all := lw_g (lw_at lw_m2 36 rfl) rfl
theorem q300 : (Jvm.Cond.static ({ cls := "OriginRules$Reader", name := "rule", desc := "(LOriginRules$Reader;)LOriginRules$Node;" } : Jvm.MethodName)) ∈ lw_all := lw_g (lw_at lw_m2 37 rfl) rfl
theorem q301 : (Jvm.Cond.code ({ cls := "OriginRules$Reader", name := "rule", desc := "(LOriginRules$Reader;)LOriginRules$Node;" } : Jvm.MethodName) prog_11_method_10_code (2 : Nat) (Option.some (Jvm.ClassFile.FieldType.object "OriginRules$Node"))) ∈ lw_all := lw_g (lw_at lw_m2 38 rfl) rfl
theorem q302 : (Jvm.Cond.classLink "OriginRules$Reader" (98 : Nat) "OriginRules$Any") ∈ lw_all := lw_g (lw_at lw_m2 39 rfl) rfl
theorem q304 : (Jvm.Cond.methodLinkNest "OriginRules$Reader" (100 : Nat) ({ cls := "OriginRules$Any", name := "<init>", desc := "()V" } : Jvm.MethodName) "OriginRules") ∈ lw_tbl := lw_at lw_m2 41 rfl
theorem q311 : (Jvm.Cond.fieldLinkNest "OriginRules$Reader" (101 : Nat) "OriginRules$Any" "nodes" "Ljava/util/ArrayList;" "OriginRules") ∈ lw_tbl := lw_at lw_m2 48 rfl
theorem q315 : (Jvm.Cond.methodLink "OriginRules$Reader" (102 : Nat) ({ cls := "OriginRules$Reader", name := "term", desc := "(LOriginRules$Reader;)LOriginRules$Node;" } : Jvm.MethodName)) ∈ lw_all := lw_g (lw_at lw_m2 52 rfl) rfl
theorem q316 : (Jvm.Cond.static ({ cls := "OriginRules$Reader", name := "term", desc := "(LOriginRules$Reader;)LOriginRules$Node;" } : Jvm.MethodName)) ∈ lw_all := lw_g (lw_at lw_m2 53 rfl) rfl
theorem q317 : (Jvm.Cond.code ({ cls := "OriginRules$Reader", name := "term", desc := "(LOriginRules$Reader;)LOriginRules$Node;" } : Jvm.MethodName) prog_11_method_9_code (2 : Nat) (Option.some (Jvm.ClassFile.FieldType.object "OriginRules$Node"))) ∈ lw_all := lw_g (lw_at lw_m2 54 rfl) rfl
theorem q318 : (Jvm.Cond.classLink "OriginRules$Reader" (82 : Nat) "OriginRules$All") ∈ lw_all := lw_g (lw_at lw_m2 55 rfl) rfl
theorem q320 : (Jvm.Cond.methodLinkNest "OriginRules$Reader" (84 : Nat) ({ cls := "OriginRules$All", name := "<init>", desc := "()V" } : Jvm.MethodName) "OriginRules") ∈ lw_tbl := lw_at lw_m2 57 rfl
theorem q327 : (Jvm.Cond.fieldLinkNest "OriginRules$Reader" (85 : Nat) "OriginRules$All" "nodes" "Ljava/util/ArrayList;" "OriginRules") ∈ lw_tbl := lw_at lw_m2 64 rfl
theorem q331 : (Jvm.Cond.methodLink "OriginRules$Reader" (89 : Nat) ({ cls := "OriginRules$Reader", name := "factor", desc := "(LOriginRules$Reader;)LOriginRules$Node;" } : Jvm.MethodName)) ∈ lw_all := lw_g (lw_at lw_m2 68 rfl) rfl
theorem q332 : (Jvm.Cond.static ({ cls := "OriginRules$Reader", name := "factor", desc := "(LOriginRules$Reader;)LOriginRules$Node;" } : Jvm.MethodName)) ∈ lw_all := lw_g (lw_at lw_m2 69 rfl) rfl
theorem q333 : (Jvm.Cond.code ({ cls := "OriginRules$Reader", name := "factor", desc := "(LOriginRules$Reader;)LOriginRules$Node;" } : Jvm.MethodName) prog_11_method_8_code (4 : Nat) (Option.some (Jvm.ClassFile.FieldType.object "OriginRules$Node"))) ∈ lw_all := lw_g (lw_at lw_m2 70 rfl) rfl
theorem q334 : (Jvm.Cond.classLink "OriginRules$Reader" (55 : Nat) "OriginRules$Wholly") ∈ lw_all := lw_g (lw_at lw_m2 71 rfl) rfl
theorem q336 : (Jvm.Cond.methodLink "OriginRules$Reader" (57 : Nat) ({ cls := "OriginRules$Wholly", name := "<init>", desc := "(I)V" } : Jvm.MethodName)) ∈ lw_all := lw_g (lw_at lw_m2 73 rfl) rfl
theorem q347 : (Jvm.Cond.classLink "OriginRules$Reader" (60 : Nat) "OriginRules$Change") ∈ lw_all := lw_g (lw_at lw_m2 84 rfl) rfl
theorem q349 : (Jvm.Cond.methodLink "OriginRules$Reader" (62 : Nat) ({ cls := "OriginRules$Change", name := "<init>", desc := "(II)V" } : Jvm.MethodName)) ∈ lw_all := lw_g (lw_at lw_m2 86 rfl) rfl
theorem q358 : (Jvm.Cond.classLink "OriginRules$Reader" (65 : Nat) "OriginRules$Value") ∈ lw_all := lw_g (lw_at lw_m2 95 rfl) rfl
theorem q360 : (Jvm.Cond.methodLink "OriginRules$Reader" (67 : Nat) ({ cls := "OriginRules$Reader", name := "numberUpTo", desc := "(II)I" } : Jvm.MethodName)) ∈ lw_all := lw_g (lw_at lw_m2 97 rfl) rfl
theorem q361 : (Jvm.Cond.privateMethod ({ cls := "OriginRules$Reader", name := "numberUpTo", desc := "(II)I" } : Jvm.MethodName)) ∈ lw_tbl := lw_at lw_m2 98 rfl
theorem q362 : (Jvm.Cond.instanceMethod ({ cls := "OriginRules$Reader", name := "numberUpTo", desc := "(II)I" } : Jvm.MethodName)) ∈ lw_all := lw_g (lw_at lw_m2 99 rfl) rfl
theorem q363 : (Jvm.Cond.code ({ cls := "OriginRules$Reader", name := "numberUpTo", desc := "(II)I" } : Jvm.MethodName) prog_11_method_7_code (4 : Nat) (Option.some Jvm.ClassFile.FieldType.int)) ∈ lw_all := lw_g (lw_at lw_m2 100 rfl) rfl
theorem q364 : (Jvm.Cond.methodLink "OriginRules$Reader" (71 : Nat) ({ cls := "OriginRules$Value", name := "<init>", desc := "(II)V" } : Jvm.MethodName)) ∈ lw_all := lw_g (lw_at lw_m2 101 rfl) rfl
theorem q373 : (Jvm.Cond.classLink "OriginRules$Reader" (72 : Nat) "OriginRules$Done") ∈ lw_all := lw_g (lw_at lw_m2 110 rfl) rfl
theorem q375 : (Jvm.Cond.methodLink "OriginRules$Reader" (74 : Nat) ({ cls := "OriginRules$Done", name := "<init>", desc := "(II)V" } : Jvm.MethodName)) ∈ lw_all := lw_g (lw_at lw_m2 112 rfl) rfl
theorem q384 : (Jvm.Cond.methodLink "OriginRules$Reader" (92 : Nat) ({ cls := "java/util/ArrayList", name := "add", desc := "(Ljava/lang/Object;)Z" } : Jvm.MethodName)) ∈ lw_all := lw_g (lw_at lw_m2 121 rfl) rfl
theorem q424 : (Jvm.Cond.selects "OriginRules$Reader" ({ cls := "java/lang/Object", name := "getClass", desc := "()Ljava/lang/Class;" } : Jvm.MethodName) ({ cls := "java/lang/Object", name := "getClass", desc := "()Ljava/lang/Class;" } : Jvm.MethodName)) ∈ lw_all := lw_g (lw_at lw_m2 161 rfl) rfl
theorem q449 : (Jvm.Cond.classLink "OriginRules$Reader" (105 : Nat) "OriginRules$Row") ∈ lw_all := lw_g (lw_at lw_m2 186 rfl) rfl
theorem q451 : (Jvm.Cond.methodLink "OriginRules$Reader" (107 : Nat) ({ cls := "OriginRules$Row", name := "<init>", desc := "(IILOriginRules$Node;)V" } : Jvm.MethodName)) ∈ lw_all := lw_g (lw_at lw_m2 188 rfl) rfl
theorem q467 : (Jvm.Cond.methodLink "OriginRules$Reader" (115 : Nat) ({ cls := "java/util/ArrayList", name := "size", desc := "()I" } : Jvm.MethodName)) ∈ lw_all := lw_g (lw_at lw_m2 204 rfl) rfl
theorem q1026 : (Jvm.Cond.castable "OriginRules$Reader" "java/lang/Object") ∈ lw_tbl := lw_at lw_m5 43 rfl
theorem in_X2 : ∀ w ∈ wsX20, w ∈ lw_all := lw_in wsX20 [77, 79, 81, 83, 85] (by decide +kernel) (by decide +kernel)

/-! OriginRules$Good -/
set_option maxRecDepth 100000
def RX3 : String := "OriginRules$Good"
def TX3 : u_T := fun k => match k with
  | 0 => ("OriginRules$Good", "parts", "Ljava/util/ArrayList;", true)
  | 1 => ("OriginRules$Good", "done", "I", false)
  | 2 => ("OriginRules$Good", "barred", "I", false)
  | 3 => ("OriginRules$Good", "pairs", "I", false)
  | 4 => ("OriginRules$Good", "full", "Z", false)
  | 5 => ("OriginRules$Good", "up", "I", false)
  | 6 => ("OriginRules$Good", "down", "I", false)
  | 7 => ("OriginRules$Good", "joined", "[Z", true)
  | 8 => ("OriginRules$Good", "code", "I", false)
  | 9 => ("OriginRules$Good", "price", "J", false)
  | 10 => ("OriginRules$Good", "asked", "[I", true)
  | _ => ("OriginRules$Good", "size", "I", false)
def tyX3 : Nat → FieldType := fun k => match k with
  | 0 => .object "java/util/ArrayList"
  | 1 => .int
  | 2 => .int
  | 3 => .int
  | 4 => .boolean
  | 5 => .int
  | 6 => .int
  | 7 => .array .boolean
  | 8 => .int
  | 9 => .long
  | 10 => .array .int
  | _ => .int
abbrev wsX30 : List Cond := u_ws RX3 TX3 12
theorem nmX3 : ∀ a, a < 12 → ∀ b, b < 12 → a ≠ b → (TX3 a).2.1 ≠ (TX3 b).2.1 := by decide +kernel
theorem tyX3_ok : ∀ k, k < 12 → parseFieldDescriptor (TX3 k).2.2.1 = some (tyX3 k) := by decide +kernel
abbrev cX3_init : ByteArray := prog_6_method_1_code
def yX3_init : MethodName := ⟨RX3, "<init>", "()V"⟩
theorem dX3_init_0 : decode cX3_init 0 = .ok (.aload_n 0, 1) := by decide +kernel
theorem dX3_init_1 : decode cX3_init 1 = .ok (.invokespecial 3, 3) := by decide +kernel
theorem dX3_init_4 : decode cX3_init 4 = .ok (.aload_n 0, 1) := by decide +kernel
theorem dX3_init_5 : decode cX3_init 5 = .ok (.new 9, 3) := by decide +kernel
theorem dX3_init_8 : decode cX3_init 8 = .ok (.dup, 1) := by decide +kernel
theorem dX3_init_9 : decode cX3_init 9 = .ok (.invokespecial 11, 3) := by decide +kernel
theorem dX3_init_12 : decode cX3_init 12 = .ok (.putfield 12, 3) := by decide +kernel
theorem dX3_init_15 : decode cX3_init 15 = .ok (.aload_n 0, 1) := by decide +kernel
theorem dX3_init_16 : decode cX3_init 16 = .ok (.iconst 1, 1) := by decide +kernel
theorem dX3_init_17 : decode cX3_init 17 = .ok (.putfield 18, 3) := by decide +kernel
theorem dX3_init_20 : decode cX3_init 20 = .ok (.aload_n 0, 1) := by decide +kernel
theorem dX3_init_21 : decode cX3_init 21 = .ok (.bipush 100, 2) := by decide +kernel
theorem dX3_init_23 : decode cX3_init 23 = .ok (.newarray .boolean, 2) := by decide +kernel
theorem dX3_init_25 : decode cX3_init 25 = .ok (.putfield 22, 3) := by decide +kernel
theorem dX3_init_28 : decode cX3_init 28 = .ok (.aload_n 0, 1) := by decide +kernel
theorem dX3_init_29 : decode cX3_init 29 = .ok (.sipush 300, 3) := by decide +kernel
theorem dX3_init_32 : decode cX3_init 32 = .ok (.newarray .int, 2) := by decide +kernel
theorem dX3_init_34 : decode cX3_init 34 = .ok (.putfield 26, 3) := by decide +kernel
theorem dX3_init_37 : decode cX3_init 37 = .ok (.return_, 1) := by decide +kernel
abbrev cX3_isForeign : ByteArray := prog_6_method_4_code
def yX3_isForeign : MethodName := ⟨RX3, "isForeign", "(LOriginRules$Part;)Z"⟩
theorem dX3_isForeign_0 : decode cX3_isForeign 0 = .ok (.aload_n 0, 1) := by decide +kernel
theorem dX3_isForeign_1 : decode cX3_isForeign 1 = .ok (.invokevirtual 38, 3) := by decide +kernel
theorem dX3_isForeign_4 : decode cX3_isForeign 4 = .ok (.aload_n 1, 1) := by decide +kernel
theorem dX3_isForeign_5 : decode cX3_isForeign 5 = .ok (.getfield 42, 3) := by decide +kernel
theorem dX3_isForeign_8 : decode cX3_isForeign 8 = .ok (.ishr, 1) := by decide +kernel
theorem dX3_isForeign_9 : decode cX3_isForeign 9 = .ok (.iconst 1, 1) := by decide +kernel
theorem dX3_isForeign_10 : decode cX3_isForeign 10 = .ok (.iand, 1) := by decide +kernel
theorem dX3_isForeign_11 : decode cX3_isForeign 11 = .ok (.ifCond .ne 7, 3) := by decide +kernel
theorem dX3_isForeign_14 : decode cX3_isForeign 14 = .ok (.iconst 1, 1) := by decide +kernel
theorem dX3_isForeign_15 : decode cX3_isForeign 15 = .ok (.goto 4, 3) := by decide +kernel
theorem dX3_isForeign_18 : decode cX3_isForeign 18 = .ok (.iconst 0, 1) := by decide +kernel
theorem dX3_isForeign_19 : decode cX3_isForeign 19 = .ok (.ireturn, 1) := by decide +kernel
abbrev cX3_own : ByteArray := prog_6_method_3_code
def yX3_own : MethodName := ⟨RX3, "own", "()I"⟩
theorem dX3_own_0 : decode cX3_own 0 = .ok (.iconst 1, 1) := by decide +kernel
theorem dX3_own_1 : decode cX3_own 1 = .ok (.istore_n 1, 1) := by decide +kernel
theorem dX3_own_2 : decode cX3_own 2 = .ok (.iconst 0, 1) := by decide +kernel
theorem dX3_own_3 : decode cX3_own 3 = .ok (.istore_n 2, 1) := by decide +kernel
theorem dX3_own_4 : decode cX3_own 4 = .ok (.iload_n 1, 1) := by decide +kernel
theorem dX3_own_5 : decode cX3_own 5 = .ok (.iload_n 2, 1) := by decide +kernel
theorem dX3_own_6 : decode cX3_own 6 = .ok (.if_icmp .eq 58, 3) := by decide +kernel
theorem dX3_own_9 : decode cX3_own 9 = .ok (.iload_n 1, 1) := by decide +kernel
theorem dX3_own_10 : decode cX3_own 10 = .ok (.istore_n 2, 1) := by decide +kernel
theorem dX3_own_11 : decode cX3_own 11 = .ok (.iload_n 1, 1) := by decide +kernel
theorem dX3_own_12 : decode cX3_own 12 = .ok (.istore_n 3, 1) := by decide +kernel
theorem dX3_own_13 : decode cX3_own 13 = .ok (.iconst 0, 1) := by decide +kernel
theorem dX3_own_14 : decode cX3_own 14 = .ok (.istore 4, 2) := by decide +kernel
theorem dX3_own_16 : decode cX3_own 16 = .ok (.iload 4, 2) := by decide +kernel
theorem dX3_own_18 : decode cX3_own 18 = .ok (.bipush 10, 2) := by decide +kernel
theorem dX3_own_20 : decode cX3_own 20 = .ok (.if_icmp .ge 30, 3) := by decide +kernel
theorem dX3_own_23 : decode cX3_own 23 = .ok (.iload_n 3, 1) := by decide +kernel
theorem dX3_own_24 : decode cX3_own 24 = .ok (.aload_n 0, 1) := by decide +kernel
theorem dX3_own_25 : decode cX3_own 25 = .ok (.iload 4, 2) := by decide +kernel
theorem dX3_own_27 : decode cX3_own 27 = .ok (.iload_n 1, 1) := by decide +kernel
theorem dX3_own_28 : decode cX3_own 28 = .ok (.invokevirtual 30, 3) := by decide +kernel
theorem dX3_own_31 : decode cX3_own 31 = .ok (.ifCond .eq 10, 3) := by decide +kernel
theorem dX3_own_34 : decode cX3_own 34 = .ok (.iconst 1, 1) := by decide +kernel
theorem dX3_own_35 : decode cX3_own 35 = .ok (.iload 4, 2) := by decide +kernel
theorem dX3_own_37 : decode cX3_own 37 = .ok (.ishl, 1) := by decide +kernel
theorem dX3_own_38 : decode cX3_own 38 = .ok (.goto 4, 3) := by decide +kernel
theorem dX3_own_41 : decode cX3_own 41 = .ok (.iconst 0, 1) := by decide +kernel
theorem dX3_own_42 : decode cX3_own 42 = .ok (.ior, 1) := by decide +kernel
theorem dX3_own_43 : decode cX3_own 43 = .ok (.istore_n 3, 1) := by decide +kernel
theorem dX3_own_44 : decode cX3_own 44 = .ok (.iinc 4 1, 3) := by decide +kernel
theorem dX3_own_47 : decode cX3_own 47 = .ok (.goto (-31), 3) := by decide +kernel
theorem dX3_own_50 : decode cX3_own 50 = .ok (.iload_n 3, 1) := by decide +kernel
theorem dX3_own_51 : decode cX3_own 51 = .ok (.istore_n 1, 1) := by decide +kernel
theorem dX3_own_52 : decode cX3_own 52 = .ok (.aload_n 0, 1) := by decide +kernel
theorem dX3_own_53 : decode cX3_own 53 = .ok (.getfield 34, 3) := by decide +kernel
theorem dX3_own_56 : decode cX3_own 56 = .ok (.ifCond .ne 5, 3) := by decide +kernel
theorem dX3_own_59 : decode cX3_own 59 = .ok (.iload_n 1, 1) := by decide +kernel
theorem dX3_own_60 : decode cX3_own 60 = .ok (.ireturn, 1) := by decide +kernel
theorem dX3_own_61 : decode cX3_own 61 = .ok (.goto (-57), 3) := by decide +kernel
theorem dX3_own_64 : decode cX3_own 64 = .ok (.iload_n 1, 1) := by decide +kernel
theorem dX3_own_65 : decode cX3_own 65 = .ok (.ireturn, 1) := by decide +kernel
abbrev cX3_touches : ByteArray := prog_6_method_2_code
def yX3_touches : MethodName := ⟨RX3, "touches", "(II)Z"⟩
theorem dX3_touches_0 : decode cX3_touches 0 = .ok (.iconst 0, 1) := by decide +kernel
theorem dX3_touches_1 : decode cX3_touches 1 = .ok (.istore_n 3, 1) := by decide +kernel
theorem dX3_touches_2 : decode cX3_touches 2 = .ok (.iconst 0, 1) := by decide +kernel
theorem dX3_touches_3 : decode cX3_touches 3 = .ok (.istore 4, 2) := by decide +kernel
theorem dX3_touches_5 : decode cX3_touches 5 = .ok (.iload 4, 2) := by decide +kernel
theorem dX3_touches_7 : decode cX3_touches 7 = .ok (.bipush 10, 2) := by decide +kernel
theorem dX3_touches_9 : decode cX3_touches 9 = .ok (.if_icmp .ge 42, 3) := by decide +kernel
theorem dX3_touches_12 : decode cX3_touches 12 = .ok (.iload_n 3, 1) := by decide +kernel
theorem dX3_touches_13 : decode cX3_touches 13 = .ok (.iload_n 2, 1) := by decide +kernel
theorem dX3_touches_14 : decode cX3_touches 14 = .ok (.iload 4, 2) := by decide +kernel
theorem dX3_touches_16 : decode cX3_touches 16 = .ok (.ishr, 1) := by decide +kernel
theorem dX3_touches_17 : decode cX3_touches 17 = .ok (.iconst 1, 1) := by decide +kernel
theorem dX3_touches_18 : decode cX3_touches 18 = .ok (.iand, 1) := by decide +kernel
theorem dX3_touches_19 : decode cX3_touches 19 = .ok (.iconst 1, 1) := by decide +kernel
theorem dX3_touches_20 : decode cX3_touches 20 = .ok (.if_icmp .ne 22, 3) := by decide +kernel
theorem dX3_touches_23 : decode cX3_touches 23 = .ok (.aload_n 0, 1) := by decide +kernel
theorem dX3_touches_24 : decode cX3_touches 24 = .ok (.getfield 22, 3) := by decide +kernel
theorem dX3_touches_27 : decode cX3_touches 27 = .ok (.bipush 10, 2) := by decide +kernel
theorem dX3_touches_29 : decode cX3_touches 29 = .ok (.iload_n 1, 1) := by decide +kernel
theorem dX3_touches_30 : decode cX3_touches 30 = .ok (.imul, 1) := by decide +kernel
theorem dX3_touches_31 : decode cX3_touches 31 = .ok (.iload 4, 2) := by decide +kernel
theorem dX3_touches_33 : decode cX3_touches 33 = .ok (.iadd, 1) := by decide +kernel
theorem dX3_touches_34 : decode cX3_touches 34 = .ok (.baload, 1) := by decide +kernel
theorem dX3_touches_35 : decode cX3_touches 35 = .ok (.ifCond .eq 7, 3) := by decide +kernel
theorem dX3_touches_38 : decode cX3_touches 38 = .ok (.iconst 1, 1) := by decide +kernel
theorem dX3_touches_39 : decode cX3_touches 39 = .ok (.goto 4, 3) := by decide +kernel
theorem dX3_touches_42 : decode cX3_touches 42 = .ok (.iconst 0, 1) := by decide +kernel
theorem dX3_touches_43 : decode cX3_touches 43 = .ok (.ior, 1) := by decide +kernel
theorem dX3_touches_44 : decode cX3_touches 44 = .ok (.istore_n 3, 1) := by decide +kernel
theorem dX3_touches_45 : decode cX3_touches 45 = .ok (.iinc 4 1, 3) := by decide +kernel
theorem dX3_touches_48 : decode cX3_touches 48 = .ok (.goto (-43), 3) := by decide +kernel
theorem dX3_touches_51 : decode cX3_touches 51 = .ok (.iload_n 3, 1) := by decide +kernel
theorem dX3_touches_52 : decode cX3_touches 52 = .ok (.ireturn, 1) := by decide +kernel
abbrev cX3_changes : ByteArray := prog_6_method_6_code
def yX3_changes : MethodName := ⟨RX3, "changes", "(I)Z"⟩
theorem dX3_changes_0 : decode cX3_changes 0 = .ok (.lconst 0, 1) := by decide +kernel
theorem dX3_changes_1 : decode cX3_changes 1 = .ok (.lstore_n 2, 1) := by decide +kernel
theorem dX3_changes_2 : decode cX3_changes 2 = .ok (.iconst 0, 1) := by decide +kernel
theorem dX3_changes_3 : decode cX3_changes 3 = .ok (.istore 4, 2) := by decide +kernel
theorem dX3_changes_5 : decode cX3_changes 5 = .ok (.iload 4, 2) := by decide +kernel
theorem dX3_changes_7 : decode cX3_changes 7 = .ok (.aload_n 0, 1) := by decide +kernel
theorem dX3_changes_8 : decode cX3_changes 8 = .ok (.getfield 12, 3) := by decide +kernel
theorem dX3_changes_11 : decode cX3_changes 11 = .ok (.invokevirtual 47, 3) := by decide +kernel
theorem dX3_changes_14 : decode cX3_changes 14 = .ok (.if_icmp .ge 60, 3) := by decide +kernel
theorem dX3_changes_17 : decode cX3_changes 17 = .ok (.aload_n 0, 1) := by decide +kernel
theorem dX3_changes_18 : decode cX3_changes 18 = .ok (.getfield 12, 3) := by decide +kernel
theorem dX3_changes_21 : decode cX3_changes 21 = .ok (.iload 4, 2) := by decide +kernel
theorem dX3_changes_23 : decode cX3_changes 23 = .ok (.invokevirtual 50, 3) := by decide +kernel
theorem dX3_changes_26 : decode cX3_changes 26 = .ok (.checkcast 43, 3) := by decide +kernel
theorem dX3_changes_29 : decode cX3_changes 29 = .ok (.astore 5, 2) := by decide +kernel
theorem dX3_changes_31 : decode cX3_changes 31 = .ok (.lload_n 2, 1) := by decide +kernel
theorem dX3_changes_32 : decode cX3_changes 32 = .ok (.aload_n 0, 1) := by decide +kernel
theorem dX3_changes_33 : decode cX3_changes 33 = .ok (.aload 5, 2) := by decide +kernel
theorem dX3_changes_35 : decode cX3_changes 35 = .ok (.invokevirtual 54, 3) := by decide +kernel
theorem dX3_changes_38 : decode cX3_changes 38 = .ok (.ifCond .eq 27, 3) := by decide +kernel
theorem dX3_changes_41 : decode cX3_changes 41 = .ok (.aload 5, 2) := by decide +kernel
theorem dX3_changes_43 : decode cX3_changes 43 = .ok (.getfield 62, 3) := by decide +kernel
theorem dX3_changes_46 : decode cX3_changes 46 = .ok (.iload_n 1, 1) := by decide +kernel
theorem dX3_changes_47 : decode cX3_changes 47 = .ok (.idiv, 1) := by decide +kernel
theorem dX3_changes_48 : decode cX3_changes 48 = .ok (.aload_n 0, 1) := by decide +kernel
theorem dX3_changes_49 : decode cX3_changes 49 = .ok (.getfield 65, 3) := by decide +kernel
theorem dX3_changes_52 : decode cX3_changes 52 = .ok (.iload_n 1, 1) := by decide +kernel
theorem dX3_changes_53 : decode cX3_changes 53 = .ok (.idiv, 1) := by decide +kernel
theorem dX3_changes_54 : decode cX3_changes 54 = .ok (.if_icmp .ne 11, 3) := by decide +kernel
theorem dX3_changes_57 : decode cX3_changes 57 = .ok (.aload 5, 2) := by decide +kernel
theorem dX3_changes_59 : decode cX3_changes 59 = .ok (.getfield 58, 3) := by decide +kernel
theorem dX3_changes_62 : decode cX3_changes 62 = .ok (.goto 4, 3) := by decide +kernel
theorem dX3_changes_65 : decode cX3_changes 65 = .ok (.lconst 0, 1) := by decide +kernel
theorem dX3_changes_66 : decode cX3_changes 66 = .ok (.ladd, 1) := by decide +kernel
theorem dX3_changes_67 : decode cX3_changes 67 = .ok (.lstore_n 2, 1) := by decide +kernel
theorem dX3_changes_68 : decode cX3_changes 68 = .ok (.iinc 4 1, 3) := by decide +kernel
theorem dX3_changes_71 : decode cX3_changes 71 = .ok (.goto (-66), 3) := by decide +kernel
theorem dX3_changes_74 : decode cX3_changes 74 = .ok (.lload_n 2, 1) := by decide +kernel
theorem dX3_changes_75 : decode cX3_changes 75 = .ok (.aload_n 0, 1) := by decide +kernel
theorem dX3_changes_76 : decode cX3_changes 76 = .ok (.getfield 18, 3) := by decide +kernel
theorem dX3_changes_79 : decode cX3_changes 79 = .ok (.i2l, 1) := by decide +kernel
theorem dX3_changes_80 : decode cX3_changes 80 = .ok (.lmul, 1) := by decide +kernel
theorem dX3_changes_81 : decode cX3_changes 81 = .ok (.aload_n 0, 1) := by decide +kernel
theorem dX3_changes_82 : decode cX3_changes 82 = .ok (.getfield 66, 3) := by decide +kernel
theorem dX3_changes_85 : decode cX3_changes 85 = .ok (.aload_n 0, 1) := by decide +kernel
theorem dX3_changes_86 : decode cX3_changes 86 = .ok (.getfield 69, 3) := by decide +kernel
theorem dX3_changes_89 : decode cX3_changes 89 = .ok (.i2l, 1) := by decide +kernel
theorem dX3_changes_90 : decode cX3_changes 90 = .ok (.lmul, 1) := by decide +kernel
theorem dX3_changes_91 : decode cX3_changes 91 = .ok (.lcmp, 1) := by decide +kernel
theorem dX3_changes_92 : decode cX3_changes 92 = .ok (.ifCond .gt 7, 3) := by decide +kernel
theorem dX3_changes_95 : decode cX3_changes 95 = .ok (.iconst 1, 1) := by decide +kernel
theorem dX3_changes_96 : decode cX3_changes 96 = .ok (.goto 4, 3) := by decide +kernel
theorem dX3_changes_99 : decode cX3_changes 99 = .ok (.iconst 0, 1) := by decide +kernel
theorem dX3_changes_100 : decode cX3_changes 100 = .ok (.ireturn, 1) := by decide +kernel
abbrev cX3_foreign : ByteArray := prog_6_method_5_code
def yX3_foreign : MethodName := ⟨RX3, "foreign", "()J"⟩
theorem dX3_foreign_0 : decode cX3_foreign 0 = .ok (.lconst 0, 1) := by decide +kernel
theorem dX3_foreign_1 : decode cX3_foreign 1 = .ok (.lstore_n 1, 1) := by decide +kernel
theorem dX3_foreign_2 : decode cX3_foreign 2 = .ok (.iconst 0, 1) := by decide +kernel
theorem dX3_foreign_3 : decode cX3_foreign 3 = .ok (.istore_n 3, 1) := by decide +kernel
theorem dX3_foreign_4 : decode cX3_foreign 4 = .ok (.iload_n 3, 1) := by decide +kernel
theorem dX3_foreign_5 : decode cX3_foreign 5 = .ok (.aload_n 0, 1) := by decide +kernel
theorem dX3_foreign_6 : decode cX3_foreign 6 = .ok (.getfield 12, 3) := by decide +kernel
theorem dX3_foreign_9 : decode cX3_foreign 9 = .ok (.invokevirtual 47, 3) := by decide +kernel
theorem dX3_foreign_12 : decode cX3_foreign 12 = .ok (.if_icmp .ge 48, 3) := by decide +kernel
theorem dX3_foreign_15 : decode cX3_foreign 15 = .ok (.lload_n 1, 1) := by decide +kernel
theorem dX3_foreign_16 : decode cX3_foreign 16 = .ok (.aload_n 0, 1) := by decide +kernel
theorem dX3_foreign_17 : decode cX3_foreign 17 = .ok (.aload_n 0, 1) := by decide +kernel
theorem dX3_foreign_18 : decode cX3_foreign 18 = .ok (.getfield 12, 3) := by decide +kernel
theorem dX3_foreign_21 : decode cX3_foreign 21 = .ok (.iload_n 3, 1) := by decide +kernel
theorem dX3_foreign_22 : decode cX3_foreign 22 = .ok (.invokevirtual 50, 3) := by decide +kernel
theorem dX3_foreign_25 : decode cX3_foreign 25 = .ok (.checkcast 43, 3) := by decide +kernel
theorem dX3_foreign_28 : decode cX3_foreign 28 = .ok (.invokevirtual 54, 3) := by decide +kernel
theorem dX3_foreign_31 : decode cX3_foreign 31 = .ok (.ifCond .eq 20, 3) := by decide +kernel
theorem dX3_foreign_34 : decode cX3_foreign 34 = .ok (.aload_n 0, 1) := by decide +kernel
theorem dX3_foreign_35 : decode cX3_foreign 35 = .ok (.getfield 12, 3) := by decide +kernel
theorem dX3_foreign_38 : decode cX3_foreign 38 = .ok (.iload_n 3, 1) := by decide +kernel
theorem dX3_foreign_39 : decode cX3_foreign 39 = .ok (.invokevirtual 50, 3) := by decide +kernel
theorem dX3_foreign_42 : decode cX3_foreign 42 = .ok (.checkcast 43, 3) := by decide +kernel
theorem dX3_foreign_45 : decode cX3_foreign 45 = .ok (.getfield 58, 3) := by decide +kernel
theorem dX3_foreign_48 : decode cX3_foreign 48 = .ok (.goto 4, 3) := by decide +kernel
theorem dX3_foreign_51 : decode cX3_foreign 51 = .ok (.lconst 0, 1) := by decide +kernel
theorem dX3_foreign_52 : decode cX3_foreign 52 = .ok (.ladd, 1) := by decide +kernel
theorem dX3_foreign_53 : decode cX3_foreign 53 = .ok (.lstore_n 1, 1) := by decide +kernel
theorem dX3_foreign_54 : decode cX3_foreign 54 = .ok (.iinc 3 1, 3) := by decide +kernel
theorem dX3_foreign_57 : decode cX3_foreign 57 = .ok (.goto (-53), 3) := by decide +kernel
theorem dX3_foreign_60 : decode cX3_foreign 60 = .ok (.lload_n 1, 1) := by decide +kernel
theorem dX3_foreign_61 : decode cX3_foreign 61 = .ok (.lreturn, 1) := by decide +kernel
abbrev cX3_tell : ByteArray := prog_6_method_7_code
def yX3_tell : MethodName := ⟨RX3, "tell", "(IZ)Z"⟩
theorem dX3_tell_0 : decode cX3_tell 0 = .ok (.aload_n 0, 1) := by decide +kernel
theorem dX3_tell_1 : decode cX3_tell 1 = .ok (.getfield 26, 3) := by decide +kernel
theorem dX3_tell_4 : decode cX3_tell 4 = .ok (.aload_n 0, 1) := by decide +kernel
theorem dX3_tell_5 : decode cX3_tell 5 = .ok (.getfield 72, 3) := by decide +kernel
theorem dX3_tell_8 : decode cX3_tell 8 = .ok (.iconst 2, 1) := by decide +kernel
theorem dX3_tell_9 : decode cX3_tell 9 = .ok (.iload_n 1, 1) := by decide +kernel
theorem dX3_tell_10 : decode cX3_tell 10 = .ok (.imul, 1) := by decide +kernel
theorem dX3_tell_11 : decode cX3_tell 11 = .ok (.iload_n 2, 1) := by decide +kernel
theorem dX3_tell_12 : decode cX3_tell 12 = .ok (.ifCond .eq 7, 3) := by decide +kernel
theorem dX3_tell_15 : decode cX3_tell 15 = .ok (.iconst 1, 1) := by decide +kernel
theorem dX3_tell_16 : decode cX3_tell 16 = .ok (.goto 4, 3) := by decide +kernel
theorem dX3_tell_19 : decode cX3_tell 19 = .ok (.iconst 0, 1) := by decide +kernel
theorem dX3_tell_20 : decode cX3_tell 20 = .ok (.iadd, 1) := by decide +kernel
theorem dX3_tell_21 : decode cX3_tell 21 = .ok (.iastore, 1) := by decide +kernel
theorem dX3_tell_22 : decode cX3_tell 22 = .ok (.aload_n 0, 1) := by decide +kernel
theorem dX3_tell_23 : decode cX3_tell 23 = .ok (.dup, 1) := by decide +kernel
theorem dX3_tell_24 : decode cX3_tell 24 = .ok (.getfield 72, 3) := by decide +kernel
theorem dX3_tell_27 : decode cX3_tell 27 = .ok (.iconst 1, 1) := by decide +kernel
theorem dX3_tell_28 : decode cX3_tell 28 = .ok (.iadd, 1) := by decide +kernel
theorem dX3_tell_29 : decode cX3_tell 29 = .ok (.putfield 72, 3) := by decide +kernel
theorem dX3_tell_32 : decode cX3_tell 32 = .ok (.iload_n 2, 1) := by decide +kernel
theorem dX3_tell_33 : decode cX3_tell 33 = .ok (.ireturn, 1) := by decide +kernel
theorem q29 : (Jvm.Cond.initialized "OriginRules$Good") ∈ lw_all := lw_g (lw_at lw_m1 6 rfl) rfl
theorem q116 : (Jvm.Cond.instantiable "OriginRules$Good" (12 : Nat)) ∈ lw_all := lw_g (lw_at lw_m1 93 rfl) rfl
theorem q118 : (Jvm.Cond.instanceMethod ({ cls := "OriginRules$Good", name := "<init>", desc := "()V" } : Jvm.MethodName)) ∈ lw_all := lw_g (lw_at lw_m1 95 rfl) rfl
theorem q119 : (Jvm.Cond.code ({ cls := "OriginRules$Good", name := "<init>", desc := "()V" } : Jvm.MethodName) prog_6_method_1_code (1 : Nat) (Option.none : Option Jvm.ClassFile.FieldType)) ∈ lw_all := lw_g (lw_at lw_m1 96 rfl) rfl
theorem q120 : (Jvm.Cond.methodLink "OriginRules$Good" (3 : Nat) ({ cls := "java/lang/Object", name := "<init>", desc := "()V" } : Jvm.MethodName)) ∈ lw_all := lw_g (lw_at lw_m1 97 rfl) rfl
theorem q121 : (Jvm.Cond.classLink "OriginRules$Good" (9 : Nat) "java/util/ArrayList") ∈ lw_all := lw_g (lw_at lw_m1 98 rfl) rfl
theorem q122 : (Jvm.Cond.methodLink "OriginRules$Good" (11 : Nat) ({ cls := "java/util/ArrayList", name := "<init>", desc := "()V" } : Jvm.MethodName)) ∈ lw_all := lw_g (lw_at lw_m1 99 rfl) rfl
theorem q123 : (Jvm.Cond.fieldLink "OriginRules$Good" (12 : Nat) "OriginRules$Good" "parts" "Ljava/util/ArrayList;") ∈ lw_all := lw_g (lw_at lw_m1 100 rfl) rfl
theorem q130 : (Jvm.Cond.fieldLink "OriginRules$Good" (34 : Nat) "OriginRules$Good" "full" "Z") ∈ lw_all := lw_g (lw_at lw_m1 107 rfl) rfl
theorem q132 : (Jvm.Cond.fieldLink "OriginRules$Good" (69 : Nat) "OriginRules$Good" "up" "I") ∈ lw_all := lw_g (lw_at lw_m1 109 rfl) rfl
theorem q134 : (Jvm.Cond.fieldLink "OriginRules$Good" (18 : Nat) "OriginRules$Good" "down" "I") ∈ lw_all := lw_g (lw_at lw_m1 111 rfl) rfl
theorem q136 : (Jvm.Cond.fieldLink "OriginRules$Good" (22 : Nat) "OriginRules$Good" "joined" "[Z") ∈ lw_all := lw_g (lw_at lw_m1 113 rfl) rfl
theorem q138 : (Jvm.Cond.fieldLink "OriginRules$Good" (65 : Nat) "OriginRules$Good" "code" "I") ∈ lw_all := lw_g (lw_at lw_m1 115 rfl) rfl
theorem q141 : (Jvm.Cond.fieldLink "OriginRules$Good" (66 : Nat) "OriginRules$Good" "price" "J") ∈ lw_all := lw_g (lw_at lw_m1 118 rfl) rfl
theorem q143 : (Jvm.Cond.fieldLink "OriginRules$Good" (26 : Nat) "OriginRules$Good" "asked" "[I") ∈ lw_all := lw_g (lw_at lw_m1 120 rfl) rfl
theorem q145 : (Jvm.Cond.fieldLink "OriginRules$Good" (72 : Nat) "OriginRules$Good" "size" "I") ∈ lw_all := lw_g (lw_at lw_m1 122 rfl) rfl
theorem q147 : (Jvm.Cond.laysFinal "OriginRules$Good" "OriginRules$Good" "parts" "Ljava/util/ArrayList;") ∈ lw_all := lw_g (lw_at lw_m1 124 rfl) rfl
theorem q148 : (Jvm.Cond.soleField "OriginRules$Good" "parts") ∈ lw_all := lw_g (lw_at lw_m1 125 rfl) rfl
theorem q149 : (Jvm.Cond.lays "OriginRules$Good" "OriginRules$Good" "done" "I") ∈ lw_all := lw_g (lw_at lw_m1 126 rfl) rfl
theorem q150 : (Jvm.Cond.soleField "OriginRules$Good" "done") ∈ lw_all := lw_g (lw_at lw_m1 127 rfl) rfl
theorem q151 : (Jvm.Cond.lays "OriginRules$Good" "OriginRules$Good" "barred" "I") ∈ lw_all := lw_g (lw_at lw_m1 128 rfl) rfl
theorem q152 : (Jvm.Cond.soleField "OriginRules$Good" "barred") ∈ lw_all := lw_g (lw_at lw_m1 129 rfl) rfl
theorem q153 : (Jvm.Cond.lays "OriginRules$Good" "OriginRules$Good" "pairs" "I") ∈ lw_all := lw_g (lw_at lw_m1 130 rfl) rfl
theorem q154 : (Jvm.Cond.soleField "OriginRules$Good" "pairs") ∈ lw_all := lw_g (lw_at lw_m1 131 rfl) rfl
theorem q155 : (Jvm.Cond.lays "OriginRules$Good" "OriginRules$Good" "full" "Z") ∈ lw_all := lw_g (lw_at lw_m1 132 rfl) rfl
theorem q156 : (Jvm.Cond.soleField "OriginRules$Good" "full") ∈ lw_all := lw_g (lw_at lw_m1 133 rfl) rfl
theorem q157 : (Jvm.Cond.lays "OriginRules$Good" "OriginRules$Good" "up" "I") ∈ lw_all := lw_g (lw_at lw_m1 134 rfl) rfl
theorem q158 : (Jvm.Cond.soleField "OriginRules$Good" "up") ∈ lw_all := lw_g (lw_at lw_m1 135 rfl) rfl
theorem q159 : (Jvm.Cond.lays "OriginRules$Good" "OriginRules$Good" "down" "I") ∈ lw_all := lw_g (lw_at lw_m1 136 rfl) rfl
theorem q160 : (Jvm.Cond.soleField "OriginRules$Good" "down") ∈ lw_all := lw_g (lw_at lw_m1 137 rfl) rfl
theorem q161 : (Jvm.Cond.laysFinal "OriginRules$Good" "OriginRules$Good" "joined" "[Z") ∈ lw_all := lw_g (lw_at lw_m1 138 rfl) rfl
theorem q162 : (Jvm.Cond.soleField "OriginRules$Good" "joined") ∈ lw_all := lw_g (lw_at lw_m1 139 rfl) rfl
theorem q163 : (Jvm.Cond.lays "OriginRules$Good" "OriginRules$Good" "code" "I") ∈ lw_all := lw_g (lw_at lw_m1 140 rfl) rfl
theorem q164 : (Jvm.Cond.soleField "OriginRules$Good" "code") ∈ lw_all := lw_g (lw_at lw_m1 141 rfl) rfl
theorem q165 : (Jvm.Cond.lays "OriginRules$Good" "OriginRules$Good" "price" "J") ∈ lw_all := lw_g (lw_at lw_m1 142 rfl) rfl
theorem q166 : (Jvm.Cond.soleField "OriginRules$Good" "price") ∈ lw_all := lw_g (lw_at lw_m1 143 rfl) rfl
theorem q167 : (Jvm.Cond.laysFinal "OriginRules$Good" "OriginRules$Good" "asked" "[I") ∈ lw_all := lw_g (lw_at lw_m1 144 rfl) rfl
theorem q168 : (Jvm.Cond.soleField "OriginRules$Good" "asked") ∈ lw_all := lw_g (lw_at lw_m1 145 rfl) rfl
theorem q169 : (Jvm.Cond.lays "OriginRules$Good" "OriginRules$Good" "size" "I") ∈ lw_all := lw_g (lw_at lw_m1 146 rfl) rfl
theorem q170 : (Jvm.Cond.soleField "OriginRules$Good" "size") ∈ lw_all := lw_g (lw_at lw_m1 147 rfl) rfl
theorem q171 : (Jvm.Cond.superclass "OriginRules$Good" "java/lang/Object") ∈ lw_all := lw_g (lw_at lw_m1 148 rfl) rfl
theorem q421 : (Jvm.Cond.selects "OriginRules$Good" ({ cls := "java/lang/Object", name := "getClass", desc := "()Ljava/lang/Class;" } : Jvm.MethodName) ({ cls := "java/lang/Object", name := "getClass", desc := "()Ljava/lang/Class;" } : Jvm.MethodName)) ∈ lw_all := lw_g (lw_at lw_m2 158 rfl) rfl
theorem q529 : (Jvm.Cond.instanceMethod ({ cls := "OriginRules$Good", name := "isForeign", desc := "(LOriginRules$Part;)Z" } : Jvm.MethodName)) ∈ lw_all := lw_g (lw_at lw_m3 26 rfl) rfl
theorem q530 : (Jvm.Cond.selects "OriginRules$Good" ({ cls := "OriginRules$Good", name := "isForeign", desc := "(LOriginRules$Part;)Z" } : Jvm.MethodName) ({ cls := "OriginRules$Good", name := "isForeign", desc := "(LOriginRules$Part;)Z" } : Jvm.MethodName)) ∈ lw_all := lw_g (lw_at lw_m3 27 rfl) rfl
theorem q531 : (Jvm.Cond.code ({ cls := "OriginRules$Good", name := "isForeign", desc := "(LOriginRules$Part;)Z" } : Jvm.MethodName) prog_6_method_4_code (2 : Nat) (Option.some Jvm.ClassFile.FieldType.boolean)) ∈ lw_all := lw_g (lw_at lw_m3 28 rfl) rfl
theorem q532 : (Jvm.Cond.methodLink "OriginRules$Good" (38 : Nat) ({ cls := "OriginRules$Good", name := "own", desc := "()I" } : Jvm.MethodName)) ∈ lw_all := lw_g (lw_at lw_m3 29 rfl) rfl
theorem q533 : (Jvm.Cond.instanceMethod ({ cls := "OriginRules$Good", name := "own", desc := "()I" } : Jvm.MethodName)) ∈ lw_all := lw_g (lw_at lw_m3 30 rfl) rfl
theorem q534 : (Jvm.Cond.selects "OriginRules$Good" ({ cls := "OriginRules$Good", name := "own", desc := "()I" } : Jvm.MethodName) ({ cls := "OriginRules$Good", name := "own", desc := "()I" } : Jvm.MethodName)) ∈ lw_all := lw_g (lw_at lw_m3 31 rfl) rfl
theorem q535 : (Jvm.Cond.code ({ cls := "OriginRules$Good", name := "own", desc := "()I" } : Jvm.MethodName) prog_6_method_3_code (5 : Nat) (Option.some Jvm.ClassFile.FieldType.int)) ∈ lw_all := lw_g (lw_at lw_m3 32 rfl) rfl
theorem q536 : (Jvm.Cond.methodLink "OriginRules$Good" (30 : Nat) ({ cls := "OriginRules$Good", name := "touches", desc := "(II)Z" } : Jvm.MethodName)) ∈ lw_all := lw_g (lw_at lw_m3 33 rfl) rfl
theorem q537 : (Jvm.Cond.privateMethod ({ cls := "OriginRules$Good", name := "touches", desc := "(II)Z" } : Jvm.MethodName)) ∈ lw_tbl := lw_at lw_m3 34 rfl
theorem q538 : (Jvm.Cond.instanceMethod ({ cls := "OriginRules$Good", name := "touches", desc := "(II)Z" } : Jvm.MethodName)) ∈ lw_all := lw_g (lw_at lw_m3 35 rfl) rfl
theorem q539 : (Jvm.Cond.code ({ cls := "OriginRules$Good", name := "touches", desc := "(II)Z" } : Jvm.MethodName) prog_6_method_2_code (5 : Nat) (Option.some Jvm.ClassFile.FieldType.boolean)) ∈ lw_all := lw_g (lw_at lw_m3 36 rfl) rfl
theorem q603 : (Jvm.Cond.fieldLinkNest "OriginRules$Good" (62 : Nat) "OriginRules$Part" "code" "I" "OriginRules") ∈ lw_tbl := lw_at lw_m3 100 rfl
theorem q605 : (Jvm.Cond.fieldLinkNest "OriginRules$Good" (42 : Nat) "OriginRules$Part" "land" "I" "OriginRules") ∈ lw_tbl := lw_at lw_m3 102 rfl
theorem q607 : (Jvm.Cond.fieldLinkNest "OriginRules$Good" (58 : Nat) "OriginRules$Part" "cents" "J" "OriginRules") ∈ lw_tbl := lw_at lw_m3 104 rfl
theorem q678 : (Jvm.Cond.instanceMethod ({ cls := "OriginRules$Good", name := "changes", desc := "(I)Z" } : Jvm.MethodName)) ∈ lw_all := lw_g (lw_at lw_m3 175 rfl) rfl
theorem q679 : (Jvm.Cond.selects "OriginRules$Good" ({ cls := "OriginRules$Good", name := "changes", desc := "(I)Z" } : Jvm.MethodName) ({ cls := "OriginRules$Good", name := "changes", desc := "(I)Z" } : Jvm.MethodName)) ∈ lw_all := lw_g (lw_at lw_m3 176 rfl) rfl
theorem q680 : (Jvm.Cond.code ({ cls := "OriginRules$Good", name := "changes", desc := "(I)Z" } : Jvm.MethodName) prog_6_method_6_code (6 : Nat) (Option.some Jvm.ClassFile.FieldType.boolean)) ∈ lw_all := lw_g (lw_at lw_m3 177 rfl) rfl
theorem q681 : (Jvm.Cond.methodLink "OriginRules$Good" (47 : Nat) ({ cls := "java/util/ArrayList", name := "size", desc := "()I" } : Jvm.MethodName)) ∈ lw_all := lw_g (lw_at lw_m3 178 rfl) rfl
theorem q682 : (Jvm.Cond.methodLink "OriginRules$Good" (50 : Nat) ({ cls := "java/util/ArrayList", name := "get", desc := "(I)Ljava/lang/Object;" } : Jvm.MethodName)) ∈ lw_all := lw_g (lw_at lw_m3 179 rfl) rfl
theorem q683 : (Jvm.Cond.classLink "OriginRules$Good" (43 : Nat) "OriginRules$Part") ∈ lw_all := lw_g (lw_at lw_m3 180 rfl) rfl
theorem q684 : (Jvm.Cond.methodLink "OriginRules$Good" (54 : Nat) ({ cls := "OriginRules$Good", name := "isForeign", desc := "(LOriginRules$Part;)Z" } : Jvm.MethodName)) ∈ lw_all := lw_g (lw_at lw_m3 181 rfl) rfl
theorem q692 : (Jvm.Cond.instanceMethod ({ cls := "OriginRules$Good", name := "foreign", desc := "()J" } : Jvm.MethodName)) ∈ lw_all := lw_g (lw_at lw_m3 189 rfl) rfl
theorem q693 : (Jvm.Cond.selects "OriginRules$Good" ({ cls := "OriginRules$Good", name := "foreign", desc := "()J" } : Jvm.MethodName) ({ cls := "OriginRules$Good", name := "foreign", desc := "()J" } : Jvm.MethodName)) ∈ lw_all := lw_g (lw_at lw_m3 190 rfl) rfl
theorem q694 : (Jvm.Cond.code ({ cls := "OriginRules$Good", name := "foreign", desc := "()J" } : Jvm.MethodName) prog_6_method_5_code (4 : Nat) (Option.some Jvm.ClassFile.FieldType.long)) ∈ lw_all := lw_g (lw_at lw_m3 191 rfl) rfl
theorem q704 : (Jvm.Cond.instanceMethod ({ cls := "OriginRules$Good", name := "tell", desc := "(IZ)Z" } : Jvm.MethodName)) ∈ lw_all := lw_g (lw_at lw_m3 201 rfl) rfl
theorem q705 : (Jvm.Cond.selects "OriginRules$Good" ({ cls := "OriginRules$Good", name := "tell", desc := "(IZ)Z" } : Jvm.MethodName) ({ cls := "OriginRules$Good", name := "tell", desc := "(IZ)Z" } : Jvm.MethodName)) ∈ lw_all := lw_g (lw_at lw_m3 202 rfl) rfl
theorem q706 : (Jvm.Cond.code ({ cls := "OriginRules$Good", name := "tell", desc := "(IZ)Z" } : Jvm.MethodName) prog_6_method_7_code (3 : Nat) (Option.some Jvm.ClassFile.FieldType.boolean)) ∈ lw_all := lw_g (lw_at lw_m3 203 rfl) rfl
theorem q1028 : (Jvm.Cond.castable "OriginRules$Good" "java/lang/Object") ∈ lw_tbl := lw_at lw_m5 45 rfl
theorem in_X3 : ∀ w ∈ wsX30, w ∈ lw_all := lw_in wsX30 [147, 149, 151, 153, 155, 157, 159, 161, 163, 165, 167, 169] (by decide +kernel) (by decide +kernel)

/-! OriginRules$Wrong -/
set_option maxRecDepth 100000
def RX5 : String := "OriginRules$Wrong"
def TX5 : u_T := fun k => match k with
  | 0 => ("java/lang/Throwable", "cause", "Ljava/lang/Throwable;", false)
  | 1 => ("java/lang/Throwable", "stackTrace", "[Ljava/lang/StackTraceElement;", false)
  | 2 => ("java/lang/Throwable", "suppressedExceptions", "Ljava/util/List;", false)
  | 3 => ("java/lang/Throwable", "detailMessage", "Ljava/lang/String;", false)
  | 4 => ("java/lang/Throwable", "backtrace", "Ljava/lang/Object;", false)
  | _ => ("java/lang/Throwable", "depth", "I", false)
def tyX5 : Nat → FieldType := fun k => match k with
  | 0 => .object "java/lang/Throwable"
  | 1 => .array (.object "java/lang/StackTraceElement")
  | 2 => .object "java/util/List"
  | 3 => .object "java/lang/String"
  | 4 => .object "java/lang/Object"
  | _ => .int
abbrev wsX50 : List Cond := u_ws RX5 TX5 6
theorem nmX5 : ∀ a, a < 6 → ∀ b, b < 6 → a ≠ b → (TX5 a).2.1 ≠ (TX5 b).2.1 := by decide +kernel
theorem tyX5_ok : ∀ k, k < 6 → parseFieldDescriptor (TX5 k).2.2.1 = some (tyX5 k) := by decide +kernel
abbrev cX5_init : ByteArray := prog_15_method_1_code
def yX5_init : MethodName := ⟨RX5, "<init>", "()V"⟩
theorem dX5_init_0 : decode cX5_init 0 = .ok (.aload_n 0, 1) := by decide +kernel
theorem dX5_init_1 : decode cX5_init 1 = .ok (.invokespecial 1, 3) := by decide +kernel
theorem dX5_init_4 : decode cX5_init 4 = .ok (.return_, 1) := by decide +kernel
theorem q34 : (Jvm.Cond.initialized "OriginRules$Wrong") ∈ lw_all := lw_g (lw_at lw_m1 11 rfl) rfl
theorem q231 : (Jvm.Cond.instantiable "OriginRules$Wrong" (6 : Nat)) ∈ lw_all := lw_g (lw_at lw_m1 208 rfl) rfl
theorem q232 : (Jvm.Cond.castable "OriginRules$Wrong" "OriginRules$Wrong") ∈ lw_tbl := lw_at lw_m1 209 rfl
theorem q239 : (Jvm.Cond.selects "OriginRules$Wrong" ({ cls := "java/lang/Throwable", name := "fillInStackTrace", desc := "(I)Ljava/lang/Throwable;" } : Jvm.MethodName) ({ cls := "java/lang/Throwable", name := "fillInStackTrace", desc := "(I)Ljava/lang/Throwable;" } : Jvm.MethodName)) ∈ lw_all := lw_g (lw_at lw_m1 216 rfl) rfl
theorem q240 : (Jvm.Cond.selects "OriginRules$Wrong" ({ cls := "java/lang/Throwable", name := "fillInStackTrace", desc := "()Ljava/lang/Throwable;" } : Jvm.MethodName) ({ cls := "java/lang/Throwable", name := "fillInStackTrace", desc := "()Ljava/lang/Throwable;" } : Jvm.MethodName)) ∈ lw_all := lw_g (lw_at lw_m1 217 rfl) rfl
theorem q241 : (Jvm.Cond.lays "OriginRules$Wrong" "java/lang/Throwable" "cause" "Ljava/lang/Throwable;") ∈ lw_all := lw_g (lw_at lw_m1 218 rfl) rfl
theorem q243 : (Jvm.Cond.lays "OriginRules$Wrong" "java/lang/Throwable" "stackTrace" "[Ljava/lang/StackTraceElement;") ∈ lw_all := lw_g (lw_at lw_m1 220 rfl) rfl
theorem q245 : (Jvm.Cond.lays "OriginRules$Wrong" "java/lang/Throwable" "suppressedExceptions" "Ljava/util/List;") ∈ lw_all := lw_g (lw_at lw_m1 222 rfl) rfl
theorem q247 : (Jvm.Cond.lays "OriginRules$Wrong" "java/lang/Throwable" "detailMessage" "Ljava/lang/String;") ∈ lw_all := lw_g (lw_at lw_m1 224 rfl) rfl
theorem q249 : (Jvm.Cond.lays "OriginRules$Wrong" "java/lang/Throwable" "backtrace" "Ljava/lang/Object;") ∈ lw_all := lw_g (lw_at lw_m1 226 rfl) rfl
theorem q273 : (Jvm.Cond.instanceMethod ({ cls := "OriginRules$Wrong", name := "<init>", desc := "()V" } : Jvm.MethodName)) ∈ lw_all := lw_g (lw_at lw_m2 10 rfl) rfl
theorem q274 : (Jvm.Cond.code ({ cls := "OriginRules$Wrong", name := "<init>", desc := "()V" } : Jvm.MethodName) prog_15_method_1_code (1 : Nat) (Option.none : Option Jvm.ClassFile.FieldType)) ∈ lw_all := lw_g (lw_at lw_m2 11 rfl) rfl
theorem q275 : (Jvm.Cond.methodLink "OriginRules$Wrong" (1 : Nat) ({ cls := "java/lang/RuntimeException", name := "<init>", desc := "()V" } : Jvm.MethodName)) ∈ lw_all := lw_g (lw_at lw_m2 12 rfl) rfl
theorem q291 : (Jvm.Cond.lays "OriginRules$Wrong" "java/lang/Throwable" "depth" "I") ∈ lw_all := lw_g (lw_at lw_m2 28 rfl) rfl
theorem q294 : (Jvm.Cond.superclass "OriginRules$Wrong" "java/lang/RuntimeException") ∈ lw_all := lw_g (lw_at lw_m2 31 rfl) rfl
theorem q428 : (Jvm.Cond.selects "OriginRules$Wrong" ({ cls := "java/lang/Object", name := "getClass", desc := "()Ljava/lang/Class;" } : Jvm.MethodName) ({ cls := "java/lang/Object", name := "getClass", desc := "()Ljava/lang/Class;" } : Jvm.MethodName)) ∈ lw_all := lw_g (lw_at lw_m2 165 rfl) rfl
theorem q1030 : (Jvm.Cond.castable "OriginRules$Wrong" "java/lang/Object") ∈ lw_tbl := lw_at lw_m5 47 rfl
theorem in_X5 : ∀ w ∈ wsX50, w ∈ lw_all := lw_in wsX50 [241, 243, 245, 247, 249, 291] (by decide +kernel) (by decide +kernel)

/-! OriginRules$Any -/
set_option maxRecDepth 100000
def RX6 : String := "OriginRules$Any"
def TX6 : u_T := fun k => match k with
  | _ => ("OriginRules$Any", "nodes", "Ljava/util/ArrayList;", true)
def tyX6 : Nat → FieldType := fun k => match k with
  | _ => .object "java/util/ArrayList"
abbrev wsX60 : List Cond := u_ws RX6 TX6 1
theorem nmX6 : ∀ a, a < 1 → ∀ b, b < 1 → a ≠ b → (TX6 a).2.1 ≠ (TX6 b).2.1 := by decide +kernel
theorem tyX6_ok : ∀ k, k < 1 → parseFieldDescriptor (TX6 k).2.2.1 = some (tyX6 k) := by decide +kernel
abbrev cX6_init : ByteArray := prog_3_method_1_code
def yX6_init : MethodName := ⟨RX6, "<init>", "()V"⟩
theorem dX6_init_0 : decode cX6_init 0 = .ok (.aload_n 0, 1) := by decide +kernel
theorem dX6_init_1 : decode cX6_init 1 = .ok (.invokespecial 1, 3) := by decide +kernel
theorem dX6_init_4 : decode cX6_init 4 = .ok (.aload_n 0, 1) := by decide +kernel
theorem dX6_init_5 : decode cX6_init 5 = .ok (.new 7, 3) := by decide +kernel
theorem dX6_init_8 : decode cX6_init 8 = .ok (.dup, 1) := by decide +kernel
theorem dX6_init_9 : decode cX6_init 9 = .ok (.invokespecial 9, 3) := by decide +kernel
theorem dX6_init_12 : decode cX6_init 12 = .ok (.putfield 10, 3) := by decide +kernel
theorem dX6_init_15 : decode cX6_init 15 = .ok (.return_, 1) := by decide +kernel
abbrev cX6_holds : ByteArray := prog_3_method_2_code
def yX6_holds : MethodName := ⟨RX6, "holds", "(LOriginRules$Good;)Z"⟩
theorem dX6_holds_0 : decode cX6_holds 0 = .ok (.iconst 0, 1) := by decide +kernel
theorem dX6_holds_1 : decode cX6_holds 1 = .ok (.istore_n 2, 1) := by decide +kernel
theorem dX6_holds_2 : decode cX6_holds 2 = .ok (.iload_n 2, 1) := by decide +kernel
theorem dX6_holds_3 : decode cX6_holds 3 = .ok (.aload_n 0, 1) := by decide +kernel
theorem dX6_holds_4 : decode cX6_holds 4 = .ok (.getfield 10, 3) := by decide +kernel
theorem dX6_holds_7 : decode cX6_holds 7 = .ok (.invokevirtual 16, 3) := by decide +kernel
theorem dX6_holds_10 : decode cX6_holds 10 = .ok (.if_icmp .ge 29, 3) := by decide +kernel
theorem dX6_holds_13 : decode cX6_holds 13 = .ok (.aload_n 0, 1) := by decide +kernel
theorem dX6_holds_14 : decode cX6_holds 14 = .ok (.getfield 10, 3) := by decide +kernel
theorem dX6_holds_17 : decode cX6_holds 17 = .ok (.iload_n 2, 1) := by decide +kernel
theorem dX6_holds_18 : decode cX6_holds 18 = .ok (.invokevirtual 20, 3) := by decide +kernel
theorem dX6_holds_21 : decode cX6_holds 21 = .ok (.checkcast 24, 3) := by decide +kernel
theorem dX6_holds_24 : decode cX6_holds 24 = .ok (.aload_n 1, 1) := by decide +kernel
theorem dX6_holds_25 : decode cX6_holds 25 = .ok (.invokeinterface 26 2, 5) := by decide +kernel
theorem dX6_holds_30 : decode cX6_holds 30 = .ok (.ifCond .ne 9, 3) := by decide +kernel
theorem dX6_holds_33 : decode cX6_holds 33 = .ok (.iinc 2 1, 3) := by decide +kernel
theorem dX6_holds_36 : decode cX6_holds 36 = .ok (.goto (-34), 3) := by decide +kernel
theorem dX6_holds_39 : decode cX6_holds 39 = .ok (.iload_n 2, 1) := by decide +kernel
theorem dX6_holds_40 : decode cX6_holds 40 = .ok (.aload_n 0, 1) := by decide +kernel
theorem dX6_holds_41 : decode cX6_holds 41 = .ok (.getfield 10, 3) := by decide +kernel
theorem dX6_holds_44 : decode cX6_holds 44 = .ok (.invokevirtual 16, 3) := by decide +kernel
theorem dX6_holds_47 : decode cX6_holds 47 = .ok (.if_icmp .ge 7, 3) := by decide +kernel
theorem dX6_holds_50 : decode cX6_holds 50 = .ok (.iconst 1, 1) := by decide +kernel
theorem dX6_holds_51 : decode cX6_holds 51 = .ok (.goto 4, 3) := by decide +kernel
theorem dX6_holds_54 : decode cX6_holds 54 = .ok (.iconst 0, 1) := by decide +kernel
theorem dX6_holds_55 : decode cX6_holds 55 = .ok (.ireturn, 1) := by decide +kernel
theorem q35 : (Jvm.Cond.initialized "OriginRules$Any") ∈ lw_all := lw_g (lw_at lw_m1 12 rfl) rfl
theorem q303 : (Jvm.Cond.instantiable "OriginRules$Any" (1 : Nat)) ∈ lw_all := lw_g (lw_at lw_m2 40 rfl) rfl
theorem q305 : (Jvm.Cond.instanceMethod ({ cls := "OriginRules$Any", name := "<init>", desc := "()V" } : Jvm.MethodName)) ∈ lw_all := lw_g (lw_at lw_m2 42 rfl) rfl
theorem q306 : (Jvm.Cond.code ({ cls := "OriginRules$Any", name := "<init>", desc := "()V" } : Jvm.MethodName) prog_3_method_1_code (1 : Nat) (Option.none : Option Jvm.ClassFile.FieldType)) ∈ lw_all := lw_g (lw_at lw_m2 43 rfl) rfl
theorem q307 : (Jvm.Cond.methodLink "OriginRules$Any" (1 : Nat) ({ cls := "java/lang/Object", name := "<init>", desc := "()V" } : Jvm.MethodName)) ∈ lw_all := lw_g (lw_at lw_m2 44 rfl) rfl
theorem q308 : (Jvm.Cond.classLink "OriginRules$Any" (7 : Nat) "java/util/ArrayList") ∈ lw_all := lw_g (lw_at lw_m2 45 rfl) rfl
theorem q309 : (Jvm.Cond.methodLink "OriginRules$Any" (9 : Nat) ({ cls := "java/util/ArrayList", name := "<init>", desc := "()V" } : Jvm.MethodName)) ∈ lw_all := lw_g (lw_at lw_m2 46 rfl) rfl
theorem q310 : (Jvm.Cond.fieldLink "OriginRules$Any" (10 : Nat) "OriginRules$Any" "nodes" "Ljava/util/ArrayList;") ∈ lw_all := lw_g (lw_at lw_m2 47 rfl) rfl
theorem q312 : (Jvm.Cond.laysFinal "OriginRules$Any" "OriginRules$Any" "nodes" "Ljava/util/ArrayList;") ∈ lw_all := lw_g (lw_at lw_m2 49 rfl) rfl
theorem q313 : (Jvm.Cond.soleField "OriginRules$Any" "nodes") ∈ lw_all := lw_g (lw_at lw_m2 50 rfl) rfl
theorem q314 : (Jvm.Cond.superclass "OriginRules$Any" "java/lang/Object") ∈ lw_all := lw_g (lw_at lw_m2 51 rfl) rfl
theorem q418 : (Jvm.Cond.selects "OriginRules$Any" ({ cls := "java/lang/Object", name := "getClass", desc := "()Ljava/lang/Class;" } : Jvm.MethodName) ({ cls := "java/lang/Object", name := "getClass", desc := "()Ljava/lang/Class;" } : Jvm.MethodName)) ∈ lw_all := lw_g (lw_at lw_m2 155 rfl) rfl
theorem q654 : (Jvm.Cond.castable "OriginRules$Any" "OriginRules$Node") ∈ lw_tbl := lw_at lw_m3 151 rfl
theorem q655 : (Jvm.Cond.selects "OriginRules$Any" ({ cls := "OriginRules$Node", name := "holds", desc := "(LOriginRules$Good;)Z" } : Jvm.MethodName) ({ cls := "OriginRules$Any", name := "holds", desc := "(LOriginRules$Good;)Z" } : Jvm.MethodName)) ∈ lw_all := lw_g (lw_at lw_m3 152 rfl) rfl
theorem q656 : (Jvm.Cond.unhidden "OriginRules$Any" "holds" "(LOriginRules$Good;)Z") ∈ lw_tbl := lw_at lw_m3 153 rfl
theorem q657 : (Jvm.Cond.instanceMethod ({ cls := "OriginRules$Any", name := "holds", desc := "(LOriginRules$Good;)Z" } : Jvm.MethodName)) ∈ lw_all := lw_g (lw_at lw_m3 154 rfl) rfl
theorem q658 : (Jvm.Cond.publicMethod ({ cls := "OriginRules$Any", name := "holds", desc := "(LOriginRules$Good;)Z" } : Jvm.MethodName)) ∈ lw_tbl := lw_at lw_m3 155 rfl
theorem q659 : (Jvm.Cond.code ({ cls := "OriginRules$Any", name := "holds", desc := "(LOriginRules$Good;)Z" } : Jvm.MethodName) prog_3_method_2_code (3 : Nat) (Option.some Jvm.ClassFile.FieldType.boolean)) ∈ lw_all := lw_g (lw_at lw_m3 156 rfl) rfl
theorem q660 : (Jvm.Cond.methodLink "OriginRules$Any" (16 : Nat) ({ cls := "java/util/ArrayList", name := "size", desc := "()I" } : Jvm.MethodName)) ∈ lw_all := lw_g (lw_at lw_m3 157 rfl) rfl
theorem q661 : (Jvm.Cond.methodLink "OriginRules$Any" (20 : Nat) ({ cls := "java/util/ArrayList", name := "get", desc := "(I)Ljava/lang/Object;" } : Jvm.MethodName)) ∈ lw_all := lw_g (lw_at lw_m3 158 rfl) rfl
theorem q662 : (Jvm.Cond.classLink "OriginRules$Any" (24 : Nat) "OriginRules$Node") ∈ lw_all := lw_g (lw_at lw_m3 159 rfl) rfl
theorem q663 : (Jvm.Cond.interfaceEntry "OriginRules$Any" (26 : Nat)) ∈ lw_tbl := lw_at lw_m3 160 rfl
theorem q664 : (Jvm.Cond.methodLink "OriginRules$Any" (26 : Nat) ({ cls := "OriginRules$Node", name := "holds", desc := "(LOriginRules$Good;)Z" } : Jvm.MethodName)) ∈ lw_all := lw_g (lw_at lw_m3 161 rfl) rfl
theorem q1031 : (Jvm.Cond.castable "OriginRules$Any" "java/lang/Object") ∈ lw_tbl := lw_at lw_m5 48 rfl
theorem in_X6 : ∀ w ∈ wsX60, w ∈ lw_all := lw_in wsX60 [312] (by decide +kernel) (by decide +kernel)

/-! OriginRules$All -/
set_option maxRecDepth 100000
def RX7 : String := "OriginRules$All"
def TX7 : u_T := fun k => match k with
  | _ => ("OriginRules$All", "nodes", "Ljava/util/ArrayList;", true)
def tyX7 : Nat → FieldType := fun k => match k with
  | _ => .object "java/util/ArrayList"
abbrev wsX70 : List Cond := u_ws RX7 TX7 1
theorem nmX7 : ∀ a, a < 1 → ∀ b, b < 1 → a ≠ b → (TX7 a).2.1 ≠ (TX7 b).2.1 := by decide +kernel
theorem tyX7_ok : ∀ k, k < 1 → parseFieldDescriptor (TX7 k).2.2.1 = some (tyX7 k) := by decide +kernel
abbrev cX7_init : ByteArray := prog_2_method_1_code
def yX7_init : MethodName := ⟨RX7, "<init>", "()V"⟩
theorem dX7_init_0 : decode cX7_init 0 = .ok (.aload_n 0, 1) := by decide +kernel
theorem dX7_init_1 : decode cX7_init 1 = .ok (.invokespecial 1, 3) := by decide +kernel
theorem dX7_init_4 : decode cX7_init 4 = .ok (.aload_n 0, 1) := by decide +kernel
theorem dX7_init_5 : decode cX7_init 5 = .ok (.new 7, 3) := by decide +kernel
theorem dX7_init_8 : decode cX7_init 8 = .ok (.dup, 1) := by decide +kernel
theorem dX7_init_9 : decode cX7_init 9 = .ok (.invokespecial 9, 3) := by decide +kernel
theorem dX7_init_12 : decode cX7_init 12 = .ok (.putfield 10, 3) := by decide +kernel
theorem dX7_init_15 : decode cX7_init 15 = .ok (.return_, 1) := by decide +kernel
abbrev cX7_holds : ByteArray := prog_2_method_2_code
def yX7_holds : MethodName := ⟨RX7, "holds", "(LOriginRules$Good;)Z"⟩
theorem dX7_holds_0 : decode cX7_holds 0 = .ok (.iconst 0, 1) := by decide +kernel
theorem dX7_holds_1 : decode cX7_holds 1 = .ok (.istore_n 2, 1) := by decide +kernel
theorem dX7_holds_2 : decode cX7_holds 2 = .ok (.iload_n 2, 1) := by decide +kernel
theorem dX7_holds_3 : decode cX7_holds 3 = .ok (.aload_n 0, 1) := by decide +kernel
theorem dX7_holds_4 : decode cX7_holds 4 = .ok (.getfield 10, 3) := by decide +kernel
theorem dX7_holds_7 : decode cX7_holds 7 = .ok (.invokevirtual 16, 3) := by decide +kernel
theorem dX7_holds_10 : decode cX7_holds 10 = .ok (.if_icmp .ge 29, 3) := by decide +kernel
theorem dX7_holds_13 : decode cX7_holds 13 = .ok (.aload_n 0, 1) := by decide +kernel
theorem dX7_holds_14 : decode cX7_holds 14 = .ok (.getfield 10, 3) := by decide +kernel
theorem dX7_holds_17 : decode cX7_holds 17 = .ok (.iload_n 2, 1) := by decide +kernel
theorem dX7_holds_18 : decode cX7_holds 18 = .ok (.invokevirtual 20, 3) := by decide +kernel
theorem dX7_holds_21 : decode cX7_holds 21 = .ok (.checkcast 24, 3) := by decide +kernel
theorem dX7_holds_24 : decode cX7_holds 24 = .ok (.aload_n 1, 1) := by decide +kernel
theorem dX7_holds_25 : decode cX7_holds 25 = .ok (.invokeinterface 26 2, 5) := by decide +kernel
theorem dX7_holds_30 : decode cX7_holds 30 = .ok (.ifCond .eq 9, 3) := by decide +kernel
theorem dX7_holds_33 : decode cX7_holds 33 = .ok (.iinc 2 1, 3) := by decide +kernel
theorem dX7_holds_36 : decode cX7_holds 36 = .ok (.goto (-34), 3) := by decide +kernel
theorem dX7_holds_39 : decode cX7_holds 39 = .ok (.iload_n 2, 1) := by decide +kernel
theorem dX7_holds_40 : decode cX7_holds 40 = .ok (.aload_n 0, 1) := by decide +kernel
theorem dX7_holds_41 : decode cX7_holds 41 = .ok (.getfield 10, 3) := by decide +kernel
theorem dX7_holds_44 : decode cX7_holds 44 = .ok (.invokevirtual 16, 3) := by decide +kernel
theorem dX7_holds_47 : decode cX7_holds 47 = .ok (.if_icmp .ne 7, 3) := by decide +kernel
theorem dX7_holds_50 : decode cX7_holds 50 = .ok (.iconst 1, 1) := by decide +kernel
theorem dX7_holds_51 : decode cX7_holds 51 = .ok (.goto 4, 3) := by decide +kernel
theorem dX7_holds_54 : decode cX7_holds 54 = .ok (.iconst 0, 1) := by decide +kernel
theorem dX7_holds_55 : decode cX7_holds 55 = .ok (.ireturn, 1) := by decide +kernel
theorem q36 : (Jvm.Cond.initialized "OriginRules$All") ∈ lw_all := lw_g (lw_at lw_m1 13 rfl) rfl
theorem q319 : (Jvm.Cond.instantiable "OriginRules$All" (1 : Nat)) ∈ lw_all := lw_g (lw_at lw_m2 56 rfl) rfl
theorem q321 : (Jvm.Cond.instanceMethod ({ cls := "OriginRules$All", name := "<init>", desc := "()V" } : Jvm.MethodName)) ∈ lw_all := lw_g (lw_at lw_m2 58 rfl) rfl
theorem q322 : (Jvm.Cond.code ({ cls := "OriginRules$All", name := "<init>", desc := "()V" } : Jvm.MethodName) prog_2_method_1_code (1 : Nat) (Option.none : Option Jvm.ClassFile.FieldType)) ∈ lw_all := lw_g (lw_at lw_m2 59 rfl) rfl
theorem q323 : (Jvm.Cond.methodLink "OriginRules$All" (1 : Nat) ({ cls := "java/lang/Object", name := "<init>", desc := "()V" } : Jvm.MethodName)) ∈ lw_all := lw_g (lw_at lw_m2 60 rfl) rfl
theorem q324 : (Jvm.Cond.classLink "OriginRules$All" (7 : Nat) "java/util/ArrayList") ∈ lw_all := lw_g (lw_at lw_m2 61 rfl) rfl
theorem q325 : (Jvm.Cond.methodLink "OriginRules$All" (9 : Nat) ({ cls := "java/util/ArrayList", name := "<init>", desc := "()V" } : Jvm.MethodName)) ∈ lw_all := lw_g (lw_at lw_m2 62 rfl) rfl
theorem q326 : (Jvm.Cond.fieldLink "OriginRules$All" (10 : Nat) "OriginRules$All" "nodes" "Ljava/util/ArrayList;") ∈ lw_all := lw_g (lw_at lw_m2 63 rfl) rfl
theorem q328 : (Jvm.Cond.laysFinal "OriginRules$All" "OriginRules$All" "nodes" "Ljava/util/ArrayList;") ∈ lw_all := lw_g (lw_at lw_m2 65 rfl) rfl
theorem q329 : (Jvm.Cond.soleField "OriginRules$All" "nodes") ∈ lw_all := lw_g (lw_at lw_m2 66 rfl) rfl
theorem q330 : (Jvm.Cond.superclass "OriginRules$All" "java/lang/Object") ∈ lw_all := lw_g (lw_at lw_m2 67 rfl) rfl
theorem q417 : (Jvm.Cond.selects "OriginRules$All" ({ cls := "java/lang/Object", name := "getClass", desc := "()Ljava/lang/Class;" } : Jvm.MethodName) ({ cls := "java/lang/Object", name := "getClass", desc := "()Ljava/lang/Class;" } : Jvm.MethodName)) ∈ lw_all := lw_g (lw_at lw_m2 154 rfl) rfl
theorem q643 : (Jvm.Cond.castable "OriginRules$All" "OriginRules$Node") ∈ lw_tbl := lw_at lw_m3 140 rfl
theorem q644 : (Jvm.Cond.selects "OriginRules$All" ({ cls := "OriginRules$Node", name := "holds", desc := "(LOriginRules$Good;)Z" } : Jvm.MethodName) ({ cls := "OriginRules$All", name := "holds", desc := "(LOriginRules$Good;)Z" } : Jvm.MethodName)) ∈ lw_all := lw_g (lw_at lw_m3 141 rfl) rfl
theorem q645 : (Jvm.Cond.unhidden "OriginRules$All" "holds" "(LOriginRules$Good;)Z") ∈ lw_tbl := lw_at lw_m3 142 rfl
theorem q646 : (Jvm.Cond.instanceMethod ({ cls := "OriginRules$All", name := "holds", desc := "(LOriginRules$Good;)Z" } : Jvm.MethodName)) ∈ lw_all := lw_g (lw_at lw_m3 143 rfl) rfl
theorem q647 : (Jvm.Cond.publicMethod ({ cls := "OriginRules$All", name := "holds", desc := "(LOriginRules$Good;)Z" } : Jvm.MethodName)) ∈ lw_tbl := lw_at lw_m3 144 rfl
theorem q648 : (Jvm.Cond.code ({ cls := "OriginRules$All", name := "holds", desc := "(LOriginRules$Good;)Z" } : Jvm.MethodName) prog_2_method_2_code (3 : Nat) (Option.some Jvm.ClassFile.FieldType.boolean)) ∈ lw_all := lw_g (lw_at lw_m3 145 rfl) rfl
theorem q649 : (Jvm.Cond.methodLink "OriginRules$All" (16 : Nat) ({ cls := "java/util/ArrayList", name := "size", desc := "()I" } : Jvm.MethodName)) ∈ lw_all := lw_g (lw_at lw_m3 146 rfl) rfl
theorem q650 : (Jvm.Cond.methodLink "OriginRules$All" (20 : Nat) ({ cls := "java/util/ArrayList", name := "get", desc := "(I)Ljava/lang/Object;" } : Jvm.MethodName)) ∈ lw_all := lw_g (lw_at lw_m3 147 rfl) rfl
theorem q651 : (Jvm.Cond.classLink "OriginRules$All" (24 : Nat) "OriginRules$Node") ∈ lw_all := lw_g (lw_at lw_m3 148 rfl) rfl
theorem q652 : (Jvm.Cond.interfaceEntry "OriginRules$All" (26 : Nat)) ∈ lw_tbl := lw_at lw_m3 149 rfl
theorem q653 : (Jvm.Cond.methodLink "OriginRules$All" (26 : Nat) ({ cls := "OriginRules$Node", name := "holds", desc := "(LOriginRules$Good;)Z" } : Jvm.MethodName)) ∈ lw_all := lw_g (lw_at lw_m3 150 rfl) rfl
theorem q1032 : (Jvm.Cond.castable "OriginRules$All" "java/lang/Object") ∈ lw_tbl := lw_at lw_m5 49 rfl
theorem in_X7 : ∀ w ∈ wsX70, w ∈ lw_all := lw_in wsX70 [328] (by decide +kernel) (by decide +kernel)

/-! OriginRules$Leaf -/
set_option maxRecDepth 100000
def RX8 : String := "OriginRules$Leaf"
abbrev cX8_init : ByteArray := prog_7_method_1_code
def yX8_init : MethodName := ⟨RX8, "<init>", "(I)V"⟩
theorem dX8_init_0 : decode cX8_init 0 = .ok (.aload_n 0, 1) := by decide +kernel
theorem dX8_init_1 : decode cX8_init 1 = .ok (.invokespecial 1, 3) := by decide +kernel
theorem dX8_init_4 : decode cX8_init 4 = .ok (.aload_n 0, 1) := by decide +kernel
theorem dX8_init_5 : decode cX8_init 5 = .ok (.iload_n 1, 1) := by decide +kernel
theorem dX8_init_6 : decode cX8_init 6 = .ok (.putfield 7, 3) := by decide +kernel
theorem dX8_init_9 : decode cX8_init 9 = .ok (.return_, 1) := by decide +kernel
abbrev cX8_holds : ByteArray := prog_7_method_3_code
def yX8_holds : MethodName := ⟨RX8, "holds", "(LOriginRules$Good;)Z"⟩
theorem dX8_holds_0 : decode cX8_holds 0 = .ok (.aload_n 1, 1) := by decide +kernel
theorem dX8_holds_1 : decode cX8_holds 1 = .ok (.aload_n 0, 1) := by decide +kernel
theorem dX8_holds_2 : decode cX8_holds 2 = .ok (.getfield 7, 3) := by decide +kernel
theorem dX8_holds_5 : decode cX8_holds 5 = .ok (.aload_n 0, 1) := by decide +kernel
theorem dX8_holds_6 : decode cX8_holds 6 = .ok (.aload_n 1, 1) := by decide +kernel
theorem dX8_holds_7 : decode cX8_holds 7 = .ok (.invokevirtual 13, 3) := by decide +kernel
theorem dX8_holds_10 : decode cX8_holds 10 = .ok (.invokevirtual 17, 3) := by decide +kernel
theorem dX8_holds_13 : decode cX8_holds 13 = .ok (.ireturn, 1) := by decide +kernel
theorem q37 : (Jvm.Cond.initialized "OriginRules$Leaf") ∈ lw_all := lw_g (lw_at lw_m1 14 rfl) rfl
theorem q340 : (Jvm.Cond.instanceMethod ({ cls := "OriginRules$Leaf", name := "<init>", desc := "(I)V" } : Jvm.MethodName)) ∈ lw_all := lw_g (lw_at lw_m2 77 rfl) rfl
theorem q341 : (Jvm.Cond.code ({ cls := "OriginRules$Leaf", name := "<init>", desc := "(I)V" } : Jvm.MethodName) prog_7_method_1_code (2 : Nat) (Option.none : Option Jvm.ClassFile.FieldType)) ∈ lw_all := lw_g (lw_at lw_m2 78 rfl) rfl
theorem q342 : (Jvm.Cond.methodLink "OriginRules$Leaf" (1 : Nat) ({ cls := "java/lang/Object", name := "<init>", desc := "()V" } : Jvm.MethodName)) ∈ lw_all := lw_g (lw_at lw_m2 79 rfl) rfl
theorem q343 : (Jvm.Cond.fieldLink "OriginRules$Leaf" (7 : Nat) "OriginRules$Leaf" "place" "I") ∈ lw_all := lw_g (lw_at lw_m2 80 rfl) rfl
theorem q345 : (Jvm.Cond.soleField "OriginRules$Leaf" "place") ∈ lw_all := lw_g (lw_at lw_m2 82 rfl) rfl
theorem q668 : (Jvm.Cond.instanceMethod ({ cls := "OriginRules$Leaf", name := "holds", desc := "(LOriginRules$Good;)Z" } : Jvm.MethodName)) ∈ lw_all := lw_g (lw_at lw_m3 165 rfl) rfl
theorem q669 : (Jvm.Cond.publicMethod ({ cls := "OriginRules$Leaf", name := "holds", desc := "(LOriginRules$Good;)Z" } : Jvm.MethodName)) ∈ lw_tbl := lw_at lw_m3 166 rfl
theorem q670 : (Jvm.Cond.code ({ cls := "OriginRules$Leaf", name := "holds", desc := "(LOriginRules$Good;)Z" } : Jvm.MethodName) prog_7_method_3_code (2 : Nat) (Option.some Jvm.ClassFile.FieldType.boolean)) ∈ lw_all := lw_g (lw_at lw_m3 167 rfl) rfl
theorem q671 : (Jvm.Cond.methodLink "OriginRules$Leaf" (13 : Nat) ({ cls := "OriginRules$Leaf", name := "is", desc := "(LOriginRules$Good;)Z" } : Jvm.MethodName)) ∈ lw_all := lw_g (lw_at lw_m3 168 rfl) rfl
theorem q672 : (Jvm.Cond.declares ({ cls := "OriginRules$Leaf", name := "is", desc := "(LOriginRules$Good;)Z" } : Jvm.MethodName)) ∈ lw_tbl := lw_at lw_m3 169 rfl
theorem q673 : (Jvm.Cond.sameMethod "OriginRules$Leaf" "OriginRules$Leaf" "is" "(LOriginRules$Good;)Z") ∈ lw_all := lw_g (lw_at lw_m3 170 rfl) rfl
theorem q703 : (Jvm.Cond.methodLink "OriginRules$Leaf" (17 : Nat) ({ cls := "OriginRules$Good", name := "tell", desc := "(IZ)Z" } : Jvm.MethodName)) ∈ lw_all := lw_g (lw_at lw_m3 200 rfl) rfl

/-! OriginRules$Wholly -/
set_option maxRecDepth 100000
def RX9 : String := "OriginRules$Wholly"
def TX9 : u_T := fun k => match k with
  | _ => ("OriginRules$Leaf", "place", "I", true)
def tyX9 : Nat → FieldType := fun k => match k with
  | _ => .int
abbrev wsX90 : List Cond := u_ws RX9 TX9 1
theorem nmX9 : ∀ a, a < 1 → ∀ b, b < 1 → a ≠ b → (TX9 a).2.1 ≠ (TX9 b).2.1 := by decide +kernel
theorem tyX9_ok : ∀ k, k < 1 → parseFieldDescriptor (TX9 k).2.2.1 = some (tyX9 k) := by decide +kernel
abbrev cX9_init : ByteArray := prog_14_method_1_code
def yX9_init : MethodName := ⟨RX9, "<init>", "(I)V"⟩
theorem dX9_init_0 : decode cX9_init 0 = .ok (.aload_n 0, 1) := by decide +kernel
theorem dX9_init_1 : decode cX9_init 1 = .ok (.iload_n 1, 1) := by decide +kernel
theorem dX9_init_2 : decode cX9_init 2 = .ok (.invokespecial 1, 3) := by decide +kernel
theorem dX9_init_5 : decode cX9_init 5 = .ok (.return_, 1) := by decide +kernel
abbrev cX9_is : ByteArray := prog_14_method_2_code
def yX9_is : MethodName := ⟨RX9, "is", "(LOriginRules$Good;)Z"⟩
theorem dX9_is_0 : decode cX9_is 0 = .ok (.aload_n 1, 1) := by decide +kernel
theorem dX9_is_1 : decode cX9_is 1 = .ok (.getfield 7, 3) := by decide +kernel
theorem dX9_is_4 : decode cX9_is 4 = .ok (.invokevirtual 13, 3) := by decide +kernel
theorem dX9_is_7 : decode cX9_is 7 = .ok (.ireturn, 1) := by decide +kernel
theorem q38 : (Jvm.Cond.initialized "OriginRules$Wholly") ∈ lw_all := lw_g (lw_at lw_m1 15 rfl) rfl
theorem q124 : (Jvm.Cond.fieldLinkNest "OriginRules$Wholly" (7 : Nat) "OriginRules$Good" "parts" "Ljava/util/ArrayList;" "OriginRules") ∈ lw_tbl := lw_at lw_m1 101 rfl
theorem q335 : (Jvm.Cond.instantiable "OriginRules$Wholly" (1 : Nat)) ∈ lw_all := lw_g (lw_at lw_m2 72 rfl) rfl
theorem q337 : (Jvm.Cond.instanceMethod ({ cls := "OriginRules$Wholly", name := "<init>", desc := "(I)V" } : Jvm.MethodName)) ∈ lw_all := lw_g (lw_at lw_m2 74 rfl) rfl
theorem q338 : (Jvm.Cond.code ({ cls := "OriginRules$Wholly", name := "<init>", desc := "(I)V" } : Jvm.MethodName) prog_14_method_1_code (2 : Nat) (Option.none : Option Jvm.ClassFile.FieldType)) ∈ lw_all := lw_g (lw_at lw_m2 75 rfl) rfl
theorem q339 : (Jvm.Cond.methodLink "OriginRules$Wholly" (1 : Nat) ({ cls := "OriginRules$Leaf", name := "<init>", desc := "(I)V" } : Jvm.MethodName)) ∈ lw_all := lw_g (lw_at lw_m2 76 rfl) rfl
theorem q344 : (Jvm.Cond.laysFinal "OriginRules$Wholly" "OriginRules$Leaf" "place" "I") ∈ lw_all := lw_g (lw_at lw_m2 81 rfl) rfl
theorem q346 : (Jvm.Cond.superclass "OriginRules$Wholly" "OriginRules$Leaf") ∈ lw_all := lw_g (lw_at lw_m2 83 rfl) rfl
theorem q427 : (Jvm.Cond.selects "OriginRules$Wholly" ({ cls := "java/lang/Object", name := "getClass", desc := "()Ljava/lang/Class;" } : Jvm.MethodName) ({ cls := "java/lang/Object", name := "getClass", desc := "()Ljava/lang/Class;" } : Jvm.MethodName)) ∈ lw_all := lw_g (lw_at lw_m2 164 rfl) rfl
theorem q696 : (Jvm.Cond.selects "OriginRules$Wholly" ({ cls := "OriginRules$Leaf", name := "is", desc := "(LOriginRules$Good;)Z" } : Jvm.MethodName) ({ cls := "OriginRules$Wholly", name := "is", desc := "(LOriginRules$Good;)Z" } : Jvm.MethodName)) ∈ lw_all := lw_g (lw_at lw_m3 193 rfl) rfl
theorem q697 : (Jvm.Cond.instanceMethod ({ cls := "OriginRules$Wholly", name := "is", desc := "(LOriginRules$Good;)Z" } : Jvm.MethodName)) ∈ lw_all := lw_g (lw_at lw_m3 194 rfl) rfl
theorem q698 : (Jvm.Cond.code ({ cls := "OriginRules$Wholly", name := "is", desc := "(LOriginRules$Good;)Z" } : Jvm.MethodName) prog_14_method_2_code (2 : Nat) (Option.some Jvm.ClassFile.FieldType.boolean)) ∈ lw_all := lw_g (lw_at lw_m3 195 rfl) rfl
theorem q699 : (Jvm.Cond.methodLink "OriginRules$Wholly" (13 : Nat) ({ cls := "java/util/ArrayList", name := "isEmpty", desc := "()Z" } : Jvm.MethodName)) ∈ lw_all := lw_g (lw_at lw_m3 196 rfl) rfl
theorem q713 : (Jvm.Cond.castable "OriginRules$Wholly" "OriginRules$Node") ∈ lw_tbl := lw_at lw_m3 210 rfl
theorem q714 : (Jvm.Cond.selects "OriginRules$Wholly" ({ cls := "OriginRules$Node", name := "holds", desc := "(LOriginRules$Good;)Z" } : Jvm.MethodName) ({ cls := "OriginRules$Leaf", name := "holds", desc := "(LOriginRules$Good;)Z" } : Jvm.MethodName)) ∈ lw_all := lw_g (lw_at lw_m3 211 rfl) rfl
theorem q715 : (Jvm.Cond.unhidden "OriginRules$Wholly" "holds" "(LOriginRules$Good;)Z") ∈ lw_tbl := lw_at lw_m3 212 rfl
theorem q1033 : (Jvm.Cond.castable "OriginRules$Wholly" "java/lang/Object") ∈ lw_tbl := lw_at lw_m5 50 rfl
theorem in_X9 : ∀ w ∈ wsX90, w ∈ lw_all := lw_in wsX90 [344] (by decide +kernel) (by decide +kernel)

/-! OriginRules$Change -/
set_option maxRecDepth 100000
def RX10 : String := "OriginRules$Change"
def TX10 : u_T := fun k => match k with
  | 0 => ("OriginRules$Leaf", "place", "I", true)
  | _ => ("OriginRules$Change", "divisor", "I", true)
def tyX10 : Nat → FieldType := fun k => match k with
  | 0 => .int
  | _ => .int
abbrev wsX100 : List Cond := u_ws RX10 TX10 2
theorem nmX10 : ∀ a, a < 2 → ∀ b, b < 2 → a ≠ b → (TX10 a).2.1 ≠ (TX10 b).2.1 := by decide +kernel
theorem tyX10_ok : ∀ k, k < 2 → parseFieldDescriptor (TX10 k).2.2.1 = some (tyX10 k) := by decide +kernel
abbrev cX10_init : ByteArray := prog_4_method_1_code
def yX10_init : MethodName := ⟨RX10, "<init>", "(II)V"⟩
theorem dX10_init_0 : decode cX10_init 0 = .ok (.aload_n 0, 1) := by decide +kernel
theorem dX10_init_1 : decode cX10_init 1 = .ok (.iload_n 1, 1) := by decide +kernel
theorem dX10_init_2 : decode cX10_init 2 = .ok (.invokespecial 1, 3) := by decide +kernel
theorem dX10_init_5 : decode cX10_init 5 = .ok (.aload_n 0, 1) := by decide +kernel
theorem dX10_init_6 : decode cX10_init 6 = .ok (.iload_n 2, 1) := by decide +kernel
theorem dX10_init_7 : decode cX10_init 7 = .ok (.putfield 7, 3) := by decide +kernel
theorem dX10_init_10 : decode cX10_init 10 = .ok (.return_, 1) := by decide +kernel
abbrev cX10_is : ByteArray := prog_4_method_2_code
def yX10_is : MethodName := ⟨RX10, "is", "(LOriginRules$Good;)Z"⟩
theorem dX10_is_0 : decode cX10_is 0 = .ok (.aload_n 1, 1) := by decide +kernel
theorem dX10_is_1 : decode cX10_is 1 = .ok (.aload_n 0, 1) := by decide +kernel
theorem dX10_is_2 : decode cX10_is 2 = .ok (.getfield 7, 3) := by decide +kernel
theorem dX10_is_5 : decode cX10_is 5 = .ok (.invokevirtual 13, 3) := by decide +kernel
theorem dX10_is_8 : decode cX10_is 8 = .ok (.ireturn, 1) := by decide +kernel
theorem q39 : (Jvm.Cond.initialized "OriginRules$Change") ∈ lw_all := lw_g (lw_at lw_m1 16 rfl) rfl
theorem q348 : (Jvm.Cond.instantiable "OriginRules$Change" (2 : Nat)) ∈ lw_all := lw_g (lw_at lw_m2 85 rfl) rfl
theorem q350 : (Jvm.Cond.instanceMethod ({ cls := "OriginRules$Change", name := "<init>", desc := "(II)V" } : Jvm.MethodName)) ∈ lw_all := lw_g (lw_at lw_m2 87 rfl) rfl
theorem q351 : (Jvm.Cond.code ({ cls := "OriginRules$Change", name := "<init>", desc := "(II)V" } : Jvm.MethodName) prog_4_method_1_code (3 : Nat) (Option.none : Option Jvm.ClassFile.FieldType)) ∈ lw_all := lw_g (lw_at lw_m2 88 rfl) rfl
theorem q352 : (Jvm.Cond.methodLink "OriginRules$Change" (1 : Nat) ({ cls := "OriginRules$Leaf", name := "<init>", desc := "(I)V" } : Jvm.MethodName)) ∈ lw_all := lw_g (lw_at lw_m2 89 rfl) rfl
theorem q353 : (Jvm.Cond.fieldLink "OriginRules$Change" (7 : Nat) "OriginRules$Change" "divisor" "I") ∈ lw_all := lw_g (lw_at lw_m2 90 rfl) rfl
theorem q354 : (Jvm.Cond.laysFinal "OriginRules$Change" "OriginRules$Change" "divisor" "I") ∈ lw_all := lw_g (lw_at lw_m2 91 rfl) rfl
theorem q355 : (Jvm.Cond.soleField "OriginRules$Change" "divisor") ∈ lw_all := lw_g (lw_at lw_m2 92 rfl) rfl
theorem q356 : (Jvm.Cond.laysFinal "OriginRules$Change" "OriginRules$Leaf" "place" "I") ∈ lw_all := lw_g (lw_at lw_m2 93 rfl) rfl
theorem q357 : (Jvm.Cond.superclass "OriginRules$Change" "OriginRules$Leaf") ∈ lw_all := lw_g (lw_at lw_m2 94 rfl) rfl
theorem q419 : (Jvm.Cond.selects "OriginRules$Change" ({ cls := "java/lang/Object", name := "getClass", desc := "()Ljava/lang/Class;" } : Jvm.MethodName) ({ cls := "java/lang/Object", name := "getClass", desc := "()Ljava/lang/Class;" } : Jvm.MethodName)) ∈ lw_all := lw_g (lw_at lw_m2 156 rfl) rfl
theorem q665 : (Jvm.Cond.castable "OriginRules$Change" "OriginRules$Node") ∈ lw_tbl := lw_at lw_m3 162 rfl
theorem q666 : (Jvm.Cond.selects "OriginRules$Change" ({ cls := "OriginRules$Node", name := "holds", desc := "(LOriginRules$Good;)Z" } : Jvm.MethodName) ({ cls := "OriginRules$Leaf", name := "holds", desc := "(LOriginRules$Good;)Z" } : Jvm.MethodName)) ∈ lw_all := lw_g (lw_at lw_m3 163 rfl) rfl
theorem q667 : (Jvm.Cond.unhidden "OriginRules$Change" "holds" "(LOriginRules$Good;)Z") ∈ lw_tbl := lw_at lw_m3 164 rfl
theorem q674 : (Jvm.Cond.selects "OriginRules$Change" ({ cls := "OriginRules$Leaf", name := "is", desc := "(LOriginRules$Good;)Z" } : Jvm.MethodName) ({ cls := "OriginRules$Change", name := "is", desc := "(LOriginRules$Good;)Z" } : Jvm.MethodName)) ∈ lw_all := lw_g (lw_at lw_m3 171 rfl) rfl
theorem q675 : (Jvm.Cond.instanceMethod ({ cls := "OriginRules$Change", name := "is", desc := "(LOriginRules$Good;)Z" } : Jvm.MethodName)) ∈ lw_all := lw_g (lw_at lw_m3 172 rfl) rfl
theorem q676 : (Jvm.Cond.code ({ cls := "OriginRules$Change", name := "is", desc := "(LOriginRules$Good;)Z" } : Jvm.MethodName) prog_4_method_2_code (2 : Nat) (Option.some Jvm.ClassFile.FieldType.boolean)) ∈ lw_all := lw_g (lw_at lw_m3 173 rfl) rfl
theorem q677 : (Jvm.Cond.methodLink "OriginRules$Change" (13 : Nat) ({ cls := "OriginRules$Good", name := "changes", desc := "(I)Z" } : Jvm.MethodName)) ∈ lw_all := lw_g (lw_at lw_m3 174 rfl) rfl
theorem q1034 : (Jvm.Cond.castable "OriginRules$Change" "java/lang/Object") ∈ lw_tbl := lw_at lw_m5 51 rfl
theorem in_X10 : ∀ w ∈ wsX100, w ∈ lw_all := lw_in wsX100 [356, 354] (by decide +kernel) (by decide +kernel)

/-! OriginRules$Value -/
set_option maxRecDepth 100000
def RX11 : String := "OriginRules$Value"
def TX11 : u_T := fun k => match k with
  | 0 => ("OriginRules$Leaf", "place", "I", true)
  | _ => ("OriginRules$Value", "most", "I", true)
def tyX11 : Nat → FieldType := fun k => match k with
  | 0 => .int
  | _ => .int
abbrev wsX110 : List Cond := u_ws RX11 TX11 2
theorem nmX11 : ∀ a, a < 2 → ∀ b, b < 2 → a ≠ b → (TX11 a).2.1 ≠ (TX11 b).2.1 := by decide +kernel
theorem tyX11_ok : ∀ k, k < 2 → parseFieldDescriptor (TX11 k).2.2.1 = some (tyX11 k) := by decide +kernel
abbrev cX11_init : ByteArray := prog_13_method_1_code
def yX11_init : MethodName := ⟨RX11, "<init>", "(II)V"⟩
theorem dX11_init_0 : decode cX11_init 0 = .ok (.aload_n 0, 1) := by decide +kernel
theorem dX11_init_1 : decode cX11_init 1 = .ok (.iload_n 1, 1) := by decide +kernel
theorem dX11_init_2 : decode cX11_init 2 = .ok (.invokespecial 3, 3) := by decide +kernel
theorem dX11_init_5 : decode cX11_init 5 = .ok (.aload_n 0, 1) := by decide +kernel
theorem dX11_init_6 : decode cX11_init 6 = .ok (.iload_n 2, 1) := by decide +kernel
theorem dX11_init_7 : decode cX11_init 7 = .ok (.putfield 9, 3) := by decide +kernel
theorem dX11_init_10 : decode cX11_init 10 = .ok (.return_, 1) := by decide +kernel
abbrev cX11_is : ByteArray := prog_13_method_2_code
def yX11_is : MethodName := ⟨RX11, "is", "(LOriginRules$Good;)Z"⟩
theorem dX11_is_0 : decode cX11_is 0 = .ok (.aload_n 1, 1) := by decide +kernel
theorem dX11_is_1 : decode cX11_is 1 = .ok (.getfield 15, 3) := by decide +kernel
theorem dX11_is_4 : decode cX11_is 4 = .ok (.lconst 0, 1) := by decide +kernel
theorem dX11_is_5 : decode cX11_is 5 = .ok (.lcmp, 1) := by decide +kernel
theorem dX11_is_6 : decode cX11_is 6 = .ok (.ifCond .le 29, 3) := by decide +kernel
theorem dX11_is_9 : decode cX11_is 9 = .ok (.aload_n 1, 1) := by decide +kernel
theorem dX11_is_10 : decode cX11_is 10 = .ok (.invokevirtual 21, 3) := by decide +kernel
theorem dX11_is_13 : decode cX11_is 13 = .ok (.ldc2_w 25, 3) := by decide +kernel
theorem dX11_is_16 : decode cX11_is 16 = .ok (.lmul, 1) := by decide +kernel
theorem dX11_is_17 : decode cX11_is 17 = .ok (.aload_n 1, 1) := by decide +kernel
theorem dX11_is_18 : decode cX11_is 18 = .ok (.getfield 15, 3) := by decide +kernel
theorem dX11_is_21 : decode cX11_is 21 = .ok (.aload_n 0, 1) := by decide +kernel
theorem dX11_is_22 : decode cX11_is 22 = .ok (.getfield 9, 3) := by decide +kernel
theorem dX11_is_25 : decode cX11_is 25 = .ok (.i2l, 1) := by decide +kernel
theorem dX11_is_26 : decode cX11_is 26 = .ok (.lmul, 1) := by decide +kernel
theorem dX11_is_27 : decode cX11_is 27 = .ok (.lcmp, 1) := by decide +kernel
theorem dX11_is_28 : decode cX11_is 28 = .ok (.ifCond .gt 7, 3) := by decide +kernel
theorem dX11_is_31 : decode cX11_is 31 = .ok (.iconst 1, 1) := by decide +kernel
theorem dX11_is_32 : decode cX11_is 32 = .ok (.goto 4, 3) := by decide +kernel
theorem dX11_is_35 : decode cX11_is 35 = .ok (.iconst 0, 1) := by decide +kernel
theorem dX11_is_36 : decode cX11_is 36 = .ok (.ireturn, 1) := by decide +kernel
theorem q40 : (Jvm.Cond.initialized "OriginRules$Value") ∈ lw_all := lw_g (lw_at lw_m1 17 rfl) rfl
theorem q140 : (Jvm.Cond.fieldLinkNest "OriginRules$Value" (15 : Nat) "OriginRules$Good" "price" "J" "OriginRules") ∈ lw_tbl := lw_at lw_m1 117 rfl
theorem q359 : (Jvm.Cond.instantiable "OriginRules$Value" (2 : Nat)) ∈ lw_all := lw_g (lw_at lw_m2 96 rfl) rfl
theorem q365 : (Jvm.Cond.instanceMethod ({ cls := "OriginRules$Value", name := "<init>", desc := "(II)V" } : Jvm.MethodName)) ∈ lw_all := lw_g (lw_at lw_m2 102 rfl) rfl
theorem q366 : (Jvm.Cond.code ({ cls := "OriginRules$Value", name := "<init>", desc := "(II)V" } : Jvm.MethodName) prog_13_method_1_code (3 : Nat) (Option.none : Option Jvm.ClassFile.FieldType)) ∈ lw_all := lw_g (lw_at lw_m2 103 rfl) rfl
theorem q367 : (Jvm.Cond.methodLink "OriginRules$Value" (3 : Nat) ({ cls := "OriginRules$Leaf", name := "<init>", desc := "(I)V" } : Jvm.MethodName)) ∈ lw_all := lw_g (lw_at lw_m2 104 rfl) rfl
theorem q368 : (Jvm.Cond.fieldLink "OriginRules$Value" (9 : Nat) "OriginRules$Value" "most" "I") ∈ lw_all := lw_g (lw_at lw_m2 105 rfl) rfl
theorem q369 : (Jvm.Cond.laysFinal "OriginRules$Value" "OriginRules$Value" "most" "I") ∈ lw_all := lw_g (lw_at lw_m2 106 rfl) rfl
theorem q370 : (Jvm.Cond.soleField "OriginRules$Value" "most") ∈ lw_all := lw_g (lw_at lw_m2 107 rfl) rfl
theorem q371 : (Jvm.Cond.laysFinal "OriginRules$Value" "OriginRules$Leaf" "place" "I") ∈ lw_all := lw_g (lw_at lw_m2 108 rfl) rfl
theorem q372 : (Jvm.Cond.superclass "OriginRules$Value" "OriginRules$Leaf") ∈ lw_all := lw_g (lw_at lw_m2 109 rfl) rfl
theorem q426 : (Jvm.Cond.selects "OriginRules$Value" ({ cls := "java/lang/Object", name := "getClass", desc := "()Ljava/lang/Class;" } : Jvm.MethodName) ({ cls := "java/lang/Object", name := "getClass", desc := "()Ljava/lang/Class;" } : Jvm.MethodName)) ∈ lw_all := lw_g (lw_at lw_m2 163 rfl) rfl
theorem q688 : (Jvm.Cond.selects "OriginRules$Value" ({ cls := "OriginRules$Leaf", name := "is", desc := "(LOriginRules$Good;)Z" } : Jvm.MethodName) ({ cls := "OriginRules$Value", name := "is", desc := "(LOriginRules$Good;)Z" } : Jvm.MethodName)) ∈ lw_all := lw_g (lw_at lw_m3 185 rfl) rfl
theorem q689 : (Jvm.Cond.instanceMethod ({ cls := "OriginRules$Value", name := "is", desc := "(LOriginRules$Good;)Z" } : Jvm.MethodName)) ∈ lw_all := lw_g (lw_at lw_m3 186 rfl) rfl
theorem q690 : (Jvm.Cond.code ({ cls := "OriginRules$Value", name := "is", desc := "(LOriginRules$Good;)Z" } : Jvm.MethodName) prog_13_method_2_code (2 : Nat) (Option.some Jvm.ClassFile.FieldType.boolean)) ∈ lw_all := lw_g (lw_at lw_m3 187 rfl) rfl
theorem q691 : (Jvm.Cond.methodLink "OriginRules$Value" (21 : Nat) ({ cls := "OriginRules$Good", name := "foreign", desc := "()J" } : Jvm.MethodName)) ∈ lw_all := lw_g (lw_at lw_m3 188 rfl) rfl
theorem q695 : (Jvm.Cond.constantLong "OriginRules$Value" (25 : Nat) (100 : Int64)) ∈ lw_all := lw_g (lw_at lw_m3 192 rfl) rfl
theorem q710 : (Jvm.Cond.castable "OriginRules$Value" "OriginRules$Node") ∈ lw_tbl := lw_at lw_m3 207 rfl
theorem q711 : (Jvm.Cond.selects "OriginRules$Value" ({ cls := "OriginRules$Node", name := "holds", desc := "(LOriginRules$Good;)Z" } : Jvm.MethodName) ({ cls := "OriginRules$Leaf", name := "holds", desc := "(LOriginRules$Good;)Z" } : Jvm.MethodName)) ∈ lw_all := lw_g (lw_at lw_m3 208 rfl) rfl
theorem q712 : (Jvm.Cond.unhidden "OriginRules$Value" "holds" "(LOriginRules$Good;)Z") ∈ lw_tbl := lw_at lw_m3 209 rfl
theorem q1035 : (Jvm.Cond.castable "OriginRules$Value" "java/lang/Object") ∈ lw_tbl := lw_at lw_m5 52 rfl
theorem in_X11 : ∀ w ∈ wsX110, w ∈ lw_all := lw_in wsX110 [371, 369] (by decide +kernel) (by decide +kernel)

/-! OriginRules$Done -/
set_option maxRecDepth 100000
def RX12 : String := "OriginRules$Done"
def TX12 : u_T := fun k => match k with
  | 0 => ("OriginRules$Leaf", "place", "I", true)
  | _ => ("OriginRules$Done", "process", "I", true)
def tyX12 : Nat → FieldType := fun k => match k with
  | 0 => .int
  | _ => .int
abbrev wsX120 : List Cond := u_ws RX12 TX12 2
theorem nmX12 : ∀ a, a < 2 → ∀ b, b < 2 → a ≠ b → (TX12 a).2.1 ≠ (TX12 b).2.1 := by decide +kernel
theorem tyX12_ok : ∀ k, k < 2 → parseFieldDescriptor (TX12 k).2.2.1 = some (tyX12 k) := by decide +kernel
abbrev cX12_init : ByteArray := prog_5_method_1_code
def yX12_init : MethodName := ⟨RX12, "<init>", "(II)V"⟩
theorem dX12_init_0 : decode cX12_init 0 = .ok (.aload_n 0, 1) := by decide +kernel
theorem dX12_init_1 : decode cX12_init 1 = .ok (.iload_n 1, 1) := by decide +kernel
theorem dX12_init_2 : decode cX12_init 2 = .ok (.invokespecial 1, 3) := by decide +kernel
theorem dX12_init_5 : decode cX12_init 5 = .ok (.aload_n 0, 1) := by decide +kernel
theorem dX12_init_6 : decode cX12_init 6 = .ok (.iload_n 2, 1) := by decide +kernel
theorem dX12_init_7 : decode cX12_init 7 = .ok (.putfield 7, 3) := by decide +kernel
theorem dX12_init_10 : decode cX12_init 10 = .ok (.return_, 1) := by decide +kernel
abbrev cX12_is : ByteArray := prog_5_method_2_code
def yX12_is : MethodName := ⟨RX12, "is", "(LOriginRules$Good;)Z"⟩
theorem dX12_is_0 : decode cX12_is 0 = .ok (.aload_n 1, 1) := by decide +kernel
theorem dX12_is_1 : decode cX12_is 1 = .ok (.getfield 13, 3) := by decide +kernel
theorem dX12_is_4 : decode cX12_is 4 = .ok (.aload_n 0, 1) := by decide +kernel
theorem dX12_is_5 : decode cX12_is 5 = .ok (.getfield 7, 3) := by decide +kernel
theorem dX12_is_8 : decode cX12_is 8 = .ok (.ishr, 1) := by decide +kernel
theorem dX12_is_9 : decode cX12_is 9 = .ok (.iconst 1, 1) := by decide +kernel
theorem dX12_is_10 : decode cX12_is 10 = .ok (.iand, 1) := by decide +kernel
theorem dX12_is_11 : decode cX12_is 11 = .ok (.iconst 1, 1) := by decide +kernel
theorem dX12_is_12 : decode cX12_is 12 = .ok (.if_icmp .ne 7, 3) := by decide +kernel
theorem dX12_is_15 : decode cX12_is 15 = .ok (.iconst 1, 1) := by decide +kernel
theorem dX12_is_16 : decode cX12_is 16 = .ok (.goto 4, 3) := by decide +kernel
theorem dX12_is_19 : decode cX12_is 19 = .ok (.iconst 0, 1) := by decide +kernel
theorem dX12_is_20 : decode cX12_is 20 = .ok (.ireturn, 1) := by decide +kernel
theorem q41 : (Jvm.Cond.initialized "OriginRules$Done") ∈ lw_all := lw_g (lw_at lw_m1 18 rfl) rfl
theorem q126 : (Jvm.Cond.fieldLinkNest "OriginRules$Done" (13 : Nat) "OriginRules$Good" "done" "I" "OriginRules") ∈ lw_tbl := lw_at lw_m1 103 rfl
theorem q374 : (Jvm.Cond.instantiable "OriginRules$Done" (2 : Nat)) ∈ lw_all := lw_g (lw_at lw_m2 111 rfl) rfl
theorem q376 : (Jvm.Cond.instanceMethod ({ cls := "OriginRules$Done", name := "<init>", desc := "(II)V" } : Jvm.MethodName)) ∈ lw_all := lw_g (lw_at lw_m2 113 rfl) rfl
theorem q377 : (Jvm.Cond.code ({ cls := "OriginRules$Done", name := "<init>", desc := "(II)V" } : Jvm.MethodName) prog_5_method_1_code (3 : Nat) (Option.none : Option Jvm.ClassFile.FieldType)) ∈ lw_all := lw_g (lw_at lw_m2 114 rfl) rfl
theorem q378 : (Jvm.Cond.methodLink "OriginRules$Done" (1 : Nat) ({ cls := "OriginRules$Leaf", name := "<init>", desc := "(I)V" } : Jvm.MethodName)) ∈ lw_all := lw_g (lw_at lw_m2 115 rfl) rfl
theorem q379 : (Jvm.Cond.fieldLink "OriginRules$Done" (7 : Nat) "OriginRules$Done" "process" "I") ∈ lw_all := lw_g (lw_at lw_m2 116 rfl) rfl
theorem q380 : (Jvm.Cond.laysFinal "OriginRules$Done" "OriginRules$Done" "process" "I") ∈ lw_all := lw_g (lw_at lw_m2 117 rfl) rfl
theorem q381 : (Jvm.Cond.soleField "OriginRules$Done" "process") ∈ lw_all := lw_g (lw_at lw_m2 118 rfl) rfl
theorem q382 : (Jvm.Cond.laysFinal "OriginRules$Done" "OriginRules$Leaf" "place" "I") ∈ lw_all := lw_g (lw_at lw_m2 119 rfl) rfl
theorem q383 : (Jvm.Cond.superclass "OriginRules$Done" "OriginRules$Leaf") ∈ lw_all := lw_g (lw_at lw_m2 120 rfl) rfl
theorem q420 : (Jvm.Cond.selects "OriginRules$Done" ({ cls := "java/lang/Object", name := "getClass", desc := "()Ljava/lang/Class;" } : Jvm.MethodName) ({ cls := "java/lang/Object", name := "getClass", desc := "()Ljava/lang/Class;" } : Jvm.MethodName)) ∈ lw_all := lw_g (lw_at lw_m2 157 rfl) rfl
theorem q685 : (Jvm.Cond.selects "OriginRules$Done" ({ cls := "OriginRules$Leaf", name := "is", desc := "(LOriginRules$Good;)Z" } : Jvm.MethodName) ({ cls := "OriginRules$Done", name := "is", desc := "(LOriginRules$Good;)Z" } : Jvm.MethodName)) ∈ lw_all := lw_g (lw_at lw_m3 182 rfl) rfl
theorem q686 : (Jvm.Cond.instanceMethod ({ cls := "OriginRules$Done", name := "is", desc := "(LOriginRules$Good;)Z" } : Jvm.MethodName)) ∈ lw_all := lw_g (lw_at lw_m3 183 rfl) rfl
theorem q687 : (Jvm.Cond.code ({ cls := "OriginRules$Done", name := "is", desc := "(LOriginRules$Good;)Z" } : Jvm.MethodName) prog_5_method_2_code (2 : Nat) (Option.some Jvm.ClassFile.FieldType.boolean)) ∈ lw_all := lw_g (lw_at lw_m3 184 rfl) rfl
theorem q707 : (Jvm.Cond.castable "OriginRules$Done" "OriginRules$Node") ∈ lw_tbl := lw_at lw_m3 204 rfl
theorem q708 : (Jvm.Cond.selects "OriginRules$Done" ({ cls := "OriginRules$Node", name := "holds", desc := "(LOriginRules$Good;)Z" } : Jvm.MethodName) ({ cls := "OriginRules$Leaf", name := "holds", desc := "(LOriginRules$Good;)Z" } : Jvm.MethodName)) ∈ lw_all := lw_g (lw_at lw_m3 205 rfl) rfl
theorem q709 : (Jvm.Cond.unhidden "OriginRules$Done" "holds" "(LOriginRules$Good;)Z") ∈ lw_tbl := lw_at lw_m3 206 rfl
theorem q1036 : (Jvm.Cond.castable "OriginRules$Done" "java/lang/Object") ∈ lw_tbl := lw_at lw_m5 53 rfl
theorem in_X12 : ∀ w ∈ wsX120, w ∈ lw_all := lw_in wsX120 [382, 380] (by decide +kernel) (by decide +kernel)

/-! OriginRules$Row -/
set_option maxRecDepth 100000
def RX13 : String := "OriginRules$Row"
def TX13 : u_T := fun k => match k with
  | 0 => ("OriginRules$Row", "begin", "I", true)
  | 1 => ("OriginRules$Row", "digits", "I", true)
  | _ => ("OriginRules$Row", "rule", "LOriginRules$Node;", true)
def tyX13 : Nat → FieldType := fun k => match k with
  | 0 => .int
  | 1 => .int
  | _ => .object "OriginRules$Node"
abbrev wsX130 : List Cond := u_ws RX13 TX13 3
theorem nmX13 : ∀ a, a < 3 → ∀ b, b < 3 → a ≠ b → (TX13 a).2.1 ≠ (TX13 b).2.1 := by decide +kernel
theorem tyX13_ok : ∀ k, k < 3 → parseFieldDescriptor (TX13 k).2.2.1 = some (tyX13 k) := by decide +kernel
abbrev cX13_init : ByteArray := prog_12_method_1_code
def yX13_init : MethodName := ⟨RX13, "<init>", "(IILOriginRules$Node;)V"⟩
theorem dX13_init_0 : decode cX13_init 0 = .ok (.aload_n 0, 1) := by decide +kernel
theorem dX13_init_1 : decode cX13_init 1 = .ok (.invokespecial 1, 3) := by decide +kernel
theorem dX13_init_4 : decode cX13_init 4 = .ok (.aload_n 0, 1) := by decide +kernel
theorem dX13_init_5 : decode cX13_init 5 = .ok (.iload_n 1, 1) := by decide +kernel
theorem dX13_init_6 : decode cX13_init 6 = .ok (.putfield 7, 3) := by decide +kernel
theorem dX13_init_9 : decode cX13_init 9 = .ok (.aload_n 0, 1) := by decide +kernel
theorem dX13_init_10 : decode cX13_init 10 = .ok (.iload_n 2, 1) := by decide +kernel
theorem dX13_init_11 : decode cX13_init 11 = .ok (.putfield 13, 3) := by decide +kernel
theorem dX13_init_14 : decode cX13_init 14 = .ok (.aload_n 0, 1) := by decide +kernel
theorem dX13_init_15 : decode cX13_init 15 = .ok (.aload_n 3, 1) := by decide +kernel
theorem dX13_init_16 : decode cX13_init 16 = .ok (.putfield 16, 3) := by decide +kernel
theorem dX13_init_19 : decode cX13_init 19 = .ok (.return_, 1) := by decide +kernel
abbrev cX13_isOf : ByteArray := prog_12_method_2_code
def yX13_isOf : MethodName := ⟨RX13, "isOf", "(I)Z"⟩
theorem dX13_isOf_0 : decode cX13_isOf 0 = .ok (.iload_n 1, 1) := by decide +kernel
theorem dX13_isOf_1 : decode cX13_isOf 1 = .ok (.istore_n 2, 1) := by decide +kernel
theorem dX13_isOf_2 : decode cX13_isOf 2 = .ok (.aload_n 0, 1) := by decide +kernel
theorem dX13_isOf_3 : decode cX13_isOf 3 = .ok (.getfield 13, 3) := by decide +kernel
theorem dX13_isOf_6 : decode cX13_isOf 6 = .ok (.istore_n 3, 1) := by decide +kernel
theorem dX13_isOf_7 : decode cX13_isOf 7 = .ok (.iload_n 3, 1) := by decide +kernel
theorem dX13_isOf_8 : decode cX13_isOf 8 = .ok (.bipush 6, 2) := by decide +kernel
theorem dX13_isOf_10 : decode cX13_isOf 10 = .ok (.if_icmp .ge 14, 3) := by decide +kernel
theorem dX13_isOf_13 : decode cX13_isOf 13 = .ok (.iload_n 2, 1) := by decide +kernel
theorem dX13_isOf_14 : decode cX13_isOf 14 = .ok (.bipush 10, 2) := by decide +kernel
theorem dX13_isOf_16 : decode cX13_isOf 16 = .ok (.idiv, 1) := by decide +kernel
theorem dX13_isOf_17 : decode cX13_isOf 17 = .ok (.istore_n 2, 1) := by decide +kernel
theorem dX13_isOf_18 : decode cX13_isOf 18 = .ok (.iinc 3 1, 3) := by decide +kernel
theorem dX13_isOf_21 : decode cX13_isOf 21 = .ok (.goto (-14), 3) := by decide +kernel
theorem dX13_isOf_24 : decode cX13_isOf 24 = .ok (.iload_n 2, 1) := by decide +kernel
theorem dX13_isOf_25 : decode cX13_isOf 25 = .ok (.aload_n 0, 1) := by decide +kernel
theorem dX13_isOf_26 : decode cX13_isOf 26 = .ok (.getfield 7, 3) := by decide +kernel
theorem dX13_isOf_29 : decode cX13_isOf 29 = .ok (.if_icmp .ne 7, 3) := by decide +kernel
theorem dX13_isOf_32 : decode cX13_isOf 32 = .ok (.iconst 1, 1) := by decide +kernel
theorem dX13_isOf_33 : decode cX13_isOf 33 = .ok (.goto 4, 3) := by decide +kernel
theorem dX13_isOf_36 : decode cX13_isOf 36 = .ok (.iconst 0, 1) := by decide +kernel
theorem dX13_isOf_37 : decode cX13_isOf 37 = .ok (.ireturn, 1) := by decide +kernel
theorem q46 : (Jvm.Cond.initialized "OriginRules$Row") ∈ lw_all := lw_g (lw_at lw_m1 23 rfl) rfl
theorem q425 : (Jvm.Cond.selects "OriginRules$Row" ({ cls := "java/lang/Object", name := "getClass", desc := "()Ljava/lang/Class;" } : Jvm.MethodName) ({ cls := "java/lang/Object", name := "getClass", desc := "()Ljava/lang/Class;" } : Jvm.MethodName)) ∈ lw_all := lw_g (lw_at lw_m2 162 rfl) rfl
theorem q450 : (Jvm.Cond.instantiable "OriginRules$Row" (3 : Nat)) ∈ lw_all := lw_g (lw_at lw_m2 187 rfl) rfl
theorem q452 : (Jvm.Cond.instanceMethod ({ cls := "OriginRules$Row", name := "<init>", desc := "(IILOriginRules$Node;)V" } : Jvm.MethodName)) ∈ lw_all := lw_g (lw_at lw_m2 189 rfl) rfl
theorem q453 : (Jvm.Cond.code ({ cls := "OriginRules$Row", name := "<init>", desc := "(IILOriginRules$Node;)V" } : Jvm.MethodName) prog_12_method_1_code (4 : Nat) (Option.none : Option Jvm.ClassFile.FieldType)) ∈ lw_all := lw_g (lw_at lw_m2 190 rfl) rfl
theorem q454 : (Jvm.Cond.methodLink "OriginRules$Row" (1 : Nat) ({ cls := "java/lang/Object", name := "<init>", desc := "()V" } : Jvm.MethodName)) ∈ lw_all := lw_g (lw_at lw_m2 191 rfl) rfl
theorem q455 : (Jvm.Cond.fieldLink "OriginRules$Row" (7 : Nat) "OriginRules$Row" "begin" "I") ∈ lw_all := lw_g (lw_at lw_m2 192 rfl) rfl
theorem q456 : (Jvm.Cond.fieldLink "OriginRules$Row" (13 : Nat) "OriginRules$Row" "digits" "I") ∈ lw_all := lw_g (lw_at lw_m2 193 rfl) rfl
theorem q458 : (Jvm.Cond.fieldLink "OriginRules$Row" (16 : Nat) "OriginRules$Row" "rule" "LOriginRules$Node;") ∈ lw_all := lw_g (lw_at lw_m2 195 rfl) rfl
theorem q460 : (Jvm.Cond.laysFinal "OriginRules$Row" "OriginRules$Row" "begin" "I") ∈ lw_all := lw_g (lw_at lw_m2 197 rfl) rfl
theorem q461 : (Jvm.Cond.soleField "OriginRules$Row" "begin") ∈ lw_all := lw_g (lw_at lw_m2 198 rfl) rfl
theorem q462 : (Jvm.Cond.laysFinal "OriginRules$Row" "OriginRules$Row" "digits" "I") ∈ lw_all := lw_g (lw_at lw_m2 199 rfl) rfl
theorem q463 : (Jvm.Cond.soleField "OriginRules$Row" "digits") ∈ lw_all := lw_g (lw_at lw_m2 200 rfl) rfl
theorem q464 : (Jvm.Cond.laysFinal "OriginRules$Row" "OriginRules$Row" "rule" "LOriginRules$Node;") ∈ lw_all := lw_g (lw_at lw_m2 201 rfl) rfl
theorem q465 : (Jvm.Cond.soleField "OriginRules$Row" "rule") ∈ lw_all := lw_g (lw_at lw_m2 202 rfl) rfl
theorem q466 : (Jvm.Cond.superclass "OriginRules$Row" "java/lang/Object") ∈ lw_all := lw_g (lw_at lw_m2 203 rfl) rfl
theorem q636 : (Jvm.Cond.instanceMethod ({ cls := "OriginRules$Row", name := "isOf", desc := "(I)Z" } : Jvm.MethodName)) ∈ lw_all := lw_g (lw_at lw_m3 133 rfl) rfl
theorem q637 : (Jvm.Cond.selects "OriginRules$Row" ({ cls := "OriginRules$Row", name := "isOf", desc := "(I)Z" } : Jvm.MethodName) ({ cls := "OriginRules$Row", name := "isOf", desc := "(I)Z" } : Jvm.MethodName)) ∈ lw_all := lw_g (lw_at lw_m3 134 rfl) rfl
theorem q638 : (Jvm.Cond.code ({ cls := "OriginRules$Row", name := "isOf", desc := "(I)Z" } : Jvm.MethodName) prog_12_method_2_code (4 : Nat) (Option.some Jvm.ClassFile.FieldType.boolean)) ∈ lw_all := lw_g (lw_at lw_m3 135 rfl) rfl
theorem q1037 : (Jvm.Cond.castable "OriginRules$Row" "java/lang/Object") ∈ lw_tbl := lw_at lw_m5 54 rfl
theorem in_X13 : ∀ w ∈ wsX130, w ∈ lw_all := lw_in wsX130 [460, 462, 464] (by decide +kernel) (by decide +kernel)

/-! OriginRules$Part -/
set_option maxRecDepth 100000
def RX14 : String := "OriginRules$Part"
def TX14 : u_T := fun k => match k with
  | 0 => ("OriginRules$Part", "code", "I", true)
  | 1 => ("OriginRules$Part", "land", "I", true)
  | _ => ("OriginRules$Part", "cents", "J", true)
def tyX14 : Nat → FieldType := fun k => match k with
  | 0 => .int
  | 1 => .int
  | _ => .long
abbrev wsX140 : List Cond := u_ws RX14 TX14 3
theorem nmX14 : ∀ a, a < 3 → ∀ b, b < 3 → a ≠ b → (TX14 a).2.1 ≠ (TX14 b).2.1 := by decide +kernel
theorem tyX14_ok : ∀ k, k < 3 → parseFieldDescriptor (TX14 k).2.2.1 = some (tyX14 k) := by decide +kernel
abbrev cX14_init : ByteArray := prog_9_method_1_code
def yX14_init : MethodName := ⟨RX14, "<init>", "(IIJ)V"⟩
theorem dX14_init_0 : decode cX14_init 0 = .ok (.aload_n 0, 1) := by decide +kernel
theorem dX14_init_1 : decode cX14_init 1 = .ok (.invokespecial 1, 3) := by decide +kernel
theorem dX14_init_4 : decode cX14_init 4 = .ok (.aload_n 0, 1) := by decide +kernel
theorem dX14_init_5 : decode cX14_init 5 = .ok (.iload_n 1, 1) := by decide +kernel
theorem dX14_init_6 : decode cX14_init 6 = .ok (.putfield 7, 3) := by decide +kernel
theorem dX14_init_9 : decode cX14_init 9 = .ok (.aload_n 0, 1) := by decide +kernel
theorem dX14_init_10 : decode cX14_init 10 = .ok (.iload_n 2, 1) := by decide +kernel
theorem dX14_init_11 : decode cX14_init 11 = .ok (.putfield 13, 3) := by decide +kernel
theorem dX14_init_14 : decode cX14_init 14 = .ok (.aload_n 0, 1) := by decide +kernel
theorem dX14_init_15 : decode cX14_init 15 = .ok (.lload_n 3, 1) := by decide +kernel
theorem dX14_init_16 : decode cX14_init 16 = .ok (.putfield 16, 3) := by decide +kernel
theorem dX14_init_19 : decode cX14_init 19 = .ok (.return_, 1) := by decide +kernel
theorem q49 : (Jvm.Cond.initialized "OriginRules$Part") ∈ lw_all := lw_g (lw_at lw_m1 26 rfl) rfl
theorem q422 : (Jvm.Cond.selects "OriginRules$Part" ({ cls := "java/lang/Object", name := "getClass", desc := "()Ljava/lang/Class;" } : Jvm.MethodName) ({ cls := "java/lang/Object", name := "getClass", desc := "()Ljava/lang/Class;" } : Jvm.MethodName)) ∈ lw_all := lw_g (lw_at lw_m2 159 rfl) rfl
theorem q597 : (Jvm.Cond.instantiable "OriginRules$Part" (3 : Nat)) ∈ lw_all := lw_g (lw_at lw_m3 94 rfl) rfl
theorem q599 : (Jvm.Cond.instanceMethod ({ cls := "OriginRules$Part", name := "<init>", desc := "(IIJ)V" } : Jvm.MethodName)) ∈ lw_all := lw_g (lw_at lw_m3 96 rfl) rfl
theorem q600 : (Jvm.Cond.code ({ cls := "OriginRules$Part", name := "<init>", desc := "(IIJ)V" } : Jvm.MethodName) prog_9_method_1_code (5 : Nat) (Option.none : Option Jvm.ClassFile.FieldType)) ∈ lw_all := lw_g (lw_at lw_m3 97 rfl) rfl
theorem q601 : (Jvm.Cond.methodLink "OriginRules$Part" (1 : Nat) ({ cls := "java/lang/Object", name := "<init>", desc := "()V" } : Jvm.MethodName)) ∈ lw_all := lw_g (lw_at lw_m3 98 rfl) rfl
theorem q602 : (Jvm.Cond.fieldLink "OriginRules$Part" (7 : Nat) "OriginRules$Part" "code" "I") ∈ lw_all := lw_g (lw_at lw_m3 99 rfl) rfl
theorem q604 : (Jvm.Cond.fieldLink "OriginRules$Part" (13 : Nat) "OriginRules$Part" "land" "I") ∈ lw_all := lw_g (lw_at lw_m3 101 rfl) rfl
theorem q606 : (Jvm.Cond.fieldLink "OriginRules$Part" (16 : Nat) "OriginRules$Part" "cents" "J") ∈ lw_all := lw_g (lw_at lw_m3 103 rfl) rfl
theorem q608 : (Jvm.Cond.laysFinal "OriginRules$Part" "OriginRules$Part" "code" "I") ∈ lw_all := lw_g (lw_at lw_m3 105 rfl) rfl
theorem q609 : (Jvm.Cond.soleField "OriginRules$Part" "code") ∈ lw_all := lw_g (lw_at lw_m3 106 rfl) rfl
theorem q610 : (Jvm.Cond.laysFinal "OriginRules$Part" "OriginRules$Part" "land" "I") ∈ lw_all := lw_g (lw_at lw_m3 107 rfl) rfl
theorem q611 : (Jvm.Cond.soleField "OriginRules$Part" "land") ∈ lw_all := lw_g (lw_at lw_m3 108 rfl) rfl
theorem q612 : (Jvm.Cond.laysFinal "OriginRules$Part" "OriginRules$Part" "cents" "J") ∈ lw_all := lw_g (lw_at lw_m3 109 rfl) rfl
theorem q613 : (Jvm.Cond.soleField "OriginRules$Part" "cents") ∈ lw_all := lw_g (lw_at lw_m3 110 rfl) rfl
theorem q614 : (Jvm.Cond.superclass "OriginRules$Part" "java/lang/Object") ∈ lw_all := lw_g (lw_at lw_m3 111 rfl) rfl
theorem q1040 : (Jvm.Cond.castable "OriginRules$Part" "java/lang/Object") ∈ lw_tbl := lw_at lw_m5 57 rfl
theorem in_X14 : ∀ w ∈ wsX140, w ∈ lw_all := lw_in wsX140 [608, 610, 612] (by decide +kernel) (by decide +kernel)

/-! OriginRules$Proof -/
set_option maxRecDepth 100000
def RX15 : String := "OriginRules$Proof"
def TX15 : u_T := fun k => match k with
  | 0 => ("OriginRules$Proof", "kind", "I", true)
  | 1 => ("OriginRules$Proof", "from", "I", true)
  | _ => ("OriginRules$Proof", "to", "I", true)
def tyX15 : Nat → FieldType := fun k => match k with
  | 0 => .int
  | 1 => .int
  | _ => .int
abbrev wsX150 : List Cond := u_ws RX15 TX15 3
theorem nmX15 : ∀ a, a < 3 → ∀ b, b < 3 → a ≠ b → (TX15 a).2.1 ≠ (TX15 b).2.1 := by decide +kernel
theorem tyX15_ok : ∀ k, k < 3 → parseFieldDescriptor (TX15 k).2.2.1 = some (tyX15 k) := by decide +kernel
abbrev cX15_init : ByteArray := prog_10_method_1_code
def yX15_init : MethodName := ⟨RX15, "<init>", "(III)V"⟩
theorem dX15_init_0 : decode cX15_init 0 = .ok (.aload_n 0, 1) := by decide +kernel
theorem dX15_init_1 : decode cX15_init 1 = .ok (.invokespecial 1, 3) := by decide +kernel
theorem dX15_init_4 : decode cX15_init 4 = .ok (.aload_n 0, 1) := by decide +kernel
theorem dX15_init_5 : decode cX15_init 5 = .ok (.iload_n 1, 1) := by decide +kernel
theorem dX15_init_6 : decode cX15_init 6 = .ok (.putfield 7, 3) := by decide +kernel
theorem dX15_init_9 : decode cX15_init 9 = .ok (.aload_n 0, 1) := by decide +kernel
theorem dX15_init_10 : decode cX15_init 10 = .ok (.iload_n 2, 1) := by decide +kernel
theorem dX15_init_11 : decode cX15_init 11 = .ok (.putfield 13, 3) := by decide +kernel
theorem dX15_init_14 : decode cX15_init 14 = .ok (.aload_n 0, 1) := by decide +kernel
theorem dX15_init_15 : decode cX15_init 15 = .ok (.iload_n 3, 1) := by decide +kernel
theorem dX15_init_16 : decode cX15_init 16 = .ok (.putfield 16, 3) := by decide +kernel
theorem dX15_init_19 : decode cX15_init 19 = .ok (.return_, 1) := by decide +kernel
theorem q54 : (Jvm.Cond.initialized "OriginRules$Proof") ∈ lw_all := lw_g (lw_at lw_m1 31 rfl) rfl
theorem q423 : (Jvm.Cond.selects "OriginRules$Proof" ({ cls := "java/lang/Object", name := "getClass", desc := "()Ljava/lang/Class;" } : Jvm.MethodName) ({ cls := "java/lang/Object", name := "getClass", desc := "()Ljava/lang/Class;" } : Jvm.MethodName)) ∈ lw_all := lw_g (lw_at lw_m2 160 rfl) rfl
theorem q767 : (Jvm.Cond.instantiable "OriginRules$Proof" (3 : Nat)) ∈ lw_all := lw_g (lw_at lw_m4 24 rfl) rfl
theorem q769 : (Jvm.Cond.instanceMethod ({ cls := "OriginRules$Proof", name := "<init>", desc := "(III)V" } : Jvm.MethodName)) ∈ lw_all := lw_g (lw_at lw_m4 26 rfl) rfl
theorem q770 : (Jvm.Cond.code ({ cls := "OriginRules$Proof", name := "<init>", desc := "(III)V" } : Jvm.MethodName) prog_10_method_1_code (4 : Nat) (Option.none : Option Jvm.ClassFile.FieldType)) ∈ lw_all := lw_g (lw_at lw_m4 27 rfl) rfl
theorem q771 : (Jvm.Cond.methodLink "OriginRules$Proof" (1 : Nat) ({ cls := "java/lang/Object", name := "<init>", desc := "()V" } : Jvm.MethodName)) ∈ lw_all := lw_g (lw_at lw_m4 28 rfl) rfl
theorem q772 : (Jvm.Cond.fieldLink "OriginRules$Proof" (7 : Nat) "OriginRules$Proof" "kind" "I") ∈ lw_all := lw_g (lw_at lw_m4 29 rfl) rfl
theorem q774 : (Jvm.Cond.fieldLink "OriginRules$Proof" (13 : Nat) "OriginRules$Proof" "from" "I") ∈ lw_all := lw_g (lw_at lw_m4 31 rfl) rfl
theorem q776 : (Jvm.Cond.fieldLink "OriginRules$Proof" (16 : Nat) "OriginRules$Proof" "to" "I") ∈ lw_all := lw_g (lw_at lw_m4 33 rfl) rfl
theorem q778 : (Jvm.Cond.laysFinal "OriginRules$Proof" "OriginRules$Proof" "kind" "I") ∈ lw_all := lw_g (lw_at lw_m4 35 rfl) rfl
theorem q779 : (Jvm.Cond.soleField "OriginRules$Proof" "kind") ∈ lw_all := lw_g (lw_at lw_m4 36 rfl) rfl
theorem q780 : (Jvm.Cond.laysFinal "OriginRules$Proof" "OriginRules$Proof" "from" "I") ∈ lw_all := lw_g (lw_at lw_m4 37 rfl) rfl
theorem q781 : (Jvm.Cond.soleField "OriginRules$Proof" "from") ∈ lw_all := lw_g (lw_at lw_m4 38 rfl) rfl
theorem q782 : (Jvm.Cond.laysFinal "OriginRules$Proof" "OriginRules$Proof" "to" "I") ∈ lw_all := lw_g (lw_at lw_m4 39 rfl) rfl
theorem q783 : (Jvm.Cond.soleField "OriginRules$Proof" "to") ∈ lw_all := lw_g (lw_at lw_m4 40 rfl) rfl
theorem q784 : (Jvm.Cond.superclass "OriginRules$Proof" "java/lang/Object") ∈ lw_all := lw_g (lw_at lw_m4 41 rfl) rfl
theorem q1042 : (Jvm.Cond.castable "OriginRules$Proof" "java/lang/Object") ∈ lw_tbl := lw_at lw_m5 59 rfl
theorem in_X15 : ∀ w ∈ wsX150, w ∈ lw_all := lw_in wsX150 [778, 780, 782] (by decide +kernel) (by decide +kernel)
