/-! OriginRules -/
set_option maxRecDepth 100000
def RX1 : String := "OriginRules"
def TX1 : u_T := fun k => match k with
  | 0 => ("OriginRules", "reader", "LOriginRules$Reader;", true)
  | 1 => ("OriginRules", "rows", "Ljava/util/ArrayList;", false)
  | 2 => ("OriginRules", "good", "LOriginRules$Good;", true)
  | _ => ("OriginRules", "proofs", "Ljava/util/ArrayList;", true)
def tyX1 : Nat → FieldType := fun k => match k with
  | 0 => .object "OriginRules$Reader"
  | 1 => .object "java/util/ArrayList"
  | 2 => .object "OriginRules$Good"
  | _ => .object "java/util/ArrayList"
abbrev wsX10 : List Cond := u_ws RX1 TX1 4
theorem nmX1 : ∀ a, a < 4 → ∀ b, b < 4 → a ≠ b → (TX1 a).2.1 ≠ (TX1 b).2.1 := by decide +kernel
theorem tyX1_ok : ∀ k, k < 4 → parseFieldDescriptor (TX1 k).2.2.1 = some (tyX1 k) := by decide +kernel
abbrev cX1_init : ByteArray := prog_1_method_2_code
def yX1_init : MethodName := ⟨RX1, "<init>", "()V"⟩
theorem dX1_init_0 : decode cX1_init 0 = .ok (.aload_n 0, 1) := by decide +kernel
theorem dX1_init_1 : decode cX1_init 1 = .ok (.invokespecial 1, 3) := by decide +kernel
theorem dX1_init_4 : decode cX1_init 4 = .ok (.aload_n 0, 1) := by decide +kernel
theorem dX1_init_5 : decode cX1_init 5 = .ok (.new 7, 3) := by decide +kernel
theorem dX1_init_8 : decode cX1_init 8 = .ok (.dup, 1) := by decide +kernel
theorem dX1_init_9 : decode cX1_init 9 = .ok (.invokespecial 9, 3) := by decide +kernel
theorem dX1_init_12 : decode cX1_init 12 = .ok (.putfield 10, 3) := by decide +kernel
theorem dX1_init_15 : decode cX1_init 15 = .ok (.aload_n 0, 1) := by decide +kernel
theorem dX1_init_16 : decode cX1_init 16 = .ok (.new 16, 3) := by decide +kernel
theorem dX1_init_19 : decode cX1_init 19 = .ok (.dup, 1) := by decide +kernel
theorem dX1_init_20 : decode cX1_init 20 = .ok (.invokespecial 18, 3) := by decide +kernel
theorem dX1_init_23 : decode cX1_init 23 = .ok (.putfield 19, 3) := by decide +kernel
theorem dX1_init_26 : decode cX1_init 26 = .ok (.aload_n 0, 1) := by decide +kernel
theorem dX1_init_27 : decode cX1_init 27 = .ok (.new 23, 3) := by decide +kernel
theorem dX1_init_30 : decode cX1_init 30 = .ok (.dup, 1) := by decide +kernel
theorem dX1_init_31 : decode cX1_init 31 = .ok (.invokespecial 25, 3) := by decide +kernel
theorem dX1_init_34 : decode cX1_init 34 = .ok (.putfield 26, 3) := by decide +kernel
theorem dX1_init_37 : decode cX1_init 37 = .ok (.aload_n 0, 1) := by decide +kernel
theorem dX1_init_38 : decode cX1_init 38 = .ok (.new 16, 3) := by decide +kernel
theorem dX1_init_41 : decode cX1_init 41 = .ok (.dup, 1) := by decide +kernel
theorem dX1_init_42 : decode cX1_init 42 = .ok (.invokespecial 18, 3) := by decide +kernel
theorem dX1_init_45 : decode cX1_init 45 = .ok (.putfield 30, 3) := by decide +kernel
theorem dX1_init_48 : decode cX1_init 48 = .ok (.return_, 1) := by decide +kernel
abbrev cX1_sign : ByteArray := prog_1_method_10_code
def yX1_sign : MethodName := ⟨RX1, "sign", "(I)Z"⟩
theorem dX1_sign_0 : decode cX1_sign 0 = .ok (.iload_n 1, 1) := by decide +kernel
theorem dX1_sign_1 : decode cX1_sign 1 = .ok (.i2l, 1) := by decide +kernel
theorem dX1_sign_2 : decode cX1_sign 2 = .ok (.ldc2_w 53, 3) := by decide +kernel
theorem dX1_sign_5 : decode cX1_sign 5 = .ok (.ldc2_w 55, 3) := by decide +kernel
theorem dX1_sign_8 : decode cX1_sign 8 = .ok (.invokestatic 41, 3) := by decide +kernel
theorem dX1_sign_11 : decode cX1_sign 11 = .ok (.ifCond .eq 16, 3) := by decide +kernel
theorem dX1_sign_14 : decode cX1_sign 14 = .ok (.aload_n 0, 1) := by decide +kernel
theorem dX1_sign_15 : decode cX1_sign 15 = .ok (.getfield 10, 3) := by decide +kernel
theorem dX1_sign_18 : decode cX1_sign 18 = .ok (.getfield 57, 3) := by decide +kernel
theorem dX1_sign_21 : decode cX1_sign 21 = .ok (.sipush 300, 3) := by decide +kernel
theorem dX1_sign_24 : decode cX1_sign 24 = .ok (.if_icmp .ne 5, 3) := by decide +kernel
theorem dX1_sign_27 : decode cX1_sign 27 = .ok (.iconst 0, 1) := by decide +kernel
theorem dX1_sign_28 : decode cX1_sign 28 = .ok (.ireturn, 1) := by decide +kernel
theorem dX1_sign_29 : decode cX1_sign 29 = .ok (.aload_n 0, 1) := by decide +kernel
theorem dX1_sign_30 : decode cX1_sign 30 = .ok (.getfield 10, 3) := by decide +kernel
theorem dX1_sign_33 : decode cX1_sign 33 = .ok (.getfield 61, 3) := by decide +kernel
theorem dX1_sign_36 : decode cX1_sign 36 = .ok (.aload_n 0, 1) := by decide +kernel
theorem dX1_sign_37 : decode cX1_sign 37 = .ok (.getfield 10, 3) := by decide +kernel
theorem dX1_sign_40 : decode cX1_sign 40 = .ok (.getfield 57, 3) := by decide +kernel
theorem dX1_sign_43 : decode cX1_sign 43 = .ok (.iload_n 1, 1) := by decide +kernel
theorem dX1_sign_44 : decode cX1_sign 44 = .ok (.i2c, 1) := by decide +kernel
theorem dX1_sign_45 : decode cX1_sign 45 = .ok (.castore, 1) := by decide +kernel
theorem dX1_sign_46 : decode cX1_sign 46 = .ok (.aload_n 0, 1) := by decide +kernel
theorem dX1_sign_47 : decode cX1_sign 47 = .ok (.getfield 10, 3) := by decide +kernel
theorem dX1_sign_50 : decode cX1_sign 50 = .ok (.dup, 1) := by decide +kernel
theorem dX1_sign_51 : decode cX1_sign 51 = .ok (.getfield 57, 3) := by decide +kernel
theorem dX1_sign_54 : decode cX1_sign 54 = .ok (.iconst 1, 1) := by decide +kernel
theorem dX1_sign_55 : decode cX1_sign 55 = .ok (.iadd, 1) := by decide +kernel
theorem dX1_sign_56 : decode cX1_sign 56 = .ok (.putfield 57, 3) := by decide +kernel
theorem dX1_sign_59 : decode cX1_sign 59 = .ok (.iconst 1, 1) := by decide +kernel
theorem dX1_sign_60 : decode cX1_sign 60 = .ok (.ireturn, 1) := by decide +kernel
abbrev cX1_in : ByteArray := prog_1_method_1_code
def yX1_in : MethodName := ⟨RX1, "in", "(JJJ)Z"⟩
theorem dX1_in_0 : decode cX1_in 0 = .ok (.lload_n 0, 1) := by decide +kernel
theorem dX1_in_1 : decode cX1_in 1 = .ok (.lload_n 2, 1) := by decide +kernel
theorem dX1_in_2 : decode cX1_in 2 = .ok (.lcmp, 1) := by decide +kernel
theorem dX1_in_3 : decode cX1_in 3 = .ok (.ifCond .lt 14, 3) := by decide +kernel
theorem dX1_in_6 : decode cX1_in 6 = .ok (.lload_n 0, 1) := by decide +kernel
theorem dX1_in_7 : decode cX1_in 7 = .ok (.lload 4, 2) := by decide +kernel
theorem dX1_in_9 : decode cX1_in 9 = .ok (.lcmp, 1) := by decide +kernel
theorem dX1_in_10 : decode cX1_in 10 = .ok (.ifCond .gt 7, 3) := by decide +kernel
theorem dX1_in_13 : decode cX1_in 13 = .ok (.iconst 1, 1) := by decide +kernel
theorem dX1_in_14 : decode cX1_in 14 = .ok (.goto 4, 3) := by decide +kernel
theorem dX1_in_17 : decode cX1_in 17 = .ok (.iconst 0, 1) := by decide +kernel
theorem dX1_in_18 : decode cX1_in 18 = .ok (.ireturn, 1) := by decide +kernel
abbrev cX1_read : ByteArray := prog_1_method_11_code
def yX1_read : MethodName := ⟨RX1, "read", "()I"⟩
theorem dX1_read_0 : decode cX1_read 0 = .ok (.iconst 0, 1) := by decide +kernel
theorem dX1_read_1 : decode cX1_read 1 = .ok (.istore_n 1, 1) := by decide +kernel
theorem dX1_read_2 : decode cX1_read 2 = .ok (.aload_n 0, 1) := by decide +kernel
theorem dX1_read_3 : decode cX1_read 3 = .ok (.aload_n 0, 1) := by decide +kernel
theorem dX1_read_4 : decode cX1_read 4 = .ok (.getfield 10, 3) := by decide +kernel
theorem dX1_read_7 : decode cX1_read 7 = .ok (.invokevirtual 65, 3) := by decide +kernel
theorem dX1_read_10 : decode cX1_read 10 = .ok (.putfield 19, 3) := by decide +kernel
theorem dX1_read_13 : decode cX1_read 13 = .ok (.aload_n 0, 1) := by decide +kernel
theorem dX1_read_14 : decode cX1_read 14 = .ok (.getfield 19, 3) := by decide +kernel
theorem dX1_read_17 : decode cX1_read 17 = .ok (.invokevirtual 68, 3) := by decide +kernel
theorem dX1_read_20 : decode cX1_read 20 = .ok (.istore_n 1, 1) := by decide +kernel
theorem dX1_read_21 : decode cX1_read 21 = .ok (.goto 14, 3) := by decide +kernel
theorem dX1_read_24 : decode cX1_read 24 = .ok (.astore_n 2, 1) := by decide +kernel
theorem dX1_read_25 : decode cX1_read 25 = .ok (.iconst (-1), 1) := by decide +kernel
theorem dX1_read_26 : decode cX1_read 26 = .ok (.aload_n 0, 1) := by decide +kernel
theorem dX1_read_27 : decode cX1_read 27 = .ok (.getfield 10, 3) := by decide +kernel
theorem dX1_read_30 : decode cX1_read 30 = .ok (.getfield 73, 3) := by decide +kernel
theorem dX1_read_33 : decode cX1_read 33 = .ok (.isub, 1) := by decide +kernel
theorem dX1_read_34 : decode cX1_read 34 = .ok (.istore_n 1, 1) := by decide +kernel
theorem dX1_read_35 : decode cX1_read 35 = .ok (.aload_n 0, 1) := by decide +kernel
theorem dX1_read_36 : decode cX1_read 36 = .ok (.getfield 10, 3) := by decide +kernel
theorem dX1_read_39 : decode cX1_read 39 = .ok (.iconst 0, 1) := by decide +kernel
theorem dX1_read_40 : decode cX1_read 40 = .ok (.putfield 57, 3) := by decide +kernel
theorem dX1_read_43 : decode cX1_read 43 = .ok (.iload_n 1, 1) := by decide +kernel
theorem dX1_read_44 : decode cX1_read 44 = .ok (.ireturn, 1) := by decide +kernel
abbrev cX1_clear : ByteArray := prog_1_method_13_code
def yX1_clear : MethodName := ⟨RX1, "clear", "()I"⟩
theorem dX1_clear_0 : decode cX1_clear 0 = .ok (.aload_n 0, 1) := by decide +kernel
theorem dX1_clear_1 : decode cX1_clear 1 = .ok (.getfield 26, 3) := by decide +kernel
theorem dX1_clear_4 : decode cX1_clear 4 = .ok (.getfield 91, 3) := by decide +kernel
theorem dX1_clear_7 : decode cX1_clear 7 = .ok (.invokevirtual 68, 3) := by decide +kernel
theorem dX1_clear_10 : decode cX1_clear 10 = .ok (.istore_n 1, 1) := by decide +kernel
theorem dX1_clear_11 : decode cX1_clear 11 = .ok (.aload_n 0, 1) := by decide +kernel
theorem dX1_clear_12 : decode cX1_clear 12 = .ok (.getfield 26, 3) := by decide +kernel
theorem dX1_clear_15 : decode cX1_clear 15 = .ok (.getfield 91, 3) := by decide +kernel
theorem dX1_clear_18 : decode cX1_clear 18 = .ok (.invokevirtual 106, 3) := by decide +kernel
theorem dX1_clear_21 : decode cX1_clear 21 = .ok (.aload_n 0, 1) := by decide +kernel
theorem dX1_clear_22 : decode cX1_clear 22 = .ok (.getfield 26, 3) := by decide +kernel
theorem dX1_clear_25 : decode cX1_clear 25 = .ok (.iconst 0, 1) := by decide +kernel
theorem dX1_clear_26 : decode cX1_clear 26 = .ok (.putfield 109, 3) := by decide +kernel
theorem dX1_clear_29 : decode cX1_clear 29 = .ok (.iload_n 1, 1) := by decide +kernel
theorem dX1_clear_30 : decode cX1_clear 30 = .ok (.ireturn, 1) := by decide +kernel
abbrev cX1_process : ByteArray := prog_1_method_14_code
def yX1_process : MethodName := ⟨RX1, "process", "(I)Z"⟩
theorem dX1_process_0 : decode cX1_process 0 = .ok (.iload_n 1, 1) := by decide +kernel
theorem dX1_process_1 : decode cX1_process 1 = .ok (.invokestatic 112, 3) := by decide +kernel
theorem dX1_process_4 : decode cX1_process 4 = .ok (.ifCond .eq 18, 3) := by decide +kernel
theorem dX1_process_7 : decode cX1_process 7 = .ok (.aload_n 0, 1) := by decide +kernel
theorem dX1_process_8 : decode cX1_process 8 = .ok (.getfield 26, 3) := by decide +kernel
theorem dX1_process_11 : decode cX1_process 11 = .ok (.getfield 109, 3) := by decide +kernel
theorem dX1_process_14 : decode cX1_process 14 = .ok (.iload_n 1, 1) := by decide +kernel
theorem dX1_process_15 : decode cX1_process 15 = .ok (.ishr, 1) := by decide +kernel
theorem dX1_process_16 : decode cX1_process 16 = .ok (.iconst 1, 1) := by decide +kernel
theorem dX1_process_17 : decode cX1_process 17 = .ok (.iand, 1) := by decide +kernel
theorem dX1_process_18 : decode cX1_process 18 = .ok (.iconst 1, 1) := by decide +kernel
theorem dX1_process_19 : decode cX1_process 19 = .ok (.if_icmp .ne 5, 3) := by decide +kernel
theorem dX1_process_22 : decode cX1_process 22 = .ok (.iconst 0, 1) := by decide +kernel
theorem dX1_process_23 : decode cX1_process 23 = .ok (.ireturn, 1) := by decide +kernel
theorem dX1_process_24 : decode cX1_process 24 = .ok (.aload_n 0, 1) := by decide +kernel
theorem dX1_process_25 : decode cX1_process 25 = .ok (.getfield 26, 3) := by decide +kernel
theorem dX1_process_28 : decode cX1_process 28 = .ok (.dup, 1) := by decide +kernel
theorem dX1_process_29 : decode cX1_process 29 = .ok (.getfield 109, 3) := by decide +kernel
theorem dX1_process_32 : decode cX1_process 32 = .ok (.iconst 1, 1) := by decide +kernel
theorem dX1_process_33 : decode cX1_process 33 = .ok (.iload_n 1, 1) := by decide +kernel
theorem dX1_process_34 : decode cX1_process 34 = .ok (.ishl, 1) := by decide +kernel
theorem dX1_process_35 : decode cX1_process 35 = .ok (.ior, 1) := by decide +kernel
theorem dX1_process_36 : decode cX1_process 36 = .ok (.putfield 109, 3) := by decide +kernel
theorem dX1_process_39 : decode cX1_process 39 = .ok (.iconst 1, 1) := by decide +kernel
theorem dX1_process_40 : decode cX1_process 40 = .ok (.ireturn, 1) := by decide +kernel
abbrev cX1_isProcess : ByteArray := prog_1_method_9_code
def yX1_isProcess : MethodName := ⟨RX1, "isProcess", "(I)Z"⟩
theorem dX1_isProcess_0 : decode cX1_isProcess 0 = .ok (.iload_n 0, 1) := by decide +kernel
theorem dX1_isProcess_1 : decode cX1_isProcess 1 = .ok (.i2l, 1) := by decide +kernel
theorem dX1_isProcess_2 : decode cX1_isProcess 2 = .ok (.lconst 0, 1) := by decide +kernel
theorem dX1_isProcess_3 : decode cX1_isProcess 3 = .ok (.ldc2_w 51, 3) := by decide +kernel
theorem dX1_isProcess_6 : decode cX1_isProcess 6 = .ok (.invokestatic 41, 3) := by decide +kernel
theorem dX1_isProcess_9 : decode cX1_isProcess 9 = .ok (.ireturn, 1) := by decide +kernel
abbrev cX1_bar : ByteArray := prog_1_method_15_code
def yX1_bar : MethodName := ⟨RX1, "bar", "(IZ)Z"⟩
theorem dX1_bar_0 : decode cX1_bar 0 = .ok (.iload_n 1, 1) := by decide +kernel
theorem dX1_bar_1 : decode cX1_bar 1 = .ok (.invokestatic 112, 3) := by decide +kernel
theorem dX1_bar_4 : decode cX1_bar 4 = .ok (.ifCond .eq 27, 3) := by decide +kernel
theorem dX1_bar_7 : decode cX1_bar 7 = .ok (.aload_n 0, 1) := by decide +kernel
theorem dX1_bar_8 : decode cX1_bar 8 = .ok (.getfield 26, 3) := by decide +kernel
theorem dX1_bar_11 : decode cX1_bar 11 = .ok (.getfield 115, 3) := by decide +kernel
theorem dX1_bar_14 : decode cX1_bar 14 = .ok (.iload_n 1, 1) := by decide +kernel
theorem dX1_bar_15 : decode cX1_bar 15 = .ok (.ishr, 1) := by decide +kernel
theorem dX1_bar_16 : decode cX1_bar 16 = .ok (.iconst 1, 1) := by decide +kernel
theorem dX1_bar_17 : decode cX1_bar 17 = .ok (.iand, 1) := by decide +kernel
theorem dX1_bar_18 : decode cX1_bar 18 = .ok (.iconst 1, 1) := by decide +kernel
theorem dX1_bar_19 : decode cX1_bar 19 = .ok (.if_icmp .ne 7, 3) := by decide +kernel
theorem dX1_bar_22 : decode cX1_bar 22 = .ok (.iconst 1, 1) := by decide +kernel
theorem dX1_bar_23 : decode cX1_bar 23 = .ok (.goto 4, 3) := by decide +kernel
theorem dX1_bar_26 : decode cX1_bar 26 = .ok (.iconst 0, 1) := by decide +kernel
theorem dX1_bar_27 : decode cX1_bar 27 = .ok (.iload_n 2, 1) := by decide +kernel
theorem dX1_bar_28 : decode cX1_bar 28 = .ok (.if_icmp .ne 5, 3) := by decide +kernel
theorem dX1_bar_31 : decode cX1_bar 31 = .ok (.iconst 0, 1) := by decide +kernel
theorem dX1_bar_32 : decode cX1_bar 32 = .ok (.ireturn, 1) := by decide +kernel
theorem dX1_bar_33 : decode cX1_bar 33 = .ok (.aload_n 0, 1) := by decide +kernel
theorem dX1_bar_34 : decode cX1_bar 34 = .ok (.getfield 26, 3) := by decide +kernel
theorem dX1_bar_37 : decode cX1_bar 37 = .ok (.dup, 1) := by decide +kernel
theorem dX1_bar_38 : decode cX1_bar 38 = .ok (.getfield 115, 3) := by decide +kernel
theorem dX1_bar_41 : decode cX1_bar 41 = .ok (.iconst 1, 1) := by decide +kernel
theorem dX1_bar_42 : decode cX1_bar 42 = .ok (.iload_n 1, 1) := by decide +kernel
theorem dX1_bar_43 : decode cX1_bar 43 = .ok (.ishl, 1) := by decide +kernel
theorem dX1_bar_44 : decode cX1_bar 44 = .ok (.ixor, 1) := by decide +kernel
theorem dX1_bar_45 : decode cX1_bar 45 = .ok (.putfield 115, 3) := by decide +kernel
theorem dX1_bar_48 : decode cX1_bar 48 = .ok (.iconst 1, 1) := by decide +kernel
theorem dX1_bar_49 : decode cX1_bar 49 = .ok (.ireturn, 1) := by decide +kernel
abbrev cX1_full : ByteArray := prog_1_method_17_code
def yX1_full : MethodName := ⟨RX1, "full", "(Z)Z"⟩
theorem dX1_full_0 : decode cX1_full 0 = .ok (.aload_n 0, 1) := by decide +kernel
theorem dX1_full_1 : decode cX1_full 1 = .ok (.getfield 26, 3) := by decide +kernel
theorem dX1_full_4 : decode cX1_full 4 = .ok (.getfield 125, 3) := by decide +kernel
theorem dX1_full_7 : decode cX1_full 7 = .ok (.iload_n 1, 1) := by decide +kernel
theorem dX1_full_8 : decode cX1_full 8 = .ok (.if_icmp .ne 5, 3) := by decide +kernel
theorem dX1_full_11 : decode cX1_full 11 = .ok (.iconst 0, 1) := by decide +kernel
theorem dX1_full_12 : decode cX1_full 12 = .ok (.ireturn, 1) := by decide +kernel
theorem dX1_full_13 : decode cX1_full 13 = .ok (.aload_n 0, 1) := by decide +kernel
theorem dX1_full_14 : decode cX1_full 14 = .ok (.getfield 26, 3) := by decide +kernel
theorem dX1_full_17 : decode cX1_full 17 = .ok (.iload_n 1, 1) := by decide +kernel
theorem dX1_full_18 : decode cX1_full 18 = .ok (.putfield 125, 3) := by decide +kernel
theorem dX1_full_21 : decode cX1_full 21 = .ok (.iconst 1, 1) := by decide +kernel
theorem dX1_full_22 : decode cX1_full 22 = .ok (.ireturn, 1) := by decide +kernel
abbrev cX1_tolerance : ByteArray := prog_1_method_18_code
def yX1_tolerance : MethodName := ⟨RX1, "tolerance", "(II)Z"⟩
theorem dX1_tolerance_0 : decode cX1_tolerance 0 = .ok (.iload_n 2, 1) := by decide +kernel
theorem dX1_tolerance_1 : decode cX1_tolerance 1 = .ok (.i2l, 1) := by decide +kernel
theorem dX1_tolerance_2 : decode cX1_tolerance 2 = .ok (.lconst 1, 1) := by decide +kernel
theorem dX1_tolerance_3 : decode cX1_tolerance 3 = .ok (.ldc2_w 129, 3) := by decide +kernel
theorem dX1_tolerance_6 : decode cX1_tolerance 6 = .ok (.invokestatic 41, 3) := by decide +kernel
theorem dX1_tolerance_9 : decode cX1_tolerance 9 = .ok (.ifCond .eq 14, 3) := by decide +kernel
theorem dX1_tolerance_12 : decode cX1_tolerance 12 = .ok (.iload_n 1, 1) := by decide +kernel
theorem dX1_tolerance_13 : decode cX1_tolerance 13 = .ok (.i2l, 1) := by decide +kernel
theorem dX1_tolerance_14 : decode cX1_tolerance 14 = .ok (.lconst 0, 1) := by decide +kernel
theorem dX1_tolerance_15 : decode cX1_tolerance 15 = .ok (.iload_n 2, 1) := by decide +kernel
theorem dX1_tolerance_16 : decode cX1_tolerance 16 = .ok (.i2l, 1) := by decide +kernel
theorem dX1_tolerance_17 : decode cX1_tolerance 17 = .ok (.invokestatic 41, 3) := by decide +kernel
theorem dX1_tolerance_20 : decode cX1_tolerance 20 = .ok (.ifCond .ne 5, 3) := by decide +kernel
theorem dX1_tolerance_23 : decode cX1_tolerance 23 = .ok (.iconst 0, 1) := by decide +kernel
theorem dX1_tolerance_24 : decode cX1_tolerance 24 = .ok (.ireturn, 1) := by decide +kernel
theorem dX1_tolerance_25 : decode cX1_tolerance 25 = .ok (.aload_n 0, 1) := by decide +kernel
theorem dX1_tolerance_26 : decode cX1_tolerance 26 = .ok (.getfield 26, 3) := by decide +kernel
theorem dX1_tolerance_29 : decode cX1_tolerance 29 = .ok (.iload_n 1, 1) := by decide +kernel
theorem dX1_tolerance_30 : decode cX1_tolerance 30 = .ok (.putfield 131, 3) := by decide +kernel
theorem dX1_tolerance_33 : decode cX1_tolerance 33 = .ok (.aload_n 0, 1) := by decide +kernel
theorem dX1_tolerance_34 : decode cX1_tolerance 34 = .ok (.getfield 26, 3) := by decide +kernel
theorem dX1_tolerance_37 : decode cX1_tolerance 37 = .ok (.iload_n 2, 1) := by decide +kernel
theorem dX1_tolerance_38 : decode cX1_tolerance 38 = .ok (.putfield 134, 3) := by decide +kernel
theorem dX1_tolerance_41 : decode cX1_tolerance 41 = .ok (.iconst 1, 1) := by decide +kernel
theorem dX1_tolerance_42 : decode cX1_tolerance 42 = .ok (.ireturn, 1) := by decide +kernel
abbrev cX1_why : ByteArray := prog_1_method_21_code
def yX1_why : MethodName := ⟨RX1, "why", "(I)I"⟩
theorem dX1_why_0 : decode cX1_why 0 = .ok (.iload_n 1, 1) := by decide +kernel
theorem dX1_why_1 : decode cX1_why 1 = .ok (.i2l, 1) := by decide +kernel
theorem dX1_why_2 : decode cX1_why 2 = .ok (.lconst 0, 1) := by decide +kernel
theorem dX1_why_3 : decode cX1_why 3 = .ok (.aload_n 0, 1) := by decide +kernel
theorem dX1_why_4 : decode cX1_why 4 = .ok (.getfield 26, 3) := by decide +kernel
theorem dX1_why_7 : decode cX1_why 7 = .ok (.getfield 160, 3) := by decide +kernel
theorem dX1_why_10 : decode cX1_why 10 = .ok (.iconst 1, 1) := by decide +kernel
theorem dX1_why_11 : decode cX1_why 11 = .ok (.isub, 1) := by decide +kernel
theorem dX1_why_12 : decode cX1_why 12 = .ok (.i2l, 1) := by decide +kernel
theorem dX1_why_13 : decode cX1_why 13 = .ok (.invokestatic 41, 3) := by decide +kernel
theorem dX1_why_16 : decode cX1_why 16 = .ok (.ifCond .eq 15, 3) := by decide +kernel
theorem dX1_why_19 : decode cX1_why 19 = .ok (.aload_n 0, 1) := by decide +kernel
theorem dX1_why_20 : decode cX1_why 20 = .ok (.getfield 26, 3) := by decide +kernel
theorem dX1_why_23 : decode cX1_why 23 = .ok (.getfield 171, 3) := by decide +kernel
theorem dX1_why_26 : decode cX1_why 26 = .ok (.iload_n 1, 1) := by decide +kernel
theorem dX1_why_27 : decode cX1_why 27 = .ok (.iaload, 1) := by decide +kernel
theorem dX1_why_28 : decode cX1_why 28 = .ok (.goto 4, 3) := by decide +kernel
theorem dX1_why_31 : decode cX1_why 31 = .ok (.iconst (-1), 1) := by decide +kernel
theorem dX1_why_32 : decode cX1_why 32 = .ok (.ireturn, 1) := by decide +kernel
abbrev cX1_count : ByteArray := prog_1_method_28_code
def yX1_count : MethodName := ⟨RX1, "count", "(I)I"⟩
theorem dX1_count_0 : decode cX1_count 0 = .ok (.iload_n 1, 1) := by decide +kernel
theorem dX1_count_1 : decode cX1_count 1 = .ok (.tableswitch 111 0 7 #[47, 55, 63, 74, 79, 87, 95, 103], 47) := by decide +kernel
theorem dX1_count_48 : decode cX1_count 48 = .ok (.aload_n 0, 1) := by decide +kernel
theorem dX1_count_49 : decode cX1_count 49 = .ok (.getfield 10, 3) := by decide +kernel
theorem dX1_count_52 : decode cX1_count 52 = .ok (.getfield 57, 3) := by decide +kernel
theorem dX1_count_55 : decode cX1_count 55 = .ok (.ireturn, 1) := by decide +kernel
theorem dX1_count_56 : decode cX1_count 56 = .ok (.aload_n 0, 1) := by decide +kernel
theorem dX1_count_57 : decode cX1_count 57 = .ok (.getfield 19, 3) := by decide +kernel
theorem dX1_count_60 : decode cX1_count 60 = .ok (.invokevirtual 68, 3) := by decide +kernel
theorem dX1_count_63 : decode cX1_count 63 = .ok (.ireturn, 1) := by decide +kernel
theorem dX1_count_64 : decode cX1_count 64 = .ok (.aload_n 0, 1) := by decide +kernel
theorem dX1_count_65 : decode cX1_count 65 = .ok (.getfield 26, 3) := by decide +kernel
theorem dX1_count_68 : decode cX1_count 68 = .ok (.getfield 91, 3) := by decide +kernel
theorem dX1_count_71 : decode cX1_count 71 = .ok (.invokevirtual 68, 3) := by decide +kernel
theorem dX1_count_74 : decode cX1_count 74 = .ok (.ireturn, 1) := by decide +kernel
theorem dX1_count_75 : decode cX1_count 75 = .ok (.aload_n 0, 1) := by decide +kernel
theorem dX1_count_76 : decode cX1_count 76 = .ok (.invokevirtual 209, 3) := by decide +kernel
theorem dX1_count_79 : decode cX1_count 79 = .ok (.ireturn, 1) := by decide +kernel
theorem dX1_count_80 : decode cX1_count 80 = .ok (.aload_n 0, 1) := by decide +kernel
theorem dX1_count_81 : decode cX1_count 81 = .ok (.getfield 26, 3) := by decide +kernel
theorem dX1_count_84 : decode cX1_count 84 = .ok (.getfield 109, 3) := by decide +kernel
theorem dX1_count_87 : decode cX1_count 87 = .ok (.ireturn, 1) := by decide +kernel
theorem dX1_count_88 : decode cX1_count 88 = .ok (.aload_n 0, 1) := by decide +kernel
theorem dX1_count_89 : decode cX1_count 89 = .ok (.getfield 26, 3) := by decide +kernel
theorem dX1_count_92 : decode cX1_count 92 = .ok (.getfield 122, 3) := by decide +kernel
theorem dX1_count_95 : decode cX1_count 95 = .ok (.ireturn, 1) := by decide +kernel
theorem dX1_count_96 : decode cX1_count 96 = .ok (.aload_n 0, 1) := by decide +kernel
theorem dX1_count_97 : decode cX1_count 97 = .ok (.getfield 30, 3) := by decide +kernel
theorem dX1_count_100 : decode cX1_count 100 = .ok (.invokevirtual 68, 3) := by decide +kernel
theorem dX1_count_103 : decode cX1_count 103 = .ok (.ireturn, 1) := by decide +kernel
theorem dX1_count_104 : decode cX1_count 104 = .ok (.aload_n 0, 1) := by decide +kernel
theorem dX1_count_105 : decode cX1_count 105 = .ok (.getfield 26, 3) := by decide +kernel
theorem dX1_count_108 : decode cX1_count 108 = .ok (.getfield 160, 3) := by decide +kernel
theorem dX1_count_111 : decode cX1_count 111 = .ok (.ireturn, 1) := by decide +kernel
theorem dX1_count_112 : decode cX1_count 112 = .ok (.iconst (-1), 1) := by decide +kernel
theorem dX1_count_113 : decode cX1_count 113 = .ok (.ireturn, 1) := by decide +kernel
abbrev cX1_foreignParts : ByteArray := prog_1_method_27_code
def yX1_foreignParts : MethodName := ⟨RX1, "foreignParts", "()I"⟩
theorem dX1_foreignParts_0 : decode cX1_foreignParts 0 = .ok (.iconst 0, 1) := by decide +kernel
theorem dX1_foreignParts_1 : decode cX1_foreignParts 1 = .ok (.istore_n 1, 1) := by decide +kernel
theorem dX1_foreignParts_2 : decode cX1_foreignParts 2 = .ok (.iconst 0, 1) := by decide +kernel
theorem dX1_foreignParts_3 : decode cX1_foreignParts 3 = .ok (.istore_n 2, 1) := by decide +kernel
theorem dX1_foreignParts_4 : decode cX1_foreignParts 4 = .ok (.iload_n 2, 1) := by decide +kernel
theorem dX1_foreignParts_5 : decode cX1_foreignParts 5 = .ok (.aload_n 0, 1) := by decide +kernel
theorem dX1_foreignParts_6 : decode cX1_foreignParts 6 = .ok (.getfield 26, 3) := by decide +kernel
theorem dX1_foreignParts_9 : decode cX1_foreignParts 9 = .ok (.getfield 91, 3) := by decide +kernel
theorem dX1_foreignParts_12 : decode cX1_foreignParts 12 = .ok (.invokevirtual 68, 3) := by decide +kernel
theorem dX1_foreignParts_15 : decode cX1_foreignParts 15 = .ok (.if_icmp .ge 41, 3) := by decide +kernel
theorem dX1_foreignParts_18 : decode cX1_foreignParts 18 = .ok (.iload_n 1, 1) := by decide +kernel
theorem dX1_foreignParts_19 : decode cX1_foreignParts 19 = .ok (.aload_n 0, 1) := by decide +kernel
theorem dX1_foreignParts_20 : decode cX1_foreignParts 20 = .ok (.getfield 26, 3) := by decide +kernel
theorem dX1_foreignParts_23 : decode cX1_foreignParts 23 = .ok (.aload_n 0, 1) := by decide +kernel
theorem dX1_foreignParts_24 : decode cX1_foreignParts 24 = .ok (.getfield 26, 3) := by decide +kernel
theorem dX1_foreignParts_27 : decode cX1_foreignParts 27 = .ok (.getfield 91, 3) := by decide +kernel
theorem dX1_foreignParts_30 : decode cX1_foreignParts 30 = .ok (.iload_n 2, 1) := by decide +kernel
theorem dX1_foreignParts_31 : decode cX1_foreignParts 31 = .ok (.invokevirtual 137, 3) := by decide +kernel
theorem dX1_foreignParts_34 : decode cX1_foreignParts 34 = .ok (.checkcast 97, 3) := by decide +kernel
theorem dX1_foreignParts_37 : decode cX1_foreignParts 37 = .ok (.invokevirtual 205, 3) := by decide +kernel
theorem dX1_foreignParts_40 : decode cX1_foreignParts 40 = .ok (.ifCond .eq 7, 3) := by decide +kernel
theorem dX1_foreignParts_43 : decode cX1_foreignParts 43 = .ok (.iconst 1, 1) := by decide +kernel
theorem dX1_foreignParts_44 : decode cX1_foreignParts 44 = .ok (.goto 4, 3) := by decide +kernel
theorem dX1_foreignParts_47 : decode cX1_foreignParts 47 = .ok (.iconst 0, 1) := by decide +kernel
theorem dX1_foreignParts_48 : decode cX1_foreignParts 48 = .ok (.iadd, 1) := by decide +kernel
theorem dX1_foreignParts_49 : decode cX1_foreignParts 49 = .ok (.istore_n 1, 1) := by decide +kernel
theorem dX1_foreignParts_50 : decode cX1_foreignParts 50 = .ok (.iinc 2 1, 3) := by decide +kernel
theorem dX1_foreignParts_53 : decode cX1_foreignParts 53 = .ok (.goto (-49), 3) := by decide +kernel
theorem dX1_foreignParts_56 : decode cX1_foreignParts 56 = .ok (.iload_n 1, 1) := by decide +kernel
theorem dX1_foreignParts_57 : decode cX1_foreignParts 57 = .ok (.ireturn, 1) := by decide +kernel
abbrev cX1_part : ByteArray := prog_1_method_12_code
def yX1_part : MethodName := ⟨RX1, "part", "(IIJ)I"⟩
theorem dX1_part_0 : decode cX1_part 0 = .ok (.iload_n 1, 1) := by decide +kernel
theorem dX1_part_1 : decode cX1_part 1 = .ok (.invokestatic 76, 3) := by decide +kernel
theorem dX1_part_4 : decode cX1_part 4 = .ok (.ifCond .eq 21, 3) := by decide +kernel
theorem dX1_part_7 : decode cX1_part 7 = .ok (.iload_n 2, 1) := by decide +kernel
theorem dX1_part_8 : decode cX1_part 8 = .ok (.invokestatic 80, 3) := by decide +kernel
theorem dX1_part_11 : decode cX1_part 11 = .ok (.ifCond .eq 14, 3) := by decide +kernel
theorem dX1_part_14 : decode cX1_part 14 = .ok (.lload_n 3, 1) := by decide +kernel
theorem dX1_part_15 : decode cX1_part 15 = .ok (.invokestatic 83, 3) := by decide +kernel
theorem dX1_part_18 : decode cX1_part 18 = .ok (.ifCond .eq 7, 3) := by decide +kernel
theorem dX1_part_21 : decode cX1_part 21 = .ok (.iconst 1, 1) := by decide +kernel
theorem dX1_part_22 : decode cX1_part 22 = .ok (.goto 4, 3) := by decide +kernel
theorem dX1_part_25 : decode cX1_part 25 = .ok (.iconst 0, 1) := by decide +kernel
theorem dX1_part_26 : decode cX1_part 26 = .ok (.invokestatic 87, 3) := by decide +kernel
theorem dX1_part_29 : decode cX1_part 29 = .ok (.aload_n 0, 1) := by decide +kernel
theorem dX1_part_30 : decode cX1_part 30 = .ok (.getfield 26, 3) := by decide +kernel
theorem dX1_part_33 : decode cX1_part 33 = .ok (.getfield 91, 3) := by decide +kernel
theorem dX1_part_36 : decode cX1_part 36 = .ok (.invokevirtual 68, 3) := by decide +kernel
theorem dX1_part_39 : decode cX1_part 39 = .ok (.bipush 12, 2) := by decide +kernel
theorem dX1_part_41 : decode cX1_part 41 = .ok (.if_icmp .ge 7, 3) := by decide +kernel
theorem dX1_part_44 : decode cX1_part 44 = .ok (.iconst 1, 1) := by decide +kernel
theorem dX1_part_45 : decode cX1_part 45 = .ok (.goto 4, 3) := by decide +kernel
theorem dX1_part_48 : decode cX1_part 48 = .ok (.iconst 0, 1) := by decide +kernel
theorem dX1_part_49 : decode cX1_part 49 = .ok (.invokestatic 94, 3) := by decide +kernel
theorem dX1_part_52 : decode cX1_part 52 = .ok (.aload_n 0, 1) := by decide +kernel
theorem dX1_part_53 : decode cX1_part 53 = .ok (.getfield 26, 3) := by decide +kernel
theorem dX1_part_56 : decode cX1_part 56 = .ok (.getfield 91, 3) := by decide +kernel
theorem dX1_part_59 : decode cX1_part 59 = .ok (.new 97, 3) := by decide +kernel
theorem dX1_part_62 : decode cX1_part 62 = .ok (.dup, 1) := by decide +kernel
theorem dX1_part_63 : decode cX1_part 63 = .ok (.iload_n 1, 1) := by decide +kernel
theorem dX1_part_64 : decode cX1_part 64 = .ok (.iload_n 2, 1) := by decide +kernel
theorem dX1_part_65 : decode cX1_part 65 = .ok (.lload_n 3, 1) := by decide +kernel
theorem dX1_part_66 : decode cX1_part 66 = .ok (.invokespecial 99, 3) := by decide +kernel
theorem dX1_part_69 : decode cX1_part 69 = .ok (.invokevirtual 102, 3) := by decide +kernel
theorem dX1_part_72 : decode cX1_part 72 = .ok (.pop, 1) := by decide +kernel
theorem dX1_part_73 : decode cX1_part 73 = .ok (.aload_n 0, 1) := by decide +kernel
theorem dX1_part_74 : decode cX1_part 74 = .ok (.getfield 26, 3) := by decide +kernel
theorem dX1_part_77 : decode cX1_part 77 = .ok (.getfield 91, 3) := by decide +kernel
theorem dX1_part_80 : decode cX1_part 80 = .ok (.invokevirtual 68, 3) := by decide +kernel
theorem dX1_part_83 : decode cX1_part 83 = .ok (.ireturn, 1) := by decide +kernel
abbrev cX1_isCode : ByteArray := prog_1_method_6_code
def yX1_isCode : MethodName := ⟨RX1, "isCode", "(I)Z"⟩
theorem dX1_isCode_0 : decode cX1_isCode 0 = .ok (.iload_n 0, 1) := by decide +kernel
theorem dX1_isCode_1 : decode cX1_isCode 1 = .ok (.i2l, 1) := by decide +kernel
theorem dX1_isCode_2 : decode cX1_isCode 2 = .ok (.lconst 1, 1) := by decide +kernel
theorem dX1_isCode_3 : decode cX1_isCode 3 = .ok (.ldc2_w 45, 3) := by decide +kernel
theorem dX1_isCode_6 : decode cX1_isCode 6 = .ok (.invokestatic 41, 3) := by decide +kernel
theorem dX1_isCode_9 : decode cX1_isCode 9 = .ok (.ireturn, 1) := by decide +kernel
abbrev cX1_isLand : ByteArray := prog_1_method_5_code
def yX1_isLand : MethodName := ⟨RX1, "isLand", "(I)Z"⟩
theorem dX1_isLand_0 : decode cX1_isLand 0 = .ok (.iload_n 0, 1) := by decide +kernel
theorem dX1_isLand_1 : decode cX1_isLand 1 = .ok (.i2l, 1) := by decide +kernel
theorem dX1_isLand_2 : decode cX1_isLand 2 = .ok (.lconst 0, 1) := by decide +kernel
theorem dX1_isLand_3 : decode cX1_isLand 3 = .ok (.ldc2_w 39, 3) := by decide +kernel
theorem dX1_isLand_6 : decode cX1_isLand 6 = .ok (.invokestatic 41, 3) := by decide +kernel
theorem dX1_isLand_9 : decode cX1_isLand 9 = .ok (.ireturn, 1) := by decide +kernel
abbrev cX1_isSum : ByteArray := prog_1_method_7_code
def yX1_isSum : MethodName := ⟨RX1, "isSum", "(J)Z"⟩
theorem dX1_isSum_0 : decode cX1_isSum 0 = .ok (.lload_n 0, 1) := by decide +kernel
theorem dX1_isSum_1 : decode cX1_isSum 1 = .ok (.lconst 0, 1) := by decide +kernel
theorem dX1_isSum_2 : decode cX1_isSum 2 = .ok (.ldc2_w 47, 3) := by decide +kernel
theorem dX1_isSum_5 : decode cX1_isSum 5 = .ok (.invokestatic 41, 3) := by decide +kernel
theorem dX1_isSum_8 : decode cX1_isSum 8 = .ok (.ireturn, 1) := by decide +kernel
abbrev cX1_allow : ByteArray := prog_1_method_3_code
def yX1_allow : MethodName := ⟨RX1, "allow", "(Z)V"⟩
theorem dX1_allow_0 : decode cX1_allow 0 = .ok (.iload_n 0, 1) := by decide +kernel
theorem dX1_allow_1 : decode cX1_allow 1 = .ok (.ifCond .ne 11, 3) := by decide +kernel
theorem dX1_allow_4 : decode cX1_allow 4 = .ok (.new 33, 3) := by decide +kernel
theorem dX1_allow_7 : decode cX1_allow 7 = .ok (.dup, 1) := by decide +kernel
theorem dX1_allow_8 : decode cX1_allow 8 = .ok (.invokespecial 35, 3) := by decide +kernel
theorem dX1_allow_11 : decode cX1_allow 11 = .ok (.athrow, 1) := by decide +kernel
theorem dX1_allow_12 : decode cX1_allow 12 = .ok (.return_, 1) := by decide +kernel
abbrev cX1_room : ByteArray := prog_1_method_4_code
def yX1_room : MethodName := ⟨RX1, "room", "(Z)V"⟩
theorem dX1_room_0 : decode cX1_room 0 = .ok (.iload_n 0, 1) := by decide +kernel
theorem dX1_room_1 : decode cX1_room 1 = .ok (.ifCond .ne 11, 3) := by decide +kernel
theorem dX1_room_4 : decode cX1_room 4 = .ok (.new 36, 3) := by decide +kernel
theorem dX1_room_7 : decode cX1_room 7 = .ok (.dup, 1) := by decide +kernel
theorem dX1_room_8 : decode cX1_room 8 = .ok (.invokespecial 38, 3) := by decide +kernel
theorem dX1_room_11 : decode cX1_room 11 = .ok (.athrow, 1) := by decide +kernel
theorem dX1_room_12 : decode cX1_room 12 = .ok (.return_, 1) := by decide +kernel
abbrev cX1_join : ByteArray := prog_1_method_16_code
def yX1_join : MethodName := ⟨RX1, "join", "(II)I"⟩
theorem dX1_join_0 : decode cX1_join 0 = .ok (.iload_n 1, 1) := by decide +kernel
theorem dX1_join_1 : decode cX1_join 1 = .ok (.invokestatic 80, 3) := by decide +kernel
theorem dX1_join_4 : decode cX1_join 4 = .ok (.ifCond .eq 19, 3) := by decide +kernel
theorem dX1_join_7 : decode cX1_join 7 = .ok (.iload_n 2, 1) := by decide +kernel
theorem dX1_join_8 : decode cX1_join 8 = .ok (.invokestatic 80, 3) := by decide +kernel
theorem dX1_join_11 : decode cX1_join 11 = .ok (.ifCond .eq 12, 3) := by decide +kernel
theorem dX1_join_14 : decode cX1_join 14 = .ok (.iload_n 1, 1) := by decide +kernel
theorem dX1_join_15 : decode cX1_join 15 = .ok (.iload_n 2, 1) := by decide +kernel
theorem dX1_join_16 : decode cX1_join 16 = .ok (.if_icmp .eq 7, 3) := by decide +kernel
theorem dX1_join_19 : decode cX1_join 19 = .ok (.iconst 1, 1) := by decide +kernel
theorem dX1_join_20 : decode cX1_join 20 = .ok (.goto 4, 3) := by decide +kernel
theorem dX1_join_23 : decode cX1_join 23 = .ok (.iconst 0, 1) := by decide +kernel
theorem dX1_join_24 : decode cX1_join 24 = .ok (.invokestatic 87, 3) := by decide +kernel
theorem dX1_join_27 : decode cX1_join 27 = .ok (.aload_n 0, 1) := by decide +kernel
theorem dX1_join_28 : decode cX1_join 28 = .ok (.getfield 26, 3) := by decide +kernel
theorem dX1_join_31 : decode cX1_join 31 = .ok (.getfield 118, 3) := by decide +kernel
theorem dX1_join_34 : decode cX1_join 34 = .ok (.bipush 10, 2) := by decide +kernel
theorem dX1_join_36 : decode cX1_join 36 = .ok (.iload_n 1, 1) := by decide +kernel
theorem dX1_join_37 : decode cX1_join 37 = .ok (.imul, 1) := by decide +kernel
theorem dX1_join_38 : decode cX1_join 38 = .ok (.iload_n 2, 1) := by decide +kernel
theorem dX1_join_39 : decode cX1_join 39 = .ok (.iadd, 1) := by decide +kernel
theorem dX1_join_40 : decode cX1_join 40 = .ok (.baload, 1) := by decide +kernel
theorem dX1_join_41 : decode cX1_join 41 = .ok (.ifCond .eq 5, 3) := by decide +kernel
theorem dX1_join_44 : decode cX1_join 44 = .ok (.iconst 0, 1) := by decide +kernel
theorem dX1_join_45 : decode cX1_join 45 = .ok (.ireturn, 1) := by decide +kernel
theorem dX1_join_46 : decode cX1_join 46 = .ok (.aload_n 0, 1) := by decide +kernel
theorem dX1_join_47 : decode cX1_join 47 = .ok (.getfield 26, 3) := by decide +kernel
theorem dX1_join_50 : decode cX1_join 50 = .ok (.getfield 118, 3) := by decide +kernel
theorem dX1_join_53 : decode cX1_join 53 = .ok (.bipush 10, 2) := by decide +kernel
theorem dX1_join_55 : decode cX1_join 55 = .ok (.iload_n 1, 1) := by decide +kernel
theorem dX1_join_56 : decode cX1_join 56 = .ok (.imul, 1) := by decide +kernel
theorem dX1_join_57 : decode cX1_join 57 = .ok (.iload_n 2, 1) := by decide +kernel
theorem dX1_join_58 : decode cX1_join 58 = .ok (.iadd, 1) := by decide +kernel
theorem dX1_join_59 : decode cX1_join 59 = .ok (.iconst 1, 1) := by decide +kernel
theorem dX1_join_60 : decode cX1_join 60 = .ok (.bastore, 1) := by decide +kernel
theorem dX1_join_61 : decode cX1_join 61 = .ok (.aload_n 0, 1) := by decide +kernel
theorem dX1_join_62 : decode cX1_join 62 = .ok (.getfield 26, 3) := by decide +kernel
theorem dX1_join_65 : decode cX1_join 65 = .ok (.getfield 118, 3) := by decide +kernel
theorem dX1_join_68 : decode cX1_join 68 = .ok (.bipush 10, 2) := by decide +kernel
theorem dX1_join_70 : decode cX1_join 70 = .ok (.iload_n 2, 1) := by decide +kernel
theorem dX1_join_71 : decode cX1_join 71 = .ok (.imul, 1) := by decide +kernel
theorem dX1_join_72 : decode cX1_join 72 = .ok (.iload_n 1, 1) := by decide +kernel
theorem dX1_join_73 : decode cX1_join 73 = .ok (.iadd, 1) := by decide +kernel
theorem dX1_join_74 : decode cX1_join 74 = .ok (.iconst 1, 1) := by decide +kernel
theorem dX1_join_75 : decode cX1_join 75 = .ok (.bastore, 1) := by decide +kernel
theorem dX1_join_76 : decode cX1_join 76 = .ok (.aload_n 0, 1) := by decide +kernel
theorem dX1_join_77 : decode cX1_join 77 = .ok (.getfield 26, 3) := by decide +kernel
theorem dX1_join_80 : decode cX1_join 80 = .ok (.dup, 1) := by decide +kernel
theorem dX1_join_81 : decode cX1_join 81 = .ok (.getfield 122, 3) := by decide +kernel
theorem dX1_join_84 : decode cX1_join 84 = .ok (.iconst 1, 1) := by decide +kernel
theorem dX1_join_85 : decode cX1_join 85 = .ok (.iadd, 1) := by decide +kernel
theorem dX1_join_86 : decode cX1_join 86 = .ok (.putfield 122, 3) := by decide +kernel
theorem dX1_join_89 : decode cX1_join 89 = .ok (.iconst 1, 1) := by decide +kernel
theorem dX1_join_90 : decode cX1_join 90 = .ok (.ireturn, 1) := by decide +kernel
abbrev cX1_verdict : ByteArray := prog_1_method_20_code
def yX1_verdict : MethodName := ⟨RX1, "verdict", "(IJ)I"⟩
theorem dX1_verdict_0 : decode cX1_verdict 0 = .ok (.iload_n 1, 1) := by decide +kernel
theorem dX1_verdict_1 : decode cX1_verdict 1 = .ok (.invokestatic 76, 3) := by decide +kernel
theorem dX1_verdict_4 : decode cX1_verdict 4 = .ok (.ifCond .eq 14, 3) := by decide +kernel
theorem dX1_verdict_7 : decode cX1_verdict 7 = .ok (.lload_n 2, 1) := by decide +kernel
theorem dX1_verdict_8 : decode cX1_verdict 8 = .ok (.invokestatic 83, 3) := by decide +kernel
theorem dX1_verdict_11 : decode cX1_verdict 11 = .ok (.ifCond .eq 7, 3) := by decide +kernel
theorem dX1_verdict_14 : decode cX1_verdict 14 = .ok (.iconst 1, 1) := by decide +kernel
theorem dX1_verdict_15 : decode cX1_verdict 15 = .ok (.goto 4, 3) := by decide +kernel
theorem dX1_verdict_18 : decode cX1_verdict 18 = .ok (.iconst 0, 1) := by decide +kernel
theorem dX1_verdict_19 : decode cX1_verdict 19 = .ok (.invokestatic 87, 3) := by decide +kernel
theorem dX1_verdict_22 : decode cX1_verdict 22 = .ok (.aload_n 0, 1) := by decide +kernel
theorem dX1_verdict_23 : decode cX1_verdict 23 = .ok (.iload_n 1, 1) := by decide +kernel
theorem dX1_verdict_24 : decode cX1_verdict 24 = .ok (.invokevirtual 149, 3) := by decide +kernel
theorem dX1_verdict_27 : decode cX1_verdict 27 = .ok (.astore 4, 2) := by decide +kernel
theorem dX1_verdict_29 : decode cX1_verdict 29 = .ok (.aload 4, 2) := by decide +kernel
theorem dX1_verdict_31 : decode cX1_verdict 31 = .ok (.ifnonnull 5, 3) := by decide +kernel
theorem dX1_verdict_34 : decode cX1_verdict 34 = .ok (.iconst 3, 1) := by decide +kernel
theorem dX1_verdict_35 : decode cX1_verdict 35 = .ok (.ireturn, 1) := by decide +kernel
theorem dX1_verdict_36 : decode cX1_verdict 36 = .ok (.aload_n 0, 1) := by decide +kernel
theorem dX1_verdict_37 : decode cX1_verdict 37 = .ok (.getfield 26, 3) := by decide +kernel
theorem dX1_verdict_40 : decode cX1_verdict 40 = .ok (.getfield 109, 3) := by decide +kernel
theorem dX1_verdict_43 : decode cX1_verdict 43 = .ok (.ifCond .eq 25, 3) := by decide +kernel
theorem dX1_verdict_46 : decode cX1_verdict 46 = .ok (.aload_n 0, 1) := by decide +kernel
theorem dX1_verdict_47 : decode cX1_verdict 47 = .ok (.getfield 26, 3) := by decide +kernel
theorem dX1_verdict_50 : decode cX1_verdict 50 = .ok (.getfield 109, 3) := by decide +kernel
theorem dX1_verdict_53 : decode cX1_verdict 53 = .ok (.aload_n 0, 1) := by decide +kernel
theorem dX1_verdict_54 : decode cX1_verdict 54 = .ok (.getfield 26, 3) := by decide +kernel
theorem dX1_verdict_57 : decode cX1_verdict 57 = .ok (.getfield 115, 3) := by decide +kernel
theorem dX1_verdict_60 : decode cX1_verdict 60 = .ok (.iconst (-1), 1) := by decide +kernel
theorem dX1_verdict_61 : decode cX1_verdict 61 = .ok (.ixor, 1) := by decide +kernel
theorem dX1_verdict_62 : decode cX1_verdict 62 = .ok (.iand, 1) := by decide +kernel
theorem dX1_verdict_63 : decode cX1_verdict 63 = .ok (.ifCond .ne 5, 3) := by decide +kernel
theorem dX1_verdict_66 : decode cX1_verdict 66 = .ok (.iconst 2, 1) := by decide +kernel
theorem dX1_verdict_67 : decode cX1_verdict 67 = .ok (.ireturn, 1) := by decide +kernel
theorem dX1_verdict_68 : decode cX1_verdict 68 = .ok (.aload_n 0, 1) := by decide +kernel
theorem dX1_verdict_69 : decode cX1_verdict 69 = .ok (.getfield 26, 3) := by decide +kernel
theorem dX1_verdict_72 : decode cX1_verdict 72 = .ok (.iload_n 1, 1) := by decide +kernel
theorem dX1_verdict_73 : decode cX1_verdict 73 = .ok (.putfield 153, 3) := by decide +kernel
theorem dX1_verdict_76 : decode cX1_verdict 76 = .ok (.aload_n 0, 1) := by decide +kernel
theorem dX1_verdict_77 : decode cX1_verdict 77 = .ok (.getfield 26, 3) := by decide +kernel
theorem dX1_verdict_80 : decode cX1_verdict 80 = .ok (.lload_n 2, 1) := by decide +kernel
theorem dX1_verdict_81 : decode cX1_verdict 81 = .ok (.putfield 156, 3) := by decide +kernel
theorem dX1_verdict_84 : decode cX1_verdict 84 = .ok (.aload_n 0, 1) := by decide +kernel
theorem dX1_verdict_85 : decode cX1_verdict 85 = .ok (.getfield 26, 3) := by decide +kernel
theorem dX1_verdict_88 : decode cX1_verdict 88 = .ok (.iconst 0, 1) := by decide +kernel
theorem dX1_verdict_89 : decode cX1_verdict 89 = .ok (.putfield 160, 3) := by decide +kernel
theorem dX1_verdict_92 : decode cX1_verdict 92 = .ok (.aload 4, 2) := by decide +kernel
theorem dX1_verdict_94 : decode cX1_verdict 94 = .ok (.getfield 161, 3) := by decide +kernel
theorem dX1_verdict_97 : decode cX1_verdict 97 = .ok (.aload_n 0, 1) := by decide +kernel
theorem dX1_verdict_98 : decode cX1_verdict 98 = .ok (.getfield 26, 3) := by decide +kernel
theorem dX1_verdict_101 : decode cX1_verdict 101 = .ok (.invokeinterface 165 2, 5) := by decide +kernel
theorem dX1_verdict_106 : decode cX1_verdict 106 = .ok (.ifCond .eq 7, 3) := by decide +kernel
theorem dX1_verdict_109 : decode cX1_verdict 109 = .ok (.iconst 1, 1) := by decide +kernel
theorem dX1_verdict_110 : decode cX1_verdict 110 = .ok (.goto 4, 3) := by decide +kernel
theorem dX1_verdict_113 : decode cX1_verdict 113 = .ok (.iconst 0, 1) := by decide +kernel
theorem dX1_verdict_114 : decode cX1_verdict 114 = .ok (.ireturn, 1) := by decide +kernel
abbrev cX1_rowOf : ByteArray := prog_1_method_19_code
def yX1_rowOf : MethodName := ⟨RX1, "rowOf", "(I)LOriginRules$Row;"⟩
theorem dX1_rowOf_0 : decode cX1_rowOf 0 = .ok (.aconst_null, 1) := by decide +kernel
theorem dX1_rowOf_1 : decode cX1_rowOf 1 = .ok (.astore_n 2, 1) := by decide +kernel
theorem dX1_rowOf_2 : decode cX1_rowOf 2 = .ok (.iconst 0, 1) := by decide +kernel
theorem dX1_rowOf_3 : decode cX1_rowOf 3 = .ok (.istore_n 3, 1) := by decide +kernel
theorem dX1_rowOf_4 : decode cX1_rowOf 4 = .ok (.iload_n 3, 1) := by decide +kernel
theorem dX1_rowOf_5 : decode cX1_rowOf 5 = .ok (.aload_n 0, 1) := by decide +kernel
theorem dX1_rowOf_6 : decode cX1_rowOf 6 = .ok (.getfield 19, 3) := by decide +kernel
theorem dX1_rowOf_9 : decode cX1_rowOf 9 = .ok (.invokevirtual 68, 3) := by decide +kernel
theorem dX1_rowOf_12 : decode cX1_rowOf 12 = .ok (.if_icmp .ge 50, 3) := by decide +kernel
theorem dX1_rowOf_15 : decode cX1_rowOf 15 = .ok (.aload_n 0, 1) := by decide +kernel
theorem dX1_rowOf_16 : decode cX1_rowOf 16 = .ok (.getfield 19, 3) := by decide +kernel
theorem dX1_rowOf_19 : decode cX1_rowOf 19 = .ok (.iload_n 3, 1) := by decide +kernel
theorem dX1_rowOf_20 : decode cX1_rowOf 20 = .ok (.invokevirtual 137, 3) := by decide +kernel
theorem dX1_rowOf_23 : decode cX1_rowOf 23 = .ok (.checkcast 141, 3) := by decide +kernel
theorem dX1_rowOf_26 : decode cX1_rowOf 26 = .ok (.astore 4, 2) := by decide +kernel
theorem dX1_rowOf_28 : decode cX1_rowOf 28 = .ok (.aload 4, 2) := by decide +kernel
theorem dX1_rowOf_30 : decode cX1_rowOf 30 = .ok (.iload_n 1, 1) := by decide +kernel
theorem dX1_rowOf_31 : decode cX1_rowOf 31 = .ok (.invokevirtual 143, 3) := by decide +kernel
theorem dX1_rowOf_34 : decode cX1_rowOf 34 = .ok (.ifCond .eq 22, 3) := by decide +kernel
theorem dX1_rowOf_37 : decode cX1_rowOf 37 = .ok (.aload_n 2, 1) := by decide +kernel
theorem dX1_rowOf_38 : decode cX1_rowOf 38 = .ok (.ifnull 15, 3) := by decide +kernel
theorem dX1_rowOf_41 : decode cX1_rowOf 41 = .ok (.aload 4, 2) := by decide +kernel
theorem dX1_rowOf_43 : decode cX1_rowOf 43 = .ok (.getfield 146, 3) := by decide +kernel
theorem dX1_rowOf_46 : decode cX1_rowOf 46 = .ok (.aload_n 2, 1) := by decide +kernel
theorem dX1_rowOf_47 : decode cX1_rowOf 47 = .ok (.getfield 146, 3) := by decide +kernel
theorem dX1_rowOf_50 : decode cX1_rowOf 50 = .ok (.if_icmp .lt 6, 3) := by decide +kernel
theorem dX1_rowOf_53 : decode cX1_rowOf 53 = .ok (.aload 4, 2) := by decide +kernel
theorem dX1_rowOf_55 : decode cX1_rowOf 55 = .ok (.astore_n 2, 1) := by decide +kernel
theorem dX1_rowOf_56 : decode cX1_rowOf 56 = .ok (.iinc 3 1, 3) := by decide +kernel
theorem dX1_rowOf_59 : decode cX1_rowOf 59 = .ok (.goto (-55), 3) := by decide +kernel
theorem dX1_rowOf_62 : decode cX1_rowOf 62 = .ok (.aload_n 2, 1) := by decide +kernel
theorem dX1_rowOf_63 : decode cX1_rowOf 63 = .ok (.areturn, 1) := by decide +kernel
abbrev cX1_share : ByteArray := prog_1_method_23_code
def yX1_share : MethodName := ⟨RX1, "share", "(JI)J"⟩
theorem dX1_share_0 : decode cX1_share 0 = .ok (.lload_n 1, 1) := by decide +kernel
theorem dX1_share_1 : decode cX1_share 1 = .ok (.invokestatic 83, 3) := by decide +kernel
theorem dX1_share_4 : decode cX1_share 4 = .ok (.ifCond .eq 17, 3) := by decide +kernel
theorem dX1_share_7 : decode cX1_share 7 = .ok (.iload_n 3, 1) := by decide +kernel
theorem dX1_share_8 : decode cX1_share 8 = .ok (.i2l, 1) := by decide +kernel
theorem dX1_share_9 : decode cX1_share 9 = .ok (.lconst 0, 1) := by decide +kernel
theorem dX1_share_10 : decode cX1_share 10 = .ok (.lconst 1, 1) := by decide +kernel
theorem dX1_share_11 : decode cX1_share 11 = .ok (.invokestatic 41, 3) := by decide +kernel
theorem dX1_share_14 : decode cX1_share 14 = .ok (.ifCond .eq 7, 3) := by decide +kernel
theorem dX1_share_17 : decode cX1_share 17 = .ok (.iconst 1, 1) := by decide +kernel
theorem dX1_share_18 : decode cX1_share 18 = .ok (.goto 4, 3) := by decide +kernel
theorem dX1_share_21 : decode cX1_share 21 = .ok (.iconst 0, 1) := by decide +kernel
theorem dX1_share_22 : decode cX1_share 22 = .ok (.invokestatic 87, 3) := by decide +kernel
theorem dX1_share_25 : decode cX1_share 25 = .ok (.aload_n 0, 1) := by decide +kernel
theorem dX1_share_26 : decode cX1_share 26 = .ok (.getfield 26, 3) := by decide +kernel
theorem dX1_share_29 : decode cX1_share 29 = .ok (.invokevirtual 175, 3) := by decide +kernel
theorem dX1_share_32 : decode cX1_share 32 = .ok (.lstore 4, 2) := by decide +kernel
theorem dX1_share_34 : decode cX1_share 34 = .ok (.lload_n 1, 1) := by decide +kernel
theorem dX1_share_35 : decode cX1_share 35 = .ok (.lload 4, 2) := by decide +kernel
theorem dX1_share_37 : decode cX1_share 37 = .ok (.lload_n 1, 1) := by decide +kernel
theorem dX1_share_38 : decode cX1_share 38 = .ok (.lrem, 1) := by decide +kernel
theorem dX1_share_39 : decode cX1_share 39 = .ok (.invokestatic 179, 3) := by decide +kernel
theorem dX1_share_42 : decode cX1_share 42 = .ok (.lstore 6, 2) := by decide +kernel
theorem dX1_share_44 : decode cX1_share 44 = .ok (.iload_n 3, 1) := by decide +kernel
theorem dX1_share_45 : decode cX1_share 45 = .ok (.ifCond .ne 11, 3) := by decide +kernel
theorem dX1_share_48 : decode cX1_share 48 = .ok (.lload 4, 2) := by decide +kernel
theorem dX1_share_50 : decode cX1_share 50 = .ok (.lload 6, 2) := by decide +kernel
theorem dX1_share_52 : decode cX1_share 52 = .ok (.ldiv, 1) := by decide +kernel
theorem dX1_share_53 : decode cX1_share 53 = .ok (.goto 7, 3) := by decide +kernel
theorem dX1_share_56 : decode cX1_share 56 = .ok (.lload_n 1, 1) := by decide +kernel
theorem dX1_share_57 : decode cX1_share 57 = .ok (.lload 6, 2) := by decide +kernel
theorem dX1_share_59 : decode cX1_share 59 = .ok (.ldiv, 1) := by decide +kernel
theorem dX1_share_60 : decode cX1_share 60 = .ok (.lreturn, 1) := by decide +kernel
abbrev cX1_common : ByteArray := prog_1_method_22_code
def yX1_common : MethodName := ⟨RX1, "common", "(JJ)J"⟩
theorem dX1_common_0 : decode cX1_common 0 = .ok (.lload_n 0, 1) := by decide +kernel
theorem dX1_common_1 : decode cX1_common 1 = .ok (.lstore 4, 2) := by decide +kernel
theorem dX1_common_3 : decode cX1_common 3 = .ok (.lload_n 2, 1) := by decide +kernel
theorem dX1_common_4 : decode cX1_common 4 = .ok (.lstore 6, 2) := by decide +kernel
theorem dX1_common_6 : decode cX1_common 6 = .ok (.lload 6, 2) := by decide +kernel
theorem dX1_common_8 : decode cX1_common 8 = .ok (.lconst 0, 1) := by decide +kernel
theorem dX1_common_9 : decode cX1_common 9 = .ok (.lcmp, 1) := by decide +kernel
theorem dX1_common_10 : decode cX1_common 10 = .ok (.ifCond .eq 21, 3) := by decide +kernel
theorem dX1_common_13 : decode cX1_common 13 = .ok (.lload 4, 2) := by decide +kernel
theorem dX1_common_15 : decode cX1_common 15 = .ok (.lload 6, 2) := by decide +kernel
theorem dX1_common_17 : decode cX1_common 17 = .ok (.lrem, 1) := by decide +kernel
theorem dX1_common_18 : decode cX1_common 18 = .ok (.lstore 8, 2) := by decide +kernel
theorem dX1_common_20 : decode cX1_common 20 = .ok (.lload 6, 2) := by decide +kernel
theorem dX1_common_22 : decode cX1_common 22 = .ok (.lstore 4, 2) := by decide +kernel
theorem dX1_common_24 : decode cX1_common 24 = .ok (.lload 8, 2) := by decide +kernel
theorem dX1_common_26 : decode cX1_common 26 = .ok (.lstore 6, 2) := by decide +kernel
theorem dX1_common_28 : decode cX1_common 28 = .ok (.goto (-22), 3) := by decide +kernel
theorem dX1_common_31 : decode cX1_common 31 = .ok (.lload 4, 2) := by decide +kernel
theorem dX1_common_33 : decode cX1_common 33 = .ok (.lreturn, 1) := by decide +kernel
abbrev cX1_proof : ByteArray := prog_1_method_24_code
def yX1_proof : MethodName := ⟨RX1, "proof", "(III)I"⟩
theorem dX1_proof_0 : decode cX1_proof 0 = .ok (.iload_n 1, 1) := by decide +kernel
theorem dX1_proof_1 : decode cX1_proof 1 = .ok (.i2l, 1) := by decide +kernel
theorem dX1_proof_2 : decode cX1_proof 2 = .ok (.lconst 0, 1) := by decide +kernel
theorem dX1_proof_3 : decode cX1_proof 3 = .ok (.lconst 1, 1) := by decide +kernel
theorem dX1_proof_4 : decode cX1_proof 4 = .ok (.invokestatic 41, 3) := by decide +kernel
theorem dX1_proof_7 : decode cX1_proof 7 = .ok (.ifCond .eq 26, 3) := by decide +kernel
theorem dX1_proof_10 : decode cX1_proof 10 = .ok (.iload_n 2, 1) := by decide +kernel
theorem dX1_proof_11 : decode cX1_proof 11 = .ok (.invokestatic 183, 3) := by decide +kernel
theorem dX1_proof_14 : decode cX1_proof 14 = .ok (.ifCond .eq 19, 3) := by decide +kernel
theorem dX1_proof_17 : decode cX1_proof 17 = .ok (.iload_n 3, 1) := by decide +kernel
theorem dX1_proof_18 : decode cX1_proof 18 = .ok (.invokestatic 183, 3) := by decide +kernel
theorem dX1_proof_21 : decode cX1_proof 21 = .ok (.ifCond .eq 12, 3) := by decide +kernel
theorem dX1_proof_24 : decode cX1_proof 24 = .ok (.iload_n 2, 1) := by decide +kernel
theorem dX1_proof_25 : decode cX1_proof 25 = .ok (.iload_n 3, 1) := by decide +kernel
theorem dX1_proof_26 : decode cX1_proof 26 = .ok (.if_icmp .gt 7, 3) := by decide +kernel
theorem dX1_proof_29 : decode cX1_proof 29 = .ok (.iconst 1, 1) := by decide +kernel
theorem dX1_proof_30 : decode cX1_proof 30 = .ok (.goto 4, 3) := by decide +kernel
theorem dX1_proof_33 : decode cX1_proof 33 = .ok (.iconst 0, 1) := by decide +kernel
theorem dX1_proof_34 : decode cX1_proof 34 = .ok (.invokestatic 87, 3) := by decide +kernel
theorem dX1_proof_37 : decode cX1_proof 37 = .ok (.aload_n 0, 1) := by decide +kernel
theorem dX1_proof_38 : decode cX1_proof 38 = .ok (.getfield 30, 3) := by decide +kernel
theorem dX1_proof_41 : decode cX1_proof 41 = .ok (.invokevirtual 68, 3) := by decide +kernel
theorem dX1_proof_44 : decode cX1_proof 44 = .ok (.bipush 20, 2) := by decide +kernel
theorem dX1_proof_46 : decode cX1_proof 46 = .ok (.if_icmp .ge 7, 3) := by decide +kernel
theorem dX1_proof_49 : decode cX1_proof 49 = .ok (.iconst 1, 1) := by decide +kernel
theorem dX1_proof_50 : decode cX1_proof 50 = .ok (.goto 4, 3) := by decide +kernel
theorem dX1_proof_53 : decode cX1_proof 53 = .ok (.iconst 0, 1) := by decide +kernel
theorem dX1_proof_54 : decode cX1_proof 54 = .ok (.invokestatic 94, 3) := by decide +kernel
theorem dX1_proof_57 : decode cX1_proof 57 = .ok (.aload_n 0, 1) := by decide +kernel
theorem dX1_proof_58 : decode cX1_proof 58 = .ok (.getfield 30, 3) := by decide +kernel
theorem dX1_proof_61 : decode cX1_proof 61 = .ok (.new 186, 3) := by decide +kernel
theorem dX1_proof_64 : decode cX1_proof 64 = .ok (.dup, 1) := by decide +kernel
theorem dX1_proof_65 : decode cX1_proof 65 = .ok (.iload_n 1, 1) := by decide +kernel
theorem dX1_proof_66 : decode cX1_proof 66 = .ok (.iload_n 2, 1) := by decide +kernel
theorem dX1_proof_67 : decode cX1_proof 67 = .ok (.iload_n 3, 1) := by decide +kernel
theorem dX1_proof_68 : decode cX1_proof 68 = .ok (.invokespecial 188, 3) := by decide +kernel
theorem dX1_proof_71 : decode cX1_proof 71 = .ok (.invokevirtual 102, 3) := by decide +kernel
theorem dX1_proof_74 : decode cX1_proof 74 = .ok (.pop, 1) := by decide +kernel
theorem dX1_proof_75 : decode cX1_proof 75 = .ok (.aload_n 0, 1) := by decide +kernel
theorem dX1_proof_76 : decode cX1_proof 76 = .ok (.getfield 30, 3) := by decide +kernel
theorem dX1_proof_79 : decode cX1_proof 79 = .ok (.invokevirtual 68, 3) := by decide +kernel
theorem dX1_proof_82 : decode cX1_proof 82 = .ok (.iconst 1, 1) := by decide +kernel
theorem dX1_proof_83 : decode cX1_proof 83 = .ok (.isub, 1) := by decide +kernel
theorem dX1_proof_84 : decode cX1_proof 84 = .ok (.ireturn, 1) := by decide +kernel
abbrev cX1_isDay : ByteArray := prog_1_method_8_code
def yX1_isDay : MethodName := ⟨RX1, "isDay", "(I)Z"⟩
theorem dX1_isDay_0 : decode cX1_isDay 0 = .ok (.iload_n 0, 1) := by decide +kernel
theorem dX1_isDay_1 : decode cX1_isDay 1 = .ok (.i2l, 1) := by decide +kernel
theorem dX1_isDay_2 : decode cX1_isDay 2 = .ok (.lconst 0, 1) := by decide +kernel
theorem dX1_isDay_3 : decode cX1_isDay 3 = .ok (.ldc2_w 49, 3) := by decide +kernel
theorem dX1_isDay_6 : decode cX1_isDay 6 = .ok (.invokestatic 41, 3) := by decide +kernel
theorem dX1_isDay_9 : decode cX1_isDay 9 = .ok (.ireturn, 1) := by decide +kernel
abbrev cX1_good : ByteArray := prog_1_method_25_code
def yX1_good : MethodName := ⟨RX1, "good", "(IJI)Z"⟩
theorem dX1_good_0 : decode cX1_good 0 = .ok (.iload_n 1, 1) := by decide +kernel
theorem dX1_good_1 : decode cX1_good 1 = .ok (.i2l, 1) := by decide +kernel
theorem dX1_good_2 : decode cX1_good 2 = .ok (.lconst 0, 1) := by decide +kernel
theorem dX1_good_3 : decode cX1_good 3 = .ok (.aload_n 0, 1) := by decide +kernel
theorem dX1_good_4 : decode cX1_good 4 = .ok (.getfield 30, 3) := by decide +kernel
theorem dX1_good_7 : decode cX1_good 7 = .ok (.invokevirtual 68, 3) := by decide +kernel
theorem dX1_good_10 : decode cX1_good 10 = .ok (.iconst 1, 1) := by decide +kernel
theorem dX1_good_11 : decode cX1_good 11 = .ok (.isub, 1) := by decide +kernel
theorem dX1_good_12 : decode cX1_good 12 = .ok (.i2l, 1) := by decide +kernel
theorem dX1_good_13 : decode cX1_good 13 = .ok (.invokestatic 41, 3) := by decide +kernel
theorem dX1_good_16 : decode cX1_good 16 = .ok (.ifCond .eq 22, 3) := by decide +kernel
theorem dX1_good_19 : decode cX1_good 19 = .ok (.lload_n 2, 1) := by decide +kernel
theorem dX1_good_20 : decode cX1_good 20 = .ok (.invokestatic 83, 3) := by decide +kernel
theorem dX1_good_23 : decode cX1_good 23 = .ok (.ifCond .eq 15, 3) := by decide +kernel
theorem dX1_good_26 : decode cX1_good 26 = .ok (.iload 4, 2) := by decide +kernel
theorem dX1_good_28 : decode cX1_good 28 = .ok (.invokestatic 183, 3) := by decide +kernel
theorem dX1_good_31 : decode cX1_good 31 = .ok (.ifCond .eq 7, 3) := by decide +kernel
theorem dX1_good_34 : decode cX1_good 34 = .ok (.iconst 1, 1) := by decide +kernel
theorem dX1_good_35 : decode cX1_good 35 = .ok (.goto 4, 3) := by decide +kernel
theorem dX1_good_38 : decode cX1_good 38 = .ok (.iconst 0, 1) := by decide +kernel
theorem dX1_good_39 : decode cX1_good 39 = .ok (.invokestatic 87, 3) := by decide +kernel
theorem dX1_good_42 : decode cX1_good 42 = .ok (.aload_n 0, 1) := by decide +kernel
theorem dX1_good_43 : decode cX1_good 43 = .ok (.getfield 30, 3) := by decide +kernel
theorem dX1_good_46 : decode cX1_good 46 = .ok (.iload_n 1, 1) := by decide +kernel
theorem dX1_good_47 : decode cX1_good 47 = .ok (.invokevirtual 137, 3) := by decide +kernel
theorem dX1_good_50 : decode cX1_good 50 = .ok (.checkcast 186, 3) := by decide +kernel
theorem dX1_good_53 : decode cX1_good 53 = .ok (.astore 5, 2) := by decide +kernel
theorem dX1_good_55 : decode cX1_good 55 = .ok (.iload 4, 2) := by decide +kernel
theorem dX1_good_57 : decode cX1_good 57 = .ok (.i2l, 1) := by decide +kernel
theorem dX1_good_58 : decode cX1_good 58 = .ok (.aload 5, 2) := by decide +kernel
theorem dX1_good_60 : decode cX1_good 60 = .ok (.getfield 191, 3) := by decide +kernel
theorem dX1_good_63 : decode cX1_good 63 = .ok (.i2l, 1) := by decide +kernel
theorem dX1_good_64 : decode cX1_good 64 = .ok (.aload 5, 2) := by decide +kernel
theorem dX1_good_66 : decode cX1_good 66 = .ok (.getfield 194, 3) := by decide +kernel
theorem dX1_good_69 : decode cX1_good 69 = .ok (.i2l, 1) := by decide +kernel
theorem dX1_good_70 : decode cX1_good 70 = .ok (.invokestatic 41, 3) := by decide +kernel
theorem dX1_good_73 : decode cX1_good 73 = .ok (.ifCond .eq 24, 3) := by decide +kernel
theorem dX1_good_76 : decode cX1_good 76 = .ok (.aload 5, 2) := by decide +kernel
theorem dX1_good_78 : decode cX1_good 78 = .ok (.getfield 197, 3) := by decide +kernel
theorem dX1_good_81 : decode cX1_good 81 = .ok (.iconst 1, 1) := by decide +kernel
theorem dX1_good_82 : decode cX1_good 82 = .ok (.if_icmp .eq 11, 3) := by decide +kernel
theorem dX1_good_85 : decode cX1_good 85 = .ok (.lload_n 2, 1) := by decide +kernel
theorem dX1_good_86 : decode cX1_good 86 = .ok (.ldc2_w 200, 3) := by decide +kernel
theorem dX1_good_89 : decode cX1_good 89 = .ok (.lcmp, 1) := by decide +kernel
theorem dX1_good_90 : decode cX1_good 90 = .ok (.ifCond .gt 7, 3) := by decide +kernel
theorem dX1_good_93 : decode cX1_good 93 = .ok (.iconst 1, 1) := by decide +kernel
theorem dX1_good_94 : decode cX1_good 94 = .ok (.goto 4, 3) := by decide +kernel
theorem dX1_good_97 : decode cX1_good 97 = .ok (.iconst 0, 1) := by decide +kernel
theorem dX1_good_98 : decode cX1_good 98 = .ok (.ireturn, 1) := by decide +kernel
abbrev cX1_own : ByteArray := prog_1_method_26_code
def yX1_own : MethodName := ⟨RX1, "own", "(I)Z"⟩
theorem dX1_own_0 : decode cX1_own 0 = .ok (.iload_n 1, 1) := by decide +kernel
theorem dX1_own_1 : decode cX1_own 1 = .ok (.invokestatic 80, 3) := by decide +kernel
theorem dX1_own_4 : decode cX1_own 4 = .ok (.invokestatic 87, 3) := by decide +kernel
theorem dX1_own_7 : decode cX1_own 7 = .ok (.aload_n 0, 1) := by decide +kernel
theorem dX1_own_8 : decode cX1_own 8 = .ok (.getfield 26, 3) := by decide +kernel
theorem dX1_own_11 : decode cX1_own 11 = .ok (.invokevirtual 202, 3) := by decide +kernel
theorem dX1_own_14 : decode cX1_own 14 = .ok (.iload_n 1, 1) := by decide +kernel
theorem dX1_own_15 : decode cX1_own 15 = .ok (.ishr, 1) := by decide +kernel
theorem dX1_own_16 : decode cX1_own 16 = .ok (.iconst 1, 1) := by decide +kernel
theorem dX1_own_17 : decode cX1_own 17 = .ok (.iand, 1) := by decide +kernel
theorem dX1_own_18 : decode cX1_own 18 = .ok (.iconst 1, 1) := by decide +kernel
theorem dX1_own_19 : decode cX1_own 19 = .ok (.if_icmp .ne 7, 3) := by decide +kernel
theorem dX1_own_22 : decode cX1_own 22 = .ok (.iconst 1, 1) := by decide +kernel
theorem dX1_own_23 : decode cX1_own 23 = .ok (.goto 4, 3) := by decide +kernel
theorem dX1_own_26 : decode cX1_own 26 = .ok (.iconst 0, 1) := by decide +kernel
theorem dX1_own_27 : decode cX1_own 27 = .ok (.ireturn, 1) := by decide +kernel
theorem q24 : (Jvm.Cond.initialized "OriginRules") ∈ lw_all := lw_g (lw_at lw_m1 1 rfl) rfl
theorem q56 : (Jvm.Cond.instantiable "OriginRules" (4 : Nat)) ∈ lw_all := lw_g (lw_at lw_m1 33 rfl) rfl
theorem q58 : (Jvm.Cond.instanceMethod ({ cls := "OriginRules", name := "<init>", desc := "()V" } : Jvm.MethodName)) ∈ lw_all := lw_g (lw_at lw_m1 35 rfl) rfl
theorem q59 : (Jvm.Cond.code ({ cls := "OriginRules", name := "<init>", desc := "()V" } : Jvm.MethodName) prog_1_method_2_code (1 : Nat) (Option.none : Option Jvm.ClassFile.FieldType)) ∈ lw_all := lw_g (lw_at lw_m1 36 rfl) rfl
theorem q60 : (Jvm.Cond.methodLink "OriginRules" (1 : Nat) ({ cls := "java/lang/Object", name := "<init>", desc := "()V" } : Jvm.MethodName)) ∈ lw_all := lw_g (lw_at lw_m1 37 rfl) rfl
theorem q63 : (Jvm.Cond.classLink "OriginRules" (7 : Nat) "OriginRules$Reader") ∈ lw_all := lw_g (lw_at lw_m1 40 rfl) rfl
theorem q65 : (Jvm.Cond.methodLinkNest "OriginRules" (9 : Nat) ({ cls := "OriginRules$Reader", name := "<init>", desc := "()V" } : Jvm.MethodName) "OriginRules") ∈ lw_tbl := lw_at lw_m1 42 rfl
theorem q70 : (Jvm.Cond.fieldLinkNest "OriginRules" (61 : Nat) "OriginRules$Reader" "text" "[C" "OriginRules") ∈ lw_tbl := lw_at lw_m1 47 rfl
theorem q72 : (Jvm.Cond.fieldLinkNest "OriginRules" (57 : Nat) "OriginRules$Reader" "size" "I" "OriginRules") ∈ lw_tbl := lw_at lw_m1 49 rfl
theorem q74 : (Jvm.Cond.fieldLinkNest "OriginRules" (73 : Nat) "OriginRules$Reader" "at" "I" "OriginRules") ∈ lw_tbl := lw_at lw_m1 51 rfl
theorem q89 : (Jvm.Cond.classLink "OriginRules" (16 : Nat) "java/util/ArrayList") ∈ lw_all := lw_g (lw_at lw_m1 66 rfl) rfl
theorem q91 : (Jvm.Cond.methodLink "OriginRules" (18 : Nat) ({ cls := "java/util/ArrayList", name := "<init>", desc := "()V" } : Jvm.MethodName)) ∈ lw_all := lw_g (lw_at lw_m1 68 rfl) rfl
theorem q115 : (Jvm.Cond.classLink "OriginRules" (23 : Nat) "OriginRules$Good") ∈ lw_all := lw_g (lw_at lw_m1 92 rfl) rfl
theorem q117 : (Jvm.Cond.methodLinkNest "OriginRules" (25 : Nat) ({ cls := "OriginRules$Good", name := "<init>", desc := "()V" } : Jvm.MethodName) "OriginRules") ∈ lw_tbl := lw_at lw_m1 94 rfl
theorem q125 : (Jvm.Cond.fieldLinkNest "OriginRules" (91 : Nat) "OriginRules$Good" "parts" "Ljava/util/ArrayList;" "OriginRules") ∈ lw_tbl := lw_at lw_m1 102 rfl
theorem q127 : (Jvm.Cond.fieldLinkNest "OriginRules" (109 : Nat) "OriginRules$Good" "done" "I" "OriginRules") ∈ lw_tbl := lw_at lw_m1 104 rfl
theorem q128 : (Jvm.Cond.fieldLinkNest "OriginRules" (115 : Nat) "OriginRules$Good" "barred" "I" "OriginRules") ∈ lw_tbl := lw_at lw_m1 105 rfl
theorem q129 : (Jvm.Cond.fieldLinkNest "OriginRules" (122 : Nat) "OriginRules$Good" "pairs" "I" "OriginRules") ∈ lw_tbl := lw_at lw_m1 106 rfl
theorem q131 : (Jvm.Cond.fieldLinkNest "OriginRules" (125 : Nat) "OriginRules$Good" "full" "Z" "OriginRules") ∈ lw_tbl := lw_at lw_m1 108 rfl
theorem q133 : (Jvm.Cond.fieldLinkNest "OriginRules" (131 : Nat) "OriginRules$Good" "up" "I" "OriginRules") ∈ lw_tbl := lw_at lw_m1 110 rfl
theorem q135 : (Jvm.Cond.fieldLinkNest "OriginRules" (134 : Nat) "OriginRules$Good" "down" "I" "OriginRules") ∈ lw_tbl := lw_at lw_m1 112 rfl
theorem q137 : (Jvm.Cond.fieldLinkNest "OriginRules" (118 : Nat) "OriginRules$Good" "joined" "[Z" "OriginRules") ∈ lw_tbl := lw_at lw_m1 114 rfl
theorem q139 : (Jvm.Cond.fieldLinkNest "OriginRules" (153 : Nat) "OriginRules$Good" "code" "I" "OriginRules") ∈ lw_tbl := lw_at lw_m1 116 rfl
theorem q142 : (Jvm.Cond.fieldLinkNest "OriginRules" (156 : Nat) "OriginRules$Good" "price" "J" "OriginRules") ∈ lw_tbl := lw_at lw_m1 119 rfl
theorem q144 : (Jvm.Cond.fieldLinkNest "OriginRules" (171 : Nat) "OriginRules$Good" "asked" "[I" "OriginRules") ∈ lw_tbl := lw_at lw_m1 121 rfl
theorem q146 : (Jvm.Cond.fieldLinkNest "OriginRules" (160 : Nat) "OriginRules$Good" "size" "I" "OriginRules") ∈ lw_tbl := lw_at lw_m1 123 rfl
theorem q174 : (Jvm.Cond.fieldLink "OriginRules" (10 : Nat) "OriginRules" "reader" "LOriginRules$Reader;") ∈ lw_all := lw_g (lw_at lw_m1 151 rfl) rfl
theorem q175 : (Jvm.Cond.fieldLink "OriginRules" (19 : Nat) "OriginRules" "rows" "Ljava/util/ArrayList;") ∈ lw_all := lw_g (lw_at lw_m1 152 rfl) rfl
theorem q176 : (Jvm.Cond.fieldLink "OriginRules" (26 : Nat) "OriginRules" "good" "LOriginRules$Good;") ∈ lw_all := lw_g (lw_at lw_m1 153 rfl) rfl
theorem q177 : (Jvm.Cond.fieldLink "OriginRules" (30 : Nat) "OriginRules" "proofs" "Ljava/util/ArrayList;") ∈ lw_all := lw_g (lw_at lw_m1 154 rfl) rfl
theorem q178 : (Jvm.Cond.laysFinal "OriginRules" "OriginRules" "reader" "LOriginRules$Reader;") ∈ lw_all := lw_g (lw_at lw_m1 155 rfl) rfl
theorem q179 : (Jvm.Cond.soleField "OriginRules" "reader") ∈ lw_all := lw_g (lw_at lw_m1 156 rfl) rfl
theorem q180 : (Jvm.Cond.lays "OriginRules" "OriginRules" "rows" "Ljava/util/ArrayList;") ∈ lw_all := lw_g (lw_at lw_m1 157 rfl) rfl
theorem q181 : (Jvm.Cond.soleField "OriginRules" "rows") ∈ lw_all := lw_g (lw_at lw_m1 158 rfl) rfl
theorem q182 : (Jvm.Cond.laysFinal "OriginRules" "OriginRules" "good" "LOriginRules$Good;") ∈ lw_all := lw_g (lw_at lw_m1 159 rfl) rfl
theorem q183 : (Jvm.Cond.soleField "OriginRules" "good") ∈ lw_all := lw_g (lw_at lw_m1 160 rfl) rfl
theorem q184 : (Jvm.Cond.laysFinal "OriginRules" "OriginRules" "proofs" "Ljava/util/ArrayList;") ∈ lw_all := lw_g (lw_at lw_m1 161 rfl) rfl
theorem q185 : (Jvm.Cond.soleField "OriginRules" "proofs") ∈ lw_all := lw_g (lw_at lw_m1 162 rfl) rfl
theorem q186 : (Jvm.Cond.superclass "OriginRules" "java/lang/Object") ∈ lw_all := lw_g (lw_at lw_m1 163 rfl) rfl
theorem q188 : (Jvm.Cond.instanceMethod ({ cls := "OriginRules", name := "sign", desc := "(I)Z" } : Jvm.MethodName)) ∈ lw_all := lw_g (lw_at lw_m1 165 rfl) rfl
theorem q189 : (Jvm.Cond.selects "OriginRules" ({ cls := "OriginRules", name := "sign", desc := "(I)Z" } : Jvm.MethodName) ({ cls := "OriginRules", name := "sign", desc := "(I)Z" } : Jvm.MethodName)) ∈ lw_all := lw_g (lw_at lw_m1 166 rfl) rfl
theorem q190 : (Jvm.Cond.code ({ cls := "OriginRules", name := "sign", desc := "(I)Z" } : Jvm.MethodName) prog_1_method_10_code (2 : Nat) (Option.some Jvm.ClassFile.FieldType.boolean)) ∈ lw_all := lw_g (lw_at lw_m1 167 rfl) rfl
theorem q191 : (Jvm.Cond.constantLong "OriginRules" (53 : Nat) (33 : Int64)) ∈ lw_all := lw_g (lw_at lw_m1 168 rfl) rfl
theorem q192 : (Jvm.Cond.constantLong "OriginRules" (55 : Nat) (126 : Int64)) ∈ lw_all := lw_g (lw_at lw_m1 169 rfl) rfl
theorem q193 : (Jvm.Cond.methodLink "OriginRules" (41 : Nat) ({ cls := "OriginRules", name := "in", desc := "(JJJ)Z" } : Jvm.MethodName)) ∈ lw_all := lw_g (lw_at lw_m1 170 rfl) rfl
theorem q194 : (Jvm.Cond.static ({ cls := "OriginRules", name := "in", desc := "(JJJ)Z" } : Jvm.MethodName)) ∈ lw_all := lw_g (lw_at lw_m1 171 rfl) rfl
theorem q195 : (Jvm.Cond.code ({ cls := "OriginRules", name := "in", desc := "(JJJ)Z" } : Jvm.MethodName) prog_1_method_1_code (6 : Nat) (Option.some Jvm.ClassFile.FieldType.boolean)) ∈ lw_all := lw_g (lw_at lw_m1 172 rfl) rfl
theorem q197 : (Jvm.Cond.instanceMethod ({ cls := "OriginRules", name := "read", desc := "()I" } : Jvm.MethodName)) ∈ lw_all := lw_g (lw_at lw_m1 174 rfl) rfl
theorem q198 : (Jvm.Cond.selects "OriginRules" ({ cls := "OriginRules", name := "read", desc := "()I" } : Jvm.MethodName) ({ cls := "OriginRules", name := "read", desc := "()I" } : Jvm.MethodName)) ∈ lw_all := lw_g (lw_at lw_m1 175 rfl) rfl
theorem q199 : (Jvm.Cond.codeWith ({ cls := "OriginRules", name := "read", desc := "()I" } : Jvm.MethodName) prog_1_method_11_code (3 : Nat) (Option.some Jvm.ClassFile.FieldType.int) [((2 : Nat), (21 : Nat), (24 : Nat), (71 : Nat))]) ∈ lw_all := lw_g (lw_at lw_m1 176 rfl) rfl
theorem q200 : (Jvm.Cond.classLink "OriginRules" (71 : Nat) "OriginRules$Wrong") ∈ lw_all := lw_g (lw_at lw_m1 177 rfl) rfl
theorem q201 : (Jvm.Cond.methodLink "OriginRules" (65 : Nat) ({ cls := "OriginRules$Reader", name := "rows", desc := "()Ljava/util/ArrayList;" } : Jvm.MethodName)) ∈ lw_all := lw_g (lw_at lw_m1 178 rfl) rfl
theorem q416 : (Jvm.Cond.selects "OriginRules" ({ cls := "java/lang/Object", name := "getClass", desc := "()Ljava/lang/Class;" } : Jvm.MethodName) ({ cls := "java/lang/Object", name := "getClass", desc := "()Ljava/lang/Class;" } : Jvm.MethodName)) ∈ lw_all := lw_g (lw_at lw_m2 153 rfl) rfl
theorem q457 : (Jvm.Cond.fieldLinkNest "OriginRules" (146 : Nat) "OriginRules$Row" "digits" "I" "OriginRules") ∈ lw_tbl := lw_at lw_m2 194 rfl
theorem q459 : (Jvm.Cond.fieldLinkNest "OriginRules" (161 : Nat) "OriginRules$Row" "rule" "LOriginRules$Node;" "OriginRules") ∈ lw_tbl := lw_at lw_m2 196 rfl
theorem q471 : (Jvm.Cond.methodLink "OriginRules" (68 : Nat) ({ cls := "java/util/ArrayList", name := "size", desc := "()I" } : Jvm.MethodName)) ∈ lw_all := lw_g (lw_at lw_m2 208 rfl) rfl
theorem q473 : (Jvm.Cond.instanceMethod ({ cls := "OriginRules", name := "clear", desc := "()I" } : Jvm.MethodName)) ∈ lw_all := lw_g (lw_at lw_m2 210 rfl) rfl
theorem q474 : (Jvm.Cond.selects "OriginRules" ({ cls := "OriginRules", name := "clear", desc := "()I" } : Jvm.MethodName) ({ cls := "OriginRules", name := "clear", desc := "()I" } : Jvm.MethodName)) ∈ lw_all := lw_g (lw_at lw_m2 211 rfl) rfl
theorem q475 : (Jvm.Cond.code ({ cls := "OriginRules", name := "clear", desc := "()I" } : Jvm.MethodName) prog_1_method_13_code (2 : Nat) (Option.some Jvm.ClassFile.FieldType.int)) ∈ lw_all := lw_g (lw_at lw_m2 212 rfl) rfl
theorem q476 : (Jvm.Cond.methodLink "OriginRules" (106 : Nat) ({ cls := "java/util/ArrayList", name := "clear", desc := "()V" } : Jvm.MethodName)) ∈ lw_all := lw_g (lw_at lw_m2 213 rfl) rfl
theorem q481 : (Jvm.Cond.instanceMethod ({ cls := "OriginRules", name := "process", desc := "(I)Z" } : Jvm.MethodName)) ∈ lw_all := lw_g (lw_at lw_m2 218 rfl) rfl
theorem q482 : (Jvm.Cond.selects "OriginRules" ({ cls := "OriginRules", name := "process", desc := "(I)Z" } : Jvm.MethodName) ({ cls := "OriginRules", name := "process", desc := "(I)Z" } : Jvm.MethodName)) ∈ lw_all := lw_g (lw_at lw_m2 219 rfl) rfl
theorem q483 : (Jvm.Cond.code ({ cls := "OriginRules", name := "process", desc := "(I)Z" } : Jvm.MethodName) prog_1_method_14_code (2 : Nat) (Option.some Jvm.ClassFile.FieldType.boolean)) ∈ lw_all := lw_g (lw_at lw_m2 220 rfl) rfl
theorem q484 : (Jvm.Cond.methodLink "OriginRules" (112 : Nat) ({ cls := "OriginRules", name := "isProcess", desc := "(I)Z" } : Jvm.MethodName)) ∈ lw_all := lw_g (lw_at lw_m2 221 rfl) rfl
theorem q485 : (Jvm.Cond.static ({ cls := "OriginRules", name := "isProcess", desc := "(I)Z" } : Jvm.MethodName)) ∈ lw_all := lw_g (lw_at lw_m2 222 rfl) rfl
theorem q486 : (Jvm.Cond.code ({ cls := "OriginRules", name := "isProcess", desc := "(I)Z" } : Jvm.MethodName) prog_1_method_9_code (1 : Nat) (Option.some Jvm.ClassFile.FieldType.boolean)) ∈ lw_all := lw_g (lw_at lw_m2 223 rfl) rfl
theorem q487 : (Jvm.Cond.constantLong "OriginRules" (51 : Nat) (15 : Int64)) ∈ lw_all := lw_g (lw_at lw_m2 224 rfl) rfl
theorem q489 : (Jvm.Cond.instanceMethod ({ cls := "OriginRules", name := "bar", desc := "(IZ)Z" } : Jvm.MethodName)) ∈ lw_all := lw_g (lw_at lw_m2 226 rfl) rfl
theorem q490 : (Jvm.Cond.selects "OriginRules" ({ cls := "OriginRules", name := "bar", desc := "(IZ)Z" } : Jvm.MethodName) ({ cls := "OriginRules", name := "bar", desc := "(IZ)Z" } : Jvm.MethodName)) ∈ lw_all := lw_g (lw_at lw_m2 227 rfl) rfl
theorem q491 : (Jvm.Cond.code ({ cls := "OriginRules", name := "bar", desc := "(IZ)Z" } : Jvm.MethodName) prog_1_method_15_code (3 : Nat) (Option.some Jvm.ClassFile.FieldType.boolean)) ∈ lw_all := lw_g (lw_at lw_m2 228 rfl) rfl
theorem q493 : (Jvm.Cond.instanceMethod ({ cls := "OriginRules", name := "full", desc := "(Z)Z" } : Jvm.MethodName)) ∈ lw_all := lw_g (lw_at lw_m2 230 rfl) rfl
theorem q494 : (Jvm.Cond.selects "OriginRules" ({ cls := "OriginRules", name := "full", desc := "(Z)Z" } : Jvm.MethodName) ({ cls := "OriginRules", name := "full", desc := "(Z)Z" } : Jvm.MethodName)) ∈ lw_all := lw_g (lw_at lw_m2 231 rfl) rfl
theorem q495 : (Jvm.Cond.code ({ cls := "OriginRules", name := "full", desc := "(Z)Z" } : Jvm.MethodName) prog_1_method_17_code (2 : Nat) (Option.some Jvm.ClassFile.FieldType.boolean)) ∈ lw_all := lw_g (lw_at lw_m2 232 rfl) rfl
theorem q497 : (Jvm.Cond.instanceMethod ({ cls := "OriginRules", name := "tolerance", desc := "(II)Z" } : Jvm.MethodName)) ∈ lw_all := lw_g (lw_at lw_m2 234 rfl) rfl
theorem q498 : (Jvm.Cond.selects "OriginRules" ({ cls := "OriginRules", name := "tolerance", desc := "(II)Z" } : Jvm.MethodName) ({ cls := "OriginRules", name := "tolerance", desc := "(II)Z" } : Jvm.MethodName)) ∈ lw_all := lw_g (lw_at lw_m2 235 rfl) rfl
theorem q499 : (Jvm.Cond.code ({ cls := "OriginRules", name := "tolerance", desc := "(II)Z" } : Jvm.MethodName) prog_1_method_18_code (3 : Nat) (Option.some Jvm.ClassFile.FieldType.boolean)) ∈ lw_all := lw_g (lw_at lw_m2 236 rfl) rfl
theorem q500 : (Jvm.Cond.constantLong "OriginRules" (129 : Nat) (1000 : Int64)) ∈ lw_all := lw_g (lw_at lw_m2 237 rfl) rfl
theorem q502 : (Jvm.Cond.instanceMethod ({ cls := "OriginRules", name := "why", desc := "(I)I" } : Jvm.MethodName)) ∈ lw_all := lw_g (lw_at lw_m2 239 rfl) rfl
theorem q503 : (Jvm.Cond.selects "OriginRules" ({ cls := "OriginRules", name := "why", desc := "(I)I" } : Jvm.MethodName) ({ cls := "OriginRules", name := "why", desc := "(I)I" } : Jvm.MethodName)) ∈ lw_all := lw_g (lw_at lw_m3 0 rfl) rfl
theorem q504 : (Jvm.Cond.code ({ cls := "OriginRules", name := "why", desc := "(I)I" } : Jvm.MethodName) prog_1_method_21_code (2 : Nat) (Option.some Jvm.ClassFile.FieldType.int)) ∈ lw_all := lw_g (lw_at lw_m3 1 rfl) rfl
theorem q506 : (Jvm.Cond.instanceMethod ({ cls := "OriginRules", name := "count", desc := "(I)I" } : Jvm.MethodName)) ∈ lw_all := lw_g (lw_at lw_m3 3 rfl) rfl
theorem q507 : (Jvm.Cond.selects "OriginRules" ({ cls := "OriginRules", name := "count", desc := "(I)I" } : Jvm.MethodName) ({ cls := "OriginRules", name := "count", desc := "(I)I" } : Jvm.MethodName)) ∈ lw_all := lw_g (lw_at lw_m3 4 rfl) rfl
theorem q508 : (Jvm.Cond.code ({ cls := "OriginRules", name := "count", desc := "(I)I" } : Jvm.MethodName) prog_1_method_28_code (2 : Nat) (Option.some Jvm.ClassFile.FieldType.int)) ∈ lw_all := lw_g (lw_at lw_m3 5 rfl) rfl
theorem q509 : (Jvm.Cond.methodLink "OriginRules" (209 : Nat) ({ cls := "OriginRules", name := "foreignParts", desc := "()I" } : Jvm.MethodName)) ∈ lw_all := lw_g (lw_at lw_m3 6 rfl) rfl
theorem q510 : (Jvm.Cond.privateMethod ({ cls := "OriginRules", name := "foreignParts", desc := "()I" } : Jvm.MethodName)) ∈ lw_tbl := lw_at lw_m3 7 rfl
theorem q511 : (Jvm.Cond.instanceMethod ({ cls := "OriginRules", name := "foreignParts", desc := "()I" } : Jvm.MethodName)) ∈ lw_all := lw_g (lw_at lw_m3 8 rfl) rfl
theorem q512 : (Jvm.Cond.code ({ cls := "OriginRules", name := "foreignParts", desc := "()I" } : Jvm.MethodName) prog_1_method_27_code (3 : Nat) (Option.some Jvm.ClassFile.FieldType.int)) ∈ lw_all := lw_g (lw_at lw_m3 9 rfl) rfl
theorem q513 : (Jvm.Cond.methodLink "OriginRules" (137 : Nat) ({ cls := "java/util/ArrayList", name := "get", desc := "(I)Ljava/lang/Object;" } : Jvm.MethodName)) ∈ lw_all := lw_g (lw_at lw_m3 10 rfl) rfl
theorem q527 : (Jvm.Cond.classLink "OriginRules" (97 : Nat) "OriginRules$Part") ∈ lw_all := lw_g (lw_at lw_m3 24 rfl) rfl
theorem q528 : (Jvm.Cond.methodLink "OriginRules" (205 : Nat) ({ cls := "OriginRules$Good", name := "isForeign", desc := "(LOriginRules$Part;)Z" } : Jvm.MethodName)) ∈ lw_all := lw_g (lw_at lw_m3 25 rfl) rfl
theorem q546 : (Jvm.Cond.instanceMethod ({ cls := "OriginRules", name := "part", desc := "(IIJ)I" } : Jvm.MethodName)) ∈ lw_all := lw_g (lw_at lw_m3 43 rfl) rfl
theorem q547 : (Jvm.Cond.selects "OriginRules" ({ cls := "OriginRules", name := "part", desc := "(IIJ)I" } : Jvm.MethodName) ({ cls := "OriginRules", name := "part", desc := "(IIJ)I" } : Jvm.MethodName)) ∈ lw_all := lw_g (lw_at lw_m3 44 rfl) rfl
theorem q548 : (Jvm.Cond.code ({ cls := "OriginRules", name := "part", desc := "(IIJ)I" } : Jvm.MethodName) prog_1_method_12_code (5 : Nat) (Option.some Jvm.ClassFile.FieldType.int)) ∈ lw_all := lw_g (lw_at lw_m3 45 rfl) rfl
theorem q549 : (Jvm.Cond.methodLink "OriginRules" (76 : Nat) ({ cls := "OriginRules", name := "isCode", desc := "(I)Z" } : Jvm.MethodName)) ∈ lw_all := lw_g (lw_at lw_m3 46 rfl) rfl
theorem q550 : (Jvm.Cond.static ({ cls := "OriginRules", name := "isCode", desc := "(I)Z" } : Jvm.MethodName)) ∈ lw_all := lw_g (lw_at lw_m3 47 rfl) rfl
theorem q551 : (Jvm.Cond.code ({ cls := "OriginRules", name := "isCode", desc := "(I)Z" } : Jvm.MethodName) prog_1_method_6_code (1 : Nat) (Option.some Jvm.ClassFile.FieldType.boolean)) ∈ lw_all := lw_g (lw_at lw_m3 48 rfl) rfl
theorem q552 : (Jvm.Cond.constantLong "OriginRules" (45 : Nat) (999999 : Int64)) ∈ lw_all := lw_g (lw_at lw_m3 49 rfl) rfl
theorem q553 : (Jvm.Cond.methodLink "OriginRules" (80 : Nat) ({ cls := "OriginRules", name := "isLand", desc := "(I)Z" } : Jvm.MethodName)) ∈ lw_all := lw_g (lw_at lw_m3 50 rfl) rfl
theorem q554 : (Jvm.Cond.static ({ cls := "OriginRules", name := "isLand", desc := "(I)Z" } : Jvm.MethodName)) ∈ lw_all := lw_g (lw_at lw_m3 51 rfl) rfl
theorem q555 : (Jvm.Cond.code ({ cls := "OriginRules", name := "isLand", desc := "(I)Z" } : Jvm.MethodName) prog_1_method_5_code (1 : Nat) (Option.some Jvm.ClassFile.FieldType.boolean)) ∈ lw_all := lw_g (lw_at lw_m3 52 rfl) rfl
theorem q556 : (Jvm.Cond.constantLong "OriginRules" (39 : Nat) (9 : Int64)) ∈ lw_all := lw_g (lw_at lw_m3 53 rfl) rfl
theorem q557 : (Jvm.Cond.methodLink "OriginRules" (83 : Nat) ({ cls := "OriginRules", name := "isSum", desc := "(J)Z" } : Jvm.MethodName)) ∈ lw_all := lw_g (lw_at lw_m3 54 rfl) rfl
theorem q558 : (Jvm.Cond.static ({ cls := "OriginRules", name := "isSum", desc := "(J)Z" } : Jvm.MethodName)) ∈ lw_all := lw_g (lw_at lw_m3 55 rfl) rfl
theorem q559 : (Jvm.Cond.code ({ cls := "OriginRules", name := "isSum", desc := "(J)Z" } : Jvm.MethodName) prog_1_method_7_code (2 : Nat) (Option.some Jvm.ClassFile.FieldType.boolean)) ∈ lw_all := lw_g (lw_at lw_m3 56 rfl) rfl
theorem q560 : (Jvm.Cond.constantLong "OriginRules" (47 : Nat) (1000000000 : Int64)) ∈ lw_all := lw_g (lw_at lw_m3 57 rfl) rfl
theorem q561 : (Jvm.Cond.methodLink "OriginRules" (87 : Nat) ({ cls := "OriginRules", name := "allow", desc := "(Z)V" } : Jvm.MethodName)) ∈ lw_all := lw_g (lw_at lw_m3 58 rfl) rfl
theorem q562 : (Jvm.Cond.static ({ cls := "OriginRules", name := "allow", desc := "(Z)V" } : Jvm.MethodName)) ∈ lw_all := lw_g (lw_at lw_m3 59 rfl) rfl
theorem q563 : (Jvm.Cond.code ({ cls := "OriginRules", name := "allow", desc := "(Z)V" } : Jvm.MethodName) prog_1_method_3_code (1 : Nat) (Option.none : Option Jvm.ClassFile.FieldType)) ∈ lw_all := lw_g (lw_at lw_m3 60 rfl) rfl
theorem q564 : (Jvm.Cond.classLink "OriginRules" (33 : Nat) "java/lang/IllegalArgumentException") ∈ lw_all := lw_g (lw_at lw_m3 61 rfl) rfl
theorem q573 : (Jvm.Cond.methodLink "OriginRules" (35 : Nat) ({ cls := "java/lang/IllegalArgumentException", name := "<init>", desc := "()V" } : Jvm.MethodName)) ∈ lw_all := lw_g (lw_at lw_m3 70 rfl) rfl
theorem q579 : (Jvm.Cond.methodLink "OriginRules" (94 : Nat) ({ cls := "OriginRules", name := "room", desc := "(Z)V" } : Jvm.MethodName)) ∈ lw_all := lw_g (lw_at lw_m3 76 rfl) rfl
theorem q580 : (Jvm.Cond.static ({ cls := "OriginRules", name := "room", desc := "(Z)V" } : Jvm.MethodName)) ∈ lw_all := lw_g (lw_at lw_m3 77 rfl) rfl
theorem q581 : (Jvm.Cond.code ({ cls := "OriginRules", name := "room", desc := "(Z)V" } : Jvm.MethodName) prog_1_method_4_code (1 : Nat) (Option.none : Option Jvm.ClassFile.FieldType)) ∈ lw_all := lw_g (lw_at lw_m3 78 rfl) rfl
theorem q582 : (Jvm.Cond.classLink "OriginRules" (36 : Nat) "java/lang/IllegalStateException") ∈ lw_all := lw_g (lw_at lw_m3 79 rfl) rfl
theorem q591 : (Jvm.Cond.methodLink "OriginRules" (38 : Nat) ({ cls := "java/lang/IllegalStateException", name := "<init>", desc := "()V" } : Jvm.MethodName)) ∈ lw_all := lw_g (lw_at lw_m3 88 rfl) rfl
theorem q598 : (Jvm.Cond.methodLink "OriginRules" (99 : Nat) ({ cls := "OriginRules$Part", name := "<init>", desc := "(IIJ)V" } : Jvm.MethodName)) ∈ lw_all := lw_g (lw_at lw_m3 95 rfl) rfl
theorem q615 : (Jvm.Cond.methodLink "OriginRules" (102 : Nat) ({ cls := "java/util/ArrayList", name := "add", desc := "(Ljava/lang/Object;)Z" } : Jvm.MethodName)) ∈ lw_all := lw_g (lw_at lw_m3 112 rfl) rfl
theorem q620 : (Jvm.Cond.instanceMethod ({ cls := "OriginRules", name := "join", desc := "(II)I" } : Jvm.MethodName)) ∈ lw_all := lw_g (lw_at lw_m3 117 rfl) rfl
theorem q621 : (Jvm.Cond.selects "OriginRules" ({ cls := "OriginRules", name := "join", desc := "(II)I" } : Jvm.MethodName) ({ cls := "OriginRules", name := "join", desc := "(II)I" } : Jvm.MethodName)) ∈ lw_all := lw_g (lw_at lw_m3 118 rfl) rfl
theorem q622 : (Jvm.Cond.code ({ cls := "OriginRules", name := "join", desc := "(II)I" } : Jvm.MethodName) prog_1_method_16_code (3 : Nat) (Option.some Jvm.ClassFile.FieldType.int)) ∈ lw_all := lw_g (lw_at lw_m3 119 rfl) rfl
theorem q627 : (Jvm.Cond.instanceMethod ({ cls := "OriginRules", name := "verdict", desc := "(IJ)I" } : Jvm.MethodName)) ∈ lw_all := lw_g (lw_at lw_m3 124 rfl) rfl
theorem q628 : (Jvm.Cond.selects "OriginRules" ({ cls := "OriginRules", name := "verdict", desc := "(IJ)I" } : Jvm.MethodName) ({ cls := "OriginRules", name := "verdict", desc := "(IJ)I" } : Jvm.MethodName)) ∈ lw_all := lw_g (lw_at lw_m3 125 rfl) rfl
theorem q629 : (Jvm.Cond.code ({ cls := "OriginRules", name := "verdict", desc := "(IJ)I" } : Jvm.MethodName) prog_1_method_20_code (5 : Nat) (Option.some Jvm.ClassFile.FieldType.int)) ∈ lw_all := lw_g (lw_at lw_m3 126 rfl) rfl
theorem q630 : (Jvm.Cond.methodLink "OriginRules" (149 : Nat) ({ cls := "OriginRules", name := "rowOf", desc := "(I)LOriginRules$Row;" } : Jvm.MethodName)) ∈ lw_all := lw_g (lw_at lw_m3 127 rfl) rfl
theorem q631 : (Jvm.Cond.privateMethod ({ cls := "OriginRules", name := "rowOf", desc := "(I)LOriginRules$Row;" } : Jvm.MethodName)) ∈ lw_tbl := lw_at lw_m3 128 rfl
theorem q632 : (Jvm.Cond.instanceMethod ({ cls := "OriginRules", name := "rowOf", desc := "(I)LOriginRules$Row;" } : Jvm.MethodName)) ∈ lw_all := lw_g (lw_at lw_m3 129 rfl) rfl
theorem q633 : (Jvm.Cond.code ({ cls := "OriginRules", name := "rowOf", desc := "(I)LOriginRules$Row;" } : Jvm.MethodName) prog_1_method_19_code (5 : Nat) (Option.some (Jvm.ClassFile.FieldType.object "OriginRules$Row"))) ∈ lw_all := lw_g (lw_at lw_m3 130 rfl) rfl
theorem q634 : (Jvm.Cond.classLink "OriginRules" (141 : Nat) "OriginRules$Row") ∈ lw_all := lw_g (lw_at lw_m3 131 rfl) rfl
theorem q635 : (Jvm.Cond.methodLink "OriginRules" (143 : Nat) ({ cls := "OriginRules$Row", name := "isOf", desc := "(I)Z" } : Jvm.MethodName)) ∈ lw_all := lw_g (lw_at lw_m3 132 rfl) rfl
theorem q639 : (Jvm.Cond.interfaceEntry "OriginRules" (165 : Nat)) ∈ lw_tbl := lw_at lw_m3 136 rfl
theorem q640 : (Jvm.Cond.methodLink "OriginRules" (165 : Nat) ({ cls := "OriginRules$Node", name := "holds", desc := "(LOriginRules$Good;)Z" } : Jvm.MethodName)) ∈ lw_all := lw_g (lw_at lw_m3 137 rfl) rfl
theorem q748 : (Jvm.Cond.instanceMethod ({ cls := "OriginRules", name := "share", desc := "(JI)J" } : Jvm.MethodName)) ∈ lw_all := lw_g (lw_at lw_m4 5 rfl) rfl
theorem q749 : (Jvm.Cond.selects "OriginRules" ({ cls := "OriginRules", name := "share", desc := "(JI)J" } : Jvm.MethodName) ({ cls := "OriginRules", name := "share", desc := "(JI)J" } : Jvm.MethodName)) ∈ lw_all := lw_g (lw_at lw_m4 6 rfl) rfl
theorem q750 : (Jvm.Cond.code ({ cls := "OriginRules", name := "share", desc := "(JI)J" } : Jvm.MethodName) prog_1_method_23_code (8 : Nat) (Option.some Jvm.ClassFile.FieldType.long)) ∈ lw_all := lw_g (lw_at lw_m4 7 rfl) rfl
theorem q751 : (Jvm.Cond.methodLink "OriginRules" (175 : Nat) ({ cls := "OriginRules$Good", name := "foreign", desc := "()J" } : Jvm.MethodName)) ∈ lw_all := lw_g (lw_at lw_m4 8 rfl) rfl
theorem q752 : (Jvm.Cond.methodLink "OriginRules" (179 : Nat) ({ cls := "OriginRules", name := "common", desc := "(JJ)J" } : Jvm.MethodName)) ∈ lw_all := lw_g (lw_at lw_m4 9 rfl) rfl
theorem q753 : (Jvm.Cond.static ({ cls := "OriginRules", name := "common", desc := "(JJ)J" } : Jvm.MethodName)) ∈ lw_all := lw_g (lw_at lw_m4 10 rfl) rfl
theorem q754 : (Jvm.Cond.code ({ cls := "OriginRules", name := "common", desc := "(JJ)J" } : Jvm.MethodName) prog_1_method_22_code (10 : Nat) (Option.some Jvm.ClassFile.FieldType.long)) ∈ lw_all := lw_g (lw_at lw_m4 11 rfl) rfl
theorem q759 : (Jvm.Cond.instanceMethod ({ cls := "OriginRules", name := "proof", desc := "(III)I" } : Jvm.MethodName)) ∈ lw_all := lw_g (lw_at lw_m4 16 rfl) rfl
theorem q760 : (Jvm.Cond.selects "OriginRules" ({ cls := "OriginRules", name := "proof", desc := "(III)I" } : Jvm.MethodName) ({ cls := "OriginRules", name := "proof", desc := "(III)I" } : Jvm.MethodName)) ∈ lw_all := lw_g (lw_at lw_m4 17 rfl) rfl
theorem q761 : (Jvm.Cond.code ({ cls := "OriginRules", name := "proof", desc := "(III)I" } : Jvm.MethodName) prog_1_method_24_code (4 : Nat) (Option.some Jvm.ClassFile.FieldType.int)) ∈ lw_all := lw_g (lw_at lw_m4 18 rfl) rfl
theorem q762 : (Jvm.Cond.methodLink "OriginRules" (183 : Nat) ({ cls := "OriginRules", name := "isDay", desc := "(I)Z" } : Jvm.MethodName)) ∈ lw_all := lw_g (lw_at lw_m4 19 rfl) rfl
theorem q763 : (Jvm.Cond.static ({ cls := "OriginRules", name := "isDay", desc := "(I)Z" } : Jvm.MethodName)) ∈ lw_all := lw_g (lw_at lw_m4 20 rfl) rfl
theorem q764 : (Jvm.Cond.code ({ cls := "OriginRules", name := "isDay", desc := "(I)Z" } : Jvm.MethodName) prog_1_method_8_code (1 : Nat) (Option.some Jvm.ClassFile.FieldType.boolean)) ∈ lw_all := lw_g (lw_at lw_m4 21 rfl) rfl
theorem q765 : (Jvm.Cond.constantLong "OriginRules" (49 : Nat) (100000 : Int64)) ∈ lw_all := lw_g (lw_at lw_m4 22 rfl) rfl
theorem q766 : (Jvm.Cond.classLink "OriginRules" (186 : Nat) "OriginRules$Proof") ∈ lw_all := lw_g (lw_at lw_m4 23 rfl) rfl
theorem q768 : (Jvm.Cond.methodLink "OriginRules" (188 : Nat) ({ cls := "OriginRules$Proof", name := "<init>", desc := "(III)V" } : Jvm.MethodName)) ∈ lw_all := lw_g (lw_at lw_m4 25 rfl) rfl
theorem q773 : (Jvm.Cond.fieldLinkNest "OriginRules" (197 : Nat) "OriginRules$Proof" "kind" "I" "OriginRules") ∈ lw_tbl := lw_at lw_m4 30 rfl
theorem q775 : (Jvm.Cond.fieldLinkNest "OriginRules" (191 : Nat) "OriginRules$Proof" "from" "I" "OriginRules") ∈ lw_tbl := lw_at lw_m4 32 rfl
theorem q777 : (Jvm.Cond.fieldLinkNest "OriginRules" (194 : Nat) "OriginRules$Proof" "to" "I" "OriginRules") ∈ lw_tbl := lw_at lw_m4 34 rfl
theorem q789 : (Jvm.Cond.instanceMethod ({ cls := "OriginRules", name := "good", desc := "(IJI)Z" } : Jvm.MethodName)) ∈ lw_all := lw_g (lw_at lw_m4 46 rfl) rfl
theorem q790 : (Jvm.Cond.selects "OriginRules" ({ cls := "OriginRules", name := "good", desc := "(IJI)Z" } : Jvm.MethodName) ({ cls := "OriginRules", name := "good", desc := "(IJI)Z" } : Jvm.MethodName)) ∈ lw_all := lw_g (lw_at lw_m4 47 rfl) rfl
theorem q791 : (Jvm.Cond.code ({ cls := "OriginRules", name := "good", desc := "(IJI)Z" } : Jvm.MethodName) prog_1_method_25_code (6 : Nat) (Option.some Jvm.ClassFile.FieldType.boolean)) ∈ lw_all := lw_g (lw_at lw_m4 48 rfl) rfl
theorem q792 : (Jvm.Cond.constantLong "OriginRules" (200 : Nat) (1000000 : Int64)) ∈ lw_all := lw_g (lw_at lw_m4 49 rfl) rfl
theorem q797 : (Jvm.Cond.instanceMethod ({ cls := "OriginRules", name := "own", desc := "(I)Z" } : Jvm.MethodName)) ∈ lw_all := lw_g (lw_at lw_m4 54 rfl) rfl
theorem q798 : (Jvm.Cond.selects "OriginRules" ({ cls := "OriginRules", name := "own", desc := "(I)Z" } : Jvm.MethodName) ({ cls := "OriginRules", name := "own", desc := "(I)Z" } : Jvm.MethodName)) ∈ lw_all := lw_g (lw_at lw_m4 55 rfl) rfl
theorem q799 : (Jvm.Cond.code ({ cls := "OriginRules", name := "own", desc := "(I)Z" } : Jvm.MethodName) prog_1_method_26_code (2 : Nat) (Option.some Jvm.ClassFile.FieldType.boolean)) ∈ lw_all := lw_g (lw_at lw_m4 56 rfl) rfl
theorem q800 : (Jvm.Cond.methodLink "OriginRules" (202 : Nat) ({ cls := "OriginRules$Good", name := "own", desc := "()I" } : Jvm.MethodName)) ∈ lw_all := lw_g (lw_at lw_m4 57 rfl) rfl
theorem q1025 : (Jvm.Cond.castable "OriginRules" "java/lang/Object") ∈ lw_tbl := lw_at lw_m5 42 rfl
theorem in_X1 : ∀ w ∈ wsX10, w ∈ lw_all := lw_in wsX10 [178, 180, 182, 184] (by decide +kernel) (by decide +kernel)

/-! OriginRulesLaw -/
set_option maxRecDepth 100000
def RX0 : String := "OriginRulesLaw"
abbrev cX0_part : ByteArray := method_3_code
def yX0_part : MethodName := ⟨RX0, "part", "(LOriginRules;IIJ[J)I"⟩
theorem dX0_part_0 : decode cX0_part 0 = .ok (.aload 5, 2) := by decide +kernel
theorem dX0_part_2 : decode cX0_part 2 = .ok (.iconst 0, 1) := by decide +kernel
theorem dX0_part_3 : decode cX0_part 3 = .ok (.aload_n 0, 1) := by decide +kernel
theorem dX0_part_4 : decode cX0_part 4 = .ok (.iload_n 1, 1) := by decide +kernel
theorem dX0_part_5 : decode cX0_part 5 = .ok (.iload_n 2, 1) := by decide +kernel
theorem dX0_part_6 : decode cX0_part 6 = .ok (.lload_n 3, 1) := by decide +kernel
theorem dX0_part_7 : decode cX0_part 7 = .ok (.invokevirtual 7, 3) := by decide +kernel
theorem dX0_part_10 : decode cX0_part 10 = .ok (.i2l, 1) := by decide +kernel
theorem dX0_part_11 : decode cX0_part 11 = .ok (.lastore, 1) := by decide +kernel
theorem dX0_part_12 : decode cX0_part 12 = .ok (.goto 11, 3) := by decide +kernel
theorem dX0_part_15 : decode cX0_part 15 = .ok (.astore 6, 2) := by decide +kernel
theorem dX0_part_17 : decode cX0_part 17 = .ok (.iconst 1, 1) := by decide +kernel
theorem dX0_part_18 : decode cX0_part 18 = .ok (.ireturn, 1) := by decide +kernel
theorem dX0_part_19 : decode cX0_part 19 = .ok (.astore 6, 2) := by decide +kernel
theorem dX0_part_21 : decode cX0_part 21 = .ok (.iconst 2, 1) := by decide +kernel
theorem dX0_part_22 : decode cX0_part 22 = .ok (.ireturn, 1) := by decide +kernel
theorem dX0_part_23 : decode cX0_part 23 = .ok (.iconst 0, 1) := by decide +kernel
theorem dX0_part_24 : decode cX0_part 24 = .ok (.ireturn, 1) := by decide +kernel
abbrev cX0_join : ByteArray := method_4_code
def yX0_join : MethodName := ⟨RX0, "join", "(LOriginRules;II[J)I"⟩
theorem dX0_join_0 : decode cX0_join 0 = .ok (.aload_n 3, 1) := by decide +kernel
theorem dX0_join_1 : decode cX0_join 1 = .ok (.iconst 0, 1) := by decide +kernel
theorem dX0_join_2 : decode cX0_join 2 = .ok (.aload_n 0, 1) := by decide +kernel
theorem dX0_join_3 : decode cX0_join 3 = .ok (.iload_n 1, 1) := by decide +kernel
theorem dX0_join_4 : decode cX0_join 4 = .ok (.iload_n 2, 1) := by decide +kernel
theorem dX0_join_5 : decode cX0_join 5 = .ok (.invokevirtual 17, 3) := by decide +kernel
theorem dX0_join_8 : decode cX0_join 8 = .ok (.i2l, 1) := by decide +kernel
theorem dX0_join_9 : decode cX0_join 9 = .ok (.lastore, 1) := by decide +kernel
theorem dX0_join_10 : decode cX0_join 10 = .ok (.goto 7, 3) := by decide +kernel
theorem dX0_join_13 : decode cX0_join 13 = .ok (.astore 4, 2) := by decide +kernel
theorem dX0_join_15 : decode cX0_join 15 = .ok (.iconst 1, 1) := by decide +kernel
theorem dX0_join_16 : decode cX0_join 16 = .ok (.ireturn, 1) := by decide +kernel
theorem dX0_join_17 : decode cX0_join 17 = .ok (.iconst 0, 1) := by decide +kernel
theorem dX0_join_18 : decode cX0_join 18 = .ok (.ireturn, 1) := by decide +kernel
abbrev cX0_verdict : ByteArray := method_5_code
def yX0_verdict : MethodName := ⟨RX0, "verdict", "(LOriginRules;IJ[J)I"⟩
theorem dX0_verdict_0 : decode cX0_verdict 0 = .ok (.aload 4, 2) := by decide +kernel
theorem dX0_verdict_2 : decode cX0_verdict 2 = .ok (.iconst 0, 1) := by decide +kernel
theorem dX0_verdict_3 : decode cX0_verdict 3 = .ok (.aload_n 0, 1) := by decide +kernel
theorem dX0_verdict_4 : decode cX0_verdict 4 = .ok (.iload_n 1, 1) := by decide +kernel
theorem dX0_verdict_5 : decode cX0_verdict 5 = .ok (.lload_n 2, 1) := by decide +kernel
theorem dX0_verdict_6 : decode cX0_verdict 6 = .ok (.invokevirtual 21, 3) := by decide +kernel
theorem dX0_verdict_9 : decode cX0_verdict 9 = .ok (.i2l, 1) := by decide +kernel
theorem dX0_verdict_10 : decode cX0_verdict 10 = .ok (.lastore, 1) := by decide +kernel
theorem dX0_verdict_11 : decode cX0_verdict 11 = .ok (.goto 7, 3) := by decide +kernel
theorem dX0_verdict_14 : decode cX0_verdict 14 = .ok (.astore 5, 2) := by decide +kernel
theorem dX0_verdict_16 : decode cX0_verdict 16 = .ok (.iconst 1, 1) := by decide +kernel
theorem dX0_verdict_17 : decode cX0_verdict 17 = .ok (.ireturn, 1) := by decide +kernel
theorem dX0_verdict_18 : decode cX0_verdict 18 = .ok (.iconst 0, 1) := by decide +kernel
theorem dX0_verdict_19 : decode cX0_verdict 19 = .ok (.ireturn, 1) := by decide +kernel
abbrev cX0_share : ByteArray := method_6_code
def yX0_share : MethodName := ⟨RX0, "share", "(LOriginRules;JI[J)I"⟩
theorem dX0_share_0 : decode cX0_share 0 = .ok (.aload 4, 2) := by decide +kernel
theorem dX0_share_2 : decode cX0_share 2 = .ok (.iconst 0, 1) := by decide +kernel
theorem dX0_share_3 : decode cX0_share 3 = .ok (.aload_n 0, 1) := by decide +kernel
theorem dX0_share_4 : decode cX0_share 4 = .ok (.lload_n 1, 1) := by decide +kernel
theorem dX0_share_5 : decode cX0_share 5 = .ok (.iload_n 3, 1) := by decide +kernel
theorem dX0_share_6 : decode cX0_share 6 = .ok (.invokevirtual 25, 3) := by decide +kernel
theorem dX0_share_9 : decode cX0_share 9 = .ok (.lastore, 1) := by decide +kernel
theorem dX0_share_10 : decode cX0_share 10 = .ok (.goto 11, 3) := by decide +kernel
theorem dX0_share_13 : decode cX0_share 13 = .ok (.astore 5, 2) := by decide +kernel
theorem dX0_share_15 : decode cX0_share 15 = .ok (.iconst 1, 1) := by decide +kernel
theorem dX0_share_16 : decode cX0_share 16 = .ok (.ireturn, 1) := by decide +kernel
theorem dX0_share_17 : decode cX0_share 17 = .ok (.astore 5, 2) := by decide +kernel
theorem dX0_share_19 : decode cX0_share 19 = .ok (.iconst 2, 1) := by decide +kernel
theorem dX0_share_20 : decode cX0_share 20 = .ok (.ireturn, 1) := by decide +kernel
theorem dX0_share_21 : decode cX0_share 21 = .ok (.iconst 0, 1) := by decide +kernel
theorem dX0_share_22 : decode cX0_share 22 = .ok (.ireturn, 1) := by decide +kernel
abbrev cX0_proof : ByteArray := method_7_code
def yX0_proof : MethodName := ⟨RX0, "proof", "(LOriginRules;III[J)I"⟩
theorem dX0_proof_0 : decode cX0_proof 0 = .ok (.aload 4, 2) := by decide +kernel
theorem dX0_proof_2 : decode cX0_proof 2 = .ok (.iconst 0, 1) := by decide +kernel
theorem dX0_proof_3 : decode cX0_proof 3 = .ok (.aload_n 0, 1) := by decide +kernel
theorem dX0_proof_4 : decode cX0_proof 4 = .ok (.iload_n 1, 1) := by decide +kernel
theorem dX0_proof_5 : decode cX0_proof 5 = .ok (.iload_n 2, 1) := by decide +kernel
theorem dX0_proof_6 : decode cX0_proof 6 = .ok (.iload_n 3, 1) := by decide +kernel
theorem dX0_proof_7 : decode cX0_proof 7 = .ok (.invokevirtual 31, 3) := by decide +kernel
theorem dX0_proof_10 : decode cX0_proof 10 = .ok (.i2l, 1) := by decide +kernel
theorem dX0_proof_11 : decode cX0_proof 11 = .ok (.lastore, 1) := by decide +kernel
theorem dX0_proof_12 : decode cX0_proof 12 = .ok (.goto 11, 3) := by decide +kernel
theorem dX0_proof_15 : decode cX0_proof 15 = .ok (.astore 5, 2) := by decide +kernel
theorem dX0_proof_17 : decode cX0_proof 17 = .ok (.iconst 1, 1) := by decide +kernel
theorem dX0_proof_18 : decode cX0_proof 18 = .ok (.ireturn, 1) := by decide +kernel
theorem dX0_proof_19 : decode cX0_proof 19 = .ok (.astore 5, 2) := by decide +kernel
theorem dX0_proof_21 : decode cX0_proof 21 = .ok (.iconst 2, 1) := by decide +kernel
theorem dX0_proof_22 : decode cX0_proof 22 = .ok (.ireturn, 1) := by decide +kernel
theorem dX0_proof_23 : decode cX0_proof 23 = .ok (.iconst 0, 1) := by decide +kernel
theorem dX0_proof_24 : decode cX0_proof 24 = .ok (.ireturn, 1) := by decide +kernel
abbrev cX0_good : ByteArray := method_8_code
def yX0_good : MethodName := ⟨RX0, "good", "(LOriginRules;IJI[J)I"⟩
theorem dX0_good_0 : decode cX0_good 0 = .ok (.aload 5, 2) := by decide +kernel
theorem dX0_good_2 : decode cX0_good 2 = .ok (.iconst 0, 1) := by decide +kernel
theorem dX0_good_3 : decode cX0_good 3 = .ok (.aload_n 0, 1) := by decide +kernel
theorem dX0_good_4 : decode cX0_good 4 = .ok (.iload_n 1, 1) := by decide +kernel
theorem dX0_good_5 : decode cX0_good 5 = .ok (.lload_n 2, 1) := by decide +kernel
theorem dX0_good_6 : decode cX0_good 6 = .ok (.iload 4, 2) := by decide +kernel
theorem dX0_good_8 : decode cX0_good 8 = .ok (.invokevirtual 35, 3) := by decide +kernel
theorem dX0_good_11 : decode cX0_good 11 = .ok (.ifCond .eq 7, 3) := by decide +kernel
theorem dX0_good_14 : decode cX0_good 14 = .ok (.lconst 1, 1) := by decide +kernel
theorem dX0_good_15 : decode cX0_good 15 = .ok (.goto 4, 3) := by decide +kernel
theorem dX0_good_18 : decode cX0_good 18 = .ok (.lconst 0, 1) := by decide +kernel
theorem dX0_good_19 : decode cX0_good 19 = .ok (.lastore, 1) := by decide +kernel
theorem dX0_good_20 : decode cX0_good 20 = .ok (.goto 7, 3) := by decide +kernel
theorem dX0_good_23 : decode cX0_good 23 = .ok (.astore 6, 2) := by decide +kernel
theorem dX0_good_25 : decode cX0_good 25 = .ok (.iconst 1, 1) := by decide +kernel
theorem dX0_good_26 : decode cX0_good 26 = .ok (.ireturn, 1) := by decide +kernel
theorem dX0_good_27 : decode cX0_good 27 = .ok (.iconst 0, 1) := by decide +kernel
theorem dX0_good_28 : decode cX0_good 28 = .ok (.ireturn, 1) := by decide +kernel
abbrev cX0_own : ByteArray := method_9_code
def yX0_own : MethodName := ⟨RX0, "own", "(LOriginRules;I[J)I"⟩
theorem dX0_own_0 : decode cX0_own 0 = .ok (.aload_n 2, 1) := by decide +kernel
theorem dX0_own_1 : decode cX0_own 1 = .ok (.iconst 0, 1) := by decide +kernel
theorem dX0_own_2 : decode cX0_own 2 = .ok (.aload_n 0, 1) := by decide +kernel
theorem dX0_own_3 : decode cX0_own 3 = .ok (.iload_n 1, 1) := by decide +kernel
theorem dX0_own_4 : decode cX0_own 4 = .ok (.invokevirtual 39, 3) := by decide +kernel
theorem dX0_own_7 : decode cX0_own 7 = .ok (.ifCond .eq 7, 3) := by decide +kernel
theorem dX0_own_10 : decode cX0_own 10 = .ok (.lconst 1, 1) := by decide +kernel
theorem dX0_own_11 : decode cX0_own 11 = .ok (.goto 4, 3) := by decide +kernel
theorem dX0_own_14 : decode cX0_own 14 = .ok (.lconst 0, 1) := by decide +kernel
theorem dX0_own_15 : decode cX0_own 15 = .ok (.lastore, 1) := by decide +kernel
theorem dX0_own_16 : decode cX0_own 16 = .ok (.goto 6, 3) := by decide +kernel
theorem dX0_own_19 : decode cX0_own 19 = .ok (.astore_n 3, 1) := by decide +kernel
theorem dX0_own_20 : decode cX0_own 20 = .ok (.iconst 1, 1) := by decide +kernel
theorem dX0_own_21 : decode cX0_own 21 = .ok (.ireturn, 1) := by decide +kernel
theorem dX0_own_22 : decode cX0_own 22 = .ok (.iconst 0, 1) := by decide +kernel
theorem dX0_own_23 : decode cX0_own 23 = .ok (.ireturn, 1) := by decide +kernel
theorem q23 : (Jvm.Cond.initialized "OriginRulesLaw") ∈ lw_all := lw_g (lw_at lw_m1 0 rfl) rfl
theorem q55 : (Jvm.Cond.classLink "OriginRulesLaw" (8 : Nat) "OriginRules") ∈ lw_all := lw_g (lw_at lw_m1 32 rfl) rfl
theorem q57 : (Jvm.Cond.methodLink "OriginRulesLaw" (43 : Nat) ({ cls := "OriginRules", name := "<init>", desc := "()V" } : Jvm.MethodName)) ∈ lw_all := lw_g (lw_at lw_m1 34 rfl) rfl
theorem q187 : (Jvm.Cond.methodLink "OriginRulesLaw" (47 : Nat) ({ cls := "OriginRules", name := "sign", desc := "(I)Z" } : Jvm.MethodName)) ∈ lw_all := lw_g (lw_at lw_m1 164 rfl) rfl
theorem q196 : (Jvm.Cond.methodLink "OriginRulesLaw" (51 : Nat) ({ cls := "OriginRules", name := "read", desc := "()I" } : Jvm.MethodName)) ∈ lw_all := lw_g (lw_at lw_m1 173 rfl) rfl
theorem q472 : (Jvm.Cond.methodLink "OriginRulesLaw" (67 : Nat) ({ cls := "OriginRules", name := "clear", desc := "()I" } : Jvm.MethodName)) ∈ lw_all := lw_g (lw_at lw_m2 209 rfl) rfl
theorem q480 : (Jvm.Cond.methodLink "OriginRulesLaw" (71 : Nat) ({ cls := "OriginRules", name := "process", desc := "(I)Z" } : Jvm.MethodName)) ∈ lw_all := lw_g (lw_at lw_m2 217 rfl) rfl
theorem q488 : (Jvm.Cond.methodLink "OriginRulesLaw" (75 : Nat) ({ cls := "OriginRules", name := "bar", desc := "(IZ)Z" } : Jvm.MethodName)) ∈ lw_all := lw_g (lw_at lw_m2 225 rfl) rfl
theorem q492 : (Jvm.Cond.methodLink "OriginRulesLaw" (84 : Nat) ({ cls := "OriginRules", name := "full", desc := "(Z)Z" } : Jvm.MethodName)) ∈ lw_all := lw_g (lw_at lw_m2 229 rfl) rfl
theorem q496 : (Jvm.Cond.methodLink "OriginRulesLaw" (89 : Nat) ({ cls := "OriginRules", name := "tolerance", desc := "(II)Z" } : Jvm.MethodName)) ∈ lw_all := lw_g (lw_at lw_m2 233 rfl) rfl
theorem q501 : (Jvm.Cond.methodLink "OriginRulesLaw" (98 : Nat) ({ cls := "OriginRules", name := "why", desc := "(I)I" } : Jvm.MethodName)) ∈ lw_all := lw_g (lw_at lw_m2 238 rfl) rfl
theorem q505 : (Jvm.Cond.methodLink "OriginRulesLaw" (119 : Nat) ({ cls := "OriginRules", name := "count", desc := "(I)I" } : Jvm.MethodName)) ∈ lw_all := lw_g (lw_at lw_m3 2 rfl) rfl
theorem q540 : (Jvm.Cond.methodLink "OriginRulesLaw" (58 : Nat) ({ cls := "OriginRulesLaw", name := "part", desc := "(LOriginRules;IIJ[J)I" } : Jvm.MethodName)) ∈ lw_all := lw_g (lw_at lw_m3 37 rfl) rfl
theorem q541 : (Jvm.Cond.static ({ cls := "OriginRulesLaw", name := "part", desc := "(LOriginRules;IIJ[J)I" } : Jvm.MethodName)) ∈ lw_all := lw_g (lw_at lw_m3 38 rfl) rfl
theorem q542 : (Jvm.Cond.codeWith ({ cls := "OriginRulesLaw", name := "part", desc := "(LOriginRules;IIJ[J)I" } : Jvm.MethodName) method_3_code (7 : Nat) (Option.some Jvm.ClassFile.FieldType.int) [((0 : Nat), (12 : Nat), (15 : Nat), (13 : Nat)), ((0 : Nat), (12 : Nat), (19 : Nat), (15 : Nat))]) ∈ lw_all := lw_g (lw_at lw_m3 39 rfl) rfl
theorem q543 : (Jvm.Cond.classLink "OriginRulesLaw" (13 : Nat) "java/lang/IllegalArgumentException") ∈ lw_all := lw_g (lw_at lw_m3 40 rfl) rfl
theorem q544 : (Jvm.Cond.classLink "OriginRulesLaw" (15 : Nat) "java/lang/IllegalStateException") ∈ lw_all := lw_g (lw_at lw_m3 41 rfl) rfl
theorem q545 : (Jvm.Cond.methodLink "OriginRulesLaw" (7 : Nat) ({ cls := "OriginRules", name := "part", desc := "(IIJ)I" } : Jvm.MethodName)) ∈ lw_all := lw_g (lw_at lw_m3 42 rfl) rfl
theorem q616 : (Jvm.Cond.methodLink "OriginRulesLaw" (80 : Nat) ({ cls := "OriginRulesLaw", name := "join", desc := "(LOriginRules;II[J)I" } : Jvm.MethodName)) ∈ lw_all := lw_g (lw_at lw_m3 113 rfl) rfl
theorem q617 : (Jvm.Cond.static ({ cls := "OriginRulesLaw", name := "join", desc := "(LOriginRules;II[J)I" } : Jvm.MethodName)) ∈ lw_all := lw_g (lw_at lw_m3 114 rfl) rfl
theorem q618 : (Jvm.Cond.codeWith ({ cls := "OriginRulesLaw", name := "join", desc := "(LOriginRules;II[J)I" } : Jvm.MethodName) method_4_code (5 : Nat) (Option.some Jvm.ClassFile.FieldType.int) [((0 : Nat), (10 : Nat), (13 : Nat), (13 : Nat))]) ∈ lw_all := lw_g (lw_at lw_m3 115 rfl) rfl
theorem q619 : (Jvm.Cond.methodLink "OriginRulesLaw" (17 : Nat) ({ cls := "OriginRules", name := "join", desc := "(II)I" } : Jvm.MethodName)) ∈ lw_all := lw_g (lw_at lw_m3 116 rfl) rfl
theorem q623 : (Jvm.Cond.methodLink "OriginRulesLaw" (94 : Nat) ({ cls := "OriginRulesLaw", name := "verdict", desc := "(LOriginRules;IJ[J)I" } : Jvm.MethodName)) ∈ lw_all := lw_g (lw_at lw_m3 120 rfl) rfl
theorem q624 : (Jvm.Cond.static ({ cls := "OriginRulesLaw", name := "verdict", desc := "(LOriginRules;IJ[J)I" } : Jvm.MethodName)) ∈ lw_all := lw_g (lw_at lw_m3 121 rfl) rfl
theorem q625 : (Jvm.Cond.codeWith ({ cls := "OriginRulesLaw", name := "verdict", desc := "(LOriginRules;IJ[J)I" } : Jvm.MethodName) method_5_code (6 : Nat) (Option.some Jvm.ClassFile.FieldType.int) [((0 : Nat), (11 : Nat), (14 : Nat), (13 : Nat))]) ∈ lw_all := lw_g (lw_at lw_m3 122 rfl) rfl
theorem q626 : (Jvm.Cond.methodLink "OriginRulesLaw" (21 : Nat) ({ cls := "OriginRules", name := "verdict", desc := "(IJ)I" } : Jvm.MethodName)) ∈ lw_all := lw_g (lw_at lw_m3 123 rfl) rfl
theorem q716 : (Jvm.Cond.methodLink "OriginRulesLaw" (103 : Nat) ({ cls := "OriginRulesLaw", name := "share", desc := "(LOriginRules;JI[J)I" } : Jvm.MethodName)) ∈ lw_all := lw_g (lw_at lw_m3 213 rfl) rfl
theorem q717 : (Jvm.Cond.static ({ cls := "OriginRulesLaw", name := "share", desc := "(LOriginRules;JI[J)I" } : Jvm.MethodName)) ∈ lw_all := lw_g (lw_at lw_m3 214 rfl) rfl
theorem q718 : (Jvm.Cond.codeWith ({ cls := "OriginRulesLaw", name := "share", desc := "(LOriginRules;JI[J)I" } : Jvm.MethodName) method_6_code (6 : Nat) (Option.some Jvm.ClassFile.FieldType.int) [((0 : Nat), (10 : Nat), (13 : Nat), (13 : Nat)), ((0 : Nat), (10 : Nat), (17 : Nat), (29 : Nat))]) ∈ lw_all := lw_g (lw_at lw_m3 215 rfl) rfl
theorem q719 : (Jvm.Cond.classLink "OriginRulesLaw" (29 : Nat) "java/lang/ArithmeticException") ∈ lw_all := lw_g (lw_at lw_m3 216 rfl) rfl
theorem q747 : (Jvm.Cond.methodLink "OriginRulesLaw" (25 : Nat) ({ cls := "OriginRules", name := "share", desc := "(JI)J" } : Jvm.MethodName)) ∈ lw_all := lw_g (lw_at lw_m4 4 rfl) rfl
theorem q755 : (Jvm.Cond.methodLink "OriginRulesLaw" (107 : Nat) ({ cls := "OriginRulesLaw", name := "proof", desc := "(LOriginRules;III[J)I" } : Jvm.MethodName)) ∈ lw_all := lw_g (lw_at lw_m4 12 rfl) rfl
theorem q756 : (Jvm.Cond.static ({ cls := "OriginRulesLaw", name := "proof", desc := "(LOriginRules;III[J)I" } : Jvm.MethodName)) ∈ lw_all := lw_g (lw_at lw_m4 13 rfl) rfl
theorem q757 : (Jvm.Cond.codeWith ({ cls := "OriginRulesLaw", name := "proof", desc := "(LOriginRules;III[J)I" } : Jvm.MethodName) method_7_code (6 : Nat) (Option.some Jvm.ClassFile.FieldType.int) [((0 : Nat), (12 : Nat), (15 : Nat), (13 : Nat)), ((0 : Nat), (12 : Nat), (19 : Nat), (15 : Nat))]) ∈ lw_all := lw_g (lw_at lw_m4 14 rfl) rfl
theorem q758 : (Jvm.Cond.methodLink "OriginRulesLaw" (31 : Nat) ({ cls := "OriginRules", name := "proof", desc := "(III)I" } : Jvm.MethodName)) ∈ lw_all := lw_g (lw_at lw_m4 15 rfl) rfl
theorem q785 : (Jvm.Cond.methodLink "OriginRulesLaw" (111 : Nat) ({ cls := "OriginRulesLaw", name := "good", desc := "(LOriginRules;IJI[J)I" } : Jvm.MethodName)) ∈ lw_all := lw_g (lw_at lw_m4 42 rfl) rfl
theorem q786 : (Jvm.Cond.static ({ cls := "OriginRulesLaw", name := "good", desc := "(LOriginRules;IJI[J)I" } : Jvm.MethodName)) ∈ lw_all := lw_g (lw_at lw_m4 43 rfl) rfl
theorem q787 : (Jvm.Cond.codeWith ({ cls := "OriginRulesLaw", name := "good", desc := "(LOriginRules;IJI[J)I" } : Jvm.MethodName) method_8_code (7 : Nat) (Option.some Jvm.ClassFile.FieldType.int) [((0 : Nat), (20 : Nat), (23 : Nat), (13 : Nat))]) ∈ lw_all := lw_g (lw_at lw_m4 44 rfl) rfl
theorem q788 : (Jvm.Cond.methodLink "OriginRulesLaw" (35 : Nat) ({ cls := "OriginRules", name := "good", desc := "(IJI)Z" } : Jvm.MethodName)) ∈ lw_all := lw_g (lw_at lw_m4 45 rfl) rfl
theorem q793 : (Jvm.Cond.methodLink "OriginRulesLaw" (115 : Nat) ({ cls := "OriginRulesLaw", name := "own", desc := "(LOriginRules;I[J)I" } : Jvm.MethodName)) ∈ lw_all := lw_g (lw_at lw_m4 50 rfl) rfl
theorem q794 : (Jvm.Cond.static ({ cls := "OriginRulesLaw", name := "own", desc := "(LOriginRules;I[J)I" } : Jvm.MethodName)) ∈ lw_all := lw_g (lw_at lw_m4 51 rfl) rfl
theorem q795 : (Jvm.Cond.codeWith ({ cls := "OriginRulesLaw", name := "own", desc := "(LOriginRules;I[J)I" } : Jvm.MethodName) method_9_code (4 : Nat) (Option.some Jvm.ClassFile.FieldType.int) [((0 : Nat), (16 : Nat), (19 : Nat), (13 : Nat))]) ∈ lw_all := lw_g (lw_at lw_m4 52 rfl) rfl
theorem q796 : (Jvm.Cond.methodLink "OriginRulesLaw" (39 : Nat) ({ cls := "OriginRules", name := "own", desc := "(I)Z" } : Jvm.MethodName)) ∈ lw_all := lw_g (lw_at lw_m4 53 rfl) rfl
theorem q801 : (Jvm.Cond.classLink "OriginRulesLaw" (44 : Nat) "OriginRulesModel") ∈ lw_all := lw_g (lw_at lw_m4 58 rfl) rfl
theorem q803 : (Jvm.Cond.methodLink "OriginRulesLaw" (46 : Nat) ({ cls := "OriginRulesModel", name := "<init>", desc := "()V" } : Jvm.MethodName)) ∈ lw_all := lw_g (lw_at lw_m4 60 rfl) rfl
theorem q890 : (Jvm.Cond.methodLink "OriginRulesLaw" (64 : Nat) ({ cls := "OriginRulesModel", name := "thrown", desc := "()I" } : Jvm.MethodName)) ∈ lw_all := lw_g (lw_at lw_m4 147 rfl) rfl
theorem q894 : (Jvm.Cond.methodLink "OriginRulesLaw" (50 : Nat) ({ cls := "OriginRulesModel", name := "sign", desc := "(I)Z" } : Jvm.MethodName)) ∈ lw_all := lw_g (lw_at lw_m4 151 rfl) rfl
theorem q903 : (Jvm.Cond.methodLink "OriginRulesLaw" (55 : Nat) ({ cls := "OriginRulesModel", name := "read", desc := "()I" } : Jvm.MethodName)) ∈ lw_all := lw_g (lw_at lw_m4 160 rfl) rfl
theorem q916 : (Jvm.Cond.methodLink "OriginRulesLaw" (63 : Nat) ({ cls := "OriginRulesModel", name := "part", desc := "(IIJ)I" } : Jvm.MethodName)) ∈ lw_all := lw_g (lw_at lw_m4 173 rfl) rfl
theorem q927 : (Jvm.Cond.methodLink "OriginRulesLaw" (70 : Nat) ({ cls := "OriginRulesModel", name := "clear", desc := "()I" } : Jvm.MethodName)) ∈ lw_all := lw_g (lw_at lw_m4 184 rfl) rfl
theorem q931 : (Jvm.Cond.methodLink "OriginRulesLaw" (74 : Nat) ({ cls := "OriginRulesModel", name := "process", desc := "(I)Z" } : Jvm.MethodName)) ∈ lw_all := lw_g (lw_at lw_m4 188 rfl) rfl
theorem q936 : (Jvm.Cond.methodLink "OriginRulesLaw" (79 : Nat) ({ cls := "OriginRulesModel", name := "bar", desc := "(IZ)Z" } : Jvm.MethodName)) ∈ lw_all := lw_g (lw_at lw_m4 193 rfl) rfl
theorem q940 : (Jvm.Cond.methodLink "OriginRulesLaw" (83 : Nat) ({ cls := "OriginRulesModel", name := "join", desc := "(II)I" } : Jvm.MethodName)) ∈ lw_all := lw_g (lw_at lw_m4 197 rfl) rfl
theorem q944 : (Jvm.Cond.methodLink "OriginRulesLaw" (88 : Nat) ({ cls := "OriginRulesModel", name := "full", desc := "(Z)Z" } : Jvm.MethodName)) ∈ lw_all := lw_g (lw_at lw_m4 201 rfl) rfl
theorem q948 : (Jvm.Cond.methodLink "OriginRulesLaw" (93 : Nat) ({ cls := "OriginRulesModel", name := "tolerance", desc := "(II)Z" } : Jvm.MethodName)) ∈ lw_all := lw_g (lw_at lw_m4 205 rfl) rfl
theorem q953 : (Jvm.Cond.methodLink "OriginRulesLaw" (118 : Nat) ({ cls := "OriginRulesModel", name := "own", desc := "(I)Z" } : Jvm.MethodName)) ∈ lw_all := lw_g (lw_at lw_m4 210 rfl) rfl
theorem q961 : (Jvm.Cond.methodLink "OriginRulesLaw" (97 : Nat) ({ cls := "OriginRulesModel", name := "verdict", desc := "(IJ)I" } : Jvm.MethodName)) ∈ lw_all := lw_g (lw_at lw_m4 218 rfl) rfl
theorem q995 : (Jvm.Cond.methodLink "OriginRulesLaw" (102 : Nat) ({ cls := "OriginRulesModel", name := "why", desc := "(I)I" } : Jvm.MethodName)) ∈ lw_all := lw_g (lw_at lw_m5 12 rfl) rfl
theorem q999 : (Jvm.Cond.methodLink "OriginRulesLaw" (106 : Nat) ({ cls := "OriginRulesModel", name := "share", desc := "(JI)J" } : Jvm.MethodName)) ∈ lw_all := lw_g (lw_at lw_m5 16 rfl) rfl
theorem q1003 : (Jvm.Cond.methodLink "OriginRulesLaw" (110 : Nat) ({ cls := "OriginRulesModel", name := "proof", desc := "(III)I" } : Jvm.MethodName)) ∈ lw_all := lw_g (lw_at lw_m5 20 rfl) rfl
theorem q1011 : (Jvm.Cond.methodLink "OriginRulesLaw" (114 : Nat) ({ cls := "OriginRulesModel", name := "good", desc := "(IJI)Z" } : Jvm.MethodName)) ∈ lw_all := lw_g (lw_at lw_m5 28 rfl) rfl
theorem q1016 : (Jvm.Cond.methodLink "OriginRulesLaw" (122 : Nat) ({ cls := "OriginRulesModel", name := "count", desc := "(I)I" } : Jvm.MethodName)) ∈ lw_all := lw_g (lw_at lw_m5 33 rfl) rfl
theorem q1020 : (Jvm.Cond.constantLong "OriginRulesLaw" (56 : Nat) (4294967295 : Int64)) ∈ lw_all := lw_g (lw_at lw_m5 37 rfl) rfl
