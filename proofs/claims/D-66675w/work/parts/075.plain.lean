/-! ===== OriginRules: the plain calls ===== -/
theorem od_upd_id (I : Nat → Int32) (k : Nat) : upd I k (I k) = I := by
  funext j
  unfold upd
  split
  · rename_i h; rw [h]
  · rfl
set_option maxHeartbeats 4000000 in
set_option maxRecDepth 100000 in
theorem kX1_sign {l : Launch} {s0 : State} {b0 : Addr} {D : va_G} {d : Nat → ClassId} (G : oc_G l s0 b0 D d) {H : Heap} {u : Nat → Nat} {rw : Nat} {cd : Int32} {pr : Int64} {at0 be de : Int32} {I : Nat → Int32} {F : Nat → Nat → Int32} (x : Int32) (n : Nat) (hn : I 2 = nI n) (h3 : n ≤ 300) (hP : va_P D oc_cl (od_cW d u rw cd pr at0 be de I F) H) (hD : va_D (va_A (od_cW d u rw cd pr at0 be de I F) (Array.size H)) (od_cW d u rw cd pr at0 be de I F)) (hN0 : ∀ z_9 ∈ (od_cW d u rw cd pr at0 be de I F), s0.heap.size ≤ z_9.1) : oc_C l s0 yX1_sign (oc_rm 1 17 0 0) [.ref (u 0), .int x] H (va_A (od_cW d u rw cd pr at0 be de I F) (Array.size H)) (oc_Pr (od_Pc D d u rw cd pr at0 be de (va_A (od_cW d u rw cd pr at0 be de I F) (Array.size H)) (fun v I2 F2 => (oc_in x.toInt64 33 126 = true ∧ ¬ n = 300 ∧ v = some (.int 1) ∧ I2 = upd I 2 (nI (n + 1)) ∧ F2 = va_up F 1 (upd (F 1) n x)) ∨ ((oc_in x.toInt64 33 126 = false ∨ n = 300) ∧ v = some (.int 0) ∧ I2 = I ∧ F2 = F)))) := by
  refine oc_start G (cc := cX1_sign) (L := 2) (ret := (Option.some Jvm.ClassFile.FieldType.boolean)) q190 (Nat.le_of_ble_eq_true rfl) ?_
  intro p e s m below meth c ls hx hok hb hml hr hlocks htab hown hts hK hmn hh hl
  subst hh
  have hl : lv_has ls 2 [(0, .ref (u 0)), (1, .int x)] := hl
  have hN0 := oc_N0 hok hN0
  have hA : ∀ q, Array.size s.heap ≤ q → (va_A (od_cW d u rw cd pr at0 be de I F) (Array.size s.heap)) q := fun q z => Or.inr z
  have hS : va_S (va_A (od_cW d u rw cd pr at0 be de I F) (Array.size s.heap)) s.heap s.heap [] := va_S.rf
  generalize hAe : (va_A (od_cW d u rw cd pr at0 be de I F) (Array.size s.heap)) = A at *
  refine lv_iload_n hx hb dX1_sign_0 rfl (lv_at hl 1 rfl) ?_
  refine lv_i2l (v := x.toInt64) hx hb dX1_sign_1 rfl ?_
  refine lv_ldc2 (v := 33) hx hb hown (hts _ q191) dX1_sign_2 ?_
  refine lv_ldc2 (v := 126) hx hb hown (hts _ q192) dX1_sign_5 ?_
  refine oc_callR1 hx hb hml hl.1 ⟨hok, hS, hN0⟩ (oc_iS (As := [.long x.toInt64, .long 33, .long 126]) (rest := []) hx hb hown (hts _ q193) (hts _ q194) (hts _ q24) (hts _ q195) ⟨by decide, by decide, (by decide +kernel : (parseMethodDescriptor "(JJJ)Z").map (fun d => d.parameters.length) = some 3)⟩ dX1_sign_8 rfl) (oc_M.of (by decide +kernel) (hts _ q195)) (kX1_in G x.toInt64 33 126) dX1_sign_8 (Nat.le_of_ble_eq_true rfl) (Nat.le_of_ble_eq_true rfl) (by dsimp only [oc_rm]; omega) (by dsimp only [oc_rm]; omega) ?_
  refine lv_if_eq (x := oc_b (oc_in x.toInt64 33 126)) (tgt := 27) hx hb dX1_sign_11 (by decide) (fun c11 => ?_) (fun c11 => ?_)
  · -- taken
    rw [oc_b0] at c11
    refine lv_iconst (v := 0) hx hb dX1_sign_27 (by decide) ?_
    exact oc_zret hx hb hr hlocks hS dX1_sign_28 rfl (⟨_, rfl, rfl, rfl, _, _, hP, hD, Or.inr ⟨by simp [*], rfl, rfl, rfl⟩⟩)
  · -- not taken
    rw [oc_b0] at c11
    rw [Bool.not_eq_false] at c11
    refine lv_aload_n hx hb dX1_sign_14 rfl (lv_at hl 0 rfl) ?_
    refine va_get (D := D) (ci := 0) (v := .ref (u 1)) (C := RX1) (T := TX1) (N := 4) hx hb hts in_X1 hown hK hP 0 rfl rfl 0 (by decide) (hts _ q174) (fun _ h9 => h9) rfl dX1_sign_15 ?_
    refine va_getN (D := D) (ci := 1) (v := .int (I 2)) (C := RX2) (T := TX2) (N := 5) hx hb hts in_X2 hown hK hP 1 rfl rfl 1 (by decide) (oc_wF G hok q72) (fun _ h9 => h9) rfl dX1_sign_18 ?_
    refine oc_topi (x := I 2) (y := nI n) hn ?_
    refine lv_sipush (v := 300) hx hb dX1_sign_21 (by decide) ?_
    refine lv_icmp_ne (x := nI n) (y := 300) (tgt := 29) hx hb dX1_sign_24 (by decide) (fun c24 => ?_) (fun c24 => ?_)
    · -- taken
      rw [oc_eq (x := nI n) (y := 300) (a := n) (b := 300) rfl rfl (by omega) (by omega)] at c24
      obtain ⟨jc, hjc, hxc⟩ := od_char c11
      refine lv_aload_n hx hb dX1_sign_29 rfl (lv_at hl 0 rfl) ?_
      refine va_get (D := D) (ci := 0) (v := .ref (u 1)) (C := RX1) (T := TX1) (N := 4) hx hb hts in_X1 hown hK hP 0 rfl rfl 0 (by decide) (hts _ q174) (fun _ h9 => h9) rfl dX1_sign_30 ?_
      refine va_getN (D := D) (ci := 1) (v := .ref (u 2)) (C := RX2) (T := TX2) (N := 5) hx hb hts in_X2 hown hK hP 1 rfl rfl 0 (by decide) (oc_wF G hok q70) (fun _ h9 => h9) rfl dX1_sign_33 ?_
      refine lv_aload_n hx hb dX1_sign_36 rfl (lv_at hl 0 rfl) ?_
      refine va_get (D := D) (ci := 0) (v := .ref (u 1)) (C := RX1) (T := TX1) (N := 4) hx hb hts in_X1 hown hK hP 0 rfl rfl 0 (by decide) (hts _ q174) (fun _ h9 => h9) rfl dX1_sign_37 ?_
      refine va_getN (D := D) (ci := 1) (v := .int (I 2)) (C := RX2) (T := TX2) (N := 5) hx hb hts in_X2 hown hK hP 1 rfl rfl 1 (by decide) (oc_wF G hok q72) (fun _ h9 => h9) rfl dX1_sign_40 ?_
      refine oc_topi (x := I 2) (y := nI n) hn ?_
      refine lv_iload_n hx hb dX1_sign_43 rfl (lv_at hl 1 rfl) ?_
      refine lv_i2c (v := (x.toUInt32 % 65536).toInt32) hx hb dX1_sign_44 rfl ?_
      refine oc_topi (x := (x.toUInt32 % 65536).toInt32) (y := x) (by rw [hxc]; exact (od_c16 jc hjc).1) ?_
      refine oc_cast hx hb hK hP hD hS 2 2 rfl rfl n rfl (by omega) (by decide) (v := x) (by rw [hxc]; exact (od_c16 jc hjc).2) dX1_sign_45 (fun H locs hP hD hS => ?_)
      have hP : va_P D oc_cl (od_cW d u rw cd pr at0 be de I (va_up F 1 (upd (F 1) n x))) H := hP
      have hD : va_D A (od_cW d u rw cd pr at0 be de I (va_up F 1 (upd (F 1) n x))) := hD
      refine lv_aload_n hx hb dX1_sign_46 rfl (lv_at hl 0 rfl) ?_
      refine va_get (D := D) (ci := 0) (v := .ref (u 1)) (C := RX1) (T := TX1) (N := 4) hx hb hts in_X1 hown hK hP 0 rfl rfl 0 (by decide) (hts _ q174) (fun _ h9 => h9) rfl dX1_sign_47 ?_
      refine lv_dup hx hb dX1_sign_50 rfl ?_
      refine va_getN (D := D) (ci := 1) (v := .int (I 2)) (C := RX2) (T := TX2) (N := 5) hx hb hts in_X2 hown hK hP 1 rfl rfl 1 (by decide) (oc_wF G hok q72) (fun _ h9 => h9) rfl dX1_sign_51 ?_
      refine oc_topi (x := I 2) (y := nI n) hn ?_
      refine lv_iconst (v := 1) hx hb dX1_sign_54 (by decide) ?_
      refine lv_iadd hx hb dX1_sign_55 ?_
      refine oc_topi (x := (nI n) + 1) (y := nI (n + 1)) (nI_1 n) ?_
      refine va_putN (D := D) (ci := 1) (v := .int (nI (n + 1))) (ty := .int) (C := RX2) (T := TX2) (N := 5) hx hb hts in_X2 tyX2 tyX2_ok nmX2 hown hK hP hD hS 1 rfl rfl 1 (by decide) (oc_wF G hok q72) (fun _ h9 => h9) rfl (by decide +kernel) rfl rfl (Nat.le_of_ble_eq_true rfl) dX1_sign_56 (fun H locs hP hD hS => ?_)
      have hP : va_P D oc_cl (od_cW d u rw cd pr at0 be de (upd I 2 (nI (n + 1))) (va_up F 1 (upd (F 1) n x))) H := hP
      have hD : va_D A (od_cW d u rw cd pr at0 be de (upd I 2 (nI (n + 1))) (va_up F 1 (upd (F 1) n x))) := hD
      refine lv_iconst (v := 1) hx hb dX1_sign_59 (by decide) ?_
      exact oc_zret hx hb hr hlocks hS dX1_sign_60 rfl (⟨_, rfl, rfl, rfl, _, _, hP, hD, Or.inl ⟨c11, c24, rfl, rfl, rfl⟩⟩)
    · -- not taken
      rw [oc_eq (x := nI n) (y := 300) (a := n) (b := 300) rfl rfl (by omega) (by omega)] at c24
      refine lv_iconst (v := 0) hx hb dX1_sign_27 (by decide) ?_
      exact oc_zret hx hb hr hlocks hS dX1_sign_28 rfl (⟨_, rfl, rfl, rfl, _, _, hP, hD, Or.inr ⟨by simp [*], rfl, rfl, rfl⟩⟩)
set_option maxHeartbeats 4000000 in
set_option maxRecDepth 100000 in
theorem kX1_process {l : Launch} {s0 : State} {b0 : Addr} {D : va_G} {d : Nat → ClassId} (G : oc_G l s0 b0 D d) {H : Heap} {u : Nat → Nat} {rw : Nat} {cd : Int32} {pr : Int64} {at0 be de : Int32} {I : Nat → Int32} {F : Nat → Nat → Int32} (x : Int32) (hP : va_P D oc_cl (od_cW d u rw cd pr at0 be de I F) H) (hD : va_D (va_A (od_cW d u rw cd pr at0 be de I F) (Array.size H)) (od_cW d u rw cd pr at0 be de I F)) (hN0 : ∀ z_9 ∈ (od_cW d u rw cd pr at0 be de I F), s0.heap.size ≤ z_9.1) : oc_C l s0 yX1_process (oc_rm 2 29 0 0) [.ref (u 0), .int x] H (va_A (od_cW d u rw cd pr at0 be de I F) (Array.size H)) (oc_Pr (od_Pc D d u rw cd pr at0 be de (va_A (od_cW d u rw cd pr at0 be de I F) (Array.size H)) (fun v I2 F2 => F2 = F ∧ ((oc_in x.toInt64 0 15 && !oc_bit (I 11) x) = true ∧ v = some (.int 1) ∧ I2 = upd I 11 (I 11 ||| 1 <<< (x &&& 31)) ∨ (oc_in x.toInt64 0 15 && !oc_bit (I 11) x) = false ∧ v = some (.int 0) ∧ I2 = I)))) := by
  refine oc_start G (cc := cX1_process) (L := 2) (ret := (Option.some Jvm.ClassFile.FieldType.boolean)) q483 (Nat.le_of_ble_eq_true rfl) ?_
  intro p e s m below meth c ls hx hok hb hml hr hlocks htab hown hts hK hmn hh hl
  subst hh
  have hl : lv_has ls 2 [(0, .ref (u 0)), (1, .int x)] := hl
  have hN0 := oc_N0 hok hN0
  have hA : ∀ q, Array.size s.heap ≤ q → (va_A (od_cW d u rw cd pr at0 be de I F) (Array.size s.heap)) q := fun q z => Or.inr z
  have hS : va_S (va_A (od_cW d u rw cd pr at0 be de I F) (Array.size s.heap)) s.heap s.heap [] := va_S.rf
  generalize hAe : (va_A (od_cW d u rw cd pr at0 be de I F) (Array.size s.heap)) = A at *
  refine lv_iload_n hx hb dX1_process_0 rfl (lv_at hl 1 rfl) ?_
  refine oc_callR1 hx hb hml hl.1 ⟨hok, hS, hN0⟩ (oc_iS (As := [.int x]) (rest := []) hx hb hown (hts _ q484) (hts _ q485) (hts _ q24) (hts _ q486) ⟨by decide, by decide, (by decide +kernel : (parseMethodDescriptor "(I)Z").map (fun d => d.parameters.length) = some 1)⟩ dX1_process_1 rfl) (oc_M.of (by decide +kernel) (hts _ q486)) (kX1_isProcess G x) dX1_process_1 (Nat.le_of_ble_eq_true rfl) (Nat.le_of_ble_eq_true rfl) (by dsimp only [oc_rm]; omega) (by dsimp only [oc_rm]; omega) ?_
  refine lv_if_eq (x := oc_b (oc_in x.toInt64 0 15)) (tgt := 22) hx hb dX1_process_4 (by decide) (fun c4 => ?_) (fun c4 => ?_)
  · -- taken
    rw [oc_b0] at c4
    refine lv_iconst (v := 0) hx hb dX1_process_22 (by decide) ?_
    exact oc_zret hx hb hr hlocks hS dX1_process_23 rfl (⟨_, rfl, rfl, rfl, _, _, hP, hD, ⟨rfl, Or.inr ⟨by simp [oc_bit, *], rfl, rfl⟩⟩⟩)
  · -- not taken
    rw [oc_b0] at c4
    rw [Bool.not_eq_false] at c4
    refine lv_aload_n hx hb dX1_process_7 rfl (lv_at hl 0 rfl) ?_
    refine va_get (D := D) (ci := 0) (v := .ref (u 3)) (C := RX1) (T := TX1) (N := 4) hx hb hts in_X1 hown hK hP 0 rfl rfl 2 (by decide) (hts _ q176) (fun _ h9 => h9) rfl dX1_process_8 ?_
    refine va_getN (D := D) (ci := 2) (v := .int (I 11)) (C := RX3) (T := TX3) (N := 12) hx hb hts in_X3 hown hK hP 3 rfl rfl 1 (by decide) (oc_wF G hok q127) (fun _ h9 => h9) rfl dX1_process_11 ?_
    refine lv_iload_n hx hb dX1_process_14 rfl (lv_at hl 1 rfl) ?_
    refine lv_ishr hx hb dX1_process_15 ?_
    refine lv_iconst (v := 1) hx hb dX1_process_16 (by decide) ?_
    refine lv_iand hx hb dX1_process_17 ?_
    refine lv_iconst (v := 1) hx hb dX1_process_18 (by decide) ?_
    refine lv_icmp_ne (x := ((I 11) >>> (x &&& 31)) &&& 1) (y := 1) (tgt := 24) hx hb dX1_process_19 (by decide) (fun c19 => ?_) (fun c19 => ?_)
    · -- taken
      refine lv_aload_n hx hb dX1_process_24 rfl (lv_at hl 0 rfl) ?_
      refine va_get (D := D) (ci := 0) (v := .ref (u 3)) (C := RX1) (T := TX1) (N := 4) hx hb hts in_X1 hown hK hP 0 rfl rfl 2 (by decide) (hts _ q176) (fun _ h9 => h9) rfl dX1_process_25 ?_
      refine lv_dup hx hb dX1_process_28 rfl ?_
      refine va_getN (D := D) (ci := 2) (v := .int (I 11)) (C := RX3) (T := TX3) (N := 12) hx hb hts in_X3 hown hK hP 3 rfl rfl 1 (by decide) (oc_wF G hok q127) (fun _ h9 => h9) rfl dX1_process_29 ?_
      refine lv_iconst (v := 1) hx hb dX1_process_32 (by decide) ?_
      refine lv_iload_n hx hb dX1_process_33 rfl (lv_at hl 1 rfl) ?_
      refine lv_ishl hx hb dX1_process_34 ?_
      refine lv_ior hx hb dX1_process_35 ?_
      refine va_putN (D := D) (ci := 2) (v := .int ((I 11) ||| (1 <<< (x &&& 31)))) (ty := .int) (C := RX3) (T := TX3) (N := 12) hx hb hts in_X3 tyX3 tyX3_ok nmX3 hown hK hP hD hS 3 rfl rfl 1 (by decide) (oc_wF G hok q127) (fun _ h9 => h9) rfl (by decide +kernel) rfl rfl (Nat.le_of_ble_eq_true rfl) dX1_process_36 (fun H locs hP hD hS => ?_)
      have hP : va_P D oc_cl (od_cW d u rw cd pr at0 be de (upd I 11 ((I 11) ||| (1 <<< (x &&& 31)))) F) H := hP
      have hD : va_D A (od_cW d u rw cd pr at0 be de (upd I 11 ((I 11) ||| (1 <<< (x &&& 31)))) F) := hD
      refine lv_iconst (v := 1) hx hb dX1_process_39 (by decide) ?_
      exact oc_zret hx hb hr hlocks hS dX1_process_40 rfl (⟨_, rfl, rfl, rfl, _, _, hP, hD, ⟨rfl, Or.inl ⟨by simp [oc_bit, *], rfl, rfl⟩⟩⟩)
    · -- not taken
      refine lv_iconst (v := 0) hx hb dX1_process_22 (by decide) ?_
      exact oc_zret hx hb hr hlocks hS dX1_process_23 rfl (⟨_, rfl, rfl, rfl, _, _, hP, hD, ⟨rfl, Or.inr ⟨by simp [oc_bit, *], rfl, rfl⟩⟩⟩)
set_option maxHeartbeats 4000000 in
set_option maxRecDepth 100000 in
theorem kX1_bar {l : Launch} {s0 : State} {b0 : Addr} {D : va_G} {d : Nat → ClassId} (G : oc_G l s0 b0 D d) {H : Heap} {u : Nat → Nat} {rw : Nat} {cd : Int32} {pr : Int64} {at0 be de : Int32} {I : Nat → Int32} {F : Nat → Nat → Int32} (x y : Int32) (hP : va_P D oc_cl (od_cW d u rw cd pr at0 be de I F) H) (hD : va_D (va_A (od_cW d u rw cd pr at0 be de I F) (Array.size H)) (od_cW d u rw cd pr at0 be de I F)) (hN0 : ∀ z_9 ∈ (od_cW d u rw cd pr at0 be de I F), s0.heap.size ≤ z_9.1) : oc_C l s0 yX1_bar (oc_rm 2 29 0 0) [.ref (u 0), .int x, .int y] H (va_A (od_cW d u rw cd pr at0 be de I F) (Array.size H)) (oc_Pr (od_Pc D d u rw cd pr at0 be de (va_A (od_cW d u rw cd pr at0 be de I F) (Array.size H)) (fun v I2 F2 => F2 = F ∧ ((oc_in x.toInt64 0 15 && !decide (oc_b (oc_bit (I 12) x) = y)) = true ∧ v = some (.int 1) ∧ I2 = upd I 12 (I 12 ^^^ 1 <<< (x &&& 31)) ∨ (oc_in x.toInt64 0 15 && !decide (oc_b (oc_bit (I 12) x) = y)) = false ∧ v = some (.int 0) ∧ I2 = I)))) := by
  refine oc_start G (cc := cX1_bar) (L := 3) (ret := (Option.some Jvm.ClassFile.FieldType.boolean)) q491 (Nat.le_of_ble_eq_true rfl) ?_
  intro p e s m below meth c ls hx hok hb hml hr hlocks htab hown hts hK hmn hh hl
  subst hh
  have hl : lv_has ls 3 [(0, .ref (u 0)), (1, .int x), (2, .int y)] := hl
  have hN0 := oc_N0 hok hN0
  have hA : ∀ q, Array.size s.heap ≤ q → (va_A (od_cW d u rw cd pr at0 be de I F) (Array.size s.heap)) q := fun q z => Or.inr z
  have hS : va_S (va_A (od_cW d u rw cd pr at0 be de I F) (Array.size s.heap)) s.heap s.heap [] := va_S.rf
  generalize hAe : (va_A (od_cW d u rw cd pr at0 be de I F) (Array.size s.heap)) = A at *
  refine lv_iload_n hx hb dX1_bar_0 rfl (lv_at hl 1 rfl) ?_
  refine oc_callR1 hx hb hml hl.1 ⟨hok, hS, hN0⟩ (oc_iS (As := [.int x]) (rest := []) hx hb hown (hts _ q484) (hts _ q485) (hts _ q24) (hts _ q486) ⟨by decide, by decide, (by decide +kernel : (parseMethodDescriptor "(I)Z").map (fun d => d.parameters.length) = some 1)⟩ dX1_bar_1 rfl) (oc_M.of (by decide +kernel) (hts _ q486)) (kX1_isProcess G x) dX1_bar_1 (Nat.le_of_ble_eq_true rfl) (Nat.le_of_ble_eq_true rfl) (by dsimp only [oc_rm]; omega) (by dsimp only [oc_rm]; omega) ?_
  refine lv_if_eq (x := oc_b (oc_in x.toInt64 0 15)) (tgt := 31) hx hb dX1_bar_4 (by decide) (fun c4 => ?_) (fun c4 => ?_)
  · -- taken
    rw [oc_b0] at c4
    refine lv_iconst (v := 0) hx hb dX1_bar_31 (by decide) ?_
    exact oc_zret hx hb hr hlocks hS dX1_bar_32 rfl (⟨_, rfl, rfl, rfl, _, _, hP, hD, ⟨rfl, Or.inr ⟨by simp [id, *], rfl, rfl⟩⟩⟩)
  · -- not taken
    rw [oc_b0] at c4
    rw [Bool.not_eq_false] at c4
    refine oc_cut (g2 := F0 m 27 ls [.int (oc_b (oc_bit (I 12) x))]) ?_ (fun K27 => ?_)
    · -- behind 27
      refine lv_iload_n hx hb dX1_bar_27 rfl (lv_at hl 2 rfl) ?_
      refine lv_icmp_ne (x := oc_b (oc_bit (I 12) x)) (y := y) (tgt := 33) hx hb dX1_bar_28 (by decide) (fun c28 => ?_) (fun c28 => ?_)
      · -- taken
        refine lv_aload_n hx hb dX1_bar_33 rfl (lv_at hl 0 rfl) ?_
        refine va_get (D := D) (ci := 0) (v := .ref (u 3)) (C := RX1) (T := TX1) (N := 4) hx hb hts in_X1 hown hK hP 0 rfl rfl 2 (by decide) (hts _ q176) (fun _ h9 => h9) rfl dX1_bar_34 ?_
        refine lv_dup hx hb dX1_bar_37 rfl ?_
        refine va_getN (D := D) (ci := 2) (v := .int (I 12)) (C := RX3) (T := TX3) (N := 12) hx hb hts in_X3 hown hK hP 3 rfl rfl 2 (by decide) (oc_wF G hok q128) (fun _ h9 => h9) rfl dX1_bar_38 ?_
        refine lv_iconst (v := 1) hx hb dX1_bar_41 (by decide) ?_
        refine lv_iload_n hx hb dX1_bar_42 rfl (lv_at hl 1 rfl) ?_
        refine lv_ishl hx hb dX1_bar_43 ?_
        refine lv_ixor hx hb dX1_bar_44 ?_
        refine va_putN (D := D) (ci := 2) (v := .int ((I 12) ^^^ (1 <<< (x &&& 31)))) (ty := .int) (C := RX3) (T := TX3) (N := 12) hx hb hts in_X3 tyX3 tyX3_ok nmX3 hown hK hP hD hS 3 rfl rfl 2 (by decide) (oc_wF G hok q128) (fun _ h9 => h9) rfl (by decide +kernel) rfl rfl (Nat.le_of_ble_eq_true rfl) dX1_bar_45 (fun H locs hP hD hS => ?_)
        have hP : va_P D oc_cl (od_cW d u rw cd pr at0 be de (upd I 12 ((I 12) ^^^ (1 <<< (x &&& 31)))) F) H := hP
        have hD : va_D A (od_cW d u rw cd pr at0 be de (upd I 12 ((I 12) ^^^ (1 <<< (x &&& 31)))) F) := hD
        refine lv_iconst (v := 1) hx hb dX1_bar_48 (by decide) ?_
        exact oc_zret hx hb hr hlocks hS dX1_bar_49 rfl (⟨_, rfl, rfl, rfl, _, _, hP, hD, ⟨rfl, Or.inl ⟨by simp [id, *], rfl, rfl⟩⟩⟩)
      · -- not taken
        refine lv_iconst (v := 0) hx hb dX1_bar_31 (by decide) ?_
        exact oc_zret hx hb hr hlocks hS dX1_bar_32 rfl (⟨_, rfl, rfl, rfl, _, _, hP, hD, ⟨rfl, Or.inr ⟨by simp [id, *], rfl, rfl⟩⟩⟩)
    · -- up to 27
      refine lv_aload_n hx hb dX1_bar_7 rfl (lv_at hl 0 rfl) ?_
      refine va_get (D := D) (ci := 0) (v := .ref (u 3)) (C := RX1) (T := TX1) (N := 4) hx hb hts in_X1 hown hK hP 0 rfl rfl 2 (by decide) (hts _ q176) (fun _ h9 => h9) rfl dX1_bar_8 ?_
      refine va_getN (D := D) (ci := 2) (v := .int (I 12)) (C := RX3) (T := TX3) (N := 12) hx hb hts in_X3 hown hK hP 3 rfl rfl 2 (by decide) (oc_wF G hok q128) (fun _ h9 => h9) rfl dX1_bar_11 ?_
      refine lv_iload_n hx hb dX1_bar_14 rfl (lv_at hl 1 rfl) ?_
      refine lv_ishr hx hb dX1_bar_15 ?_
      refine lv_iconst (v := 1) hx hb dX1_bar_16 (by decide) ?_
      refine lv_iand hx hb dX1_bar_17 ?_
      refine lv_iconst (v := 1) hx hb dX1_bar_18 (by decide) ?_
      refine lv_icmp_ne (x := ((I 12) >>> (x &&& 31)) &&& 1) (y := 1) (tgt := 26) hx hb dX1_bar_19 (by decide) (fun c19 => ?_) (fun c19 => ?_)
      · -- taken
        refine lv_iconst (v := 0) hx hb dX1_bar_26 (by decide) ?_
        exact oc_topi (x := 0) (by simp [oc_bit, oc_b, *]) K27
      · -- not taken
        refine lv_iconst (v := 1) hx hb dX1_bar_22 (by decide) ?_
        refine lv_goto (tgt := 27) hx hb dX1_bar_23 (by decide) ?_
        exact oc_topi (x := 1) (by simp [oc_bit, oc_b, *]) K27
set_option maxHeartbeats 4000000 in
set_option maxRecDepth 100000 in
theorem kX1_full {l : Launch} {s0 : State} {b0 : Addr} {D : va_G} {d : Nat → ClassId} (G : oc_G l s0 b0 D d) {H : Heap} {u : Nat → Nat} {rw : Nat} {cd : Int32} {pr : Int64} {at0 be de : Int32} {I : Nat → Int32} {F : Nat → Nat → Int32} (b : Bool) (hP : va_P D oc_cl (od_cW d u rw cd pr at0 be de I F) H) (hD : va_D (va_A (od_cW d u rw cd pr at0 be de I F) (Array.size H)) (od_cW d u rw cd pr at0 be de I F)) (hN0 : ∀ z_9 ∈ (od_cW d u rw cd pr at0 be de I F), s0.heap.size ≤ z_9.1) : oc_C l s0 yX1_full (oc_rm 0 0 0 0) [.ref (u 0), .int (oc_b b)] H (va_A (od_cW d u rw cd pr at0 be de I F) (Array.size H)) (oc_Pr (od_Pc D d u rw cd pr at0 be de (va_A (od_cW d u rw cd pr at0 be de I F) (Array.size H)) (fun v I2 F2 => F2 = F ∧ v = some (.int (oc_b (!decide (I 15 = oc_b b)))) ∧ I2 = upd I 15 (oc_b b)))) := by
  refine oc_start G (cc := cX1_full) (L := 2) (ret := (Option.some Jvm.ClassFile.FieldType.boolean)) q495 (Nat.le_of_ble_eq_true rfl) ?_
  intro p e s m below meth c ls hx hok hb hml hr hlocks htab hown hts hK hmn hh hl
  subst hh
  have hl : lv_has ls 2 [(0, .ref (u 0)), (1, .int (oc_b b))] := hl
  have hN0 := oc_N0 hok hN0
  have hA : ∀ q, Array.size s.heap ≤ q → (va_A (od_cW d u rw cd pr at0 be de I F) (Array.size s.heap)) q := fun q z => Or.inr z
  have hS : va_S (va_A (od_cW d u rw cd pr at0 be de I F) (Array.size s.heap)) s.heap s.heap [] := va_S.rf
  generalize hAe : (va_A (od_cW d u rw cd pr at0 be de I F) (Array.size s.heap)) = A at *
  refine lv_aload_n hx hb dX1_full_0 rfl (lv_at hl 0 rfl) ?_
  refine va_get (D := D) (ci := 0) (v := .ref (u 3)) (C := RX1) (T := TX1) (N := 4) hx hb hts in_X1 hown hK hP 0 rfl rfl 2 (by decide) (hts _ q176) (fun _ h9 => h9) rfl dX1_full_1 ?_
  refine va_getN (D := D) (ci := 2) (v := .int (I 15)) (C := RX3) (T := TX3) (N := 12) hx hb hts in_X3 hown hK hP 3 rfl rfl 4 (by decide) (oc_wF G hok q131) (fun _ h9 => h9) rfl dX1_full_4 ?_
  refine lv_iload_n hx hb dX1_full_7 rfl (lv_at hl 1 rfl) ?_
  refine lv_icmp_ne (x := I 15) (y := oc_b b) (tgt := 13) hx hb dX1_full_8 (by decide) (fun c8 => ?_) (fun c8 => ?_)
  · -- taken
    refine lv_aload_n hx hb dX1_full_13 rfl (lv_at hl 0 rfl) ?_
    refine va_get (D := D) (ci := 0) (v := .ref (u 3)) (C := RX1) (T := TX1) (N := 4) hx hb hts in_X1 hown hK hP 0 rfl rfl 2 (by decide) (hts _ q176) (fun _ h9 => h9) rfl dX1_full_14 ?_
    refine lv_iload_n hx hb dX1_full_17 rfl (lv_at hl 1 rfl) ?_
    refine va_putN (D := D) (ci := 2) (v := .int (oc_b b)) (ty := .boolean) (C := RX3) (T := TX3) (N := 12) hx hb hts in_X3 tyX3 tyX3_ok nmX3 hown hK hP hD hS 3 rfl rfl 4 (by decide) (oc_wF G hok q131) (fun _ h9 => h9) rfl (by decide +kernel) (oc_bn _) (oc_bfit _) (Nat.le_of_ble_eq_true rfl) dX1_full_18 (fun H locs hP hD hS => ?_)
    have hP : va_P D oc_cl (od_cW d u rw cd pr at0 be de (upd I 15 (oc_b b)) F) H := hP
    have hD : va_D A (od_cW d u rw cd pr at0 be de (upd I 15 (oc_b b)) F) := hD
    refine lv_iconst (v := 1) hx hb dX1_full_21 (by decide) ?_
    exact oc_zret hx hb hr hlocks hS dX1_full_22 rfl (⟨_, rfl, rfl, rfl, _, _, hP, hD, ⟨rfl, by rw [show (!decide (I 15 = oc_b b)) = true by simp [c8]]; rfl, rfl⟩⟩)
  · -- not taken
    refine lv_iconst (v := 0) hx hb dX1_full_11 (by decide) ?_
    exact oc_zret hx hb hr hlocks hS dX1_full_12 rfl (⟨_, rfl, rfl, rfl, _, _, hP, hD, ⟨rfl, by rw [show (!decide (I 15 = oc_b b)) = false by simp [c8]]; rfl, by rw [← c8]; exact (od_upd_id I 15).symm⟩⟩)
set_option maxHeartbeats 4000000 in
set_option maxRecDepth 100000 in
theorem kX1_tolerance {l : Launch} {s0 : State} {b0 : Addr} {D : va_G} {d : Nat → ClassId} (G : oc_G l s0 b0 D d) {H : Heap} {u : Nat → Nat} {rw : Nat} {cd : Int32} {pr : Int64} {at0 be de : Int32} {I : Nat → Int32} {F : Nat → Nat → Int32} (x y : Int32) (hP : va_P D oc_cl (od_cW d u rw cd pr at0 be de I F) H) (hD : va_D (va_A (od_cW d u rw cd pr at0 be de I F) (Array.size H)) (od_cW d u rw cd pr at0 be de I F)) (hN0 : ∀ z_9 ∈ (od_cW d u rw cd pr at0 be de I F), s0.heap.size ≤ z_9.1) : oc_C l s0 yX1_tolerance (oc_rm 1 17 0 0) [.ref (u 0), .int x, .int y] H (va_A (od_cW d u rw cd pr at0 be de I F) (Array.size H)) (oc_Pr (od_Pc D d u rw cd pr at0 be de (va_A (od_cW d u rw cd pr at0 be de I F) (Array.size H)) (fun v I2 F2 => F2 = F ∧ ((oc_in y.toInt64 1 1000 && oc_in x.toInt64 0 y.toInt64) = true ∧ v = some (.int 1) ∧ I2 = upd (upd I 16 x) 17 y ∨ (oc_in y.toInt64 1 1000 && oc_in x.toInt64 0 y.toInt64) = false ∧ v = some (.int 0) ∧ I2 = I)))) := by
  refine oc_start G (cc := cX1_tolerance) (L := 3) (ret := (Option.some Jvm.ClassFile.FieldType.boolean)) q499 (Nat.le_of_ble_eq_true rfl) ?_
  intro p e s m below meth c ls hx hok hb hml hr hlocks htab hown hts hK hmn hh hl
  subst hh
  have hl : lv_has ls 3 [(0, .ref (u 0)), (1, .int x), (2, .int y)] := hl
  have hN0 := oc_N0 hok hN0
  have hA : ∀ q, Array.size s.heap ≤ q → (va_A (od_cW d u rw cd pr at0 be de I F) (Array.size s.heap)) q := fun q z => Or.inr z
  have hS : va_S (va_A (od_cW d u rw cd pr at0 be de I F) (Array.size s.heap)) s.heap s.heap [] := va_S.rf
  generalize hAe : (va_A (od_cW d u rw cd pr at0 be de I F) (Array.size s.heap)) = A at *
  refine lv_iload_n hx hb dX1_tolerance_0 rfl (lv_at hl 2 rfl) ?_
  refine lv_i2l (v := y.toInt64) hx hb dX1_tolerance_1 rfl ?_
  refine lv_lconst (v := 1) hx hb dX1_tolerance_2 (by decide) ?_
  refine lv_ldc2 (v := 1000) hx hb hown (hts _ q500) dX1_tolerance_3 ?_
  refine oc_callR1 hx hb hml hl.1 ⟨hok, hS, hN0⟩ (oc_iS (As := [.long y.toInt64, .long 1, .long 1000]) (rest := []) hx hb hown (hts _ q193) (hts _ q194) (hts _ q24) (hts _ q195) ⟨by decide, by decide, (by decide +kernel : (parseMethodDescriptor "(JJJ)Z").map (fun d => d.parameters.length) = some 3)⟩ dX1_tolerance_6 rfl) (oc_M.of (by decide +kernel) (hts _ q195)) (kX1_in G y.toInt64 1 1000) dX1_tolerance_6 (Nat.le_of_ble_eq_true rfl) (Nat.le_of_ble_eq_true rfl) (by dsimp only [oc_rm]; omega) (by dsimp only [oc_rm]; omega) ?_
  refine lv_if_eq (x := oc_b (oc_in y.toInt64 1 1000)) (tgt := 23) hx hb dX1_tolerance_9 (by decide) (fun c9 => ?_) (fun c9 => ?_)
  · -- taken
    rw [oc_b0] at c9
    refine lv_iconst (v := 0) hx hb dX1_tolerance_23 (by decide) ?_
    exact oc_zret hx hb hr hlocks hS dX1_tolerance_24 rfl (⟨_, rfl, rfl, rfl, _, _, hP, hD, ⟨rfl, Or.inr ⟨by simp [id, *], rfl, rfl⟩⟩⟩)
  · -- not taken
    rw [oc_b0] at c9
    rw [Bool.not_eq_false] at c9
    refine lv_iload_n hx hb dX1_tolerance_12 rfl (lv_at hl 1 rfl) ?_
    refine lv_i2l (v := x.toInt64) hx hb dX1_tolerance_13 rfl ?_
    refine lv_lconst (v := 0) hx hb dX1_tolerance_14 (by decide) ?_
    refine lv_iload_n hx hb dX1_tolerance_15 rfl (lv_at hl 2 rfl) ?_
    refine lv_i2l (v := y.toInt64) hx hb dX1_tolerance_16 rfl ?_
    refine oc_callR1 hx hb hml hl.1 ⟨hok, hS, hN0⟩ (oc_iS (As := [.long x.toInt64, .long 0, .long y.toInt64]) (rest := []) hx hb hown (hts _ q193) (hts _ q194) (hts _ q24) (hts _ q195) ⟨by decide, by decide, (by decide +kernel : (parseMethodDescriptor "(JJJ)Z").map (fun d => d.parameters.length) = some 3)⟩ dX1_tolerance_17 rfl) (oc_M.of (by decide +kernel) (hts _ q195)) (kX1_in G x.toInt64 0 y.toInt64) dX1_tolerance_17 (Nat.le_of_ble_eq_true rfl) (Nat.le_of_ble_eq_true rfl) (by dsimp only [oc_rm]; omega) (by dsimp only [oc_rm]; omega) ?_
    refine lv_if_ne (x := oc_b (oc_in x.toInt64 0 y.toInt64)) (tgt := 25) hx hb dX1_tolerance_20 (by decide) (fun c20 => ?_) (fun c20 => ?_)
    · -- taken
      rw [oc_b0] at c20
      rw [Bool.not_eq_false] at c20
      refine lv_aload_n hx hb dX1_tolerance_25 rfl (lv_at hl 0 rfl) ?_
      refine va_get (D := D) (ci := 0) (v := .ref (u 3)) (C := RX1) (T := TX1) (N := 4) hx hb hts in_X1 hown hK hP 0 rfl rfl 2 (by decide) (hts _ q176) (fun _ h9 => h9) rfl dX1_tolerance_26 ?_
      refine lv_iload_n hx hb dX1_tolerance_29 rfl (lv_at hl 1 rfl) ?_
      refine va_putN (D := D) (ci := 2) (v := .int x) (ty := .int) (C := RX3) (T := TX3) (N := 12) hx hb hts in_X3 tyX3 tyX3_ok nmX3 hown hK hP hD hS 3 rfl rfl 5 (by decide) (oc_wF G hok q133) (fun _ h9 => h9) rfl (by decide +kernel) rfl rfl (Nat.le_of_ble_eq_true rfl) dX1_tolerance_30 (fun H locs hP hD hS => ?_)
      have hP : va_P D oc_cl (od_cW d u rw cd pr at0 be de (upd I 16 x) F) H := hP
      have hD : va_D A (od_cW d u rw cd pr at0 be de (upd I 16 x) F) := hD
      refine lv_aload_n hx hb dX1_tolerance_33 rfl (lv_at hl 0 rfl) ?_
      refine va_get (D := D) (ci := 0) (v := .ref (u 3)) (C := RX1) (T := TX1) (N := 4) hx hb hts in_X1 hown hK hP 0 rfl rfl 2 (by decide) (hts _ q176) (fun _ h9 => h9) rfl dX1_tolerance_34 ?_
      refine lv_iload_n hx hb dX1_tolerance_37 rfl (lv_at hl 2 rfl) ?_
      refine va_putN (D := D) (ci := 2) (v := .int y) (ty := .int) (C := RX3) (T := TX3) (N := 12) hx hb hts in_X3 tyX3 tyX3_ok nmX3 hown hK hP hD hS 3 rfl rfl 6 (by decide) (oc_wF G hok q135) (fun _ h9 => h9) rfl (by decide +kernel) rfl rfl (Nat.le_of_ble_eq_true rfl) dX1_tolerance_38 (fun H locs hP hD hS => ?_)
      have hP : va_P D oc_cl (od_cW d u rw cd pr at0 be de (upd (upd I 16 x) 17 y) F) H := hP
      have hD : va_D A (od_cW d u rw cd pr at0 be de (upd (upd I 16 x) 17 y) F) := hD
      refine lv_iconst (v := 1) hx hb dX1_tolerance_41 (by decide) ?_
      exact oc_zret hx hb hr hlocks hS dX1_tolerance_42 rfl (⟨_, rfl, rfl, rfl, _, _, hP, hD, ⟨rfl, Or.inl ⟨by simp [id, *], rfl, rfl⟩⟩⟩)
    · -- not taken
      rw [oc_b0] at c20
      refine lv_iconst (v := 0) hx hb dX1_tolerance_23 (by decide) ?_
      exact oc_zret hx hb hr hlocks hS dX1_tolerance_24 rfl (⟨_, rfl, rfl, rfl, _, _, hP, hD, ⟨rfl, Or.inr ⟨by simp [id, *], rfl, rfl⟩⟩⟩)
set_option maxHeartbeats 4000000 in
set_option maxRecDepth 100000 in
theorem kX1_join {l : Launch} {s0 : State} {b0 : Addr} {D : va_G} {d : Nat → ClassId} (G : oc_G l s0 b0 D d) {H : Heap} {u : Nat → Nat} {rw : Nat} {cd : Int32} {pr : Int64} {at0 be de : Int32} {I : Nat → Int32} {F : Nat → Nat → Int32} (x y : Int32) (hP : va_P D oc_cl (od_cW d u rw cd pr at0 be de I F) H) (hD : va_D (va_A (od_cW d u rw cd pr at0 be de I F) (Array.size H)) (od_cW d u rw cd pr at0 be de I F)) (hN0 : ∀ z_9 ∈ (od_cW d u rw cd pr at0 be de I F), s0.heap.size ≤ z_9.1) : oc_C l s0 yX1_join (oc_rm 7 93 1 6) [.ref (u 0), .int x, .int y] H (va_A (od_cW d u rw cd pr at0 be de I F) (Array.size H)) (od_RT (od_Pc D d u rw cd pr at0 be de (va_A (od_cW d u rw cd pr at0 be de I F) (Array.size H)) (fun v I2 F2 => oc_jok x y = true ∧ ∃ i j, i < 10 ∧ j < 10 ∧ x = nI i ∧ y = nI j ∧ ((¬ F 13 (10 * i + j) = 0 ∧ v = some (.int 0) ∧ I2 = I ∧ F2 = F) ∨ (F 13 (10 * i + j) = 0 ∧ v = some (.int 1) ∧ I2 = upd I 14 (I 14 + 1) ∧ F2 = va_up F 13 (upd (upd (F 13) (10 * i + j) 1) (10 * j + i) 1))))) (od_Qc s0 D d u rw cd pr at0 be de I F H (va_A (od_cW d u rw cd pr at0 be de I F) (Array.size H)) (fun C => C = RJ9 ∧ oc_jok x y = false))) := by
  refine oc_start G (cc := cX1_join) (L := 3) (ret := (Option.some Jvm.ClassFile.FieldType.int)) q622 (Nat.le_of_ble_eq_true rfl) ?_
  intro p e s m below meth c ls hx hok hb hml hr hlocks htab hown hts hK hmn hh hl
  subst hh
  have hl : lv_has ls 3 [(0, .ref (u 0)), (1, .int x), (2, .int y)] := hl
  have hN0 := oc_N0 hok hN0
  have hA : ∀ q, Array.size s.heap ≤ q → (va_A (od_cW d u rw cd pr at0 be de I F) (Array.size s.heap)) q := fun q z => Or.inr z
  have hS : va_S (va_A (od_cW d u rw cd pr at0 be de I F) (Array.size s.heap)) s.heap s.heap [] := va_S.rf
  generalize hAe : (va_A (od_cW d u rw cd pr at0 be de I F) (Array.size s.heap)) = A at *
  refine lv_iload_n hx hb dX1_join_0 rfl (lv_at hl 1 rfl) ?_
  refine oc_callR1 hx hb hml hl.1 ⟨hok, hS, hN0⟩ (oc_iS (As := [.int x]) (rest := []) hx hb hown (hts _ q553) (hts _ q554) (hts _ q24) (hts _ q555) ⟨by decide, by decide, (by decide +kernel : (parseMethodDescriptor "(I)Z").map (fun d => d.parameters.length) = some 1)⟩ dX1_join_1 rfl) (oc_M.of (by decide +kernel) (hts _ q555)) (kX1_isLand G x) dX1_join_1 (Nat.le_of_ble_eq_true rfl) (Nat.le_of_ble_eq_true rfl) (by dsimp only [oc_rm]; omega) (by dsimp only [oc_rm]; omega) ?_
  refine lv_if_eq (x := oc_b (oc_in x.toInt64 0 9)) (tgt := 23) hx hb dX1_join_4 (by decide) (fun c4 => ?_) (fun c4 => ?_)
  · -- taken
    rw [oc_b0] at c4
    refine lv_iconst (v := 0) hx hb dX1_join_23 (by decide) ?_
    refine oc_callT hx hb hml hl.1 ⟨hok, hS, hN0⟩ (oc_iS (As := [.int 0]) (rest := []) hx hb hown (hts _ q561) (hts _ q562) (hts _ q24) (hts _ q563) ⟨by decide, by decide, (by decide +kernel : (parseMethodDescriptor "(Z)V").map (fun d => d.parameters.length) = some 1)⟩ dX1_join_24 rfl) (oc_M.of (by decide +kernel) (hts _ q563)) (kX1_allow0 G) (fun q z => hA q (Nat.le_trans hS.1 z)) (fun o H1 k n h => by obtain ⟨a, e, -⟩ := h; exact ⟨a, e⟩) dX1_join_24 (Nat.le_of_ble_eq_true rfl) (Nat.le_of_ble_eq_true rfl) (by dsimp only [oc_rm]; omega) (by dsimp only [oc_rm]; omega) (fun a_ H locs k_ n_ hp_ hz_ hk_ hS => ?_)
    obtain ⟨a9, e9, hk9, hn9, hsz9, hex9⟩ := hp_
    cases e9
    subst k_; subst n_
    have hP : va_P D oc_cl (od_cW d u rw cd pr at0 be de I F) H := hP.kept (fun k q h => hk_ q.1 (hP k q h).lt (Nat.not_le.mpr (hP k q h).lt))
    exact oc_xout hlocks (by rw [htab]; intro x9 hx9; cases hx9) hS (Or.inr ⟨_, rfl, ⟨by omega, by omega, hsz9, ⟨_, hex9, ⟨rfl, by simp [oc_jok, *]⟩⟩, hP, hD⟩⟩)
  · -- not taken
    rw [oc_b0] at c4
    rw [Bool.not_eq_false] at c4
    refine lv_iload_n hx hb dX1_join_7 rfl (lv_at hl 2 rfl) ?_
    refine oc_callR1 hx hb hml hl.1 ⟨hok, hS, hN0⟩ (oc_iS (As := [.int y]) (rest := []) hx hb hown (hts _ q553) (hts _ q554) (hts _ q24) (hts _ q555) ⟨by decide, by decide, (by decide +kernel : (parseMethodDescriptor "(I)Z").map (fun d => d.parameters.length) = some 1)⟩ dX1_join_8 rfl) (oc_M.of (by decide +kernel) (hts _ q555)) (kX1_isLand G y) dX1_join_8 (Nat.le_of_ble_eq_true rfl) (Nat.le_of_ble_eq_true rfl) (by dsimp only [oc_rm]; omega) (by dsimp only [oc_rm]; omega) ?_
    refine lv_if_eq (x := oc_b (oc_in y.toInt64 0 9)) (tgt := 23) hx hb dX1_join_11 (by decide) (fun c11 => ?_) (fun c11 => ?_)
    · -- taken
      rw [oc_b0] at c11
      refine lv_iconst (v := 0) hx hb dX1_join_23 (by decide) ?_
      refine oc_callT hx hb hml hl.1 ⟨hok, hS, hN0⟩ (oc_iS (As := [.int 0]) (rest := []) hx hb hown (hts _ q561) (hts _ q562) (hts _ q24) (hts _ q563) ⟨by decide, by decide, (by decide +kernel : (parseMethodDescriptor "(Z)V").map (fun d => d.parameters.length) = some 1)⟩ dX1_join_24 rfl) (oc_M.of (by decide +kernel) (hts _ q563)) (kX1_allow0 G) (fun q z => hA q (Nat.le_trans hS.1 z)) (fun o H1 k n h => by obtain ⟨a, e, -⟩ := h; exact ⟨a, e⟩) dX1_join_24 (Nat.le_of_ble_eq_true rfl) (Nat.le_of_ble_eq_true rfl) (by dsimp only [oc_rm]; omega) (by dsimp only [oc_rm]; omega) (fun a_ H locs k_ n_ hp_ hz_ hk_ hS => ?_)
      obtain ⟨a9, e9, hk9, hn9, hsz9, hex9⟩ := hp_
      cases e9
      subst k_; subst n_
      have hP : va_P D oc_cl (od_cW d u rw cd pr at0 be de I F) H := hP.kept (fun k q h => hk_ q.1 (hP k q h).lt (Nat.not_le.mpr (hP k q h).lt))
      exact oc_xout hlocks (by rw [htab]; intro x9 hx9; cases hx9) hS (Or.inr ⟨_, rfl, ⟨by omega, by omega, hsz9, ⟨_, hex9, ⟨rfl, by simp [oc_jok, *]⟩⟩, hP, hD⟩⟩)
    · -- not taken
      rw [oc_b0] at c11
      rw [Bool.not_eq_false] at c11
      refine lv_iload_n hx hb dX1_join_14 rfl (lv_at hl 1 rfl) ?_
      refine lv_iload_n hx hb dX1_join_15 rfl (lv_at hl 2 rfl) ?_
      refine lv_icmp_eq (x := x) (y := y) (tgt := 23) hx hb dX1_join_16 (by decide) (fun c16 => ?_) (fun c16 => ?_)
      · -- taken
        refine lv_iconst (v := 0) hx hb dX1_join_23 (by decide) ?_
        refine oc_callT hx hb hml hl.1 ⟨hok, hS, hN0⟩ (oc_iS (As := [.int 0]) (rest := []) hx hb hown (hts _ q561) (hts _ q562) (hts _ q24) (hts _ q563) ⟨by decide, by decide, (by decide +kernel : (parseMethodDescriptor "(Z)V").map (fun d => d.parameters.length) = some 1)⟩ dX1_join_24 rfl) (oc_M.of (by decide +kernel) (hts _ q563)) (kX1_allow0 G) (fun q z => hA q (Nat.le_trans hS.1 z)) (fun o H1 k n h => by obtain ⟨a, e, -⟩ := h; exact ⟨a, e⟩) dX1_join_24 (Nat.le_of_ble_eq_true rfl) (Nat.le_of_ble_eq_true rfl) (by dsimp only [oc_rm]; omega) (by dsimp only [oc_rm]; omega) (fun a_ H locs k_ n_ hp_ hz_ hk_ hS => ?_)
        obtain ⟨a9, e9, hk9, hn9, hsz9, hex9⟩ := hp_
        cases e9
        subst k_; subst n_
        have hP : va_P D oc_cl (od_cW d u rw cd pr at0 be de I F) H := hP.kept (fun k q h => hk_ q.1 (hP k q h).lt (Nat.not_le.mpr (hP k q h).lt))
        exact oc_xout hlocks (by rw [htab]; intro x9 hx9; cases hx9) hS (Or.inr ⟨_, rfl, ⟨by omega, by omega, hsz9, ⟨_, hex9, ⟨rfl, by simp [oc_jok, *]⟩⟩, hP, hD⟩⟩)
      · -- not taken
        obtain ⟨i, hi, hxi⟩ := oc_in9 c4
        obtain ⟨j, hj, hyj⟩ := oc_in9 c11
        refine lv_iconst (v := 1) hx hb dX1_join_19 (by decide) ?_
        refine lv_goto (tgt := 24) hx hb dX1_join_20 (by decide) ?_
        refine oc_callR (v := none) hx hb hml hl.1 ⟨hok, hS, hN0⟩ (oc_iS (As := [.int 1]) (rest := []) hx hb hown (hts _ q561) (hts _ q562) (hts _ q24) (hts _ q563) ⟨by decide, by decide, (by decide +kernel : (parseMethodDescriptor "(Z)V").map (fun d => d.parameters.length) = some 1)⟩ dX1_join_24 rfl) (oc_M.of (by decide +kernel) (hts _ q563)) (kX1_allow1 G) dX1_join_24 (Nat.le_of_ble_eq_true rfl) (Nat.le_of_ble_eq_true rfl) (by dsimp only [oc_rm]; omega) (by dsimp only [oc_rm]; omega) ?_
        refine W.eq (g2 := F0 m 27 ls []) rfl ?_
        refine lv_aload_n hx hb dX1_join_27 rfl (lv_at hl 0 rfl) ?_
        refine va_get (D := D) (ci := 0) (v := .ref (u 3)) (C := RX1) (T := TX1) (N := 4) hx hb hts in_X1 hown hK hP 0 rfl rfl 2 (by decide) (hts _ q176) (fun _ h9 => h9) rfl dX1_join_28 ?_
        refine va_getN (D := D) (ci := 2) (v := .ref (u 4)) (C := RX3) (T := TX3) (N := 12) hx hb hts in_X3 hown hK hP 3 rfl rfl 7 (by decide) (oc_wF G hok q137) (fun _ h9 => h9) rfl dX1_join_31 ?_
        refine lv_bipush (v := 10) hx hb dX1_join_34 (by decide) ?_
        refine lv_iload_n hx hb dX1_join_36 rfl (lv_at hl 1 rfl) ?_
        refine lv_imul hx hb dX1_join_37 ?_
        refine lv_iload_n hx hb dX1_join_38 rfl (lv_at hl 2 rfl) ?_
        refine lv_iadd hx hb dX1_join_39 ?_
        refine oc_zald hx hb hK hP 4 1 rfl rfl (10 * i + j) (oc_ij hxi hyj) (by omega) (by decide) dX1_join_40 ?_
        refine lv_if_eq (x := (F 13) (10 * i + j)) (tgt := 46) hx hb dX1_join_41 (by decide) (fun c41 => ?_) (fun c41 => ?_)
        · -- taken
          refine lv_aload_n hx hb dX1_join_46 rfl (lv_at hl 0 rfl) ?_
          refine va_get (D := D) (ci := 0) (v := .ref (u 3)) (C := RX1) (T := TX1) (N := 4) hx hb hts in_X1 hown hK hP 0 rfl rfl 2 (by decide) (hts _ q176) (fun _ h9 => h9) rfl dX1_join_47 ?_
          refine va_getN (D := D) (ci := 2) (v := .ref (u 4)) (C := RX3) (T := TX3) (N := 12) hx hb hts in_X3 hown hK hP 3 rfl rfl 7 (by decide) (oc_wF G hok q137) (fun _ h9 => h9) rfl dX1_join_50 ?_
          refine lv_bipush (v := 10) hx hb dX1_join_53 (by decide) ?_
          refine lv_iload_n hx hb dX1_join_55 rfl (lv_at hl 1 rfl) ?_
          refine lv_imul hx hb dX1_join_56 ?_
          refine lv_iload_n hx hb dX1_join_57 rfl (lv_at hl 2 rfl) ?_
          refine lv_iadd hx hb dX1_join_58 ?_
          refine lv_iconst (v := 1) hx hb dX1_join_59 (by decide) ?_
          refine oc_zast hx hb hK hP hD hS 4 1 rfl rfl (10 * i + j) (oc_ij hxi hyj) (by omega) (by decide) (v := 1) rfl dX1_join_60 (fun H locs hP hD hS => ?_)
          have hP : va_P D oc_cl (od_cW d u rw cd pr at0 be de I (va_up F 13 (upd (F 13) (10 * i + j) 1))) H := hP
          have hD : va_D A (od_cW d u rw cd pr at0 be de I (va_up F 13 (upd (F 13) (10 * i + j) 1))) := hD
          refine lv_aload_n hx hb dX1_join_61 rfl (lv_at hl 0 rfl) ?_
          refine va_get (D := D) (ci := 0) (v := .ref (u 3)) (C := RX1) (T := TX1) (N := 4) hx hb hts in_X1 hown hK hP 0 rfl rfl 2 (by decide) (hts _ q176) (fun _ h9 => h9) rfl dX1_join_62 ?_
          refine va_getN (D := D) (ci := 2) (v := .ref (u 4)) (C := RX3) (T := TX3) (N := 12) hx hb hts in_X3 hown hK hP 3 rfl rfl 7 (by decide) (oc_wF G hok q137) (fun _ h9 => h9) rfl dX1_join_65 ?_
          refine lv_bipush (v := 10) hx hb dX1_join_68 (by decide) ?_
          refine lv_iload_n hx hb dX1_join_70 rfl (lv_at hl 2 rfl) ?_
          refine lv_imul hx hb dX1_join_71 ?_
          refine lv_iload_n hx hb dX1_join_72 rfl (lv_at hl 1 rfl) ?_
          refine lv_iadd hx hb dX1_join_73 ?_
          refine lv_iconst (v := 1) hx hb dX1_join_74 (by decide) ?_
          refine oc_zast hx hb hK hP hD hS 4 1 rfl rfl (10 * j + i) (oc_ij hyj hxi) (by omega) (by decide) (v := 1) rfl dX1_join_75 (fun H locs hP hD hS => ?_)
          have hP : va_P D oc_cl (od_cW d u rw cd pr at0 be de I (va_up F 13 (upd (upd (F 13) (10 * i + j) 1) (10 * j + i) 1))) H := hP
          have hD : va_D A (od_cW d u rw cd pr at0 be de I (va_up F 13 (upd (upd (F 13) (10 * i + j) 1) (10 * j + i) 1))) := hD
          refine lv_aload_n hx hb dX1_join_76 rfl (lv_at hl 0 rfl) ?_
          refine va_get (D := D) (ci := 0) (v := .ref (u 3)) (C := RX1) (T := TX1) (N := 4) hx hb hts in_X1 hown hK hP 0 rfl rfl 2 (by decide) (hts _ q176) (fun _ h9 => h9) rfl dX1_join_77 ?_
          refine lv_dup hx hb dX1_join_80 rfl ?_
          refine va_getN (D := D) (ci := 2) (v := .int (I 14)) (C := RX3) (T := TX3) (N := 12) hx hb hts in_X3 hown hK hP 3 rfl rfl 3 (by decide) (oc_wF G hok q129) (fun _ h9 => h9) rfl dX1_join_81 ?_
          refine lv_iconst (v := 1) hx hb dX1_join_84 (by decide) ?_
          refine lv_iadd hx hb dX1_join_85 ?_
          refine va_putN (D := D) (ci := 2) (v := .int ((I 14) + 1)) (ty := .int) (C := RX3) (T := TX3) (N := 12) hx hb hts in_X3 tyX3 tyX3_ok nmX3 hown hK hP hD hS 3 rfl rfl 3 (by decide) (oc_wF G hok q129) (fun _ h9 => h9) rfl (by decide +kernel) rfl rfl (Nat.le_of_ble_eq_true rfl) dX1_join_86 (fun H locs hP hD hS => ?_)
          have hP : va_P D oc_cl (od_cW d u rw cd pr at0 be de (upd I 14 ((I 14) + 1)) (va_up F 13 (upd (upd (F 13) (10 * i + j) 1) (10 * j + i) 1))) H := hP
          have hD : va_D A (od_cW d u rw cd pr at0 be de (upd I 14 ((I 14) + 1)) (va_up F 13 (upd (upd (F 13) (10 * i + j) 1) (10 * j + i) 1))) := hD
          refine lv_iconst (v := 1) hx hb dX1_join_89 (by decide) ?_
          exact oc_iret hx hb hr hlocks hS dX1_join_90 (Or.inl ⟨_, rfl, rfl, rfl, _, _, hP, hD, ⟨by simp [oc_jok, c4, c11, c16], i, j, hi, hj, hxi, hyj, Or.inr ⟨c41, rfl, rfl, rfl⟩⟩⟩)
        · -- not taken
          refine lv_iconst (v := 0) hx hb dX1_join_44 (by decide) ?_
          exact oc_iret hx hb hr hlocks hS dX1_join_45 (Or.inl ⟨_, rfl, rfl, rfl, _, _, hP, hD, ⟨by simp [oc_jok, c4, c11, c16], i, j, hi, hj, hxi, hyj, Or.inl ⟨c41, rfl, rfl, rfl⟩⟩⟩)
