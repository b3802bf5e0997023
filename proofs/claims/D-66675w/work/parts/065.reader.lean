/-! ===== OriginRules$Reader: signs, digits, numbers ===== -/
set_option maxHeartbeats 4000000 in
set_option maxRecDepth 100000 in
theorem kX2_look {l : Launch} {s0 : State} {b0 : Addr} {D : va_G} {d : Nat → ClassId} (G : oc_G l s0 b0 D d) {H : Heap} (r tx N i : Nat) (be de : Int32) (T : Nat → Int32) (hN3 : N ≤ 300) (hiN : i ≤ N) (hP : va_P D oc_cl ([(r, .inr (1, [.ref tx, .int (nI N), .int (nI i), .int be, .int de])), (tx, .inl (d 2, 300, .inl T))] : va_W) H) : oc_C l s0 yX2_look (oc_rm 0 0 0 0) [.ref r] H oc_N (oc_R (some (.int (od_lk T N i))) H) := by
  refine oc_start G (cc := cX2_look) (L := 1) (ret := (Option.some Jvm.ClassFile.FieldType.int)) q222 (Nat.le_of_ble_eq_true rfl) ?_
  intro p e s m below meth c ls hx hok hb hml hr hlocks htab hown hts hK hmn hh hl
  subst hh
  have hl : lv_has ls 1 [(0, .ref r)] := hl
  have hZ := oc_Z0 hok
  refine lv_aload_n hx hb dX2_look_0 rfl (lv_at hl 0 rfl) ?_
  refine va_get (D := D) (ci := 1) (v := .int (nI i)) (C := RX2) (T := TX2) (N := 5) hx hb hts in_X2 hown hK hP 0 rfl rfl 2 (by decide) (hts _ q73) (fun _ h9 => h9) rfl dX2_look_1 ?_
  refine lv_aload_n hx hb dX2_look_4 rfl (lv_at hl 0 rfl) ?_
  refine va_get (D := D) (ci := 1) (v := .int (nI N)) (C := RX2) (T := TX2) (N := 5) hx hb hts in_X2 hown hK hP 0 rfl rfl 1 (by decide) (hts _ q71) (fun _ h9 => h9) rfl dX2_look_5 ?_
  refine lv_icmp_ge (x := nI i) (y := nI N) (tgt := 23) hx hb dX2_look_8 (by decide) (fun c8 => ?_) (fun c8 => ?_)
  · -- taken
    rw [oc_le (x := nI N) (y := nI i) (a := N) (b := i) rfl rfl (by omega) (by omega)] at c8
    refine lv_iconst (v := (-1)) hx hb dX2_look_23 (by decide) ?_
    exact oc_iret hx hb hr hlocks va_S.rf dX2_look_24 (oc_Ri (by unfold od_lk; rw [if_neg (by omega)]))
  · -- not taken
    rw [oc_le (x := nI N) (y := nI i) (a := N) (b := i) rfl rfl (by omega) (by omega)] at c8
    refine lv_aload_n hx hb dX2_look_11 rfl (lv_at hl 0 rfl) ?_
    refine va_get (D := D) (ci := 1) (v := .ref tx) (C := RX2) (T := TX2) (N := 5) hx hb hts in_X2 hown hK hP 0 rfl rfl 0 (by decide) (hts _ q69) (fun _ h9 => h9) rfl dX2_look_12 ?_
    refine lv_aload_n hx hb dX2_look_15 rfl (lv_at hl 0 rfl) ?_
    refine va_get (D := D) (ci := 1) (v := .int (nI i)) (C := RX2) (T := TX2) (N := 5) hx hb hts in_X2 hown hK hP 0 rfl rfl 2 (by decide) (hts _ q73) (fun _ h9 => h9) rfl dX2_look_16 ?_
    refine oc_cald hx hb hK hP 1 2 rfl rfl i rfl (by omega) (by decide) dX2_look_19 ?_
    refine lv_goto (tgt := 24) hx hb dX2_look_20 (by decide) ?_
    exact oc_iret hx hb hr hlocks va_S.rf dX2_look_24 (oc_Ri (by unfold od_lk; rw [if_pos (by omega)]))
set_option maxHeartbeats 4000000 in
set_option maxRecDepth 100000 in
theorem kX2_isDigit {l : Launch} {s0 : State} {b0 : Addr} {D : va_G} {d : Nat → ClassId} (G : oc_G l s0 b0 D d) {H : Heap} (r tx N i : Nat) (be de : Int32) (T : Nat → Int32) (hN3 : N ≤ 300) (hiN : i ≤ N) (hP : va_P D oc_cl ([(r, .inr (1, [.ref tx, .int (nI N), .int (nI i), .int be, .int de])), (tx, .inl (d 2, 300, .inl T))] : va_W) H) : oc_C l s0 yX2_isDigit (oc_rm 1 17 0 0) [.ref r] H oc_N (oc_R (some (.int (oc_b (oc_dig (od_lk T N i))))) H) := by
  refine oc_start G (cc := cX2_isDigit) (L := 1) (ret := (Option.some Jvm.ClassFile.FieldType.boolean)) q218 (Nat.le_of_ble_eq_true rfl) ?_
  intro p e s m below meth c ls hx hok hb hml hr hlocks htab hown hts hK hmn hh hl
  subst hh
  have hl : lv_has ls 1 [(0, .ref r)] := hl
  have hZ := oc_Z0 hok
  refine lv_aload_n hx hb dX2_isDigit_0 rfl (lv_at hl 0 rfl) ?_
  refine oc_callR1 hx hb hml hl.1 hZ (oc_iV (As := []) (rest := []) hx hb hown (hts _ q219) (hts _ q221) (hts _ qs3) (oc_Sig.of (hts _ q222) (by decide +kernel : (parseMethodDescriptor "()I").map (fun d => d.parameters.length) = some 0)) (va_recv hK hP (ci := 1) (q0 := 0) rfl rfl) ⟨by decide, by decide⟩ dX2_isDigit_1 rfl) (oc_M.of (by decide +kernel) (hts _ q222)) (kX2_look G r tx N i be de T hN3 (by omega) hP) dX2_isDigit_1 (Nat.le_of_ble_eq_true rfl) (Nat.le_of_ble_eq_true rfl) (by dsimp only [oc_rm]; omega) (by dsimp only [oc_rm]; omega) ?_
  refine lv_i2l (v := (od_lk T N i).toInt64) hx hb dX2_isDigit_4 rfl ?_
  refine lv_ldc2 (v := 48) hx hb hown (hts _ q223) dX2_isDigit_5 ?_
  refine lv_ldc2 (v := 57) hx hb hown (hts _ q224) dX2_isDigit_8 ?_
  refine oc_callR1 hx hb hml hl.1 hZ (oc_iSN (As := [.long (od_lk T N i).toInt64, .long 48, .long 57]) (rest := []) hx hb hown (oc_wM G hok q225) (hts _ q194) (hts _ q24) (hts _ q195) ⟨by decide, by decide, (by decide +kernel : (parseMethodDescriptor "(JJJ)Z").map (fun d => d.parameters.length) = some 3)⟩ dX2_isDigit_11 rfl) (oc_M.of (by decide +kernel) (hts _ q195)) (kX1_in G (od_lk T N i).toInt64 48 57) dX2_isDigit_11 (Nat.le_of_ble_eq_true rfl) (Nat.le_of_ble_eq_true rfl) (by dsimp only [oc_rm]; omega) (by dsimp only [oc_rm]; omega) ?_
  refine oc_topi (x := oc_b (oc_in (od_lk T N i).toInt64 48 57)) (y := oc_b (oc_dig (od_lk T N i))) (by rw [od_dg]) ?_
  exact oc_zret hx hb hr hlocks va_S.rf dX2_isDigit_14 (oc_bn _) (oc_Ri (rfl))
set_option maxHeartbeats 4000000 in
set_option maxRecDepth 100000 in
theorem kX2_take {l : Launch} {s0 : State} {b0 : Addr} {D : va_G} {d : Nat → ClassId} (G : oc_G l s0 b0 D d) {H : Heap} (r tx N i : Nat) (be de : Int32) (T : Nat → Int32) (hN3 : N ≤ 300) (hiN : i ≤ N) (x : Int32) (hP : va_P D oc_cl ([(r, .inr (1, [.ref tx, .int (nI N), .int (nI i), .int be, .int de]))] : va_W) H) (hD : va_D (va_A ([(r, .inr (1, [.ref tx, .int (nI N), .int (nI i), .int be, .int de]))] : va_W) (Array.size H)) ([(r, .inr (1, [.ref tx, .int (nI N), .int (nI i), .int be, .int de]))] : va_W)) (hN0 : ∀ z_9 ∈ ([(r, .inr (1, [.ref tx, .int (nI N), .int (nI i), .int be, .int de]))] : va_W), s0.heap.size ≤ z_9.1) (hPt : va_P D oc_cl ([(tx, .inl (d 2, 300, .inl T))] : va_W) H) (hPt_d : ∀ z_8 ∈ ([(tx, .inl (d 2, 300, .inl T))] : va_W), ∀ z_9 ∈ ([(r, .inr (1, [.ref tx, .int (nI N), .int (nI i), .int be, .int de]))] : va_W), z_8.1 ≠ z_9.1) : oc_C l s0 yX2_take (oc_rm 7 94 1 6) [.ref r, .int x] H (va_A ([(r, .inr (1, [.ref tx, .int (nI N), .int (nI i), .int be, .int de]))] : va_W) (Array.size H)) (od_RT (fun v H1 k n1 =>  v = none ∧ k = 0 ∧ n1 = 0 ∧ va_P D oc_cl (od_rW r tx N (nI (i + 1)) (be) (de)) H1 ∧ va_D (va_A ([(r, .inr (1, [.ref tx, .int (nI N), .int (nI i), .int be, .int de]))] : va_W) (Array.size H)) (od_rW r tx N (nI (i + 1)) (be) (de)) ∧ od_lk T N i = x) (fun a H1 k n1 =>  k = 1 ∧ n1 = 6 ∧ Array.size H ≤ a ∧ oc_Ex s0 RX5 H1 a ∧ va_P D oc_cl (od_rW r tx N (nI i) (be) (de)) H1 ∧ va_D (va_A ([(r, .inr (1, [.ref tx, .int (nI N), .int (nI i), .int be, .int de]))] : va_W) (Array.size H)) (od_rW r tx N (nI i) (be) (de)) ∧ ¬ od_lk T N i = x)) := by
  refine oc_start G (cc := cX2_take) (L := 2) (ret := (Option.none : Option Jvm.ClassFile.FieldType)) q298 (Nat.le_of_ble_eq_true rfl) ?_
  intro p e s m below meth c ls hx hok hb hml hr hlocks htab hown hts hK hmn hh hl
  subst hh
  have hl : lv_has ls 2 [(0, .ref r), (1, .int x)] := hl
  have hN0 := oc_N0 hok hN0
  have hA : ∀ q, Array.size s.heap ≤ q → (va_A ([(r, .inr (1, [.ref tx, .int (nI N), .int (nI i), .int be, .int de]))] : va_W) (Array.size s.heap)) q := fun q z => Or.inr z
  have hS : va_S (va_A ([(r, .inr (1, [.ref tx, .int (nI N), .int (nI i), .int be, .int de]))] : va_W) (Array.size s.heap)) s.heap s.heap [] := va_S.rf
  have hPt_n : ∀ z_9 ∈ ([(tx, .inl (d 2, 300, .inl T))] : va_W), ¬ (va_A ([(r, .inr (1, [.ref tx, .int (nI N), .int (nI i), .int be, .int de]))] : va_W) (Array.size s.heap)) z_9.1 := oc_nA hPt hPt_d
  generalize hAe : (va_A ([(r, .inr (1, [.ref tx, .int (nI N), .int (nI i), .int be, .int de]))] : va_W) (Array.size s.heap)) = A at *
  have hPt_0 := hPt
  refine lv_aload_n hx hb dX2_take_0 rfl (lv_at hl 0 rfl) ?_
  refine lv_aload_n hx hb dX2_take_1 rfl (lv_at hl 0 rfl) ?_
  refine oc_callR1 hx hb hml hl.1 ⟨hok, hS, hN0⟩ (oc_iV (As := []) (rest := [.ref r]) hx hb hown (hts _ q219) (hts _ q221) (hts _ qs3) (oc_Sig.of (hts _ q222) (by decide +kernel : (parseMethodDescriptor "()I").map (fun d => d.parameters.length) = some 0)) (va_recv hK hP (ci := 1) (q0 := 0) rfl rfl) ⟨by decide, by decide⟩ dX2_take_2 rfl) (oc_M.of (by decide +kernel) (hts _ q222)) (kX2_look G r tx N i be de T hN3 (by omega) (oc_Pc (hP 0 _ rfl) hPt)) dX2_take_2 (Nat.le_of_ble_eq_true rfl) (Nat.le_of_ble_eq_true rfl) (by dsimp only [oc_rm]; omega) (by dsimp only [oc_rm]; omega) ?_
  refine lv_iload_n hx hb dX2_take_5 rfl (lv_at hl 1 rfl) ?_
  refine lv_icmp_ne (x := od_lk T N i) (y := x) (tgt := 13) hx hb dX2_take_6 (by decide) (fun c6 => ?_) (fun c6 => ?_)
  · -- taken
    refine lv_iconst (v := 0) hx hb dX2_take_13 (by decide) ?_
    refine oc_callT hx hb hml hl.1 ⟨hok, hS, hN0⟩ (oc_iV (As := [.int 0]) (rest := []) hx hb hown (hts _ q226) (hts _ q228) (hts _ qs4) (oc_Sig.of (hts _ q229) (by decide +kernel : (parseMethodDescriptor "(Z)V").map (fun d => d.parameters.length) = some 1)) (va_recv hK hP (ci := 1) (q0 := 0) rfl rfl) ⟨by decide, by decide⟩ dX2_take_14 rfl) (oc_M.of (by decide +kernel) (hts _ q229)) (kX2_need0 G r) (fun q z => hA q (Nat.le_trans hS.1 z)) (fun o H1 k n h => by obtain ⟨a, e, -⟩ := h; exact ⟨a, e⟩) dX2_take_14 (Nat.le_of_ble_eq_true rfl) (Nat.le_of_ble_eq_true rfl) (by dsimp only [oc_rm]; omega) (by dsimp only [oc_rm]; omega) (fun a_ H locs k_ n_ hp_ hz_ hk_ hS => ?_)
    obtain ⟨a9, e9, hk9, hn9, hsz9, hex9⟩ := hp_
    cases e9
    subst k_; subst n_
    have hP : va_P D oc_cl ([(r, .inr (1, [.ref tx, .int (nI N), .int (nI i), .int be, .int de]))] : va_W) H := hP.kept (fun k q h => hk_ q.1 (hP k q h).lt (Nat.not_le.mpr (hP k q h).lt))
    have hPt : va_P D oc_cl ([(tx, .inl (d 2, 300, .inl T))] : va_W) H := od_keep hPt_0 hPt_n hS
    exact oc_xout hlocks (by rw [htab]; intro x9 hx9; cases hx9) hS (Or.inr ⟨_, rfl, ⟨by omega, by omega, hsz9, hex9, hP, hD, c6⟩⟩)
  · -- not taken
    refine lv_iconst (v := 1) hx hb dX2_take_9 (by decide) ?_
    refine lv_goto (tgt := 14) hx hb dX2_take_10 (by decide) ?_
    refine oc_callR (v := none) hx hb hml hl.1 ⟨hok, hS, hN0⟩ (oc_iV (As := [.int 1]) (rest := []) hx hb hown (hts _ q226) (hts _ q228) (hts _ qs4) (oc_Sig.of (hts _ q229) (by decide +kernel : (parseMethodDescriptor "(Z)V").map (fun d => d.parameters.length) = some 1)) (va_recv hK hP (ci := 1) (q0 := 0) rfl rfl) ⟨by decide, by decide⟩ dX2_take_14 rfl) (oc_M.of (by decide +kernel) (hts _ q229)) (kX2_need1 G r) dX2_take_14 (Nat.le_of_ble_eq_true rfl) (Nat.le_of_ble_eq_true rfl) (by dsimp only [oc_rm]; omega) (by dsimp only [oc_rm]; omega) ?_
    refine W.eq (g2 := F0 m 17 ls []) rfl ?_
    refine lv_aload_n hx hb dX2_take_17 rfl (lv_at hl 0 rfl) ?_
    refine lv_dup hx hb dX2_take_18 rfl ?_
    refine va_get (D := D) (ci := 1) (v := .int (nI i)) (C := RX2) (T := TX2) (N := 5) hx hb hts in_X2 hown hK hP 0 rfl rfl 2 (by decide) (hts _ q73) (fun _ h9 => h9) rfl dX2_take_19 ?_
    refine lv_iconst (v := 1) hx hb dX2_take_22 (by decide) ?_
    refine lv_iadd hx hb dX2_take_23 ?_
    refine oc_topi (x := (nI i) + 1) (y := nI (i + 1)) (nI_1 i) ?_
    refine va_put (D := D) (ci := 1) (v := .int (nI (i + 1))) (ty := .int) (C := RX2) (T := TX2) (N := 5) hx hb hts in_X2 tyX2 tyX2_ok nmX2 hown hK hP hD hS 0 rfl rfl 2 (by decide) (hts _ q73) (fun _ h9 => h9) rfl (by decide +kernel) rfl rfl (Nat.le_of_ble_eq_true rfl) dX2_take_24 (fun H locs hP hD hS => ?_)
    have hP : va_P D oc_cl ([(r, .inr (1, [.ref tx, .int (nI N), .int (nI (i + 1)), .int be, .int de]))] : va_W) H := hP
    have hD : va_D A ([(r, .inr (1, [.ref tx, .int (nI N), .int (nI (i + 1)), .int be, .int de]))] : va_W) := hD
    have hPt : va_P D oc_cl ([(tx, .inl (d 2, 300, .inl T))] : va_W) H := od_keep hPt_0 hPt_n hS
    exact oc_vret hx hb hr hlocks hS dX2_take_27 (Or.inl ⟨none, rfl, rfl, rfl, rfl, hP, hD, c6⟩)
set_option maxHeartbeats 4000000 in
set_option maxRecDepth 100000 in
theorem kX2_number {l : Launch} {s0 : State} {b0 : Addr} {D : va_G} {d : Nat → ClassId} (G : oc_G l s0 b0 D d) {H : Heap} (r tx N i : Nat) (be de : Int32) (T : Nat → Int32) (hN3 : N ≤ 300) (hiN : i ≤ N) (M : Nat) (hM0 : 1 ≤ M) (hM6 : M ≤ 6) (hP : va_P D oc_cl ([(r, .inr (1, [.ref tx, .int (nI N), .int (nI i), .int be, .int de]))] : va_W) H) (hD : va_D (va_A ([(r, .inr (1, [.ref tx, .int (nI N), .int (nI i), .int be, .int de]))] : va_W) (Array.size H)) ([(r, .inr (1, [.ref tx, .int (nI N), .int (nI i), .int be, .int de]))] : va_W)) (hN0 : ∀ z_9 ∈ ([(r, .inr (1, [.ref tx, .int (nI N), .int (nI i), .int be, .int de]))] : va_W), s0.heap.size ≤ z_9.1) (hPt : va_P D oc_cl ([(tx, .inl (d 2, 300, .inl T))] : va_W) H) (hPt_d : ∀ z_8 ∈ ([(tx, .inl (d 2, 300, .inl T))] : va_W), ∀ z_9 ∈ ([(r, .inr (1, [.ref tx, .int (nI N), .int (nI i), .int be, .int de]))] : va_W), z_8.1 ≠ z_9.1) : oc_C l s0 yX2_number (oc_rm 7 94 1 6) [.ref r, .int (nI M)] H (va_A ([(r, .inr (1, [.ref tx, .int (nI N), .int (nI i), .int be, .int de]))] : va_W) (Array.size H)) (od_RT (fun v H1 k n1 => ∃ j : Nat, v = some (.int (oc_nm T i j)) ∧ k = 0 ∧ n1 = 0 ∧ va_P D oc_cl (od_rW r tx N (nI (i + j)) (be) (de)) H1 ∧ va_D (va_A ([(r, .inr (1, [.ref tx, .int (nI N), .int (nI i), .int be, .int de]))] : va_W) (Array.size H)) (od_rW r tx N (nI (i + j)) (be) (de)) ∧ (1 ≤ j ∧ j ≤ M ∧ od_ds T N i j ∧ oc_dig (od_lk T N (i + j)) = false)) (fun a H1 k n1 => ∃ j : Nat, k = 1 ∧ n1 = 6 ∧ Array.size H ≤ a ∧ oc_Ex s0 RX5 H1 a ∧ va_P D oc_cl (od_rW r tx N (nI (i + j)) (be) (de)) H1 ∧ va_D (va_A ([(r, .inr (1, [.ref tx, .int (nI N), .int (nI i), .int be, .int de]))] : va_W) (Array.size H)) (od_rW r tx N (nI (i + j)) (be) (de)) ∧ (j ≤ M ∧ od_ds T N i j ∧ ((j = 0 ∧ oc_dig (od_lk T N i) = false) ∨ (j = M ∧ oc_dig (od_lk T N (i + j)) = true))))) := by
  refine oc_start G (cc := cX2_number) (L := 4) (ret := (Option.some Jvm.ClassFile.FieldType.int)) q214 (Nat.le_of_ble_eq_true rfl) ?_
  intro p e s m below meth c ls hx hok hb hml hr hlocks htab hown hts hK hmn hh hl
  subst hh
  have hl : lv_has ls 4 [(0, .ref r), (1, .int (nI M))] := hl
  have hN0 := oc_N0 hok hN0
  have hA : ∀ q, Array.size s.heap ≤ q → (va_A ([(r, .inr (1, [.ref tx, .int (nI N), .int (nI i), .int be, .int de]))] : va_W) (Array.size s.heap)) q := fun q z => Or.inr z
  have hS : va_S (va_A ([(r, .inr (1, [.ref tx, .int (nI N), .int (nI i), .int be, .int de]))] : va_W) (Array.size s.heap)) s.heap s.heap [] := va_S.rf
  have hPt_n : ∀ z_9 ∈ ([(tx, .inl (d 2, 300, .inl T))] : va_W), ¬ (va_A ([(r, .inr (1, [.ref tx, .int (nI N), .int (nI i), .int be, .int de]))] : va_W) (Array.size s.heap)) z_9.1 := oc_nA hPt hPt_d
  generalize hAe : (va_A ([(r, .inr (1, [.ref tx, .int (nI N), .int (nI i), .int be, .int de]))] : va_W) (Array.size s.heap)) = A at *
  have hPt_0 := hPt
  refine lv_iconst (v := 0) hx hb dX2_number_0 (by decide) ?_
  refine lv_istore_n (lv' := [(2, .int 0), (0, .ref r), (1, .int (nI M))]) hx hb dX2_number_1 rfl hl (by decide) rfl (fun ls hl => ?_)
  refine lv_aload_n hx hb dX2_number_2 rfl (lv_at hl 1 rfl) ?_
  refine lv_aload_n hx hb dX2_number_3 rfl (lv_at hl 1 rfl) ?_
  refine oc_callR1 hx hb hml hl.1 ⟨hok, hS, hN0⟩ (oc_iV (As := []) (rest := [.ref r]) hx hb hown (hts _ q215) (hts _ q217) (hts _ qs2) (oc_Sig.of (hts _ q218) (by decide +kernel : (parseMethodDescriptor "()Z").map (fun d => d.parameters.length) = some 0)) (va_recv hK hP (ci := 1) (q0 := 0) rfl rfl) ⟨by decide, by decide⟩ dX2_number_4 rfl) (oc_M.of (by decide +kernel) (hts _ q218)) (kX2_isDigit G r tx N i be de T hN3 (by omega) (oc_Pc (hP 0 _ rfl) hPt)) dX2_number_4 (Nat.le_of_ble_eq_true rfl) (Nat.le_of_ble_eq_true rfl) (by dsimp only [oc_rm]; omega) (by dsimp only [oc_rm]; omega) ?_
  by_cases hb_7 : (oc_dig (od_lk T N i)) = true
  ·
    refine oc_topi (x := oc_b (oc_dig (od_lk T N i))) (y := 1) (by rw [hb_7]; rfl) ?_
    refine oc_callR (v := none) hx hb hml hl.1 ⟨hok, hS, hN0⟩ (oc_iV (As := [.int 1]) (rest := []) hx hb hown (hts _ q226) (hts _ q228) (hts _ qs4) (oc_Sig.of (hts _ q229) (by decide +kernel : (parseMethodDescriptor "(Z)V").map (fun d => d.parameters.length) = some 1)) (va_recv hK hP (ci := 1) (q0 := 0) rfl rfl) ⟨by decide, by decide⟩ dX2_number_7 rfl) (oc_M.of (by decide +kernel) (hts _ q229)) (kX2_need1 G r) dX2_number_7 (Nat.le_of_ble_eq_true rfl) (Nat.le_of_ble_eq_true rfl) (by dsimp only [oc_rm]; omega) (by dsimp only [oc_rm]; omega) ?_
    refine W.eq (g2 := F0 m 10 ls []) rfl ?_
    refine lv_iconst (v := 0) hx hb dX2_number_10 (by decide) ?_
    refine lv_istore_n (lv' := [(3, .int 0), (2, .int 0), (0, .ref r), (1, .int (nI M))]) hx hb dX2_number_11 rfl hl (by decide) rfl (fun ls hl => ?_)
    have lp12 : ∀ (n : Nat) (j : Nat), (j ≤ M) → (M + 1 ≤ j + n) → (od_ds T N i j) → (i + j ≤ N) → ∀ (H : Heap) (locs : List Loc), va_P D oc_cl (od_rW r tx N (nI (i + j)) (be) (de)) H → va_D A (od_rW r tx N (nI (i + j)) (be) (de)) → va_S A s.heap H locs → ∀ (ls : Array Slot), lv_has ls 4 [(3, .int (nI j)), (2, .int (oc_nm T i j)), (0, .ref r), (1, .int (nI M))] → W p l e (oc_rm 7 94 1 6) s m ([.ref r, .int (nI M)] : List Value).toArray below meth c H locs 0 0 (oc_Q A below s (od_RT (fun v H1 k n1 => ∃ j : Nat, v = some (.int (oc_nm T i j)) ∧ k = 0 ∧ n1 = 0 ∧ va_P D oc_cl (od_rW r tx N (nI (i + j)) (be) (de)) H1 ∧ va_D A (od_rW r tx N (nI (i + j)) (be) (de)) ∧ (1 ≤ j ∧ j ≤ M ∧ od_ds T N i j ∧ oc_dig (od_lk T N (i + j)) = false)) (fun a H1 k n1 => ∃ j : Nat, k = 1 ∧ n1 = 6 ∧ Array.size s.heap ≤ a ∧ oc_Ex s0 RX5 H1 a ∧ va_P D oc_cl (od_rW r tx N (nI (i + j)) (be) (de)) H1 ∧ va_D A (od_rW r tx N (nI (i + j)) (be) (de)) ∧ (j ≤ M ∧ od_ds T N i j ∧ ((j = 0 ∧ oc_dig (od_lk T N i) = false) ∨ (j = M ∧ oc_dig (od_lk T N (i + j)) = true)))))) (F0 m 12 ls []) := by
      intro n
      induction n with
      | zero => intro j hj hn hds hij H locs hP hD hS ls hl; exact absurd hn (by omega)
      | succ n ih12 =>
        intro j hj hn hds hij H locs hP hD hS ls hl
        have hPt : va_P D oc_cl ([(tx, .inl (d 2, 300, .inl T))] : va_W) H := od_keep hPt_0 hPt_n hS
        have hS1 := hS.1
        refine lv_iload_n hx hb dX2_number_12 rfl (lv_at hl 0 rfl) ?_
        refine lv_iload_n hx hb dX2_number_13 rfl (lv_at hl 3 rfl) ?_
        refine lv_icmp_ge (x := nI j) (y := nI M) (tgt := 58) hx hb dX2_number_14 (by decide) (fun c14 => ?_) (fun c14 => ?_)
        · -- taken
          rw [oc_le (x := nI M) (y := nI j) (a := M) (b := j) rfl rfl (by omega) (by omega)] at c14
          have hjM : j = M := by omega
          have hj1 : 1 ≤ j := by omega
          refine lv_aload_n hx hb dX2_number_58 rfl (lv_at hl 2 rfl) ?_
          refine lv_aload_n hx hb dX2_number_59 rfl (lv_at hl 2 rfl) ?_
          refine oc_callR1 hx hb hml hl.1 ⟨hok, hS, hN0⟩ (oc_iV (As := []) (rest := [.ref r]) hx hb hown (hts _ q215) (hts _ q217) (hts _ qs2) (oc_Sig.of (hts _ q218) (by decide +kernel : (parseMethodDescriptor "()Z").map (fun d => d.parameters.length) = some 0)) (va_recv hK hP (ci := 1) (q0 := 0) rfl rfl) ⟨by decide, by decide⟩ dX2_number_60 rfl) (oc_M.of (by decide +kernel) (hts _ q218)) (kX2_isDigit G r tx N (i + j) be de T hN3 (by omega) (oc_Pc (hP 0 _ rfl) hPt)) dX2_number_60 (Nat.le_of_ble_eq_true rfl) (Nat.le_of_ble_eq_true rfl) (by dsimp only [oc_rm]; omega) (by dsimp only [oc_rm]; omega) ?_
          refine lv_if_ne (x := oc_b (oc_dig (od_lk T N (i + j)))) (tgt := 70) hx hb dX2_number_63 (by decide) (fun c63 => ?_) (fun c63 => ?_)
          · -- taken
            rw [oc_b0] at c63
            rw [Bool.not_eq_false] at c63
            refine lv_iconst (v := 0) hx hb dX2_number_70 (by decide) ?_
            refine oc_callT hx hb hml hl.1 ⟨hok, hS, hN0⟩ (oc_iV (As := [.int 0]) (rest := []) hx hb hown (hts _ q226) (hts _ q228) (hts _ qs4) (oc_Sig.of (hts _ q229) (by decide +kernel : (parseMethodDescriptor "(Z)V").map (fun d => d.parameters.length) = some 1)) (va_recv hK hP (ci := 1) (q0 := 0) rfl rfl) ⟨by decide, by decide⟩ dX2_number_71 rfl) (oc_M.of (by decide +kernel) (hts _ q229)) (kX2_need0 G r) (fun q z => hA q (Nat.le_trans hS.1 z)) (fun o H1 k n h => by obtain ⟨a, e, -⟩ := h; exact ⟨a, e⟩) dX2_number_71 (Nat.le_of_ble_eq_true rfl) (Nat.le_of_ble_eq_true rfl) (by dsimp only [oc_rm]; omega) (by dsimp only [oc_rm]; omega) (fun a_ H locs k_ n_ hp_ hz_ hk_ hS => ?_)
            obtain ⟨a9, e9, hk9, hn9, hsz9, hex9⟩ := hp_
            cases e9
            subst k_; subst n_
            have hP : va_P D oc_cl ([(r, .inr (1, [.ref tx, .int (nI N), .int (nI (i + j)), .int be, .int de]))] : va_W) H := hP.kept (fun k q h => hk_ q.1 (hP k q h).lt (Nat.not_le.mpr (hP k q h).lt))
            have hPt : va_P D oc_cl ([(tx, .inl (d 2, 300, .inl T))] : va_W) H := od_keep hPt_0 hPt_n hS
            exact oc_xout hlocks (by rw [htab]; intro x9 hx9; cases hx9) hS (Or.inr ⟨_, rfl, ⟨j, by omega, by omega, Nat.le_trans hS1 hsz9, hex9, hP, hD, hj, hds, Or.inr ⟨hjM, c63⟩⟩⟩)
          · -- not taken
            rw [oc_b0] at c63
            refine lv_iconst (v := 1) hx hb dX2_number_66 (by decide) ?_
            refine lv_goto (tgt := 71) hx hb dX2_number_67 (by decide) ?_
            refine oc_callR (v := none) hx hb hml hl.1 ⟨hok, hS, hN0⟩ (oc_iV (As := [.int 1]) (rest := []) hx hb hown (hts _ q226) (hts _ q228) (hts _ qs4) (oc_Sig.of (hts _ q229) (by decide +kernel : (parseMethodDescriptor "(Z)V").map (fun d => d.parameters.length) = some 1)) (va_recv hK hP (ci := 1) (q0 := 0) rfl rfl) ⟨by decide, by decide⟩ dX2_number_71 rfl) (oc_M.of (by decide +kernel) (hts _ q229)) (kX2_need1 G r) dX2_number_71 (Nat.le_of_ble_eq_true rfl) (Nat.le_of_ble_eq_true rfl) (by dsimp only [oc_rm]; omega) (by dsimp only [oc_rm]; omega) ?_
            refine W.eq (g2 := F0 m 74 ls []) rfl ?_
            refine lv_iload_n hx hb dX2_number_74 rfl (lv_at hl 1 rfl) ?_
            exact oc_iret hx hb hr hlocks hS dX2_number_75 (Or.inl ⟨_, rfl, j, rfl, rfl, rfl, hP, hD, hj1, hj, hds, c63⟩)
        · -- not taken
          rw [oc_le (x := nI M) (y := nI j) (a := M) (b := j) rfl rfl (by omega) (by omega)] at c14
          refine lv_aload_n hx hb dX2_number_17 rfl (lv_at hl 2 rfl) ?_
          refine oc_callR1 hx hb hml hl.1 ⟨hok, hS, hN0⟩ (oc_iV (As := []) (rest := []) hx hb hown (hts _ q215) (hts _ q217) (hts _ qs2) (oc_Sig.of (hts _ q218) (by decide +kernel : (parseMethodDescriptor "()Z").map (fun d => d.parameters.length) = some 0)) (va_recv hK hP (ci := 1) (q0 := 0) rfl rfl) ⟨by decide, by decide⟩ dX2_number_18 rfl) (oc_M.of (by decide +kernel) (hts _ q218)) (kX2_isDigit G r tx N (i + j) be de T hN3 (by omega) (oc_Pc (hP 0 _ rfl) hPt)) dX2_number_18 (Nat.le_of_ble_eq_true rfl) (Nat.le_of_ble_eq_true rfl) (by dsimp only [oc_rm]; omega) (by dsimp only [oc_rm]; omega) ?_
          refine lv_if_eq (x := oc_b (oc_dig (od_lk T N (i + j)))) (tgt := 58) hx hb dX2_number_21 (by decide) (fun c21 => ?_) (fun c21 => ?_)
          · -- taken
            rw [oc_b0] at c21
            have hj1 : 1 ≤ j := by
              rcases Nat.eq_zero_or_pos j with z | z
              · subst z; rw [show i + 0 = i from rfl, hb_7] at c21; cases c21
              · exact z
            refine lv_aload_n hx hb dX2_number_58 rfl (lv_at hl 2 rfl) ?_
            refine lv_aload_n hx hb dX2_number_59 rfl (lv_at hl 2 rfl) ?_
            refine oc_callR1 hx hb hml hl.1 ⟨hok, hS, hN0⟩ (oc_iV (As := []) (rest := [.ref r]) hx hb hown (hts _ q215) (hts _ q217) (hts _ qs2) (oc_Sig.of (hts _ q218) (by decide +kernel : (parseMethodDescriptor "()Z").map (fun d => d.parameters.length) = some 0)) (va_recv hK hP (ci := 1) (q0 := 0) rfl rfl) ⟨by decide, by decide⟩ dX2_number_60 rfl) (oc_M.of (by decide +kernel) (hts _ q218)) (kX2_isDigit G r tx N (i + j) be de T hN3 (by omega) (oc_Pc (hP 0 _ rfl) hPt)) dX2_number_60 (Nat.le_of_ble_eq_true rfl) (Nat.le_of_ble_eq_true rfl) (by dsimp only [oc_rm]; omega) (by dsimp only [oc_rm]; omega) ?_
            refine lv_if_ne (x := oc_b (oc_dig (od_lk T N (i + j)))) (tgt := 70) hx hb dX2_number_63 (by decide) (fun c63 => ?_) (fun c63 => ?_)
            · -- taken
              rw [oc_b0] at c63
              rw [Bool.not_eq_false] at c63
              rw [c21] at c63; cases c63
            · -- not taken
              rw [oc_b0] at c63
              refine lv_iconst (v := 1) hx hb dX2_number_66 (by decide) ?_
              refine lv_goto (tgt := 71) hx hb dX2_number_67 (by decide) ?_
              refine oc_callR (v := none) hx hb hml hl.1 ⟨hok, hS, hN0⟩ (oc_iV (As := [.int 1]) (rest := []) hx hb hown (hts _ q226) (hts _ q228) (hts _ qs4) (oc_Sig.of (hts _ q229) (by decide +kernel : (parseMethodDescriptor "(Z)V").map (fun d => d.parameters.length) = some 1)) (va_recv hK hP (ci := 1) (q0 := 0) rfl rfl) ⟨by decide, by decide⟩ dX2_number_71 rfl) (oc_M.of (by decide +kernel) (hts _ q229)) (kX2_need1 G r) dX2_number_71 (Nat.le_of_ble_eq_true rfl) (Nat.le_of_ble_eq_true rfl) (by dsimp only [oc_rm]; omega) (by dsimp only [oc_rm]; omega) ?_
              refine W.eq (g2 := F0 m 74 ls []) rfl ?_
              refine lv_iload_n hx hb dX2_number_74 rfl (lv_at hl 1 rfl) ?_
              exact oc_iret hx hb hr hlocks hS dX2_number_75 (Or.inl ⟨_, rfl, j, rfl, rfl, rfl, hP, hD, hj1, hj, hds, c63⟩)
          · -- not taken
            rw [oc_b0] at c21
            rw [Bool.not_eq_false] at c21
            have hlt9 := od_lkd c21
            refine lv_bipush (v := 10) hx hb dX2_number_24 (by decide) ?_
            refine lv_iload_n hx hb dX2_number_26 rfl (lv_at hl 1 rfl) ?_
            refine lv_imul hx hb dX2_number_27 ?_
            refine lv_aload_n hx hb dX2_number_28 rfl (lv_at hl 2 rfl) ?_
            refine va_get (D := D) (ci := 1) (v := .ref tx) (C := RX2) (T := TX2) (N := 5) hx hb hts in_X2 hown hK hP 0 rfl rfl 0 (by decide) (hts _ q69) (fun _ h9 => h9) rfl dX2_number_29 ?_
            refine lv_aload_n hx hb dX2_number_32 rfl (lv_at hl 2 rfl) ?_
            refine va_get (D := D) (ci := 1) (v := .int (nI (i + j))) (C := RX2) (T := TX2) (N := 5) hx hb hts in_X2 hown hK hP 0 rfl rfl 2 (by decide) (hts _ q73) (fun _ h9 => h9) rfl dX2_number_33 ?_
            refine oc_cald hx hb hK hPt 0 2 rfl rfl (i + j) rfl (by omega) (by decide) dX2_number_36 ?_
            refine lv_iadd hx hb dX2_number_37 ?_
            refine lv_bipush (v := 48) hx hb dX2_number_38 (by decide) ?_
            refine lv_isub hx hb dX2_number_40 ?_
            refine lv_istore_n (lv' := [(2, .int (((10 * (oc_nm T i j)) + (T (i + j))) - 48)), (3, .int (nI j)), (0, .ref r), (1, .int (nI M))]) hx hb dX2_number_41 rfl hl (by decide) rfl (fun ls hl => ?_)
            refine lv_aload_n hx hb dX2_number_42 rfl (lv_at hl 2 rfl) ?_
            refine lv_dup hx hb dX2_number_43 rfl ?_
            refine va_get (D := D) (ci := 1) (v := .int (nI (i + j))) (C := RX2) (T := TX2) (N := 5) hx hb hts in_X2 hown hK hP 0 rfl rfl 2 (by decide) (hts _ q73) (fun _ h9 => h9) rfl dX2_number_44 ?_
            refine lv_iconst (v := 1) hx hb dX2_number_47 (by decide) ?_
            refine lv_iadd hx hb dX2_number_48 ?_
            refine oc_topi (x := (nI (i + j)) + 1) (y := nI (i + (j + 1))) (nI_1 (i + j)) ?_
            refine va_put (D := D) (ci := 1) (v := .int (nI (i + (j + 1)))) (ty := .int) (C := RX2) (T := TX2) (N := 5) hx hb hts in_X2 tyX2 tyX2_ok nmX2 hown hK hP hD hS 0 rfl rfl 2 (by decide) (hts _ q73) (fun _ h9 => h9) rfl (by decide +kernel) rfl rfl (Nat.le_of_ble_eq_true rfl) dX2_number_49 (fun H locs hP hD hS => ?_)
            have hP : va_P D oc_cl ([(r, .inr (1, [.ref tx, .int (nI N), .int (nI (i + (j + 1))), .int be, .int de]))] : va_W) H := hP
            have hD : va_D A ([(r, .inr (1, [.ref tx, .int (nI N), .int (nI (i + (j + 1))), .int be, .int de]))] : va_W) := hD
            have hPt : va_P D oc_cl ([(tx, .inl (d 2, 300, .inl T))] : va_W) H := od_keep hPt_0 hPt_n hS
            refine lv_iinc (v := nI (j + 1)) (lv' := [(3, .int (nI (j + 1))), (2, .int (((10 * (oc_nm T i j)) + (T (i + j))) - 48)), (0, .ref r), (1, .int (nI M))]) hx hb dX2_number_52 hl (k := 1) rfl (nI_1 j) (by decide) rfl (fun ls hl => ?_)
            refine lv_goto (tgt := 12) hx hb dX2_number_55 (by decide) ?_
            exact ih12 (j + 1) (by omega) (by omega) (od_ds1 hds c21) (by omega) H locs hP hD hS ls (lv_sub hl [0, 1, 2, 3] rfl)
    exact lp12 (M + 1) 0 (by omega) (by omega) od_ds0 (by omega) s.heap [] hP hD hS ls (lv_sub hl [0, 1, 2, 3] rfl)
  ·
    rw [Bool.not_eq_true] at hb_7
    refine oc_topi (x := oc_b (oc_dig (od_lk T N i))) (y := 0) (by simp [oc_b, hb_7]) ?_
    refine oc_callT hx hb hml hl.1 ⟨hok, hS, hN0⟩ (oc_iV (As := [.int 0]) (rest := []) hx hb hown (hts _ q226) (hts _ q228) (hts _ qs4) (oc_Sig.of (hts _ q229) (by decide +kernel : (parseMethodDescriptor "(Z)V").map (fun d => d.parameters.length) = some 1)) (va_recv hK hP (ci := 1) (q0 := 0) rfl rfl) ⟨by decide, by decide⟩ dX2_number_7 rfl) (oc_M.of (by decide +kernel) (hts _ q229)) (kX2_need0 G r) (fun q z => hA q (Nat.le_trans hS.1 z)) (fun o H1 k n h => by obtain ⟨a, e, -⟩ := h; exact ⟨a, e⟩) dX2_number_7 (Nat.le_of_ble_eq_true rfl) (Nat.le_of_ble_eq_true rfl) (by dsimp only [oc_rm]; omega) (by dsimp only [oc_rm]; omega) (fun a_ H locs k_ n_ hp_ hz_ hk_ hS => ?_)
    obtain ⟨a9, e9, hk9, hn9, hsz9, hex9⟩ := hp_
    cases e9
    subst k_; subst n_
    have hP : va_P D oc_cl ([(r, .inr (1, [.ref tx, .int (nI N), .int (nI i), .int be, .int de]))] : va_W) H := hP.kept (fun k q h => hk_ q.1 (hP k q h).lt (Nat.not_le.mpr (hP k q h).lt))
    have hPt : va_P D oc_cl ([(tx, .inl (d 2, 300, .inl T))] : va_W) H := od_keep hPt_0 hPt_n hS
    exact oc_xout hlocks (by rw [htab]; intro x9 hx9; cases hx9) hS (Or.inr ⟨_, rfl, ⟨0, by omega, by omega, hsz9, hex9, hP, hD, by omega, od_ds0, Or.inl ⟨rfl, hb_7⟩⟩⟩)
set_option maxHeartbeats 4000000 in
set_option maxRecDepth 100000 in
theorem kX2_numberUpTo {l : Launch} {s0 : State} {b0 : Addr} {D : va_G} {d : Nat → ClassId} (G : oc_G l s0 b0 D d) {H : Heap} (r tx N i : Nat) (be de : Int32) (T : Nat → Int32) (hN3 : N ≤ 300) (hiN : i ≤ N) (M : Nat) (g : Int32) (hM0 : 1 ≤ M) (hM6 : M ≤ 6) (hP : va_P D oc_cl ([(r, .inr (1, [.ref tx, .int (nI N), .int (nI i), .int be, .int de]))] : va_W) H) (hD : va_D (va_A ([(r, .inr (1, [.ref tx, .int (nI N), .int (nI i), .int be, .int de]))] : va_W) (Array.size H)) ([(r, .inr (1, [.ref tx, .int (nI N), .int (nI i), .int be, .int de]))] : va_W)) (hN0 : ∀ z_9 ∈ ([(r, .inr (1, [.ref tx, .int (nI N), .int (nI i), .int be, .int de]))] : va_W), s0.heap.size ≤ z_9.1) (hPt : va_P D oc_cl ([(tx, .inl (d 2, 300, .inl T))] : va_W) H) (hPt_d : ∀ z_8 ∈ ([(tx, .inl (d 2, 300, .inl T))] : va_W), ∀ z_9 ∈ ([(r, .inr (1, [.ref tx, .int (nI N), .int (nI i), .int be, .int de]))] : va_W), z_8.1 ≠ z_9.1) : oc_C l s0 yX2_numberUpTo (oc_rm 8 109 1 6) [.ref r, .int (nI M), .int g] H (va_A ([(r, .inr (1, [.ref tx, .int (nI N), .int (nI i), .int be, .int de]))] : va_W) (Array.size H)) (od_RT (fun v H1 k n1 => ∃ j : Nat, v = some (.int (oc_nm T i j)) ∧ k = 0 ∧ n1 = 0 ∧ va_P D oc_cl (od_rW r tx N (nI (i + j)) (be) (de)) H1 ∧ va_D (va_A ([(r, .inr (1, [.ref tx, .int (nI N), .int (nI i), .int be, .int de]))] : va_W) (Array.size H)) (od_rW r tx N (nI (i + j)) (be) (de)) ∧ (1 ≤ j ∧ j ≤ M ∧ od_ds T N i j ∧ oc_dig (od_lk T N (i + j)) = false ∧ ¬ g < oc_nm T i j)) (fun a H1 k n1 => ∃ j : Nat, k = 1 ∧ n1 = 6 ∧ Array.size H ≤ a ∧ oc_Ex s0 RX5 H1 a ∧ va_P D oc_cl (od_rW r tx N (nI (i + j)) (be) (de)) H1 ∧ va_D (va_A ([(r, .inr (1, [.ref tx, .int (nI N), .int (nI i), .int be, .int de]))] : va_W) (Array.size H)) (od_rW r tx N (nI (i + j)) (be) (de)) ∧ (j ≤ M ∧ od_ds T N i j ∧ ((j = 0 ∧ oc_dig (od_lk T N i) = false) ∨ (j = M ∧ oc_dig (od_lk T N (i + j)) = true) ∨ (1 ≤ j ∧ oc_dig (od_lk T N (i + j)) = false ∧ g < oc_nm T i j))))) := by
  refine oc_start G (cc := cX2_numberUpTo) (L := 4) (ret := (Option.some Jvm.ClassFile.FieldType.int)) q363 (Nat.le_of_ble_eq_true rfl) ?_
  intro p e s m below meth c ls hx hok hb hml hr hlocks htab hown hts hK hmn hh hl
  subst hh
  have hl : lv_has ls 4 [(0, .ref r), (1, .int (nI M)), (2, .int g)] := hl
  have hN0 := oc_N0 hok hN0
  have hA : ∀ q, Array.size s.heap ≤ q → (va_A ([(r, .inr (1, [.ref tx, .int (nI N), .int (nI i), .int be, .int de]))] : va_W) (Array.size s.heap)) q := fun q z => Or.inr z
  have hS : va_S (va_A ([(r, .inr (1, [.ref tx, .int (nI N), .int (nI i), .int be, .int de]))] : va_W) (Array.size s.heap)) s.heap s.heap [] := va_S.rf
  have hPt_n : ∀ z_9 ∈ ([(tx, .inl (d 2, 300, .inl T))] : va_W), ¬ (va_A ([(r, .inr (1, [.ref tx, .int (nI N), .int (nI i), .int be, .int de]))] : va_W) (Array.size s.heap)) z_9.1 := oc_nA hPt hPt_d
  generalize hAe : (va_A ([(r, .inr (1, [.ref tx, .int (nI N), .int (nI i), .int be, .int de]))] : va_W) (Array.size s.heap)) = A at *
  have hPt_0 := hPt
  have hPt_dd := hPt_d
  refine lv_aload_n hx hb dX2_numberUpTo_0 rfl (lv_at hl 0 rfl) ?_
  refine lv_iload_n hx hb dX2_numberUpTo_1 rfl (lv_at hl 1 rfl) ?_
  have hF_ : ∀ q, va_A ([(r, .inr (1, [.ref tx, .int (nI N), .int (nI i), .int be, .int de]))] : va_W) (Array.size s.heap) q → A q := va_free hD hS hA [0] rfl
  refine oc_callRT (A1 := va_A ([(r, .inr (1, [.ref tx, .int (nI N), .int (nI i), .int be, .int de]))] : va_W) (Array.size s.heap)) hx hb hml hl.1 ⟨hok, hS, hN0⟩ (oc_iV (As := [.int (nI M)]) (rest := []) hx hb hown (hts _ q211) (hts _ q213) (hts _ qs1) (oc_Sig.of (hts _ q214) (by decide +kernel : (parseMethodDescriptor "(I)I").map (fun d => d.parameters.length) = some 1)) (va_recv hK hP (ci := 1) (q0 := 0) rfl rfl) ⟨by decide, by decide⟩ dX2_numberUpTo_2 rfl) (oc_M.of (by decide +kernel) (hts _ q214)) (kX2_number G r tx N i be de T hN3 (by omega) M (by omega) (by omega) (hP.sub [0] rfl) ((hD.sub [0] rfl rfl).self) (oc_N1 hD hN0 [0] rfl) hPt hPt_dd) hF_ dX2_numberUpTo_2 (Nat.le_of_ble_eq_true rfl) (Nat.le_of_ble_eq_true rfl) (by dsimp only [oc_rm]; omega) (by dsimp only [oc_rm]; omega) (fun v_ H locs k_ n_ hp_ hz_ hk_ hS => ?_) (fun a_ H locs k_ n_ hp_ hz_ hk_ hS => ?_)
  · -- returned
    obtain ⟨j, rfl, rfl, rfl, hP1, hD1, hj1, hj, hds, hnd⟩ := hp_
    obtain ⟨hP, hD⟩ := va_join (w1 := ([(r, .inr (1, [.ref tx, .int (nI N), .int (nI (i + j)), .int be, .int de]))] : va_W)) (wr := ([] : va_W)) hP hD [0] [] rfl rfl rfl (by decide) hk_ hF_ hP1 hD1
    have hP : va_P D oc_cl ([(r, .inr (1, [.ref tx, .int (nI N), .int (nI (i + j)), .int be, .int de]))] : va_W) H := hP
    have hD : va_D A ([(r, .inr (1, [.ref tx, .int (nI N), .int (nI (i + j)), .int be, .int de]))] : va_W) := hD
    have hPt : va_P D oc_cl ([(tx, .inl (d 2, 300, .inl T))] : va_W) H := od_keep hPt_0 hPt_n hS
    refine W.eq (g2 := F0 m 5 ls [.int (oc_nm T i j)]) rfl ?_
    refine lv_istore_n (lv' := [(3, .int (oc_nm T i j)), (0, .ref r), (1, .int (nI M)), (2, .int g)]) hx hb dX2_numberUpTo_5 rfl hl (by decide) rfl (fun ls hl => ?_)
    refine lv_aload_n hx hb dX2_numberUpTo_6 rfl (lv_at hl 1 rfl) ?_
    refine lv_iload_n hx hb dX2_numberUpTo_7 rfl (lv_at hl 0 rfl) ?_
    refine lv_iload_n hx hb dX2_numberUpTo_8 rfl (lv_at hl 3 rfl) ?_
    refine lv_icmp_gt (x := oc_nm T i j) (y := g) (tgt := 16) hx hb dX2_numberUpTo_9 (by decide) (fun c9 => ?_) (fun c9 => ?_)
    · -- taken
      have hz9 := hz_
      refine lv_iconst (v := 0) hx hb dX2_numberUpTo_16 (by decide) ?_
      refine oc_callT hx hb hml hl.1 ⟨hok, hS, hN0⟩ (oc_iV (As := [.int 0]) (rest := []) hx hb hown (hts _ q226) (hts _ q228) (hts _ qs4) (oc_Sig.of (hts _ q229) (by decide +kernel : (parseMethodDescriptor "(Z)V").map (fun d => d.parameters.length) = some 1)) (va_recv hK hP (ci := 1) (q0 := 0) rfl rfl) ⟨by decide, by decide⟩ dX2_numberUpTo_17 rfl) (oc_M.of (by decide +kernel) (hts _ q229)) (kX2_need0 G r) (fun q z => hA q (Nat.le_trans hS.1 z)) (fun o H1 k n h => by obtain ⟨a, e, -⟩ := h; exact ⟨a, e⟩) dX2_numberUpTo_17 (Nat.le_of_ble_eq_true rfl) (Nat.le_of_ble_eq_true rfl) (by dsimp only [oc_rm]; omega) (by dsimp only [oc_rm]; omega) (fun a_ H locs k_ n_ hp_ hz_ hk_ hS => ?_)
      obtain ⟨a9, e9, hk9, hn9, hsz9, hex9⟩ := hp_
      cases e9
      subst k_; subst n_
      have hP : va_P D oc_cl ([(r, .inr (1, [.ref tx, .int (nI N), .int (nI (i + j)), .int be, .int de]))] : va_W) H := hP.kept (fun k q h => hk_ q.1 (hP k q h).lt (Nat.not_le.mpr (hP k q h).lt))
      have hPt : va_P D oc_cl ([(tx, .inl (d 2, 300, .inl T))] : va_W) H := od_keep hPt_0 hPt_n hS
      exact oc_xout hlocks (by rw [htab]; intro x9 hx9; cases hx9) hS (Or.inr ⟨_, rfl, ⟨j, by omega, by omega, Nat.le_trans hz9 hsz9, hex9, hP, hD, hj, hds, Or.inr (Or.inr ⟨hj1, hnd, c9⟩)⟩⟩)
    · -- not taken
      refine lv_iconst (v := 1) hx hb dX2_numberUpTo_12 (by decide) ?_
      refine lv_goto (tgt := 17) hx hb dX2_numberUpTo_13 (by decide) ?_
      refine oc_callR (v := none) hx hb hml hl.1 ⟨hok, hS, hN0⟩ (oc_iV (As := [.int 1]) (rest := []) hx hb hown (hts _ q226) (hts _ q228) (hts _ qs4) (oc_Sig.of (hts _ q229) (by decide +kernel : (parseMethodDescriptor "(Z)V").map (fun d => d.parameters.length) = some 1)) (va_recv hK hP (ci := 1) (q0 := 0) rfl rfl) ⟨by decide, by decide⟩ dX2_numberUpTo_17 rfl) (oc_M.of (by decide +kernel) (hts _ q229)) (kX2_need1 G r) dX2_numberUpTo_17 (Nat.le_of_ble_eq_true rfl) (Nat.le_of_ble_eq_true rfl) (by dsimp only [oc_rm]; omega) (by dsimp only [oc_rm]; omega) ?_
      refine W.eq (g2 := F0 m 20 ls []) rfl ?_
      refine lv_iload_n hx hb dX2_numberUpTo_20 rfl (lv_at hl 0 rfl) ?_
      exact oc_iret hx hb hr hlocks hS dX2_numberUpTo_21 (Or.inl ⟨_, rfl, j, rfl, rfl, rfl, hP, hD, hj1, hj, hds, hnd, c9⟩)
  · -- threw
    obtain ⟨j, hk9, hn9, hsz9, hex9, hP1, hD1, hj, hds, hcase⟩ := hp_
    subst k_; subst n_
    obtain ⟨hP, hD⟩ := va_join (w1 := ([(r, .inr (1, [.ref tx, .int (nI N), .int (nI (i + j)), .int be, .int de]))] : va_W)) (wr := ([] : va_W)) hP hD [0] [] rfl rfl rfl (by decide) hk_ hF_ hP1 hD1
    have hP : va_P D oc_cl ([(r, .inr (1, [.ref tx, .int (nI N), .int (nI (i + j)), .int be, .int de]))] : va_W) H := hP
    have hD : va_D A ([(r, .inr (1, [.ref tx, .int (nI N), .int (nI (i + j)), .int be, .int de]))] : va_W) := hD
    have hPt : va_P D oc_cl ([(tx, .inl (d 2, 300, .inl T))] : va_W) H := od_keep hPt_0 hPt_n hS
    exact oc_xout hlocks (by rw [htab]; intro x9 hx9; cases hx9) hS (Or.inr ⟨_, rfl, ⟨j, by omega, by omega, hsz9, hex9, hP, hD, hj, hds, hcase.imp id Or.inl⟩⟩)
