/-! ===== OriginRules: calls that only answer ===== -/
def od_wy (t : Nat → Int32) (k : Nat) (x : Int32) : Int32 := if oc_in x.toInt64 0 (nI k - 1).toInt64 = true then t x.toNatClampNeg else -1
set_option maxHeartbeats 4000000 in
set_option maxRecDepth 100000 in
theorem kX1_why {l : Launch} {s0 : State} {b0 : Addr} {D : va_G} {d : Nat → ClassId} (G : oc_G l s0 b0 D d) {H : Heap} {u : Nat → Nat} {rw : Nat} {cd : Int32} {pr : Int64} {at0 be de : Int32} {I : Nat → Int32} {F : Nat → Nat → Int32} (hP : va_P D oc_cl (od_cW d u rw cd pr at0 be de I F) H) (x : Int32) (ka : Nat) (hka : I 22 = nI ka) (hk3 : ka ≤ 300) : oc_C l s0 yX1_why (oc_rm 1 17 0 0) [.ref (u 0), .int x] H oc_N (oc_R (some (.int (od_wy (F 23) ka x))) H) := by
  refine oc_start G (cc := cX1_why) (L := 2) (ret := (Option.some Jvm.ClassFile.FieldType.int)) q504 (Nat.le_of_ble_eq_true rfl) ?_
  intro p e s m below meth c ls hx hok hb hml hr hlocks htab hown hts hK hmn hh hl
  subst hh
  have hl : lv_has ls 2 [(0, .ref (u 0)), (1, .int x)] := hl
  have hZ := oc_Z0 hok
  refine lv_iload_n hx hb dX1_why_0 rfl (lv_at hl 1 rfl) ?_
  refine lv_i2l (v := x.toInt64) hx hb dX1_why_1 rfl ?_
  refine lv_lconst (v := 0) hx hb dX1_why_2 (by decide) ?_
  refine lv_aload_n hx hb dX1_why_3 rfl (lv_at hl 0 rfl) ?_
  refine va_get (D := D) (ci := 0) (v := .ref (u 3)) (C := RX1) (T := TX1) (N := 4) hx hb hts in_X1 hown hK hP 0 rfl rfl 2 (by decide) (hts _ q176) (fun _ h9 => h9) rfl dX1_why_4 ?_
  refine va_getN (D := D) (ci := 2) (v := .int (I 22)) (C := RX3) (T := TX3) (N := 12) hx hb hts in_X3 hown hK hP 3 rfl rfl 11 (by decide) (oc_wF G hok q146) (fun _ h9 => h9) rfl dX1_why_7 ?_
  refine oc_topi (x := I 22) (y := nI ka) hka ?_
  refine lv_iconst (v := 1) hx hb dX1_why_10 (by decide) ?_
  refine lv_isub hx hb dX1_why_11 ?_
  refine lv_i2l (v := ((nI ka) - 1).toInt64) hx hb dX1_why_12 rfl ?_
  refine oc_callR1 hx hb hml hl.1 hZ (oc_iS (As := [.long x.toInt64, .long 0, .long ((nI ka) - 1).toInt64]) (rest := []) hx hb hown (hts _ q193) (hts _ q194) (hts _ q24) (hts _ q195) ⟨by decide, by decide, (by decide +kernel : (parseMethodDescriptor "(JJJ)Z").map (fun d => d.parameters.length) = some 3)⟩ dX1_why_13 rfl) (oc_M.of (by decide +kernel) (hts _ q195)) (kX1_in G x.toInt64 0 ((nI ka) - 1).toInt64) dX1_why_13 (Nat.le_of_ble_eq_true rfl) (Nat.le_of_ble_eq_true rfl) (by dsimp only [oc_rm]; omega) (by dsimp only [oc_rm]; omega) ?_
  refine lv_if_eq (x := oc_b (oc_in x.toInt64 0 ((nI ka) - 1).toInt64)) (tgt := 31) hx hb dX1_why_16 (by decide) (fun c16 => ?_) (fun c16 => ?_)
  · -- taken
    rw [oc_b0] at c16
    refine lv_iconst (v := (-1)) hx hb dX1_why_31 (by decide) ?_
    exact oc_iret hx hb hr hlocks va_S.rf dX1_why_32 (oc_Ri (by unfold od_wy; rw [if_neg (by rw [c16]; decide)]))
  · -- not taken
    rw [oc_b0] at c16
    rw [Bool.not_eq_false] at c16
    obtain ⟨j, hj, hxj⟩ := (od_in0 (by omega)).mp c16
    refine lv_aload_n hx hb dX1_why_19 rfl (lv_at hl 0 rfl) ?_
    refine va_get (D := D) (ci := 0) (v := .ref (u 3)) (C := RX1) (T := TX1) (N := 4) hx hb hts in_X1 hown hK hP 0 rfl rfl 2 (by decide) (hts _ q176) (fun _ h9 => h9) rfl dX1_why_20 ?_
    refine va_getN (D := D) (ci := 2) (v := .ref (u 5)) (C := RX3) (T := TX3) (N := 12) hx hb hts in_X3 hown hK hP 3 rfl rfl 10 (by decide) (oc_wF G hok q144) (fun _ h9 => h9) rfl dX1_why_23 ?_
    refine lv_iload_n hx hb dX1_why_26 rfl (lv_at hl 1 rfl) ?_
    refine oc_iald hx hb hK hP 5 0 rfl rfl j hxj (by omega) (by decide) dX1_why_27 ?_
    refine lv_goto (tgt := 32) hx hb dX1_why_28 (by decide) ?_
    exact oc_iret hx hb hr hlocks va_S.rf dX1_why_32 (oc_Ri (by unfold od_wy; rw [if_pos c16, hxj, nI_clamp (by omega)]))
set_option maxHeartbeats 4000000 in
set_option maxRecDepth 100000 in
theorem kX1_foreignParts {l : Launch} {s0 : State} {b0 : Addr} {D : va_G} {d : Nat → ClassId} (G : oc_G l s0 b0 D d) {H : Heap} {u : Nat → Nat} {rw : Nat} {cd : Int32} {pr : Int64} {at0 be de : Int32} {I : Nat → Int32} {F : Nat → Nat → Int32} (hP : va_P D oc_cl (od_cW d u rw cd pr at0 be de I F) H) {L : Nat → Int64} {E0 ar N cp : Nat} {el : Nat → Option Nat} (hL : od_L D d E0 H (u 6) ar N cp el) (hpt : ∀ j, j < N → ∃ y, el j = some y ∧ va_at D oc_cl (y, .inr (12, [.int (F 8 j), .int (F 9 j), .long (L j)])) H) (h12 : N ≤ 12) (hsym : od_sym (F 13))  : oc_C l s0 yX1_foreignParts (oc_rm 3 47 0 0) [.ref (u 0)] H oc_N (oc_R (some (.int (oc_mc I F N))) H) := by
  refine oc_start G (cc := cX1_foreignParts) (L := 3) (ret := (Option.some Jvm.ClassFile.FieldType.int)) q512 (Nat.le_of_ble_eq_true rfl) ?_
  intro p e s m below meth c ls hx hok hb hml hr hlocks htab hown hts hK hmn hh hl
  subst hh
  have hl : lv_has ls 3 [(0, .ref (u 0))] := hl
  have hZ := oc_Z0 hok
  refine lv_iconst (v := 0) hx hb dX1_foreignParts_0 (by decide) ?_
  refine lv_istore_n (lv' := [(1, .int 0), (0, .ref (u 0))]) hx hb dX1_foreignParts_1 rfl hl (by decide) rfl (fun ls hl => ?_)
  refine lv_iconst (v := 0) hx hb dX1_foreignParts_2 (by decide) ?_
  refine lv_istore_n (lv' := [(2, .int 0), (1, .int 0), (0, .ref (u 0))]) hx hb dX1_foreignParts_3 rfl hl (by decide) rfl (fun ls hl => ?_)
  have lp4 : ∀ (n : Nat) (k : Nat) (z : Int32), (k ≤ N) → (N + 1 ≤ k + n) → (z = oc_mc I F k) → ∀ (ls : Array Slot), lv_has ls 3 [(2, .int (nI k)), (1, .int z), (0, .ref (u 0))] → W p l e (oc_rm 3 47 0 0) s m ([.ref (u 0)] : List Value).toArray below meth c s.heap [] 0 0 (oc_Q oc_N below s (oc_R (some (.int (oc_mc I F N))) s.heap)) (F0 m 4 ls []) := by
    intro n
    induction n with
    | zero => intro k z hk hn ey ls hl; exact absurd hn (by omega)
    | succ n ih4 =>
      intro k z hk hn ey ls hl
      refine lv_iload_n hx hb dX1_foreignParts_4 rfl (lv_at hl 0 rfl) ?_
      refine lv_aload_n hx hb dX1_foreignParts_5 rfl (lv_at hl 2 rfl) ?_
      refine va_get (D := D) (ci := 0) (v := .ref (u 3)) (C := RX1) (T := TX1) (N := 4) hx hb hts in_X1 hown hK hP 0 rfl rfl 2 (by decide) (hts _ q176) (fun _ h9 => h9) rfl dX1_foreignParts_6 ?_
      refine va_getN (D := D) (ci := 2) (v := .ref (u 6)) (C := RX3) (T := TX3) (N := 12) hx hb hts in_X3 hown hK hP 3 rfl rfl 0 (by decide) (oc_wF G hok q125) (fun _ h9 => h9) rfl dX1_foreignParts_9 ?_
      refine oc_callR1 hx hb hml hl.1 hZ (oc_iV (As := []) (rest := [.int (nI k)]) hx hb hown (hts _ q471) (hts _ q468) (hts _ q469) (oc_Sig.of (hts _ q470) (by decide +kernel : (parseMethodDescriptor "()I").map (fun d => d.parameters.length) = some 0)) (od_recv hK hL) ⟨by decide, by decide⟩ dX1_foreignParts_12 rfl) (oc_M.of (by decide +kernel) (hts _ q470)) (od_size G hL) dX1_foreignParts_12 (Nat.le_of_ble_eq_true rfl) (Nat.le_of_ble_eq_true rfl) (by dsimp only [oc_rm]; omega) (by dsimp only [oc_rm]; omega) ?_
      refine lv_icmp_ge (x := nI k) (y := nI N) (tgt := 56) hx hb dX1_foreignParts_15 (by decide) (fun c15 => ?_) (fun c15 => ?_)
      · -- taken
        rw [oc_le (x := nI N) (y := nI k) (a := N) (b := k) rfl rfl (by omega) (by omega)] at c15
        refine lv_iload_n hx hb dX1_foreignParts_56 rfl (lv_at hl 1 rfl) ?_
        exact oc_iret hx hb hr hlocks va_S.rf dX1_foreignParts_57 (oc_Ri (by rw [ey, show k = N by omega]))
      · -- not taken
        rw [oc_le (x := nI N) (y := nI k) (a := N) (b := k) rfl rfl (by omega) (by omega)] at c15
        obtain ⟨y, hy, hya⟩ := hpt k (by omega)
        refine lv_iload_n hx hb dX1_foreignParts_18 rfl (lv_at hl 1 rfl) ?_
        refine oc_cut (g2 := F0 m 48 ls [.int (if oc_mw I F (F 9 k) = true then 0 else 1), .int z]) ?_ (fun K48 => ?_)
        · -- behind 48
          refine lv_iadd hx hb dX1_foreignParts_48 ?_
          refine lv_istore_n (lv' := [(1, .int (z + (if oc_mw I F (F 9 k) = true then 0 else 1))), (2, .int (nI k)), (0, .ref (u 0))]) hx hb dX1_foreignParts_49 rfl hl (by decide) rfl (fun ls hl => ?_)
          refine lv_iinc (v := nI (k + 1)) (lv' := [(2, .int (nI (k + 1))), (1, .int (z + (if oc_mw I F (F 9 k) = true then 0 else 1))), (0, .ref (u 0))]) hx hb dX1_foreignParts_50 hl (k := 1) rfl (nI_1 k) (by decide) rfl (fun ls hl => ?_)
          refine lv_goto (tgt := 4) hx hb dX1_foreignParts_53 (by decide) ?_
          exact ih4 (k + 1) (z + (if oc_mw I F (F 9 k) = true then 0 else 1)) (by omega) (by omega) (by rw [ey]; rfl) ls (lv_sub hl [0, 1, 2] rfl)
        · -- up to 48
          refine lv_aload_n hx hb dX1_foreignParts_19 rfl (lv_at hl 2 rfl) ?_
          refine va_get (D := D) (ci := 0) (v := .ref (u 3)) (C := RX1) (T := TX1) (N := 4) hx hb hts in_X1 hown hK hP 0 rfl rfl 2 (by decide) (hts _ q176) (fun _ h9 => h9) rfl dX1_foreignParts_20 ?_
          refine lv_aload_n hx hb dX1_foreignParts_23 rfl (lv_at hl 2 rfl) ?_
          refine va_get (D := D) (ci := 0) (v := .ref (u 3)) (C := RX1) (T := TX1) (N := 4) hx hb hts in_X1 hown hK hP 0 rfl rfl 2 (by decide) (hts _ q176) (fun _ h9 => h9) rfl dX1_foreignParts_24 ?_
          refine va_getN (D := D) (ci := 2) (v := .ref (u 6)) (C := RX3) (T := TX3) (N := 12) hx hb hts in_X3 hown hK hP 3 rfl rfl 0 (by decide) (oc_wF G hok q125) (fun _ h9 => h9) rfl dX1_foreignParts_27 ?_
          refine lv_iload_n hx hb dX1_foreignParts_30 rfl (lv_at hl 0 rfl) ?_
          refine oc_callR1 hx hb hml hl.1 hZ (oc_iV (As := [.int (nI k)]) (rest := [.ref (u 3), .int z]) hx hb hown (hts _ q513) (hts _ q514) (hts _ q515) (oc_Sig.of (hts _ q516) (by decide +kernel : (parseMethodDescriptor "(I)Ljava/lang/Object;").map (fun d => d.parameters.length) = some 1)) (od_recv hK hL) ⟨by decide, by decide⟩ dX1_foreignParts_31 rfl) (oc_M.of (by decide +kernel) (hts _ q516)) (od_get G hL (k := k) (by omega) hy) dX1_foreignParts_31 (Nat.le_of_ble_eq_true rfl) (Nat.le_of_ble_eq_true rfl) (by dsimp only [oc_rm]; omega) (by dsimp only [oc_rm]; omega) ?_
          refine va_castS hx hb hown (hts _ q527) (hK.1 12 _ rfl).2 (va_recv hK (oc_P1 hya) (ci := 12) (q0 := 0) rfl rfl) dX1_foreignParts_34 ?_
          refine oc_callR1 hx hb hml hl.1 hZ (oc_iV (As := [.ref y]) (rest := [.int z]) hx hb hown (hts _ q528) (hts _ q529) (hts _ q530) (oc_Sig.of (hts _ q531) (by decide +kernel : (parseMethodDescriptor "(LOriginRules$Part;)Z").map (fun d => d.parameters.length) = some 1)) (va_recv hK hP (ci := 2) (q0 := 3) rfl rfl) ⟨by decide, by decide⟩ dX1_foreignParts_37 rfl) (oc_M.of (by decide +kernel) (hts _ q531)) (kX3_isForeign G (u := u) (I := I) (F := F) (cd := cd) (pr := pr) (sz := I 22) (hP.sub [3, 4] rfl) hsym y (F 8 k) (F 9 k) (L k) (oc_P1 hya)) dX1_foreignParts_37 (Nat.le_of_ble_eq_true rfl) (Nat.le_of_ble_eq_true rfl) (by dsimp only [oc_rm]; omega) (by dsimp only [oc_rm]; omega) ?_
          refine lv_if_eq (x := oc_b (!oc_mw I F (F 9 k))) (tgt := 47) hx hb dX1_foreignParts_40 (by decide) (fun c40 => ?_) (fun c40 => ?_)
          · -- taken
            rw [oc_b0] at c40
            refine lv_iconst (v := 0) hx hb dX1_foreignParts_47 (by decide) ?_
            exact oc_topi (x := 0) (by simp_all) K48
          · -- not taken
            rw [oc_b0] at c40
            rw [Bool.not_eq_false] at c40
            refine lv_iconst (v := 1) hx hb dX1_foreignParts_43 (by decide) ?_
            refine lv_goto (tgt := 48) hx hb dX1_foreignParts_44 (by decide) ?_
            exact oc_topi (x := 1) (by simp_all) K48
  exact lp4 (N + 1) 0 0 (by omega) (by omega) rfl ls (lv_sub hl [0, 1, 2] rfl)
set_option maxHeartbeats 4000000 in
set_option maxRecDepth 100000 in
theorem kX1_count {l : Launch} {s0 : State} {b0 : Addr} {D : va_G} {d : Nat → ClassId} (G : oc_G l s0 b0 D d) {H : Heap} {u : Nat → Nat} {rw : Nat} {cd : Int32} {pr : Int64} {at0 be de : Int32} {I : Nat → Int32} {F : Nat → Nat → Int32} (hP : va_P D oc_cl (od_cW d u rw cd pr at0 be de I F) H) {L : Nat → Int64} {E0 ar N cp : Nat} {el : Nat → Option Nat} (hL : od_L D d E0 H (u 6) ar N cp el) (hpt : ∀ j, j < N → ∃ y, el j = some y ∧ va_at D oc_cl (y, .inr (12, [.int (F 8 j), .int (F 9 j), .long (L j)])) H) (h12 : N ≤ 12) (hsym : od_sym (F 13)) (x : Int32) {arr cpr NR arq cpq np : Nat} {elr elq : Nat → Option Nat} (hR : od_L D d E0 H rw arr NR cpr elr) (hQ : od_L D d E0 H (u 7) arq np cpq elq) (h7 : I 7 = nI N) (h5 : I 5 = nI NR) (h18 : I 18 = nI np) : oc_C l s0 yX1_count (oc_rm 4 61 0 0) [.ref (u 0), .int x] H oc_N (oc_R (some (.int (oc_ct I F N x))) H) := by
  refine oc_start G (cc := cX1_count) (L := 2) (ret := (Option.some Jvm.ClassFile.FieldType.int)) q508 (Nat.le_of_ble_eq_true rfl) ?_
  intro p e s m below meth c ls hx hok hb hml hr hlocks htab hown hts hK hmn hh hl
  subst hh
  have hl : lv_has ls 2 [(0, .ref (u 0)), (1, .int x)] := hl
  have hZ := oc_Z0 hok
  refine lv_iload_n hx hb dX1_count_0 rfl (lv_at hl 1 rfl) ?_
  by_cases w1_0 : x = 0
  · -- case 0
    refine lv_tableIn (x := x) (off := 47) (tgt := 48) hx hb dX1_count_1 (by rw [w1_0]; decide) (by rw [w1_0]; decide) (by rw [w1_0]; rfl) (by decide) ?_
    refine lv_aload_n hx hb dX1_count_48 rfl (lv_at hl 0 rfl) ?_
    refine va_get (D := D) (ci := 0) (v := .ref (u 1)) (C := RX1) (T := TX1) (N := 4) hx hb hts in_X1 hown hK hP 0 rfl rfl 0 (by decide) (hts _ q174) (fun _ h9 => h9) rfl dX1_count_49 ?_
    refine va_getN (D := D) (ci := 1) (v := .int (I 2)) (C := RX2) (T := TX2) (N := 5) hx hb hts in_X2 hown hK hP 1 rfl rfl 1 (by decide) (oc_wF G hok q72) (fun _ h9 => h9) rfl dX1_count_52 ?_
    exact oc_iret hx hb hr hlocks va_S.rf dX1_count_55 (oc_Ri (by simp [oc_ct, *]))
  by_cases w1_1 : x = 1
  · -- case 1
    refine lv_tableIn (x := x) (off := 55) (tgt := 56) hx hb dX1_count_1 (by rw [w1_1]; decide) (by rw [w1_1]; decide) (by rw [w1_1]; rfl) (by decide) ?_
    refine lv_aload_n hx hb dX1_count_56 rfl (lv_at hl 0 rfl) ?_
    refine va_get (D := D) (ci := 0) (v := .ref rw) (C := RX1) (T := TX1) (N := 4) hx hb hts in_X1 hown hK hP 0 rfl rfl 1 (by decide) (hts _ q175) (fun _ h9 => h9) rfl dX1_count_57 ?_
    refine oc_callR1 hx hb hml hl.1 hZ (oc_iV (As := []) (rest := []) hx hb hown (hts _ q471) (hts _ q468) (hts _ q469) (oc_Sig.of (hts _ q470) (by decide +kernel : (parseMethodDescriptor "()I").map (fun d => d.parameters.length) = some 0)) (od_recv hK hR) ⟨by decide, by decide⟩ dX1_count_60 rfl) (oc_M.of (by decide +kernel) (hts _ q470)) (od_size G hR) dX1_count_60 (Nat.le_of_ble_eq_true rfl) (Nat.le_of_ble_eq_true rfl) (by dsimp only [oc_rm]; omega) (by dsimp only [oc_rm]; omega) ?_
    exact oc_iret hx hb hr hlocks va_S.rf dX1_count_63 (oc_Ri (by simp [oc_ct, *]))
  by_cases w1_2 : x = 2
  · -- case 2
    refine lv_tableIn (x := x) (off := 63) (tgt := 64) hx hb dX1_count_1 (by rw [w1_2]; decide) (by rw [w1_2]; decide) (by rw [w1_2]; rfl) (by decide) ?_
    refine lv_aload_n hx hb dX1_count_64 rfl (lv_at hl 0 rfl) ?_
    refine va_get (D := D) (ci := 0) (v := .ref (u 3)) (C := RX1) (T := TX1) (N := 4) hx hb hts in_X1 hown hK hP 0 rfl rfl 2 (by decide) (hts _ q176) (fun _ h9 => h9) rfl dX1_count_65 ?_
    refine va_getN (D := D) (ci := 2) (v := .ref (u 6)) (C := RX3) (T := TX3) (N := 12) hx hb hts in_X3 hown hK hP 3 rfl rfl 0 (by decide) (oc_wF G hok q125) (fun _ h9 => h9) rfl dX1_count_68 ?_
    refine oc_callR1 hx hb hml hl.1 hZ (oc_iV (As := []) (rest := []) hx hb hown (hts _ q471) (hts _ q468) (hts _ q469) (oc_Sig.of (hts _ q470) (by decide +kernel : (parseMethodDescriptor "()I").map (fun d => d.parameters.length) = some 0)) (od_recv hK hL) ⟨by decide, by decide⟩ dX1_count_71 rfl) (oc_M.of (by decide +kernel) (hts _ q470)) (od_size G hL) dX1_count_71 (Nat.le_of_ble_eq_true rfl) (Nat.le_of_ble_eq_true rfl) (by dsimp only [oc_rm]; omega) (by dsimp only [oc_rm]; omega) ?_
    exact oc_iret hx hb hr hlocks va_S.rf dX1_count_74 (oc_Ri (by simp [oc_ct, *]))
  by_cases w1_3 : x = 3
  · -- case 3
    refine lv_tableIn (x := x) (off := 74) (tgt := 75) hx hb dX1_count_1 (by rw [w1_3]; decide) (by rw [w1_3]; decide) (by rw [w1_3]; rfl) (by decide) ?_
    refine lv_aload_n hx hb dX1_count_75 rfl (lv_at hl 0 rfl) ?_
    refine oc_callR1 hx hb hml hl.1 hZ (oc_iV (As := []) (rest := []) hx hb hown (hts _ q509) (hts _ q511) (hts _ qs11) (oc_Sig.of (hts _ q512) (by decide +kernel : (parseMethodDescriptor "()I").map (fun d => d.parameters.length) = some 0)) (va_recv hK hP (ci := 0) (q0 := 0) rfl rfl) ⟨by decide, by decide⟩ dX1_count_76 rfl) (oc_M.of (by decide +kernel) (hts _ q512)) (kX1_foreignParts G hP hL hpt h12 hsym) dX1_count_76 (Nat.le_of_ble_eq_true rfl) (Nat.le_of_ble_eq_true rfl) (by dsimp only [oc_rm]; omega) (by dsimp only [oc_rm]; omega) ?_
    exact oc_iret hx hb hr hlocks va_S.rf dX1_count_79 (oc_Ri (by simp [oc_ct, *]))
  by_cases w1_4 : x = 4
  · -- case 4
    refine lv_tableIn (x := x) (off := 79) (tgt := 80) hx hb dX1_count_1 (by rw [w1_4]; decide) (by rw [w1_4]; decide) (by rw [w1_4]; rfl) (by decide) ?_
    refine lv_aload_n hx hb dX1_count_80 rfl (lv_at hl 0 rfl) ?_
    refine va_get (D := D) (ci := 0) (v := .ref (u 3)) (C := RX1) (T := TX1) (N := 4) hx hb hts in_X1 hown hK hP 0 rfl rfl 2 (by decide) (hts _ q176) (fun _ h9 => h9) rfl dX1_count_81 ?_
    refine va_getN (D := D) (ci := 2) (v := .int (I 11)) (C := RX3) (T := TX3) (N := 12) hx hb hts in_X3 hown hK hP 3 rfl rfl 1 (by decide) (oc_wF G hok q127) (fun _ h9 => h9) rfl dX1_count_84 ?_
    exact oc_iret hx hb hr hlocks va_S.rf dX1_count_87 (oc_Ri (by simp [oc_ct, *]))
  by_cases w1_5 : x = 5
  · -- case 5
    refine lv_tableIn (x := x) (off := 87) (tgt := 88) hx hb dX1_count_1 (by rw [w1_5]; decide) (by rw [w1_5]; decide) (by rw [w1_5]; rfl) (by decide) ?_
    refine lv_aload_n hx hb dX1_count_88 rfl (lv_at hl 0 rfl) ?_
    refine va_get (D := D) (ci := 0) (v := .ref (u 3)) (C := RX1) (T := TX1) (N := 4) hx hb hts in_X1 hown hK hP 0 rfl rfl 2 (by decide) (hts _ q176) (fun _ h9 => h9) rfl dX1_count_89 ?_
    refine va_getN (D := D) (ci := 2) (v := .int (I 14)) (C := RX3) (T := TX3) (N := 12) hx hb hts in_X3 hown hK hP 3 rfl rfl 3 (by decide) (oc_wF G hok q129) (fun _ h9 => h9) rfl dX1_count_92 ?_
    exact oc_iret hx hb hr hlocks va_S.rf dX1_count_95 (oc_Ri (by simp [oc_ct, *]))
  by_cases w1_6 : x = 6
  · -- case 6
    refine lv_tableIn (x := x) (off := 95) (tgt := 96) hx hb dX1_count_1 (by rw [w1_6]; decide) (by rw [w1_6]; decide) (by rw [w1_6]; rfl) (by decide) ?_
    refine lv_aload_n hx hb dX1_count_96 rfl (lv_at hl 0 rfl) ?_
    refine va_get (D := D) (ci := 0) (v := .ref (u 7)) (C := RX1) (T := TX1) (N := 4) hx hb hts in_X1 hown hK hP 0 rfl rfl 3 (by decide) (hts _ q177) (fun _ h9 => h9) rfl dX1_count_97 ?_
    refine oc_callR1 hx hb hml hl.1 hZ (oc_iV (As := []) (rest := []) hx hb hown (hts _ q471) (hts _ q468) (hts _ q469) (oc_Sig.of (hts _ q470) (by decide +kernel : (parseMethodDescriptor "()I").map (fun d => d.parameters.length) = some 0)) (od_recv hK hQ) ⟨by decide, by decide⟩ dX1_count_100 rfl) (oc_M.of (by decide +kernel) (hts _ q470)) (od_size G hQ) dX1_count_100 (Nat.le_of_ble_eq_true rfl) (Nat.le_of_ble_eq_true rfl) (by dsimp only [oc_rm]; omega) (by dsimp only [oc_rm]; omega) ?_
    exact oc_iret hx hb hr hlocks va_S.rf dX1_count_103 (oc_Ri (by simp [oc_ct, *]))
  by_cases w1_7 : x = 7
  · -- case 7
    refine lv_tableIn (x := x) (off := 103) (tgt := 104) hx hb dX1_count_1 (by rw [w1_7]; decide) (by rw [w1_7]; decide) (by rw [w1_7]; rfl) (by decide) ?_
    refine lv_aload_n hx hb dX1_count_104 rfl (lv_at hl 0 rfl) ?_
    refine va_get (D := D) (ci := 0) (v := .ref (u 3)) (C := RX1) (T := TX1) (N := 4) hx hb hts in_X1 hown hK hP 0 rfl rfl 2 (by decide) (hts _ q176) (fun _ h9 => h9) rfl dX1_count_105 ?_
    refine va_getN (D := D) (ci := 2) (v := .int (I 22)) (C := RX3) (T := TX3) (N := 12) hx hb hts in_X3 hown hK hP 3 rfl rfl 11 (by decide) (oc_wF G hok q146) (fun _ h9 => h9) rfl dX1_count_108 ?_
    exact oc_iret hx hb hr hlocks va_S.rf dX1_count_111 (oc_Ri (by simp [oc_ct, *]))
  have hsw : x.toInt < 0 ∨ 7 < x.toInt := by
    have z0 : ¬ x.toInt = 0 := lv_neT (k := 0) w1_0 rfl
    have z1 : ¬ x.toInt = 1 := lv_neT (k := 1) w1_1 rfl
    have z2 : ¬ x.toInt = 2 := lv_neT (k := 2) w1_2 rfl
    have z3 : ¬ x.toInt = 3 := lv_neT (k := 3) w1_3 rfl
    have z4 : ¬ x.toInt = 4 := lv_neT (k := 4) w1_4 rfl
    have z5 : ¬ x.toInt = 5 := lv_neT (k := 5) w1_5 rfl
    have z6 : ¬ x.toInt = 6 := lv_neT (k := 6) w1_6 rfl
    have z7 : ¬ x.toInt = 7 := lv_neT (k := 7) w1_7 rfl
    omega
  refine lv_tableOut (x := x) (tgt := 112) hx hb dX1_count_1 hsw (by decide) ?_
  refine lv_iconst (v := (-1)) hx hb dX1_count_112 (by decide) ?_
  exact oc_iret hx hb hr hlocks va_S.rf dX1_count_113 (oc_Ri (by simp [oc_ct, *]))
def od_Q0 (s0 : State) (H : Heap) (Ψ : String → Prop) : Nat → Heap → Nat → Nat → Prop := fun a H1 k n => k ≤ 3 ∧ n ≤ 100 ∧ Array.size H ≤ a ∧ ∃ C, oc_Ex s0 C H1 a ∧ Ψ C
def od_P0 (H : Heap) (Φ : Option Value → Prop) : Option Value → Heap → Nat → Nat → Prop := fun v H1 k n => k = 0 ∧ n = 0 ∧ H1 = H ∧ Φ v
set_option maxHeartbeats 4000000 in
set_option maxRecDepth 100000 in
theorem kX1_own {l : Launch} {s0 : State} {b0 : Addr} {D : va_G} {d : Nat → ClassId} (G : oc_G l s0 b0 D d) {H : Heap} {u : Nat → Nat} {rw : Nat} {cd : Int32} {pr : Int64} {at0 be de : Int32} {I : Nat → Int32} {F : Nat → Nat → Int32} (x : Int32) (hsym : od_sym (F 13)) (hC : va_P D oc_cl ([(u 0, .inr (0, [.ref (u 1), .ref rw, .ref (u 3), .ref (u 7)])), (u 1, .inr (1, [.ref (u 2), .int (I 2), .int at0, .int be, .int de])), (u 2, .inl (d 2, 300, .inl (F 1))), (u 3, .inr (2, [.ref (u 6), .int (I 11), .int (I 12), .int (I 14), .int (I 15), .int (I 16), .int (I 17), .ref (u 4), .int cd, .long pr, .ref (u 5), .int (I 22)])), (u 4, .inl (d 1, 100, .inl (F 13))), (u 5, .inl (d 0, 300, .inl (F 23)))] : va_W) H) (hC_d : ∀ z_8 ∈ ([(u 0, .inr (0, [.ref (u 1), .ref rw, .ref (u 3), .ref (u 7)])), (u 1, .inr (1, [.ref (u 2), .int (I 2), .int at0, .int be, .int de])), (u 2, .inl (d 2, 300, .inl (F 1))), (u 3, .inr (2, [.ref (u 6), .int (I 11), .int (I 12), .int (I 14), .int (I 15), .int (I 16), .int (I 17), .ref (u 4), .int cd, .long pr, .ref (u 5), .int (I 22)])), (u 4, .inl (d 1, 100, .inl (F 13))), (u 5, .inl (d 0, 300, .inl (F 23)))] : va_W), ∀ z_9 ∈ ([] : va_W), z_8.1 ≠ z_9.1) : oc_C l s0 yX1_own (oc_rm 7 93 1 6) [.ref (u 0), .int x] H (va_A ([] : va_W) (Array.size H)) (od_RT (od_P0 H (fun v => oc_in x.toInt64 0 9 = true ∧ v = some (.int (oc_b (oc_mw I F x))))) (od_Q0 s0 H (fun C => C = RJ9 ∧ oc_in x.toInt64 0 9 = false))) := by
  refine oc_start G (cc := cX1_own) (L := 2) (ret := (Option.some Jvm.ClassFile.FieldType.boolean)) q799 (Nat.le_of_ble_eq_true rfl) ?_
  intro p e s m below meth c ls hx hok hb hml hr hlocks htab hown hts hK hmn hh hl
  subst hh
  have hl : lv_has ls 2 [(0, .ref (u 0)), (1, .int x)] := hl
  have hP : va_P D oc_cl [] s.heap := fun k q h9 => by simp at h9
  have hD : va_D (va_A ([] : va_W) (Array.size s.heap)) [] := oc_D0
  have hN0 := oc_N0 (ws := []) hok (fun x h9 => absurd h9 List.not_mem_nil)
  have hA : ∀ q, Array.size s.heap ≤ q → (va_A ([] : va_W) (Array.size s.heap)) q := fun q z => Or.inr z
  have hS : va_S (va_A ([] : va_W) (Array.size s.heap)) s.heap s.heap [] := va_S.rf
  have hC_n : ∀ z_9 ∈ ([(u 0, .inr (0, [.ref (u 1), .ref rw, .ref (u 3), .ref (u 7)])), (u 1, .inr (1, [.ref (u 2), .int (I 2), .int at0, .int be, .int de])), (u 2, .inl (d 2, 300, .inl (F 1))), (u 3, .inr (2, [.ref (u 6), .int (I 11), .int (I 12), .int (I 14), .int (I 15), .int (I 16), .int (I 17), .ref (u 4), .int cd, .long pr, .ref (u 5), .int (I 22)])), (u 4, .inl (d 1, 100, .inl (F 13))), (u 5, .inl (d 0, 300, .inl (F 23)))] : va_W), ¬ (va_A ([] : va_W) (Array.size s.heap)) z_9.1 := oc_nA hC hC_d
  generalize hAe : (va_A ([] : va_W) (Array.size s.heap)) = A at *
  have hC_0 := hC
  refine lv_iload_n hx hb dX1_own_0 rfl (lv_at hl 1 rfl) ?_
  refine oc_callR1 hx hb hml hl.1 ⟨hok, hS, hN0⟩ (oc_iS (As := [.int x]) (rest := []) hx hb hown (hts _ q553) (hts _ q554) (hts _ q24) (hts _ q555) ⟨by decide, by decide, (by decide +kernel : (parseMethodDescriptor "(I)Z").map (fun d => d.parameters.length) = some 1)⟩ dX1_own_1 rfl) (oc_M.of (by decide +kernel) (hts _ q555)) (kX1_isLand G x) dX1_own_1 (Nat.le_of_ble_eq_true rfl) (Nat.le_of_ble_eq_true rfl) (by dsimp only [oc_rm]; omega) (by dsimp only [oc_rm]; omega) ?_
  by_cases hb_4 : (oc_in x.toInt64 0 9) = true
  ·
    refine oc_topi (x := oc_b (oc_in x.toInt64 0 9)) (y := 1) (by rw [hb_4]; rfl) ?_
    refine oc_callR (v := none) hx hb hml hl.1 ⟨hok, hS, hN0⟩ (oc_iS (As := [.int 1]) (rest := []) hx hb hown (hts _ q561) (hts _ q562) (hts _ q24) (hts _ q563) ⟨by decide, by decide, (by decide +kernel : (parseMethodDescriptor "(Z)V").map (fun d => d.parameters.length) = some 1)⟩ dX1_own_4 rfl) (oc_M.of (by decide +kernel) (hts _ q563)) (kX1_allow1 G) dX1_own_4 (Nat.le_of_ble_eq_true rfl) (Nat.le_of_ble_eq_true rfl) (by dsimp only [oc_rm]; omega) (by dsimp only [oc_rm]; omega) ?_
    refine W.eq (g2 := F0 m 7 ls []) rfl ?_
    refine lv_aload_n hx hb dX1_own_7 rfl (lv_at hl 0 rfl) ?_
    refine va_get (D := D) (ci := 0) (v := .ref (u 3)) (C := RX1) (T := TX1) (N := 4) hx hb hts in_X1 hown hK hC 0 rfl rfl 2 (by decide) (hts _ q176) (fun _ h9 => h9) rfl dX1_own_8 ?_
    refine oc_callR1 hx hb hml hl.1 ⟨hok, hS, hN0⟩ (oc_iV (As := []) (rest := []) hx hb hown (hts _ q800) (hts _ q533) (hts _ q534) (oc_Sig.of (hts _ q535) (by decide +kernel : (parseMethodDescriptor "()I").map (fun d => d.parameters.length) = some 0)) (va_recv hK hC (ci := 2) (q0 := 3) rfl rfl) ⟨by decide, by decide⟩ dX1_own_11 rfl) (oc_M.of (by decide +kernel) (hts _ q535)) (kX3_own G (u := u) (I := I) (F := F) (cd := cd) (pr := pr) (sz := I 22) (hC.sub [3, 4] rfl) hsym) dX1_own_11 (Nat.le_of_ble_eq_true rfl) (Nat.le_of_ble_eq_true rfl) (by dsimp only [oc_rm]; omega) (by dsimp only [oc_rm]; omega) ?_
    refine lv_iload_n hx hb dX1_own_14 rfl (lv_at hl 1 rfl) ?_
    refine lv_ishr hx hb dX1_own_15 ?_
    refine lv_iconst (v := 1) hx hb dX1_own_16 (by decide) ?_
    refine lv_iand hx hb dX1_own_17 ?_
    refine lv_iconst (v := 1) hx hb dX1_own_18 (by decide) ?_
    refine lv_icmp_ne (x := ((oc_mo (F 13) (oc_mr (I 15))) >>> (x &&& 31)) &&& 1) (y := 1) (tgt := 26) hx hb dX1_own_19 (by decide) (fun c19 => ?_) (fun c19 => ?_)
    · -- taken
      refine lv_iconst (v := 0) hx hb dX1_own_26 (by decide) ?_
      exact oc_zret hx hb hr hlocks hS dX1_own_27 rfl (Or.inl ⟨_, rfl, rfl, rfl, rfl, ⟨hb_4, by simp [oc_mw, oc_b, c19]⟩⟩)
    · -- not taken
      refine lv_iconst (v := 1) hx hb dX1_own_22 (by decide) ?_
      refine lv_goto (tgt := 27) hx hb dX1_own_23 (by decide) ?_
      exact oc_zret hx hb hr hlocks hS dX1_own_27 rfl (Or.inl ⟨_, rfl, rfl, rfl, rfl, ⟨hb_4, by simp [oc_mw, oc_b, c19]⟩⟩)
  ·
    rw [Bool.not_eq_true] at hb_4
    refine oc_topi (x := oc_b (oc_in x.toInt64 0 9)) (y := 0) (by simp [oc_b, hb_4]) ?_
    refine oc_callT hx hb hml hl.1 ⟨hok, hS, hN0⟩ (oc_iS (As := [.int 0]) (rest := []) hx hb hown (hts _ q561) (hts _ q562) (hts _ q24) (hts _ q563) ⟨by decide, by decide, (by decide +kernel : (parseMethodDescriptor "(Z)V").map (fun d => d.parameters.length) = some 1)⟩ dX1_own_4 rfl) (oc_M.of (by decide +kernel) (hts _ q563)) (kX1_allow0 G) (fun q z => hA q (Nat.le_trans hS.1 z)) (fun o H1 k n h => by obtain ⟨a, e, -⟩ := h; exact ⟨a, e⟩) dX1_own_4 (Nat.le_of_ble_eq_true rfl) (Nat.le_of_ble_eq_true rfl) (by dsimp only [oc_rm]; omega) (by dsimp only [oc_rm]; omega) (fun a_ H locs k_ n_ hp_ hz_ hk_ hS => ?_)
    obtain ⟨a9, e9, hk9, hn9, hsz9, hex9⟩ := hp_
    cases e9
    subst k_; subst n_
    have hP : va_P D oc_cl ([] : va_W) H := hP.kept (fun k q h => hk_ q.1 (hP k q h).lt (Nat.not_le.mpr (hP k q h).lt))
    have hC : va_P D oc_cl ([(u 0, .inr (0, [.ref (u 1), .ref rw, .ref (u 3), .ref (u 7)])), (u 1, .inr (1, [.ref (u 2), .int (I 2), .int at0, .int be, .int de])), (u 2, .inl (d 2, 300, .inl (F 1))), (u 3, .inr (2, [.ref (u 6), .int (I 11), .int (I 12), .int (I 14), .int (I 15), .int (I 16), .int (I 17), .ref (u 4), .int cd, .long pr, .ref (u 5), .int (I 22)])), (u 4, .inl (d 1, 100, .inl (F 13))), (u 5, .inl (d 0, 300, .inl (F 23)))] : va_W) H := od_keep hC_0 hC_n hS
    exact oc_xout hlocks (by rw [htab]; intro x9 hx9; cases hx9) hS (Or.inr ⟨_, rfl, ⟨by omega, by omega, hsz9, _, hex9, ⟨rfl, hb_4⟩⟩⟩)
theorem od_gk {F : Nat → Nat → Int32} {j : Nat} {y : Int64} {z : Int32} {b : Bool} (h : b = (oc_in z.toInt64 (F 20 j).toInt64 (F 21 j).toInt64 && (decide (F 19 j = 1) || !decide (1000000 < y)))) : oc_b b = oc_b (oc_gok F j y z) := by
  congr 1
  rw [h]
  unfold oc_gok
  apply Bool.eq_iff_iff.mpr
  rw [Bool.and_eq_true, Bool.and_eq_true, Bool.and_eq_true, od_in32]
  simp only [Bool.not_eq_true', decide_eq_false_iff_not]
  exact ⟨fun h => ⟨⟨h.2, h.1.1⟩, h.1.2⟩, fun h => ⟨⟨h.1.2, h.2⟩, h.1.1⟩⟩
set_option maxHeartbeats 4000000 in
set_option maxRecDepth 100000 in
theorem kX1_good {l : Launch} {s0 : State} {b0 : Addr} {D : va_G} {d : Nat → ClassId} (G : oc_G l s0 b0 D d) {H : Heap} {u : Nat → Nat} {rw : Nat} {cd : Int32} {pr : Int64} {at0 be de : Int32} {I : Nat → Int32} {F : Nat → Nat → Int32} {E0 arq cpq np : Nat} {elq : Nat → Option Nat} (x : Int32) (y : Int64) (z : Int32) (hC : va_P D oc_cl ([(u 0, .inr (0, [.ref (u 1), .ref rw, .ref (u 3), .ref (u 7)])), (u 1, .inr (1, [.ref (u 2), .int (I 2), .int at0, .int be, .int de])), (u 2, .inl (d 2, 300, .inl (F 1))), (u 3, .inr (2, [.ref (u 6), .int (I 11), .int (I 12), .int (I 14), .int (I 15), .int (I 16), .int (I 17), .ref (u 4), .int cd, .long pr, .ref (u 5), .int (I 22)])), (u 4, .inl (d 1, 100, .inl (F 13))), (u 5, .inl (d 0, 300, .inl (F 23)))] : va_W) H) (hC_d : ∀ z_8 ∈ ([(u 0, .inr (0, [.ref (u 1), .ref rw, .ref (u 3), .ref (u 7)])), (u 1, .inr (1, [.ref (u 2), .int (I 2), .int at0, .int be, .int de])), (u 2, .inl (d 2, 300, .inl (F 1))), (u 3, .inr (2, [.ref (u 6), .int (I 11), .int (I 12), .int (I 14), .int (I 15), .int (I 16), .int (I 17), .ref (u 4), .int cd, .long pr, .ref (u 5), .int (I 22)])), (u 4, .inl (d 1, 100, .inl (F 13))), (u 5, .inl (d 0, 300, .inl (F 23)))] : va_W), ∀ z_9 ∈ ([] : va_W), z_8.1 ≠ z_9.1) (hQ : od_L D d E0 H (u 7) arq np cpq elq) (hqt : ∀ j, j < np → ∃ y, elq j = some y ∧ va_at D oc_cl (y, .inr (13, [.int (F 19 j), .int (F 20 j), .int (F 21 j)])) H) (h20 : np ≤ 20) : oc_C l s0 yX1_good (oc_rm 7 93 1 6) [.ref (u 0), .int x, .long y, .int z] H (va_A ([] : va_W) (Array.size H)) (od_RT (od_P0 H (fun v => ∃ j, j < np ∧ x = nI j ∧ oc_in y 0 1000000000 = true ∧ oc_in z.toInt64 0 100000 = true ∧ v = some (.int (oc_b (oc_gok F j y z))))) (od_Q0 s0 H (fun C => C = RJ9 ∧ (oc_in x.toInt64 0 (nI np - 1).toInt64 && oc_in y 0 1000000000 && oc_in z.toInt64 0 100000) = false))) := by
  refine oc_start G (cc := cX1_good) (L := 6) (ret := (Option.some Jvm.ClassFile.FieldType.boolean)) q791 (Nat.le_of_ble_eq_true rfl) ?_
  intro p e s m below meth c ls hx hok hb hml hr hlocks htab hown hts hK hmn hh hl
  subst hh
  have hl : lv_has ls 6 [(0, .ref (u 0)), (1, .int x), (2, .long y), (4, .int z)] := hl
  have hP : va_P D oc_cl [] s.heap := fun k q h9 => by simp at h9
  have hD : va_D (va_A ([] : va_W) (Array.size s.heap)) [] := oc_D0
  have hN0 := oc_N0 (ws := []) hok (fun x h9 => absurd h9 List.not_mem_nil)
  have hA : ∀ q, Array.size s.heap ≤ q → (va_A ([] : va_W) (Array.size s.heap)) q := fun q z => Or.inr z
  have hS : va_S (va_A ([] : va_W) (Array.size s.heap)) s.heap s.heap [] := va_S.rf
  have hC_n : ∀ z_9 ∈ ([(u 0, .inr (0, [.ref (u 1), .ref rw, .ref (u 3), .ref (u 7)])), (u 1, .inr (1, [.ref (u 2), .int (I 2), .int at0, .int be, .int de])), (u 2, .inl (d 2, 300, .inl (F 1))), (u 3, .inr (2, [.ref (u 6), .int (I 11), .int (I 12), .int (I 14), .int (I 15), .int (I 16), .int (I 17), .ref (u 4), .int cd, .long pr, .ref (u 5), .int (I 22)])), (u 4, .inl (d 1, 100, .inl (F 13))), (u 5, .inl (d 0, 300, .inl (F 23)))] : va_W), ¬ (va_A ([] : va_W) (Array.size s.heap)) z_9.1 := oc_nA hC hC_d
  generalize hAe : (va_A ([] : va_W) (Array.size s.heap)) = A at *
  have hC_0 := hC
  refine lv_iload_n hx hb dX1_good_0 rfl (lv_at hl 1 rfl) ?_
  refine lv_i2l (v := x.toInt64) hx hb dX1_good_1 rfl ?_
  refine lv_lconst (v := 0) hx hb dX1_good_2 (by decide) ?_
  refine lv_aload_n hx hb dX1_good_3 rfl (lv_at hl 0 rfl) ?_
  refine va_get (D := D) (ci := 0) (v := .ref (u 7)) (C := RX1) (T := TX1) (N := 4) hx hb hts in_X1 hown hK hC 0 rfl rfl 3 (by decide) (hts _ q177) (fun _ h9 => h9) rfl dX1_good_4 ?_
  refine oc_callR1 hx hb hml hl.1 ⟨hok, hS, hN0⟩ (oc_iV (As := []) (rest := [.long 0, .long x.toInt64]) hx hb hown (hts _ q471) (hts _ q468) (hts _ q469) (oc_Sig.of (hts _ q470) (by decide +kernel : (parseMethodDescriptor "()I").map (fun d => d.parameters.length) = some 0)) (od_recv hK hQ) ⟨by decide, by decide⟩ dX1_good_7 rfl) (oc_M.of (by decide +kernel) (hts _ q470)) (od_size G hQ) dX1_good_7 (Nat.le_of_ble_eq_true rfl) (Nat.le_of_ble_eq_true rfl) (by dsimp only [oc_rm]; omega) (by dsimp only [oc_rm]; omega) ?_
  refine lv_iconst (v := 1) hx hb dX1_good_10 (by decide) ?_
  refine lv_isub hx hb dX1_good_11 ?_
  refine lv_i2l (v := ((nI np) - 1).toInt64) hx hb dX1_good_12 rfl ?_
  refine oc_callR1 hx hb hml hl.1 ⟨hok, hS, hN0⟩ (oc_iS (As := [.long x.toInt64, .long 0, .long ((nI np) - 1).toInt64]) (rest := []) hx hb hown (hts _ q193) (hts _ q194) (hts _ q24) (hts _ q195) ⟨by decide, by decide, (by decide +kernel : (parseMethodDescriptor "(JJJ)Z").map (fun d => d.parameters.length) = some 3)⟩ dX1_good_13 rfl) (oc_M.of (by decide +kernel) (hts _ q195)) (kX1_in G x.toInt64 0 ((nI np) - 1).toInt64) dX1_good_13 (Nat.le_of_ble_eq_true rfl) (Nat.le_of_ble_eq_true rfl) (by dsimp only [oc_rm]; omega) (by dsimp only [oc_rm]; omega) ?_
  refine lv_if_eq (x := oc_b (oc_in x.toInt64 0 ((nI np) - 1).toInt64)) (tgt := 38) hx hb dX1_good_16 (by decide) (fun c16 => ?_) (fun c16 => ?_)
  · -- taken
    rw [oc_b0] at c16
    refine lv_iconst (v := 0) hx hb dX1_good_38 (by decide) ?_
    refine oc_callT hx hb hml hl.1 ⟨hok, hS, hN0⟩ (oc_iS (As := [.int 0]) (rest := []) hx hb hown (hts _ q561) (hts _ q562) (hts _ q24) (hts _ q563) ⟨by decide, by decide, (by decide +kernel : (parseMethodDescriptor "(Z)V").map (fun d => d.parameters.length) = some 1)⟩ dX1_good_39 rfl) (oc_M.of (by decide +kernel) (hts _ q563)) (kX1_allow0 G) (fun q z => hA q (Nat.le_trans hS.1 z)) (fun o H1 k n h => by obtain ⟨a, e, -⟩ := h; exact ⟨a, e⟩) dX1_good_39 (Nat.le_of_ble_eq_true rfl) (Nat.le_of_ble_eq_true rfl) (by dsimp only [oc_rm]; omega) (by dsimp only [oc_rm]; omega) (fun a_ H locs k_ n_ hp_ hz_ hk_ hS => ?_)
    obtain ⟨a9, e9, hk9, hn9, hsz9, hex9⟩ := hp_
    cases e9
    subst k_; subst n_
    have hP : va_P D oc_cl ([] : va_W) H := hP.kept (fun k q h => hk_ q.1 (hP k q h).lt (Nat.not_le.mpr (hP k q h).lt))
    have hC : va_P D oc_cl ([(u 0, .inr (0, [.ref (u 1), .ref rw, .ref (u 3), .ref (u 7)])), (u 1, .inr (1, [.ref (u 2), .int (I 2), .int at0, .int be, .int de])), (u 2, .inl (d 2, 300, .inl (F 1))), (u 3, .inr (2, [.ref (u 6), .int (I 11), .int (I 12), .int (I 14), .int (I 15), .int (I 16), .int (I 17), .ref (u 4), .int cd, .long pr, .ref (u 5), .int (I 22)])), (u 4, .inl (d 1, 100, .inl (F 13))), (u 5, .inl (d 0, 300, .inl (F 23)))] : va_W) H := od_keep hC_0 hC_n hS
    exact oc_xout hlocks (by rw [htab]; intro x9 hx9; cases hx9) hS (Or.inr ⟨_, rfl, ⟨by omega, by omega, hsz9, _, hex9, ⟨rfl, by simp [*]⟩⟩⟩)
  · -- not taken
    rw [oc_b0] at c16
    rw [Bool.not_eq_false] at c16
    refine lv_lload_n hx hb dX1_good_19 rfl (lv_at hl 2 rfl) ?_
    refine oc_callR1 hx hb hml hl.1 ⟨hok, hS, hN0⟩ (oc_iS (As := [.long y]) (rest := []) hx hb hown (hts _ q557) (hts _ q558) (hts _ q24) (hts _ q559) ⟨by decide, by decide, (by decide +kernel : (parseMethodDescriptor "(J)Z").map (fun d => d.parameters.length) = some 1)⟩ dX1_good_20 rfl) (oc_M.of (by decide +kernel) (hts _ q559)) (kX1_isSum G y) dX1_good_20 (Nat.le_of_ble_eq_true rfl) (Nat.le_of_ble_eq_true rfl) (by dsimp only [oc_rm]; omega) (by dsimp only [oc_rm]; omega) ?_
    refine lv_if_eq (x := oc_b (oc_in y 0 1000000000)) (tgt := 38) hx hb dX1_good_23 (by decide) (fun c23 => ?_) (fun c23 => ?_)
    · -- taken
      rw [oc_b0] at c23
      refine lv_iconst (v := 0) hx hb dX1_good_38 (by decide) ?_
      refine oc_callT hx hb hml hl.1 ⟨hok, hS, hN0⟩ (oc_iS (As := [.int 0]) (rest := []) hx hb hown (hts _ q561) (hts _ q562) (hts _ q24) (hts _ q563) ⟨by decide, by decide, (by decide +kernel : (parseMethodDescriptor "(Z)V").map (fun d => d.parameters.length) = some 1)⟩ dX1_good_39 rfl) (oc_M.of (by decide +kernel) (hts _ q563)) (kX1_allow0 G) (fun q z => hA q (Nat.le_trans hS.1 z)) (fun o H1 k n h => by obtain ⟨a, e, -⟩ := h; exact ⟨a, e⟩) dX1_good_39 (Nat.le_of_ble_eq_true rfl) (Nat.le_of_ble_eq_true rfl) (by dsimp only [oc_rm]; omega) (by dsimp only [oc_rm]; omega) (fun a_ H locs k_ n_ hp_ hz_ hk_ hS => ?_)
      obtain ⟨a9, e9, hk9, hn9, hsz9, hex9⟩ := hp_
      cases e9
      subst k_; subst n_
      have hP : va_P D oc_cl ([] : va_W) H := hP.kept (fun k q h => hk_ q.1 (hP k q h).lt (Nat.not_le.mpr (hP k q h).lt))
      have hC : va_P D oc_cl ([(u 0, .inr (0, [.ref (u 1), .ref rw, .ref (u 3), .ref (u 7)])), (u 1, .inr (1, [.ref (u 2), .int (I 2), .int at0, .int be, .int de])), (u 2, .inl (d 2, 300, .inl (F 1))), (u 3, .inr (2, [.ref (u 6), .int (I 11), .int (I 12), .int (I 14), .int (I 15), .int (I 16), .int (I 17), .ref (u 4), .int cd, .long pr, .ref (u 5), .int (I 22)])), (u 4, .inl (d 1, 100, .inl (F 13))), (u 5, .inl (d 0, 300, .inl (F 23)))] : va_W) H := od_keep hC_0 hC_n hS
      exact oc_xout hlocks (by rw [htab]; intro x9 hx9; cases hx9) hS (Or.inr ⟨_, rfl, ⟨by omega, by omega, hsz9, _, hex9, ⟨rfl, by simp [*]⟩⟩⟩)
    · -- not taken
      rw [oc_b0] at c23
      rw [Bool.not_eq_false] at c23
      refine lv_iload hx hb dX1_good_26 (lv_at hl 3 rfl) ?_
      refine oc_callR1 hx hb hml hl.1 ⟨hok, hS, hN0⟩ (oc_iS (As := [.int z]) (rest := []) hx hb hown (hts _ q762) (hts _ q763) (hts _ q24) (hts _ q764) ⟨by decide, by decide, (by decide +kernel : (parseMethodDescriptor "(I)Z").map (fun d => d.parameters.length) = some 1)⟩ dX1_good_28 rfl) (oc_M.of (by decide +kernel) (hts _ q764)) (kX1_isDay G z) dX1_good_28 (Nat.le_of_ble_eq_true rfl) (Nat.le_of_ble_eq_true rfl) (by dsimp only [oc_rm]; omega) (by dsimp only [oc_rm]; omega) ?_
      refine lv_if_eq (x := oc_b (oc_in z.toInt64 0 100000)) (tgt := 38) hx hb dX1_good_31 (by decide) (fun c31 => ?_) (fun c31 => ?_)
      · -- taken
        rw [oc_b0] at c31
        refine lv_iconst (v := 0) hx hb dX1_good_38 (by decide) ?_
        refine oc_callT hx hb hml hl.1 ⟨hok, hS, hN0⟩ (oc_iS (As := [.int 0]) (rest := []) hx hb hown (hts _ q561) (hts _ q562) (hts _ q24) (hts _ q563) ⟨by decide, by decide, (by decide +kernel : (parseMethodDescriptor "(Z)V").map (fun d => d.parameters.length) = some 1)⟩ dX1_good_39 rfl) (oc_M.of (by decide +kernel) (hts _ q563)) (kX1_allow0 G) (fun q z => hA q (Nat.le_trans hS.1 z)) (fun o H1 k n h => by obtain ⟨a, e, -⟩ := h; exact ⟨a, e⟩) dX1_good_39 (Nat.le_of_ble_eq_true rfl) (Nat.le_of_ble_eq_true rfl) (by dsimp only [oc_rm]; omega) (by dsimp only [oc_rm]; omega) (fun a_ H locs k_ n_ hp_ hz_ hk_ hS => ?_)
        obtain ⟨a9, e9, hk9, hn9, hsz9, hex9⟩ := hp_
        cases e9
        subst k_; subst n_
        have hP : va_P D oc_cl ([] : va_W) H := hP.kept (fun k q h => hk_ q.1 (hP k q h).lt (Nat.not_le.mpr (hP k q h).lt))
        have hC : va_P D oc_cl ([(u 0, .inr (0, [.ref (u 1), .ref rw, .ref (u 3), .ref (u 7)])), (u 1, .inr (1, [.ref (u 2), .int (I 2), .int at0, .int be, .int de])), (u 2, .inl (d 2, 300, .inl (F 1))), (u 3, .inr (2, [.ref (u 6), .int (I 11), .int (I 12), .int (I 14), .int (I 15), .int (I 16), .int (I 17), .ref (u 4), .int cd, .long pr, .ref (u 5), .int (I 22)])), (u 4, .inl (d 1, 100, .inl (F 13))), (u 5, .inl (d 0, 300, .inl (F 23)))] : va_W) H := od_keep hC_0 hC_n hS
        exact oc_xout hlocks (by rw [htab]; intro x9 hx9; cases hx9) hS (Or.inr ⟨_, rfl, ⟨by omega, by omega, hsz9, _, hex9, ⟨rfl, by simp [*]⟩⟩⟩)
      · -- not taken
        rw [oc_b0] at c31
        rw [Bool.not_eq_false] at c31
        refine lv_iconst (v := 1) hx hb dX1_good_34 (by decide) ?_
        refine lv_goto (tgt := 39) hx hb dX1_good_35 (by decide) ?_
        refine oc_callR (v := none) hx hb hml hl.1 ⟨hok, hS, hN0⟩ (oc_iS (As := [.int 1]) (rest := []) hx hb hown (hts _ q561) (hts _ q562) (hts _ q24) (hts _ q563) ⟨by decide, by decide, (by decide +kernel : (parseMethodDescriptor "(Z)V").map (fun d => d.parameters.length) = some 1)⟩ dX1_good_39 rfl) (oc_M.of (by decide +kernel) (hts _ q563)) (kX1_allow1 G) dX1_good_39 (Nat.le_of_ble_eq_true rfl) (Nat.le_of_ble_eq_true rfl) (by dsimp only [oc_rm]; omega) (by dsimp only [oc_rm]; omega) ?_
        refine W.eq (g2 := F0 m 42 ls []) rfl ?_
        obtain ⟨j, hj, hxj⟩ := (od_in0 (by omega)).mp c16
        obtain ⟨yp, hyp, hya⟩ := hqt j hj
        subst hxj
        have hl : lv_has ls 6 [(0, .ref (u 0)), (1, .int (nI j)), (2, .long y), (4, .int z)] := hl
        refine lv_aload_n hx hb dX1_good_42 rfl (lv_at hl 0 rfl) ?_
        refine va_get (D := D) (ci := 0) (v := .ref (u 7)) (C := RX1) (T := TX1) (N := 4) hx hb hts in_X1 hown hK hC 0 rfl rfl 3 (by decide) (hts _ q177) (fun _ h9 => h9) rfl dX1_good_43 ?_
        refine lv_iload_n hx hb dX1_good_46 rfl (lv_at hl 1 rfl) ?_
        refine oc_callR1 hx hb hml hl.1 ⟨hok, hS, hN0⟩ (oc_iV (As := [.int (nI j)]) (rest := []) hx hb hown (hts _ q513) (hts _ q514) (hts _ q515) (oc_Sig.of (hts _ q516) (by decide +kernel : (parseMethodDescriptor "(I)Ljava/lang/Object;").map (fun d => d.parameters.length) = some 1)) (od_recv hK hQ) ⟨by decide, by decide⟩ dX1_good_47 rfl) (oc_M.of (by decide +kernel) (hts _ q516)) (od_get G hQ (k := j) hj hyp) dX1_good_47 (Nat.le_of_ble_eq_true rfl) (Nat.le_of_ble_eq_true rfl) (by dsimp only [oc_rm]; omega) (by dsimp only [oc_rm]; omega) ?_
        refine va_castS hx hb hown (hts _ q766) (hK.1 13 _ rfl).2 (va_recv hK (oc_P1 hya) (ci := 13) (q0 := 0) rfl rfl) dX1_good_50 ?_
        refine lv_astore (lv' := [(5, .ref yp), (0, .ref (u 0)), (1, .int (nI j)), (2, .long y), (4, .int z)]) hx hb dX1_good_53 hl (by decide) rfl (fun ls hl => ?_)
        refine lv_iload hx hb dX1_good_55 (lv_at hl 4 rfl) ?_
        refine lv_i2l (v := z.toInt64) hx hb dX1_good_57 rfl ?_
        refine lv_aload hx hb dX1_good_58 (lv_at hl 0 rfl) ?_
        refine va_getN (D := D) (ci := 13) (v := .int (F 20 j)) (C := RX15) (T := TX15) (N := 3) hx hb hts in_X15 hown hK (oc_P1 hya) 0 rfl rfl 1 (by decide) (oc_wF G hok q775) (fun _ h9 => h9) rfl dX1_good_60 ?_
        refine lv_i2l (v := (F 20 j).toInt64) hx hb dX1_good_63 rfl ?_
        refine lv_aload hx hb dX1_good_64 (lv_at hl 0 rfl) ?_
        refine va_getN (D := D) (ci := 13) (v := .int (F 21 j)) (C := RX15) (T := TX15) (N := 3) hx hb hts in_X15 hown hK (oc_P1 hya) 0 rfl rfl 2 (by decide) (oc_wF G hok q777) (fun _ h9 => h9) rfl dX1_good_66 ?_
        refine lv_i2l (v := (F 21 j).toInt64) hx hb dX1_good_69 rfl ?_
        refine oc_callR1 hx hb hml hl.1 ⟨hok, hS, hN0⟩ (oc_iS (As := [.long z.toInt64, .long (F 20 j).toInt64, .long (F 21 j).toInt64]) (rest := []) hx hb hown (hts _ q193) (hts _ q194) (hts _ q24) (hts _ q195) ⟨by decide, by decide, (by decide +kernel : (parseMethodDescriptor "(JJJ)Z").map (fun d => d.parameters.length) = some 3)⟩ dX1_good_70 rfl) (oc_M.of (by decide +kernel) (hts _ q195)) (kX1_in G z.toInt64 (F 20 j).toInt64 (F 21 j).toInt64) dX1_good_70 (Nat.le_of_ble_eq_true rfl) (Nat.le_of_ble_eq_true rfl) (by dsimp only [oc_rm]; omega) (by dsimp only [oc_rm]; omega) ?_
        refine lv_if_eq (x := oc_b (oc_in z.toInt64 (F 20 j).toInt64 (F 21 j).toInt64)) (tgt := 97) hx hb dX1_good_73 (by decide) (fun c73 => ?_) (fun c73 => ?_)
        · -- taken
          rw [oc_b0] at c73
          refine lv_iconst (v := 0) hx hb dX1_good_97 (by decide) ?_
          exact oc_zret hx hb hr hlocks hS dX1_good_98 rfl (Or.inl ⟨_, rfl, rfl, rfl, rfl, ⟨j, hj, rfl, c23, c31, congrArg (fun b9 => some (Value.int b9)) (od_gk (b := false) (by simp [*]))⟩⟩)
        · -- not taken
          rw [oc_b0] at c73
          rw [Bool.not_eq_false] at c73
          refine lv_aload hx hb dX1_good_76 (lv_at hl 0 rfl) ?_
          refine va_getN (D := D) (ci := 13) (v := .int (F 19 j)) (C := RX15) (T := TX15) (N := 3) hx hb hts in_X15 hown hK (oc_P1 hya) 0 rfl rfl 0 (by decide) (oc_wF G hok q773) (fun _ h9 => h9) rfl dX1_good_78 ?_
          refine lv_iconst (v := 1) hx hb dX1_good_81 (by decide) ?_
          refine lv_icmp_eq (x := F 19 j) (y := 1) (tgt := 93) hx hb dX1_good_82 (by decide) (fun c82 => ?_) (fun c82 => ?_)
          · -- taken
            refine lv_iconst (v := 1) hx hb dX1_good_93 (by decide) ?_
            refine lv_goto (tgt := 98) hx hb dX1_good_94 (by decide) ?_
            exact oc_zret hx hb hr hlocks hS dX1_good_98 rfl (Or.inl ⟨_, rfl, rfl, rfl, rfl, ⟨j, hj, rfl, c23, c31, congrArg (fun b9 => some (Value.int b9)) (od_gk (b := true) (by simp [*]))⟩⟩)
          · -- not taken
            refine lv_lload_n hx hb dX1_good_85 rfl (lv_at hl 3 rfl) ?_
            refine lv_ldc2 (v := 1000000) hx hb hown (hts _ q792) dX1_good_86 ?_
            refine W.lcmp hx hb dX1_good_89 ?_
            refine lv_if_gt (tgt := 97) hx hb dX1_good_90 (by decide) (fun c90 => ?_) (fun c90 => ?_)
            · -- taken
              rw [lg_cmp_gt] at c90
              refine lv_iconst (v := 0) hx hb dX1_good_97 (by decide) ?_
              exact oc_zret hx hb hr hlocks hS dX1_good_98 rfl (Or.inl ⟨_, rfl, rfl, rfl, rfl, ⟨j, hj, rfl, c23, c31, congrArg (fun b9 => some (Value.int b9)) (od_gk (b := false) (by simp [*]))⟩⟩)
            · -- not taken
              rw [lg_cmp_gt] at c90
              refine lv_iconst (v := 1) hx hb dX1_good_93 (by decide) ?_
              refine lv_goto (tgt := 98) hx hb dX1_good_94 (by decide) ?_
              exact oc_zret hx hb hr hlocks hS dX1_good_98 rfl (Or.inl ⟨_, rfl, rfl, rfl, rfl, ⟨j, hj, rfl, c23, c31, congrArg (fun b9 => some (Value.int b9)) (od_gk (b := true) (by simp [*]))⟩⟩)
set_option maxHeartbeats 4000000 in
set_option maxRecDepth 100000 in
theorem kX1_common {l : Launch} {s0 : State} {b0 : Addr} {D : va_G} {d : Nat → ClassId} (G : oc_G l s0 b0 D d) {H : Heap} (a b : Nat) (ha : a < 4611686018427387904) (hbb : b < 4611686018427387904) : oc_C l s0 yX1_common (oc_rm 0 0 0 0) [.long (lN a), .long (lN b)] H oc_N (oc_R (some (.long (lN (Nat.gcd a b)))) H) := by
  refine oc_start G (cc := cX1_common) (L := 10) (ret := (Option.some Jvm.ClassFile.FieldType.long)) q754 (Nat.le_of_ble_eq_true rfl) ?_
  intro p e s m below meth c ls hx hok hb hml hr hlocks htab hown hts hK hmn hh hl
  subst hh
  have hl : lv_has ls 10 [(0, .long (lN a)), (2, .long (lN b))] := hl
  have hZ := oc_Z0 hok
  refine lv_lload_n hx hb dX1_common_0 rfl (lv_at hl 0 rfl) ?_
  refine lv_lstore (lv' := [(4, .long (lN a)), (0, .long (lN a)), (2, .long (lN b))]) hx hb dX1_common_1 hl (by decide) rfl (fun ls hl => ?_)
  refine lv_lload_n hx hb dX1_common_3 rfl (lv_at hl 2 rfl) ?_
  refine lv_lstore (lv' := [(6, .long (lN b)), (4, .long (lN a)), (0, .long (lN a)), (2, .long (lN b))]) hx hb dX1_common_4 hl (by decide) rfl (fun ls hl => ?_)
  have lp6 : ∀ (n : Nat) (x : Nat) (y : Nat), (x < 4611686018427387904 ∧ y < 4611686018427387904) → (y + 1 ≤ n) → (Nat.gcd x y = Nat.gcd a b) → ∀ (ls : Array Slot), lv_has ls 10 [(6, .long (lN y)), (4, .long (lN x)), (0, .long (lN a)), (2, .long (lN b))] → W p l e (oc_rm 0 0 0 0) s m ([.long (lN a), .long (lN b)] : List Value).toArray below meth c s.heap [] 0 0 (oc_Q oc_N below s (oc_R (some (.long (lN (Nat.gcd a b)))) s.heap)) (F0 m 6 ls []) := by
    intro n
    induction n with
    | zero => intro x y hab hn hg ls hl; exact absurd hn (by omega)
    | succ n ih6 =>
      intro x y hab hn hg ls hl
      refine lv_lload hx hb dX1_common_6 (lv_at hl 0 rfl) ?_
      refine lv_lconst (v := 0) hx hb dX1_common_8 (by decide) ?_
      refine W.lcmp hx hb dX1_common_9 ?_
      refine lv_if_eq (tgt := 31) hx hb dX1_common_10 (by decide) (fun c10 => ?_) (fun c10 => ?_)
      · -- taken
        rw [lg_cmp_eq] at c10
        have hy0 : y = 0 := by
          rw [← show lN 0 = 0 from rfl, pk_lEQ (by omega) (by decide)] at c10
          exact c10
        refine lv_lload hx hb dX1_common_31 (lv_at hl 1 rfl) ?_
        exact oc_lret hx hb hr hlocks va_S.rf dX1_common_33 (oc_Rl (by rw [← hg, show y = 0 by omega, Nat.gcd_zero_right]))
      · -- not taken
        rw [lg_cmp_eq] at c10
        have hy0 : 0 < y := by
          rcases Nat.eq_zero_or_pos y with z | z
          · exact absurd (by rw [z]; rfl) c10
          · exact z
        refine lv_lload hx hb dX1_common_13 (lv_at hl 1 rfl) ?_
        refine lv_lload hx hb dX1_common_15 (lv_at hl 0 rfl) ?_
        refine lv_lrem hx hb dX1_common_17 (by rw [← show lN 0 = 0 from rfl, pk_lEQ (by omega) (by decide)]; omega) ?_
        refine oc_topl (x := (lN x) - (lN x) / (lN y) * (lN y)) (y := lN (x % y)) (pk_lRem (by omega) (by omega) (by omega)) ?_
        refine lv_lstore (lv' := [(8, .long (lN (x % y))), (6, .long (lN y)), (4, .long (lN x)), (0, .long (lN a)), (2, .long (lN b))]) hx hb dX1_common_18 hl (by decide) rfl (fun ls hl => ?_)
        refine lv_lload hx hb dX1_common_20 (lv_at hl 1 rfl) ?_
        refine lv_lstore (lv' := [(4, .long (lN y)), (8, .long (lN (x % y))), (6, .long (lN y)), (0, .long (lN a)), (2, .long (lN b))]) hx hb dX1_common_22 hl (by decide) rfl (fun ls hl => ?_)
        refine lv_lload hx hb dX1_common_24 (lv_at hl 1 rfl) ?_
        refine lv_lstore (lv' := [(6, .long (lN (x % y))), (4, .long (lN y)), (8, .long (lN (x % y))), (0, .long (lN a)), (2, .long (lN b))]) hx hb dX1_common_26 hl (by decide) rfl (fun ls hl => ?_)
        refine lv_goto (tgt := 6) hx hb dX1_common_28 (by decide) ?_
        exact ih6 y (x % y) (⟨by omega, by have := Nat.mod_lt x hy0; omega⟩) (by have := Nat.mod_lt x hy0; omega) (by rw [← hg, Nat.gcd_comm x y, Nat.gcd_rec y x, Nat.gcd_comm]) ls (lv_sub hl [0, 1, 3, 4] rfl)
  exact lp6 (b + 1) a b (by omega) (by omega) rfl ls (lv_sub hl [0, 1, 2, 3] rfl)
theorem od_gcd {l : Launch} {s0 : State} {y : MethodName} {rm : Room} {As : List Value} {H : Heap} {f j : Nat} (h : oc_C l s0 y rm As H oc_N (oc_R (some (.long (lN (Nat.gcd j (f % j))))) H)) : oc_C l s0 y rm As H oc_N (oc_R (some (.long (lN (Nat.gcd f j)))) H) := by
  rw [show Nat.gcd f j = Nat.gcd j (f % j) by rw [Nat.gcd_comm f j, Nat.gcd_rec j f, Nat.gcd_comm]]
  exact h
set_option maxHeartbeats 4000000 in
set_option maxRecDepth 100000 in
theorem kX1_share {l : Launch} {s0 : State} {b0 : Addr} {D : va_G} {d : Nat → ClassId} (G : oc_G l s0 b0 D d) {H : Heap} {u : Nat → Nat} {rw : Nat} {cd : Int32} {pr : Int64} {at0 be de : Int32} {I : Nat → Int32} {F : Nat → Nat → Int32} {L : Nat → Int64} {E0 ar N cp : Nat} {el : Nat → Option Nat} (x : Int64) (y : Int32) (fs : Nat) (hf : oc_mf I F L N = lN fs) (hf2 : fs < 4611686018427387904) (hC : va_P D oc_cl ([(u 0, .inr (0, [.ref (u 1), .ref rw, .ref (u 3), .ref (u 7)])), (u 1, .inr (1, [.ref (u 2), .int (I 2), .int at0, .int be, .int de])), (u 2, .inl (d 2, 300, .inl (F 1))), (u 3, .inr (2, [.ref (u 6), .int (I 11), .int (I 12), .int (I 14), .int (I 15), .int (I 16), .int (I 17), .ref (u 4), .int cd, .long pr, .ref (u 5), .int (I 22)])), (u 4, .inl (d 1, 100, .inl (F 13))), (u 5, .inl (d 0, 300, .inl (F 23)))] : va_W) H) (hC_d : ∀ z_8 ∈ ([(u 0, .inr (0, [.ref (u 1), .ref rw, .ref (u 3), .ref (u 7)])), (u 1, .inr (1, [.ref (u 2), .int (I 2), .int at0, .int be, .int de])), (u 2, .inl (d 2, 300, .inl (F 1))), (u 3, .inr (2, [.ref (u 6), .int (I 11), .int (I 12), .int (I 14), .int (I 15), .int (I 16), .int (I 17), .ref (u 4), .int cd, .long pr, .ref (u 5), .int (I 22)])), (u 4, .inl (d 1, 100, .inl (F 13))), (u 5, .inl (d 0, 300, .inl (F 23)))] : va_W), ∀ z_9 ∈ ([] : va_W), z_8.1 ≠ z_9.1) (hL : od_L D d E0 H (u 6) ar N cp el) (hpt : ∀ j, j < N → ∃ y, el j = some y ∧ va_at D oc_cl (y, .inr (12, [.int (F 8 j), .int (F 9 j), .long (L j)])) H) (h12 : N ≤ 12) (hsym : od_sym (F 13)) : oc_C l s0 yX1_share (oc_rm 7 10246 3 19) [.ref (u 0), .long x, .int y] H (va_A ([] : va_W) (Array.size H)) (od_RT (od_P0 H (fun v => oc_sok x y = true ∧ ¬ x = 0 ∧ ∃ j : Nat, 0 < j ∧ j ≤ 1000000000 ∧ x = lN j ∧ v = some (.long (if y = 0 then lN (fs / Nat.gcd fs j) else lN (j / Nat.gcd fs j))))) (od_Q0 s0 H (fun C => (C = RJ9 ∧ oc_sok x y = false) ∨ (C = RJ13 ∧ oc_sok x y = true ∧ x = 0)))) := by
  refine oc_start G (cc := cX1_share) (L := 8) (ret := (Option.some Jvm.ClassFile.FieldType.long)) q750 (Nat.le_of_ble_eq_true rfl) ?_
  intro p e s m below meth c ls hx hok hb hml hr hlocks htab hown hts hK hmn hh hl
  subst hh
  have hl : lv_has ls 8 [(0, .ref (u 0)), (1, .long x), (3, .int y)] := hl
  have hP : va_P D oc_cl [] s.heap := fun k q h9 => by simp at h9
  have hD : va_D (va_A ([] : va_W) (Array.size s.heap)) [] := oc_D0
  have hN0 := oc_N0 (ws := []) hok (fun x h9 => absurd h9 List.not_mem_nil)
  have hA : ∀ q, Array.size s.heap ≤ q → (va_A ([] : va_W) (Array.size s.heap)) q := fun q z => Or.inr z
  have hS : va_S (va_A ([] : va_W) (Array.size s.heap)) s.heap s.heap [] := va_S.rf
  have hC_n : ∀ z_9 ∈ ([(u 0, .inr (0, [.ref (u 1), .ref rw, .ref (u 3), .ref (u 7)])), (u 1, .inr (1, [.ref (u 2), .int (I 2), .int at0, .int be, .int de])), (u 2, .inl (d 2, 300, .inl (F 1))), (u 3, .inr (2, [.ref (u 6), .int (I 11), .int (I 12), .int (I 14), .int (I 15), .int (I 16), .int (I 17), .ref (u 4), .int cd, .long pr, .ref (u 5), .int (I 22)])), (u 4, .inl (d 1, 100, .inl (F 13))), (u 5, .inl (d 0, 300, .inl (F 23)))] : va_W), ¬ (va_A ([] : va_W) (Array.size s.heap)) z_9.1 := oc_nA hC hC_d
  generalize hAe : (va_A ([] : va_W) (Array.size s.heap)) = A at *
  have hC_0 := hC
  refine lv_lload_n hx hb dX1_share_0 rfl (lv_at hl 1 rfl) ?_
  refine oc_callR1 hx hb hml hl.1 ⟨hok, hS, hN0⟩ (oc_iS (As := [.long x]) (rest := []) hx hb hown (hts _ q557) (hts _ q558) (hts _ q24) (hts _ q559) ⟨by decide, by decide, (by decide +kernel : (parseMethodDescriptor "(J)Z").map (fun d => d.parameters.length) = some 1)⟩ dX1_share_1 rfl) (oc_M.of (by decide +kernel) (hts _ q559)) (kX1_isSum G x) dX1_share_1 (Nat.le_of_ble_eq_true rfl) (Nat.le_of_ble_eq_true rfl) (by dsimp only [oc_rm]; omega) (by dsimp only [oc_rm]; omega) ?_
  refine lv_if_eq (x := oc_b (oc_in x 0 1000000000)) (tgt := 21) hx hb dX1_share_4 (by decide) (fun c4 => ?_) (fun c4 => ?_)
  · -- taken
    rw [oc_b0] at c4
    refine lv_iconst (v := 0) hx hb dX1_share_21 (by decide) ?_
    refine oc_callT hx hb hml hl.1 ⟨hok, hS, hN0⟩ (oc_iS (As := [.int 0]) (rest := []) hx hb hown (hts _ q561) (hts _ q562) (hts _ q24) (hts _ q563) ⟨by decide, by decide, (by decide +kernel : (parseMethodDescriptor "(Z)V").map (fun d => d.parameters.length) = some 1)⟩ dX1_share_22 rfl) (oc_M.of (by decide +kernel) (hts _ q563)) (kX1_allow0 G) (fun q z => hA q (Nat.le_trans hS.1 z)) (fun o H1 k n h => by obtain ⟨a, e, -⟩ := h; exact ⟨a, e⟩) dX1_share_22 (Nat.le_of_ble_eq_true rfl) (Nat.le_of_ble_eq_true rfl) (by dsimp only [oc_rm]; omega) (by dsimp only [oc_rm]; omega) (fun a_ H locs k_ n_ hp_ hz_ hk_ hS => ?_)
    obtain ⟨a9, e9, hk9, hn9, hsz9, hex9⟩ := hp_
    cases e9
    subst k_; subst n_
    have hP : va_P D oc_cl ([] : va_W) H := hP.kept (fun k q h => hk_ q.1 (hP k q h).lt (Nat.not_le.mpr (hP k q h).lt))
    have hC : va_P D oc_cl ([(u 0, .inr (0, [.ref (u 1), .ref rw, .ref (u 3), .ref (u 7)])), (u 1, .inr (1, [.ref (u 2), .int (I 2), .int at0, .int be, .int de])), (u 2, .inl (d 2, 300, .inl (F 1))), (u 3, .inr (2, [.ref (u 6), .int (I 11), .int (I 12), .int (I 14), .int (I 15), .int (I 16), .int (I 17), .ref (u 4), .int cd, .long pr, .ref (u 5), .int (I 22)])), (u 4, .inl (d 1, 100, .inl (F 13))), (u 5, .inl (d 0, 300, .inl (F 23)))] : va_W) H := od_keep hC_0 hC_n hS
    exact oc_xout hlocks (by rw [htab]; intro x9 hx9; cases hx9) hS (Or.inr ⟨_, rfl, ⟨by omega, by omega, hsz9, _, hex9, Or.inl ⟨rfl, by simp [oc_sok, *]⟩⟩⟩)
  · -- not taken
    rw [oc_b0] at c4
    rw [Bool.not_eq_false] at c4
    refine lv_iload_n hx hb dX1_share_7 rfl (lv_at hl 2 rfl) ?_
    refine lv_i2l (v := y.toInt64) hx hb dX1_share_8 rfl ?_
    refine lv_lconst (v := 0) hx hb dX1_share_9 (by decide) ?_
    refine lv_lconst (v := 1) hx hb dX1_share_10 (by decide) ?_
    refine oc_callR1 hx hb hml hl.1 ⟨hok, hS, hN0⟩ (oc_iS (As := [.long y.toInt64, .long 0, .long 1]) (rest := []) hx hb hown (hts _ q193) (hts _ q194) (hts _ q24) (hts _ q195) ⟨by decide, by decide, (by decide +kernel : (parseMethodDescriptor "(JJJ)Z").map (fun d => d.parameters.length) = some 3)⟩ dX1_share_11 rfl) (oc_M.of (by decide +kernel) (hts _ q195)) (kX1_in G y.toInt64 0 1) dX1_share_11 (Nat.le_of_ble_eq_true rfl) (Nat.le_of_ble_eq_true rfl) (by dsimp only [oc_rm]; omega) (by dsimp only [oc_rm]; omega) ?_
    refine lv_if_eq (x := oc_b (oc_in y.toInt64 0 1)) (tgt := 21) hx hb dX1_share_14 (by decide) (fun c14 => ?_) (fun c14 => ?_)
    · -- taken
      rw [oc_b0] at c14
      refine lv_iconst (v := 0) hx hb dX1_share_21 (by decide) ?_
      refine oc_callT hx hb hml hl.1 ⟨hok, hS, hN0⟩ (oc_iS (As := [.int 0]) (rest := []) hx hb hown (hts _ q561) (hts _ q562) (hts _ q24) (hts _ q563) ⟨by decide, by decide, (by decide +kernel : (parseMethodDescriptor "(Z)V").map (fun d => d.parameters.length) = some 1)⟩ dX1_share_22 rfl) (oc_M.of (by decide +kernel) (hts _ q563)) (kX1_allow0 G) (fun q z => hA q (Nat.le_trans hS.1 z)) (fun o H1 k n h => by obtain ⟨a, e, -⟩ := h; exact ⟨a, e⟩) dX1_share_22 (Nat.le_of_ble_eq_true rfl) (Nat.le_of_ble_eq_true rfl) (by dsimp only [oc_rm]; omega) (by dsimp only [oc_rm]; omega) (fun a_ H locs k_ n_ hp_ hz_ hk_ hS => ?_)
      obtain ⟨a9, e9, hk9, hn9, hsz9, hex9⟩ := hp_
      cases e9
      subst k_; subst n_
      have hP : va_P D oc_cl ([] : va_W) H := hP.kept (fun k q h => hk_ q.1 (hP k q h).lt (Nat.not_le.mpr (hP k q h).lt))
      have hC : va_P D oc_cl ([(u 0, .inr (0, [.ref (u 1), .ref rw, .ref (u 3), .ref (u 7)])), (u 1, .inr (1, [.ref (u 2), .int (I 2), .int at0, .int be, .int de])), (u 2, .inl (d 2, 300, .inl (F 1))), (u 3, .inr (2, [.ref (u 6), .int (I 11), .int (I 12), .int (I 14), .int (I 15), .int (I 16), .int (I 17), .ref (u 4), .int cd, .long pr, .ref (u 5), .int (I 22)])), (u 4, .inl (d 1, 100, .inl (F 13))), (u 5, .inl (d 0, 300, .inl (F 23)))] : va_W) H := od_keep hC_0 hC_n hS
      exact oc_xout hlocks (by rw [htab]; intro x9 hx9; cases hx9) hS (Or.inr ⟨_, rfl, ⟨by omega, by omega, hsz9, _, hex9, Or.inl ⟨rfl, by simp [oc_sok, *]⟩⟩⟩)
    · -- not taken
      rw [oc_b0] at c14
      rw [Bool.not_eq_false] at c14
      refine lv_iconst (v := 1) hx hb dX1_share_17 (by decide) ?_
      refine lv_goto (tgt := 22) hx hb dX1_share_18 (by decide) ?_
      refine oc_callR (v := none) hx hb hml hl.1 ⟨hok, hS, hN0⟩ (oc_iS (As := [.int 1]) (rest := []) hx hb hown (hts _ q561) (hts _ q562) (hts _ q24) (hts _ q563) ⟨by decide, by decide, (by decide +kernel : (parseMethodDescriptor "(Z)V").map (fun d => d.parameters.length) = some 1)⟩ dX1_share_22 rfl) (oc_M.of (by decide +kernel) (hts _ q563)) (kX1_allow1 G) dX1_share_22 (Nat.le_of_ble_eq_true rfl) (Nat.le_of_ble_eq_true rfl) (by dsimp only [oc_rm]; omega) (by dsimp only [oc_rm]; omega) ?_
      refine W.eq (g2 := F0 m 25 ls []) rfl ?_
      refine lv_aload_n hx hb dX1_share_25 rfl (lv_at hl 0 rfl) ?_
      refine va_get (D := D) (ci := 0) (v := .ref (u 3)) (C := RX1) (T := TX1) (N := 4) hx hb hts in_X1 hown hK hC 0 rfl rfl 2 (by decide) (hts _ q176) (fun _ h9 => h9) rfl dX1_share_26 ?_
      refine oc_callR1 hx hb hml hl.1 ⟨hok, hS, hN0⟩ (oc_iV (As := []) (rest := []) hx hb hown (hts _ q751) (hts _ q692) (hts _ q693) (oc_Sig.of (hts _ q694) (by decide +kernel : (parseMethodDescriptor "()J").map (fun d => d.parameters.length) = some 0)) (va_recv hK hC (ci := 2) (q0 := 3) rfl rfl) ⟨by decide, by decide⟩ dX1_share_29 rfl) (oc_M.of (by decide +kernel) (hts _ q694)) (kX3_foreign G (u := u) (I := I) (F := F) (cd := cd) (pr := pr) (sz := I 22) (hC.sub [3, 4] rfl) hL hpt h12 hsym) dX1_share_29 (Nat.le_of_ble_eq_true rfl) (Nat.le_of_ble_eq_true rfl) (by dsimp only [oc_rm]; omega) (by dsimp only [oc_rm]; omega) ?_
      refine oc_topl (x := oc_mf I F L N) (y := lN fs) hf ?_
      refine lv_lstore (lv' := [(4, .long (lN fs)), (0, .ref (u 0)), (1, .long x), (3, .int y)]) hx hb dX1_share_32 hl (by decide) rfl (fun ls hl => ?_)
      refine lv_lload_n hx hb dX1_share_34 rfl (lv_at hl 2 rfl) ?_
      refine lv_lload hx hb dX1_share_35 (lv_at hl 0 rfl) ?_
      refine lv_lload_n hx hb dX1_share_37 rfl (lv_at hl 2 rfl) ?_
      by_cases hx0 : x = 0
      · -- by zero
        refine oc_topl (x := x) (y := 0) hx0 ?_
        exact oc_lrem0 G hok hx hb hml hl.1 hlocks htab dX1_share_38 (Nat.le_of_ble_eq_true rfl) (Nat.le_of_ble_eq_true rfl) (Nat.le_of_ble_eq_true rfl) (Nat.le_of_ble_eq_true rfl) (fun H1 n9 hn9 hz9 hk9 hex9 => Or.inr ⟨_, rfl, by omega, by omega, by omega, _, hex9, Or.inr ⟨rfl, by simp [oc_sok, c4, c14], hx0⟩⟩)
      obtain ⟨j, hj9, hxj⟩ := oc_inS c4
      have hj0 : 0 < j := by
        rcases Nat.eq_zero_or_pos j with z | z
        · exact absurd (by rw [hxj, z]; rfl) hx0
        · exact z
      have hgp : 0 < Nat.gcd fs j := Nat.gcd_pos_of_pos_right _ hj0
      have hgl : Nat.gcd fs j ≤ j := Nat.gcd_le_right _ hj0
      subst hxj
      have hl : lv_has ls 8 [(4, .long (lN fs)), (0, .ref (u 0)), (1, .long (lN j)), (3, .int y)] := hl
      refine lv_lrem hx hb dX1_share_38 (by rw [← show lN 0 = 0 from rfl, pk_lEQ (by omega) (by decide)]; omega) ?_
      refine oc_topl (x := (lN fs) - (lN fs) / (lN j) * (lN j)) (y := lN (fs % j)) (pk_lRem (by omega) (by omega) (by omega)) ?_
      refine oc_callR1 hx hb hml hl.1 ⟨hok, hS, hN0⟩ (oc_iS (As := [.long (lN j), .long (lN (fs % j))]) (rest := []) hx hb hown (hts _ q752) (hts _ q753) (hts _ q24) (hts _ q754) ⟨by decide, by decide, (by decide +kernel : (parseMethodDescriptor "(JJ)J").map (fun d => d.parameters.length) = some 2)⟩ dX1_share_39 rfl) (oc_M.of (by decide +kernel) (hts _ q754)) (od_gcd (kX1_common G j (fs % j) (by omega) (by have := Nat.mod_lt fs hj0; omega))) dX1_share_39 (Nat.le_of_ble_eq_true rfl) (Nat.le_of_ble_eq_true rfl) (by dsimp only [oc_rm]; omega) (by dsimp only [oc_rm]; omega) ?_
      refine lv_lstore (lv' := [(6, .long (lN (Nat.gcd fs j))), (4, .long (lN fs)), (0, .ref (u 0)), (1, .long (lN j)), (3, .int y)]) hx hb dX1_share_42 hl (by decide) rfl (fun ls hl => ?_)
      refine lv_iload_n hx hb dX1_share_44 rfl (lv_at hl 4 rfl) ?_
      refine lv_if_ne (x := y) (tgt := 56) hx hb dX1_share_45 (by decide) (fun c45 => ?_) (fun c45 => ?_)
      · -- taken
        refine lv_lload_n hx hb dX1_share_56 rfl (lv_at hl 3 rfl) ?_
        refine lv_lload hx hb dX1_share_57 (lv_at hl 0 rfl) ?_
        refine lv_ldiv hx hb dX1_share_59 (by rw [← show lN 0 = 0 from rfl, pk_lEQ (by omega) (by decide)]; omega) ?_
        refine oc_topl (x := (lN j) / (lN (Nat.gcd fs j))) (y := lN (j / Nat.gcd fs j)) (pk_lDiv (by omega) (by omega) (by omega)) ?_
        exact oc_lret hx hb hr hlocks hS dX1_share_60 (Or.inl ⟨_, rfl, rfl, rfl, rfl, ⟨by simp [oc_sok, c4, c14], hx0, j, hj0, hj9, rfl, by simp [c45]⟩⟩)
      · -- not taken
        refine lv_lload hx hb dX1_share_48 (lv_at hl 1 rfl) ?_
        refine lv_lload hx hb dX1_share_50 (lv_at hl 0 rfl) ?_
        refine lv_ldiv hx hb dX1_share_52 (by rw [← show lN 0 = 0 from rfl, pk_lEQ (by omega) (by decide)]; omega) ?_
        refine oc_topl (x := (lN fs) / (lN (Nat.gcd fs j))) (y := lN (fs / Nat.gcd fs j)) (pk_lDiv (by omega) (by omega) (by omega)) ?_
        refine lv_goto (tgt := 60) hx hb dX1_share_53 (by decide) ?_
        exact oc_lret hx hb hr hlocks hS dX1_share_60 (Or.inl ⟨_, rfl, rfl, rfl, rfl, ⟨by simp [oc_sok, c4, c14], hx0, j, hj0, hj9, rfl, by simp [c45]⟩⟩)
