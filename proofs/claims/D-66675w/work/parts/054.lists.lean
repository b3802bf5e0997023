/-! ===== ArrayList and what it stands on ===== -/
set_option maxHeartbeats 4000000 in
set_option maxRecDepth 100000 in
theorem kJ2_size {l : Launch} {s0 : State} {b0 : Addr} {D : va_G} {d : Nat → ClassId} (G : oc_G l s0 b0 D d) {H : Heap} (a : Nat) (mc : Int32) (ar : Nat) (n : Int32) (hP : va_P D oc_cl [(a, .inr (4, [.int mc, .ref ar, .int n]))] H) : oc_C l s0 yJ2_size (oc_rm 0 0 0 0) [.ref a] H oc_N (oc_R (some (.int n)) H) := by
  refine oc_start G (cc := cJ2_size) (L := 1) (ret := (Option.some Jvm.ClassFile.FieldType.int)) q470 (Nat.le_of_ble_eq_true rfl) ?_
  intro p e s m below meth c ls hx hok hb hml hr hlocks htab hown hts hK hmn hh hl
  subst hh
  have hl : lv_has ls 1 [(0, .ref a)] := hl
  have hZ := oc_Z0 hok
  refine lv_aload_n hx hb dJ2_size_0 rfl (lv_at hl 0 rfl) ?_
  refine va_get (D := D) (ci := 4) (v := .int n) (C := RJ2) (T := TJ2) (N := 3) hx hb hts in_J2 hown hK hP 0 rfl rfl 2 (by decide) (hts _ q104) (fun _ h9 => h9) rfl dJ2_size_1 ?_
  exact oc_iret hx hb hr hlocks va_S.rf dJ2_size_4 (oc_Ri (rfl))
set_option maxHeartbeats 4000000 in
set_option maxRecDepth 100000 in
theorem kJ2_isEmpty {l : Launch} {s0 : State} {b0 : Addr} {D : va_G} {d : Nat → ClassId} (G : oc_G l s0 b0 D d) {H : Heap} (a : Nat) (mc : Int32) (ar : Nat) (n : Int32) (hP : va_P D oc_cl [(a, .inr (4, [.int mc, .ref ar, .int n]))] H) : oc_C l s0 yJ2_isEmpty (oc_rm 0 0 0 0) [.ref a] H oc_N (oc_R (some (.int (oc_b (decide (n = 0))))) H) := by
  refine oc_start G (cc := cJ2_isEmpty) (L := 1) (ret := (Option.some Jvm.ClassFile.FieldType.boolean)) q702 (Nat.le_of_ble_eq_true rfl) ?_
  intro p e s m below meth c ls hx hok hb hml hr hlocks htab hown hts hK hmn hh hl
  subst hh
  have hl : lv_has ls 1 [(0, .ref a)] := hl
  have hZ := oc_Z0 hok
  refine lv_aload_n hx hb dJ2_isEmpty_0 rfl (lv_at hl 0 rfl) ?_
  refine va_get (D := D) (ci := 4) (v := .int n) (C := RJ2) (T := TJ2) (N := 3) hx hb hts in_J2 hown hK hP 0 rfl rfl 2 (by decide) (hts _ q104) (fun _ h9 => h9) rfl dJ2_isEmpty_1 ?_
  refine lv_if_ne (x := n) (tgt := 11) hx hb dJ2_isEmpty_4 (by decide) (fun c4 => ?_) (fun c4 => ?_)
  · -- taken
    refine lv_iconst (v := 0) hx hb dJ2_isEmpty_11 (by decide) ?_
    exact oc_zret hx hb hr hlocks va_S.rf dJ2_isEmpty_12 rfl (oc_Ri (by simp [oc_b, *]))
  · -- not taken
    refine lv_iconst (v := 1) hx hb dJ2_isEmpty_7 (by decide) ?_
    refine lv_goto (tgt := 12) hx hb dJ2_isEmpty_8 (by decide) ?_
    exact oc_zret hx hb hr hlocks va_S.rf dJ2_isEmpty_12 rfl (oc_Ri (by simp [oc_b, *]))
set_option maxHeartbeats 4000000 in
set_option maxRecDepth 100000 in
theorem kJ12_checkIndex {l : Launch} {s0 : State} {b0 : Addr} {D : va_G} {d : Nat → ClassId} (G : oc_G l s0 b0 D d) {H : Heap} (x y : Int32) (h0 : ¬ x < 0) (h1 : x < y) : oc_C l s0 yJ12_checkIndex (oc_rm 0 0 0 0) [.int x, .int y, .null] H oc_N (oc_R (some (.int x)) H) := by
  refine oc_start G (cc := cJ12_checkIndex) (L := 3) (ret := (Option.some Jvm.ClassFile.FieldType.int)) q522 (Nat.le_of_ble_eq_true rfl) ?_
  intro p e s m below meth c ls hx hok hb hml hr hlocks htab hown hts hK hmn hh hl
  subst hh
  have hl : lv_has ls 3 [(0, .int x), (1, .int y), (2, .null)] := hl
  have hZ := oc_Z0 hok
  refine lv_iload_n hx hb dJ12_checkIndex_0 rfl (lv_at hl 0 rfl) ?_
  refine lv_if_lt (x := x) (tgt := 9) hx hb dJ12_checkIndex_1 (by decide) (fun c1 => ?_) (fun c1 => ?_)
  · -- taken
    exact absurd c1 h0
  · -- not taken
    refine lv_iload_n hx hb dJ12_checkIndex_4 rfl (lv_at hl 0 rfl) ?_
    refine lv_iload_n hx hb dJ12_checkIndex_5 rfl (lv_at hl 1 rfl) ?_
    refine lv_icmp_lt (x := x) (y := y) (tgt := 16) hx hb dJ12_checkIndex_6 (by decide) (fun c6 => ?_) (fun c6 => ?_)
    · -- taken
      refine lv_iload_n hx hb dJ12_checkIndex_16 rfl (lv_at hl 0 rfl) ?_
      exact oc_iret hx hb hr hlocks va_S.rf dJ12_checkIndex_17 (oc_Ri (rfl))
    · -- not taken
      exact absurd h1 c6
set_option maxHeartbeats 4000000 in
set_option maxRecDepth 100000 in
theorem kJ11_checkIndex {l : Launch} {s0 : State} {b0 : Addr} {D : va_G} {d : Nat → ClassId} (G : oc_G l s0 b0 D d) {H : Heap} (x y : Int32) (h0 : ¬ x < 0) (h1 : x < y) : oc_C l s0 yJ11_checkIndex (oc_rm 1 14 0 0) [.int x, .int y] H oc_N (oc_R (some (.int x)) H) := by
  refine oc_start G (cc := cJ11_checkIndex) (L := 2) (ret := (Option.some Jvm.ClassFile.FieldType.int)) q519 (Nat.le_of_ble_eq_true rfl) ?_
  intro p e s m below meth c ls hx hok hb hml hr hlocks htab hown hts hK hmn hh hl
  subst hh
  have hl : lv_has ls 2 [(0, .int x), (1, .int y)] := hl
  have hZ := oc_Z0 hok
  refine lv_iload_n hx hb dJ11_checkIndex_0 rfl (lv_at hl 0 rfl) ?_
  refine lv_iload_n hx hb dJ11_checkIndex_1 rfl (lv_at hl 1 rfl) ?_
  refine lv_null hx hb dJ11_checkIndex_2 ?_
  refine oc_callR1 hx hb hml hl.1 hZ (oc_iS (As := [.int x, .int y, .null]) (rest := []) hx hb hown (hts _ q520) (hts _ q521) (hts _ q51) (hts _ q522) ⟨by decide, by decide, (by decide +kernel : (parseMethodDescriptor "(IILjava/util/function/BiFunction;)I").map (fun d => d.parameters.length) = some 3)⟩ dJ11_checkIndex_3 rfl) (oc_M.of (by decide +kernel) (hts _ q522)) (kJ12_checkIndex G x y h0 h1) dJ11_checkIndex_3 (Nat.le_of_ble_eq_true rfl) (Nat.le_of_ble_eq_true rfl) (by dsimp only [oc_rm]; omega) (by dsimp only [oc_rm]; omega) ?_
  exact oc_iret hx hb hr hlocks va_S.rf dJ11_checkIndex_6 (oc_Ri (rfl))
set_option maxHeartbeats 4000000 in
set_option maxRecDepth 100000 in
theorem kJ2_elementData {l : Launch} {s0 : State} {b0 : Addr} {D : va_G} {d : Nat → ClassId} (G : oc_G l s0 b0 D d) {H : Heap} (a : Nat) (mc : Int32) (ar n cp : Nat) (el : Nat → Option Nat) (k y : Nat) (hk : k < n) (hn : n ≤ cp) (hcp : cp < 2147483648) (hy : el k = some y) (hP : va_P D oc_cl [(a, .inr (4, [.int mc, .ref ar, .int (nI n)])), (ar, .inl (d 4, cp, .inr (.inr (.inr (.inr el)))))] H) : oc_C l s0 yJ2_elementData (oc_rm 0 0 0 0) [.ref a, .int (nI k)] H oc_N (oc_R (some (.ref y)) H) := by
  refine oc_start G (cc := cJ2_elementData) (L := 2) (ret := (Option.some (Jvm.ClassFile.FieldType.object "java/lang/Object"))) q526 (Nat.le_of_ble_eq_true rfl) ?_
  intro p e s m below meth c ls hx hok hb hml hr hlocks htab hown hts hK hmn hh hl
  subst hh
  have hl : lv_has ls 2 [(0, .ref a), (1, .int (nI k))] := hl
  have hZ := oc_Z0 hok
  refine lv_aload_n hx hb dJ2_elementData_0 rfl (lv_at hl 0 rfl) ?_
  refine va_get (D := D) (ci := 4) (v := .ref ar) (C := RJ2) (T := TJ2) (N := 3) hx hb hts in_J2 hown hK hP 0 rfl rfl 1 (by decide) (hts _ q103) (fun _ h9 => h9) rfl dJ2_elementData_1 ?_
  refine lv_iload_n hx hb dJ2_elementData_4 rfl (lv_at hl 1 rfl) ?_
  refine oc_aald hx hb hK hP 1 4 rfl rfl k rfl (by omega) (by omega) (y := y) hy dJ2_elementData_5 ?_
  exact oc_aret hx hb hr (Or.inl ⟨_, rfl⟩) (Or.inr ⟨_, rfl⟩) hlocks va_S.rf dJ2_elementData_6 (oc_Rv (rfl))
set_option maxHeartbeats 4000000 in
set_option maxRecDepth 100000 in
theorem kJ2_get {l : Launch} {s0 : State} {b0 : Addr} {D : va_G} {d : Nat → ClassId} (G : oc_G l s0 b0 D d) {H : Heap} (a : Nat) (mc : Int32) (ar n cp : Nat) (el : Nat → Option Nat) (k y : Nat) (hk : k < n) (hn : n ≤ cp) (hcp : cp < 2147483648) (hy : el k = some y) (hP : va_P D oc_cl [(a, .inr (4, [.int mc, .ref ar, .int (nI n)])), (ar, .inl (d 4, cp, .inr (.inr (.inr (.inr el)))))] H) : oc_C l s0 yJ2_get (oc_rm 2 27 0 0) [.ref a, .int (nI k)] H oc_N (oc_R (some (.ref y)) H) := by
  refine oc_start G (cc := cJ2_get) (L := 2) (ret := (Option.some (Jvm.ClassFile.FieldType.object "java/lang/Object"))) q516 (Nat.le_of_ble_eq_true rfl) ?_
  intro p e s m below meth c ls hx hok hb hml hr hlocks htab hown hts hK hmn hh hl
  subst hh
  have hl : lv_has ls 2 [(0, .ref a), (1, .int (nI k))] := hl
  have hZ := oc_Z0 hok
  refine lv_iload_n hx hb dJ2_get_0 rfl (lv_at hl 1 rfl) ?_
  refine lv_aload_n hx hb dJ2_get_1 rfl (lv_at hl 0 rfl) ?_
  refine va_get (D := D) (ci := 4) (v := .int (nI n)) (C := RJ2) (T := TJ2) (N := 3) hx hb hts in_J2 hown hK hP 0 rfl rfl 2 (by decide) (hts _ q104) (fun _ h9 => h9) rfl dJ2_get_2 ?_
  refine oc_callR1 hx hb hml hl.1 hZ (oc_iS (As := [.int (nI k), .int (nI n)]) (rest := []) hx hb hown (hts _ q517) (hts _ q518) (hts _ q50) (hts _ q519) ⟨by decide, by decide, (by decide +kernel : (parseMethodDescriptor "(II)I").map (fun d => d.parameters.length) = some 2)⟩ dJ2_get_5 rfl) (oc_M.of (by decide +kernel) (hts _ q519)) (kJ11_checkIndex G (nI k) (nI n) (od_nn (by omega)) (od_lt (by omega) (by omega))) dJ2_get_5 (Nat.le_of_ble_eq_true rfl) (Nat.le_of_ble_eq_true rfl) (by dsimp only [oc_rm]; omega) (by dsimp only [oc_rm]; omega) ?_
  refine lv_pop hx hb dJ2_get_8 rfl ?_
  refine lv_aload_n hx hb dJ2_get_9 rfl (lv_at hl 0 rfl) ?_
  refine lv_iload_n hx hb dJ2_get_10 rfl (lv_at hl 1 rfl) ?_
  refine oc_callR1 hx hb hml hl.1 hZ (oc_iV (As := [.int (nI k)]) (rest := []) hx hb hown (hts _ q523) (hts _ q524) (hts _ q525) (oc_Sig.of (hts _ q526) (by decide +kernel : (parseMethodDescriptor "(I)Ljava/lang/Object;").map (fun d => d.parameters.length) = some 1)) (va_recv hK hP (ci := 4) (q0 := 0) rfl rfl) ⟨by decide, by decide⟩ dJ2_get_11 rfl) (oc_M.of (by decide +kernel) (hts _ q526)) (kJ2_elementData G a mc ar n cp el k y hk hn hcp hy hP) dJ2_get_11 (Nat.le_of_ble_eq_true rfl) (Nat.le_of_ble_eq_true rfl) (by dsimp only [oc_rm]; omega) (by dsimp only [oc_rm]; omega) ?_
  exact oc_aret hx hb hr (Or.inl ⟨_, rfl⟩) (Or.inr ⟨_, rfl⟩) hlocks va_S.rf dJ2_get_14 (oc_Rv (rfl))
set_option maxHeartbeats 4000000 in
set_option maxRecDepth 100000 in
theorem kJ7_max {l : Launch} {s0 : State} {b0 : Addr} {D : va_G} {d : Nat → ClassId} (G : oc_G l s0 b0 D d) {H : Heap} (x y : Int32) : oc_C l s0 yJ7_max (oc_rm 0 0 0 0) [.int x, .int y] H oc_N (oc_R (some (.int (if x < y then y else x))) H) := by
  refine oc_start G (cc := cJ7_max) (L := 2) (ret := (Option.some Jvm.ClassFile.FieldType.int)) q405 (Nat.le_of_ble_eq_true rfl) ?_
  intro p e s m below meth c ls hx hok hb hml hr hlocks htab hown hts hK hmn hh hl
  subst hh
  have hl : lv_has ls 2 [(0, .int x), (1, .int y)] := hl
  have hZ := oc_Z0 hok
  refine lv_iload_n hx hb dJ7_max_0 rfl (lv_at hl 0 rfl) ?_
  refine lv_iload_n hx hb dJ7_max_1 rfl (lv_at hl 1 rfl) ?_
  refine lv_icmp_lt (x := x) (y := y) (tgt := 9) hx hb dJ7_max_2 (by decide) (fun c2 => ?_) (fun c2 => ?_)
  · -- taken
    refine lv_iload_n hx hb dJ7_max_9 rfl (lv_at hl 1 rfl) ?_
    exact oc_iret hx hb hr hlocks va_S.rf dJ7_max_10 (oc_Ri (by simp [*]))
  · -- not taken
    refine lv_iload_n hx hb dJ7_max_5 rfl (lv_at hl 0 rfl) ?_
    refine lv_goto (tgt := 10) hx hb dJ7_max_6 (by decide) ?_
    exact oc_iret hx hb hr hlocks va_S.rf dJ7_max_10 (oc_Ri (by simp [*]))
set_option maxHeartbeats 4000000 in
set_option maxRecDepth 100000 in
theorem kJ7_min {l : Launch} {s0 : State} {b0 : Addr} {D : va_G} {d : Nat → ClassId} (G : oc_G l s0 b0 D d) {H : Heap} (x y : Int32) : oc_C l s0 yJ7_min (oc_rm 0 0 0 0) [.int x, .int y] H oc_N (oc_R (some (.int (if y < x then y else x))) H) := by
  refine oc_start G (cc := cJ7_min) (L := 2) (ret := (Option.some Jvm.ClassFile.FieldType.int)) q443 (Nat.le_of_ble_eq_true rfl) ?_
  intro p e s m below meth c ls hx hok hb hml hr hlocks htab hown hts hK hmn hh hl
  subst hh
  have hl : lv_has ls 2 [(0, .int x), (1, .int y)] := hl
  have hZ := oc_Z0 hok
  refine lv_iload_n hx hb dJ7_min_0 rfl (lv_at hl 0 rfl) ?_
  refine lv_iload_n hx hb dJ7_min_1 rfl (lv_at hl 1 rfl) ?_
  refine lv_icmp_gt (x := x) (y := y) (tgt := 9) hx hb dJ7_min_2 (by decide) (fun c2 => ?_) (fun c2 => ?_)
  · -- taken
    refine lv_iload_n hx hb dJ7_min_9 rfl (lv_at hl 1 rfl) ?_
    exact oc_iret hx hb hr hlocks va_S.rf dJ7_min_10 (oc_Ri (by simp [*]))
  · -- not taken
    refine lv_iload_n hx hb dJ7_min_5 rfl (lv_at hl 0 rfl) ?_
    refine lv_goto (tgt := 10) hx hb dJ7_min_6 (by decide) ?_
    exact oc_iret hx hb hr hlocks va_S.rf dJ7_min_10 (oc_Ri (by simp [*]))
/-- the length behind x: half more -/
def oc_nl (x : Nat) : Nat := x + (if x / 2 < 1 then 1 else x / 2)
theorem oc_nlm {x : Nat} (h : x < 1000000) : nI x + (if nI 1 < nI (x / 2) then nI (x / 2) else nI 1) = nI (oc_nl x) := by
  unfold oc_nl
  by_cases z : 1 < x / 2
  · rw [if_pos (od_lt z (by omega)), if_neg (by omega), nI_add]
  · rw [if_neg (od_nlt (by omega) (by decide)), nI_add]
    congr 1
    split <;> omega
theorem oc_nl_b {x : Nat} (h : x < 1000000) : oc_nl x < 2000000 ∧ x < oc_nl x := by unfold oc_nl; split <;> omega
set_option maxHeartbeats 4000000 in
set_option maxRecDepth 100000 in
theorem kJ6_newLength {l : Launch} {s0 : State} {b0 : Addr} {D : va_G} {d : Nat → ClassId} (G : oc_G l s0 b0 D d) {H : Heap} (x : Nat) (hx0 : x < 1000000) : oc_C l s0 yJ6_newLength (oc_rm 1 14 0 0) [.int (nI x), .int (nI 1), .int (nI (x / 2))] H oc_N (oc_R (some (.int (nI (oc_nl x)))) H) := by
  refine oc_start G (cc := cJ6_newLength) (L := 4) (ret := (Option.some Jvm.ClassFile.FieldType.int)) q402 (Nat.le_of_ble_eq_true rfl) ?_
  intro p e s m below meth c ls hx hok hb hml hr hlocks htab hown hts hK hmn hh hl
  subst hh
  have hl : lv_has ls 4 [(0, .int (nI x)), (1, .int (nI 1)), (2, .int (nI (x / 2)))] := hl
  have hZ := oc_Z0 hok
  have hb9 := oc_nl_b hx0
  refine lv_iload_n hx hb dJ6_newLength_0 rfl (lv_at hl 0 rfl) ?_
  refine lv_iload_n hx hb dJ6_newLength_1 rfl (lv_at hl 1 rfl) ?_
  refine lv_iload_n hx hb dJ6_newLength_2 rfl (lv_at hl 2 rfl) ?_
  refine oc_callR1 hx hb hml hl.1 hZ (oc_iS (As := [.int (nI 1), .int (nI (x / 2))]) (rest := [.int (nI x)]) hx hb hown (hts _ q403) (hts _ q404) (hts _ q43) (hts _ q405) ⟨by decide, by decide, (by decide +kernel : (parseMethodDescriptor "(II)I").map (fun d => d.parameters.length) = some 2)⟩ dJ6_newLength_3 rfl) (oc_M.of (by decide +kernel) (hts _ q405)) (kJ7_max G (nI 1) (nI (x / 2))) dJ6_newLength_3 (Nat.le_of_ble_eq_true rfl) (Nat.le_of_ble_eq_true rfl) (by dsimp only [oc_rm]; omega) (by dsimp only [oc_rm]; omega) ?_
  refine lv_iadd hx hb dJ6_newLength_6 ?_
  refine oc_topi (x := (nI x) + (if nI 1 < nI (x / 2) then nI (x / 2) else nI 1)) (y := nI (oc_nl x)) (oc_nlm hx0) ?_
  refine lv_istore_n (lv' := [(3, .int (nI (oc_nl x))), (0, .int (nI x)), (1, .int (nI 1)), (2, .int (nI (x / 2)))]) hx hb dJ6_newLength_7 rfl hl (by decide) rfl (fun ls hl => ?_)
  refine lv_iconst (v := 0) hx hb dJ6_newLength_8 (by decide) ?_
  refine lv_iload_n hx hb dJ6_newLength_9 rfl (lv_at hl 0 rfl) ?_
  refine lv_icmp_ge (x := 0) (y := nI (oc_nl x)) (tgt := 21) hx hb dJ6_newLength_10 (by decide) (fun c10 => ?_) (fun c10 => ?_)
  · -- taken
    rw [oc_le (x := nI (oc_nl x)) (y := 0) (a := (oc_nl x)) (b := 0) rfl rfl (by omega) (by omega)] at c10
    exact absurd c10 (by omega)
  · -- not taken
    rw [oc_le (x := nI (oc_nl x)) (y := 0) (a := (oc_nl x)) (b := 0) rfl rfl (by omega) (by omega)] at c10
    refine lv_iload_n hx hb dJ6_newLength_13 rfl (lv_at hl 0 rfl) ?_
    refine lv_ldc hx hb hown (hts _ q406) dJ6_newLength_14 ?_
    refine lv_icmp_gt (x := nI (oc_nl x)) (y := 2147483639) (tgt := 21) hx hb dJ6_newLength_16 (by decide) (fun c16 => ?_) (fun c16 => ?_)
    · -- taken
      exact absurd c16 (by rw [show (2147483639 : Int32) = nI 2147483639 from rfl, oc_lt (a := 2147483639) (b := oc_nl x) rfl rfl (by decide) (by omega)]; omega)
    · -- not taken
      refine lv_iload_n hx hb dJ6_newLength_19 rfl (lv_at hl 0 rfl) ?_
      exact oc_iret hx hb hr hlocks va_S.rf dJ6_newLength_20 (oc_Ri (rfl))
set_option maxHeartbeats 4000000 in
set_option maxRecDepth 100000 in
theorem kJ0_init {l : Launch} {s0 : State} {b0 : Addr} {D : va_G} {d : Nat → ClassId} (G : oc_G l s0 b0 D d) {H : Heap} (a : Nat) : oc_C l s0 yJ0_init (oc_rm 1 12 0 0) [.ref a] H oc_N (oc_R none H) := by
  refine oc_start G (cc := cJ0_init) (L := 1) (ret := (Option.none : Option Jvm.ClassFile.FieldType)) q99 (Nat.le_of_ble_eq_true rfl) ?_
  intro p e s m below meth c ls hx hok hb hml hr hlocks htab hown hts hK hmn hh hl
  subst hh
  have hl : lv_has ls 1 [(0, .ref a)] := hl
  have hZ := oc_Z0 hok
  refine lv_aload_n hx hb dJ0_init_0 rfl (lv_at hl 0 rfl) ?_
  refine W.objInit hx hb hown (hts _ q100) (hts _ q61) (hts _ q62) rfl (by rw [hml]; exact hl.1) (rest := []) rfl dJ0_init_1 (Nat.le_of_ble_eq_true rfl) (Nat.le_of_ble_eq_true rfl) ?_
  refine W.eq (g2 := F0 m 4 ls []) rfl ?_
  exact oc_vret hx hb hr hlocks va_S.rf dJ0_init_4 ⟨rfl, rfl, rfl, rfl⟩
set_option maxHeartbeats 4000000 in
set_option maxRecDepth 100000 in
theorem kJ1_init {l : Launch} {s0 : State} {b0 : Addr} {D : va_G} {d : Nat → ClassId} (G : oc_G l s0 b0 D d) {H : Heap} (a : Nat) (u : Int32) (n : Int32) (hP : va_P D oc_cl ([(a, .inr (4, [.int u, .null, .int n]))] : va_W) H) (hD : va_D (va_A ([(a, .inr (4, [.int u, .null, .int n]))] : va_W) (Array.size H)) ([(a, .inr (4, [.int u, .null, .int n]))] : va_W)) (hN0 : ∀ x ∈ ([(a, .inr (4, [.int u, .null, .int n]))] : va_W), s0.heap.size ≤ x.1) : oc_C l s0 yJ1_init (oc_rm 2 24 0 0) [.ref a] H (va_A ([(a, .inr (4, [.int u, .null, .int n]))] : va_W) (Array.size H)) (oc_Pr (fun v H1 k n1 => v = none ∧ k = 0 ∧ n1 = 0 ∧ va_P D oc_cl [(a, .inr (4, [.int 0, .null, .int n]))] H1 ∧ va_D (va_A ([(a, .inr (4, [.int u, .null, .int n]))] : va_W) (Array.size H)) [(a, .inr (4, [.int 0, .null, .int n]))])) := by
  refine oc_start G (cc := cJ1_init) (L := 1) (ret := (Option.none : Option Jvm.ClassFile.FieldType)) q96 (Nat.le_of_ble_eq_true rfl) ?_
  intro p e s m below meth c ls hx hok hb hml hr hlocks htab hown hts hK hmn hh hl
  subst hh
  have hl : lv_has ls 1 [(0, .ref a)] := hl
  have hN0 := oc_N0 hok hN0
  have hA : ∀ q, Array.size s.heap ≤ q → (va_A ([(a, .inr (4, [.int u, .null, .int n]))] : va_W) (Array.size s.heap)) q := fun q z => Or.inr z
  have hS : va_S (va_A ([(a, .inr (4, [.int u, .null, .int n]))] : va_W) (Array.size s.heap)) s.heap s.heap [] := va_S.rf
  generalize hAe : (va_A ([(a, .inr (4, [.int u, .null, .int n]))] : va_W) (Array.size s.heap)) = A at *
  refine lv_aload_n hx hb dJ1_init_0 rfl (lv_at hl 0 rfl) ?_
  refine oc_callR (v := none) hx hb hml hl.1 ⟨hok, hS, hN0⟩ (oc_iI (As := []) (rest := []) hx hb hown (hts _ q97) (hts _ q98) (hts _ q99) ⟨by decide, by decide, by decide, (by decide +kernel : (parseMethodDescriptor "()V").map (fun d => d.parameters.length) = some 0)⟩ dJ1_init_1 rfl) (oc_M.of (by decide +kernel) (hts _ q99)) (kJ0_init G a) dJ1_init_1 (Nat.le_of_ble_eq_true rfl) (Nat.le_of_ble_eq_true rfl) (by dsimp only [oc_rm]; omega) (by dsimp only [oc_rm]; omega) ?_
  refine W.eq (g2 := F0 m 4 ls []) rfl ?_
  refine lv_aload_n hx hb dJ1_init_4 rfl (lv_at hl 0 rfl) ?_
  refine lv_iconst (v := 0) hx hb dJ1_init_5 (by decide) ?_
  refine va_put (D := D) (ci := 4) (v := .int 0) (ty := .int) (C := RJ2) (T := TJ2) (N := 3) hx hb hts in_J2 tyJ2 tyJ2_ok nmJ2 hown hK hP hD hS 0 rfl rfl 0 (by decide) (hts _ q105) (fun _ h9 => h9) rfl (by decide +kernel) rfl rfl (Nat.le_of_ble_eq_true rfl) dJ1_init_6 (fun H locs hP hD hS => ?_)
  have hP : va_P D oc_cl ([(a, .inr (4, [.int 0, .null, .int n]))] : va_W) H := hP
  have hD : va_D A ([(a, .inr (4, [.int 0, .null, .int n]))] : va_W) := hD
  exact oc_vret hx hb hr hlocks hS dJ1_init_9 (⟨none, rfl, rfl, rfl, rfl, hP, hD⟩)
set_option maxHeartbeats 4000000 in
set_option maxRecDepth 100000 in
theorem kJ2_init {l : Launch} {s0 : State} {b0 : Addr} {D : va_G} {d : Nat → ClassId} (G : oc_G l s0 b0 D d) {H : Heap} (a : Nat) (u : Int32) (n : Int32) (hP : va_P D oc_cl ([(a, .inr (4, [.int u, .null, .int n]))] : va_W) H) (hD : va_D (va_A ([(a, .inr (4, [.int u, .null, .int n]))] : va_W) (Array.size H)) ([(a, .inr (4, [.int u, .null, .int n]))] : va_W)) (hN0 : ∀ x ∈ ([(a, .inr (4, [.int u, .null, .int n]))] : va_W), s0.heap.size ≤ x.1) {E0 : Nat} (hE : oc_E s0 E0) : oc_C l s0 yJ2_init (oc_rm 3 36 0 0) [.ref a] H (va_A ([(a, .inr (4, [.int u, .null, .int n]))] : va_W) (Array.size H)) (oc_Pr (fun v H1 k n1 => v = none ∧ k = 0 ∧ n1 = 0 ∧ va_P D oc_cl [(a, .inr (4, [.int 0, .ref E0, .int n]))] H1 ∧ va_D (va_A ([(a, .inr (4, [.int u, .null, .int n]))] : va_W) (Array.size H)) [(a, .inr (4, [.int 0, .ref E0, .int n]))])) := by
  refine oc_start G (cc := cJ2_init) (L := 1) (ret := (Option.none : Option Jvm.ClassFile.FieldType)) q93 (Nat.le_of_ble_eq_true rfl) ?_
  intro p e s m below meth c ls hx hok hb hml hr hlocks htab hown hts hK hmn hh hl
  subst hh
  have hl : lv_has ls 1 [(0, .ref a)] := hl
  have hN0 := oc_N0 hok hN0
  have hA : ∀ q, Array.size s.heap ≤ q → (va_A ([(a, .inr (4, [.int u, .null, .int n]))] : va_W) (Array.size s.heap)) q := fun q z => Or.inr z
  have hS : va_S (va_A ([(a, .inr (4, [.int u, .null, .int n]))] : va_W) (Array.size s.heap)) s.heap s.heap [] := va_S.rf
  generalize hAe : (va_A ([(a, .inr (4, [.int u, .null, .int n]))] : va_W) (Array.size s.heap)) = A at *
  refine lv_aload_n hx hb dJ2_init_0 rfl (lv_at hl 0 rfl) ?_
  have hF_ : ∀ q, va_A ([(a, .inr (4, [.int u, .null, .int n]))] : va_W) (Array.size s.heap) q → A q := va_free hD hS hA [0] rfl
  refine oc_callP (A1 := va_A ([(a, .inr (4, [.int u, .null, .int n]))] : va_W) (Array.size s.heap)) hx hb hml hl.1 ⟨hok, hS, hN0⟩ (oc_iI (As := []) (rest := []) hx hb hown (hts _ q94) (hts _ q95) (hts _ q96) ⟨by decide, by decide, by decide, (by decide +kernel : (parseMethodDescriptor "()V").map (fun d => d.parameters.length) = some 0)⟩ dJ2_init_1 rfl) (oc_M.of (by decide +kernel) (hts _ q96)) (kJ1_init G a u n (hP.sub [0] rfl) ((hD.sub [0] rfl rfl).self) (oc_N1 hD hN0 [0] rfl)) hF_ dJ2_init_1 (Nat.le_of_ble_eq_true rfl) (Nat.le_of_ble_eq_true rfl) (by dsimp only [oc_rm]; omega) (by dsimp only [oc_rm]; omega) (fun v_ H locs k_ n_ hp_ hz_ hk_ hS => ?_)
  obtain ⟨rfl, rfl, rfl, hP1, hD1⟩ := hp_
  obtain ⟨hP, hD⟩ := va_join (w1 := ([(a, .inr (4, [.int 0, .null, .int n]))] : va_W)) (wr := ([] : va_W)) hP hD [0] [] rfl rfl rfl (by decide) hk_ hF_ hP1 hD1
  have hP : va_P D oc_cl ([(a, .inr (4, [.int 0, .null, .int n]))] : va_W) H := hP
  have hD : va_D A ([(a, .inr (4, [.int 0, .null, .int n]))] : va_W) := hD
  refine W.eq (g2 := F0 m 4 ls []) rfl ?_
  refine lv_aload_n hx hb dJ2_init_4 rfl (lv_at hl 0 rfl) ?_
  refine va_gets hx hb (oc_E.z hE hok hN0) hS hown (hts _ q101) (fun _ h9 => h9) dJ2_init_5 ?_
  refine va_put (D := D) (ci := 4) (v := .ref E0) (ty := (.array (.object "java/lang/Object"))) (C := RJ2) (T := TJ2) (N := 3) hx hb hts in_J2 tyJ2 tyJ2_ok nmJ2 hown hK hP hD hS 0 rfl rfl 1 (by decide) (hts _ q103) (fun _ h9 => h9) rfl (by decide +kernel) rfl rfl (Nat.le_of_ble_eq_true rfl) dJ2_init_8 (fun H locs hP hD hS => ?_)
  have hP : va_P D oc_cl ([(a, .inr (4, [.int 0, .ref E0, .int n]))] : va_W) H := hP
  have hD : va_D A ([(a, .inr (4, [.int 0, .ref E0, .int n]))] : va_W) := hD
  exact oc_vret hx hb hr hlocks hS dJ2_init_11 (⟨none, rfl, rfl, rfl, rfl, hP, hD⟩)
theorem oc_arec {D : va_G} {cl : List vw_C} {d : Nat → ClassId} {s : State} {H : Heap} {ws : va_W} {q0 ar : Nat} {x : vp_A} (hK : va_K D cl (oc_ty d) s) (hP : va_P D cl ws H) (he : ws[q0]? = some (ar, .inl (d 4, x))) : ∃ cell : Cell, H[ar]? = some cell ∧ cell.vm.isStatics = false ∧ s.vm.findClass "[Ljava/lang/Object;" = some cell.cls := by
  have h1 := (hK.2 4 _ rfl).2
  have h2 : s.vm.findClass "[Ljava/lang/Object;" = some (d 4) := va_nmO h1 (by decide +kernel)
  have h3 : H[ar]? = some (vp_cell (d 4) x) := hP q0 _ he
  rcases x with ⟨n, f | f | f | f | f⟩ <;> exact ⟨_, h3, rfl, h2⟩
theorem oc_Ob.kept {D : va_G} {A : Nat → Prop} {H0 H : Heap} {locs : List Loc} {y : Nat} (h : oc_Ob D H0 y) (hn : ¬ A y) (hS : va_S A H0 H locs) : oc_Ob D H y := by
  obtain ⟨ci, fs, ha⟩ := h
  exact ⟨ci, fs, ha.kept (hS.2.1 y ha.lt hn)⟩
theorem oc_Ob.lt {D : va_G} {H : Heap} {y : Nat} (h : oc_Ob D H y) : y < H.size := by
  obtain ⟨ci, fs, ha⟩ := h
  exact ha.lt
/-- the first n elements are objects, none of them the list or its array -/
def oc_Eo (D : va_G) (H : Heap) (el : Nat → Option Nat) (n : Nat) (ws : va_W) : Prop := ∀ i, i < n → ∀ y, el i = some y → oc_Ob D H y ∧ ∀ x ∈ ws, y ≠ x.1
theorem oc_Eo.sub {D : va_G} {H : Heap} {el : Nat → Option Nat} {n : Nat} {ws wc : va_W} (h : oc_Eo D H el n ws) (is : List Nat) (hs : is.map (fun i => ws[i]?) = wc.map some) : oc_Eo D H el n wc := fun i hi y hy => ⟨(h i hi y hy).1, fun x hx => by
  obtain ⟨k, hk⟩ := oc_mem is hs x hx
  exact (h i hi y hy).2 x (List.mem_of_getElem? hk)⟩
theorem oc_Eo.addr {D : va_G} {H : Heap} {el : Nat → Option Nat} {n : Nat} {ws w2 : va_W} (h : oc_Eo D H el n ws) (e : w2.map Prod.fst = ws.map Prod.fst) : oc_Eo D H el n w2 := fun i hi y hy => ⟨(h i hi y hy).1, fun x hx => by
  have h1 : x.1 ∈ w2.map Prod.fst := List.mem_map_of_mem hx
  rw [e] at h1
  obtain ⟨z, hz, e2⟩ := List.mem_map.mp h1
  rw [← e2]
  exact (h i hi y hy).2 z hz⟩
theorem oc_Ob.nA {D : va_G} {H : Heap} {y : Nat} {ws : va_W} (h : oc_Ob D H y) (hn : ∀ x ∈ ws, y ≠ x.1) : ¬ va_A ws (Array.size H) y := by
  intro hA
  rcases hA with ⟨k, e, hk⟩ | hA
  · exact hn _ (List.mem_of_getElem? hk) rfl
  · exact absurd h.lt (Nat.not_lt.mpr hA)
theorem oc_Eo.nA {D : va_G} {H : Heap} {el : Nat → Option Nat} {n : Nat} {ws : va_W} (h : oc_Eo D H el n ws) : ∀ i, i < n → ∀ y, el i = some y → ¬ va_A ws (Array.size H) y ∧ oc_Ob D H y := fun i hi y hy => ⟨(h i hi y hy).1.nA (h i hi y hy).2, (h i hi y hy).1⟩
theorem oc_Eo.kept {D : va_G} {H H1 : Heap} {el : Nat → Option Nat} {n : Nat} {ws : va_W} {locs : List Loc} (h : oc_Eo D H el n ws) (hS : va_S (va_A ws (Array.size H)) H H1 locs) : oc_Eo D H1 el n ws := fun i hi y hy => ⟨(h i hi y hy).1.kept (h.nA i hi y hy).1 hS, (h i hi y hy).2⟩
set_option maxHeartbeats 4000000 in
set_option maxRecDepth 100000 in
theorem kJ8_copyOf_2 {l : Launch} {s0 : State} {b0 : Addr} {D : va_G} {d : Nat → ClassId} (G : oc_G l s0 b0 D d) {H : Heap} (ar cp nn mi : Nat) (el : Nat → Option Nat) (hcp : cp ≤ nn) (hnn : nn < 2000000) (hM0 : va_Mi "[Ljava/lang/Object;" mi s0) (hP : va_P D oc_cl ([(ar, .inl (d 4, cp, .inr (.inr (.inr (.inr el)))))] : va_W) H) (hD : va_D (va_A ([(ar, .inl (d 4, cp, .inr (.inr (.inr (.inr el)))))] : va_W) (Array.size H)) ([(ar, .inl (d 4, cp, .inr (.inr (.inr (.inr el)))))] : va_W)) (hN0 : ∀ x ∈ ([(ar, .inl (d 4, cp, .inr (.inr (.inr (.inr el)))))] : va_W), s0.heap.size ≤ x.1) (hob : oc_Eo D H el cp [(ar, .inl (d 4, cp, .inr (.inr (.inr (.inr el)))))]) : oc_C l s0 yJ8_copyOf_2 (oc_rm 1 40 1 nn) [.ref ar, .int (nI nn), .ref mi] H (va_A ([(ar, .inl (d 4, cp, .inr (.inr (.inr (.inr el)))))] : va_W) (Array.size H)) (oc_Pr (fun v H1 k n1 => ∃ (q : Nat) (el2 : Nat → Option Nat), v = some (.ref q) ∧ k = 1 ∧ n1 = nn ∧ (∀ i, i < cp → el2 i = el i) ∧ va_P D oc_cl [(ar, .inl (d 4, cp, .inr (.inr (.inr (.inr el))))), (q, .inl (d 4, nn, .inr (.inr (.inr (.inr el2)))))] H1 ∧ va_D (va_A ([(ar, .inl (d 4, cp, .inr (.inr (.inr (.inr el)))))] : va_W) (Array.size H)) [(ar, .inl (d 4, cp, .inr (.inr (.inr (.inr el))))), (q, .inl (d 4, nn, .inr (.inr (.inr (.inr el2)))))])) := by
  refine oc_start G (cc := cJ8_copyOf_2) (L := 4) (ret := (Option.some (Jvm.ClassFile.FieldType.array (Jvm.ClassFile.FieldType.object "java/lang/Object")))) q437 (Nat.le_of_ble_eq_true rfl) ?_
  intro p e s m below meth c ls hx hok hb hml hr hlocks htab hown hts hK hmn hh hl
  subst hh
  have hl : lv_has ls 4 [(0, .ref ar), (1, .int (nI nn)), (2, .ref mi)] := hl
  have hN0 := oc_N0 hok hN0
  have hA : ∀ q, Array.size s.heap ≤ q → (va_A ([(ar, .inl (d 4, cp, .inr (.inr (.inr (.inr el)))))] : va_W) (Array.size s.heap)) q := fun q z => Or.inr z
  have hS : va_S (va_A ([(ar, .inl (d 4, cp, .inr (.inr (.inr (.inr el)))))] : va_W) (Array.size s.heap)) s.heap s.heap [] := va_S.rf
  have hob := hob.nA
  generalize hAe : (va_A ([(ar, .inl (d 4, cp, .inr (.inr (.inr (.inr el)))))] : va_W) (Array.size s.heap)) = A at *
  have hMi := va_Mi.moved hok.1.alike hM0
  refine lv_aload_n hx hb dJ8_copyOf_2_0 rfl (lv_at hl 2 rfl) ?_
  refine va_ldcM (C := "[Ljava/lang/Object;") (mi := mi) hx hb hown (hts _ q438) hMi dJ8_copyOf_2_1 ?_
  refine oc_acmp_ne (x := mi) (y := mi) (tgt := 13) hx hb dJ8_copyOf_2_3 (by decide) (fun c3 => ?_) (fun c3 => ?_)
  ·
    exact absurd rfl c3
  ·
    refine lv_iload_n hx hb dJ8_copyOf_2_6 rfl (lv_at hl 1 rfl) ?_
    refine oc_newq hx hb hown (hts _ q440) (oc_wA G hok q439) hK 4 rfl hP hD hS hA (n := nI nn) (N' := nn) (od_nn (by omega)) (nI_clamp (by omega)) (by omega) (by dsimp only [oc_rm]; omega) (by dsimp only [oc_rm]; omega) dJ8_copyOf_2_7 (fun q_1 H hP hD hS => ?_)
    have hP : va_P D oc_cl ([(ar, .inl (d 4, cp, .inr (.inr (.inr (.inr el))))), (q_1, .inl (d 4, nn, .inr (.inr (.inr (.inr (fun _ => none))))))] : va_W) H := hP
    have hD : va_D A ([(ar, .inl (d 4, cp, .inr (.inr (.inr (.inr el))))), (q_1, .inl (d 4, nn, .inr (.inr (.inr (.inr (fun _ => none))))))] : va_W) := hD
    refine lv_goto (tgt := 24) hx hb dJ8_copyOf_2_10 (by decide) ?_
    refine lv_astore_n (lv' := [(3, .ref q_1), (0, .ref ar), (1, .int (nI nn)), (2, .ref mi)]) hx hb dJ8_copyOf_2_24 rfl hl (by decide) rfl (fun ls hl => ?_)
    refine lv_aload_n hx hb dJ8_copyOf_2_25 rfl (lv_at hl 1 rfl) ?_
    refine lv_iconst (v := 0) hx hb dJ8_copyOf_2_26 (by decide) ?_
    refine lv_aload_n hx hb dJ8_copyOf_2_27 rfl (lv_at hl 0 rfl) ?_
    refine lv_iconst (v := 0) hx hb dJ8_copyOf_2_28 (by decide) ?_
    refine lv_aload_n hx hb dJ8_copyOf_2_29 rfl (lv_at hl 1 rfl) ?_
    refine va_alen (v := nI (cp)) hx hb hK hP 0 4 rfl rfl rfl dJ8_copyOf_2_30 ?_
    refine lv_iload_n hx hb dJ8_copyOf_2_31 rfl (lv_at hl 2 rfl) ?_
    refine oc_callR1 hx hb hml hl.1 ⟨hok, hS, hN0⟩ (oc_iS (As := [.int (nI (cp)), .int (nI nn)]) (rest := [.int 0, .ref q_1, .int 0, .ref ar]) hx hb hown (hts _ q441) (hts _ q442) (hts _ q43) (hts _ q443) ⟨by decide, by decide, (by decide +kernel : (parseMethodDescriptor "(II)I").map (fun d => d.parameters.length) = some 2)⟩ dJ8_copyOf_2_32 rfl) (oc_M.of (by decide +kernel) (hts _ q443)) (kJ7_min G (nI (cp)) (nI nn)) dJ8_copyOf_2_32 (Nat.le_of_ble_eq_true rfl) (Nat.le_of_ble_eq_true rfl) (by dsimp only [oc_rm]; omega) (by dsimp only [oc_rm]; omega) ?_
    refine oc_topi (x := if nI nn < nI (cp) then nI nn else nI (cp)) (y := nI cp) (by rw [if_neg (od_nlt (by omega) (by omega))]) ?_
    refine va_copyM (n := nI cp) hx hb (by rw [hml]; exact hl.1.symm) hown (hts _ q444) (hts _ q446) (hts _ q445) (hts _ q45) hK hP hD hS 0 1 4 4 rfl rfl rfl rfl (by decide) (by decide) (od_nn (by omega)) (by rw [nI_clamp (by omega)]; show 0 + cp ≤ cp; omega) (by rw [nI_clamp (by omega)]; show 0 + cp ≤ nn; omega) (fun i hi y hy => oc_any G hok ((hob i (by rw [nI_clamp (by omega)] at hi; exact hi) y (by rw [← hy]; congr 1; show i = 0 + i; omega)).2.kept (hob i (by rw [nI_clamp (by omega)] at hi; exact hi) y (by rw [← hy]; congr 1; show i = 0 + i; omega)).1 hS)) (Nat.le_of_ble_eq_true rfl) (Nat.le_of_ble_eq_true rfl) dJ8_copyOf_2_35 (fun H locs hP hD hS => ?_)
    have hP : va_P D oc_cl ([(ar, .inl (d 4, cp, .inr (.inr (.inr (.inr el))))), (q_1, .inl (d 4, nn, .inr (.inr (.inr (.inr (va_cpy el (fun _ => none) (Int32.toNatClampNeg 0) (Int32.toNatClampNeg 0) (nI cp).toNatClampNeg))))))] : va_W) H := hP
    have hD : va_D A ([(ar, .inl (d 4, cp, .inr (.inr (.inr (.inr el))))), (q_1, .inl (d 4, nn, .inr (.inr (.inr (.inr (va_cpy el (fun _ => none) (Int32.toNatClampNeg 0) (Int32.toNatClampNeg 0) (nI cp).toNatClampNeg))))))] : va_W) := hD
    refine lv_aload_n hx hb dJ8_copyOf_2_38 rfl (lv_at hl 0 rfl) ?_
    exact oc_aret hx hb hr (Or.inr ⟨_, rfl⟩) (Or.inr ⟨_, rfl⟩) hlocks hS dJ8_copyOf_2_39 (⟨_, rfl, q_1, _, rfl, rfl, by omega, fun i hi => by rw [nI_clamp (by omega)]; exact oc_cpy0 _ _ _ _ hi, hP, hD⟩)
set_option maxHeartbeats 4000000 in
set_option maxRecDepth 100000 in
theorem kJ8_copyOf {l : Launch} {s0 : State} {b0 : Addr} {D : va_G} {d : Nat → ClassId} (G : oc_G l s0 b0 D d) {H : Heap} (ar cp nn mi : Nat) (el : Nat → Option Nat) (hcp : cp ≤ nn) (hnn : nn < 2000000) (hM0 : va_Mi "[Ljava/lang/Object;" mi s0) (hP : va_P D oc_cl ([(ar, .inl (d 4, cp, .inr (.inr (.inr (.inr el)))))] : va_W) H) (hD : va_D (va_A ([(ar, .inl (d 4, cp, .inr (.inr (.inr (.inr el)))))] : va_W) (Array.size H)) ([(ar, .inl (d 4, cp, .inr (.inr (.inr (.inr el)))))] : va_W)) (hN0 : ∀ x ∈ ([(ar, .inl (d 4, cp, .inr (.inr (.inr (.inr el)))))] : va_W), s0.heap.size ≤ x.1) (hob : oc_Eo D H el cp [(ar, .inl (d 4, cp, .inr (.inr (.inr (.inr el)))))]) : oc_C l s0 yJ8_copyOf (oc_rm 2 55 1 nn) [.ref ar, .int (nI nn)] H (va_A ([(ar, .inl (d 4, cp, .inr (.inr (.inr (.inr el)))))] : va_W) (Array.size H)) (oc_Pr (fun v H1 k n1 => ∃ (q : Nat) (el2 : Nat → Option Nat), v = some (.ref q) ∧ k = 1 ∧ n1 = nn ∧ (∀ i, i < cp → el2 i = el i) ∧ va_P D oc_cl [(ar, .inl (d 4, cp, .inr (.inr (.inr (.inr el))))), (q, .inl (d 4, nn, .inr (.inr (.inr (.inr el2)))))] H1 ∧ va_D (va_A ([(ar, .inl (d 4, cp, .inr (.inr (.inr (.inr el)))))] : va_W) (Array.size H)) [(ar, .inl (d 4, cp, .inr (.inr (.inr (.inr el))))), (q, .inl (d 4, nn, .inr (.inr (.inr (.inr el2)))))])) := by
  refine oc_start G (cc := cJ8_copyOf) (L := 2) (ret := (Option.some (Jvm.ClassFile.FieldType.array (Jvm.ClassFile.FieldType.object "java/lang/Object")))) q412 (Nat.le_of_ble_eq_true rfl) ?_
  intro p e s m below meth c ls hx hok hb hml hr hlocks htab hown hts hK hmn hh hl
  subst hh
  have hl : lv_has ls 2 [(0, .ref ar), (1, .int (nI nn))] := hl
  have hN0 := oc_N0 hok hN0
  have hA : ∀ q, Array.size s.heap ≤ q → (va_A ([(ar, .inl (d 4, cp, .inr (.inr (.inr (.inr el)))))] : va_W) (Array.size s.heap)) q := fun q z => Or.inr z
  have hS : va_S (va_A ([(ar, .inl (d 4, cp, .inr (.inr (.inr (.inr el)))))] : va_W) (Array.size s.heap)) s.heap s.heap [] := va_S.rf
  generalize hAe : (va_A ([(ar, .inl (d 4, cp, .inr (.inr (.inr (.inr el)))))] : va_W) (Array.size s.heap)) = A at *
  have hMi := va_Mi.moved hok.1.alike hM0
  have hobE := hob
  refine lv_aload_n hx hb dJ8_copyOf_0 rfl (lv_at hl 0 rfl) ?_
  refine lv_iload_n hx hb dJ8_copyOf_1 rfl (lv_at hl 1 rfl) ?_
  refine lv_aload_n hx hb dJ8_copyOf_2 rfl (lv_at hl 0 rfl) ?_
  refine va_getC (C := "[Ljava/lang/Object;") (mi := mi) hx hb (by rw [hml]; exact hl.1.symm) hown (hts _ q413) (va_Nw.use rfl (oc_wD G hok q1024)) (hts _ q1023) (hts _ q414) (hts _ q434) hMi (oc_arec hK hP (q0 := 0) rfl) (Nat.le_of_ble_eq_true rfl) (Nat.le_of_ble_eq_true rfl) dJ8_copyOf_3 ?_
  have hF_ : ∀ q, va_A ([(ar, .inl (d 4, cp, .inr (.inr (.inr (.inr el)))))] : va_W) (Array.size s.heap) q → A q := va_free hD hS hA [0] rfl
  refine oc_callP (A1 := va_A ([(ar, .inl (d 4, cp, .inr (.inr (.inr (.inr el)))))] : va_W) (Array.size s.heap)) hx hb hml hl.1 ⟨hok, hS, hN0⟩ (oc_iS (As := [.ref ar, .int (nI nn), .ref mi]) (rest := []) hx hb hown (hts _ q435) (hts _ q436) (hts _ q44) (hts _ q437) ⟨by decide, by decide, (by decide +kernel : (parseMethodDescriptor "([Ljava/lang/Object;ILjava/lang/Class;)[Ljava/lang/Object;").map (fun d => d.parameters.length) = some 3)⟩ dJ8_copyOf_6 rfl) (oc_M.of (by decide +kernel) (hts _ q437)) (kJ8_copyOf_2 G ar cp nn mi el (by omega) (by omega) hM0 (hP.sub [0] rfl) ((hD.sub [0] rfl rfl).self) (oc_N1 hD hN0 [0] rfl) hobE) hF_ dJ8_copyOf_6 (Nat.le_of_ble_eq_true rfl) (Nat.le_of_ble_eq_true rfl) (by dsimp only [oc_rm]; omega) (by dsimp only [oc_rm]; omega) (fun v_ H locs k_ n_ hp_ hz_ hk_ hS => ?_)
  obtain ⟨q_9, el2, rfl, hk9, hn9, hel2, hP1, hD1⟩ := hp_
  subst k_; subst n_
  obtain ⟨hP, hD⟩ := va_join (w1 := ([(ar, .inl (d 4, cp, .inr (.inr (.inr (.inr el))))), (q_9, .inl (d 4, nn, .inr (.inr (.inr (.inr el2)))))] : va_W)) (wr := ([] : va_W)) hP hD [0] [] rfl rfl rfl (by decide) hk_ hF_ hP1 hD1
  have hP : va_P D oc_cl ([(ar, .inl (d 4, cp, .inr (.inr (.inr (.inr el))))), (q_9, .inl (d 4, nn, .inr (.inr (.inr (.inr el2)))))] : va_W) H := hP
  have hD : va_D A ([(ar, .inl (d 4, cp, .inr (.inr (.inr (.inr el))))), (q_9, .inl (d 4, nn, .inr (.inr (.inr (.inr el2)))))] : va_W) := hD
  refine W.eq (g2 := F0 m 9 ls [.ref q_9]) rfl ?_
  exact oc_aret hx hb hr (Or.inr ⟨_, rfl⟩) (Or.inr ⟨_, rfl⟩) hlocks hS dJ8_copyOf_9 (⟨_, rfl, q_9, el2, rfl, by omega, by omega, hel2, hP, hD⟩)
set_option maxHeartbeats 4000000 in
set_option maxRecDepth 100000 in
theorem kJ2_grow2A {l : Launch} {s0 : State} {b0 : Addr} {D : va_G} {d : Nat → ClassId} (G : oc_G l s0 b0 D d) {H : Heap} (a : Nat) (mc : Int32) (E0 : Nat) (hP : va_P D oc_cl ([(a, .inr (4, [.int mc, .ref E0, .int 0]))] : va_W) H) (hD : va_D (va_A ([(a, .inr (4, [.int mc, .ref E0, .int 0]))] : va_W) (Array.size H)) ([(a, .inr (4, [.int mc, .ref E0, .int 0]))] : va_W)) (hN0 : ∀ x ∈ ([(a, .inr (4, [.int mc, .ref E0, .int 0]))] : va_W), s0.heap.size ≤ x.1) (hE : oc_E s0 E0) : oc_C l s0 yJ2_grow_2 (oc_rm 1 14 1 10) [.ref a, .int 1] H (va_A ([(a, .inr (4, [.int mc, .ref E0, .int 0]))] : va_W) (Array.size H)) (oc_Pr (fun v H1 k n1 => ∃ q : Nat, v = some (.ref q) ∧ k = 1 ∧ n1 = 10 ∧ va_P D oc_cl [(a, .inr (4, [.int mc, .ref q, .int 0])), (q, .inl (d 4, 10, .inr (.inr (.inr (.inr (fun _ => none))))))] H1 ∧ va_D (va_A ([(a, .inr (4, [.int mc, .ref E0, .int 0]))] : va_W) (Array.size H)) [(a, .inr (4, [.int mc, .ref q, .int 0])), (q, .inl (d 4, 10, .inr (.inr (.inr (.inr (fun _ => none))))))])) := by
  refine oc_start G (cc := cJ2_grow_2) (L := 4) (ret := (Option.some (Jvm.ClassFile.FieldType.array (Jvm.ClassFile.FieldType.object "java/lang/Object")))) q399 (Nat.le_of_ble_eq_true rfl) ?_
  intro p e s m below meth c ls hx hok hb hml hr hlocks htab hown hts hK hmn hh hl
  subst hh
  have hl : lv_has ls 4 [(0, .ref a), (1, .int 1)] := hl
  have hN0 := oc_N0 hok hN0
  have hA : ∀ q, Array.size s.heap ≤ q → (va_A ([(a, .inr (4, [.int mc, .ref E0, .int 0]))] : va_W) (Array.size s.heap)) q := fun q z => Or.inr z
  have hS : va_S (va_A ([(a, .inr (4, [.int mc, .ref E0, .int 0]))] : va_W) (Array.size s.heap)) s.heap s.heap [] := va_S.rf
  generalize hAe : (va_A ([(a, .inr (4, [.int mc, .ref E0, .int 0]))] : va_W) (Array.size s.heap)) = A at *
  refine lv_aload_n hx hb dJ2_grow_2_0 rfl (lv_at hl 0 rfl) ?_
  refine va_get (D := D) (ci := 4) (v := .ref E0) (C := RJ2) (T := TJ2) (N := 3) hx hb hts in_J2 hown hK hP 0 rfl rfl 1 (by decide) (hts _ q103) (fun _ h9 => h9) rfl dJ2_grow_2_1 ?_
  refine va_tlen (v := 0) hx hb (oc_E.t hE hok hN0) hS rfl dJ2_grow_2_4 ?_
  refine lv_istore_n (lv' := [(2, .int 0), (0, .ref a), (1, .int 1)]) hx hb dJ2_grow_2_5 rfl hl (by decide) rfl (fun ls hl => ?_)
  refine lv_iload_n hx hb dJ2_grow_2_6 rfl (lv_at hl 0 rfl) ?_
  refine lv_if_gt (x := 0) (tgt := 20) hx hb dJ2_grow_2_7 (by decide) (fun c7 => ?_) (fun c7 => ?_)
  · exact absurd c7 (by decide)
  · -- not taken
    refine lv_aload_n hx hb dJ2_grow_2_10 rfl (lv_at hl 1 rfl) ?_
    refine va_get (D := D) (ci := 4) (v := .ref E0) (C := RJ2) (T := TJ2) (N := 3) hx hb hts in_J2 hown hK hP 0 rfl rfl 1 (by decide) (hts _ q103) (fun _ h9 => h9) rfl dJ2_grow_2_11 ?_
    refine va_gets hx hb (oc_E.z hE hok hN0) hS hown (hts _ q101) (fun _ h9 => h9) dJ2_grow_2_14 ?_
    refine oc_acmp_eq (x := E0) (y := E0) (tgt := 45) hx hb dJ2_grow_2_17 (by decide) (fun c17 => ?_) (fun c17 => ?_)
    ·
      refine lv_aload_n hx hb dJ2_grow_2_45 rfl (lv_at hl 1 rfl) ?_
      refine lv_bipush (v := 10) hx hb dJ2_grow_2_46 (by decide) ?_
      refine lv_iload_n hx hb dJ2_grow_2_48 rfl (lv_at hl 2 rfl) ?_
      refine oc_callR1 hx hb hml hl.1 ⟨hok, hS, hN0⟩ (oc_iS (As := [.int 10, .int 1]) (rest := [.ref a]) hx hb hown (hts _ q447) (hts _ q404) (hts _ q43) (hts _ q405) ⟨by decide, by decide, (by decide +kernel : (parseMethodDescriptor "(II)I").map (fun d => d.parameters.length) = some 2)⟩ dJ2_grow_2_49 rfl) (oc_M.of (by decide +kernel) (hts _ q405)) (kJ7_max G 10 1) dJ2_grow_2_49 (Nat.le_of_ble_eq_true rfl) (Nat.le_of_ble_eq_true rfl) (by dsimp only [oc_rm]; omega) (by dsimp only [oc_rm]; omega) ?_
      refine oc_topi (x := if 10 < 1 then 1 else 10) (y := 10) rfl ?_
      refine oc_newq hx hb hown (hts _ q448) (oc_wA G hok q439) hK 4 rfl hP hD hS hA (n := 10) (N' := 10) (by decide) rfl (by decide) (by dsimp only [oc_rm]; omega) (by dsimp only [oc_rm]; omega) dJ2_grow_2_52 (fun q_1 H hP hD hS => ?_)
      have hP : va_P D oc_cl ([(a, .inr (4, [.int mc, .ref E0, .int 0])), (q_1, .inl (d 4, 10, .inr (.inr (.inr (.inr (fun _ => none))))))] : va_W) H := hP
      have hD : va_D A ([(a, .inr (4, [.int mc, .ref E0, .int 0])), (q_1, .inl (d 4, 10, .inr (.inr (.inr (.inr (fun _ => none))))))] : va_W) := hD
      refine lv_dup_x1 hx hb dJ2_grow_2_55 rfl rfl ?_
      refine va_put (D := D) (ci := 4) (v := .ref q_1) (ty := (.array (.object "java/lang/Object"))) (C := RJ2) (T := TJ2) (N := 3) hx hb hts in_J2 tyJ2 tyJ2_ok nmJ2 hown hK hP hD hS 0 rfl rfl 1 (by decide) (hts _ q103) (fun _ h9 => h9) rfl (by decide +kernel) rfl rfl (Nat.le_of_ble_eq_true rfl) dJ2_grow_2_56 (fun H locs hP hD hS => ?_)
      have hP : va_P D oc_cl ([(a, .inr (4, [.int mc, .ref q_1, .int 0])), (q_1, .inl (d 4, 10, .inr (.inr (.inr (.inr (fun _ => none))))))] : va_W) H := hP
      have hD : va_D A ([(a, .inr (4, [.int mc, .ref q_1, .int 0])), (q_1, .inl (d 4, 10, .inr (.inr (.inr (.inr (fun _ => none))))))] : va_W) := hD
      exact oc_aret hx hb hr (Or.inr ⟨_, rfl⟩) (Or.inr ⟨_, rfl⟩) hlocks hS dJ2_grow_2_59 (⟨_, rfl, q_1, rfl, rfl, rfl, hP, hD⟩)
    ·
      exact absurd rfl c17
set_option maxHeartbeats 4000000 in
set_option maxRecDepth 100000 in
theorem kJ2_growA {l : Launch} {s0 : State} {b0 : Addr} {D : va_G} {d : Nat → ClassId} (G : oc_G l s0 b0 D d) {H : Heap} (a : Nat) (mc : Int32) (E0 : Nat) (hP : va_P D oc_cl ([(a, .inr (4, [.int mc, .ref E0, .int 0]))] : va_W) H) (hD : va_D (va_A ([(a, .inr (4, [.int mc, .ref E0, .int 0]))] : va_W) (Array.size H)) ([(a, .inr (4, [.int mc, .ref E0, .int 0]))] : va_W)) (hN0 : ∀ x ∈ ([(a, .inr (4, [.int mc, .ref E0, .int 0]))] : va_W), s0.heap.size ≤ x.1) (hE : oc_E s0 E0) : oc_C l s0 yJ2_grow (oc_rm 2 29 1 10) [.ref a] H (va_A ([(a, .inr (4, [.int mc, .ref E0, .int 0]))] : va_W) (Array.size H)) (oc_Pr (fun v H1 k n1 => ∃ q : Nat, v = some (.ref q) ∧ k = 1 ∧ n1 = 10 ∧ va_P D oc_cl [(a, .inr (4, [.int mc, .ref q, .int 0])), (q, .inl (d 4, 10, .inr (.inr (.inr (.inr (fun _ => none))))))] H1 ∧ va_D (va_A ([(a, .inr (4, [.int mc, .ref E0, .int 0]))] : va_W) (Array.size H)) [(a, .inr (4, [.int mc, .ref q, .int 0])), (q, .inl (d 4, 10, .inr (.inr (.inr (.inr (fun _ => none))))))])) := by
  refine oc_start G (cc := cJ2_grow) (L := 1) (ret := (Option.some (Jvm.ClassFile.FieldType.array (Jvm.ClassFile.FieldType.object "java/lang/Object")))) q395 (Nat.le_of_ble_eq_true rfl) ?_
  intro p e s m below meth c ls hx hok hb hml hr hlocks htab hown hts hK hmn hh hl
  subst hh
  have hl : lv_has ls 1 [(0, .ref a)] := hl
  have hN0 := oc_N0 hok hN0
  have hA : ∀ q, Array.size s.heap ≤ q → (va_A ([(a, .inr (4, [.int mc, .ref E0, .int 0]))] : va_W) (Array.size s.heap)) q := fun q z => Or.inr z
  have hS : va_S (va_A ([(a, .inr (4, [.int mc, .ref E0, .int 0]))] : va_W) (Array.size s.heap)) s.heap s.heap [] := va_S.rf
  generalize hAe : (va_A ([(a, .inr (4, [.int mc, .ref E0, .int 0]))] : va_W) (Array.size s.heap)) = A at *
  refine lv_aload_n hx hb dJ2_grow_0 rfl (lv_at hl 0 rfl) ?_
  refine lv_aload_n hx hb dJ2_grow_1 rfl (lv_at hl 0 rfl) ?_
  refine va_get (D := D) (ci := 4) (v := .int 0) (C := RJ2) (T := TJ2) (N := 3) hx hb hts in_J2 hown hK hP 0 rfl rfl 2 (by decide) (hts _ q104) (fun _ h9 => h9) rfl dJ2_grow_2 ?_
  refine lv_iconst (v := 1) hx hb dJ2_grow_5 (by decide) ?_
  refine lv_iadd hx hb dJ2_grow_6 ?_
  refine oc_topi (x := 0 + 1) (y := 1) rfl ?_
  have hF_ : ∀ q, va_A ([(a, .inr (4, [.int mc, .ref E0, .int 0]))] : va_W) (Array.size s.heap) q → A q := va_free hD hS hA [0] rfl
  refine oc_callP (A1 := va_A ([(a, .inr (4, [.int mc, .ref E0, .int 0]))] : va_W) (Array.size s.heap)) hx hb hml hl.1 ⟨hok, hS, hN0⟩ (oc_iV (As := [.int 1]) (rest := []) hx hb hown (hts _ q396) (hts _ q398) (hts _ qs10) (oc_Sig.of (hts _ q399) (by decide +kernel : (parseMethodDescriptor "(I)[Ljava/lang/Object;").map (fun d => d.parameters.length) = some 1)) (va_recv hK hP (ci := 4) (q0 := 0) rfl rfl) ⟨by decide, by decide⟩ dJ2_grow_7 rfl) (oc_M.of (by decide +kernel) (hts _ q399)) (kJ2_grow2A G a mc E0 (hP.sub [0] rfl) ((hD.sub [0] rfl rfl).self) (oc_N1 hD hN0 [0] rfl) hE) hF_ dJ2_grow_7 (Nat.le_of_ble_eq_true rfl) (Nat.le_of_ble_eq_true rfl) (by dsimp only [oc_rm]; omega) (by dsimp only [oc_rm]; omega) (fun v_ H locs k_ n_ hp_ hz_ hk_ hS => ?_)
  obtain ⟨q_9, rfl, hk9, hn9, hP1, hD1⟩ := hp_
  subst k_; subst n_
  obtain ⟨hP, hD⟩ := va_join (w1 := ([(a, .inr (4, [.int mc, .ref q_9, .int 0])), (q_9, .inl (d 4, 10, .inr (.inr (.inr (.inr (fun _ => none))))))] : va_W)) (wr := ([] : va_W)) hP hD [0] [] rfl rfl rfl (by decide) hk_ hF_ hP1 hD1
  have hP : va_P D oc_cl ([(a, .inr (4, [.int mc, .ref q_9, .int 0])), (q_9, .inl (d 4, 10, .inr (.inr (.inr (.inr (fun _ => none))))))] : va_W) H := hP
  have hD : va_D A ([(a, .inr (4, [.int mc, .ref q_9, .int 0])), (q_9, .inl (d 4, 10, .inr (.inr (.inr (.inr (fun _ => none))))))] : va_W) := hD
  refine W.eq (g2 := F0 m 10 ls [.ref q_9]) rfl ?_
  exact oc_aret hx hb hr (Or.inr ⟨_, rfl⟩) (Or.inr ⟨_, rfl⟩) hlocks hS dJ2_grow_10 (⟨_, rfl, q_9, rfl, by omega, by omega, hP, hD⟩)
set_option maxHeartbeats 4000000 in
set_option maxRecDepth 100000 in
theorem kJ2_add2A {l : Launch} {s0 : State} {b0 : Addr} {D : va_G} {d : Nat → ClassId} (G : oc_G l s0 b0 D d) {H : Heap} (a : Nat) (mc : Int32) (E0 x : Nat) (hP : va_P D oc_cl ([(a, .inr (4, [.int mc, .ref E0, .int 0]))] : va_W) H) (hD : va_D (va_A ([(a, .inr (4, [.int mc, .ref E0, .int 0]))] : va_W) (Array.size H)) ([(a, .inr (4, [.int mc, .ref E0, .int 0]))] : va_W)) (hN0 : ∀ x ∈ ([(a, .inr (4, [.int mc, .ref E0, .int 0]))] : va_W), s0.heap.size ≤ x.1) (hE : oc_E s0 E0) (hxo : oc_Ob D H x) (hxa : x ≠ a) : oc_C l s0 yJ2_add_2 (oc_rm 3 41 1 10) [.ref a, .ref x, .ref E0, .int 0] H (va_A ([(a, .inr (4, [.int mc, .ref E0, .int 0]))] : va_W) (Array.size H)) (oc_Pr (fun v H1 k n1 => ∃ (q cp2 : Nat) (el2 : Nat → Option Nat), v = none ∧ k = 1 ∧ n1 = 10 ∧ (cp2 = 10) ∧ el2 0 = some x ∧ va_P D oc_cl [(a, .inr (4, [.int mc, .ref q, .int (nI 1)])), (q, .inl (d 4, cp2, .inr (.inr (.inr (.inr el2)))))] H1 ∧ va_D (va_A ([(a, .inr (4, [.int mc, .ref E0, .int 0]))] : va_W) (Array.size H)) [(a, .inr (4, [.int mc, .ref q, .int (nI 1)])), (q, .inl (d 4, cp2, .inr (.inr (.inr (.inr el2)))))])) := by
  refine oc_start G (cc := cJ2_add_2) (L := 4) (ret := (Option.none : Option Jvm.ClassFile.FieldType)) q391 (Nat.le_of_ble_eq_true rfl) ?_
  intro p e s m below meth c ls hx hok hb hml hr hlocks htab hown hts hK hmn hh hl
  subst hh
  have hl : lv_has ls 4 [(0, .ref a), (1, .ref x), (2, .ref E0), (3, .int 0)] := hl
  have hN0 := oc_N0 hok hN0
  have hA : ∀ q, Array.size s.heap ≤ q → (va_A ([(a, .inr (4, [.int mc, .ref E0, .int 0]))] : va_W) (Array.size s.heap)) q := fun q z => Or.inr z
  have hS : va_S (va_A ([(a, .inr (4, [.int mc, .ref E0, .int 0]))] : va_W) (Array.size s.heap)) s.heap s.heap [] := va_S.rf
  have hxn := hxo.nA (ws := ([(a, .inr (4, [.int mc, .ref E0, .int 0]))] : va_W)) (fun z hz => by simp at hz; subst hz; exact hxa)
  generalize hAe : (va_A ([(a, .inr (4, [.int mc, .ref E0, .int 0]))] : va_W) (Array.size s.heap)) = A at *
  refine lv_iload_n hx hb dJ2_add_2_0 rfl (lv_at hl 3 rfl) ?_
  refine lv_aload_n hx hb dJ2_add_2_1 rfl (lv_at hl 2 rfl) ?_
  refine va_tlen (v := 0) hx hb (oc_E.t hE hok hN0) hS rfl dJ2_add_2_2 ?_
  refine lv_icmp_ne (x := 0) (y := 0) (tgt := 11) hx hb dJ2_add_2_3 (by decide) (fun c3 => ?_) (fun c3 => ?_)
  · exact absurd c3 (by decide)
  · -- not taken
    refine lv_aload_n hx hb dJ2_add_2_6 rfl (lv_at hl 0 rfl) ?_
    have hF_ : ∀ q, va_A ([(a, .inr (4, [.int mc, .ref E0, .int 0]))] : va_W) (Array.size s.heap) q → A q := va_free hD hS hA [0] rfl
    refine oc_callP (A1 := va_A ([(a, .inr (4, [.int mc, .ref E0, .int 0]))] : va_W) (Array.size s.heap)) hx hb hml hl.1 ⟨hok, hS, hN0⟩ (oc_iV (As := []) (rest := []) hx hb hown (hts _ q392) (hts _ q394) (hts _ qs9) (oc_Sig.of (hts _ q395) (by decide +kernel : (parseMethodDescriptor "()[Ljava/lang/Object;").map (fun d => d.parameters.length) = some 0)) (va_recv hK hP (ci := 4) (q0 := 0) rfl rfl) ⟨by decide, by decide⟩ dJ2_add_2_7 rfl) (oc_M.of (by decide +kernel) (hts _ q395)) (kJ2_growA G a mc E0 (hP.sub [0] rfl) ((hD.sub [0] rfl rfl).self) (oc_N1 hD hN0 [0] rfl) hE) hF_ dJ2_add_2_7 (Nat.le_of_ble_eq_true rfl) (Nat.le_of_ble_eq_true rfl) (by dsimp only [oc_rm]; omega) (by dsimp only [oc_rm]; omega) (fun v_ H locs k_ n_ hp_ hz_ hk_ hS => ?_)
    obtain ⟨q_9, rfl, hk9, hn9, hP1, hD1⟩ := hp_
    subst k_; subst n_
    obtain ⟨hP, hD⟩ := va_join (w1 := ([(a, .inr (4, [.int mc, .ref q_9, .int 0])), (q_9, .inl (d 4, 10, .inr (.inr (.inr (.inr (fun _ => none))))))] : va_W)) (wr := ([] : va_W)) hP hD [0] [] rfl rfl rfl (by decide) hk_ hF_ hP1 hD1
    have hP : va_P D oc_cl ([(a, .inr (4, [.int mc, .ref q_9, .int 0])), (q_9, .inl (d 4, 10, .inr (.inr (.inr (.inr (fun _ => none))))))] : va_W) H := hP
    have hD : va_D A ([(a, .inr (4, [.int mc, .ref q_9, .int 0])), (q_9, .inl (d 4, 10, .inr (.inr (.inr (.inr (fun _ => none))))))] : va_W) := hD
    refine W.eq (g2 := F0 m 10 ls [.ref q_9]) rfl ?_
    refine lv_astore_n (lv' := [(2, .ref q_9), (0, .ref a), (1, .ref x), (3, .int 0)]) hx hb dJ2_add_2_10 rfl hl (by decide) rfl (fun ls hl => ?_)
    refine lv_aload_n hx hb dJ2_add_2_11 rfl (lv_at hl 0 rfl) ?_
    refine lv_iload_n hx hb dJ2_add_2_12 rfl (lv_at hl 3 rfl) ?_
    refine lv_aload_n hx hb dJ2_add_2_13 rfl (lv_at hl 2 rfl) ?_
    refine oc_aast hx hb hK hP hD hS 1 4 rfl rfl (oc_any G hok (hxo.kept hxn hS)) 0 rfl (by decide) (by omega) dJ2_add_2_14 (fun H locs hP hD hS => ?_)
    have hP : va_P D oc_cl ([(a, .inr (4, [.int mc, .ref q_9, .int 0])), (q_9, .inl (d 4, 10, .inr (.inr (.inr (.inr (va_up (fun _ => none) 0 (some x)))))))] : va_W) H := hP
    have hD : va_D A ([(a, .inr (4, [.int mc, .ref q_9, .int 0])), (q_9, .inl (d 4, 10, .inr (.inr (.inr (.inr (va_up (fun _ => none) 0 (some x)))))))] : va_W) := hD
    refine lv_aload_n hx hb dJ2_add_2_15 rfl (lv_at hl 1 rfl) ?_
    refine lv_iload_n hx hb dJ2_add_2_16 rfl (lv_at hl 3 rfl) ?_
    refine lv_iconst (v := 1) hx hb dJ2_add_2_17 (by decide) ?_
    refine lv_iadd hx hb dJ2_add_2_18 ?_
    refine va_put (D := D) (ci := 4) (v := .int (0 + 1)) (ty := .int) (C := RJ2) (T := TJ2) (N := 3) hx hb hts in_J2 tyJ2 tyJ2_ok nmJ2 hown hK hP hD hS 0 rfl rfl 2 (by decide) (hts _ q104) (fun _ h9 => h9) rfl (by decide +kernel) rfl rfl (Nat.le_of_ble_eq_true rfl) dJ2_add_2_19 (fun H locs hP hD hS => ?_)
    have hP : va_P D oc_cl ([(a, .inr (4, [.int mc, .ref q_9, .int (0 + 1)])), (q_9, .inl (d 4, 10, .inr (.inr (.inr (.inr (va_up (fun _ => none) 0 (some x)))))))] : va_W) H := hP
    have hD : va_D A ([(a, .inr (4, [.int mc, .ref q_9, .int (0 + 1)])), (q_9, .inl (d 4, 10, .inr (.inr (.inr (.inr (va_up (fun _ => none) 0 (some x)))))))] : va_W) := hD
    exact oc_vret hx hb hr hlocks hS dJ2_add_2_22 (⟨_, rfl, q_9, 10, _, rfl, by omega, by omega, rfl, by simp [va_up], hP, hD⟩)
set_option maxHeartbeats 4000000 in
set_option maxRecDepth 100000 in
theorem kJ2_addA {l : Launch} {s0 : State} {b0 : Addr} {D : va_G} {d : Nat → ClassId} (G : oc_G l s0 b0 D d) {H : Heap} (a : Nat) (mc : Int32) (E0 x : Nat) (hP : va_P D oc_cl ([(a, .inr (4, [.int mc, .ref E0, .int 0]))] : va_W) H) (hD : va_D (va_A ([(a, .inr (4, [.int mc, .ref E0, .int 0]))] : va_W) (Array.size H)) ([(a, .inr (4, [.int mc, .ref E0, .int 0]))] : va_W)) (hN0 : ∀ x ∈ ([(a, .inr (4, [.int mc, .ref E0, .int 0]))] : va_W), s0.heap.size ≤ x.1) (hE : oc_E s0 E0) (hxo : oc_Ob D H x) (hxa : x ≠ a) : oc_C l s0 yJ2_add (oc_rm 4 56 1 10) [.ref a, .ref x] H (va_A ([(a, .inr (4, [.int mc, .ref E0, .int 0]))] : va_W) (Array.size H)) (oc_Pr (fun v H1 k n1 => ∃ (q cp2 : Nat) (el2 : Nat → Option Nat), v = some (.int 1) ∧ k = 1 ∧ n1 = 10 ∧ (cp2 = 10) ∧ el2 0 = some x ∧ va_P D oc_cl [(a, .inr (4, [.int (mc + 1), .ref q, .int (nI 1)])), (q, .inl (d 4, cp2, .inr (.inr (.inr (.inr el2)))))] H1 ∧ va_D (va_A ([(a, .inr (4, [.int mc, .ref E0, .int 0]))] : va_W) (Array.size H)) [(a, .inr (4, [.int (mc + 1), .ref q, .int (nI 1)])), (q, .inl (d 4, cp2, .inr (.inr (.inr (.inr el2)))))])) := by
  refine oc_start G (cc := cJ2_add) (L := 2) (ret := (Option.some Jvm.ClassFile.FieldType.boolean)) q387 (Nat.le_of_ble_eq_true rfl) ?_
  intro p e s m below meth c ls hx hok hb hml hr hlocks htab hown hts hK hmn hh hl
  subst hh
  have hl : lv_has ls 2 [(0, .ref a), (1, .ref x)] := hl
  have hN0 := oc_N0 hok hN0
  have hA : ∀ q, Array.size s.heap ≤ q → (va_A ([(a, .inr (4, [.int mc, .ref E0, .int 0]))] : va_W) (Array.size s.heap)) q := fun q z => Or.inr z
  have hS : va_S (va_A ([(a, .inr (4, [.int mc, .ref E0, .int 0]))] : va_W) (Array.size s.heap)) s.heap s.heap [] := va_S.rf
  have hxn := hxo.nA (ws := ([(a, .inr (4, [.int mc, .ref E0, .int 0]))] : va_W)) (fun z hz => by simp at hz; subst hz; exact hxa)
  generalize hAe : (va_A ([(a, .inr (4, [.int mc, .ref E0, .int 0]))] : va_W) (Array.size s.heap)) = A at *
  refine lv_aload_n hx hb dJ2_add_0 rfl (lv_at hl 0 rfl) ?_
  refine lv_dup hx hb dJ2_add_1 rfl ?_
  refine va_get (D := D) (ci := 4) (v := .int mc) (C := RJ2) (T := TJ2) (N := 3) hx hb hts in_J2 hown hK hP 0 rfl rfl 0 (by decide) (hts _ q106) (u_same (hts _ q107)) rfl dJ2_add_2 ?_
  refine lv_iconst (v := 1) hx hb dJ2_add_5 (by decide) ?_
  refine lv_iadd hx hb dJ2_add_6 ?_
  refine va_put (D := D) (ci := 4) (v := .int (mc + 1)) (ty := .int) (C := RJ2) (T := TJ2) (N := 3) hx hb hts in_J2 tyJ2 tyJ2_ok nmJ2 hown hK hP hD hS 0 rfl rfl 0 (by decide) (hts _ q106) (u_same (hts _ q107)) rfl (by decide +kernel) rfl rfl (Nat.le_of_ble_eq_true rfl) dJ2_add_7 (fun H locs hP hD hS => ?_)
  have hP : va_P D oc_cl ([(a, .inr (4, [.int (mc + 1), .ref E0, .int 0]))] : va_W) H := hP
  have hD : va_D A ([(a, .inr (4, [.int (mc + 1), .ref E0, .int 0]))] : va_W) := hD
  refine lv_aload_n hx hb dJ2_add_10 rfl (lv_at hl 0 rfl) ?_
  refine lv_aload_n hx hb dJ2_add_11 rfl (lv_at hl 1 rfl) ?_
  refine lv_aload_n hx hb dJ2_add_12 rfl (lv_at hl 0 rfl) ?_
  refine va_get (D := D) (ci := 4) (v := .ref E0) (C := RJ2) (T := TJ2) (N := 3) hx hb hts in_J2 hown hK hP 0 rfl rfl 1 (by decide) (hts _ q103) (fun _ h9 => h9) rfl dJ2_add_13 ?_
  refine lv_aload_n hx hb dJ2_add_16 rfl (lv_at hl 0 rfl) ?_
  refine va_get (D := D) (ci := 4) (v := .int 0) (C := RJ2) (T := TJ2) (N := 3) hx hb hts in_J2 hown hK hP 0 rfl rfl 2 (by decide) (hts _ q104) (fun _ h9 => h9) rfl dJ2_add_17 ?_
  have hF_ : ∀ q, va_A ([(a, .inr (4, [.int (mc + 1), .ref E0, .int 0]))] : va_W) (Array.size H) q → A q := va_free hD hS hA [0] rfl
  refine oc_callP (A1 := va_A ([(a, .inr (4, [.int (mc + 1), .ref E0, .int 0]))] : va_W) (Array.size H)) hx hb hml hl.1 ⟨hok, hS, hN0⟩ (oc_iV (As := [.ref x, .ref E0, .int 0]) (rest := []) hx hb hown (hts _ q388) (hts _ q390) (hts _ qs8) (oc_Sig.of (hts _ q391) (by decide +kernel : (parseMethodDescriptor "(Ljava/lang/Object;[Ljava/lang/Object;I)V").map (fun d => d.parameters.length) = some 3)) (va_recv hK hP (ci := 4) (q0 := 0) rfl rfl) ⟨by decide, by decide⟩ dJ2_add_20 rfl) (oc_M.of (by decide +kernel) (hts _ q391)) (kJ2_add2A G a (mc + 1) E0 x (hP.sub [0] rfl) ((hD.sub [0] rfl rfl).self) (oc_N1 hD hN0 [0] rfl) hE (hxo.kept hxn hS) hxa) hF_ dJ2_add_20 (Nat.le_of_ble_eq_true rfl) (Nat.le_of_ble_eq_true rfl) (by dsimp only [oc_rm]; omega) (by dsimp only [oc_rm]; omega) (fun v_ H locs k_ n_ hp_ hz_ hk_ hS => ?_)
  obtain ⟨q_9, cp2, el2, rfl, hk9, hn9, hcp2, hel2, hP1, hD1⟩ := hp_
  subst k_; subst n_
  obtain ⟨hP, hD⟩ := va_join (w1 := ([(a, .inr (4, [.int (mc + 1), .ref q_9, .int (nI 1)])), (q_9, .inl (d 4, cp2, .inr (.inr (.inr (.inr el2)))))] : va_W)) (wr := ([] : va_W)) hP hD [0] [] rfl rfl rfl (by decide) hk_ hF_ hP1 hD1
  have hP : va_P D oc_cl ([(a, .inr (4, [.int (mc + 1), .ref q_9, .int (nI 1)])), (q_9, .inl (d 4, cp2, .inr (.inr (.inr (.inr el2)))))] : va_W) H := hP
  have hD : va_D A ([(a, .inr (4, [.int (mc + 1), .ref q_9, .int (nI 1)])), (q_9, .inl (d 4, cp2, .inr (.inr (.inr (.inr el2)))))] : va_W) := hD
  refine W.eq (g2 := F0 m 23 ls []) rfl ?_
  refine lv_iconst (v := 1) hx hb dJ2_add_23 (by decide) ?_
  exact oc_zret hx hb hr hlocks hS dJ2_add_24 rfl (⟨_, rfl, q_9, cp2, el2, rfl, by omega, by omega, hcp2, hel2, hP, hD⟩)
set_option maxHeartbeats 4000000 in
set_option maxRecDepth 100000 in
theorem kJ2_add2B {l : Launch} {s0 : State} {b0 : Addr} {D : va_G} {d : Nat → ClassId} (G : oc_G l s0 b0 D d) {H : Heap} (a : Nat) (mc : Int32) (ar n cp x : Nat) (el : Nat → Option Nat) (hncp : n < cp) (hcp : cp < 1000000) (hP : va_P D oc_cl ([(a, .inr (4, [.int mc, .ref ar, .int (nI n)])), (ar, .inl (d 4, cp, .inr (.inr (.inr (.inr el)))))] : va_W) H) (hD : va_D (va_A ([(a, .inr (4, [.int mc, .ref ar, .int (nI n)])), (ar, .inl (d 4, cp, .inr (.inr (.inr (.inr el)))))] : va_W) (Array.size H)) ([(a, .inr (4, [.int mc, .ref ar, .int (nI n)])), (ar, .inl (d 4, cp, .inr (.inr (.inr (.inr el)))))] : va_W)) (hN0 : ∀ x ∈ ([(a, .inr (4, [.int mc, .ref ar, .int (nI n)])), (ar, .inl (d 4, cp, .inr (.inr (.inr (.inr el)))))] : va_W), s0.heap.size ≤ x.1) (hxo : oc_Ob D H x) (hxa : x ≠ a) (hxr : x ≠ ar) : oc_C l s0 yJ2_add_2 (oc_rm 0 0 0 0) [.ref a, .ref x, .ref ar, .int (nI n)] H (va_A ([(a, .inr (4, [.int mc, .ref ar, .int (nI n)])), (ar, .inl (d 4, cp, .inr (.inr (.inr (.inr el)))))] : va_W) (Array.size H)) (oc_Pr (fun v H1 k n1 => ∃ (q cp2 : Nat) (el2 : Nat → Option Nat), v = none ∧ k = 0 ∧ n1 = 0 ∧ (q = ar ∧ cp2 = cp ∧ (∀ i, i < n → el2 i = el i)) ∧ el2 n = some x ∧ va_P D oc_cl [(a, .inr (4, [.int mc, .ref q, .int (nI (n + 1))])), (q, .inl (d 4, cp2, .inr (.inr (.inr (.inr el2)))))] H1 ∧ va_D (va_A ([(a, .inr (4, [.int mc, .ref ar, .int (nI n)])), (ar, .inl (d 4, cp, .inr (.inr (.inr (.inr el)))))] : va_W) (Array.size H)) [(a, .inr (4, [.int mc, .ref q, .int (nI (n + 1))])), (q, .inl (d 4, cp2, .inr (.inr (.inr (.inr el2)))))])) := by
  refine oc_start G (cc := cJ2_add_2) (L := 4) (ret := (Option.none : Option Jvm.ClassFile.FieldType)) q391 (Nat.le_of_ble_eq_true rfl) ?_
  intro p e s m below meth c ls hx hok hb hml hr hlocks htab hown hts hK hmn hh hl
  subst hh
  have hl : lv_has ls 4 [(0, .ref a), (1, .ref x), (2, .ref ar), (3, .int (nI n))] := hl
  have hN0 := oc_N0 hok hN0
  have hA : ∀ q, Array.size s.heap ≤ q → (va_A ([(a, .inr (4, [.int mc, .ref ar, .int (nI n)])), (ar, .inl (d 4, cp, .inr (.inr (.inr (.inr el)))))] : va_W) (Array.size s.heap)) q := fun q z => Or.inr z
  have hS : va_S (va_A ([(a, .inr (4, [.int mc, .ref ar, .int (nI n)])), (ar, .inl (d 4, cp, .inr (.inr (.inr (.inr el)))))] : va_W) (Array.size s.heap)) s.heap s.heap [] := va_S.rf
  have hxn := hxo.nA (ws := ([(a, .inr (4, [.int mc, .ref ar, .int (nI n)])), (ar, .inl (d 4, cp, .inr (.inr (.inr (.inr el)))))] : va_W)) (fun z hz => by simp at hz; rcases hz with rfl | rfl; exact hxa; exact hxr)
  generalize hAe : (va_A ([(a, .inr (4, [.int mc, .ref ar, .int (nI n)])), (ar, .inl (d 4, cp, .inr (.inr (.inr (.inr el)))))] : va_W) (Array.size s.heap)) = A at *
  refine lv_iload_n hx hb dJ2_add_2_0 rfl (lv_at hl 3 rfl) ?_
  refine lv_aload_n hx hb dJ2_add_2_1 rfl (lv_at hl 2 rfl) ?_
  refine va_alen (v := nI (cp)) hx hb hK hP 1 4 rfl rfl rfl dJ2_add_2_2 ?_
  refine lv_icmp_ne (x := nI n) (y := nI (cp)) (tgt := 11) hx hb dJ2_add_2_3 (by decide) (fun c3 => ?_) (fun c3 => ?_)
  · -- taken
    rw [oc_eq (x := nI n) (y := nI (cp)) (a := n) (b := (cp)) rfl rfl (by omega) (by omega)] at c3
    refine lv_aload_n hx hb dJ2_add_2_11 rfl (lv_at hl 2 rfl) ?_
    refine lv_iload_n hx hb dJ2_add_2_12 rfl (lv_at hl 3 rfl) ?_
    refine lv_aload_n hx hb dJ2_add_2_13 rfl (lv_at hl 1 rfl) ?_
    refine oc_aast hx hb hK hP hD hS 1 4 rfl rfl (oc_any G hok (hxo.kept hxn hS)) n rfl (by omega) (by omega) dJ2_add_2_14 (fun H locs hP hD hS => ?_)
    have hP : va_P D oc_cl ([(a, .inr (4, [.int mc, .ref ar, .int (nI n)])), (ar, .inl (d 4, cp, .inr (.inr (.inr (.inr (va_up el n (some x)))))))] : va_W) H := hP
    have hD : va_D A ([(a, .inr (4, [.int mc, .ref ar, .int (nI n)])), (ar, .inl (d 4, cp, .inr (.inr (.inr (.inr (va_up el n (some x)))))))] : va_W) := hD
    refine lv_aload_n hx hb dJ2_add_2_15 rfl (lv_at hl 0 rfl) ?_
    refine lv_iload_n hx hb dJ2_add_2_16 rfl (lv_at hl 3 rfl) ?_
    refine lv_iconst (v := 1) hx hb dJ2_add_2_17 (by decide) ?_
    refine lv_iadd hx hb dJ2_add_2_18 ?_
    refine oc_topi (x := (nI n) + 1) (y := nI (n + 1)) (nI_1 n) ?_
    refine va_put (D := D) (ci := 4) (v := .int (nI (n + 1))) (ty := .int) (C := RJ2) (T := TJ2) (N := 3) hx hb hts in_J2 tyJ2 tyJ2_ok nmJ2 hown hK hP hD hS 0 rfl rfl 2 (by decide) (hts _ q104) (fun _ h9 => h9) rfl (by decide +kernel) rfl rfl (Nat.le_of_ble_eq_true rfl) dJ2_add_2_19 (fun H locs hP hD hS => ?_)
    have hP : va_P D oc_cl ([(a, .inr (4, [.int mc, .ref ar, .int (nI (n + 1))])), (ar, .inl (d 4, cp, .inr (.inr (.inr (.inr (va_up el n (some x)))))))] : va_W) H := hP
    have hD : va_D A ([(a, .inr (4, [.int mc, .ref ar, .int (nI (n + 1))])), (ar, .inl (d 4, cp, .inr (.inr (.inr (.inr (va_up el n (some x)))))))] : va_W) := hD
    exact oc_vret hx hb hr hlocks hS dJ2_add_2_22 (⟨_, rfl, ar, cp, _, rfl, rfl, rfl, ⟨rfl, rfl, fun i hi => by simp [va_up, show ¬ i = n by omega]⟩, by simp [va_up], hP, hD⟩)
  · -- not taken
    rw [oc_eq (x := nI n) (y := nI (cp)) (a := n) (b := (cp)) rfl rfl (by omega) (by omega)] at c3
    exact absurd c3 (by omega)
set_option maxHeartbeats 4000000 in
set_option maxRecDepth 100000 in
theorem kJ2_addB {l : Launch} {s0 : State} {b0 : Addr} {D : va_G} {d : Nat → ClassId} (G : oc_G l s0 b0 D d) {H : Heap} (a : Nat) (mc : Int32) (ar n cp x : Nat) (el : Nat → Option Nat) (hncp : n < cp) (hcp : cp < 1000000) (hP : va_P D oc_cl ([(a, .inr (4, [.int mc, .ref ar, .int (nI n)])), (ar, .inl (d 4, cp, .inr (.inr (.inr (.inr el)))))] : va_W) H) (hD : va_D (va_A ([(a, .inr (4, [.int mc, .ref ar, .int (nI n)])), (ar, .inl (d 4, cp, .inr (.inr (.inr (.inr el)))))] : va_W) (Array.size H)) ([(a, .inr (4, [.int mc, .ref ar, .int (nI n)])), (ar, .inl (d 4, cp, .inr (.inr (.inr (.inr el)))))] : va_W)) (hN0 : ∀ x ∈ ([(a, .inr (4, [.int mc, .ref ar, .int (nI n)])), (ar, .inl (d 4, cp, .inr (.inr (.inr (.inr el)))))] : va_W), s0.heap.size ≤ x.1) (hxo : oc_Ob D H x) (hxa : x ≠ a) (hxr : x ≠ ar) : oc_C l s0 yJ2_add (oc_rm 1 15 0 0) [.ref a, .ref x] H (va_A ([(a, .inr (4, [.int mc, .ref ar, .int (nI n)])), (ar, .inl (d 4, cp, .inr (.inr (.inr (.inr el)))))] : va_W) (Array.size H)) (oc_Pr (fun v H1 k n1 => ∃ (q cp2 : Nat) (el2 : Nat → Option Nat), v = some (.int 1) ∧ k = 0 ∧ n1 = 0 ∧ (q = ar ∧ cp2 = cp ∧ (∀ i, i < n → el2 i = el i)) ∧ el2 n = some x ∧ va_P D oc_cl [(a, .inr (4, [.int (mc + 1), .ref q, .int (nI (n + 1))])), (q, .inl (d 4, cp2, .inr (.inr (.inr (.inr el2)))))] H1 ∧ va_D (va_A ([(a, .inr (4, [.int mc, .ref ar, .int (nI n)])), (ar, .inl (d 4, cp, .inr (.inr (.inr (.inr el)))))] : va_W) (Array.size H)) [(a, .inr (4, [.int (mc + 1), .ref q, .int (nI (n + 1))])), (q, .inl (d 4, cp2, .inr (.inr (.inr (.inr el2)))))])) := by
  refine oc_start G (cc := cJ2_add) (L := 2) (ret := (Option.some Jvm.ClassFile.FieldType.boolean)) q387 (Nat.le_of_ble_eq_true rfl) ?_
  intro p e s m below meth c ls hx hok hb hml hr hlocks htab hown hts hK hmn hh hl
  subst hh
  have hl : lv_has ls 2 [(0, .ref a), (1, .ref x)] := hl
  have hN0 := oc_N0 hok hN0
  have hA : ∀ q, Array.size s.heap ≤ q → (va_A ([(a, .inr (4, [.int mc, .ref ar, .int (nI n)])), (ar, .inl (d 4, cp, .inr (.inr (.inr (.inr el)))))] : va_W) (Array.size s.heap)) q := fun q z => Or.inr z
  have hS : va_S (va_A ([(a, .inr (4, [.int mc, .ref ar, .int (nI n)])), (ar, .inl (d 4, cp, .inr (.inr (.inr (.inr el)))))] : va_W) (Array.size s.heap)) s.heap s.heap [] := va_S.rf
  have hxn := hxo.nA (ws := ([(a, .inr (4, [.int mc, .ref ar, .int (nI n)])), (ar, .inl (d 4, cp, .inr (.inr (.inr (.inr el)))))] : va_W)) (fun z hz => by simp at hz; rcases hz with rfl | rfl; exact hxa; exact hxr)
  generalize hAe : (va_A ([(a, .inr (4, [.int mc, .ref ar, .int (nI n)])), (ar, .inl (d 4, cp, .inr (.inr (.inr (.inr el)))))] : va_W) (Array.size s.heap)) = A at *
  refine lv_aload_n hx hb dJ2_add_0 rfl (lv_at hl 0 rfl) ?_
  refine lv_dup hx hb dJ2_add_1 rfl ?_
  refine va_get (D := D) (ci := 4) (v := .int mc) (C := RJ2) (T := TJ2) (N := 3) hx hb hts in_J2 hown hK hP 0 rfl rfl 0 (by decide) (hts _ q106) (u_same (hts _ q107)) rfl dJ2_add_2 ?_
  refine lv_iconst (v := 1) hx hb dJ2_add_5 (by decide) ?_
  refine lv_iadd hx hb dJ2_add_6 ?_
  refine va_put (D := D) (ci := 4) (v := .int (mc + 1)) (ty := .int) (C := RJ2) (T := TJ2) (N := 3) hx hb hts in_J2 tyJ2 tyJ2_ok nmJ2 hown hK hP hD hS 0 rfl rfl 0 (by decide) (hts _ q106) (u_same (hts _ q107)) rfl (by decide +kernel) rfl rfl (Nat.le_of_ble_eq_true rfl) dJ2_add_7 (fun H locs hP hD hS => ?_)
  have hP : va_P D oc_cl ([(a, .inr (4, [.int (mc + 1), .ref ar, .int (nI n)])), (ar, .inl (d 4, cp, .inr (.inr (.inr (.inr el)))))] : va_W) H := hP
  have hD : va_D A ([(a, .inr (4, [.int (mc + 1), .ref ar, .int (nI n)])), (ar, .inl (d 4, cp, .inr (.inr (.inr (.inr el)))))] : va_W) := hD
  refine lv_aload_n hx hb dJ2_add_10 rfl (lv_at hl 0 rfl) ?_
  refine lv_aload_n hx hb dJ2_add_11 rfl (lv_at hl 1 rfl) ?_
  refine lv_aload_n hx hb dJ2_add_12 rfl (lv_at hl 0 rfl) ?_
  refine va_get (D := D) (ci := 4) (v := .ref ar) (C := RJ2) (T := TJ2) (N := 3) hx hb hts in_J2 hown hK hP 0 rfl rfl 1 (by decide) (hts _ q103) (fun _ h9 => h9) rfl dJ2_add_13 ?_
  refine lv_aload_n hx hb dJ2_add_16 rfl (lv_at hl 0 rfl) ?_
  refine va_get (D := D) (ci := 4) (v := .int (nI n)) (C := RJ2) (T := TJ2) (N := 3) hx hb hts in_J2 hown hK hP 0 rfl rfl 2 (by decide) (hts _ q104) (fun _ h9 => h9) rfl dJ2_add_17 ?_
  have hF_ : ∀ q, va_A ([(a, .inr (4, [.int (mc + 1), .ref ar, .int (nI n)])), (ar, .inl (d 4, cp, .inr (.inr (.inr (.inr el)))))] : va_W) (Array.size H) q → A q := va_free hD hS hA [0, 1] rfl
  refine oc_callP (A1 := va_A ([(a, .inr (4, [.int (mc + 1), .ref ar, .int (nI n)])), (ar, .inl (d 4, cp, .inr (.inr (.inr (.inr el)))))] : va_W) (Array.size H)) hx hb hml hl.1 ⟨hok, hS, hN0⟩ (oc_iV (As := [.ref x, .ref ar, .int (nI n)]) (rest := []) hx hb hown (hts _ q388) (hts _ q390) (hts _ qs8) (oc_Sig.of (hts _ q391) (by decide +kernel : (parseMethodDescriptor "(Ljava/lang/Object;[Ljava/lang/Object;I)V").map (fun d => d.parameters.length) = some 3)) (va_recv hK hP (ci := 4) (q0 := 0) rfl rfl) ⟨by decide, by decide⟩ dJ2_add_20 rfl) (oc_M.of (by decide +kernel) (hts _ q391)) (kJ2_add2B G a (mc + 1) ar n cp x el hncp hcp (hP.sub [0, 1] rfl) ((hD.sub [0, 1] rfl rfl).self) (oc_N1 hD hN0 [0, 1] rfl) (hxo.kept hxn hS) hxa hxr) hF_ dJ2_add_20 (Nat.le_of_ble_eq_true rfl) (Nat.le_of_ble_eq_true rfl) (by dsimp only [oc_rm]; omega) (by dsimp only [oc_rm]; omega) (fun v_ H locs k_ n_ hp_ hz_ hk_ hS => ?_)
  obtain ⟨q_9, cp2, el2, rfl, hk9, hn9, hcp2, hel2, hP1, hD1⟩ := hp_
  subst k_; subst n_
  obtain ⟨hP, hD⟩ := va_join (w1 := ([(a, .inr (4, [.int (mc + 1), .ref q_9, .int (nI (n + 1))])), (q_9, .inl (d 4, cp2, .inr (.inr (.inr (.inr el2)))))] : va_W)) (wr := ([] : va_W)) hP hD [0, 1] [] rfl rfl rfl (by decide) hk_ hF_ hP1 hD1
  have hP : va_P D oc_cl ([(a, .inr (4, [.int (mc + 1), .ref q_9, .int (nI (n + 1))])), (q_9, .inl (d 4, cp2, .inr (.inr (.inr (.inr el2)))))] : va_W) H := hP
  have hD : va_D A ([(a, .inr (4, [.int (mc + 1), .ref q_9, .int (nI (n + 1))])), (q_9, .inl (d 4, cp2, .inr (.inr (.inr (.inr el2)))))] : va_W) := hD
  refine W.eq (g2 := F0 m 23 ls []) rfl ?_
  refine lv_iconst (v := 1) hx hb dJ2_add_23 (by decide) ?_
  exact oc_zret hx hb hr hlocks hS dJ2_add_24 rfl (⟨_, rfl, q_9, cp2, el2, rfl, by omega, by omega, hcp2, hel2, hP, hD⟩)
set_option maxHeartbeats 4000000 in
set_option maxRecDepth 100000 in
theorem kJ2_grow2C {l : Launch} {s0 : State} {b0 : Addr} {D : va_G} {d : Nat → ClassId} (G : oc_G l s0 b0 D d) {H : Heap} (a : Nat) (mc : Int32) (ar cp mi : Nat) (el : Nat → Option Nat) (hc0 : 0 < cp) (hcp : cp < 1000000) (hM0 : va_Mi "[Ljava/lang/Object;" mi s0) (hP : va_P D oc_cl ([(a, .inr (4, [.int mc, .ref ar, .int (nI cp)])), (ar, .inl (d 4, cp, .inr (.inr (.inr (.inr el)))))] : va_W) H) (hD : va_D (va_A ([(a, .inr (4, [.int mc, .ref ar, .int (nI cp)])), (ar, .inl (d 4, cp, .inr (.inr (.inr (.inr el)))))] : va_W) (Array.size H)) ([(a, .inr (4, [.int mc, .ref ar, .int (nI cp)])), (ar, .inl (d 4, cp, .inr (.inr (.inr (.inr el)))))] : va_W)) (hN0 : ∀ x ∈ ([(a, .inr (4, [.int mc, .ref ar, .int (nI cp)])), (ar, .inl (d 4, cp, .inr (.inr (.inr (.inr el)))))] : va_W), s0.heap.size ≤ x.1) (hob : oc_Eo D H el cp ([(a, .inr (4, [.int mc, .ref ar, .int (nI cp)])), (ar, .inl (d 4, cp, .inr (.inr (.inr (.inr el)))))] : va_W)) : oc_C l s0 yJ2_grow_2 (oc_rm 3 69 1 (oc_nl cp)) [.ref a, .int (nI (cp + 1))] H (va_A ([(a, .inr (4, [.int mc, .ref ar, .int (nI cp)])), (ar, .inl (d 4, cp, .inr (.inr (.inr (.inr el)))))] : va_W) (Array.size H)) (oc_Pr (fun v H1 k n1 => ∃ (q : Nat) (el2 : Nat → Option Nat), v = some (.ref q) ∧ k = 1 ∧ n1 = oc_nl cp ∧ (∀ i, i < cp → el2 i = el i) ∧ va_P D oc_cl [(a, .inr (4, [.int mc, .ref q, .int (nI cp)])), (ar, .inl (d 4, cp, .inr (.inr (.inr (.inr el))))), (q, .inl (d 4, oc_nl cp, .inr (.inr (.inr (.inr el2)))))] H1 ∧ va_D (va_A ([(a, .inr (4, [.int mc, .ref ar, .int (nI cp)])), (ar, .inl (d 4, cp, .inr (.inr (.inr (.inr el)))))] : va_W) (Array.size H)) [(a, .inr (4, [.int mc, .ref q, .int (nI cp)])), (ar, .inl (d 4, cp, .inr (.inr (.inr (.inr el))))), (q, .inl (d 4, oc_nl cp, .inr (.inr (.inr (.inr el2)))))])) := by
  refine oc_start G (cc := cJ2_grow_2) (L := 4) (ret := (Option.some (Jvm.ClassFile.FieldType.array (Jvm.ClassFile.FieldType.object "java/lang/Object")))) q399 (Nat.le_of_ble_eq_true rfl) ?_
  intro p e s m below meth c ls hx hok hb hml hr hlocks htab hown hts hK hmn hh hl
  subst hh
  have hl : lv_has ls 4 [(0, .ref a), (1, .int (nI (cp + 1)))] := hl
  have hN0 := oc_N0 hok hN0
  have hA : ∀ q, Array.size s.heap ≤ q → (va_A ([(a, .inr (4, [.int mc, .ref ar, .int (nI cp)])), (ar, .inl (d 4, cp, .inr (.inr (.inr (.inr el)))))] : va_W) (Array.size s.heap)) q := fun q z => Or.inr z
  have hS : va_S (va_A ([(a, .inr (4, [.int mc, .ref ar, .int (nI cp)])), (ar, .inl (d 4, cp, .inr (.inr (.inr (.inr el)))))] : va_W) (Array.size s.heap)) s.heap s.heap [] := va_S.rf
  generalize hAe : (va_A ([(a, .inr (4, [.int mc, .ref ar, .int (nI cp)])), (ar, .inl (d 4, cp, .inr (.inr (.inr (.inr el)))))] : va_W) (Array.size s.heap)) = A at *
  have hb9 := oc_nl_b hcp
  have hobE : oc_Eo D s.heap el cp ([(ar, .inl (d 4, cp, .inr (.inr (.inr (.inr el)))))] : va_W) := hob.sub [1] rfl
  refine lv_aload_n hx hb dJ2_grow_2_0 rfl (lv_at hl 0 rfl) ?_
  refine va_get (D := D) (ci := 4) (v := .ref ar) (C := RJ2) (T := TJ2) (N := 3) hx hb hts in_J2 hown hK hP 0 rfl rfl 1 (by decide) (hts _ q103) (fun _ h9 => h9) rfl dJ2_grow_2_1 ?_
  refine va_alen (v := nI (cp)) hx hb hK hP 1 4 rfl rfl rfl dJ2_grow_2_4 ?_
  refine lv_istore_n (lv' := [(2, .int (nI (cp))), (0, .ref a), (1, .int (nI (cp + 1)))]) hx hb dJ2_grow_2_5 rfl hl (by decide) rfl (fun ls hl => ?_)
  refine lv_iload_n hx hb dJ2_grow_2_6 rfl (lv_at hl 0 rfl) ?_
  refine lv_if_gt (x := nI (cp)) (tgt := 20) hx hb dJ2_grow_2_7 (by decide) (fun c7 => ?_) (fun c7 => ?_)
  · -- taken
    refine lv_iload_n hx hb dJ2_grow_2_20 rfl (lv_at hl 0 rfl) ?_
    refine lv_iload_n hx hb dJ2_grow_2_21 rfl (lv_at hl 2 rfl) ?_
    refine lv_iload_n hx hb dJ2_grow_2_22 rfl (lv_at hl 0 rfl) ?_
    refine lv_isub hx hb dJ2_grow_2_23 ?_
    refine oc_topi (x := (nI (cp + 1)) - (nI (cp))) (y := nI 1) (by rw [pk_sub (by omega), show cp + 1 - cp = 1 by omega]) ?_
    refine lv_iload_n hx hb dJ2_grow_2_24 rfl (lv_at hl 0 rfl) ?_
    refine lv_iconst (v := 1) hx hb dJ2_grow_2_25 (by decide) ?_
    refine lv_ishr hx hb dJ2_grow_2_26 ?_
    refine oc_topi (x := (nI (cp)) >>> (1 &&& 31)) (y := nI (cp / 2)) (pk_shrN (k := 1) (by omega) _ rfl) ?_
    refine oc_callR1 hx hb hml hl.1 ⟨hok, hS, hN0⟩ (oc_iS (As := [.int (nI (cp)), .int (nI 1), .int (nI (cp / 2))]) (rest := []) hx hb hown (hts _ q400) (hts _ q401) (hts _ q42) (hts _ q402) ⟨by decide, by decide, (by decide +kernel : (parseMethodDescriptor "(III)I").map (fun d => d.parameters.length) = some 3)⟩ dJ2_grow_2_27 rfl) (oc_M.of (by decide +kernel) (hts _ q402)) (kJ6_newLength G cp (by omega)) dJ2_grow_2_27 (Nat.le_of_ble_eq_true rfl) (Nat.le_of_ble_eq_true rfl) (by dsimp only [oc_rm]; omega) (by dsimp only [oc_rm]; omega) ?_
    refine lv_istore_n (lv' := [(3, .int (nI (oc_nl cp))), (2, .int (nI (cp))), (0, .ref a), (1, .int (nI (cp + 1)))]) hx hb dJ2_grow_2_30 rfl hl (by decide) rfl (fun ls hl => ?_)
    refine lv_aload_n hx hb dJ2_grow_2_31 rfl (lv_at hl 2 rfl) ?_
    refine lv_aload_n hx hb dJ2_grow_2_32 rfl (lv_at hl 2 rfl) ?_
    refine va_get (D := D) (ci := 4) (v := .ref ar) (C := RJ2) (T := TJ2) (N := 3) hx hb hts in_J2 hown hK hP 0 rfl rfl 1 (by decide) (hts _ q103) (fun _ h9 => h9) rfl dJ2_grow_2_33 ?_
    refine lv_iload_n hx hb dJ2_grow_2_36 rfl (lv_at hl 0 rfl) ?_
    have hF_ : ∀ q, va_A ([(ar, .inl (d 4, cp, .inr (.inr (.inr (.inr el)))))] : va_W) (Array.size s.heap) q → A q := va_free hD hS hA [1] rfl
    refine oc_callP (A1 := va_A ([(ar, .inl (d 4, cp, .inr (.inr (.inr (.inr el)))))] : va_W) (Array.size s.heap)) hx hb hml hl.1 ⟨hok, hS, hN0⟩ (oc_iS (As := [.ref ar, .int (nI (oc_nl cp))]) (rest := [.ref a]) hx hb hown (hts _ q410) (hts _ q411) (hts _ q44) (hts _ q412) ⟨by decide, by decide, (by decide +kernel : (parseMethodDescriptor "([Ljava/lang/Object;I)[Ljava/lang/Object;").map (fun d => d.parameters.length) = some 2)⟩ dJ2_grow_2_37 rfl) (oc_M.of (by decide +kernel) (hts _ q412)) (kJ8_copyOf G ar cp (oc_nl cp) mi el (by omega) (by omega) hM0 (hP.sub [1] rfl) ((hD.sub [1] rfl rfl).self) (oc_N1 hD hN0 [1] rfl) hobE) hF_ dJ2_grow_2_37 (Nat.le_of_ble_eq_true rfl) (Nat.le_of_ble_eq_true rfl) (by dsimp only [oc_rm]; omega) (by dsimp only [oc_rm]; omega) (fun v_ H locs k_ n_ hp_ hz_ hk_ hS => ?_)
    obtain ⟨q_9, el2, rfl, hk9, hn9, hel2, hP1, hD1⟩ := hp_
    subst k_; subst n_
    obtain ⟨hP, hD⟩ := va_join (w1 := ([(ar, .inl (d 4, cp, .inr (.inr (.inr (.inr el))))), (q_9, .inl (d 4, (oc_nl cp), .inr (.inr (.inr (.inr el2)))))] : va_W)) (wr := ([(a, .inr (4, [.int mc, .ref ar, .int (nI cp)]))] : va_W)) hP hD [1] [0] rfl rfl rfl (by decide) hk_ hF_ hP1 hD1
    have hP : va_P D oc_cl ([(a, .inr (4, [.int mc, .ref ar, .int (nI cp)])), (ar, .inl (d 4, cp, .inr (.inr (.inr (.inr el))))), (q_9, .inl (d 4, (oc_nl cp), .inr (.inr (.inr (.inr el2)))))] : va_W) H := hP
    have hD : va_D A ([(a, .inr (4, [.int mc, .ref ar, .int (nI cp)])), (ar, .inl (d 4, cp, .inr (.inr (.inr (.inr el))))), (q_9, .inl (d 4, (oc_nl cp), .inr (.inr (.inr (.inr el2)))))] : va_W) := hD
    refine W.eq (g2 := F0 m 40 ls [.ref q_9, .ref a]) rfl ?_
    refine lv_dup_x1 hx hb dJ2_grow_2_40 rfl rfl ?_
    refine va_put (D := D) (ci := 4) (v := .ref q_9) (ty := (.array (.object "java/lang/Object"))) (C := RJ2) (T := TJ2) (N := 3) hx hb hts in_J2 tyJ2 tyJ2_ok nmJ2 hown hK hP hD hS 0 rfl rfl 1 (by decide) (hts _ q103) (fun _ h9 => h9) rfl (by decide +kernel) rfl rfl (Nat.le_of_ble_eq_true rfl) dJ2_grow_2_41 (fun H locs hP hD hS => ?_)
    have hP : va_P D oc_cl ([(a, .inr (4, [.int mc, .ref q_9, .int (nI cp)])), (ar, .inl (d 4, cp, .inr (.inr (.inr (.inr el))))), (q_9, .inl (d 4, (oc_nl cp), .inr (.inr (.inr (.inr el2)))))] : va_W) H := hP
    have hD : va_D A ([(a, .inr (4, [.int mc, .ref q_9, .int (nI cp)])), (ar, .inl (d 4, cp, .inr (.inr (.inr (.inr el))))), (q_9, .inl (d 4, (oc_nl cp), .inr (.inr (.inr (.inr el2)))))] : va_W) := hD
    exact oc_aret hx hb hr (Or.inr ⟨_, rfl⟩) (Or.inr ⟨_, rfl⟩) hlocks hS dJ2_grow_2_44 (⟨_, rfl, q_9, el2, rfl, by omega, by omega, hel2, hP, hD⟩)
  · -- not taken
    exact absurd (show (0 : Int32) < nI cp from (oc_lt (a := 0) (b := cp) rfl rfl (by decide) (by omega)).mpr (by omega)) c7
set_option maxHeartbeats 4000000 in
set_option maxRecDepth 100000 in
theorem kJ2_growC {l : Launch} {s0 : State} {b0 : Addr} {D : va_G} {d : Nat → ClassId} (G : oc_G l s0 b0 D d) {H : Heap} (a : Nat) (mc : Int32) (ar cp mi : Nat) (el : Nat → Option Nat) (hc0 : 0 < cp) (hcp : cp < 1000000) (hM0 : va_Mi "[Ljava/lang/Object;" mi s0) (hP : va_P D oc_cl ([(a, .inr (4, [.int mc, .ref ar, .int (nI cp)])), (ar, .inl (d 4, cp, .inr (.inr (.inr (.inr el)))))] : va_W) H) (hD : va_D (va_A ([(a, .inr (4, [.int mc, .ref ar, .int (nI cp)])), (ar, .inl (d 4, cp, .inr (.inr (.inr (.inr el)))))] : va_W) (Array.size H)) ([(a, .inr (4, [.int mc, .ref ar, .int (nI cp)])), (ar, .inl (d 4, cp, .inr (.inr (.inr (.inr el)))))] : va_W)) (hN0 : ∀ x ∈ ([(a, .inr (4, [.int mc, .ref ar, .int (nI cp)])), (ar, .inl (d 4, cp, .inr (.inr (.inr (.inr el)))))] : va_W), s0.heap.size ≤ x.1) (hob : oc_Eo D H el cp ([(a, .inr (4, [.int mc, .ref ar, .int (nI cp)])), (ar, .inl (d 4, cp, .inr (.inr (.inr (.inr el)))))] : va_W)) : oc_C l s0 yJ2_grow (oc_rm 4 84 1 (oc_nl cp)) [.ref a] H (va_A ([(a, .inr (4, [.int mc, .ref ar, .int (nI cp)])), (ar, .inl (d 4, cp, .inr (.inr (.inr (.inr el)))))] : va_W) (Array.size H)) (oc_Pr (fun v H1 k n1 => ∃ (q : Nat) (el2 : Nat → Option Nat), v = some (.ref q) ∧ k = 1 ∧ n1 = oc_nl cp ∧ (∀ i, i < cp → el2 i = el i) ∧ va_P D oc_cl [(a, .inr (4, [.int mc, .ref q, .int (nI cp)])), (ar, .inl (d 4, cp, .inr (.inr (.inr (.inr el))))), (q, .inl (d 4, oc_nl cp, .inr (.inr (.inr (.inr el2)))))] H1 ∧ va_D (va_A ([(a, .inr (4, [.int mc, .ref ar, .int (nI cp)])), (ar, .inl (d 4, cp, .inr (.inr (.inr (.inr el)))))] : va_W) (Array.size H)) [(a, .inr (4, [.int mc, .ref q, .int (nI cp)])), (ar, .inl (d 4, cp, .inr (.inr (.inr (.inr el))))), (q, .inl (d 4, oc_nl cp, .inr (.inr (.inr (.inr el2)))))])) := by
  refine oc_start G (cc := cJ2_grow) (L := 1) (ret := (Option.some (Jvm.ClassFile.FieldType.array (Jvm.ClassFile.FieldType.object "java/lang/Object")))) q395 (Nat.le_of_ble_eq_true rfl) ?_
  intro p e s m below meth c ls hx hok hb hml hr hlocks htab hown hts hK hmn hh hl
  subst hh
  have hl : lv_has ls 1 [(0, .ref a)] := hl
  have hN0 := oc_N0 hok hN0
  have hA : ∀ q, Array.size s.heap ≤ q → (va_A ([(a, .inr (4, [.int mc, .ref ar, .int (nI cp)])), (ar, .inl (d 4, cp, .inr (.inr (.inr (.inr el)))))] : va_W) (Array.size s.heap)) q := fun q z => Or.inr z
  have hS : va_S (va_A ([(a, .inr (4, [.int mc, .ref ar, .int (nI cp)])), (ar, .inl (d 4, cp, .inr (.inr (.inr (.inr el)))))] : va_W) (Array.size s.heap)) s.heap s.heap [] := va_S.rf
  generalize hAe : (va_A ([(a, .inr (4, [.int mc, .ref ar, .int (nI cp)])), (ar, .inl (d 4, cp, .inr (.inr (.inr (.inr el)))))] : va_W) (Array.size s.heap)) = A at *
  have hobE := hob
  refine lv_aload_n hx hb dJ2_grow_0 rfl (lv_at hl 0 rfl) ?_
  refine lv_aload_n hx hb dJ2_grow_1 rfl (lv_at hl 0 rfl) ?_
  refine va_get (D := D) (ci := 4) (v := .int (nI cp)) (C := RJ2) (T := TJ2) (N := 3) hx hb hts in_J2 hown hK hP 0 rfl rfl 2 (by decide) (hts _ q104) (fun _ h9 => h9) rfl dJ2_grow_2 ?_
  refine lv_iconst (v := 1) hx hb dJ2_grow_5 (by decide) ?_
  refine lv_iadd hx hb dJ2_grow_6 ?_
  refine oc_topi (x := (nI cp) + 1) (y := nI (cp + 1)) (nI_1 cp) ?_
  have hF_ : ∀ q, va_A ([(a, .inr (4, [.int mc, .ref ar, .int (nI cp)])), (ar, .inl (d 4, cp, .inr (.inr (.inr (.inr el)))))] : va_W) (Array.size s.heap) q → A q := va_free hD hS hA [0, 1] rfl
  refine oc_callP (A1 := va_A ([(a, .inr (4, [.int mc, .ref ar, .int (nI cp)])), (ar, .inl (d 4, cp, .inr (.inr (.inr (.inr el)))))] : va_W) (Array.size s.heap)) hx hb hml hl.1 ⟨hok, hS, hN0⟩ (oc_iV (As := [.int (nI (cp + 1))]) (rest := []) hx hb hown (hts _ q396) (hts _ q398) (hts _ qs10) (oc_Sig.of (hts _ q399) (by decide +kernel : (parseMethodDescriptor "(I)[Ljava/lang/Object;").map (fun d => d.parameters.length) = some 1)) (va_recv hK hP (ci := 4) (q0 := 0) rfl rfl) ⟨by decide, by decide⟩ dJ2_grow_7 rfl) (oc_M.of (by decide +kernel) (hts _ q399)) (kJ2_grow2C G a mc ar cp mi el hc0 hcp hM0 (hP.sub [0, 1] rfl) ((hD.sub [0, 1] rfl rfl).self) (oc_N1 hD hN0 [0, 1] rfl) hobE) hF_ dJ2_grow_7 (Nat.le_of_ble_eq_true rfl) (Nat.le_of_ble_eq_true rfl) (by dsimp only [oc_rm]; omega) (by dsimp only [oc_rm]; omega) (fun v_ H locs k_ n_ hp_ hz_ hk_ hS => ?_)
  obtain ⟨q_9, el2, rfl, hk9, hn9, hel2, hP1, hD1⟩ := hp_
  subst k_; subst n_
  obtain ⟨hP, hD⟩ := va_join (w1 := ([(a, .inr (4, [.int mc, .ref q_9, .int (nI cp)])), (ar, .inl (d 4, cp, .inr (.inr (.inr (.inr el))))), (q_9, .inl (d 4, oc_nl cp, .inr (.inr (.inr (.inr el2)))))] : va_W)) (wr := ([] : va_W)) hP hD [0, 1] [] rfl rfl rfl (by decide) hk_ hF_ hP1 hD1
  have hP : va_P D oc_cl ([(a, .inr (4, [.int mc, .ref q_9, .int (nI cp)])), (ar, .inl (d 4, cp, .inr (.inr (.inr (.inr el))))), (q_9, .inl (d 4, oc_nl cp, .inr (.inr (.inr (.inr el2)))))] : va_W) H := hP
  have hD : va_D A ([(a, .inr (4, [.int mc, .ref q_9, .int (nI cp)])), (ar, .inl (d 4, cp, .inr (.inr (.inr (.inr el))))), (q_9, .inl (d 4, oc_nl cp, .inr (.inr (.inr (.inr el2)))))] : va_W) := hD
  refine W.eq (g2 := F0 m 10 ls [.ref q_9]) rfl ?_
  exact oc_aret hx hb hr (Or.inr ⟨_, rfl⟩) (Or.inr ⟨_, rfl⟩) hlocks hS dJ2_grow_10 (⟨_, rfl, q_9, el2, rfl, by omega, by omega, hel2, hP, hD⟩)
set_option maxHeartbeats 4000000 in
set_option maxRecDepth 100000 in
theorem kJ2_add2C {l : Launch} {s0 : State} {b0 : Addr} {D : va_G} {d : Nat → ClassId} (G : oc_G l s0 b0 D d) {H : Heap} (a : Nat) (mc : Int32) (ar cp mi x : Nat) (el : Nat → Option Nat) (hc0 : 0 < cp) (hcp : cp < 1000000) (hM0 : va_Mi "[Ljava/lang/Object;" mi s0) (hP : va_P D oc_cl ([(a, .inr (4, [.int mc, .ref ar, .int (nI cp)])), (ar, .inl (d 4, cp, .inr (.inr (.inr (.inr el)))))] : va_W) H) (hD : va_D (va_A ([(a, .inr (4, [.int mc, .ref ar, .int (nI cp)])), (ar, .inl (d 4, cp, .inr (.inr (.inr (.inr el)))))] : va_W) (Array.size H)) ([(a, .inr (4, [.int mc, .ref ar, .int (nI cp)])), (ar, .inl (d 4, cp, .inr (.inr (.inr (.inr el)))))] : va_W)) (hN0 : ∀ x ∈ ([(a, .inr (4, [.int mc, .ref ar, .int (nI cp)])), (ar, .inl (d 4, cp, .inr (.inr (.inr (.inr el)))))] : va_W), s0.heap.size ≤ x.1) (hob : oc_Eo D H el cp ([(a, .inr (4, [.int mc, .ref ar, .int (nI cp)])), (ar, .inl (d 4, cp, .inr (.inr (.inr (.inr el)))))] : va_W)) (hxo : oc_Ob D H x) (hxa : x ≠ a) (hxr : x ≠ ar) : oc_C l s0 yJ2_add_2 (oc_rm 5 96 1 (oc_nl cp)) [.ref a, .ref x, .ref ar, .int (nI cp)] H (va_A ([(a, .inr (4, [.int mc, .ref ar, .int (nI cp)])), (ar, .inl (d 4, cp, .inr (.inr (.inr (.inr el)))))] : va_W) (Array.size H)) (oc_Pr (fun v H1 k n1 => ∃ (q cp2 : Nat) (el2 : Nat → Option Nat), v = none ∧ k = 1 ∧ n1 = oc_nl cp ∧ (cp2 = oc_nl cp ∧ (∀ i, i < cp → el2 i = el i)) ∧ el2 cp = some x ∧ va_P D oc_cl [(a, .inr (4, [.int mc, .ref q, .int (nI (cp + 1))])), (q, .inl (d 4, cp2, .inr (.inr (.inr (.inr el2)))))] H1 ∧ va_D (va_A ([(a, .inr (4, [.int mc, .ref ar, .int (nI cp)])), (ar, .inl (d 4, cp, .inr (.inr (.inr (.inr el)))))] : va_W) (Array.size H)) [(a, .inr (4, [.int mc, .ref q, .int (nI (cp + 1))])), (q, .inl (d 4, cp2, .inr (.inr (.inr (.inr el2)))))])) := by
  refine oc_start G (cc := cJ2_add_2) (L := 4) (ret := (Option.none : Option Jvm.ClassFile.FieldType)) q391 (Nat.le_of_ble_eq_true rfl) ?_
  intro p e s m below meth c ls hx hok hb hml hr hlocks htab hown hts hK hmn hh hl
  subst hh
  have hl : lv_has ls 4 [(0, .ref a), (1, .ref x), (2, .ref ar), (3, .int (nI cp))] := hl
  have hN0 := oc_N0 hok hN0
  have hA : ∀ q, Array.size s.heap ≤ q → (va_A ([(a, .inr (4, [.int mc, .ref ar, .int (nI cp)])), (ar, .inl (d 4, cp, .inr (.inr (.inr (.inr el)))))] : va_W) (Array.size s.heap)) q := fun q z => Or.inr z
  have hS : va_S (va_A ([(a, .inr (4, [.int mc, .ref ar, .int (nI cp)])), (ar, .inl (d 4, cp, .inr (.inr (.inr (.inr el)))))] : va_W) (Array.size s.heap)) s.heap s.heap [] := va_S.rf
  have hxn := hxo.nA (ws := ([(a, .inr (4, [.int mc, .ref ar, .int (nI cp)])), (ar, .inl (d 4, cp, .inr (.inr (.inr (.inr el)))))] : va_W)) (fun z hz => by simp at hz; rcases hz with rfl | rfl; exact hxa; exact hxr)
  generalize hAe : (va_A ([(a, .inr (4, [.int mc, .ref ar, .int (nI cp)])), (ar, .inl (d 4, cp, .inr (.inr (.inr (.inr el)))))] : va_W) (Array.size s.heap)) = A at *
  have hb9 := oc_nl_b hcp
  have hobE := hob
  refine lv_iload_n hx hb dJ2_add_2_0 rfl (lv_at hl 3 rfl) ?_
  refine lv_aload_n hx hb dJ2_add_2_1 rfl (lv_at hl 2 rfl) ?_
  refine va_alen (v := nI (cp)) hx hb hK hP 1 4 rfl rfl rfl dJ2_add_2_2 ?_
  refine lv_icmp_ne (x := nI cp) (y := nI (cp)) (tgt := 11) hx hb dJ2_add_2_3 (by decide) (fun c3 => ?_) (fun c3 => ?_)
  · -- taken
    exact absurd rfl c3
  · -- not taken
    refine lv_aload_n hx hb dJ2_add_2_6 rfl (lv_at hl 0 rfl) ?_
    have hF_ : ∀ q, va_A ([(a, .inr (4, [.int mc, .ref ar, .int (nI cp)])), (ar, .inl (d 4, cp, .inr (.inr (.inr (.inr el)))))] : va_W) (Array.size s.heap) q → A q := va_free hD hS hA [0, 1] rfl
    refine oc_callP (A1 := va_A ([(a, .inr (4, [.int mc, .ref ar, .int (nI cp)])), (ar, .inl (d 4, cp, .inr (.inr (.inr (.inr el)))))] : va_W) (Array.size s.heap)) hx hb hml hl.1 ⟨hok, hS, hN0⟩ (oc_iV (As := []) (rest := []) hx hb hown (hts _ q392) (hts _ q394) (hts _ qs9) (oc_Sig.of (hts _ q395) (by decide +kernel : (parseMethodDescriptor "()[Ljava/lang/Object;").map (fun d => d.parameters.length) = some 0)) (va_recv hK hP (ci := 4) (q0 := 0) rfl rfl) ⟨by decide, by decide⟩ dJ2_add_2_7 rfl) (oc_M.of (by decide +kernel) (hts _ q395)) (kJ2_growC G a mc ar cp mi el hc0 hcp hM0 (hP.sub [0, 1] rfl) ((hD.sub [0, 1] rfl rfl).self) (oc_N1 hD hN0 [0, 1] rfl) hobE) hF_ dJ2_add_2_7 (Nat.le_of_ble_eq_true rfl) (Nat.le_of_ble_eq_true rfl) (by dsimp only [oc_rm]; omega) (by dsimp only [oc_rm]; omega) (fun v_ H locs k_ n_ hp_ hz_ hk_ hS => ?_)
    obtain ⟨q_9, el2, rfl, hk9, hn9, hel2, hP1, hD1⟩ := hp_
    subst k_; subst n_
    obtain ⟨hP, hD⟩ := va_join (w1 := ([(a, .inr (4, [.int mc, .ref q_9, .int (nI cp)])), (ar, .inl (d 4, cp, .inr (.inr (.inr (.inr el))))), (q_9, .inl (d 4, oc_nl cp, .inr (.inr (.inr (.inr el2)))))] : va_W)) (wr := ([] : va_W)) hP hD [0, 1] [] rfl rfl rfl (by decide) hk_ hF_ hP1 hD1
    have hP : va_P D oc_cl ([(a, .inr (4, [.int mc, .ref q_9, .int (nI cp)])), (ar, .inl (d 4, cp, .inr (.inr (.inr (.inr el))))), (q_9, .inl (d 4, oc_nl cp, .inr (.inr (.inr (.inr el2)))))] : va_W) H := hP
    have hD : va_D A ([(a, .inr (4, [.int mc, .ref q_9, .int (nI cp)])), (ar, .inl (d 4, cp, .inr (.inr (.inr (.inr el))))), (q_9, .inl (d 4, oc_nl cp, .inr (.inr (.inr (.inr el2)))))] : va_W) := hD
    refine W.eq (g2 := F0 m 10 ls [.ref q_9]) rfl ?_
    refine lv_astore_n (lv' := [(2, .ref q_9), (0, .ref a), (1, .ref x), (3, .int (nI cp))]) hx hb dJ2_add_2_10 rfl hl (by decide) rfl (fun ls hl => ?_)
    refine lv_aload_n hx hb dJ2_add_2_11 rfl (lv_at hl 0 rfl) ?_
    refine lv_iload_n hx hb dJ2_add_2_12 rfl (lv_at hl 3 rfl) ?_
    refine lv_aload_n hx hb dJ2_add_2_13 rfl (lv_at hl 2 rfl) ?_
    refine oc_aast hx hb hK hP hD hS 2 4 rfl rfl (oc_any G hok (hxo.kept hxn hS)) cp rfl (by omega) (by omega) dJ2_add_2_14 (fun H locs hP hD hS => ?_)
    have hP : va_P D oc_cl ([(a, .inr (4, [.int mc, .ref q_9, .int (nI cp)])), (ar, .inl (d 4, cp, .inr (.inr (.inr (.inr el))))), (q_9, .inl (d 4, oc_nl cp, .inr (.inr (.inr (.inr (va_up el2 cp (some x)))))))] : va_W) H := hP
    have hD : va_D A ([(a, .inr (4, [.int mc, .ref q_9, .int (nI cp)])), (ar, .inl (d 4, cp, .inr (.inr (.inr (.inr el))))), (q_9, .inl (d 4, oc_nl cp, .inr (.inr (.inr (.inr (va_up el2 cp (some x)))))))] : va_W) := hD
    refine lv_aload_n hx hb dJ2_add_2_15 rfl (lv_at hl 1 rfl) ?_
    refine lv_iload_n hx hb dJ2_add_2_16 rfl (lv_at hl 3 rfl) ?_
    refine lv_iconst (v := 1) hx hb dJ2_add_2_17 (by decide) ?_
    refine lv_iadd hx hb dJ2_add_2_18 ?_
    refine oc_topi (x := (nI cp) + 1) (y := nI (cp + 1)) (nI_1 cp) ?_
    refine va_put (D := D) (ci := 4) (v := .int (nI (cp + 1))) (ty := .int) (C := RJ2) (T := TJ2) (N := 3) hx hb hts in_J2 tyJ2 tyJ2_ok nmJ2 hown hK hP hD hS 0 rfl rfl 2 (by decide) (hts _ q104) (fun _ h9 => h9) rfl (by decide +kernel) rfl rfl (Nat.le_of_ble_eq_true rfl) dJ2_add_2_19 (fun H locs hP hD hS => ?_)
    have hP : va_P D oc_cl ([(a, .inr (4, [.int mc, .ref q_9, .int (nI (cp + 1))])), (ar, .inl (d 4, cp, .inr (.inr (.inr (.inr el))))), (q_9, .inl (d 4, oc_nl cp, .inr (.inr (.inr (.inr (va_up el2 cp (some x)))))))] : va_W) H := hP
    have hD : va_D A ([(a, .inr (4, [.int mc, .ref q_9, .int (nI (cp + 1))])), (ar, .inl (d 4, cp, .inr (.inr (.inr (.inr el))))), (q_9, .inl (d 4, oc_nl cp, .inr (.inr (.inr (.inr (va_up el2 cp (some x)))))))] : va_W) := hD
    exact oc_vret hx hb hr hlocks hS dJ2_add_2_22 (⟨_, rfl, q_9, _, _, rfl, by omega, by omega, ⟨rfl, fun i hi => by simp [va_up, show ¬ i = cp by omega]; exact hel2 i hi⟩, by simp [va_up], hP.sub [0, 2] rfl, hD.sub [0, 2] rfl rfl⟩)
set_option maxHeartbeats 4000000 in
set_option maxRecDepth 100000 in
theorem kJ2_addC {l : Launch} {s0 : State} {b0 : Addr} {D : va_G} {d : Nat → ClassId} (G : oc_G l s0 b0 D d) {H : Heap} (a : Nat) (mc : Int32) (ar cp mi x : Nat) (el : Nat → Option Nat) (hc0 : 0 < cp) (hcp : cp < 1000000) (hM0 : va_Mi "[Ljava/lang/Object;" mi s0) (hP : va_P D oc_cl ([(a, .inr (4, [.int mc, .ref ar, .int (nI cp)])), (ar, .inl (d 4, cp, .inr (.inr (.inr (.inr el)))))] : va_W) H) (hD : va_D (va_A ([(a, .inr (4, [.int mc, .ref ar, .int (nI cp)])), (ar, .inl (d 4, cp, .inr (.inr (.inr (.inr el)))))] : va_W) (Array.size H)) ([(a, .inr (4, [.int mc, .ref ar, .int (nI cp)])), (ar, .inl (d 4, cp, .inr (.inr (.inr (.inr el)))))] : va_W)) (hN0 : ∀ x ∈ ([(a, .inr (4, [.int mc, .ref ar, .int (nI cp)])), (ar, .inl (d 4, cp, .inr (.inr (.inr (.inr el)))))] : va_W), s0.heap.size ≤ x.1) (hob : oc_Eo D H el cp ([(a, .inr (4, [.int mc, .ref ar, .int (nI cp)])), (ar, .inl (d 4, cp, .inr (.inr (.inr (.inr el)))))] : va_W)) (hxo : oc_Ob D H x) (hxa : x ≠ a) (hxr : x ≠ ar) : oc_C l s0 yJ2_add (oc_rm 6 111 1 (oc_nl cp)) [.ref a, .ref x] H (va_A ([(a, .inr (4, [.int mc, .ref ar, .int (nI cp)])), (ar, .inl (d 4, cp, .inr (.inr (.inr (.inr el)))))] : va_W) (Array.size H)) (oc_Pr (fun v H1 k n1 => ∃ (q cp2 : Nat) (el2 : Nat → Option Nat), v = some (.int 1) ∧ k = 1 ∧ n1 = oc_nl cp ∧ (cp2 = oc_nl cp ∧ (∀ i, i < cp → el2 i = el i)) ∧ el2 cp = some x ∧ va_P D oc_cl [(a, .inr (4, [.int (mc + 1), .ref q, .int (nI (cp + 1))])), (q, .inl (d 4, cp2, .inr (.inr (.inr (.inr el2)))))] H1 ∧ va_D (va_A ([(a, .inr (4, [.int mc, .ref ar, .int (nI cp)])), (ar, .inl (d 4, cp, .inr (.inr (.inr (.inr el)))))] : va_W) (Array.size H)) [(a, .inr (4, [.int (mc + 1), .ref q, .int (nI (cp + 1))])), (q, .inl (d 4, cp2, .inr (.inr (.inr (.inr el2)))))])) := by
  refine oc_start G (cc := cJ2_add) (L := 2) (ret := (Option.some Jvm.ClassFile.FieldType.boolean)) q387 (Nat.le_of_ble_eq_true rfl) ?_
  intro p e s m below meth c ls hx hok hb hml hr hlocks htab hown hts hK hmn hh hl
  subst hh
  have hl : lv_has ls 2 [(0, .ref a), (1, .ref x)] := hl
  have hN0 := oc_N0 hok hN0
  have hA : ∀ q, Array.size s.heap ≤ q → (va_A ([(a, .inr (4, [.int mc, .ref ar, .int (nI cp)])), (ar, .inl (d 4, cp, .inr (.inr (.inr (.inr el)))))] : va_W) (Array.size s.heap)) q := fun q z => Or.inr z
  have hS : va_S (va_A ([(a, .inr (4, [.int mc, .ref ar, .int (nI cp)])), (ar, .inl (d 4, cp, .inr (.inr (.inr (.inr el)))))] : va_W) (Array.size s.heap)) s.heap s.heap [] := va_S.rf
  have hxn := hxo.nA (ws := ([(a, .inr (4, [.int mc, .ref ar, .int (nI cp)])), (ar, .inl (d 4, cp, .inr (.inr (.inr (.inr el)))))] : va_W)) (fun z hz => by simp at hz; rcases hz with rfl | rfl; exact hxa; exact hxr)
  generalize hAe : (va_A ([(a, .inr (4, [.int mc, .ref ar, .int (nI cp)])), (ar, .inl (d 4, cp, .inr (.inr (.inr (.inr el)))))] : va_W) (Array.size s.heap)) = A at *
  refine lv_aload_n hx hb dJ2_add_0 rfl (lv_at hl 0 rfl) ?_
  refine lv_dup hx hb dJ2_add_1 rfl ?_
  refine va_get (D := D) (ci := 4) (v := .int mc) (C := RJ2) (T := TJ2) (N := 3) hx hb hts in_J2 hown hK hP 0 rfl rfl 0 (by decide) (hts _ q106) (u_same (hts _ q107)) rfl dJ2_add_2 ?_
  refine lv_iconst (v := 1) hx hb dJ2_add_5 (by decide) ?_
  refine lv_iadd hx hb dJ2_add_6 ?_
  refine va_put (D := D) (ci := 4) (v := .int (mc + 1)) (ty := .int) (C := RJ2) (T := TJ2) (N := 3) hx hb hts in_J2 tyJ2 tyJ2_ok nmJ2 hown hK hP hD hS 0 rfl rfl 0 (by decide) (hts _ q106) (u_same (hts _ q107)) rfl (by decide +kernel) rfl rfl (Nat.le_of_ble_eq_true rfl) dJ2_add_7 (fun H locs hP hD hS => ?_)
  have hP : va_P D oc_cl ([(a, .inr (4, [.int (mc + 1), .ref ar, .int (nI cp)])), (ar, .inl (d 4, cp, .inr (.inr (.inr (.inr el)))))] : va_W) H := hP
  have hD : va_D A ([(a, .inr (4, [.int (mc + 1), .ref ar, .int (nI cp)])), (ar, .inl (d 4, cp, .inr (.inr (.inr (.inr el)))))] : va_W) := hD
  refine lv_aload_n hx hb dJ2_add_10 rfl (lv_at hl 0 rfl) ?_
  refine lv_aload_n hx hb dJ2_add_11 rfl (lv_at hl 1 rfl) ?_
  refine lv_aload_n hx hb dJ2_add_12 rfl (lv_at hl 0 rfl) ?_
  refine va_get (D := D) (ci := 4) (v := .ref ar) (C := RJ2) (T := TJ2) (N := 3) hx hb hts in_J2 hown hK hP 0 rfl rfl 1 (by decide) (hts _ q103) (fun _ h9 => h9) rfl dJ2_add_13 ?_
  refine lv_aload_n hx hb dJ2_add_16 rfl (lv_at hl 0 rfl) ?_
  refine va_get (D := D) (ci := 4) (v := .int (nI cp)) (C := RJ2) (T := TJ2) (N := 3) hx hb hts in_J2 hown hK hP 0 rfl rfl 2 (by decide) (hts _ q104) (fun _ h9 => h9) rfl dJ2_add_17 ?_
  have hF_ : ∀ q, va_A ([(a, .inr (4, [.int (mc + 1), .ref ar, .int (nI cp)])), (ar, .inl (d 4, cp, .inr (.inr (.inr (.inr el)))))] : va_W) (Array.size H) q → A q := va_free hD hS hA [0, 1] rfl
  refine oc_callP (A1 := va_A ([(a, .inr (4, [.int (mc + 1), .ref ar, .int (nI cp)])), (ar, .inl (d 4, cp, .inr (.inr (.inr (.inr el)))))] : va_W) (Array.size H)) hx hb hml hl.1 ⟨hok, hS, hN0⟩ (oc_iV (As := [.ref x, .ref ar, .int (nI cp)]) (rest := []) hx hb hown (hts _ q388) (hts _ q390) (hts _ qs8) (oc_Sig.of (hts _ q391) (by decide +kernel : (parseMethodDescriptor "(Ljava/lang/Object;[Ljava/lang/Object;I)V").map (fun d => d.parameters.length) = some 3)) (va_recv hK hP (ci := 4) (q0 := 0) rfl rfl) ⟨by decide, by decide⟩ dJ2_add_20 rfl) (oc_M.of (by decide +kernel) (hts _ q391)) (kJ2_add2C G a (mc + 1) ar cp mi x el hc0 hcp hM0 (hP.sub [0, 1] rfl) ((hD.sub [0, 1] rfl rfl).self) (oc_N1 hD hN0 [0, 1] rfl) ((hob.kept (by rw [hAe]; exact hS)).addr rfl) (hxo.kept hxn hS) hxa hxr) hF_ dJ2_add_20 (Nat.le_of_ble_eq_true rfl) (Nat.le_of_ble_eq_true rfl) (by dsimp only [oc_rm]; omega) (by dsimp only [oc_rm]; omega) (fun v_ H locs k_ n_ hp_ hz_ hk_ hS => ?_)
  obtain ⟨q_9, cp2, el2, rfl, hk9, hn9, hcp2, hel2, hP1, hD1⟩ := hp_
  subst k_; subst n_
  obtain ⟨hP, hD⟩ := va_join (w1 := ([(a, .inr (4, [.int (mc + 1), .ref q_9, .int (nI (cp + 1))])), (q_9, .inl (d 4, cp2, .inr (.inr (.inr (.inr el2)))))] : va_W)) (wr := ([] : va_W)) hP hD [0, 1] [] rfl rfl rfl (by decide) hk_ hF_ hP1 hD1
  have hP : va_P D oc_cl ([(a, .inr (4, [.int (mc + 1), .ref q_9, .int (nI (cp + 1))])), (q_9, .inl (d 4, cp2, .inr (.inr (.inr (.inr el2)))))] : va_W) H := hP
  have hD : va_D A ([(a, .inr (4, [.int (mc + 1), .ref q_9, .int (nI (cp + 1))])), (q_9, .inl (d 4, cp2, .inr (.inr (.inr (.inr el2)))))] : va_W) := hD
  refine W.eq (g2 := F0 m 23 ls []) rfl ?_
  refine lv_iconst (v := 1) hx hb dJ2_add_23 (by decide) ?_
  exact oc_zret hx hb hr hlocks hS dJ2_add_24 rfl (⟨_, rfl, q_9, cp2, el2, rfl, by omega, by omega, hcp2, hel2, hP, hD⟩)
set_option maxHeartbeats 4000000 in
set_option maxRecDepth 100000 in
theorem kJ2_clearA {l : Launch} {s0 : State} {b0 : Addr} {D : va_G} {d : Nat → ClassId} (G : oc_G l s0 b0 D d) {H : Heap} (a : Nat) (mc : Int32) (E0 : Nat) (hP : va_P D oc_cl ([(a, .inr (4, [.int mc, .ref E0, .int 0]))] : va_W) H) (hD : va_D (va_A ([(a, .inr (4, [.int mc, .ref E0, .int 0]))] : va_W) (Array.size H)) ([(a, .inr (4, [.int mc, .ref E0, .int 0]))] : va_W)) (hN0 : ∀ x ∈ ([(a, .inr (4, [.int mc, .ref E0, .int 0]))] : va_W), s0.heap.size ≤ x.1) : oc_C l s0 yJ2_clear (oc_rm 0 0 0 0) [.ref a] H (va_A ([(a, .inr (4, [.int mc, .ref E0, .int 0]))] : va_W) (Array.size H)) (oc_Pr (fun v H1 k n1 => v = none ∧ k = 0 ∧ n1 = 0 ∧ va_P D oc_cl [(a, .inr (4, [.int (mc + 1), .ref E0, .int 0]))] H1 ∧ va_D (va_A ([(a, .inr (4, [.int mc, .ref E0, .int 0]))] : va_W) (Array.size H)) [(a, .inr (4, [.int (mc + 1), .ref E0, .int 0]))])) := by
  refine oc_start G (cc := cJ2_clear) (L := 4) (ret := (Option.none : Option Jvm.ClassFile.FieldType)) q479 (Nat.le_of_ble_eq_true rfl) ?_
  intro p e s m below meth c ls hx hok hb hml hr hlocks htab hown hts hK hmn hh hl
  subst hh
  have hl : lv_has ls 4 [(0, .ref a)] := hl
  have hN0 := oc_N0 hok hN0
  have hA : ∀ q, Array.size s.heap ≤ q → (va_A ([(a, .inr (4, [.int mc, .ref E0, .int 0]))] : va_W) (Array.size s.heap)) q := fun q z => Or.inr z
  have hS : va_S (va_A ([(a, .inr (4, [.int mc, .ref E0, .int 0]))] : va_W) (Array.size s.heap)) s.heap s.heap [] := va_S.rf
  generalize hAe : (va_A ([(a, .inr (4, [.int mc, .ref E0, .int 0]))] : va_W) (Array.size s.heap)) = A at *
  refine lv_aload_n hx hb dJ2_clear_0 rfl (lv_at hl 0 rfl) ?_
  refine lv_dup hx hb dJ2_clear_1 rfl ?_
  refine va_get (D := D) (ci := 4) (v := .int mc) (C := RJ2) (T := TJ2) (N := 3) hx hb hts in_J2 hown hK hP 0 rfl rfl 0 (by decide) (hts _ q106) (u_same (hts _ q107)) rfl dJ2_clear_2 ?_
  refine lv_iconst (v := 1) hx hb dJ2_clear_5 (by decide) ?_
  refine lv_iadd hx hb dJ2_clear_6 ?_
  refine va_put (D := D) (ci := 4) (v := .int (mc + 1)) (ty := .int) (C := RJ2) (T := TJ2) (N := 3) hx hb hts in_J2 tyJ2 tyJ2_ok nmJ2 hown hK hP hD hS 0 rfl rfl 0 (by decide) (hts _ q106) (u_same (hts _ q107)) rfl (by decide +kernel) rfl rfl (Nat.le_of_ble_eq_true rfl) dJ2_clear_7 (fun H locs hP hD hS => ?_)
  have hP : va_P D oc_cl ([(a, .inr (4, [.int (mc + 1), .ref E0, .int 0]))] : va_W) H := hP
  have hD : va_D A ([(a, .inr (4, [.int (mc + 1), .ref E0, .int 0]))] : va_W) := hD
  refine lv_aload_n hx hb dJ2_clear_10 rfl (lv_at hl 0 rfl) ?_
  refine va_get (D := D) (ci := 4) (v := .ref E0) (C := RJ2) (T := TJ2) (N := 3) hx hb hts in_J2 hown hK hP 0 rfl rfl 1 (by decide) (hts _ q103) (fun _ h9 => h9) rfl dJ2_clear_11 ?_
  refine lv_astore_n (lv' := [(1, .ref E0), (0, .ref a)]) hx hb dJ2_clear_14 rfl hl (by decide) rfl (fun ls hl => ?_)
  refine lv_aload_n hx hb dJ2_clear_15 rfl (lv_at hl 1 rfl) ?_
  refine va_get (D := D) (ci := 4) (v := .int 0) (C := RJ2) (T := TJ2) (N := 3) hx hb hts in_J2 hown hK hP 0 rfl rfl 2 (by decide) (hts _ q104) (fun _ h9 => h9) rfl dJ2_clear_16 ?_
  refine lv_istore_n (lv' := [(2, .int 0), (1, .ref E0), (0, .ref a)]) hx hb dJ2_clear_19 rfl hl (by decide) rfl (fun ls hl => ?_)
  refine lv_aload_n hx hb dJ2_clear_20 rfl (lv_at hl 2 rfl) ?_
  refine lv_iconst (v := 0) hx hb dJ2_clear_21 (by decide) ?_
  refine lv_dup_x1 hx hb dJ2_clear_22 rfl rfl ?_
  refine va_put (D := D) (ci := 4) (v := .int 0) (ty := .int) (C := RJ2) (T := TJ2) (N := 3) hx hb hts in_J2 tyJ2 tyJ2_ok nmJ2 hown hK hP hD hS 0 rfl rfl 2 (by decide) (hts _ q104) (fun _ h9 => h9) rfl (by decide +kernel) rfl rfl (Nat.le_of_ble_eq_true rfl) dJ2_clear_23 (fun H locs hP hD hS => ?_)
  have hP : va_P D oc_cl ([(a, .inr (4, [.int (mc + 1), .ref E0, .int 0]))] : va_W) H := hP
  have hD : va_D A ([(a, .inr (4, [.int (mc + 1), .ref E0, .int 0]))] : va_W) := hD
  refine lv_istore_n (lv' := [(3, .int 0), (2, .int 0), (1, .ref E0), (0, .ref a)]) hx hb dJ2_clear_26 rfl hl (by decide) rfl (fun ls hl => ?_)
  refine lv_iload_n hx hb dJ2_clear_27 rfl (lv_at hl 0 rfl) ?_
  refine lv_iload_n hx hb dJ2_clear_28 rfl (lv_at hl 1 rfl) ?_
  refine lv_icmp_ge (x := 0) (y := 0) (tgt := 42) hx hb dJ2_clear_29 (by decide) (fun c29 => ?_) (fun c29 => ?_)
  · -- taken
    exact oc_vret hx hb hr hlocks hS dJ2_clear_42 (⟨none, rfl, rfl, rfl, rfl, hP, hD⟩)
  · exact absurd c29 (by decide)
set_option maxHeartbeats 4000000 in
set_option maxRecDepth 100000 in
theorem kJ2_clearB {l : Launch} {s0 : State} {b0 : Addr} {D : va_G} {d : Nat → ClassId} (G : oc_G l s0 b0 D d) {H : Heap} (a : Nat) (mc : Int32) (ar n cp : Nat) (el : Nat → Option Nat) (hn : n ≤ cp) (hcp : cp < 1000000) (hP : va_P D oc_cl ([(a, .inr (4, [.int mc, .ref ar, .int (nI n)])), (ar, .inl (d 4, cp, .inr (.inr (.inr (.inr el)))))] : va_W) H) (hD : va_D (va_A ([(a, .inr (4, [.int mc, .ref ar, .int (nI n)])), (ar, .inl (d 4, cp, .inr (.inr (.inr (.inr el)))))] : va_W) (Array.size H)) ([(a, .inr (4, [.int mc, .ref ar, .int (nI n)])), (ar, .inl (d 4, cp, .inr (.inr (.inr (.inr el)))))] : va_W)) (hN0 : ∀ x ∈ ([(a, .inr (4, [.int mc, .ref ar, .int (nI n)])), (ar, .inl (d 4, cp, .inr (.inr (.inr (.inr el)))))] : va_W), s0.heap.size ≤ x.1) : oc_C l s0 yJ2_clear (oc_rm 0 0 0 0) [.ref a] H (va_A ([(a, .inr (4, [.int mc, .ref ar, .int (nI n)])), (ar, .inl (d 4, cp, .inr (.inr (.inr (.inr el)))))] : va_W) (Array.size H)) (oc_Pr (fun v H1 k n1 => v = none ∧ k = 0 ∧ n1 = 0 ∧ ∃ x : Nat → Option Nat, va_P D oc_cl [(a, .inr (4, [.int (mc + 1), .ref ar, .int 0])), (ar, .inl (d 4, cp, .inr (.inr (.inr (.inr x)))))] H1 ∧ va_D (va_A ([(a, .inr (4, [.int mc, .ref ar, .int (nI n)])), (ar, .inl (d 4, cp, .inr (.inr (.inr (.inr el)))))] : va_W) (Array.size H)) [(a, .inr (4, [.int (mc + 1), .ref ar, .int 0])), (ar, .inl (d 4, cp, .inr (.inr (.inr (.inr x)))))])) := by
  refine oc_start G (cc := cJ2_clear) (L := 4) (ret := (Option.none : Option Jvm.ClassFile.FieldType)) q479 (Nat.le_of_ble_eq_true rfl) ?_
  intro p e s m below meth c ls hx hok hb hml hr hlocks htab hown hts hK hmn hh hl
  subst hh
  have hl : lv_has ls 4 [(0, .ref a)] := hl
  have hN0 := oc_N0 hok hN0
  have hA : ∀ q, Array.size s.heap ≤ q → (va_A ([(a, .inr (4, [.int mc, .ref ar, .int (nI n)])), (ar, .inl (d 4, cp, .inr (.inr (.inr (.inr el)))))] : va_W) (Array.size s.heap)) q := fun q z => Or.inr z
  have hS : va_S (va_A ([(a, .inr (4, [.int mc, .ref ar, .int (nI n)])), (ar, .inl (d 4, cp, .inr (.inr (.inr (.inr el)))))] : va_W) (Array.size s.heap)) s.heap s.heap [] := va_S.rf
  generalize hAe : (va_A ([(a, .inr (4, [.int mc, .ref ar, .int (nI n)])), (ar, .inl (d 4, cp, .inr (.inr (.inr (.inr el)))))] : va_W) (Array.size s.heap)) = A at *
  refine lv_aload_n hx hb dJ2_clear_0 rfl (lv_at hl 0 rfl) ?_
  refine lv_dup hx hb dJ2_clear_1 rfl ?_
  refine va_get (D := D) (ci := 4) (v := .int mc) (C := RJ2) (T := TJ2) (N := 3) hx hb hts in_J2 hown hK hP 0 rfl rfl 0 (by decide) (hts _ q106) (u_same (hts _ q107)) rfl dJ2_clear_2 ?_
  refine lv_iconst (v := 1) hx hb dJ2_clear_5 (by decide) ?_
  refine lv_iadd hx hb dJ2_clear_6 ?_
  refine va_put (D := D) (ci := 4) (v := .int (mc + 1)) (ty := .int) (C := RJ2) (T := TJ2) (N := 3) hx hb hts in_J2 tyJ2 tyJ2_ok nmJ2 hown hK hP hD hS 0 rfl rfl 0 (by decide) (hts _ q106) (u_same (hts _ q107)) rfl (by decide +kernel) rfl rfl (Nat.le_of_ble_eq_true rfl) dJ2_clear_7 (fun H locs hP hD hS => ?_)
  have hP : va_P D oc_cl ([(a, .inr (4, [.int (mc + 1), .ref ar, .int (nI n)])), (ar, .inl (d 4, cp, .inr (.inr (.inr (.inr el)))))] : va_W) H := hP
  have hD : va_D A ([(a, .inr (4, [.int (mc + 1), .ref ar, .int (nI n)])), (ar, .inl (d 4, cp, .inr (.inr (.inr (.inr el)))))] : va_W) := hD
  refine lv_aload_n hx hb dJ2_clear_10 rfl (lv_at hl 0 rfl) ?_
  refine va_get (D := D) (ci := 4) (v := .ref ar) (C := RJ2) (T := TJ2) (N := 3) hx hb hts in_J2 hown hK hP 0 rfl rfl 1 (by decide) (hts _ q103) (fun _ h9 => h9) rfl dJ2_clear_11 ?_
  refine lv_astore_n (lv' := [(1, .ref ar), (0, .ref a)]) hx hb dJ2_clear_14 rfl hl (by decide) rfl (fun ls hl => ?_)
  refine lv_aload_n hx hb dJ2_clear_15 rfl (lv_at hl 1 rfl) ?_
  refine va_get (D := D) (ci := 4) (v := .int (nI n)) (C := RJ2) (T := TJ2) (N := 3) hx hb hts in_J2 hown hK hP 0 rfl rfl 2 (by decide) (hts _ q104) (fun _ h9 => h9) rfl dJ2_clear_16 ?_
  refine lv_istore_n (lv' := [(2, .int (nI n)), (1, .ref ar), (0, .ref a)]) hx hb dJ2_clear_19 rfl hl (by decide) rfl (fun ls hl => ?_)
  refine lv_aload_n hx hb dJ2_clear_20 rfl (lv_at hl 2 rfl) ?_
  refine lv_iconst (v := 0) hx hb dJ2_clear_21 (by decide) ?_
  refine lv_dup_x1 hx hb dJ2_clear_22 rfl rfl ?_
  refine va_put (D := D) (ci := 4) (v := .int 0) (ty := .int) (C := RJ2) (T := TJ2) (N := 3) hx hb hts in_J2 tyJ2 tyJ2_ok nmJ2 hown hK hP hD hS 0 rfl rfl 2 (by decide) (hts _ q104) (fun _ h9 => h9) rfl (by decide +kernel) rfl rfl (Nat.le_of_ble_eq_true rfl) dJ2_clear_23 (fun H locs hP hD hS => ?_)
  have hP : va_P D oc_cl ([(a, .inr (4, [.int (mc + 1), .ref ar, .int 0])), (ar, .inl (d 4, cp, .inr (.inr (.inr (.inr el)))))] : va_W) H := hP
  have hD : va_D A ([(a, .inr (4, [.int (mc + 1), .ref ar, .int 0])), (ar, .inl (d 4, cp, .inr (.inr (.inr (.inr el)))))] : va_W) := hD
  refine lv_istore_n (lv' := [(3, .int 0), (2, .int (nI n)), (1, .ref ar), (0, .ref a)]) hx hb dJ2_clear_26 rfl hl (by decide) rfl (fun ls hl => ?_)
  have lp27 : ∀ (n_ : Nat) (j : Nat) (x : Nat → Option Nat), (j ≤ n) → (n + 1 ≤ j + n_) → ∀ (H : Heap) (locs : List Loc), va_P D oc_cl ([(a, .inr (4, [.int (mc + 1), .ref ar, .int 0])), (ar, .inl (d 4, cp, .inr (.inr (.inr (.inr x)))))]) H → va_D A ([(a, .inr (4, [.int (mc + 1), .ref ar, .int 0])), (ar, .inl (d 4, cp, .inr (.inr (.inr (.inr x)))))]) → va_S A s.heap H locs → ∀ (ls : Array Slot), lv_has ls 4 [(3, .int (nI j)), (2, .int (nI n)), (1, .ref ar), (0, .ref a)] → W p l e (oc_rm 0 0 0 0) s m ([.ref a] : List Value).toArray below meth c H locs 0 0 (oc_Q A below s (oc_Pr (fun v H1 k n1 => v = none ∧ k = 0 ∧ n1 = 0 ∧ ∃ x : Nat → Option Nat, va_P D oc_cl [(a, .inr (4, [.int (mc + 1), .ref ar, .int 0])), (ar, .inl (d 4, cp, .inr (.inr (.inr (.inr x)))))] H1 ∧ va_D A [(a, .inr (4, [.int (mc + 1), .ref ar, .int 0])), (ar, .inl (d 4, cp, .inr (.inr (.inr (.inr x)))))]))) (F0 m 27 ls []) := by
    intro n_
    induction n_ with
    | zero => intro j x hj hn2 H locs hP hD hS ls hl; exact absurd hn2 (by omega)
    | succ n_ ih27 =>
      intro j x hj hn2 H locs hP hD hS ls hl
      refine lv_iload_n hx hb dJ2_clear_27 rfl (lv_at hl 0 rfl) ?_
      refine lv_iload_n hx hb dJ2_clear_28 rfl (lv_at hl 1 rfl) ?_
      refine lv_icmp_ge (x := nI j) (y := nI n) (tgt := 42) hx hb dJ2_clear_29 (by decide) (fun c29 => ?_) (fun c29 => ?_)
      · -- taken
        rw [oc_le (x := nI n) (y := nI j) (a := n) (b := j) rfl rfl (by omega) (by omega)] at c29
        exact oc_vret hx hb hr hlocks hS dJ2_clear_42 (⟨none, rfl, rfl, rfl, rfl, x, hP, hD⟩)
      · -- not taken
        rw [oc_le (x := nI n) (y := nI j) (a := n) (b := j) rfl rfl (by omega) (by omega)] at c29
        refine lv_aload_n hx hb dJ2_clear_32 rfl (lv_at hl 2 rfl) ?_
        refine lv_iload_n hx hb dJ2_clear_33 rfl (lv_at hl 0 rfl) ?_
        refine lv_null hx hb dJ2_clear_34 ?_
        refine oc_aastN hx hb hK hP hD hS 1 4 rfl rfl j rfl (by omega) (by omega) dJ2_clear_35 (fun H locs hP hD hS => ?_)
        have hP : va_P D oc_cl ([(a, .inr (4, [.int (mc + 1), .ref ar, .int 0])), (ar, .inl (d 4, cp, .inr (.inr (.inr (.inr (va_up x j none))))))] : va_W) H := hP
        have hD : va_D A ([(a, .inr (4, [.int (mc + 1), .ref ar, .int 0])), (ar, .inl (d 4, cp, .inr (.inr (.inr (.inr (va_up x j none))))))] : va_W) := hD
        refine lv_iinc (v := nI (j + 1)) (lv' := [(3, .int (nI (j + 1))), (2, .int (nI n)), (1, .ref ar), (0, .ref a)]) hx hb dJ2_clear_36 hl (k := 0) rfl (nI_1 j) (by decide) rfl (fun ls hl => ?_)
        refine lv_goto (tgt := 27) hx hb dJ2_clear_39 (by decide) ?_
        exact ih27 (j + 1) (va_up x j none) (by omega) (by omega) H locs hP hD hS ls (lv_sub hl [0, 1, 2, 3] rfl)
  exact lp27 (n + 1) 0 el (by omega) (by omega) H locs hP hD hS ls (lv_sub hl [0, 1, 2, 3] rfl)
