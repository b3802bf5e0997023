/-! ===== OriginRules: plain questions; what throws; small objects ===== -/
set_option maxHeartbeats 4000000 in
set_option maxRecDepth 100000 in
theorem kX1_in {l : Launch} {s0 : State} {b0 : Addr} {D : va_G} {d : Nat → ClassId} (G : oc_G l s0 b0 D d) {H : Heap} (v a b : Int64) : oc_C l s0 yX1_in (oc_rm 0 0 0 0) [.long v, .long a, .long b] H oc_N (oc_R (some (.int (oc_b (oc_in v a b)))) H) := by
  refine oc_start G (cc := cX1_in) (L := 6) (ret := (Option.some Jvm.ClassFile.FieldType.boolean)) q195 (Nat.le_of_ble_eq_true rfl) ?_
  intro p e s m below meth c ls hx hok hb hml hr hlocks htab hown hts hK hmn hh hl
  subst hh
  have hl : lv_has ls 6 [(0, .long v), (2, .long a), (4, .long b)] := hl
  have hZ := oc_Z0 hok
  refine lv_lload_n hx hb dX1_in_0 rfl (lv_at hl 0 rfl) ?_
  refine lv_lload_n hx hb dX1_in_1 rfl (lv_at hl 1 rfl) ?_
  refine W.lcmp hx hb dX1_in_2 ?_
  refine lv_if_lt (tgt := 17) hx hb dX1_in_3 (by decide) (fun c3 => ?_) (fun c3 => ?_)
  · -- taken
    rw [lg_cmp_lt] at c3
    refine lv_iconst (v := 0) hx hb dX1_in_17 (by decide) ?_
    exact oc_zret hx hb hr hlocks va_S.rf dX1_in_18 rfl (oc_Ri (by first | (simp [oc_in, oc_b, *]; done) | (exfalso; grind)))
  · -- not taken
    rw [lg_cmp_lt] at c3
    refine lv_lload_n hx hb dX1_in_6 rfl (lv_at hl 0 rfl) ?_
    refine lv_lload hx hb dX1_in_7 (lv_at hl 2 rfl) ?_
    refine W.lcmp hx hb dX1_in_9 ?_
    refine lv_if_gt (tgt := 17) hx hb dX1_in_10 (by decide) (fun c10 => ?_) (fun c10 => ?_)
    · -- taken
      rw [lg_cmp_gt] at c10
      refine lv_iconst (v := 0) hx hb dX1_in_17 (by decide) ?_
      exact oc_zret hx hb hr hlocks va_S.rf dX1_in_18 rfl (oc_Ri (by first | (simp [oc_in, oc_b, *]; done) | (exfalso; grind)))
    · -- not taken
      rw [lg_cmp_gt] at c10
      refine lv_iconst (v := 1) hx hb dX1_in_13 (by decide) ?_
      refine lv_goto (tgt := 18) hx hb dX1_in_14 (by decide) ?_
      exact oc_zret hx hb hr hlocks va_S.rf dX1_in_18 rfl (oc_Ri (by first | (simp [oc_in, oc_b, *]; done) | (exfalso; grind)))
set_option maxHeartbeats 4000000 in
set_option maxRecDepth 100000 in
theorem kX1_isLand {l : Launch} {s0 : State} {b0 : Addr} {D : va_G} {d : Nat → ClassId} (G : oc_G l s0 b0 D d) {H : Heap} (x : Int32) : oc_C l s0 yX1_isLand (oc_rm 1 17 0 0) [.int x] H oc_N (oc_R (some (.int (oc_b (oc_in x.toInt64 0 9)))) H) := by
  refine oc_start G (cc := cX1_isLand) (L := 1) (ret := (Option.some Jvm.ClassFile.FieldType.boolean)) q555 (Nat.le_of_ble_eq_true rfl) ?_
  intro p e s m below meth c ls hx hok hb hml hr hlocks htab hown hts hK hmn hh hl
  subst hh
  have hl : lv_has ls 1 [(0, .int x)] := hl
  have hZ := oc_Z0 hok
  refine lv_iload_n hx hb dX1_isLand_0 rfl (lv_at hl 0 rfl) ?_
  refine lv_i2l (v := x.toInt64) hx hb dX1_isLand_1 rfl ?_
  refine lv_lconst (v := 0) hx hb dX1_isLand_2 (by decide) ?_
  refine lv_ldc2 (v := 9) hx hb hown (hts _ q556) dX1_isLand_3 ?_
  refine oc_callR1 hx hb hml hl.1 hZ (oc_iS (As := [.long x.toInt64, .long 0, .long 9]) (rest := []) hx hb hown (hts _ q193) (hts _ q194) (hts _ q24) (hts _ q195) ⟨by decide, by decide, (by decide +kernel : (parseMethodDescriptor "(JJJ)Z").map (fun d => d.parameters.length) = some 3)⟩ dX1_isLand_6 rfl) (oc_M.of (by decide +kernel) (hts _ q195)) (kX1_in G x.toInt64 0 9) dX1_isLand_6 (Nat.le_of_ble_eq_true rfl) (Nat.le_of_ble_eq_true rfl) (by dsimp only [oc_rm]; omega) (by dsimp only [oc_rm]; omega) ?_
  exact oc_zret hx hb hr hlocks va_S.rf dX1_isLand_9 (oc_bn _) (oc_Ri (rfl))
set_option maxHeartbeats 4000000 in
set_option maxRecDepth 100000 in
theorem kX1_isCode {l : Launch} {s0 : State} {b0 : Addr} {D : va_G} {d : Nat → ClassId} (G : oc_G l s0 b0 D d) {H : Heap} (x : Int32) : oc_C l s0 yX1_isCode (oc_rm 1 17 0 0) [.int x] H oc_N (oc_R (some (.int (oc_b (oc_in x.toInt64 1 999999)))) H) := by
  refine oc_start G (cc := cX1_isCode) (L := 1) (ret := (Option.some Jvm.ClassFile.FieldType.boolean)) q551 (Nat.le_of_ble_eq_true rfl) ?_
  intro p e s m below meth c ls hx hok hb hml hr hlocks htab hown hts hK hmn hh hl
  subst hh
  have hl : lv_has ls 1 [(0, .int x)] := hl
  have hZ := oc_Z0 hok
  refine lv_iload_n hx hb dX1_isCode_0 rfl (lv_at hl 0 rfl) ?_
  refine lv_i2l (v := x.toInt64) hx hb dX1_isCode_1 rfl ?_
  refine lv_lconst (v := 1) hx hb dX1_isCode_2 (by decide) ?_
  refine lv_ldc2 (v := 999999) hx hb hown (hts _ q552) dX1_isCode_3 ?_
  refine oc_callR1 hx hb hml hl.1 hZ (oc_iS (As := [.long x.toInt64, .long 1, .long 999999]) (rest := []) hx hb hown (hts _ q193) (hts _ q194) (hts _ q24) (hts _ q195) ⟨by decide, by decide, (by decide +kernel : (parseMethodDescriptor "(JJJ)Z").map (fun d => d.parameters.length) = some 3)⟩ dX1_isCode_6 rfl) (oc_M.of (by decide +kernel) (hts _ q195)) (kX1_in G x.toInt64 1 999999) dX1_isCode_6 (Nat.le_of_ble_eq_true rfl) (Nat.le_of_ble_eq_true rfl) (by dsimp only [oc_rm]; omega) (by dsimp only [oc_rm]; omega) ?_
  exact oc_zret hx hb hr hlocks va_S.rf dX1_isCode_9 (oc_bn _) (oc_Ri (rfl))
set_option maxHeartbeats 4000000 in
set_option maxRecDepth 100000 in
theorem kX1_isDay {l : Launch} {s0 : State} {b0 : Addr} {D : va_G} {d : Nat → ClassId} (G : oc_G l s0 b0 D d) {H : Heap} (x : Int32) : oc_C l s0 yX1_isDay (oc_rm 1 17 0 0) [.int x] H oc_N (oc_R (some (.int (oc_b (oc_in x.toInt64 0 100000)))) H) := by
  refine oc_start G (cc := cX1_isDay) (L := 1) (ret := (Option.some Jvm.ClassFile.FieldType.boolean)) q764 (Nat.le_of_ble_eq_true rfl) ?_
  intro p e s m below meth c ls hx hok hb hml hr hlocks htab hown hts hK hmn hh hl
  subst hh
  have hl : lv_has ls 1 [(0, .int x)] := hl
  have hZ := oc_Z0 hok
  refine lv_iload_n hx hb dX1_isDay_0 rfl (lv_at hl 0 rfl) ?_
  refine lv_i2l (v := x.toInt64) hx hb dX1_isDay_1 rfl ?_
  refine lv_lconst (v := 0) hx hb dX1_isDay_2 (by decide) ?_
  refine lv_ldc2 (v := 100000) hx hb hown (hts _ q765) dX1_isDay_3 ?_
  refine oc_callR1 hx hb hml hl.1 hZ (oc_iS (As := [.long x.toInt64, .long 0, .long 100000]) (rest := []) hx hb hown (hts _ q193) (hts _ q194) (hts _ q24) (hts _ q195) ⟨by decide, by decide, (by decide +kernel : (parseMethodDescriptor "(JJJ)Z").map (fun d => d.parameters.length) = some 3)⟩ dX1_isDay_6 rfl) (oc_M.of (by decide +kernel) (hts _ q195)) (kX1_in G x.toInt64 0 100000) dX1_isDay_6 (Nat.le_of_ble_eq_true rfl) (Nat.le_of_ble_eq_true rfl) (by dsimp only [oc_rm]; omega) (by dsimp only [oc_rm]; omega) ?_
  exact oc_zret hx hb hr hlocks va_S.rf dX1_isDay_9 (oc_bn _) (oc_Ri (rfl))
set_option maxHeartbeats 4000000 in
set_option maxRecDepth 100000 in
theorem kX1_isProcess {l : Launch} {s0 : State} {b0 : Addr} {D : va_G} {d : Nat → ClassId} (G : oc_G l s0 b0 D d) {H : Heap} (x : Int32) : oc_C l s0 yX1_isProcess (oc_rm 1 17 0 0) [.int x] H oc_N (oc_R (some (.int (oc_b (oc_in x.toInt64 0 15)))) H) := by
  refine oc_start G (cc := cX1_isProcess) (L := 1) (ret := (Option.some Jvm.ClassFile.FieldType.boolean)) q486 (Nat.le_of_ble_eq_true rfl) ?_
  intro p e s m below meth c ls hx hok hb hml hr hlocks htab hown hts hK hmn hh hl
  subst hh
  have hl : lv_has ls 1 [(0, .int x)] := hl
  have hZ := oc_Z0 hok
  refine lv_iload_n hx hb dX1_isProcess_0 rfl (lv_at hl 0 rfl) ?_
  refine lv_i2l (v := x.toInt64) hx hb dX1_isProcess_1 rfl ?_
  refine lv_lconst (v := 0) hx hb dX1_isProcess_2 (by decide) ?_
  refine lv_ldc2 (v := 15) hx hb hown (hts _ q487) dX1_isProcess_3 ?_
  refine oc_callR1 hx hb hml hl.1 hZ (oc_iS (As := [.long x.toInt64, .long 0, .long 15]) (rest := []) hx hb hown (hts _ q193) (hts _ q194) (hts _ q24) (hts _ q195) ⟨by decide, by decide, (by decide +kernel : (parseMethodDescriptor "(JJJ)Z").map (fun d => d.parameters.length) = some 3)⟩ dX1_isProcess_6 rfl) (oc_M.of (by decide +kernel) (hts _ q195)) (kX1_in G x.toInt64 0 15) dX1_isProcess_6 (Nat.le_of_ble_eq_true rfl) (Nat.le_of_ble_eq_true rfl) (by dsimp only [oc_rm]; omega) (by dsimp only [oc_rm]; omega) ?_
  exact oc_zret hx hb hr hlocks va_S.rf dX1_isProcess_9 (oc_bn _) (oc_Ri (rfl))
set_option maxHeartbeats 4000000 in
set_option maxRecDepth 100000 in
theorem kX1_isSum {l : Launch} {s0 : State} {b0 : Addr} {D : va_G} {d : Nat → ClassId} (G : oc_G l s0 b0 D d) {H : Heap} (x : Int64) : oc_C l s0 yX1_isSum (oc_rm 1 17 0 0) [.long x] H oc_N (oc_R (some (.int (oc_b (oc_in x 0 1000000000)))) H) := by
  refine oc_start G (cc := cX1_isSum) (L := 2) (ret := (Option.some Jvm.ClassFile.FieldType.boolean)) q559 (Nat.le_of_ble_eq_true rfl) ?_
  intro p e s m below meth c ls hx hok hb hml hr hlocks htab hown hts hK hmn hh hl
  subst hh
  have hl : lv_has ls 2 [(0, .long x)] := hl
  have hZ := oc_Z0 hok
  refine lv_lload_n hx hb dX1_isSum_0 rfl (lv_at hl 0 rfl) ?_
  refine lv_lconst (v := 0) hx hb dX1_isSum_1 (by decide) ?_
  refine lv_ldc2 (v := 1000000000) hx hb hown (hts _ q560) dX1_isSum_2 ?_
  refine oc_callR1 hx hb hml hl.1 hZ (oc_iS (As := [.long x, .long 0, .long 1000000000]) (rest := []) hx hb hown (hts _ q193) (hts _ q194) (hts _ q24) (hts _ q195) ⟨by decide, by decide, (by decide +kernel : (parseMethodDescriptor "(JJJ)Z").map (fun d => d.parameters.length) = some 3)⟩ dX1_isSum_5 rfl) (oc_M.of (by decide +kernel) (hts _ q195)) (kX1_in G x 0 1000000000) dX1_isSum_5 (Nat.le_of_ble_eq_true rfl) (Nat.le_of_ble_eq_true rfl) (by dsimp only [oc_rm]; omega) (by dsimp only [oc_rm]; omega) ?_
  exact oc_zret hx hb hr hlocks va_S.rf dX1_isSum_8 (oc_bn _) (oc_Ri (rfl))
set_option maxHeartbeats 4000000 in
set_option maxRecDepth 100000 in
theorem kX1_allow0 {l : Launch} {s0 : State} {b0 : Addr} {D : va_G} {d : Nat → ClassId} (G : oc_G l s0 b0 D d) {H : Heap} : oc_C l s0 yX1_allow (oc_rm 6 81 1 6) [.int 0] H (oc_fA H) (oc_T s0 RJ9 H) := by
  refine oc_start G (cc := cX1_allow) (L := 1) (ret := (Option.none : Option Jvm.ClassFile.FieldType)) q563 (Nat.le_of_ble_eq_true rfl) ?_
  intro p e s m below meth c ls hx hok hb hml hr hlocks htab hown hts hK hmn hh hl
  subst hh
  have hl : lv_has ls 1 [(0, .int 0)] := hl
  refine lv_iload_n hx hb dX1_allow_0 rfl (lv_at hl 0 rfl) ?_
  refine lv_if_ne (x := 0) (tgt := 12) hx hb dX1_allow_1 (by decide) (fun c1 => absurd rfl c1) (fun _ => ?_)
  obtain ⟨cX, kX, hfX, hkX, -⟩ := Cond.instantiable_spec (hts _ q565)
  refine W.newcK (C := RJ9) hx hb hown (hts _ q564) (hts _ q565) (hts _ q47) (g := F0 m 4 ls []) rfl dX1_allow_4 (Nat.le_of_ble_eq_true rfl) (Nat.le_of_ble_eq_true rfl) hfX rfl (fun H1 kC hkC e1 z1 o1 => ?_)
  cases Option.some.inj (hkC.symm.trans hkX)
  refine W.eq (g2 := F0 m 7 ls [.ref s.heap.size]) rfl ?_
  refine lv_dup hx hb dX1_allow_7 rfl ?_
  refine oc_xinit (cls := RJ9) (names := ["java/lang/RuntimeException", "java/lang/Exception"]) hx hb hml hl.1 G.1 (oc_iI (As := []) (rest := [.ref s.heap.size]) hx hb hown (hts _ q573) (hts _ q574) (hts _ q575) ⟨by decide, by decide, by decide, (by decide +kernel : (parseMethodDescriptor "()V").map (fun d => d.parameters.length) = some 0)⟩ dX1_allow_8 rfl) (by decide +kernel) (by decide +kernel) (oc_ws G hok _ [31, 252, 261, 266, 269, 271, 253, 254, 61, 62, 255, 260, 267, 284, 242, 285, 244, 286, 246, 256, 257, 258, 259, 248, 574, 575, 576, 276, 233, 276, 277, 278, 279, 235, 279, 280, 281, 253, 237, 565, 566, 567, 264, 568, 569, 570, 251, 250, 572] (by decide +kernel) (by decide +kernel)) ⟨oc_isref G hok q257 (by decide +kernel), oc_isref G hok q259 (by decide +kernel)⟩ hfX hkX e1 (Nat.le_refl _) dX1_allow_8 (Nat.le_of_ble_eq_true rfl) (Nat.le_of_ble_eq_true rfl) (fun H2 locs2 ce z2 o2 e2 e3 e4 hlc => ?_)
  refine oc_athrow hx hb dX1_allow_11 ?_
  refine oc_xout hlocks (by rw [htab]; intro x hx; cases hx) ⟨by omega, fun q h1 h2 => ?_, fun x hx => by show s.heap.size ≤ x.base; rw [hlc x hx]; exact Nat.le_refl _⟩ ⟨s.heap.size, rfl, rfl, rfl, Nat.le_refl _, ce, e2, e4, ?_⟩
  · rw [o2 q (by omega), o1 q h1]
  · rw [e3, ← hok.1.alike.findClass]; exact hfX
set_option maxHeartbeats 4000000 in
set_option maxRecDepth 100000 in
theorem kX1_allow1 {l : Launch} {s0 : State} {b0 : Addr} {D : va_G} {d : Nat → ClassId} (G : oc_G l s0 b0 D d) {H : Heap} : oc_C l s0 yX1_allow (oc_rm 0 0 0 0) [.int 1] H oc_N (oc_R none H) := by
  refine oc_start G (cc := cX1_allow) (L := 1) (ret := (Option.none : Option Jvm.ClassFile.FieldType)) q563 (Nat.le_of_ble_eq_true rfl) ?_
  intro p e s m below meth c ls hx hok hb hml hr hlocks htab hown hts hK hmn hh hl
  subst hh
  have hl : lv_has ls 1 [(0, .int 1)] := hl
  have hZ := oc_Z0 hok
  refine lv_iload_n hx hb dX1_allow_0 rfl (lv_at hl 0 rfl) ?_
  refine lv_if_ne (x := 1) (tgt := 12) hx hb dX1_allow_1 (by decide) (fun c1 => ?_) (fun c1 => ?_)
  · -- taken
    exact oc_vret hx hb hr hlocks va_S.rf dX1_allow_12 ⟨rfl, rfl, rfl, rfl⟩
  · exact absurd c1 (by decide)
set_option maxHeartbeats 4000000 in
set_option maxRecDepth 100000 in
theorem kX1_room0 {l : Launch} {s0 : State} {b0 : Addr} {D : va_G} {d : Nat → ClassId} (G : oc_G l s0 b0 D d) {H : Heap} : oc_C l s0 yX1_room (oc_rm 6 81 1 6) [.int 0] H (oc_fA H) (oc_T s0 RJ10 H) := by
  refine oc_start G (cc := cX1_room) (L := 1) (ret := (Option.none : Option Jvm.ClassFile.FieldType)) q581 (Nat.le_of_ble_eq_true rfl) ?_
  intro p e s m below meth c ls hx hok hb hml hr hlocks htab hown hts hK hmn hh hl
  subst hh
  have hl : lv_has ls 1 [(0, .int 0)] := hl
  refine lv_iload_n hx hb dX1_room_0 rfl (lv_at hl 0 rfl) ?_
  refine lv_if_ne (x := 0) (tgt := 12) hx hb dX1_room_1 (by decide) (fun c1 => absurd rfl c1) (fun _ => ?_)
  obtain ⟨cX, kX, hfX, hkX, -⟩ := Cond.instantiable_spec (hts _ q583)
  refine W.newcK (C := RJ10) hx hb hown (hts _ q582) (hts _ q583) (hts _ q48) (g := F0 m 4 ls []) rfl dX1_room_4 (Nat.le_of_ble_eq_true rfl) (Nat.le_of_ble_eq_true rfl) hfX rfl (fun H1 kC hkC e1 z1 o1 => ?_)
  cases Option.some.inj (hkC.symm.trans hkX)
  refine W.eq (g2 := F0 m 7 ls [.ref s.heap.size]) rfl ?_
  refine lv_dup hx hb dX1_room_7 rfl ?_
  refine oc_xinit (cls := RJ10) (names := ["java/lang/RuntimeException", "java/lang/Exception"]) hx hb hml hl.1 G.1 (oc_iI (As := []) (rest := [.ref s.heap.size]) hx hb hown (hts _ q591) (hts _ q592) (hts _ q593) ⟨by decide, by decide, by decide, (by decide +kernel : (parseMethodDescriptor "()V").map (fun d => d.parameters.length) = some 0)⟩ dX1_room_8 rfl) (by decide +kernel) (by decide +kernel) (oc_ws G hok _ [31, 252, 261, 266, 269, 271, 253, 254, 61, 62, 255, 260, 267, 284, 242, 285, 244, 286, 246, 256, 257, 258, 259, 248, 592, 593, 594, 276, 233, 276, 277, 278, 279, 235, 279, 280, 281, 253, 237, 583, 584, 585, 265, 586, 587, 588, 251, 250, 590] (by decide +kernel) (by decide +kernel)) ⟨oc_isref G hok q257 (by decide +kernel), oc_isref G hok q259 (by decide +kernel)⟩ hfX hkX e1 (Nat.le_refl _) dX1_room_8 (Nat.le_of_ble_eq_true rfl) (Nat.le_of_ble_eq_true rfl) (fun H2 locs2 ce z2 o2 e2 e3 e4 hlc => ?_)
  refine oc_athrow hx hb dX1_room_11 ?_
  refine oc_xout hlocks (by rw [htab]; intro x hx; cases hx) ⟨by omega, fun q h1 h2 => ?_, fun x hx => by show s.heap.size ≤ x.base; rw [hlc x hx]; exact Nat.le_refl _⟩ ⟨s.heap.size, rfl, rfl, rfl, Nat.le_refl _, ce, e2, e4, ?_⟩
  · rw [o2 q (by omega), o1 q h1]
  · rw [e3, ← hok.1.alike.findClass]; exact hfX
set_option maxHeartbeats 4000000 in
set_option maxRecDepth 100000 in
theorem kX1_room1 {l : Launch} {s0 : State} {b0 : Addr} {D : va_G} {d : Nat → ClassId} (G : oc_G l s0 b0 D d) {H : Heap} : oc_C l s0 yX1_room (oc_rm 0 0 0 0) [.int 1] H oc_N (oc_R none H) := by
  refine oc_start G (cc := cX1_room) (L := 1) (ret := (Option.none : Option Jvm.ClassFile.FieldType)) q581 (Nat.le_of_ble_eq_true rfl) ?_
  intro p e s m below meth c ls hx hok hb hml hr hlocks htab hown hts hK hmn hh hl
  subst hh
  have hl : lv_has ls 1 [(0, .int 1)] := hl
  have hZ := oc_Z0 hok
  refine lv_iload_n hx hb dX1_room_0 rfl (lv_at hl 0 rfl) ?_
  refine lv_if_ne (x := 1) (tgt := 12) hx hb dX1_room_1 (by decide) (fun c1 => ?_) (fun c1 => ?_)
  · -- taken
    exact oc_vret hx hb hr hlocks va_S.rf dX1_room_12 ⟨rfl, rfl, rfl, rfl⟩
  · exact absurd c1 (by decide)
set_option maxHeartbeats 4000000 in
set_option maxRecDepth 100000 in
theorem kX2_need0 {l : Launch} {s0 : State} {b0 : Addr} {D : va_G} {d : Nat → ClassId} (G : oc_G l s0 b0 D d) {H : Heap} (r : Nat) : oc_C l s0 yX2_need (oc_rm 6 81 1 6) [.ref r, .int 0] H (oc_fA H) (oc_T s0 RX5 H) := by
  refine oc_start G (cc := cX2_need) (L := 2) (ret := (Option.none : Option Jvm.ClassFile.FieldType)) q229 (Nat.le_of_ble_eq_true rfl) ?_
  intro p e s m below meth c ls hx hok hb hml hr hlocks htab hown hts hK hmn hh hl
  subst hh
  have hl : lv_has ls 2 [(0, .ref r), (1, .int 0)] := hl
  refine lv_iload_n hx hb dX2_need_0 rfl (lv_at hl 1 rfl) ?_
  refine lv_if_ne (x := 0) (tgt := 12) hx hb dX2_need_1 (by decide) (fun c1 => absurd rfl c1) (fun _ => ?_)
  obtain ⟨cX, kX, hfX, hkX, -⟩ := Cond.instantiable_spec (hts _ q231)
  refine W.newcK (C := RX5) hx hb hown (hts _ q230) (hts _ q231) (hts _ q34) (g := F0 m 4 ls []) rfl dX2_need_4 (Nat.le_of_ble_eq_true rfl) (Nat.le_of_ble_eq_true rfl) hfX rfl (fun H1 kC hkC e1 z1 o1 => ?_)
  cases Option.some.inj (hkC.symm.trans hkX)
  refine W.eq (g2 := F0 m 7 ls [.ref s.heap.size]) rfl ?_
  refine lv_dup hx hb dX2_need_7 rfl ?_
  refine oc_xinit (cls := RX5) (names := ["java/lang/RuntimeException", "java/lang/Exception"]) hx hb hml hl.1 G.1 (oc_iIN (As := []) (rest := [.ref s.heap.size]) hx hb hown (oc_wM G hok q272) (hts _ q273) (hts _ q274) ⟨by decide, by decide, by decide, (by decide +kernel : (parseMethodDescriptor "()V").map (fun d => d.parameters.length) = some 0)⟩ dX2_need_8 rfl) (by decide +kernel) (by decide +kernel) (oc_ws G hok _ [31, 252, 261, 266, 269, 271, 253, 254, 61, 62, 255, 260, 267, 284, 242, 285, 244, 286, 246, 256, 257, 258, 259, 248, 273, 274, 275, 276, 233, 276, 277, 278, 279, 235, 279, 280, 281, 253, 237, 231, 232, 239, 240, 241, 243, 245, 251, 250, 249] (by decide +kernel) (by decide +kernel)) ⟨oc_isref G hok q257 (by decide +kernel), oc_isref G hok q259 (by decide +kernel)⟩ hfX hkX e1 (Nat.le_refl _) dX2_need_8 (Nat.le_of_ble_eq_true rfl) (Nat.le_of_ble_eq_true rfl) (fun H2 locs2 ce z2 o2 e2 e3 e4 hlc => ?_)
  refine oc_athrow hx hb dX2_need_11 ?_
  refine oc_xout hlocks (by rw [htab]; intro x hx; cases hx) ⟨by omega, fun q h1 h2 => ?_, fun x hx => by show s.heap.size ≤ x.base; rw [hlc x hx]; exact Nat.le_refl _⟩ ⟨s.heap.size, rfl, rfl, rfl, Nat.le_refl _, ce, e2, e4, ?_⟩
  · rw [o2 q (by omega), o1 q h1]
  · rw [e3, ← hok.1.alike.findClass]; exact hfX
set_option maxHeartbeats 4000000 in
set_option maxRecDepth 100000 in
theorem kX2_need1 {l : Launch} {s0 : State} {b0 : Addr} {D : va_G} {d : Nat → ClassId} (G : oc_G l s0 b0 D d) {H : Heap} (r : Nat) : oc_C l s0 yX2_need (oc_rm 0 0 0 0) [.ref r, .int 1] H oc_N (oc_R none H) := by
  refine oc_start G (cc := cX2_need) (L := 2) (ret := (Option.none : Option Jvm.ClassFile.FieldType)) q229 (Nat.le_of_ble_eq_true rfl) ?_
  intro p e s m below meth c ls hx hok hb hml hr hlocks htab hown hts hK hmn hh hl
  subst hh
  have hl : lv_has ls 2 [(0, .ref r), (1, .int 1)] := hl
  have hZ := oc_Z0 hok
  refine lv_iload_n hx hb dX2_need_0 rfl (lv_at hl 1 rfl) ?_
  refine lv_if_ne (x := 1) (tgt := 12) hx hb dX2_need_1 (by decide) (fun c1 => ?_) (fun c1 => ?_)
  · -- taken
    exact oc_vret hx hb hr hlocks va_S.rf dX2_need_12 ⟨rfl, rfl, rfl, rfl⟩
  · exact absurd c1 (by decide)
