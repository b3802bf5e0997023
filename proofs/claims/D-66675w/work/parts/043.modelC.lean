/-! ===== OriginRulesModel: the plain changes ===== -/
abbrev oc_Φ : Type := Option Value → (Nat → Int32) → (Nat → Nat → Int32) → (Nat → Int64) → Prop
def sp_refuse (I : Nat → Int32) (F : Nat → Nat → Int32) (L : Nat → Int64) (y : Int32) : oc_Φ := fun v I' F' L' => v = some (.int 0) ∧ I' = upd I 0 y ∧ F' = F ∧ L' = L
def sp_sign (I : Nat → Int32) (F : Nat → Nat → Int32) (L : Nat → Int64) (n : Nat) (x : Int32) : oc_Φ := fun v I' F' L' => L' = L ∧
  ((oc_in x.toInt64 33 126 = true ∧ ¬ n = 300 ∧ v = some (.int 1) ∧ I' = upd (upd I 0 0) 2 (I 2 + 1) ∧ F' = va_up F 1 (upd (F 1) n x)) ∨
   ((oc_in x.toInt64 33 126 = false ∨ n = 300) ∧ v = some (.int 0) ∧ I' = upd I 0 0 ∧ F' = F))
def oc_pok (x y : Int32) (z : Int64) : Bool := oc_in x.toInt64 1 999999 && oc_in y.toInt64 0 9 && oc_in z 0 1000000000
def sp_part (I : Nat → Int32) (F : Nat → Nat → Int32) (L : Nat → Int64) (n : Nat) (x y : Int32) (z : Int64) : oc_Φ := fun v I' F' L' =>
  (oc_pok x y z = false ∧ sp_refuse I F L 1 v I' F' L') ∨ (oc_pok x y z = true ∧ n = 12 ∧ sp_refuse I F L 2 v I' F' L') ∨
  (oc_pok x y z = true ∧ ¬ n = 12 ∧ v = some (.int (I 7 + 1)) ∧ I' = upd (upd I 0 0) 7 (I 7 + 1) ∧ F' = va_up (va_up F 8 (upd (F 8) n x)) 9 (upd (F 9) n y) ∧ L' = vp_updL L n z)
def sp_clear (I : Nat → Int32) (F : Nat → Nat → Int32) (L : Nat → Int64) : oc_Φ := fun v I' F' L' => v = some (.int (I 7)) ∧ I' = upd (upd (upd I 0 0) 7 0) 11 0 ∧ F' = F ∧ L' = L
def oc_bit (x y : Int32) : Bool := decide ((x >>> (y &&& 31)) &&& 1 = 1)
def sp_process (I : Nat → Int32) (F : Nat → Nat → Int32) (L : Nat → Int64) (x : Int32) : oc_Φ := fun v I' F' L' => F' = F ∧ L' = L ∧
  ((oc_in x.toInt64 0 15 && !oc_bit (I 11) x) = true ∧ v = some (.int 1) ∧ I' = upd (upd I 0 0) 11 (I 11 ||| 1 <<< (x &&& 31)) ∨ (oc_in x.toInt64 0 15 && !oc_bit (I 11) x) = false ∧ v = some (.int 0) ∧ I' = upd I 0 0)
def sp_bar (I : Nat → Int32) (F : Nat → Nat → Int32) (L : Nat → Int64) (x y : Int32) : oc_Φ := fun v I' F' L' => F' = F ∧ L' = L ∧
  ((oc_in x.toInt64 0 15 && !decide (oc_b (oc_bit (I 12) x) = y)) = true ∧ v = some (.int 1) ∧ I' = upd (upd I 0 0) 12 (I 12 ^^^ 1 <<< (x &&& 31)) ∨ (oc_in x.toInt64 0 15 && !decide (oc_b (oc_bit (I 12) x) = y)) = false ∧ v = some (.int 0) ∧ I' = upd I 0 0)
def sp_full (I : Nat → Int32) (F : Nat → Nat → Int32) (L : Nat → Int64) (b : Bool) : oc_Φ := fun v I' F' L' => F' = F ∧ L' = L ∧ v = some (.int (oc_b (!decide (I 15 = oc_b b)))) ∧ I' = upd (upd I 0 0) 15 (oc_b b)
def sp_tol (I : Nat → Int32) (F : Nat → Nat → Int32) (L : Nat → Int64) (x y : Int32) : oc_Φ := fun v I' F' L' => F' = F ∧ L' = L ∧
  ((oc_in y.toInt64 1 1000 && oc_in x.toInt64 0 y.toInt64) = true ∧ v = some (.int 1) ∧ I' = upd (upd (upd I 0 0) 16 x) 17 y ∨ (oc_in y.toInt64 1 1000 && oc_in x.toInt64 0 y.toInt64) = false ∧ v = some (.int 0) ∧ I' = upd I 0 0)
def sp_own (I : Nat → Int32) (F : Nat → Nat → Int32) (L : Nat → Int64) (x : Int32) : oc_Φ := fun v I' F' L' => F' = F ∧ L' = L ∧
  (oc_in x.toInt64 0 9 = true ∧ v = some (.int (oc_b (oc_mw I F x))) ∧ I' = upd I 0 0 ∨ oc_in x.toInt64 0 9 = false ∧ v = some (.int 0) ∧ I' = upd I 0 1)
def sp_why (I : Nat → Int32) (F : Nat → Nat → Int32) (L : Nat → Int64) (n : Nat) (x : Int32) : oc_Φ := fun v I' F' L' => F' = F ∧ L' = L ∧ I' = upd I 0 0 ∧
  ((∃ k, k < n ∧ x = nI k ∧ v = some (.int (F 23 k))) ∨ ((x < 0 ∨ nI n ≤ x) ∧ v = some (.int (-1))))
set_option maxHeartbeats 4000000 in
set_option maxRecDepth 100000 in
theorem kX4_refuse {l : Launch} {s0 : State} {b0 : Addr} {D : va_G} {d : Nat → ClassId} (G : oc_G l s0 b0 D d) {h : Nat → Nat} {I : Nat → Int32} {F : Nat → Nat → Int32} {L : Nat → Int64} {H : Heap} (hP : va_P D oc_cl (oc_mW d h I F L) H) (hD : va_D (oc_hA h) (oc_mW d h I F L)) (hN0 : ∀ q, oc_hA h q → s0.heap.size ≤ q) (y : Int32) : oc_C l s0 yX4_refuse (oc_rm 0 0 0 0) [.ref (h 0), .int y] H (oc_hA h) (oc_Pm D d h (sp_refuse I F L y)) := by
  refine oc_start G (cc := cX4_refuse) (L := 2) (ret := (Option.some Jvm.ClassFile.FieldType.int)) q926 (Nat.le_of_ble_eq_true rfl) ?_
  intro p e s m below meth c ls hx hok hb hml hr hlocks htab hown hts hK hmn hh hl
  subst hh
  have hl : lv_has ls 2 [(0, .ref (h 0)), (1, .int y)] := hl
  have hS : va_S (oc_hA h) s.heap s.heap [] := va_S.rf
  generalize hH0 : s.heap = H at hP ⊢
  have hS : va_S (oc_hA h) s.heap H [] := by rw [← hH0]; exact va_S.rf
  clear hH0
  generalize hlo0 : ([] : List Loc) = locs at hS ⊢
  refine lv_aload_n hx hb dX4_refuse_0 rfl (lv_at hl 0 rfl) ?_
  refine lv_iload_n hx hb dX4_refuse_1 rfl (lv_at hl 1 rfl) ?_
  refine va_put (D := D) (ci := 3) (v := .int y) (ty := .int) (C := RX4) (T := TX4) (N := 27) hx hb hts in_X4 tyX4 tyX4_ok nmX4 hown hK hP hD hS 0 rfl rfl 0 (by decide) (hts _ q807) (fun _ h9 => h9) rfl (by decide +kernel) rfl rfl (Nat.le_of_ble_eq_true rfl) dX4_refuse_2 (fun H locs hP hD hS => ?_)
  have hP : va_P D oc_cl (oc_mW d h (upd I 0 y) F L) H := hP
  have hD : va_D (oc_hA h) (oc_mW d h (upd I 0 y) F L) := hD
  refine lv_iconst (v := 0) hx hb dX4_refuse_5 (by decide) ?_
  exact oc_iret hx hb hr hlocks hS dX4_refuse_6 ⟨_, _, _, _, rfl, hP, rfl, rfl, ⟨rfl, rfl, rfl, rfl⟩⟩
set_option maxHeartbeats 4000000 in
set_option maxRecDepth 100000 in
theorem kX4_sign {l : Launch} {s0 : State} {b0 : Addr} {D : va_G} {d : Nat → ClassId} (G : oc_G l s0 b0 D d) {h : Nat → Nat} {I : Nat → Int32} {F : Nat → Nat → Int32} {L : Nat → Int64} {H : Heap} (hP : va_P D oc_cl (oc_mW d h I F L) H) (hD : va_D (oc_hA h) (oc_mW d h I F L)) (hN0 : ∀ q, oc_hA h q → s0.heap.size ≤ q) (x : Int32) (n : Nat) (hn : I 2 = nI n) (h3 : n ≤ 300) : oc_C l s0 yX4_sign (oc_rm 1 17 0 0) [.ref (h 0), .int x] H (oc_hA h) (oc_Pm D d h (sp_sign I F L n x)) := by
  refine oc_start G (cc := cX4_sign) (L := 2) (ret := (Option.some Jvm.ClassFile.FieldType.boolean)) q897 (Nat.le_of_ble_eq_true rfl) ?_
  intro p e s m below meth c ls hx hok hb hml hr hlocks htab hown hts hK hmn hh hl
  subst hh
  have hl : lv_has ls 2 [(0, .ref (h 0)), (1, .int x)] := hl
  have hS : va_S (oc_hA h) s.heap s.heap [] := va_S.rf
  generalize hH0 : s.heap = H at hP ⊢
  have hS : va_S (oc_hA h) s.heap H [] := by rw [← hH0]; exact va_S.rf
  clear hH0
  generalize hlo0 : ([] : List Loc) = locs at hS ⊢
  refine lv_aload_n hx hb dX4_sign_0 rfl (lv_at hl 0 rfl) ?_
  refine lv_iconst (v := 0) hx hb dX4_sign_1 (by decide) ?_
  refine va_put (D := D) (ci := 3) (v := .int 0) (ty := .int) (C := RX4) (T := TX4) (N := 27) hx hb hts in_X4 tyX4 tyX4_ok nmX4 hown hK hP hD hS 0 rfl rfl 0 (by decide) (hts _ q807) (fun _ h9 => h9) rfl (by decide +kernel) rfl rfl (Nat.le_of_ble_eq_true rfl) dX4_sign_2 (fun H locs hP hD hS => ?_)
  have hP : va_P D oc_cl (oc_mW d h (upd I 0 0) F L) H := hP
  have hD : va_D (oc_hA h) (oc_mW d h (upd I 0 0) F L) := hD
  refine lv_iload_n hx hb dX4_sign_5 rfl (lv_at hl 1 rfl) ?_
  refine lv_i2l (v := x.toInt64) hx hb dX4_sign_6 rfl ?_
  refine lv_ldc2 (v := 33) hx hb hown (hts _ q898) dX4_sign_7 ?_
  refine lv_ldc2 (v := 126) hx hb hown (hts _ q899) dX4_sign_10 ?_
  refine oc_callR1 hx hb hml hl.1 ⟨hok, hS, hN0⟩ (oc_iS (As := [.long x.toInt64, .long 33, .long 126]) (rest := []) hx hb hown (hts _ q900) (hts _ q901) (hts _ q30) (hts _ q902) ⟨by decide, by decide, (by decide +kernel : (parseMethodDescriptor "(JJJ)Z").map (fun d => d.parameters.length) = some 3)⟩ dX4_sign_13 rfl) (oc_M.of (by decide +kernel) (hts _ q902)) (kX4_in G x.toInt64 33 126) dX4_sign_13 (Nat.le_of_ble_eq_true rfl) (Nat.le_of_ble_eq_true rfl) (Nat.le_of_ble_eq_true rfl) (Nat.le_of_ble_eq_true rfl) ?_
  refine lv_if_eq (tgt := 29) hx hb dX4_sign_16 (by decide) (fun c16 => ?_) (fun c16 => ?_)
  · -- taken
    rw [oc_b0] at c16
    refine lv_iconst (v := 0) hx hb dX4_sign_29 (by decide) ?_
    exact oc_zret hx hb hr hlocks hS dX4_sign_30 rfl ⟨_, _, _, _, rfl, hP, rfl, rfl, ⟨rfl, Or.inr ⟨by simp [*], rfl, rfl, rfl⟩⟩⟩
  · -- not taken
    rw [oc_b0] at c16
    rw [Bool.not_eq_false] at c16
    refine lv_aload_n hx hb dX4_sign_19 rfl (lv_at hl 0 rfl) ?_
    refine va_get (D := D) (ci := 3) (v := .int (I 2)) (C := RX4) (T := TX4) (N := 27) hx hb hts in_X4 hown hK hP 0 rfl rfl 2 (by decide) (hts _ q809) (fun _ h9 => h9) rfl dX4_sign_20 ?_
    refine oc_topi (x := I 2) (y := nI n) hn ?_
    refine lv_sipush (v := 300) hx hb dX4_sign_23 (by decide) ?_
    refine lv_icmp_ne (tgt := 31) hx hb dX4_sign_26 (by decide) (fun c26 => ?_) (fun c26 => ?_)
    · -- taken
      rw [oc_eq (x := nI n) (y := 300) (a := n) (b := 300) rfl rfl (by omega) (by omega)] at c26
      refine lv_aload_n hx hb dX4_sign_31 rfl (lv_at hl 0 rfl) ?_
      refine va_get (D := D) (ci := 3) (v := .ref (h 1)) (C := RX4) (T := TX4) (N := 27) hx hb hts in_X4 hown hK hP 0 rfl rfl 1 (by decide) (hts _ q808) (fun _ h9 => h9) rfl dX4_sign_32 ?_
      refine lv_aload_n hx hb dX4_sign_35 rfl (lv_at hl 0 rfl) ?_
      refine va_get (D := D) (ci := 3) (v := .int (I 2)) (C := RX4) (T := TX4) (N := 27) hx hb hts in_X4 hown hK hP 0 rfl rfl 2 (by decide) (hts _ q809) (fun _ h9 => h9) rfl dX4_sign_36 ?_
      refine oc_topi (x := I 2) (y := nI n) hn ?_
      refine lv_iload_n hx hb dX4_sign_39 rfl (lv_at hl 1 rfl) ?_
      refine oc_iast hx hb hK hP hD hS 1 0 rfl rfl n rfl (by omega) (by decide) dX4_sign_40 (fun H locs hP hD hS => ?_)
      have hP : va_P D oc_cl (oc_mW d h (upd I 0 0) (va_up F 1 (upd (F 1) n x)) L) H := hP
      have hD : va_D (oc_hA h) (oc_mW d h (upd I 0 0) (va_up F 1 (upd (F 1) n x)) L) := hD
      refine lv_aload_n hx hb dX4_sign_41 rfl (lv_at hl 0 rfl) ?_
      refine lv_dup hx hb dX4_sign_42 rfl ?_
      refine va_get (D := D) (ci := 3) (v := .int (I 2)) (C := RX4) (T := TX4) (N := 27) hx hb hts in_X4 hown hK hP 0 rfl rfl 2 (by decide) (hts _ q809) (fun _ h9 => h9) rfl dX4_sign_43 ?_
      refine oc_topi (x := I 2) (y := nI n) hn ?_
      refine lv_iconst (v := 1) hx hb dX4_sign_46 (by decide) ?_
      refine lv_iadd hx hb dX4_sign_47 ?_
      refine va_put (D := D) (ci := 3) (v := .int ((nI n) + 1)) (ty := .int) (C := RX4) (T := TX4) (N := 27) hx hb hts in_X4 tyX4 tyX4_ok nmX4 hown hK hP hD hS 0 rfl rfl 2 (by decide) (hts _ q809) (fun _ h9 => h9) rfl (by decide +kernel) rfl rfl (Nat.le_of_ble_eq_true rfl) dX4_sign_48 (fun H locs hP hD hS => ?_)
      have hP : va_P D oc_cl (oc_mW d h (upd (upd I 0 0) 2 ((nI n) + 1)) (va_up F 1 (upd (F 1) n x)) L) H := hP
      have hD : va_D (oc_hA h) (oc_mW d h (upd (upd I 0 0) 2 ((nI n) + 1)) (va_up F 1 (upd (F 1) n x)) L) := hD
      refine lv_iconst (v := 1) hx hb dX4_sign_51 (by decide) ?_
      exact oc_zret hx hb hr hlocks hS dX4_sign_52 rfl ⟨_, _, _, _, rfl, hP, rfl, rfl, ⟨rfl, Or.inl ⟨by simp [*], by simp [*], rfl, by rw [hn], rfl⟩⟩⟩
    · -- not taken
      rw [oc_eq (x := nI n) (y := 300) (a := n) (b := 300) rfl rfl (by omega) (by omega)] at c26
      refine lv_iconst (v := 0) hx hb dX4_sign_29 (by decide) ?_
      exact oc_zret hx hb hr hlocks hS dX4_sign_30 rfl ⟨_, _, _, _, rfl, hP, rfl, rfl, ⟨rfl, Or.inr ⟨by simp [*], rfl, rfl, rfl⟩⟩⟩
set_option maxHeartbeats 4000000 in
set_option maxRecDepth 100000 in
theorem kX4_part {l : Launch} {s0 : State} {b0 : Addr} {D : va_G} {d : Nat → ClassId} (G : oc_G l s0 b0 D d) {h : Nat → Nat} {I : Nat → Int32} {F : Nat → Nat → Int32} {L : Nat → Int64} {H : Heap} (hP : va_P D oc_cl (oc_mW d h I F L) H) (hD : va_D (oc_hA h) (oc_mW d h I F L)) (hN0 : ∀ q, oc_hA h q → s0.heap.size ≤ q) (x y : Int32) (z : Int64) (n : Nat) (hn : I 7 = nI n) (h12 : n ≤ 12) : oc_C l s0 yX4_part (oc_rm 1 17 0 0) [.ref (h 0), .int x, .int y, .long z] H (oc_hA h) (oc_Pm D d h (sp_part I F L n x y z)) := by
  refine oc_start G (cc := cX4_part) (L := 5) (ret := (Option.some Jvm.ClassFile.FieldType.int)) q919 (Nat.le_of_ble_eq_true rfl) ?_
  intro p e s m below meth c ls hx hok hb hml hr hlocks htab hown hts hK hmn hh hl
  subst hh
  have hl : lv_has ls 5 [(0, .ref (h 0)), (1, .int x), (2, .int y), (3, .long z)] := hl
  have hS : va_S (oc_hA h) s.heap s.heap [] := va_S.rf
  generalize hH0 : s.heap = H at hP ⊢
  have hS : va_S (oc_hA h) s.heap H [] := by rw [← hH0]; exact va_S.rf
  clear hH0
  generalize hlo0 : ([] : List Loc) = locs at hS ⊢
  refine lv_iload_n hx hb dX4_part_0 rfl (lv_at hl 1 rfl) ?_
  refine lv_i2l (v := x.toInt64) hx hb dX4_part_1 rfl ?_
  refine lv_lconst (v := 1) hx hb dX4_part_2 (by decide) ?_
  refine lv_ldc2 (v := 999999) hx hb hown (hts _ q920) dX4_part_3 ?_
  refine oc_callR1 hx hb hml hl.1 ⟨hok, hS, hN0⟩ (oc_iS (As := [.long x.toInt64, .long 1, .long 999999]) (rest := []) hx hb hown (hts _ q900) (hts _ q901) (hts _ q30) (hts _ q902) ⟨by decide, by decide, (by decide +kernel : (parseMethodDescriptor "(JJJ)Z").map (fun d => d.parameters.length) = some 3)⟩ dX4_part_6 rfl) (oc_M.of (by decide +kernel) (hts _ q902)) (kX4_in G x.toInt64 1 999999) dX4_part_6 (Nat.le_of_ble_eq_true rfl) (Nat.le_of_ble_eq_true rfl) (Nat.le_of_ble_eq_true rfl) (Nat.le_of_ble_eq_true rfl) ?_
  refine lv_if_eq (tgt := 35) hx hb dX4_part_9 (by decide) (fun c9 => ?_) (fun c9 => ?_)
  · -- taken
    rw [oc_b0] at c9
    refine lv_aload_n hx hb dX4_part_35 rfl (lv_at hl 0 rfl) ?_
    refine lv_iconst (v := 1) hx hb dX4_part_36 (by decide) ?_
    refine oc_callM hx hb hml hl.1 ⟨hok, hS, hN0⟩ (oc_iV (As := [.int 1]) (rest := []) hx hb hown (hts _ q923) (hts _ q925) (hts _ qs14) (oc_Sig.of (hts _ q926) (by decide +kernel : (parseMethodDescriptor "(I)I").map (fun d => d.parameters.length) = some 1)) (va_recv hK hP (ci := 3) (q0 := 0) rfl rfl) ⟨by decide, by decide⟩ dX4_part_37 rfl) (oc_M.of (by decide +kernel) (hts _ q926)) (kX4_refuse G hP hD hN0 1) (fun _ z => z) dX4_part_37 (Nat.le_of_ble_eq_true rfl) (Nat.le_of_ble_eq_true rfl) (Nat.le_of_ble_eq_true rfl) (Nat.le_of_ble_eq_true rfl) (fun v I_ F_ L_ H locs sp hP hz1 hk1 hS => ?_)
    obtain ⟨rfl, e2, e3, e4⟩ := sp
    rw [e2, e3, e4] at hP
    clear e2 e3 e4
    have hD : va_D (oc_hA h) (oc_mW d h (upd I 0 1) F L) := oc_mD hD
    refine W.eq (g2 := F0 m 40 ls [.int 0]) rfl ?_
    exact oc_iret hx hb hr hlocks hS dX4_part_40 ⟨_, _, _, _, rfl, hP, rfl, rfl, Or.inl ⟨by simp [oc_pok, *], rfl, rfl, rfl, rfl⟩⟩
  · -- not taken
    rw [oc_b0] at c9
    rw [Bool.not_eq_false] at c9
    refine lv_iload_n hx hb dX4_part_12 rfl (lv_at hl 2 rfl) ?_
    refine lv_i2l (v := y.toInt64) hx hb dX4_part_13 rfl ?_
    refine lv_lconst (v := 0) hx hb dX4_part_14 (by decide) ?_
    refine lv_ldc2 (v := 9) hx hb hown (hts _ q921) dX4_part_15 ?_
    refine oc_callR1 hx hb hml hl.1 ⟨hok, hS, hN0⟩ (oc_iS (As := [.long y.toInt64, .long 0, .long 9]) (rest := []) hx hb hown (hts _ q900) (hts _ q901) (hts _ q30) (hts _ q902) ⟨by decide, by decide, (by decide +kernel : (parseMethodDescriptor "(JJJ)Z").map (fun d => d.parameters.length) = some 3)⟩ dX4_part_18 rfl) (oc_M.of (by decide +kernel) (hts _ q902)) (kX4_in G y.toInt64 0 9) dX4_part_18 (Nat.le_of_ble_eq_true rfl) (Nat.le_of_ble_eq_true rfl) (Nat.le_of_ble_eq_true rfl) (Nat.le_of_ble_eq_true rfl) ?_
    refine lv_if_eq (tgt := 35) hx hb dX4_part_21 (by decide) (fun c21 => ?_) (fun c21 => ?_)
    · -- taken
      rw [oc_b0] at c21
      refine lv_aload_n hx hb dX4_part_35 rfl (lv_at hl 0 rfl) ?_
      refine lv_iconst (v := 1) hx hb dX4_part_36 (by decide) ?_
      refine oc_callM hx hb hml hl.1 ⟨hok, hS, hN0⟩ (oc_iV (As := [.int 1]) (rest := []) hx hb hown (hts _ q923) (hts _ q925) (hts _ qs14) (oc_Sig.of (hts _ q926) (by decide +kernel : (parseMethodDescriptor "(I)I").map (fun d => d.parameters.length) = some 1)) (va_recv hK hP (ci := 3) (q0 := 0) rfl rfl) ⟨by decide, by decide⟩ dX4_part_37 rfl) (oc_M.of (by decide +kernel) (hts _ q926)) (kX4_refuse G hP hD hN0 1) (fun _ z => z) dX4_part_37 (Nat.le_of_ble_eq_true rfl) (Nat.le_of_ble_eq_true rfl) (Nat.le_of_ble_eq_true rfl) (Nat.le_of_ble_eq_true rfl) (fun v I_ F_ L_ H locs sp hP hz1 hk1 hS => ?_)
      obtain ⟨rfl, e2, e3, e4⟩ := sp
      rw [e2, e3, e4] at hP
      clear e2 e3 e4
      have hD : va_D (oc_hA h) (oc_mW d h (upd I 0 1) F L) := oc_mD hD
      refine W.eq (g2 := F0 m 40 ls [.int 0]) rfl ?_
      exact oc_iret hx hb hr hlocks hS dX4_part_40 ⟨_, _, _, _, rfl, hP, rfl, rfl, Or.inl ⟨by simp [oc_pok, *], rfl, rfl, rfl, rfl⟩⟩
    · -- not taken
      rw [oc_b0] at c21
      rw [Bool.not_eq_false] at c21
      refine lv_lload_n hx hb dX4_part_24 rfl (lv_at hl 3 rfl) ?_
      refine lv_lconst (v := 0) hx hb dX4_part_25 (by decide) ?_
      refine lv_ldc2 (v := 1000000000) hx hb hown (hts _ q922) dX4_part_26 ?_
      refine oc_callR1 hx hb hml hl.1 ⟨hok, hS, hN0⟩ (oc_iS (As := [.long z, .long 0, .long 1000000000]) (rest := []) hx hb hown (hts _ q900) (hts _ q901) (hts _ q30) (hts _ q902) ⟨by decide, by decide, (by decide +kernel : (parseMethodDescriptor "(JJJ)Z").map (fun d => d.parameters.length) = some 3)⟩ dX4_part_29 rfl) (oc_M.of (by decide +kernel) (hts _ q902)) (kX4_in G z 0 1000000000) dX4_part_29 (Nat.le_of_ble_eq_true rfl) (Nat.le_of_ble_eq_true rfl) (Nat.le_of_ble_eq_true rfl) (Nat.le_of_ble_eq_true rfl) ?_
      refine lv_if_ne (tgt := 41) hx hb dX4_part_32 (by decide) (fun c32 => ?_) (fun c32 => ?_)
      · -- taken
        rw [oc_b0] at c32
        rw [Bool.not_eq_false] at c32
        refine lv_aload_n hx hb dX4_part_41 rfl (lv_at hl 0 rfl) ?_
        refine va_get (D := D) (ci := 3) (v := .int (I 7)) (C := RX4) (T := TX4) (N := 27) hx hb hts in_X4 hown hK hP 0 rfl rfl 7 (by decide) (hts _ q814) (fun _ h9 => h9) rfl dX4_part_42 ?_
        refine oc_topi (x := I 7) (y := nI n) hn ?_
        refine lv_bipush (v := 12) hx hb dX4_part_45 (by decide) ?_
        refine lv_icmp_ne (tgt := 56) hx hb dX4_part_47 (by decide) (fun c47 => ?_) (fun c47 => ?_)
        · -- taken
          rw [oc_eq (x := nI n) (y := 12) (a := n) (b := 12) rfl rfl (by omega) (by omega)] at c47
          refine lv_aload_n hx hb dX4_part_56 rfl (lv_at hl 0 rfl) ?_
          refine lv_iconst (v := 0) hx hb dX4_part_57 (by decide) ?_
          refine va_put (D := D) (ci := 3) (v := .int 0) (ty := .int) (C := RX4) (T := TX4) (N := 27) hx hb hts in_X4 tyX4 tyX4_ok nmX4 hown hK hP hD hS 0 rfl rfl 0 (by decide) (hts _ q807) (fun _ h9 => h9) rfl (by decide +kernel) rfl rfl (Nat.le_of_ble_eq_true rfl) dX4_part_58 (fun H locs hP hD hS => ?_)
          have hP : va_P D oc_cl (oc_mW d h (upd I 0 0) F L) H := hP
          have hD : va_D (oc_hA h) (oc_mW d h (upd I 0 0) F L) := hD
          refine lv_aload_n hx hb dX4_part_61 rfl (lv_at hl 0 rfl) ?_
          refine va_get (D := D) (ci := 3) (v := .ref (h 8)) (C := RX4) (T := TX4) (N := 27) hx hb hts in_X4 hown hK hP 0 rfl rfl 8 (by decide) (hts _ q815) (fun _ h9 => h9) rfl dX4_part_62 ?_
          refine lv_aload_n hx hb dX4_part_65 rfl (lv_at hl 0 rfl) ?_
          refine va_get (D := D) (ci := 3) (v := .int (I 7)) (C := RX4) (T := TX4) (N := 27) hx hb hts in_X4 hown hK hP 0 rfl rfl 7 (by decide) (hts _ q814) (fun _ h9 => h9) rfl dX4_part_66 ?_
          refine oc_topi (x := I 7) (y := nI n) hn ?_
          refine lv_iload_n hx hb dX4_part_69 rfl (lv_at hl 1 rfl) ?_
          refine oc_iast hx hb hK hP hD hS 5 0 rfl rfl n rfl (by omega) (by decide) dX4_part_70 (fun H locs hP hD hS => ?_)
          have hP : va_P D oc_cl (oc_mW d h (upd I 0 0) (va_up F 8 (upd (F 8) n x)) L) H := hP
          have hD : va_D (oc_hA h) (oc_mW d h (upd I 0 0) (va_up F 8 (upd (F 8) n x)) L) := hD
          refine lv_aload_n hx hb dX4_part_71 rfl (lv_at hl 0 rfl) ?_
          refine va_get (D := D) (ci := 3) (v := .ref (h 9)) (C := RX4) (T := TX4) (N := 27) hx hb hts in_X4 hown hK hP 0 rfl rfl 9 (by decide) (hts _ q816) (fun _ h9 => h9) rfl dX4_part_72 ?_
          refine lv_aload_n hx hb dX4_part_75 rfl (lv_at hl 0 rfl) ?_
          refine va_get (D := D) (ci := 3) (v := .int (I 7)) (C := RX4) (T := TX4) (N := 27) hx hb hts in_X4 hown hK hP 0 rfl rfl 7 (by decide) (hts _ q814) (fun _ h9 => h9) rfl dX4_part_76 ?_
          refine oc_topi (x := I 7) (y := nI n) hn ?_
          refine lv_iload_n hx hb dX4_part_79 rfl (lv_at hl 2 rfl) ?_
          refine oc_iast hx hb hK hP hD hS 6 0 rfl rfl n rfl (by omega) (by decide) dX4_part_80 (fun H locs hP hD hS => ?_)
          have hP : va_P D oc_cl (oc_mW d h (upd I 0 0) (va_up (va_up F 8 (upd (F 8) n x)) 9 (upd (F 9) n y)) L) H := hP
          have hD : va_D (oc_hA h) (oc_mW d h (upd I 0 0) (va_up (va_up F 8 (upd (F 8) n x)) 9 (upd (F 9) n y)) L) := hD
          refine lv_aload_n hx hb dX4_part_81 rfl (lv_at hl 0 rfl) ?_
          refine va_get (D := D) (ci := 3) (v := .ref (h 10)) (C := RX4) (T := TX4) (N := 27) hx hb hts in_X4 hown hK hP 0 rfl rfl 10 (by decide) (hts _ q817) (fun _ h9 => h9) rfl dX4_part_82 ?_
          refine lv_aload_n hx hb dX4_part_85 rfl (lv_at hl 0 rfl) ?_
          refine va_get (D := D) (ci := 3) (v := .int (I 7)) (C := RX4) (T := TX4) (N := 27) hx hb hts in_X4 hown hK hP 0 rfl rfl 7 (by decide) (hts _ q814) (fun _ h9 => h9) rfl dX4_part_86 ?_
          refine oc_topi (x := I 7) (y := nI n) hn ?_
          refine lv_lload_n hx hb dX4_part_89 rfl (lv_at hl 3 rfl) ?_
          refine oc_last hx hb hK hP hD hS 7 3 rfl rfl n rfl (by omega) (by decide) dX4_part_90 (fun H locs hP hD hS => ?_)
          have hP : va_P D oc_cl (oc_mW d h (upd I 0 0) (va_up (va_up F 8 (upd (F 8) n x)) 9 (upd (F 9) n y)) (vp_updL L n z)) H := hP
          have hD : va_D (oc_hA h) (oc_mW d h (upd I 0 0) (va_up (va_up F 8 (upd (F 8) n x)) 9 (upd (F 9) n y)) (vp_updL L n z)) := hD
          refine lv_aload_n hx hb dX4_part_91 rfl (lv_at hl 0 rfl) ?_
          refine lv_dup hx hb dX4_part_92 rfl ?_
          refine va_get (D := D) (ci := 3) (v := .int (I 7)) (C := RX4) (T := TX4) (N := 27) hx hb hts in_X4 hown hK hP 0 rfl rfl 7 (by decide) (hts _ q814) (fun _ h9 => h9) rfl dX4_part_93 ?_
          refine oc_topi (x := I 7) (y := nI n) hn ?_
          refine lv_iconst (v := 1) hx hb dX4_part_96 (by decide) ?_
          refine lv_iadd hx hb dX4_part_97 ?_
          refine va_put (D := D) (ci := 3) (v := .int ((nI n) + 1)) (ty := .int) (C := RX4) (T := TX4) (N := 27) hx hb hts in_X4 tyX4 tyX4_ok nmX4 hown hK hP hD hS 0 rfl rfl 7 (by decide) (hts _ q814) (fun _ h9 => h9) rfl (by decide +kernel) rfl rfl (Nat.le_of_ble_eq_true rfl) dX4_part_98 (fun H locs hP hD hS => ?_)
          have hP : va_P D oc_cl (oc_mW d h (upd (upd I 0 0) 7 ((nI n) + 1)) (va_up (va_up F 8 (upd (F 8) n x)) 9 (upd (F 9) n y)) (vp_updL L n z)) H := hP
          have hD : va_D (oc_hA h) (oc_mW d h (upd (upd I 0 0) 7 ((nI n) + 1)) (va_up (va_up F 8 (upd (F 8) n x)) 9 (upd (F 9) n y)) (vp_updL L n z)) := hD
          refine lv_aload_n hx hb dX4_part_101 rfl (lv_at hl 0 rfl) ?_
          refine va_get (D := D) (ci := 3) (v := .int ((nI n) + 1)) (C := RX4) (T := TX4) (N := 27) hx hb hts in_X4 hown hK hP 0 rfl rfl 7 (by decide) (hts _ q814) (fun _ h9 => h9) rfl dX4_part_102 ?_
          exact oc_iret hx hb hr hlocks hS dX4_part_105 ⟨_, _, _, _, rfl, hP, rfl, rfl, Or.inr (Or.inr ⟨by simp [oc_pok, *], by omega, by rw [hn], by rw [hn], rfl, rfl⟩)⟩
        · -- not taken
          rw [oc_eq (x := nI n) (y := 12) (a := n) (b := 12) rfl rfl (by omega) (by omega)] at c47
          refine lv_aload_n hx hb dX4_part_50 rfl (lv_at hl 0 rfl) ?_
          refine lv_iconst (v := 2) hx hb dX4_part_51 (by decide) ?_
          refine oc_callM hx hb hml hl.1 ⟨hok, hS, hN0⟩ (oc_iV (As := [.int 2]) (rest := []) hx hb hown (hts _ q923) (hts _ q925) (hts _ qs14) (oc_Sig.of (hts _ q926) (by decide +kernel : (parseMethodDescriptor "(I)I").map (fun d => d.parameters.length) = some 1)) (va_recv hK hP (ci := 3) (q0 := 0) rfl rfl) ⟨by decide, by decide⟩ dX4_part_52 rfl) (oc_M.of (by decide +kernel) (hts _ q926)) (kX4_refuse G hP hD hN0 2) (fun _ z => z) dX4_part_52 (Nat.le_of_ble_eq_true rfl) (Nat.le_of_ble_eq_true rfl) (Nat.le_of_ble_eq_true rfl) (Nat.le_of_ble_eq_true rfl) (fun v I_ F_ L_ H locs sp hP hz1 hk1 hS => ?_)
          obtain ⟨rfl, e2, e3, e4⟩ := sp
          rw [e2, e3, e4] at hP
          clear e2 e3 e4
          have hD : va_D (oc_hA h) (oc_mW d h (upd I 0 2) F L) := oc_mD hD
          refine W.eq (g2 := F0 m 55 ls [.int 0]) rfl ?_
          exact oc_iret hx hb hr hlocks hS dX4_part_55 ⟨_, _, _, _, rfl, hP, rfl, rfl, Or.inr (Or.inl ⟨by simp [oc_pok, *], by omega, rfl, rfl, rfl, rfl⟩)⟩
      · -- not taken
        rw [oc_b0] at c32
        refine lv_aload_n hx hb dX4_part_35 rfl (lv_at hl 0 rfl) ?_
        refine lv_iconst (v := 1) hx hb dX4_part_36 (by decide) ?_
        refine oc_callM hx hb hml hl.1 ⟨hok, hS, hN0⟩ (oc_iV (As := [.int 1]) (rest := []) hx hb hown (hts _ q923) (hts _ q925) (hts _ qs14) (oc_Sig.of (hts _ q926) (by decide +kernel : (parseMethodDescriptor "(I)I").map (fun d => d.parameters.length) = some 1)) (va_recv hK hP (ci := 3) (q0 := 0) rfl rfl) ⟨by decide, by decide⟩ dX4_part_37 rfl) (oc_M.of (by decide +kernel) (hts _ q926)) (kX4_refuse G hP hD hN0 1) (fun _ z => z) dX4_part_37 (Nat.le_of_ble_eq_true rfl) (Nat.le_of_ble_eq_true rfl) (Nat.le_of_ble_eq_true rfl) (Nat.le_of_ble_eq_true rfl) (fun v I_ F_ L_ H locs sp hP hz1 hk1 hS => ?_)
        obtain ⟨rfl, e2, e3, e4⟩ := sp
        rw [e2, e3, e4] at hP
        clear e2 e3 e4
        have hD : va_D (oc_hA h) (oc_mW d h (upd I 0 1) F L) := oc_mD hD
        refine W.eq (g2 := F0 m 40 ls [.int 0]) rfl ?_
        exact oc_iret hx hb hr hlocks hS dX4_part_40 ⟨_, _, _, _, rfl, hP, rfl, rfl, Or.inl ⟨by simp [oc_pok, *], rfl, rfl, rfl, rfl⟩⟩
set_option maxHeartbeats 4000000 in
set_option maxRecDepth 100000 in
theorem kX4_clear {l : Launch} {s0 : State} {b0 : Addr} {D : va_G} {d : Nat → ClassId} (G : oc_G l s0 b0 D d) {h : Nat → Nat} {I : Nat → Int32} {F : Nat → Nat → Int32} {L : Nat → Int64} {H : Heap} (hP : va_P D oc_cl (oc_mW d h I F L) H) (hD : va_D (oc_hA h) (oc_mW d h I F L)) (hN0 : ∀ q, oc_hA h q → s0.heap.size ≤ q)  : oc_C l s0 yX4_clear (oc_rm 0 0 0 0) [.ref (h 0)] H (oc_hA h) (oc_Pm D d h (sp_clear I F L)) := by
  refine oc_start G (cc := cX4_clear) (L := 2) (ret := (Option.some Jvm.ClassFile.FieldType.int)) q930 (Nat.le_of_ble_eq_true rfl) ?_
  intro p e s m below meth c ls hx hok hb hml hr hlocks htab hown hts hK hmn hh hl
  subst hh
  have hl : lv_has ls 2 [(0, .ref (h 0))] := hl
  have hS : va_S (oc_hA h) s.heap s.heap [] := va_S.rf
  generalize hH0 : s.heap = H at hP ⊢
  have hS : va_S (oc_hA h) s.heap H [] := by rw [← hH0]; exact va_S.rf
  clear hH0
  generalize hlo0 : ([] : List Loc) = locs at hS ⊢
  refine lv_aload_n hx hb dX4_clear_0 rfl (lv_at hl 0 rfl) ?_
  refine lv_iconst (v := 0) hx hb dX4_clear_1 (by decide) ?_
  refine va_put (D := D) (ci := 3) (v := .int 0) (ty := .int) (C := RX4) (T := TX4) (N := 27) hx hb hts in_X4 tyX4 tyX4_ok nmX4 hown hK hP hD hS 0 rfl rfl 0 (by decide) (hts _ q807) (fun _ h9 => h9) rfl (by decide +kernel) rfl rfl (Nat.le_of_ble_eq_true rfl) dX4_clear_2 (fun H locs hP hD hS => ?_)
  have hP : va_P D oc_cl (oc_mW d h (upd I 0 0) F L) H := hP
  have hD : va_D (oc_hA h) (oc_mW d h (upd I 0 0) F L) := hD
  refine lv_aload_n hx hb dX4_clear_5 rfl (lv_at hl 0 rfl) ?_
  refine va_get (D := D) (ci := 3) (v := .int (I 7)) (C := RX4) (T := TX4) (N := 27) hx hb hts in_X4 hown hK hP 0 rfl rfl 7 (by decide) (hts _ q814) (fun _ h9 => h9) rfl dX4_clear_6 ?_
  refine lv_istore_n (lv' := [(1, .int (I 7)), (0, .ref (h 0))]) hx hb dX4_clear_9 rfl hl (by decide) rfl (fun ls hl => ?_)
  refine lv_aload_n hx hb dX4_clear_10 rfl (lv_at hl 1 rfl) ?_
  refine lv_iconst (v := 0) hx hb dX4_clear_11 (by decide) ?_
  refine va_put (D := D) (ci := 3) (v := .int 0) (ty := .int) (C := RX4) (T := TX4) (N := 27) hx hb hts in_X4 tyX4 tyX4_ok nmX4 hown hK hP hD hS 0 rfl rfl 7 (by decide) (hts _ q814) (fun _ h9 => h9) rfl (by decide +kernel) rfl rfl (Nat.le_of_ble_eq_true rfl) dX4_clear_12 (fun H locs hP hD hS => ?_)
  have hP : va_P D oc_cl (oc_mW d h (upd (upd I 0 0) 7 0) F L) H := hP
  have hD : va_D (oc_hA h) (oc_mW d h (upd (upd I 0 0) 7 0) F L) := hD
  refine lv_aload_n hx hb dX4_clear_15 rfl (lv_at hl 1 rfl) ?_
  refine lv_iconst (v := 0) hx hb dX4_clear_16 (by decide) ?_
  refine va_put (D := D) (ci := 3) (v := .int 0) (ty := .int) (C := RX4) (T := TX4) (N := 27) hx hb hts in_X4 tyX4 tyX4_ok nmX4 hown hK hP hD hS 0 rfl rfl 11 (by decide) (hts _ q818) (fun _ h9 => h9) rfl (by decide +kernel) rfl rfl (Nat.le_of_ble_eq_true rfl) dX4_clear_17 (fun H locs hP hD hS => ?_)
  have hP : va_P D oc_cl (oc_mW d h (upd (upd (upd I 0 0) 7 0) 11 0) F L) H := hP
  have hD : va_D (oc_hA h) (oc_mW d h (upd (upd (upd I 0 0) 7 0) 11 0) F L) := hD
  refine lv_iload_n hx hb dX4_clear_20 rfl (lv_at hl 0 rfl) ?_
  exact oc_iret hx hb hr hlocks hS dX4_clear_21 ⟨_, _, _, _, rfl, hP, rfl, rfl, ⟨rfl, rfl, rfl, rfl⟩⟩
set_option maxHeartbeats 4000000 in
set_option maxRecDepth 100000 in
theorem kX4_process {l : Launch} {s0 : State} {b0 : Addr} {D : va_G} {d : Nat → ClassId} (G : oc_G l s0 b0 D d) {h : Nat → Nat} {I : Nat → Int32} {F : Nat → Nat → Int32} {L : Nat → Int64} {H : Heap} (hP : va_P D oc_cl (oc_mW d h I F L) H) (hD : va_D (oc_hA h) (oc_mW d h I F L)) (hN0 : ∀ q, oc_hA h q → s0.heap.size ≤ q) (x : Int32) : oc_C l s0 yX4_process (oc_rm 1 17 0 0) [.ref (h 0), .int x] H (oc_hA h) (oc_Pm D d h (sp_process I F L x)) := by
  refine oc_start G (cc := cX4_process) (L := 2) (ret := (Option.some Jvm.ClassFile.FieldType.boolean)) q934 (Nat.le_of_ble_eq_true rfl) ?_
  intro p e s m below meth c ls hx hok hb hml hr hlocks htab hown hts hK hmn hh hl
  subst hh
  have hl : lv_has ls 2 [(0, .ref (h 0)), (1, .int x)] := hl
  have hS : va_S (oc_hA h) s.heap s.heap [] := va_S.rf
  generalize hH0 : s.heap = H at hP ⊢
  have hS : va_S (oc_hA h) s.heap H [] := by rw [← hH0]; exact va_S.rf
  clear hH0
  generalize hlo0 : ([] : List Loc) = locs at hS ⊢
  refine lv_aload_n hx hb dX4_process_0 rfl (lv_at hl 0 rfl) ?_
  refine lv_iconst (v := 0) hx hb dX4_process_1 (by decide) ?_
  refine va_put (D := D) (ci := 3) (v := .int 0) (ty := .int) (C := RX4) (T := TX4) (N := 27) hx hb hts in_X4 tyX4 tyX4_ok nmX4 hown hK hP hD hS 0 rfl rfl 0 (by decide) (hts _ q807) (fun _ h9 => h9) rfl (by decide +kernel) rfl rfl (Nat.le_of_ble_eq_true rfl) dX4_process_2 (fun H locs hP hD hS => ?_)
  have hP : va_P D oc_cl (oc_mW d h (upd I 0 0) F L) H := hP
  have hD : va_D (oc_hA h) (oc_mW d h (upd I 0 0) F L) := hD
  refine lv_iload_n hx hb dX4_process_5 rfl (lv_at hl 1 rfl) ?_
  refine lv_i2l (v := x.toInt64) hx hb dX4_process_6 rfl ?_
  refine lv_lconst (v := 0) hx hb dX4_process_7 (by decide) ?_
  refine lv_ldc2 (v := 15) hx hb hown (hts _ q935) dX4_process_8 ?_
  refine oc_callR1 hx hb hml hl.1 ⟨hok, hS, hN0⟩ (oc_iS (As := [.long x.toInt64, .long 0, .long 15]) (rest := []) hx hb hown (hts _ q900) (hts _ q901) (hts _ q30) (hts _ q902) ⟨by decide, by decide, (by decide +kernel : (parseMethodDescriptor "(JJJ)Z").map (fun d => d.parameters.length) = some 3)⟩ dX4_process_11 rfl) (oc_M.of (by decide +kernel) (hts _ q902)) (kX4_in G x.toInt64 0 15) dX4_process_11 (Nat.le_of_ble_eq_true rfl) (Nat.le_of_ble_eq_true rfl) (Nat.le_of_ble_eq_true rfl) (Nat.le_of_ble_eq_true rfl) ?_
  refine lv_if_eq (tgt := 29) hx hb dX4_process_14 (by decide) (fun c14 => ?_) (fun c14 => ?_)
  · -- taken
    rw [oc_b0] at c14
    refine lv_iconst (v := 0) hx hb dX4_process_29 (by decide) ?_
    exact oc_zret hx hb hr hlocks hS dX4_process_30 rfl ⟨_, _, _, _, rfl, hP, rfl, rfl, ⟨rfl, rfl, Or.inr ⟨by simp [oc_bit, *], rfl, rfl⟩⟩⟩
  · -- not taken
    rw [oc_b0] at c14
    rw [Bool.not_eq_false] at c14
    refine lv_aload_n hx hb dX4_process_17 rfl (lv_at hl 0 rfl) ?_
    refine va_get (D := D) (ci := 3) (v := .int (I 11)) (C := RX4) (T := TX4) (N := 27) hx hb hts in_X4 hown hK hP 0 rfl rfl 11 (by decide) (hts _ q818) (fun _ h9 => h9) rfl dX4_process_18 ?_
    refine lv_iload_n hx hb dX4_process_21 rfl (lv_at hl 1 rfl) ?_
    refine lv_ishr hx hb dX4_process_22 ?_
    refine lv_iconst (v := 1) hx hb dX4_process_23 (by decide) ?_
    refine lv_iand hx hb dX4_process_24 ?_
    refine lv_iconst (v := 1) hx hb dX4_process_25 (by decide) ?_
    refine lv_icmp_ne (tgt := 31) hx hb dX4_process_26 (by decide) (fun c26 => ?_) (fun c26 => ?_)
    · -- taken
      refine lv_aload_n hx hb dX4_process_31 rfl (lv_at hl 0 rfl) ?_
      refine lv_dup hx hb dX4_process_32 rfl ?_
      refine va_get (D := D) (ci := 3) (v := .int (I 11)) (C := RX4) (T := TX4) (N := 27) hx hb hts in_X4 hown hK hP 0 rfl rfl 11 (by decide) (hts _ q818) (fun _ h9 => h9) rfl dX4_process_33 ?_
      refine lv_iconst (v := 1) hx hb dX4_process_36 (by decide) ?_
      refine lv_iload_n hx hb dX4_process_37 rfl (lv_at hl 1 rfl) ?_
      refine lv_ishl hx hb dX4_process_38 ?_
      refine lv_ior hx hb dX4_process_39 ?_
      refine va_put (D := D) (ci := 3) (v := .int ((I 11) ||| (1 <<< (x &&& 31)))) (ty := .int) (C := RX4) (T := TX4) (N := 27) hx hb hts in_X4 tyX4 tyX4_ok nmX4 hown hK hP hD hS 0 rfl rfl 11 (by decide) (hts _ q818) (fun _ h9 => h9) rfl (by decide +kernel) rfl rfl (Nat.le_of_ble_eq_true rfl) dX4_process_40 (fun H locs hP hD hS => ?_)
      have hP : va_P D oc_cl (oc_mW d h (upd (upd I 0 0) 11 ((I 11) ||| (1 <<< (x &&& 31)))) F L) H := hP
      have hD : va_D (oc_hA h) (oc_mW d h (upd (upd I 0 0) 11 ((I 11) ||| (1 <<< (x &&& 31)))) F L) := hD
      refine lv_iconst (v := 1) hx hb dX4_process_43 (by decide) ?_
      exact oc_zret hx hb hr hlocks hS dX4_process_44 rfl ⟨_, _, _, _, rfl, hP, rfl, rfl, ⟨rfl, rfl, Or.inl ⟨by simp [oc_bit, *], rfl, rfl⟩⟩⟩
    · -- not taken
      refine lv_iconst (v := 0) hx hb dX4_process_29 (by decide) ?_
      exact oc_zret hx hb hr hlocks hS dX4_process_30 rfl ⟨_, _, _, _, rfl, hP, rfl, rfl, ⟨rfl, rfl, Or.inr ⟨by simp [oc_bit, *], rfl, rfl⟩⟩⟩
set_option maxHeartbeats 4000000 in
set_option maxRecDepth 100000 in
theorem kX4_bar {l : Launch} {s0 : State} {b0 : Addr} {D : va_G} {d : Nat → ClassId} (G : oc_G l s0 b0 D d) {h : Nat → Nat} {I : Nat → Int32} {F : Nat → Nat → Int32} {L : Nat → Int64} {H : Heap} (hP : va_P D oc_cl (oc_mW d h I F L) H) (hD : va_D (oc_hA h) (oc_mW d h I F L)) (hN0 : ∀ q, oc_hA h q → s0.heap.size ≤ q) (x y : Int32) : oc_C l s0 yX4_bar (oc_rm 1 17 0 0) [.ref (h 0), .int x, .int y] H (oc_hA h) (oc_Pm D d h (sp_bar I F L x y)) := by
  refine oc_start G (cc := cX4_bar) (L := 3) (ret := (Option.some Jvm.ClassFile.FieldType.boolean)) q939 (Nat.le_of_ble_eq_true rfl) ?_
  intro p e s m below meth c ls hx hok hb hml hr hlocks htab hown hts hK hmn hh hl
  subst hh
  have hl : lv_has ls 3 [(0, .ref (h 0)), (1, .int x), (2, .int y)] := hl
  have hS : va_S (oc_hA h) s.heap s.heap [] := va_S.rf
  generalize hH0 : s.heap = H at hP ⊢
  have hS : va_S (oc_hA h) s.heap H [] := by rw [← hH0]; exact va_S.rf
  clear hH0
  generalize hlo0 : ([] : List Loc) = locs at hS ⊢
  refine lv_aload_n hx hb dX4_bar_0 rfl (lv_at hl 0 rfl) ?_
  refine lv_iconst (v := 0) hx hb dX4_bar_1 (by decide) ?_
  refine va_put (D := D) (ci := 3) (v := .int 0) (ty := .int) (C := RX4) (T := TX4) (N := 27) hx hb hts in_X4 tyX4 tyX4_ok nmX4 hown hK hP hD hS 0 rfl rfl 0 (by decide) (hts _ q807) (fun _ h9 => h9) rfl (by decide +kernel) rfl rfl (Nat.le_of_ble_eq_true rfl) dX4_bar_2 (fun H locs hP hD hS => ?_)
  have hP : va_P D oc_cl (oc_mW d h (upd I 0 0) F L) H := hP
  have hD : va_D (oc_hA h) (oc_mW d h (upd I 0 0) F L) := hD
  refine lv_iload_n hx hb dX4_bar_5 rfl (lv_at hl 1 rfl) ?_
  refine lv_i2l (v := x.toInt64) hx hb dX4_bar_6 rfl ?_
  refine lv_lconst (v := 0) hx hb dX4_bar_7 (by decide) ?_
  refine lv_ldc2 (v := 15) hx hb hown (hts _ q935) dX4_bar_8 ?_
  refine oc_callR1 hx hb hml hl.1 ⟨hok, hS, hN0⟩ (oc_iS (As := [.long x.toInt64, .long 0, .long 15]) (rest := []) hx hb hown (hts _ q900) (hts _ q901) (hts _ q30) (hts _ q902) ⟨by decide, by decide, (by decide +kernel : (parseMethodDescriptor "(JJJ)Z").map (fun d => d.parameters.length) = some 3)⟩ dX4_bar_11 rfl) (oc_M.of (by decide +kernel) (hts _ q902)) (kX4_in G x.toInt64 0 15) dX4_bar_11 (Nat.le_of_ble_eq_true rfl) (Nat.le_of_ble_eq_true rfl) (Nat.le_of_ble_eq_true rfl) (Nat.le_of_ble_eq_true rfl) ?_
  refine lv_if_eq (tgt := 38) hx hb dX4_bar_14 (by decide) (fun c14 => ?_) (fun c14 => ?_)
  · -- taken
    rw [oc_b0] at c14
    refine lv_iconst (v := 0) hx hb dX4_bar_38 (by decide) ?_
    exact oc_zret hx hb hr hlocks hS dX4_bar_39 rfl ⟨_, _, _, _, rfl, hP, rfl, rfl, ⟨rfl, rfl, Or.inr ⟨by simp [id, *], rfl, rfl⟩⟩⟩
  · -- not taken
    rw [oc_b0] at c14
    rw [Bool.not_eq_false] at c14
    refine oc_cut (g2 := F0 m 34 ls [.int (oc_b (oc_bit (I 12) x))]) ?_ (fun K34 => ?_)
    · -- behind 34
      refine lv_iload_n hx hb dX4_bar_34 rfl (lv_at hl 2 rfl) ?_
      refine lv_icmp_ne (tgt := 40) hx hb dX4_bar_35 (by decide) (fun c35 => ?_) (fun c35 => ?_)
      · -- taken
        refine lv_aload_n hx hb dX4_bar_40 rfl (lv_at hl 0 rfl) ?_
        refine lv_dup hx hb dX4_bar_41 rfl ?_
        refine va_get (D := D) (ci := 3) (v := .int (I 12)) (C := RX4) (T := TX4) (N := 27) hx hb hts in_X4 hown hK hP 0 rfl rfl 12 (by decide) (hts _ q819) (fun _ h9 => h9) rfl dX4_bar_42 ?_
        refine lv_iconst (v := 1) hx hb dX4_bar_45 (by decide) ?_
        refine lv_iload_n hx hb dX4_bar_46 rfl (lv_at hl 1 rfl) ?_
        refine lv_ishl hx hb dX4_bar_47 ?_
        refine lv_ixor hx hb dX4_bar_48 ?_
        refine va_put (D := D) (ci := 3) (v := .int ((I 12) ^^^ (1 <<< (x &&& 31)))) (ty := .int) (C := RX4) (T := TX4) (N := 27) hx hb hts in_X4 tyX4 tyX4_ok nmX4 hown hK hP hD hS 0 rfl rfl 12 (by decide) (hts _ q819) (fun _ h9 => h9) rfl (by decide +kernel) rfl rfl (Nat.le_of_ble_eq_true rfl) dX4_bar_49 (fun H locs hP hD hS => ?_)
        have hP : va_P D oc_cl (oc_mW d h (upd (upd I 0 0) 12 ((I 12) ^^^ (1 <<< (x &&& 31)))) F L) H := hP
        have hD : va_D (oc_hA h) (oc_mW d h (upd (upd I 0 0) 12 ((I 12) ^^^ (1 <<< (x &&& 31)))) F L) := hD
        refine lv_iconst (v := 1) hx hb dX4_bar_52 (by decide) ?_
        exact oc_zret hx hb hr hlocks hS dX4_bar_53 rfl ⟨_, _, _, _, rfl, hP, rfl, rfl, ⟨rfl, rfl, Or.inl ⟨by simp [id, *], rfl, rfl⟩⟩⟩
      · -- not taken
        refine lv_iconst (v := 0) hx hb dX4_bar_38 (by decide) ?_
        exact oc_zret hx hb hr hlocks hS dX4_bar_39 rfl ⟨_, _, _, _, rfl, hP, rfl, rfl, ⟨rfl, rfl, Or.inr ⟨by simp [id, *], rfl, rfl⟩⟩⟩
    · -- up to 34
      refine lv_aload_n hx hb dX4_bar_17 rfl (lv_at hl 0 rfl) ?_
      refine va_get (D := D) (ci := 3) (v := .int (I 12)) (C := RX4) (T := TX4) (N := 27) hx hb hts in_X4 hown hK hP 0 rfl rfl 12 (by decide) (hts _ q819) (fun _ h9 => h9) rfl dX4_bar_18 ?_
      refine lv_iload_n hx hb dX4_bar_21 rfl (lv_at hl 1 rfl) ?_
      refine lv_ishr hx hb dX4_bar_22 ?_
      refine lv_iconst (v := 1) hx hb dX4_bar_23 (by decide) ?_
      refine lv_iand hx hb dX4_bar_24 ?_
      refine lv_iconst (v := 1) hx hb dX4_bar_25 (by decide) ?_
      refine lv_icmp_ne (tgt := 33) hx hb dX4_bar_26 (by decide) (fun c26 => ?_) (fun c26 => ?_)
      · -- taken
        refine lv_iconst (v := 0) hx hb dX4_bar_33 (by decide) ?_
        exact oc_topi (by simp [oc_bit, oc_b, *]) K34
      · -- not taken
        refine lv_iconst (v := 1) hx hb dX4_bar_29 (by decide) ?_
        refine lv_goto (tgt := 34) hx hb dX4_bar_30 (by decide) ?_
        exact oc_topi (by simp [oc_bit, oc_b, *]) K34
set_option maxHeartbeats 4000000 in
set_option maxRecDepth 100000 in
theorem kX4_full {l : Launch} {s0 : State} {b0 : Addr} {D : va_G} {d : Nat → ClassId} (G : oc_G l s0 b0 D d) {h : Nat → Nat} {I : Nat → Int32} {F : Nat → Nat → Int32} {L : Nat → Int64} {H : Heap} (hP : va_P D oc_cl (oc_mW d h I F L) H) (hD : va_D (oc_hA h) (oc_mW d h I F L)) (hN0 : ∀ q, oc_hA h q → s0.heap.size ≤ q) (b : Bool) : oc_C l s0 yX4_full (oc_rm 0 0 0 0) [.ref (h 0), .int (oc_b b)] H (oc_hA h) (oc_Pm D d h (sp_full I F L b)) := by
  refine oc_start G (cc := cX4_full) (L := 3) (ret := (Option.some Jvm.ClassFile.FieldType.boolean)) q947 (Nat.le_of_ble_eq_true rfl) ?_
  intro p e s m below meth c ls hx hok hb hml hr hlocks htab hown hts hK hmn hh hl
  subst hh
  have hl : lv_has ls 3 [(0, .ref (h 0)), (1, .int (oc_b b))] := hl
  have hS : va_S (oc_hA h) s.heap s.heap [] := va_S.rf
  generalize hH0 : s.heap = H at hP ⊢
  have hS : va_S (oc_hA h) s.heap H [] := by rw [← hH0]; exact va_S.rf
  clear hH0
  generalize hlo0 : ([] : List Loc) = locs at hS ⊢
  refine lv_aload_n hx hb dX4_full_0 rfl (lv_at hl 0 rfl) ?_
  refine lv_iconst (v := 0) hx hb dX4_full_1 (by decide) ?_
  refine va_put (D := D) (ci := 3) (v := .int 0) (ty := .int) (C := RX4) (T := TX4) (N := 27) hx hb hts in_X4 tyX4 tyX4_ok nmX4 hown hK hP hD hS 0 rfl rfl 0 (by decide) (hts _ q807) (fun _ h9 => h9) rfl (by decide +kernel) rfl rfl (Nat.le_of_ble_eq_true rfl) dX4_full_2 (fun H locs hP hD hS => ?_)
  have hP : va_P D oc_cl (oc_mW d h (upd I 0 0) F L) H := hP
  have hD : va_D (oc_hA h) (oc_mW d h (upd I 0 0) F L) := hD
  refine oc_cut (g2 := F0 m 18 ls [.int (oc_b (!decide (I 15 = oc_b b)))]) ?_ (fun K18 => ?_)
  · -- behind 18
    refine lv_istore_n (lv' := [(2, .int (oc_b (!decide (I 15 = oc_b b)))), (0, .ref (h 0)), (1, .int (oc_b b))]) hx hb dX4_full_18 rfl hl (by decide) rfl (fun ls hl => ?_)
    refine lv_aload_n hx hb dX4_full_19 rfl (lv_at hl 1 rfl) ?_
    refine lv_iload_n hx hb dX4_full_20 rfl (lv_at hl 2 rfl) ?_
    refine va_put (D := D) (ci := 3) (v := .int (oc_b b)) (ty := .boolean) (C := RX4) (T := TX4) (N := 27) hx hb hts in_X4 tyX4 tyX4_ok nmX4 hown hK hP hD hS 0 rfl rfl 15 (by decide) (hts _ q822) (fun _ h9 => h9) rfl (by decide +kernel) (oc_bn _) (oc_bfit _) (Nat.le_of_ble_eq_true rfl) dX4_full_21 (fun H locs hP hD hS => ?_)
    have hP : va_P D oc_cl (oc_mW d h (upd (upd I 0 0) 15 (oc_b b)) F L) H := hP
    have hD : va_D (oc_hA h) (oc_mW d h (upd (upd I 0 0) 15 (oc_b b)) F L) := hD
    refine lv_iload_n hx hb dX4_full_24 rfl (lv_at hl 0 rfl) ?_
    exact oc_zret hx hb hr hlocks hS dX4_full_25 (oc_bn _) ⟨_, _, _, _, rfl, hP, rfl, rfl, ⟨rfl, rfl, rfl, rfl⟩⟩
  · -- up to 18
    refine lv_aload_n hx hb dX4_full_5 rfl (lv_at hl 0 rfl) ?_
    refine va_get (D := D) (ci := 3) (v := .int (I 15)) (C := RX4) (T := TX4) (N := 27) hx hb hts in_X4 hown hK hP 0 rfl rfl 15 (by decide) (hts _ q822) (fun _ h9 => h9) rfl dX4_full_6 ?_
    refine lv_iload_n hx hb dX4_full_9 rfl (lv_at hl 1 rfl) ?_
    refine lv_icmp_eq (tgt := 17) hx hb dX4_full_10 (by decide) (fun c10 => ?_) (fun c10 => ?_)
    · -- taken
      refine lv_iconst (v := 0) hx hb dX4_full_17 (by decide) ?_
      exact oc_topi (by rw [show (!decide (I 15 = oc_b b)) = false by simp [*]]; rfl) K18
    · -- not taken
      refine lv_iconst (v := 1) hx hb dX4_full_13 (by decide) ?_
      refine lv_goto (tgt := 18) hx hb dX4_full_14 (by decide) ?_
      exact oc_topi (by rw [show (!decide (I 15 = oc_b b)) = true by simp [*]]; rfl) K18
set_option maxHeartbeats 4000000 in
set_option maxRecDepth 100000 in
theorem kX4_tolerance {l : Launch} {s0 : State} {b0 : Addr} {D : va_G} {d : Nat → ClassId} (G : oc_G l s0 b0 D d) {h : Nat → Nat} {I : Nat → Int32} {F : Nat → Nat → Int32} {L : Nat → Int64} {H : Heap} (hP : va_P D oc_cl (oc_mW d h I F L) H) (hD : va_D (oc_hA h) (oc_mW d h I F L)) (hN0 : ∀ q, oc_hA h q → s0.heap.size ≤ q) (x y : Int32) : oc_C l s0 yX4_tolerance (oc_rm 1 17 0 0) [.ref (h 0), .int x, .int y] H (oc_hA h) (oc_Pm D d h (sp_tol I F L x y)) := by
  refine oc_start G (cc := cX4_tolerance) (L := 3) (ret := (Option.some Jvm.ClassFile.FieldType.boolean)) q951 (Nat.le_of_ble_eq_true rfl) ?_
  intro p e s m below meth c ls hx hok hb hml hr hlocks htab hown hts hK hmn hh hl
  subst hh
  have hl : lv_has ls 3 [(0, .ref (h 0)), (1, .int x), (2, .int y)] := hl
  have hS : va_S (oc_hA h) s.heap s.heap [] := va_S.rf
  generalize hH0 : s.heap = H at hP ⊢
  have hS : va_S (oc_hA h) s.heap H [] := by rw [← hH0]; exact va_S.rf
  clear hH0
  generalize hlo0 : ([] : List Loc) = locs at hS ⊢
  refine lv_aload_n hx hb dX4_tolerance_0 rfl (lv_at hl 0 rfl) ?_
  refine lv_iconst (v := 0) hx hb dX4_tolerance_1 (by decide) ?_
  refine va_put (D := D) (ci := 3) (v := .int 0) (ty := .int) (C := RX4) (T := TX4) (N := 27) hx hb hts in_X4 tyX4 tyX4_ok nmX4 hown hK hP hD hS 0 rfl rfl 0 (by decide) (hts _ q807) (fun _ h9 => h9) rfl (by decide +kernel) rfl rfl (Nat.le_of_ble_eq_true rfl) dX4_tolerance_2 (fun H locs hP hD hS => ?_)
  have hP : va_P D oc_cl (oc_mW d h (upd I 0 0) F L) H := hP
  have hD : va_D (oc_hA h) (oc_mW d h (upd I 0 0) F L) := hD
  refine lv_iload_n hx hb dX4_tolerance_5 rfl (lv_at hl 2 rfl) ?_
  refine lv_i2l (v := y.toInt64) hx hb dX4_tolerance_6 rfl ?_
  refine lv_lconst (v := 1) hx hb dX4_tolerance_7 (by decide) ?_
  refine lv_ldc2 (v := 1000) hx hb hown (hts _ q952) dX4_tolerance_8 ?_
  refine oc_callR1 hx hb hml hl.1 ⟨hok, hS, hN0⟩ (oc_iS (As := [.long y.toInt64, .long 1, .long 1000]) (rest := []) hx hb hown (hts _ q900) (hts _ q901) (hts _ q30) (hts _ q902) ⟨by decide, by decide, (by decide +kernel : (parseMethodDescriptor "(JJJ)Z").map (fun d => d.parameters.length) = some 3)⟩ dX4_tolerance_11 rfl) (oc_M.of (by decide +kernel) (hts _ q902)) (kX4_in G y.toInt64 1 1000) dX4_tolerance_11 (Nat.le_of_ble_eq_true rfl) (Nat.le_of_ble_eq_true rfl) (Nat.le_of_ble_eq_true rfl) (Nat.le_of_ble_eq_true rfl) ?_
  refine lv_if_eq (tgt := 28) hx hb dX4_tolerance_14 (by decide) (fun c14 => ?_) (fun c14 => ?_)
  · -- taken
    rw [oc_b0] at c14
    refine lv_iconst (v := 0) hx hb dX4_tolerance_28 (by decide) ?_
    exact oc_zret hx hb hr hlocks hS dX4_tolerance_29 rfl ⟨_, _, _, _, rfl, hP, rfl, rfl, ⟨rfl, rfl, Or.inr ⟨by simp [id, *], rfl, rfl⟩⟩⟩
  · -- not taken
    rw [oc_b0] at c14
    rw [Bool.not_eq_false] at c14
    refine lv_iload_n hx hb dX4_tolerance_17 rfl (lv_at hl 1 rfl) ?_
    refine lv_i2l (v := x.toInt64) hx hb dX4_tolerance_18 rfl ?_
    refine lv_lconst (v := 0) hx hb dX4_tolerance_19 (by decide) ?_
    refine lv_iload_n hx hb dX4_tolerance_20 rfl (lv_at hl 2 rfl) ?_
    refine lv_i2l (v := y.toInt64) hx hb dX4_tolerance_21 rfl ?_
    refine oc_callR1 hx hb hml hl.1 ⟨hok, hS, hN0⟩ (oc_iS (As := [.long x.toInt64, .long 0, .long y.toInt64]) (rest := []) hx hb hown (hts _ q900) (hts _ q901) (hts _ q30) (hts _ q902) ⟨by decide, by decide, (by decide +kernel : (parseMethodDescriptor "(JJJ)Z").map (fun d => d.parameters.length) = some 3)⟩ dX4_tolerance_22 rfl) (oc_M.of (by decide +kernel) (hts _ q902)) (kX4_in G x.toInt64 0 y.toInt64) dX4_tolerance_22 (Nat.le_of_ble_eq_true rfl) (Nat.le_of_ble_eq_true rfl) (Nat.le_of_ble_eq_true rfl) (Nat.le_of_ble_eq_true rfl) ?_
    refine lv_if_ne (tgt := 30) hx hb dX4_tolerance_25 (by decide) (fun c25 => ?_) (fun c25 => ?_)
    · -- taken
      rw [oc_b0] at c25
      rw [Bool.not_eq_false] at c25
      refine lv_aload_n hx hb dX4_tolerance_30 rfl (lv_at hl 0 rfl) ?_
      refine lv_iload_n hx hb dX4_tolerance_31 rfl (lv_at hl 1 rfl) ?_
      refine va_put (D := D) (ci := 3) (v := .int x) (ty := .int) (C := RX4) (T := TX4) (N := 27) hx hb hts in_X4 tyX4 tyX4_ok nmX4 hown hK hP hD hS 0 rfl rfl 16 (by decide) (hts _ q823) (fun _ h9 => h9) rfl (by decide +kernel) rfl rfl (Nat.le_of_ble_eq_true rfl) dX4_tolerance_32 (fun H locs hP hD hS => ?_)
      have hP : va_P D oc_cl (oc_mW d h (upd (upd I 0 0) 16 x) F L) H := hP
      have hD : va_D (oc_hA h) (oc_mW d h (upd (upd I 0 0) 16 x) F L) := hD
      refine lv_aload_n hx hb dX4_tolerance_35 rfl (lv_at hl 0 rfl) ?_
      refine lv_iload_n hx hb dX4_tolerance_36 rfl (lv_at hl 2 rfl) ?_
      refine va_put (D := D) (ci := 3) (v := .int y) (ty := .int) (C := RX4) (T := TX4) (N := 27) hx hb hts in_X4 tyX4 tyX4_ok nmX4 hown hK hP hD hS 0 rfl rfl 17 (by decide) (hts _ q824) (fun _ h9 => h9) rfl (by decide +kernel) rfl rfl (Nat.le_of_ble_eq_true rfl) dX4_tolerance_37 (fun H locs hP hD hS => ?_)
      have hP : va_P D oc_cl (oc_mW d h (upd (upd (upd I 0 0) 16 x) 17 y) F L) H := hP
      have hD : va_D (oc_hA h) (oc_mW d h (upd (upd (upd I 0 0) 16 x) 17 y) F L) := hD
      refine lv_iconst (v := 1) hx hb dX4_tolerance_40 (by decide) ?_
      exact oc_zret hx hb hr hlocks hS dX4_tolerance_41 rfl ⟨_, _, _, _, rfl, hP, rfl, rfl, ⟨rfl, rfl, Or.inl ⟨by simp [id, *], rfl, rfl⟩⟩⟩
    · -- not taken
      rw [oc_b0] at c25
      refine lv_iconst (v := 0) hx hb dX4_tolerance_28 (by decide) ?_
      exact oc_zret hx hb hr hlocks hS dX4_tolerance_29 rfl ⟨_, _, _, _, rfl, hP, rfl, rfl, ⟨rfl, rfl, Or.inr ⟨by simp [id, *], rfl, rfl⟩⟩⟩
set_option maxHeartbeats 4000000 in
set_option maxRecDepth 100000 in
theorem kX4_own {l : Launch} {s0 : State} {b0 : Addr} {D : va_G} {d : Nat → ClassId} (G : oc_G l s0 b0 D d) {h : Nat → Nat} {I : Nat → Int32} {F : Nat → Nat → Int32} {L : Nat → Int64} {H : Heap} (hP : va_P D oc_cl (oc_mW d h I F L) H) (hD : va_D (oc_hA h) (oc_mW d h I F L)) (hN0 : ∀ q, oc_hA h q → s0.heap.size ≤ q) (x : Int32) : oc_C l s0 yX4_own (oc_rm 1 18 0 0) [.ref (h 0), .int x] H (oc_hA h) (oc_Pm D d h (sp_own I F L x)) := by
  refine oc_start G (cc := cX4_own) (L := 2) (ret := (Option.some Jvm.ClassFile.FieldType.boolean)) q956 (Nat.le_of_ble_eq_true rfl) ?_
  intro p e s m below meth c ls hx hok hb hml hr hlocks htab hown hts hK hmn hh hl
  subst hh
  have hl : lv_has ls 2 [(0, .ref (h 0)), (1, .int x)] := hl
  have hS : va_S (oc_hA h) s.heap s.heap [] := va_S.rf
  generalize hH0 : s.heap = H at hP ⊢
  have hS : va_S (oc_hA h) s.heap H [] := by rw [← hH0]; exact va_S.rf
  clear hH0
  generalize hlo0 : ([] : List Loc) = locs at hS ⊢
  refine lv_aload_n hx hb dX4_own_0 rfl (lv_at hl 0 rfl) ?_
  refine lv_iload_n hx hb dX4_own_1 rfl (lv_at hl 1 rfl) ?_
  refine lv_i2l (v := x.toInt64) hx hb dX4_own_2 rfl ?_
  refine lv_lconst (v := 0) hx hb dX4_own_3 (by decide) ?_
  refine lv_ldc2 (v := 9) hx hb hown (hts _ q921) dX4_own_4 ?_
  refine oc_callR1 hx hb hml hl.1 ⟨hok, hS, hN0⟩ (oc_iS (As := [.long x.toInt64, .long 0, .long 9]) (rest := [.ref (h 0)]) hx hb hown (hts _ q900) (hts _ q901) (hts _ q30) (hts _ q902) ⟨by decide, by decide, (by decide +kernel : (parseMethodDescriptor "(JJJ)Z").map (fun d => d.parameters.length) = some 3)⟩ dX4_own_7 rfl) (oc_M.of (by decide +kernel) (hts _ q902)) (kX4_in G x.toInt64 0 9) dX4_own_7 (Nat.le_of_ble_eq_true rfl) (Nat.le_of_ble_eq_true rfl) (Nat.le_of_ble_eq_true rfl) (Nat.le_of_ble_eq_true rfl) ?_
  refine lv_if_eq (tgt := 17) hx hb dX4_own_10 (by decide) (fun c10 => ?_) (fun c10 => ?_)
  · -- taken
    rw [oc_b0] at c10
    refine lv_iconst (v := 1) hx hb dX4_own_17 (by decide) ?_
    refine va_put (D := D) (ci := 3) (v := .int 1) (ty := .int) (C := RX4) (T := TX4) (N := 27) hx hb hts in_X4 tyX4 tyX4_ok nmX4 hown hK hP hD hS 0 rfl rfl 0 (by decide) (hts _ q807) (fun _ h9 => h9) rfl (by decide +kernel) rfl rfl (Nat.le_of_ble_eq_true rfl) dX4_own_18 (fun H locs hP hD hS => ?_)
    have hP : va_P D oc_cl (oc_mW d h (upd I 0 1) F L) H := hP
    have hD : va_D (oc_hA h) (oc_mW d h (upd I 0 1) F L) := hD
    refine lv_aload_n hx hb dX4_own_21 rfl (lv_at hl 0 rfl) ?_
    refine va_get (D := D) (ci := 3) (v := .int 1) (C := RX4) (T := TX4) (N := 27) hx hb hts in_X4 hown hK hP 0 rfl rfl 0 (by decide) (hts _ q807) (fun _ h9 => h9) rfl dX4_own_22 ?_
    refine lv_if_ne (tgt := 40) hx hb dX4_own_25 (by decide) (fun c25 => ?_) (fun c25 => ?_)
    · -- taken
      refine lv_iconst (v := 0) hx hb dX4_own_40 (by decide) ?_
      exact oc_zret hx hb hr hlocks hS dX4_own_41 rfl ⟨_, _, _, _, rfl, hP, rfl, rfl, ⟨rfl, rfl, Or.inr ⟨by simp [*], rfl, rfl⟩⟩⟩
    · exact absurd c25 (by decide)
  · -- not taken
    rw [oc_b0] at c10
    rw [Bool.not_eq_false] at c10
    refine lv_iconst (v := 0) hx hb dX4_own_13 (by decide) ?_
    refine lv_goto (tgt := 18) hx hb dX4_own_14 (by decide) ?_
    refine va_put (D := D) (ci := 3) (v := .int 0) (ty := .int) (C := RX4) (T := TX4) (N := 27) hx hb hts in_X4 tyX4 tyX4_ok nmX4 hown hK hP hD hS 0 rfl rfl 0 (by decide) (hts _ q807) (fun _ h9 => h9) rfl (by decide +kernel) rfl rfl (Nat.le_of_ble_eq_true rfl) dX4_own_18 (fun H locs hP hD hS => ?_)
    have hP : va_P D oc_cl (oc_mW d h (upd I 0 0) F L) H := hP
    have hD : va_D (oc_hA h) (oc_mW d h (upd I 0 0) F L) := hD
    refine lv_aload_n hx hb dX4_own_21 rfl (lv_at hl 0 rfl) ?_
    refine va_get (D := D) (ci := 3) (v := .int 0) (C := RX4) (T := TX4) (N := 27) hx hb hts in_X4 hown hK hP 0 rfl rfl 0 (by decide) (hts _ q807) (fun _ h9 => h9) rfl dX4_own_22 ?_
    refine lv_if_ne (tgt := 40) hx hb dX4_own_25 (by decide) (fun c25 => ?_) (fun c25 => ?_)
    · exact absurd c25 (by decide)
    · -- not taken
      refine lv_aload_n hx hb dX4_own_28 rfl (lv_at hl 0 rfl) ?_
      refine lv_iload_n hx hb dX4_own_29 rfl (lv_at hl 1 rfl) ?_
      refine oc_callR1 hx hb hml hl.1 ⟨hok, hS, hN0⟩ (oc_iV (As := [.int x]) (rest := []) hx hb hown (hts _ q957) (hts _ q959) (hts _ qs15) (oc_Sig.of (hts _ q960) (by decide +kernel : (parseMethodDescriptor "(I)Z").map (fun d => d.parameters.length) = some 1)) (va_recv hK hP (ci := 3) (q0 := 0) rfl rfl) ⟨by decide, by decide⟩ dX4_own_30 rfl) (oc_M.of (by decide +kernel) (hts _ q960)) (kX4_isOwn G hP x) dX4_own_30 (Nat.le_of_ble_eq_true rfl) (Nat.le_of_ble_eq_true rfl) (Nat.le_of_ble_eq_true rfl) (Nat.le_of_ble_eq_true rfl) ?_
      refine oc_topi (x := oc_b (oc_mw (upd I 0 0) F x)) (y := oc_b (oc_mw I F x)) (rfl) ?_
      refine lv_if_eq (tgt := 40) hx hb dX4_own_33 (by decide) (fun c33 => ?_) (fun c33 => ?_)
      · -- taken
        rw [oc_b0] at c33
        refine lv_iconst (v := 0) hx hb dX4_own_40 (by decide) ?_
        exact oc_zret hx hb hr hlocks hS dX4_own_41 rfl ⟨_, _, _, _, rfl, hP, rfl, rfl, ⟨rfl, rfl, Or.inl ⟨by simp [*], by simp [oc_b, *], rfl⟩⟩⟩
      · -- not taken
        rw [oc_b0] at c33
        rw [Bool.not_eq_false] at c33
        refine lv_iconst (v := 1) hx hb dX4_own_36 (by decide) ?_
        refine lv_goto (tgt := 41) hx hb dX4_own_37 (by decide) ?_
        exact oc_zret hx hb hr hlocks hS dX4_own_41 rfl ⟨_, _, _, _, rfl, hP, rfl, rfl, ⟨rfl, rfl, Or.inl ⟨by simp [*], by simp [oc_b, *], rfl⟩⟩⟩
theorem oc_ixof {x : Int32} {n : Nat} (h0 : ¬ x < 0) (h1 : ¬ nI n ≤ x) (hn : n < 2147483648) : ∃ j : Nat, j < n ∧ x = nI j := by
  obtain ⟨j, hj, rfl⟩ := nI_of h0
  exact ⟨j, by rw [nI_leI hn hj] at h1; omega, rfl⟩
theorem oc_in9 {x : Int32} (h : oc_in x.toInt64 0 9 = true) : ∃ j : Nat, j < 10 ∧ x = nI j := by
  simp only [oc_in, Bool.and_eq_true, Bool.not_eq_true', decide_eq_false_iff_not, Int64.lt_iff_toInt_lt, Int32.toInt_toInt64] at h
  obtain ⟨a, b⟩ := h
  have a1 : ¬ x < 0 := by rw [Int32.lt_iff_toInt_lt]; exact a
  obtain ⟨j, hj, rfl⟩ := nI_of a1
  rw [nI_toInt hj] at b
  exact ⟨j, by have : (9 : Int64).toInt = 9 := rfl; omega, rfl⟩
theorem oc_ij {x y : Int32} {i j : Nat} (hx : x = nI i) (hy : y = nI j) : 10 * x + y = nI (10 * i + j) := by
  subst hx; subst hy
  rw [show (10 : Int32) = nI 10 from rfl, pk_mul, nI_add]
def oc_jok (x y : Int32) : Bool := oc_in x.toInt64 0 9 && oc_in y.toInt64 0 9 && !decide (x = y)
def sp_join (I : Nat → Int32) (F : Nat → Nat → Int32) (L : Nat → Int64) (x y : Int32) : oc_Φ := fun v I' F' L' =>
  (oc_jok x y = false ∧ sp_refuse I F L 1 v I' F' L') ∨ (oc_jok x y = true ∧ ∃ i j, i < 10 ∧ j < 10 ∧ x = nI i ∧ y = nI j ∧ L' = L ∧
    ((¬ F 13 (10 * i + j) = 0 ∧ v = some (.int 0) ∧ I' = upd I 0 0 ∧ F' = F) ∨ (F 13 (10 * i + j) = 0 ∧ v = some (.int 1) ∧ I' = upd (upd I 0 0) 14 (I 14 + 1) ∧ F' = va_up F 13 (upd (upd (F 13) (10 * i + j) 1) (10 * j + i) 1))))
def sp_proof (I : Nat → Int32) (F : Nat → Nat → Int32) (L : Nat → Int64) (n : Nat) (x y z : Int32) : oc_Φ := fun v I' F' L' =>
  let ok := oc_in x.toInt64 0 1 && oc_in y.toInt64 0 100000 && oc_in z.toInt64 0 100000 && decide (y ≤ z)
  (ok = false ∧ sp_refuse I F L 1 v I' F' L') ∨ (ok = true ∧ n = 20 ∧ sp_refuse I F L 2 v I' F' L') ∨
  (ok = true ∧ ¬ n = 20 ∧ v = some (.int (I 18 + 1 - 1)) ∧ I' = upd (upd I 0 0) 18 (I 18 + 1) ∧ F' = va_up (va_up (va_up F 19 (upd (F 19) n x)) 20 (upd (F 20) n y)) 21 (upd (F 21) n z) ∧ L' = L)
def oc_gok (F : Nat → Nat → Int32) (j : Nat) (y : Int64) (z : Int32) : Bool := (decide (F 19 j = 1) || !decide (1000000 < y)) && !decide (z < F 20 j) && !decide (F 21 j < z)
def sp_good (I : Nat → Int32) (F : Nat → Nat → Int32) (L : Nat → Int64) (n : Nat) (x : Int32) (y : Int64) (z : Int32) : oc_Φ := fun v I' F' L' => F' = F ∧ L' = L ∧
  (((x < 0 ∨ nI n ≤ x ∨ oc_in y 0 1000000000 = false ∨ oc_in z.toInt64 0 100000 = false) ∧ v = some (.int 0) ∧ I' = upd I 0 1) ∨
   (∃ j, j < n ∧ x = nI j ∧ oc_in y 0 1000000000 = true ∧ oc_in z.toInt64 0 100000 = true ∧ v = some (.int (oc_b (oc_gok F j y z))) ∧ I' = upd I 0 0))
set_option maxHeartbeats 4000000 in
set_option maxRecDepth 100000 in
theorem kX4_join {l : Launch} {s0 : State} {b0 : Addr} {D : va_G} {d : Nat → ClassId} (G : oc_G l s0 b0 D d) {h : Nat → Nat} {I : Nat → Int32} {F : Nat → Nat → Int32} {L : Nat → Int64} {H : Heap} (hP : va_P D oc_cl (oc_mW d h I F L) H) (hD : va_D (oc_hA h) (oc_mW d h I F L)) (hN0 : ∀ q, oc_hA h q → s0.heap.size ≤ q) (x y : Int32) : oc_C l s0 yX4_join (oc_rm 1 17 0 0) [.ref (h 0), .int x, .int y] H (oc_hA h) (oc_Pm D d h (sp_join I F L x y)) := by
  refine oc_start G (cc := cX4_join) (L := 3) (ret := (Option.some Jvm.ClassFile.FieldType.int)) q943 (Nat.le_of_ble_eq_true rfl) ?_
  intro p e s m below meth c ls hx hok hb hml hr hlocks htab hown hts hK hmn hh hl
  subst hh
  have hl : lv_has ls 3 [(0, .ref (h 0)), (1, .int x), (2, .int y)] := hl
  have hS : va_S (oc_hA h) s.heap s.heap [] := va_S.rf
  generalize hH0 : s.heap = H at hP ⊢
  have hS : va_S (oc_hA h) s.heap H [] := by rw [← hH0]; exact va_S.rf
  clear hH0
  generalize hlo0 : ([] : List Loc) = locs at hS ⊢
  refine lv_iload_n hx hb dX4_join_0 rfl (lv_at hl 1 rfl) ?_
  refine lv_i2l (v := x.toInt64) hx hb dX4_join_1 rfl ?_
  refine lv_lconst (v := 0) hx hb dX4_join_2 (by decide) ?_
  refine lv_ldc2 (v := 9) hx hb hown (hts _ q921) dX4_join_3 ?_
  refine oc_callR1 hx hb hml hl.1 ⟨hok, hS, hN0⟩ (oc_iS (As := [.long x.toInt64, .long 0, .long 9]) (rest := []) hx hb hown (hts _ q900) (hts _ q901) (hts _ q30) (hts _ q902) ⟨by decide, by decide, (by decide +kernel : (parseMethodDescriptor "(JJJ)Z").map (fun d => d.parameters.length) = some 3)⟩ dX4_join_6 rfl) (oc_M.of (by decide +kernel) (hts _ q902)) (kX4_in G x.toInt64 0 9) dX4_join_6 (Nat.le_of_ble_eq_true rfl) (Nat.le_of_ble_eq_true rfl) (Nat.le_of_ble_eq_true rfl) (Nat.le_of_ble_eq_true rfl) ?_
  refine lv_if_eq (tgt := 29) hx hb dX4_join_9 (by decide) (fun c9 => ?_) (fun c9 => ?_)
  · -- taken
    rw [oc_b0] at c9
    refine lv_aload_n hx hb dX4_join_29 rfl (lv_at hl 0 rfl) ?_
    refine lv_iconst (v := 1) hx hb dX4_join_30 (by decide) ?_
    refine oc_callM hx hb hml hl.1 ⟨hok, hS, hN0⟩ (oc_iV (As := [.int 1]) (rest := []) hx hb hown (hts _ q923) (hts _ q925) (hts _ qs14) (oc_Sig.of (hts _ q926) (by decide +kernel : (parseMethodDescriptor "(I)I").map (fun d => d.parameters.length) = some 1)) (va_recv hK hP (ci := 3) (q0 := 0) rfl rfl) ⟨by decide, by decide⟩ dX4_join_31 rfl) (oc_M.of (by decide +kernel) (hts _ q926)) (kX4_refuse G hP hD hN0 1) (fun _ z => z) dX4_join_31 (Nat.le_of_ble_eq_true rfl) (Nat.le_of_ble_eq_true rfl) (Nat.le_of_ble_eq_true rfl) (Nat.le_of_ble_eq_true rfl) (fun v I_ F_ L_ H locs sp hP hz1 hk1 hS => ?_)
    obtain ⟨rfl, e2, e3, e4⟩ := sp
    rw [e2, e3, e4] at hP
    clear e2 e3 e4
    have hD : va_D (oc_hA h) (oc_mW d h (upd I 0 1) F L) := oc_mD hD
    refine W.eq (g2 := F0 m 34 ls [.int 0]) rfl ?_
    exact oc_iret hx hb hr hlocks hS dX4_join_34 ⟨_, _, _, _, rfl, hP, rfl, rfl, Or.inl ⟨by simp [oc_jok, *], rfl, rfl, rfl, rfl⟩⟩
  · -- not taken
    rw [oc_b0] at c9
    rw [Bool.not_eq_false] at c9
    refine lv_iload_n hx hb dX4_join_12 rfl (lv_at hl 2 rfl) ?_
    refine lv_i2l (v := y.toInt64) hx hb dX4_join_13 rfl ?_
    refine lv_lconst (v := 0) hx hb dX4_join_14 (by decide) ?_
    refine lv_ldc2 (v := 9) hx hb hown (hts _ q921) dX4_join_15 ?_
    refine oc_callR1 hx hb hml hl.1 ⟨hok, hS, hN0⟩ (oc_iS (As := [.long y.toInt64, .long 0, .long 9]) (rest := []) hx hb hown (hts _ q900) (hts _ q901) (hts _ q30) (hts _ q902) ⟨by decide, by decide, (by decide +kernel : (parseMethodDescriptor "(JJJ)Z").map (fun d => d.parameters.length) = some 3)⟩ dX4_join_18 rfl) (oc_M.of (by decide +kernel) (hts _ q902)) (kX4_in G y.toInt64 0 9) dX4_join_18 (Nat.le_of_ble_eq_true rfl) (Nat.le_of_ble_eq_true rfl) (Nat.le_of_ble_eq_true rfl) (Nat.le_of_ble_eq_true rfl) ?_
    refine lv_if_eq (tgt := 29) hx hb dX4_join_21 (by decide) (fun c21 => ?_) (fun c21 => ?_)
    · -- taken
      rw [oc_b0] at c21
      refine lv_aload_n hx hb dX4_join_29 rfl (lv_at hl 0 rfl) ?_
      refine lv_iconst (v := 1) hx hb dX4_join_30 (by decide) ?_
      refine oc_callM hx hb hml hl.1 ⟨hok, hS, hN0⟩ (oc_iV (As := [.int 1]) (rest := []) hx hb hown (hts _ q923) (hts _ q925) (hts _ qs14) (oc_Sig.of (hts _ q926) (by decide +kernel : (parseMethodDescriptor "(I)I").map (fun d => d.parameters.length) = some 1)) (va_recv hK hP (ci := 3) (q0 := 0) rfl rfl) ⟨by decide, by decide⟩ dX4_join_31 rfl) (oc_M.of (by decide +kernel) (hts _ q926)) (kX4_refuse G hP hD hN0 1) (fun _ z => z) dX4_join_31 (Nat.le_of_ble_eq_true rfl) (Nat.le_of_ble_eq_true rfl) (Nat.le_of_ble_eq_true rfl) (Nat.le_of_ble_eq_true rfl) (fun v I_ F_ L_ H locs sp hP hz1 hk1 hS => ?_)
      obtain ⟨rfl, e2, e3, e4⟩ := sp
      rw [e2, e3, e4] at hP
      clear e2 e3 e4
      have hD : va_D (oc_hA h) (oc_mW d h (upd I 0 1) F L) := oc_mD hD
      refine W.eq (g2 := F0 m 34 ls [.int 0]) rfl ?_
      exact oc_iret hx hb hr hlocks hS dX4_join_34 ⟨_, _, _, _, rfl, hP, rfl, rfl, Or.inl ⟨by simp [oc_jok, *], rfl, rfl, rfl, rfl⟩⟩
    · -- not taken
      rw [oc_b0] at c21
      rw [Bool.not_eq_false] at c21
      refine lv_iload_n hx hb dX4_join_24 rfl (lv_at hl 1 rfl) ?_
      refine lv_iload_n hx hb dX4_join_25 rfl (lv_at hl 2 rfl) ?_
      refine lv_icmp_ne (tgt := 35) hx hb dX4_join_26 (by decide) (fun c26 => ?_) (fun c26 => ?_)
      · -- taken
        obtain ⟨i, hi, hxi⟩ := oc_in9 c9
        obtain ⟨j, hj, hyj⟩ := oc_in9 c21
        refine lv_aload_n hx hb dX4_join_35 rfl (lv_at hl 0 rfl) ?_
        refine lv_iconst (v := 0) hx hb dX4_join_36 (by decide) ?_
        refine va_put (D := D) (ci := 3) (v := .int 0) (ty := .int) (C := RX4) (T := TX4) (N := 27) hx hb hts in_X4 tyX4 tyX4_ok nmX4 hown hK hP hD hS 0 rfl rfl 0 (by decide) (hts _ q807) (fun _ h9 => h9) rfl (by decide +kernel) rfl rfl (Nat.le_of_ble_eq_true rfl) dX4_join_37 (fun H locs hP hD hS => ?_)
        have hP : va_P D oc_cl (oc_mW d h (upd I 0 0) F L) H := hP
        have hD : va_D (oc_hA h) (oc_mW d h (upd I 0 0) F L) := hD
        refine lv_aload_n hx hb dX4_join_40 rfl (lv_at hl 0 rfl) ?_
        refine va_get (D := D) (ci := 3) (v := .ref (h 13)) (C := RX4) (T := TX4) (N := 27) hx hb hts in_X4 hown hK hP 0 rfl rfl 13 (by decide) (hts _ q820) (fun _ h9 => h9) rfl dX4_join_41 ?_
        refine lv_bipush (v := 10) hx hb dX4_join_44 (by decide) ?_
        refine lv_iload_n hx hb dX4_join_46 rfl (lv_at hl 1 rfl) ?_
        refine lv_imul hx hb dX4_join_47 ?_
        refine lv_iload_n hx hb dX4_join_48 rfl (lv_at hl 2 rfl) ?_
        refine lv_iadd hx hb dX4_join_49 ?_
        refine oc_zald hx hb hK hP 8 1 rfl rfl (10 * i + j) (oc_ij hxi hyj) (by omega) (by decide) dX4_join_50 ?_
        refine lv_if_eq (tgt := 56) hx hb dX4_join_51 (by decide) (fun c51 => ?_) (fun c51 => ?_)
        · -- taken
          refine lv_aload_n hx hb dX4_join_56 rfl (lv_at hl 0 rfl) ?_
          refine va_get (D := D) (ci := 3) (v := .ref (h 13)) (C := RX4) (T := TX4) (N := 27) hx hb hts in_X4 hown hK hP 0 rfl rfl 13 (by decide) (hts _ q820) (fun _ h9 => h9) rfl dX4_join_57 ?_
          refine lv_bipush (v := 10) hx hb dX4_join_60 (by decide) ?_
          refine lv_iload_n hx hb dX4_join_62 rfl (lv_at hl 1 rfl) ?_
          refine lv_imul hx hb dX4_join_63 ?_
          refine lv_iload_n hx hb dX4_join_64 rfl (lv_at hl 2 rfl) ?_
          refine lv_iadd hx hb dX4_join_65 ?_
          refine lv_iconst (v := 1) hx hb dX4_join_66 (by decide) ?_
          refine oc_zast hx hb hK hP hD hS 8 1 rfl rfl (10 * i + j) (oc_ij hxi hyj) (by omega) (by decide) (v := 1) rfl dX4_join_67 (fun H locs hP hD hS => ?_)
          have hP : va_P D oc_cl (oc_mW d h (upd I 0 0) (va_up F 13 (upd (F 13) (10 * i + j) 1)) L) H := hP
          have hD : va_D (oc_hA h) (oc_mW d h (upd I 0 0) (va_up F 13 (upd (F 13) (10 * i + j) 1)) L) := hD
          refine lv_aload_n hx hb dX4_join_68 rfl (lv_at hl 0 rfl) ?_
          refine va_get (D := D) (ci := 3) (v := .ref (h 13)) (C := RX4) (T := TX4) (N := 27) hx hb hts in_X4 hown hK hP 0 rfl rfl 13 (by decide) (hts _ q820) (fun _ h9 => h9) rfl dX4_join_69 ?_
          refine lv_bipush (v := 10) hx hb dX4_join_72 (by decide) ?_
          refine lv_iload_n hx hb dX4_join_74 rfl (lv_at hl 2 rfl) ?_
          refine lv_imul hx hb dX4_join_75 ?_
          refine lv_iload_n hx hb dX4_join_76 rfl (lv_at hl 1 rfl) ?_
          refine lv_iadd hx hb dX4_join_77 ?_
          refine lv_iconst (v := 1) hx hb dX4_join_78 (by decide) ?_
          refine oc_zast hx hb hK hP hD hS 8 1 rfl rfl (10 * j + i) (oc_ij hyj hxi) (by omega) (by decide) (v := 1) rfl dX4_join_79 (fun H locs hP hD hS => ?_)
          have hP : va_P D oc_cl (oc_mW d h (upd I 0 0) (va_up F 13 (upd (upd (F 13) (10 * i + j) 1) (10 * j + i) 1)) L) H := hP
          have hD : va_D (oc_hA h) (oc_mW d h (upd I 0 0) (va_up F 13 (upd (upd (F 13) (10 * i + j) 1) (10 * j + i) 1)) L) := hD
          refine lv_aload_n hx hb dX4_join_80 rfl (lv_at hl 0 rfl) ?_
          refine lv_dup hx hb dX4_join_81 rfl ?_
          refine va_get (D := D) (ci := 3) (v := .int (I 14)) (C := RX4) (T := TX4) (N := 27) hx hb hts in_X4 hown hK hP 0 rfl rfl 14 (by decide) (hts _ q821) (fun _ h9 => h9) rfl dX4_join_82 ?_
          refine lv_iconst (v := 1) hx hb dX4_join_85 (by decide) ?_
          refine lv_iadd hx hb dX4_join_86 ?_
          refine va_put (D := D) (ci := 3) (v := .int ((I 14) + 1)) (ty := .int) (C := RX4) (T := TX4) (N := 27) hx hb hts in_X4 tyX4 tyX4_ok nmX4 hown hK hP hD hS 0 rfl rfl 14 (by decide) (hts _ q821) (fun _ h9 => h9) rfl (by decide +kernel) rfl rfl (Nat.le_of_ble_eq_true rfl) dX4_join_87 (fun H locs hP hD hS => ?_)
          have hP : va_P D oc_cl (oc_mW d h (upd (upd I 0 0) 14 ((I 14) + 1)) (va_up F 13 (upd (upd (F 13) (10 * i + j) 1) (10 * j + i) 1)) L) H := hP
          have hD : va_D (oc_hA h) (oc_mW d h (upd (upd I 0 0) 14 ((I 14) + 1)) (va_up F 13 (upd (upd (F 13) (10 * i + j) 1) (10 * j + i) 1)) L) := hD
          refine lv_iconst (v := 1) hx hb dX4_join_90 (by decide) ?_
          exact oc_iret hx hb hr hlocks hS dX4_join_91 ⟨_, _, _, _, rfl, hP, rfl, rfl, Or.inr ⟨by simp [oc_jok, c9, c21, c26], i, j, hi, hj, hxi, hyj, rfl, Or.inr ⟨c51, rfl, rfl, rfl⟩⟩⟩
        · -- not taken
          refine lv_iconst (v := 0) hx hb dX4_join_54 (by decide) ?_
          exact oc_iret hx hb hr hlocks hS dX4_join_55 ⟨_, _, _, _, rfl, hP, rfl, rfl, Or.inr ⟨by simp [oc_jok, c9, c21, c26], i, j, hi, hj, hxi, hyj, rfl, Or.inl ⟨c51, rfl, rfl, rfl⟩⟩⟩
      · -- not taken
        refine lv_aload_n hx hb dX4_join_29 rfl (lv_at hl 0 rfl) ?_
        refine lv_iconst (v := 1) hx hb dX4_join_30 (by decide) ?_
        refine oc_callM hx hb hml hl.1 ⟨hok, hS, hN0⟩ (oc_iV (As := [.int 1]) (rest := []) hx hb hown (hts _ q923) (hts _ q925) (hts _ qs14) (oc_Sig.of (hts _ q926) (by decide +kernel : (parseMethodDescriptor "(I)I").map (fun d => d.parameters.length) = some 1)) (va_recv hK hP (ci := 3) (q0 := 0) rfl rfl) ⟨by decide, by decide⟩ dX4_join_31 rfl) (oc_M.of (by decide +kernel) (hts _ q926)) (kX4_refuse G hP hD hN0 1) (fun _ z => z) dX4_join_31 (Nat.le_of_ble_eq_true rfl) (Nat.le_of_ble_eq_true rfl) (Nat.le_of_ble_eq_true rfl) (Nat.le_of_ble_eq_true rfl) (fun v I_ F_ L_ H locs sp hP hz1 hk1 hS => ?_)
        obtain ⟨rfl, e2, e3, e4⟩ := sp
        rw [e2, e3, e4] at hP
        clear e2 e3 e4
        have hD : va_D (oc_hA h) (oc_mW d h (upd I 0 1) F L) := oc_mD hD
        refine W.eq (g2 := F0 m 34 ls [.int 0]) rfl ?_
        exact oc_iret hx hb hr hlocks hS dX4_join_34 ⟨_, _, _, _, rfl, hP, rfl, rfl, Or.inl ⟨by simp [oc_jok, *], rfl, rfl, rfl, rfl⟩⟩
set_option maxHeartbeats 4000000 in
set_option maxRecDepth 100000 in
theorem kX4_proof {l : Launch} {s0 : State} {b0 : Addr} {D : va_G} {d : Nat → ClassId} (G : oc_G l s0 b0 D d) {h : Nat → Nat} {I : Nat → Int32} {F : Nat → Nat → Int32} {L : Nat → Int64} {H : Heap} (hP : va_P D oc_cl (oc_mW d h I F L) H) (hD : va_D (oc_hA h) (oc_mW d h I F L)) (hN0 : ∀ q, oc_hA h q → s0.heap.size ≤ q) (x y z : Int32) (n : Nat) (hn : I 18 = nI n) (h20 : n ≤ 20) : oc_C l s0 yX4_proof (oc_rm 2 29 0 0) [.ref (h 0), .int x, .int y, .int z] H (oc_hA h) (oc_Pm D d h (sp_proof I F L n x y z)) := by
  refine oc_start G (cc := cX4_proof) (L := 4) (ret := (Option.some Jvm.ClassFile.FieldType.int)) q1006 (Nat.le_of_ble_eq_true rfl) ?_
  intro p e s m below meth c ls hx hok hb hml hr hlocks htab hown hts hK hmn hh hl
  subst hh
  have hl : lv_has ls 4 [(0, .ref (h 0)), (1, .int x), (2, .int y), (3, .int z)] := hl
  have hS : va_S (oc_hA h) s.heap s.heap [] := va_S.rf
  generalize hH0 : s.heap = H at hP ⊢
  have hS : va_S (oc_hA h) s.heap H [] := by rw [← hH0]; exact va_S.rf
  clear hH0
  generalize hlo0 : ([] : List Loc) = locs at hS ⊢
  refine lv_iload_n hx hb dX4_proof_0 rfl (lv_at hl 1 rfl) ?_
  refine lv_i2l (v := x.toInt64) hx hb dX4_proof_1 rfl ?_
  refine lv_lconst (v := 0) hx hb dX4_proof_2 (by decide) ?_
  refine lv_lconst (v := 1) hx hb dX4_proof_3 (by decide) ?_
  refine oc_callR1 hx hb hml hl.1 ⟨hok, hS, hN0⟩ (oc_iS (As := [.long x.toInt64, .long 0, .long 1]) (rest := []) hx hb hown (hts _ q900) (hts _ q901) (hts _ q30) (hts _ q902) ⟨by decide, by decide, (by decide +kernel : (parseMethodDescriptor "(JJJ)Z").map (fun d => d.parameters.length) = some 3)⟩ dX4_proof_4 rfl) (oc_M.of (by decide +kernel) (hts _ q902)) (kX4_in G x.toInt64 0 1) dX4_proof_4 (Nat.le_of_ble_eq_true rfl) (Nat.le_of_ble_eq_true rfl) (Nat.le_of_ble_eq_true rfl) (Nat.le_of_ble_eq_true rfl) ?_
  refine lv_if_eq (tgt := 29) hx hb dX4_proof_7 (by decide) (fun c7 => ?_) (fun c7 => ?_)
  · -- taken
    rw [oc_b0] at c7
    refine lv_aload_n hx hb dX4_proof_29 rfl (lv_at hl 0 rfl) ?_
    refine lv_iconst (v := 1) hx hb dX4_proof_30 (by decide) ?_
    refine oc_callM hx hb hml hl.1 ⟨hok, hS, hN0⟩ (oc_iV (As := [.int 1]) (rest := []) hx hb hown (hts _ q923) (hts _ q925) (hts _ qs14) (oc_Sig.of (hts _ q926) (by decide +kernel : (parseMethodDescriptor "(I)I").map (fun d => d.parameters.length) = some 1)) (va_recv hK hP (ci := 3) (q0 := 0) rfl rfl) ⟨by decide, by decide⟩ dX4_proof_31 rfl) (oc_M.of (by decide +kernel) (hts _ q926)) (kX4_refuse G hP hD hN0 1) (fun _ z => z) dX4_proof_31 (Nat.le_of_ble_eq_true rfl) (Nat.le_of_ble_eq_true rfl) (Nat.le_of_ble_eq_true rfl) (Nat.le_of_ble_eq_true rfl) (fun v I_ F_ L_ H locs sp hP hz1 hk1 hS => ?_)
    obtain ⟨rfl, e2, e3, e4⟩ := sp
    rw [e2, e3, e4] at hP
    clear e2 e3 e4
    have hD : va_D (oc_hA h) (oc_mW d h (upd I 0 1) F L) := oc_mD hD
    refine W.eq (g2 := F0 m 34 ls [.int 0]) rfl ?_
    exact oc_iret hx hb hr hlocks hS dX4_proof_34 ⟨_, _, _, _, rfl, hP, rfl, rfl, Or.inl ⟨by simp [*], rfl, rfl, rfl, rfl⟩⟩
  · -- not taken
    rw [oc_b0] at c7
    rw [Bool.not_eq_false] at c7
    refine lv_iload_n hx hb dX4_proof_10 rfl (lv_at hl 2 rfl) ?_
    refine oc_callR1 hx hb hml hl.1 ⟨hok, hS, hN0⟩ (oc_iS (As := [.int y]) (rest := []) hx hb hown (hts _ q1007) (hts _ q1008) (hts _ q30) (hts _ q1009) ⟨by decide, by decide, (by decide +kernel : (parseMethodDescriptor "(I)Z").map (fun d => d.parameters.length) = some 1)⟩ dX4_proof_11 rfl) (oc_M.of (by decide +kernel) (hts _ q1009)) (kX4_isDay G y) dX4_proof_11 (Nat.le_of_ble_eq_true rfl) (Nat.le_of_ble_eq_true rfl) (Nat.le_of_ble_eq_true rfl) (Nat.le_of_ble_eq_true rfl) ?_
    refine lv_if_eq (tgt := 29) hx hb dX4_proof_14 (by decide) (fun c14 => ?_) (fun c14 => ?_)
    · -- taken
      rw [oc_b0] at c14
      refine lv_aload_n hx hb dX4_proof_29 rfl (lv_at hl 0 rfl) ?_
      refine lv_iconst (v := 1) hx hb dX4_proof_30 (by decide) ?_
      refine oc_callM hx hb hml hl.1 ⟨hok, hS, hN0⟩ (oc_iV (As := [.int 1]) (rest := []) hx hb hown (hts _ q923) (hts _ q925) (hts _ qs14) (oc_Sig.of (hts _ q926) (by decide +kernel : (parseMethodDescriptor "(I)I").map (fun d => d.parameters.length) = some 1)) (va_recv hK hP (ci := 3) (q0 := 0) rfl rfl) ⟨by decide, by decide⟩ dX4_proof_31 rfl) (oc_M.of (by decide +kernel) (hts _ q926)) (kX4_refuse G hP hD hN0 1) (fun _ z => z) dX4_proof_31 (Nat.le_of_ble_eq_true rfl) (Nat.le_of_ble_eq_true rfl) (Nat.le_of_ble_eq_true rfl) (Nat.le_of_ble_eq_true rfl) (fun v I_ F_ L_ H locs sp hP hz1 hk1 hS => ?_)
      obtain ⟨rfl, e2, e3, e4⟩ := sp
      rw [e2, e3, e4] at hP
      clear e2 e3 e4
      have hD : va_D (oc_hA h) (oc_mW d h (upd I 0 1) F L) := oc_mD hD
      refine W.eq (g2 := F0 m 34 ls [.int 0]) rfl ?_
      exact oc_iret hx hb hr hlocks hS dX4_proof_34 ⟨_, _, _, _, rfl, hP, rfl, rfl, Or.inl ⟨by simp [*], rfl, rfl, rfl, rfl⟩⟩
    · -- not taken
      rw [oc_b0] at c14
      rw [Bool.not_eq_false] at c14
      refine lv_iload_n hx hb dX4_proof_17 rfl (lv_at hl 3 rfl) ?_
      refine oc_callR1 hx hb hml hl.1 ⟨hok, hS, hN0⟩ (oc_iS (As := [.int z]) (rest := []) hx hb hown (hts _ q1007) (hts _ q1008) (hts _ q30) (hts _ q1009) ⟨by decide, by decide, (by decide +kernel : (parseMethodDescriptor "(I)Z").map (fun d => d.parameters.length) = some 1)⟩ dX4_proof_18 rfl) (oc_M.of (by decide +kernel) (hts _ q1009)) (kX4_isDay G z) dX4_proof_18 (Nat.le_of_ble_eq_true rfl) (Nat.le_of_ble_eq_true rfl) (Nat.le_of_ble_eq_true rfl) (Nat.le_of_ble_eq_true rfl) ?_
      refine lv_if_eq (tgt := 29) hx hb dX4_proof_21 (by decide) (fun c21 => ?_) (fun c21 => ?_)
      · -- taken
        rw [oc_b0] at c21
        refine lv_aload_n hx hb dX4_proof_29 rfl (lv_at hl 0 rfl) ?_
        refine lv_iconst (v := 1) hx hb dX4_proof_30 (by decide) ?_
        refine oc_callM hx hb hml hl.1 ⟨hok, hS, hN0⟩ (oc_iV (As := [.int 1]) (rest := []) hx hb hown (hts _ q923) (hts _ q925) (hts _ qs14) (oc_Sig.of (hts _ q926) (by decide +kernel : (parseMethodDescriptor "(I)I").map (fun d => d.parameters.length) = some 1)) (va_recv hK hP (ci := 3) (q0 := 0) rfl rfl) ⟨by decide, by decide⟩ dX4_proof_31 rfl) (oc_M.of (by decide +kernel) (hts _ q926)) (kX4_refuse G hP hD hN0 1) (fun _ z => z) dX4_proof_31 (Nat.le_of_ble_eq_true rfl) (Nat.le_of_ble_eq_true rfl) (Nat.le_of_ble_eq_true rfl) (Nat.le_of_ble_eq_true rfl) (fun v I_ F_ L_ H locs sp hP hz1 hk1 hS => ?_)
        obtain ⟨rfl, e2, e3, e4⟩ := sp
        rw [e2, e3, e4] at hP
        clear e2 e3 e4
        have hD : va_D (oc_hA h) (oc_mW d h (upd I 0 1) F L) := oc_mD hD
        refine W.eq (g2 := F0 m 34 ls [.int 0]) rfl ?_
        exact oc_iret hx hb hr hlocks hS dX4_proof_34 ⟨_, _, _, _, rfl, hP, rfl, rfl, Or.inl ⟨by simp [*], rfl, rfl, rfl, rfl⟩⟩
      · -- not taken
        rw [oc_b0] at c21
        rw [Bool.not_eq_false] at c21
        refine lv_iload_n hx hb dX4_proof_24 rfl (lv_at hl 2 rfl) ?_
        refine lv_iload_n hx hb dX4_proof_25 rfl (lv_at hl 3 rfl) ?_
        refine lv_icmp_le (tgt := 35) hx hb dX4_proof_26 (by decide) (fun c26 => ?_) (fun c26 => ?_)
        · -- taken
          refine lv_aload_n hx hb dX4_proof_35 rfl (lv_at hl 0 rfl) ?_
          refine va_get (D := D) (ci := 3) (v := .int (I 18)) (C := RX4) (T := TX4) (N := 27) hx hb hts in_X4 hown hK hP 0 rfl rfl 18 (by decide) (hts _ q825) (fun _ h9 => h9) rfl dX4_proof_36 ?_
          refine oc_topi (x := I 18) (y := nI n) hn ?_
          refine lv_bipush (v := 20) hx hb dX4_proof_39 (by decide) ?_
          refine lv_icmp_ne (tgt := 50) hx hb dX4_proof_41 (by decide) (fun c41 => ?_) (fun c41 => ?_)
          · -- taken
            rw [oc_eq (x := nI n) (y := 20) (a := n) (b := 20) rfl rfl (by omega) (by omega)] at c41
            refine lv_aload_n hx hb dX4_proof_50 rfl (lv_at hl 0 rfl) ?_
            refine lv_iconst (v := 0) hx hb dX4_proof_51 (by decide) ?_
            refine va_put (D := D) (ci := 3) (v := .int 0) (ty := .int) (C := RX4) (T := TX4) (N := 27) hx hb hts in_X4 tyX4 tyX4_ok nmX4 hown hK hP hD hS 0 rfl rfl 0 (by decide) (hts _ q807) (fun _ h9 => h9) rfl (by decide +kernel) rfl rfl (Nat.le_of_ble_eq_true rfl) dX4_proof_52 (fun H locs hP hD hS => ?_)
            have hP : va_P D oc_cl (oc_mW d h (upd I 0 0) F L) H := hP
            have hD : va_D (oc_hA h) (oc_mW d h (upd I 0 0) F L) := hD
            refine lv_aload_n hx hb dX4_proof_55 rfl (lv_at hl 0 rfl) ?_
            refine va_get (D := D) (ci := 3) (v := .ref (h 19)) (C := RX4) (T := TX4) (N := 27) hx hb hts in_X4 hown hK hP 0 rfl rfl 19 (by decide) (hts _ q826) (fun _ h9 => h9) rfl dX4_proof_56 ?_
            refine lv_aload_n hx hb dX4_proof_59 rfl (lv_at hl 0 rfl) ?_
            refine va_get (D := D) (ci := 3) (v := .int (I 18)) (C := RX4) (T := TX4) (N := 27) hx hb hts in_X4 hown hK hP 0 rfl rfl 18 (by decide) (hts _ q825) (fun _ h9 => h9) rfl dX4_proof_60 ?_
            refine oc_topi (x := I 18) (y := nI n) hn ?_
            refine lv_iload_n hx hb dX4_proof_63 rfl (lv_at hl 1 rfl) ?_
            refine oc_iast hx hb hK hP hD hS 9 0 rfl rfl n rfl (by omega) (by decide) dX4_proof_64 (fun H locs hP hD hS => ?_)
            have hP : va_P D oc_cl (oc_mW d h (upd I 0 0) (va_up F 19 (upd (F 19) n x)) L) H := hP
            have hD : va_D (oc_hA h) (oc_mW d h (upd I 0 0) (va_up F 19 (upd (F 19) n x)) L) := hD
            refine lv_aload_n hx hb dX4_proof_65 rfl (lv_at hl 0 rfl) ?_
            refine va_get (D := D) (ci := 3) (v := .ref (h 20)) (C := RX4) (T := TX4) (N := 27) hx hb hts in_X4 hown hK hP 0 rfl rfl 20 (by decide) (hts _ q827) (fun _ h9 => h9) rfl dX4_proof_66 ?_
            refine lv_aload_n hx hb dX4_proof_69 rfl (lv_at hl 0 rfl) ?_
            refine va_get (D := D) (ci := 3) (v := .int (I 18)) (C := RX4) (T := TX4) (N := 27) hx hb hts in_X4 hown hK hP 0 rfl rfl 18 (by decide) (hts _ q825) (fun _ h9 => h9) rfl dX4_proof_70 ?_
            refine oc_topi (x := I 18) (y := nI n) hn ?_
            refine lv_iload_n hx hb dX4_proof_73 rfl (lv_at hl 2 rfl) ?_
            refine oc_iast hx hb hK hP hD hS 10 0 rfl rfl n rfl (by omega) (by decide) dX4_proof_74 (fun H locs hP hD hS => ?_)
            have hP : va_P D oc_cl (oc_mW d h (upd I 0 0) (va_up (va_up F 19 (upd (F 19) n x)) 20 (upd (F 20) n y)) L) H := hP
            have hD : va_D (oc_hA h) (oc_mW d h (upd I 0 0) (va_up (va_up F 19 (upd (F 19) n x)) 20 (upd (F 20) n y)) L) := hD
            refine lv_aload_n hx hb dX4_proof_75 rfl (lv_at hl 0 rfl) ?_
            refine va_get (D := D) (ci := 3) (v := .ref (h 21)) (C := RX4) (T := TX4) (N := 27) hx hb hts in_X4 hown hK hP 0 rfl rfl 21 (by decide) (hts _ q828) (fun _ h9 => h9) rfl dX4_proof_76 ?_
            refine lv_aload_n hx hb dX4_proof_79 rfl (lv_at hl 0 rfl) ?_
            refine va_get (D := D) (ci := 3) (v := .int (I 18)) (C := RX4) (T := TX4) (N := 27) hx hb hts in_X4 hown hK hP 0 rfl rfl 18 (by decide) (hts _ q825) (fun _ h9 => h9) rfl dX4_proof_80 ?_
            refine oc_topi (x := I 18) (y := nI n) hn ?_
            refine lv_iload_n hx hb dX4_proof_83 rfl (lv_at hl 3 rfl) ?_
            refine oc_iast hx hb hK hP hD hS 11 0 rfl rfl n rfl (by omega) (by decide) dX4_proof_84 (fun H locs hP hD hS => ?_)
            have hP : va_P D oc_cl (oc_mW d h (upd I 0 0) (va_up (va_up (va_up F 19 (upd (F 19) n x)) 20 (upd (F 20) n y)) 21 (upd (F 21) n z)) L) H := hP
            have hD : va_D (oc_hA h) (oc_mW d h (upd I 0 0) (va_up (va_up (va_up F 19 (upd (F 19) n x)) 20 (upd (F 20) n y)) 21 (upd (F 21) n z)) L) := hD
            refine lv_aload_n hx hb dX4_proof_85 rfl (lv_at hl 0 rfl) ?_
            refine lv_dup hx hb dX4_proof_86 rfl ?_
            refine va_get (D := D) (ci := 3) (v := .int (I 18)) (C := RX4) (T := TX4) (N := 27) hx hb hts in_X4 hown hK hP 0 rfl rfl 18 (by decide) (hts _ q825) (fun _ h9 => h9) rfl dX4_proof_87 ?_
            refine oc_topi (x := I 18) (y := nI n) hn ?_
            refine lv_iconst (v := 1) hx hb dX4_proof_90 (by decide) ?_
            refine lv_iadd hx hb dX4_proof_91 ?_
            refine va_put (D := D) (ci := 3) (v := .int ((nI n) + 1)) (ty := .int) (C := RX4) (T := TX4) (N := 27) hx hb hts in_X4 tyX4 tyX4_ok nmX4 hown hK hP hD hS 0 rfl rfl 18 (by decide) (hts _ q825) (fun _ h9 => h9) rfl (by decide +kernel) rfl rfl (Nat.le_of_ble_eq_true rfl) dX4_proof_92 (fun H locs hP hD hS => ?_)
            have hP : va_P D oc_cl (oc_mW d h (upd (upd I 0 0) 18 ((nI n) + 1)) (va_up (va_up (va_up F 19 (upd (F 19) n x)) 20 (upd (F 20) n y)) 21 (upd (F 21) n z)) L) H := hP
            have hD : va_D (oc_hA h) (oc_mW d h (upd (upd I 0 0) 18 ((nI n) + 1)) (va_up (va_up (va_up F 19 (upd (F 19) n x)) 20 (upd (F 20) n y)) 21 (upd (F 21) n z)) L) := hD
            refine lv_aload_n hx hb dX4_proof_95 rfl (lv_at hl 0 rfl) ?_
            refine va_get (D := D) (ci := 3) (v := .int ((nI n) + 1)) (C := RX4) (T := TX4) (N := 27) hx hb hts in_X4 hown hK hP 0 rfl rfl 18 (by decide) (hts _ q825) (fun _ h9 => h9) rfl dX4_proof_96 ?_
            refine lv_iconst (v := 1) hx hb dX4_proof_99 (by decide) ?_
            refine lv_isub hx hb dX4_proof_100 ?_
            exact oc_iret hx hb hr hlocks hS dX4_proof_101 ⟨_, _, _, _, rfl, hP, rfl, rfl, Or.inr (Or.inr ⟨by simp [*], by omega, by rw [hn], by rw [hn], rfl, rfl⟩)⟩
          · -- not taken
            rw [oc_eq (x := nI n) (y := 20) (a := n) (b := 20) rfl rfl (by omega) (by omega)] at c41
            refine lv_aload_n hx hb dX4_proof_44 rfl (lv_at hl 0 rfl) ?_
            refine lv_iconst (v := 2) hx hb dX4_proof_45 (by decide) ?_
            refine oc_callM hx hb hml hl.1 ⟨hok, hS, hN0⟩ (oc_iV (As := [.int 2]) (rest := []) hx hb hown (hts _ q923) (hts _ q925) (hts _ qs14) (oc_Sig.of (hts _ q926) (by decide +kernel : (parseMethodDescriptor "(I)I").map (fun d => d.parameters.length) = some 1)) (va_recv hK hP (ci := 3) (q0 := 0) rfl rfl) ⟨by decide, by decide⟩ dX4_proof_46 rfl) (oc_M.of (by decide +kernel) (hts _ q926)) (kX4_refuse G hP hD hN0 2) (fun _ z => z) dX4_proof_46 (Nat.le_of_ble_eq_true rfl) (Nat.le_of_ble_eq_true rfl) (Nat.le_of_ble_eq_true rfl) (Nat.le_of_ble_eq_true rfl) (fun v I_ F_ L_ H locs sp hP hz1 hk1 hS => ?_)
            obtain ⟨rfl, e2, e3, e4⟩ := sp
            rw [e2, e3, e4] at hP
            clear e2 e3 e4
            have hD : va_D (oc_hA h) (oc_mW d h (upd I 0 2) F L) := oc_mD hD
            refine W.eq (g2 := F0 m 49 ls [.int 0]) rfl ?_
            exact oc_iret hx hb hr hlocks hS dX4_proof_49 ⟨_, _, _, _, rfl, hP, rfl, rfl, Or.inr (Or.inl ⟨by simp [*], by omega, rfl, rfl, rfl, rfl⟩)⟩
        · -- not taken
          refine lv_aload_n hx hb dX4_proof_29 rfl (lv_at hl 0 rfl) ?_
          refine lv_iconst (v := 1) hx hb dX4_proof_30 (by decide) ?_
          refine oc_callM hx hb hml hl.1 ⟨hok, hS, hN0⟩ (oc_iV (As := [.int 1]) (rest := []) hx hb hown (hts _ q923) (hts _ q925) (hts _ qs14) (oc_Sig.of (hts _ q926) (by decide +kernel : (parseMethodDescriptor "(I)I").map (fun d => d.parameters.length) = some 1)) (va_recv hK hP (ci := 3) (q0 := 0) rfl rfl) ⟨by decide, by decide⟩ dX4_proof_31 rfl) (oc_M.of (by decide +kernel) (hts _ q926)) (kX4_refuse G hP hD hN0 1) (fun _ z => z) dX4_proof_31 (Nat.le_of_ble_eq_true rfl) (Nat.le_of_ble_eq_true rfl) (Nat.le_of_ble_eq_true rfl) (Nat.le_of_ble_eq_true rfl) (fun v I_ F_ L_ H locs sp hP hz1 hk1 hS => ?_)
          obtain ⟨rfl, e2, e3, e4⟩ := sp
          rw [e2, e3, e4] at hP
          clear e2 e3 e4
          have hD : va_D (oc_hA h) (oc_mW d h (upd I 0 1) F L) := oc_mD hD
          refine W.eq (g2 := F0 m 34 ls [.int 0]) rfl ?_
          exact oc_iret hx hb hr hlocks hS dX4_proof_34 ⟨_, _, _, _, rfl, hP, rfl, rfl, Or.inl ⟨by simp [*], rfl, rfl, rfl, rfl⟩⟩
set_option maxHeartbeats 4000000 in
set_option maxRecDepth 100000 in
theorem kX4_good {l : Launch} {s0 : State} {b0 : Addr} {D : va_G} {d : Nat → ClassId} (G : oc_G l s0 b0 D d) {h : Nat → Nat} {I : Nat → Int32} {F : Nat → Nat → Int32} {L : Nat → Int64} {H : Heap} (hP : va_P D oc_cl (oc_mW d h I F L) H) (hD : va_D (oc_hA h) (oc_mW d h I F L)) (hN0 : ∀ q, oc_hA h q → s0.heap.size ≤ q) (x : Int32) (y : Int64) (z : Int32) (n : Nat) (hn : I 18 = nI n) (h20 : n ≤ 20) : oc_C l s0 yX4_good (oc_rm 2 30 0 0) [.ref (h 0), .int x, .long y, .int z] H (oc_hA h) (oc_Pm D d h (sp_good I F L n x y z)) := by
  refine oc_start G (cc := cX4_good) (L := 5) (ret := (Option.some Jvm.ClassFile.FieldType.boolean)) q1014 (Nat.le_of_ble_eq_true rfl) ?_
  intro p e s m below meth c ls hx hok hb hml hr hlocks htab hown hts hK hmn hh hl
  subst hh
  have hl : lv_has ls 5 [(0, .ref (h 0)), (1, .int x), (2, .long y), (4, .int z)] := hl
  have hS : va_S (oc_hA h) s.heap s.heap [] := va_S.rf
  generalize hH0 : s.heap = H at hP ⊢
  have hS : va_S (oc_hA h) s.heap H [] := by rw [← hH0]; exact va_S.rf
  clear hH0
  generalize hlo0 : ([] : List Loc) = locs at hS ⊢
  refine lv_aload_n hx hb dX4_good_0 rfl (lv_at hl 0 rfl) ?_
  refine lv_iload_n hx hb dX4_good_1 rfl (lv_at hl 1 rfl) ?_
  refine lv_if_lt (tgt := 36) hx hb dX4_good_2 (by decide) (fun c2 => ?_) (fun c2 => ?_)
  · -- taken
    refine lv_iconst (v := 1) hx hb dX4_good_36 (by decide) ?_
    refine va_put (D := D) (ci := 3) (v := .int 1) (ty := .int) (C := RX4) (T := TX4) (N := 27) hx hb hts in_X4 tyX4 tyX4_ok nmX4 hown hK hP hD hS 0 rfl rfl 0 (by decide) (hts _ q807) (fun _ h9 => h9) rfl (by decide +kernel) rfl rfl (Nat.le_of_ble_eq_true rfl) dX4_good_37 (fun H locs hP hD hS => ?_)
    have hP : va_P D oc_cl (oc_mW d h (upd I 0 1) F L) H := hP
    have hD : va_D (oc_hA h) (oc_mW d h (upd I 0 1) F L) := hD
    refine lv_aload_n hx hb dX4_good_40 rfl (lv_at hl 0 rfl) ?_
    refine va_get (D := D) (ci := 3) (v := .int 1) (C := RX4) (T := TX4) (N := 27) hx hb hts in_X4 hown hK hP 0 rfl rfl 0 (by decide) (hts _ q807) (fun _ h9 => h9) rfl dX4_good_41 ?_
    refine lv_if_ne (tgt := 91) hx hb dX4_good_44 (by decide) (fun c44 => ?_) (fun c44 => ?_)
    · -- taken
      refine lv_iconst (v := 0) hx hb dX4_good_91 (by decide) ?_
      exact oc_zret hx hb hr hlocks hS dX4_good_92 rfl ⟨_, _, _, _, rfl, hP, rfl, rfl, ⟨rfl, rfl, Or.inl ⟨by simp [*], rfl, rfl⟩⟩⟩
    · exact absurd c44 (by decide)
  · -- not taken
    refine lv_iload_n hx hb dX4_good_5 rfl (lv_at hl 1 rfl) ?_
    refine lv_aload_n hx hb dX4_good_6 rfl (lv_at hl 0 rfl) ?_
    refine va_get (D := D) (ci := 3) (v := .int (I 18)) (C := RX4) (T := TX4) (N := 27) hx hb hts in_X4 hown hK hP 0 rfl rfl 18 (by decide) (hts _ q825) (fun _ h9 => h9) rfl dX4_good_7 ?_
    refine oc_topi (x := I 18) (y := nI n) hn ?_
    refine lv_icmp_ge (tgt := 36) hx hb dX4_good_10 (by decide) (fun c10 => ?_) (fun c10 => ?_)
    · -- taken
      refine lv_iconst (v := 1) hx hb dX4_good_36 (by decide) ?_
      refine va_put (D := D) (ci := 3) (v := .int 1) (ty := .int) (C := RX4) (T := TX4) (N := 27) hx hb hts in_X4 tyX4 tyX4_ok nmX4 hown hK hP hD hS 0 rfl rfl 0 (by decide) (hts _ q807) (fun _ h9 => h9) rfl (by decide +kernel) rfl rfl (Nat.le_of_ble_eq_true rfl) dX4_good_37 (fun H locs hP hD hS => ?_)
      have hP : va_P D oc_cl (oc_mW d h (upd I 0 1) F L) H := hP
      have hD : va_D (oc_hA h) (oc_mW d h (upd I 0 1) F L) := hD
      refine lv_aload_n hx hb dX4_good_40 rfl (lv_at hl 0 rfl) ?_
      refine va_get (D := D) (ci := 3) (v := .int 1) (C := RX4) (T := TX4) (N := 27) hx hb hts in_X4 hown hK hP 0 rfl rfl 0 (by decide) (hts _ q807) (fun _ h9 => h9) rfl dX4_good_41 ?_
      refine lv_if_ne (tgt := 91) hx hb dX4_good_44 (by decide) (fun c44 => ?_) (fun c44 => ?_)
      · -- taken
        refine lv_iconst (v := 0) hx hb dX4_good_91 (by decide) ?_
        exact oc_zret hx hb hr hlocks hS dX4_good_92 rfl ⟨_, _, _, _, rfl, hP, rfl, rfl, ⟨rfl, rfl, Or.inl ⟨by simp [*], rfl, rfl⟩⟩⟩
      · exact absurd c44 (by decide)
    · -- not taken
      obtain ⟨j, hj, hxj⟩ := oc_ixof c2 c10 (by omega)
      refine lv_lload_n hx hb dX4_good_13 rfl (lv_at hl 2 rfl) ?_
      refine lv_lconst (v := 0) hx hb dX4_good_14 (by decide) ?_
      refine lv_ldc2 (v := 1000000000) hx hb hown (hts _ q922) dX4_good_15 ?_
      refine oc_callR1 hx hb hml hl.1 ⟨hok, hS, hN0⟩ (oc_iS (As := [.long y, .long 0, .long 1000000000]) (rest := [.ref (h 0)]) hx hb hown (hts _ q900) (hts _ q901) (hts _ q30) (hts _ q902) ⟨by decide, by decide, (by decide +kernel : (parseMethodDescriptor "(JJJ)Z").map (fun d => d.parameters.length) = some 3)⟩ dX4_good_18 rfl) (oc_M.of (by decide +kernel) (hts _ q902)) (kX4_in G y 0 1000000000) dX4_good_18 (Nat.le_of_ble_eq_true rfl) (Nat.le_of_ble_eq_true rfl) (Nat.le_of_ble_eq_true rfl) (Nat.le_of_ble_eq_true rfl) ?_
      refine lv_if_eq (tgt := 36) hx hb dX4_good_21 (by decide) (fun c21 => ?_) (fun c21 => ?_)
      · -- taken
        rw [oc_b0] at c21
        refine lv_iconst (v := 1) hx hb dX4_good_36 (by decide) ?_
        refine va_put (D := D) (ci := 3) (v := .int 1) (ty := .int) (C := RX4) (T := TX4) (N := 27) hx hb hts in_X4 tyX4 tyX4_ok nmX4 hown hK hP hD hS 0 rfl rfl 0 (by decide) (hts _ q807) (fun _ h9 => h9) rfl (by decide +kernel) rfl rfl (Nat.le_of_ble_eq_true rfl) dX4_good_37 (fun H locs hP hD hS => ?_)
        have hP : va_P D oc_cl (oc_mW d h (upd I 0 1) F L) H := hP
        have hD : va_D (oc_hA h) (oc_mW d h (upd I 0 1) F L) := hD
        refine lv_aload_n hx hb dX4_good_40 rfl (lv_at hl 0 rfl) ?_
        refine va_get (D := D) (ci := 3) (v := .int 1) (C := RX4) (T := TX4) (N := 27) hx hb hts in_X4 hown hK hP 0 rfl rfl 0 (by decide) (hts _ q807) (fun _ h9 => h9) rfl dX4_good_41 ?_
        refine lv_if_ne (tgt := 91) hx hb dX4_good_44 (by decide) (fun c44 => ?_) (fun c44 => ?_)
        · -- taken
          refine lv_iconst (v := 0) hx hb dX4_good_91 (by decide) ?_
          exact oc_zret hx hb hr hlocks hS dX4_good_92 rfl ⟨_, _, _, _, rfl, hP, rfl, rfl, ⟨rfl, rfl, Or.inl ⟨by simp [*], rfl, rfl⟩⟩⟩
        · exact absurd c44 (by decide)
      · -- not taken
        rw [oc_b0] at c21
        rw [Bool.not_eq_false] at c21
        refine lv_iload hx hb dX4_good_24 (lv_at hl 3 rfl) ?_
        refine oc_callR1 hx hb hml hl.1 ⟨hok, hS, hN0⟩ (oc_iS (As := [.int z]) (rest := [.ref (h 0)]) hx hb hown (hts _ q1007) (hts _ q1008) (hts _ q30) (hts _ q1009) ⟨by decide, by decide, (by decide +kernel : (parseMethodDescriptor "(I)Z").map (fun d => d.parameters.length) = some 1)⟩ dX4_good_26 rfl) (oc_M.of (by decide +kernel) (hts _ q1009)) (kX4_isDay G z) dX4_good_26 (Nat.le_of_ble_eq_true rfl) (Nat.le_of_ble_eq_true rfl) (Nat.le_of_ble_eq_true rfl) (Nat.le_of_ble_eq_true rfl) ?_
        refine lv_if_eq (tgt := 36) hx hb dX4_good_29 (by decide) (fun c29 => ?_) (fun c29 => ?_)
        · -- taken
          rw [oc_b0] at c29
          refine lv_iconst (v := 1) hx hb dX4_good_36 (by decide) ?_
          refine va_put (D := D) (ci := 3) (v := .int 1) (ty := .int) (C := RX4) (T := TX4) (N := 27) hx hb hts in_X4 tyX4 tyX4_ok nmX4 hown hK hP hD hS 0 rfl rfl 0 (by decide) (hts _ q807) (fun _ h9 => h9) rfl (by decide +kernel) rfl rfl (Nat.le_of_ble_eq_true rfl) dX4_good_37 (fun H locs hP hD hS => ?_)
          have hP : va_P D oc_cl (oc_mW d h (upd I 0 1) F L) H := hP
          have hD : va_D (oc_hA h) (oc_mW d h (upd I 0 1) F L) := hD
          refine lv_aload_n hx hb dX4_good_40 rfl (lv_at hl 0 rfl) ?_
          refine va_get (D := D) (ci := 3) (v := .int 1) (C := RX4) (T := TX4) (N := 27) hx hb hts in_X4 hown hK hP 0 rfl rfl 0 (by decide) (hts _ q807) (fun _ h9 => h9) rfl dX4_good_41 ?_
          refine lv_if_ne (tgt := 91) hx hb dX4_good_44 (by decide) (fun c44 => ?_) (fun c44 => ?_)
          · -- taken
            refine lv_iconst (v := 0) hx hb dX4_good_91 (by decide) ?_
            exact oc_zret hx hb hr hlocks hS dX4_good_92 rfl ⟨_, _, _, _, rfl, hP, rfl, rfl, ⟨rfl, rfl, Or.inl ⟨by simp [*], rfl, rfl⟩⟩⟩
          · exact absurd c44 (by decide)
        · -- not taken
          rw [oc_b0] at c29
          rw [Bool.not_eq_false] at c29
          refine lv_iconst (v := 0) hx hb dX4_good_32 (by decide) ?_
          refine lv_goto (tgt := 37) hx hb dX4_good_33 (by decide) ?_
          refine va_put (D := D) (ci := 3) (v := .int 0) (ty := .int) (C := RX4) (T := TX4) (N := 27) hx hb hts in_X4 tyX4 tyX4_ok nmX4 hown hK hP hD hS 0 rfl rfl 0 (by decide) (hts _ q807) (fun _ h9 => h9) rfl (by decide +kernel) rfl rfl (Nat.le_of_ble_eq_true rfl) dX4_good_37 (fun H locs hP hD hS => ?_)
          have hP : va_P D oc_cl (oc_mW d h (upd I 0 0) F L) H := hP
          have hD : va_D (oc_hA h) (oc_mW d h (upd I 0 0) F L) := hD
          refine lv_aload_n hx hb dX4_good_40 rfl (lv_at hl 0 rfl) ?_
          refine va_get (D := D) (ci := 3) (v := .int 0) (C := RX4) (T := TX4) (N := 27) hx hb hts in_X4 hown hK hP 0 rfl rfl 0 (by decide) (hts _ q807) (fun _ h9 => h9) rfl dX4_good_41 ?_
          refine lv_if_ne (tgt := 91) hx hb dX4_good_44 (by decide) (fun c44 => ?_) (fun c44 => ?_)
          · exact absurd c44 (by decide)
          · -- not taken
            refine lv_aload_n hx hb dX4_good_47 rfl (lv_at hl 0 rfl) ?_
            refine va_get (D := D) (ci := 3) (v := .ref (h 19)) (C := RX4) (T := TX4) (N := 27) hx hb hts in_X4 hown hK hP 0 rfl rfl 19 (by decide) (hts _ q826) (fun _ h9 => h9) rfl dX4_good_48 ?_
            refine lv_iload_n hx hb dX4_good_51 rfl (lv_at hl 1 rfl) ?_
            refine oc_iald hx hb hK hP 9 0 rfl rfl j hxj (by omega) (by decide) dX4_good_52 ?_
            refine lv_iconst (v := 1) hx hb dX4_good_53 (by decide) ?_
            refine lv_icmp_eq (tgt := 65) hx hb dX4_good_54 (by decide) (fun c54 => ?_) (fun c54 => ?_)
            · -- taken
              refine lv_iload hx hb dX4_good_65 (lv_at hl 3 rfl) ?_
              refine lv_aload_n hx hb dX4_good_67 rfl (lv_at hl 0 rfl) ?_
              refine va_get (D := D) (ci := 3) (v := .ref (h 20)) (C := RX4) (T := TX4) (N := 27) hx hb hts in_X4 hown hK hP 0 rfl rfl 20 (by decide) (hts _ q827) (fun _ h9 => h9) rfl dX4_good_68 ?_
              refine lv_iload_n hx hb dX4_good_71 rfl (lv_at hl 1 rfl) ?_
              refine oc_iald hx hb hK hP 10 0 rfl rfl j hxj (by omega) (by decide) dX4_good_72 ?_
              refine lv_icmp_lt (tgt := 91) hx hb dX4_good_73 (by decide) (fun c73 => ?_) (fun c73 => ?_)
              · -- taken
                refine lv_iconst (v := 0) hx hb dX4_good_91 (by decide) ?_
                exact oc_zret hx hb hr hlocks hS dX4_good_92 rfl ⟨_, _, _, _, rfl, hP, rfl, rfl, ⟨rfl, rfl, Or.inr ⟨j, hj, hxj, c21, c29, by simp [oc_gok, oc_b, *], rfl⟩⟩⟩
              · -- not taken
                refine lv_iload hx hb dX4_good_76 (lv_at hl 3 rfl) ?_
                refine lv_aload_n hx hb dX4_good_78 rfl (lv_at hl 0 rfl) ?_
                refine va_get (D := D) (ci := 3) (v := .ref (h 21)) (C := RX4) (T := TX4) (N := 27) hx hb hts in_X4 hown hK hP 0 rfl rfl 21 (by decide) (hts _ q828) (fun _ h9 => h9) rfl dX4_good_79 ?_
                refine lv_iload_n hx hb dX4_good_82 rfl (lv_at hl 1 rfl) ?_
                refine oc_iald hx hb hK hP 11 0 rfl rfl j hxj (by omega) (by decide) dX4_good_83 ?_
                refine lv_icmp_gt (tgt := 91) hx hb dX4_good_84 (by decide) (fun c84 => ?_) (fun c84 => ?_)
                · -- taken
                  refine lv_iconst (v := 0) hx hb dX4_good_91 (by decide) ?_
                  exact oc_zret hx hb hr hlocks hS dX4_good_92 rfl ⟨_, _, _, _, rfl, hP, rfl, rfl, ⟨rfl, rfl, Or.inr ⟨j, hj, hxj, c21, c29, by simp [oc_gok, oc_b, *], rfl⟩⟩⟩
                · -- not taken
                  refine lv_iconst (v := 1) hx hb dX4_good_87 (by decide) ?_
                  refine lv_goto (tgt := 92) hx hb dX4_good_88 (by decide) ?_
                  exact oc_zret hx hb hr hlocks hS dX4_good_92 rfl ⟨_, _, _, _, rfl, hP, rfl, rfl, ⟨rfl, rfl, Or.inr ⟨j, hj, hxj, c21, c29, by simp [oc_gok, oc_b, *], rfl⟩⟩⟩
            · -- not taken
              refine lv_lload_n hx hb dX4_good_57 rfl (lv_at hl 2 rfl) ?_
              refine lv_ldc2 (v := 1000000) hx hb hown (hts _ q1015) dX4_good_58 ?_
              refine W.lcmp hx hb dX4_good_61 ?_
              refine lv_if_gt (tgt := 91) hx hb dX4_good_62 (by decide) (fun c62 => ?_) (fun c62 => ?_)
              · -- taken
                rw [lg_cmp_gt] at c62
                refine lv_iconst (v := 0) hx hb dX4_good_91 (by decide) ?_
                exact oc_zret hx hb hr hlocks hS dX4_good_92 rfl ⟨_, _, _, _, rfl, hP, rfl, rfl, ⟨rfl, rfl, Or.inr ⟨j, hj, hxj, c21, c29, by simp [oc_gok, oc_b, *], rfl⟩⟩⟩
              · -- not taken
                rw [lg_cmp_gt] at c62
                refine lv_iload hx hb dX4_good_65 (lv_at hl 3 rfl) ?_
                refine lv_aload_n hx hb dX4_good_67 rfl (lv_at hl 0 rfl) ?_
                refine va_get (D := D) (ci := 3) (v := .ref (h 20)) (C := RX4) (T := TX4) (N := 27) hx hb hts in_X4 hown hK hP 0 rfl rfl 20 (by decide) (hts _ q827) (fun _ h9 => h9) rfl dX4_good_68 ?_
                refine lv_iload_n hx hb dX4_good_71 rfl (lv_at hl 1 rfl) ?_
                refine oc_iald hx hb hK hP 10 0 rfl rfl j hxj (by omega) (by decide) dX4_good_72 ?_
                refine lv_icmp_lt (tgt := 91) hx hb dX4_good_73 (by decide) (fun c73 => ?_) (fun c73 => ?_)
                · -- taken
                  refine lv_iconst (v := 0) hx hb dX4_good_91 (by decide) ?_
                  exact oc_zret hx hb hr hlocks hS dX4_good_92 rfl ⟨_, _, _, _, rfl, hP, rfl, rfl, ⟨rfl, rfl, Or.inr ⟨j, hj, hxj, c21, c29, by simp [oc_gok, oc_b, *], rfl⟩⟩⟩
                · -- not taken
                  refine lv_iload hx hb dX4_good_76 (lv_at hl 3 rfl) ?_
                  refine lv_aload_n hx hb dX4_good_78 rfl (lv_at hl 0 rfl) ?_
                  refine va_get (D := D) (ci := 3) (v := .ref (h 21)) (C := RX4) (T := TX4) (N := 27) hx hb hts in_X4 hown hK hP 0 rfl rfl 21 (by decide) (hts _ q828) (fun _ h9 => h9) rfl dX4_good_79 ?_
                  refine lv_iload_n hx hb dX4_good_82 rfl (lv_at hl 1 rfl) ?_
                  refine oc_iald hx hb hK hP 11 0 rfl rfl j hxj (by omega) (by decide) dX4_good_83 ?_
                  refine lv_icmp_gt (tgt := 91) hx hb dX4_good_84 (by decide) (fun c84 => ?_) (fun c84 => ?_)
                  · -- taken
                    refine lv_iconst (v := 0) hx hb dX4_good_91 (by decide) ?_
                    exact oc_zret hx hb hr hlocks hS dX4_good_92 rfl ⟨_, _, _, _, rfl, hP, rfl, rfl, ⟨rfl, rfl, Or.inr ⟨j, hj, hxj, c21, c29, by simp [oc_gok, oc_b, *], rfl⟩⟩⟩
                  · -- not taken
                    refine lv_iconst (v := 1) hx hb dX4_good_87 (by decide) ?_
                    refine lv_goto (tgt := 92) hx hb dX4_good_88 (by decide) ?_
                    exact oc_zret hx hb hr hlocks hS dX4_good_92 rfl ⟨_, _, _, _, rfl, hP, rfl, rfl, ⟨rfl, rfl, Or.inr ⟨j, hj, hxj, c21, c29, by simp [oc_gok, oc_b, *], rfl⟩⟩⟩
