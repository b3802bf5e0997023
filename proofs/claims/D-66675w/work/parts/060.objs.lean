/-! ===== constructors of the small classes; a leaf's own question; a row's digits ===== -/
set_option maxHeartbeats 4000000 in
set_option maxRecDepth 100000 in
theorem kX14_init {l : Launch} {s0 : State} {b0 : Addr} {D : va_G} {d : Nat → ClassId} (G : oc_G l s0 b0 D d) {H : Heap} (a : Nat) (x y : Int32) (z : Int64) (hP : va_P D oc_cl ([(a, .inr (12, [.int 0, .int 0, .long 0]))] : va_W) H) (hD : va_D (va_A ([(a, .inr (12, [.int 0, .int 0, .long 0]))] : va_W) (Array.size H)) ([(a, .inr (12, [.int 0, .int 0, .long 0]))] : va_W)) (hN0 : ∀ x ∈ ([(a, .inr (12, [.int 0, .int 0, .long 0]))] : va_W), s0.heap.size ≤ x.1) : oc_C l s0 yX14_init (oc_rm 1 12 0 0) [.ref a, .int x, .int y, .long z] H (va_A ([(a, .inr (12, [.int 0, .int 0, .long 0]))] : va_W) (Array.size H)) (oc_Pr (fun v H1 k n1 => v = none ∧ k = 0 ∧ n1 = 0 ∧ va_P D oc_cl ([(a, .inr (12, [.int x, .int y, .long z]))] : va_W) H1 ∧ va_D (va_A ([(a, .inr (12, [.int 0, .int 0, .long 0]))] : va_W) (Array.size H)) ([(a, .inr (12, [.int x, .int y, .long z]))] : va_W))) := by
  refine oc_start G (cc := cX14_init) (L := 5) (ret := (Option.none : Option Jvm.ClassFile.FieldType)) q600 (Nat.le_of_ble_eq_true rfl) ?_
  intro p e s m below meth c ls hx hok hb hml hr hlocks htab hown hts hK hin hh hl
  subst hh
  have hl : lv_has ls 5 [(0, .ref a), (1, .int x), (2, .int y), (3, .long z)] := hl
  have hN0 := oc_N0 hok hN0
  have hA : ∀ q, Array.size s.heap ≤ q → (va_A ([(a, .inr (12, [.int 0, .int 0, .long 0]))] : va_W) (Array.size s.heap)) q := fun q z => Or.inr z
  have hS : va_S (va_A ([(a, .inr (12, [.int 0, .int 0, .long 0]))] : va_W) (Array.size s.heap)) s.heap s.heap [] := va_S.rf
  generalize hAe : (va_A ([(a, .inr (12, [.int 0, .int 0, .long 0]))] : va_W) (Array.size s.heap)) = A at *
  refine lv_aload_n hx hb dX14_init_0 rfl (lv_at hl 0 rfl) ?_
  refine W.objInit hx hb hown (hts _ q601) (hts _ q61) (hts _ q62) rfl (by rw [hml]; exact hl.1) (rest := []) rfl dX14_init_1 (Nat.le_of_ble_eq_true rfl) (Nat.le_of_ble_eq_true rfl) ?_
  refine W.eq (g2 := F0 m 4 ls []) rfl ?_
  refine lv_aload_n hx hb dX14_init_4 rfl (lv_at hl 0 rfl) ?_
  refine lv_iload_n hx hb dX14_init_5 rfl (lv_at hl 1 rfl) ?_
  refine va_putF (D := D) (ci := 12) (v := .int x) (ty := .int) (C := RX14) (T := TX14) (N := 3) hx hb hts in_X14 tyX14 tyX14_ok nmX14 hown hK hP hD hS 0 rfl rfl 0 (by decide) (hts _ q602) (fun _ h9 => h9) rfl hin rfl (by decide +kernel) rfl rfl (Nat.le_of_ble_eq_true rfl) dX14_init_6 (fun H locs hP hD hS => ?_)
  have hP : va_P D oc_cl ([(a, .inr (12, [.int x, .int 0, .long 0]))] : va_W) H := hP
  have hD : va_D A ([(a, .inr (12, [.int x, .int 0, .long 0]))] : va_W) := hD
  refine lv_aload_n hx hb dX14_init_9 rfl (lv_at hl 0 rfl) ?_
  refine lv_iload_n hx hb dX14_init_10 rfl (lv_at hl 2 rfl) ?_
  refine va_putF (D := D) (ci := 12) (v := .int y) (ty := .int) (C := RX14) (T := TX14) (N := 3) hx hb hts in_X14 tyX14 tyX14_ok nmX14 hown hK hP hD hS 0 rfl rfl 1 (by decide) (hts _ q604) (fun _ h9 => h9) rfl hin rfl (by decide +kernel) rfl rfl (Nat.le_of_ble_eq_true rfl) dX14_init_11 (fun H locs hP hD hS => ?_)
  have hP : va_P D oc_cl ([(a, .inr (12, [.int x, .int y, .long 0]))] : va_W) H := hP
  have hD : va_D A ([(a, .inr (12, [.int x, .int y, .long 0]))] : va_W) := hD
  refine lv_aload_n hx hb dX14_init_14 rfl (lv_at hl 0 rfl) ?_
  refine lv_lload_n hx hb dX14_init_15 rfl (lv_at hl 3 rfl) ?_
  refine va_putF (D := D) (ci := 12) (v := .long z) (ty := .long) (C := RX14) (T := TX14) (N := 3) hx hb hts in_X14 tyX14 tyX14_ok nmX14 hown hK hP hD hS 0 rfl rfl 2 (by decide) (hts _ q606) (fun _ h9 => h9) rfl hin rfl (by decide +kernel) rfl rfl (Nat.le_of_ble_eq_true rfl) dX14_init_16 (fun H locs hP hD hS => ?_)
  have hP : va_P D oc_cl ([(a, .inr (12, [.int x, .int y, .long z]))] : va_W) H := hP
  have hD : va_D A ([(a, .inr (12, [.int x, .int y, .long z]))] : va_W) := hD
  exact oc_vret hx hb hr hlocks hS dX14_init_19 (⟨none, rfl, rfl, rfl, rfl, hP, hD⟩)
set_option maxHeartbeats 4000000 in
set_option maxRecDepth 100000 in
theorem kX15_init {l : Launch} {s0 : State} {b0 : Addr} {D : va_G} {d : Nat → ClassId} (G : oc_G l s0 b0 D d) {H : Heap} (a : Nat) (x y z : Int32) (hP : va_P D oc_cl ([(a, .inr (13, [.int 0, .int 0, .int 0]))] : va_W) H) (hD : va_D (va_A ([(a, .inr (13, [.int 0, .int 0, .int 0]))] : va_W) (Array.size H)) ([(a, .inr (13, [.int 0, .int 0, .int 0]))] : va_W)) (hN0 : ∀ x ∈ ([(a, .inr (13, [.int 0, .int 0, .int 0]))] : va_W), s0.heap.size ≤ x.1) : oc_C l s0 yX15_init (oc_rm 1 12 0 0) [.ref a, .int x, .int y, .int z] H (va_A ([(a, .inr (13, [.int 0, .int 0, .int 0]))] : va_W) (Array.size H)) (oc_Pr (fun v H1 k n1 => v = none ∧ k = 0 ∧ n1 = 0 ∧ va_P D oc_cl ([(a, .inr (13, [.int x, .int y, .int z]))] : va_W) H1 ∧ va_D (va_A ([(a, .inr (13, [.int 0, .int 0, .int 0]))] : va_W) (Array.size H)) ([(a, .inr (13, [.int x, .int y, .int z]))] : va_W))) := by
  refine oc_start G (cc := cX15_init) (L := 4) (ret := (Option.none : Option Jvm.ClassFile.FieldType)) q770 (Nat.le_of_ble_eq_true rfl) ?_
  intro p e s m below meth c ls hx hok hb hml hr hlocks htab hown hts hK hin hh hl
  subst hh
  have hl : lv_has ls 4 [(0, .ref a), (1, .int x), (2, .int y), (3, .int z)] := hl
  have hN0 := oc_N0 hok hN0
  have hA : ∀ q, Array.size s.heap ≤ q → (va_A ([(a, .inr (13, [.int 0, .int 0, .int 0]))] : va_W) (Array.size s.heap)) q := fun q z => Or.inr z
  have hS : va_S (va_A ([(a, .inr (13, [.int 0, .int 0, .int 0]))] : va_W) (Array.size s.heap)) s.heap s.heap [] := va_S.rf
  generalize hAe : (va_A ([(a, .inr (13, [.int 0, .int 0, .int 0]))] : va_W) (Array.size s.heap)) = A at *
  refine lv_aload_n hx hb dX15_init_0 rfl (lv_at hl 0 rfl) ?_
  refine W.objInit hx hb hown (hts _ q771) (hts _ q61) (hts _ q62) rfl (by rw [hml]; exact hl.1) (rest := []) rfl dX15_init_1 (Nat.le_of_ble_eq_true rfl) (Nat.le_of_ble_eq_true rfl) ?_
  refine W.eq (g2 := F0 m 4 ls []) rfl ?_
  refine lv_aload_n hx hb dX15_init_4 rfl (lv_at hl 0 rfl) ?_
  refine lv_iload_n hx hb dX15_init_5 rfl (lv_at hl 1 rfl) ?_
  refine va_putF (D := D) (ci := 13) (v := .int x) (ty := .int) (C := RX15) (T := TX15) (N := 3) hx hb hts in_X15 tyX15 tyX15_ok nmX15 hown hK hP hD hS 0 rfl rfl 0 (by decide) (hts _ q772) (fun _ h9 => h9) rfl hin rfl (by decide +kernel) rfl rfl (Nat.le_of_ble_eq_true rfl) dX15_init_6 (fun H locs hP hD hS => ?_)
  have hP : va_P D oc_cl ([(a, .inr (13, [.int x, .int 0, .int 0]))] : va_W) H := hP
  have hD : va_D A ([(a, .inr (13, [.int x, .int 0, .int 0]))] : va_W) := hD
  refine lv_aload_n hx hb dX15_init_9 rfl (lv_at hl 0 rfl) ?_
  refine lv_iload_n hx hb dX15_init_10 rfl (lv_at hl 2 rfl) ?_
  refine va_putF (D := D) (ci := 13) (v := .int y) (ty := .int) (C := RX15) (T := TX15) (N := 3) hx hb hts in_X15 tyX15 tyX15_ok nmX15 hown hK hP hD hS 0 rfl rfl 1 (by decide) (hts _ q774) (fun _ h9 => h9) rfl hin rfl (by decide +kernel) rfl rfl (Nat.le_of_ble_eq_true rfl) dX15_init_11 (fun H locs hP hD hS => ?_)
  have hP : va_P D oc_cl ([(a, .inr (13, [.int x, .int y, .int 0]))] : va_W) H := hP
  have hD : va_D A ([(a, .inr (13, [.int x, .int y, .int 0]))] : va_W) := hD
  refine lv_aload_n hx hb dX15_init_14 rfl (lv_at hl 0 rfl) ?_
  refine lv_iload_n hx hb dX15_init_15 rfl (lv_at hl 3 rfl) ?_
  refine va_putF (D := D) (ci := 13) (v := .int z) (ty := .int) (C := RX15) (T := TX15) (N := 3) hx hb hts in_X15 tyX15 tyX15_ok nmX15 hown hK hP hD hS 0 rfl rfl 2 (by decide) (hts _ q776) (fun _ h9 => h9) rfl hin rfl (by decide +kernel) rfl rfl (Nat.le_of_ble_eq_true rfl) dX15_init_16 (fun H locs hP hD hS => ?_)
  have hP : va_P D oc_cl ([(a, .inr (13, [.int x, .int y, .int z]))] : va_W) H := hP
  have hD : va_D A ([(a, .inr (13, [.int x, .int y, .int z]))] : va_W) := hD
  exact oc_vret hx hb hr hlocks hS dX15_init_19 (⟨none, rfl, rfl, rfl, rfl, hP, hD⟩)
set_option maxHeartbeats 4000000 in
set_option maxRecDepth 100000 in
theorem kX13_init {l : Launch} {s0 : State} {b0 : Addr} {D : va_G} {d : Nat → ClassId} (G : oc_G l s0 b0 D d) {H : Heap} (a : Nat) (x y : Int32) (nd : Nat) (hP : va_P D oc_cl ([(a, .inr (11, [.int 0, .int 0, .null]))] : va_W) H) (hD : va_D (va_A ([(a, .inr (11, [.int 0, .int 0, .null]))] : va_W) (Array.size H)) ([(a, .inr (11, [.int 0, .int 0, .null]))] : va_W)) (hN0 : ∀ x ∈ ([(a, .inr (11, [.int 0, .int 0, .null]))] : va_W), s0.heap.size ≤ x.1) : oc_C l s0 yX13_init (oc_rm 1 12 0 0) [.ref a, .int x, .int y, .ref nd] H (va_A ([(a, .inr (11, [.int 0, .int 0, .null]))] : va_W) (Array.size H)) (oc_Pr (fun v H1 k n1 => v = none ∧ k = 0 ∧ n1 = 0 ∧ va_P D oc_cl ([(a, .inr (11, [.int x, .int y, .ref nd]))] : va_W) H1 ∧ va_D (va_A ([(a, .inr (11, [.int 0, .int 0, .null]))] : va_W) (Array.size H)) ([(a, .inr (11, [.int x, .int y, .ref nd]))] : va_W))) := by
  refine oc_start G (cc := cX13_init) (L := 4) (ret := (Option.none : Option Jvm.ClassFile.FieldType)) q453 (Nat.le_of_ble_eq_true rfl) ?_
  intro p e s m below meth c ls hx hok hb hml hr hlocks htab hown hts hK hin hh hl
  subst hh
  have hl : lv_has ls 4 [(0, .ref a), (1, .int x), (2, .int y), (3, .ref nd)] := hl
  have hN0 := oc_N0 hok hN0
  have hA : ∀ q, Array.size s.heap ≤ q → (va_A ([(a, .inr (11, [.int 0, .int 0, .null]))] : va_W) (Array.size s.heap)) q := fun q z => Or.inr z
  have hS : va_S (va_A ([(a, .inr (11, [.int 0, .int 0, .null]))] : va_W) (Array.size s.heap)) s.heap s.heap [] := va_S.rf
  generalize hAe : (va_A ([(a, .inr (11, [.int 0, .int 0, .null]))] : va_W) (Array.size s.heap)) = A at *
  refine lv_aload_n hx hb dX13_init_0 rfl (lv_at hl 0 rfl) ?_
  refine W.objInit hx hb hown (hts _ q454) (hts _ q61) (hts _ q62) rfl (by rw [hml]; exact hl.1) (rest := []) rfl dX13_init_1 (Nat.le_of_ble_eq_true rfl) (Nat.le_of_ble_eq_true rfl) ?_
  refine W.eq (g2 := F0 m 4 ls []) rfl ?_
  refine lv_aload_n hx hb dX13_init_4 rfl (lv_at hl 0 rfl) ?_
  refine lv_iload_n hx hb dX13_init_5 rfl (lv_at hl 1 rfl) ?_
  refine va_putF (D := D) (ci := 11) (v := .int x) (ty := .int) (C := RX13) (T := TX13) (N := 3) hx hb hts in_X13 tyX13 tyX13_ok nmX13 hown hK hP hD hS 0 rfl rfl 0 (by decide) (hts _ q455) (fun _ h9 => h9) rfl hin rfl (by decide +kernel) rfl rfl (Nat.le_of_ble_eq_true rfl) dX13_init_6 (fun H locs hP hD hS => ?_)
  have hP : va_P D oc_cl ([(a, .inr (11, [.int x, .int 0, .null]))] : va_W) H := hP
  have hD : va_D A ([(a, .inr (11, [.int x, .int 0, .null]))] : va_W) := hD
  refine lv_aload_n hx hb dX13_init_9 rfl (lv_at hl 0 rfl) ?_
  refine lv_iload_n hx hb dX13_init_10 rfl (lv_at hl 2 rfl) ?_
  refine va_putF (D := D) (ci := 11) (v := .int y) (ty := .int) (C := RX13) (T := TX13) (N := 3) hx hb hts in_X13 tyX13 tyX13_ok nmX13 hown hK hP hD hS 0 rfl rfl 1 (by decide) (hts _ q456) (fun _ h9 => h9) rfl hin rfl (by decide +kernel) rfl rfl (Nat.le_of_ble_eq_true rfl) dX13_init_11 (fun H locs hP hD hS => ?_)
  have hP : va_P D oc_cl ([(a, .inr (11, [.int x, .int y, .null]))] : va_W) H := hP
  have hD : va_D A ([(a, .inr (11, [.int x, .int y, .null]))] : va_W) := hD
  refine lv_aload_n hx hb dX13_init_14 rfl (lv_at hl 0 rfl) ?_
  refine lv_aload_n hx hb dX13_init_15 rfl (lv_at hl 3 rfl) ?_
  refine va_putF (D := D) (ci := 11) (v := .ref nd) (ty := (.object "OriginRules$Node")) (C := RX13) (T := TX13) (N := 3) hx hb hts in_X13 tyX13 tyX13_ok nmX13 hown hK hP hD hS 0 rfl rfl 2 (by decide) (hts _ q458) (fun _ h9 => h9) rfl hin rfl (by decide +kernel) rfl rfl (Nat.le_of_ble_eq_true rfl) dX13_init_16 (fun H locs hP hD hS => ?_)
  have hP : va_P D oc_cl ([(a, .inr (11, [.int x, .int y, .ref nd]))] : va_W) H := hP
  have hD : va_D A ([(a, .inr (11, [.int x, .int y, .ref nd]))] : va_W) := hD
  exact oc_vret hx hb hr hlocks hS dX13_init_19 (⟨none, rfl, rfl, rfl, rfl, hP, hD⟩)
set_option maxHeartbeats 4000000 in
set_option maxRecDepth 100000 in
theorem kX8_init_X9 {l : Launch} {s0 : State} {b0 : Addr} {D : va_G} {d : Nat → ClassId} (G : oc_G l s0 b0 D d) {H : Heap} (a : Nat) (x : Int32) (hP : va_P D oc_cl ([(a, .inr (7, [.int 0]))] : va_W) H) (hD : va_D (va_A ([(a, .inr (7, [.int 0]))] : va_W) (Array.size H)) ([(a, .inr (7, [.int 0]))] : va_W)) (hN0 : ∀ x ∈ ([(a, .inr (7, [.int 0]))] : va_W), s0.heap.size ≤ x.1) : oc_C l s0 yX8_init (oc_rm 1 12 0 0) [.ref a, .int x] H (va_A ([(a, .inr (7, [.int 0]))] : va_W) (Array.size H)) (oc_Pr (fun v H1 k n1 => v = none ∧ k = 0 ∧ n1 = 0 ∧ va_P D oc_cl ([(a, .inr (7, [.int x]))] : va_W) H1 ∧ va_D (va_A ([(a, .inr (7, [.int 0]))] : va_W) (Array.size H)) ([(a, .inr (7, [.int x]))] : va_W))) := by
  refine oc_start G (cc := cX8_init) (L := 2) (ret := (Option.none : Option Jvm.ClassFile.FieldType)) q341 (Nat.le_of_ble_eq_true rfl) ?_
  intro p e s m below meth c ls hx hok hb hml hr hlocks htab hown hts hK hin hh hl
  subst hh
  have hl : lv_has ls 2 [(0, .ref a), (1, .int x)] := hl
  have hN0 := oc_N0 hok hN0
  have hA : ∀ q, Array.size s.heap ≤ q → (va_A ([(a, .inr (7, [.int 0]))] : va_W) (Array.size s.heap)) q := fun q z => Or.inr z
  have hS : va_S (va_A ([(a, .inr (7, [.int 0]))] : va_W) (Array.size s.heap)) s.heap s.heap [] := va_S.rf
  generalize hAe : (va_A ([(a, .inr (7, [.int 0]))] : va_W) (Array.size s.heap)) = A at *
  refine lv_aload_n hx hb dX8_init_0 rfl (lv_at hl 0 rfl) ?_
  refine W.objInit hx hb hown (hts _ q342) (hts _ q61) (hts _ q62) rfl (by rw [hml]; exact hl.1) (rest := []) rfl dX8_init_1 (Nat.le_of_ble_eq_true rfl) (Nat.le_of_ble_eq_true rfl) ?_
  refine W.eq (g2 := F0 m 4 ls []) rfl ?_
  refine lv_aload_n hx hb dX8_init_4 rfl (lv_at hl 0 rfl) ?_
  refine lv_iload_n hx hb dX8_init_5 rfl (lv_at hl 1 rfl) ?_
  refine va_putF (D := D) (ci := 7) (v := .int x) (ty := .int) (C := RX9) (T := TX9) (N := 1) hx hb hts in_X9 tyX9 tyX9_ok nmX9 hown hK hP hD hS 0 rfl rfl 0 (by decide) (hts _ q343) (fun _ h9 => h9) rfl hin rfl (by decide +kernel) rfl rfl (Nat.le_of_ble_eq_true rfl) dX8_init_6 (fun H locs hP hD hS => ?_)
  have hP : va_P D oc_cl ([(a, .inr (7, [.int x]))] : va_W) H := hP
  have hD : va_D A ([(a, .inr (7, [.int x]))] : va_W) := hD
  exact oc_vret hx hb hr hlocks hS dX8_init_9 (⟨none, rfl, rfl, rfl, rfl, hP, hD⟩)
set_option maxHeartbeats 4000000 in
set_option maxRecDepth 100000 in
theorem kX9_init {l : Launch} {s0 : State} {b0 : Addr} {D : va_G} {d : Nat → ClassId} (G : oc_G l s0 b0 D d) {H : Heap} (a : Nat) (x : Int32) (hP : va_P D oc_cl ([(a, .inr (7, [.int 0]))] : va_W) H) (hD : va_D (va_A ([(a, .inr (7, [.int 0]))] : va_W) (Array.size H)) ([(a, .inr (7, [.int 0]))] : va_W)) (hN0 : ∀ x ∈ ([(a, .inr (7, [.int 0]))] : va_W), s0.heap.size ≤ x.1) : oc_C l s0 yX9_init (oc_rm 2 25 0 0) [.ref a, .int x] H (va_A ([(a, .inr (7, [.int 0]))] : va_W) (Array.size H)) (oc_Pr (fun v H1 k n1 => v = none ∧ k = 0 ∧ n1 = 0 ∧ va_P D oc_cl ([(a, .inr (7, [.int x]))] : va_W) H1 ∧ va_D (va_A ([(a, .inr (7, [.int 0]))] : va_W) (Array.size H)) ([(a, .inr (7, [.int x]))] : va_W))) := by
  refine oc_start G (cc := cX9_init) (L := 2) (ret := (Option.none : Option Jvm.ClassFile.FieldType)) q338 (Nat.le_of_ble_eq_true rfl) ?_
  intro p e s m below meth c ls hx hok hb hml hr hlocks htab hown hts hK hin hh hl
  subst hh
  have hl : lv_has ls 2 [(0, .ref a), (1, .int x)] := hl
  have hN0 := oc_N0 hok hN0
  have hA : ∀ q, Array.size s.heap ≤ q → (va_A ([(a, .inr (7, [.int 0]))] : va_W) (Array.size s.heap)) q := fun q z => Or.inr z
  have hS : va_S (va_A ([(a, .inr (7, [.int 0]))] : va_W) (Array.size s.heap)) s.heap s.heap [] := va_S.rf
  generalize hAe : (va_A ([(a, .inr (7, [.int 0]))] : va_W) (Array.size s.heap)) = A at *
  refine lv_aload_n hx hb dX9_init_0 rfl (lv_at hl 0 rfl) ?_
  refine lv_iload_n hx hb dX9_init_1 rfl (lv_at hl 1 rfl) ?_
  have hF_ : ∀ q, va_A ([(a, .inr (7, [.int 0]))] : va_W) (Array.size s.heap) q → A q := va_free hD hS hA [0] rfl
  refine oc_callP (A1 := va_A ([(a, .inr (7, [.int 0]))] : va_W) (Array.size s.heap)) hx hb hml hl.1 ⟨hok, hS, hN0⟩ (oc_iI (As := [.int x]) (rest := []) hx hb hown (hts _ q339) (hts _ q340) (hts _ q341) ⟨by decide, by decide, by decide, (by decide +kernel : (parseMethodDescriptor "(I)V").map (fun d => d.parameters.length) = some 1)⟩ dX9_init_2 rfl) (oc_M.of (by decide +kernel) (hts _ q341)) (kX8_init_X9 G a x (hP.sub [0] rfl) ((hD.sub [0] rfl rfl).self) (oc_N1 hD hN0 [0] rfl)) hF_ dX9_init_2 (Nat.le_of_ble_eq_true rfl) (Nat.le_of_ble_eq_true rfl) (by dsimp only [oc_rm]; omega) (by dsimp only [oc_rm]; omega) (fun v_ H locs k_ n_ hp_ hz_ hk_ hS => ?_)
  obtain ⟨rfl, rfl, rfl, hP1, hD1⟩ := hp_
  obtain ⟨hP, hD⟩ := va_join (w1 := ([(a, .inr (7, [.int x]))] : va_W)) (wr := ([] : va_W)) hP hD [0] [] rfl rfl rfl (by decide) hk_ hF_ hP1 hD1
  have hP : va_P D oc_cl ([(a, .inr (7, [.int x]))] : va_W) H := hP
  have hD : va_D A ([(a, .inr (7, [.int x]))] : va_W) := hD
  refine W.eq (g2 := F0 m 5 ls []) rfl ?_
  exact oc_vret hx hb hr hlocks hS dX9_init_5 (⟨none, rfl, rfl, rfl, rfl, hP, hD⟩)
set_option maxHeartbeats 4000000 in
set_option maxRecDepth 100000 in
theorem kX8_init_X10 {l : Launch} {s0 : State} {b0 : Addr} {D : va_G} {d : Nat → ClassId} (G : oc_G l s0 b0 D d) {H : Heap} (a : Nat) (x : Int32) (hP : va_P D oc_cl ([(a, .inr (8, [.int 0, .int 0]))] : va_W) H) (hD : va_D (va_A ([(a, .inr (8, [.int 0, .int 0]))] : va_W) (Array.size H)) ([(a, .inr (8, [.int 0, .int 0]))] : va_W)) (hN0 : ∀ x ∈ ([(a, .inr (8, [.int 0, .int 0]))] : va_W), s0.heap.size ≤ x.1) : oc_C l s0 yX8_init (oc_rm 1 12 0 0) [.ref a, .int x] H (va_A ([(a, .inr (8, [.int 0, .int 0]))] : va_W) (Array.size H)) (oc_Pr (fun v H1 k n1 => v = none ∧ k = 0 ∧ n1 = 0 ∧ va_P D oc_cl ([(a, .inr (8, [.int x, .int 0]))] : va_W) H1 ∧ va_D (va_A ([(a, .inr (8, [.int 0, .int 0]))] : va_W) (Array.size H)) ([(a, .inr (8, [.int x, .int 0]))] : va_W))) := by
  refine oc_start G (cc := cX8_init) (L := 2) (ret := (Option.none : Option Jvm.ClassFile.FieldType)) q341 (Nat.le_of_ble_eq_true rfl) ?_
  intro p e s m below meth c ls hx hok hb hml hr hlocks htab hown hts hK hin hh hl
  subst hh
  have hl : lv_has ls 2 [(0, .ref a), (1, .int x)] := hl
  have hN0 := oc_N0 hok hN0
  have hA : ∀ q, Array.size s.heap ≤ q → (va_A ([(a, .inr (8, [.int 0, .int 0]))] : va_W) (Array.size s.heap)) q := fun q z => Or.inr z
  have hS : va_S (va_A ([(a, .inr (8, [.int 0, .int 0]))] : va_W) (Array.size s.heap)) s.heap s.heap [] := va_S.rf
  generalize hAe : (va_A ([(a, .inr (8, [.int 0, .int 0]))] : va_W) (Array.size s.heap)) = A at *
  refine lv_aload_n hx hb dX8_init_0 rfl (lv_at hl 0 rfl) ?_
  refine W.objInit hx hb hown (hts _ q342) (hts _ q61) (hts _ q62) rfl (by rw [hml]; exact hl.1) (rest := []) rfl dX8_init_1 (Nat.le_of_ble_eq_true rfl) (Nat.le_of_ble_eq_true rfl) ?_
  refine W.eq (g2 := F0 m 4 ls []) rfl ?_
  refine lv_aload_n hx hb dX8_init_4 rfl (lv_at hl 0 rfl) ?_
  refine lv_iload_n hx hb dX8_init_5 rfl (lv_at hl 1 rfl) ?_
  refine va_putF (D := D) (ci := 8) (v := .int x) (ty := .int) (C := RX10) (T := TX10) (N := 2) hx hb hts in_X10 tyX10 tyX10_ok nmX10 hown hK hP hD hS 0 rfl rfl 0 (by decide) (hts _ q343) (fun _ h9 => h9) rfl hin rfl (by decide +kernel) rfl rfl (Nat.le_of_ble_eq_true rfl) dX8_init_6 (fun H locs hP hD hS => ?_)
  have hP : va_P D oc_cl ([(a, .inr (8, [.int x, .int 0]))] : va_W) H := hP
  have hD : va_D A ([(a, .inr (8, [.int x, .int 0]))] : va_W) := hD
  exact oc_vret hx hb hr hlocks hS dX8_init_9 (⟨none, rfl, rfl, rfl, rfl, hP, hD⟩)
set_option maxHeartbeats 4000000 in
set_option maxRecDepth 100000 in
theorem kX10_init {l : Launch} {s0 : State} {b0 : Addr} {D : va_G} {d : Nat → ClassId} (G : oc_G l s0 b0 D d) {H : Heap} (a : Nat) (x y : Int32) (hP : va_P D oc_cl ([(a, .inr (8, [.int 0, .int 0]))] : va_W) H) (hD : va_D (va_A ([(a, .inr (8, [.int 0, .int 0]))] : va_W) (Array.size H)) ([(a, .inr (8, [.int 0, .int 0]))] : va_W)) (hN0 : ∀ x ∈ ([(a, .inr (8, [.int 0, .int 0]))] : va_W), s0.heap.size ≤ x.1) : oc_C l s0 yX10_init (oc_rm 2 25 0 0) [.ref a, .int x, .int y] H (va_A ([(a, .inr (8, [.int 0, .int 0]))] : va_W) (Array.size H)) (oc_Pr (fun v H1 k n1 => v = none ∧ k = 0 ∧ n1 = 0 ∧ va_P D oc_cl ([(a, .inr (8, [.int x, .int y]))] : va_W) H1 ∧ va_D (va_A ([(a, .inr (8, [.int 0, .int 0]))] : va_W) (Array.size H)) ([(a, .inr (8, [.int x, .int y]))] : va_W))) := by
  refine oc_start G (cc := cX10_init) (L := 3) (ret := (Option.none : Option Jvm.ClassFile.FieldType)) q351 (Nat.le_of_ble_eq_true rfl) ?_
  intro p e s m below meth c ls hx hok hb hml hr hlocks htab hown hts hK hin hh hl
  subst hh
  have hl : lv_has ls 3 [(0, .ref a), (1, .int x), (2, .int y)] := hl
  have hN0 := oc_N0 hok hN0
  have hA : ∀ q, Array.size s.heap ≤ q → (va_A ([(a, .inr (8, [.int 0, .int 0]))] : va_W) (Array.size s.heap)) q := fun q z => Or.inr z
  have hS : va_S (va_A ([(a, .inr (8, [.int 0, .int 0]))] : va_W) (Array.size s.heap)) s.heap s.heap [] := va_S.rf
  generalize hAe : (va_A ([(a, .inr (8, [.int 0, .int 0]))] : va_W) (Array.size s.heap)) = A at *
  refine lv_aload_n hx hb dX10_init_0 rfl (lv_at hl 0 rfl) ?_
  refine lv_iload_n hx hb dX10_init_1 rfl (lv_at hl 1 rfl) ?_
  have hF_ : ∀ q, va_A ([(a, .inr (8, [.int 0, .int 0]))] : va_W) (Array.size s.heap) q → A q := va_free hD hS hA [0] rfl
  refine oc_callP (A1 := va_A ([(a, .inr (8, [.int 0, .int 0]))] : va_W) (Array.size s.heap)) hx hb hml hl.1 ⟨hok, hS, hN0⟩ (oc_iI (As := [.int x]) (rest := []) hx hb hown (hts _ q352) (hts _ q340) (hts _ q341) ⟨by decide, by decide, by decide, (by decide +kernel : (parseMethodDescriptor "(I)V").map (fun d => d.parameters.length) = some 1)⟩ dX10_init_2 rfl) (oc_M.of (by decide +kernel) (hts _ q341)) (kX8_init_X10 G a x (hP.sub [0] rfl) ((hD.sub [0] rfl rfl).self) (oc_N1 hD hN0 [0] rfl)) hF_ dX10_init_2 (Nat.le_of_ble_eq_true rfl) (Nat.le_of_ble_eq_true rfl) (by dsimp only [oc_rm]; omega) (by dsimp only [oc_rm]; omega) (fun v_ H locs k_ n_ hp_ hz_ hk_ hS => ?_)
  obtain ⟨rfl, rfl, rfl, hP1, hD1⟩ := hp_
  obtain ⟨hP, hD⟩ := va_join (w1 := ([(a, .inr (8, [.int x, .int 0]))] : va_W)) (wr := ([] : va_W)) hP hD [0] [] rfl rfl rfl (by decide) hk_ hF_ hP1 hD1
  have hP : va_P D oc_cl ([(a, .inr (8, [.int x, .int 0]))] : va_W) H := hP
  have hD : va_D A ([(a, .inr (8, [.int x, .int 0]))] : va_W) := hD
  refine W.eq (g2 := F0 m 5 ls []) rfl ?_
  refine lv_aload_n hx hb dX10_init_5 rfl (lv_at hl 0 rfl) ?_
  refine lv_iload_n hx hb dX10_init_6 rfl (lv_at hl 2 rfl) ?_
  refine va_putF (D := D) (ci := 8) (v := .int y) (ty := .int) (C := RX10) (T := TX10) (N := 2) hx hb hts in_X10 tyX10 tyX10_ok nmX10 hown hK hP hD hS 0 rfl rfl 1 (by decide) (hts _ q353) (fun _ h9 => h9) rfl hin rfl (by decide +kernel) rfl rfl (Nat.le_of_ble_eq_true rfl) dX10_init_7 (fun H locs hP hD hS => ?_)
  have hP : va_P D oc_cl ([(a, .inr (8, [.int x, .int y]))] : va_W) H := hP
  have hD : va_D A ([(a, .inr (8, [.int x, .int y]))] : va_W) := hD
  exact oc_vret hx hb hr hlocks hS dX10_init_10 (⟨none, rfl, rfl, rfl, rfl, hP, hD⟩)
set_option maxHeartbeats 4000000 in
set_option maxRecDepth 100000 in
theorem kX8_init_X11 {l : Launch} {s0 : State} {b0 : Addr} {D : va_G} {d : Nat → ClassId} (G : oc_G l s0 b0 D d) {H : Heap} (a : Nat) (x : Int32) (hP : va_P D oc_cl ([(a, .inr (9, [.int 0, .int 0]))] : va_W) H) (hD : va_D (va_A ([(a, .inr (9, [.int 0, .int 0]))] : va_W) (Array.size H)) ([(a, .inr (9, [.int 0, .int 0]))] : va_W)) (hN0 : ∀ x ∈ ([(a, .inr (9, [.int 0, .int 0]))] : va_W), s0.heap.size ≤ x.1) : oc_C l s0 yX8_init (oc_rm 1 12 0 0) [.ref a, .int x] H (va_A ([(a, .inr (9, [.int 0, .int 0]))] : va_W) (Array.size H)) (oc_Pr (fun v H1 k n1 => v = none ∧ k = 0 ∧ n1 = 0 ∧ va_P D oc_cl ([(a, .inr (9, [.int x, .int 0]))] : va_W) H1 ∧ va_D (va_A ([(a, .inr (9, [.int 0, .int 0]))] : va_W) (Array.size H)) ([(a, .inr (9, [.int x, .int 0]))] : va_W))) := by
  refine oc_start G (cc := cX8_init) (L := 2) (ret := (Option.none : Option Jvm.ClassFile.FieldType)) q341 (Nat.le_of_ble_eq_true rfl) ?_
  intro p e s m below meth c ls hx hok hb hml hr hlocks htab hown hts hK hin hh hl
  subst hh
  have hl : lv_has ls 2 [(0, .ref a), (1, .int x)] := hl
  have hN0 := oc_N0 hok hN0
  have hA : ∀ q, Array.size s.heap ≤ q → (va_A ([(a, .inr (9, [.int 0, .int 0]))] : va_W) (Array.size s.heap)) q := fun q z => Or.inr z
  have hS : va_S (va_A ([(a, .inr (9, [.int 0, .int 0]))] : va_W) (Array.size s.heap)) s.heap s.heap [] := va_S.rf
  generalize hAe : (va_A ([(a, .inr (9, [.int 0, .int 0]))] : va_W) (Array.size s.heap)) = A at *
  refine lv_aload_n hx hb dX8_init_0 rfl (lv_at hl 0 rfl) ?_
  refine W.objInit hx hb hown (hts _ q342) (hts _ q61) (hts _ q62) rfl (by rw [hml]; exact hl.1) (rest := []) rfl dX8_init_1 (Nat.le_of_ble_eq_true rfl) (Nat.le_of_ble_eq_true rfl) ?_
  refine W.eq (g2 := F0 m 4 ls []) rfl ?_
  refine lv_aload_n hx hb dX8_init_4 rfl (lv_at hl 0 rfl) ?_
  refine lv_iload_n hx hb dX8_init_5 rfl (lv_at hl 1 rfl) ?_
  refine va_putF (D := D) (ci := 9) (v := .int x) (ty := .int) (C := RX11) (T := TX11) (N := 2) hx hb hts in_X11 tyX11 tyX11_ok nmX11 hown hK hP hD hS 0 rfl rfl 0 (by decide) (hts _ q343) (fun _ h9 => h9) rfl hin rfl (by decide +kernel) rfl rfl (Nat.le_of_ble_eq_true rfl) dX8_init_6 (fun H locs hP hD hS => ?_)
  have hP : va_P D oc_cl ([(a, .inr (9, [.int x, .int 0]))] : va_W) H := hP
  have hD : va_D A ([(a, .inr (9, [.int x, .int 0]))] : va_W) := hD
  exact oc_vret hx hb hr hlocks hS dX8_init_9 (⟨none, rfl, rfl, rfl, rfl, hP, hD⟩)
set_option maxHeartbeats 4000000 in
set_option maxRecDepth 100000 in
theorem kX11_init {l : Launch} {s0 : State} {b0 : Addr} {D : va_G} {d : Nat → ClassId} (G : oc_G l s0 b0 D d) {H : Heap} (a : Nat) (x y : Int32) (hP : va_P D oc_cl ([(a, .inr (9, [.int 0, .int 0]))] : va_W) H) (hD : va_D (va_A ([(a, .inr (9, [.int 0, .int 0]))] : va_W) (Array.size H)) ([(a, .inr (9, [.int 0, .int 0]))] : va_W)) (hN0 : ∀ x ∈ ([(a, .inr (9, [.int 0, .int 0]))] : va_W), s0.heap.size ≤ x.1) : oc_C l s0 yX11_init (oc_rm 2 25 0 0) [.ref a, .int x, .int y] H (va_A ([(a, .inr (9, [.int 0, .int 0]))] : va_W) (Array.size H)) (oc_Pr (fun v H1 k n1 => v = none ∧ k = 0 ∧ n1 = 0 ∧ va_P D oc_cl ([(a, .inr (9, [.int x, .int y]))] : va_W) H1 ∧ va_D (va_A ([(a, .inr (9, [.int 0, .int 0]))] : va_W) (Array.size H)) ([(a, .inr (9, [.int x, .int y]))] : va_W))) := by
  refine oc_start G (cc := cX11_init) (L := 3) (ret := (Option.none : Option Jvm.ClassFile.FieldType)) q366 (Nat.le_of_ble_eq_true rfl) ?_
  intro p e s m below meth c ls hx hok hb hml hr hlocks htab hown hts hK hin hh hl
  subst hh
  have hl : lv_has ls 3 [(0, .ref a), (1, .int x), (2, .int y)] := hl
  have hN0 := oc_N0 hok hN0
  have hA : ∀ q, Array.size s.heap ≤ q → (va_A ([(a, .inr (9, [.int 0, .int 0]))] : va_W) (Array.size s.heap)) q := fun q z => Or.inr z
  have hS : va_S (va_A ([(a, .inr (9, [.int 0, .int 0]))] : va_W) (Array.size s.heap)) s.heap s.heap [] := va_S.rf
  generalize hAe : (va_A ([(a, .inr (9, [.int 0, .int 0]))] : va_W) (Array.size s.heap)) = A at *
  refine lv_aload_n hx hb dX11_init_0 rfl (lv_at hl 0 rfl) ?_
  refine lv_iload_n hx hb dX11_init_1 rfl (lv_at hl 1 rfl) ?_
  have hF_ : ∀ q, va_A ([(a, .inr (9, [.int 0, .int 0]))] : va_W) (Array.size s.heap) q → A q := va_free hD hS hA [0] rfl
  refine oc_callP (A1 := va_A ([(a, .inr (9, [.int 0, .int 0]))] : va_W) (Array.size s.heap)) hx hb hml hl.1 ⟨hok, hS, hN0⟩ (oc_iI (As := [.int x]) (rest := []) hx hb hown (hts _ q367) (hts _ q340) (hts _ q341) ⟨by decide, by decide, by decide, (by decide +kernel : (parseMethodDescriptor "(I)V").map (fun d => d.parameters.length) = some 1)⟩ dX11_init_2 rfl) (oc_M.of (by decide +kernel) (hts _ q341)) (kX8_init_X11 G a x (hP.sub [0] rfl) ((hD.sub [0] rfl rfl).self) (oc_N1 hD hN0 [0] rfl)) hF_ dX11_init_2 (Nat.le_of_ble_eq_true rfl) (Nat.le_of_ble_eq_true rfl) (by dsimp only [oc_rm]; omega) (by dsimp only [oc_rm]; omega) (fun v_ H locs k_ n_ hp_ hz_ hk_ hS => ?_)
  obtain ⟨rfl, rfl, rfl, hP1, hD1⟩ := hp_
  obtain ⟨hP, hD⟩ := va_join (w1 := ([(a, .inr (9, [.int x, .int 0]))] : va_W)) (wr := ([] : va_W)) hP hD [0] [] rfl rfl rfl (by decide) hk_ hF_ hP1 hD1
  have hP : va_P D oc_cl ([(a, .inr (9, [.int x, .int 0]))] : va_W) H := hP
  have hD : va_D A ([(a, .inr (9, [.int x, .int 0]))] : va_W) := hD
  refine W.eq (g2 := F0 m 5 ls []) rfl ?_
  refine lv_aload_n hx hb dX11_init_5 rfl (lv_at hl 0 rfl) ?_
  refine lv_iload_n hx hb dX11_init_6 rfl (lv_at hl 2 rfl) ?_
  refine va_putF (D := D) (ci := 9) (v := .int y) (ty := .int) (C := RX11) (T := TX11) (N := 2) hx hb hts in_X11 tyX11 tyX11_ok nmX11 hown hK hP hD hS 0 rfl rfl 1 (by decide) (hts _ q368) (fun _ h9 => h9) rfl hin rfl (by decide +kernel) rfl rfl (Nat.le_of_ble_eq_true rfl) dX11_init_7 (fun H locs hP hD hS => ?_)
  have hP : va_P D oc_cl ([(a, .inr (9, [.int x, .int y]))] : va_W) H := hP
  have hD : va_D A ([(a, .inr (9, [.int x, .int y]))] : va_W) := hD
  exact oc_vret hx hb hr hlocks hS dX11_init_10 (⟨none, rfl, rfl, rfl, rfl, hP, hD⟩)
set_option maxHeartbeats 4000000 in
set_option maxRecDepth 100000 in
theorem kX8_init_X12 {l : Launch} {s0 : State} {b0 : Addr} {D : va_G} {d : Nat → ClassId} (G : oc_G l s0 b0 D d) {H : Heap} (a : Nat) (x : Int32) (hP : va_P D oc_cl ([(a, .inr (10, [.int 0, .int 0]))] : va_W) H) (hD : va_D (va_A ([(a, .inr (10, [.int 0, .int 0]))] : va_W) (Array.size H)) ([(a, .inr (10, [.int 0, .int 0]))] : va_W)) (hN0 : ∀ x ∈ ([(a, .inr (10, [.int 0, .int 0]))] : va_W), s0.heap.size ≤ x.1) : oc_C l s0 yX8_init (oc_rm 1 12 0 0) [.ref a, .int x] H (va_A ([(a, .inr (10, [.int 0, .int 0]))] : va_W) (Array.size H)) (oc_Pr (fun v H1 k n1 => v = none ∧ k = 0 ∧ n1 = 0 ∧ va_P D oc_cl ([(a, .inr (10, [.int x, .int 0]))] : va_W) H1 ∧ va_D (va_A ([(a, .inr (10, [.int 0, .int 0]))] : va_W) (Array.size H)) ([(a, .inr (10, [.int x, .int 0]))] : va_W))) := by
  refine oc_start G (cc := cX8_init) (L := 2) (ret := (Option.none : Option Jvm.ClassFile.FieldType)) q341 (Nat.le_of_ble_eq_true rfl) ?_
  intro p e s m below meth c ls hx hok hb hml hr hlocks htab hown hts hK hin hh hl
  subst hh
  have hl : lv_has ls 2 [(0, .ref a), (1, .int x)] := hl
  have hN0 := oc_N0 hok hN0
  have hA : ∀ q, Array.size s.heap ≤ q → (va_A ([(a, .inr (10, [.int 0, .int 0]))] : va_W) (Array.size s.heap)) q := fun q z => Or.inr z
  have hS : va_S (va_A ([(a, .inr (10, [.int 0, .int 0]))] : va_W) (Array.size s.heap)) s.heap s.heap [] := va_S.rf
  generalize hAe : (va_A ([(a, .inr (10, [.int 0, .int 0]))] : va_W) (Array.size s.heap)) = A at *
  refine lv_aload_n hx hb dX8_init_0 rfl (lv_at hl 0 rfl) ?_
  refine W.objInit hx hb hown (hts _ q342) (hts _ q61) (hts _ q62) rfl (by rw [hml]; exact hl.1) (rest := []) rfl dX8_init_1 (Nat.le_of_ble_eq_true rfl) (Nat.le_of_ble_eq_true rfl) ?_
  refine W.eq (g2 := F0 m 4 ls []) rfl ?_
  refine lv_aload_n hx hb dX8_init_4 rfl (lv_at hl 0 rfl) ?_
  refine lv_iload_n hx hb dX8_init_5 rfl (lv_at hl 1 rfl) ?_
  refine va_putF (D := D) (ci := 10) (v := .int x) (ty := .int) (C := RX12) (T := TX12) (N := 2) hx hb hts in_X12 tyX12 tyX12_ok nmX12 hown hK hP hD hS 0 rfl rfl 0 (by decide) (hts _ q343) (fun _ h9 => h9) rfl hin rfl (by decide +kernel) rfl rfl (Nat.le_of_ble_eq_true rfl) dX8_init_6 (fun H locs hP hD hS => ?_)
  have hP : va_P D oc_cl ([(a, .inr (10, [.int x, .int 0]))] : va_W) H := hP
  have hD : va_D A ([(a, .inr (10, [.int x, .int 0]))] : va_W) := hD
  exact oc_vret hx hb hr hlocks hS dX8_init_9 (⟨none, rfl, rfl, rfl, rfl, hP, hD⟩)
set_option maxHeartbeats 4000000 in
set_option maxRecDepth 100000 in
theorem kX12_init {l : Launch} {s0 : State} {b0 : Addr} {D : va_G} {d : Nat → ClassId} (G : oc_G l s0 b0 D d) {H : Heap} (a : Nat) (x y : Int32) (hP : va_P D oc_cl ([(a, .inr (10, [.int 0, .int 0]))] : va_W) H) (hD : va_D (va_A ([(a, .inr (10, [.int 0, .int 0]))] : va_W) (Array.size H)) ([(a, .inr (10, [.int 0, .int 0]))] : va_W)) (hN0 : ∀ x ∈ ([(a, .inr (10, [.int 0, .int 0]))] : va_W), s0.heap.size ≤ x.1) : oc_C l s0 yX12_init (oc_rm 2 25 0 0) [.ref a, .int x, .int y] H (va_A ([(a, .inr (10, [.int 0, .int 0]))] : va_W) (Array.size H)) (oc_Pr (fun v H1 k n1 => v = none ∧ k = 0 ∧ n1 = 0 ∧ va_P D oc_cl ([(a, .inr (10, [.int x, .int y]))] : va_W) H1 ∧ va_D (va_A ([(a, .inr (10, [.int 0, .int 0]))] : va_W) (Array.size H)) ([(a, .inr (10, [.int x, .int y]))] : va_W))) := by
  refine oc_start G (cc := cX12_init) (L := 3) (ret := (Option.none : Option Jvm.ClassFile.FieldType)) q377 (Nat.le_of_ble_eq_true rfl) ?_
  intro p e s m below meth c ls hx hok hb hml hr hlocks htab hown hts hK hin hh hl
  subst hh
  have hl : lv_has ls 3 [(0, .ref a), (1, .int x), (2, .int y)] := hl
  have hN0 := oc_N0 hok hN0
  have hA : ∀ q, Array.size s.heap ≤ q → (va_A ([(a, .inr (10, [.int 0, .int 0]))] : va_W) (Array.size s.heap)) q := fun q z => Or.inr z
  have hS : va_S (va_A ([(a, .inr (10, [.int 0, .int 0]))] : va_W) (Array.size s.heap)) s.heap s.heap [] := va_S.rf
  generalize hAe : (va_A ([(a, .inr (10, [.int 0, .int 0]))] : va_W) (Array.size s.heap)) = A at *
  refine lv_aload_n hx hb dX12_init_0 rfl (lv_at hl 0 rfl) ?_
  refine lv_iload_n hx hb dX12_init_1 rfl (lv_at hl 1 rfl) ?_
  have hF_ : ∀ q, va_A ([(a, .inr (10, [.int 0, .int 0]))] : va_W) (Array.size s.heap) q → A q := va_free hD hS hA [0] rfl
  refine oc_callP (A1 := va_A ([(a, .inr (10, [.int 0, .int 0]))] : va_W) (Array.size s.heap)) hx hb hml hl.1 ⟨hok, hS, hN0⟩ (oc_iI (As := [.int x]) (rest := []) hx hb hown (hts _ q378) (hts _ q340) (hts _ q341) ⟨by decide, by decide, by decide, (by decide +kernel : (parseMethodDescriptor "(I)V").map (fun d => d.parameters.length) = some 1)⟩ dX12_init_2 rfl) (oc_M.of (by decide +kernel) (hts _ q341)) (kX8_init_X12 G a x (hP.sub [0] rfl) ((hD.sub [0] rfl rfl).self) (oc_N1 hD hN0 [0] rfl)) hF_ dX12_init_2 (Nat.le_of_ble_eq_true rfl) (Nat.le_of_ble_eq_true rfl) (by dsimp only [oc_rm]; omega) (by dsimp only [oc_rm]; omega) (fun v_ H locs k_ n_ hp_ hz_ hk_ hS => ?_)
  obtain ⟨rfl, rfl, rfl, hP1, hD1⟩ := hp_
  obtain ⟨hP, hD⟩ := va_join (w1 := ([(a, .inr (10, [.int x, .int 0]))] : va_W)) (wr := ([] : va_W)) hP hD [0] [] rfl rfl rfl (by decide) hk_ hF_ hP1 hD1
  have hP : va_P D oc_cl ([(a, .inr (10, [.int x, .int 0]))] : va_W) H := hP
  have hD : va_D A ([(a, .inr (10, [.int x, .int 0]))] : va_W) := hD
  refine W.eq (g2 := F0 m 5 ls []) rfl ?_
  refine lv_aload_n hx hb dX12_init_5 rfl (lv_at hl 0 rfl) ?_
  refine lv_iload_n hx hb dX12_init_6 rfl (lv_at hl 2 rfl) ?_
  refine va_putF (D := D) (ci := 10) (v := .int y) (ty := .int) (C := RX12) (T := TX12) (N := 2) hx hb hts in_X12 tyX12 tyX12_ok nmX12 hown hK hP hD hS 0 rfl rfl 1 (by decide) (hts _ q379) (fun _ h9 => h9) rfl hin rfl (by decide +kernel) rfl rfl (Nat.le_of_ble_eq_true rfl) dX12_init_7 (fun H locs hP hD hS => ?_)
  have hP : va_P D oc_cl ([(a, .inr (10, [.int x, .int y]))] : va_W) H := hP
  have hD : va_D A ([(a, .inr (10, [.int x, .int y]))] : va_W) := hD
  exact oc_vret hx hb hr hlocks hS dX12_init_10 (⟨none, rfl, rfl, rfl, rfl, hP, hD⟩)
set_option maxHeartbeats 4000000 in
set_option maxRecDepth 100000 in
theorem kX6_init {l : Launch} {s0 : State} {b0 : Addr} {D : va_G} {d : Nat → ClassId} (G : oc_G l s0 b0 D d) {H : Heap} (a : Nat) (hP : va_P D oc_cl ([(a, .inr (5, [.null]))] : va_W) H) (hD : va_D (va_A ([(a, .inr (5, [.null]))] : va_W) (Array.size H)) ([(a, .inr (5, [.null]))] : va_W)) (hN0 : ∀ x ∈ ([(a, .inr (5, [.null]))] : va_W), s0.heap.size ≤ x.1) {E0 : Nat} (hE : oc_E s0 E0) : oc_C l s0 yX6_init (oc_rm 4 50 1 3) [.ref a] H (va_A ([(a, .inr (5, [.null]))] : va_W) (Array.size H)) (oc_Pr (fun v H1 k n1 => v = none ∧ k = 1 ∧ n1 = 3 ∧ ∃ q : Nat, va_P D oc_cl ([(a, .inr (5, [.ref q])), (q, .inr (4, [.int 0, .ref E0, .int 0]))] : va_W) H1 ∧ va_D (va_A ([(a, .inr (5, [.null]))] : va_W) (Array.size H)) ([(a, .inr (5, [.ref q])), (q, .inr (4, [.int 0, .ref E0, .int 0]))] : va_W))) := by
  refine oc_start G (cc := cX6_init) (L := 1) (ret := (Option.none : Option Jvm.ClassFile.FieldType)) q306 (Nat.le_of_ble_eq_true rfl) ?_
  intro p e s m below meth c ls hx hok hb hml hr hlocks htab hown hts hK hin hh hl
  subst hh
  have hl : lv_has ls 1 [(0, .ref a)] := hl
  have hN0 := oc_N0 hok hN0
  have hA : ∀ q, Array.size s.heap ≤ q → (va_A ([(a, .inr (5, [.null]))] : va_W) (Array.size s.heap)) q := fun q z => Or.inr z
  have hS : va_S (va_A ([(a, .inr (5, [.null]))] : va_W) (Array.size s.heap)) s.heap s.heap [] := va_S.rf
  generalize hAe : (va_A ([(a, .inr (5, [.null]))] : va_W) (Array.size s.heap)) = A at *
  refine lv_aload_n hx hb dX6_init_0 rfl (lv_at hl 0 rfl) ?_
  refine W.objInit hx hb hown (hts _ q307) (hts _ q61) (hts _ q62) rfl (by rw [hml]; exact hl.1) (rest := []) rfl dX6_init_1 (Nat.le_of_ble_eq_true rfl) (Nat.le_of_ble_eq_true rfl) ?_
  refine W.eq (g2 := F0 m 4 ls []) rfl ?_
  refine lv_aload_n hx hb dX6_init_4 rfl (lv_at hl 0 rfl) ?_
  refine oc_new (D := D) (C := RJ2) (T := TJ2) (N := 3) (ci := 4) (fs := [.int 0, .null, .int 0]) hx hb hts in_J2 tyJ2 tyJ2_ok hown (hts _ q308) (hts _ q90) (hts _ q28) hK hP hD hS hA rfl (by decide +kernel) (by dsimp only [oc_rm]; omega) (by dsimp only [oc_rm]; omega) dX6_init_5 (fun q_1 H hq_q_1 hz_q_1 ho_q_1 hP hD hS => ?_)
  have hP : va_P D oc_cl ([(a, .inr (5, [.null])), (q_1, .inr (4, [.int 0, .null, .int 0]))] : va_W) H := hP
  have hD : va_D A ([(a, .inr (5, [.null])), (q_1, .inr (4, [.int 0, .null, .int 0]))] : va_W) := hD
  refine lv_dup hx hb dX6_init_8 rfl ?_
  have hF_ : ∀ q, va_A ([(q_1, .inr (4, [.int 0, .null, .int 0]))] : va_W) (Array.size H) q → A q := va_free hD hS hA [1] rfl
  refine oc_callP (A1 := va_A ([(q_1, .inr (4, [.int 0, .null, .int 0]))] : va_W) (Array.size H)) hx hb hml hl.1 ⟨hok, hS, hN0⟩ (oc_iI (As := []) (rest := [.ref q_1, .ref a]) hx hb hown (hts _ q309) (hts _ q92) (hts _ q93) ⟨by decide, by decide, by decide, (by decide +kernel : (parseMethodDescriptor "()V").map (fun d => d.parameters.length) = some 0)⟩ dX6_init_9 rfl) (oc_M.of (by decide +kernel) (hts _ q93)) (kJ2_init G q_1 0 0 (hP.sub [1] rfl) ((hD.sub [1] rfl rfl).self) (oc_N1 hD hN0 [1] rfl) hE) hF_ dX6_init_9 (Nat.le_of_ble_eq_true rfl) (Nat.le_of_ble_eq_true rfl) (by dsimp only [oc_rm]; omega) (by dsimp only [oc_rm]; omega) (fun v_ H locs k_ n_ hp_ hz_ hk_ hS => ?_)
  obtain ⟨rfl, rfl, rfl, hP1, hD1⟩ := hp_
  obtain ⟨hP, hD⟩ := va_join (w1 := ([(q_1, .inr (4, [.int 0, .ref E0, .int 0]))] : va_W)) (wr := ([(a, .inr (5, [.null]))] : va_W)) hP hD [1] [0] rfl rfl rfl (by decide) hk_ hF_ hP1 hD1
  have hP : va_P D oc_cl ([(a, .inr (5, [.null])), (q_1, .inr (4, [.int 0, .ref E0, .int 0]))] : va_W) H := hP
  have hD : va_D A ([(a, .inr (5, [.null])), (q_1, .inr (4, [.int 0, .ref E0, .int 0]))] : va_W) := hD
  refine W.eq (g2 := F0 m 12 ls [.ref q_1, .ref a]) rfl ?_
  refine va_putF (D := D) (ci := 5) (v := .ref q_1) (ty := (.object "java/util/ArrayList")) (C := RX6) (T := TX6) (N := 1) hx hb hts in_X6 tyX6 tyX6_ok nmX6 hown hK hP hD hS 0 rfl rfl 0 (by decide) (hts _ q310) (fun _ h9 => h9) rfl hin rfl (by decide +kernel) rfl rfl (Nat.le_of_ble_eq_true rfl) dX6_init_12 (fun H locs hP hD hS => ?_)
  have hP : va_P D oc_cl ([(a, .inr (5, [.ref q_1])), (q_1, .inr (4, [.int 0, .ref E0, .int 0]))] : va_W) H := hP
  have hD : va_D A ([(a, .inr (5, [.ref q_1])), (q_1, .inr (4, [.int 0, .ref E0, .int 0]))] : va_W) := hD
  exact oc_vret hx hb hr hlocks hS dX6_init_15 (⟨none, rfl, rfl, by omega, by omega, q_1, hP, hD⟩)
set_option maxHeartbeats 4000000 in
set_option maxRecDepth 100000 in
theorem kX7_init {l : Launch} {s0 : State} {b0 : Addr} {D : va_G} {d : Nat → ClassId} (G : oc_G l s0 b0 D d) {H : Heap} (a : Nat) (hP : va_P D oc_cl ([(a, .inr (6, [.null]))] : va_W) H) (hD : va_D (va_A ([(a, .inr (6, [.null]))] : va_W) (Array.size H)) ([(a, .inr (6, [.null]))] : va_W)) (hN0 : ∀ x ∈ ([(a, .inr (6, [.null]))] : va_W), s0.heap.size ≤ x.1) {E0 : Nat} (hE : oc_E s0 E0) : oc_C l s0 yX7_init (oc_rm 4 50 1 3) [.ref a] H (va_A ([(a, .inr (6, [.null]))] : va_W) (Array.size H)) (oc_Pr (fun v H1 k n1 => v = none ∧ k = 1 ∧ n1 = 3 ∧ ∃ q : Nat, va_P D oc_cl ([(a, .inr (6, [.ref q])), (q, .inr (4, [.int 0, .ref E0, .int 0]))] : va_W) H1 ∧ va_D (va_A ([(a, .inr (6, [.null]))] : va_W) (Array.size H)) ([(a, .inr (6, [.ref q])), (q, .inr (4, [.int 0, .ref E0, .int 0]))] : va_W))) := by
  refine oc_start G (cc := cX7_init) (L := 1) (ret := (Option.none : Option Jvm.ClassFile.FieldType)) q322 (Nat.le_of_ble_eq_true rfl) ?_
  intro p e s m below meth c ls hx hok hb hml hr hlocks htab hown hts hK hin hh hl
  subst hh
  have hl : lv_has ls 1 [(0, .ref a)] := hl
  have hN0 := oc_N0 hok hN0
  have hA : ∀ q, Array.size s.heap ≤ q → (va_A ([(a, .inr (6, [.null]))] : va_W) (Array.size s.heap)) q := fun q z => Or.inr z
  have hS : va_S (va_A ([(a, .inr (6, [.null]))] : va_W) (Array.size s.heap)) s.heap s.heap [] := va_S.rf
  generalize hAe : (va_A ([(a, .inr (6, [.null]))] : va_W) (Array.size s.heap)) = A at *
  refine lv_aload_n hx hb dX7_init_0 rfl (lv_at hl 0 rfl) ?_
  refine W.objInit hx hb hown (hts _ q323) (hts _ q61) (hts _ q62) rfl (by rw [hml]; exact hl.1) (rest := []) rfl dX7_init_1 (Nat.le_of_ble_eq_true rfl) (Nat.le_of_ble_eq_true rfl) ?_
  refine W.eq (g2 := F0 m 4 ls []) rfl ?_
  refine lv_aload_n hx hb dX7_init_4 rfl (lv_at hl 0 rfl) ?_
  refine oc_new (D := D) (C := RJ2) (T := TJ2) (N := 3) (ci := 4) (fs := [.int 0, .null, .int 0]) hx hb hts in_J2 tyJ2 tyJ2_ok hown (hts _ q324) (hts _ q90) (hts _ q28) hK hP hD hS hA rfl (by decide +kernel) (by dsimp only [oc_rm]; omega) (by dsimp only [oc_rm]; omega) dX7_init_5 (fun q_1 H hq_q_1 hz_q_1 ho_q_1 hP hD hS => ?_)
  have hP : va_P D oc_cl ([(a, .inr (6, [.null])), (q_1, .inr (4, [.int 0, .null, .int 0]))] : va_W) H := hP
  have hD : va_D A ([(a, .inr (6, [.null])), (q_1, .inr (4, [.int 0, .null, .int 0]))] : va_W) := hD
  refine lv_dup hx hb dX7_init_8 rfl ?_
  have hF_ : ∀ q, va_A ([(q_1, .inr (4, [.int 0, .null, .int 0]))] : va_W) (Array.size H) q → A q := va_free hD hS hA [1] rfl
  refine oc_callP (A1 := va_A ([(q_1, .inr (4, [.int 0, .null, .int 0]))] : va_W) (Array.size H)) hx hb hml hl.1 ⟨hok, hS, hN0⟩ (oc_iI (As := []) (rest := [.ref q_1, .ref a]) hx hb hown (hts _ q325) (hts _ q92) (hts _ q93) ⟨by decide, by decide, by decide, (by decide +kernel : (parseMethodDescriptor "()V").map (fun d => d.parameters.length) = some 0)⟩ dX7_init_9 rfl) (oc_M.of (by decide +kernel) (hts _ q93)) (kJ2_init G q_1 0 0 (hP.sub [1] rfl) ((hD.sub [1] rfl rfl).self) (oc_N1 hD hN0 [1] rfl) hE) hF_ dX7_init_9 (Nat.le_of_ble_eq_true rfl) (Nat.le_of_ble_eq_true rfl) (by dsimp only [oc_rm]; omega) (by dsimp only [oc_rm]; omega) (fun v_ H locs k_ n_ hp_ hz_ hk_ hS => ?_)
  obtain ⟨rfl, rfl, rfl, hP1, hD1⟩ := hp_
  obtain ⟨hP, hD⟩ := va_join (w1 := ([(q_1, .inr (4, [.int 0, .ref E0, .int 0]))] : va_W)) (wr := ([(a, .inr (6, [.null]))] : va_W)) hP hD [1] [0] rfl rfl rfl (by decide) hk_ hF_ hP1 hD1
  have hP : va_P D oc_cl ([(a, .inr (6, [.null])), (q_1, .inr (4, [.int 0, .ref E0, .int 0]))] : va_W) H := hP
  have hD : va_D A ([(a, .inr (6, [.null])), (q_1, .inr (4, [.int 0, .ref E0, .int 0]))] : va_W) := hD
  refine W.eq (g2 := F0 m 12 ls [.ref q_1, .ref a]) rfl ?_
  refine va_putF (D := D) (ci := 6) (v := .ref q_1) (ty := (.object "java/util/ArrayList")) (C := RX7) (T := TX7) (N := 1) hx hb hts in_X7 tyX7 tyX7_ok nmX7 hown hK hP hD hS 0 rfl rfl 0 (by decide) (hts _ q326) (fun _ h9 => h9) rfl hin rfl (by decide +kernel) rfl rfl (Nat.le_of_ble_eq_true rfl) dX7_init_12 (fun H locs hP hD hS => ?_)
  have hP : va_P D oc_cl ([(a, .inr (6, [.ref q_1])), (q_1, .inr (4, [.int 0, .ref E0, .int 0]))] : va_W) H := hP
  have hD : va_D A ([(a, .inr (6, [.ref q_1])), (q_1, .inr (4, [.int 0, .ref E0, .int 0]))] : va_W) := hD
  exact oc_vret hx hb hr hlocks hS dX7_init_15 (⟨none, rfl, rfl, by omega, by omega, q_1, hP, hD⟩)
set_option maxHeartbeats 4000000 in
set_option maxRecDepth 100000 in
theorem kX9_is {l : Launch} {s0 : State} {b0 : Addr} {D : va_G} {d : Nat → ClassId} (G : oc_G l s0 b0 D d) {H : Heap} {u : Nat → Nat} {I : Nat → Int32} {F : Nat → Nat → Int32} {cd : Int32} {pr : Int64} {sz : Int32} (hP : va_P D oc_cl ([(u 3, .inr (2, [.ref (u 6), .int (I 11), .int (I 12), .int (I 14), .int (I 15), .int (I 16), .int (I 17), .ref (u 4), .int cd, .long pr, .ref (u 5), .int sz])), (u 4, .inl (d 1, 100, .inl (F 13)))] : va_W) H) {L : Nat → Int64} {E0 ar N cp : Nat} {el : Nat → Option Nat} (hL : od_L D d E0 H (u 6) ar N cp el) (hpt : ∀ j, j < N → ∃ y, el j = some y ∧ va_at D oc_cl (y, .inr (12, [.int (F 8 j), .int (F 9 j), .long (L j)])) H) (h12 : N ≤ 12) (hsym : od_sym (F 13)) (a : Nat) (x : Int32) (ha : va_P D oc_cl ([(a, .inr (7, [.int x]))] : va_W) H) : oc_C l s0 yX9_is (oc_rm 1 12 0 0) [.ref a, .ref (u 3)] H oc_N (oc_R (some (.int (oc_b (decide (nI N = 0))))) H) := by
  refine oc_start G (cc := cX9_is) (L := 2) (ret := (Option.some Jvm.ClassFile.FieldType.boolean)) q698 (Nat.le_of_ble_eq_true rfl) ?_
  intro p e s m below meth c ls hx hok hb hml hr hlocks htab hown hts hK hmn hh hl
  subst hh
  have hl : lv_has ls 2 [(0, .ref a), (1, .ref (u 3))] := hl
  have hZ := oc_Z0 hok
  refine lv_aload_n hx hb dX9_is_0 rfl (lv_at hl 1 rfl) ?_
  refine va_getN (D := D) (ci := 2) (v := .ref (u 6)) (C := RX3) (T := TX3) (N := 12) hx hb hts in_X3 hown hK hP 0 rfl rfl 0 (by decide) (oc_wF G hok q124) (fun _ h9 => h9) rfl dX9_is_1 ?_
  refine oc_callR1 hx hb hml hl.1 hZ (oc_iV (As := []) (rest := []) hx hb hown (hts _ q699) (hts _ q700) (hts _ q701) (oc_Sig.of (hts _ q702) (by decide +kernel : (parseMethodDescriptor "()Z").map (fun d => d.parameters.length) = some 0)) (od_recv hK hL) ⟨by decide, by decide⟩ dX9_is_4 rfl) (oc_M.of (by decide +kernel) (hts _ q702)) (od_isEmpty G hL) dX9_is_4 (Nat.le_of_ble_eq_true rfl) (Nat.le_of_ble_eq_true rfl) (by dsimp only [oc_rm]; omega) (by dsimp only [oc_rm]; omega) ?_
  exact oc_zret hx hb hr hlocks va_S.rf dX9_is_7 (oc_bn _) (oc_Ri (rfl))
set_option maxHeartbeats 4000000 in
set_option maxRecDepth 100000 in
theorem kX10_is {l : Launch} {s0 : State} {b0 : Addr} {D : va_G} {d : Nat → ClassId} (G : oc_G l s0 b0 D d) {H : Heap} {u : Nat → Nat} {I : Nat → Int32} {F : Nat → Nat → Int32} {cd : Int32} {pr : Int64} {sz : Int32} (hP : va_P D oc_cl ([(u 3, .inr (2, [.ref (u 6), .int (I 11), .int (I 12), .int (I 14), .int (I 15), .int (I 16), .int (I 17), .ref (u 4), .int cd, .long pr, .ref (u 5), .int sz])), (u 4, .inl (d 1, 100, .inl (F 13)))] : va_W) H) {L : Nat → Int64} {E0 ar N cp : Nat} {el : Nat → Option Nat} (hL : od_L D d E0 H (u 6) ar N cp el) (hpt : ∀ j, j < N → ∃ y, el j = some y ∧ va_at D oc_cl (y, .inr (12, [.int (F 8 j), .int (F 9 j), .long (L j)])) H) (h12 : N ≤ 12) (hsym : od_sym (F 13)) (a : Nat) (x y : Int32) (ha : va_P D oc_cl ([(a, .inr (8, [.int x, .int y]))] : va_W) H) (hy0 : ¬ y = 0) : oc_C l s0 yX10_is (oc_rm 4 65 0 0) [.ref a, .ref (u 3)] H oc_N (oc_R (some (.int (oc_b (!decide (pr * (I 16).toInt64 < oc_mt I F L cd y N * (I 17).toInt64))))) H) := by
  refine oc_start G (cc := cX10_is) (L := 2) (ret := (Option.some Jvm.ClassFile.FieldType.boolean)) q676 (Nat.le_of_ble_eq_true rfl) ?_
  intro p e s m below meth c ls hx hok hb hml hr hlocks htab hown hts hK hmn hh hl
  subst hh
  have hl : lv_has ls 2 [(0, .ref a), (1, .ref (u 3))] := hl
  have hZ := oc_Z0 hok
  refine lv_aload_n hx hb dX10_is_0 rfl (lv_at hl 1 rfl) ?_
  refine lv_aload_n hx hb dX10_is_1 rfl (lv_at hl 0 rfl) ?_
  refine va_get (D := D) (ci := 8) (v := .int y) (C := RX10) (T := TX10) (N := 2) hx hb hts in_X10 hown hK ha 0 rfl rfl 1 (by decide) (hts _ q353) (fun _ h9 => h9) rfl dX10_is_2 ?_
  refine oc_callR1 hx hb hml hl.1 hZ (oc_iV (As := [.int y]) (rest := []) hx hb hown (hts _ q677) (hts _ q678) (hts _ q679) (oc_Sig.of (hts _ q680) (by decide +kernel : (parseMethodDescriptor "(I)Z").map (fun d => d.parameters.length) = some 1)) (va_recv hK hP (ci := 2) (q0 := 0) rfl rfl) ⟨by decide, by decide⟩ dX10_is_5 rfl) (oc_M.of (by decide +kernel) (hts _ q680)) (kX3_changes G y hy0 hP hL hpt h12 hsym) dX10_is_5 (Nat.le_of_ble_eq_true rfl) (Nat.le_of_ble_eq_true rfl) (by dsimp only [oc_rm]; omega) (by dsimp only [oc_rm]; omega) ?_
  exact oc_zret hx hb hr hlocks va_S.rf dX10_is_8 (oc_bn _) (oc_Ri (rfl))
set_option maxHeartbeats 4000000 in
set_option maxRecDepth 100000 in
theorem kX11_is {l : Launch} {s0 : State} {b0 : Addr} {D : va_G} {d : Nat → ClassId} (G : oc_G l s0 b0 D d) {H : Heap} {u : Nat → Nat} {I : Nat → Int32} {F : Nat → Nat → Int32} {cd : Int32} {pr : Int64} {sz : Int32} (hP : va_P D oc_cl ([(u 3, .inr (2, [.ref (u 6), .int (I 11), .int (I 12), .int (I 14), .int (I 15), .int (I 16), .int (I 17), .ref (u 4), .int cd, .long pr, .ref (u 5), .int sz])), (u 4, .inl (d 1, 100, .inl (F 13)))] : va_W) H) {L : Nat → Int64} {E0 ar N cp : Nat} {el : Nat → Option Nat} (hL : od_L D d E0 H (u 6) ar N cp el) (hpt : ∀ j, j < N → ∃ y, el j = some y ∧ va_at D oc_cl (y, .inr (12, [.int (F 8 j), .int (F 9 j), .long (L j)])) H) (h12 : N ≤ 12) (hsym : od_sym (F 13)) (a : Nat) (x y : Int32) (ha : va_P D oc_cl ([(a, .inr (9, [.int x, .int y]))] : va_W) H) : oc_C l s0 yX11_is (oc_rm 4 63 0 0) [.ref a, .ref (u 3)] H oc_N (oc_R (some (.int (oc_b (!decide (pr ≤ 0) && !decide (pr * y.toInt64 < oc_mf I F L N * 100))))) H) := by
  refine oc_start G (cc := cX11_is) (L := 2) (ret := (Option.some Jvm.ClassFile.FieldType.boolean)) q690 (Nat.le_of_ble_eq_true rfl) ?_
  intro p e s m below meth c ls hx hok hb hml hr hlocks htab hown hts hK hmn hh hl
  subst hh
  have hl : lv_has ls 2 [(0, .ref a), (1, .ref (u 3))] := hl
  have hZ := oc_Z0 hok
  refine lv_aload_n hx hb dX11_is_0 rfl (lv_at hl 1 rfl) ?_
  refine va_getN (D := D) (ci := 2) (v := .long pr) (C := RX3) (T := TX3) (N := 12) hx hb hts in_X3 hown hK hP 0 rfl rfl 9 (by decide) (oc_wF G hok q140) (fun _ h9 => h9) rfl dX11_is_1 ?_
  refine lv_lconst (v := 0) hx hb dX11_is_4 (by decide) ?_
  refine W.lcmp hx hb dX11_is_5 ?_
  refine lv_if_le (tgt := 35) hx hb dX11_is_6 (by decide) (fun c6 => ?_) (fun c6 => ?_)
  · -- taken
    rw [lg_cmp_le] at c6
    refine lv_iconst (v := 0) hx hb dX11_is_35 (by decide) ?_
    exact oc_zret hx hb hr hlocks va_S.rf dX11_is_36 rfl (oc_Ri (by simp [oc_b, *]))
  · -- not taken
    rw [lg_cmp_le] at c6
    refine lv_aload_n hx hb dX11_is_9 rfl (lv_at hl 1 rfl) ?_
    refine oc_callR1 hx hb hml hl.1 hZ (oc_iV (As := []) (rest := []) hx hb hown (hts _ q691) (hts _ q692) (hts _ q693) (oc_Sig.of (hts _ q694) (by decide +kernel : (parseMethodDescriptor "()J").map (fun d => d.parameters.length) = some 0)) (va_recv hK hP (ci := 2) (q0 := 0) rfl rfl) ⟨by decide, by decide⟩ dX11_is_10 rfl) (oc_M.of (by decide +kernel) (hts _ q694)) (kX3_foreign G hP hL hpt h12 hsym) dX11_is_10 (Nat.le_of_ble_eq_true rfl) (Nat.le_of_ble_eq_true rfl) (by dsimp only [oc_rm]; omega) (by dsimp only [oc_rm]; omega) ?_
    refine lv_ldc2 (v := 100) hx hb hown (hts _ q695) dX11_is_13 ?_
    refine lv_lmul hx hb dX11_is_16 ?_
    refine lv_aload_n hx hb dX11_is_17 rfl (lv_at hl 1 rfl) ?_
    refine va_getN (D := D) (ci := 2) (v := .long pr) (C := RX3) (T := TX3) (N := 12) hx hb hts in_X3 hown hK hP 0 rfl rfl 9 (by decide) (oc_wF G hok q140) (fun _ h9 => h9) rfl dX11_is_18 ?_
    refine lv_aload_n hx hb dX11_is_21 rfl (lv_at hl 0 rfl) ?_
    refine va_get (D := D) (ci := 9) (v := .int y) (C := RX11) (T := TX11) (N := 2) hx hb hts in_X11 hown hK ha 0 rfl rfl 1 (by decide) (hts _ q368) (fun _ h9 => h9) rfl dX11_is_22 ?_
    refine lv_i2l (v := y.toInt64) hx hb dX11_is_25 rfl ?_
    refine lv_lmul hx hb dX11_is_26 ?_
    refine W.lcmp hx hb dX11_is_27 ?_
    refine lv_if_gt (tgt := 35) hx hb dX11_is_28 (by decide) (fun c28 => ?_) (fun c28 => ?_)
    · -- taken
      rw [lg_cmp_gt] at c28
      refine lv_iconst (v := 0) hx hb dX11_is_35 (by decide) ?_
      exact oc_zret hx hb hr hlocks va_S.rf dX11_is_36 rfl (oc_Ri (by simp [oc_b, *]))
    · -- not taken
      rw [lg_cmp_gt] at c28
      refine lv_iconst (v := 1) hx hb dX11_is_31 (by decide) ?_
      refine lv_goto (tgt := 36) hx hb dX11_is_32 (by decide) ?_
      exact oc_zret hx hb hr hlocks va_S.rf dX11_is_36 rfl (oc_Ri (by simp [oc_b, *]))
set_option maxHeartbeats 4000000 in
set_option maxRecDepth 100000 in
theorem kX12_is {l : Launch} {s0 : State} {b0 : Addr} {D : va_G} {d : Nat → ClassId} (G : oc_G l s0 b0 D d) {H : Heap} {u : Nat → Nat} {I : Nat → Int32} {F : Nat → Nat → Int32} {cd : Int32} {pr : Int64} {sz : Int32} (hP : va_P D oc_cl ([(u 3, .inr (2, [.ref (u 6), .int (I 11), .int (I 12), .int (I 14), .int (I 15), .int (I 16), .int (I 17), .ref (u 4), .int cd, .long pr, .ref (u 5), .int sz])), (u 4, .inl (d 1, 100, .inl (F 13)))] : va_W) H) (a : Nat) (x y : Int32) (ha : va_P D oc_cl ([(a, .inr (10, [.int x, .int y]))] : va_W) H) : oc_C l s0 yX12_is (oc_rm 0 0 0 0) [.ref a, .ref (u 3)] H oc_N (oc_R (some (.int (oc_b (decide ((I 11 >>> (y &&& 31)) &&& 1 = 1))))) H) := by
  refine oc_start G (cc := cX12_is) (L := 2) (ret := (Option.some Jvm.ClassFile.FieldType.boolean)) q687 (Nat.le_of_ble_eq_true rfl) ?_
  intro p e s m below meth c ls hx hok hb hml hr hlocks htab hown hts hK hmn hh hl
  subst hh
  have hl : lv_has ls 2 [(0, .ref a), (1, .ref (u 3))] := hl
  have hZ := oc_Z0 hok
  refine lv_aload_n hx hb dX12_is_0 rfl (lv_at hl 1 rfl) ?_
  refine va_getN (D := D) (ci := 2) (v := .int (I 11)) (C := RX3) (T := TX3) (N := 12) hx hb hts in_X3 hown hK hP 0 rfl rfl 1 (by decide) (oc_wF G hok q126) (fun _ h9 => h9) rfl dX12_is_1 ?_
  refine lv_aload_n hx hb dX12_is_4 rfl (lv_at hl 0 rfl) ?_
  refine va_get (D := D) (ci := 10) (v := .int y) (C := RX12) (T := TX12) (N := 2) hx hb hts in_X12 hown hK ha 0 rfl rfl 1 (by decide) (hts _ q379) (fun _ h9 => h9) rfl dX12_is_5 ?_
  refine lv_ishr hx hb dX12_is_8 ?_
  refine lv_iconst (v := 1) hx hb dX12_is_9 (by decide) ?_
  refine lv_iand hx hb dX12_is_10 ?_
  refine lv_iconst (v := 1) hx hb dX12_is_11 (by decide) ?_
  refine lv_icmp_ne (x := ((I 11) >>> (y &&& 31)) &&& 1) (y := 1) (tgt := 19) hx hb dX12_is_12 (by decide) (fun c12 => ?_) (fun c12 => ?_)
  · -- taken
    refine lv_iconst (v := 0) hx hb dX12_is_19 (by decide) ?_
    exact oc_zret hx hb hr hlocks va_S.rf dX12_is_20 rfl (oc_Ri (by simp [oc_b, *]))
  · -- not taken
    refine lv_iconst (v := 1) hx hb dX12_is_15 (by decide) ?_
    refine lv_goto (tgt := 20) hx hb dX12_is_16 (by decide) ?_
    exact oc_zret hx hb hr hlocks va_S.rf dX12_is_20 rfl (oc_Ri (by simp [oc_b, *]))
/-- a code without its last j digits -/
def od_dv (x : Int32) : Nat → Int32
  | 0 => x
  | j + 1 => od_dv x j / 10
set_option maxHeartbeats 4000000 in
set_option maxRecDepth 100000 in
theorem kX13_isOf {l : Launch} {s0 : State} {b0 : Addr} {D : va_G} {d : Nat → ClassId} (G : oc_G l s0 b0 D d) {H : Heap} (a : Nat) (v x : Int32) (q nd : Nat) (hq6 : q ≤ 6) (hP : va_P D oc_cl ([(a, .inr (11, [.int v, .int (nI q), .ref nd]))] : va_W) H) : oc_C l s0 yX13_isOf (oc_rm 0 0 0 0) [.ref a, .int x] H oc_N (oc_R (some (.int (oc_b (decide (od_dv x (6 - q) = v))))) H) := by
  refine oc_start G (cc := cX13_isOf) (L := 4) (ret := (Option.some Jvm.ClassFile.FieldType.boolean)) q638 (Nat.le_of_ble_eq_true rfl) ?_
  intro p e s m below meth c ls hx hok hb hml hr hlocks htab hown hts hK hmn hh hl
  subst hh
  have hl : lv_has ls 4 [(0, .ref a), (1, .int x)] := hl
  have hZ := oc_Z0 hok
  refine lv_iload_n hx hb dX13_isOf_0 rfl (lv_at hl 1 rfl) ?_
  refine lv_istore_n (lv' := [(2, .int x), (0, .ref a), (1, .int x)]) hx hb dX13_isOf_1 rfl hl (by decide) rfl (fun ls hl => ?_)
  refine lv_aload_n hx hb dX13_isOf_2 rfl (lv_at hl 1 rfl) ?_
  refine va_get (D := D) (ci := 11) (v := .int (nI q)) (C := RX13) (T := TX13) (N := 3) hx hb hts in_X13 hown hK hP 0 rfl rfl 1 (by decide) (hts _ q456) (fun _ h9 => h9) rfl dX13_isOf_3 ?_
  refine lv_istore_n (lv' := [(3, .int (nI q)), (2, .int x), (0, .ref a), (1, .int x)]) hx hb dX13_isOf_6 rfl hl (by decide) rfl (fun ls hl => ?_)
  have lp7 : ∀ (n : Nat) (j : Nat), (q + j ≤ 6) → (7 ≤ q + j + n) → ∀ (ls : Array Slot), lv_has ls 4 [(3, .int (nI (q + j))), (2, .int (od_dv x j)), (0, .ref a), (1, .int x)] → W p l e (oc_rm 0 0 0 0) s m ([.ref a, .int x] : List Value).toArray below meth c s.heap [] 0 0 (oc_Q oc_N below s (oc_R (some (.int (oc_b (decide (od_dv x (6 - q) = v))))) s.heap)) (F0 m 7 ls []) := by
    intro n
    induction n with
    | zero => intro j hj hn ls hl; exact absurd hn (by omega)
    | succ n ih7 =>
      intro j hj hn ls hl
      refine lv_iload_n hx hb dX13_isOf_7 rfl (lv_at hl 0 rfl) ?_
      refine lv_bipush (v := 6) hx hb dX13_isOf_8 (by decide) ?_
      refine lv_icmp_ge (x := nI (q + j)) (y := 6) (tgt := 24) hx hb dX13_isOf_10 (by decide) (fun c10 => ?_) (fun c10 => ?_)
      · -- taken
        rw [oc_le (x := 6) (y := nI (q + j)) (a := 6) (b := (q + j)) rfl rfl (by omega) (by omega)] at c10
        have ex9 : od_dv x j = od_dv x (6 - q) := by rw [show j = 6 - q by omega]
        refine lv_iload_n hx hb dX13_isOf_24 rfl (lv_at hl 1 rfl) ?_
        refine lv_aload_n hx hb dX13_isOf_25 rfl (lv_at hl 2 rfl) ?_
        refine va_get (D := D) (ci := 11) (v := .int v) (C := RX13) (T := TX13) (N := 3) hx hb hts in_X13 hown hK hP 0 rfl rfl 0 (by decide) (hts _ q455) (fun _ h9 => h9) rfl dX13_isOf_26 ?_
        refine lv_icmp_ne (x := od_dv x j) (y := v) (tgt := 36) hx hb dX13_isOf_29 (by decide) (fun c29 => ?_) (fun c29 => ?_)
        · -- taken
          refine lv_iconst (v := 0) hx hb dX13_isOf_36 (by decide) ?_
          exact oc_zret hx hb hr hlocks va_S.rf dX13_isOf_37 rfl (oc_Ri (by rw [← ex9]; simp [oc_b, c29]))
        · -- not taken
          refine lv_iconst (v := 1) hx hb dX13_isOf_32 (by decide) ?_
          refine lv_goto (tgt := 37) hx hb dX13_isOf_33 (by decide) ?_
          exact oc_zret hx hb hr hlocks va_S.rf dX13_isOf_37 rfl (oc_Ri (by rw [← ex9]; simp [oc_b, c29]))
      · -- not taken
        rw [oc_le (x := 6) (y := nI (q + j)) (a := 6) (b := (q + j)) rfl rfl (by omega) (by omega)] at c10
        refine lv_iload_n hx hb dX13_isOf_13 rfl (lv_at hl 1 rfl) ?_
        refine lv_bipush (v := 10) hx hb dX13_isOf_14 (by decide) ?_
        refine lv_idiv hx hb dX13_isOf_16 (by decide) ?_
        refine lv_istore_n (lv' := [(2, .int ((od_dv x j) / 10)), (3, .int (nI (q + j))), (0, .ref a), (1, .int x)]) hx hb dX13_isOf_17 rfl hl (by decide) rfl (fun ls hl => ?_)
        refine lv_iinc (v := nI (q + (j + 1))) (lv' := [(3, .int (nI (q + (j + 1)))), (2, .int ((od_dv x j) / 10)), (0, .ref a), (1, .int x)]) hx hb dX13_isOf_18 hl (k := 1) rfl (nI_1 (q + j)) (by decide) rfl (fun ls hl => ?_)
        refine lv_goto (tgt := 7) hx hb dX13_isOf_21 (by decide) ?_
        exact ih7 (j + 1) (by omega) (by omega) ls (lv_sub hl [0, 1, 2, 3] rfl)
  exact lp7 7 0 (by omega) (by omega) ls (lv_sub hl [0, 1, 2, 3] rfl)
