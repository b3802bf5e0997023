/-! ===== holds: of a factor, of a term, of a rule ===== -/
set_option maxHeartbeats 4000000 in
set_option maxRecDepth 100000 in
theorem kX8_holds_X9 {l : Launch} {s0 : State} {b0 : Addr} {D : va_G} {d : Nat → ClassId} (G : oc_G l s0 b0 D d) {H : Heap} {u : Nat → Nat} {I : Nat → Int32} {cd : Int32} {pr : Int64} (a : Nat) (x : Int32) (bq : Bool) (k : Nat) (t : Nat → Int32) (hk3 : k < 300) (hP : va_P D oc_cl ([(u 3, .inr (2, [.ref (u 6), .int (I 11), .int (I 12), .int (I 14), .int (I 15), .int (I 16), .int (I 17), .ref (u 4), .int cd, .long pr, .ref (u 5), .int (nI k)])), (u 5, .inl (d 0, 300, .inl t))] : va_W) H) (hD : va_D (va_A ([(u 3, .inr (2, [.ref (u 6), .int (I 11), .int (I 12), .int (I 14), .int (I 15), .int (I 16), .int (I 17), .ref (u 4), .int cd, .long pr, .ref (u 5), .int (nI k)])), (u 5, .inl (d 0, 300, .inl t))] : va_W) (Array.size H)) ([(u 3, .inr (2, [.ref (u 6), .int (I 11), .int (I 12), .int (I 14), .int (I 15), .int (I 16), .int (I 17), .ref (u 4), .int cd, .long pr, .ref (u 5), .int (nI k)])), (u 5, .inl (d 0, 300, .inl t))] : va_W)) (hN0 : ∀ z_9 ∈ ([(u 3, .inr (2, [.ref (u 6), .int (I 11), .int (I 12), .int (I 14), .int (I 15), .int (I 16), .int (I 17), .ref (u 4), .int cd, .long pr, .ref (u 5), .int (nI k)])), (u 5, .inl (d 0, 300, .inl t))] : va_W), s0.heap.size ≤ z_9.1) (ha : va_P D oc_cl ([(a, .inr (7, [.int x]))] : va_W) H) (ha_d : ∀ z_8 ∈ ([(a, .inr (7, [.int x]))] : va_W), ∀ z_9 ∈ ([(u 3, .inr (2, [.ref (u 6), .int (I 11), .int (I 12), .int (I 14), .int (I 15), .int (I 16), .int (I 17), .ref (u 4), .int cd, .long pr, .ref (u 5), .int (nI k)])), (u 5, .inl (d 0, 300, .inl t))] : va_W), z_8.1 ≠ z_9.1) (hIs : oc_C l s0 yX9_is (oc_rm 1 12 0 0) [.ref a, .ref (u 3)] H oc_N (oc_R (some (.int (oc_b bq))) H)) : oc_C l s0 yX8_holds (oc_rm 2 27 0 0) [.ref a, .ref (u 3)] H (va_A ([(u 3, .inr (2, [.ref (u 6), .int (I 11), .int (I 12), .int (I 14), .int (I 15), .int (I 16), .int (I 17), .ref (u 4), .int cd, .long pr, .ref (u 5), .int (nI k)])), (u 5, .inl (d 0, 300, .inl t))] : va_W) (Array.size H)) (oc_Pr (fun v H1 k1 n1 => v = some (.int (oc_b bq)) ∧ k1 = 0 ∧ n1 = 0 ∧ va_P D oc_cl ([(u 3, .inr (2, [.ref (u 6), .int (I 11), .int (I 12), .int (I 14), .int (I 15), .int (I 16), .int (I 17), .ref (u 4), .int cd, .long pr, .ref (u 5), .int (nI (k + 1))])), (u 5, .inl (d 0, 300, .inl (upd t k (2 * x + oc_b bq))))] : va_W) H1 ∧ va_D (va_A ([(u 3, .inr (2, [.ref (u 6), .int (I 11), .int (I 12), .int (I 14), .int (I 15), .int (I 16), .int (I 17), .ref (u 4), .int cd, .long pr, .ref (u 5), .int (nI k)])), (u 5, .inl (d 0, 300, .inl t))] : va_W) (Array.size H)) ([(u 3, .inr (2, [.ref (u 6), .int (I 11), .int (I 12), .int (I 14), .int (I 15), .int (I 16), .int (I 17), .ref (u 4), .int cd, .long pr, .ref (u 5), .int (nI (k + 1))])), (u 5, .inl (d 0, 300, .inl (upd t k (2 * x + oc_b bq))))] : va_W))) := by
  refine oc_start G (cc := cX8_holds) (L := 2) (ret := (Option.some Jvm.ClassFile.FieldType.boolean)) q670 (Nat.le_of_ble_eq_true rfl) ?_
  intro p e s m below meth c ls hx hok hb hml hr hlocks htab hown hts hK hmn hh hl
  subst hh
  have hl : lv_has ls 2 [(0, .ref a), (1, .ref (u 3))] := hl
  have hN0 := oc_N0 hok hN0
  have hA : ∀ q, Array.size s.heap ≤ q → (va_A ([(u 3, .inr (2, [.ref (u 6), .int (I 11), .int (I 12), .int (I 14), .int (I 15), .int (I 16), .int (I 17), .ref (u 4), .int cd, .long pr, .ref (u 5), .int (nI k)])), (u 5, .inl (d 0, 300, .inl t))] : va_W) (Array.size s.heap)) q := fun q z => Or.inr z
  have hS : va_S (va_A ([(u 3, .inr (2, [.ref (u 6), .int (I 11), .int (I 12), .int (I 14), .int (I 15), .int (I 16), .int (I 17), .ref (u 4), .int cd, .long pr, .ref (u 5), .int (nI k)])), (u 5, .inl (d 0, 300, .inl t))] : va_W) (Array.size s.heap)) s.heap s.heap [] := va_S.rf
  have ha_n : ∀ z_9 ∈ ([(a, .inr (7, [.int x]))] : va_W), ¬ (va_A ([(u 3, .inr (2, [.ref (u 6), .int (I 11), .int (I 12), .int (I 14), .int (I 15), .int (I 16), .int (I 17), .ref (u 4), .int cd, .long pr, .ref (u 5), .int (nI k)])), (u 5, .inl (d 0, 300, .inl t))] : va_W) (Array.size s.heap)) z_9.1 := oc_nA ha ha_d
  generalize hAe : (va_A ([(u 3, .inr (2, [.ref (u 6), .int (I 11), .int (I 12), .int (I 14), .int (I 15), .int (I 16), .int (I 17), .ref (u 4), .int cd, .long pr, .ref (u 5), .int (nI k)])), (u 5, .inl (d 0, 300, .inl t))] : va_W) (Array.size s.heap)) = A at *
  have ha_0 := ha
  refine lv_aload_n hx hb dX8_holds_0 rfl (lv_at hl 1 rfl) ?_
  refine lv_aload_n hx hb dX8_holds_1 rfl (lv_at hl 0 rfl) ?_
  refine va_get (D := D) (ci := 7) (v := .int x) (C := RX9) (T := TX9) (N := 1) hx hb hts in_X9 hown hK ha 0 rfl rfl 0 (by decide) (hts _ q343) (fun _ h9 => h9) rfl dX8_holds_2 ?_
  refine lv_aload_n hx hb dX8_holds_5 rfl (lv_at hl 0 rfl) ?_
  refine lv_aload_n hx hb dX8_holds_6 rfl (lv_at hl 1 rfl) ?_
  refine oc_callR1 hx hb hml hl.1 ⟨hok, hS, hN0⟩ (oc_iU (C := RX9) (owner := "OriginRules$Leaf") (y := yX9_is) (As := [.ref (u 3)]) (rest := [.int x, .ref (u 3)]) hx hb hown (hts _ q671) (hts _ q673) (oc_wD G hok q672) (hts _ q696) (hts _ q697) (va_recv hK ha (ci := 7) (q0 := 0) rfl rfl) ⟨by decide, by decide, (by decide +kernel : (parseMethodDescriptor "(LOriginRules$Good;)Z").map (fun d => d.parameters.length) = some 1)⟩ dX8_holds_7 rfl) (oc_M.of (by decide +kernel) (hts _ q698)) hIs dX8_holds_7 (Nat.le_of_ble_eq_true rfl) (Nat.le_of_ble_eq_true rfl) (by dsimp only [oc_rm]; omega) (by dsimp only [oc_rm]; omega) ?_
  have hF_ : ∀ q, va_A ([(u 3, .inr (2, [.ref (u 6), .int (I 11), .int (I 12), .int (I 14), .int (I 15), .int (I 16), .int (I 17), .ref (u 4), .int cd, .long pr, .ref (u 5), .int (nI k)])), (u 5, .inl (d 0, 300, .inl t))] : va_W) (Array.size s.heap) q → A q := va_free hD hS hA [0, 1] rfl
  refine oc_callP (A1 := va_A ([(u 3, .inr (2, [.ref (u 6), .int (I 11), .int (I 12), .int (I 14), .int (I 15), .int (I 16), .int (I 17), .ref (u 4), .int cd, .long pr, .ref (u 5), .int (nI k)])), (u 5, .inl (d 0, 300, .inl t))] : va_W) (Array.size s.heap)) hx hb hml hl.1 ⟨hok, hS, hN0⟩ (oc_iV (As := [.int x, .int (oc_b bq)]) (rest := []) hx hb hown (hts _ q703) (hts _ q704) (hts _ q705) (oc_Sig.of (hts _ q706) (by decide +kernel : (parseMethodDescriptor "(IZ)Z").map (fun d => d.parameters.length) = some 2)) (va_recv hK hP (ci := 2) (q0 := 0) rfl rfl) ⟨by decide, by decide⟩ dX8_holds_10 rfl) (oc_M.of (by decide +kernel) (hts _ q706)) (kX3_tell G x bq k t hk3 (hP.sub [0, 1] rfl) ((hD.sub [0, 1] rfl rfl).self) (oc_N1 hD hN0 [0, 1] rfl)) hF_ dX8_holds_10 (Nat.le_of_ble_eq_true rfl) (Nat.le_of_ble_eq_true rfl) (by dsimp only [oc_rm]; omega) (by dsimp only [oc_rm]; omega) (fun v_ H locs k_ n_ hp_ hz_ hk_ hS => ?_)
  obtain ⟨rfl, rfl, rfl, hP1, hD1⟩ := hp_
  obtain ⟨hP, hD⟩ := va_join (w1 := ([(u 3, .inr (2, [.ref (u 6), .int (I 11), .int (I 12), .int (I 14), .int (I 15), .int (I 16), .int (I 17), .ref (u 4), .int cd, .long pr, .ref (u 5), .int (nI (k + 1))])), (u 5, .inl (d 0, 300, .inl (upd t k (2 * x + oc_b bq))))] : va_W)) (wr := ([] : va_W)) hP hD [0, 1] [] rfl rfl rfl (by decide) hk_ hF_ hP1 hD1
  have hP : va_P D oc_cl ([(u 3, .inr (2, [.ref (u 6), .int (I 11), .int (I 12), .int (I 14), .int (I 15), .int (I 16), .int (I 17), .ref (u 4), .int cd, .long pr, .ref (u 5), .int (nI (k + 1))])), (u 5, .inl (d 0, 300, .inl (upd t k (2 * x + oc_b bq))))] : va_W) H := hP
  have hD : va_D A ([(u 3, .inr (2, [.ref (u 6), .int (I 11), .int (I 12), .int (I 14), .int (I 15), .int (I 16), .int (I 17), .ref (u 4), .int cd, .long pr, .ref (u 5), .int (nI (k + 1))])), (u 5, .inl (d 0, 300, .inl (upd t k (2 * x + oc_b bq))))] : va_W) := hD
  have ha : va_P D oc_cl ([(a, .inr (7, [.int x]))] : va_W) H := od_keep ha_0 ha_n hS
  refine W.eq (g2 := F0 m 13 ls [.int (oc_b bq)]) rfl ?_
  exact oc_zret hx hb hr hlocks hS dX8_holds_13 (oc_bn _) (⟨_, rfl, rfl, rfl, rfl, hP, hD⟩)
set_option maxHeartbeats 4000000 in
set_option maxRecDepth 100000 in
theorem kX8_holds_X10 {l : Launch} {s0 : State} {b0 : Addr} {D : va_G} {d : Nat → ClassId} (G : oc_G l s0 b0 D d) {H : Heap} {u : Nat → Nat} {I : Nat → Int32} {cd : Int32} {pr : Int64} (a : Nat) (x y : Int32) (bq : Bool) (k : Nat) (t : Nat → Int32) (hk3 : k < 300) (hP : va_P D oc_cl ([(u 3, .inr (2, [.ref (u 6), .int (I 11), .int (I 12), .int (I 14), .int (I 15), .int (I 16), .int (I 17), .ref (u 4), .int cd, .long pr, .ref (u 5), .int (nI k)])), (u 5, .inl (d 0, 300, .inl t))] : va_W) H) (hD : va_D (va_A ([(u 3, .inr (2, [.ref (u 6), .int (I 11), .int (I 12), .int (I 14), .int (I 15), .int (I 16), .int (I 17), .ref (u 4), .int cd, .long pr, .ref (u 5), .int (nI k)])), (u 5, .inl (d 0, 300, .inl t))] : va_W) (Array.size H)) ([(u 3, .inr (2, [.ref (u 6), .int (I 11), .int (I 12), .int (I 14), .int (I 15), .int (I 16), .int (I 17), .ref (u 4), .int cd, .long pr, .ref (u 5), .int (nI k)])), (u 5, .inl (d 0, 300, .inl t))] : va_W)) (hN0 : ∀ z_9 ∈ ([(u 3, .inr (2, [.ref (u 6), .int (I 11), .int (I 12), .int (I 14), .int (I 15), .int (I 16), .int (I 17), .ref (u 4), .int cd, .long pr, .ref (u 5), .int (nI k)])), (u 5, .inl (d 0, 300, .inl t))] : va_W), s0.heap.size ≤ z_9.1) (ha : va_P D oc_cl ([(a, .inr (8, [.int x, .int y]))] : va_W) H) (ha_d : ∀ z_8 ∈ ([(a, .inr (8, [.int x, .int y]))] : va_W), ∀ z_9 ∈ ([(u 3, .inr (2, [.ref (u 6), .int (I 11), .int (I 12), .int (I 14), .int (I 15), .int (I 16), .int (I 17), .ref (u 4), .int cd, .long pr, .ref (u 5), .int (nI k)])), (u 5, .inl (d 0, 300, .inl t))] : va_W), z_8.1 ≠ z_9.1) (hIs : oc_C l s0 yX10_is (oc_rm 4 65 0 0) [.ref a, .ref (u 3)] H oc_N (oc_R (some (.int (oc_b bq))) H)) : oc_C l s0 yX8_holds (oc_rm 5 80 0 0) [.ref a, .ref (u 3)] H (va_A ([(u 3, .inr (2, [.ref (u 6), .int (I 11), .int (I 12), .int (I 14), .int (I 15), .int (I 16), .int (I 17), .ref (u 4), .int cd, .long pr, .ref (u 5), .int (nI k)])), (u 5, .inl (d 0, 300, .inl t))] : va_W) (Array.size H)) (oc_Pr (fun v H1 k1 n1 => v = some (.int (oc_b bq)) ∧ k1 = 0 ∧ n1 = 0 ∧ va_P D oc_cl ([(u 3, .inr (2, [.ref (u 6), .int (I 11), .int (I 12), .int (I 14), .int (I 15), .int (I 16), .int (I 17), .ref (u 4), .int cd, .long pr, .ref (u 5), .int (nI (k + 1))])), (u 5, .inl (d 0, 300, .inl (upd t k (2 * x + oc_b bq))))] : va_W) H1 ∧ va_D (va_A ([(u 3, .inr (2, [.ref (u 6), .int (I 11), .int (I 12), .int (I 14), .int (I 15), .int (I 16), .int (I 17), .ref (u 4), .int cd, .long pr, .ref (u 5), .int (nI k)])), (u 5, .inl (d 0, 300, .inl t))] : va_W) (Array.size H)) ([(u 3, .inr (2, [.ref (u 6), .int (I 11), .int (I 12), .int (I 14), .int (I 15), .int (I 16), .int (I 17), .ref (u 4), .int cd, .long pr, .ref (u 5), .int (nI (k + 1))])), (u 5, .inl (d 0, 300, .inl (upd t k (2 * x + oc_b bq))))] : va_W))) := by
  refine oc_start G (cc := cX8_holds) (L := 2) (ret := (Option.some Jvm.ClassFile.FieldType.boolean)) q670 (Nat.le_of_ble_eq_true rfl) ?_
  intro p e s m below meth c ls hx hok hb hml hr hlocks htab hown hts hK hmn hh hl
  subst hh
  have hl : lv_has ls 2 [(0, .ref a), (1, .ref (u 3))] := hl
  have hN0 := oc_N0 hok hN0
  have hA : ∀ q, Array.size s.heap ≤ q → (va_A ([(u 3, .inr (2, [.ref (u 6), .int (I 11), .int (I 12), .int (I 14), .int (I 15), .int (I 16), .int (I 17), .ref (u 4), .int cd, .long pr, .ref (u 5), .int (nI k)])), (u 5, .inl (d 0, 300, .inl t))] : va_W) (Array.size s.heap)) q := fun q z => Or.inr z
  have hS : va_S (va_A ([(u 3, .inr (2, [.ref (u 6), .int (I 11), .int (I 12), .int (I 14), .int (I 15), .int (I 16), .int (I 17), .ref (u 4), .int cd, .long pr, .ref (u 5), .int (nI k)])), (u 5, .inl (d 0, 300, .inl t))] : va_W) (Array.size s.heap)) s.heap s.heap [] := va_S.rf
  have ha_n : ∀ z_9 ∈ ([(a, .inr (8, [.int x, .int y]))] : va_W), ¬ (va_A ([(u 3, .inr (2, [.ref (u 6), .int (I 11), .int (I 12), .int (I 14), .int (I 15), .int (I 16), .int (I 17), .ref (u 4), .int cd, .long pr, .ref (u 5), .int (nI k)])), (u 5, .inl (d 0, 300, .inl t))] : va_W) (Array.size s.heap)) z_9.1 := oc_nA ha ha_d
  generalize hAe : (va_A ([(u 3, .inr (2, [.ref (u 6), .int (I 11), .int (I 12), .int (I 14), .int (I 15), .int (I 16), .int (I 17), .ref (u 4), .int cd, .long pr, .ref (u 5), .int (nI k)])), (u 5, .inl (d 0, 300, .inl t))] : va_W) (Array.size s.heap)) = A at *
  have ha_0 := ha
  refine lv_aload_n hx hb dX8_holds_0 rfl (lv_at hl 1 rfl) ?_
  refine lv_aload_n hx hb dX8_holds_1 rfl (lv_at hl 0 rfl) ?_
  refine va_get (D := D) (ci := 8) (v := .int x) (C := RX10) (T := TX10) (N := 2) hx hb hts in_X10 hown hK ha 0 rfl rfl 0 (by decide) (hts _ q343) (fun _ h9 => h9) rfl dX8_holds_2 ?_
  refine lv_aload_n hx hb dX8_holds_5 rfl (lv_at hl 0 rfl) ?_
  refine lv_aload_n hx hb dX8_holds_6 rfl (lv_at hl 1 rfl) ?_
  refine oc_callR1 hx hb hml hl.1 ⟨hok, hS, hN0⟩ (oc_iU (C := RX10) (owner := "OriginRules$Leaf") (y := yX10_is) (As := [.ref (u 3)]) (rest := [.int x, .ref (u 3)]) hx hb hown (hts _ q671) (hts _ q673) (oc_wD G hok q672) (hts _ q674) (hts _ q675) (va_recv hK ha (ci := 8) (q0 := 0) rfl rfl) ⟨by decide, by decide, (by decide +kernel : (parseMethodDescriptor "(LOriginRules$Good;)Z").map (fun d => d.parameters.length) = some 1)⟩ dX8_holds_7 rfl) (oc_M.of (by decide +kernel) (hts _ q676)) hIs dX8_holds_7 (Nat.le_of_ble_eq_true rfl) (Nat.le_of_ble_eq_true rfl) (by dsimp only [oc_rm]; omega) (by dsimp only [oc_rm]; omega) ?_
  have hF_ : ∀ q, va_A ([(u 3, .inr (2, [.ref (u 6), .int (I 11), .int (I 12), .int (I 14), .int (I 15), .int (I 16), .int (I 17), .ref (u 4), .int cd, .long pr, .ref (u 5), .int (nI k)])), (u 5, .inl (d 0, 300, .inl t))] : va_W) (Array.size s.heap) q → A q := va_free hD hS hA [0, 1] rfl
  refine oc_callP (A1 := va_A ([(u 3, .inr (2, [.ref (u 6), .int (I 11), .int (I 12), .int (I 14), .int (I 15), .int (I 16), .int (I 17), .ref (u 4), .int cd, .long pr, .ref (u 5), .int (nI k)])), (u 5, .inl (d 0, 300, .inl t))] : va_W) (Array.size s.heap)) hx hb hml hl.1 ⟨hok, hS, hN0⟩ (oc_iV (As := [.int x, .int (oc_b bq)]) (rest := []) hx hb hown (hts _ q703) (hts _ q704) (hts _ q705) (oc_Sig.of (hts _ q706) (by decide +kernel : (parseMethodDescriptor "(IZ)Z").map (fun d => d.parameters.length) = some 2)) (va_recv hK hP (ci := 2) (q0 := 0) rfl rfl) ⟨by decide, by decide⟩ dX8_holds_10 rfl) (oc_M.of (by decide +kernel) (hts _ q706)) (kX3_tell G x bq k t hk3 (hP.sub [0, 1] rfl) ((hD.sub [0, 1] rfl rfl).self) (oc_N1 hD hN0 [0, 1] rfl)) hF_ dX8_holds_10 (Nat.le_of_ble_eq_true rfl) (Nat.le_of_ble_eq_true rfl) (by dsimp only [oc_rm]; omega) (by dsimp only [oc_rm]; omega) (fun v_ H locs k_ n_ hp_ hz_ hk_ hS => ?_)
  obtain ⟨rfl, rfl, rfl, hP1, hD1⟩ := hp_
  obtain ⟨hP, hD⟩ := va_join (w1 := ([(u 3, .inr (2, [.ref (u 6), .int (I 11), .int (I 12), .int (I 14), .int (I 15), .int (I 16), .int (I 17), .ref (u 4), .int cd, .long pr, .ref (u 5), .int (nI (k + 1))])), (u 5, .inl (d 0, 300, .inl (upd t k (2 * x + oc_b bq))))] : va_W)) (wr := ([] : va_W)) hP hD [0, 1] [] rfl rfl rfl (by decide) hk_ hF_ hP1 hD1
  have hP : va_P D oc_cl ([(u 3, .inr (2, [.ref (u 6), .int (I 11), .int (I 12), .int (I 14), .int (I 15), .int (I 16), .int (I 17), .ref (u 4), .int cd, .long pr, .ref (u 5), .int (nI (k + 1))])), (u 5, .inl (d 0, 300, .inl (upd t k (2 * x + oc_b bq))))] : va_W) H := hP
  have hD : va_D A ([(u 3, .inr (2, [.ref (u 6), .int (I 11), .int (I 12), .int (I 14), .int (I 15), .int (I 16), .int (I 17), .ref (u 4), .int cd, .long pr, .ref (u 5), .int (nI (k + 1))])), (u 5, .inl (d 0, 300, .inl (upd t k (2 * x + oc_b bq))))] : va_W) := hD
  have ha : va_P D oc_cl ([(a, .inr (8, [.int x, .int y]))] : va_W) H := od_keep ha_0 ha_n hS
  refine W.eq (g2 := F0 m 13 ls [.int (oc_b bq)]) rfl ?_
  exact oc_zret hx hb hr hlocks hS dX8_holds_13 (oc_bn _) (⟨_, rfl, rfl, rfl, rfl, hP, hD⟩)
set_option maxHeartbeats 4000000 in
set_option maxRecDepth 100000 in
theorem kX8_holds_X11 {l : Launch} {s0 : State} {b0 : Addr} {D : va_G} {d : Nat → ClassId} (G : oc_G l s0 b0 D d) {H : Heap} {u : Nat → Nat} {I : Nat → Int32} {cd : Int32} {pr : Int64} (a : Nat) (x y : Int32) (bq : Bool) (k : Nat) (t : Nat → Int32) (hk3 : k < 300) (hP : va_P D oc_cl ([(u 3, .inr (2, [.ref (u 6), .int (I 11), .int (I 12), .int (I 14), .int (I 15), .int (I 16), .int (I 17), .ref (u 4), .int cd, .long pr, .ref (u 5), .int (nI k)])), (u 5, .inl (d 0, 300, .inl t))] : va_W) H) (hD : va_D (va_A ([(u 3, .inr (2, [.ref (u 6), .int (I 11), .int (I 12), .int (I 14), .int (I 15), .int (I 16), .int (I 17), .ref (u 4), .int cd, .long pr, .ref (u 5), .int (nI k)])), (u 5, .inl (d 0, 300, .inl t))] : va_W) (Array.size H)) ([(u 3, .inr (2, [.ref (u 6), .int (I 11), .int (I 12), .int (I 14), .int (I 15), .int (I 16), .int (I 17), .ref (u 4), .int cd, .long pr, .ref (u 5), .int (nI k)])), (u 5, .inl (d 0, 300, .inl t))] : va_W)) (hN0 : ∀ z_9 ∈ ([(u 3, .inr (2, [.ref (u 6), .int (I 11), .int (I 12), .int (I 14), .int (I 15), .int (I 16), .int (I 17), .ref (u 4), .int cd, .long pr, .ref (u 5), .int (nI k)])), (u 5, .inl (d 0, 300, .inl t))] : va_W), s0.heap.size ≤ z_9.1) (ha : va_P D oc_cl ([(a, .inr (9, [.int x, .int y]))] : va_W) H) (ha_d : ∀ z_8 ∈ ([(a, .inr (9, [.int x, .int y]))] : va_W), ∀ z_9 ∈ ([(u 3, .inr (2, [.ref (u 6), .int (I 11), .int (I 12), .int (I 14), .int (I 15), .int (I 16), .int (I 17), .ref (u 4), .int cd, .long pr, .ref (u 5), .int (nI k)])), (u 5, .inl (d 0, 300, .inl t))] : va_W), z_8.1 ≠ z_9.1) (hIs : oc_C l s0 yX11_is (oc_rm 4 63 0 0) [.ref a, .ref (u 3)] H oc_N (oc_R (some (.int (oc_b bq))) H)) : oc_C l s0 yX8_holds (oc_rm 5 78 0 0) [.ref a, .ref (u 3)] H (va_A ([(u 3, .inr (2, [.ref (u 6), .int (I 11), .int (I 12), .int (I 14), .int (I 15), .int (I 16), .int (I 17), .ref (u 4), .int cd, .long pr, .ref (u 5), .int (nI k)])), (u 5, .inl (d 0, 300, .inl t))] : va_W) (Array.size H)) (oc_Pr (fun v H1 k1 n1 => v = some (.int (oc_b bq)) ∧ k1 = 0 ∧ n1 = 0 ∧ va_P D oc_cl ([(u 3, .inr (2, [.ref (u 6), .int (I 11), .int (I 12), .int (I 14), .int (I 15), .int (I 16), .int (I 17), .ref (u 4), .int cd, .long pr, .ref (u 5), .int (nI (k + 1))])), (u 5, .inl (d 0, 300, .inl (upd t k (2 * x + oc_b bq))))] : va_W) H1 ∧ va_D (va_A ([(u 3, .inr (2, [.ref (u 6), .int (I 11), .int (I 12), .int (I 14), .int (I 15), .int (I 16), .int (I 17), .ref (u 4), .int cd, .long pr, .ref (u 5), .int (nI k)])), (u 5, .inl (d 0, 300, .inl t))] : va_W) (Array.size H)) ([(u 3, .inr (2, [.ref (u 6), .int (I 11), .int (I 12), .int (I 14), .int (I 15), .int (I 16), .int (I 17), .ref (u 4), .int cd, .long pr, .ref (u 5), .int (nI (k + 1))])), (u 5, .inl (d 0, 300, .inl (upd t k (2 * x + oc_b bq))))] : va_W))) := by
  refine oc_start G (cc := cX8_holds) (L := 2) (ret := (Option.some Jvm.ClassFile.FieldType.boolean)) q670 (Nat.le_of_ble_eq_true rfl) ?_
  intro p e s m below meth c ls hx hok hb hml hr hlocks htab hown hts hK hmn hh hl
  subst hh
  have hl : lv_has ls 2 [(0, .ref a), (1, .ref (u 3))] := hl
  have hN0 := oc_N0 hok hN0
  have hA : ∀ q, Array.size s.heap ≤ q → (va_A ([(u 3, .inr (2, [.ref (u 6), .int (I 11), .int (I 12), .int (I 14), .int (I 15), .int (I 16), .int (I 17), .ref (u 4), .int cd, .long pr, .ref (u 5), .int (nI k)])), (u 5, .inl (d 0, 300, .inl t))] : va_W) (Array.size s.heap)) q := fun q z => Or.inr z
  have hS : va_S (va_A ([(u 3, .inr (2, [.ref (u 6), .int (I 11), .int (I 12), .int (I 14), .int (I 15), .int (I 16), .int (I 17), .ref (u 4), .int cd, .long pr, .ref (u 5), .int (nI k)])), (u 5, .inl (d 0, 300, .inl t))] : va_W) (Array.size s.heap)) s.heap s.heap [] := va_S.rf
  have ha_n : ∀ z_9 ∈ ([(a, .inr (9, [.int x, .int y]))] : va_W), ¬ (va_A ([(u 3, .inr (2, [.ref (u 6), .int (I 11), .int (I 12), .int (I 14), .int (I 15), .int (I 16), .int (I 17), .ref (u 4), .int cd, .long pr, .ref (u 5), .int (nI k)])), (u 5, .inl (d 0, 300, .inl t))] : va_W) (Array.size s.heap)) z_9.1 := oc_nA ha ha_d
  generalize hAe : (va_A ([(u 3, .inr (2, [.ref (u 6), .int (I 11), .int (I 12), .int (I 14), .int (I 15), .int (I 16), .int (I 17), .ref (u 4), .int cd, .long pr, .ref (u 5), .int (nI k)])), (u 5, .inl (d 0, 300, .inl t))] : va_W) (Array.size s.heap)) = A at *
  have ha_0 := ha
  refine lv_aload_n hx hb dX8_holds_0 rfl (lv_at hl 1 rfl) ?_
  refine lv_aload_n hx hb dX8_holds_1 rfl (lv_at hl 0 rfl) ?_
  refine va_get (D := D) (ci := 9) (v := .int x) (C := RX11) (T := TX11) (N := 2) hx hb hts in_X11 hown hK ha 0 rfl rfl 0 (by decide) (hts _ q343) (fun _ h9 => h9) rfl dX8_holds_2 ?_
  refine lv_aload_n hx hb dX8_holds_5 rfl (lv_at hl 0 rfl) ?_
  refine lv_aload_n hx hb dX8_holds_6 rfl (lv_at hl 1 rfl) ?_
  refine oc_callR1 hx hb hml hl.1 ⟨hok, hS, hN0⟩ (oc_iU (C := RX11) (owner := "OriginRules$Leaf") (y := yX11_is) (As := [.ref (u 3)]) (rest := [.int x, .ref (u 3)]) hx hb hown (hts _ q671) (hts _ q673) (oc_wD G hok q672) (hts _ q688) (hts _ q689) (va_recv hK ha (ci := 9) (q0 := 0) rfl rfl) ⟨by decide, by decide, (by decide +kernel : (parseMethodDescriptor "(LOriginRules$Good;)Z").map (fun d => d.parameters.length) = some 1)⟩ dX8_holds_7 rfl) (oc_M.of (by decide +kernel) (hts _ q690)) hIs dX8_holds_7 (Nat.le_of_ble_eq_true rfl) (Nat.le_of_ble_eq_true rfl) (by dsimp only [oc_rm]; omega) (by dsimp only [oc_rm]; omega) ?_
  have hF_ : ∀ q, va_A ([(u 3, .inr (2, [.ref (u 6), .int (I 11), .int (I 12), .int (I 14), .int (I 15), .int (I 16), .int (I 17), .ref (u 4), .int cd, .long pr, .ref (u 5), .int (nI k)])), (u 5, .inl (d 0, 300, .inl t))] : va_W) (Array.size s.heap) q → A q := va_free hD hS hA [0, 1] rfl
  refine oc_callP (A1 := va_A ([(u 3, .inr (2, [.ref (u 6), .int (I 11), .int (I 12), .int (I 14), .int (I 15), .int (I 16), .int (I 17), .ref (u 4), .int cd, .long pr, .ref (u 5), .int (nI k)])), (u 5, .inl (d 0, 300, .inl t))] : va_W) (Array.size s.heap)) hx hb hml hl.1 ⟨hok, hS, hN0⟩ (oc_iV (As := [.int x, .int (oc_b bq)]) (rest := []) hx hb hown (hts _ q703) (hts _ q704) (hts _ q705) (oc_Sig.of (hts _ q706) (by decide +kernel : (parseMethodDescriptor "(IZ)Z").map (fun d => d.parameters.length) = some 2)) (va_recv hK hP (ci := 2) (q0 := 0) rfl rfl) ⟨by decide, by decide⟩ dX8_holds_10 rfl) (oc_M.of (by decide +kernel) (hts _ q706)) (kX3_tell G x bq k t hk3 (hP.sub [0, 1] rfl) ((hD.sub [0, 1] rfl rfl).self) (oc_N1 hD hN0 [0, 1] rfl)) hF_ dX8_holds_10 (Nat.le_of_ble_eq_true rfl) (Nat.le_of_ble_eq_true rfl) (by dsimp only [oc_rm]; omega) (by dsimp only [oc_rm]; omega) (fun v_ H locs k_ n_ hp_ hz_ hk_ hS => ?_)
  obtain ⟨rfl, rfl, rfl, hP1, hD1⟩ := hp_
  obtain ⟨hP, hD⟩ := va_join (w1 := ([(u 3, .inr (2, [.ref (u 6), .int (I 11), .int (I 12), .int (I 14), .int (I 15), .int (I 16), .int (I 17), .ref (u 4), .int cd, .long pr, .ref (u 5), .int (nI (k + 1))])), (u 5, .inl (d 0, 300, .inl (upd t k (2 * x + oc_b bq))))] : va_W)) (wr := ([] : va_W)) hP hD [0, 1] [] rfl rfl rfl (by decide) hk_ hF_ hP1 hD1
  have hP : va_P D oc_cl ([(u 3, .inr (2, [.ref (u 6), .int (I 11), .int (I 12), .int (I 14), .int (I 15), .int (I 16), .int (I 17), .ref (u 4), .int cd, .long pr, .ref (u 5), .int (nI (k + 1))])), (u 5, .inl (d 0, 300, .inl (upd t k (2 * x + oc_b bq))))] : va_W) H := hP
  have hD : va_D A ([(u 3, .inr (2, [.ref (u 6), .int (I 11), .int (I 12), .int (I 14), .int (I 15), .int (I 16), .int (I 17), .ref (u 4), .int cd, .long pr, .ref (u 5), .int (nI (k + 1))])), (u 5, .inl (d 0, 300, .inl (upd t k (2 * x + oc_b bq))))] : va_W) := hD
  have ha : va_P D oc_cl ([(a, .inr (9, [.int x, .int y]))] : va_W) H := od_keep ha_0 ha_n hS
  refine W.eq (g2 := F0 m 13 ls [.int (oc_b bq)]) rfl ?_
  exact oc_zret hx hb hr hlocks hS dX8_holds_13 (oc_bn _) (⟨_, rfl, rfl, rfl, rfl, hP, hD⟩)
set_option maxHeartbeats 4000000 in
set_option maxRecDepth 100000 in
theorem kX8_holds_X12 {l : Launch} {s0 : State} {b0 : Addr} {D : va_G} {d : Nat → ClassId} (G : oc_G l s0 b0 D d) {H : Heap} {u : Nat → Nat} {I : Nat → Int32} {cd : Int32} {pr : Int64} (a : Nat) (x y : Int32) (bq : Bool) (k : Nat) (t : Nat → Int32) (hk3 : k < 300) (hP : va_P D oc_cl ([(u 3, .inr (2, [.ref (u 6), .int (I 11), .int (I 12), .int (I 14), .int (I 15), .int (I 16), .int (I 17), .ref (u 4), .int cd, .long pr, .ref (u 5), .int (nI k)])), (u 5, .inl (d 0, 300, .inl t))] : va_W) H) (hD : va_D (va_A ([(u 3, .inr (2, [.ref (u 6), .int (I 11), .int (I 12), .int (I 14), .int (I 15), .int (I 16), .int (I 17), .ref (u 4), .int cd, .long pr, .ref (u 5), .int (nI k)])), (u 5, .inl (d 0, 300, .inl t))] : va_W) (Array.size H)) ([(u 3, .inr (2, [.ref (u 6), .int (I 11), .int (I 12), .int (I 14), .int (I 15), .int (I 16), .int (I 17), .ref (u 4), .int cd, .long pr, .ref (u 5), .int (nI k)])), (u 5, .inl (d 0, 300, .inl t))] : va_W)) (hN0 : ∀ z_9 ∈ ([(u 3, .inr (2, [.ref (u 6), .int (I 11), .int (I 12), .int (I 14), .int (I 15), .int (I 16), .int (I 17), .ref (u 4), .int cd, .long pr, .ref (u 5), .int (nI k)])), (u 5, .inl (d 0, 300, .inl t))] : va_W), s0.heap.size ≤ z_9.1) (ha : va_P D oc_cl ([(a, .inr (10, [.int x, .int y]))] : va_W) H) (ha_d : ∀ z_8 ∈ ([(a, .inr (10, [.int x, .int y]))] : va_W), ∀ z_9 ∈ ([(u 3, .inr (2, [.ref (u 6), .int (I 11), .int (I 12), .int (I 14), .int (I 15), .int (I 16), .int (I 17), .ref (u 4), .int cd, .long pr, .ref (u 5), .int (nI k)])), (u 5, .inl (d 0, 300, .inl t))] : va_W), z_8.1 ≠ z_9.1) (hIs : oc_C l s0 yX12_is (oc_rm 0 0 0 0) [.ref a, .ref (u 3)] H oc_N (oc_R (some (.int (oc_b bq))) H)) : oc_C l s0 yX8_holds (oc_rm 1 15 0 0) [.ref a, .ref (u 3)] H (va_A ([(u 3, .inr (2, [.ref (u 6), .int (I 11), .int (I 12), .int (I 14), .int (I 15), .int (I 16), .int (I 17), .ref (u 4), .int cd, .long pr, .ref (u 5), .int (nI k)])), (u 5, .inl (d 0, 300, .inl t))] : va_W) (Array.size H)) (oc_Pr (fun v H1 k1 n1 => v = some (.int (oc_b bq)) ∧ k1 = 0 ∧ n1 = 0 ∧ va_P D oc_cl ([(u 3, .inr (2, [.ref (u 6), .int (I 11), .int (I 12), .int (I 14), .int (I 15), .int (I 16), .int (I 17), .ref (u 4), .int cd, .long pr, .ref (u 5), .int (nI (k + 1))])), (u 5, .inl (d 0, 300, .inl (upd t k (2 * x + oc_b bq))))] : va_W) H1 ∧ va_D (va_A ([(u 3, .inr (2, [.ref (u 6), .int (I 11), .int (I 12), .int (I 14), .int (I 15), .int (I 16), .int (I 17), .ref (u 4), .int cd, .long pr, .ref (u 5), .int (nI k)])), (u 5, .inl (d 0, 300, .inl t))] : va_W) (Array.size H)) ([(u 3, .inr (2, [.ref (u 6), .int (I 11), .int (I 12), .int (I 14), .int (I 15), .int (I 16), .int (I 17), .ref (u 4), .int cd, .long pr, .ref (u 5), .int (nI (k + 1))])), (u 5, .inl (d 0, 300, .inl (upd t k (2 * x + oc_b bq))))] : va_W))) := by
  refine oc_start G (cc := cX8_holds) (L := 2) (ret := (Option.some Jvm.ClassFile.FieldType.boolean)) q670 (Nat.le_of_ble_eq_true rfl) ?_
  intro p e s m below meth c ls hx hok hb hml hr hlocks htab hown hts hK hmn hh hl
  subst hh
  have hl : lv_has ls 2 [(0, .ref a), (1, .ref (u 3))] := hl
  have hN0 := oc_N0 hok hN0
  have hA : ∀ q, Array.size s.heap ≤ q → (va_A ([(u 3, .inr (2, [.ref (u 6), .int (I 11), .int (I 12), .int (I 14), .int (I 15), .int (I 16), .int (I 17), .ref (u 4), .int cd, .long pr, .ref (u 5), .int (nI k)])), (u 5, .inl (d 0, 300, .inl t))] : va_W) (Array.size s.heap)) q := fun q z => Or.inr z
  have hS : va_S (va_A ([(u 3, .inr (2, [.ref (u 6), .int (I 11), .int (I 12), .int (I 14), .int (I 15), .int (I 16), .int (I 17), .ref (u 4), .int cd, .long pr, .ref (u 5), .int (nI k)])), (u 5, .inl (d 0, 300, .inl t))] : va_W) (Array.size s.heap)) s.heap s.heap [] := va_S.rf
  have ha_n : ∀ z_9 ∈ ([(a, .inr (10, [.int x, .int y]))] : va_W), ¬ (va_A ([(u 3, .inr (2, [.ref (u 6), .int (I 11), .int (I 12), .int (I 14), .int (I 15), .int (I 16), .int (I 17), .ref (u 4), .int cd, .long pr, .ref (u 5), .int (nI k)])), (u 5, .inl (d 0, 300, .inl t))] : va_W) (Array.size s.heap)) z_9.1 := oc_nA ha ha_d
  generalize hAe : (va_A ([(u 3, .inr (2, [.ref (u 6), .int (I 11), .int (I 12), .int (I 14), .int (I 15), .int (I 16), .int (I 17), .ref (u 4), .int cd, .long pr, .ref (u 5), .int (nI k)])), (u 5, .inl (d 0, 300, .inl t))] : va_W) (Array.size s.heap)) = A at *
  have ha_0 := ha
  refine lv_aload_n hx hb dX8_holds_0 rfl (lv_at hl 1 rfl) ?_
  refine lv_aload_n hx hb dX8_holds_1 rfl (lv_at hl 0 rfl) ?_
  refine va_get (D := D) (ci := 10) (v := .int x) (C := RX12) (T := TX12) (N := 2) hx hb hts in_X12 hown hK ha 0 rfl rfl 0 (by decide) (hts _ q343) (fun _ h9 => h9) rfl dX8_holds_2 ?_
  refine lv_aload_n hx hb dX8_holds_5 rfl (lv_at hl 0 rfl) ?_
  refine lv_aload_n hx hb dX8_holds_6 rfl (lv_at hl 1 rfl) ?_
  refine oc_callR1 hx hb hml hl.1 ⟨hok, hS, hN0⟩ (oc_iU (C := RX12) (owner := "OriginRules$Leaf") (y := yX12_is) (As := [.ref (u 3)]) (rest := [.int x, .ref (u 3)]) hx hb hown (hts _ q671) (hts _ q673) (oc_wD G hok q672) (hts _ q685) (hts _ q686) (va_recv hK ha (ci := 10) (q0 := 0) rfl rfl) ⟨by decide, by decide, (by decide +kernel : (parseMethodDescriptor "(LOriginRules$Good;)Z").map (fun d => d.parameters.length) = some 1)⟩ dX8_holds_7 rfl) (oc_M.of (by decide +kernel) (hts _ q687)) hIs dX8_holds_7 (Nat.le_of_ble_eq_true rfl) (Nat.le_of_ble_eq_true rfl) (by dsimp only [oc_rm]; omega) (by dsimp only [oc_rm]; omega) ?_
  have hF_ : ∀ q, va_A ([(u 3, .inr (2, [.ref (u 6), .int (I 11), .int (I 12), .int (I 14), .int (I 15), .int (I 16), .int (I 17), .ref (u 4), .int cd, .long pr, .ref (u 5), .int (nI k)])), (u 5, .inl (d 0, 300, .inl t))] : va_W) (Array.size s.heap) q → A q := va_free hD hS hA [0, 1] rfl
  refine oc_callP (A1 := va_A ([(u 3, .inr (2, [.ref (u 6), .int (I 11), .int (I 12), .int (I 14), .int (I 15), .int (I 16), .int (I 17), .ref (u 4), .int cd, .long pr, .ref (u 5), .int (nI k)])), (u 5, .inl (d 0, 300, .inl t))] : va_W) (Array.size s.heap)) hx hb hml hl.1 ⟨hok, hS, hN0⟩ (oc_iV (As := [.int x, .int (oc_b bq)]) (rest := []) hx hb hown (hts _ q703) (hts _ q704) (hts _ q705) (oc_Sig.of (hts _ q706) (by decide +kernel : (parseMethodDescriptor "(IZ)Z").map (fun d => d.parameters.length) = some 2)) (va_recv hK hP (ci := 2) (q0 := 0) rfl rfl) ⟨by decide, by decide⟩ dX8_holds_10 rfl) (oc_M.of (by decide +kernel) (hts _ q706)) (kX3_tell G x bq k t hk3 (hP.sub [0, 1] rfl) ((hD.sub [0, 1] rfl rfl).self) (oc_N1 hD hN0 [0, 1] rfl)) hF_ dX8_holds_10 (Nat.le_of_ble_eq_true rfl) (Nat.le_of_ble_eq_true rfl) (by dsimp only [oc_rm]; omega) (by dsimp only [oc_rm]; omega) (fun v_ H locs k_ n_ hp_ hz_ hk_ hS => ?_)
  obtain ⟨rfl, rfl, rfl, hP1, hD1⟩ := hp_
  obtain ⟨hP, hD⟩ := va_join (w1 := ([(u 3, .inr (2, [.ref (u 6), .int (I 11), .int (I 12), .int (I 14), .int (I 15), .int (I 16), .int (I 17), .ref (u 4), .int cd, .long pr, .ref (u 5), .int (nI (k + 1))])), (u 5, .inl (d 0, 300, .inl (upd t k (2 * x + oc_b bq))))] : va_W)) (wr := ([] : va_W)) hP hD [0, 1] [] rfl rfl rfl (by decide) hk_ hF_ hP1 hD1
  have hP : va_P D oc_cl ([(u 3, .inr (2, [.ref (u 6), .int (I 11), .int (I 12), .int (I 14), .int (I 15), .int (I 16), .int (I 17), .ref (u 4), .int cd, .long pr, .ref (u 5), .int (nI (k + 1))])), (u 5, .inl (d 0, 300, .inl (upd t k (2 * x + oc_b bq))))] : va_W) H := hP
  have hD : va_D A ([(u 3, .inr (2, [.ref (u 6), .int (I 11), .int (I 12), .int (I 14), .int (I 15), .int (I 16), .int (I 17), .ref (u 4), .int cd, .long pr, .ref (u 5), .int (nI (k + 1))])), (u 5, .inl (d 0, 300, .inl (upd t k (2 * x + oc_b bq))))] : va_W) := hD
  have ha : va_P D oc_cl ([(a, .inr (10, [.int x, .int y]))] : va_W) H := od_keep ha_0 ha_n hS
  refine W.eq (g2 := F0 m 13 ls [.int (oc_b bq)]) rfl ?_
  exact oc_zret hx hb hr hlocks hS dX8_holds_13 (oc_bn _) (⟨_, rfl, rfl, rfl, rfl, hP, hD⟩)
theorem od_ntW {d : Nat → ClassId} {u : Nat → Nat} {I : Nat → Int32} {cd : Int32} {pr : Int64} {k : Nat} {t : Nat → Int32} {H : Heap} {q : Nat} (h1 : q < Array.size H) (h2 : q ≠ u 3) (h3 : q ≠ u 5) : ¬ va_A (od_tW d u I cd pr k t) (Array.size H) q := by
  intro h
  rcases h with ⟨i, e, hi⟩ | h
  · have := List.mem_of_getElem? hi
    simp only [List.mem_cons, Prod.mk.injEq, List.not_mem_nil, or_false] at this
    rcases this with h | h
    · exact h2 h.1
    · exact h3 h.1
  · omega
theorem od_all_t {S : od_Sm} {hv : Nat → Bool} {ss : List od_Sm} {i : Nat} (hi : ss[i]? = some S) : ss.drop i = S :: ss.drop (i + 1) := by
  obtain ⟨h, e⟩ := List.getElem?_eq_some_iff.mp hi
  rw [List.drop_eq_getElem_cons h, e]
set_option maxHeartbeats 4000000 in
set_option maxRecDepth 100000 in
theorem kX7_holds {l : Launch} {s0 : State} {b0 : Addr} {D : va_G} {d : Nat → ClassId} (G : oc_G l s0 b0 D d) {H : Heap} {u : Nat → Nat} {I : Nat → Int32} {F : Nat → Nat → Int32} {L : Nat → Int64} {N : Nat} {cd : Int32} {pr : Int64} (b : Nat) (hv : Nat → Bool) (FR LO : Nat) (Nd : Heap → Nat → od_Sm → Prop) (B : Nat → Prop) (a li ar cp : Nat) (el : Nat → Option Nat) (ss : List od_Sm) (k0 : Nat) (t0 : Nat → Int32) {E0 : Nat} (hP : va_P D oc_cl ([(u 3, .inr (2, [.ref (u 6), .int (I 11), .int (I 12), .int (I 14), .int (I 15), .int (I 16), .int (I 17), .ref (u 4), .int cd, .long pr, .ref (u 5), .int (nI k0)])), (u 5, .inl (d 0, 300, .inl t0))] : va_W) H) (hD : va_D (va_A ([(u 3, .inr (2, [.ref (u 6), .int (I 11), .int (I 12), .int (I 14), .int (I 15), .int (I 16), .int (I 17), .ref (u 4), .int cd, .long pr, .ref (u 5), .int (nI k0)])), (u 5, .inl (d 0, 300, .inl t0))] : va_W) (Array.size H)) ([(u 3, .inr (2, [.ref (u 6), .int (I 11), .int (I 12), .int (I 14), .int (I 15), .int (I 16), .int (I 17), .ref (u 4), .int cd, .long pr, .ref (u 5), .int (nI k0)])), (u 5, .inl (d 0, 300, .inl t0))] : va_W)) (hN0 : ∀ z_9 ∈ ([(u 3, .inr (2, [.ref (u 6), .int (I 11), .int (I 12), .int (I 14), .int (I 15), .int (I 16), .int (I 17), .ref (u 4), .int cd, .long pr, .ref (u 5), .int (nI k0)])), (u 5, .inl (d 0, 300, .inl t0))] : va_W), s0.heap.size ≤ z_9.1) (hk3 : k0 + (od_all ss hv).2.length ≤ 300) (hss : ss.length < 1000000) (hB3 : ∀ z, B z → z ≠ u 3 ∧ z ≠ u 5) (hBlt : ∀ z, B z → z < H.size) (hBa : B a) (hBl : B li) (hBr : ar ≠ E0 → B ar) (hna0 : va_at D oc_cl (a, .inr (6, [.ref li])) H) (hli0 : od_L D d E0 H li ar ss.length cp el) (hel : ∀ (i : Nat) (S : od_Sm), ss[i]? = some S → ∃ y : Nat, el i = some y ∧ Nd H y S) (hNk : ∀ (H H1 : Heap) y S, Nd H y S → (∀ z, B z → H1[z]? = H[z]?) → Nd H1 y S) (hCx : od_Cx D d E0 u F L N H) (hIH : ∀ (H : Heap) (y : Nat) (S : od_Sm) (k : Nat) (t : Nat → Int32), Nd H y S → od_Cx D d E0 u F L N H → va_P D oc_cl (od_tW d u I cd pr k t) H → k + (S hv).2.length ≤ 300 → od_Hc l s0 D d u I cd pr b hv FR LO H y S k t) : oc_C l s0 yX7_holds (oc_rm (FR + 3) (LO + 60) 0 0) [.ref a, .ref (u 3)] H (va_A ([(u 3, .inr (2, [.ref (u 6), .int (I 11), .int (I 12), .int (I 14), .int (I 15), .int (I 16), .int (I 17), .ref (u 4), .int cd, .long pr, .ref (u 5), .int (nI k0)])), (u 5, .inl (d 0, 300, .inl t0))] : va_W) (Array.size H)) (oc_Pr (od_PH D d u I cd pr b hv (od_all ss) k0 t0 (va_A ([(u 3, .inr (2, [.ref (u 6), .int (I 11), .int (I 12), .int (I 14), .int (I 15), .int (I 16), .int (I 17), .ref (u 4), .int cd, .long pr, .ref (u 5), .int (nI k0)])), (u 5, .inl (d 0, 300, .inl t0))] : va_W) (Array.size H)))) := by
  refine oc_start G (cc := cX7_holds) (L := 3) (ret := (Option.some Jvm.ClassFile.FieldType.boolean)) q648 (Nat.le_of_ble_eq_true rfl) ?_
  intro p e s m below meth c ls hx hok hb hml hr hlocks htab hown hts hK hmn hh hl
  subst hh
  have hl : lv_has ls 3 [(0, .ref a), (1, .ref (u 3))] := hl
  have hN0 := oc_N0 hok hN0
  have hA : ∀ q, Array.size s.heap ≤ q → (va_A ([(u 3, .inr (2, [.ref (u 6), .int (I 11), .int (I 12), .int (I 14), .int (I 15), .int (I 16), .int (I 17), .ref (u 4), .int cd, .long pr, .ref (u 5), .int (nI k0)])), (u 5, .inl (d 0, 300, .inl t0))] : va_W) (Array.size s.heap)) q := fun q z => Or.inr z
  have hS : va_S (va_A ([(u 3, .inr (2, [.ref (u 6), .int (I 11), .int (I 12), .int (I 14), .int (I 15), .int (I 16), .int (I 17), .ref (u 4), .int cd, .long pr, .ref (u 5), .int (nI k0)])), (u 5, .inl (d 0, 300, .inl t0))] : va_W) (Array.size s.heap)) s.heap s.heap [] := va_S.rf
  generalize hAe : (va_A ([(u 3, .inr (2, [.ref (u 6), .int (I 11), .int (I 12), .int (I 14), .int (I 15), .int (I 16), .int (I 17), .ref (u 4), .int cd, .long pr, .ref (u 5), .int (nI k0)])), (u 5, .inl (d 0, 300, .inl t0))] : va_W) (Array.size s.heap)) = A at *
  have hBk : ∀ H1 : Heap, (∀ q, q < Array.size s.heap → q ≠ u 3 → q ≠ u 5 → H1[q]? = s.heap[q]?) → ∀ z, B z → H1[z]? = s.heap[z]? := fun H1 h z hz => h z (hBlt z hz) (hB3 z hz).1 (hB3 z hz).2
  refine lv_iconst (v := 0) hx hb dX7_holds_0 (by decide) ?_
  refine lv_istore_n (lv' := [(2, .int 0), (0, .ref a), (1, .ref (u 3))]) hx hb dX7_holds_1 rfl hl (by decide) rfl (fun ls hl => ?_)
  have lp2 : ∀ (n : Nat) (i : Nat) (k : Nat) (t : Nat → Int32), (i ≤ ss.length) → (ss.length + 1 ≤ i + n) → ((od_all ss hv).1 = (od_all (ss.drop i) hv).1) → (od_lg b hv (od_all ss hv).2 (k0, t0) = od_lg b hv (od_all (ss.drop i) hv).2 (k, t)) → (k + (od_all (ss.drop i) hv).2.length ≤ 300) → ∀ (H : Heap) (locs : List Loc), va_P D oc_cl (od_tW d u I cd pr k t) H → va_D A (od_tW d u I cd pr k t) → va_S A s.heap H locs → ∀ (ls : Array Slot), lv_has ls 3 [(2, .int (nI i)), (0, .ref a), (1, .ref (u 3))] → W p l e (oc_rm (FR + 3) (LO + 60) 0 0) s m ([.ref a, .ref (u 3)] : List Value).toArray below meth c H locs 0 0 (oc_Q A below s (oc_Pr (od_PH D d u I cd pr b hv (od_all ss) k0 t0 A))) (F0 m 2 ls []) := by
    intro n
    induction n with
    | zero => intro i k t hi hn hres hlog hlen H locs hP hD hS ls hl; exact absurd hn (by omega)
    | succ n ih2 =>
      intro i k t hi hn hres hlog hlen H locs hP hD hS ls hl
      have hSk : ∀ q, q < Array.size s.heap → q ≠ u 3 → q ≠ u 5 → H[q]? = s.heap[q]? := fun q h1 h2 h3 => hS.2.1 q h1 (by rw [← hAe]; exact od_ntW h1 h2 h3)
      have hna := hna0.kept (hBk H hSk _ hBa)
      have hli := hli0.kept (hBk H hSk _ hBl) (fun z => hBk H hSk _ (hBr z))
      refine lv_iload_n hx hb dX7_holds_2 rfl (lv_at hl 0 rfl) ?_
      refine lv_aload_n hx hb dX7_holds_3 rfl (lv_at hl 1 rfl) ?_
      refine va_get (D := D) (ci := 6) (v := .ref li) (C := RX7) (T := TX7) (N := 1) hx hb hts in_X7 hown hK (oc_P1 hna) 0 rfl rfl 0 (by decide) (hts _ q326) (fun _ h9 => h9) rfl dX7_holds_4 ?_
      refine oc_callR1 hx hb hml hl.1 ⟨hok, hS, hN0⟩ (oc_iV (As := []) (rest := [.int (nI i)]) hx hb hown (hts _ q649) (hts _ q468) (hts _ q469) (oc_Sig.of (hts _ q470) (by decide +kernel : (parseMethodDescriptor "()I").map (fun d => d.parameters.length) = some 0)) (od_recv hK hli) ⟨by decide, by decide⟩ dX7_holds_7 rfl) (oc_M.of (by decide +kernel) (hts _ q470)) (od_size G hli) dX7_holds_7 (by dsimp only [oc_rm]; omega) (by simp only [oc_rm, List.map_cons, List.map_nil, List.sum_cons, List.sum_nil, Value.category]; omega) (by dsimp only [oc_rm]; omega) (by dsimp only [oc_rm]; omega) ?_
      refine lv_icmp_ge (x := nI i) (y := nI ss.length) (tgt := 39) hx hb dX7_holds_10 (by decide) (fun c10 => ?_) (fun c10 => ?_)
      · -- taken
        rw [oc_le (x := nI ss.length) (y := nI i) (a := ss.length) (b := i) rfl rfl (by omega) (by omega)] at c10
        have hiN : i = ss.length := by omega
        rw [hiN, List.drop_length] at hres hlog
        have hres : (od_all ss hv).1 = true := hres
        have hlog : od_lg b hv (od_all ss hv).2 (k0, t0) = (k, t) := hlog
        refine lv_iload_n hx hb dX7_holds_39 rfl (lv_at hl 0 rfl) ?_
        refine lv_aload_n hx hb dX7_holds_40 rfl (lv_at hl 1 rfl) ?_
        refine va_get (D := D) (ci := 6) (v := .ref li) (C := RX7) (T := TX7) (N := 1) hx hb hts in_X7 hown hK (oc_P1 hna) 0 rfl rfl 0 (by decide) (hts _ q326) (fun _ h9 => h9) rfl dX7_holds_41 ?_
        refine oc_callR1 hx hb hml hl.1 ⟨hok, hS, hN0⟩ (oc_iV (As := []) (rest := [.int (nI i)]) hx hb hown (hts _ q649) (hts _ q468) (hts _ q469) (oc_Sig.of (hts _ q470) (by decide +kernel : (parseMethodDescriptor "()I").map (fun d => d.parameters.length) = some 0)) (od_recv hK hli) ⟨by decide, by decide⟩ dX7_holds_44 rfl) (oc_M.of (by decide +kernel) (hts _ q470)) (od_size G hli) dX7_holds_44 (by dsimp only [oc_rm]; omega) (by simp only [oc_rm, List.map_cons, List.map_nil, List.sum_cons, List.sum_nil, Value.category]; omega) (by dsimp only [oc_rm]; omega) (by dsimp only [oc_rm]; omega) ?_
        refine lv_icmp_ne (x := nI i) (y := nI ss.length) (tgt := 54) hx hb dX7_holds_47 (by decide) (fun c47 => ?_) (fun c47 => ?_)
        · -- taken
          rw [oc_eq (x := nI i) (y := nI ss.length) (a := i) (b := ss.length) rfl rfl (by omega) (by omega)] at c47
          exact absurd c47 (by omega)
        · -- not taken
          rw [oc_eq (x := nI i) (y := nI ss.length) (a := i) (b := ss.length) rfl rfl (by omega) (by omega)] at c47
          refine lv_iconst (v := 1) hx hb dX7_holds_50 (by decide) ?_
          refine lv_goto (tgt := 55) hx hb dX7_holds_51 (by decide) ?_
          exact oc_zret hx hb hr hlocks hS dX7_holds_55 rfl (⟨_, rfl, by rw [hres]; rfl, rfl, rfl, by rw [hlog]; exact hP, by rw [hlog]; exact hD⟩)
      · -- not taken
        rw [oc_le (x := nI ss.length) (y := nI i) (a := ss.length) (b := i) rfl rfl (by omega) (by omega)] at c10
        have hilt : i < ss.length := by omega
        obtain ⟨Si, hSi⟩ : ∃ Si, ss[i]? = some Si := ⟨_, List.getElem?_eq_getElem hilt⟩
        obtain ⟨yi, hyi, hNi0⟩ := hel i Si hSi
        have hNi : Nd H yi Si := hNk s.heap H yi Si hNi0 (hBk H hSk)
        have hdr := od_all_t (hv := hv) hSi
        rw [hdr] at hres hlog hlen
        have hle9 : (Si hv).2.length ≤ (od_all (Si :: ss.drop (i + 1)) hv).2.length := by simp only [od_all]; split <;> simp
        obtain ⟨C8, y8, n8, fr8, lo8, hf8, -, -, hrc8, -⟩ := hIH H yi Si k t hNi (hCx.kept hSk) hP (by omega)
        have hw8 := od_fF (args := #[]) G hok hf8
        refine lv_aload_n hx hb dX7_holds_13 rfl (lv_at hl 1 rfl) ?_
        refine va_get (D := D) (ci := 6) (v := .ref li) (C := RX7) (T := TX7) (N := 1) hx hb hts in_X7 hown hK (oc_P1 hna) 0 rfl rfl 0 (by decide) (hts _ q326) (fun _ h9 => h9) rfl dX7_holds_14 ?_
        refine lv_iload_n hx hb dX7_holds_17 rfl (lv_at hl 0 rfl) ?_
        refine oc_callR1 hx hb hml hl.1 ⟨hok, hS, hN0⟩ (oc_iV (As := [.int (nI i)]) (rest := []) hx hb hown (hts _ q650) (hts _ q514) (hts _ q515) (oc_Sig.of (hts _ q516) (by decide +kernel : (parseMethodDescriptor "(I)Ljava/lang/Object;").map (fun d => d.parameters.length) = some 1)) (od_recv hK hli) ⟨by decide, by decide⟩ dX7_holds_18 rfl) (oc_M.of (by decide +kernel) (hts _ q516)) (od_get G hli (k := i) hilt hyi) dX7_holds_18 (by dsimp only [oc_rm]; omega) (by simp only [oc_rm, List.map_cons, List.map_nil, List.sum_cons, List.sum_nil, Value.category]; omega) (by dsimp only [oc_rm]; omega) (by dsimp only [oc_rm]; omega) ?_
        refine va_castY hx hb hown (hts _ q651) (oc_wC G hok hw8.2.2.2.2.2) (hrc8 s hok) dX7_holds_21 ?_
        refine lv_aload_n hx hb dX7_holds_24 rfl (lv_at hl 2 rfl) ?_
        obtain ⟨C9, y9, n9, fr9, lo9, hf9, hfr9, hlo9, hrc9, hC9⟩ := hIH H yi Si k t hNi (hCx.kept hSk) hP (by omega)
        have hw9 := od_fF (args := ([.ref a, .ref (u 3)] : List Value).toArray) G hok hf9
        have hF_ : ∀ q, va_A (od_tW d u I cd pr k t) (Array.size H) q → A q := va_free hD hS hA [0, 1] rfl
        refine oc_callP (A1 := va_A (od_tW d u I cd pr k t) (Array.size H)) hx hb hml hl.1 ⟨hok, hS, hN0⟩ (oc_iF (C := C9) (x := od_x) (As := [.ref (u 3)]) (rest := []) hx hb hown (hts _ q653) hw9.1 hw9.2.1 hw9.2.2.1 (hrc9 s hok) ⟨by decide, by decide, (by decide +kernel : (parseMethodDescriptor "(LOriginRules$Good;)Z").map (fun d => d.parameters.length) = some 1)⟩ dX7_holds_25 rfl) hw9.2.2.2.1 hC9 hF_ dX7_holds_25 (by dsimp only [oc_rm]; omega) (by have := hw9.2.2.2.2.1; simp only [oc_rm, List.map_nil, List.sum_nil]; omega) (by dsimp only [oc_rm]; omega) (by dsimp only [oc_rm]; omega) (fun v_ H locs k_ n_ hp_ hz_ hk_ hS => ?_)
        obtain ⟨rfl, rfl, rfl, hP1, hD1⟩ := hp_
        have hP := hP1
        have hD : va_D A (od_tW d u I cd pr (od_lg b hv (Si hv).2 (k, t)).1 (od_lg b hv (Si hv).2 (k, t)).2) := oc_Dcong hD rfl
        have hSk : ∀ q, q < Array.size s.heap → q ≠ u 3 → q ≠ u 5 → H[q]? = s.heap[q]? := fun q h1 h2 h3 => hS.2.1 q h1 (by rw [← hAe]; exact od_ntW h1 h2 h3)
        refine W.eq (g2 := F0 m 30 ls [.int (oc_b (Si hv).1)]) rfl ?_
        have hna := hna0.kept (hBk H hSk _ hBa)
        have hli := hli0.kept (hBk H hSk _ hBl) (fun z => hBk H hSk _ (hBr z))
        refine lv_if_eq (x := oc_b (Si hv).1) (tgt := 39) hx hb dX7_holds_30 (by decide) (fun c30 => ?_) (fun c30 => ?_)
        · -- taken
          rw [oc_b0] at c30
          have hb9 : (Si hv).1 = false := c30
          have hres : (od_all ss hv).1 = false := by rw [hres]; simp [od_all, hb9]
          have hlog : od_lg b hv (od_all ss hv).2 (k0, t0) = od_lg b hv (Si hv).2 (k, t) := by rw [hlog]; simp [od_all, hb9]
          refine lv_iload_n hx hb dX7_holds_39 rfl (lv_at hl 0 rfl) ?_
          refine lv_aload_n hx hb dX7_holds_40 rfl (lv_at hl 1 rfl) ?_
          refine va_get (D := D) (ci := 6) (v := .ref li) (C := RX7) (T := TX7) (N := 1) hx hb hts in_X7 hown hK (oc_P1 hna) 0 rfl rfl 0 (by decide) (hts _ q326) (fun _ h9 => h9) rfl dX7_holds_41 ?_
          refine oc_callR1 hx hb hml hl.1 ⟨hok, hS, hN0⟩ (oc_iV (As := []) (rest := [.int (nI i)]) hx hb hown (hts _ q649) (hts _ q468) (hts _ q469) (oc_Sig.of (hts _ q470) (by decide +kernel : (parseMethodDescriptor "()I").map (fun d => d.parameters.length) = some 0)) (od_recv hK hli) ⟨by decide, by decide⟩ dX7_holds_44 rfl) (oc_M.of (by decide +kernel) (hts _ q470)) (od_size G hli) dX7_holds_44 (by dsimp only [oc_rm]; omega) (by simp only [oc_rm, List.map_cons, List.map_nil, List.sum_cons, List.sum_nil, Value.category]; omega) (by dsimp only [oc_rm]; omega) (by dsimp only [oc_rm]; omega) ?_
          refine lv_icmp_ne (x := nI i) (y := nI ss.length) (tgt := 54) hx hb dX7_holds_47 (by decide) (fun c47 => ?_) (fun c47 => ?_)
          · -- taken
            rw [oc_eq (x := nI i) (y := nI ss.length) (a := i) (b := ss.length) rfl rfl (by omega) (by omega)] at c47
            refine lv_iconst (v := 0) hx hb dX7_holds_54 (by decide) ?_
            exact oc_zret hx hb hr hlocks hS dX7_holds_55 rfl (⟨_, rfl, by rw [hres]; rfl, rfl, rfl, by rw [hlog]; exact hP, by rw [hlog]; exact hD⟩)
          · -- not taken
            rw [oc_eq (x := nI i) (y := nI ss.length) (a := i) (b := ss.length) rfl rfl (by omega) (by omega)] at c47
            exact absurd c47 (by omega)
        · -- not taken
          rw [oc_b0] at c30
          rw [Bool.not_eq_false] at c30
          have hb9 : (Si hv).1 = true := c30
          have hres2 : (od_all ss hv).1 = (od_all (ss.drop (i + 1)) hv).1 := by rw [hres]; simp [od_all, hb9]
          have hsp : (od_all (Si :: ss.drop (i + 1)) hv).2 = (Si hv).2 ++ (od_all (ss.drop (i + 1)) hv).2 := by simp [od_all, hb9]
          have hlog2 : od_lg b hv (od_all ss hv).2 (k0, t0) = od_lg b hv (od_all (ss.drop (i + 1)) hv).2 ((od_lg b hv (Si hv).2 (k, t)).1, (od_lg b hv (Si hv).2 (k, t)).2) := by rw [hlog, hsp, od_lg_app]
          have hlen2 : (od_lg b hv (Si hv).2 (k, t)).1 + (od_all (ss.drop (i + 1)) hv).2.length ≤ 300 := by rw [od_lg_len]; rw [hsp, List.length_append] at hlen; show k + (Si hv).2.length + _ ≤ 300; omega
          refine lv_iinc (v := nI (i + 1)) (lv' := [(2, .int (nI (i + 1))), (0, .ref a), (1, .ref (u 3))]) hx hb dX7_holds_33 hl (k := 0) rfl (nI_1 i) (by decide) rfl (fun ls hl => ?_)
          refine lv_goto (tgt := 2) hx hb dX7_holds_36 (by decide) ?_
          exact ih2 (i + 1) (od_lg b hv (Si hv).2 (k, t)).1 (od_lg b hv (Si hv).2 (k, t)).2 (by omega) (by omega) hres2 hlog2 hlen2 H locs hP hD hS ls (lv_sub hl [0, 1, 2] rfl)
  exact lp2 (ss.length + 1) 0 k0 t0 (by omega) (by omega) rfl rfl (by simpa using hk3) s.heap [] hP hD hS ls (lv_sub hl [0, 1, 2] rfl)
set_option maxHeartbeats 4000000 in
set_option maxRecDepth 100000 in
theorem kX6_holds {l : Launch} {s0 : State} {b0 : Addr} {D : va_G} {d : Nat → ClassId} (G : oc_G l s0 b0 D d) {H : Heap} {u : Nat → Nat} {I : Nat → Int32} {F : Nat → Nat → Int32} {L : Nat → Int64} {N : Nat} {cd : Int32} {pr : Int64} (b : Nat) (hv : Nat → Bool) (FR LO : Nat) (Nd : Heap → Nat → od_Sm → Prop) (B : Nat → Prop) (a li ar cp : Nat) (el : Nat → Option Nat) (ss : List od_Sm) (k0 : Nat) (t0 : Nat → Int32) {E0 : Nat} (hP : va_P D oc_cl ([(u 3, .inr (2, [.ref (u 6), .int (I 11), .int (I 12), .int (I 14), .int (I 15), .int (I 16), .int (I 17), .ref (u 4), .int cd, .long pr, .ref (u 5), .int (nI k0)])), (u 5, .inl (d 0, 300, .inl t0))] : va_W) H) (hD : va_D (va_A ([(u 3, .inr (2, [.ref (u 6), .int (I 11), .int (I 12), .int (I 14), .int (I 15), .int (I 16), .int (I 17), .ref (u 4), .int cd, .long pr, .ref (u 5), .int (nI k0)])), (u 5, .inl (d 0, 300, .inl t0))] : va_W) (Array.size H)) ([(u 3, .inr (2, [.ref (u 6), .int (I 11), .int (I 12), .int (I 14), .int (I 15), .int (I 16), .int (I 17), .ref (u 4), .int cd, .long pr, .ref (u 5), .int (nI k0)])), (u 5, .inl (d 0, 300, .inl t0))] : va_W)) (hN0 : ∀ z_9 ∈ ([(u 3, .inr (2, [.ref (u 6), .int (I 11), .int (I 12), .int (I 14), .int (I 15), .int (I 16), .int (I 17), .ref (u 4), .int cd, .long pr, .ref (u 5), .int (nI k0)])), (u 5, .inl (d 0, 300, .inl t0))] : va_W), s0.heap.size ≤ z_9.1) (hk3 : k0 + (od_any ss hv).2.length ≤ 300) (hss : ss.length < 1000000) (hB3 : ∀ z, B z → z ≠ u 3 ∧ z ≠ u 5) (hBlt : ∀ z, B z → z < H.size) (hBa : B a) (hBl : B li) (hBr : ar ≠ E0 → B ar) (hna0 : va_at D oc_cl (a, .inr (5, [.ref li])) H) (hli0 : od_L D d E0 H li ar ss.length cp el) (hel : ∀ (i : Nat) (S : od_Sm), ss[i]? = some S → ∃ y : Nat, el i = some y ∧ Nd H y S) (hNk : ∀ (H H1 : Heap) y S, Nd H y S → (∀ z, B z → H1[z]? = H[z]?) → Nd H1 y S) (hCx : od_Cx D d E0 u F L N H) (hIH : ∀ (H : Heap) (y : Nat) (S : od_Sm) (k : Nat) (t : Nat → Int32), Nd H y S → od_Cx D d E0 u F L N H → va_P D oc_cl (od_tW d u I cd pr k t) H → k + (S hv).2.length ≤ 300 → od_Hc l s0 D d u I cd pr b hv FR LO H y S k t) : oc_C l s0 yX6_holds (oc_rm (FR + 3) (LO + 60) 0 0) [.ref a, .ref (u 3)] H (va_A ([(u 3, .inr (2, [.ref (u 6), .int (I 11), .int (I 12), .int (I 14), .int (I 15), .int (I 16), .int (I 17), .ref (u 4), .int cd, .long pr, .ref (u 5), .int (nI k0)])), (u 5, .inl (d 0, 300, .inl t0))] : va_W) (Array.size H)) (oc_Pr (od_PH D d u I cd pr b hv (od_any ss) k0 t0 (va_A ([(u 3, .inr (2, [.ref (u 6), .int (I 11), .int (I 12), .int (I 14), .int (I 15), .int (I 16), .int (I 17), .ref (u 4), .int cd, .long pr, .ref (u 5), .int (nI k0)])), (u 5, .inl (d 0, 300, .inl t0))] : va_W) (Array.size H)))) := by
  refine oc_start G (cc := cX6_holds) (L := 3) (ret := (Option.some Jvm.ClassFile.FieldType.boolean)) q659 (Nat.le_of_ble_eq_true rfl) ?_
  intro p e s m below meth c ls hx hok hb hml hr hlocks htab hown hts hK hmn hh hl
  subst hh
  have hl : lv_has ls 3 [(0, .ref a), (1, .ref (u 3))] := hl
  have hN0 := oc_N0 hok hN0
  have hA : ∀ q, Array.size s.heap ≤ q → (va_A ([(u 3, .inr (2, [.ref (u 6), .int (I 11), .int (I 12), .int (I 14), .int (I 15), .int (I 16), .int (I 17), .ref (u 4), .int cd, .long pr, .ref (u 5), .int (nI k0)])), (u 5, .inl (d 0, 300, .inl t0))] : va_W) (Array.size s.heap)) q := fun q z => Or.inr z
  have hS : va_S (va_A ([(u 3, .inr (2, [.ref (u 6), .int (I 11), .int (I 12), .int (I 14), .int (I 15), .int (I 16), .int (I 17), .ref (u 4), .int cd, .long pr, .ref (u 5), .int (nI k0)])), (u 5, .inl (d 0, 300, .inl t0))] : va_W) (Array.size s.heap)) s.heap s.heap [] := va_S.rf
  generalize hAe : (va_A ([(u 3, .inr (2, [.ref (u 6), .int (I 11), .int (I 12), .int (I 14), .int (I 15), .int (I 16), .int (I 17), .ref (u 4), .int cd, .long pr, .ref (u 5), .int (nI k0)])), (u 5, .inl (d 0, 300, .inl t0))] : va_W) (Array.size s.heap)) = A at *
  have hBk : ∀ H1 : Heap, (∀ q, q < Array.size s.heap → q ≠ u 3 → q ≠ u 5 → H1[q]? = s.heap[q]?) → ∀ z, B z → H1[z]? = s.heap[z]? := fun H1 h z hz => h z (hBlt z hz) (hB3 z hz).1 (hB3 z hz).2
  refine lv_iconst (v := 0) hx hb dX6_holds_0 (by decide) ?_
  refine lv_istore_n (lv' := [(2, .int 0), (0, .ref a), (1, .ref (u 3))]) hx hb dX6_holds_1 rfl hl (by decide) rfl (fun ls hl => ?_)
  have lp2 : ∀ (n : Nat) (i : Nat) (k : Nat) (t : Nat → Int32), (i ≤ ss.length) → (ss.length + 1 ≤ i + n) → ((od_any ss hv).1 = (od_any (ss.drop i) hv).1) → (od_lg b hv (od_any ss hv).2 (k0, t0) = od_lg b hv (od_any (ss.drop i) hv).2 (k, t)) → (k + (od_any (ss.drop i) hv).2.length ≤ 300) → ∀ (H : Heap) (locs : List Loc), va_P D oc_cl (od_tW d u I cd pr k t) H → va_D A (od_tW d u I cd pr k t) → va_S A s.heap H locs → ∀ (ls : Array Slot), lv_has ls 3 [(2, .int (nI i)), (0, .ref a), (1, .ref (u 3))] → W p l e (oc_rm (FR + 3) (LO + 60) 0 0) s m ([.ref a, .ref (u 3)] : List Value).toArray below meth c H locs 0 0 (oc_Q A below s (oc_Pr (od_PH D d u I cd pr b hv (od_any ss) k0 t0 A))) (F0 m 2 ls []) := by
    intro n
    induction n with
    | zero => intro i k t hi hn hres hlog hlen H locs hP hD hS ls hl; exact absurd hn (by omega)
    | succ n ih2 =>
      intro i k t hi hn hres hlog hlen H locs hP hD hS ls hl
      have hSk : ∀ q, q < Array.size s.heap → q ≠ u 3 → q ≠ u 5 → H[q]? = s.heap[q]? := fun q h1 h2 h3 => hS.2.1 q h1 (by rw [← hAe]; exact od_ntW h1 h2 h3)
      have hna := hna0.kept (hBk H hSk _ hBa)
      have hli := hli0.kept (hBk H hSk _ hBl) (fun z => hBk H hSk _ (hBr z))
      refine lv_iload_n hx hb dX6_holds_2 rfl (lv_at hl 0 rfl) ?_
      refine lv_aload_n hx hb dX6_holds_3 rfl (lv_at hl 1 rfl) ?_
      refine va_get (D := D) (ci := 5) (v := .ref li) (C := RX6) (T := TX6) (N := 1) hx hb hts in_X6 hown hK (oc_P1 hna) 0 rfl rfl 0 (by decide) (hts _ q310) (fun _ h9 => h9) rfl dX6_holds_4 ?_
      refine oc_callR1 hx hb hml hl.1 ⟨hok, hS, hN0⟩ (oc_iV (As := []) (rest := [.int (nI i)]) hx hb hown (hts _ q660) (hts _ q468) (hts _ q469) (oc_Sig.of (hts _ q470) (by decide +kernel : (parseMethodDescriptor "()I").map (fun d => d.parameters.length) = some 0)) (od_recv hK hli) ⟨by decide, by decide⟩ dX6_holds_7 rfl) (oc_M.of (by decide +kernel) (hts _ q470)) (od_size G hli) dX6_holds_7 (by dsimp only [oc_rm]; omega) (by simp only [oc_rm, List.map_cons, List.map_nil, List.sum_cons, List.sum_nil, Value.category]; omega) (by dsimp only [oc_rm]; omega) (by dsimp only [oc_rm]; omega) ?_
      refine lv_icmp_ge (x := nI i) (y := nI ss.length) (tgt := 39) hx hb dX6_holds_10 (by decide) (fun c10 => ?_) (fun c10 => ?_)
      · -- taken
        rw [oc_le (x := nI ss.length) (y := nI i) (a := ss.length) (b := i) rfl rfl (by omega) (by omega)] at c10
        have hiN : i = ss.length := by omega
        rw [hiN, List.drop_length] at hres hlog
        have hres : (od_any ss hv).1 = false := hres
        have hlog : od_lg b hv (od_any ss hv).2 (k0, t0) = (k, t) := hlog
        refine lv_iload_n hx hb dX6_holds_39 rfl (lv_at hl 0 rfl) ?_
        refine lv_aload_n hx hb dX6_holds_40 rfl (lv_at hl 1 rfl) ?_
        refine va_get (D := D) (ci := 5) (v := .ref li) (C := RX6) (T := TX6) (N := 1) hx hb hts in_X6 hown hK (oc_P1 hna) 0 rfl rfl 0 (by decide) (hts _ q310) (fun _ h9 => h9) rfl dX6_holds_41 ?_
        refine oc_callR1 hx hb hml hl.1 ⟨hok, hS, hN0⟩ (oc_iV (As := []) (rest := [.int (nI i)]) hx hb hown (hts _ q660) (hts _ q468) (hts _ q469) (oc_Sig.of (hts _ q470) (by decide +kernel : (parseMethodDescriptor "()I").map (fun d => d.parameters.length) = some 0)) (od_recv hK hli) ⟨by decide, by decide⟩ dX6_holds_44 rfl) (oc_M.of (by decide +kernel) (hts _ q470)) (od_size G hli) dX6_holds_44 (by dsimp only [oc_rm]; omega) (by simp only [oc_rm, List.map_cons, List.map_nil, List.sum_cons, List.sum_nil, Value.category]; omega) (by dsimp only [oc_rm]; omega) (by dsimp only [oc_rm]; omega) ?_
        refine lv_icmp_ge (x := nI i) (y := nI ss.length) (tgt := 54) hx hb dX6_holds_47 (by decide) (fun c47 => ?_) (fun c47 => ?_)
        · -- taken
          rw [oc_le (x := nI ss.length) (y := nI i) (a := ss.length) (b := i) rfl rfl (by omega) (by omega)] at c47
          refine lv_iconst (v := 0) hx hb dX6_holds_54 (by decide) ?_
          exact oc_zret hx hb hr hlocks hS dX6_holds_55 rfl (⟨_, rfl, by rw [hres]; rfl, rfl, rfl, by rw [hlog]; exact hP, by rw [hlog]; exact hD⟩)
        · -- not taken
          rw [oc_le (x := nI ss.length) (y := nI i) (a := ss.length) (b := i) rfl rfl (by omega) (by omega)] at c47
          exact absurd c47 (by omega)
      · -- not taken
        rw [oc_le (x := nI ss.length) (y := nI i) (a := ss.length) (b := i) rfl rfl (by omega) (by omega)] at c10
        have hilt : i < ss.length := by omega
        obtain ⟨Si, hSi⟩ : ∃ Si, ss[i]? = some Si := ⟨_, List.getElem?_eq_getElem hilt⟩
        obtain ⟨yi, hyi, hNi0⟩ := hel i Si hSi
        have hNi : Nd H yi Si := hNk s.heap H yi Si hNi0 (hBk H hSk)
        have hdr := od_all_t (hv := hv) hSi
        rw [hdr] at hres hlog hlen
        have hle9 : (Si hv).2.length ≤ (od_any (Si :: ss.drop (i + 1)) hv).2.length := by simp only [od_any]; split <;> simp
        obtain ⟨C8, y8, n8, fr8, lo8, hf8, -, -, hrc8, -⟩ := hIH H yi Si k t hNi (hCx.kept hSk) hP (by omega)
        have hw8 := od_fF (args := #[]) G hok hf8
        refine lv_aload_n hx hb dX6_holds_13 rfl (lv_at hl 1 rfl) ?_
        refine va_get (D := D) (ci := 5) (v := .ref li) (C := RX6) (T := TX6) (N := 1) hx hb hts in_X6 hown hK (oc_P1 hna) 0 rfl rfl 0 (by decide) (hts _ q310) (fun _ h9 => h9) rfl dX6_holds_14 ?_
        refine lv_iload_n hx hb dX6_holds_17 rfl (lv_at hl 0 rfl) ?_
        refine oc_callR1 hx hb hml hl.1 ⟨hok, hS, hN0⟩ (oc_iV (As := [.int (nI i)]) (rest := []) hx hb hown (hts _ q661) (hts _ q514) (hts _ q515) (oc_Sig.of (hts _ q516) (by decide +kernel : (parseMethodDescriptor "(I)Ljava/lang/Object;").map (fun d => d.parameters.length) = some 1)) (od_recv hK hli) ⟨by decide, by decide⟩ dX6_holds_18 rfl) (oc_M.of (by decide +kernel) (hts _ q516)) (od_get G hli (k := i) hilt hyi) dX6_holds_18 (by dsimp only [oc_rm]; omega) (by simp only [oc_rm, List.map_cons, List.map_nil, List.sum_cons, List.sum_nil, Value.category]; omega) (by dsimp only [oc_rm]; omega) (by dsimp only [oc_rm]; omega) ?_
        refine va_castY hx hb hown (hts _ q662) (oc_wC G hok hw8.2.2.2.2.2) (hrc8 s hok) dX6_holds_21 ?_
        refine lv_aload_n hx hb dX6_holds_24 rfl (lv_at hl 2 rfl) ?_
        obtain ⟨C9, y9, n9, fr9, lo9, hf9, hfr9, hlo9, hrc9, hC9⟩ := hIH H yi Si k t hNi (hCx.kept hSk) hP (by omega)
        have hw9 := od_fF (args := ([.ref a, .ref (u 3)] : List Value).toArray) G hok hf9
        have hF_ : ∀ q, va_A (od_tW d u I cd pr k t) (Array.size H) q → A q := va_free hD hS hA [0, 1] rfl
        refine oc_callP (A1 := va_A (od_tW d u I cd pr k t) (Array.size H)) hx hb hml hl.1 ⟨hok, hS, hN0⟩ (oc_iF (C := C9) (x := od_x) (As := [.ref (u 3)]) (rest := []) hx hb hown (hts _ q664) hw9.1 hw9.2.1 hw9.2.2.1 (hrc9 s hok) ⟨by decide, by decide, (by decide +kernel : (parseMethodDescriptor "(LOriginRules$Good;)Z").map (fun d => d.parameters.length) = some 1)⟩ dX6_holds_25 rfl) hw9.2.2.2.1 hC9 hF_ dX6_holds_25 (by dsimp only [oc_rm]; omega) (by have := hw9.2.2.2.2.1; simp only [oc_rm, List.map_nil, List.sum_nil]; omega) (by dsimp only [oc_rm]; omega) (by dsimp only [oc_rm]; omega) (fun v_ H locs k_ n_ hp_ hz_ hk_ hS => ?_)
        obtain ⟨rfl, rfl, rfl, hP1, hD1⟩ := hp_
        have hP := hP1
        have hD : va_D A (od_tW d u I cd pr (od_lg b hv (Si hv).2 (k, t)).1 (od_lg b hv (Si hv).2 (k, t)).2) := oc_Dcong hD rfl
        have hSk : ∀ q, q < Array.size s.heap → q ≠ u 3 → q ≠ u 5 → H[q]? = s.heap[q]? := fun q h1 h2 h3 => hS.2.1 q h1 (by rw [← hAe]; exact od_ntW h1 h2 h3)
        refine W.eq (g2 := F0 m 30 ls [.int (oc_b (Si hv).1)]) rfl ?_
        have hna := hna0.kept (hBk H hSk _ hBa)
        have hli := hli0.kept (hBk H hSk _ hBl) (fun z => hBk H hSk _ (hBr z))
        refine lv_if_ne (x := oc_b (Si hv).1) (tgt := 39) hx hb dX6_holds_30 (by decide) (fun c30 => ?_) (fun c30 => ?_)
        · -- taken
          rw [oc_b0] at c30
          rw [Bool.not_eq_false] at c30
          have hb9 : (Si hv).1 = true := c30
          have hres : (od_any ss hv).1 = true := by rw [hres]; simp [od_any, hb9]
          have hlog : od_lg b hv (od_any ss hv).2 (k0, t0) = od_lg b hv (Si hv).2 (k, t) := by rw [hlog]; simp [od_any, hb9]
          refine lv_iload_n hx hb dX6_holds_39 rfl (lv_at hl 0 rfl) ?_
          refine lv_aload_n hx hb dX6_holds_40 rfl (lv_at hl 1 rfl) ?_
          refine va_get (D := D) (ci := 5) (v := .ref li) (C := RX6) (T := TX6) (N := 1) hx hb hts in_X6 hown hK (oc_P1 hna) 0 rfl rfl 0 (by decide) (hts _ q310) (fun _ h9 => h9) rfl dX6_holds_41 ?_
          refine oc_callR1 hx hb hml hl.1 ⟨hok, hS, hN0⟩ (oc_iV (As := []) (rest := [.int (nI i)]) hx hb hown (hts _ q660) (hts _ q468) (hts _ q469) (oc_Sig.of (hts _ q470) (by decide +kernel : (parseMethodDescriptor "()I").map (fun d => d.parameters.length) = some 0)) (od_recv hK hli) ⟨by decide, by decide⟩ dX6_holds_44 rfl) (oc_M.of (by decide +kernel) (hts _ q470)) (od_size G hli) dX6_holds_44 (by dsimp only [oc_rm]; omega) (by simp only [oc_rm, List.map_cons, List.map_nil, List.sum_cons, List.sum_nil, Value.category]; omega) (by dsimp only [oc_rm]; omega) (by dsimp only [oc_rm]; omega) ?_
          refine lv_icmp_ge (x := nI i) (y := nI ss.length) (tgt := 54) hx hb dX6_holds_47 (by decide) (fun c47 => ?_) (fun c47 => ?_)
          · -- taken
            rw [oc_le (x := nI ss.length) (y := nI i) (a := ss.length) (b := i) rfl rfl (by omega) (by omega)] at c47
            exact absurd c47 (by omega)
          · -- not taken
            rw [oc_le (x := nI ss.length) (y := nI i) (a := ss.length) (b := i) rfl rfl (by omega) (by omega)] at c47
            refine lv_iconst (v := 1) hx hb dX6_holds_50 (by decide) ?_
            refine lv_goto (tgt := 55) hx hb dX6_holds_51 (by decide) ?_
            exact oc_zret hx hb hr hlocks hS dX6_holds_55 rfl (⟨_, rfl, by rw [hres]; rfl, rfl, rfl, by rw [hlog]; exact hP, by rw [hlog]; exact hD⟩)
        · -- not taken
          rw [oc_b0] at c30
          have hb9 : (Si hv).1 = false := c30
          have hres2 : (od_any ss hv).1 = (od_any (ss.drop (i + 1)) hv).1 := by rw [hres]; simp [od_any, hb9]
          have hsp : (od_any (Si :: ss.drop (i + 1)) hv).2 = (Si hv).2 ++ (od_any (ss.drop (i + 1)) hv).2 := by simp [od_any, hb9]
          have hlog2 : od_lg b hv (od_any ss hv).2 (k0, t0) = od_lg b hv (od_any (ss.drop (i + 1)) hv).2 ((od_lg b hv (Si hv).2 (k, t)).1, (od_lg b hv (Si hv).2 (k, t)).2) := by rw [hlog, hsp, od_lg_app]
          have hlen2 : (od_lg b hv (Si hv).2 (k, t)).1 + (od_any (ss.drop (i + 1)) hv).2.length ≤ 300 := by rw [od_lg_len]; rw [hsp, List.length_append] at hlen; show k + (Si hv).2.length + _ ≤ 300; omega
          refine lv_iinc (v := nI (i + 1)) (lv' := [(2, .int (nI (i + 1))), (0, .ref a), (1, .ref (u 3))]) hx hb dX6_holds_33 hl (k := 0) rfl (nI_1 i) (by decide) rfl (fun ls hl => ?_)
          refine lv_goto (tgt := 2) hx hb dX6_holds_36 (by decide) ?_
          exact ih2 (i + 1) (od_lg b hv (Si hv).2 (k, t)).1 (od_lg b hv (Si hv).2 (k, t)).2 (by omega) (by omega) hres2 hlog2 hlen2 H locs hP hD hS ls (lv_sub hl [0, 1, 2] rfl)
  exact lp2 (ss.length + 1) 0 k0 t0 (by omega) (by omega) rfl rfl (by simpa using hk3) s.heap [] hP hD hS ls (lv_sub hl [0, 1, 2] rfl)
