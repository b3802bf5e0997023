/-! ===== OriginRules: read ===== -/
theorem oc_Ex.recv {s0 s : State} {C : String} {H : Heap} {a : Nat} (h : oc_Ex s0 C H a) (hok : oc_Ok s0 s) : oc_recv C a s H := by
  obtain ⟨cell, h1, h2, h3⟩ := h
  exact ⟨cell, h1, h2, by rw [hok.1.alike.findClass]; exact h3⟩
theorem od_u12 {A : Nat → Prop} {d : Nat → ClassId} {u : Nat → Nat} {rw : Nat} {cd : Int32} {pr : Int64} {at0 be de at1 be1 de1 : Int32} {I : Nat → Int32} {F : Nat → Nat → Int32} {N : Nat} {e : va_E} (h : va_D A (od_cW d u rw cd pr at0 be de I F)) : ∀ z_8 ∈ ([(u 2, e)] : va_W), ∀ z_9 ∈ od_rW (u 1) (u 2) N at1 be1 de1, z_8.1 ≠ z_9.1 := by
  intro x hx y hy
  simp only [List.mem_cons, List.not_mem_nil, or_false] at hx hy
  subst hx
  subst hy
  exact fun z => absurd (h.1 2 1 _ _ rfl rfl z) (by decide)
/-- behind read: the rows are new, or it stays where something is wrong -/
def od_PRd (D : va_G) (d : Nat → ClassId) (E0 : Nat) (u : Nat → Nat) (rw : Nat) (cd : Int32) (pr : Int64) (I : Nat → Int32) (F : Nat → Nat → Int32) (N : Nat) (T6 f nm : Nat → Int32) (H : Heap) (A : Nat → Prop) : Option Value → Heap → Nat → Nat → Prop := fun v H1 k n => k ≤ 20 * N + 30 ∧ n ≤ 300 * N + 200 ∧
  ((∃ (li ar cp : Nat) (el : Nat → Option Nat) (rs : List od_Rd) (be de : Int32), v = some (.int (nI rs.length)) ∧ 1 ≤ rs.length ∧ rs.length ≤ 20 ∧ od_LB D d E0 (od_dW D d E0 f nm (F 1)) (Array.size H) (u 1) H1 li ar cp el rs ∧ va_P D oc_cl (od_cW d u li cd pr (nI N) be de (upd I 2 0) F) H1 ∧ va_D A (od_cW d u li cd pr (nI N) be de (upd I 2 0) F) ∧ (∃ g v, od_AU (F 1) T6 N 0 0 g v rs.length) ∧ ∀ i x, rs[i]? = some x → od_RwP f (F 1) T6 N i x) ∨
   ∃ (p : Nat) (be de : Int32), p ≤ N ∧ v = some (.int (-1 - nI p)) ∧ od_ER (F 1) T6 N p ∧ va_P D oc_cl (od_cW d u rw cd pr (nI p) be de (upd I 2 0) F) H1 ∧ va_D A (od_cW d u rw cd pr (nI p) be de (upd I 2 0) F))
set_option maxHeartbeats 4000000 in
set_option maxRecDepth 100000 in
theorem kX1_read {l : Launch} {s0 : State} {b0 : Addr} {D : va_G} {d : Nat → ClassId} (G : oc_G l s0 b0 D d) {H : Heap} {u : Nat → Nat} {rw : Nat} {cd : Int32} {pr : Int64} {at0 be de : Int32} {I : Nat → Int32} {F : Nat → Nat → Int32} {E0 : Nat} (N mi : Nat) (T6 f nm : Nat → Int32) (hn : I 2 = nI N) (hN3 : N ≤ 300) (hM0 : va_Mi "[Ljava/lang/Object;" mi s0) (hE : oc_E s0 E0) (h1s : s0.heap.size ≤ u 1) (hTf : ∀ q, q < N → f q = F 1 q) (hnm : ∀ q j, 1 ≤ j → od_ds (F 1) N (q + 1) j → oc_dig (od_lk (F 1) N (q + 1 + j)) = false → nm q = oc_nm (F 1) (q + 1) j) (hP : va_P D oc_cl (od_cW d u rw cd pr at0 be de I F) H) (hD : va_D (va_A (od_cW d u rw cd pr at0 be de I F) (Array.size H)) (od_cW d u rw cd pr at0 be de I F)) (hN0 : ∀ z_9 ∈ (od_cW d u rw cd pr at0 be de I F), s0.heap.size ≤ z_9.1) : oc_C l s0 yX1_read (oc_rm 351 5914 (20 * N + 30) (300 * N + 200)) [.ref (u 0)] H (va_A (od_cW d u rw cd pr at0 be de I F) (Array.size H)) (oc_Pr (od_PRd D d E0 u rw cd pr I F N T6 f nm H (va_A (od_cW d u rw cd pr at0 be de I F) (Array.size H)))) := by
  refine oc_startW G (cc := cX1_read) (L := 3) (ret := (Option.some Jvm.ClassFile.FieldType.int)) q199 (Nat.le_of_ble_eq_true rfl) ?_
  intro p e s m below meth c ls hx hok hb hml hr hlocks htab hown hts hK hmn hh hl
  subst hh
  have hl : lv_has ls 3 [(0, .ref (u 0))] := hl
  have hN0 := oc_N0 hok hN0
  have hA : ∀ q, Array.size s.heap ≤ q → (va_A (od_cW d u rw cd pr at0 be de I F) (Array.size s.heap)) q := fun q z => Or.inr z
  have hS : va_S (va_A (od_cW d u rw cd pr at0 be de I F) (Array.size s.heap)) s.heap s.heap [] := va_S.rf
  generalize hAe : (va_A (od_cW d u rw cd pr at0 be de I F) (Array.size s.heap)) = A at *
  have hus : u 0 < Array.size s.heap ∧ u 1 < Array.size s.heap := ⟨(hP 0 _ rfl).lt, (hP 1 _ rfl).lt⟩
  refine lv_iconst (v := 0) hx hb dX1_read_0 (by decide) ?_
  refine lv_istore_n (lv' := [(1, .int 0), (0, .ref (u 0))]) hx hb dX1_read_1 rfl hl (by decide) rfl (fun ls hl => ?_)
  have hP : va_P D oc_cl (od_cW d u rw cd pr at0 be de (upd I 2 (nI N)) F) s.heap := by rw [← hn, od_upd_id]; exact hP
  have hD : va_D A (od_cW d u rw cd pr at0 be de (upd I 2 (nI N)) F) := by rw [← hn, od_upd_id]; exact hD
  refine lv_aload_n hx hb dX1_read_2 rfl (lv_at hl 1 rfl) ?_
  refine lv_aload_n hx hb dX1_read_3 rfl (lv_at hl 1 rfl) ?_
  refine va_get (D := D) (ci := 0) (v := .ref (u 1)) (C := RX1) (T := TX1) (N := 4) hx hb hts in_X1 hown hK hP 0 rfl rfl 0 (by decide) (hts _ q174) (fun _ h9 => h9) rfl dX1_read_4 ?_
  have hF_ : ∀ q, va_A (od_rW (u 1) (u 2) N at0 be de) (Array.size s.heap) q → A q := va_free hD hS hA [1] rfl
  have hu12 : ∀ z_8 ∈ ([(u 2, .inl (d 2, 300, .inl (F 1)))] : va_W), ∀ z_9 ∈ (od_rW (u 1) (u 2) N at0 be de), z_8.1 ≠ z_9.1 := od_u12 hD
  have hsz_ := hS.1
  refine oc_callRT (A1 := va_A (od_rW (u 1) (u 2) N at0 be de) (Array.size s.heap)) hx hb hml hl.1 ⟨hok, hS, hN0⟩ (oc_iV (As := []) (rest := [.ref (u 0)]) hx hb hown (hts _ q201) (hts _ q202) (hts _ q203) (oc_Sig.of (hts _ q204) (by decide +kernel : (parseMethodDescriptor "()Ljava/util/ArrayList;").map (fun d => d.parameters.length) = some 0)) (va_recv hK hP (ci := 1) (q0 := 1) rfl rfl) ⟨by decide, by decide⟩ dX1_read_7 rfl) (oc_M.of (by decide +kernel) (hts _ q204)) (kX2_rows G (u 1) (u 2) N mi at0 be de (F 1) T6 f nm hN3 hM0 h1s (hP.sub [1] rfl) ((hD.sub [1] rfl rfl).self) (oc_N1 hD hN0 [1] rfl) (hP.sub [2] rfl) hu12 hE hTf hnm) hF_ dX1_read_7 (Nat.le_of_ble_eq_true rfl) (Nat.le_of_ble_eq_true rfl) (by dsimp only [oc_rm]; omega) (by dsimp only [oc_rm]; omega) (fun v_ H locs k_ n_ hp_ hz_ hk_ hS => ?_) (fun a_ H locs k_ n_ hp_ hz_ hk_ hS => ?_)
  ·
    obtain ⟨li, ar, cp, el, rs, be2, de2, rfl, hrs1, hrs2, hLB, hP1, hD1, hAU, hRw, hk9, hn9⟩ := hp_
    obtain ⟨hP, hD⟩ := va_join (w1 := od_rW (u 1) (u 2) N (nI N) be2 de2) (wr := ([(u 0, .inr (0, [.ref (u 1), .ref rw, .ref (u 3), .ref (u 7)])), (u 2, .inl (d 2, 300, .inl (F 1))), (u 3, .inr (2, [.ref (u 6), .int (I 11), .int (I 12), .int (I 14), .int (I 15), .int (I 16), .int (I 17), .ref (u 4), .int cd, .long pr, .ref (u 5), .int (I 22)])), (u 4, .inl (d 1, 100, .inl (F 13))), (u 5, .inl (d 0, 300, .inl (F 23)))] : va_W)) hP hD [1] [0, 2, 3, 4, 5] rfl rfl rfl (by decide) hk_ hF_ hP1 hD1
    have hP : va_P D oc_cl (od_cW d u rw cd pr (nI N) be2 de2 (upd I 2 (nI N)) F) H := hP.sub [0, 5, 1, 2, 3, 4] rfl
    have hD : va_D A (od_cW d u rw cd pr (nI N) be2 de2 (upd I 2 (nI N)) F) := hD.sub [0, 5, 1, 2, 3, 4] rfl rfl
    have hL9 := hLB.1
    refine W.eq (g2 := F0 m 10 ls [.ref li, .ref (u 0)]) rfl ?_
    refine oc_put (D := D) (ci := 0) (v := .ref li) (ty := (.object "java/util/ArrayList")) (C := RX1) (T := TX1) (N := 4) hx hb hts in_X1 tyX1 tyX1_ok nmX1 hown hK hP hD hS 0 rfl rfl 1 (by decide) (hts _ q175) (fun _ h9 => h9) rfl (by decide +kernel) rfl rfl (Nat.le_of_ble_eq_true rfl) dX1_read_10 (fun H locs hz2 ho2 hP hD hS => ?_)
    have hP : va_P D oc_cl (od_cW d u li cd pr (nI N) be2 de2 (upd I 2 (nI N)) F) H := hP
    have hD : va_D A (od_cW d u li cd pr (nI N) be2 de2 (upd I 2 (nI N)) F) := hD
    have hus : u 0 < Array.size s.heap ∧ u 1 < Array.size s.heap := hus
    have hLB := hLB.kept od_NdW (by omega) (fun z9 h9 h8 => ho2 z9 (by omega))
    have hL9 := hLB.1
    refine lv_aload_n hx hb dX1_read_13 rfl (lv_at hl 1 rfl) ?_
    refine va_get (D := D) (ci := 0) (v := .ref li) (C := RX1) (T := TX1) (N := 4) hx hb hts in_X1 hown hK hP 0 rfl rfl 1 (by decide) (hts _ q175) (fun _ h9 => h9) rfl dX1_read_14 ?_
    refine oc_callR1 hx hb hml hl.1 ⟨hok, hS, hN0⟩ (oc_iV (As := []) (rest := []) hx hb hown (hts _ q471) (hts _ q468) (hts _ q469) (oc_Sig.of (hts _ q470) (by decide +kernel : (parseMethodDescriptor "()I").map (fun d => d.parameters.length) = some 0)) (od_recv hK hL9) ⟨by decide, by decide⟩ dX1_read_17 rfl) (oc_M.of (by decide +kernel) (hts _ q470)) (od_size G hL9) dX1_read_17 (Nat.le_of_ble_eq_true rfl) (Nat.le_of_ble_eq_true rfl) (by dsimp only [oc_rm]; omega) (by dsimp only [oc_rm]; omega) ?_
    refine lv_istore_n (lv' := [(1, .int (nI rs.length)), (0, .ref (u 0))]) hx hb dX1_read_20 rfl hl (by decide) rfl (fun ls hl => ?_)
    refine lv_goto (tgt := 35) hx hb dX1_read_21 (by decide) ?_
    refine lv_aload_n hx hb dX1_read_35 rfl (lv_at hl 1 rfl) ?_
    refine va_get (D := D) (ci := 0) (v := .ref (u 1)) (C := RX1) (T := TX1) (N := 4) hx hb hts in_X1 hown hK hP 0 rfl rfl 0 (by decide) (hts _ q174) (fun _ h9 => h9) rfl dX1_read_36 ?_
    refine lv_iconst (v := 0) hx hb dX1_read_39 (by decide) ?_
    refine oc_putN (D := D) (ci := 1) (v := .int 0) (ty := .int) (C := RX2) (T := TX2) (N := 5) hx hb hts in_X2 tyX2 tyX2_ok nmX2 hown hK hP hD hS 1 rfl rfl 1 (by decide) (oc_wF G hok q72) (fun _ h9 => h9) rfl (by decide +kernel) rfl rfl (Nat.le_of_ble_eq_true rfl) dX1_read_40 (fun H locs hz2 ho2 hP hD hS => ?_)
    have hP : va_P D oc_cl (od_cW d u li cd pr (nI N) be2 de2 (upd I 2 0) F) H := hP
    have hD : va_D A (od_cW d u li cd pr (nI N) be2 de2 (upd I 2 0) F) := hD
    have hLB := hLB.kept od_NdW (by omega) (fun z9 h9 h8 => ho2 z9 (by omega))
    refine lv_iload_n hx hb dX1_read_43 rfl (lv_at hl 0 rfl) ?_
    exact oc_iret hx hb hr hlocks hS dX1_read_44 (⟨_, rfl, by omega, by omega, Or.inl ⟨li, ar, cp, el, rs, be2, de2, rfl, hrs1, hrs2, hLB, hP, hD, hAU, hRw⟩⟩)
  ·
    obtain ⟨pp, be2, de2, -, hpN, hsz9, hex9, hP1, hD1, hER, hk9, hn9⟩ := hp_
    obtain ⟨hP, hD⟩ := va_join (w1 := od_rW (u 1) (u 2) N (nI pp) be2 de2) (wr := ([(u 0, .inr (0, [.ref (u 1), .ref rw, .ref (u 3), .ref (u 7)])), (u 2, .inl (d 2, 300, .inl (F 1))), (u 3, .inr (2, [.ref (u 6), .int (I 11), .int (I 12), .int (I 14), .int (I 15), .int (I 16), .int (I 17), .ref (u 4), .int cd, .long pr, .ref (u 5), .int (I 22)])), (u 4, .inl (d 1, 100, .inl (F 13))), (u 5, .inl (d 0, 300, .inl (F 23)))] : va_W)) hP hD [1] [0, 2, 3, 4, 5] rfl rfl rfl (by decide) hk_ hF_ hP1 hD1
    have hP : va_P D oc_cl (od_cW d u rw cd pr (nI pp) be2 de2 (upd I 2 (nI N)) F) H := hP.sub [0, 5, 1, 2, 3, 4] rfl
    have hD : va_D A (od_cW d u rw cd pr (nI pp) be2 de2 (upd I 2 (nI N)) F) := hD.sub [0, 5, 1, 2, 3, 4] rfl rfl
    refine oc_catch1 htab ⟨by decide, by decide⟩ (by decide) hown (hts _ q200) (oc_w G hok q232 rfl) (hex9.recv hok) ?_
    refine lv_astore_n (lv' := [(2, .ref a_), (1, .int 0), (0, .ref (u 0))]) hx hb dX1_read_24 rfl hl (by decide) rfl (fun ls hl => ?_)
    refine lv_iconst (v := (-1)) hx hb dX1_read_25 (by decide) ?_
    refine lv_aload_n hx hb dX1_read_26 rfl (lv_at hl 2 rfl) ?_
    refine va_get (D := D) (ci := 0) (v := .ref (u 1)) (C := RX1) (T := TX1) (N := 4) hx hb hts in_X1 hown hK hP 0 rfl rfl 0 (by decide) (hts _ q174) (fun _ h9 => h9) rfl dX1_read_27 ?_
    refine va_getN (D := D) (ci := 1) (v := .int (nI pp)) (C := RX2) (T := TX2) (N := 5) hx hb hts in_X2 hown hK hP 1 rfl rfl 2 (by decide) (oc_wF G hok q74) (fun _ h9 => h9) rfl dX1_read_30 ?_
    refine lv_isub hx hb dX1_read_33 ?_
    refine lv_istore_n (lv' := [(1, .int ((-1) - (nI pp))), (2, .ref a_), (0, .ref (u 0))]) hx hb dX1_read_34 rfl hl (by decide) rfl (fun ls hl => ?_)
    refine lv_aload_n hx hb dX1_read_35 rfl (lv_at hl 2 rfl) ?_
    refine va_get (D := D) (ci := 0) (v := .ref (u 1)) (C := RX1) (T := TX1) (N := 4) hx hb hts in_X1 hown hK hP 0 rfl rfl 0 (by decide) (hts _ q174) (fun _ h9 => h9) rfl dX1_read_36 ?_
    refine lv_iconst (v := 0) hx hb dX1_read_39 (by decide) ?_
    refine oc_putN (D := D) (ci := 1) (v := .int 0) (ty := .int) (C := RX2) (T := TX2) (N := 5) hx hb hts in_X2 tyX2 tyX2_ok nmX2 hown hK hP hD hS 1 rfl rfl 1 (by decide) (oc_wF G hok q72) (fun _ h9 => h9) rfl (by decide +kernel) rfl rfl (Nat.le_of_ble_eq_true rfl) dX1_read_40 (fun H locs hz2 ho2 hP hD hS => ?_)
    have hP : va_P D oc_cl (od_cW d u rw cd pr (nI pp) be2 de2 (upd I 2 0) F) H := hP
    have hD : va_D A (od_cW d u rw cd pr (nI pp) be2 de2 (upd I 2 0) F) := hD
    refine lv_iload_n hx hb dX1_read_43 rfl (lv_at hl 0 rfl) ?_
    exact oc_iret hx hb hr hlocks hS dX1_read_44 (⟨_, rfl, by omega, by omega, Or.inr ⟨pp, be2, de2, hpN, rfl, hER, hP, hD⟩⟩)
