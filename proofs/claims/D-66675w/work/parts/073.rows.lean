/-! ===== row and rows ===== -/
/-- it returns a row; the reader stands behind it -/
def od_PW (D : va_G) (d : Nat → ClassId) (E0 r tx N : Nat) (T T6 f nm : Nat → Int32) (k i : Nat) (H : Heap) (A : Nat → Prop) : Option Value → Heap → Nat → Nat → Prop := fun v H1 k1 n1 => ∃ (j a : Nat) (x : od_Rd), v = some (.ref a) ∧ x.1 = i ∧ j = x.2.2.1 + 1 ∧ i < j ∧ j ≤ N ∧ va_P D oc_cl (od_rW r tx N (nI j) (nI i) (nI 0)) H1 ∧ va_D A (od_rW r tx N (nI j) (nI i) (nI 0)) ∧ (∃ g v, od_AU T T6 j 0 0 g v (k + 1)) ∧ od_dW D d E0 f nm T (fun z => Array.size H ≤ z) H1 a x ∧ od_RwP f T T6 N k x ∧ k1 + 10 ≤ 20 * (j - i) ∧ n1 + 100 ≤ 300 * (j - i)
def od_QW (s0 : State) (D : va_G) (r tx N : Nat) (T T6 : Nat → Int32) (i : Nat) (H : Heap) (A : Nat → Prop) (ck cn : Nat) : Nat → Heap → Nat → Nat → Prop := fun a H1 k1 n1 => ∃ (p : Nat) (be de : Int32), i ≤ p ∧ p ≤ N ∧ Array.size H ≤ a ∧ oc_Ex s0 RX5 H1 a ∧ va_P D oc_cl (od_rW r tx N (nI p) be de) H1 ∧ va_D A (od_rW r tx N (nI p) be de) ∧ od_ER T T6 N p ∧ k1 ≤ 20 * (p - i) + ck ∧ n1 ≤ 300 * (p - i) + cn
set_option maxHeartbeats 4000000 in
set_option maxRecDepth 100000 in
theorem kX2_row {l : Launch} {s0 : State} {b0 : Addr} {D : va_G} {d : Nat → ClassId} (G : oc_G l s0 b0 D d) {H : Heap} (r tx N i k mi : Nat) (be de : Int32) (T T6 f nm : Nat → Int32) (g v : Int32) (hN3 : N ≤ 300) (hiN : i ≤ N) (hAU : od_AU T T6 i 0 0 g v k) (hk20 : k < 20) (hk0 : i < N ∨ k = 0) (hM0 : va_Mi "[Ljava/lang/Object;" mi s0) (hr0 : s0.heap.size ≤ r) (hP : va_P D oc_cl ([(r, .inr (1, [.ref tx, .int (nI N), .int (nI i), .int be, .int de]))] : va_W) H) (hD : va_D (va_A ([(r, .inr (1, [.ref tx, .int (nI N), .int (nI i), .int be, .int de]))] : va_W) (Array.size H)) ([(r, .inr (1, [.ref tx, .int (nI N), .int (nI i), .int be, .int de]))] : va_W)) (hN0 : ∀ z_9 ∈ ([(r, .inr (1, [.ref tx, .int (nI N), .int (nI i), .int be, .int de]))] : va_W), s0.heap.size ≤ z_9.1) (hPt : va_P D oc_cl ([(tx, .inl (d 2, 300, .inl T))] : va_W) H) (hPt_d : ∀ z_8 ∈ ([(tx, .inl (d 2, 300, .inl T))] : va_W), ∀ z_9 ∈ ([(r, .inr (1, [.ref tx, .int (nI N), .int (nI i), .int be, .int de]))] : va_W), z_8.1 ≠ z_9.1) {E0 : Nat} (hE : oc_E s0 E0) (hTf : ∀ q, q < N → f q = T q) (hnm : ∀ q j, 1 ≤ j → od_ds T N (q + 1) j → oc_dig (od_lk T N (q + 1 + j)) = false → nm q = oc_nm T (q + 1) j) : oc_C l s0 yX2_row (oc_rm (345) (5800) (20 * (N - i) + 20) (300 * (N - i) + 120)) [.ref r] H (va_A ([(r, .inr (1, [.ref tx, .int (nI N), .int (nI i), .int be, .int de]))] : va_W) (Array.size H)) (od_RT (od_PW D d E0 r tx N T T6 f nm k i H (va_A ([(r, .inr (1, [.ref tx, .int (nI N), .int (nI i), .int be, .int de]))] : va_W) (Array.size H))) (od_QW s0 D r tx N T T6 i H (va_A ([(r, .inr (1, [.ref tx, .int (nI N), .int (nI i), .int be, .int de]))] : va_W) (Array.size H)) 20 120)) := by
  refine oc_start G (cc := cX2_row) (L := 4) (ret := (Option.some (Jvm.ClassFile.FieldType.object "OriginRules$Row"))) q210 (Nat.le_of_ble_eq_true rfl) ?_
  intro p e s m below meth c ls hx hok hb hml hr hlocks htab hown hts hK hmn hh hl
  subst hh
  have hl : lv_has ls 4 [(0, .ref r)] := hl
  have hN0 := oc_N0 hok hN0
  have hA : ∀ q, Array.size s.heap ≤ q → (va_A ([(r, .inr (1, [.ref tx, .int (nI N), .int (nI i), .int be, .int de]))] : va_W) (Array.size s.heap)) q := fun q z => Or.inr z
  have hS : va_S (va_A ([(r, .inr (1, [.ref tx, .int (nI N), .int (nI i), .int be, .int de]))] : va_W) (Array.size s.heap)) s.heap s.heap [] := va_S.rf
  have hPt_n : ∀ z_9 ∈ ([(tx, .inl (d 2, 300, .inl T))] : va_W), ¬ (va_A ([(r, .inr (1, [.ref tx, .int (nI N), .int (nI i), .int be, .int de]))] : va_W) (Array.size s.heap)) z_9.1 := oc_nA hPt hPt_d
  generalize hAe : (va_A ([(r, .inr (1, [.ref tx, .int (nI N), .int (nI i), .int be, .int de]))] : va_W) (Array.size s.heap)) = A at *
  have hPt_0 := hPt
  have hrs : r < Array.size s.heap := (hP 0 _ rfl).lt
  have htr : tx ≠ r := hPt_d _ (List.mem_singleton_self _) _ (List.mem_singleton_self _)
  refine lv_aload_n hx hb dX2_row_0 rfl (lv_at hl 0 rfl) ?_
  refine lv_aload_n hx hb dX2_row_1 rfl (lv_at hl 0 rfl) ?_
  refine va_get (D := D) (ci := 1) (v := .int (nI i)) (C := RX2) (T := TX2) (N := 5) hx hb hts in_X2 hown hK hP 0 rfl rfl 2 (by decide) (hts _ q73) (fun _ h9 => h9) rfl dX2_row_2 ?_
  refine va_put (D := D) (ci := 1) (v := .int (nI i)) (ty := .int) (C := RX2) (T := TX2) (N := 5) hx hb hts in_X2 tyX2 tyX2_ok nmX2 hown hK hP hD hS 0 rfl rfl 3 (by decide) (hts _ q75) (fun _ h9 => h9) rfl (by decide +kernel) rfl rfl (Nat.le_of_ble_eq_true rfl) dX2_row_5 (fun H locs hP hD hS => ?_)
  have hP : va_P D oc_cl ([(r, .inr (1, [.ref tx, .int (nI N), .int (nI i), .int (nI i), .int de]))] : va_W) H := hP
  have hD : va_D A ([(r, .inr (1, [.ref tx, .int (nI N), .int (nI i), .int (nI i), .int de]))] : va_W) := hD
  have hPt : va_P D oc_cl ([(tx, .inl (d 2, 300, .inl T))] : va_W) H := od_keep hPt_0 hPt_n hS
  refine lv_aload_n hx hb dX2_row_8 rfl (lv_at hl 0 rfl) ?_
  refine lv_iconst (v := 0) hx hb dX2_row_9 (by decide) ?_
  refine va_put (D := D) (ci := 1) (v := .int 0) (ty := .int) (C := RX2) (T := TX2) (N := 5) hx hb hts in_X2 tyX2 tyX2_ok nmX2 hown hK hP hD hS 0 rfl rfl 4 (by decide) (hts _ q76) (fun _ h9 => h9) rfl (by decide +kernel) rfl rfl (Nat.le_of_ble_eq_true rfl) dX2_row_10 (fun H locs hP hD hS => ?_)
  have hP : va_P D oc_cl ([(r, .inr (1, [.ref tx, .int (nI N), .int (nI i), .int (nI i), .int 0]))] : va_W) H := hP
  have hD : va_D A ([(r, .inr (1, [.ref tx, .int (nI N), .int (nI i), .int (nI i), .int 0]))] : va_W) := hD
  have hPt : va_P D oc_cl ([(tx, .inl (d 2, 300, .inl T))] : va_W) H := od_keep hPt_0 hPt_n hS
  refine lv_aload_n hx hb dX2_row_13 rfl (lv_at hl 0 rfl) ?_
  refine lv_bipush (v := 6) hx hb dX2_row_14 (by decide) ?_
  have hF_ : ∀ q, va_A ([(r, .inr (1, [.ref tx, .int (nI N), .int (nI i), .int (nI i), .int 0]))] : va_W) (Array.size H) q → A q := va_free hD hS hA [0] rfl
  have hsz_ := hS.1
  refine oc_callRT (A1 := va_A ([(r, .inr (1, [.ref tx, .int (nI N), .int (nI i), .int (nI i), .int 0]))] : va_W) (Array.size H)) hx hb hml hl.1 ⟨hok, hS, hN0⟩ (oc_iV (As := [.int 6]) (rest := []) hx hb hown (hts _ q211) (hts _ q213) (hts _ qs1) (oc_Sig.of (hts _ q214) (by decide +kernel : (parseMethodDescriptor "(I)I").map (fun d => d.parameters.length) = some 1)) (va_recv hK hP (ci := 1) (q0 := 0) rfl rfl) ⟨by decide, by decide⟩ dX2_row_16 rfl) (oc_M.of (by decide +kernel) (hts _ q214)) (kX2_number G r tx N i (nI i) 0 T hN3 (by omega) 6 (by omega) (by omega) (hP.sub [0] rfl) ((hD.sub [0] rfl rfl).self) (oc_N1 hD hN0 [0] rfl) hPt (od_dtr htr)) hF_ dX2_row_16 (by dsimp only [oc_rm]; omega) (by simp only [oc_rm, List.map_cons, List.map_nil, List.sum_cons, List.sum_nil, Value.category]; omega) (by dsimp only [oc_rm]; omega) (by dsimp only [oc_rm]; omega) (fun v_ H locs k_ n_ hp_ hz_ hk_ hS => ?_) (fun a_ H locs k_ n_ hp_ hz_ hk_ hS => ?_)
  · -- returned
    obtain ⟨j, rfl, rfl, rfl, hP1, hD1, hj1, hj, hds, hnd⟩ := hp_
    have hdsN := od_dsN hds hiN
    obtain ⟨hP, hD⟩ := va_join (w1 := ([(r, .inr (1, [.ref tx, .int (nI N), .int (nI (i + j)), .int (nI i), .int 0]))] : va_W)) (wr := ([] : va_W)) hP hD [0] [] rfl rfl rfl (by decide) hk_ hF_ hP1 hD1
    have hP : va_P D oc_cl ([(r, .inr (1, [.ref tx, .int (nI N), .int (nI (i + j)), .int (nI i), .int 0]))] : va_W) H := hP
    have hD : va_D A ([(r, .inr (1, [.ref tx, .int (nI N), .int (nI (i + j)), .int (nI i), .int 0]))] : va_W) := hD
    have hPt : va_P D oc_cl ([(tx, .inl (d 2, 300, .inl T))] : va_W) H := od_keep hPt_0 hPt_n hS
    refine W.eq (g2 := F0 m 19 ls [.int (oc_nm T i j)]) rfl ?_
    refine lv_istore_n (lv' := [(1, .int (oc_nm T i j)), (0, .ref r)]) hx hb dX2_row_19 rfl hl (by decide) rfl (fun ls hl => ?_)
    refine lv_aload_n hx hb dX2_row_20 rfl (lv_at hl 1 rfl) ?_
    refine va_get (D := D) (ci := 1) (v := .int (nI (i + j))) (C := RX2) (T := TX2) (N := 5) hx hb hts in_X2 hown hK hP 0 rfl rfl 2 (by decide) (hts _ q73) (fun _ h9 => h9) rfl dX2_row_21 ?_
    refine lv_aload_n hx hb dX2_row_24 rfl (lv_at hl 1 rfl) ?_
    refine va_get (D := D) (ci := 1) (v := .int (nI i)) (C := RX2) (T := TX2) (N := 5) hx hb hts in_X2 hown hK hP 0 rfl rfl 3 (by decide) (hts _ q75) (fun _ h9 => h9) rfl dX2_row_25 ?_
    refine lv_isub hx hb dX2_row_28 ?_
    refine oc_topi (x := (nI (i + j)) - (nI i)) (y := nI j) (by rw [pk_sub (by omega), show i + j - i = j by omega]) ?_
    refine lv_istore_n (lv' := [(2, .int (nI j)), (1, .int (oc_nm T i j)), (0, .ref r)]) hx hb dX2_row_29 rfl hl (by decide) rfl (fun ls hl => ?_)
    refine lv_aload_n hx hb dX2_row_30 rfl (lv_at hl 2 rfl) ?_
    refine lv_bipush (v := 58) hx hb dX2_row_31 (by decide) ?_
    have hF_ : ∀ q, va_A ([(r, .inr (1, [.ref tx, .int (nI N), .int (nI (i + j)), .int (nI i), .int 0]))] : va_W) (Array.size H) q → A q := va_free hD hS hA [0] rfl
    have hsz_ := hS.1
    refine oc_callRT (A1 := va_A ([(r, .inr (1, [.ref tx, .int (nI N), .int (nI (i + j)), .int (nI i), .int 0]))] : va_W) (Array.size H)) hx hb hml hl.1 ⟨hok, hS, hN0⟩ (oc_iV (As := [.int 58]) (rest := []) hx hb hown (hts _ q295) (hts _ q297) (hts _ qs6) (oc_Sig.of (hts _ q298) (by decide +kernel : (parseMethodDescriptor "(I)V").map (fun d => d.parameters.length) = some 1)) (va_recv hK hP (ci := 1) (q0 := 0) rfl rfl) ⟨by decide, by decide⟩ dX2_row_33 rfl) (oc_M.of (by decide +kernel) (hts _ q298)) (kX2_take G r tx N (i + j) (nI i) 0 T hN3 hdsN 58 (hP.sub [0] rfl) ((hD.sub [0] rfl rfl).self) (oc_N1 hD hN0 [0] rfl) hPt (od_dtr htr)) hF_ dX2_row_33 (by dsimp only [oc_rm]; omega) (by simp only [oc_rm, List.map_cons, List.map_nil, List.sum_cons, List.sum_nil, Value.category]; omega) (by dsimp only [oc_rm]; omega) (by dsimp only [oc_rm]; omega) (fun v_ H locs k_ n_ hp_ hz_ hk_ hS => ?_) (fun a_ H locs k_ n_ hp_ hz_ hk_ hS => ?_)
    · -- returned
      obtain ⟨rfl, rfl, rfl, hP1, hD1, hlk⟩ := hp_
      obtain ⟨hlt58, hT58⟩ := od_lki hlk (by decide)
      obtain ⟨hP, hD⟩ := va_join (w1 := ([(r, .inr (1, [.ref tx, .int (nI N), .int (nI (i + j + 1)), .int (nI i), .int 0]))] : va_W)) (wr := ([] : va_W)) hP hD [0] [] rfl rfl rfl (by decide) hk_ hF_ hP1 hD1
      have hP : va_P D oc_cl ([(r, .inr (1, [.ref tx, .int (nI N), .int (nI (i + j + 1)), .int (nI i), .int 0]))] : va_W) H := hP
      have hD : va_D A ([(r, .inr (1, [.ref tx, .int (nI N), .int (nI (i + j + 1)), .int (nI i), .int 0]))] : va_W) := hD
      have hPt : va_P D oc_cl ([(tx, .inl (d 2, 300, .inl T))] : va_W) H := od_keep hPt_0 hPt_n hS
      refine W.eq (g2 := F0 m 36 ls []) rfl ?_
      refine lv_aload_n hx hb dX2_row_36 rfl (lv_at hl 2 rfl) ?_
      have hAH := od_colon hAU hk20 hj1 hj hds hT58
      have hF_ : ∀ q, va_A ([(r, .inr (1, [.ref tx, .int (nI N), .int (nI (i + j + 1)), .int (nI i), .int (nI 0)]))] : va_W) (Array.size H) q → A q := va_free hD hS hA [0] rfl
      have hsz_ := hS.1
      refine oc_callRT (A1 := va_A ([(r, .inr (1, [.ref tx, .int (nI N), .int (nI (i + j + 1)), .int (nI i), .int (nI 0)]))] : va_W) (Array.size H)) hx hb hml hl.1 ⟨hok, hS, hN0⟩ (oc_iS (As := [.ref r]) (rest := []) hx hb hown (hts _ q299) (hts _ q300) (hts _ q25) (hts _ q301) ⟨by decide, by decide, (by decide +kernel : (parseMethodDescriptor "(LOriginRules$Reader;)LOriginRules$Node;").map (fun d => d.parameters.length) = some 1)⟩ dX2_row_37 rfl) (oc_M.of (by decide +kernel) (hts _ q301)) (od_parse (b := i) (k := k) G hE hM0 hN3 hr0 htr hTf hnm 8 0 rfl H (i + j + 1) hAH (by omega) hP (hPt 0 _ rfl)) hF_ dX2_row_37 (by dsimp only [oc_rm]; omega) (by simp only [oc_rm, List.map_cons, List.map_nil, List.sum_cons, List.sum_nil, Value.category]; omega) (by dsimp only [oc_rm]; omega) (by dsimp only [oc_rm]; omega) (fun v_ H locs k_ n_ hp_ hz_ hk_ hS => ?_) (fun a_ H locs k_ n_ hp_ hz_ hk_ hS => ?_)
      · -- a rule
        obtain ⟨j2, a2, S2, rfl, hj2a, hj2b, hP1, hD1, hBH2, hNd2, hRS2, hck2, hcn2, hX2⟩ := hp_
        have hP : va_P D oc_cl ([(r, .inr (1, [.ref tx, .int (nI N), .int (nI j2), .int (nI i), .int (nI 0)]))] : va_W) H := hP1
        have hD : va_D A ([(r, .inr (1, [.ref tx, .int (nI N), .int (nI j2), .int (nI i), .int (nI 0)]))] : va_W) := oc_Dcong hD rfl
        have hPt : va_P D oc_cl ([(tx, .inl (d 2, 300, .inl T))] : va_W) H := od_keep hPt_0 hPt_n hS
        have hNd : od_dR D d E0 f i nm 8 (fun z => Array.size s.heap ≤ z) H a2 S2 := od_NdR.2 _ _ _ _ _ _ hNd2 (fun z h _ => Nat.le_trans hsz_ h) (fun z _ _ => rfl)
        refine W.eq (g2 := F0 m 40 ls [.ref a2]) rfl ?_
        refine lv_astore_n (lv' := [(3, .ref a2), (2, .int (nI j)), (1, .int (oc_nm T i j)), (0, .ref r)]) hx hb dX2_row_40 rfl hl (by decide) rfl (fun ls hl => ?_)
        refine lv_aload_n hx hb dX2_row_41 rfl (lv_at hl 3 rfl) ?_
        refine lv_bipush (v := 59) hx hb dX2_row_42 (by decide) ?_
        have hF_ : ∀ q, va_A ([(r, .inr (1, [.ref tx, .int (nI N), .int (nI j2), .int (nI i), .int (nI 0)]))] : va_W) (Array.size H) q → A q := va_free hD hS hA [0] rfl
        have hsz_ := hS.1
        refine oc_callRT (A1 := va_A ([(r, .inr (1, [.ref tx, .int (nI N), .int (nI j2), .int (nI i), .int (nI 0)]))] : va_W) (Array.size H)) hx hb hml hl.1 ⟨hok, hS, hN0⟩ (oc_iV (As := [.int 59]) (rest := []) hx hb hown (hts _ q295) (hts _ q297) (hts _ qs6) (oc_Sig.of (hts _ q298) (by decide +kernel : (parseMethodDescriptor "(I)V").map (fun d => d.parameters.length) = some 1)) (va_recv hK hP (ci := 1) (q0 := 0) rfl rfl) ⟨by decide, by decide⟩ dX2_row_44 rfl) (oc_M.of (by decide +kernel) (hts _ q298)) (kX2_take G r tx N j2 (nI i) (nI 0) T hN3 hj2b 59 (hP.sub [0] rfl) ((hD.sub [0] rfl rfl).self) (oc_N1 hD hN0 [0] rfl) hPt (od_dtr htr)) hF_ dX2_row_44 (by dsimp only [oc_rm]; omega) (by simp only [oc_rm, List.map_cons, List.map_nil, List.sum_cons, List.sum_nil, Value.category]; omega) (by dsimp only [oc_rm]; omega) (by dsimp only [oc_rm]; omega) (fun v_ H locs k_ n_ hp_ hz_ hk_ hS => ?_) (fun a_ H locs k_ n_ hp_ hz_ hk_ hS => ?_)
        · -- returned
          obtain ⟨rfl, rfl, rfl, hP1, hD1, hlk2⟩ := hp_
          obtain ⟨hlt59, hT59⟩ := od_lki hlk2 (by decide)
          have hNd := od_NdR.2 _ _ _ _ _ _ hNd (fun z h _ => h) (fun z h1 h2 => hk_ z h2 (fun h3 => od_nr (by omega) h2 h3))
          obtain ⟨hP, hD⟩ := va_join (w1 := ([(r, .inr (1, [.ref tx, .int (nI N), .int (nI (j2 + 1)), .int (nI i), .int (nI 0)]))] : va_W)) (wr := ([] : va_W)) hP hD [0] [] rfl rfl rfl (by decide) hk_ hF_ hP1 hD1
          have hP : va_P D oc_cl ([(r, .inr (1, [.ref tx, .int (nI N), .int (nI (j2 + 1)), .int (nI i), .int (nI 0)]))] : va_W) H := hP
          have hD : va_D A ([(r, .inr (1, [.ref tx, .int (nI N), .int (nI (j2 + 1)), .int (nI i), .int (nI 0)]))] : va_W) := hD
          have hPt : va_P D oc_cl ([(tx, .inl (d 2, 300, .inl T))] : va_W) H := od_keep hPt_0 hPt_n hS
          refine W.eq (g2 := F0 m 47 ls []) rfl ?_
          refine oc_new (D := D) (C := RX13) (T := TX13) (N := 3) (ci := 11) (fs := [.int 0, .int 0, .null]) hx hb hts in_X13 tyX13 tyX13_ok hown (hts _ q449) (hts _ q450) (hts _ q46) hK hP hD hS hA rfl (by decide +kernel) (by dsimp only [oc_rm]; omega) (by dsimp only [oc_rm]; omega) dX2_row_47 (fun q_1 H hq_q_1 hz_q_1 ho_q_1 hP hD hS => ?_)
          have hP : va_P D oc_cl ([(r, .inr (1, [.ref tx, .int (nI N), .int (nI (j2 + 1)), .int (nI i), .int (nI 0)])), (q_1, .inr (11, [.int 0, .int 0, .null]))] : va_W) H := hP
          have hD : va_D A ([(r, .inr (1, [.ref tx, .int (nI N), .int (nI (j2 + 1)), .int (nI i), .int (nI 0)])), (q_1, .inr (11, [.int 0, .int 0, .null]))] : va_W) := hD
          have hPt : va_P D oc_cl ([(tx, .inl (d 2, 300, .inl T))] : va_W) H := od_keep hPt_0 hPt_n hS
          have hNd := od_NdR.2 (fun z => Array.size s.heap ≤ z) (fun z => Array.size s.heap ≤ z ∧ z ≠ q_1) _ _ _ _ hNd (fun z h h2 => ⟨h, by omega⟩) (fun z h1 h2 => ho_q_1 z h2)
          refine lv_dup hx hb dX2_row_50 rfl ?_
          refine lv_iload_n hx hb dX2_row_51 rfl (lv_at hl 2 rfl) ?_
          refine lv_iload_n hx hb dX2_row_52 rfl (lv_at hl 1 rfl) ?_
          refine lv_aload_n hx hb dX2_row_53 rfl (lv_at hl 0 rfl) ?_
          have hF_ : ∀ q, va_A ([(q_1, .inr (11, [.int 0, .int 0, .null]))] : va_W) (Array.size H) q → A q := va_free hD hS hA [1] rfl
          refine oc_callP (A1 := va_A ([(q_1, .inr (11, [.int 0, .int 0, .null]))] : va_W) (Array.size H)) hx hb hml hl.1 ⟨hok, hS, hN0⟩ (oc_iI (As := [.int (oc_nm T i j), .int (nI j), .ref a2]) (rest := [.ref q_1]) hx hb hown (hts _ q451) (hts _ q452) (hts _ q453) ⟨by decide, by decide, by decide, (by decide +kernel : (parseMethodDescriptor "(IILOriginRules$Node;)V").map (fun d => d.parameters.length) = some 3)⟩ dX2_row_54 rfl) (oc_M.of (by decide +kernel) (hts _ q453)) (kX13_init G q_1 (oc_nm T i j) (nI j) a2 (hP.sub [1] rfl) ((hD.sub [1] rfl rfl).self) (oc_N1 hD hN0 [1] rfl)) hF_ dX2_row_54 (by dsimp only [oc_rm]; omega) (by simp only [oc_rm, List.map_cons, List.map_nil, List.sum_cons, List.sum_nil, Value.category]; omega) (by dsimp only [oc_rm]; omega) (by dsimp only [oc_rm]; omega) (fun v_ H locs k_ n_ hp_ hz_ hk_ hS => ?_)
          obtain ⟨rfl, rfl, rfl, hP1, hD1⟩ := hp_
          have hNd := od_NdR.2 _ (fun z => Array.size s.heap ≤ z) _ _ _ _ hNd (fun z h _ => h.1) (fun z h1 h2 => hk_ z h2 (fun h3 => od_nr h1.2 h2 h3))
          obtain ⟨hP, hD⟩ := va_join (w1 := ([(q_1, .inr (11, [.int (oc_nm T i j), .int (nI j), .ref a2]))] : va_W)) (wr := ([(r, .inr (1, [.ref tx, .int (nI N), .int (nI (j2 + 1)), .int (nI i), .int (nI 0)]))] : va_W)) hP hD [1] [0] rfl rfl rfl (by decide) hk_ hF_ hP1 hD1
          have hP : va_P D oc_cl ([(r, .inr (1, [.ref tx, .int (nI N), .int (nI (j2 + 1)), .int (nI i), .int (nI 0)])), (q_1, .inr (11, [.int (oc_nm T i j), .int (nI j), .ref a2]))] : va_W) H := hP
          have hD : va_D A ([(r, .inr (1, [.ref tx, .int (nI N), .int (nI (j2 + 1)), .int (nI i), .int (nI 0)])), (q_1, .inr (11, [.int (oc_nm T i j), .int (nI j), .ref a2]))] : va_W) := hD
          have hPt : va_P D oc_cl ([(tx, .inl (d 2, 300, .inl T))] : va_W) H := od_keep hPt_0 hPt_n hS
          refine W.eq (g2 := F0 m 57 ls [.ref q_1]) rfl ?_
          exact oc_aret hx hb hr (Or.inl ⟨_, rfl⟩) (Or.inr ⟨_, rfl⟩) hlocks hS dX2_row_57 (Or.inl ⟨_, rfl, j2 + 1, q_1, (i, j, j2, S2), rfl, rfl, rfl, by omega, by omega, hP.sub [0] rfl, hD.sub [0] rfl rfl, od_semi hBH2 hlt59 hT59, ⟨od_frs (by rw [hAe]; exact hD) (i := 1) (j := 0) rfl rfl (by decide), a2, hP 1 _ rfl, hNd⟩, ⟨hj1, hj, hds, hT58, (by show i + j < j2; omega), hlt59, hT59, fun z h1 h2 => od_no59R hAH hBH2 hN3 hj2b z (by have h3 : i + j < z := h1; omega) h2, hRS2, g, v, hAU⟩, by omega, by omega⟩)
        · -- threw
          obtain ⟨hk9, hn9, hsz9, hex9, hP1, hD1, hlk2⟩ := hp_
          subst k_; subst n_
          obtain ⟨hP, hD⟩ := va_join (w1 := ([(r, .inr (1, [.ref tx, .int (nI N), .int (nI j2), .int (nI i), .int (nI 0)]))] : va_W)) (wr := ([] : va_W)) hP hD [0] [] rfl rfl rfl (by decide) hk_ hF_ hP1 hD1
          have hP : va_P D oc_cl ([(r, .inr (1, [.ref tx, .int (nI N), .int (nI j2), .int (nI i), .int (nI 0)]))] : va_W) H := hP
          have hD : va_D A ([(r, .inr (1, [.ref tx, .int (nI N), .int (nI j2), .int (nI i), .int (nI 0)]))] : va_W) := hD
          have hPt : va_P D oc_cl ([(tx, .inl (d 2, 300, .inl T))] : va_W) H := od_keep hPt_0 hPt_n hS
          exact oc_xout hlocks (by rw [htab]; intro x9 hx9; cases hx9) hS (Or.inr ⟨_, rfl, ⟨j2, nI i, nI 0, by omega, hj2b, Nat.le_trans hsz_ hsz9, hex9, hP.sub [0] rfl, hD.sub [0] rfl rfl, od_semiE hBH2 hj2b hX2.1 hX2.2 hlk2, by omega, by omega⟩⟩)
      · -- wrong
        obtain ⟨pp, de2, hpp1, hpp2, hsz9, hex9, hP1, hD1, hER, hck2, hcn2⟩ := hp_
        have hP : va_P D oc_cl ([(r, .inr (1, [.ref tx, .int (nI N), .int (nI pp), .int (nI i), .int de2]))] : va_W) H := hP1
        have hD : va_D A ([(r, .inr (1, [.ref tx, .int (nI N), .int (nI pp), .int (nI i), .int de2]))] : va_W) := oc_Dcong hD rfl
        have hPt : va_P D oc_cl ([(tx, .inl (d 2, 300, .inl T))] : va_W) H := od_keep hPt_0 hPt_n hS
        exact oc_xout hlocks (by rw [htab]; intro x9 hx9; cases hx9) hS (Or.inr ⟨_, rfl, pp, nI i, de2, by omega, hpp2, by omega, hex9, hP, hD, hER, by omega, by omega⟩)
    · -- threw
      obtain ⟨hk9, hn9, hsz9, hex9, hP1, hD1, hlk⟩ := hp_
      subst k_; subst n_
      obtain ⟨hP, hD⟩ := va_join (w1 := ([(r, .inr (1, [.ref tx, .int (nI N), .int (nI (i + j)), .int (nI i), .int 0]))] : va_W)) (wr := ([] : va_W)) hP hD [0] [] rfl rfl rfl (by decide) hk_ hF_ hP1 hD1
      have hP : va_P D oc_cl ([(r, .inr (1, [.ref tx, .int (nI N), .int (nI (i + j)), .int (nI i), .int 0]))] : va_W) H := hP
      have hD : va_D A ([(r, .inr (1, [.ref tx, .int (nI N), .int (nI (i + j)), .int (nI i), .int 0]))] : va_W) := hD
      have hPt : va_P D oc_cl ([(tx, .inl (d 2, 300, .inl T))] : va_W) H := od_keep hPt_0 hPt_n hS
      exact oc_xout hlocks (by rw [htab]; intro x9 hx9; cases hx9) hS (Or.inr ⟨_, rfl, ⟨i + j, nI i, 0, by omega, hdsN, Nat.le_trans hsz_ hsz9, hex9, hP.sub [0] rfl, hD.sub [0] rfl rfl, od_colonE hAU hk20 hj1 hj hds hdsN hnd hlk, by omega, by omega⟩⟩)
  · -- threw
    obtain ⟨j, hk9, hn9, hsz9, hex9, hP1, hD1, hj, hds, hcase⟩ := hp_
    have hdsN := od_dsN hds hiN
    subst k_; subst n_
    obtain ⟨hP, hD⟩ := va_join (w1 := ([(r, .inr (1, [.ref tx, .int (nI N), .int (nI (i + j)), .int (nI i), .int 0]))] : va_W)) (wr := ([] : va_W)) hP hD [0] [] rfl rfl rfl (by decide) hk_ hF_ hP1 hD1
    have hP : va_P D oc_cl ([(r, .inr (1, [.ref tx, .int (nI N), .int (nI (i + j)), .int (nI i), .int 0]))] : va_W) H := hP
    have hD : va_D A ([(r, .inr (1, [.ref tx, .int (nI N), .int (nI (i + j)), .int (nI i), .int 0]))] : va_W) := hD
    have hPt : va_P D oc_cl ([(tx, .inl (d 2, 300, .inl T))] : va_W) H := od_keep hPt_0 hPt_n hS
    exact oc_xout hlocks (by rw [htab]; intro x9 hx9; cases hx9) hS (Or.inr ⟨_, rfl, ⟨i + j, nI i, 0, by omega, hdsN, Nat.le_trans hsz_ hsz9, hex9, hP.sub [0] rfl, hD.sub [0] rfl rfl, od_codeE hAU hk20 hk0 hj hds hdsN hcase, by omega, by omega⟩⟩)
/-- it returns the list of the rows -/
def od_PL (D : va_G) (d : Nat → ClassId) (E0 r tx N : Nat) (T T6 f nm : Nat → Int32) (H : Heap) (A : Nat → Prop) : Option Value → Heap → Nat → Nat → Prop := fun v H1 k1 n1 => ∃ (li ar cp : Nat) (el : Nat → Option Nat) (rs : List od_Rd) (be de : Int32), v = some (.ref li) ∧ 1 ≤ rs.length ∧ rs.length ≤ 20 ∧ od_LB D d E0 (od_dW D d E0 f nm T) (Array.size H) r H1 li ar cp el rs ∧ va_P D oc_cl (od_rW r tx N (nI N) be de) H1 ∧ va_D A (od_rW r tx N (nI N) be de) ∧ (∃ g v, od_AU T T6 N 0 0 g v rs.length) ∧ (∀ i x, rs[i]? = some x → od_RwP f T T6 N i x) ∧ k1 ≤ 20 * N + 30 ∧ n1 ≤ 300 * N + 200
theorem od_snoc {f T T6 : Nat → Int32} {N : Nat} {rs : List od_Rd} {x : od_Rd} (h : ∀ i y, rs[i]? = some y → od_RwP f T T6 N i y) (hx : od_RwP f T T6 N rs.length x) : ∀ i y, (rs ++ [x])[i]? = some y → od_RwP f T T6 N i y := by
  intro i y hi
  rcases Nat.lt_or_ge i rs.length with hlt | hge
  · rw [List.getElem?_append_left hlt] at hi
    exact h i y hi
  · rw [List.getElem?_append_right hge] at hi
    have hi0 : i - rs.length = 0 := by
      rcases Nat.eq_zero_or_pos (i - rs.length) with w | w
      · exact w
      · rw [List.getElem?_eq_none (by simp; omega)] at hi; cases hi
    rw [hi0] at hi
    cases hi
    rw [show i = rs.length by omega]
    exact hx
set_option maxHeartbeats 4000000 in
set_option maxRecDepth 100000 in
theorem kX2_rows {l : Launch} {s0 : State} {b0 : Addr} {D : va_G} {d : Nat → ClassId} (G : oc_G l s0 b0 D d) {H : Heap} (r tx N mi : Nat) (at0 be de : Int32) (T T6 f nm : Nat → Int32) (hN3 : N ≤ 300) (hM0 : va_Mi "[Ljava/lang/Object;" mi s0) (hr0 : s0.heap.size ≤ r) (hP : va_P D oc_cl ([(r, .inr (1, [.ref tx, .int (nI N), .int at0, .int be, .int de]))] : va_W) H) (hD : va_D (va_A ([(r, .inr (1, [.ref tx, .int (nI N), .int at0, .int be, .int de]))] : va_W) (Array.size H)) ([(r, .inr (1, [.ref tx, .int (nI N), .int at0, .int be, .int de]))] : va_W)) (hN0 : ∀ z_9 ∈ ([(r, .inr (1, [.ref tx, .int (nI N), .int at0, .int be, .int de]))] : va_W), s0.heap.size ≤ z_9.1) (hPt : va_P D oc_cl ([(tx, .inl (d 2, 300, .inl T))] : va_W) H) (hPt_d : ∀ z_8 ∈ ([(tx, .inl (d 2, 300, .inl T))] : va_W), ∀ z_9 ∈ ([(r, .inr (1, [.ref tx, .int (nI N), .int at0, .int be, .int de]))] : va_W), z_8.1 ≠ z_9.1) {E0 : Nat} (hE : oc_E s0 E0) (hTf : ∀ q, q < N → f q = T q) (hnm : ∀ q j, 1 ≤ j → od_ds T N (q + 1) j → oc_dig (od_lk T N (q + 1 + j)) = false → nm q = oc_nm T (q + 1) j) : oc_C l s0 yX2_rows (oc_rm (350) (5900) (20 * N + 30) (300 * N + 200)) [.ref r] H (va_A ([(r, .inr (1, [.ref tx, .int (nI N), .int at0, .int be, .int de]))] : va_W) (Array.size H)) (od_RT (od_PL D d E0 r tx N T T6 f nm H (va_A ([(r, .inr (1, [.ref tx, .int (nI N), .int at0, .int be, .int de]))] : va_W) (Array.size H))) (od_QW s0 D r tx N T T6 0 H (va_A ([(r, .inr (1, [.ref tx, .int (nI N), .int at0, .int be, .int de]))] : va_W) (Array.size H)) 30 200)) := by
  refine oc_start G (cc := cX2_rows) (L := 2) (ret := (Option.some (Jvm.ClassFile.FieldType.object "java/util/ArrayList"))) q204 (Nat.le_of_ble_eq_true rfl) ?_
  intro p e s m below meth c ls hx hok hb hml hr hlocks htab hown hts hK hmn hh hl
  subst hh
  have hl : lv_has ls 2 [(0, .ref r)] := hl
  have hN0 := oc_N0 hok hN0
  have hA : ∀ q, Array.size s.heap ≤ q → (va_A ([(r, .inr (1, [.ref tx, .int (nI N), .int at0, .int be, .int de]))] : va_W) (Array.size s.heap)) q := fun q z => Or.inr z
  have hS : va_S (va_A ([(r, .inr (1, [.ref tx, .int (nI N), .int at0, .int be, .int de]))] : va_W) (Array.size s.heap)) s.heap s.heap [] := va_S.rf
  have hPt_n : ∀ z_9 ∈ ([(tx, .inl (d 2, 300, .inl T))] : va_W), ¬ (va_A ([(r, .inr (1, [.ref tx, .int (nI N), .int at0, .int be, .int de]))] : va_W) (Array.size s.heap)) z_9.1 := oc_nA hPt hPt_d
  generalize hAe : (va_A ([(r, .inr (1, [.ref tx, .int (nI N), .int at0, .int be, .int de]))] : va_W) (Array.size s.heap)) = A at *
  have hPt_0 := hPt
  have hrs : r < Array.size s.heap := (hP 0 _ rfl).lt
  have hs00 : s0.heap.size ≤ Array.size s.heap := hok.2.1
  have htr : tx ≠ r := hPt_d _ (List.mem_singleton_self _) _ (List.mem_singleton_self _)
  refine oc_new (D := D) (C := RJ2) (T := TJ2) (N := 3) (ci := 4) (fs := [.int 0, .null, .int 0]) hx hb hts in_J2 tyJ2 tyJ2_ok hown (hts _ q205) (hts _ q90) (hts _ q28) hK hP hD hS hA rfl (by decide +kernel) (by dsimp only [oc_rm]; omega) (by dsimp only [oc_rm]; omega) dX2_rows_0 (fun q_1 H hq_q_1 hz_q_1 ho_q_1 hP hD hS => ?_)
  have hP : va_P D oc_cl ([(r, .inr (1, [.ref tx, .int (nI N), .int at0, .int be, .int de])), (q_1, .inr (4, [.int 0, .null, .int 0]))] : va_W) H := hP
  have hD : va_D A ([(r, .inr (1, [.ref tx, .int (nI N), .int at0, .int be, .int de])), (q_1, .inr (4, [.int 0, .null, .int 0]))] : va_W) := hD
  have hPt : va_P D oc_cl ([(tx, .inl (d 2, 300, .inl T))] : va_W) H := od_keep hPt_0 hPt_n hS
  refine lv_dup hx hb dX2_rows_3 rfl ?_
  have hF_ : ∀ q, va_A ([(q_1, .inr (4, [.int 0, .null, .int 0]))] : va_W) (Array.size H) q → A q := va_free hD hS hA [1] rfl
  refine oc_callP (A1 := va_A ([(q_1, .inr (4, [.int 0, .null, .int 0]))] : va_W) (Array.size H)) hx hb hml hl.1 ⟨hok, hS, hN0⟩ (oc_iI (As := []) (rest := [.ref q_1]) hx hb hown (hts _ q206) (hts _ q92) (hts _ q93) ⟨by decide, by decide, by decide, (by decide +kernel : (parseMethodDescriptor "()V").map (fun d => d.parameters.length) = some 0)⟩ dX2_rows_4 rfl) (oc_M.of (by decide +kernel) (hts _ q93)) (kJ2_init G q_1 0 0 (hP.sub [1] rfl) ((hD.sub [1] rfl rfl).self) (oc_N1 hD hN0 [1] rfl) hE) hF_ dX2_rows_4 (by dsimp only [oc_rm]; omega) (by simp only [oc_rm, List.map_cons, List.map_nil, List.sum_cons, List.sum_nil, Value.category]; omega) (by dsimp only [oc_rm]; omega) (by dsimp only [oc_rm]; omega) (fun v_ H locs k_ n_ hp_ hz_ hk_ hS => ?_)
  obtain ⟨rfl, rfl, rfl, hP1, hD1⟩ := hp_
  obtain ⟨hP, hD⟩ := va_join (w1 := ([(q_1, .inr (4, [.int 0, .ref E0, .int 0]))] : va_W)) (wr := ([(r, .inr (1, [.ref tx, .int (nI N), .int at0, .int be, .int de]))] : va_W)) hP hD [1] [0] rfl rfl rfl (by decide) hk_ hF_ hP1 hD1
  have hP : va_P D oc_cl ([(r, .inr (1, [.ref tx, .int (nI N), .int at0, .int be, .int de])), (q_1, .inr (4, [.int 0, .ref E0, .int 0]))] : va_W) H := hP
  have hD : va_D A ([(r, .inr (1, [.ref tx, .int (nI N), .int at0, .int be, .int de])), (q_1, .inr (4, [.int 0, .ref E0, .int 0]))] : va_W) := hD
  have hPt : va_P D oc_cl ([(tx, .inl (d 2, 300, .inl T))] : va_W) H := od_keep hPt_0 hPt_n hS
  refine W.eq (g2 := F0 m 7 ls [.ref q_1]) rfl ?_
  refine lv_astore_n (lv' := [(1, .ref q_1), (0, .ref r)]) hx hb dX2_rows_7 rfl hl (by decide) rfl (fun ls hl => ?_)
  refine lv_aload_n hx hb dX2_rows_8 rfl (lv_at hl 1 rfl) ?_
  refine lv_iconst (v := 0) hx hb dX2_rows_9 (by decide) ?_
  refine va_put (D := D) (ci := 1) (v := .int 0) (ty := .int) (C := RX2) (T := TX2) (N := 5) hx hb hts in_X2 tyX2 tyX2_ok nmX2 hown hK hP hD hS 0 rfl rfl 2 (by decide) (hts _ q73) (fun _ h9 => h9) rfl (by decide +kernel) rfl rfl (Nat.le_of_ble_eq_true rfl) dX2_rows_10 (fun H locs hP hD hS => ?_)
  have hP : va_P D oc_cl ([(r, .inr (1, [.ref tx, .int (nI N), .int 0, .int be, .int de])), (q_1, .inr (4, [.int 0, .ref E0, .int 0]))] : va_W) H := hP
  have hD : va_D A ([(r, .inr (1, [.ref tx, .int (nI N), .int 0, .int be, .int de])), (q_1, .inr (4, [.int 0, .ref E0, .int 0]))] : va_W) := hD
  have hPt : va_P D oc_cl ([(tx, .inl (d 2, 300, .inl T))] : va_W) H := od_keep hPt_0 hPt_n hS
  have hq1 : Array.size s.heap ≤ q_1 := od_frs (by rw [hAe]; exact hD) (i := 1) (j := 0) rfl rfl (by decide)
  have hLB : od_LB D d E0 (od_dW D d E0 f nm T) (Array.size s.heap) r H q_1 E0 0 (fun _ => none) [] := od_LB.nil (hP 1 _ rfl) hq1 (by omega) (hP 0 _ rfl).lt
  have hAU := od_AU_0 (T := T) (T6 := T6)
  obtain ⟨g9, v9, hAU⟩ : ∃ g9 v9, od_AU T T6 0 0 0 g9 v9 0 := ⟨_, _, hAU⟩
  have hP : va_P D oc_cl ([(r, .inr (1, [.ref tx, .int (nI N), .int 0, .int be, .int de]))] : va_W) H := hP.sub [0] rfl
  have hD : va_D A ([(r, .inr (1, [.ref tx, .int (nI N), .int 0, .int be, .int de]))] : va_W) := hD.sub [0] rfl rfl
  refine lv_aload_n hx hb dX2_rows_13 rfl (lv_at hl 0 rfl) ?_
  refine lv_aload_n hx hb dX2_rows_14 rfl (lv_at hl 1 rfl) ?_
  have hF_ : ∀ q, va_A ([(r, .inr (1, [.ref tx, .int (nI N), .int 0, .int be, .int de]))] : va_W) (Array.size H) q → A q := va_free hD hS hA [0] rfl
  have hsz_ := hS.1
  refine oc_callRT (A1 := va_A ([(r, .inr (1, [.ref tx, .int (nI N), .int 0, .int be, .int de]))] : va_W) (Array.size H)) hx hb hml hl.1 ⟨hok, hS, hN0⟩ (oc_iV (As := []) (rest := [.ref q_1]) hx hb hown (hts _ q207) (hts _ q209) (hts _ qs0) (oc_Sig.of (hts _ q210) (by decide +kernel : (parseMethodDescriptor "()LOriginRules$Row;").map (fun d => d.parameters.length) = some 0)) (va_recv hK hP (ci := 1) (q0 := 0) rfl rfl) ⟨by decide, by decide⟩ dX2_rows_15 rfl) (oc_M.of (by decide +kernel) (hts _ q210)) (kX2_row G r tx N 0 0 mi (be) (de) T T6 f nm g9 v9 hN3 (by omega) hAU (by omega) (Or.inr rfl) hM0 hr0 hP ((hD.sub [0] rfl rfl).self) (oc_N1 hD hN0 [0] rfl) hPt (od_dtr htr) hE hTf hnm) hF_ dX2_rows_15 (by dsimp only [oc_rm]; omega) (by simp only [oc_rm, List.map_cons, List.map_nil, List.sum_cons, List.sum_nil, Value.category]; omega) (by dsimp only [oc_rm]; omega) (by dsimp only [oc_rm]; omega) (fun v_ H locs k_ n_ hp_ hz_ hk_ hS => ?_) (fun a_ H locs k_ n_ hp_ hz_ hk_ hS => ?_)
  · -- a row
    obtain ⟨j2, a2, x2, rfl, hx1, hx2, hj2a, hj2b, hP1, hD1, hAU2, hNd2, hRw2, hck2, hcn2⟩ := hp_
    have hP : va_P D oc_cl ([(r, .inr (1, [.ref tx, .int (nI N), .int (nI j2), .int (nI 0), .int (nI 0)]))] : va_W) H := hP1
    have hD : va_D A ([(r, .inr (1, [.ref tx, .int (nI N), .int (nI j2), .int (nI 0), .int (nI 0)]))] : va_W) := oc_Dcong hD rfl
    have hPt : va_P D oc_cl ([(tx, .inl (d 2, 300, .inl T))] : va_W) H := od_keep hPt_0 hPt_n hS
    have hNd3 := od_LBn od_NdW hLB hsz_ hNd2
    have hLB := hLB.kept od_NdW hz_ (fun z h1 h2 => hk_ z h2 (fun h3 => od_nr (by omega) h2 h3))
    refine W.eq (g2 := F0 m 18 ls [.ref a2, .ref q_1]) rfl ?_
    have hne_ := od_LBk hLB (ws := ([(r, .inr (1, [.ref tx, .int (nI N), .int (nI j2), .int (nI 0), .int (nI 0)]))] : va_W)) (fun x9 hx9 => by simp only [List.mem_cons, List.not_mem_nil, or_false] at hx9; subst hx9; exact Or.inr hrs)
    have hsz_ := hS.1
    refine od_addN (y := a2) od_NdW G hE hM0 hx hb hml hl.1 ⟨hok, hS, hN0⟩ (oc_iV (As := [.ref a2]) (rest := []) hx hb hown (hts _ q384) (hts _ q385) (hts _ q386) (oc_Sig.of (hts _ q387) (by decide +kernel : (parseMethodDescriptor "(Ljava/lang/Object;)Z").map (fun d => d.parameters.length) = some 1)) (od_recv hK hLB.1) ⟨by decide, by decide⟩ dX2_rows_18 rfl) (oc_M.of (by decide +kernel) (hts _ q387)) hLB (by simp) hs00 hA hS.1 hNd3 dX2_rows_18 (by dsimp only [oc_rm]; omega) (by simp only [oc_rm, List.map_cons, List.map_nil, List.sum_cons, List.sum_nil, Value.category]; omega) (by dsimp only [oc_rm]; omega) (by simp only [oc_rm, List.length_nil]; omega) (fun H locs k_5 n_5 ar2 cp2 el2 hLB2 hk5 hn5 hz_ hkk_ hS => ?_)
    have hP : va_P D oc_cl ([(r, .inr (1, [.ref tx, .int (nI N), .int (nI j2), .int (nI 0), .int (nI 0)]))] : va_W) H := hP.kept (fun k9 q9 h9 => hkk_ q9.1 (hP k9 q9 h9).lt (hne_ q9 (List.mem_of_getElem? h9)).1 (hne_ q9 (List.mem_of_getElem? h9)).2)
    have hPt : va_P D oc_cl ([(tx, .inl (d 2, 300, .inl T))] : va_W) H := od_keep hPt_0 hPt_n hS
    refine W.eq (g2 := F0 m 21 ls [.int 1]) rfl ?_
    refine lv_pop hx hb dX2_rows_21 rfl ?_
    have lp22 : ∀ (n : Nat) (j : Nat) (bb : Nat) (rs : List od_Rd) (ar : Nat) (cp : Nat) (el : Nat → Option Nat) (ce : Nat) (sl : Nat), (0 < j ∧ j ≤ N) → (N + 1 ≤ j + n) → (1 ≤ rs.length ∧ rs.length ≤ 20 ∧ rs.length ≤ j) → (∃ g v, od_AU T T6 j 0 0 g v rs.length) → (∀ i x, rs[i]? = some x → od_RwP f T T6 N i x) → (ce ≤ 20 * j) → (sl + 100 * rs.length ≤ 3 + 4 * cp + 300 * j) → ∀ (H : Heap) (locs : List Loc), va_P D oc_cl ([(r, .inr (1, [.ref tx, .int (nI N), .int (nI j), .int (nI bb), .int (nI 0)]))] : va_W) H → va_D A ([(r, .inr (1, [.ref tx, .int (nI N), .int (nI j), .int (nI bb), .int (nI 0)]))] : va_W) → va_S A s.heap H locs → od_LB D d E0 (od_dW D d E0 f nm T) (Array.size s.heap) r H q_1 ar cp el rs → ∀ (ls : Array Slot), lv_has ls 2 [(0, .ref r), (1, .ref q_1)] → W p l e (oc_rm (350) (5900) (20 * N + 30) (300 * N + 200)) s m ([.ref r] : List Value).toArray below meth c H locs ce sl (oc_Q A below s (od_RT (od_PL D d E0 r tx N T T6 f nm s.heap A) (od_QW s0 D r tx N T T6 0 s.heap A 30 200))) (F0 m 22 ls []) := by
      intro n
      induction n with
      | zero => intro j bb rs ar cp el ce sl hj hn hm hAUx hRw hce hsl H locs hP hD hS hLB ls hl; exact absurd hn (by omega)
      | succ n ih22 =>
        intro j bb rs ar cp el ce sl hj hn hm hAUx hRw hce hsl H locs hP hD hS hLB ls hl
        have hPt : va_P D oc_cl ([(tx, .inl (d 2, 300, .inl T))] : va_W) H := od_keep hPt_0 hPt_n hS
        have hcp9 := hLB.2.1
        obtain ⟨g9, v9, hAU⟩ := hAUx
        refine lv_aload_n hx hb dX2_rows_22 rfl (lv_at hl 0 rfl) ?_
        refine va_get (D := D) (ci := 1) (v := .int (nI j)) (C := RX2) (T := TX2) (N := 5) hx hb hts in_X2 hown hK hP 0 rfl rfl 2 (by decide) (hts _ q73) (fun _ h9 => h9) rfl dX2_rows_23 ?_
        refine lv_aload_n hx hb dX2_rows_26 rfl (lv_at hl 0 rfl) ?_
        refine va_get (D := D) (ci := 1) (v := .int (nI N)) (C := RX2) (T := TX2) (N := 5) hx hb hts in_X2 hown hK hP 0 rfl rfl 1 (by decide) (hts _ q71) (fun _ h9 => h9) rfl dX2_rows_27 ?_
        refine lv_icmp_ge (x := nI j) (y := nI N) (tgt := 63) hx hb dX2_rows_30 (by decide) (fun c30 => ?_) (fun c30 => ?_)
        · -- taken
          rw [oc_le (x := nI N) (y := nI j) (a := N) (b := j) rfl rfl (by omega) (by omega)] at c30
          have hjN : j = N := by omega
          refine lv_aload_n hx hb dX2_rows_63 rfl (lv_at hl 1 rfl) ?_
          exact oc_aret hx hb hr (Or.inl ⟨_, rfl⟩) (Or.inr ⟨_, rfl⟩) hlocks hS dX2_rows_64 (Or.inl ⟨_, rfl, q_1, ar, cp, el, rs, nI bb, nI 0, rfl, hm.1, hm.2.1, hLB, by rw [hjN] at hP; exact hP, by rw [hjN] at hD; exact hD, by rw [hjN] at hAU; exact ⟨g9, v9, hAU⟩, hRw, by omega, by omega⟩)
        · -- not taken
          rw [oc_le (x := nI N) (y := nI j) (a := N) (b := j) rfl rfl (by omega) (by omega)] at c30
          refine lv_aload_n hx hb dX2_rows_33 rfl (lv_at hl 0 rfl) ?_
          refine lv_aload_n hx hb dX2_rows_34 rfl (lv_at hl 1 rfl) ?_
          refine oc_callR1 hx hb hml hl.1 ⟨hok, hS, hN0⟩ (oc_iV (As := []) (rest := [.ref r]) hx hb hown (hts _ q467) (hts _ q468) (hts _ q469) (oc_Sig.of (hts _ q470) (by decide +kernel : (parseMethodDescriptor "()I").map (fun d => d.parameters.length) = some 0)) (od_recv hK hLB.1) ⟨by decide, by decide⟩ dX2_rows_35 rfl) (oc_M.of (by decide +kernel) (hts _ q470)) (od_size G hLB.1) dX2_rows_35 (by dsimp only [oc_rm]; omega) (by simp only [oc_rm, List.map_cons, List.map_nil, List.sum_cons, List.sum_nil, Value.category]; omega) (by dsimp only [oc_rm]; omega) (by dsimp only [oc_rm]; omega) ?_
          refine lv_bipush (v := 20) hx hb dX2_rows_38 (by decide) ?_
          refine lv_icmp_ge (x := nI rs.length) (y := 20) (tgt := 47) hx hb dX2_rows_40 (by decide) (fun c40 => ?_) (fun c40 => ?_)
          · -- taken
            rw [oc_le (x := 20) (y := nI rs.length) (a := 20) (b := rs.length) rfl rfl (by omega) (by omega)] at c40
            have hsz_ := hS.1
            refine lv_iconst (v := 0) hx hb dX2_rows_47 (by decide) ?_
            refine oc_callT hx hb hml hl.1 ⟨hok, hS, hN0⟩ (oc_iV (As := [.int 0]) (rest := []) hx hb hown (hts _ q226) (hts _ q228) (hts _ qs4) (oc_Sig.of (hts _ q229) (by decide +kernel : (parseMethodDescriptor "(Z)V").map (fun d => d.parameters.length) = some 1)) (va_recv hK hP (ci := 1) (q0 := 0) rfl rfl) ⟨by decide, by decide⟩ dX2_rows_48 rfl) (oc_M.of (by decide +kernel) (hts _ q229)) (kX2_need0 G r) (fun q z => hA q (Nat.le_trans hS.1 z)) (fun o H1 k n h => by obtain ⟨a, e, -⟩ := h; exact ⟨a, e⟩) dX2_rows_48 (by dsimp only [oc_rm]; omega) (by simp only [oc_rm, List.map_cons, List.map_nil, List.sum_cons, List.sum_nil, Value.category]; omega) (by dsimp only [oc_rm]; omega) (by dsimp only [oc_rm]; omega) (fun a_ H locs k_ n_ hp_ hz_ hk_ hS => ?_)
            obtain ⟨a9, e9, hk9, hn9, hsz9, hex9⟩ := hp_
            cases e9
            subst k_; subst n_
            have hP : va_P D oc_cl ([(r, .inr (1, [.ref tx, .int (nI N), .int (nI j), .int (nI bb), .int (nI 0)]))] : va_W) H := hP.kept (fun k q h => hk_ q.1 (hP k q h).lt (Nat.not_le.mpr (hP k q h).lt))
            have hPt : va_P D oc_cl ([(tx, .inl (d 2, 300, .inl T))] : va_W) H := od_keep hPt_0 hPt_n hS
            exact oc_xout hlocks (by rw [htab]; intro x9 hx9; cases hx9) hS (Or.inr ⟨_, rfl, ⟨j, nI bb, nI 0, by omega, by omega, Nat.le_trans hsz_ hsz9, hex9, hP, hD, od_many hAU (by omega) (by omega), by omega, by omega⟩⟩)
          · -- not taken
            rw [oc_le (x := 20) (y := nI rs.length) (a := 20) (b := rs.length) rfl rfl (by omega) (by omega)] at c40
            refine lv_iconst (v := 1) hx hb dX2_rows_43 (by decide) ?_
            refine lv_goto (tgt := 48) hx hb dX2_rows_44 (by decide) ?_
            refine oc_callR (v := none) hx hb hml hl.1 ⟨hok, hS, hN0⟩ (oc_iV (As := [.int 1]) (rest := []) hx hb hown (hts _ q226) (hts _ q228) (hts _ qs4) (oc_Sig.of (hts _ q229) (by decide +kernel : (parseMethodDescriptor "(Z)V").map (fun d => d.parameters.length) = some 1)) (va_recv hK hP (ci := 1) (q0 := 0) rfl rfl) ⟨by decide, by decide⟩ dX2_rows_48 rfl) (oc_M.of (by decide +kernel) (hts _ q229)) (kX2_need1 G r) dX2_rows_48 (by dsimp only [oc_rm]; omega) (by simp only [oc_rm, List.map_cons, List.map_nil, List.sum_cons, List.sum_nil, Value.category]; omega) (by dsimp only [oc_rm]; omega) (by dsimp only [oc_rm]; omega) ?_
            refine W.eq (g2 := F0 m 51 ls []) rfl ?_
            refine lv_aload_n hx hb dX2_rows_51 rfl (lv_at hl 1 rfl) ?_
            refine lv_aload_n hx hb dX2_rows_52 rfl (lv_at hl 0 rfl) ?_
            have hF_ : ∀ q, va_A ([(r, .inr (1, [.ref tx, .int (nI N), .int (nI j), .int (nI bb), .int (nI 0)]))] : va_W) (Array.size H) q → A q := va_free hD hS hA [0] rfl
            have hsz_ := hS.1
            refine oc_callRT (A1 := va_A ([(r, .inr (1, [.ref tx, .int (nI N), .int (nI j), .int (nI bb), .int (nI 0)]))] : va_W) (Array.size H)) hx hb hml hl.1 ⟨hok, hS, hN0⟩ (oc_iV (As := []) (rest := [.ref q_1]) hx hb hown (hts _ q207) (hts _ q209) (hts _ qs0) (oc_Sig.of (hts _ q210) (by decide +kernel : (parseMethodDescriptor "()LOriginRules$Row;").map (fun d => d.parameters.length) = some 0)) (va_recv hK hP (ci := 1) (q0 := 0) rfl rfl) ⟨by decide, by decide⟩ dX2_rows_53 rfl) (oc_M.of (by decide +kernel) (hts _ q210)) (kX2_row G r tx N j rs.length mi (nI bb) (nI 0) T T6 f nm g9 v9 hN3 (by omega) hAU (by omega) (Or.inl (by omega)) hM0 hr0 hP ((hD.sub [0] rfl rfl).self) (oc_N1 hD hN0 [0] rfl) hPt (od_dtr htr) hE hTf hnm) hF_ dX2_rows_53 (by dsimp only [oc_rm]; omega) (by simp only [oc_rm, List.map_cons, List.map_nil, List.sum_cons, List.sum_nil, Value.category]; omega) (by dsimp only [oc_rm]; omega) (by dsimp only [oc_rm]; omega) (fun v_ H locs k_ n_ hp_ hz_ hk_ hS => ?_) (fun a_ H locs k_ n_ hp_ hz_ hk_ hS => ?_)
            · -- a row
              obtain ⟨j2, a2, x2, rfl, hx1, hx2, hj2a, hj2b, hP1, hD1, hAU2, hNd2, hRw2, hck2, hcn2⟩ := hp_
              have hP : va_P D oc_cl ([(r, .inr (1, [.ref tx, .int (nI N), .int (nI j2), .int (nI j), .int (nI 0)]))] : va_W) H := hP1
              have hD : va_D A ([(r, .inr (1, [.ref tx, .int (nI N), .int (nI j2), .int (nI j), .int (nI 0)]))] : va_W) := oc_Dcong hD rfl
              have hPt : va_P D oc_cl ([(tx, .inl (d 2, 300, .inl T))] : va_W) H := od_keep hPt_0 hPt_n hS
              have hNd3 := od_LBn od_NdW hLB hsz_ hNd2
              have hLB := hLB.kept od_NdW hz_ (fun z h1 h2 => hk_ z h2 (fun h3 => od_nr (by omega) h2 h3))
              refine W.eq (g2 := F0 m 56 ls [.ref a2, .ref q_1]) rfl ?_
              have hne_ := od_LBk hLB (ws := ([(r, .inr (1, [.ref tx, .int (nI N), .int (nI j2), .int (nI j), .int (nI 0)]))] : va_W)) (fun x9 hx9 => by simp only [List.mem_cons, List.not_mem_nil, or_false] at hx9; subst hx9; exact Or.inr hrs)
              have hsz_ := hS.1
              refine od_addN (y := a2) od_NdW G hE hM0 hx hb hml hl.1 ⟨hok, hS, hN0⟩ (oc_iV (As := [.ref a2]) (rest := []) hx hb hown (hts _ q384) (hts _ q385) (hts _ q386) (oc_Sig.of (hts _ q387) (by decide +kernel : (parseMethodDescriptor "(Ljava/lang/Object;)Z").map (fun d => d.parameters.length) = some 1)) (od_recv hK hLB.1) ⟨by decide, by decide⟩ dX2_rows_56 rfl) (oc_M.of (by decide +kernel) (hts _ q387)) hLB (by omega) hs00 hA hS.1 hNd3 dX2_rows_56 (by dsimp only [oc_rm]; omega) (by simp only [oc_rm, List.map_cons, List.map_nil, List.sum_cons, List.sum_nil, Value.category]; omega) (by dsimp only [oc_rm]; omega) (by simp only [oc_rm, List.length_nil]; omega) (fun H locs k_5 n_5 ar2 cp2 el2 hLB2 hk5 hn5 hz_ hkk_ hS => ?_)
              have hP : va_P D oc_cl ([(r, .inr (1, [.ref tx, .int (nI N), .int (nI j2), .int (nI j), .int (nI 0)]))] : va_W) H := hP.kept (fun k9 q9 h9 => hkk_ q9.1 (hP k9 q9 h9).lt (hne_ q9 (List.mem_of_getElem? h9)).1 (hne_ q9 (List.mem_of_getElem? h9)).2)
              have hPt : va_P D oc_cl ([(tx, .inl (d 2, 300, .inl T))] : va_W) H := od_keep hPt_0 hPt_n hS
              refine W.eq (g2 := F0 m 59 ls [.int 1]) rfl ?_
              refine lv_pop hx hb dX2_rows_59 rfl ?_
              refine lv_goto (tgt := 22) hx hb dX2_rows_60 (by decide) ?_
              exact ih22 j2 j (rs ++ [x2]) ar2 cp2 el2 (ce + k_ + k_5) (sl + n_ + n_5) (⟨by omega, hj2b⟩) (by omega) (⟨by simp, by simp; omega, by simp; omega⟩) (by simpa using hAU2) (od_snoc hRw hRw2) (by omega) (by simp only [List.length_append, List.length_singleton]; omega) H locs hP hD hS hLB2 ls (lv_sub hl [0, 1] rfl)
            · -- wrong
              obtain ⟨pp, be2, de2, hpp1, hpp2, hsz9, hex9, hP1, hD1, hER, hck2, hcn2⟩ := hp_
              have hP : va_P D oc_cl ([(r, .inr (1, [.ref tx, .int (nI N), .int (nI pp), .int be2, .int de2]))] : va_W) H := hP1
              have hD : va_D A ([(r, .inr (1, [.ref tx, .int (nI N), .int (nI pp), .int be2, .int de2]))] : va_W) := oc_Dcong hD rfl
              have hPt : va_P D oc_cl ([(tx, .inl (d 2, 300, .inl T))] : va_W) H := od_keep hPt_0 hPt_n hS
              exact oc_xout hlocks (by rw [htab]; intro x9 hx9; cases hx9) hS (Or.inr ⟨_, rfl, pp, be2, de2, by omega, hpp2, by omega, hex9, hP, hD, hER, by omega, by omega⟩)
    exact lp22 (N + 1) j2 0 ([x2]) ar2 cp2 el2 (0 + 1 + 0 + k_ + k_5) (0 + 3 + 0 + n_ + n_5) (⟨hj2a, hj2b⟩) (by omega) (⟨by simp, by simp, by simp; omega⟩) hAU2 (od_snoc (rs := []) (by intro i x hi; simp at hi) hRw2) (by omega) (by simp only [List.length_singleton]; omega) H locs hP hD hS hLB2 ls (lv_sub hl [1, 0] rfl)
  · -- wrong
    obtain ⟨pp, be2, de2, hpp1, hpp2, hsz9, hex9, hP1, hD1, hER, hck2, hcn2⟩ := hp_
    have hP : va_P D oc_cl ([(r, .inr (1, [.ref tx, .int (nI N), .int (nI pp), .int be2, .int de2]))] : va_W) H := hP1
    have hD : va_D A ([(r, .inr (1, [.ref tx, .int (nI N), .int (nI pp), .int be2, .int de2]))] : va_W) := oc_Dcong hD rfl
    have hPt : va_P D oc_cl ([(tx, .inl (d 2, 300, .inl T))] : va_W) H := od_keep hPt_0 hPt_n hS
    exact oc_xout hlocks (by rw [htab]; intro x9 hx9; cases hx9) hS (Or.inr ⟨_, rfl, pp, be2, de2, by omega, hpp2, by omega, hex9, hP, hD, hER, by omega, by omega⟩)
