/-! ===== OriginRules: verdict ===== -/
/-- behind a verdict: an answer, the six cells -/
def od_PV (D : va_G) (d : Nat → ClassId) (u : Nat → Nat) (rw : Nat) (at0 be de : Int32) (A : Nat → Prop) (Φ : Option Value → (Nat → Int32) → (Nat → Nat → Int32) → Prop) : Option Value → Heap → Nat → Nat → Prop := fun v H1 k n => k = 0 ∧ n = 0 ∧ ∃ (cd : Int32) (pr : Int64) (I2 : Nat → Int32) (F2 : Nat → Nat → Int32), va_P D oc_cl (od_cW d u rw cd pr at0 be de I2 F2) H1 ∧ va_D A (od_cW d u rw cd pr at0 be de I2 F2) ∧ Φ v I2 F2
theorem od_opt {α : Type} (o : Option α) : o = none ∨ ∃ r, o = some r := by
  cases o with
  | none => exact Or.inl rfl
  | some r => exact Or.inr ⟨r, rfl⟩
abbrev od_vok (x : Int32) (y : Int64) : Bool := oc_vok x y
/-- what is told at the end of an asking -/
def od_lg0 (b : Nat) (hv : Nat → Bool) (S : od_Sm) (t : Nat → Int32) : Nat × (Nat → Int32) := od_lg b hv (S hv).2 (0, t)
set_option maxHeartbeats 4000000 in
set_option maxRecDepth 100000 in
theorem kX1_verdict {l : Launch} {s0 : State} {b0 : Addr} {D : va_G} {d : Nat → ClassId} (G : oc_G l s0 b0 D d) {H : Heap} {u : Nat → Nat} {rw : Nat} {cd : Int32} {pr : Int64} {at0 be de : Int32} {I : Nat → Int32} {F : Nat → Nat → Int32} {E0 arr cpr NR : Nat} {elr : Nat → Option Nat} (vv : Nat → Int32) (qq : Nat → Nat) (x : Int32) (y : Int64) (b : Nat → Nat) (hv : Nat → Bool) (S : Nat → od_Sm) (hP : va_P D oc_cl (od_cW d u rw cd pr at0 be de I F) H) (hD : va_D (va_A (od_cW d u rw cd pr at0 be de I F) (Array.size H)) (od_cW d u rw cd pr at0 be de I F)) (hN0 : ∀ z_9 ∈ (od_cW d u rw cd pr at0 be de I F), s0.heap.size ≤ z_9.1) (hR : od_L D d E0 H rw arr NR cpr elr) (hrt : ∀ j, j < NR → ∃ y nd, elr j = some y ∧ 1 ≤ qq j ∧ qq j ≤ 6 ∧ va_at D oc_cl (y, .inr (11, [.int (vv j), .int (nI (qq j)), .ref nd])) H) (hNR : NR ≤ 20) (hask0 : od_vok x y = true → ∀ r, (oc_ro (od_nnx x vv qq) NR).1 = some r → ∃ yr nd, elr r = some yr ∧ yr ≠ u 3 ∧ va_at D oc_cl (yr, .inr (11, [.int (vv r), .int (nI (qq r)), .ref nd])) H ∧ ∀ H2 : Heap, (∀ q, q < Array.size H → q ≠ u 3 → q ≠ u 5 → H2[q]? = H[q]?) → va_P D oc_cl (od_tW d u I x y 0 (F 23)) H2 → od_Hc l s0 D d u I x y (b r) hv 59 1160 H2 nd (S r) 0 (F 23)) : oc_C l s0 yX1_verdict (oc_rm 60 1174 1 6) [.ref (u 0), .int x, .long y] H (va_A (od_cW d u rw cd pr at0 be de I F) (Array.size H)) (od_RT (od_PV D d u rw at0 be de (va_A (od_cW d u rw cd pr at0 be de I F) (Array.size H)) (fun v I2 F2 => od_vok x y = true ∧ (((oc_ro (od_nnx x vv qq) NR).1 = none ∧ v = some (.int 3) ∧ I2 = I ∧ F2 = F) ∨ ∃ r, (oc_ro (od_nnx x vv qq) NR).1 = some r ∧ (((¬ I 11 = 0 ∧ I 11 &&& (I 12 ^^^ (-1)) = 0) ∧ v = some (.int 2) ∧ I2 = I ∧ F2 = F) ∨ (¬ (¬ I 11 = 0 ∧ I 11 &&& (I 12 ^^^ (-1)) = 0) ∧ v = some (.int (oc_b (S r hv).1)) ∧ I2 = upd I 22 (nI (od_lg0 (b r) hv (S r) (F 23)).1) ∧ F2 = va_up F 23 (od_lg0 (b r) hv (S r) (F 23)).2))))) (od_Qc s0 D d u rw cd pr at0 be de I F H (va_A (od_cW d u rw cd pr at0 be de I F) (Array.size H)) (fun C => C = RJ9 ∧ od_vok x y = false))) := by
  refine oc_start G (cc := cX1_verdict) (L := 5) (ret := (Option.some Jvm.ClassFile.FieldType.int)) q629 (Nat.le_of_ble_eq_true rfl) ?_
  intro p e s m below meth c ls hx hok hb hml hr hlocks htab hown hts hK hmn hh hl
  subst hh
  have hl : lv_has ls 5 [(0, .ref (u 0)), (1, .int x), (2, .long y)] := hl
  have hN0 := oc_N0 hok hN0
  have hA : ∀ q, Array.size s.heap ≤ q → (va_A (od_cW d u rw cd pr at0 be de I F) (Array.size s.heap)) q := fun q z => Or.inr z
  have hS : va_S (va_A (od_cW d u rw cd pr at0 be de I F) (Array.size s.heap)) s.heap s.heap [] := va_S.rf
  generalize hAe : (va_A (od_cW d u rw cd pr at0 be de I F) (Array.size s.heap)) = A at *
  refine lv_iload_n hx hb dX1_verdict_0 rfl (lv_at hl 1 rfl) ?_
  refine oc_callR1 hx hb hml hl.1 ⟨hok, hS, hN0⟩ (oc_iS (As := [.int x]) (rest := []) hx hb hown (hts _ q549) (hts _ q550) (hts _ q24) (hts _ q551) ⟨by decide, by decide, (by decide +kernel : (parseMethodDescriptor "(I)Z").map (fun d => d.parameters.length) = some 1)⟩ dX1_verdict_1 rfl) (oc_M.of (by decide +kernel) (hts _ q551)) (kX1_isCode G x) dX1_verdict_1 (Nat.le_of_ble_eq_true rfl) (Nat.le_of_ble_eq_true rfl) (by dsimp only [oc_rm]; omega) (by dsimp only [oc_rm]; omega) ?_
  refine lv_if_eq (x := oc_b (oc_in x.toInt64 1 999999)) (tgt := 18) hx hb dX1_verdict_4 (by decide) (fun c4 => ?_) (fun c4 => ?_)
  · -- taken
    rw [oc_b0] at c4
    refine lv_iconst (v := 0) hx hb dX1_verdict_18 (by decide) ?_
    refine oc_callT hx hb hml hl.1 ⟨hok, hS, hN0⟩ (oc_iS (As := [.int 0]) (rest := []) hx hb hown (hts _ q561) (hts _ q562) (hts _ q24) (hts _ q563) ⟨by decide, by decide, (by decide +kernel : (parseMethodDescriptor "(Z)V").map (fun d => d.parameters.length) = some 1)⟩ dX1_verdict_19 rfl) (oc_M.of (by decide +kernel) (hts _ q563)) (kX1_allow0 G) (fun q z => hA q (Nat.le_trans hS.1 z)) (fun o H1 k n h => by obtain ⟨a, e, -⟩ := h; exact ⟨a, e⟩) dX1_verdict_19 (Nat.le_of_ble_eq_true rfl) (Nat.le_of_ble_eq_true rfl) (by dsimp only [oc_rm]; omega) (by dsimp only [oc_rm]; omega) (fun a_ H locs k_ n_ hp_ hz_ hk_ hS => ?_)
    obtain ⟨a9, e9, hk9, hn9, hsz9, hex9⟩ := hp_
    cases e9
    subst k_; subst n_
    have hP : va_P D oc_cl (od_cW d u rw cd pr at0 be de I F) H := hP.kept (fun k q h => hk_ q.1 (hP k q h).lt (Nat.not_le.mpr (hP k q h).lt))
    exact oc_xout hlocks (by rw [htab]; intro x9 hx9; cases hx9) hS (Or.inr ⟨_, rfl, ⟨by omega, by omega, hsz9, ⟨_, hex9, ⟨rfl, by simp [od_vok, oc_vok, *]⟩⟩, hP, hD⟩⟩)
  · -- not taken
    rw [oc_b0] at c4
    rw [Bool.not_eq_false] at c4
    refine lv_lload_n hx hb dX1_verdict_7 rfl (lv_at hl 2 rfl) ?_
    refine oc_callR1 hx hb hml hl.1 ⟨hok, hS, hN0⟩ (oc_iS (As := [.long y]) (rest := []) hx hb hown (hts _ q557) (hts _ q558) (hts _ q24) (hts _ q559) ⟨by decide, by decide, (by decide +kernel : (parseMethodDescriptor "(J)Z").map (fun d => d.parameters.length) = some 1)⟩ dX1_verdict_8 rfl) (oc_M.of (by decide +kernel) (hts _ q559)) (kX1_isSum G y) dX1_verdict_8 (Nat.le_of_ble_eq_true rfl) (Nat.le_of_ble_eq_true rfl) (by dsimp only [oc_rm]; omega) (by dsimp only [oc_rm]; omega) ?_
    refine lv_if_eq (x := oc_b (oc_in y 0 1000000000)) (tgt := 18) hx hb dX1_verdict_11 (by decide) (fun c11 => ?_) (fun c11 => ?_)
    · -- taken
      rw [oc_b0] at c11
      refine lv_iconst (v := 0) hx hb dX1_verdict_18 (by decide) ?_
      refine oc_callT hx hb hml hl.1 ⟨hok, hS, hN0⟩ (oc_iS (As := [.int 0]) (rest := []) hx hb hown (hts _ q561) (hts _ q562) (hts _ q24) (hts _ q563) ⟨by decide, by decide, (by decide +kernel : (parseMethodDescriptor "(Z)V").map (fun d => d.parameters.length) = some 1)⟩ dX1_verdict_19 rfl) (oc_M.of (by decide +kernel) (hts _ q563)) (kX1_allow0 G) (fun q z => hA q (Nat.le_trans hS.1 z)) (fun o H1 k n h => by obtain ⟨a, e, -⟩ := h; exact ⟨a, e⟩) dX1_verdict_19 (Nat.le_of_ble_eq_true rfl) (Nat.le_of_ble_eq_true rfl) (by dsimp only [oc_rm]; omega) (by dsimp only [oc_rm]; omega) (fun a_ H locs k_ n_ hp_ hz_ hk_ hS => ?_)
      obtain ⟨a9, e9, hk9, hn9, hsz9, hex9⟩ := hp_
      cases e9
      subst k_; subst n_
      have hP : va_P D oc_cl (od_cW d u rw cd pr at0 be de I F) H := hP.kept (fun k q h => hk_ q.1 (hP k q h).lt (Nat.not_le.mpr (hP k q h).lt))
      exact oc_xout hlocks (by rw [htab]; intro x9 hx9; cases hx9) hS (Or.inr ⟨_, rfl, ⟨by omega, by omega, hsz9, ⟨_, hex9, ⟨rfl, by simp [od_vok, oc_vok, *]⟩⟩, hP, hD⟩⟩)
    · -- not taken
      rw [oc_b0] at c11
      rw [Bool.not_eq_false] at c11
      refine lv_iconst (v := 1) hx hb dX1_verdict_14 (by decide) ?_
      refine lv_goto (tgt := 19) hx hb dX1_verdict_15 (by decide) ?_
      refine oc_callR (v := none) hx hb hml hl.1 ⟨hok, hS, hN0⟩ (oc_iS (As := [.int 1]) (rest := []) hx hb hown (hts _ q561) (hts _ q562) (hts _ q24) (hts _ q563) ⟨by decide, by decide, (by decide +kernel : (parseMethodDescriptor "(Z)V").map (fun d => d.parameters.length) = some 1)⟩ dX1_verdict_19 rfl) (oc_M.of (by decide +kernel) (hts _ q563)) (kX1_allow1 G) dX1_verdict_19 (Nat.le_of_ble_eq_true rfl) (Nat.le_of_ble_eq_true rfl) (by dsimp only [oc_rm]; omega) (by dsimp only [oc_rm]; omega) ?_
      refine W.eq (g2 := F0 m 22 ls []) rfl ?_
      refine lv_aload_n hx hb dX1_verdict_22 rfl (lv_at hl 0 rfl) ?_
      refine lv_iload_n hx hb dX1_verdict_23 rfl (lv_at hl 1 rfl) ?_
      refine oc_callR1 hx hb hml hl.1 ⟨hok, hS, hN0⟩ (oc_iV (As := [.int x]) (rest := []) hx hb hown (hts _ q630) (hts _ q632) (hts _ qs13) (oc_Sig.of (hts _ q633) (by decide +kernel : (parseMethodDescriptor "(I)LOriginRules$Row;").map (fun d => d.parameters.length) = some 1)) (va_recv hK hP (ci := 0) (q0 := 0) rfl rfl) ⟨by decide, by decide⟩ dX1_verdict_24 rfl) (oc_M.of (by decide +kernel) (hts _ q633)) (kX1_rowOf G hP hR vv qq hrt hNR x) dX1_verdict_24 (Nat.le_of_ble_eq_true rfl) (Nat.le_of_ble_eq_true rfl) (by dsimp only [oc_rm]; omega) (by dsimp only [oc_rm]; omega) ?_
      rcases od_opt (oc_ro (od_nnx x vv qq) NR).1 with hb9 | ⟨r, hb9⟩
      ·
        have hbe : ((oc_ro (od_nnx x vv qq) NR).1.bind elr) = none := by rw [hb9]; rfl
        rw [hbe]
        refine W.eq (g2 := F0 m 27 ls [.null]) rfl ?_
        refine lv_astoreN (lv' := [(4, .null), (0, .ref (u 0)), (1, .int x), (2, .long y)]) hx hb dX1_verdict_27 hl (by decide) rfl (fun ls hl => ?_)
        refine lv_aloadN hx hb dX1_verdict_29 (lv_at hl 0 rfl) ?_
        refine lv_ifnonnullN hx hb dX1_verdict_31 ?_
        refine lv_iconst (v := 3) hx hb dX1_verdict_34 (by decide) ?_
        exact oc_iret hx hb hr hlocks hS dX1_verdict_35 (Or.inl ⟨_, rfl, rfl, rfl, _, _, _, _, hP, hD, ⟨by simp [od_vok, oc_vok, c4, c11], Or.inl ⟨hb9, rfl, rfl, rfl⟩⟩⟩)
      ·
        obtain ⟨yr, nd, hyr, hyr3, har, hask⟩ := hask0 (by simp [od_vok, oc_vok, c4, c11]) r hb9
        have hbe : ((oc_ro (od_nnx x vv qq) NR).1.bind elr) = some yr := by rw [hb9]; exact hyr
        rw [hbe]
        refine W.eq (g2 := F0 m 27 ls [.ref yr]) rfl ?_
        refine lv_astore (lv' := [(4, .ref yr), (0, .ref (u 0)), (1, .int x), (2, .long y)]) hx hb dX1_verdict_27 hl (by decide) rfl (fun ls hl => ?_)
        refine lv_aload hx hb dX1_verdict_29 (lv_at hl 0 rfl) ?_
        refine lv_ifnonnull (tgt := 36) hx hb dX1_verdict_31 (by decide) ?_
        refine lv_aload_n hx hb dX1_verdict_36 rfl (lv_at hl 1 rfl) ?_
        refine va_get (D := D) (ci := 0) (v := .ref (u 3)) (C := RX1) (T := TX1) (N := 4) hx hb hts in_X1 hown hK hP 0 rfl rfl 2 (by decide) (hts _ q176) (fun _ h9 => h9) rfl dX1_verdict_37 ?_
        refine va_getN (D := D) (ci := 2) (v := .int (I 11)) (C := RX3) (T := TX3) (N := 12) hx hb hts in_X3 hown hK hP 3 rfl rfl 1 (by decide) (oc_wF G hok q127) (fun _ h9 => h9) rfl dX1_verdict_40 ?_
        refine lv_if_eq (x := I 11) (tgt := 68) hx hb dX1_verdict_43 (by decide) (fun c43 => ?_) (fun c43 => ?_)
        · -- taken
          refine lv_aload_n hx hb dX1_verdict_68 rfl (lv_at hl 1 rfl) ?_
          refine va_get (D := D) (ci := 0) (v := .ref (u 3)) (C := RX1) (T := TX1) (N := 4) hx hb hts in_X1 hown hK hP 0 rfl rfl 2 (by decide) (hts _ q176) (fun _ h9 => h9) rfl dX1_verdict_69 ?_
          refine lv_iload_n hx hb dX1_verdict_72 rfl (lv_at hl 2 rfl) ?_
          refine oc_putN (D := D) (ci := 2) (v := .int x) (ty := .int) (C := RX3) (T := TX3) (N := 12) hx hb hts in_X3 tyX3 tyX3_ok nmX3 hown hK hP hD hS 3 rfl rfl 8 (by decide) (oc_wF G hok q139) (fun _ h9 => h9) rfl (by decide +kernel) rfl rfl (Nat.le_of_ble_eq_true rfl) dX1_verdict_73 (fun H locs hz2 ho2 hP hD hS => ?_)
          have hP : va_P D oc_cl (od_cW d u rw x pr at0 be de I F) H := hP
          have hD : va_D A (od_cW d u rw x pr at0 be de I F) := hD
          have hfr9 : ∀ q9, q9 ≠ u 3 → H[q9]? = s.heap[q9]? := ho2
          refine lv_aload_n hx hb dX1_verdict_76 rfl (lv_at hl 1 rfl) ?_
          refine va_get (D := D) (ci := 0) (v := .ref (u 3)) (C := RX1) (T := TX1) (N := 4) hx hb hts in_X1 hown hK hP 0 rfl rfl 2 (by decide) (hts _ q176) (fun _ h9 => h9) rfl dX1_verdict_77 ?_
          refine lv_lload_n hx hb dX1_verdict_80 rfl (lv_at hl 3 rfl) ?_
          refine oc_putN (D := D) (ci := 2) (v := .long y) (ty := .long) (C := RX3) (T := TX3) (N := 12) hx hb hts in_X3 tyX3 tyX3_ok nmX3 hown hK hP hD hS 3 rfl rfl 9 (by decide) (oc_wF G hok q142) (fun _ h9 => h9) rfl (by decide +kernel) rfl rfl (Nat.le_of_ble_eq_true rfl) dX1_verdict_81 (fun H locs hz2 ho2 hP hD hS => ?_)
          have hP : va_P D oc_cl (od_cW d u rw x y at0 be de I F) H := hP
          have hD : va_D A (od_cW d u rw x y at0 be de I F) := hD
          have hfr9 : ∀ q9, q9 ≠ u 3 → H[q9]? = s.heap[q9]? := fun q9 z9 => (ho2 q9 z9).trans (hfr9 q9 z9)
          refine lv_aload_n hx hb dX1_verdict_84 rfl (lv_at hl 1 rfl) ?_
          refine va_get (D := D) (ci := 0) (v := .ref (u 3)) (C := RX1) (T := TX1) (N := 4) hx hb hts in_X1 hown hK hP 0 rfl rfl 2 (by decide) (hts _ q176) (fun _ h9 => h9) rfl dX1_verdict_85 ?_
          refine lv_iconst (v := 0) hx hb dX1_verdict_88 (by decide) ?_
          refine oc_putN (D := D) (ci := 2) (v := .int 0) (ty := .int) (C := RX3) (T := TX3) (N := 12) hx hb hts in_X3 tyX3 tyX3_ok nmX3 hown hK hP hD hS 3 rfl rfl 11 (by decide) (oc_wF G hok q146) (fun _ h9 => h9) rfl (by decide +kernel) rfl rfl (Nat.le_of_ble_eq_true rfl) dX1_verdict_89 (fun H locs hz2 ho2 hP hD hS => ?_)
          have hP : va_P D oc_cl (od_cW d u rw x y at0 be de (upd I 22 0) F) H := hP
          have hD : va_D A (od_cW d u rw x y at0 be de (upd I 22 0) F) := hD
          have hfr9 : ∀ q9, q9 ≠ u 3 → H[q9]? = s.heap[q9]? := fun q9 z9 => (ho2 q9 z9).trans (hfr9 q9 z9)
          have har := har.kept (hfr9 _ hyr3)
          refine lv_aload hx hb dX1_verdict_92 (lv_at hl 0 rfl) ?_
          refine va_getN (D := D) (ci := 11) (v := .ref nd) (C := RX13) (T := TX13) (N := 3) hx hb hts in_X13 hown hK (oc_P1 har) 0 rfl rfl 2 (by decide) (oc_wF G hok q459) (fun _ h9 => h9) rfl dX1_verdict_94 ?_
          refine lv_aload_n hx hb dX1_verdict_97 rfl (lv_at hl 1 rfl) ?_
          refine va_get (D := D) (ci := 0) (v := .ref (u 3)) (C := RX1) (T := TX1) (N := 4) hx hb hts in_X1 hown hK hP 0 rfl rfl 2 (by decide) (hts _ q176) (fun _ h9 => h9) rfl dX1_verdict_98 ?_
          obtain ⟨C9, y9, n9, fr9, lo9, hf9, hfrm, hlo9, hrc9, hC9⟩ := hask H (fun q9 _ z9 _ => hfr9 q9 z9) (hP.sub [3, 5] rfl)
          have hw9 := od_fF (args := ([.ref (u 0), .int x, .long y] : List Value).toArray) G hok hf9
          have hF_ : ∀ q, va_A (od_tW d u I x y 0 (F 23)) (Array.size H) q → A q := va_free hD hS hA [3, 5] rfl
          refine oc_callP (A1 := va_A (od_tW d u I x y 0 (F 23)) (Array.size H)) hx hb hml hl.1 ⟨hok, hS, hN0⟩ (oc_iF (C := C9) (x := od_x) (As := [.ref (u 3)]) (rest := []) hx hb hown (hts _ q640) hw9.1 hw9.2.1 hw9.2.2.1 (hrc9 s hok) ⟨by decide, by decide, (by decide +kernel : (parseMethodDescriptor "(LOriginRules$Good;)Z").map (fun d => d.parameters.length) = some 1)⟩ dX1_verdict_101 rfl) hw9.2.2.2.1 hC9 hF_ dX1_verdict_101 (by dsimp only [oc_rm]; omega) (by have := hw9.2.2.2.2.1; simp only [oc_rm, List.map_nil, List.sum_nil]; omega) (by dsimp only [oc_rm]; omega) (by dsimp only [oc_rm]; omega) (fun v_ H locs k_ n_ hp_ hz_ hk_ hS => ?_)
          obtain ⟨rfl, rfl, rfl, hP1, hD1⟩ := hp_
          obtain ⟨hP, hD⟩ := va_join (w1 := od_tW d u I x y (od_lg0 (b r) hv (S r) (F 23)).1 (od_lg0 (b r) hv (S r) (F 23)).2) (wr := ([(u 0, .inr (0, [.ref (u 1), .ref rw, .ref (u 3), .ref (u 7)])), (u 1, .inr (1, [.ref (u 2), .int (I 2), .int at0, .int be, .int de])), (u 2, .inl (d 2, 300, .inl (F 1))), (u 4, .inl (d 1, 100, .inl (F 13)))] : va_W)) hP hD [3, 5] [0, 1, 2, 4] rfl rfl rfl (by decide) hk_ hF_ hP1 hD1
          have hP : va_P D oc_cl (od_cW d u rw x y at0 be de (upd I 22 (nI (od_lg0 (b r) hv (S r) (F 23)).1)) (va_up F 23 (od_lg0 (b r) hv (S r) (F 23)).2)) H := hP.sub [0, 1, 2, 4, 3, 5] rfl
          have hD : va_D A (od_cW d u rw x y at0 be de (upd I 22 (nI (od_lg0 (b r) hv (S r) (F 23)).1)) (va_up F 23 (od_lg0 (b r) hv (S r) (F 23)).2)) := hD.sub [0, 1, 2, 4, 3, 5] rfl rfl
          refine W.eq (g2 := F0 m 106 ls [.int (oc_b (S r hv).1)]) rfl ?_
          refine lv_if_eq (x := oc_b (S r hv).1) (tgt := 113) hx hb dX1_verdict_106 (by decide) (fun c106 => ?_) (fun c106 => ?_)
          · -- taken
            rw [oc_b0] at c106
            refine lv_iconst (v := 0) hx hb dX1_verdict_113 (by decide) ?_
            exact oc_iret hx hb hr hlocks hS dX1_verdict_114 (Or.inl ⟨_, rfl, rfl, rfl, _, _, _, _, hP, hD, ⟨by simp [od_vok, oc_vok, c4, c11], Or.inr ⟨r, hb9, Or.inr ⟨fun z9 => z9.1 c43, by rw [c106]; rfl, rfl, rfl⟩⟩⟩⟩)
          · -- not taken
            rw [oc_b0] at c106
            rw [Bool.not_eq_false] at c106
            refine lv_iconst (v := 1) hx hb dX1_verdict_109 (by decide) ?_
            refine lv_goto (tgt := 114) hx hb dX1_verdict_110 (by decide) ?_
            exact oc_iret hx hb hr hlocks hS dX1_verdict_114 (Or.inl ⟨_, rfl, rfl, rfl, _, _, _, _, hP, hD, ⟨by simp [od_vok, oc_vok, c4, c11], Or.inr ⟨r, hb9, Or.inr ⟨fun z9 => z9.1 c43, by rw [c106]; rfl, rfl, rfl⟩⟩⟩⟩)
        · -- not taken
          refine lv_aload_n hx hb dX1_verdict_46 rfl (lv_at hl 1 rfl) ?_
          refine va_get (D := D) (ci := 0) (v := .ref (u 3)) (C := RX1) (T := TX1) (N := 4) hx hb hts in_X1 hown hK hP 0 rfl rfl 2 (by decide) (hts _ q176) (fun _ h9 => h9) rfl dX1_verdict_47 ?_
          refine va_getN (D := D) (ci := 2) (v := .int (I 11)) (C := RX3) (T := TX3) (N := 12) hx hb hts in_X3 hown hK hP 3 rfl rfl 1 (by decide) (oc_wF G hok q127) (fun _ h9 => h9) rfl dX1_verdict_50 ?_
          refine lv_aload_n hx hb dX1_verdict_53 rfl (lv_at hl 1 rfl) ?_
          refine va_get (D := D) (ci := 0) (v := .ref (u 3)) (C := RX1) (T := TX1) (N := 4) hx hb hts in_X1 hown hK hP 0 rfl rfl 2 (by decide) (hts _ q176) (fun _ h9 => h9) rfl dX1_verdict_54 ?_
          refine va_getN (D := D) (ci := 2) (v := .int (I 12)) (C := RX3) (T := TX3) (N := 12) hx hb hts in_X3 hown hK hP 3 rfl rfl 2 (by decide) (oc_wF G hok q128) (fun _ h9 => h9) rfl dX1_verdict_57 ?_
          refine lv_iconst (v := (-1)) hx hb dX1_verdict_60 (by decide) ?_
          refine lv_ixor hx hb dX1_verdict_61 ?_
          refine lv_iand hx hb dX1_verdict_62 ?_
          refine lv_if_ne (x := (I 11) &&& ((I 12) ^^^ (-1))) (tgt := 68) hx hb dX1_verdict_63 (by decide) (fun c63 => ?_) (fun c63 => ?_)
          · -- taken
            refine lv_aload_n hx hb dX1_verdict_68 rfl (lv_at hl 1 rfl) ?_
            refine va_get (D := D) (ci := 0) (v := .ref (u 3)) (C := RX1) (T := TX1) (N := 4) hx hb hts in_X1 hown hK hP 0 rfl rfl 2 (by decide) (hts _ q176) (fun _ h9 => h9) rfl dX1_verdict_69 ?_
            refine lv_iload_n hx hb dX1_verdict_72 rfl (lv_at hl 2 rfl) ?_
            refine oc_putN (D := D) (ci := 2) (v := .int x) (ty := .int) (C := RX3) (T := TX3) (N := 12) hx hb hts in_X3 tyX3 tyX3_ok nmX3 hown hK hP hD hS 3 rfl rfl 8 (by decide) (oc_wF G hok q139) (fun _ h9 => h9) rfl (by decide +kernel) rfl rfl (Nat.le_of_ble_eq_true rfl) dX1_verdict_73 (fun H locs hz2 ho2 hP hD hS => ?_)
            have hP : va_P D oc_cl (od_cW d u rw x pr at0 be de I F) H := hP
            have hD : va_D A (od_cW d u rw x pr at0 be de I F) := hD
            have hfr9 : ∀ q9, q9 ≠ u 3 → H[q9]? = s.heap[q9]? := ho2
            refine lv_aload_n hx hb dX1_verdict_76 rfl (lv_at hl 1 rfl) ?_
            refine va_get (D := D) (ci := 0) (v := .ref (u 3)) (C := RX1) (T := TX1) (N := 4) hx hb hts in_X1 hown hK hP 0 rfl rfl 2 (by decide) (hts _ q176) (fun _ h9 => h9) rfl dX1_verdict_77 ?_
            refine lv_lload_n hx hb dX1_verdict_80 rfl (lv_at hl 3 rfl) ?_
            refine oc_putN (D := D) (ci := 2) (v := .long y) (ty := .long) (C := RX3) (T := TX3) (N := 12) hx hb hts in_X3 tyX3 tyX3_ok nmX3 hown hK hP hD hS 3 rfl rfl 9 (by decide) (oc_wF G hok q142) (fun _ h9 => h9) rfl (by decide +kernel) rfl rfl (Nat.le_of_ble_eq_true rfl) dX1_verdict_81 (fun H locs hz2 ho2 hP hD hS => ?_)
            have hP : va_P D oc_cl (od_cW d u rw x y at0 be de I F) H := hP
            have hD : va_D A (od_cW d u rw x y at0 be de I F) := hD
            have hfr9 : ∀ q9, q9 ≠ u 3 → H[q9]? = s.heap[q9]? := fun q9 z9 => (ho2 q9 z9).trans (hfr9 q9 z9)
            refine lv_aload_n hx hb dX1_verdict_84 rfl (lv_at hl 1 rfl) ?_
            refine va_get (D := D) (ci := 0) (v := .ref (u 3)) (C := RX1) (T := TX1) (N := 4) hx hb hts in_X1 hown hK hP 0 rfl rfl 2 (by decide) (hts _ q176) (fun _ h9 => h9) rfl dX1_verdict_85 ?_
            refine lv_iconst (v := 0) hx hb dX1_verdict_88 (by decide) ?_
            refine oc_putN (D := D) (ci := 2) (v := .int 0) (ty := .int) (C := RX3) (T := TX3) (N := 12) hx hb hts in_X3 tyX3 tyX3_ok nmX3 hown hK hP hD hS 3 rfl rfl 11 (by decide) (oc_wF G hok q146) (fun _ h9 => h9) rfl (by decide +kernel) rfl rfl (Nat.le_of_ble_eq_true rfl) dX1_verdict_89 (fun H locs hz2 ho2 hP hD hS => ?_)
            have hP : va_P D oc_cl (od_cW d u rw x y at0 be de (upd I 22 0) F) H := hP
            have hD : va_D A (od_cW d u rw x y at0 be de (upd I 22 0) F) := hD
            have hfr9 : ∀ q9, q9 ≠ u 3 → H[q9]? = s.heap[q9]? := fun q9 z9 => (ho2 q9 z9).trans (hfr9 q9 z9)
            have har := har.kept (hfr9 _ hyr3)
            refine lv_aload hx hb dX1_verdict_92 (lv_at hl 0 rfl) ?_
            refine va_getN (D := D) (ci := 11) (v := .ref nd) (C := RX13) (T := TX13) (N := 3) hx hb hts in_X13 hown hK (oc_P1 har) 0 rfl rfl 2 (by decide) (oc_wF G hok q459) (fun _ h9 => h9) rfl dX1_verdict_94 ?_
            refine lv_aload_n hx hb dX1_verdict_97 rfl (lv_at hl 1 rfl) ?_
            refine va_get (D := D) (ci := 0) (v := .ref (u 3)) (C := RX1) (T := TX1) (N := 4) hx hb hts in_X1 hown hK hP 0 rfl rfl 2 (by decide) (hts _ q176) (fun _ h9 => h9) rfl dX1_verdict_98 ?_
            obtain ⟨C9, y9, n9, fr9, lo9, hf9, hfrm, hlo9, hrc9, hC9⟩ := hask H (fun q9 _ z9 _ => hfr9 q9 z9) (hP.sub [3, 5] rfl)
            have hw9 := od_fF (args := ([.ref (u 0), .int x, .long y] : List Value).toArray) G hok hf9
            have hF_ : ∀ q, va_A (od_tW d u I x y 0 (F 23)) (Array.size H) q → A q := va_free hD hS hA [3, 5] rfl
            refine oc_callP (A1 := va_A (od_tW d u I x y 0 (F 23)) (Array.size H)) hx hb hml hl.1 ⟨hok, hS, hN0⟩ (oc_iF (C := C9) (x := od_x) (As := [.ref (u 3)]) (rest := []) hx hb hown (hts _ q640) hw9.1 hw9.2.1 hw9.2.2.1 (hrc9 s hok) ⟨by decide, by decide, (by decide +kernel : (parseMethodDescriptor "(LOriginRules$Good;)Z").map (fun d => d.parameters.length) = some 1)⟩ dX1_verdict_101 rfl) hw9.2.2.2.1 hC9 hF_ dX1_verdict_101 (by dsimp only [oc_rm]; omega) (by have := hw9.2.2.2.2.1; simp only [oc_rm, List.map_nil, List.sum_nil]; omega) (by dsimp only [oc_rm]; omega) (by dsimp only [oc_rm]; omega) (fun v_ H locs k_ n_ hp_ hz_ hk_ hS => ?_)
            obtain ⟨rfl, rfl, rfl, hP1, hD1⟩ := hp_
            obtain ⟨hP, hD⟩ := va_join (w1 := od_tW d u I x y (od_lg0 (b r) hv (S r) (F 23)).1 (od_lg0 (b r) hv (S r) (F 23)).2) (wr := ([(u 0, .inr (0, [.ref (u 1), .ref rw, .ref (u 3), .ref (u 7)])), (u 1, .inr (1, [.ref (u 2), .int (I 2), .int at0, .int be, .int de])), (u 2, .inl (d 2, 300, .inl (F 1))), (u 4, .inl (d 1, 100, .inl (F 13)))] : va_W)) hP hD [3, 5] [0, 1, 2, 4] rfl rfl rfl (by decide) hk_ hF_ hP1 hD1
            have hP : va_P D oc_cl (od_cW d u rw x y at0 be de (upd I 22 (nI (od_lg0 (b r) hv (S r) (F 23)).1)) (va_up F 23 (od_lg0 (b r) hv (S r) (F 23)).2)) H := hP.sub [0, 1, 2, 4, 3, 5] rfl
            have hD : va_D A (od_cW d u rw x y at0 be de (upd I 22 (nI (od_lg0 (b r) hv (S r) (F 23)).1)) (va_up F 23 (od_lg0 (b r) hv (S r) (F 23)).2)) := hD.sub [0, 1, 2, 4, 3, 5] rfl rfl
            refine W.eq (g2 := F0 m 106 ls [.int (oc_b (S r hv).1)]) rfl ?_
            refine lv_if_eq (x := oc_b (S r hv).1) (tgt := 113) hx hb dX1_verdict_106 (by decide) (fun c106 => ?_) (fun c106 => ?_)
            · -- taken
              rw [oc_b0] at c106
              refine lv_iconst (v := 0) hx hb dX1_verdict_113 (by decide) ?_
              exact oc_iret hx hb hr hlocks hS dX1_verdict_114 (Or.inl ⟨_, rfl, rfl, rfl, _, _, _, _, hP, hD, ⟨by simp [od_vok, oc_vok, c4, c11], Or.inr ⟨r, hb9, Or.inr ⟨fun z9 => c63 z9.2, by rw [c106]; rfl, rfl, rfl⟩⟩⟩⟩)
            · -- not taken
              rw [oc_b0] at c106
              rw [Bool.not_eq_false] at c106
              refine lv_iconst (v := 1) hx hb dX1_verdict_109 (by decide) ?_
              refine lv_goto (tgt := 114) hx hb dX1_verdict_110 (by decide) ?_
              exact oc_iret hx hb hr hlocks hS dX1_verdict_114 (Or.inl ⟨_, rfl, rfl, rfl, _, _, _, _, hP, hD, ⟨by simp [od_vok, oc_vok, c4, c11], Or.inr ⟨r, hb9, Or.inr ⟨fun z9 => c63 z9.2, by rw [c106]; rfl, rfl, rfl⟩⟩⟩⟩)
          · -- not taken
            refine lv_iconst (v := 2) hx hb dX1_verdict_66 (by decide) ?_
            exact oc_iret hx hb hr hlocks hS dX1_verdict_67 (Or.inl ⟨_, rfl, rfl, rfl, _, _, _, _, hP, hD, ⟨by simp [od_vok, oc_vok, c4, c11], Or.inr ⟨r, hb9, Or.inl ⟨⟨c43, c63⟩, rfl, rfl, rfl⟩⟩⟩⟩)
