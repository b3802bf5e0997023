/-! ===== OriginRules: rowOf ===== -/
theorem od_ro1 {nn : Nat → Nat} {k : Nat} (h : (oc_ro nn k).2 ≤ nn k) : (oc_ro nn (k + 1)).1 = some k := by
  show (if (oc_ro nn k).2 ≤ nn k then (some k, nn k) else oc_ro nn k).1 = some k
  rw [if_pos h]
theorem od_ro0 {nn : Nat → Nat} {k : Nat} (h : ¬ (oc_ro nn k).2 ≤ nn k) : (oc_ro nn (k + 1)).1 = (oc_ro nn k).1 := by
  show (if (oc_ro nn k).2 ≤ nn k then (some k, nn k) else oc_ro nn k).1 = _
  rw [if_neg h]
theorem od_roI {nn : Nat → Nat} : ∀ k, 1 ≤ (oc_ro nn k).2 ∧ ((oc_ro nn k).1 = none → (oc_ro nn k).2 = 1) ∧ ∀ r, (oc_ro nn k).1 = some r → r < k ∧ (oc_ro nn k).2 = nn r := by
  intro k
  induction k with
  | zero => exact ⟨Nat.le_refl _, fun _ => rfl, fun r h => by cases h⟩
  | succ k ih =>
    obtain ⟨h1, h2, h3⟩ := ih
    have e : oc_ro nn (k + 1) = if (oc_ro nn k).2 ≤ nn k then (some k, nn k) else oc_ro nn k := rfl
    by_cases h : (oc_ro nn k).2 ≤ nn k
    · rw [if_pos h] at e
      rw [e]
      refine ⟨?_, fun z => ?_, fun r z => ?_⟩
      · show 1 ≤ nn k
        omega
      · cases z
      · cases z
        exact ⟨Nat.lt_succ_self _, rfl⟩
    · rw [if_neg h] at e
      rw [e]
      exact ⟨h1, h2, fun r z => ⟨by have := (h3 r z).1; omega, (h3 r z).2⟩⟩
/-- a row's digits if it is of the code -/
def od_nnx (x : Int32) (vv : Nat → Int32) (qq : Nat → Nat) (r : Nat) : Nat := if od_dv x (6 - qq r) = vv r then qq r else 0
theorem od_nx1 {x : Int32} {vv : Nat → Int32} {qq : Nat → Nat} {k : Nat} (h : od_dv x (6 - qq k) = vv k) : od_nnx x vv qq k = qq k := by
  unfold od_nnx; rw [if_pos h]
theorem od_nx0 {x : Int32} {vv : Nat → Int32} {qq : Nat → Nat} {k : Nat} (h : ¬ od_dv x (6 - qq k) = vv k) : od_nnx x vv qq k = 0 := by
  unfold od_nnx; rw [if_neg h]
theorem od_nx (x : Int32) (vv : Nat → Int32) (qq : Nat → Nat) (k : Nat) : od_nnx x vv qq k = qq k ∨ od_nnx x vv qq k = 0 := by
  unfold od_nnx; split; exact Or.inl rfl; exact Or.inr rfl
set_option maxHeartbeats 4000000 in
set_option maxRecDepth 100000 in
theorem kX1_rowOf {l : Launch} {s0 : State} {b0 : Addr} {D : va_G} {d : Nat → ClassId} (G : oc_G l s0 b0 D d) {H : Heap} {u : Nat → Nat} {rw : Nat} {cd : Int32} {pr : Int64} {at0 be de : Int32} {I : Nat → Int32} {F : Nat → Nat → Int32} (hP : va_P D oc_cl (od_cW d u rw cd pr at0 be de I F) H) {E0 arr cpr NR : Nat} {elr : Nat → Option Nat} (hR : od_L D d E0 H rw arr NR cpr elr) (vv : Nat → Int32) (qq : Nat → Nat) (hrt : ∀ j, j < NR → ∃ y nd, elr j = some y ∧ 1 ≤ qq j ∧ qq j ≤ 6 ∧ va_at D oc_cl (y, .inr (11, [.int (vv j), .int (nI (qq j)), .ref nd])) H) (hNR : NR ≤ 20) (x : Int32) : oc_C l s0 yX1_rowOf (oc_rm 3 40 0 0) [.ref (u 0), .int x] H oc_N (oc_R (some (va_rf ((oc_ro (od_nnx x vv qq) NR).1.bind elr))) H) := by
  refine oc_start G (cc := cX1_rowOf) (L := 5) (ret := (Option.some (Jvm.ClassFile.FieldType.object "OriginRules$Row"))) q633 (Nat.le_of_ble_eq_true rfl) ?_
  intro p e s m below meth c ls hx hok hb hml hr hlocks htab hown hts hK hmn hh hl
  subst hh
  have hl : lv_has ls 5 [(0, .ref (u 0)), (1, .int x)] := hl
  have hZ := oc_Z0 hok
  refine lv_null hx hb dX1_rowOf_0 ?_
  refine lv_astore_nN (lv' := [(2, .null), (0, .ref (u 0)), (1, .int x)]) hx hb dX1_rowOf_1 rfl hl (by decide) rfl (fun ls hl => ?_)
  refine lv_iconst (v := 0) hx hb dX1_rowOf_2 (by decide) ?_
  refine lv_istore_n (lv' := [(3, .int 0), (2, .null), (0, .ref (u 0)), (1, .int x)]) hx hb dX1_rowOf_3 rfl hl (by decide) rfl (fun ls hl => ?_)
  have hl : lv_has ls 5 [(3, .int 0), (2, va_rf ((oc_ro (od_nnx x vv qq) 0).1.bind elr)), (0, .ref (u 0)), (1, .int x)] := hl
  have lp4 : ∀ (n : Nat) (k : Nat), (k ≤ NR) → (NR + 1 ≤ k + n) → ∀ (ls : Array Slot), lv_has ls 5 [(3, .int (nI k)), (2, va_rf ((oc_ro (od_nnx x vv qq) k).1.bind elr)), (0, .ref (u 0)), (1, .int x)] → W p l e (oc_rm 3 40 0 0) s m ([.ref (u 0), .int x] : List Value).toArray below meth c s.heap [] 0 0 (oc_Q oc_N below s (oc_R (some (va_rf ((oc_ro (od_nnx x vv qq) NR).1.bind elr))) s.heap)) (F0 m 4 ls []) := by
    intro n
    induction n with
    | zero => intro k hk hn ls hl; exact absurd hn (by omega)
    | succ n ih4 =>
      intro k hk hn ls hl
      refine lv_iload_n hx hb dX1_rowOf_4 rfl (lv_at hl 0 rfl) ?_
      refine lv_aload_n hx hb dX1_rowOf_5 rfl (lv_at hl 2 rfl) ?_
      refine va_get (D := D) (ci := 0) (v := .ref rw) (C := RX1) (T := TX1) (N := 4) hx hb hts in_X1 hown hK hP 0 rfl rfl 1 (by decide) (hts _ q175) (fun _ h9 => h9) rfl dX1_rowOf_6 ?_
      refine oc_callR1 hx hb hml hl.1 hZ (oc_iV (As := []) (rest := [.int (nI k)]) hx hb hown (hts _ q471) (hts _ q468) (hts _ q469) (oc_Sig.of (hts _ q470) (by decide +kernel : (parseMethodDescriptor "()I").map (fun d => d.parameters.length) = some 0)) (od_recv hK hR) ⟨by decide, by decide⟩ dX1_rowOf_9 rfl) (oc_M.of (by decide +kernel) (hts _ q470)) (od_size G hR) dX1_rowOf_9 (Nat.le_of_ble_eq_true rfl) (Nat.le_of_ble_eq_true rfl) (by dsimp only [oc_rm]; omega) (by dsimp only [oc_rm]; omega) ?_
      refine lv_icmp_ge (x := nI k) (y := nI NR) (tgt := 62) hx hb dX1_rowOf_12 (by decide) (fun c12 => ?_) (fun c12 => ?_)
      · -- taken
        rw [oc_le (x := nI NR) (y := nI k) (a := NR) (b := k) rfl rfl (by omega) (by omega)] at c12
        rcases hb9 : (oc_ro (od_nnx x vv qq) k).1 with _ | r
        ·
          have hbe : ((oc_ro (od_nnx x vv qq) k).1.bind elr) = none := by rw [hb9]; rfl
          rw [hbe] at hl
          have hl : lv_has ls 5 [(3, .int (nI k)), (2, .null), (0, .ref (u 0)), (1, .int x)] := hl
          refine lv_aload_nN hx hb dX1_rowOf_62 rfl (lv_at hl 1 rfl) ?_
          exact oc_aret hx hb hr (Or.inl ⟨_, rfl⟩) (Or.inl rfl) hlocks va_S.rf dX1_rowOf_63 (oc_Rv (by rw [← show k = NR by omega, hbe]; rfl))
        ·
          obtain ⟨hr1, hr2⟩ := (od_roI k).2.2 r hb9
          obtain ⟨yr, ndr, hyr, hqr, hqr6, har⟩ := hrt r (by omega)
          have hbe : ((oc_ro (od_nnx x vv qq) k).1.bind elr) = some yr := by rw [hb9]; exact hyr
          rw [hbe] at hl
          have hl : lv_has ls 5 [(3, .int (nI k)), (2, .ref yr), (0, .ref (u 0)), (1, .int x)] := hl
          refine lv_aload_n hx hb dX1_rowOf_62 rfl (lv_at hl 1 rfl) ?_
          exact oc_aret hx hb hr (Or.inl ⟨_, rfl⟩) (Or.inr ⟨_, rfl⟩) hlocks va_S.rf dX1_rowOf_63 (oc_Rv (by rw [← show k = NR by omega, hbe]; rfl))
      · -- not taken
        rw [oc_le (x := nI NR) (y := nI k) (a := NR) (b := k) rfl rfl (by omega) (by omega)] at c12
        obtain ⟨y, nd, hy, hq1, hq6, hya⟩ := hrt k (by omega)
        rcases hb9 : (oc_ro (od_nnx x vv qq) k).1 with _ | r
        ·
          have hbe : ((oc_ro (od_nnx x vv qq) k).1.bind elr) = none := by rw [hb9]; rfl
          rw [hbe] at hl
          have hl : lv_has ls 5 [(3, .int (nI k)), (2, .null), (0, .ref (u 0)), (1, .int x)] := hl
          refine lv_aload_n hx hb dX1_rowOf_15 rfl (lv_at hl 2 rfl) ?_
          refine va_get (D := D) (ci := 0) (v := .ref rw) (C := RX1) (T := TX1) (N := 4) hx hb hts in_X1 hown hK hP 0 rfl rfl 1 (by decide) (hts _ q175) (fun _ h9 => h9) rfl dX1_rowOf_16 ?_
          refine lv_iload_n hx hb dX1_rowOf_19 rfl (lv_at hl 0 rfl) ?_
          refine oc_callR1 hx hb hml hl.1 hZ (oc_iV (As := [.int (nI k)]) (rest := []) hx hb hown (hts _ q513) (hts _ q514) (hts _ q515) (oc_Sig.of (hts _ q516) (by decide +kernel : (parseMethodDescriptor "(I)Ljava/lang/Object;").map (fun d => d.parameters.length) = some 1)) (od_recv hK hR) ⟨by decide, by decide⟩ dX1_rowOf_20 rfl) (oc_M.of (by decide +kernel) (hts _ q516)) (od_get G hR (k := k) (by omega) hy) dX1_rowOf_20 (Nat.le_of_ble_eq_true rfl) (Nat.le_of_ble_eq_true rfl) (by dsimp only [oc_rm]; omega) (by dsimp only [oc_rm]; omega) ?_
          refine va_castS hx hb hown (hts _ q634) (hK.1 11 _ rfl).2 (va_recv hK (oc_P1 hya) (ci := 11) (q0 := 0) rfl rfl) dX1_rowOf_23 ?_
          refine lv_astore (lv' := [(4, .ref y), (3, .int (nI k)), (2, .null), (0, .ref (u 0)), (1, .int x)]) hx hb dX1_rowOf_26 hl (by decide) rfl (fun ls hl => ?_)
          refine lv_aload hx hb dX1_rowOf_28 (lv_at hl 0 rfl) ?_
          refine lv_iload_n hx hb dX1_rowOf_30 rfl (lv_at hl 4 rfl) ?_
          refine oc_callR1 hx hb hml hl.1 hZ (oc_iV (As := [.int x]) (rest := []) hx hb hown (hts _ q635) (hts _ q636) (hts _ q637) (oc_Sig.of (hts _ q638) (by decide +kernel : (parseMethodDescriptor "(I)Z").map (fun d => d.parameters.length) = some 1)) (va_recv hK (oc_P1 hya) (ci := 11) (q0 := 0) rfl rfl) ⟨by decide, by decide⟩ dX1_rowOf_31 rfl) (oc_M.of (by decide +kernel) (hts _ q638)) (kX13_isOf G y (vv k) x (qq k) nd hq6 (oc_P1 hya)) dX1_rowOf_31 (Nat.le_of_ble_eq_true rfl) (Nat.le_of_ble_eq_true rfl) (by dsimp only [oc_rm]; omega) (by dsimp only [oc_rm]; omega) ?_
          refine lv_if_eq (x := oc_b (decide (od_dv x (6 - qq k) = vv k))) (tgt := 56) hx hb dX1_rowOf_34 (by decide) (fun c34 => ?_) (fun c34 => ?_)
          · -- taken
            rw [oc_b0] at c34
            refine lv_iinc (v := nI (k + 1)) (lv' := [(3, .int (nI (k + 1))), (4, .ref y), (2, .null), (0, .ref (u 0)), (1, .int x)]) hx hb dX1_rowOf_56 hl (k := 1) rfl (nI_1 k) (by decide) rfl (fun ls hl => ?_)
            refine lv_goto (tgt := 4) hx hb dX1_rowOf_59 (by decide) ?_
            have hnx : ((oc_ro (od_nnx x vv qq) (k + 1)).1.bind elr) = none := by
              rw [od_ro0 (by rw [od_nx0 (of_decide_eq_false c34)]; have := (od_roI (nn := od_nnx x vv qq) k).1; omega)]; exact hbe
            have hl : lv_has ls 5 [(3, .int (nI (k + 1))), (4, .ref y), (2, va_rf ((oc_ro (od_nnx x vv qq) (k + 1)).1.bind elr)), (0, .ref (u 0)), (1, .int x)] := by rw [hnx]; exact hl
            exact ih4 (k + 1) (by omega) (by omega) ls (lv_sub hl [0, 2, 3, 4] rfl)
          · -- not taken
            rw [oc_b0] at c34
            rw [Bool.not_eq_false] at c34
            refine lv_aload_nN hx hb dX1_rowOf_37 rfl (lv_at hl 2 rfl) ?_
            refine lv_ifnullN (tgt := 53) hx hb dX1_rowOf_38 (by decide) ?_
            refine lv_aload hx hb dX1_rowOf_53 (lv_at hl 0 rfl) ?_
            refine lv_astore_n (lv' := [(2, .ref y), (4, .ref y), (3, .int (nI k)), (0, .ref (u 0)), (1, .int x)]) hx hb dX1_rowOf_55 rfl hl (by decide) rfl (fun ls hl => ?_)
            refine lv_iinc (v := nI (k + 1)) (lv' := [(3, .int (nI (k + 1))), (2, .ref y), (4, .ref y), (0, .ref (u 0)), (1, .int x)]) hx hb dX1_rowOf_56 hl (k := 2) rfl (nI_1 k) (by decide) rfl (fun ls hl => ?_)
            refine lv_goto (tgt := 4) hx hb dX1_rowOf_59 (by decide) ?_
            have hnx : ((oc_ro (od_nnx x vv qq) (k + 1)).1.bind elr) = some y := by
              rw [od_ro1 (by rw [od_nx1 (of_decide_eq_true c34)]; have := (od_roI k).2.1 hb9; omega)]; exact hy
            have hl : lv_has ls 5 [(3, .int (nI (k + 1))), (2, va_rf ((oc_ro (od_nnx x vv qq) (k + 1)).1.bind elr)), (4, .ref y), (0, .ref (u 0)), (1, .int x)] := by rw [hnx]; exact hl
            exact ih4 (k + 1) (by omega) (by omega) ls (lv_sub hl [0, 1, 3, 4] rfl)
        ·
          obtain ⟨hr1, hr2⟩ := (od_roI k).2.2 r hb9
          obtain ⟨yr, ndr, hyr, hqr, hqr6, har⟩ := hrt r (by omega)
          have hbe : ((oc_ro (od_nnx x vv qq) k).1.bind elr) = some yr := by rw [hb9]; exact hyr
          rw [hbe] at hl
          have hl : lv_has ls 5 [(3, .int (nI k)), (2, .ref yr), (0, .ref (u 0)), (1, .int x)] := hl
          refine lv_aload_n hx hb dX1_rowOf_15 rfl (lv_at hl 2 rfl) ?_
          refine va_get (D := D) (ci := 0) (v := .ref rw) (C := RX1) (T := TX1) (N := 4) hx hb hts in_X1 hown hK hP 0 rfl rfl 1 (by decide) (hts _ q175) (fun _ h9 => h9) rfl dX1_rowOf_16 ?_
          refine lv_iload_n hx hb dX1_rowOf_19 rfl (lv_at hl 0 rfl) ?_
          refine oc_callR1 hx hb hml hl.1 hZ (oc_iV (As := [.int (nI k)]) (rest := []) hx hb hown (hts _ q513) (hts _ q514) (hts _ q515) (oc_Sig.of (hts _ q516) (by decide +kernel : (parseMethodDescriptor "(I)Ljava/lang/Object;").map (fun d => d.parameters.length) = some 1)) (od_recv hK hR) ⟨by decide, by decide⟩ dX1_rowOf_20 rfl) (oc_M.of (by decide +kernel) (hts _ q516)) (od_get G hR (k := k) (by omega) hy) dX1_rowOf_20 (Nat.le_of_ble_eq_true rfl) (Nat.le_of_ble_eq_true rfl) (by dsimp only [oc_rm]; omega) (by dsimp only [oc_rm]; omega) ?_
          refine va_castS hx hb hown (hts _ q634) (hK.1 11 _ rfl).2 (va_recv hK (oc_P1 hya) (ci := 11) (q0 := 0) rfl rfl) dX1_rowOf_23 ?_
          refine lv_astore (lv' := [(4, .ref y), (3, .int (nI k)), (2, .ref yr), (0, .ref (u 0)), (1, .int x)]) hx hb dX1_rowOf_26 hl (by decide) rfl (fun ls hl => ?_)
          refine lv_aload hx hb dX1_rowOf_28 (lv_at hl 0 rfl) ?_
          refine lv_iload_n hx hb dX1_rowOf_30 rfl (lv_at hl 4 rfl) ?_
          refine oc_callR1 hx hb hml hl.1 hZ (oc_iV (As := [.int x]) (rest := []) hx hb hown (hts _ q635) (hts _ q636) (hts _ q637) (oc_Sig.of (hts _ q638) (by decide +kernel : (parseMethodDescriptor "(I)Z").map (fun d => d.parameters.length) = some 1)) (va_recv hK (oc_P1 hya) (ci := 11) (q0 := 0) rfl rfl) ⟨by decide, by decide⟩ dX1_rowOf_31 rfl) (oc_M.of (by decide +kernel) (hts _ q638)) (kX13_isOf G y (vv k) x (qq k) nd hq6 (oc_P1 hya)) dX1_rowOf_31 (Nat.le_of_ble_eq_true rfl) (Nat.le_of_ble_eq_true rfl) (by dsimp only [oc_rm]; omega) (by dsimp only [oc_rm]; omega) ?_
          refine lv_if_eq (x := oc_b (decide (od_dv x (6 - qq k) = vv k))) (tgt := 56) hx hb dX1_rowOf_34 (by decide) (fun c34 => ?_) (fun c34 => ?_)
          · -- taken
            rw [oc_b0] at c34
            refine lv_iinc (v := nI (k + 1)) (lv' := [(3, .int (nI (k + 1))), (4, .ref y), (2, .ref yr), (0, .ref (u 0)), (1, .int x)]) hx hb dX1_rowOf_56 hl (k := 1) rfl (nI_1 k) (by decide) rfl (fun ls hl => ?_)
            refine lv_goto (tgt := 4) hx hb dX1_rowOf_59 (by decide) ?_
            have hnx : ((oc_ro (od_nnx x vv qq) (k + 1)).1.bind elr) = some yr := by
              rw [od_ro0 (by rw [od_nx0 (of_decide_eq_false c34)]; have := (od_roI (nn := od_nnx x vv qq) k).1; omega)]; exact hbe
            have hl : lv_has ls 5 [(3, .int (nI (k + 1))), (4, .ref y), (2, va_rf ((oc_ro (od_nnx x vv qq) (k + 1)).1.bind elr)), (0, .ref (u 0)), (1, .int x)] := by rw [hnx]; exact hl
            exact ih4 (k + 1) (by omega) (by omega) ls (lv_sub hl [0, 2, 3, 4] rfl)
          · -- not taken
            rw [oc_b0] at c34
            rw [Bool.not_eq_false] at c34
            refine lv_aload_n hx hb dX1_rowOf_37 rfl (lv_at hl 2 rfl) ?_
            refine lv_ifnull hx hb dX1_rowOf_38 ?_
            refine lv_aload hx hb dX1_rowOf_41 (lv_at hl 0 rfl) ?_
            refine va_getN (D := D) (ci := 11) (v := .int (nI (qq k))) (C := RX13) (T := TX13) (N := 3) hx hb hts in_X13 hown hK (oc_P1 hya) 0 rfl rfl 1 (by decide) (oc_wF G hok q457) (fun _ h9 => h9) rfl dX1_rowOf_43 ?_
            refine lv_aload_n hx hb dX1_rowOf_46 rfl (lv_at hl 2 rfl) ?_
            refine va_getN (D := D) (ci := 11) (v := .int (nI (qq r))) (C := RX13) (T := TX13) (N := 3) hx hb hts in_X13 hown hK (oc_P1 har) 0 rfl rfl 1 (by decide) (oc_wF G hok q457) (fun _ h9 => h9) rfl dX1_rowOf_47 ?_
            refine lv_icmp_lt (x := nI (qq k)) (y := nI (qq r)) (tgt := 56) hx hb dX1_rowOf_50 (by decide) (fun c50 => ?_) (fun c50 => ?_)
            · -- taken
              rw [oc_lt (x := nI (qq k)) (y := nI (qq r)) (a := (qq k)) (b := (qq r)) rfl rfl (by omega) (by omega)] at c50
              refine lv_iinc (v := nI (k + 1)) (lv' := [(3, .int (nI (k + 1))), (4, .ref y), (2, .ref yr), (0, .ref (u 0)), (1, .int x)]) hx hb dX1_rowOf_56 hl (k := 1) rfl (nI_1 k) (by decide) rfl (fun ls hl => ?_)
              refine lv_goto (tgt := 4) hx hb dX1_rowOf_59 (by decide) ?_
              have hnx : ((oc_ro (od_nnx x vv qq) (k + 1)).1.bind elr) = some yr := by
                rw [od_ro0 (by rw [od_nx1 (of_decide_eq_true c34)]; have := (od_roI (nn := od_nnx x vv qq) k).1; have := od_nx x vv qq r; omega)]; exact hbe
              have hl : lv_has ls 5 [(3, .int (nI (k + 1))), (4, .ref y), (2, va_rf ((oc_ro (od_nnx x vv qq) (k + 1)).1.bind elr)), (0, .ref (u 0)), (1, .int x)] := by rw [hnx]; exact hl
              exact ih4 (k + 1) (by omega) (by omega) ls (lv_sub hl [0, 2, 3, 4] rfl)
            · -- not taken
              rw [oc_lt (x := nI (qq k)) (y := nI (qq r)) (a := (qq k)) (b := (qq r)) rfl rfl (by omega) (by omega)] at c50
              refine lv_aload hx hb dX1_rowOf_53 (lv_at hl 0 rfl) ?_
              refine lv_astore_n (lv' := [(2, .ref y), (4, .ref y), (3, .int (nI k)), (0, .ref (u 0)), (1, .int x)]) hx hb dX1_rowOf_55 rfl hl (by decide) rfl (fun ls hl => ?_)
              refine lv_iinc (v := nI (k + 1)) (lv' := [(3, .int (nI (k + 1))), (2, .ref y), (4, .ref y), (0, .ref (u 0)), (1, .int x)]) hx hb dX1_rowOf_56 hl (k := 2) rfl (nI_1 k) (by decide) rfl (fun ls hl => ?_)
              refine lv_goto (tgt := 4) hx hb dX1_rowOf_59 (by decide) ?_
              have hnx : ((oc_ro (od_nnx x vv qq) (k + 1)).1.bind elr) = some y := by
                rw [od_ro1 (by rw [od_nx1 (of_decide_eq_true c34)]; rw [hr2]; have := od_nx x vv qq r; omega)]; exact hy
              have hl : lv_has ls 5 [(3, .int (nI (k + 1))), (2, va_rf ((oc_ro (od_nnx x vv qq) (k + 1)).1.bind elr)), (4, .ref y), (0, .ref (u 0)), (1, .int x)] := by rw [hnx]; exact hl
              exact ih4 (k + 1) (by omega) (by omega) ls (lv_sub hl [0, 1, 3, 4] rfl)
  exact lp4 (NR + 1) 0 (by omega) (by omega) ls (lv_sub hl [0, 1, 2, 3] rfl)
